/-! DELIVER -/
def fnd9 (ds : Nat → Nat) (x : Int32) : Option Nat := if x = -1 then none else some (ds x.toNatClampNeg)
theorem fnd9_n (ds : Nat → Nat) : fnd9 ds (-1) = none := if_pos rfl
theorem fnd9_some {ds : Nat → Nat} {x : Int32} {y : Nat} (h : fnd9 ds x = some y) : ¬ x = -1 ∧ y = ds x.toNatClampNeg := by
  unfold fnd9 at h
  split at h
  · cases h
  · rename_i hx; cases h; exact ⟨hx, rfl⟩
theorem fnd9_none {ds : Nat → Nat} {x : Int32} (h : fnd9 ds x = none) : x = -1 := by
  unfold fnd9 at h
  split at h
  · assumption
  · cases h
theorem fnd9_i {ds : Nat → Nat} {i : Nat} (hi : i < 100) : fnd9 ds (nI i) = some (ds i) := by
  unfold fnd9
  rw [if_neg (nI_ne_m1 (by omega)), nI_clamp (by omega)]
section Bo
variable {s : Nat → Int32} {k i : Nat}
theorem bo_no {ki : Int32} (hk : lt s k 0 = ki) (h : (if od s i 2 ≤ 0 then (0 : Int32) else if od s i 0 = ki then (if od s i 1 = lt s k 1 then 1 else 0) else 0) = 0) : bo s k (i + 1) = bo s k i := by
  rw [bo_s, hk]
  by_cases h0 : od s i 0 = ki
  · rw [if_pos h0]
    by_cases h1 : od s i 1 = lt s k 1
    · rw [if_pos h1]
      by_cases h2 : od s i 2 ≤ 0
      · rw [if_pos h2]
      · rw [if_neg h2, if_pos h0, if_pos h1] at h
        exact absurd h (by decide)
    · rw [if_neg h1]
  · rw [if_neg h0]
theorem bo_yes {ki : Int32} (hk : lt s k 0 = ki) (h : ¬ (if od s i 2 ≤ 0 then (0 : Int32) else if od s i 0 = ki then (if od s i 1 = lt s k 1 then 1 else 0) else 0) = 0) : bo s k (i + 1) = if bo s k i = -1 then nI i else if od s (bo s k i).toNatClampNeg 3 ≤ od s i 3 then bo s k i else nI i := by
  by_cases h2 : od s i 2 ≤ 0
  · rw [if_pos h2] at h; exact absurd rfl h
  · rw [if_neg h2] at h
    by_cases h0 : od s i 0 = ki
    · rw [if_pos h0] at h
      by_cases h1 : od s i 1 = lt s k 1
      · rw [bo_s, hk, if_pos h0, if_pos h1, if_neg h2]
      · rw [if_neg h1] at h; exact absurd rfl h
    · rw [if_neg h0] at h; exact absurd rfl h
end Bo
theorem lts_row {s : Nat → Int32} {k i j a : Nat} {v : Int32} (h : i ≠ k) (hj : j < 25) (ha : a < 25) : lt (lts s k a v) i j = lt s i j := lts_ne (by omega)
theorem lts_at {s : Nat → Int32} {k j a : Nat} {v : Int32} (h : j ≠ a) : lt (lts s k a v) k j = lt s k j := lts_ne (by omega)
theorem lts_eq {s : Nat → Int32} {k a : Nat} {v : Int32} : lt (lts s k a v) k a = v := if_pos rfl
theorem lts_o {s : Nat → Int32} {k a j : Nat} {v : Int32} (hk : k < 12) (ha : a < 25) (hj : j < 164 ∨ 464 ≤ j) : lts s k a v j = s j := lts_ne (by omega)
theorem dlv_lt {s : Nat → Int32} {i d k j : Nat} (hi : i < 12) (hd : d < 10) (hk : k < 12) (hj : j < 25) (h : ¬ (k = i ∧ j = 4)) : lt (dlv s i d) k j = lt s k j := by
  unfold lt
  rw [dlv_ne (by omega) (by omega) (by omega)]
theorem dlv_4 {s : Nat → Int32} {i d : Nat} (hi : i < 12) (hd : d < 10) : lt (dlv s i d) i 4 = lt s i 4 + coinsN s d := by
  unfold dlv
  show ods _ _ _ _ (164 + 25 * i + 4) = _
  rw [ods_ne (by omega), ods_ne (by omega)]
  exact lts_eq
theorem dlv_od {s : Nat → Int32} {i d e j : Nat} (hi : i < 12) (he : e < 10) (hj : j < 6) (hd : d < 10) (h : ¬ (e = d ∧ (j = 2 ∨ j = 5))) : od (dlv s i d) e j = od s e j := by
  unfold od
  rw [dlv_ne (by omega) (by omega) (by omega)]
theorem dlv_5 {s : Nat → Int32} {i d : Nat} (hi : i < 12) : od (dlv s i d) d 5 = od s d 5 + coinsN s d := by
  unfold dlv
  show ods _ _ _ _ (465 + 6 * d + 5) = _
  rw [ods_ne (by omega)]
  refine (ods_eq).trans ?_
  congr 1
  exact lts_ne (by omega)
theorem dlv_o {s : Nat → Int32} {i d j : Nat} (hi : i < 12) (hd : d < 10) (hj : j < 164 ∨ j = 464 ∨ 525 ≤ j) : dlv s i d j = s j := dlv_ne (by omega) (by omega) (by omega)
section Dl
variable {V : gh_V} {g : gh_G} {S k d l : Nat} {s : Nat → Int32} {es la lw : Nat → Nat} {fa : Nat → Nat → Int32}
/-- the lots' family when one lot's stock or income changed -/
theorem lo_fld {s1 : Nat → Int32} (h20 : ∀ k, k < nL s → ldN s k ≤ 20) (hk : k < nL s) (eL : nL s1 = nL s) (hx : ∀ j, j < nL s → j ≠ k → lo1 V g S s j (es j) (la j) (lw j) (fa j))
    (e : ∀ j i, j < nL s → i < 25 → ¬ (j = k ∧ (i = 3 ∨ i = 4)) → lt s1 j i = lt s j i) (hq : g (es k) = some ((S, 4, k), oo 3 [.ref (lw k), .ref (la k), .int (lt s k 2), .int (lt s1 k 3), .int (lt s1 k 4)])) (ha : g (la k) = some ((S, 5, k), ai V 0 5 (fa k))) (hw : wa_P V g (lw k) (kd s k) (lt s k 1)) (hf : ∀ f, 1 ≤ f → f < 5 → fa k f = fated s k (nI f)) :
    ∀ j, j < nL s1 → lo1 V g S s1 j (es j) (la j) (lw j) (fa j) := fun j hj => by
  rw [eL] at hj
  by_cases h : j = k
  · subst h
    unfold lo1 kd
    rw [e j 0 hj (by omega) (by omega), e j 1 hj (by omega) (by omega), e j 2 hj (by omega) (by omega)]
    refine ⟨hq, ha, hw, fun f a b => ?_⟩
    rw [hf f a b]
    exact (fated_cg (e j 2 hj (by omega) (by omega)) (h20 j hj) (fun n hn => e j _ hj (by omega) (by omega))).symm
  · exact (hx j hj h).cg (h20 j hj) (fun i hi => e j i hj hi (fun u => h u.1))
/-- the demands' family when one was taken from -/
theorem de_dlv {es : Nat → Nat} (hi : k < 12) (hd : d < nD s) (h10 : nD s ≤ 10) (hA : al_P V S 13 g l (nD s) es) (hx : ∀ j, j < nD s → j ≠ d → de1 g S s j (es j)) (hq : g (es d) = some ((S, 6, d), oo 4 [.int (od s d 0), .int (od s d 1), .int (od s d 3), .int (od s d 4), .int (od s d 2 - 1), .int (od s d 5 + coinsN s d)])) : de_P V g S l (dlv s k d) := by
  have eD : nD (dlv s k d) = nD s := nD_cg (dlv_o hi (by omega) (by omega))
  refine ⟨es, by rw [eD]; exact hA, fun j hj => ?_⟩
  rw [eD] at hj
  by_cases h : j = d
  · subst h
    unfold de1
    rw [dlv_od hi (by omega) (by omega) (by omega) (by omega), dlv_od hi (by omega) (by omega) (by omega) (by omega), dlv_od hi (by omega) (by omega) (by omega) (by omega), dlv_od hi (by omega) (by omega) (by omega) (by omega), dlv_5 hi, dlv_w hi]
    exact hq
  · unfold de1
    rw [dlv_od hi (by omega) (by omega) (by omega) (by omega), dlv_od hi (by omega) (by omega) (by omega) (by omega), dlv_od hi (by omega) (by omega) (by omega) (by omega), dlv_od hi (by omega) (by omega) (by omega) (by omega), dlv_od hi (by omega) (by omega) (by omega) (by omega), dlv_od hi (by omega) (by omega) (by omega) (by omega)]
    exact hx j hj h
theorem de_lts {v : Int32} {a : Nat} (hi : k < 12) (ha : a < 25) (h10 : nD s ≤ 10) (h : de_P V g S l s) : de_P V g S l (lts s k a v) := h.cg h10 (fun j h1 h2 => lts_o hi ha (by omega))
end Dl
theorem de1.ow {g g1 : gh_G} {S d q a j k1 : Nat} {s : Nat → Int32} {x : gh_E} (h : de1 g S s d q) (ha : g a = some ((S, j, k1), x)) (hne : d ≠ k1) (hn : ∀ q, q ≠ a → g1 q = g q) : de1 g1 S s d q := by
  unfold de1 at *
  rw [hn _ (fun e => by rw [e, ha] at h; cases h; exact hne rfl)]; exact h
set_option maxRecDepth 100000
theorem fX2_214_3 : gh_fd RX2 214 3 3 .int false := gh_fd.own (T := TX4) tyX4 rfl in_X4 tyX4_ok nmX4 (by decide) q1594 rfl rfl (fun h => by cases h)
theorem fX2_221_3 : gh_fd RX2 221 3 4 .int false := gh_fd.own (T := TX4) tyX4 rfl in_X4 tyX4_ok nmX4 (by decide) q1597 rfl rfl (fun h => by cases h)
theorem fX2_28_2 : gh_fd RX2 28 2 13 (.object "java/util/List") true := gh_fd.own (T := TX2) tyX2 rfl in_X2 tyX2_ok nmX2 (by decide) q1205 rfl rfl (fun h => rfl)
theorem fX2_82_2 : gh_fd RX2 82 2 0 .int false := gh_fd.own (T := TX2) tyX2 rfl in_X2 tyX2_ok nmX2 (by decide) q1179 rfl rfl (fun h => by cases h)
theorem rfX2_196_3 : gh_fdr RX2 196 3 0 := gh_fdr.own (T := TX4) rfl in_X4 (by decide) q1586
theorem rfX2_355_4 : gh_fdr RX2 355 4 2 := gh_fdr.own (T := TX5) rfl in_X5 (by decide) q2984
theorem hd_X5_take : yX5_take.cls = RX5 ∧ yX5_take.cls ≠ "java/lang/invoke/MethodHandle" ∧ yX5_take.cls ≠ "java/lang/invoke/VarHandle" ∧ (parseMethodDescriptor yX5_take.desc).map (fun d => d.parameters.length) = some 1 := by decide +kernel
theorem hd_X5_wants : yX5_wants.cls = RX5 ∧ yX5_wants.cls ≠ "java/lang/invoke/MethodHandle" ∧ yX5_wants.cls ≠ "java/lang/invoke/VarHandle" ∧ (parseMethodDescriptor yX5_wants.desc).map (fun d => d.parameters.length) = some 1 := by decide +kernel
theorem hdF_List_size_0 : (⟨"java/util/List", "size", "()I"⟩ : MethodName).cls ≠ "java/lang/invoke/MethodHandle" ∧ (⟨"java/util/List", "size", "()I"⟩ : MethodName).cls ≠ "java/lang/invoke/VarHandle" ∧ (parseMethodDescriptor (⟨"java/util/List", "size", "()I"⟩ : MethodName).desc).map (fun d => d.parameters.length) = some 0 := by decide +kernel
set_option maxHeartbeats 1000000 in
set_option maxRecDepth 100000 in
theorem j_X2_deliver (l : Launch) (V : gh_V) (g0 : gh_G) (S : Nat) (ad : Nat → Nat) (I : Nat → Int32) (A : Nat → Nat → Int32) (P : Nat → Option Nat) (hT0 : st_C V g0 S ad I A P) (s : Nat → Int32) (es la lw : Nat → Nat) (fa : Nat → Nat → Int32) (k : Nat) (hk : k < nL s) (h12 : nL s ≤ 12) (hD10 : nD s ≤ 10) (h20 : ∀ k, k < nL s → ldN s k ≤ 20) (hI0 : I 0 = s 0) (hkd : lt s k 0 = nI (kd s k)) (hLo0 : ∀ k, k < nL s → lo1 V g0 S s k (es k) (la k) (lw k) (fa k)) (hD0 : de_P V g0 S (ad 10) s) : MV l yX2_deliver cX2_deliver 5 ({ frames := 3, cells := 0, slots := 0, locals := 64 } : Room) V [.ref S, .ref (es k)] g0 (fun g1 => (∀ j, j < nL (goodS s k (nD s)) → lo1 V g1 S (goodS s k (nD s)) j (es j) (la j) (lw j) (fa j)) ∧ de_P V g1 S (ad 10) (goodS s k (nD s)) ∧ gh_fw S [4, 6] g0 g1) := by
  refine MG.of RX2 (by decide) rfl (Nat.le_of_ble_eq_true rfl) (fun pp ee s9 mm args below meth c ls hC hg hr hlk hnm hl => ?_)
  have hx := hC.1.1
  have hb := hC.1.2.1
  have hml := hC.1.2.2.1
  have hown := hC.1.2.2.2.1
  have hts := hC.1.2.2.2.2
  have hl : lv_has ls 5 [(0, .ref S), (1, .ref (es k))] := hl
  obtain ⟨g, hg, hgg⟩ : ∃ g, gh_W V (gh_A g0 s9.heap.size) s9 g s9.heap [] ∧ g = g0 := ⟨g0, hg, rfl⟩
  have hT := hT0
  rw [← hgg] at hT
  have hF : gh_fw S [4, 6] g0 g := by rw [hgg]; exact gh_fw.rf
  have hLo := hLo0
  have hD := hD0
  rw [← hgg] at hLo hD
  obtain ⟨hlq, hla, hlw, hlf⟩ := hLo k hk
  have hLx : ∀ j, j < nL s → j ≠ k → lo1 V g S s j (es j) (la j) (lw j) (fa j) := fun j h _ => hLo j h
  obtain ⟨ds, hDl, hDf⟩ := hD
  obtain ⟨vs_hdc, hdc⟩ := hDl.c
  refine lv_null hx hb dX2_deliver_0 ?_
  refine lv_astore_nN (lv' := [(2, .null), (0, .ref S), (1, .ref (es k))]) hx hb dX2_deliver_1 rfl hl (by decide) rfl (fun ls hl => ?_)
  refine lv_iconst (v := 0) hx hb dX2_deliver_2 (by decide) ?_
  refine lv_istore_n (lv' := [(3, .int 0), (2, .null), (0, .ref S), (1, .ref (es k))]) hx hb dX2_deliver_3 rfl hl (by decide) rfl (fun ls hl => ?_)
  have hl : lv_has ls 5 [(0, .ref S), (1, .ref (es k)), (2, .null), (3, .int 0)] := lv_sub hl [2, 3, 1, 0] rfl
  have hl : lv_has ls 5 [(0, .ref S), (1, .ref (es k)), (2, va_rf (fnd9 ds (bo s k 0))), (3, .int 0)] := by rw [show fnd9 ds (bo s k 0) = none from fnd9_n ds]; exact hl
  refine gh_loop (N := (nD s)) (X := fun i_1 g ls => (st_C V g S ad I A P) ∧ (gh_fw S [4, 6] g0 g) ∧ (wa_P V g (lw k) (kd s k) (lt s k 1)) ∧ (∀ j, j < nL s → j ≠ k → lo1 V g S s j (es j) (la j) (lw j) (fa j)) ∧ (al_P V S 13 g (ad 10) (nD s) ds) ∧ (∀ d, d < nD s → de1 g S s d (ds d)) ∧ (g (es k) = some ((S, 4, k), oo 3 [.ref (lw k), .ref (la k), .int (lt s k 2), .int (lt s k 3), .int (lt s k 4)])) ∧ (g (la k) = some ((S, 5, k), ai V 0 5 (fa k))) ∧ (g (ad 10) = some ((S, 13, 0), oo 12 vs_hdc)) ∧ lv_has ls 5 [(0, .ref S), (1, .ref (es k)), (2, va_rf (fnd9 ds (bo s k i_1))), (3, .int (nI i_1))]) ?_ ?_ 0 (by omega) hg ⟨hT, hF, hlw, hLx, hDl, hDf, hlq, hla, hdc, lv_sub hl [0, 1, 2, 3] rfl⟩
  · intro g H locs ls hg hX
    obtain ⟨hT, hF, hlw, hLx, hDl, hDf, hlq, hla, hdc, hl⟩ := hX
    refine lv_iload_n hx hb dX2_deliver_4 rfl (lv_at hl 3 rfl) ?_
    refine lv_aload_n hx hb dX2_deliver_5 rfl (lv_at hl 0 rfl) ?_
    refine gh_get (v := .ref (ad 10)) hC hg hT.1 fX2_28_2 rfl dX2_deliver_6 ?_
    refine gh_callFi hg (gh_runF (x := ⟨"java/util/List", "size", "()I"⟩) (As := []) (rest := [.int (nI (nD s))]) hC hg (j_J2_size l V _ (ad 10) S 13 (nD s) ds hDl) 0 (lw_F q1359 q1321 q1319 q107 q1323) hdc rfl (by decide +kernel) q1322 q1320 q1148 hdF_List_size_0 ⟨Nat.le_of_ble_eq_true rfl, Nat.le_of_ble_eq_true rfl⟩ rfl hl.1 rfl (Nat.le_of_ble_eq_true rfl) dX2_deliver_9 ⟨Nat.le_of_ble_eq_true rfl, Nat.le_of_ble_eq_true rfl⟩) (fun r_2 g H locs hg hp => ?_)
    obtain ⟨hp, hq⟩ := hp
    replace hp : (nI (nD s)) = r_2 := hp.symm
    subst hp
    rw [← hq] at hT hF hlw hLx hDl hDf hlq hla hdc
    try rw [← hq] at hgg
    refine lv_icmp_ge (tgt := 69) hx hb dX2_deliver_14 (by decide) (fun _ => ?_) (fun c_3 => (absurd ((nx_le rfl rfl (by omega) (by omega)).mpr (by omega)) c_3))
    refine lv_aload_nQ hx hb dX2_deliver_69 rfl (lv_at hl 2 rfl) ?_
    refine lv_ifnonnullQ (tgt := 86) hx hb dX2_deliver_70 (by decide) (fun y_5 hq_4 => ?_) (fun hq_4 => ?_)
    · skip
      rw [hq_4] at hl
      have hl : lv_has ls 5 [(0, .ref S), (1, .ref (es k)), (2, .ref y_5), (3, .int (nI (nD s)))] := hl
      obtain ⟨hbn, hyd⟩ := fnd9_some hq_4
      have hbl := (bo_nat (by omega) hbn).1
      generalize hdd : (bo s k (nD s)).toNatClampNeg = d9 at hyd hbl
      subst hyd
      have hdq := hDf d9 hbl
      have hdq : g (ds d9) = some ((S, 6, d9), oo 4 [.int (od s d9 0), .int (od s d9 1), .int (od s d9 3), .int (od s d9 4), .int (od s d9 2), .int (od s d9 5)]) := hdq
      have hDx : ∀ j, j < nD s → j ≠ d9 → de1 g S s j (ds j) := fun j h _ => hDf j h
      refine lv_aload_n hx hb dX2_deliver_86 rfl (lv_at hl 1 rfl) ?_
      refine lv_dup hx hb dX2_deliver_87 rfl ?_
      refine gh_get (v := .int (lt s k 4)) hC hg hlq fX2_221_3 rfl dX2_deliver_88 ?_
      refine lv_aload_n hx hb dX2_deliver_91 rfl (lv_at hl 2 rfl) ?_
      refine lv_aload_n hx hb dX2_deliver_92 rfl (lv_at hl 0 rfl) ?_
      refine gh_get (v := .int (I 0)) hC hg hT.1 fX2_82_2 rfl dX2_deliver_93 ?_
      refine W.eq (g2 := F0 mm 96 ls [.int (s 0), .ref (ds d9), .int (lt s k 4), .ref (es k)]) (by rw [hI0] <;> rfl) ?_
      refine gh_calli hg (gh_runV (As := [.int (s 0)]) (rest := [.int (lt s k 4), .ref (es k)]) hC hg (j_X5_take l V _ (ds d9) (od s d9 0) (od s d9 1) (od s d9 3) (od s d9 4) (od s d9 2) (od s d9 5) (S, 6, d9) hdq (s 0)) 1 (lw_V q2825 q2826 q2827 q158 q2828) hdq rfl hd_X5_take ⟨Nat.le_of_ble_eq_true rfl, Nat.le_of_ble_eq_true rfl⟩ rfl hl.1 rfl (Nat.le_of_ble_eq_true rfl) dX2_deliver_96 ⟨Nat.le_of_ble_eq_true rfl, Nat.le_of_ble_eq_true rfl⟩) (fun r_6 g H locs hg hp => ?_)
      obtain ⟨hp, hnew9, hn⟩ := hp
      subst hp
      have hw := hnew9
      have hlq : g (es k) = some ((S, 4, k), oo 3 [.ref (lw k), .ref (la k), .int (lt s k 2), .int (lt s k 3), .int (lt s k 4)]) := (hn _ (gh_neK hlq hdq rfl)).trans hlq
      have hla : g (la k) = some ((S, 5, k), ai V 0 5 (fa k)) := (hn _ (gh_neK hla hdq rfl)).trans hla
      have hdc : g (ad 10) = some ((S, 13, 0), oo 12 vs_hdc) := (hn _ (gh_neK hdc hdq rfl)).trans hdc
      have hf9 : gh_fv S [6] _ g := (gh_fw.st hdq hn).v
      have hF : gh_fw S [4, 6] g0 g := hF.set hdq (by decide) hn
      have hlw : wa_P V g (lw k) (kd s k) (lt s k 1) := hf9.wa (by decide) hlw
      have hLx : ∀ j, j < nL s → j ≠ k → lo1 V g S s j (es j) (la j) (lw j) (fa j) := fun j h1 h2 => (hLx j h1 h2).kp hf9 (by decide)
      have hDl : al_P V S 13 g (ad 10) (nD s) ds := hf9.al (by decide) hDl
      have hDx : ∀ j, j < nD s → j ≠ d9 → de1 g S s j (ds j) := fun j h1 h2 => (hDx j h1 h2).ow hdq h2 hn
      have hT : st_C V g S ad I A P := hT.ne hdq (fun h9 => absurd (show 6 = 0 from h9.2) (by decide)) hn
      have hdq : g (ds d9) = some ((S, 6, d9), oo 4 [.int (od s d9 0), .int (od s d9 1), .int (od s d9 3), .int (od s d9 4), .int ((od s d9 2) - 1), .int ((od s d9 5) + (if (s 0) ≤ (od s d9 3) then (od s d9 4) else (od s d9 4) / 2))]) := hw
      refine lv_iadd hx hb dX2_deliver_99 ?_
      refine gh_put (v := .int ((lt s k 4) + (if (s 0) ≤ (od s d9 3) then (od s d9 4) else (od s d9 4) / 2))) hC hg hlq fX2_221_3 rfl rfl (Nat.le_of_ble_eq_true rfl) dX2_deliver_100 (fun g H locs hg hw hn => ?_)
      have hla : g (la k) = some ((S, 5, k), ai V 0 5 (fa k)) := (hn _ (gh_neK hla hlq rfl)).trans hla
      have hdc : g (ad 10) = some ((S, 13, 0), oo 12 vs_hdc) := (hn _ (gh_neK hdc hlq rfl)).trans hdc
      have hdq : g (ds d9) = some ((S, 6, d9), oo 4 [.int (od s d9 0), .int (od s d9 1), .int (od s d9 3), .int (od s d9 4), .int ((od s d9 2) - 1), .int ((od s d9 5) + (if (s 0) ≤ (od s d9 3) then (od s d9 4) else (od s d9 4) / 2))]) := (hn _ (gh_neK hdq hlq rfl)).trans hdq
      have hf9 : gh_fv S [4] _ g := (gh_fw.st hlq hn).v
      have hF : gh_fw S [4, 6] g0 g := hF.set hlq (by decide) hn
      have hlw : wa_P V g (lw k) (kd s k) (lt s k 1) := hf9.wa (by decide) hlw
      have hLx : ∀ j, j < nL s → j ≠ k → lo1 V g S s j (es j) (la j) (lw j) (fa j) := fun j h1 h2 => (hLx j h1 h2).ow hlq h2 (by decide) hn
      have hDl : al_P V S 13 g (ad 10) (nD s) ds := hf9.al (by decide) hDl
      have hDx : ∀ j, j < nD s → j ≠ d9 → de1 g S s j (ds j) := fun j h1 h2 => (hDx j h1 h2).kp hf9 (by decide)
      have hT : st_C V g S ad I A P := hT.ne hlq (fun h9 => absurd (show 4 = 0 from h9.2) (by decide)) hn
      have hlq : g (es k) = some ((S, 4, k), oo 3 [.ref (lw k), .ref (la k), .int (lt s k 2), .int (lt s k 3), .int ((lt s k 4) + (if (s 0) ≤ (od s d9 3) then (od s d9 4) else (od s d9 4) / 2))]) := hw
      have hs1 : goodS s k (nD s) = dlv s k d9 := by rw [← hdd]; exact if_neg hbn
      rw [hs1]
      exact gh_retv hC hg hr hlk (⟨lo_fld (s1 := dlv s k d9) h20 hk (nL_cg (dlv_o (by omega) (by omega) (by omega))) hLx (fun j i hj hi hne => dlv_lt (by omega) (by omega) (by omega) hi (by omega)) (by rw [dlv_4 (by omega) (by omega), dlv_lt (by omega) (by omega) (by omega) (by omega) (by omega)]; exact hlq) hla hlw hlf, de_dlv (by omega) hbl hD10 hDl hDx hdq, hF⟩) dX2_deliver_103 (Nat.le_of_ble_eq_true rfl) (Nat.le_of_ble_eq_true rfl)
    rw [hq_4] at hl
    have hl : lv_has ls 5 [(0, .ref S), (1, .ref (es k)), (2, .null), (3, .int (nI (nD s)))] := hl
    have hbn := fnd9_none hq_4
    refine lv_aload_n hx hb dX2_deliver_73 rfl (lv_at hl 1 rfl) ?_
    refine lv_dup hx hb dX2_deliver_74 rfl ?_
    refine gh_get (v := .int (lt s k 3)) hC hg hlq fX2_214_3 rfl dX2_deliver_75 ?_
    refine lv_iconst (v := 1) hx hb dX2_deliver_78 (by decide) ?_
    refine lv_iadd hx hb dX2_deliver_79 ?_
    refine gh_put (v := .int ((lt s k 3) + 1)) hC hg hlq fX2_214_3 rfl rfl (Nat.le_of_ble_eq_true rfl) dX2_deliver_80 (fun g H locs hg hw hn => ?_)
    have hla : g (la k) = some ((S, 5, k), ai V 0 5 (fa k)) := (hn _ (gh_neK hla hlq rfl)).trans hla
    have hdc : g (ad 10) = some ((S, 13, 0), oo 12 vs_hdc) := (hn _ (gh_neK hdc hlq rfl)).trans hdc
    have hf9 : gh_fv S [4] _ g := (gh_fw.st hlq hn).v
    have hF : gh_fw S [4, 6] g0 g := hF.set hlq (by decide) hn
    have hlw : wa_P V g (lw k) (kd s k) (lt s k 1) := hf9.wa (by decide) hlw
    have hLx : ∀ j, j < nL s → j ≠ k → lo1 V g S s j (es j) (la j) (lw j) (fa j) := fun j h1 h2 => (hLx j h1 h2).ow hlq h2 (by decide) hn
    have hDl : al_P V S 13 g (ad 10) (nD s) ds := hf9.al (by decide) hDl
    have hDf : ∀ d, d < nD s → de1 g S s d (ds d) := fun d hd => (hDf d hd).kp hf9 (by decide)
    have hT : st_C V g S ad I A P := hT.ne hlq (fun h9 => absurd (show 4 = 0 from h9.2) (by decide)) hn
    have hlq : g (es k) = some ((S, 4, k), oo 3 [.ref (lw k), .ref (la k), .int (lt s k 2), .int ((lt s k 3) + 1), .int (lt s k 4)]) := hw
    refine lv_goto (tgt := 103) hx hb dX2_deliver_83 (by decide) ?_
    have hs1 : goodS s k (nD s) = lts s k 3 (lt s k 3 + 1) := if_pos hbn
    rw [hs1]
    exact gh_retv hC hg hr hlk (⟨lo_fld (s1 := lts s k 3 (lt s k 3 + 1)) h20 hk (nL_cg (lts_o (by omega) (by omega) (by omega))) hLx (fun j i hj hi hne => by by_cases e : j = k; (subst e; exact lts_at (by omega)); exact lts_row e hi (by omega)) (by rw [lts_eq, lts_at (by omega)]; exact hlq) hla hlw hlf, de_lts (by omega) (by omega) hD10 ⟨ds, hDl, hDf⟩, hF⟩) dX2_deliver_103 (Nat.le_of_ble_eq_true rfl) (Nat.le_of_ble_eq_true rfl)
  · intro i_1 hi4 ih4 g H locs ls hg hX
    obtain ⟨hT, hF, hlw, hLx, hDl, hDf, hlq, hla, hdc, hl⟩ := hX
    refine lv_iload_n hx hb dX2_deliver_4 rfl (lv_at hl 3 rfl) ?_
    refine lv_aload_n hx hb dX2_deliver_5 rfl (lv_at hl 0 rfl) ?_
    refine gh_get (v := .ref (ad 10)) hC hg hT.1 fX2_28_2 rfl dX2_deliver_6 ?_
    refine gh_callFi hg (gh_runF (x := ⟨"java/util/List", "size", "()I"⟩) (As := []) (rest := [.int (nI i_1)]) hC hg (j_J2_size l V _ (ad 10) S 13 (nD s) ds hDl) 0 (lw_F q1359 q1321 q1319 q107 q1323) hdc rfl (by decide +kernel) q1322 q1320 q1148 hdF_List_size_0 ⟨Nat.le_of_ble_eq_true rfl, Nat.le_of_ble_eq_true rfl⟩ rfl hl.1 rfl (Nat.le_of_ble_eq_true rfl) dX2_deliver_9 ⟨Nat.le_of_ble_eq_true rfl, Nat.le_of_ble_eq_true rfl⟩) (fun r_7 g H locs hg hp => ?_)
    obtain ⟨hp, hq⟩ := hp
    replace hp : (nI (nD s)) = r_7 := hp.symm
    subst hp
    rw [← hq] at hT hF hlw hLx hDl hDf hlq hla hdc
    try rw [← hq] at hgg
    refine lv_icmp_ge (tgt := 69) hx hb dX2_deliver_14 (by decide) (fun c_8 => (absurd ((nx_le rfl rfl (by omega) (by omega)).mp c_8) (by omega))) (fun _ => ?_)
    refine lv_aload_n hx hb dX2_deliver_17 rfl (lv_at hl 0 rfl) ?_
    refine gh_get (v := .ref (ad 10)) hC hg hT.1 fX2_28_2 rfl dX2_deliver_18 ?_
    refine lv_iload_n hx hb dX2_deliver_21 rfl (lv_at hl 3 rfl) ?_
    refine gh_callFq hg (gh_runF (x := ⟨"java/util/List", "get", "(I)Ljava/lang/Object;"⟩) (As := [.int (nI i_1)]) (rest := []) hC hg (j_J2_get l V _ (ad 10) S 13 (nD s) ds hDl (nI i_1) i_1 rfl (by omega)) 1 (lw_F q1361 q1338 q1336 q107 q1340) hdc rfl (by decide +kernel) q1339 q1337 q1148 hdF_List_get_1 ⟨Nat.le_of_ble_eq_true rfl, Nat.le_of_ble_eq_true rfl⟩ rfl hl.1 rfl (Nat.le_of_ble_eq_true rfl) dX2_deliver_22 ⟨Nat.le_of_ble_eq_true rfl, Nat.le_of_ble_eq_true rfl⟩) (fun r_9 g H locs hg hp => ?_)
    obtain ⟨hp, hq⟩ := hp
    subst hp
    rw [← hq] at hT hF hlw hLx hDl hDf hlq hla hdc
    try rw [← hq] at hgg
    refine W.eq (g2 := F0 mm 27 ls [.ref (ds i_1)]) rfl ?_
    have hdq := hDf i_1 hi4
    have hdq : g (ds i_1) = some ((S, 6, i_1), oo 4 [.int (od s i_1 0), .int (od s i_1 1), .int (od s i_1 3), .int (od s i_1 4), .int (od s i_1 2), .int (od s i_1 5)]) := hdq
    refine gh_castS hC hg hdq rfl q2815 dX2_deliver_27 ?_
    refine lv_astore (lv' := [(4, .ref (ds i_1)), (0, .ref S), (1, .ref (es k)), (2, va_rf (fnd9 ds (bo s k i_1))), (3, .int (nI i_1))]) hx hb dX2_deliver_30 hl (by decide) rfl (fun ls hl => ?_)
    refine lv_aload hx hb dX2_deliver_32 (lv_at hl 0 rfl) ?_
    refine lv_aload_n hx hb dX2_deliver_34 rfl (lv_at hl 2 rfl) ?_
    refine gh_getr (v := .ref (lw k)) hC hg hlq rfX2_196_3 rfl dX2_deliver_35 ?_
    refine gh_calli hg (gh_runV (As := [.ref (lw k)]) (rest := []) hC hg (j_X5_wants l V _ (ds i_1) (od s i_1 0) (od s i_1 1) (od s i_1 3) (od s i_1 4) (od s i_1 2) (od s i_1 5) (S, 6, i_1) hdq (lw k) (kd s k) (lt s k 1) hlw) 1 (lw_V q2816 q2817 q2818 q158 q2819) hdq rfl hd_X5_wants ⟨Nat.le_of_ble_eq_true rfl, Nat.le_of_ble_eq_true rfl⟩ rfl hl.1 rfl (Nat.le_of_ble_eq_true rfl) dX2_deliver_38 ⟨Nat.le_of_ble_eq_true rfl, Nat.le_of_ble_eq_true rfl⟩) (fun r_10 g H locs hg hp => ?_)
    obtain ⟨hp, hq⟩ := hp
    replace hp : (if (od s i_1 2) ≤ 0 then 0 else if (od s i_1 0) = nI (kd s k) then (if (od s i_1 1) = (lt s k 1) then 1 else 0) else 0) = r_10 := hp.symm
    subst hp
    rw [← hq] at hT hF hlw hLx hDl hDf hlq hla hdc hdq
    try rw [← hq] at hgg
    refine lv_if_eq (tgt := 63) hx hb dX2_deliver_41 (by decide) (fun c_11 => ?_) (fun c_11 => ?_)
    · skip
      have hbo : fnd9 ds (bo s k (i_1 + 1)) = fnd9 ds (bo s k i_1) := by rw [bo_no hkd c_11]
      refine lv_iinc (v := (nI (i_1 + 1))) (lv' := [(3, .int (nI (i_1 + 1))), (4, .ref (ds i_1)), (0, .ref S), (1, .ref (es k)), (2, va_rf (fnd9 ds (bo s k i_1)))]) hx hb dX2_deliver_63 hl (k := 4) rfl (nx_iinc rfl) (by decide) (by simp [gh_cQ]) (fun ls hl => ?_)
      refine lv_goto (tgt := 4) hx hb dX2_deliver_66 (by decide) ?_
      exact ih4 _ _ _ _ hg ⟨hT, hF, hlw, hLx, hDl, hDf, hlq, hla, hdc, (by rw [hbo]; exact lv_sub hl [2, 3, 4, 0] rfl)⟩
    have hby := bo_yes hkd c_11
    refine lv_aload_nQ hx hb dX2_deliver_44 rfl (lv_at hl 3 rfl) ?_
    refine lv_ifnullQ (tgt := 60) hx hb dX2_deliver_45 (by decide) (fun hq_12 => ?_) (fun y_13 hq_12 => ?_)
    · skip
      rw [hq_12] at hl
      have hl : lv_has ls 5 [(4, .ref (ds i_1)), (0, .ref S), (1, .ref (es k)), (2, .null), (3, .int (nI i_1))] := hl
      have hbo : fnd9 ds (bo s k (i_1 + 1)) = some (ds i_1) := by rw [hby, if_pos (fnd9_none hq_12)]; exact fnd9_i (by omega)
      refine lv_aload hx hb dX2_deliver_60 (lv_at hl 0 rfl) ?_
      refine lv_astore_n (lv' := [(2, .ref (ds i_1)), (4, .ref (ds i_1)), (0, .ref S), (1, .ref (es k)), (3, .int (nI i_1))]) hx hb dX2_deliver_62 rfl hl (by decide) rfl (fun ls hl => ?_)
      refine lv_iinc (v := (nI (i_1 + 1))) (lv' := [(3, .int (nI (i_1 + 1))), (2, .ref (ds i_1)), (4, .ref (ds i_1)), (0, .ref S), (1, .ref (es k))]) hx hb dX2_deliver_63 hl (k := 4) rfl (nx_iinc rfl) (by decide) rfl (fun ls hl => ?_)
      refine lv_goto (tgt := 4) hx hb dX2_deliver_66 (by decide) ?_
      exact ih4 _ _ _ _ hg ⟨hT, hF, hlw, hLx, hDl, hDf, hlq, hla, hdc, (by rw [hbo]; exact lv_sub hl [3, 4, 1, 0] rfl)⟩
    rw [hq_12] at hl
    have hl : lv_has ls 5 [(4, .ref (ds i_1)), (0, .ref S), (1, .ref (es k)), (2, .ref y_13), (3, .int (nI i_1))] := hl
    obtain ⟨hbn, hyd⟩ := fnd9_some hq_12
    have hbl := (bo_nat (by omega) hbn).1
    rw [if_neg hbn] at hby
    subst hyd
    have hdr := hDf (bo s k i_1).toNatClampNeg (by omega)
    have hdr : g (ds ((bo s k i_1).toNatClampNeg)) = some ((S, 6, (bo s k i_1).toNatClampNeg), oo 4 [.int (od s ((bo s k i_1).toNatClampNeg) 0), .int (od s ((bo s k i_1).toNatClampNeg) 1), .int (od s ((bo s k i_1).toNatClampNeg) 3), .int (od s ((bo s k i_1).toNatClampNeg) 4), .int (od s ((bo s k i_1).toNatClampNeg) 2), .int (od s ((bo s k i_1).toNatClampNeg) 5)]) := hdr
    refine lv_aload hx hb dX2_deliver_48 (lv_at hl 0 rfl) ?_
    refine gh_getr (v := .int (od s i_1 3)) hC hg hdq rfX2_355_4 rfl dX2_deliver_50 ?_
    refine lv_aload_n hx hb dX2_deliver_53 rfl (lv_at hl 3 rfl) ?_
    refine gh_getr (v := .int (od s ((bo s k i_1).toNatClampNeg) 3)) hC hg hdr rfX2_355_4 rfl dX2_deliver_54 ?_
    refine lv_icmp_ge (tgt := 63) hx hb dX2_deliver_57 (by decide) (fun c_14 => ?_) (fun c_14 => ?_)
    · skip
      have hbo : fnd9 ds (bo s k (i_1 + 1)) = some (ds (bo s k i_1).toNatClampNeg) := by rw [hby, if_pos c_14]; exact hq_12
      refine lv_iinc (v := (nI (i_1 + 1))) (lv' := [(3, .int (nI (i_1 + 1))), (4, .ref (ds i_1)), (0, .ref S), (1, .ref (es k)), (2, .ref (ds ((bo s k i_1).toNatClampNeg)))]) hx hb dX2_deliver_63 hl (k := 4) rfl (nx_iinc rfl) (by decide) rfl (fun ls hl => ?_)
      refine lv_goto (tgt := 4) hx hb dX2_deliver_66 (by decide) ?_
      exact ih4 _ _ _ _ hg ⟨hT, hF, hlw, hLx, hDl, hDf, hlq, hla, hdc, (by rw [hbo]; exact lv_sub hl [2, 3, 4, 0] rfl)⟩
    have hbo : fnd9 ds (bo s k (i_1 + 1)) = some (ds i_1) := by rw [hby, if_neg c_14]; exact fnd9_i (by omega)
    refine lv_aload hx hb dX2_deliver_60 (lv_at hl 0 rfl) ?_
    refine lv_astore_n (lv' := [(2, .ref (ds i_1)), (4, .ref (ds i_1)), (0, .ref S), (1, .ref (es k)), (3, .int (nI i_1))]) hx hb dX2_deliver_62 rfl hl (by decide) rfl (fun ls hl => ?_)
    refine lv_iinc (v := (nI (i_1 + 1))) (lv' := [(3, .int (nI (i_1 + 1))), (2, .ref (ds i_1)), (4, .ref (ds i_1)), (0, .ref S), (1, .ref (es k))]) hx hb dX2_deliver_63 hl (k := 4) rfl (nx_iinc rfl) (by decide) rfl (fun ls hl => ?_)
    refine lv_goto (tgt := 4) hx hb dX2_deliver_66 (by decide) ?_
    exact ih4 _ _ _ _ hg ⟨hT, hF, hlw, hLx, hDl, hDf, hlq, hla, hdc, (by rw [hbo]; exact lv_sub hl [3, 4, 1, 0] rfl)⟩
