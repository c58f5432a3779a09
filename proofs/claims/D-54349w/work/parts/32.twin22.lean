section
variable {b : Nat → Int32} {N sp : Nat}
theorem isC_b {j : Nat} {lo hi : Int32} {a c : Nat} (hlo : lo = nI a) (hhi : hi = nI c) (ha : a < 2 ^ 31) (hc : c < 2 ^ 31) (h : isC b N j lo hi) : j < N ∧ a - 48 ≤ dg b j ∧ dg b j ≤ c - 48 := by
  obtain ⟨h1, h2, -⟩ := okR_cl hlo hhi ha hc h.2
  exact ⟨h.1, by unfold dg; omega, by unfold dg; omega⟩
theorem zP_b {hi : Int32} {c : Nat} (hhi : hi = nI c) (hc : c < 2 ^ 31) (h : (zP b N sp hi).1 = true) : dg b (sp + 1) < 8 ∧ dg b (sp + 1 + 1 + 1) ≤ c - 48 ∧ sp < (zP b N sp hi).2 ∧ (zP b N sp hi).2 ≤ N := by
  unfold zP at h ⊢
  by_cases h1 : isC b N (sp + 1) 48 55
  · rw [if_pos h1] at h ⊢
    by_cases h2 : isC b N (sp + 1 + 1) 61 61
    · rw [if_pos h2] at h ⊢
      by_cases h3 : isC b N (sp + 1 + 1 + 1) 48 hi
      · rw [if_pos h3]
        have b1 := isC_b (a := 48) (c := 55) rfl rfl (by omega) (by omega) h1
        have b3 := isC_b (a := 48) (c := c) rfl hhi (by omega) hc h3
        exact ⟨by omega, by omega, by show sp < sp + 1 + 1 + 1 + 1; omega, by show sp + 1 + 1 + 1 + 1 ≤ N; omega⟩
      · rw [if_neg h3] at h; exact absurd h Bool.false_ne_true
    · rw [if_neg h2] at h; exact absurd h Bool.false_ne_true
  · rw [if_neg h1] at h; exact absurd h Bool.false_ne_true
theorem oP_b (h : (oP b N sp).1 = true) : dg b (sp + 1) ≤ 2 ∧ (1 ≤ dg b (sp + 1 + 1) ∧ dg b (sp + 1 + 1) ≤ 9) ∧ sp < (oP b N sp).2 ∧ (oP b N sp).2 ≤ N := by
  unfold oP at h ⊢
  by_cases h1 : isC b N (sp + 1) 48 50
  · rw [if_pos h1] at h ⊢
    by_cases h2 : isC b N (sp + 1 + 1) 49 57
    · rw [if_pos h2]
      have b1 := isC_b (a := 48) (c := 50) rfl rfl (by omega) (by omega) h1
      have b3 := isC_b (a := 49) (c := 57) rfl rfl (by omega) (by omega) h2
      exact ⟨by omega, by omega, by show sp < sp + 1 + 1 + 1; omega, by show sp + 1 + 1 + 1 ≤ N; omega⟩
    · rw [if_neg h2] at h; exact absurd h Bool.false_ne_true
  · rw [if_neg h1] at h; exact absurd h Bool.false_ne_true
theorem nuP_b {j M : Nat} {lo : Int32} {a : Nat} (hlo : lo = nI a) (ha : a = 48 ∨ a = 49) (hM : 9 ≤ M) (h : (nuP b N j lo M).1 = true) : a - 48 ≤ nmV b N j M ∧ nmV b N j M ≤ M ∧ j < (nuP b N j lo M).2 ∧ (nuP b N j lo M).2 ≤ N := by
  unfold nuP at h ⊢
  by_cases h1 : isC b N j lo 57
  · rw [if_pos h1]
    have b2 := nmP_le (b := b) (M := M) h1.1
    rcases ha with rfl | rfl
    · subst hlo
      exact ⟨by omega, nmV_le h1.2 hM, b2.2, b2.1⟩
    · subst hlo
      exact ⟨nmV_ge h1.2, nmV_le (okR_49 h1.2) hM, b2.2, b2.1⟩
  · rw [if_neg h1] at h; exact absurd h Bool.false_ne_true
theorem cP_b (h : (cP b N sp).1 = true) : dg b (sp + 1) < 2 ∧ nmV b N (sp + 1 + 1 + 1) 23 < 24 ∧ sp < (cP b N sp).2 ∧ (cP b N sp).2 ≤ N := by
  unfold cP at h ⊢
  by_cases h1 : isC b N (sp + 1) 48 49
  · rw [if_pos h1] at h ⊢
    by_cases h2 : isC b N (sp + 1 + 1) 58 58
    · rw [if_pos h2] at h ⊢
      have b1 := isC_b (a := 48) (c := 49) rfl rfl (by omega) (by omega) h1
      have b3 := nuP_b (lo := 48) (a := 48) rfl (Or.inl rfl) (by omega) h
      exact ⟨by omega, by omega, by omega, b3.2.2.2⟩
    · rw [if_neg h2] at h; exact absurd h Bool.false_ne_true
  · rw [if_neg h1] at h; exact absurd h Bool.false_ne_true
theorem ptE_le (h : (ptE b N sp).1 = true) : sp < (ptE b N sp).2 ∧ (ptE b N sp).2 ≤ N := by
  unfold ptE at h ⊢
  by_cases h0 : ¬ sp < N
  · rw [if_pos h0] at h; exact absurd h Bool.false_ne_true
  rw [if_neg h0] at h ⊢
  by_cases h1 : b sp = 98
  · rw [if_pos h1] at h ⊢; exact (zP_b (c := 51) rfl (by omega) h).2.2
  rw [if_neg h1] at h ⊢
  by_cases h1 : b sp = 102
  · rw [if_pos h1] at h ⊢; exact (zP_b (c := 51) rfl (by omega) h).2.2
  rw [if_neg h1] at h ⊢
  by_cases h1 : b sp = 114
  · rw [if_pos h1] at h ⊢; exact (zP_b (c := 57) rfl (by omega) h).2.2
  rw [if_neg h1] at h ⊢
  by_cases h1 : b sp = 111
  · rw [if_pos h1] at h ⊢; exact (oP_b h).2.2
  rw [if_neg h1] at h ⊢
  by_cases h1 : b sp = 108
  · rw [if_pos h1] at h ⊢
    have b3 := (nuP_b (lo := 48) (a := 48) rfl (Or.inl rfl) (by omega) h).2.2
    exact ⟨by omega, b3.2⟩
  rw [if_neg h1] at h ⊢
  by_cases h1 : b sp = 99
  · rw [if_pos h1] at h ⊢; exact (cP_b h).2.2
  rw [if_neg h1] at h ⊢
  by_cases h1 : b sp = 109
  · rw [if_pos h1] at h ⊢
    have b3 := (nuP_b (lo := 49) (a := 49) rfl (Or.inr rfl) (by omega) h).2.2
    exact ⟨by omega, b3.2⟩
  rw [if_neg h1] at h; exact absurd h Bool.false_ne_true
theorem wf_pt {s : Nat → Int32} {st : Nat → UInt32} {L D P : Nat} (hE : tw_wf s L D P) (hn : nnS st) (h : (ptE b N sp).1 = true) (hc : canB s (b sp) (ptO b N sp) (ptT b N sp) = true) : ∃ L' P', tw_wf (didS s st (b sp) (ptO b N sp) (ptT b N sp)).1 L' D P' ∧ nnS (didS s st (b sp) (ptO b N sp) (ptT b N sp)).2 := by
  unfold ptE at h
  by_cases h0 : ¬ sp < N
  · rw [if_pos h0] at h; exact absurd h Bool.false_ne_true
  rw [if_neg h0] at h
  have hL12 := hE.1.2
  by_cases h1 : b sp = 98
  · rw [if_pos h1] at h
    have b1 := zP_b (c := 51) rfl (by omega) h
    have eO : ptO b N sp = dg b (sp + 1) := by unfold ptO; rw [if_neg (by rw [h1]; decide), if_neg (by rw [h1]; decide)]
    have eT : ptT b N sp = dg b (sp + 1 + 1 + 1) := by unfold ptT; rw [if_neg (by rw [h1]; decide), if_neg (by rw [h1]; decide), if_neg (by rw [h1]; decide), if_neg (by rw [h1]; decide)]
    rw [eO, eT, h1, didS_98]
    exact ⟨L, P, wf_zs0 hE (by omega) (by omega), hn⟩
  rw [if_neg h1] at h
  by_cases h1 : b sp = 102
  · rw [if_pos h1] at h
    have b1 := zP_b (c := 51) rfl (by omega) h
    have eO : ptO b N sp = dg b (sp + 1) := by unfold ptO; rw [if_neg (by rw [h1]; decide), if_neg (by rw [h1]; decide)]
    have eT : ptT b N sp = dg b (sp + 1 + 1 + 1) := by unfold ptT; rw [if_neg (by rw [h1]; decide), if_neg (by rw [h1]; decide), if_neg (by rw [h1]; decide), if_neg (by rw [h1]; decide)]
    rw [eO, eT, h1, didS_102]
    exact ⟨L, P, wf_zs hE (by omega) (by omega) (by omega) _, hn⟩
  rw [if_neg h1] at h
  by_cases h1 : b sp = 114
  · rw [if_pos h1] at h
    have b1 := zP_b (c := 57) rfl (by omega) h
    have eO : ptO b N sp = dg b (sp + 1) := by unfold ptO; rw [if_neg (by rw [h1]; decide), if_neg (by rw [h1]; decide)]
    have eT : ptT b N sp = dg b (sp + 1 + 1 + 1) := by unfold ptT; rw [if_neg (by rw [h1]; decide), if_neg (by rw [h1]; decide), if_neg (by rw [h1]; decide), if_neg (by rw [h1]; decide)]
    rw [eO, eT, h1, didS_114]
    exact ⟨L, P, wf_zs hE (by omega) (by omega) (by omega) _, hn⟩
  rw [if_neg h1] at h
  by_cases h1 : b sp = 111
  · rw [if_pos h1] at h
    have b1 := oP_b h
    have eT : ptT b N sp = dg b (sp + 1 + 1) := by unfold ptT; rw [if_neg (by rw [h1]; decide), if_neg (by rw [h1]; decide), if_pos h1]
    rw [h1, canB_111, nL_of hE] at hc
    have hc := of_decide_eq_true hc
    rw [eT, h1, didS_111, nL_of hE]
    exact ⟨L + 1, P, wf_opens hE hc b1.2.1.1 b1.2.1.2, hn⟩
  rw [if_neg h1] at h
  by_cases h1 : b sp = 108
  · rw [if_pos h1] at h
    rw [h1, canB_108, nL_of hE] at hc
    have hc := Bool.and_eq_true_iff.mp hc
    have hi := of_decide_eq_true hc.1
    have hk := of_decide_eq_true hc.2
    rw [h1, didS_108]
    exact ⟨L, P, wf_loads hE hi (noLoad_20 (by rw [hk]; decide)), nnS_up hn 0 fp_zero⟩
  rw [if_neg h1] at h
  by_cases h1 : b sp = 99
  · rw [if_pos h1] at h
    have b1 := cP_b h
    have eO : ptO b N sp = dg b (sp + 1) := by unfold ptO; rw [if_neg (by rw [h1]; decide), if_neg (by rw [h1]; decide)]
    have eT : ptT b N sp = nmV b N (sp + 1 + 1 + 1) 23 := by unfold ptT; rw [if_neg (by rw [h1]; decide), if_neg (by rw [h1]; decide), if_neg (by rw [h1]; decide), if_pos h1]
    rw [eO, eT, h1, didS_99]
    exact ⟨L, P, wf_sends hE b1.1 b1.2.1, hn⟩
  rw [if_neg h1] at h
  by_cases h1 : b sp = 109
  · rw [h1, didS_109]
    obtain ⟨P', h2, h3⟩ := runsF_wf hE hn (ptO b N sp)
    exact ⟨L, P', h2, h3⟩
  rw [if_neg h1] at h; exact absurd h Bool.false_ne_true
end
/-! a whole text -/
def txE (b : Nat → Int32) (N : Nat) : Nat → Nat → Bool × Nat
  | 0, sp => (false, sp)
  | f + 1, sp => if (ptE b N sp).1 = true then (if (ptE b N sp).2 < N then (if isC b N (ptE b N sp).2 59 59 then txE b N f ((ptE b N sp).2 + 1) else (false, (ptE b N sp).2)) else (true, (ptE b N sp).2)) else (false, (ptE b N sp).2)
noncomputable def txR (b : Nat → Int32) (N : Nat) : Nat → Nat → (Nat → Int32) → (Nat → UInt32) → Nat × (Nat → Int32) × (Nat → UInt32)
  | 0, _, s, st => (0, s, st)
  | f + 1, sp, s, st => if canB s (b sp) (ptO b N sp) (ptT b N sp) = true then (if (ptE b N sp).2 < N then ((txR b N f ((ptE b N sp).2 + 1) (didS s st (b sp) (ptO b N sp) (ptT b N sp)).1 (didS s st (b sp) (ptO b N sp) (ptT b N sp)).2).1 + 1, (txR b N f ((ptE b N sp).2 + 1) (didS s st (b sp) (ptO b N sp) (ptT b N sp)).1 (didS s st (b sp) (ptO b N sp) (ptT b N sp)).2).2) else (1, didS s st (b sp) (ptO b N sp) (ptT b N sp))) else (0, s, st)
theorem txE_s {b : Nat → Int32} {N f sp : Nat} (h : 0 < f) : txE b N f sp = if (ptE b N sp).1 = true then (if (ptE b N sp).2 < N then (if isC b N (ptE b N sp).2 59 59 then txE b N (f - 1) ((ptE b N sp).2 + 1) else (false, (ptE b N sp).2)) else (true, (ptE b N sp).2)) else (false, (ptE b N sp).2) := by
  obtain ⟨k, rfl⟩ : ∃ k, f = k + 1 := ⟨f - 1, by omega⟩
  rfl
def errP (b : Nat → Int32) (N : Nat) (l : Int32) : Int32 := if (txE b N 61 0).1 = true then l else nI (txE b N 61 0).2
set_option maxRecDepth 100000
theorem hd_X3_go : yX3_go.cls = RX3 ∧ yX3_go.cls ≠ "java/lang/invoke/MethodHandle" ∧ yX3_go.cls ≠ "java/lang/invoke/VarHandle" ∧ (parseMethodDescriptor yX3_go.desc).map (fun d => d.parameters.length) = some 1 := by decide +kernel
theorem hd_X3_part : yX3_part.cls = RX3 ∧ yX3_part.cls ≠ "java/lang/invoke/MethodHandle" ∧ yX3_part.cls ≠ "java/lang/invoke/VarHandle" ∧ (parseMethodDescriptor yX3_part.desc).map (fun d => d.parameters.length) = some 1 := by decide +kernel
set_option maxHeartbeats 1000000 in
set_option maxRecDepth 100000 in
theorem t_go0 (l : Launch) (V : gh_V) (o : Nat) (ad : Nat → Nat) (I : Nat → Int32) (A : Nat → Nat → Int32) (F : Nat → Nat → UInt32) (g0 : gh_G) (hP : tw_P V g0 o ad I A F) (N : Nat) (hN : I 2 = nI N) (hN60 : N ≤ 60) : MI l yX3_go cX3_go 5 (some .int) ({ frames := 9, cells := 0, slots := 0, locals := 215 } : Room) V [.ref o, .int 0] g0 (fun r g1 => tw_W V g0 g1 o ad (va_up (va_up I 6 (if (txE (A 4) N 61 0).1 = true then 0 else 1)) 5 (nI (txE (A 4) N 61 0).2)) A F) := by
  refine MG.of RX3 (by decide) rfl (Nat.le_of_ble_eq_true rfl) (fun pp ee s mm args below meth c ls hC hg hr hlk hnm hl => ?_)
  have hx := hC.1.1
  have hb := hC.1.2.1
  have hml := hC.1.2.2.1
  have hown := hC.1.2.2.2.1
  have hts := hC.1.2.2.2.2
  have hl : lv_has ls 5 [(0, .ref o), (1, .int 0)] := hl
  have hT := hP.W
  refine lv_aload_n hx hb dX3_go_0 rfl (lv_at hl 0 rfl) ?_
  refine lv_iconst (v := 0) hx hb dX3_go_1 (by decide) ?_
  refine gh_put (v := .int 0) hC hg hT.1.1 fX3_233_0 rfl rfl (Nat.le_of_ble_eq_true rfl) dX3_go_2 (fun g H locs hg hw hn => ?_)
  have hT : tw_W V g0 g o ad (va_up I 5 0) A F := hT.putI 5 0 hw hn
  refine lv_aload_n hx hb dX3_go_5 rfl (lv_at hl 0 rfl) ?_
  refine lv_iconst (v := 0) hx hb dX3_go_6 (by decide) ?_
  refine gh_put (v := .int 0) hC hg hT.1.1 fX3_236_0 rfl rfl (Nat.le_of_ble_eq_true rfl) dX3_go_7 (fun g H locs hg hw hn => ?_)
  have hT : tw_W V g0 g o ad (va_up (va_up I 5 0) 6 0) A F := hT.putI 6 0 hw hn
  refine lv_iconst (v := 0) hx hb dX3_go_10 (by decide) ?_
  refine lv_istore_n (lv' := [(2, .int 0), (0, .ref o), (1, .int 0)]) hx hb dX3_go_11 rfl hl (by decide) rfl (fun ls hl => ?_)
  refine lv_iconst (v := 1) hx hb dX3_go_12 (by decide) ?_
  refine lv_istore_n (lv' := [(3, .int 1), (2, .int 0), (0, .ref o), (1, .int 0)]) hx hb dX3_go_13 rfl hl (by decide) rfl (fun ls hl => ?_)
  refine gh_while (μ := fun b : Nat => 61 - b) (X := fun b g ls => ∃ (n9 : Int32) (f9 : Nat), tw_W V g0 g o ad (va_up (va_up I 6 0) 5 (nI b)) A F ∧ (b ≤ N ∧ 61 - b ≤ f9 ∧ txE (A 4) N 61 0 = txE (A 4) N f9 b) ∧ lv_has ls 5 [(0, .ref o), (1, .int 0), (2, .int n9), (3, .int 1)]) ?_ 0 hg ⟨_, 61, hT.eqI (fam7 rfl rfl rfl rfl rfl rfl rfl (fun _ => rfl)), ⟨by omega, by omega, rfl⟩, lv_sub hl [2, 3, 1, 0] rfl⟩
  intro b ih14 g H locs ls hg hX
  obtain ⟨n9, f9, hT, ⟨hb1, hb2, hE9⟩, hl⟩ := hX
  have hst := hE9.trans (txE_s (by omega))
  refine lv_iload_n hx hb dX3_go_14 rfl (lv_at hl 3 rfl) ?_
  refine lv_if_eq (tgt := 85) hx hb dX3_go_15 (by decide) (fun c_1 => (absurd ((nx_eq (show ((1 : Int32)) = nI 1 from rfl) (show ((0 : Int32)) = nI 0 from rfl) (by omega) (by omega)).mp c_1) (by omega))) (fun _ => ?_)
  refine lv_aload_n hx hb dX3_go_18 rfl (lv_at hl 0 rfl) ?_
  refine lv_iload_n hx hb dX3_go_19 rfl (lv_at hl 1 rfl) ?_
  refine gh_calli hg (gh_runV (As := [.int 0]) (rest := []) hC hg (t_part0 l V o ad (va_up (va_up I 6 0) 5 (nI b)) A F _ hT.1 b N rfl (show ((0 : Int32)) = nI 0 from rfl) hN hN60 (by omega)) 1 (lw_V q4326 q4328 qs98 q138 q4329) hT.1.1 rfl hd_X3_part ⟨Nat.le_of_ble_eq_true rfl, Nat.le_of_ble_eq_true rfl⟩ rfl hl.1 rfl (Nat.le_of_ble_eq_true rfl) dX3_go_20 ⟨Nat.le_of_ble_eq_true rfl, Nat.le_of_ble_eq_true rfl⟩) (fun r_2 g H locs hg hp => ?_)
  obtain ⟨hpr, hpT⟩ := hp
  replace hpr : r_2 = 1 := hpr
  subst hpr
  by_cases hok_3 : (ptE (A 4) N b).1 = true
  · rw [if_pos hok_3] at hpT
    have hpl := ptE_le hok_3
    have hT : tw_W V g0 g o ad (va_up (va_up (va_up (va_up I 6 0) 5 (nI b)) 6 0) 5 (nI (ptE (A 4) N b).2)) A F := hT.call hpT
    refine lv_if_ne (tgt := 28) hx hb dX3_go_23 (by decide) (fun _ => ?_) (fun c_4 => (absurd ((nx_eq (show ((1 : Int32)) = nI 1 from rfl) (show ((0 : Int32)) = nI 0 from rfl) (by omega) (by omega)).mp c_4) (by omega)))
    refine lv_iinc (v := (n9 + 1)) (lv' := [(2, .int (n9 + 1)), (0, .ref o), (1, .int 0), (3, .int 1)]) hx hb dX3_go_28 hl (k := 2) rfl rfl (by decide) rfl (fun ls hl => ?_)
    refine lv_aload_n hx hb dX3_go_31 rfl (lv_at hl 1 rfl) ?_
    refine gh_get (v := .int 0) hC hg hT.1.1 fX3_236_0 rfl dX3_go_32 ?_
    refine lv_if_ne (tgt := 53) hx hb dX3_go_35 (by decide) (fun c_5 => (absurd ((nx_eq (show ((0 : Int32)) = nI 0 from rfl) (show ((0 : Int32)) = nI 0 from rfl) (by omega) (by omega)).mpr (by omega)) c_5)) (fun _ => ?_)
    refine lv_aload_n hx hb dX3_go_38 rfl (lv_at hl 1 rfl) ?_
    refine gh_get (v := .int (nI (ptE (A 4) N b).2)) hC hg hT.1.1 fX3_233_0 rfl dX3_go_39 ?_
    refine lv_aload_n hx hb dX3_go_42 rfl (lv_at hl 1 rfl) ?_
    refine gh_get (v := .int (I 2)) hC hg hT.1.1 fX3_230_0 rfl dX3_go_43 ?_
    refine lv_icmp_ge (tgt := 53) hx hb dX3_go_46 (by decide) (fun c_6 => ?_) (fun c_6 => ?_)
    · skip
      have c_6 : N ≤ (ptE (A 4) N b).2 := (nx_le hN rfl (by omega) (by omega)).mp c_6
      refine lv_iconst (v := 0) hx hb dX3_go_53 (by decide) ?_
      refine lv_istore_n (lv' := [(3, .int 0), (2, .int (n9 + 1)), (0, .ref o), (1, .int 0)]) hx hb dX3_go_54 rfl hl (by decide) rfl (fun ls hl => ?_)
      refine lv_iload_n hx hb dX3_go_55 rfl (lv_at hl 0 rfl) ?_
      refine lv_if_eq (tgt := 14) hx hb dX3_go_56 (by decide) (fun _ => ?_) (fun c_7 => (absurd ((nx_eq (show ((0 : Int32)) = nI 0 from rfl) (show ((0 : Int32)) = nI 0 from rfl) (by omega) (by omega)).mpr (by omega)) c_7))
      refine lv_iload_n hx hb dX3_go_14 rfl (lv_at hl 0 rfl) ?_
      refine lv_if_eq (tgt := 85) hx hb dX3_go_15 (by decide) (fun _ => ?_) (fun c_8 => (absurd ((nx_eq (show ((0 : Int32)) = nI 0 from rfl) (show ((0 : Int32)) = nI 0 from rfl) (by omega) (by omega)).mpr (by omega)) c_8))
      refine lv_iload_n hx hb dX3_go_85 rfl (lv_at hl 1 rfl) ?_
      have hf9 := hst.trans ((if_pos hok_3).trans (if_neg (by omega)))
      exact gh_reti hC hg hr hlk (hT.eqI (by rw [hf9]; exact (fam7 rfl rfl rfl rfl rfl rfl rfl (fun _ => rfl)))) dX3_go_86 (Nat.le_of_ble_eq_true rfl) (Nat.le_of_ble_eq_true rfl)
    have c_6 : ¬ N ≤ (ptE (A 4) N b).2 := fun h9 => c_6 ((nx_le hN rfl (by omega) (by omega)).mpr h9)
    refine lv_iconst (v := 1) hx hb dX3_go_49 (by decide) ?_
    refine lv_goto (tgt := 54) hx hb dX3_go_50 (by decide) ?_
    refine lv_istore_n (lv' := [(3, .int 1), (2, .int (n9 + 1)), (0, .ref o), (1, .int 0)]) hx hb dX3_go_54 rfl hl (by decide) rfl (fun ls hl => ?_)
    refine lv_iload_n hx hb dX3_go_55 rfl (lv_at hl 0 rfl) ?_
    refine lv_if_eq (tgt := 14) hx hb dX3_go_56 (by decide) (fun c_9 => (absurd ((nx_eq (show ((1 : Int32)) = nI 1 from rfl) (show ((0 : Int32)) = nI 0 from rfl) (by omega) (by omega)).mp c_9) (by omega))) (fun _ => ?_)
    refine lv_aload_n hx hb dX3_go_59 rfl (lv_at hl 2 rfl) ?_
    refine lv_bipush (v := 59) hx hb dX3_go_60 (by decide) ?_
    refine lv_bipush (v := 59) hx hb dX3_go_62 (by decide) ?_
    refine gh_calli hg (gh_runV (As := [.int 59, .int 59]) (rest := []) hC hg (t_sign0 l V o ad (va_up (va_up (va_up (va_up I 6 0) 5 (nI b)) 6 0) 5 (nI (ptE (A 4) N b).2)) A F _ hT.1 59 59 ((ptE (A 4) N b).2) N rfl (show ((0 : Int32)) = nI 0 from rfl) hN hN60 (by omega) (by decide)) 2 (lw_V q4330 q4332 qs99 q138 q4333) hT.1.1 rfl hd_X3_sign ⟨Nat.le_of_ble_eq_true rfl, Nat.le_of_ble_eq_true rfl⟩ rfl hl.1 rfl (Nat.le_of_ble_eq_true rfl) dX3_go_64 ⟨Nat.le_of_ble_eq_true rfl, Nat.le_of_ble_eq_true rfl⟩) (fun r_10 g H locs hg hp => ?_)
    rcases hp with ⟨sg_11, hpr, hpT⟩ | ⟨sg_11, hpT⟩
    · replace hpr : r_10 = (A 4) ((ptE (A 4) N b).2) := hpr
      subst hpr
      have hT : tw_W V g0 g o ad (va_up (va_up (va_up (va_up (va_up (va_up I 6 0) 5 (nI b)) 6 0) 5 (nI (ptE (A 4) N b).2)) 6 0) 5 (nI ((ptE (A 4) N b).2 + 1))) A F := hT.call hpT
      have sg_11l := sg_11.1
      obtain ⟨h_12a, h_12b, h_12⟩ := okR_cl (show ((59 : Int32)) = nI 59 from rfl) (show ((59 : Int32)) = nI 59 from rfl) (by omega) (by omega) sg_11.2
      refine lv_istore (lv' := [(4, .int ((A 4) ((ptE (A 4) N b).2))), (3, .int 1), (2, .int (n9 + 1)), (0, .ref o), (1, .int 0)]) hx hb dX3_go_67 hl (by decide) rfl (fun ls hl => ?_)
      refine lv_aload_n hx hb dX3_go_69 rfl (lv_at hl 3 rfl) ?_
      refine gh_get (v := .int 0) hC hg hT.1.1 fX3_236_0 rfl dX3_go_70 ?_
      refine lv_if_ne (tgt := 80) hx hb dX3_go_73 (by decide) (fun c_13 => (absurd ((nx_eq (show ((0 : Int32)) = nI 0 from rfl) (show ((0 : Int32)) = nI 0 from rfl) (by omega) (by omega)).mpr (by omega)) c_13)) (fun _ => ?_)
      refine lv_iconst (v := 1) hx hb dX3_go_76 (by decide) ?_
      refine lv_goto (tgt := 81) hx hb dX3_go_77 (by decide) ?_
      refine lv_istore_n (lv' := [(3, .int 1), (4, .int ((A 4) ((ptE (A 4) N b).2))), (2, .int (n9 + 1)), (0, .ref o), (1, .int 0)]) hx hb dX3_go_81 rfl hl (by decide) rfl (fun ls hl => ?_)
      refine lv_goto (tgt := 14) hx hb dX3_go_82 (by decide) ?_
      have hf9 := hst.trans ((if_pos hok_3).trans ((if_pos sg_11.1).trans (if_pos sg_11)))
      exact ih14 ((ptE (A 4) N b).2 + 1) (by show 61 - ((ptE (A 4) N b).2 + 1) < 61 - b; omega) _ _ _ _ hg ⟨_, f9 - 1, hT.eqI (fam7 rfl rfl rfl rfl rfl rfl rfl (fun _ => rfl)), ⟨by omega, by omega, hf9⟩, lv_sub hl [3, 4, 2, 0] rfl⟩
    have hT : tw_W V g0 g o ad (va_up (va_up (va_up (va_up (va_up (va_up I 6 0) 5 (nI b)) 6 0) 5 (nI (ptE (A 4) N b).2)) 6 1) 5 (nI ((ptE (A 4) N b).2))) A F := hT.call hpT
    refine lv_istore (lv' := [(4, .int r_10), (3, .int 1), (2, .int (n9 + 1)), (0, .ref o), (1, .int 0)]) hx hb dX3_go_67 hl (by decide) rfl (fun ls hl => ?_)
    refine lv_aload_n hx hb dX3_go_69 rfl (lv_at hl 3 rfl) ?_
    refine gh_get (v := .int 1) hC hg hT.1.1 fX3_236_0 rfl dX3_go_70 ?_
    refine lv_if_ne (tgt := 80) hx hb dX3_go_73 (by decide) (fun _ => ?_) (fun c_14 => (absurd ((nx_eq (show ((1 : Int32)) = nI 1 from rfl) (show ((0 : Int32)) = nI 0 from rfl) (by omega) (by omega)).mp c_14) (by omega)))
    refine lv_iconst (v := 0) hx hb dX3_go_80 (by decide) ?_
    refine lv_istore_n (lv' := [(3, .int 0), (4, .int r_10), (2, .int (n9 + 1)), (0, .ref o), (1, .int 0)]) hx hb dX3_go_81 rfl hl (by decide) rfl (fun ls hl => ?_)
    refine lv_goto (tgt := 14) hx hb dX3_go_82 (by decide) ?_
    refine lv_iload_n hx hb dX3_go_14 rfl (lv_at hl 0 rfl) ?_
    refine lv_if_eq (tgt := 85) hx hb dX3_go_15 (by decide) (fun _ => ?_) (fun c_15 => (absurd ((nx_eq (show ((0 : Int32)) = nI 0 from rfl) (show ((0 : Int32)) = nI 0 from rfl) (by omega) (by omega)).mpr (by omega)) c_15))
    refine lv_iload_n hx hb dX3_go_85 rfl (lv_at hl 2 rfl) ?_
    have hf9 := hst.trans ((if_pos hok_3).trans ((if_pos (by omega)).trans (if_neg sg_11)))
    exact gh_reti hC hg hr hlk (hT.eqI (by rw [hf9]; exact (fam7 rfl rfl rfl rfl rfl rfl rfl (fun _ => rfl)))) dX3_go_86 (Nat.le_of_ble_eq_true rfl) (Nat.le_of_ble_eq_true rfl)
  rw [if_neg hok_3] at hpT
  have hT : tw_W V g0 g o ad (va_up (va_up (va_up (va_up I 6 0) 5 (nI b)) 6 1) 5 (nI (ptE (A 4) N b).2)) A F := hT.call hpT
  refine lv_if_ne (tgt := 28) hx hb dX3_go_23 (by decide) (fun _ => ?_) (fun c_16 => (absurd ((nx_eq (show ((1 : Int32)) = nI 1 from rfl) (show ((0 : Int32)) = nI 0 from rfl) (by omega) (by omega)).mp c_16) (by omega)))
  refine lv_iinc (v := (n9 + 1)) (lv' := [(2, .int (n9 + 1)), (0, .ref o), (1, .int 0), (3, .int 1)]) hx hb dX3_go_28 hl (k := 2) rfl rfl (by decide) rfl (fun ls hl => ?_)
  refine lv_aload_n hx hb dX3_go_31 rfl (lv_at hl 1 rfl) ?_
  refine gh_get (v := .int 1) hC hg hT.1.1 fX3_236_0 rfl dX3_go_32 ?_
  refine lv_if_ne (tgt := 53) hx hb dX3_go_35 (by decide) (fun _ => ?_) (fun c_17 => (absurd ((nx_eq (show ((1 : Int32)) = nI 1 from rfl) (show ((0 : Int32)) = nI 0 from rfl) (by omega) (by omega)).mp c_17) (by omega)))
  refine lv_iconst (v := 0) hx hb dX3_go_53 (by decide) ?_
  refine lv_istore_n (lv' := [(3, .int 0), (2, .int (n9 + 1)), (0, .ref o), (1, .int 0)]) hx hb dX3_go_54 rfl hl (by decide) rfl (fun ls hl => ?_)
  refine lv_iload_n hx hb dX3_go_55 rfl (lv_at hl 0 rfl) ?_
  refine lv_if_eq (tgt := 14) hx hb dX3_go_56 (by decide) (fun _ => ?_) (fun c_18 => (absurd ((nx_eq (show ((0 : Int32)) = nI 0 from rfl) (show ((0 : Int32)) = nI 0 from rfl) (by omega) (by omega)).mpr (by omega)) c_18))
  refine lv_iload_n hx hb dX3_go_14 rfl (lv_at hl 0 rfl) ?_
  refine lv_if_eq (tgt := 85) hx hb dX3_go_15 (by decide) (fun _ => ?_) (fun c_19 => (absurd ((nx_eq (show ((0 : Int32)) = nI 0 from rfl) (show ((0 : Int32)) = nI 0 from rfl) (by omega) (by omega)).mpr (by omega)) c_19))
  refine lv_iload_n hx hb dX3_go_85 rfl (lv_at hl 1 rfl) ?_
  have hf9 := hst.trans (if_neg hok_3)
  exact gh_reti hC hg hr hlk (hT.eqI (by rw [hf9]; exact (fam7 rfl rfl rfl rfl rfl rfl rfl (fun _ => rfl)))) dX3_go_86 (Nat.le_of_ble_eq_true rfl) (Nat.le_of_ble_eq_true rfl)
set_option maxHeartbeats 1000000 in
set_option maxRecDepth 100000 in
theorem t_errorPosition (l : Launch) (V : gh_V) (o : Nat) (ad : Nat → Nat) (I : Nat → Int32) (A : Nat → Nat → Int32) (F : Nat → Nat → UInt32) (g0 : gh_G) (hP : tw_P V g0 o ad I A F) (N : Nat) (hN : I 2 = nI N) (hN60 : N ≤ 60) : MI l yX3_errorPosition cX3_errorPosition 2 (some .int) ({ frames := 10, cells := 0, slots := 0, locals := 239 } : Room) V [.ref o] g0 (fun r g1 => r = errP (A 4) N (I 2) ∧ tw_H V g0 g1 o ad (va_up I 3 0) A F) := by
  refine MG.of RX3 (by decide) rfl (Nat.le_of_ble_eq_true rfl) (fun pp ee s mm args below meth c ls hC hg hr hlk hnm hl => ?_)
  have hx := hC.1.1
  have hb := hC.1.2.1
  have hml := hC.1.2.2.1
  have hown := hC.1.2.2.2.1
  have hts := hC.1.2.2.2.2
  have hl : lv_has ls 2 [(0, .ref o)] := hl
  have hT := hP.W
  refine lv_aload_n hx hb dX3_errorPosition_0 rfl (lv_at hl 0 rfl) ?_
  refine lv_iconst (v := 0) hx hb dX3_errorPosition_1 (by decide) ?_
  refine gh_put (v := .int 0) hC hg hT.1.1 fX3_54_0 rfl rfl (Nat.le_of_ble_eq_true rfl) dX3_errorPosition_2 (fun g H locs hg hw hn => ?_)
  have hT : tw_W V g0 g o ad (va_up I 3 0) A F := hT.putI 3 0 hw hn
  refine lv_aload_n hx hb dX3_errorPosition_5 rfl (lv_at hl 0 rfl) ?_
  refine lv_iconst (v := 0) hx hb dX3_errorPosition_6 (by decide) ?_
  refine gh_calli hg (gh_runV (As := [.int 0]) (rest := []) hC hg (t_go0 l V o ad (va_up I 3 0) A F _ hT.1 N hN hN60) 1 (lw_V q4322 q4324 qs97 q138 q4325) hT.1.1 rfl hd_X3_go ⟨Nat.le_of_ble_eq_true rfl, Nat.le_of_ble_eq_true rfl⟩ rfl hl.1 rfl (Nat.le_of_ble_eq_true rfl) dX3_errorPosition_7 ⟨Nat.le_of_ble_eq_true rfl, Nat.le_of_ble_eq_true rfl⟩) (fun r_1 g H locs hg hp => ?_)
  by_cases hok_2 : (txE (A 4) N 61 0).1 = true
  · rw [if_pos hok_2] at hp
    have hT : tw_W V g0 g o ad (va_up (va_up (va_up I 3 0) 6 0) 5 (nI (txE (A 4) N 61 0).2)) A F := hT.call hp
    refine lv_istore_n (lv' := [(1, .int r_1), (0, .ref o)]) hx hb dX3_errorPosition_10 rfl hl (by decide) rfl (fun ls hl => ?_)
    refine lv_aload_n hx hb dX3_errorPosition_11 rfl (lv_at hl 1 rfl) ?_
    refine gh_get (v := .int 0) hC hg hT.1.1 fX3_236_0 rfl dX3_errorPosition_12 ?_
    refine lv_if_eq (tgt := 25) hx hb dX3_errorPosition_15 (by decide) (fun _ => ?_) (fun c_3 => (absurd ((nx_eq (show ((0 : Int32)) = nI 0 from rfl) (show ((0 : Int32)) = nI 0 from rfl) (by omega) (by omega)).mpr (by omega)) c_3))
    refine lv_aload_n hx hb dX3_errorPosition_25 rfl (lv_at hl 1 rfl) ?_
    refine gh_get (v := .int (I 2)) hC hg hT.1.1 fX3_230_0 rfl dX3_errorPosition_26 ?_
    exact gh_reti hC hg hr hlk (⟨by unfold errP; rw [if_pos hok_2] <;> rfl, hT.H ⟨rfl, rfl, rfl, rfl⟩ ⟨rfl, rfl, rfl, rfl⟩ ⟨rfl, rfl, rfl⟩⟩) dX3_errorPosition_29 (Nat.le_of_ble_eq_true rfl) (Nat.le_of_ble_eq_true rfl)
  rw [if_neg hok_2] at hp
  have hT : tw_W V g0 g o ad (va_up (va_up (va_up I 3 0) 6 1) 5 (nI (txE (A 4) N 61 0).2)) A F := hT.call hp
  refine lv_istore_n (lv' := [(1, .int r_1), (0, .ref o)]) hx hb dX3_errorPosition_10 rfl hl (by decide) rfl (fun ls hl => ?_)
  refine lv_aload_n hx hb dX3_errorPosition_11 rfl (lv_at hl 1 rfl) ?_
  refine gh_get (v := .int 1) hC hg hT.1.1 fX3_236_0 rfl dX3_errorPosition_12 ?_
  refine lv_if_eq (tgt := 25) hx hb dX3_errorPosition_15 (by decide) (fun c_4 => (absurd ((nx_eq (show ((1 : Int32)) = nI 1 from rfl) (show ((0 : Int32)) = nI 0 from rfl) (by omega) (by omega)).mp c_4) (by omega))) (fun _ => ?_)
  refine lv_aload_n hx hb dX3_errorPosition_18 rfl (lv_at hl 1 rfl) ?_
  refine gh_get (v := .int (nI (txE (A 4) N 61 0).2)) hC hg hT.1.1 fX3_233_0 rfl dX3_errorPosition_19 ?_
  refine lv_goto (tgt := 29) hx hb dX3_errorPosition_22 (by decide) ?_
  exact gh_reti hC hg hr hlk (⟨by unfold errP; rw [if_neg hok_2] <;> rfl, hT.H ⟨rfl, rfl, rfl, rfl⟩ ⟨rfl, rfl, rfl, rfl⟩ ⟨rfl, rfl, rfl⟩⟩) dX3_errorPosition_29 (Nat.le_of_ble_eq_true rfl) (Nat.le_of_ble_eq_true rfl)
