/-! MANY MINUTES -/
noncomputable def mCs (s : Nat → Int32) (F : Nat → UInt32) : Nat → Nat
  | 0 => 0
  | n + 1 => mCs s F n + mC (runs s F n).1 (runs s F n).2.1
noncomputable def mSs (s : Nat → Int32) (F : Nat → UInt32) : Nat → Nat
  | 0 => 0
  | n + 1 => mSs s F n + mSl (runs s F n).1 (runs s F n).2.1
theorem runs_all {s : Nat → Int32} {F : Nat → UInt32} {L D P t : Nat} {B : Int} (hE : tw_wf s L D P) (hn : nnS F) (h : jm s t B) (h6 : 600 ≤ B) : ∀ n : Nat, t + n < 20000 → B + 3 * n ≤ 900003 → (∃ P', tw_wf (runs s F n).1 L D P') ∧ nnS (runs s F n).2.1 ∧ jm (runs s F n).1 (t + n) (B + 3 * n)
  | 0, _, _ => ⟨⟨P, hE⟩, hn, by rw [show B + 3 * ((0 : Nat) : Int) = B by omega]; exact h⟩
  | n + 1, h1, h2 => by
    obtain ⟨⟨P', e1⟩, e2, e3⟩ := runs_all hE hn h h6 n (by omega) (by omega)
    have w := wf_min e1 e2
    have j := jm_min e1 e2 e3 (by omega) (by omega) (by omega)
    rw [runs_s]
    refine ⟨⟨_, w.1⟩, w.2, ?_⟩
    rw [show B + 3 * ((n + 1 : Nat) : Int) = B + 3 * (n : Int) + 3 by omega]
    exact j
theorem mCs_le (s : Nat → Int32) (F : Nat → UInt32) {i : Nat} : ∀ j, i ≤ j → mCs s F i ≤ mCs s F j ∧ mSs s F i ≤ mSs s F j
  | 0, h => by rw [Nat.le_zero.mp h]; exact ⟨Nat.le_refl _, Nat.le_refl _⟩
  | j + 1, h => by
    by_cases e : i = j + 1
    · rw [e]; exact ⟨Nat.le_refl _, Nat.le_refl _⟩
    · have := mCs_le s F (i := i) j (by omega)
      exact ⟨Nat.le_trans this.1 (Nat.le_add_right _ _), Nat.le_trans this.2 (Nat.le_add_right _ _)⟩
/-! A NEW LOT -/
theorem opensS_v {s : Nat → Int32} {L j : Nat} {x y : Int32} : opensS s L x y j = if j = 164 + 25 * L + 1 then y else if j = 164 + 25 * L + 0 then x else if 164 + 25 * L ≤ j ∧ j < 164 + 25 * L + 25 then 0 else if j = 163 then s 163 + 1 else s j := rfl
theorem opensS_o {s : Nat → Int32} {L j : Nat} {x y : Int32} (h : j < 163 ∨ (163 < j ∧ j < 164 + 25 * L) ∨ 164 + 25 * L + 25 ≤ j) : opensS s L x y j = s j := by
  rw [opensS_v, if_neg (by omega), if_neg (by omega), if_neg (by omega), if_neg (by omega)]
theorem opensS_L {s : Nat → Int32} {x y : Int32} (h : s 163 = nI (nL s)) (h12 : nL s < 12) : nL (opensS s (nL s) x y) = nL s + 1 := by
  show (opensS s (nL s) x y 163).toNatClampNeg = _
  rw [opensS_v, if_neg (by omega), if_neg (by omega), if_neg (by omega), if_pos rfl, show s 163 + 1 = nI (nL s + 1) from nx_add (b := 1) h rfl, nI_clamp (by omega)]
section Op
variable {V : gh_V} {g : gh_G} {S l q la lw k w n1 : Nat} {s : Nat → Int32} {es las lws : Nat → Nat} {fas : Nat → Nat → Int32}
theorem op_lo (h : s 163 = nI (nL s)) (h12 : nL s < 12) (h20 : ∀ k, k < nL s → ldN s k ≤ 20) (hA : al_P V S 12 g l (nL s + 1) (upd9 es (nL s) q)) (hx : ∀ k, k < nL s → lo1 V g S s k (es k) (las k) (lws k) (fas k)) (hk : k < 3) (hq : g q = some ((S, 4, nL s), oo 3 [.ref lw, .ref la, .int 0, .int 0, .int 0])) (ha : g la = some ((S, 5, nL s), ai V 0 5 (fun _ => 0))) (hw : wa_P V g lw k (nI w)) : lo_P V g S l (opensS s (nL s) (nI k) (nI w)) := by
  have eL := opensS_L (x := nI k) (y := nI w) h h12
  refine ⟨upd9 es (nL s) q, fun j => if j = nL s then la else las j, fun j => if j = nL s then lw else lws j, fun j => if j = nL s then (fun _ => 0) else fas j, by rw [eL]; exact hA, fun j hj => ?_⟩
  rw [eL] at hj
  show lo1 V g S _ j (upd9 es (nL s) q j) (if j = nL s then la else las j) (if j = nL s then lw else lws j) (if j = nL s then (fun _ => 0) else fas j)
  by_cases e : j = nL s
  · rw [if_pos e, if_pos e, if_pos e, e, upd9_self]
    have e0 : lt (opensS s (nL s) (nI k) (nI w)) (nL s) 0 = nI k := by unfold lt; rw [opensS_v, if_neg (by omega), if_pos rfl]
    have e1 : lt (opensS s (nL s) (nI k) (nI w)) (nL s) 1 = nI w := by unfold lt; rw [opensS_v, if_pos rfl]
    have e2 : ∀ i, 2 ≤ i → i < 25 → lt (opensS s (nL s) (nI k) (nI w)) (nL s) i = 0 := fun i h1 h2 => by unfold lt; rw [opensS_v, if_neg (by omega), if_neg (by omega), if_pos (by omega)]
    unfold lo1 kd
    rw [e0, e1, e2 2 (by omega) (by omega), e2 3 (by omega) (by omega), e2 4 (by omega) (by omega), nI_clamp (by omega)]
    refine ⟨hq, ha, hw, fun f a b => ?_⟩
    unfold fated
    rw [e2 2 (by omega) (by omega)]
    rfl
  · rw [if_neg e, if_neg e, if_neg e, upd9_ne _ e]
    exact (hx j (by omega)).cg (h20 j (by omega)) (fun i hi => opensS_o (by omega))
theorem op_go {x y : Int32} (h : s 163 = nI (nL s)) (h12 : nL s < 12) (hg : go_P V g S l s n1) : go_P V g S l (opensS s (nL s) x y) n1 := by
  obtain ⟨gq, SS, h1, h2, h3, h4⟩ := hg
  have eL := opensS_L (x := x) (y := y) h h12
  refine ⟨gq, SS, h1, h2, h3, fun i k n hi hk hn => ?_⟩
  rw [h4 i k n hi hk hn, eL]
  by_cases e : k = nL s
  · have e2 : lt (opensS s (nL s) x y) k (5 + n) = 0 := by unfold lt; rw [opensS_v, if_neg (by omega), if_neg (by omega), if_pos (by omega)]
    rw [e2]
    constructor
    · intro u; omega
    · intro u
      have := nI_inj (a := 0) (b := i + 1) (by omega) (by omega) u.2
      omega
  · have e2 : lt (opensS s (nL s) x y) k (5 + n) = lt s k (5 + n) ∨ nL s < k := by
      by_cases c : nL s < k
      · exact Or.inr c
      · exact Or.inl (opensS_o (by omega))
    rcases e2 with e2 | e2
    · rw [e2]
      constructor
      · intro u; exact ⟨by omega, u.2⟩
      · intro u; exact ⟨by omega, u.2⟩
    · constructor
      · intro u; omega
      · intro u; omega
end Op
set_option maxRecDepth 100000
theorem hd_X2_canPass : yX2_canPass.cls = RX2 ∧ yX2_canPass.cls ≠ "java/lang/invoke/MethodHandle" ∧ yX2_canPass.cls ≠ "java/lang/invoke/VarHandle" ∧ (parseMethodDescriptor yX2_canPass.desc).map (fun d => d.parameters.length) = some 1 := by decide +kernel
theorem hd_X2_minute : yX2_minute.cls = RX2 ∧ yX2_minute.cls ≠ "java/lang/invoke/MethodHandle" ∧ yX2_minute.cls ≠ "java/lang/invoke/VarHandle" ∧ (parseMethodDescriptor yX2_minute.desc).map (fun d => d.parameters.length) = some 0 := by decide +kernel
set_option maxHeartbeats 1000000 in
set_option maxRecDepth 100000 in
theorem j_X2_canPass (l : Launch) (V : gh_V) (g0 : gh_G) (S : Nat) (ad : Nat → Nat) (I : Nat → Int32) (A : Nat → Nat → Int32) (P : Nat → Option Nat) (hT0 : st_C V g0 S ad I A P) (s : Nat → Int32) (hI0 : I 0 = s 0) (t9 : Nat) (h09 : s 0 = nI t9) (n9 : Nat) (ht20 : t9 < 20000) (hn9 : n9 < 1000) : MI l yX2_canPass cX2_canPass 2 (some .boolean) ({ frames := 0, cells := 0, slots := 0, locals := 0 } : Room) V [.ref S, .int (nI n9)] g0 (fun r g1 => r = (if t9 + n9 ≤ 9999 then 1 else 0) ∧ g1 = g0) := by
  refine MG.of RX2 (by decide) rfl (Nat.le_of_ble_eq_true rfl) (fun pp ee s9 mm args below meth c ls hC hg hr hlk hnm hl => ?_)
  have hx := hC.1.1
  have hb := hC.1.2.1
  have hml := hC.1.2.2.1
  have hown := hC.1.2.2.2.1
  have hts := hC.1.2.2.2.2
  have hl : lv_has ls 2 [(0, .ref S), (1, .int (nI n9))] := hl
  obtain ⟨g, hg, hgg⟩ : ∃ g, gh_W V (gh_A g0 s9.heap.size) s9 g s9.heap [] ∧ g = g0 := ⟨g0, hg, rfl⟩
  have hT := hT0
  rw [← hgg] at hT
  refine lv_aload_n hx hb dX2_canPass_0 rfl (lv_at hl 0 rfl) ?_
  refine gh_get (v := .int (I 0)) hC hg hT.1 fX2_82_2 rfl dX2_canPass_1 ?_
  refine W.eq (g2 := F0 mm 4 ls [.int (nI t9)]) (by rw [(hI0.trans h09)] <;> rfl) ?_
  refine lv_iload_n hx hb dX2_canPass_4 rfl (lv_at hl 1 rfl) ?_
  refine lv_iadd hx hb dX2_canPass_5 ?_
  refine lv_sipush (v := 9999) hx hb dX2_canPass_6 (by decide) ?_
  refine lv_icmp_gt (tgt := 16) hx hb dX2_canPass_9 (by decide) (fun c_1 => ?_) (fun c_1 => ?_)
  · skip
    have c_1 : 9999 < (t9 + n9) := (nx_lt (show ((9999 : Int32)) = nI 9999 from rfl) (nx_add rfl rfl) (by omega) (by omega)).mp c_1
    refine lv_iconst (v := 0) hx hb dX2_canPass_16 (by decide) ?_
    exact gh_retz rfl hC hg hr hlk (⟨(if_neg (by omega)).symm, hgg⟩) dX2_canPass_17 (Nat.le_of_ble_eq_true rfl) (Nat.le_of_ble_eq_true rfl)
  have c_1 : ¬ 9999 < (t9 + n9) := fun h9 => c_1 ((nx_lt (show ((9999 : Int32)) = nI 9999 from rfl) (nx_add rfl rfl) (by omega) (by omega)).mpr h9)
  refine lv_iconst (v := 1) hx hb dX2_canPass_12 (by decide) ?_
  refine lv_goto (tgt := 17) hx hb dX2_canPass_13 (by decide) ?_
  exact gh_retz rfl hC hg hr hlk (⟨(if_pos (by omega)).symm, hgg⟩) dX2_canPass_17 (Nat.le_of_ble_eq_true rfl) (Nat.le_of_ble_eq_true rfl)
set_option maxHeartbeats 1000000 in
set_option maxRecDepth 100000 in
theorem j_X2_pass (l : Launch) (V : gh_V) (g0 : gh_G) (S N : Nat) (s : Nat → Int32) (F : Nat → UInt32) (hR : cw_R V g0 S s F N) (L D Pn : Nat) (hE : tw_wf s L D Pn) (hTR : tr_S l V) (hN63 : N < 63) (hnn : nnS F) (t9 : Nat) (B : Int) (hM9 : jm s t9 B) (h600 : 600 ≤ B) (n9 cm9 sm9 : Nat) (h1n : 1 ≤ n9) (hn100 : n9 < 100) (ht20 : t9 < 20000) (hB3 : B ≤ 600000) (hcm9 : t9 + n9 ≤ 9999 → mCs s F n9 ≤ cm9 ∧ mSs s F n9 ≤ sm9) : MI l yX2_pass cX2_pass 4 (some .boolean) ({ frames := 16, cells := cm9, slots := sm9, locals := 500 } : Room) V [.ref S, .int (nI n9)] g0 (fun r g1 => r = (if t9 + n9 ≤ 9999 then 1 else 0) ∧ (t9 + n9 ≤ 9999 → cw_R V g1 S (runs s F n9).1 (runs s F n9).2.1 N) ∧ (¬ t9 + n9 ≤ 9999 → cw_R V g1 S s F N) ∧ gh_fS S g0 g1) := by
  refine MG.of RX2 (by decide) rfl (Nat.le_of_ble_eq_true rfl) (fun pp ee s9 mm args below meth c ls hC hg hr hlk hnm hl => ?_)
  have hx := hC.1.1
  have hb := hC.1.2.1
  have hml := hC.1.2.2.1
  have hown := hC.1.2.2.2.1
  have hts := hC.1.2.2.2.2
  have hl : lv_has ls 4 [(0, .ref S), (1, .int (nI n9))] := hl
  obtain ⟨g, hg, hgg⟩ : ∃ g, gh_W V (gh_A g0 s9.heap.size) s9 g s9.heap [] ∧ g = g0 := ⟨g0, hg, rfl⟩
  have hF : gh_fS S g0 g := by rw [hgg]; exact gh_fS.rf
  rw [← hgg] at hR
  obtain ⟨adc, Ic, Ac, Pc, kxc, pwc, n0c, n1c, hTc, hVc, -⟩ := id hR
  refine lv_aload_n hx hb dX2_pass_0 rfl (lv_at hl 0 rfl) ?_
  refine lv_iload_n hx hb dX2_pass_1 rfl (lv_at hl 1 rfl) ?_
  refine gh_calli hg (gh_runV (As := [.int (nI n9)]) (rest := []) hC hg (j_X2_canPass l V _ S adc Ic Ac Pc hTc s hVc.1 t9 hM9.2.2.2.2.2.2.2.1 n9 (by omega) (by omega)) 1 (lw_V q2325 q2326 q2327 q104 q2328) hTc.1 rfl hd_X2_canPass ⟨(by first | omega | (dsimp only; omega) | exact Nat.le_of_ble_eq_true rfl), (by first | omega | (dsimp only; omega) | exact Nat.le_of_ble_eq_true rfl)⟩ rfl hl.1 rfl ((by first | omega | (dsimp only; omega) | exact Nat.le_of_ble_eq_true rfl)) dX2_pass_2 ⟨(by first | omega | (dsimp only; omega) | exact Nat.le_of_ble_eq_true rfl), (by first | omega | (dsimp only; omega) | exact Nat.le_of_ble_eq_true rfl)⟩) (fun r_1 g H locs hg hp => ?_)
  obtain ⟨hp, hq⟩ := hp
  subst hp
  rw [← hq] at hF hR
  try rw [← hq] at hgg
  by_cases hcan : t9 + n9 ≤ 9999
  · skip
    refine W.eq (g2 := F0 mm 5 ls [.int 1]) (by rw [(if_pos hcan)] <;> rfl) ?_
    obtain ⟨hcm8, hsm8⟩ := hcm9 hcan
    refine lv_istore_n (lv' := [(2, .int 1), (0, .ref S), (1, .int (nI n9))]) hx hb dX2_pass_5 rfl hl (by decide) rfl (fun ls hl => ?_)
    refine lv_iconst (v := 0) hx hb dX2_pass_6 (by decide) ?_
    refine lv_istore_n (lv' := [(3, .int 0), (2, .int 1), (0, .ref S), (1, .int (nI n9))]) hx hb dX2_pass_7 rfl hl (by decide) rfl (fun ls hl => ?_)
    refine gh_loopF (N := n9) (lo := 0) (fun i_2 => mCs s F i_2) (fun i_2 => mSs s F i_2) (X := fun i_2 g ls => (cw_R V g S (runs s F i_2).1 (runs s F i_2).2.1 N) ∧ (gh_fS S g0 g) ∧ lv_has ls 4 [(0, .ref S), (1, .int (nI n9)), (2, .int 1), (3, .int (nI i_2))]) ?_ ?_ (by omega) (by first | omega | (dsimp only; omega) | exact (by first | omega | (dsimp only; omega) | exact Nat.le_of_ble_eq_true rfl)) (by first | omega | (dsimp only; omega) | exact (by first | omega | (dsimp only; omega) | exact Nat.le_of_ble_eq_true rfl)) hg ⟨hR, hF, lv_sub hl [2, 3, 1, 0] rfl⟩
    · intro g H locs ls hg hX
      obtain ⟨hR, hF, hl⟩ := hX
      refine lv_iload_n hx hb dX2_pass_8 rfl (lv_at hl 3 rfl) ?_
      refine lv_iload_n hx hb dX2_pass_9 rfl (lv_at hl 1 rfl) ?_
      refine lv_icmp_ge (tgt := 27) hx hb dX2_pass_10 (by decide) (fun _ => ?_) (fun c_3 => (absurd ((nx_le rfl rfl (by omega) (by omega)).mpr (by omega)) c_3))
      refine lv_iload_n hx hb dX2_pass_27 rfl (lv_at hl 2 rfl) ?_
      exact gh_retz rfl hC hg hr hlk (⟨(if_pos hcan).symm, (fun _ => hR), (fun h => absurd hcan h), hF⟩) dX2_pass_28 ((by first | omega | (dsimp only; omega) | exact Nat.le_of_ble_eq_true rfl)) ((by first | omega | (dsimp only; omega) | exact Nat.le_of_ble_eq_true rfl))
    · intro i_2 hi8 ih8 g H locs ls hg hX
      obtain ⟨hR, hF, hl⟩ := hX
      obtain ⟨⟨P8, hE8⟩, hn8, hM8⟩ := runs_all hE hnn hM9 h600 i_2 (by omega) (by omega)
      have hrs := runs_s s F i_2
      obtain ⟨hc8, hs8⟩ := mCs_le s F (i := i_2 + 1) n9 (by omega)
      have hc7 : mCs s F (i_2 + 1) = mCs s F i_2 + mC (runs s F i_2).1 (runs s F i_2).2.1 := rfl
      have hs7 : mSs s F (i_2 + 1) = mSs s F i_2 + mSl (runs s F i_2).1 (runs s F i_2).2.1 := rfl
      obtain ⟨x8, hx8⟩ : ∃ x, x = runs s F i_2 := ⟨_, rfl⟩
      rw [← hx8] at hR hE8 hn8 hM8 hrs hc7 hs7
      obtain ⟨adc, Ic, hSc⟩ := hR.c
      refine lv_iload_n hx hb dX2_pass_8 rfl (lv_at hl 3 rfl) ?_
      refine lv_iload_n hx hb dX2_pass_9 rfl (lv_at hl 1 rfl) ?_
      refine lv_icmp_ge (tgt := 27) hx hb dX2_pass_10 (by decide) (fun c_4 => (absurd ((nx_le rfl rfl (by omega) (by omega)).mp c_4) (by omega))) (fun _ => ?_)
      refine lv_iload_n hx hb dX2_pass_13 rfl (lv_at hl 2 rfl) ?_
      refine lv_if_eq (tgt := 27) hx hb dX2_pass_14 (by decide) (fun c_5 => (absurd c_5 (by decide))) (fun _ => ?_)
      refine lv_aload_n hx hb dX2_pass_17 rfl (lv_at hl 0 rfl) ?_
      refine gh_callv hg (gh_runV (As := []) (rest := []) hC hg (j_X2_minute l V _ S N x8.1 x8.2.1 hR L D _ hE8 hTR hN63 hn8 (t9 + i_2) (B + 3 * (i_2 : Nat)) hM8 (by omega) (by omega) (by omega)) 0 (lw_V q2329 q2330 q2331 q104 q2332) hSc rfl hd_X2_minute ⟨(by first | omega | (dsimp only; omega) | exact Nat.le_of_ble_eq_true rfl), (by first | omega | (dsimp only; omega) | exact Nat.le_of_ble_eq_true rfl)⟩ rfl hl.1 rfl ((by first | omega | (dsimp only; omega) | exact Nat.le_of_ble_eq_true rfl)) dX2_pass_18 ⟨(by first | omega | (dsimp only; omega) | exact Nat.le_of_ble_eq_true rfl), (by first | omega | (dsimp only; omega) | exact Nat.le_of_ble_eq_true rfl)⟩) (fun g H locs hg hp => ?_)
      obtain ⟨hR, hF9⟩ := hp
      have hF : gh_fS S g0 g := hF.tr hF9
      refine lv_iinc (v := (nI (i_2 + 1))) (lv' := [(3, .int (nI (i_2 + 1))), (0, .ref S), (1, .int (nI n9)), (2, .int 1)]) hx hb dX2_pass_21 hl (k := 3) rfl (nx_iinc rfl) (by decide) rfl (fun ls hl => ?_)
      refine lv_goto (tgt := 8) hx hb dX2_pass_24 (by decide) ?_
      exact W.widen (by first | omega | (dsimp only; omega) | exact (by first | omega | (dsimp only; omega) | exact Nat.le_of_ble_eq_true rfl)) (by first | omega | (dsimp only; omega) | exact (by first | omega | (dsimp only; omega) | exact Nat.le_of_ble_eq_true rfl)) (ih8 _ _ _ _ hg ⟨(by rw [hrs]; exact hR), hF, lv_sub hl [1, 2, 3, 0] rfl⟩)
  refine W.eq (g2 := F0 mm 5 ls [.int 0]) (by rw [(if_neg hcan)] <;> rfl) ?_
  refine lv_istore_n (lv' := [(2, .int 0), (0, .ref S), (1, .int (nI n9))]) hx hb dX2_pass_5 rfl hl (by decide) rfl (fun ls hl => ?_)
  refine lv_iconst (v := 0) hx hb dX2_pass_6 (by decide) ?_
  refine lv_istore_n (lv' := [(3, .int 0), (2, .int 0), (0, .ref S), (1, .int (nI n9))]) hx hb dX2_pass_7 rfl hl (by decide) rfl (fun ls hl => ?_)
  refine lv_iload_n hx hb dX2_pass_8 rfl (lv_at hl 0 rfl) ?_
  refine lv_iload_n hx hb dX2_pass_9 rfl (lv_at hl 3 rfl) ?_
  refine lv_icmp_ge (tgt := 27) hx hb dX2_pass_10 (by decide) (fun c_6 => (absurd ((nx_le rfl (show ((0 : Int32)) = nI 0 from rfl) (by omega) (by omega)).mp c_6) (by omega))) (fun _ => ?_)
  refine lv_iload_n hx hb dX2_pass_13 rfl (lv_at hl 1 rfl) ?_
  refine lv_if_eq (tgt := 27) hx hb dX2_pass_14 (by decide) (fun _ => ?_) (fun c_7 => (absurd rfl c_7))
  refine lv_iload_n hx hb dX2_pass_27 rfl (lv_at hl 1 rfl) ?_
  exact gh_retz rfl hC hg hr hlk (⟨(if_neg hcan).symm, (fun h => absurd h hcan), (fun _ => hR), hF⟩) dX2_pass_28 ((by first | omega | (dsimp only; omega) | exact Nat.le_of_ble_eq_true rfl)) ((by first | omega | (dsimp only; omega) | exact Nat.le_of_ble_eq_true rfl))
set_option maxHeartbeats 1000000 in
set_option maxRecDepth 100000 in
theorem j_X1_run (l : Launch) (V : gh_V) (g0 : gh_G) (S N : Nat) (s : Nat → Int32) (F : Nat → UInt32) (hR : cw_R V g0 S s F N) (L D Pn : Nat) (hE : tw_wf s L D Pn) (hTR : tr_S l V) (hN63 : N < 63) (hnn : nnS F) (t9 : Nat) (B : Int) (hM9 : jm s t9 B) (h600 : 600 ≤ B) (n9 cm9 sm9 : Nat) (hn300 : n9 < 1000) (ht20 : t9 + n9 < 20000) (hB3 : B ≤ 600000) (hcm8 : mCs s F n9 ≤ cm9) (hsm8 : mSs s F n9 ≤ sm9) : MR l yX1_run cX1_run 3 (some (.object "AnnealingLehr$State")) ({ frames := 16, cells := cm9, slots := sm9, locals := 500 } : Room) V [.ref S, .int (nI n9)] g0 (fun r g1 => r = some S ∧ cw_R V g1 S (runs s F n9).1 (runs s F n9).2.1 N ∧ gh_fS S g0 g1) := by
  refine MG.of RX1 (by decide) rfl (Nat.le_of_ble_eq_true rfl) (fun pp ee s9 mm args below meth c ls hC hg hr hlk hnm hl => ?_)
  have hx := hC.1.1
  have hb := hC.1.2.1
  have hml := hC.1.2.2.1
  have hown := hC.1.2.2.2.1
  have hts := hC.1.2.2.2.2
  have hl : lv_has ls 3 [(0, .ref S), (1, .int (nI n9))] := hl
  obtain ⟨g, hg, hgg⟩ : ∃ g, gh_W V (gh_A g0 s9.heap.size) s9 g s9.heap [] ∧ g = g0 := ⟨g0, hg, rfl⟩
  have hF : gh_fS S g0 g := by rw [hgg]; exact gh_fS.rf
  rw [← hgg] at hR
  refine lv_iconst (v := 0) hx hb dX1_run_0 (by decide) ?_
  refine lv_istore_n (lv' := [(2, .int 0), (0, .ref S), (1, .int (nI n9))]) hx hb dX1_run_1 rfl hl (by decide) rfl (fun ls hl => ?_)
  refine gh_loopF (N := n9) (lo := 0) (fun i_1 => mCs s F i_1) (fun i_1 => mSs s F i_1) (X := fun i_1 g ls => (cw_R V g S (runs s F i_1).1 (runs s F i_1).2.1 N) ∧ (gh_fS S g0 g) ∧ lv_has ls 3 [(0, .ref S), (1, .int (nI n9)), (2, .int (nI i_1))]) ?_ ?_ (by omega) (by first | omega | (dsimp only; omega) | exact (by first | omega | (dsimp only; omega) | exact Nat.le_of_ble_eq_true rfl)) (by first | omega | (dsimp only; omega) | exact (by first | omega | (dsimp only; omega) | exact Nat.le_of_ble_eq_true rfl)) hg ⟨hR, hF, lv_sub hl [1, 2, 0] rfl⟩
  · intro g H locs ls hg hX
    obtain ⟨hR, hF, hl⟩ := hX
    refine lv_iload_n hx hb dX1_run_2 rfl (lv_at hl 2 rfl) ?_
    refine lv_iload_n hx hb dX1_run_3 rfl (lv_at hl 1 rfl) ?_
    refine lv_icmp_ge (tgt := 17) hx hb dX1_run_4 (by decide) (fun _ => ?_) (fun c_2 => (absurd ((nx_le rfl rfl (by omega) (by omega)).mpr (by omega)) c_2))
    refine lv_aload_n hx hb dX1_run_17 rfl (lv_at hl 0 rfl) ?_
    exact gh_retq (r := some S) (Or.inl ⟨_, rfl⟩) hC hg hr hlk (⟨rfl, hR, hF⟩) dX1_run_18 ((by first | omega | (dsimp only; omega) | exact Nat.le_of_ble_eq_true rfl)) ((by first | omega | (dsimp only; omega) | exact Nat.le_of_ble_eq_true rfl))
  · intro i_1 hi2 ih2 g H locs ls hg hX
    obtain ⟨hR, hF, hl⟩ := hX
    obtain ⟨⟨P8, hE8⟩, hn8, hM8⟩ := runs_all hE hnn hM9 h600 i_1 (by omega) (by omega)
    have hrs := runs_s s F i_1
    obtain ⟨hc8, hs8⟩ := mCs_le s F (i := i_1 + 1) n9 (by omega)
    have hc7 : mCs s F (i_1 + 1) = mCs s F i_1 + mC (runs s F i_1).1 (runs s F i_1).2.1 := rfl
    have hs7 : mSs s F (i_1 + 1) = mSs s F i_1 + mSl (runs s F i_1).1 (runs s F i_1).2.1 := rfl
    obtain ⟨x8, hx8⟩ : ∃ x, x = runs s F i_1 := ⟨_, rfl⟩
    rw [← hx8] at hR hE8 hn8 hM8 hrs hc7 hs7
    obtain ⟨adc, Ic, hSc⟩ := hR.c
    refine lv_iload_n hx hb dX1_run_2 rfl (lv_at hl 2 rfl) ?_
    refine lv_iload_n hx hb dX1_run_3 rfl (lv_at hl 1 rfl) ?_
    refine lv_icmp_ge (tgt := 17) hx hb dX1_run_4 (by decide) (fun c_3 => (absurd ((nx_le rfl rfl (by omega) (by omega)).mp c_3) (by omega))) (fun _ => ?_)
    refine lv_aload_n hx hb dX1_run_7 rfl (lv_at hl 0 rfl) ?_
    refine gh_callv hg (gh_runV (As := []) (rest := []) hC hg (j_X2_minute l V _ S N x8.1 x8.2.1 hR L D _ hE8 hTR hN63 hn8 (t9 + i_1) (B + 3 * (i_1 : Nat)) hM8 (by omega) (by omega) (by omega)) 0 (lw_V q3725 q2330 q2331 q104 q2332) hSc rfl hd_X2_minute ⟨(by first | omega | (dsimp only; omega) | exact Nat.le_of_ble_eq_true rfl), (by first | omega | (dsimp only; omega) | exact Nat.le_of_ble_eq_true rfl)⟩ rfl hl.1 rfl ((by first | omega | (dsimp only; omega) | exact Nat.le_of_ble_eq_true rfl)) dX1_run_8 ⟨(by first | omega | (dsimp only; omega) | exact Nat.le_of_ble_eq_true rfl), (by first | omega | (dsimp only; omega) | exact Nat.le_of_ble_eq_true rfl)⟩) (fun g H locs hg hp => ?_)
    obtain ⟨hR, hF9⟩ := hp
    have hF : gh_fS S g0 g := hF.tr hF9
    refine lv_iinc (v := (nI (i_1 + 1))) (lv' := [(2, .int (nI (i_1 + 1))), (0, .ref S), (1, .int (nI n9))]) hx hb dX1_run_11 hl (k := 2) rfl (nx_iinc rfl) (by decide) rfl (fun ls hl => ?_)
    refine lv_goto (tgt := 2) hx hb dX1_run_14 (by decide) ?_
    exact W.widen (by first | omega | (dsimp only; omega) | exact (by first | omega | (dsimp only; omega) | exact Nat.le_of_ble_eq_true rfl)) (by first | omega | (dsimp only; omega) | exact (by first | omega | (dsimp only; omega) | exact Nat.le_of_ble_eq_true rfl)) (ih2 _ _ _ _ hg ⟨(by rw [hrs]; exact hR), hF, lv_sub hl [1, 2, 0] rfl⟩)
