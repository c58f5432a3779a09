theorem ps4_V {s : Nat → Int32} {p : Nat} {v : Int32} {I : Nat → Int32} {A : Nat → Nat → Int32} (hp : p < 24) (h : st_V s I A) : st_V (ps s p 4 v) I (va_up A 5 (upd (A 5) p v)) := by
  obtain ⟨h0, h1, h2, hz, hs, hc⟩ := h
  refine ⟨h0.trans (ps4_o (by omega)).symm, h1.trans (ps4_o (by omega)).symm, h2.trans (ps4_o (by omega)).symm, fun z hzz => ?_, fun q hq => ?_, fun c hcc => ?_⟩
  · have e : ∀ k, k < 5 → zn (ps s p 4 v) z k = zn s z k := fun k hk => ps4_o (by omega)
    rw [e 0 (by omega), e 1 (by omega), e 2 (by omega), e 3 (by omega), e 4 (by omega)]
    exact hz z hzz
  · show upd (A 5) p v q = _
    unfold upd
    by_cases e : q = p
    · rw [if_pos e, e]; exact (if_pos rfl).symm
    · rw [if_neg e, hs q hq]; exact (ps4_o (j := 43 + 5 * q + 4) (by omega)).symm
  · have e : ∀ k, k < 2 → cl (ps s p 4 v) c k = cl s c k := fun k hk => ps4_o (by omega)
    rw [e 0 (by omega), e 1 (by omega)]
    exact hc c hcc
theorem stress_k {s : Nat → Int32} {F : Nat → UInt32} {p : Nat} (h : lt s (pk s p) 0 = nI (kd s (pk s p))) : stress s F p ↔ Op.cmpValue (FP.fcmp (F p) (FP.i2f (sp_limit (nI (kd s (pk s p)))))) .l ≤ 0 := by
  unfold stress
  rw [show (pl s p 0).toNatClampNeg = pk s p from rfl, h]
noncomputable def bkF (s : Nat → Int32) (F : Nat → UInt32) : Nat := frz (bkN s F 24)
theorem bkF_N {N : Nat} (h : N = 24) (s : Nat → Int32) (F : Nat → UInt32) : bkN s F N = bkF s F := by rw [h]; exact (frz_eq _).symm
theorem bkN_le (s : Nat → Int32) (F : Nat → UInt32) {i : Nat} : ∀ j, i ≤ j → bkN s F i ≤ bkN s F j
  | 0, h => by rw [Nat.le_zero.mp h]; exact Nat.le_refl _
  | j + 1, h => by
    by_cases e : i = j + 1
    · rw [e]; exact Nat.le_refl _
    · exact Nat.le_trans (bkN_le s F j (by omega)) (Nat.le_add_right _ _)
set_option maxRecDepth 100000
theorem hd_X6_isTooStressed : yX6_isTooStressed.cls = RX6 ∧ yX6_isTooStressed.cls ≠ "java/lang/invoke/MethodHandle" ∧ yX6_isTooStressed.cls ≠ "java/lang/invoke/VarHandle" ∧ (parseMethodDescriptor yX6_isTooStressed.desc).map (fun d => d.parameters.length) = some 0 := by decide +kernel
set_option maxHeartbeats 1000000 in
set_option maxRecDepth 100000 in
theorem j_X2_breakPieces (l : Launch) (V : gh_V) (g0 : gh_G) (S N : Nat) (s : Nat → Int32) (F : Nat → UInt32) (hR : cw_R V g0 S s F N) (hnn : nnS F) (L D Pn : Nat) (hE : tw_wf s L D Pn) (hJ : jp s) (hK : jk s) (hTR : tr_S l V) (hN63 : N < 63) : MV l yX2_breakPieces cX2_breakPieces 2 ({ frames := 13, cells := (36 * bkF s F), slots := (296 * bkF s F), locals := 433 } : Room) V [.ref S] g0 (fun g1 => cw_R V g1 S (brkF s F).1 (brkF s F).2.1 N ∧ gh_fS S g0 g1) := by
  refine MG.of RX2 (by decide) rfl (Nat.le_of_ble_eq_true rfl) (fun pp ee s9 mm args below meth c ls hC hg hr hlk hnm hl => ?_)
  have hx := hC.1.1
  have hb := hC.1.2.1
  have hml := hC.1.2.2.1
  have hown := hC.1.2.2.2.1
  have hts := hC.1.2.2.2.2
  have hl : lv_has ls 2 [(0, .ref S)] := hl
  obtain ⟨g, hg, hgg⟩ : ∃ g, gh_W V (gh_A g0 s9.heap.size) s9 g s9.heap [] ∧ g = g0 := ⟨g0, hg, rfl⟩
  obtain ⟨N9, hN9⟩ : ∃ n : Nat, n = 24 := ⟨24, rfl⟩
  have hbk := bkF_N hN9 s F
  have hF : gh_fS S g0 g := by rw [hgg]; exact gh_fS.rf
  rw [← hgg] at hR
  refine lv_iconst (v := 0) hx hb dX2_breakPieces_0 (by decide) ?_
  refine lv_istore_n (lv' := [(1, .int 0), (0, .ref S)]) hx hb dX2_breakPieces_1 rfl hl (by decide) rfl (fun ls hl => ?_)
  refine gh_loopF (N := N9) (lo := 0) (fun i_1 => 36 * bkN s F i_1) (fun i_1 => 296 * bkN s F i_1) (X := fun i_1 g ls => (cw_R V g S (brk s F i_1).1 (brk s F i_1).2.1 N) ∧ (gh_fS S g0 g) ∧ lv_has ls 2 [(0, .ref S), (1, .int (nI i_1))]) ?_ ?_ (by omega) (by first | omega | (dsimp only; omega) | exact (by first | omega | (dsimp only; omega) | exact Nat.le_of_ble_eq_true rfl)) (by first | omega | (dsimp only; omega) | exact (by first | omega | (dsimp only; omega) | exact Nat.le_of_ble_eq_true rfl)) hg ⟨hR, hF, lv_sub hl [1, 0] rfl⟩
  · intro g H locs ls hg hX
    obtain ⟨hR, hF, hl⟩ := hX
    refine lv_iload_n hx hb dX2_breakPieces_2 rfl (lv_at hl 1 rfl) ?_
    refine lv_bipush (v := 24) hx hb dX2_breakPieces_3 (by decide) ?_
    refine lv_icmp_ge (tgt := 48) hx hb dX2_breakPieces_5 (by decide) (fun _ => ?_) (fun c_2 => (absurd ((nx_le (show ((24 : Int32)) = nI 24 from rfl) rfl (by omega) (by omega)).mpr (by omega)) c_2))
    exact gh_retv hC hg hr hlk (⟨by rw [← brkF_N hN9]; exact hR, hF⟩) dX2_breakPieces_48 ((by first | omega | (dsimp only; omega) | exact Nat.le_of_ble_eq_true rfl)) ((by first | omega | (dsimp only; omega) | exact Nat.le_of_ble_eq_true rfl))
  · intro i_1 hi2 ih2 g H locs ls hg hX
    obtain ⟨hR, hF, hl⟩ := hX
    obtain ⟨hJ1, hK1, hLL⟩ := brk_j (F := F) hJ hK i_1 (by omega)
    have hE1 := (brk_wf hE hnn i_1 (by omega)).1
    have hi24 : i_1 < 24 := by omega
    have b0 := bkN_0 (s := s) (F := F) (i := i_1)
    have b1 := bkN_1 (s := s) (F := F) (i := i_1)
    have b2 := bkN_2 (s := s) (F := F) (i := i_1)
    have k0 := brk_0 (s := s) (F := F) (i := i_1)
    have k1 := brk_1 (s := s) (F := F) (i := i_1)
    have k2 := brk_2 (s := s) (F := F) (i := i_1)
    obtain ⟨s1, hs1⟩ : ∃ x, x = (brk s F i_1).1 := ⟨_, rfl⟩
    obtain ⟨F1, hF1⟩ : ∃ x, x = (brk s F i_1).2.1 := ⟨_, rfl⟩
    rw [← hs1] at hR hJ1 hK1 hE1 b0 b1 b2 k0 k1 k2
    rw [← hF1] at hR b1 b2 k1 k2
    have hble : bkN s F (i_1 + 1) ≤ bkF s F := by rw [← hbk]; exact bkN_le s F N9 (by omega)
    have hbl0 : bkN s F i_1 ≤ bkN s F (i_1 + 1) := bkN_le s F _ (by omega)
    have h12 := hJ1.2.2.1
    have hD10 : nD s1 ≤ 10 := by rw [nD_of hE1]; exact hE1.2.1.2
    obtain ⟨ad, I, A, P, kx, pw, n0, n1, hT, hV, hL, hD, hPc, hO, hG, hPl, hN⟩ := hR
    refine lv_iload_n hx hb dX2_breakPieces_2 rfl (lv_at hl 1 rfl) ?_
    refine lv_bipush (v := 24) hx hb dX2_breakPieces_3 (by decide) ?_
    refine lv_icmp_ge (tgt := 48) hx hb dX2_breakPieces_5 (by decide) (fun c_3 => (absurd ((nx_le (show ((24 : Int32)) = nI 24 from rfl) rfl (by omega) (by omega)).mp c_3) (by omega))) (fun _ => ?_)
    refine lv_aload_n hx hb dX2_breakPieces_8 rfl (lv_at hl 0 rfl) ?_
    refine gh_get (v := .ref (ad 8)) hC hg hT.1 fX2_17_2 rfl dX2_breakPieces_9 ?_
    refine lv_iload_n hx hb dX2_breakPieces_12 rfl (lv_at hl 1 rfl) ?_
    refine gh_qald (n := 24) (f := P) hC hg hT.2.2 rfl rfl (by omega) (by omega) dX2_breakPieces_13 ?_
    refine lv_ifnullQ (tgt := 42) hx hb dX2_breakPieces_14 (by decide) (fun hq_4 => ?_) (fun y_5 hq_4 => ?_)
    · skip
      have hno := (pc_free hPc hi24).mp hq_4
      replace b0 := b0 hno
      replace k0 := k0 hno
      rw [← k0] at hs1 hF1
      refine lv_iinc (v := (nI (i_1 + 1))) (lv' := [(1, .int (nI (i_1 + 1))), (0, .ref S)]) hx hb dX2_breakPieces_42 hl (k := 1) rfl (nx_iinc rfl) (by decide) rfl (fun ls hl => ?_)
      refine lv_goto (tgt := 2) hx hb dX2_breakPieces_45 (by decide) ?_
      exact W.widen (by first | omega | (dsimp only; omega) | exact (by first | omega | (dsimp only; omega) | exact Nat.le_of_ble_eq_true rfl)) (by first | omega | (dsimp only; omega) | exact (by first | omega | (dsimp only; omega) | exact Nat.le_of_ble_eq_true rfl)) (ih2 _ _ _ _ hg ⟨(by rw [← hs1, ← hF1]; exact ⟨ad, I, A, P, _, _, _, _, hT, hV, hL, hD, hPc, hO, hG, hPl, hN⟩), hF, lv_sub hl [1, 0] rfl⟩)
    have ho9 : oc s1 i_1 := fun h9 => by have h8 := (hPc i_1 hi24).1 h9; rw [h8] at hq_4; cases hq_4
    obtain ⟨q9, hPq, hqc, hky, hwa⟩ := (hPc i_1 hi24).2 ho9
    obtain rfl : q9 = y_5 := Option.some.inj (hPq.symm.trans hq_4)
    obtain ⟨a1, a2, a3, a4, a5⟩ := hJ1.1 i_1 hi24 ho9
    have h20 := hJ1.2.2.2 _ a1
    have hst := stress_k (F := F1) (hK1 _ a1)
    refine lv_aload_n hx hb dX2_breakPieces_17 rfl (lv_at hl 0 rfl) ?_
    refine gh_get (v := .ref (ad 8)) hC hg hT.1 fX2_17_2 rfl dX2_breakPieces_18 ?_
    refine lv_iload_n hx hb dX2_breakPieces_21 rfl (lv_at hl 1 rfl) ?_
    refine gh_qald (n := 24) (f := P) hC hg hT.2.2 rfl rfl (by omega) (by omega) dX2_breakPieces_22 ?_
    refine W.eq (g2 := F0 mm 23 ls [.ref q9]) (by rw [hPq] <;> rfl) ?_
    refine gh_calli hg (gh_runV (As := []) (rest := []) hC hg (j_X6_isTooStressed l V _ q9 (kx i_1) (pw i_1) (nI i_1) (pl s1 i_1 3) (pl s1 i_1 2) (F1 i_1) (S, 7, (cd s1 i_1)) (kd s1 (pk s1 i_1)) (lt s1 (pk s1 i_1) 1) hwa hqc) 0 (lw_V q2763 q2764 q2765 q163 q2766) hqc rfl hd_X6_isTooStressed ⟨(by first | omega | (dsimp only; omega) | exact Nat.le_of_ble_eq_true rfl), (by first | omega | (dsimp only; omega) | exact Nat.le_of_ble_eq_true rfl)⟩ rfl hl.1 rfl ((by first | omega | (dsimp only; omega) | exact Nat.le_of_ble_eq_true rfl)) dX2_breakPieces_23 ⟨(by first | omega | (dsimp only; omega) | exact Nat.le_of_ble_eq_true rfl), (by first | omega | (dsimp only; omega) | exact Nat.le_of_ble_eq_true rfl)⟩) (fun r_6 g H locs hg hp => ?_)
    obtain ⟨hp, hq⟩ := hp
    replace hp : (if Op.cmpValue (FP.fcmp (F1 i_1) (FP.i2f (sp_limit (nI (kd s1 (pk s1 i_1)))))) .l ≤ 0 then 0 else 1) = r_6 := hp.symm
    subst hp
    rw [← hq] at hT hF hL hD hPc hO hG hPl hwa hqc
    try rw [← hq] at hgg
    refine lv_if_eq (tgt := 42) hx hb dX2_breakPieces_26 (by decide) (fun c_7 => ?_) (fun c_7 => ?_)
    · skip
      have hst1 : stress s1 F1 i_1 := hst.mpr (by by_cases h9 : Op.cmpValue (FP.fcmp (F1 i_1) (FP.i2f (sp_limit (nI (kd s1 (pk s1 i_1)))))) .l ≤ 0; exact h9; rw [if_neg h9] at c_7; exact absurd c_7 (by decide))
      replace b1 := b1 ho9 hst1
      replace k1 := k1 ho9 hst1
      rw [← k1] at hs1 hF1
      refine lv_iinc (v := (nI (i_1 + 1))) (lv' := [(1, .int (nI (i_1 + 1))), (0, .ref S)]) hx hb dX2_breakPieces_42 hl (k := 1) rfl (nx_iinc rfl) (by decide) rfl (fun ls hl => ?_)
      refine lv_goto (tgt := 2) hx hb dX2_breakPieces_45 (by decide) ?_
      exact W.widen (by first | omega | (dsimp only; omega) | exact (by first | omega | (dsimp only; omega) | exact Nat.le_of_ble_eq_true rfl)) (by first | omega | (dsimp only; omega) | exact (by first | omega | (dsimp only; omega) | exact Nat.le_of_ble_eq_true rfl)) (ih2 _ _ _ _ hg ⟨(by rw [← hs1, ← hF1]; exact ⟨ad, I, A, P, _, _, _, _, hT, hV, hL, hD, hPc, hO, hG, hPl, hN⟩), hF, lv_sub hl [1, 0] rfl⟩)
    have hst1 : ¬ stress s1 F1 i_1 := fun h8 => by rw [if_pos (hst.mp h8)] at c_7; exact absurd rfl c_7
    replace b2 := b2 ho9 hst1
    replace k2 := k2 ho9 hst1
    refine lv_aload_n hx hb dX2_breakPieces_29 rfl (lv_at hl 0 rfl) ?_
    refine gh_get (v := .ref (ad 5)) hC hg hT.1 fX2_60_2 rfl dX2_breakPieces_30 ?_
    refine lv_iload_n hx hb dX2_breakPieces_33 rfl (lv_at hl 1 rfl) ?_
    refine lv_iconst (v := 1) hx hb dX2_breakPieces_34 (by decide) ?_
    refine gh_zast (n := 24) (f := (A 5)) hC hg hT.a5 rfl (by omega) (by omega) dX2_breakPieces_35 (fun g H locs hg hw hn => ?_)
    have hqc : g q9 = some ((S, 7, (cd s1 i_1)), oo 5 [.ref (kx i_1), .ref (pw i_1), .int (nI i_1), .int (pl s1 i_1 3), .int (pl s1 i_1 2), .float (F1 i_1)]) := (hn _ (gh_neK hqc hT.a5 rfl)).trans hqc
    have hf9 : gh_fv S [0] _ g := (gh_fw.st hT.a5 hn).v
    have hF : gh_fS S g0 g := hF.set hT.a5 (by decide) hn
    have hL : lo_P V g S (ad 9) s1 := hL.kp hf9 (by decide)
    have hD : de_P V g S (ad 10) s1 := hD.kp hf9 (by decide)
    have hPc : pc_P V g S P kx pw s1 F1 := hPc.kp hf9 (by decide)
    have hO : ot_P V g S (ad 11) P kx s1 n0 := hO.kp hf9 (by decide)
    have hG : go_P V g S (ad 12) s1 n1 := hG.kp hf9 (by decide)
    have hPl : pn_P V g S (ad 13) (I 3) s1 := hPl.kp hf9 (by decide)
    have hwa : wa_P V g (pw i_1) (kd s1 (pk s1 i_1)) (lt s1 (pk s1 i_1) 1) := hf9.wa (by decide) hwa
    have hT : st_C V g S ad I (va_up A 5 (upd (A 5) i_1 1)) P := hT.setA 5 (by decide) hw hn
    refine lv_aload_n hx hb dX2_breakPieces_36 rfl (lv_at hl 0 rfl) ?_
    refine lv_iload_n hx hb dX2_breakPieces_37 rfl (lv_at hl 1 rfl) ?_
    refine lv_iconst (v := 4) hx hb dX2_breakPieces_38 (by decide) ?_
    refine gh_callv hg (gh_runV (As := [.int (nI i_1), .int 4]) (rest := []) hC hg (j_X2_leave l V _ S N (ps s1 i_1 4 1) F1 ⟨ad, I, (va_up A 5 (upd (A 5) i_1 1)), P, _, _, _, _, hT, (ps4_V hi24 hV), (hL.cg h12 hJ1.2.2.2 (fun j h1 _ => ps4_o (by omega))), (hD.cg hD10 (fun j h1 _ => ps4_o (by omega))), (hPc.cg (fun _ _ => rfl) (fun r i _ hi => ps4_o (by omega)) (fun r i _ _ hi => ps4_o (by omega))), (hO.cg (fun r i _ hi => ps4_o (by omega))), (hG.cg h12 (nL_cg (ps4_o (by omega))) (fun k n _ _ => ps4_o (by omega))), (hPl.cg (fun j h => ps4_o (by omega))), hN⟩ L D Pn (wf_upd hE1 (nJ_pl hi24 (by omega) (by omega)) _) (jp_ps4 hJ1 hi24) hTR i_1 4 FP.fconst0 (by omega) (fun h9 => ho9 ((ps4_o (j := 43 + 5 * i_1 + 0) (by omega)).symm.trans h9)) (by omega) (by omega) hN63) 2 (lw_V q2773 q2775 qs40 q104 q2776) hT.1 rfl hd_X2_leave ⟨(by first | omega | (dsimp only; omega) | exact Nat.le_of_ble_eq_true rfl), (by first | omega | (dsimp only; omega) | exact Nat.le_of_ble_eq_true rfl)⟩ rfl hl.1 rfl ((by first | omega | (dsimp only; omega) | exact Nat.le_of_ble_eq_true rfl)) dX2_breakPieces_39 ⟨(by first | omega | (dsimp only; omega) | exact Nat.le_of_ble_eq_true rfl), (by first | omega | (dsimp only; omega) | exact Nat.le_of_ble_eq_true rfl)⟩) (fun g H locs hg hp => ?_)
    obtain ⟨hR, hF9⟩ := hp
    have hF : gh_fS S g0 g := hF.tr (hF9.fS (by decide))
    rw [show (nI 4 : Int32) = 4 from rfl, endS_ps hi24 (by omega) (by omega)] at hR
    refine lv_iinc (v := (nI (i_1 + 1))) (lv' := [(1, .int (nI (i_1 + 1))), (0, .ref S)]) hx hb dX2_breakPieces_42 hl (k := 1) rfl (nx_iinc rfl) (by decide) rfl (fun ls hl => ?_)
    refine lv_goto (tgt := 2) hx hb dX2_breakPieces_45 (by decide) ?_
    exact W.widen (by first | omega | (dsimp only; omega) | exact (by first | omega | (dsimp only; omega) | exact Nat.le_of_ble_eq_true rfl)) (by first | omega | (dsimp only; omega) | exact (by first | omega | (dsimp only; omega) | exact Nat.le_of_ble_eq_true rfl)) (ih2 _ _ _ _ hg ⟨(by rw [k2]; exact hR), hF, lv_sub hl [1, 0] rfl⟩)
