def dC (s : Nat → Int32) : Nat := if npF s (nP s) = s 0 + 1 then 138 else 0
def dS (s : Nat → Int32) : Nat := if npF s (nP s) = s 0 + 1 then 791 else 0
noncomputable def mC (s : Nat → Int32) (F : Nat → UInt32) : Nat := 40 + dC s + 36 * bkF (minB s F).1 (minB s F).2
noncomputable def mSl (s : Nat → Int32) (F : Nat → UInt32) : Nat := 320 + dS s + 296 * bkF (minB s F).1 (minB s F).2
theorem t1_V {s : Nat → Int32} {I : Nat → Int32} {A : Nat → Nat → Int32} (h : st_V s I A) : st_V (time1 s) (va_up I 0 (I 0 + 1)) A := by
  obtain ⟨v0, v1, v2, hz, hs, hc⟩ := h
  refine ⟨by show I 0 + 1 = _; rw [v0]; rfl, v1.trans (t1_o (by omega)).symm, v2.trans (t1_o (by omega)).symm, fun z hzz => ?_, fun p hp => (hs p hp).trans (t1_o (j := 43 + 5 * p + 4) (by omega)).symm, fun c hcc => ⟨(hc c hcc).1.trans (t1_o (j := 525 + 2 * c + 0) (by omega)).symm, (hc c hcc).2.trans (t1_o (j := 525 + 2 * c + 1) (by omega)).symm⟩⟩
  have e : ∀ k, zn (time1 s) z k = zn s z k := fun k => t1_o (by omega)
  rw [e, e, e, e, e]; exact hz z hzz
theorem t1_np (s : Nat → Int32) : npF (time1 s) (nP (time1 s)) = npF s (nP s) := by rw [t1_nP]; exact npF_cg _ (fun i _ => t1_o (by omega))
theorem hs_pc {V : gh_V} {g : gh_G} {S i q a b : Nat} {s : Nat → Int32} {F : Nat → UInt32} (hi : i < 24) (h : pc1 V g S (hsS s i) (hsF s F i) i q a b) : pc1 V g S s F i q a b :=
  h.cg (by unfold hsF; rw [if_neg (by omega)]) (fun k hk => (hsS_pl (by omega) (Or.inr (Or.inl (Nat.le_refl _)))).symm) (fun k hk => (hsS_ne (i := i) (j := 164 + 25 * pk (hsS s i) i + k) (by omega) (by omega)).symm)
theorem hs_oc {s : Nat → Int32} {i p : Nat} : oc (hsS s i) p ↔ oc s p := by
  unfold oc
  rw [hsS_pl (by omega) (Or.inl (by omega))]
theorem hs_cd {s : Nat → Int32} {i p : Nat} : cd (hsS s i) p = cd s p := by
  unfold cd pk
  rw [hsS_pl (by omega) (Or.inl (by omega)), hsS_pl (by omega) (Or.inl (by omega))]
theorem hs_jp {s : Nat → Int32} {i : Nat} (hi : i ≤ 24) (h : jp s) : jp (hsS s i) := jp_cg h (fun p k _ hk => hsS_pl (by omega) (Or.inl (by omega))) (fun j a b => hsS_ne (by omega) hi)
theorem mv_at {i : Nat} (h : i < 24) : (23 : Int32) - nI i = nI (24 - i - 1) := by
  have := nx_sub (x := (23 : Int32)) (y := nI i) (a := 23) (b := i) rfl rfl (by omega)
  rw [this, show 23 - i = 24 - i - 1 by omega]
theorem mv_ge {i : Nat} (h : i < 24) : ¬ (23 : Int32) - nI i < 0 := by
  rw [mv_at h]
  exact fun u => absurd ((nx_lt (a := 24 - i - 1) (b := 0) rfl rfl (by omega) (by omega)).mp u) (by omega)
theorem mv_dec (i : Nat) : (23 : Int32) - nI i + Int32.ofInt (-1) = 23 - nI (i + 1) := by
  rw [← nx_add (x := nI i) (y := (1 : Int32)) rfl rfl]
  generalize nI i = a
  rw [show Int32.ofInt (-1) = -1 from rfl]
  apply Int32.toBitVec_inj.mp
  simp only [Int32.toBitVec_add, Int32.toBitVec_sub, Int32.toBitVec_neg]
  bv_omega
theorem cln1_o {s : Nat → Int32} {L D P c j : Nat} (hE : tw_wf s L D P) (hc : c < 2) (h : j < 43 ∨ (43 ≤ j ∧ j < 163 ∧ (j - 43) % 5 ≠ 4) ∨ (163 ≤ j ∧ j < 525) ∨ 529 ≤ j) : cln1 s c j = s j := by
  have hq := (wf_cl hE hc).2
  unfold cln1
  split
  · rfl
  · split
    · rw [ps4_o (by omega), cls_o (by omega)]
    · exact cls_o (by omega)
theorem mv_facts {s : Nat → Int32} {F : Nat → UInt32} {L D P t : Nat} {B : Int} (hE : tw_wf s L D P) (hn : nnS F) (h : jm s t B) (ht : t < 19999) (h6 : 600 ≤ B) (hB : B ≤ 900000) (i : Nat) (hi : i ≤ 24) : ∃ s1 : Nat → Int32, s1 = (mv (minC s F).1 (minC s F).2.1 (nD s) i).1 ∧ tw_wf s1 L D (minP s) ∧ jp s1 ∧ jk s1 ∧ (∀ z, z < 8 → ∃ r, r ≤ 9 ∧ zn s1 z 2 = nI r) ∧ nD s1 = nD s := by
  obtain ⟨a1, a2, a3, a4, a5, a6, a7⟩ := mA_2 hE h ht h6 (by omega)
  have wA := wf_minA hE
  obtain ⟨b1, b2, b3, -, -⟩ := mB_1 (F := F) wA a1 a5 h6 hB
  have wC := wf_minC hE hn
  have x1 : jx (minB s F).1 (B + 3) (minC s F).1 := by
    unfold minC
    rw [brkF_eq]
    exact jx_brk b1 24 (Nat.le_refl _)
  have hD10 : nD s ≤ 10 := by rw [nD_of hE]; exact hE.2.1.2
  have x2 : jx (minB s F).1 (B + 3) (mv (minC s F).1 (minC s F).2.1 (nD s) i).1 := jx_mv x1 hD10 i hi
  have w2 := (mv_wf (D := D) wC.1 wC.2 i hi).1
  refine ⟨_, rfl, by rw [nD_of hE]; exact w2, x2.1, x2.2.1, fun z hz => ?_, nD_cg ?_⟩
  · have e1 : zn (mv (minC s F).1 (minC s F).2.1 (nD s) i).1 z 2 = zn (minB s F).1 z 2 := x2.2.2.2 _ (by unfold fzr; omega)
    have e2 : zn (minB s F).1 z 2 = zn (minA s) z 2 := b3 _ (by omega)
    rw [e1, e2, (a6 z hz).2]
    exact h.2.2.2.1 z hz
  · exact (x2.2.2.2 464 (by unfold fzr; omega)).trans ((b3 464 (by omega)).trans (a7 464 (by omega) (by omega)))
theorem jx_cln {s s0 : Nat → Int32} {L D P : Nat} {B : Int} (h : jx s0 B s) (hE : tw_wf s L D P) : ∀ c, c ≤ 2 → jx s0 B (cln s c)
  | 0, _ => h
  | c + 1, hc => by
    rw [cln_s]
    exact jx_cln1 (jx_cln h hE c (by omega)) (wf_cln hE c (by omega)) (by omega)
theorem cw_R.c {V : gh_V} {g : gh_G} {S N : Nat} {s : Nat → Int32} {F : Nat → UInt32} (h : cw_R V g S s F N) : ∃ (ad : Nat → Nat) (I : Nat → Int32), g S = some ((S, 0, 0), oo 2 (st_fs ad I)) := by
  obtain ⟨ad, I, A, P, kx, pw, n0, n1, h1, -⟩ := h
  exact ⟨ad, I, h1.1⟩
set_option maxRecDepth 100000
theorem hd_X2_breakPieces : yX2_breakPieces.cls = RX2 ∧ yX2_breakPieces.cls ≠ "java/lang/invoke/MethodHandle" ∧ yX2_breakPieces.cls ≠ "java/lang/invoke/VarHandle" ∧ (parseMethodDescriptor yX2_breakPieces.desc).map (fun d => d.parameters.length) = some 0 := by decide +kernel
theorem hd_X2_burn : yX2_burn.cls = RX2 ∧ yX2_burn.cls ≠ "java/lang/invoke/MethodHandle" ∧ yX2_burn.cls ≠ "java/lang/invoke/VarHandle" ∧ (parseMethodDescriptor yX2_burn.desc).map (fun d => d.parameters.length) = some 0 := by decide +kernel
theorem hd_X2_carryOutPlans : yX2_carryOutPlans.cls = RX2 ∧ yX2_carryOutPlans.cls ≠ "java/lang/invoke/MethodHandle" ∧ yX2_carryOutPlans.cls ≠ "java/lang/invoke/VarHandle" ∧ (parseMethodDescriptor yX2_carryOutPlans.desc).map (fun d => d.parameters.length) = some 0 := by decide +kernel
theorem hd_X2_clean : yX2_clean.cls = RX2 ∧ yX2_clean.cls ≠ "java/lang/invoke/MethodHandle" ∧ yX2_clean.cls ≠ "java/lang/invoke/VarHandle" ∧ (parseMethodDescriptor yX2_clean.desc).map (fun d => d.parameters.length) = some 1 := by decide +kernel
theorem hd_X2_exchange : yX2_exchange.cls = RX2 ∧ yX2_exchange.cls ≠ "java/lang/invoke/MethodHandle" ∧ yX2_exchange.cls ≠ "java/lang/invoke/VarHandle" ∧ (parseMethodDescriptor yX2_exchange.desc).map (fun d => d.parameters.length) = some 0 := by decide +kernel
theorem hd_X2_giveHeat : yX2_giveHeat.cls = RX2 ∧ yX2_giveHeat.cls ≠ "java/lang/invoke/MethodHandle" ∧ yX2_giveHeat.cls ≠ "java/lang/invoke/VarHandle" ∧ (parseMethodDescriptor yX2_giveHeat.desc).map (fun d => d.parameters.length) = some 1 := by decide +kernel
theorem hd_X2_movePiece : yX2_movePiece.cls = RX2 ∧ yX2_movePiece.cls ≠ "java/lang/invoke/MethodHandle" ∧ yX2_movePiece.cls ≠ "java/lang/invoke/VarHandle" ∧ (parseMethodDescriptor yX2_movePiece.desc).map (fun d => d.parameters.length) = some 1 := by decide +kernel
theorem hd_X6_goTowards : yX6_goTowards.cls = RX6 ∧ yX6_goTowards.cls ≠ "java/lang/invoke/MethodHandle" ∧ yX6_goTowards.cls ≠ "java/lang/invoke/VarHandle" ∧ (parseMethodDescriptor yX6_goTowards.desc).map (fun d => d.parameters.length) = some 1 := by decide +kernel
set_option maxHeartbeats 3000000 in
set_option maxRecDepth 100000 in
theorem j_X2_minute (l : Launch) (V : gh_V) (g0 : gh_G) (S N : Nat) (s : Nat → Int32) (F : Nat → UInt32) (hR : cw_R V g0 S s F N) (L D Pn : Nat) (hE : tw_wf s L D Pn) (hTR : tr_S l V) (hN63 : N < 63) (hnn : nnS F) (t9 : Nat) (B : Int) (hM9 : jm s t9 B) (ht19 : t9 < 19999) (h600 : 600 ≤ B) (hB9 : B ≤ 900000) : MV l yX2_minute cX2_minute 3 ({ frames := 15, cells := (mC s F), slots := (mSl s F), locals := 478 } : Room) V [.ref S] g0 (fun g1 => cw_R V g1 S (minS s F) (minT s F) N ∧ gh_fS S g0 g1) := by
  refine MG.of RX2 (by decide) rfl (Nat.le_of_ble_eq_true rfl) (fun pp ee s9 mm args below meth c ls hC hg hr hlk hnm hl => ?_)
  have hx := hC.1.1
  have hb := hC.1.2.1
  have hml := hC.1.2.2.1
  have hown := hC.1.2.2.2.1
  have hts := hC.1.2.2.2.2
  have hl : lv_has ls 3 [(0, .ref S)] := hl
  obtain ⟨g, hg, hgg⟩ : ∃ g, gh_W V (gh_A g0 s9.heap.size) s9 g s9.heap [] ∧ g = g0 := ⟨g0, hg, rfl⟩
  obtain ⟨ad, I, A, P, kx, pw, n0, n1, hT, hV, hL, hD, hPc, hO, hG, hPl, hN⟩ := hR
  rw [← hgg] at hT hL hD hPc hO hG hPl
  have hF : gh_fS S g0 g := by rw [hgg]; exact gh_fS.rf
  have hM90 := hM9
  obtain ⟨hJ, hK, hJn, hrl, hfn, hzb, hjw, h09, hfut⟩ := hM90
  have h12 := hJ.2.2.1
  have hD10 : nD s ≤ 10 := by rw [nD_of hE]; exact hE.2.1.2
  have hmC : mC s F = 40 + dC s + 36 * bkF (minB s F).1 (minB s F).2 := rfl
  have hmS : mSl s F = 320 + dS s + 296 * bkF (minB s F).1 (minB s F).2 := rfl
  refine lv_aload_n hx hb dX2_minute_0 rfl (lv_at hl 0 rfl) ?_
  refine lv_dup hx hb dX2_minute_1 rfl ?_
  refine gh_get (v := .int (I 0)) hC hg hT.1 fX2_82_2 rfl dX2_minute_2 ?_
  refine lv_iconst (v := 1) hx hb dX2_minute_5 (by decide) ?_
  refine lv_iadd hx hb dX2_minute_6 ?_
  refine gh_put (v := .int ((I 0) + 1)) hC hg hT.1 fX2_82_2 rfl rfl ((by first | omega | (dsimp only; omega) | exact Nat.le_of_ble_eq_true rfl)) dX2_minute_7 (fun g H locs hg hw hn => ?_)
  have hf9 : gh_fv S [0] _ g := (gh_fw.st hT.1 hn).v
  have hL : lo_P V g S (ad 9) s := hL.kp hf9 (by decide)
  have hD : de_P V g S (ad 10) s := hD.kp hf9 (by decide)
  have hPc : pc_P V g S P kx pw s F := hPc.kp hf9 (by decide)
  have hO : ot_P V g S (ad 11) P kx s n0 := hO.kp hf9 (by decide)
  have hG : go_P V g S (ad 12) s n1 := hG.kp hf9 (by decide)
  have hPl : pn_P V g S (ad 13) (I 3) s := hPl.kp hf9 (by decide)
  have hF : gh_fS S g0 g := hF.set hT.1 (by decide) hn
  have hT : st_C V g S ad (va_up I 0 ((I 0) + 1)) A P := hT.setI 0 hw hn
  refine lv_aload_n hx hb dX2_minute_10 rfl (lv_at hl 0 rfl) ?_
  obtain ⟨M, hM, hMp, hnx⟩ := hPl.cg (s1 := time1 s) (fun j h => t1_o (by omega))
  have hV1 := t1_V hV
  refine gh_callv hg (gh_runV (As := []) (rest := []) hC hg (j_X2_carryOutPlans l V _ S ad (va_up I 0 ((I 0) + 1)) A P hT hTR (time1 s) L D Pn (wf_time hE) (t1_jn hJn) hV1 M hM hMp hnx (t9 + 1) (dC s) (dS s) (t1_t h09) (by omega) (fun i hi => by have h9 := hfut i (by rw [t1_nP] at hi; exact hi); rw [show pn (time1 s) i 0 = pn s i 0 from t1_o (by omega)]; omega) (fun h9 => by unfold dC; rw [if_pos (by rw [← t1_np]; exact h9)]; omega) (fun h9 => by unfold dS; rw [if_pos (by rw [← t1_np]; exact h9)]; omega)) 0 (lw_V q2333 q2335 qs34 q104 q2336) hT.1 rfl hd_X2_carryOutPlans ⟨(by first | omega | (dsimp only; omega) | exact Nat.le_of_ble_eq_true rfl), (by first | omega | (dsimp only; omega) | exact Nat.le_of_ble_eq_true rfl)⟩ rfl hl.1 rfl ((by first | omega | (dsimp only; omega) | exact Nat.le_of_ble_eq_true rfl)) dX2_minute_11 ⟨(by first | omega | (dsimp only; omega) | exact Nat.le_of_ble_eq_true rfl), (by first | omega | (dsimp only; omega) | exact Nat.le_of_ble_eq_true rfl)⟩) (fun g H locs hg hp => ?_)
  obtain ⟨I1, A1, hT, hV, hPl, hF9⟩ := hp
  have hfw9 : gh_fw S [0, 11] _ g := hF9
  have hf9 := hfw9.v
  have hL : lo_P V g S (ad 9) s := hL.kp hf9 (by decide)
  have hD : de_P V g S (ad 10) s := hD.kp hf9 (by decide)
  have hPc : pc_P V g S P kx pw s F := hPc.kp hf9 (by decide)
  have hO : ot_P V g S (ad 11) P kx s n0 := hO.kp hf9 (by decide)
  have hG : go_P V g S (ad 12) s n1 := hG.kp hf9 (by decide)
  have hF : gh_fS S g0 g := hF.tr (hfw9.fS (by decide))
  have hT : st_C V g S ad I1 A1 P := hT
  rw [t1_nP] at hV hPl
  obtain ⟨s1, hs1⟩ : ∃ x, x = carryS (time1 s) (nP s) := ⟨_, rfl⟩
  rw [← hs1] at hV hPl
  have hE1 : tw_wf s1 L D (co (time1 s) Pn).2 := by rw [hs1, nP_of hE]; exact wf_carry (wf_time hE)
  refine lv_aload_n hx hb dX2_minute_14 rfl (lv_at hl 0 rfl) ?_
  refine gh_callv hg (gh_runV (As := []) (rest := []) hC hg (j_X2_burn l V _ S ad I1 A1 P hT s1 L D _ hE1 hV) 0 (lw_V q2620 q2622 qs36 q104 q2623) hT.1 rfl hd_X2_burn ⟨(by first | omega | (dsimp only; omega) | exact Nat.le_of_ble_eq_true rfl), (by first | omega | (dsimp only; omega) | exact Nat.le_of_ble_eq_true rfl)⟩ rfl hl.1 rfl ((by first | omega | (dsimp only; omega) | exact Nat.le_of_ble_eq_true rfl)) dX2_minute_15 ⟨(by first | omega | (dsimp only; omega) | exact Nat.le_of_ble_eq_true rfl), (by first | omega | (dsimp only; omega) | exact Nat.le_of_ble_eq_true rfl)⟩) (fun g H locs hg hp => ?_)
  obtain ⟨hT, hF9⟩ := hp
  have hfw9 : gh_fw S [0] _ g := hF9
  have hf9 := hfw9.v
  have hL : lo_P V g S (ad 9) s := hL.kp hf9 (by decide)
  have hD : de_P V g S (ad 10) s := hD.kp hf9 (by decide)
  have hPc : pc_P V g S P kx pw s F := hPc.kp hf9 (by decide)
  have hO : ot_P V g S (ad 11) P kx s n0 := hO.kp hf9 (by decide)
  have hG : go_P V g S (ad 12) s n1 := hG.kp hf9 (by decide)
  have hF : gh_fS S g0 g := hF.tr (hfw9.fS (by decide))
  have hPl : pn_P V g S (ad 13) (I1 3) s1 := hPl.kp hf9 (by decide)
  have hT : st_C V g S ad (va_up I1 2 (s1 2 + gsum s1 8)) (va_up (va_up A1 4 (cpn (gq9 s1 (A1 4)) (A1 4) 8)) 3 (cpn (wm s1) (A1 3) 8)) P := hT
  refine lv_aload_n hx hb dX2_minute_18 rfl (lv_at hl 0 rfl) ?_
  refine gh_callv hg (gh_runV (As := []) (rest := []) hC hg (j_X2_exchange l V _ S ad (va_up I1 2 (s1 2 + gsum s1 8)) (va_up (va_up A1 4 (cpn (gq9 s1 (A1 4)) (A1 4) 8)) 3 (cpn (wm s1) (A1 3) 8)) P hT) 0 (lw_V q2703 q2705 qs37 q104 q2706) hT.1 rfl hd_X2_exchange ⟨(by first | omega | (dsimp only; omega) | exact Nat.le_of_ble_eq_true rfl), (by first | omega | (dsimp only; omega) | exact Nat.le_of_ble_eq_true rfl)⟩ rfl hl.1 rfl ((by first | omega | (dsimp only; omega) | exact Nat.le_of_ble_eq_true rfl)) dX2_minute_19 ⟨(by first | omega | (dsimp only; omega) | exact Nat.le_of_ble_eq_true rfl), (by first | omega | (dsimp only; omega) | exact Nat.le_of_ble_eq_true rfl)⟩) (fun g H locs hg hp => ?_)
  obtain ⟨hT, hF9⟩ := hp
  have hfw9 : gh_fw S [0] _ g := hF9
  have hf9 := hfw9.v
  have hL : lo_P V g S (ad 9) s := hL.kp hf9 (by decide)
  have hD : de_P V g S (ad 10) s := hD.kp hf9 (by decide)
  have hPc : pc_P V g S P kx pw s F := hPc.kp hf9 (by decide)
  have hO : ot_P V g S (ad 11) P kx s n0 := hO.kp hf9 (by decide)
  have hG : go_P V g S (ad 12) s n1 := hG.kp hf9 (by decide)
  have hF : gh_fS S g0 g := hF.tr (hfw9.fS (by decide))
  have hPl : pn_P V g S (ad 13) (I1 3) s1 := hPl.kp hf9 (by decide)
  have hT : st_C V g S ad (va_up I1 2 (s1 2 + gsum s1 8)) (va_up (va_up (va_up A1 4 (cpn (gq9 s1 (A1 4)) (A1 4) 8)) 3 (cpn (wm s1) (A1 3) 8)) 3 (exN (cpn (wm s1) (A1 3) 8) 7)) P := hT
  obtain ⟨I2, hI2⟩ : ∃ x, x = (va_up I1 2 (s1 2 + gsum s1 8)) := ⟨_, rfl⟩
  obtain ⟨A2, hA2⟩ : ∃ x, x = (va_up (va_up (va_up A1 4 (cpn (gq9 s1 (A1 4)) (A1 4) 8)) 3 (cpn (wm s1) (A1 3) 8)) 3 (exN (cpn (wm s1) (A1 3) 8) 7)) := ⟨_, rfl⟩
  obtain ⟨s2, hs2⟩ : ∃ x, x = minA s := ⟨_, rfl⟩
  have hs21 : s2 = ht2 s1 8 := by rw [hs2, hs1]; rfl
  have hV2 : st_V s2 I2 A2 := by rw [hI2, hA2, hs21]; exact ht_V hV
  rw [← hI2, ← hA2] at hT
  obtain ⟨hx2, hjn2, h02, hf2, hzb2, hzz2, ho2⟩ := mA_2 hE hM9 ht19 h600 (by omega)
  have hE2 := wf_minA hE
  rw [← hs2] at hx2 hjn2 h02 hf2 hzb2 hzz2 ho2 hE2
  have hL : lo_P V g S (ad 9) s2 := hL.cg h12 hJ.2.2.2 (fun j a b => ho2 j (by omega) (by omega))
  have hD : de_P V g S (ad 10) s2 := hD.cg hD10 (fun j a b => ho2 j (by omega) (by omega))
  have hPc : pc_P V g S P kx pw s2 F := hPc.cg (fun _ _ => rfl) (fun p i hp hi => ho2 _ (by omega) (by omega)) (fun p i hp ho hi => ho2 _ (by omega) (by have := (hJ.1 p hp ho).1; omega))
  have hO : ot_P V g S (ad 11) P kx s2 n0 := hO.cg (fun p i hp hi => ho2 _ (by omega) (by omega))
  have hG : go_P V g S (ad 12) s2 n1 := hG.cg h12 (nL_cg (ho2 _ (by omega) (by omega))) (fun k n hk hn => ho2 _ (by omega) (by omega))
  have hPl : pn_P V g S (ad 13) (I2 3) s2 := by rw [hI2, hs21]; exact hPl.cg (fun j h => ht2_o (by omega) (by omega))
  have h122 := hx2.1.2.2.1
  have hD102 : nD s2 ≤ 10 := by rw [nD_of hE2]; exact hE2.2.1.2
  refine lv_aload_n hx hb dX2_minute_22 rfl (lv_at hl 0 rfl) ?_
  refine gh_get (v := .ref (ad 3)) hC hg hT.1 fX2_54_2 rfl dX2_minute_23 ?_
  refine gh_clone hC hg hl.1 (fun q9 => (S, 3, 1)) hT.a3 rfl (hC.2.1.2 0 _ rfl).2 q2707 q2708 q427 q428 q2709 q2710 (fun _ _ => rfl) ((by first | omega | (dsimp only; omega) | exact Nat.le_of_ble_eq_true rfl)) ((by first | omega | (dsimp only; omega) | exact Nat.le_of_ble_eq_true rfl)) ((by first | omega | (dsimp only; omega) | exact Nat.le_of_ble_eq_true rfl)) ((by first | omega | (dsimp only; omega) | exact Nat.le_of_ble_eq_true rfl)) dX2_minute_26 (fun q_1 g H hg h0 hw hn => ?_)
  have hf9 : gh_fv S [] _ g := (gh_fw.nw h0 hn).v
  have hF : gh_fS S g0 g := hF.new h0 hn
  have hL : lo_P V g S (ad 9) s2 := hL.kp hf9 (by decide)
  have hD : de_P V g S (ad 10) s2 := hD.kp hf9 (by decide)
  have hPc : pc_P V g S P kx pw s2 F := hPc.kp hf9 (by decide)
  have hO : ot_P V g S (ad 11) P kx s2 n0 := hO.kp hf9 (by decide)
  have hG : go_P V g S (ad 12) s2 n1 := hG.kp hf9 (by decide)
  have hPl : pn_P V g S (ad 13) (I2 3) s2 := hPl.kp hf9 (by decide)
  have hT : st_C V g S ad I2 A2 P := hT.nw h0 hn
  have c_2 : g q_1 = some ((S, 3, 1), ai V 0 8 (A2 3)) := hw
  refine gh_castAi hC hg c_2 rfl (hC.2.1.2 0 _ rfl).2 q2711 dX2_minute_29 ?_
  refine lv_astore_n (lv' := [(1, .ref q_1), (0, .ref S)]) hx hb dX2_minute_32 rfl hl (by decide) rfl (fun ls hl => ?_)
  refine lv_iconst (v := 0) hx hb dX2_minute_33 (by decide) ?_
  refine lv_istore_n (lv' := [(2, .int 0), (1, .ref q_1), (0, .ref S)]) hx hb dX2_minute_34 rfl hl (by decide) rfl (fun ls hl => ?_)
  obtain ⟨N9, hN9⟩ : ∃ n : Nat, n = 24 := ⟨24, rfl⟩
  refine gh_loop (N := N9) (X := fun i_3 g ls => (st_C V g S ad I2 A2 P) ∧ (gh_fS S g0 g) ∧ (lo_P V g S (ad 9) s2) ∧ (de_P V g S (ad 10) s2) ∧ (ot_P V g S (ad 11) P kx s2 n0) ∧ (go_P V g S (ad 12) s2 n1) ∧ (pn_P V g S (ad 13) (I2 3) s2) ∧ (g q_1 = some ((S, 3, 1), ai V 0 8 (A2 3))) ∧ (pc_P V g S P kx pw (hsS s2 i_3) (hsF s2 F i_3)) ∧ lv_has ls 3 [(0, .ref S), (1, .ref q_1), (2, .int (nI i_3))]) ?_ ?_ 0 (by omega) hg ⟨hT, hF, hL, hD, hO, hG, hPl, c_2, (by rw [hsS_0, hsF_0]; exact hPc), lv_sub hl [2, 1, 0] rfl⟩
  · intro g H locs ls hg hX
    obtain ⟨hT, hF, hL, hD, hO, hG, hPl, c_2, hPc, hl⟩ := hX
    rw [hN9] at hPc
    refine lv_iload_n hx hb dX2_minute_35 rfl (lv_at hl 2 rfl) ?_
    refine lv_bipush (v := 24) hx hb dX2_minute_36 (by decide) ?_
    refine lv_icmp_ge (tgt := 71) hx hb dX2_minute_38 (by decide) (fun _ => ?_) (fun c_4 => (absurd ((nx_le (show ((24 : Int32)) = nI 24 from rfl) rfl (by omega) (by omega)).mpr (by omega)) c_4))
    refine lv_aload_n hx hb dX2_minute_71 rfl (lv_at hl 0 rfl) ?_
    refine lv_aload_n hx hb dX2_minute_72 rfl (lv_at hl 1 rfl) ?_
    refine gh_callv hg (gh_runV (As := [.ref q_1]) (rest := []) hC hg (j_X2_giveHeat l V _ S ad I2 A2 P hT (hsS s2 24) (hsF s2 F 24) kx pw hPc q_1 1 (A2 3) c_2) 1 (lw_V q2754 q2756 qs38 q104 q2757) hT.1 rfl hd_X2_giveHeat ⟨(by first | omega | (dsimp only; omega) | exact Nat.le_of_ble_eq_true rfl), (by first | omega | (dsimp only; omega) | exact Nat.le_of_ble_eq_true rfl)⟩ rfl hl.1 rfl ((by first | omega | (dsimp only; omega) | exact Nat.le_of_ble_eq_true rfl)) dX2_minute_73 ⟨(by first | omega | (dsimp only; omega) | exact Nat.le_of_ble_eq_true rfl), (by first | omega | (dsimp only; omega) | exact Nat.le_of_ble_eq_true rfl)⟩) (fun g H locs hg hp => ?_)
    obtain ⟨hT, hF9⟩ := hp
    have hfw9 : gh_fw S [0] _ g := hF9
    have hf9 := hfw9.v
    have c_2 : g q_1 = some ((S, 3, 1), ai V 0 8 (A2 3)) := hfw9 _ _ _ c_2 (fun h9 => absurd (show 3 ∈ [0] from h9.2) (by decide))
    have hF : gh_fS S g0 g := hF.tr (hfw9.fS (by decide))
    have hL : lo_P V g S (ad 9) s2 := hL.kp hf9 (by decide)
    have hD : de_P V g S (ad 10) s2 := hD.kp hf9 (by decide)
    have hO : ot_P V g S (ad 11) P kx s2 n0 := hO.kp hf9 (by decide)
    have hG : go_P V g S (ad 12) s2 n1 := hG.kp hf9 (by decide)
    have hPl : pn_P V g S (ad 13) (I2 3) s2 := hPl.kp hf9 (by decide)
    have hPc : pc_P V g S P kx pw (hsS s2 24) (hsF s2 F 24) := hPc.kp hf9 (by decide)
    have hT : st_C V g S ad I2 (va_up A2 3 (gvF (hsS s2 24) (A2 3) (A2 3))) P := hT
    obtain ⟨hx3, hzb3, ho3, hp3, hF3⟩ := mB_1 (F := F) hE2 hx2 hzb2 h600 hB9
    have hgv : ∀ z, z < 8 → gvF (hsS s2 24) (A2 3) (A2 3) z = zn (coolF s2 F).1 z 3 := fun z hz => by rw [gvF_eq, coolF_eq]; exact cool_gv (F := F) hE2 (fun z hz => (hV2.2.2.2.1 z hz).2.2.2.1) (fun z hz => (hV2.2.2.2.1 z hz).2.2.2.1) (fun p hp => hsS_pl (by omega) (Or.inl (by omega))) (fun p hp ho => hsS_2 hp ho) (show B ≤ 1000000 by omega) hzb2 (cB_bd hE2 hzb2 hx2.2.2.1 (by omega)) 24 (Nat.le_refl _) z hz
    have hV3 := hs_V (F := F) hV2 hgv ho3 (fun p hp => (hp3 p 4 hp (by omega)).trans (hsS_pl (by omega) (Or.inl (by omega))))
    have hR : cw_R V g S (minB s F).1 (minB s F).2 N := by unfold minB; rw [← hs2]; exact ⟨ad, I2, (va_up A2 3 (gvF (hsS s2 24) (A2 3) (A2 3))), P, _, _, _, _, hT, hV3, (hL.cg h122 hx2.1.2.2.2 (fun j a b => ho3 j (by omega))), (hD.cg hD102 (fun j a b => ho3 j (by omega))), (hPc.cg hF3 (fun p i hp hi => hp3 p i hp (by omega)) (fun p i hp ho hi => (ho3 _ (by omega)).trans (hsS_ne (by omega) (by omega)).symm)), (hO.cg (fun p i hp hi => (hp3 p i hp (by omega)).trans (hsS_pl (by omega) (Or.inl (by omega))))), (hG.cg h122 (nL_cg (ho3 _ (by omega))) (fun k n hk hn => ho3 _ (by omega))), (hPl.cg (fun j h => ho3 j (by omega))), hN⟩
    have hB3 : (minB s F).1 = (coolF s2 F).1 := by unfold minB; rw [← hs2]
    rw [← hB3] at hx3
    have wB := wf_minB hE hnn
    obtain ⟨adc, Ic, hSc⟩ := hR.c
    refine lv_aload_n hx hb dX2_minute_76 rfl (lv_at hl 0 rfl) ?_
    refine gh_callv hg (gh_runV (As := []) (rest := []) hC hg (j_X2_breakPieces l V _ S N (minB s F).1 (minB s F).2 hR wB.2 L D _ wB.1 hx3.1 hx3.2.1 hTR hN63) 0 (lw_V q2759 q2761 qs39 q104 q2762) hSc rfl hd_X2_breakPieces ⟨(by first | omega | (dsimp only; omega) | exact Nat.le_of_ble_eq_true rfl), (by first | omega | (dsimp only; omega) | exact Nat.le_of_ble_eq_true rfl)⟩ rfl hl.1 rfl ((by first | omega | (dsimp only; omega) | exact Nat.le_of_ble_eq_true rfl)) dX2_minute_77 ⟨(by first | omega | (dsimp only; omega) | exact Nat.le_of_ble_eq_true rfl), (by first | omega | (dsimp only; omega) | exact Nat.le_of_ble_eq_true rfl)⟩) (fun g H locs hg hp => ?_)
    obtain ⟨hR, hF9⟩ := hp
    have hF : gh_fS S g0 g := hF.tr hF9
    have hR : cw_R V g S (minC s F).1 (minC s F).2.1 N := hR
    refine lv_bipush (v := 23) hx hb dX2_minute_80 (by decide) ?_
    refine lv_istore_n (lv' := [(2, .int 23), (0, .ref S), (1, .ref q_1)]) hx hb dX2_minute_82 rfl hl (by decide) rfl (fun ls hl => ?_)
    have hl : lv_has ls 3 [(0, .ref S), (2, .int (23 - nI 0))] := by rw [show (23 - nI 0 : Int32) = 23 from rfl]; exact lv_sub hl [1, 0] rfl
    refine gh_loopF (N := N9) (lo := 0) (fun i_5 => 2 + dC s + 36 * bkF (minB s F).1 (minB s F).2 + 36 * min i_5 1) (fun i_5 => 20 + dS s + 296 * bkF (minB s F).1 (minB s F).2 + 296 * min i_5 1) (X := fun i_5 g ls => (cw_R V g S (mv (minC s F).1 (minC s F).2.1 (nD s) i_5).1 (mv (minC s F).1 (minC s F).2.1 (nD s) i_5).2.1 N) ∧ (gh_fS S g0 g) ∧ lv_has ls 3 [(0, .ref S), (2, .int (23 - nI i_5))]) ?_ ?_ (by omega) (by first | omega | (dsimp only; omega) | exact (by first | omega | (dsimp only; omega) | exact Nat.le_of_ble_eq_true rfl)) (by first | omega | (dsimp only; omega) | exact (by first | omega | (dsimp only; omega) | exact Nat.le_of_ble_eq_true rfl)) hg ⟨hR, hF, lv_sub hl [0, 1] rfl⟩
    · intro g H locs ls hg hX
      obtain ⟨hR, hF, hl⟩ := hX
      have hR : cw_R V g S (minD s F).1 (minT s F) N := by unfold minT minD; rw [← mvF_N hN9]; exact hR
      refine lv_iload_n hx hb dX2_minute_83 rfl (lv_at hl 1 rfl) ?_
      refine lv_if_lt (tgt := 98) hx hb dX2_minute_84 (by decide) (fun _ => ?_) (fun c_6 => (absurd (show (23 : Int32) - nI N9 < 0 by rw [hN9]; decide) c_6))
      refine lv_iconst (v := 0) hx hb dX2_minute_98 (by decide) ?_
      refine lv_istore_n (lv' := [(2, .int 0), (0, .ref S)]) hx hb dX2_minute_99 rfl hl (by decide) rfl (fun ls hl => ?_)
      have wD := wf_minD hE hnn
      obtain ⟨s5, hs5, hE5, hJ5, hK5, hr5, hd5⟩ := mv_facts hE hnn hM9 ht19 h600 hB9 24 (Nat.le_refl _)
      rw [← mvF_eq] at hs5
      have hs5 : s5 = (minD s F).1 := hs5
      rw [hs5] at hJ5 hK5 hE5
      have hjx := jx.rf hJ5 hK5 (B := 2147483648) (fun p _ _ => ⟨by have := Int32.le_toInt (pl (minD s F).1 p 2); omega, by have := Int32.toInt_lt (pl (minD s F).1 p 2); omega⟩)
      refine gh_loop (N := 2) (X := fun i_7 g ls => (cw_R V g S (cln (minD s F).1 i_7) (minT s F) N) ∧ (gh_fS S g0 g) ∧ lv_has ls 3 [(0, .ref S), (2, .int (nI i_7))]) ?_ ?_ 0 (by omega) hg ⟨hR, hF, lv_sub hl [1, 0] rfl⟩
      · intro g H locs ls hg hX
        obtain ⟨hR, hF, hl⟩ := hX
        refine lv_iload_n hx hb dX2_minute_100 rfl (lv_at hl 1 rfl) ?_
        refine lv_iconst (v := 2) hx hb dX2_minute_101 (by decide) ?_
        refine lv_icmp_ge (tgt := 116) hx hb dX2_minute_102 (by decide) (fun _ => ?_) (fun c_8 => (absurd ((nx_le (show ((2 : Int32)) = nI 2 from rfl) rfl (by omega) (by omega)).mpr (by omega)) c_8))
        exact gh_retv hC hg hr hlk (⟨hR, hF⟩) dX2_minute_116 ((by first | omega | (dsimp only; omega) | exact Nat.le_of_ble_eq_true rfl)) ((by first | omega | (dsimp only; omega) | exact Nat.le_of_ble_eq_true rfl))
      · intro i_7 hi100 ih100 g H locs ls hg hX
        obtain ⟨hR, hF, hl⟩ := hX
        have hE6 := wf_cln hE5 i_7 (by omega)
        have hJ6 := (jx_cln hjx hE5 i_7 (by omega)).1
        have hcs := cln_s (minD s F).1 i_7
        obtain ⟨s6, hs6⟩ : ∃ x, x = cln (minD s F).1 i_7 := ⟨_, rfl⟩
        rw [← hs6] at hR hE6 hJ6 hcs
        obtain ⟨F6, hF6⟩ : ∃ x, x = minT s F := ⟨_, rfl⟩
        rw [← hF6] at hR
        obtain ⟨ad, I, A, P, kx, pw, n0, n1, hT, hV, hL, hD, hPc, hO, hG, hPl, hN⟩ := hR
        have h126 := hJ6.2.2.1
        have hD106 : nD s6 ≤ 10 := by rw [nD_of hE6]; exact hE6.2.1.2
        obtain ⟨q6, hq6, hqe⟩ := hE6.2.2.2.2.2.2.2.1 i_7 (by omega)
        have hA6 := (hV.2.2.2.2.2 i_7 (by omega)).1.trans hqe
        refine lv_iload_n hx hb dX2_minute_100 rfl (lv_at hl 1 rfl) ?_
        refine lv_iconst (v := 2) hx hb dX2_minute_101 (by decide) ?_
        refine lv_icmp_ge (tgt := 116) hx hb dX2_minute_102 (by decide) (fun c_9 => (absurd ((nx_le (show ((2 : Int32)) = nI 2 from rfl) rfl (by omega) (by omega)).mp c_9) (by omega))) (fun _ => ?_)
        refine lv_aload_n hx hb dX2_minute_105 rfl (lv_at hl 0 rfl) ?_
        refine lv_iload_n hx hb dX2_minute_106 rfl (lv_at hl 1 rfl) ?_
        refine gh_callv hg (gh_runV (As := [.int (nI i_7)]) (rest := []) hC hg (j_X2_clean l V _ S ad I A P hT i_7 q6 (by omega) hq6 hA6) 1 (lw_V q2833 q2835 qs45 q104 q2836) hT.1 rfl hd_X2_clean ⟨(by first | omega | (dsimp only; omega) | exact Nat.le_of_ble_eq_true rfl), (by first | omega | (dsimp only; omega) | exact Nat.le_of_ble_eq_true rfl)⟩ rfl hl.1 rfl ((by first | omega | (dsimp only; omega) | exact Nat.le_of_ble_eq_true rfl)) dX2_minute_107 ⟨(by first | omega | (dsimp only; omega) | exact Nat.le_of_ble_eq_true rfl), (by first | omega | (dsimp only; omega) | exact Nat.le_of_ble_eq_true rfl)⟩) (fun g H locs hg hp => ?_)
        obtain ⟨hT, hF9⟩ := hp
        have hfw9 : gh_fw S [0] _ g := hF9
        have hf9 := hfw9.v
        have hF : gh_fS S g0 g := hF.tr (hfw9.fS (by decide))
        have hL : lo_P V g S (ad 9) s6 := hL.kp hf9 (by decide)
        have hD : de_P V g S (ad 10) s6 := hD.kp hf9 (by decide)
        have hPc : pc_P V g S P kx pw s6 F6 := hPc.kp hf9 (by decide)
        have hO : ot_P V g S (ad 11) P kx s6 n0 := hO.kp hf9 (by decide)
        have hG : go_P V g S (ad 12) s6 n1 := hG.kp hf9 (by decide)
        have hPl : pn_P V g S (ad 13) (I 3) s6 := hPl.kp hf9 (by decide)
        have hT : st_C V g S ad I (clA9 A i_7 q6) P := hT
        refine lv_iinc (v := (nI (i_7 + 1))) (lv' := [(2, .int (nI (i_7 + 1))), (0, .ref S)]) hx hb dX2_minute_110 hl (k := 1) rfl (nx_iinc rfl) (by decide) rfl (fun ls hl => ?_)
        refine lv_goto (tgt := 100) hx hb dX2_minute_113 (by decide) ?_
        exact ih100 _ _ _ _ hg ⟨(by rw [hcs, ← hF6]; exact ⟨ad, I, (clA9 A i_7 q6), P, _, _, _, _, hT, (cln_V hE6 (by omega) hV hA6 hq6), (hL.cg h126 hJ6.2.2.2 (fun j a b => cln1_o hE6 (show i_7 < 2 by omega) (by omega))), (hD.cg hD106 (fun j a b => cln1_o hE6 (show i_7 < 2 by omega) (by omega))), (hPc.cg (fun _ _ => rfl) (fun p k hp hk => cln1_o hE6 (show i_7 < 2 by omega) (by omega)) (fun p k hp ho hk => cln1_o hE6 (show i_7 < 2 by omega) (by have := (hJ6.1 p hp ho).1; omega))), (hO.cg (fun p k hp hk => cln1_o hE6 (show i_7 < 2 by omega) (by omega))), (hG.cg h126 (nL_cg (cln1_o hE6 (show i_7 < 2 by omega) (by omega))) (fun k n hk hn => cln1_o hE6 (show i_7 < 2 by omega) (by omega))), (hPl.cg (fun j h => cln1_o hE6 (show i_7 < 2 by omega) (by omega))), hN⟩), hF, lv_sub hl [1, 0] rfl⟩
    · intro i_5 hi83 ih83 g H locs ls hg hX
      obtain ⟨hR, hF, hl⟩ := hX
      obtain ⟨s4, hs4, hE4, hJ4, hK4, hr4, hd4⟩ := mv_facts hE hnn hM9 ht19 h600 hB9 i_5 (by omega)
      have hms := mv_s (minC s F).1 (minC s F).2.1 (nD s) i_5
      obtain ⟨x4, hx4⟩ : ∃ x, x = (mv (minC s F).1 (minC s F).2.1 (nD s) i_5) := ⟨_, rfl⟩
      rw [← hx4] at hR hs4 hms
      rw [hs4] at hE4 hJ4 hK4 hr4 hd4
      obtain ⟨adc, Ic, hSc⟩ := hR.c
      refine lv_iload_n hx hb dX2_minute_83 rfl (lv_at hl 1 rfl) ?_
      refine lv_if_lt (tgt := 98) hx hb dX2_minute_84 (by decide) (fun c_10 => (absurd c_10 (mv_ge (show i_5 < 24 by omega)))) (fun _ => ?_)
      refine lv_aload_n hx hb dX2_minute_87 rfl (lv_at hl 0 rfl) ?_
      refine lv_iload_n hx hb dX2_minute_88 rfl (lv_at hl 1 rfl) ?_
      refine W.eq (g2 := F0 mm 89 ls [.int (nI (24 - i_5 - 1)), .ref S]) (by rw [(mv_at (show i_5 < 24 by omega))] <;> rfl) ?_
      refine gh_callv hg (gh_runV (As := [.int (nI (24 - i_5 - 1))]) (rest := []) hC hg (j_X2_movePiece l V _ S N x4.1 x4.2.1 hR L D _ hE4 hJ4 hK4 hTR hN63 hr4 x4.2.2 (24 - i_5 - 1) (36 * (min (i_5 + 1) 1 - min i_5 1)) (296 * (min (i_5 + 1) 1 - min i_5 1)) (by omega) (by omega) (by omega)) 1 (lw_V q2799 q2801 qs41 q104 q2802) hSc rfl hd_X2_movePiece ⟨(by first | omega | (dsimp only; omega) | exact Nat.le_of_ble_eq_true rfl), (by first | omega | (dsimp only; omega) | exact Nat.le_of_ble_eq_true rfl)⟩ rfl hl.1 rfl ((by first | omega | (dsimp only; omega) | exact Nat.le_of_ble_eq_true rfl)) dX2_minute_89 ⟨(by first | omega | (dsimp only; omega) | exact Nat.le_of_ble_eq_true rfl), (by first | omega | (dsimp only; omega) | exact Nat.le_of_ble_eq_true rfl)⟩) (fun g H locs hg hp => ?_)
      obtain ⟨hR, hF9⟩ := hp
      have hF : gh_fS S g0 g := hF.tr hF9
      rw [hd4] at hR
      refine lv_iinc (v := (23 - nI (i_5 + 1))) (lv' := [(2, .int (23 - nI (i_5 + 1))), (0, .ref S)]) hx hb dX2_minute_92 hl (k := 1) rfl (mv_dec i_5) (by decide) rfl (fun ls hl => ?_)
      refine lv_goto (tgt := 83) hx hb dX2_minute_95 (by decide) ?_
      exact W.widen (by first | omega | (dsimp only; omega) | exact (by first | omega | (dsimp only; omega) | exact Nat.le_of_ble_eq_true rfl)) (by first | omega | (dsimp only; omega) | exact (by first | omega | (dsimp only; omega) | exact Nat.le_of_ble_eq_true rfl)) (ih83 _ _ _ _ hg ⟨(by rw [hms]; exact hR), hF, lv_sub hl [1, 0] rfl⟩)
  · intro i_3 hi35 ih35 g H locs ls hg hX
    obtain ⟨hT, hF, hL, hD, hO, hG, hPl, c_2, hPc, hl⟩ := hX
    have hi24 : i_3 < 24 := by omega
    refine lv_iload_n hx hb dX2_minute_35 rfl (lv_at hl 2 rfl) ?_
    refine lv_bipush (v := 24) hx hb dX2_minute_36 (by decide) ?_
    refine lv_icmp_ge (tgt := 71) hx hb dX2_minute_38 (by decide) (fun c_11 => (absurd ((nx_le (show ((24 : Int32)) = nI 24 from rfl) rfl (by omega) (by omega)).mp c_11) (by omega))) (fun _ => ?_)
    refine lv_aload_n hx hb dX2_minute_41 rfl (lv_at hl 0 rfl) ?_
    refine gh_get (v := .ref (ad 8)) hC hg hT.1 fX2_17_2 rfl dX2_minute_42 ?_
    refine lv_iload_n hx hb dX2_minute_45 rfl (lv_at hl 2 rfl) ?_
    refine gh_qald (n := 24) (f := P) hC hg hT.2.2 rfl rfl (by omega) (by omega) dX2_minute_46 ?_
    refine lv_ifnullQ (tgt := 65) hx hb dX2_minute_47 (by decide) (fun hq_12 => ?_) (fun y_13 hq_12 => ?_)
    · skip
      have hno : pl s2 i_3 0 = -1 := (hsS_pl (by omega) (Or.inl (by omega))).symm.trans ((pc_free hPc hi24).mp hq_12)
      refine lv_iinc (v := (nI (i_3 + 1))) (lv' := [(2, .int (nI (i_3 + 1))), (0, .ref S), (1, .ref q_1)]) hx hb dX2_minute_65 hl (k := 2) rfl (nx_iinc rfl) (by decide) rfl (fun ls hl => ?_)
      refine lv_goto (tgt := 35) hx hb dX2_minute_68 (by decide) ?_
      exact ih35 _ _ _ _ hg ⟨hT, hF, hL, hD, hO, hG, hPl, c_2, (by rw [hsS_no hno, hsF_no hno]; exact hPc), lv_sub hl [1, 2, 0] rfl⟩
    have hos : oc (hsS s2 i_3) i_3 := fun h9 => by have h8 := (hPc i_3 hi24).1 h9; rw [h8] at hq_12; cases hq_12
    have ho9 : oc s2 i_3 := hs_oc.mp hos
    obtain ⟨q9, hPq, hpp⟩ := (hPc i_3 hi24).2 hos
    obtain ⟨hqc, hky, hwa⟩ := hs_pc hi24 hpp
    obtain rfl : q9 = y_13 := Option.some.inj (hPq.symm.trans hq_12)
    have hPx := pc_P.px (p := i_3) hPc
    have hJs := hs_jp (Nat.le_of_lt hi24) hx2.1
    obtain ⟨a1, a2, a3, a4, a5⟩ := hx2.1.1 i_3 hi24 ho9
    obtain ⟨w9, hw91, hw99, hln⟩ := hE2.2.2.2.2.2.2.2.2.2 (pk s2 i_3) (wf_pc hE2 hi24 ho9).1.2
    refine lv_aload_n hx hb dX2_minute_50 rfl (lv_at hl 0 rfl) ?_
    refine gh_get (v := .ref (ad 8)) hC hg hT.1 fX2_17_2 rfl dX2_minute_51 ?_
    refine lv_iload_n hx hb dX2_minute_54 rfl (lv_at hl 2 rfl) ?_
    refine gh_qald (n := 24) (f := P) hC hg hT.2.2 rfl rfl (by omega) (by omega) dX2_minute_55 ?_
    refine W.eq (g2 := F0 mm 56 ls [.ref q9]) (by rw [hPq] <;> rfl) ?_
    refine lv_aload_n hx hb dX2_minute_56 rfl (lv_at hl 1 rfl) ?_
    refine lv_iload_n hx hb dX2_minute_57 rfl (lv_at hl 2 rfl) ?_
    refine gh_calli hg (gh_runS (As := [.int (nI i_3)]) (rest := [.ref q_1, .ref q9]) hC hg (j_X2_zoneOf l V _ i_3 (by omega)) 1 (lw_S q2712 q2713 q104 q2714) hd_X2_zoneOf.2 ⟨(by first | omega | (dsimp only; omega) | exact Nat.le_of_ble_eq_true rfl), (by first | omega | (dsimp only; omega) | exact Nat.le_of_ble_eq_true rfl)⟩ rfl hl.1 rfl ((by first | omega | (dsimp only; omega) | exact Nat.le_of_ble_eq_true rfl)) dX2_minute_58 ⟨(by first | omega | (dsimp only; omega) | exact Nat.le_of_ble_eq_true rfl), (by first | omega | (dsimp only; omega) | exact Nat.le_of_ble_eq_true rfl)⟩) (fun r_14 g H locs hg hp => ?_)
    obtain ⟨hp, hq⟩ := hp
    replace hp : (nI (i_3 / 3)) = r_14 := hp.symm
    subst hp
    rw [← hq] at hT hF hL hD hO hG hPl hPx hky hwa c_2 hqc
    try rw [← hq] at hgg
    refine gh_iald (n := 8) (f := (A2 3)) hC hg c_2 rfl (by omega) (by omega) dX2_minute_61 ?_
    refine W.eq (g2 := F0 mm 62 ls [.int (zn s2 (i_3 / 3) 3), .ref q9]) (by rw [(hV2.2.2.2.1 _ (by omega)).2.2.2.1] <;> rfl) ?_
    refine gh_callv hg (gh_runV (As := [.int (zn s2 (i_3 / 3) 3)]) (rest := []) hC hg (j_X6_goTowards l V _ q9 (kx i_3) (pw i_3) (nI i_3) (pl s2 i_3 3) (pl s2 i_3 2) (F i_3) (S, 7, (cd s2 i_3)) (kd s2 (pk s2 i_3)) w9 (zn s2 (i_3 / 3) 3) (lt s2 (pk s2 i_3) 1) B (fun h9 => absurd (show 7 = 2 from h9.2) (by decide)) hwa hln (by omega) (hzb2 _ (by omega)) (hx2.2.2.1 i_3 hi24 ho9) (by omega) (hnn i_3 hi24) hqc) 1 (lw_V q2715 q2716 q2717 q163 q2718) hqc rfl hd_X6_goTowards ⟨(by first | omega | (dsimp only; omega) | exact Nat.le_of_ble_eq_true rfl), (by first | omega | (dsimp only; omega) | exact Nat.le_of_ble_eq_true rfl)⟩ rfl hl.1 rfl ((by first | omega | (dsimp only; omega) | exact Nat.le_of_ble_eq_true rfl)) dX2_minute_62 ⟨(by first | omega | (dsimp only; omega) | exact Nat.le_of_ble_eq_true rfl), (by first | omega | (dsimp only; omega) | exact Nat.le_of_ble_eq_true rfl)⟩) (fun g H locs hg hp => ?_)
    obtain ⟨hw, hn⟩ := hp
    have c_2 : g q_1 = some ((S, 3, 1), ai V 0 8 (A2 3)) := (hn _ (gh_neK c_2 hqc rfl)).trans c_2
    have hf9 : gh_fv S [7] _ g := (gh_fw.st hqc hn).v
    have hF : gh_fS S g0 g := hF.set hqc (by decide) hn
    have hL : lo_P V g S (ad 9) s2 := hL.kp hf9 (by decide)
    have hD : de_P V g S (ad 10) s2 := hD.kp hf9 (by decide)
    have hO : ot_P V g S (ad 11) P kx s2 n0 := hO.kp hf9 (by decide)
    have hG : go_P V g S (ad 12) s2 n1 := hG.kp hf9 (by decide)
    have hPl : pn_P V g S (ad 13) (I2 3) s2 := hPl.kp hf9 (by decide)
    have hqt := hqc
    rw [← hs_cd (s := s2) (i := i_3) (p := i_3)] at hqt
    have hPx : px_P V g S P kx pw (hsS s2 i_3) (hsF s2 F i_3) i_3 := hPx.ow hJs hi24 hos hqt hn
    have hky : ky_P V g 9 (kx i_3) (cd s2 i_3) := hf9.ky (by decide) hky
    have hwa : wa_P V g (pw i_3) (kd s2 (pk s2 i_3)) (lt s2 (pk s2 i_3) 1) := hf9.wa (by decide) hwa
    have hT : st_C V g S ad I2 A2 P := hT.ne hqc (fun h9 => absurd (show 7 = 0 from h9.2) (by decide)) hn
    have hqc : g q9 = some ((S, 7, (cd s2 i_3)), oo 5 [.ref (kx i_3), .ref (pw i_3), .int (nI i_3), .int (pl s2 i_3 3), .int (gtB (zn s2 (i_3 / 3) 3) (pl s2 i_3 2) (lt s2 (pk s2 i_3) 1)), .float (gtS (zn s2 (i_3 / 3) 3) (pl s2 i_3 2) (F i_3) (kd s2 (pk s2 i_3)) (lt s2 (pk s2 i_3) 1))]) := hw
    refine lv_iinc (v := (nI (i_3 + 1))) (lv' := [(2, .int (nI (i_3 + 1))), (0, .ref S), (1, .ref q_1)]) hx hb dX2_minute_65 hl (k := 2) rfl (nx_iinc rfl) (by decide) rfl (fun ls hl => ?_)
    refine lv_goto (tgt := 35) hx hb dX2_minute_68 (by decide) ?_
    exact ih35 _ _ _ _ hg ⟨hT, hF, hL, hD, hO, hG, hPl, c_2, (hs_back hPx hi24 hx2.1 ho9 hPq (hx2.2.1 _ a1) hqc hky hwa), lv_sub hl [1, 2, 0] rfl⟩
