set_option maxRecDepth 100000
theorem hd_X1_first : yX1_first.cls = RX1 ∧ yX1_first.cls ≠ "java/lang/invoke/MethodHandle" ∧ yX1_first.cls ≠ "java/lang/invoke/VarHandle" ∧ (parseMethodDescriptor yX1_first.desc).map (fun d => d.parameters.length) = some 1 := by decide +kernel
set_option maxHeartbeats 1000000 in
set_option maxRecDepth 100000 in
theorem j_X2_whyNotLoading (l : Launch) (V : gh_V) (g0 : gh_G) (S N : Nat) (s : Nat → Int32) (F : Nat → UInt32) (hR : cw_R V g0 S s F N) (k : Nat) (hk : k < nL s) (h12 : nL s ≤ 12) (hjs : js s) : MI l yX2_whyNotLoading cX2_whyNotLoading 4 (some .int) ({ frames := 3, cells := 4, slots := 6, locals := 3080 } : Room) V [.ref S, .int (nI k)] g0 (fun r g1 => r = noLoad s k ∧ gh_fw S [] g0 g1) := by
  refine MG.ofN RX2 (by decide) rfl (Nat.le_of_ble_eq_true rfl) (fun pp ee s9 mm args below meth c ls hC hg hr hlk hnm hl => ?_)
  have hx := hC.1.1
  have hb := hC.1.2.1
  have hml := hC.1.2.2.1
  have hown := hC.1.2.2.2.1
  have hts := hC.1.2.2.2.2
  have hl : lv_has ls 4 [(0, .ref S), (1, .int (nI k))] := hl
  obtain ⟨g, hg, hgg⟩ : ∃ g, gh_W V (gh_A g0 s9.heap.size) s9 g s9.heap [] ∧ g = g0 := ⟨g0, hg, rfl⟩
  obtain ⟨ad, I, A, P, kx, pw, n0, n1, hT, hV, hL, hD, hPc, hO, hG, hPl, hN⟩ := hR
  rw [← hgg] at hT hL hD hPc hO hG hPl
  have hF : gh_fw S [] g0 g := by rw [hgg]; exact gh_fw.rf
  obtain ⟨es, la, lw, fa, hAL, hLo⟩ := hL
  obtain ⟨vs_hlc, hlc⟩ := hAL.c
  obtain ⟨hlq, hla, hlw, hlf⟩ := hLo k hk
  have hPz : P 0 = none ↔ pl s 0 0 = -1 := ⟨fun h => Classical.byContradiction (fun n => by obtain ⟨q, h1, -⟩ := (hPc 0 (by omega)).2 n; rw [h1] at h; cases h), (hPc 0 (by omega)).1⟩
  have h50 := hV.2.2.2.2.1 0 (by omega)
  have hb9 : A 5 0 = 0 ∨ A 5 0 = 1 := by rw [h50]; exact hjs.1 0 (by omega)
  refine lv_aload_n hx hb dX2_whyNotLoading_0 rfl (lv_at hl 0 rfl) ?_
  refine gh_get (v := .ref (ad 9)) hC hg hT.1 fX2_24_2 rfl dX2_whyNotLoading_1 ?_
  refine lv_iload_n hx hb dX2_whyNotLoading_4 rfl (lv_at hl 1 rfl) ?_
  refine gh_callFq hg (gh_runF (x := ⟨"java/util/List", "get", "(I)Ljava/lang/Object;"⟩) (As := [.int (nI k)]) (rest := []) hC hg (j_J2_get l V _ (ad 9) S 12 (nL s) es hAL (nI k) k rfl (by omega)) 1 (lw_F q1361 q1338 q1336 q107 q1340) hlc rfl (by decide +kernel) q1339 q1337 q1148 hdF_List_get_1 ⟨Nat.le_of_ble_eq_true rfl, Nat.le_of_ble_eq_true rfl⟩ rfl hl.1 rfl (Nat.le_of_ble_eq_true rfl) dX2_whyNotLoading_5 ⟨Nat.le_of_ble_eq_true rfl, Nat.le_of_ble_eq_true rfl⟩) (fun r_1 g H locs hg hp => ?_)
  obtain ⟨hp, hq⟩ := hp
  subst hp
  rw [← hq] at hT hD hPc hO hG hPl hF hAL hLo hlw hlc hlq hla
  try rw [← hq] at hgg
  refine W.eq (g2 := F0 mm 10 ls [.ref (es k)]) rfl ?_
  refine gh_castS hC hg hlq rfl q1362 dX2_whyNotLoading_10 ?_
  refine lv_astore_n (lv' := [(2, .ref (es k)), (0, .ref S), (1, .int (nI k))]) hx hb dX2_whyNotLoading_13 rfl hl (by decide) rfl (fun ls hl => ?_)
  refine lv_iconst (v := 3) hx hb dX2_whyNotLoading_14 (by decide) ?_
  refine gh_newq (k := 8) hC hg (fun q9 => (S, 3, 0)) rfl q1628 (hC.2.2.1.1 _ (gh_nwm q1629 rfl)) (show ((3 : Int32)) = nI 3 from rfl) (by omega) (Nat.le_of_ble_eq_true rfl) (Nat.le_of_ble_eq_true rfl) dX2_whyNotLoading_15 (fun q_2 g H hg h0 hw hn => ?_)
  have hlc : g (ad 9) = some ((S, 12, 0), oo 12 vs_hlc) := (hn _ (gh_neN hlc h0)).trans hlc
  have hlq : g (es k) = some ((S, 4, k), oo 3 [.ref (lw k), .ref (la k), .int (lt s k 2), .int (lt s k 3), .int (lt s k 4)]) := (hn _ (gh_neN hlq h0)).trans hlq
  have hla : g (la k) = some ((S, 5, k), ai V 0 5 (fa k)) := (hn _ (gh_neN hla h0)).trans hla
  have hf9 : gh_fv S [] _ g := (gh_fw.nw h0 hn).v
  have hD : de_P V g S (ad 10) s := hD.kp hf9 (by decide)
  have hPc : pc_P V g S P kx pw s F := hPc.kp hf9 (by decide)
  have hO : ot_P V g S (ad 11) P kx s n0 := hO.kp hf9 (by decide)
  have hG : go_P V g S (ad 12) s n1 := hG.kp hf9 (by decide)
  have hPl : pn_P V g S (ad 13) (I 3) s := hPl.kp hf9 (by decide)
  have h00_q_2 : g0 q_2 = none := hF.non h0
  have hF : gh_fw S [] g0 g := hF.new h0 hn
  have hAL : al_P V S 12 g (ad 9) (nL s) es := hf9.al (by decide) hAL
  have hLo : ∀ k, k < nL s → lo1 V g S s k (es k) (la k) (lw k) (fa k) := fun k hk => (hLo k hk).kp hf9 (by decide)
  have hlw : wa_P V g (lw k) (kd s k) (lt s k 1) := hf9.wa (by decide) hlw
  have hT : st_C V g S ad I A P := hT.nw h0 hn
  have c_3 : g q_2 = some ((S, 3, 0), aq V 8 3 (fun _ => none)) := hw
  refine lv_dup hx hb dX2_whyNotLoading_18 rfl ?_
  refine lv_iconst (v := 0) hx hb dX2_whyNotLoading_19 (by decide) ?_
  refine lv_aload_n hx hb dX2_whyNotLoading_20 rfl (lv_at hl 0 rfl) ?_
  refine gh_ln5 (rest := [.int 0, .ref q_2, .ref q_2]) hC hg hnm (fun q9 => (S, 3, 1)) hl.1 rfl (Nat.le_of_ble_eq_true rfl) (Nat.le_of_ble_eq_true rfl) (Nat.le_of_ble_eq_true rfl) (Nat.le_of_ble_eq_true rfl) dX2_whyNotLoading_21 (fun q_4 g H hg h0 hw hn => ?_)
  have hlc : g (ad 9) = some ((S, 12, 0), oo 12 vs_hlc) := (hn _ (gh_neN hlc h0)).trans hlc
  have hlq : g (es k) = some ((S, 4, k), oo 3 [.ref (lw k), .ref (la k), .int (lt s k 2), .int (lt s k 3), .int (lt s k 4)]) := (hn _ (gh_neN hlq h0)).trans hlq
  have hla : g (la k) = some ((S, 5, k), ai V 0 5 (fa k)) := (hn _ (gh_neN hla h0)).trans hla
  have c_3 : g q_2 = some ((S, 3, 0), aq V 8 3 (fun _ => none)) := (hn _ (gh_neN c_3 h0)).trans c_3
  have hf9 : gh_fv S [] _ g := (gh_fw.nw h0 hn).v
  have hD : de_P V g S (ad 10) s := hD.kp hf9 (by decide)
  have hPc : pc_P V g S P kx pw s F := hPc.kp hf9 (by decide)
  have hO : ot_P V g S (ad 11) P kx s n0 := hO.kp hf9 (by decide)
  have hG : go_P V g S (ad 12) s n1 := hG.kp hf9 (by decide)
  have hPl : pn_P V g S (ad 13) (I 3) s := hPl.kp hf9 (by decide)
  have h00_q_4 : g0 q_4 = none := hF.non h0
  have hF : gh_fw S [] g0 g := hF.new h0 hn
  have hAL : al_P V S 12 g (ad 9) (nL s) es := hf9.al (by decide) hAL
  have hLo : ∀ k, k < nL s → lo1 V g S s k (es k) (la k) (lw k) (fa k) := fun k hk => (hLo k hk).kp hf9 (by decide)
  have hlw : wa_P V g (lw k) (kd s k) (lt s k 1) := hf9.wa (by decide) hlw
  have hT : st_C V g S ad I A P := hT.nw h0 hn
  have c_5 : g q_4 = some ((S, 3, 1), lam_ob V 5 [.ref (es k)]) := hw
  refine gh_qastL (n := 3) (f := (fun _ => none)) hC hg c_3 rfl c_5 lam_w5 lam_k5 rfl (show ((0 : Int32)) = nI 0 from rfl) (by omega) (by omega) dX2_whyNotLoading_26 (fun g H locs hg hw hn => ?_)
  have hlc : g (ad 9) = some ((S, 12, 0), oo 12 vs_hlc) := (hn _ (gh_neK hlc c_3 rfl)).trans hlc
  have hlq : g (es k) = some ((S, 4, k), oo 3 [.ref (lw k), .ref (la k), .int (lt s k 2), .int (lt s k 3), .int (lt s k 4)]) := (hn _ (gh_neK hlq c_3 rfl)).trans hlq
  have hla : g (la k) = some ((S, 5, k), ai V 0 5 (fa k)) := (hn _ (gh_neK hla c_3 rfl)).trans hla
  have c_5 : g q_4 = some ((S, 3, 1), lam_ob V 5 [.ref (es k)]) := (hn _ (gh_neI c_5 c_3 rfl)).trans c_5
  have hf9 : gh_fv S [3] _ g := (gh_fw.st c_3 hn).v
  have hD : de_P V g S (ad 10) s := hD.kp hf9 (by decide)
  have hPc : pc_P V g S P kx pw s F := hPc.kp hf9 (by decide)
  have hO : ot_P V g S (ad 11) P kx s n0 := hO.kp hf9 (by decide)
  have hG : go_P V g S (ad 12) s n1 := hG.kp hf9 (by decide)
  have hPl : pn_P V g S (ad 13) (I 3) s := hPl.kp hf9 (by decide)
  have hF : gh_fw S [] g0 g := hF.setn h00_q_2 hn
  have hAL : al_P V S 12 g (ad 9) (nL s) es := hf9.al (by decide) hAL
  have hLo : ∀ k, k < nL s → lo1 V g S s k (es k) (la k) (lw k) (fa k) := fun k hk => (hLo k hk).kp hf9 (by decide)
  have hlw : wa_P V g (lw k) (kd s k) (lt s k 1) := hf9.wa (by decide) hlw
  have hT : st_C V g S ad I A P := hT.ne c_3 (fun h9 => absurd (show 3 = 0 from h9.2) (by decide)) hn
  have c_3 : g q_2 = some ((S, 3, 0), aq V 8 3 (va_up (fun _ => none) 0 (some q_4))) := hw
  refine lv_dup hx hb dX2_whyNotLoading_27 rfl ?_
  refine lv_iconst (v := 1) hx hb dX2_whyNotLoading_28 (by decide) ?_
  refine lv_aload_n hx hb dX2_whyNotLoading_29 rfl (lv_at hl 1 rfl) ?_
  refine gh_ln6 (rest := [.int 1, .ref q_2, .ref q_2]) hC hg hnm (fun q9 => (S, 3, 2)) hl.1 rfl (Nat.le_of_ble_eq_true rfl) (Nat.le_of_ble_eq_true rfl) (Nat.le_of_ble_eq_true rfl) (Nat.le_of_ble_eq_true rfl) dX2_whyNotLoading_30 (fun q_6 g H hg h0 hw hn => ?_)
  have hlc : g (ad 9) = some ((S, 12, 0), oo 12 vs_hlc) := (hn _ (gh_neN hlc h0)).trans hlc
  have hlq : g (es k) = some ((S, 4, k), oo 3 [.ref (lw k), .ref (la k), .int (lt s k 2), .int (lt s k 3), .int (lt s k 4)]) := (hn _ (gh_neN hlq h0)).trans hlq
  have hla : g (la k) = some ((S, 5, k), ai V 0 5 (fa k)) := (hn _ (gh_neN hla h0)).trans hla
  have c_3 : g q_2 = some ((S, 3, 0), aq V 8 3 (va_up (fun _ => none) 0 (some q_4))) := (hn _ (gh_neN c_3 h0)).trans c_3
  have c_5 : g q_4 = some ((S, 3, 1), lam_ob V 5 [.ref (es k)]) := (hn _ (gh_neN c_5 h0)).trans c_5
  have hf9 : gh_fv S [] _ g := (gh_fw.nw h0 hn).v
  have hD : de_P V g S (ad 10) s := hD.kp hf9 (by decide)
  have hPc : pc_P V g S P kx pw s F := hPc.kp hf9 (by decide)
  have hO : ot_P V g S (ad 11) P kx s n0 := hO.kp hf9 (by decide)
  have hG : go_P V g S (ad 12) s n1 := hG.kp hf9 (by decide)
  have hPl : pn_P V g S (ad 13) (I 3) s := hPl.kp hf9 (by decide)
  have h00_q_6 : g0 q_6 = none := hF.non h0
  have hF : gh_fw S [] g0 g := hF.new h0 hn
  have hAL : al_P V S 12 g (ad 9) (nL s) es := hf9.al (by decide) hAL
  have hLo : ∀ k, k < nL s → lo1 V g S s k (es k) (la k) (lw k) (fa k) := fun k hk => (hLo k hk).kp hf9 (by decide)
  have hlw : wa_P V g (lw k) (kd s k) (lt s k 1) := hf9.wa (by decide) hlw
  have hT : st_C V g S ad I A P := hT.nw h0 hn
  have c_7 : g q_6 = some ((S, 3, 2), lam_ob V 6 [.ref S]) := hw
  refine gh_qastL (n := 3) (f := (va_up (fun _ => none) 0 (some q_4))) hC hg c_3 rfl c_7 lam_w6 lam_k6 rfl (show ((1 : Int32)) = nI 1 from rfl) (by omega) (by omega) dX2_whyNotLoading_35 (fun g H locs hg hw hn => ?_)
  have hlc : g (ad 9) = some ((S, 12, 0), oo 12 vs_hlc) := (hn _ (gh_neK hlc c_3 rfl)).trans hlc
  have hlq : g (es k) = some ((S, 4, k), oo 3 [.ref (lw k), .ref (la k), .int (lt s k 2), .int (lt s k 3), .int (lt s k 4)]) := (hn _ (gh_neK hlq c_3 rfl)).trans hlq
  have hla : g (la k) = some ((S, 5, k), ai V 0 5 (fa k)) := (hn _ (gh_neK hla c_3 rfl)).trans hla
  have c_5 : g q_4 = some ((S, 3, 1), lam_ob V 5 [.ref (es k)]) := (hn _ (gh_neI c_5 c_3 rfl)).trans c_5
  have c_7 : g q_6 = some ((S, 3, 2), lam_ob V 6 [.ref S]) := (hn _ (gh_neI c_7 c_3 rfl)).trans c_7
  have hf9 : gh_fv S [3] _ g := (gh_fw.st c_3 hn).v
  have hD : de_P V g S (ad 10) s := hD.kp hf9 (by decide)
  have hPc : pc_P V g S P kx pw s F := hPc.kp hf9 (by decide)
  have hO : ot_P V g S (ad 11) P kx s n0 := hO.kp hf9 (by decide)
  have hG : go_P V g S (ad 12) s n1 := hG.kp hf9 (by decide)
  have hPl : pn_P V g S (ad 13) (I 3) s := hPl.kp hf9 (by decide)
  have hF : gh_fw S [] g0 g := hF.setn h00_q_2 hn
  have hAL : al_P V S 12 g (ad 9) (nL s) es := hf9.al (by decide) hAL
  have hLo : ∀ k, k < nL s → lo1 V g S s k (es k) (la k) (lw k) (fa k) := fun k hk => (hLo k hk).kp hf9 (by decide)
  have hlw : wa_P V g (lw k) (kd s k) (lt s k 1) := hf9.wa (by decide) hlw
  have hT : st_C V g S ad I A P := hT.ne c_3 (fun h9 => absurd (show 3 = 0 from h9.2) (by decide)) hn
  have c_3 : g q_2 = some ((S, 3, 0), aq V 8 3 (va_up (va_up (fun _ => none) 0 (some q_4)) 1 (some q_6))) := hw
  refine lv_dup hx hb dX2_whyNotLoading_36 rfl ?_
  refine lv_iconst (v := 2) hx hb dX2_whyNotLoading_37 (by decide) ?_
  refine lv_aload_n hx hb dX2_whyNotLoading_38 rfl (lv_at hl 1 rfl) ?_
  refine gh_ln7 (rest := [.int 2, .ref q_2, .ref q_2]) hC hg hnm (fun q9 => (S, 3, 3)) hl.1 rfl (Nat.le_of_ble_eq_true rfl) (Nat.le_of_ble_eq_true rfl) (Nat.le_of_ble_eq_true rfl) (Nat.le_of_ble_eq_true rfl) dX2_whyNotLoading_39 (fun q_8 g H hg h0 hw hn => ?_)
  have hlc : g (ad 9) = some ((S, 12, 0), oo 12 vs_hlc) := (hn _ (gh_neN hlc h0)).trans hlc
  have hlq : g (es k) = some ((S, 4, k), oo 3 [.ref (lw k), .ref (la k), .int (lt s k 2), .int (lt s k 3), .int (lt s k 4)]) := (hn _ (gh_neN hlq h0)).trans hlq
  have hla : g (la k) = some ((S, 5, k), ai V 0 5 (fa k)) := (hn _ (gh_neN hla h0)).trans hla
  have c_3 : g q_2 = some ((S, 3, 0), aq V 8 3 (va_up (va_up (fun _ => none) 0 (some q_4)) 1 (some q_6))) := (hn _ (gh_neN c_3 h0)).trans c_3
  have c_5 : g q_4 = some ((S, 3, 1), lam_ob V 5 [.ref (es k)]) := (hn _ (gh_neN c_5 h0)).trans c_5
  have c_7 : g q_6 = some ((S, 3, 2), lam_ob V 6 [.ref S]) := (hn _ (gh_neN c_7 h0)).trans c_7
  have hf9 : gh_fv S [] _ g := (gh_fw.nw h0 hn).v
  have hD : de_P V g S (ad 10) s := hD.kp hf9 (by decide)
  have hPc : pc_P V g S P kx pw s F := hPc.kp hf9 (by decide)
  have hO : ot_P V g S (ad 11) P kx s n0 := hO.kp hf9 (by decide)
  have hG : go_P V g S (ad 12) s n1 := hG.kp hf9 (by decide)
  have hPl : pn_P V g S (ad 13) (I 3) s := hPl.kp hf9 (by decide)
  have h00_q_8 : g0 q_8 = none := hF.non h0
  have hF : gh_fw S [] g0 g := hF.new h0 hn
  have hAL : al_P V S 12 g (ad 9) (nL s) es := hf9.al (by decide) hAL
  have hLo : ∀ k, k < nL s → lo1 V g S s k (es k) (la k) (lw k) (fa k) := fun k hk => (hLo k hk).kp hf9 (by decide)
  have hlw : wa_P V g (lw k) (kd s k) (lt s k 1) := hf9.wa (by decide) hlw
  have hT : st_C V g S ad I A P := hT.nw h0 hn
  have c_9 : g q_8 = some ((S, 3, 3), lam_ob V 7 [.ref S]) := hw
  refine gh_qastL (n := 3) (f := (va_up (va_up (fun _ => none) 0 (some q_4)) 1 (some q_6))) hC hg c_3 rfl c_9 lam_w7 lam_k7 rfl (show ((2 : Int32)) = nI 2 from rfl) (by omega) (by omega) dX2_whyNotLoading_44 (fun g H locs hg hw hn => ?_)
  have hlc : g (ad 9) = some ((S, 12, 0), oo 12 vs_hlc) := (hn _ (gh_neK hlc c_3 rfl)).trans hlc
  have hlq : g (es k) = some ((S, 4, k), oo 3 [.ref (lw k), .ref (la k), .int (lt s k 2), .int (lt s k 3), .int (lt s k 4)]) := (hn _ (gh_neK hlq c_3 rfl)).trans hlq
  have hla : g (la k) = some ((S, 5, k), ai V 0 5 (fa k)) := (hn _ (gh_neK hla c_3 rfl)).trans hla
  have c_5 : g q_4 = some ((S, 3, 1), lam_ob V 5 [.ref (es k)]) := (hn _ (gh_neI c_5 c_3 rfl)).trans c_5
  have c_7 : g q_6 = some ((S, 3, 2), lam_ob V 6 [.ref S]) := (hn _ (gh_neI c_7 c_3 rfl)).trans c_7
  have c_9 : g q_8 = some ((S, 3, 3), lam_ob V 7 [.ref S]) := (hn _ (gh_neI c_9 c_3 rfl)).trans c_9
  have hf9 : gh_fv S [3] _ g := (gh_fw.st c_3 hn).v
  have hD : de_P V g S (ad 10) s := hD.kp hf9 (by decide)
  have hPc : pc_P V g S P kx pw s F := hPc.kp hf9 (by decide)
  have hO : ot_P V g S (ad 11) P kx s n0 := hO.kp hf9 (by decide)
  have hG : go_P V g S (ad 12) s n1 := hG.kp hf9 (by decide)
  have hPl : pn_P V g S (ad 13) (I 3) s := hPl.kp hf9 (by decide)
  have hF : gh_fw S [] g0 g := hF.setn h00_q_2 hn
  have hAL : al_P V S 12 g (ad 9) (nL s) es := hf9.al (by decide) hAL
  have hLo : ∀ k, k < nL s → lo1 V g S s k (es k) (la k) (lw k) (fa k) := fun k hk => (hLo k hk).kp hf9 (by decide)
  have hlw : wa_P V g (lw k) (kd s k) (lt s k 1) := hf9.wa (by decide) hlw
  have hT : st_C V g S ad I A P := hT.ne c_3 (fun h9 => absurd (show 3 = 0 from h9.2) (by decide)) hn
  have c_3 : g q_2 = some ((S, 3, 0), aq V 8 3 (va_up (va_up (va_up (fun _ => none) 0 (some q_4)) 1 (some q_6)) 2 (some q_8))) := hw
  refine lv_astore_n (lv' := [(3, .ref q_2), (2, .ref (es k)), (0, .ref S), (1, .int (nI k))]) hx hb dX2_whyNotLoading_45 rfl hl (by decide) rfl (fun ls hl => ?_)
  refine lv_aload_n hx hb dX2_whyNotLoading_46 rfl (lv_at hl 0 rfl) ?_
  refine gh_calli hg (gh_runSN (As := [.ref q_2]) (rest := []) hC hg (j_X1_first_L l V _ S ad I A P hT _ _ _ _ _ _ _ _ (va_up (va_up (va_up (fun _ => none) 0 (some q_4)) 1 (some q_6)) 2 (some q_8)) c_3 rfl rfl rfl _ _ _ _ _ _ _ hlq hb9 c_5 c_7 c_9) 1 q1638 q1639 q103 q1640 hd_X1_first.2 ⟨Nat.le_of_ble_eq_true rfl, Nat.le_of_ble_eq_true rfl⟩ rfl hl.1 rfl (Nat.le_of_ble_eq_true rfl) dX2_whyNotLoading_47 ⟨Nat.le_of_ble_eq_true rfl, Nat.le_of_ble_eq_true rfl⟩) (fun r_10 g H locs hg hp => ?_)
  obtain ⟨hp, hq⟩ := hp
  replace hp : (fst3 (if lt s k 2 = 20 then 1 else 0) (if P 0 = none then 0 else 1) (A 5 0)) = r_10 := hp.symm
  subst hp
  rw [← hq] at hT hD hPc hO hG hPl hF hAL hLo hlw hlc hlq hla c_3 c_5 c_7 c_9
  try rw [← hq] at hgg
  refine W.eq (g2 := F0 mm 50 ls [.int (noLoad s k)]) (by rw [(fst3_L hPz h50 hb9)] <;> rfl) ?_
  exact gh_reti hC hg hr hlk (⟨rfl, hF⟩) dX2_whyNotLoading_50 (Nat.le_of_ble_eq_true rfl) (Nat.le_of_ble_eq_true rfl)
set_option maxHeartbeats 1000000 in
set_option maxRecDepth 100000 in
theorem j_X2_whyNotCleaning (l : Launch) (V : gh_V) (g0 : gh_G) (S N : Nat) (s : Nat → Int32) (F : Nat → UInt32) (hR : cw_R V g0 S s F N) (c9 p9 : Nat) (hc2 : c9 < 2) (hp24 : p9 < 24) : MI l yX2_whyNotCleaning cX2_whyNotCleaning 5 (some .int) ({ frames := 3, cells := 4, slots := 10, locals := 3080 } : Room) V [.ref S, .int (nI c9), .int (nI p9)] g0 (fun r g1 => r = noCln s c9 p9 ∧ gh_fw S [] g0 g1) := by
  refine MG.ofN RX2 (by decide) rfl (Nat.le_of_ble_eq_true rfl) (fun pp ee s9 mm args below meth c ls hC hg hr hlk hnm hl => ?_)
  have hx := hC.1.1
  have hb := hC.1.2.1
  have hml := hC.1.2.2.1
  have hown := hC.1.2.2.2.1
  have hts := hC.1.2.2.2.2
  have hl : lv_has ls 5 [(0, .ref S), (1, .int (nI c9)), (2, .int (nI p9))] := hl
  obtain ⟨g, hg, hgg⟩ : ∃ g, gh_W V (gh_A g0 s9.heap.size) s9 g s9.heap [] ∧ g = g0 := ⟨g0, hg, rfl⟩
  obtain ⟨ad, I, A, P, kx, pw, n0, n1, hT, hV, hL, hD, hPc, hO, hG, hPl, hN⟩ := hR
  rw [← hgg] at hT hL hD hPc hO hG hPl
  have hF : gh_fw S [] g0 g := by rw [hgg]; exact gh_fw.rf
  have ho2 : 1 - c9 < 2 := by omega
  have hoe : (1 : Int32) - nI c9 = nI (1 - c9) := nx_sub (a := 1) rfl rfl (by omega)
  have h5p := hV.2.2.2.2.1 p9 hp24
  obtain ⟨h6c, h7c⟩ := hV.2.2.2.2.2 c9 hc2
  obtain ⟨h6o, h7o⟩ := hV.2.2.2.2.2 (1 - c9) ho2
  refine lv_iconst (v := 1) hx hb dX2_whyNotCleaning_0 (by decide) ?_
  refine lv_iload_n hx hb dX2_whyNotCleaning_1 rfl (lv_at hl 1 rfl) ?_
  refine lv_isub hx hb dX2_whyNotCleaning_2 ?_
  refine W.eq (g2 := F0 mm 3 ls [.int (nI (1 - c9))]) (by rw [hoe] <;> rfl) ?_
  refine lv_istore_n (lv' := [(3, .int (nI (1 - c9))), (0, .ref S), (1, .int (nI c9)), (2, .int (nI p9))]) hx hb dX2_whyNotCleaning_3 rfl hl (by decide) rfl (fun ls hl => ?_)
  refine lv_iconst (v := 3) hx hb dX2_whyNotCleaning_4 (by decide) ?_
  refine gh_newq (k := 8) hC hg (fun q9 => (S, 3, 0)) rfl q1628 (hC.2.2.1.1 _ (gh_nwm q1629 rfl)) (show ((3 : Int32)) = nI 3 from rfl) (by omega) (Nat.le_of_ble_eq_true rfl) (Nat.le_of_ble_eq_true rfl) dX2_whyNotCleaning_5 (fun q_1 g H hg h0 hw hn => ?_)
  have hf9 : gh_fv S [] _ g := (gh_fw.nw h0 hn).v
  have hL : lo_P V g S (ad 9) s := hL.kp hf9 (by decide)
  have hD : de_P V g S (ad 10) s := hD.kp hf9 (by decide)
  have hPc : pc_P V g S P kx pw s F := hPc.kp hf9 (by decide)
  have hO : ot_P V g S (ad 11) P kx s n0 := hO.kp hf9 (by decide)
  have hG : go_P V g S (ad 12) s n1 := hG.kp hf9 (by decide)
  have hPl : pn_P V g S (ad 13) (I 3) s := hPl.kp hf9 (by decide)
  have h00_q_1 : g0 q_1 = none := hF.non h0
  have hF : gh_fw S [] g0 g := hF.new h0 hn
  have hT : st_C V g S ad I A P := hT.nw h0 hn
  have c_2 : g q_1 = some ((S, 3, 0), aq V 8 3 (fun _ => none)) := hw
  refine lv_dup hx hb dX2_whyNotCleaning_8 rfl ?_
  refine lv_iconst (v := 0) hx hb dX2_whyNotCleaning_9 (by decide) ?_
  refine lv_aload_n hx hb dX2_whyNotCleaning_10 rfl (lv_at hl 1 rfl) ?_
  refine lv_iload_n hx hb dX2_whyNotCleaning_11 rfl (lv_at hl 2 rfl) ?_
  refine gh_ln9 (rest := [.int 0, .ref q_1, .ref q_1]) hC hg hnm (fun q9 => (S, 3, 1)) hl.1 rfl (Nat.le_of_ble_eq_true rfl) (Nat.le_of_ble_eq_true rfl) (Nat.le_of_ble_eq_true rfl) (Nat.le_of_ble_eq_true rfl) dX2_whyNotCleaning_12 (fun q_3 g H hg h0 hw hn => ?_)
  have c_2 : g q_1 = some ((S, 3, 0), aq V 8 3 (fun _ => none)) := (hn _ (gh_neN c_2 h0)).trans c_2
  have hf9 : gh_fv S [] _ g := (gh_fw.nw h0 hn).v
  have hL : lo_P V g S (ad 9) s := hL.kp hf9 (by decide)
  have hD : de_P V g S (ad 10) s := hD.kp hf9 (by decide)
  have hPc : pc_P V g S P kx pw s F := hPc.kp hf9 (by decide)
  have hO : ot_P V g S (ad 11) P kx s n0 := hO.kp hf9 (by decide)
  have hG : go_P V g S (ad 12) s n1 := hG.kp hf9 (by decide)
  have hPl : pn_P V g S (ad 13) (I 3) s := hPl.kp hf9 (by decide)
  have h00_q_3 : g0 q_3 = none := hF.non h0
  have hF : gh_fw S [] g0 g := hF.new h0 hn
  have hT : st_C V g S ad I A P := hT.nw h0 hn
  have c_4 : g q_3 = some ((S, 3, 1), lam_ob V 9 [.ref S, .int (nI c9)]) := hw
  refine gh_qastL (n := 3) (f := (fun _ => none)) hC hg c_2 rfl c_4 lam_w9 lam_k9 rfl (show ((0 : Int32)) = nI 0 from rfl) (by omega) (by omega) dX2_whyNotCleaning_17 (fun g H locs hg hw hn => ?_)
  have c_4 : g q_3 = some ((S, 3, 1), lam_ob V 9 [.ref S, .int (nI c9)]) := (hn _ (gh_neI c_4 c_2 rfl)).trans c_4
  have hf9 : gh_fv S [3] _ g := (gh_fw.st c_2 hn).v
  have hL : lo_P V g S (ad 9) s := hL.kp hf9 (by decide)
  have hD : de_P V g S (ad 10) s := hD.kp hf9 (by decide)
  have hPc : pc_P V g S P kx pw s F := hPc.kp hf9 (by decide)
  have hO : ot_P V g S (ad 11) P kx s n0 := hO.kp hf9 (by decide)
  have hG : go_P V g S (ad 12) s n1 := hG.kp hf9 (by decide)
  have hPl : pn_P V g S (ad 13) (I 3) s := hPl.kp hf9 (by decide)
  have hF : gh_fw S [] g0 g := hF.setn h00_q_1 hn
  have hT : st_C V g S ad I A P := hT.ne c_2 (fun h9 => absurd (show 3 = 0 from h9.2) (by decide)) hn
  have c_2 : g q_1 = some ((S, 3, 0), aq V 8 3 (va_up (fun _ => none) 0 (some q_3))) := hw
  refine lv_dup hx hb dX2_whyNotCleaning_18 rfl ?_
  refine lv_iconst (v := 1) hx hb dX2_whyNotCleaning_19 (by decide) ?_
  refine lv_aload_n hx hb dX2_whyNotCleaning_20 rfl (lv_at hl 1 rfl) ?_
  refine lv_iload_n hx hb dX2_whyNotCleaning_21 rfl (lv_at hl 3 rfl) ?_
  refine gh_ln10 (rest := [.int 1, .ref q_1, .ref q_1]) hC hg hnm (fun q9 => (S, 3, 2)) hl.1 rfl (Nat.le_of_ble_eq_true rfl) (Nat.le_of_ble_eq_true rfl) (Nat.le_of_ble_eq_true rfl) (Nat.le_of_ble_eq_true rfl) dX2_whyNotCleaning_22 (fun q_5 g H hg h0 hw hn => ?_)
  have c_2 : g q_1 = some ((S, 3, 0), aq V 8 3 (va_up (fun _ => none) 0 (some q_3))) := (hn _ (gh_neN c_2 h0)).trans c_2
  have c_4 : g q_3 = some ((S, 3, 1), lam_ob V 9 [.ref S, .int (nI c9)]) := (hn _ (gh_neN c_4 h0)).trans c_4
  have hf9 : gh_fv S [] _ g := (gh_fw.nw h0 hn).v
  have hL : lo_P V g S (ad 9) s := hL.kp hf9 (by decide)
  have hD : de_P V g S (ad 10) s := hD.kp hf9 (by decide)
  have hPc : pc_P V g S P kx pw s F := hPc.kp hf9 (by decide)
  have hO : ot_P V g S (ad 11) P kx s n0 := hO.kp hf9 (by decide)
  have hG : go_P V g S (ad 12) s n1 := hG.kp hf9 (by decide)
  have hPl : pn_P V g S (ad 13) (I 3) s := hPl.kp hf9 (by decide)
  have h00_q_5 : g0 q_5 = none := hF.non h0
  have hF : gh_fw S [] g0 g := hF.new h0 hn
  have hT : st_C V g S ad I A P := hT.nw h0 hn
  have c_6 : g q_5 = some ((S, 3, 2), lam_ob V 10 [.ref S, .int (nI p9)]) := hw
  refine gh_qastL (n := 3) (f := (va_up (fun _ => none) 0 (some q_3))) hC hg c_2 rfl c_6 lam_w10 lam_k10 rfl (show ((1 : Int32)) = nI 1 from rfl) (by omega) (by omega) dX2_whyNotCleaning_27 (fun g H locs hg hw hn => ?_)
  have c_4 : g q_3 = some ((S, 3, 1), lam_ob V 9 [.ref S, .int (nI c9)]) := (hn _ (gh_neI c_4 c_2 rfl)).trans c_4
  have c_6 : g q_5 = some ((S, 3, 2), lam_ob V 10 [.ref S, .int (nI p9)]) := (hn _ (gh_neI c_6 c_2 rfl)).trans c_6
  have hf9 : gh_fv S [3] _ g := (gh_fw.st c_2 hn).v
  have hL : lo_P V g S (ad 9) s := hL.kp hf9 (by decide)
  have hD : de_P V g S (ad 10) s := hD.kp hf9 (by decide)
  have hPc : pc_P V g S P kx pw s F := hPc.kp hf9 (by decide)
  have hO : ot_P V g S (ad 11) P kx s n0 := hO.kp hf9 (by decide)
  have hG : go_P V g S (ad 12) s n1 := hG.kp hf9 (by decide)
  have hPl : pn_P V g S (ad 13) (I 3) s := hPl.kp hf9 (by decide)
  have hF : gh_fw S [] g0 g := hF.setn h00_q_1 hn
  have hT : st_C V g S ad I A P := hT.ne c_2 (fun h9 => absurd (show 3 = 0 from h9.2) (by decide)) hn
  have c_2 : g q_1 = some ((S, 3, 0), aq V 8 3 (va_up (va_up (fun _ => none) 0 (some q_3)) 1 (some q_5))) := hw
  refine lv_dup hx hb dX2_whyNotCleaning_28 rfl ?_
  refine lv_iconst (v := 2) hx hb dX2_whyNotCleaning_29 (by decide) ?_
  refine lv_aload_n hx hb dX2_whyNotCleaning_30 rfl (lv_at hl 1 rfl) ?_
  refine lv_iload_n hx hb dX2_whyNotCleaning_31 rfl (lv_at hl 0 rfl) ?_
  refine lv_iload_n hx hb dX2_whyNotCleaning_32 rfl (lv_at hl 3 rfl) ?_
  refine gh_ln11 (rest := [.int 2, .ref q_1, .ref q_1]) hC hg hnm (fun q9 => (S, 3, 3)) hl.1 rfl (Nat.le_of_ble_eq_true rfl) (Nat.le_of_ble_eq_true rfl) (Nat.le_of_ble_eq_true rfl) (Nat.le_of_ble_eq_true rfl) dX2_whyNotCleaning_33 (fun q_7 g H hg h0 hw hn => ?_)
  have c_2 : g q_1 = some ((S, 3, 0), aq V 8 3 (va_up (va_up (fun _ => none) 0 (some q_3)) 1 (some q_5))) := (hn _ (gh_neN c_2 h0)).trans c_2
  have c_4 : g q_3 = some ((S, 3, 1), lam_ob V 9 [.ref S, .int (nI c9)]) := (hn _ (gh_neN c_4 h0)).trans c_4
  have c_6 : g q_5 = some ((S, 3, 2), lam_ob V 10 [.ref S, .int (nI p9)]) := (hn _ (gh_neN c_6 h0)).trans c_6
  have hf9 : gh_fv S [] _ g := (gh_fw.nw h0 hn).v
  have hL : lo_P V g S (ad 9) s := hL.kp hf9 (by decide)
  have hD : de_P V g S (ad 10) s := hD.kp hf9 (by decide)
  have hPc : pc_P V g S P kx pw s F := hPc.kp hf9 (by decide)
  have hO : ot_P V g S (ad 11) P kx s n0 := hO.kp hf9 (by decide)
  have hG : go_P V g S (ad 12) s n1 := hG.kp hf9 (by decide)
  have hPl : pn_P V g S (ad 13) (I 3) s := hPl.kp hf9 (by decide)
  have h00_q_7 : g0 q_7 = none := hF.non h0
  have hF : gh_fw S [] g0 g := hF.new h0 hn
  have hT : st_C V g S ad I A P := hT.nw h0 hn
  have c_8 : g q_7 = some ((S, 3, 3), lam_ob V 11 [.ref S, .int (nI (1 - c9)), .int (nI p9)]) := hw
  refine gh_qastL (n := 3) (f := (va_up (va_up (fun _ => none) 0 (some q_3)) 1 (some q_5))) hC hg c_2 rfl c_8 lam_w11 lam_k11 rfl (show ((2 : Int32)) = nI 2 from rfl) (by omega) (by omega) dX2_whyNotCleaning_38 (fun g H locs hg hw hn => ?_)
  have c_4 : g q_3 = some ((S, 3, 1), lam_ob V 9 [.ref S, .int (nI c9)]) := (hn _ (gh_neI c_4 c_2 rfl)).trans c_4
  have c_6 : g q_5 = some ((S, 3, 2), lam_ob V 10 [.ref S, .int (nI p9)]) := (hn _ (gh_neI c_6 c_2 rfl)).trans c_6
  have c_8 : g q_7 = some ((S, 3, 3), lam_ob V 11 [.ref S, .int (nI (1 - c9)), .int (nI p9)]) := (hn _ (gh_neI c_8 c_2 rfl)).trans c_8
  have hf9 : gh_fv S [3] _ g := (gh_fw.st c_2 hn).v
  have hL : lo_P V g S (ad 9) s := hL.kp hf9 (by decide)
  have hD : de_P V g S (ad 10) s := hD.kp hf9 (by decide)
  have hPc : pc_P V g S P kx pw s F := hPc.kp hf9 (by decide)
  have hO : ot_P V g S (ad 11) P kx s n0 := hO.kp hf9 (by decide)
  have hG : go_P V g S (ad 12) s n1 := hG.kp hf9 (by decide)
  have hPl : pn_P V g S (ad 13) (I 3) s := hPl.kp hf9 (by decide)
  have hF : gh_fw S [] g0 g := hF.setn h00_q_1 hn
  have hT : st_C V g S ad I A P := hT.ne c_2 (fun h9 => absurd (show 3 = 0 from h9.2) (by decide)) hn
  have c_2 : g q_1 = some ((S, 3, 0), aq V 8 3 (va_up (va_up (va_up (fun _ => none) 0 (some q_3)) 1 (some q_5)) 2 (some q_7))) := hw
  refine lv_astore (lv' := [(4, .ref q_1), (3, .int (nI (1 - c9))), (0, .ref S), (1, .int (nI c9)), (2, .int (nI p9))]) hx hb dX2_whyNotCleaning_39 hl (by decide) rfl (fun ls hl => ?_)
  refine lv_aload hx hb dX2_whyNotCleaning_41 (lv_at hl 0 rfl) ?_
  refine gh_calli hg (gh_runSN (As := [.ref q_1]) (rest := []) hC hg (j_X1_first_C l V _ S ad I A P hT _ _ _ _ _ _ _ _ (va_up (va_up (va_up (fun _ => none) 0 (some q_3)) 1 (some q_5)) 2 (some q_7)) c_2 rfl rfl rfl _ _ c9 (1 - c9) p9 rfl hc2 _ rfl ho2 rfl hp24 c_4 c_6 c_8) 1 q1638 q1639 q103 q1640 hd_X1_first.2 ⟨Nat.le_of_ble_eq_true rfl, Nat.le_of_ble_eq_true rfl⟩ rfl hl.1 rfl (Nat.le_of_ble_eq_true rfl) dX2_whyNotCleaning_43 ⟨Nat.le_of_ble_eq_true rfl, Nat.le_of_ble_eq_true rfl⟩) (fun r_9 g H locs hg hp => ?_)
  obtain ⟨hp, hq⟩ := hp
  replace hp : (fst3 (if ¬ A 7 c9 ≤ 0 then 1 else 0) (if A 5 p9 = 0 then 1 else 0) (if ¬ A 7 (1 - c9) ≤ 0 ∧ A 6 (1 - c9) = nI p9 then 1 else 0)) = r_9 := hp.symm
  subst hp
  rw [← hq] at hT hL hD hPc hO hG hPl hF c_2 c_4 c_6 c_8
  try rw [← hq] at hgg
  refine W.eq (g2 := F0 mm 46 ls [.int (noCln s c9 p9)]) (by rw [(fst3_C h7c h5p h7o h6o)] <;> rfl) ?_
  exact gh_reti hC hg hr hlk (⟨rfl, hF⟩) dX2_whyNotCleaning_46 (Nat.le_of_ble_eq_true rfl) (Nat.le_of_ble_eq_true rfl)
