set_option maxRecDepth 100000
theorem hd_X2_canOpenLot : yX2_canOpenLot.cls = RX2 ∧ yX2_canOpenLot.cls ≠ "java/lang/invoke/MethodHandle" ∧ yX2_canOpenLot.cls ≠ "java/lang/invoke/VarHandle" ∧ (parseMethodDescriptor yX2_canOpenLot.desc).map (fun d => d.parameters.length) = some 0 := by decide +kernel
theorem hd_X7_of : yX7_of.cls = RX7 ∧ yX7_of.cls ≠ "java/lang/invoke/MethodHandle" ∧ yX7_of.cls ≠ "java/lang/invoke/VarHandle" ∧ (parseMethodDescriptor yX7_of.desc).map (fun d => d.parameters.length) = some 2 := by decide +kernel
theorem hdF_List_add_1 : (⟨"java/util/List", "add", "(Ljava/lang/Object;)Z"⟩ : MethodName).cls ≠ "java/lang/invoke/MethodHandle" ∧ (⟨"java/util/List", "add", "(Ljava/lang/Object;)Z"⟩ : MethodName).cls ≠ "java/lang/invoke/VarHandle" ∧ (parseMethodDescriptor (⟨"java/util/List", "add", "(Ljava/lang/Object;)Z"⟩ : MethodName).desc).map (fun d => d.parameters.length) = some 1 := by decide +kernel
set_option maxHeartbeats 1000000 in
set_option maxRecDepth 100000 in
theorem j_X2_canOpenLot (l : Launch) (V : gh_V) (g0 : gh_G) (S : Nat) (ad : Nat → Nat) (I : Nat → Int32) (A : Nat → Nat → Int32) (P : Nat → Option Nat) (hT0 : st_C V g0 S ad I A P) (s : Nat → Int32) (hp0 : lo_P V g0 S (ad 9) s) (hlm : nL s ≤ 12) : MI l yX2_canOpenLot cX2_canOpenLot 1 (some .boolean) ({ frames := 1, cells := 0, slots := 0, locals := 20 } : Room) V [.ref S] g0 (fun r g1 => r = (if nL s < 12 then 1 else 0) ∧ g1 = g0) := by
  refine MG.of RX2 (by decide) rfl (Nat.le_of_ble_eq_true rfl) (fun pp ee s9 mm args below meth c ls hC hg hr hlk hnm hl => ?_)
  have hx := hC.1.1
  have hb := hC.1.2.1
  have hml := hC.1.2.2.1
  have hown := hC.1.2.2.2.1
  have hts := hC.1.2.2.2.2
  have hl : lv_has ls 1 [(0, .ref S)] := hl
  obtain ⟨g, hg, hgg⟩ : ∃ g, gh_W V (gh_A g0 s9.heap.size) s9 g s9.heap [] ∧ g = g0 := ⟨g0, hg, rfl⟩
  have hT := hT0
  rw [← hgg] at hT
  have hL := hp0
  rw [← hgg] at hL
  obtain ⟨es, la, lw, fa, hAL, hLo⟩ := hL
  obtain ⟨vs_hlc, hlc⟩ := hAL.c
  refine lv_aload_n hx hb dX2_canOpenLot_0 rfl (lv_at hl 0 rfl) ?_
  refine gh_get (v := .ref (ad 9)) hC hg hT.1 fX2_24_2 rfl dX2_canOpenLot_1 ?_
  refine gh_callFi hg (gh_runF (x := ⟨"java/util/List", "size", "()I"⟩) (As := []) (rest := []) hC hg (j_J2_size l V _ (ad 9) S 12 (nL s) es hAL) 0 (lw_F q1359 q1321 q1319 q107 q1323) hlc rfl (by decide +kernel) q1322 q1320 q1148 hdF_List_size_0 ⟨Nat.le_of_ble_eq_true rfl, Nat.le_of_ble_eq_true rfl⟩ rfl hl.1 rfl (Nat.le_of_ble_eq_true rfl) dX2_canOpenLot_4 ⟨Nat.le_of_ble_eq_true rfl, Nat.le_of_ble_eq_true rfl⟩) (fun r_1 g H locs hg hp => ?_)
  obtain ⟨hp, hq⟩ := hp
  replace hp : (nI (nL s)) = r_1 := hp.symm
  subst hp
  rw [← hq] at hT hAL hLo hlc
  try rw [← hq] at hgg
  refine lv_bipush (v := 12) hx hb dX2_canOpenLot_9 (by decide) ?_
  refine lv_icmp_ge (tgt := 18) hx hb dX2_canOpenLot_11 (by decide) (fun c_2 => ?_) (fun c_2 => ?_)
  · skip
    have c_2 : 12 ≤ (nL s) := (nx_le (show ((12 : Int32)) = nI 12 from rfl) rfl (by omega) (by omega)).mp c_2
    refine lv_iconst (v := 0) hx hb dX2_canOpenLot_18 (by decide) ?_
    exact gh_retz rfl hC hg hr hlk (⟨(if_neg (by omega)).symm, hgg⟩) dX2_canOpenLot_19 (Nat.le_of_ble_eq_true rfl) (Nat.le_of_ble_eq_true rfl)
  have c_2 : ¬ 12 ≤ (nL s) := fun h9 => c_2 ((nx_le (show ((12 : Int32)) = nI 12 from rfl) rfl (by omega) (by omega)).mpr h9)
  refine lv_iconst (v := 1) hx hb dX2_canOpenLot_14 (by decide) ?_
  refine lv_goto (tgt := 19) hx hb dX2_canOpenLot_15 (by decide) ?_
  exact gh_retz rfl hC hg hr hlk (⟨(if_pos (by omega)).symm, hgg⟩) dX2_canOpenLot_19 (Nat.le_of_ble_eq_true rfl) (Nat.le_of_ble_eq_true rfl)
set_option maxHeartbeats 1000000 in
set_option maxRecDepth 100000 in
theorem j_X2_canTakeOrder (l : Launch) (V : gh_V) (g0 : gh_G) (S : Nat) (ad : Nat → Nat) (I : Nat → Int32) (A : Nat → Nat → Int32) (P : Nat → Option Nat) (hT0 : st_C V g0 S ad I A P) (s : Nat → Int32) (hp0 : de_P V g0 S (ad 10) s) (hlm : nD s ≤ 10) : MI l yX2_canTakeOrder cX2_canTakeOrder 1 (some .boolean) ({ frames := 1, cells := 0, slots := 0, locals := 20 } : Room) V [.ref S] g0 (fun r g1 => r = (if nD s < 10 then 1 else 0) ∧ g1 = g0) := by
  refine MG.of RX2 (by decide) rfl (Nat.le_of_ble_eq_true rfl) (fun pp ee s9 mm args below meth c ls hC hg hr hlk hnm hl => ?_)
  have hx := hC.1.1
  have hb := hC.1.2.1
  have hml := hC.1.2.2.1
  have hown := hC.1.2.2.2.1
  have hts := hC.1.2.2.2.2
  have hl : lv_has ls 1 [(0, .ref S)] := hl
  obtain ⟨g, hg, hgg⟩ : ∃ g, gh_W V (gh_A g0 s9.heap.size) s9 g s9.heap [] ∧ g = g0 := ⟨g0, hg, rfl⟩
  have hT := hT0
  rw [← hgg] at hT
  have hD := hp0
  rw [← hgg] at hD
  obtain ⟨ds, hDl, hDf⟩ := hD
  obtain ⟨vs_hdc, hdc⟩ := hDl.c
  refine lv_aload_n hx hb dX2_canTakeOrder_0 rfl (lv_at hl 0 rfl) ?_
  refine gh_get (v := .ref (ad 10)) hC hg hT.1 fX2_28_2 rfl dX2_canTakeOrder_1 ?_
  refine gh_callFi hg (gh_runF (x := ⟨"java/util/List", "size", "()I"⟩) (As := []) (rest := []) hC hg (j_J2_size l V _ (ad 10) S 13 (nD s) ds hDl) 0 (lw_F q1359 q1321 q1319 q107 q1323) hdc rfl (by decide +kernel) q1322 q1320 q1148 hdF_List_size_0 ⟨Nat.le_of_ble_eq_true rfl, Nat.le_of_ble_eq_true rfl⟩ rfl hl.1 rfl (Nat.le_of_ble_eq_true rfl) dX2_canTakeOrder_4 ⟨Nat.le_of_ble_eq_true rfl, Nat.le_of_ble_eq_true rfl⟩) (fun r_1 g H locs hg hp => ?_)
  obtain ⟨hp, hq⟩ := hp
  replace hp : (nI (nD s)) = r_1 := hp.symm
  subst hp
  rw [← hq] at hT hDl hDf hdc
  try rw [← hq] at hgg
  refine lv_bipush (v := 10) hx hb dX2_canTakeOrder_9 (by decide) ?_
  refine lv_icmp_ge (tgt := 18) hx hb dX2_canTakeOrder_11 (by decide) (fun c_2 => ?_) (fun c_2 => ?_)
  · skip
    have c_2 : 10 ≤ (nD s) := (nx_le (show ((10 : Int32)) = nI 10 from rfl) rfl (by omega) (by omega)).mp c_2
    refine lv_iconst (v := 0) hx hb dX2_canTakeOrder_18 (by decide) ?_
    exact gh_retz rfl hC hg hr hlk (⟨(if_neg (by omega)).symm, hgg⟩) dX2_canTakeOrder_19 (Nat.le_of_ble_eq_true rfl) (Nat.le_of_ble_eq_true rfl)
  have c_2 : ¬ 10 ≤ (nD s) := fun h9 => c_2 ((nx_le (show ((10 : Int32)) = nI 10 from rfl) rfl (by omega) (by omega)).mpr h9)
  refine lv_iconst (v := 1) hx hb dX2_canTakeOrder_14 (by decide) ?_
  refine lv_goto (tgt := 19) hx hb dX2_canTakeOrder_15 (by decide) ?_
  exact gh_retz rfl hC hg hr hlk (⟨(if_pos (by omega)).symm, hgg⟩) dX2_canTakeOrder_19 (Nat.le_of_ble_eq_true rfl) (Nat.le_of_ble_eq_true rfl)
set_option maxHeartbeats 1000000 in
set_option maxRecDepth 100000 in
theorem j_X2_openLot (l : Launch) (V : gh_V) (g0 : gh_G) (S N : Nat) (s : Nat → Int32) (F : Nat → UInt32) (hR : cw_R V g0 S s F N) (L D Pn : Nat) (hE : tw_wf s L D Pn) (hJ : jp s) (k9 x9 : Nat) (hk3 : k9 < 3) : MI l yX2_openLot cX2_openLot 4 (some .boolean) ({ frames := 7, cells := 4, slots := 30, locals := 161 } : Room) V [.ref S, .int (nI k9), .int (nI x9)] g0 (fun r g1 => r = (if nL s < 12 then 1 else 0) ∧ (nL s < 12 → cw_R V g1 S (opensS s (nL s) (nI k9) (nI x9)) F N) ∧ (¬ nL s < 12 → cw_R V g1 S s F N) ∧ gh_fS S g0 g1) := by
  refine MG.of RX2 (by decide) rfl (Nat.le_of_ble_eq_true rfl) (fun pp ee s9 mm args below meth c ls hC hg hr hlk hnm hl => ?_)
  have hx := hC.1.1
  have hb := hC.1.2.1
  have hml := hC.1.2.2.1
  have hown := hC.1.2.2.2.1
  have hts := hC.1.2.2.2.2
  have hl : lv_has ls 4 [(0, .ref S), (1, .int (nI k9)), (2, .int (nI x9))] := hl
  obtain ⟨g, hg, hgg⟩ : ∃ g, gh_W V (gh_A g0 s9.heap.size) s9 g s9.heap [] ∧ g = g0 := ⟨g0, hg, rfl⟩
  obtain ⟨ad, I, A, P, kx, pw, n0, n1, hT, hV, hL, hD, hPc, hO, hG, hPl, hN⟩ := hR
  rw [← hgg] at hT hL hD hPc hO hG hPl
  have hF : gh_fS S g0 g := by rw [hgg]; exact gh_fS.rf
  have hw163 : s 163 = nI (nL s) := by rw [show nL s = L from cl_of hE.1.1 (by have := hE.1.2; omega)]; exact hE.1.1
  have hD10 : nD s ≤ 10 := by rw [nD_of hE]; exact hE.2.1.2
  refine lv_aload_n hx hb dX2_openLot_0 rfl (lv_at hl 0 rfl) ?_
  refine gh_calli hg (gh_runV (As := []) (rest := []) hC hg (j_X2_canOpenLot l V _ S ad I A P hT s hL hJ.2.2.1) 0 (lw_V q1543 q1544 q1545 q104 q1546) hT.1 rfl hd_X2_canOpenLot ⟨Nat.le_of_ble_eq_true rfl, Nat.le_of_ble_eq_true rfl⟩ rfl hl.1 rfl (Nat.le_of_ble_eq_true rfl) dX2_openLot_1 ⟨Nat.le_of_ble_eq_true rfl, Nat.le_of_ble_eq_true rfl⟩) (fun r_1 g H locs hg hp => ?_)
  obtain ⟨hp, hq⟩ := hp
  replace hp : (if nL s < 12 then 1 else 0) = r_1 := hp.symm
  subst hp
  rw [← hq] at hT hL hD hPc hO hG hPl hF
  try rw [← hq] at hgg
  by_cases hcan : nL s < 12
  · skip
    refine W.eq (g2 := F0 mm 4 ls [.int 1]) (by rw [(if_pos hcan)] <;> rfl) ?_
    refine lv_istore_n (lv' := [(3, .int 1), (0, .ref S), (1, .int (nI k9)), (2, .int (nI x9))]) hx hb dX2_openLot_4 rfl hl (by decide) rfl (fun ls hl => ?_)
    refine lv_iload_n hx hb dX2_openLot_5 rfl (lv_at hl 0 rfl) ?_
    refine lv_if_eq (tgt := 34) hx hb dX2_openLot_6 (by decide) (fun c_2 => (absurd c_2 (by decide))) (fun _ => ?_)
    refine lv_aload_n hx hb dX2_openLot_9 rfl (lv_at hl 1 rfl) ?_
    obtain ⟨es, la, lw, fa, hAL, hLo⟩ := hL
    obtain ⟨vs_hlc, hlc⟩ := hAL.c
    refine gh_get (v := .ref (ad 9)) hC hg hT.1 fX2_24_2 rfl dX2_openLot_10 ?_
    refine gh_new (ci := 3) (fs := [.null, .null, .int 0, .int 0, .int 0]) hC hg (fun q9 => (S, 4, (nL s))) rfl in_X4 tyX4 tyX4_ok q1362 q1547 q157 (by decide +kernel) (Nat.le_of_ble_eq_true rfl) (Nat.le_of_ble_eq_true rfl) dX2_openLot_13 (fun q_3 g H hg h0 hw hn => ?_)
    have hlc : g (ad 9) = some ((S, 12, 0), oo 12 vs_hlc) := (hn _ (gh_neN hlc h0)).trans hlc
    have hf9 : gh_fv S [] _ g := (gh_fw.nw h0 hn).v
    have hD : de_P V g S (ad 10) s := hD.kp hf9 (by decide)
    have hPc : pc_P V g S P kx pw s F := hPc.kp hf9 (by decide)
    have hO : ot_P V g S (ad 11) P kx s n0 := hO.kp hf9 (by decide)
    have hG : go_P V g S (ad 12) s n1 := hG.kp hf9 (by decide)
    have hPl : pn_P V g S (ad 13) (I 3) s := hPl.kp hf9 (by decide)
    have hF : gh_fS S g0 g := hF.new h0 hn
    have hAL : al_P V S 12 g (ad 9) (nL s) es := hf9.al (by decide) hAL
    have hLo : ∀ k, k < nL s → lo1 V g S s k (es k) (la k) (lw k) (fa k) := fun k hk => (hLo k hk).kp hf9 (by decide)
    have hT : st_C V g S ad I A P := hT.nw h0 hn
    have c_4 : g q_3 = some ((S, 4, (nL s)), oo 3 [.null, .null, .int 0, .int 0, .int 0]) := hw
    refine lv_dup hx hb dX2_openLot_16 rfl ?_
    refine lv_iload_n hx hb dX2_openLot_17 rfl (lv_at hl 2 rfl) ?_
    refine lv_iload_n hx hb dX2_openLot_18 rfl (lv_at hl 3 rfl) ?_
    refine gh_callq hg (gh_runS (As := [.int (nI k9), .int (nI x9)]) (rest := [.ref q_3, .ref q_3, .ref (ad 9)]) hC hg (j_X7_of l V _ k9 (nI x9) (by omega)) 2 (lw_S q1548 q1549 q164 q1550) hd_X7_of.2 ⟨Nat.le_of_ble_eq_true rfl, Nat.le_of_ble_eq_true rfl⟩ rfl hl.1 rfl (Nat.le_of_ble_eq_true rfl) dX2_openLot_19 ⟨Nat.le_of_ble_eq_true rfl, Nat.le_of_ble_eq_true rfl⟩) (fun r_5 g H locs hg hp => ?_)
    obtain ⟨w9, rfl, hwn, hw0, hwf⟩ := hp
    have hfw9 : gh_fw S [] _ g := gh_fw.nw hw0 hwf
    have hf9 := hfw9.v
    have hlc : g (ad 9) = some ((S, 12, 0), oo 12 vs_hlc) := hfw9 _ _ _ hlc (fun h9 => absurd (show 12 ∈ [] from h9.2) (by decide))
    have c_4 : g q_3 = some ((S, 4, (nL s)), oo 3 [.null, .null, .int 0, .int 0, .int 0]) := hfw9 _ _ _ c_4 (fun h9 => absurd (show 4 ∈ [] from h9.2) (by decide))
    have hD : de_P V g S (ad 10) s := hD.kp hf9 (by decide)
    have hPc : pc_P V g S P kx pw s F := hPc.kp hf9 (by decide)
    have hO : ot_P V g S (ad 11) P kx s n0 := hO.kp hf9 (by decide)
    have hG : go_P V g S (ad 12) s n1 := hG.kp hf9 (by decide)
    have hPl : pn_P V g S (ad 13) (I 3) s := hPl.kp hf9 (by decide)
    have hF : gh_fS S g0 g := hF.tr (hfw9.fS (by decide))
    have hAL : al_P V S 12 g (ad 9) (nL s) es := hf9.al (by decide) hAL
    have hLo : ∀ k, k < nL s → lo1 V g S s k (es k) (la k) (lw k) (fa k) := fun k hk => (hLo k hk).kp hf9 (by decide)
    have hT : st_C V g S ad I A P := hT.kp hf9 (by decide)
    refine W.eq (g2 := F0 mm 22 ls [.ref w9, .ref q_3, .ref q_3, .ref (ad 9)]) rfl ?_
    refine lv_iconst (v := 5) hx hb dX2_openLot_22 (by decide) ?_
    refine gh_newaI hC hg (fun q9 => (S, 5, (nL s))) q388 (show ((5 : Int32)) = nI 5 from rfl) (by omega) (Nat.le_of_ble_eq_true rfl) (Nat.le_of_ble_eq_true rfl) dX2_openLot_23 (fun q_6 g H hg h0 hw hn => ?_)
    have hlc : g (ad 9) = some ((S, 12, 0), oo 12 vs_hlc) := (hn _ (gh_neN hlc h0)).trans hlc
    have c_4 : g q_3 = some ((S, 4, (nL s)), oo 3 [.null, .null, .int 0, .int 0, .int 0]) := (hn _ (gh_neN c_4 h0)).trans c_4
    have hf9 : gh_fv S [] _ g := (gh_fw.nw h0 hn).v
    have hD : de_P V g S (ad 10) s := hD.kp hf9 (by decide)
    have hPc : pc_P V g S P kx pw s F := hPc.kp hf9 (by decide)
    have hO : ot_P V g S (ad 11) P kx s n0 := hO.kp hf9 (by decide)
    have hG : go_P V g S (ad 12) s n1 := hG.kp hf9 (by decide)
    have hPl : pn_P V g S (ad 13) (I 3) s := hPl.kp hf9 (by decide)
    have hF : gh_fS S g0 g := hF.new h0 hn
    have hAL : al_P V S 12 g (ad 9) (nL s) es := hf9.al (by decide) hAL
    have hLo : ∀ k, k < nL s → lo1 V g S s k (es k) (la k) (lw k) (fa k) := fun k hk => (hLo k hk).kp hf9 (by decide)
    have hwn : wa_P V g w9 k9 (nI x9) := hf9.wa (by decide) hwn
    have hT : st_C V g S ad I A P := hT.nw h0 hn
    have c_7 : g q_6 = some ((S, 5, (nL s)), ai V 0 5 (fun _ => 0)) := hw
    refine gh_callv hg (gh_runI (As := [.ref w9, .ref q_6]) (rest := [.ref q_3, .ref (ad 9)]) hC hg (j_X4_init l V _ q_3 w9 q_6 (S, 4, (nL s)) c_4) 2 (lw_meth q1583) q157 q1581 q1582 rfl hd_X4_init.2 ⟨Nat.le_of_ble_eq_true rfl, Nat.le_of_ble_eq_true rfl⟩ rfl hl.1 rfl (Nat.le_of_ble_eq_true rfl) dX2_openLot_25 ⟨Nat.le_of_ble_eq_true rfl, Nat.le_of_ble_eq_true rfl⟩) (fun g H locs hg hp => ?_)
    obtain ⟨hw, hn⟩ := hp
    have hlc : g (ad 9) = some ((S, 12, 0), oo 12 vs_hlc) := (hn _ (gh_neK hlc c_4 rfl)).trans hlc
    have c_7 : g q_6 = some ((S, 5, (nL s)), ai V 0 5 (fun _ => 0)) := (hn _ (gh_neK c_7 c_4 rfl)).trans c_7
    have hf9 : gh_fv S [4] _ g := (gh_fw.st c_4 hn).v
    have hD : de_P V g S (ad 10) s := hD.kp hf9 (by decide)
    have hPc : pc_P V g S P kx pw s F := hPc.kp hf9 (by decide)
    have hO : ot_P V g S (ad 11) P kx s n0 := hO.kp hf9 (by decide)
    have hG : go_P V g S (ad 12) s n1 := hG.kp hf9 (by decide)
    have hPl : pn_P V g S (ad 13) (I 3) s := hPl.kp hf9 (by decide)
    have hF : gh_fS S g0 g := hF.set c_4 (by decide) hn
    have hAL : al_P V S 12 g (ad 9) (nL s) es := hf9.al (by decide) hAL
    have hLo : ∀ k, k < nL s → lo1 V g S s k (es k) (la k) (lw k) (fa k) := fun k hk => (hLo k hk).ow c_4 (by omega) (by decide) hn
    have hwn : wa_P V g w9 k9 (nI x9) := hf9.wa (by decide) hwn
    have hT : st_C V g S ad I A P := hT.ne c_4 (fun h9 => absurd (show 4 = 0 from h9.2) (by decide)) hn
    have c_4 : g q_3 = some ((S, 4, (nL s)), oo 3 [.ref w9, .ref q_6, .int 0, .int 0, .int 0]) := hw
    refine gh_callFi hg (gh_runF (x := ⟨"java/util/List", "add", "(Ljava/lang/Object;)Z"⟩) (As := [.ref q_3]) (rest := []) hC hg (j_J2_add l V _ (ad 9) S 12 (nL s) 3 q_3 es (C := "AnnealingLehr$Lot") rfl q4454 (fun i hi => ⟨_, _, (hLo i hi).1⟩) (fun i hi t e h => by rw [(hLo i hi).1] at h; cases h; exact fun u => absurd (show 4 = 12 from u.2) (by decide)) ⟨_, _, c_4, fun u => absurd (show 4 = 12 from u.2) (by decide)⟩ hAL (by omega)) 1 (lw_F q1145 q1151 q1149 q107 q1153) hlc rfl (by decide +kernel) q1152 q1150 q1148 hdF_List_add_1 ⟨Nat.le_of_ble_eq_true rfl, Nat.le_of_ble_eq_true rfl⟩ rfl hl.1 rfl (Nat.le_of_ble_eq_true rfl) dX2_openLot_28 ⟨Nat.le_of_ble_eq_true rfl, Nat.le_of_ble_eq_true rfl⟩) (fun r_8 g H locs hg hp => ?_)
    obtain ⟨-, hAL2, hF9⟩ := hp
    have hfw9 : gh_fw S [12] _ g := gh_fw.fk hF9
    have hf9 := hfw9.v
    have c_4 : g q_3 = some ((S, 4, (nL s)), oo 3 [.ref w9, .ref q_6, .int 0, .int 0, .int 0]) := hfw9 _ _ _ c_4 (fun h9 => absurd (show 4 ∈ [12] from h9.2) (by decide))
    have c_7 : g q_6 = some ((S, 5, (nL s)), ai V 0 5 (fun _ => 0)) := hfw9 _ _ _ c_7 (fun h9 => absurd (show 5 ∈ [12] from h9.2) (by decide))
    have hD : de_P V g S (ad 10) s := hD.kp hf9 (by decide)
    have hPc : pc_P V g S P kx pw s F := hPc.kp hf9 (by decide)
    have hO : ot_P V g S (ad 11) P kx s n0 := hO.kp hf9 (by decide)
    have hG : go_P V g S (ad 12) s n1 := hG.kp hf9 (by decide)
    have hPl : pn_P V g S (ad 13) (I 3) s := hPl.kp hf9 (by decide)
    have hF : gh_fS S g0 g := hF.tr (hfw9.fS (by decide))
    have hLo : ∀ k, k < nL s → lo1 V g S s k (es k) (la k) (lw k) (fa k) := fun k hk => (hLo k hk).kp hf9 (by decide)
    have hwn : wa_P V g w9 k9 (nI x9) := hf9.wa (by decide) hwn
    have hT : st_C V g S ad I A P := hT.kp hf9 (by decide)
    refine lv_pop hx hb dX2_openLot_33 rfl ?_
    refine lv_iload_n hx hb dX2_openLot_34 rfl (lv_at hl 0 rfl) ?_
    exact gh_retz rfl hC hg hr hlk (⟨(if_pos hcan).symm, (fun _ => ⟨ad, I, A, P, _, _, _, _, hT, (hV.cg (fun j h => opensS_o (by omega)) (fun p h => opensS_o (by omega)) (fun j a b => opensS_o (by omega))), (op_lo hw163 hcan hJ.2.2.2 hAL2 hLo hk3 c_4 c_7 hwn), (hD.cg hD10 (fun j a b => opensS_o (by omega))), (hPc.cg (fun _ _ => rfl) (fun p i hp hi => opensS_o (by omega)) (fun p i hp ho hi => opensS_o (by have := (hJ.1 p hp ho).1; omega))), (hO.cg (fun p i hp hi => opensS_o (by omega))), (op_go hw163 hcan hG), (hPl.cg (fun j h => opensS_o (by omega))), hN⟩), (fun h => absurd hcan h), hF⟩) dX2_openLot_35 (Nat.le_of_ble_eq_true rfl) (Nat.le_of_ble_eq_true rfl)
  refine W.eq (g2 := F0 mm 4 ls [.int 0]) (by rw [(if_neg hcan)] <;> rfl) ?_
  refine lv_istore_n (lv' := [(3, .int 0), (0, .ref S), (1, .int (nI k9)), (2, .int (nI x9))]) hx hb dX2_openLot_4 rfl hl (by decide) rfl (fun ls hl => ?_)
  refine lv_iload_n hx hb dX2_openLot_5 rfl (lv_at hl 0 rfl) ?_
  refine lv_if_eq (tgt := 34) hx hb dX2_openLot_6 (by decide) (fun _ => ?_) (fun c_9 => (absurd rfl c_9))
  refine lv_iload_n hx hb dX2_openLot_34 rfl (lv_at hl 0 rfl) ?_
  exact gh_retz rfl hC hg hr hlk (⟨(if_neg hcan).symm, (fun h => absurd h hcan), (fun _ => ⟨ad, I, A, P, _, _, _, _, hT, hV, hL, hD, hPc, hO, hG, hPl, hN⟩), hF⟩) dX2_openLot_35 (Nat.le_of_ble_eq_true rfl) (Nat.le_of_ble_eq_true rfl)
