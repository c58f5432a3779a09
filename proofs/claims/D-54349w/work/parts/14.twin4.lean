theorem okL_0_24 : okL 0 24 := by decide
set_option maxRecDepth 100000
theorem fX3_66_0 : gh_fd RX3 66 0 4 .int false := gh_fd.own (T := TX3) tyX3 rfl in_X3 tyX3_ok nmX3 (by decide) q3834 rfl rfl (fun h => by cases h)
theorem hd_X3_in : yX3_in.cls = RX3 ∧ yX3_in.cls ≠ "java/lang/invoke/MethodHandle" ∧ yX3_in.cls ≠ "java/lang/invoke/VarHandle" ∧ (parseMethodDescriptor yX3_in.desc).map (fun d => d.parameters.length) = some 3 := by decide +kernel
theorem hd_X3_isCleaner : yX3_isCleaner.cls = RX3 ∧ yX3_isCleaner.cls ≠ "java/lang/invoke/MethodHandle" ∧ yX3_isCleaner.cls ≠ "java/lang/invoke/VarHandle" ∧ (parseMethodDescriptor yX3_isCleaner.desc).map (fun d => d.parameters.length) = some 2 := by decide +kernel
theorem hd_X3_isLot : yX3_isLot.cls = RX3 ∧ yX3_isLot.cls ≠ "java/lang/invoke/MethodHandle" ∧ yX3_isLot.cls ≠ "java/lang/invoke/VarHandle" ∧ (parseMethodDescriptor yX3_isLot.desc).map (fun d => d.parameters.length) = some 1 := by decide +kernel
theorem hd_X3_isPlace : yX3_isPlace.cls = RX3 ∧ yX3_isPlace.cls ≠ "java/lang/invoke/MethodHandle" ∧ yX3_isPlace.cls ≠ "java/lang/invoke/VarHandle" ∧ (parseMethodDescriptor yX3_isPlace.desc).map (fun d => d.parameters.length) = some 1 := by decide +kernel
theorem hd_X3_isZone : yX3_isZone.cls = RX3 ∧ yX3_isZone.cls ≠ "java/lang/invoke/MethodHandle" ∧ yX3_isZone.cls ≠ "java/lang/invoke/VarHandle" ∧ (parseMethodDescriptor yX3_isZone.desc).map (fun d => d.parameters.length) = some 1 := by decide +kernel
theorem hd_X3_zone : yX3_zone.cls = RX3 ∧ yX3_zone.cls ≠ "java/lang/invoke/MethodHandle" ∧ yX3_zone.cls ≠ "java/lang/invoke/VarHandle" ∧ (parseMethodDescriptor yX3_zone.desc).map (fun d => d.parameters.length) = some 2 := by decide +kernel
set_option maxHeartbeats 1000000 in
set_option maxRecDepth 100000 in
theorem t_isZone (l : Launch) (V : gh_V) (o : Nat) (ad : Nat → Nat) (I : Nat → Int32) (A : Nat → Nat → Int32) (F : Nat → Nat → UInt32) (g0 : gh_G) (hP : tw_P V g0 o ad I A F) (x : Int32) : MI l yX3_isZone cX3_isZone 2 (some .boolean) ({ frames := 1, cells := 0, slots := 0, locals := 22 } : Room) V [.ref o, .int x] g0 (fun r g1 => r = (if okL x 8 then 1 else 0) ∧ tw_W V g0 g1 o ad (va_up I 3 (if okL x 8 then 0 else 1)) A F) := by
  refine MG.of RX3 (by decide) rfl (Nat.le_of_ble_eq_true rfl) (fun pp ee s mm args below meth c ls hC hg hr hlk hnm hl => ?_)
  have hx := hC.1.1
  have hb := hC.1.2.1
  have hml := hC.1.2.2.1
  have hown := hC.1.2.2.2.1
  have hts := hC.1.2.2.2.2
  have hl : lv_has ls 2 [(0, .ref o), (1, .int x)] := hl
  have hT := hP.W
  refine lv_aload_n hx hb dX3_isZone_0 rfl (lv_at hl 0 rfl) ?_
  refine lv_iload_n hx hb dX3_isZone_1 rfl (lv_at hl 1 rfl) ?_
  refine lv_iconst (v := 0) hx hb dX3_isZone_2 (by decide) ?_
  refine lv_bipush (v := 7) hx hb dX3_isZone_3 (by decide) ?_
  refine gh_calli hg (gh_runS (As := [.int x, .int 0, .int 7]) (rest := [.ref o]) hC hg (t_in l V _ x 0 7) 3 (lw_S q3905 q3906 q138 q3907) hd_X3_in.2 ⟨Nat.le_of_ble_eq_true rfl, Nat.le_of_ble_eq_true rfl⟩ rfl hl.1 rfl (Nat.le_of_ble_eq_true rfl) dX3_isZone_5 ⟨Nat.le_of_ble_eq_true rfl, Nat.le_of_ble_eq_true rfl⟩) (fun r_1 g H locs hg hp => ?_)
  replace hp : r_1 = (if okR x 0 7 then 1 else 0) ∧ g = _ := hp
  by_cases ok_2 : okR x 0 7
  · rw [if_pos ok_2] at hp
    obtain ⟨rfl, hq⟩ := hp
    rw [hq] at hg
    obtain ⟨h_3a, h_3b, h_3⟩ := okR_cl (show ((0 : Int32)) = nI 0 from rfl) (show ((7 : Int32)) = nI 7 from rfl) (by omega) (by omega) ok_2
    refine lv_if_eq (tgt := 15) hx hb dX3_isZone_8 (by decide) (fun c_4 => (absurd ((nx_eq (show ((1 : Int32)) = nI 1 from rfl) (show ((0 : Int32)) = nI 0 from rfl) (by omega) (by omega)).mp c_4) (by omega))) (fun _ => ?_)
    refine lv_iconst (v := 0) hx hb dX3_isZone_11 (by decide) ?_
    refine lv_goto (tgt := 16) hx hb dX3_isZone_12 (by decide) ?_
    refine gh_put (v := .int 0) hC hg hT.1.1 fX3_54_0 rfl rfl (Nat.le_of_ble_eq_true rfl) dX3_isZone_16 (fun g H locs hg hw hn => ?_)
    have hT : tw_W V g0 g o ad (va_up I 3 0) A F := hT.putI 3 0 hw hn
    refine lv_aload_n hx hb dX3_isZone_19 rfl (lv_at hl 0 rfl) ?_
    refine gh_get (v := .int 0) hC hg hT.1.1 fX3_54_0 rfl dX3_isZone_20 ?_
    refine lv_if_ne (tgt := 30) hx hb dX3_isZone_23 (by decide) (fun c_5 => (absurd ((nx_eq (show ((0 : Int32)) = nI 0 from rfl) (show ((0 : Int32)) = nI 0 from rfl) (by omega) (by omega)).mpr (by omega)) c_5)) (fun _ => ?_)
    refine lv_iconst (v := 1) hx hb dX3_isZone_26 (by decide) ?_
    refine lv_goto (tgt := 31) hx hb dX3_isZone_27 (by decide) ?_
    exact gh_retz rfl hC hg hr hlk (⟨(if_pos (okL_8.mp ok_2)).symm, by rw [if_pos (okL_8.mp ok_2)]; exact hT⟩) dX3_isZone_31 (Nat.le_of_ble_eq_true rfl) (Nat.le_of_ble_eq_true rfl)
  rw [if_neg ok_2] at hp
  obtain ⟨rfl, hq⟩ := hp
  rw [hq] at hg
  refine lv_if_eq (tgt := 15) hx hb dX3_isZone_8 (by decide) (fun _ => ?_) (fun c_6 => (absurd ((nx_eq (show ((0 : Int32)) = nI 0 from rfl) (show ((0 : Int32)) = nI 0 from rfl) (by omega) (by omega)).mpr (by omega)) c_6))
  refine lv_iconst (v := 1) hx hb dX3_isZone_15 (by decide) ?_
  refine gh_put (v := .int 1) hC hg hT.1.1 fX3_54_0 rfl rfl (Nat.le_of_ble_eq_true rfl) dX3_isZone_16 (fun g H locs hg hw hn => ?_)
  have hT : tw_W V g0 g o ad (va_up I 3 1) A F := hT.putI 3 1 hw hn
  refine lv_aload_n hx hb dX3_isZone_19 rfl (lv_at hl 0 rfl) ?_
  refine gh_get (v := .int 1) hC hg hT.1.1 fX3_54_0 rfl dX3_isZone_20 ?_
  refine lv_if_ne (tgt := 30) hx hb dX3_isZone_23 (by decide) (fun _ => ?_) (fun c_7 => (absurd ((nx_eq (show ((1 : Int32)) = nI 1 from rfl) (show ((0 : Int32)) = nI 0 from rfl) (by omega) (by omega)).mp c_7) (by omega)))
  refine lv_iconst (v := 0) hx hb dX3_isZone_30 (by decide) ?_
  exact gh_retz rfl hC hg hr hlk (⟨(if_neg (fun h9 => ok_2 (okL_8.mpr h9))).symm, by rw [if_neg (fun h9 => ok_2 (okL_8.mpr h9))]; exact hT⟩) dX3_isZone_31 (Nat.le_of_ble_eq_true rfl) (Nat.le_of_ble_eq_true rfl)
set_option maxHeartbeats 1000000 in
set_option maxRecDepth 100000 in
theorem t_isPlace (l : Launch) (V : gh_V) (o : Nat) (ad : Nat → Nat) (I : Nat → Int32) (A : Nat → Nat → Int32) (F : Nat → Nat → UInt32) (g0 : gh_G) (hP : tw_P V g0 o ad I A F) (x : Int32) : MI l yX3_isPlace cX3_isPlace 2 (some .boolean) ({ frames := 1, cells := 0, slots := 0, locals := 22 } : Room) V [.ref o, .int x] g0 (fun r g1 => r = (if okL x 24 then 1 else 0) ∧ tw_W V g0 g1 o ad (va_up I 3 (if okL x 24 then 0 else 1)) A F) := by
  refine MG.of RX3 (by decide) rfl (Nat.le_of_ble_eq_true rfl) (fun pp ee s mm args below meth c ls hC hg hr hlk hnm hl => ?_)
  have hx := hC.1.1
  have hb := hC.1.2.1
  have hml := hC.1.2.2.1
  have hown := hC.1.2.2.2.1
  have hts := hC.1.2.2.2.2
  have hl : lv_has ls 2 [(0, .ref o), (1, .int x)] := hl
  have hT := hP.W
  refine lv_aload_n hx hb dX3_isPlace_0 rfl (lv_at hl 0 rfl) ?_
  refine lv_iload_n hx hb dX3_isPlace_1 rfl (lv_at hl 1 rfl) ?_
  refine lv_iconst (v := 0) hx hb dX3_isPlace_2 (by decide) ?_
  refine lv_bipush (v := 23) hx hb dX3_isPlace_3 (by decide) ?_
  refine gh_calli hg (gh_runS (As := [.int x, .int 0, .int 23]) (rest := [.ref o]) hC hg (t_in l V _ x 0 23) 3 (lw_S q3905 q3906 q138 q3907) hd_X3_in.2 ⟨Nat.le_of_ble_eq_true rfl, Nat.le_of_ble_eq_true rfl⟩ rfl hl.1 rfl (Nat.le_of_ble_eq_true rfl) dX3_isPlace_5 ⟨Nat.le_of_ble_eq_true rfl, Nat.le_of_ble_eq_true rfl⟩) (fun r_1 g H locs hg hp => ?_)
  replace hp : r_1 = (if okR x 0 23 then 1 else 0) ∧ g = _ := hp
  by_cases ok_2 : okR x 0 23
  · rw [if_pos ok_2] at hp
    obtain ⟨rfl, hq⟩ := hp
    rw [hq] at hg
    obtain ⟨h_3a, h_3b, h_3⟩ := okR_cl (show ((0 : Int32)) = nI 0 from rfl) (show ((23 : Int32)) = nI 23 from rfl) (by omega) (by omega) ok_2
    refine lv_if_eq (tgt := 15) hx hb dX3_isPlace_8 (by decide) (fun c_4 => (absurd ((nx_eq (show ((1 : Int32)) = nI 1 from rfl) (show ((0 : Int32)) = nI 0 from rfl) (by omega) (by omega)).mp c_4) (by omega))) (fun _ => ?_)
    refine lv_iconst (v := 0) hx hb dX3_isPlace_11 (by decide) ?_
    refine lv_goto (tgt := 16) hx hb dX3_isPlace_12 (by decide) ?_
    refine gh_put (v := .int 0) hC hg hT.1.1 fX3_54_0 rfl rfl (Nat.le_of_ble_eq_true rfl) dX3_isPlace_16 (fun g H locs hg hw hn => ?_)
    have hT : tw_W V g0 g o ad (va_up I 3 0) A F := hT.putI 3 0 hw hn
    refine lv_aload_n hx hb dX3_isPlace_19 rfl (lv_at hl 0 rfl) ?_
    refine gh_get (v := .int 0) hC hg hT.1.1 fX3_54_0 rfl dX3_isPlace_20 ?_
    refine lv_if_ne (tgt := 30) hx hb dX3_isPlace_23 (by decide) (fun c_5 => (absurd ((nx_eq (show ((0 : Int32)) = nI 0 from rfl) (show ((0 : Int32)) = nI 0 from rfl) (by omega) (by omega)).mpr (by omega)) c_5)) (fun _ => ?_)
    refine lv_iconst (v := 1) hx hb dX3_isPlace_26 (by decide) ?_
    refine lv_goto (tgt := 31) hx hb dX3_isPlace_27 (by decide) ?_
    exact gh_retz rfl hC hg hr hlk (⟨(if_pos (okL_24.mp ok_2)).symm, by rw [if_pos (okL_24.mp ok_2)]; exact hT⟩) dX3_isPlace_31 (Nat.le_of_ble_eq_true rfl) (Nat.le_of_ble_eq_true rfl)
  rw [if_neg ok_2] at hp
  obtain ⟨rfl, hq⟩ := hp
  rw [hq] at hg
  refine lv_if_eq (tgt := 15) hx hb dX3_isPlace_8 (by decide) (fun _ => ?_) (fun c_6 => (absurd ((nx_eq (show ((0 : Int32)) = nI 0 from rfl) (show ((0 : Int32)) = nI 0 from rfl) (by omega) (by omega)).mpr (by omega)) c_6))
  refine lv_iconst (v := 1) hx hb dX3_isPlace_15 (by decide) ?_
  refine gh_put (v := .int 1) hC hg hT.1.1 fX3_54_0 rfl rfl (Nat.le_of_ble_eq_true rfl) dX3_isPlace_16 (fun g H locs hg hw hn => ?_)
  have hT : tw_W V g0 g o ad (va_up I 3 1) A F := hT.putI 3 1 hw hn
  refine lv_aload_n hx hb dX3_isPlace_19 rfl (lv_at hl 0 rfl) ?_
  refine gh_get (v := .int 1) hC hg hT.1.1 fX3_54_0 rfl dX3_isPlace_20 ?_
  refine lv_if_ne (tgt := 30) hx hb dX3_isPlace_23 (by decide) (fun _ => ?_) (fun c_7 => (absurd ((nx_eq (show ((1 : Int32)) = nI 1 from rfl) (show ((0 : Int32)) = nI 0 from rfl) (by omega) (by omega)).mp c_7) (by omega)))
  refine lv_iconst (v := 0) hx hb dX3_isPlace_30 (by decide) ?_
  exact gh_retz rfl hC hg hr hlk (⟨(if_neg (fun h9 => ok_2 (okL_24.mpr h9))).symm, by rw [if_neg (fun h9 => ok_2 (okL_24.mpr h9))]; exact hT⟩) dX3_isPlace_31 (Nat.le_of_ble_eq_true rfl) (Nat.le_of_ble_eq_true rfl)
set_option maxHeartbeats 1000000 in
set_option maxRecDepth 100000 in
theorem t_isLot (l : Launch) (V : gh_V) (o : Nat) (ad : Nat → Nat) (I : Nat → Int32) (A : Nat → Nat → Int32) (F : Nat → Nat → UInt32) (g0 : gh_G) (hP : tw_P V g0 o ad I A F) (x : Int32) (L : Nat) (hL : A 0 163 = nI L) (hL12 : L ≤ 12) : MI l yX3_isLot cX3_isLot 2 (some .boolean) ({ frames := 1, cells := 0, slots := 0, locals := 22 } : Room) V [.ref o, .int x] g0 (fun r g1 => r = (if okL x L then 1 else 0) ∧ tw_W V g0 g1 o ad (va_up I 3 (if okL x L then 0 else 1)) A F) := by
  refine MG.of RX3 (by decide) rfl (Nat.le_of_ble_eq_true rfl) (fun pp ee s mm args below meth c ls hC hg hr hlk hnm hl => ?_)
  have hx := hC.1.1
  have hb := hC.1.2.1
  have hml := hC.1.2.2.1
  have hown := hC.1.2.2.2.1
  have hts := hC.1.2.2.2.2
  have hl : lv_has ls 2 [(0, .ref o), (1, .int x)] := hl
  have hT := hP.W
  refine lv_aload_n hx hb dX3_isLot_0 rfl (lv_at hl 0 rfl) ?_
  refine lv_iload_n hx hb dX3_isLot_1 rfl (lv_at hl 1 rfl) ?_
  refine lv_iconst (v := 0) hx hb dX3_isLot_2 (by decide) ?_
  refine lv_aload_n hx hb dX3_isLot_3 rfl (lv_at hl 0 rfl) ?_
  refine gh_get (v := .ref (ad 0)) hC hg hT.1.1 fX3_7_0 rfl dX3_isLot_4 ?_
  refine lv_sipush (v := 163) hx hb dX3_isLot_7 (by decide) ?_
  refine gh_iald (n := 578) (f := (A 0)) hC hg (hT.1.2.1 0 (by decide)) (show ((163 : Int32)) = nI 163 from rfl) (by omega) (by omega) dX3_isLot_10 ?_
  refine lv_iconst (v := 1) hx hb dX3_isLot_11 (by decide) ?_
  refine lv_isub hx hb dX3_isLot_12 ?_
  refine gh_calli hg (gh_runS (As := [.int x, .int 0, .int (((A 0) 163) - 1)]) (rest := [.ref o]) hC hg (t_in l V _ x 0 (((A 0) 163) - 1)) 3 (lw_S q3905 q3906 q138 q3907) hd_X3_in.2 ⟨Nat.le_of_ble_eq_true rfl, Nat.le_of_ble_eq_true rfl⟩ rfl hl.1 rfl (Nat.le_of_ble_eq_true rfl) dX3_isLot_13 ⟨Nat.le_of_ble_eq_true rfl, Nat.le_of_ble_eq_true rfl⟩) (fun r_1 g H locs hg hp => ?_)
  replace hp : r_1 = (if okR x 0 (((A 0) 163) - 1) then 1 else 0) ∧ g = _ := hp
  by_cases ok_2 : okR x 0 (((A 0) 163) - 1)
  · rw [if_pos ok_2] at hp
    obtain ⟨rfl, hq⟩ := hp
    rw [hq] at hg
    refine lv_if_eq (tgt := 23) hx hb dX3_isLot_16 (by decide) (fun c_3 => (absurd ((nx_eq (show ((1 : Int32)) = nI 1 from rfl) (show ((0 : Int32)) = nI 0 from rfl) (by omega) (by omega)).mp c_3) (by omega))) (fun _ => ?_)
    refine lv_iconst (v := 0) hx hb dX3_isLot_19 (by decide) ?_
    refine lv_goto (tgt := 24) hx hb dX3_isLot_20 (by decide) ?_
    refine gh_put (v := .int 0) hC hg hT.1.1 fX3_54_0 rfl rfl (Nat.le_of_ble_eq_true rfl) dX3_isLot_24 (fun g H locs hg hw hn => ?_)
    have hT : tw_W V g0 g o ad (va_up I 3 0) A F := hT.putI 3 0 hw hn
    refine lv_aload_n hx hb dX3_isLot_27 rfl (lv_at hl 0 rfl) ?_
    refine gh_get (v := .int 0) hC hg hT.1.1 fX3_54_0 rfl dX3_isLot_28 ?_
    refine lv_if_ne (tgt := 38) hx hb dX3_isLot_31 (by decide) (fun c_4 => (absurd ((nx_eq (show ((0 : Int32)) = nI 0 from rfl) (show ((0 : Int32)) = nI 0 from rfl) (by omega) (by omega)).mpr (by omega)) c_4)) (fun _ => ?_)
    refine lv_iconst (v := 1) hx hb dX3_isLot_34 (by decide) ?_
    refine lv_goto (tgt := 39) hx hb dX3_isLot_35 (by decide) ?_
    exact gh_retz rfl hC hg hr hlk (⟨(if_pos ((okL_R hL (by omega)).mp ok_2)).symm, by rw [if_pos ((okL_R hL (by omega)).mp ok_2)]; exact hT⟩) dX3_isLot_39 (Nat.le_of_ble_eq_true rfl) (Nat.le_of_ble_eq_true rfl)
  rw [if_neg ok_2] at hp
  obtain ⟨rfl, hq⟩ := hp
  rw [hq] at hg
  refine lv_if_eq (tgt := 23) hx hb dX3_isLot_16 (by decide) (fun _ => ?_) (fun c_5 => (absurd ((nx_eq (show ((0 : Int32)) = nI 0 from rfl) (show ((0 : Int32)) = nI 0 from rfl) (by omega) (by omega)).mpr (by omega)) c_5))
  refine lv_iconst (v := 1) hx hb dX3_isLot_23 (by decide) ?_
  refine gh_put (v := .int 1) hC hg hT.1.1 fX3_54_0 rfl rfl (Nat.le_of_ble_eq_true rfl) dX3_isLot_24 (fun g H locs hg hw hn => ?_)
  have hT : tw_W V g0 g o ad (va_up I 3 1) A F := hT.putI 3 1 hw hn
  refine lv_aload_n hx hb dX3_isLot_27 rfl (lv_at hl 0 rfl) ?_
  refine gh_get (v := .int 1) hC hg hT.1.1 fX3_54_0 rfl dX3_isLot_28 ?_
  refine lv_if_ne (tgt := 38) hx hb dX3_isLot_31 (by decide) (fun _ => ?_) (fun c_6 => (absurd ((nx_eq (show ((1 : Int32)) = nI 1 from rfl) (show ((0 : Int32)) = nI 0 from rfl) (by omega) (by omega)).mp c_6) (by omega)))
  refine lv_iconst (v := 0) hx hb dX3_isLot_38 (by decide) ?_
  exact gh_retz rfl hC hg hr hlk (⟨(if_neg (fun h9 => ok_2 ((okL_R hL (by omega)).mpr h9))).symm, by rw [if_neg (fun h9 => ok_2 ((okL_R hL (by omega)).mpr h9))]; exact hT⟩) dX3_isLot_39 (Nat.le_of_ble_eq_true rfl) (Nat.le_of_ble_eq_true rfl)
set_option maxHeartbeats 1000000 in
set_option maxRecDepth 100000 in
theorem t_isCleaner (l : Launch) (V : gh_V) (o : Nat) (ad : Nat → Nat) (I : Nat → Int32) (A : Nat → Nat → Int32) (F : Nat → Nat → UInt32) (g0 : gh_G) (hP : tw_P V g0 o ad I A F) (x y : Int32) : MI l yX3_isCleaner cX3_isCleaner 3 (some .boolean) ({ frames := 1, cells := 0, slots := 0, locals := 22 } : Room) V [.ref o, .int x, .int y] g0 (fun r g1 => r = (if (okL x 2 ∧ okL y 24) then 1 else 0) ∧ tw_W V g0 g1 o ad (va_up I 3 (if (okL x 2 ∧ okL y 24) then 0 else 1)) A F) := by
  refine MG.of RX3 (by decide) rfl (Nat.le_of_ble_eq_true rfl) (fun pp ee s mm args below meth c ls hC hg hr hlk hnm hl => ?_)
  have hx := hC.1.1
  have hb := hC.1.2.1
  have hml := hC.1.2.2.1
  have hown := hC.1.2.2.2.1
  have hts := hC.1.2.2.2.2
  have hl : lv_has ls 3 [(0, .ref o), (1, .int x), (2, .int y)] := hl
  have hT := hP.W
  refine lv_aload_n hx hb dX3_isCleaner_0 rfl (lv_at hl 0 rfl) ?_
  refine lv_iload_n hx hb dX3_isCleaner_1 rfl (lv_at hl 1 rfl) ?_
  refine lv_iconst (v := 0) hx hb dX3_isCleaner_2 (by decide) ?_
  refine lv_iconst (v := 1) hx hb dX3_isCleaner_3 (by decide) ?_
  refine gh_calli hg (gh_runS (As := [.int x, .int 0, .int 1]) (rest := [.ref o]) hC hg (t_in l V _ x 0 1) 3 (lw_S q3905 q3906 q138 q3907) hd_X3_in.2 ⟨Nat.le_of_ble_eq_true rfl, Nat.le_of_ble_eq_true rfl⟩ rfl hl.1 rfl (Nat.le_of_ble_eq_true rfl) dX3_isCleaner_4 ⟨Nat.le_of_ble_eq_true rfl, Nat.le_of_ble_eq_true rfl⟩) (fun r_1 g H locs hg hp => ?_)
  replace hp : r_1 = (if okR x 0 1 then 1 else 0) ∧ g = _ := hp
  by_cases ok_2 : okR x 0 1
  · rw [if_pos ok_2] at hp
    obtain ⟨rfl, hq⟩ := hp
    rw [hq] at hg
    obtain ⟨h_3a, h_3b, h_3⟩ := okR_cl (show ((0 : Int32)) = nI 0 from rfl) (show ((1 : Int32)) = nI 1 from rfl) (by omega) (by omega) ok_2
    refine lv_if_eq (tgt := 24) hx hb dX3_isCleaner_7 (by decide) (fun c_4 => (absurd ((nx_eq (show ((1 : Int32)) = nI 1 from rfl) (show ((0 : Int32)) = nI 0 from rfl) (by omega) (by omega)).mp c_4) (by omega))) (fun _ => ?_)
    refine lv_iload_n hx hb dX3_isCleaner_10 rfl (lv_at hl 2 rfl) ?_
    refine lv_iconst (v := 0) hx hb dX3_isCleaner_11 (by decide) ?_
    refine lv_bipush (v := 23) hx hb dX3_isCleaner_12 (by decide) ?_
    refine gh_calli hg (gh_runS (As := [.int y, .int 0, .int 23]) (rest := [.ref o]) hC hg (t_in l V _ y 0 23) 3 (lw_S q3905 q3906 q138 q3907) hd_X3_in.2 ⟨Nat.le_of_ble_eq_true rfl, Nat.le_of_ble_eq_true rfl⟩ rfl hl.1 rfl (Nat.le_of_ble_eq_true rfl) dX3_isCleaner_14 ⟨Nat.le_of_ble_eq_true rfl, Nat.le_of_ble_eq_true rfl⟩) (fun r_5 g H locs hg hp => ?_)
    replace hp : r_5 = (if okR y 0 23 then 1 else 0) ∧ g = _ := hp
    by_cases ok_6 : okR y 0 23
    · rw [if_pos ok_6] at hp
      obtain ⟨rfl, hq⟩ := hp
      rw [hq] at hg
      obtain ⟨h_7a, h_7b, h_7⟩ := okR_cl (show ((0 : Int32)) = nI 0 from rfl) (show ((23 : Int32)) = nI 23 from rfl) (by omega) (by omega) ok_6
      refine lv_if_eq (tgt := 24) hx hb dX3_isCleaner_17 (by decide) (fun c_8 => (absurd ((nx_eq (show ((1 : Int32)) = nI 1 from rfl) (show ((0 : Int32)) = nI 0 from rfl) (by omega) (by omega)).mp c_8) (by omega))) (fun _ => ?_)
      refine lv_iconst (v := 0) hx hb dX3_isCleaner_20 (by decide) ?_
      refine lv_goto (tgt := 25) hx hb dX3_isCleaner_21 (by decide) ?_
      refine gh_put (v := .int 0) hC hg hT.1.1 fX3_54_0 rfl rfl (Nat.le_of_ble_eq_true rfl) dX3_isCleaner_25 (fun g H locs hg hw hn => ?_)
      have hT : tw_W V g0 g o ad (va_up I 3 0) A F := hT.putI 3 0 hw hn
      refine lv_aload_n hx hb dX3_isCleaner_28 rfl (lv_at hl 0 rfl) ?_
      refine gh_get (v := .int 0) hC hg hT.1.1 fX3_54_0 rfl dX3_isCleaner_29 ?_
      refine lv_if_ne (tgt := 39) hx hb dX3_isCleaner_32 (by decide) (fun c_9 => (absurd ((nx_eq (show ((0 : Int32)) = nI 0 from rfl) (show ((0 : Int32)) = nI 0 from rfl) (by omega) (by omega)).mpr (by omega)) c_9)) (fun _ => ?_)
      refine lv_iconst (v := 1) hx hb dX3_isCleaner_35 (by decide) ?_
      refine lv_goto (tgt := 40) hx hb dX3_isCleaner_36 (by decide) ?_
      exact gh_retz rfl hC hg hr hlk (⟨(if_pos ⟨okL_2.mp ok_2, okL_24.mp ok_6⟩).symm, by rw [if_pos ⟨okL_2.mp ok_2, okL_24.mp ok_6⟩]; exact hT⟩) dX3_isCleaner_40 (Nat.le_of_ble_eq_true rfl) (Nat.le_of_ble_eq_true rfl)
    rw [if_neg ok_6] at hp
    obtain ⟨rfl, hq⟩ := hp
    rw [hq] at hg
    refine lv_if_eq (tgt := 24) hx hb dX3_isCleaner_17 (by decide) (fun _ => ?_) (fun c_10 => (absurd ((nx_eq (show ((0 : Int32)) = nI 0 from rfl) (show ((0 : Int32)) = nI 0 from rfl) (by omega) (by omega)).mpr (by omega)) c_10))
    refine lv_iconst (v := 1) hx hb dX3_isCleaner_24 (by decide) ?_
    refine gh_put (v := .int 1) hC hg hT.1.1 fX3_54_0 rfl rfl (Nat.le_of_ble_eq_true rfl) dX3_isCleaner_25 (fun g H locs hg hw hn => ?_)
    have hT : tw_W V g0 g o ad (va_up I 3 1) A F := hT.putI 3 1 hw hn
    refine lv_aload_n hx hb dX3_isCleaner_28 rfl (lv_at hl 0 rfl) ?_
    refine gh_get (v := .int 1) hC hg hT.1.1 fX3_54_0 rfl dX3_isCleaner_29 ?_
    refine lv_if_ne (tgt := 39) hx hb dX3_isCleaner_32 (by decide) (fun _ => ?_) (fun c_11 => (absurd ((nx_eq (show ((1 : Int32)) = nI 1 from rfl) (show ((0 : Int32)) = nI 0 from rfl) (by omega) (by omega)).mp c_11) (by omega)))
    refine lv_iconst (v := 0) hx hb dX3_isCleaner_39 (by decide) ?_
    exact gh_retz rfl hC hg hr hlk (⟨(if_neg (fun h9 => ok_6 (okL_24.mpr h9.2))).symm, by rw [if_neg (fun h9 => ok_6 (okL_24.mpr h9.2))]; exact hT⟩) dX3_isCleaner_40 (Nat.le_of_ble_eq_true rfl) (Nat.le_of_ble_eq_true rfl)
  rw [if_neg ok_2] at hp
  obtain ⟨rfl, hq⟩ := hp
  rw [hq] at hg
  refine lv_if_eq (tgt := 24) hx hb dX3_isCleaner_7 (by decide) (fun _ => ?_) (fun c_12 => (absurd ((nx_eq (show ((0 : Int32)) = nI 0 from rfl) (show ((0 : Int32)) = nI 0 from rfl) (by omega) (by omega)).mpr (by omega)) c_12))
  refine lv_iconst (v := 1) hx hb dX3_isCleaner_24 (by decide) ?_
  refine gh_put (v := .int 1) hC hg hT.1.1 fX3_54_0 rfl rfl (Nat.le_of_ble_eq_true rfl) dX3_isCleaner_25 (fun g H locs hg hw hn => ?_)
  have hT : tw_W V g0 g o ad (va_up I 3 1) A F := hT.putI 3 1 hw hn
  refine lv_aload_n hx hb dX3_isCleaner_28 rfl (lv_at hl 0 rfl) ?_
  refine gh_get (v := .int 1) hC hg hT.1.1 fX3_54_0 rfl dX3_isCleaner_29 ?_
  refine lv_if_ne (tgt := 39) hx hb dX3_isCleaner_32 (by decide) (fun _ => ?_) (fun c_13 => (absurd ((nx_eq (show ((1 : Int32)) = nI 1 from rfl) (show ((0 : Int32)) = nI 0 from rfl) (by omega) (by omega)).mp c_13) (by omega)))
  refine lv_iconst (v := 0) hx hb dX3_isCleaner_39 (by decide) ?_
  exact gh_retz rfl hC hg hr hlk (⟨(if_neg (fun h9 => ok_2 (okL_2.mpr h9.1))).symm, by rw [if_neg (fun h9 => ok_2 (okL_2.mpr h9.1))]; exact hT⟩) dX3_isCleaner_40 (Nat.le_of_ble_eq_true rfl) (Nat.le_of_ble_eq_true rfl)
set_option maxHeartbeats 1000000 in
set_option maxRecDepth 100000 in
theorem t_time (l : Launch) (V : gh_V) (o : Nat) (ad : Nat → Nat) (I : Nat → Int32) (A : Nat → Nat → Int32) (F : Nat → Nat → UInt32) (g0 : gh_G) (hP : tw_P V g0 o ad I A F)  : MI l yX3_time cX3_time 1 (some .int) ({ frames := 0, cells := 0, slots := 0, locals := 0 } : Room) V [.ref o] g0 (fun r g1 => r = A 0 0 ∧ tw_W V g0 g1 o ad (va_up I 3 0) A F) := by
  refine MG.of RX3 (by decide) rfl (Nat.le_of_ble_eq_true rfl) (fun pp ee s mm args below meth c ls hC hg hr hlk hnm hl => ?_)
  have hx := hC.1.1
  have hb := hC.1.2.1
  have hml := hC.1.2.2.1
  have hown := hC.1.2.2.2.1
  have hts := hC.1.2.2.2.2
  have hl : lv_has ls 1 [(0, .ref o)] := hl
  have hT := hP.W
  refine lv_aload_n hx hb dX3_time_0 rfl (lv_at hl 0 rfl) ?_
  refine lv_iconst (v := 0) hx hb dX3_time_1 (by decide) ?_
  refine gh_put (v := .int 0) hC hg hT.1.1 fX3_54_0 rfl rfl (Nat.le_of_ble_eq_true rfl) dX3_time_2 (fun g H locs hg hw hn => ?_)
  have hT : tw_W V g0 g o ad (va_up I 3 0) A F := hT.putI 3 0 hw hn
  refine lv_aload_n hx hb dX3_time_5 rfl (lv_at hl 0 rfl) ?_
  refine gh_get (v := .ref (ad 0)) hC hg hT.1.1 fX3_7_0 rfl dX3_time_6 ?_
  refine lv_iconst (v := 0) hx hb dX3_time_9 (by decide) ?_
  refine gh_iald (n := 578) (f := (A 0)) hC hg (hT.1.2.1 0 (by decide)) (show ((0 : Int32)) = nI 0 from rfl) (by omega) (by omega) dX3_time_10 ?_
  exact gh_reti hC hg hr hlk (⟨rfl, hT⟩) dX3_time_11 (Nat.le_of_ble_eq_true rfl) (Nat.le_of_ble_eq_true rfl)
set_option maxHeartbeats 1000000 in
set_option maxRecDepth 100000 in
theorem t_gasByMinutes (l : Launch) (V : gh_V) (o : Nat) (ad : Nat → Nat) (I : Nat → Int32) (A : Nat → Nat → Int32) (F : Nat → Nat → UInt32) (g0 : gh_G) (hP : tw_P V g0 o ad I A F)  : MI l yX3_gasByMinutes cX3_gasByMinutes 1 (some .int) ({ frames := 0, cells := 0, slots := 0, locals := 0 } : Room) V [.ref o] g0 (fun r g1 => r = A 0 2 ∧ tw_W V g0 g1 o ad (va_up I 3 0) A F) := by
  refine MG.of RX3 (by decide) rfl (Nat.le_of_ble_eq_true rfl) (fun pp ee s mm args below meth c ls hC hg hr hlk hnm hl => ?_)
  have hx := hC.1.1
  have hb := hC.1.2.1
  have hml := hC.1.2.2.1
  have hown := hC.1.2.2.2.1
  have hts := hC.1.2.2.2.2
  have hl : lv_has ls 1 [(0, .ref o)] := hl
  have hT := hP.W
  refine lv_aload_n hx hb dX3_gasByMinutes_0 rfl (lv_at hl 0 rfl) ?_
  refine lv_iconst (v := 0) hx hb dX3_gasByMinutes_1 (by decide) ?_
  refine gh_put (v := .int 0) hC hg hT.1.1 fX3_54_0 rfl rfl (Nat.le_of_ble_eq_true rfl) dX3_gasByMinutes_2 (fun g H locs hg hw hn => ?_)
  have hT : tw_W V g0 g o ad (va_up I 3 0) A F := hT.putI 3 0 hw hn
  refine lv_aload_n hx hb dX3_gasByMinutes_5 rfl (lv_at hl 0 rfl) ?_
  refine gh_get (v := .ref (ad 0)) hC hg hT.1.1 fX3_7_0 rfl dX3_gasByMinutes_6 ?_
  refine lv_iconst (v := 2) hx hb dX3_gasByMinutes_9 (by decide) ?_
  refine gh_iald (n := 578) (f := (A 0)) hC hg (hT.1.2.1 0 (by decide)) (show ((2 : Int32)) = nI 2 from rfl) (by omega) (by omega) dX3_gasByMinutes_10 ?_
  exact gh_reti hC hg hr hlk (⟨rfl, hT⟩) dX3_gasByMinutes_11 (Nat.le_of_ble_eq_true rfl) (Nat.le_of_ble_eq_true rfl)
set_option maxHeartbeats 1000000 in
set_option maxRecDepth 100000 in
theorem t_plans (l : Launch) (V : gh_V) (o : Nat) (ad : Nat → Nat) (I : Nat → Int32) (A : Nat → Nat → Int32) (F : Nat → Nat → UInt32) (g0 : gh_G) (hP : tw_P V g0 o ad I A F)  : MI l yX3_plans cX3_plans 1 (some .int) ({ frames := 0, cells := 0, slots := 0, locals := 0 } : Room) V [.ref o] g0 (fun r g1 => r = A 0 529 ∧ tw_W V g0 g1 o ad (va_up I 3 0) A F) := by
  refine MG.of RX3 (by decide) rfl (Nat.le_of_ble_eq_true rfl) (fun pp ee s mm args below meth c ls hC hg hr hlk hnm hl => ?_)
  have hx := hC.1.1
  have hb := hC.1.2.1
  have hml := hC.1.2.2.1
  have hown := hC.1.2.2.2.1
  have hts := hC.1.2.2.2.2
  have hl : lv_has ls 1 [(0, .ref o)] := hl
  have hT := hP.W
  refine lv_aload_n hx hb dX3_plans_0 rfl (lv_at hl 0 rfl) ?_
  refine lv_iconst (v := 0) hx hb dX3_plans_1 (by decide) ?_
  refine gh_put (v := .int 0) hC hg hT.1.1 fX3_54_0 rfl rfl (Nat.le_of_ble_eq_true rfl) dX3_plans_2 (fun g H locs hg hw hn => ?_)
  have hT : tw_W V g0 g o ad (va_up I 3 0) A F := hT.putI 3 0 hw hn
  refine lv_aload_n hx hb dX3_plans_5 rfl (lv_at hl 0 rfl) ?_
  refine gh_get (v := .ref (ad 0)) hC hg hT.1.1 fX3_7_0 rfl dX3_plans_6 ?_
  refine lv_sipush (v := 529) hx hb dX3_plans_9 (by decide) ?_
  refine gh_iald (n := 578) (f := (A 0)) hC hg (hT.1.2.1 0 (by decide)) (show ((529 : Int32)) = nI 529 from rfl) (by omega) (by omega) dX3_plans_12 ?_
  exact gh_reti hC hg hr hlk (⟨rfl, hT⟩) dX3_plans_13 (Nat.le_of_ble_eq_true rfl) (Nat.le_of_ble_eq_true rfl)
set_option maxHeartbeats 1000000 in
set_option maxRecDepth 100000 in
theorem t_lots (l : Launch) (V : gh_V) (o : Nat) (ad : Nat → Nat) (I : Nat → Int32) (A : Nat → Nat → Int32) (F : Nat → Nat → UInt32) (g0 : gh_G) (hP : tw_P V g0 o ad I A F)  : MI l yX3_lots cX3_lots 1 (some .int) ({ frames := 0, cells := 0, slots := 0, locals := 0 } : Room) V [.ref o] g0 (fun r g1 => r = A 0 163 ∧ tw_W V g0 g1 o ad (va_up I 3 0) A F) := by
  refine MG.of RX3 (by decide) rfl (Nat.le_of_ble_eq_true rfl) (fun pp ee s mm args below meth c ls hC hg hr hlk hnm hl => ?_)
  have hx := hC.1.1
  have hb := hC.1.2.1
  have hml := hC.1.2.2.1
  have hown := hC.1.2.2.2.1
  have hts := hC.1.2.2.2.2
  have hl : lv_has ls 1 [(0, .ref o)] := hl
  have hT := hP.W
  refine lv_aload_n hx hb dX3_lots_0 rfl (lv_at hl 0 rfl) ?_
  refine lv_iconst (v := 0) hx hb dX3_lots_1 (by decide) ?_
  refine gh_put (v := .int 0) hC hg hT.1.1 fX3_54_0 rfl rfl (Nat.le_of_ble_eq_true rfl) dX3_lots_2 (fun g H locs hg hw hn => ?_)
  have hT : tw_W V g0 g o ad (va_up I 3 0) A F := hT.putI 3 0 hw hn
  refine lv_aload_n hx hb dX3_lots_5 rfl (lv_at hl 0 rfl) ?_
  refine gh_get (v := .ref (ad 0)) hC hg hT.1.1 fX3_7_0 rfl dX3_lots_6 ?_
  refine lv_sipush (v := 163) hx hb dX3_lots_9 (by decide) ?_
  refine gh_iald (n := 578) (f := (A 0)) hC hg (hT.1.2.1 0 (by decide)) (show ((163 : Int32)) = nI 163 from rfl) (by omega) (by omega) dX3_lots_12 ?_
  exact gh_reti hC hg hr hlk (⟨rfl, hT⟩) dX3_lots_13 (Nat.le_of_ble_eq_true rfl) (Nat.le_of_ble_eq_true rfl)
set_option maxHeartbeats 1000000 in
set_option maxRecDepth 100000 in
theorem t_orders (l : Launch) (V : gh_V) (o : Nat) (ad : Nat → Nat) (I : Nat → Int32) (A : Nat → Nat → Int32) (F : Nat → Nat → UInt32) (g0 : gh_G) (hP : tw_P V g0 o ad I A F)  : MI l yX3_orders cX3_orders 1 (some .int) ({ frames := 0, cells := 0, slots := 0, locals := 0 } : Room) V [.ref o] g0 (fun r g1 => r = A 0 464 ∧ tw_W V g0 g1 o ad (va_up I 3 0) A F) := by
  refine MG.of RX3 (by decide) rfl (Nat.le_of_ble_eq_true rfl) (fun pp ee s mm args below meth c ls hC hg hr hlk hnm hl => ?_)
  have hx := hC.1.1
  have hb := hC.1.2.1
  have hml := hC.1.2.2.1
  have hown := hC.1.2.2.2.1
  have hts := hC.1.2.2.2.2
  have hl : lv_has ls 1 [(0, .ref o)] := hl
  have hT := hP.W
  refine lv_aload_n hx hb dX3_orders_0 rfl (lv_at hl 0 rfl) ?_
  refine lv_iconst (v := 0) hx hb dX3_orders_1 (by decide) ?_
  refine gh_put (v := .int 0) hC hg hT.1.1 fX3_54_0 rfl rfl (Nat.le_of_ble_eq_true rfl) dX3_orders_2 (fun g H locs hg hw hn => ?_)
  have hT : tw_W V g0 g o ad (va_up I 3 0) A F := hT.putI 3 0 hw hn
  refine lv_aload_n hx hb dX3_orders_5 rfl (lv_at hl 0 rfl) ?_
  refine gh_get (v := .ref (ad 0)) hC hg hT.1.1 fX3_7_0 rfl dX3_orders_6 ?_
  refine lv_sipush (v := 464) hx hb dX3_orders_9 (by decide) ?_
  refine gh_iald (n := 578) (f := (A 0)) hC hg (hT.1.2.1 0 (by decide)) (show ((464 : Int32)) = nI 464 from rfl) (by omega) (by omega) dX3_orders_12 ?_
  exact gh_reti hC hg hr hlk (⟨rfl, hT⟩) dX3_orders_13 (Nat.le_of_ble_eq_true rfl) (Nat.le_of_ble_eq_true rfl)
set_option maxHeartbeats 1000000 in
set_option maxRecDepth 100000 in
theorem t_savedStates (l : Launch) (V : gh_V) (o : Nat) (ad : Nat → Nat) (I : Nat → Int32) (A : Nat → Nat → Int32) (F : Nat → Nat → UInt32) (g0 : gh_G) (hP : tw_P V g0 o ad I A F)  : MI l yX3_savedStates cX3_savedStates 1 (some .int) ({ frames := 0, cells := 0, slots := 0, locals := 0 } : Room) V [.ref o] g0 (fun r g1 => r = I 0 ∧ tw_W V g0 g1 o ad (va_up I 3 0) A F) := by
  refine MG.of RX3 (by decide) rfl (Nat.le_of_ble_eq_true rfl) (fun pp ee s mm args below meth c ls hC hg hr hlk hnm hl => ?_)
  have hx := hC.1.1
  have hb := hC.1.2.1
  have hml := hC.1.2.2.1
  have hown := hC.1.2.2.2.1
  have hts := hC.1.2.2.2.2
  have hl : lv_has ls 1 [(0, .ref o)] := hl
  have hT := hP.W
  refine lv_aload_n hx hb dX3_savedStates_0 rfl (lv_at hl 0 rfl) ?_
  refine lv_iconst (v := 0) hx hb dX3_savedStates_1 (by decide) ?_
  refine gh_put (v := .int 0) hC hg hT.1.1 fX3_54_0 rfl rfl (Nat.le_of_ble_eq_true rfl) dX3_savedStates_2 (fun g H locs hg hw hn => ?_)
  have hT : tw_W V g0 g o ad (va_up I 3 0) A F := hT.putI 3 0 hw hn
  refine lv_aload_n hx hb dX3_savedStates_5 rfl (lv_at hl 0 rfl) ?_
  refine gh_get (v := .int (I 0)) hC hg hT.1.1 fX3_66_0 rfl dX3_savedStates_6 ?_
  exact gh_reti hC hg hr hlk (⟨rfl, hT⟩) dX3_savedStates_9 (Nat.le_of_ble_eq_true rfl) (Nat.le_of_ble_eq_true rfl)
set_option maxHeartbeats 1000000 in
set_option maxRecDepth 100000 in
theorem t_burnerOf (l : Launch) (V : gh_V) (o : Nat) (ad : Nat → Nat) (I : Nat → Int32) (A : Nat → Nat → Int32) (F : Nat → Nat → UInt32) (g0 : gh_G) (hP : tw_P V g0 o ad I A F) (x : Int32) : MI l yX3_burnerOf cX3_burnerOf 2 (some .int) ({ frames := 2, cells := 0, slots := 0, locals := 43 } : Room) V [.ref o, .int x] g0 (fun r g1 => (c1 (okL x 8) = 0 → r = zn (A 0) x.toNatClampNeg 0) ∧ tw_W V g0 g1 o ad (va_up I 3 (c1 (okL x 8))) A F) := by
  refine MG.of RX3 (by decide) rfl (Nat.le_of_ble_eq_true rfl) (fun pp ee s mm args below meth c ls hC hg hr hlk hnm hl => ?_)
  have hx := hC.1.1
  have hb := hC.1.2.1
  have hml := hC.1.2.2.1
  have hown := hC.1.2.2.2.1
  have hts := hC.1.2.2.2.2
  have hl : lv_has ls 2 [(0, .ref o), (1, .int x)] := hl
  have hT := hP.W
  refine lv_aload_n hx hb dX3_burnerOf_0 rfl (lv_at hl 0 rfl) ?_
  refine lv_iload_n hx hb dX3_burnerOf_1 rfl (lv_at hl 1 rfl) ?_
  refine gh_calli hg (gh_runV (As := [.int x]) (rest := []) hC hg (t_isZone l V o ad I A F _ hT.1 x) 1 (lw_V q3901 q3903 qs55 q138 q3904) hT.1.1 rfl hd_X3_isZone ⟨Nat.le_of_ble_eq_true rfl, Nat.le_of_ble_eq_true rfl⟩ rfl hl.1 rfl (Nat.le_of_ble_eq_true rfl) dX3_burnerOf_2 ⟨Nat.le_of_ble_eq_true rfl, Nat.le_of_ble_eq_true rfl⟩) (fun r_1 g H locs hg hp => ?_)
  replace hp : r_1 = (if okL x 8 then 1 else 0) ∧ tw_W V _ g o ad (va_up I 3 (if okL x 8 then 0 else 1)) A F := hp
  by_cases ok_2 : okL x 8
  · rw [if_pos ok_2, if_pos ok_2] at hp
    obtain ⟨rfl, hp⟩ := hp
    have hT : tw_W V g0 g o ad (va_up I 3 0) A F := hT.call hp
    obtain ⟨h_3a, h_3⟩ := okL_cl (by omega) ok_2
    refine lv_if_eq (tgt := 17) hx hb dX3_burnerOf_5 (by decide) (fun c_4 => (absurd ((nx_eq (show ((1 : Int32)) = nI 1 from rfl) (show ((0 : Int32)) = nI 0 from rfl) (by omega) (by omega)).mp c_4) (by omega))) (fun _ => ?_)
    refine lv_aload_n hx hb dX3_burnerOf_8 rfl (lv_at hl 0 rfl) ?_
    refine lv_iload_n hx hb dX3_burnerOf_9 rfl (lv_at hl 1 rfl) ?_
    refine lv_iconst (v := 0) hx hb dX3_burnerOf_10 (by decide) ?_
    refine gh_calli hg (gh_runV (As := [.int x, .int 0]) (rest := []) hC hg (t_zone l V o ad (va_up I 3 0) A F _ hT.1 x 0 ((x).toNatClampNeg) 0 h_3 (show ((0 : Int32)) = nI 0 from rfl) (by omega) (by omega)) 2 (lw_V q3920 q3922 qs59 q138 q3923) hT.1.1 rfl hd_X3_zone ⟨Nat.le_of_ble_eq_true rfl, Nat.le_of_ble_eq_true rfl⟩ rfl hl.1 rfl (Nat.le_of_ble_eq_true rfl) dX3_burnerOf_11 ⟨Nat.le_of_ble_eq_true rfl, Nat.le_of_ble_eq_true rfl⟩) (fun r_5 g H locs hg hp => ?_)
    obtain ⟨hp, hq⟩ := hp
    replace hp : r_5 = (zn (A 0) ((x).toNatClampNeg) 0) := hp
    subst hp
    rw [hq] at hg
    refine lv_goto (tgt := 18) hx hb dX3_burnerOf_14 (by decide) ?_
    have e9 : c1 (okL x 8) = 0 := by first | rfl | (simp only [c1, c2, c3, if_pos ok_2]; done) | simp [c1, c2, c3, ok_2]
    exact gh_reti hC hg hr hlk (⟨fun h9 => rfl, by rw [e9]; exact hT⟩) dX3_burnerOf_18 (Nat.le_of_ble_eq_true rfl) (Nat.le_of_ble_eq_true rfl)
  rw [if_neg ok_2, if_neg ok_2] at hp
  obtain ⟨rfl, hp⟩ := hp
  have hT : tw_W V g0 g o ad (va_up I 3 1) A F := hT.call hp
  refine lv_if_eq (tgt := 17) hx hb dX3_burnerOf_5 (by decide) (fun _ => ?_) (fun c_6 => (absurd ((nx_eq (show ((0 : Int32)) = nI 0 from rfl) (show ((0 : Int32)) = nI 0 from rfl) (by omega) (by omega)).mpr (by omega)) c_6))
  refine lv_iconst (v := 0) hx hb dX3_burnerOf_17 (by decide) ?_
  have e9 : c1 (okL x 8) = 1 := by first | rfl | (simp only [c1, c2, c3, if_neg ok_2]; done) | simp [c1, c2, c3, ok_2]
  exact gh_reti hC hg hr hlk (⟨fun h9 => absurd (e9.symm.trans h9) (by decide), by rw [e9]; exact hT⟩) dX3_burnerOf_18 (Nat.le_of_ble_eq_true rfl) (Nat.le_of_ble_eq_true rfl)
set_option maxHeartbeats 1000000 in
set_option maxRecDepth 100000 in
theorem t_fanOf (l : Launch) (V : gh_V) (o : Nat) (ad : Nat → Nat) (I : Nat → Int32) (A : Nat → Nat → Int32) (F : Nat → Nat → UInt32) (g0 : gh_G) (hP : tw_P V g0 o ad I A F) (x : Int32) : MI l yX3_fanOf cX3_fanOf 2 (some .int) ({ frames := 2, cells := 0, slots := 0, locals := 43 } : Room) V [.ref o, .int x] g0 (fun r g1 => (c1 (okL x 8) = 0 → r = zn (A 0) x.toNatClampNeg 1) ∧ tw_W V g0 g1 o ad (va_up I 3 (c1 (okL x 8))) A F) := by
  refine MG.of RX3 (by decide) rfl (Nat.le_of_ble_eq_true rfl) (fun pp ee s mm args below meth c ls hC hg hr hlk hnm hl => ?_)
  have hx := hC.1.1
  have hb := hC.1.2.1
  have hml := hC.1.2.2.1
  have hown := hC.1.2.2.2.1
  have hts := hC.1.2.2.2.2
  have hl : lv_has ls 2 [(0, .ref o), (1, .int x)] := hl
  have hT := hP.W
  refine lv_aload_n hx hb dX3_fanOf_0 rfl (lv_at hl 0 rfl) ?_
  refine lv_iload_n hx hb dX3_fanOf_1 rfl (lv_at hl 1 rfl) ?_
  refine gh_calli hg (gh_runV (As := [.int x]) (rest := []) hC hg (t_isZone l V o ad I A F _ hT.1 x) 1 (lw_V q3901 q3903 qs55 q138 q3904) hT.1.1 rfl hd_X3_isZone ⟨Nat.le_of_ble_eq_true rfl, Nat.le_of_ble_eq_true rfl⟩ rfl hl.1 rfl (Nat.le_of_ble_eq_true rfl) dX3_fanOf_2 ⟨Nat.le_of_ble_eq_true rfl, Nat.le_of_ble_eq_true rfl⟩) (fun r_1 g H locs hg hp => ?_)
  replace hp : r_1 = (if okL x 8 then 1 else 0) ∧ tw_W V _ g o ad (va_up I 3 (if okL x 8 then 0 else 1)) A F := hp
  by_cases ok_2 : okL x 8
  · rw [if_pos ok_2, if_pos ok_2] at hp
    obtain ⟨rfl, hp⟩ := hp
    have hT : tw_W V g0 g o ad (va_up I 3 0) A F := hT.call hp
    obtain ⟨h_3a, h_3⟩ := okL_cl (by omega) ok_2
    refine lv_if_eq (tgt := 17) hx hb dX3_fanOf_5 (by decide) (fun c_4 => (absurd ((nx_eq (show ((1 : Int32)) = nI 1 from rfl) (show ((0 : Int32)) = nI 0 from rfl) (by omega) (by omega)).mp c_4) (by omega))) (fun _ => ?_)
    refine lv_aload_n hx hb dX3_fanOf_8 rfl (lv_at hl 0 rfl) ?_
    refine lv_iload_n hx hb dX3_fanOf_9 rfl (lv_at hl 1 rfl) ?_
    refine lv_iconst (v := 1) hx hb dX3_fanOf_10 (by decide) ?_
    refine gh_calli hg (gh_runV (As := [.int x, .int 1]) (rest := []) hC hg (t_zone l V o ad (va_up I 3 0) A F _ hT.1 x 1 ((x).toNatClampNeg) 1 h_3 (show ((1 : Int32)) = nI 1 from rfl) (by omega) (by omega)) 2 (lw_V q3920 q3922 qs59 q138 q3923) hT.1.1 rfl hd_X3_zone ⟨Nat.le_of_ble_eq_true rfl, Nat.le_of_ble_eq_true rfl⟩ rfl hl.1 rfl (Nat.le_of_ble_eq_true rfl) dX3_fanOf_11 ⟨Nat.le_of_ble_eq_true rfl, Nat.le_of_ble_eq_true rfl⟩) (fun r_5 g H locs hg hp => ?_)
    obtain ⟨hp, hq⟩ := hp
    replace hp : r_5 = (zn (A 0) ((x).toNatClampNeg) 1) := hp
    subst hp
    rw [hq] at hg
    refine lv_goto (tgt := 18) hx hb dX3_fanOf_14 (by decide) ?_
    have e9 : c1 (okL x 8) = 0 := by first | rfl | (simp only [c1, c2, c3, if_pos ok_2]; done) | simp [c1, c2, c3, ok_2]
    exact gh_reti hC hg hr hlk (⟨fun h9 => rfl, by rw [e9]; exact hT⟩) dX3_fanOf_18 (Nat.le_of_ble_eq_true rfl) (Nat.le_of_ble_eq_true rfl)
  rw [if_neg ok_2, if_neg ok_2] at hp
  obtain ⟨rfl, hp⟩ := hp
  have hT : tw_W V g0 g o ad (va_up I 3 1) A F := hT.call hp
  refine lv_if_eq (tgt := 17) hx hb dX3_fanOf_5 (by decide) (fun _ => ?_) (fun c_6 => (absurd ((nx_eq (show ((0 : Int32)) = nI 0 from rfl) (show ((0 : Int32)) = nI 0 from rfl) (by omega) (by omega)).mpr (by omega)) c_6))
  refine lv_iconst (v := 0) hx hb dX3_fanOf_17 (by decide) ?_
  have e9 : c1 (okL x 8) = 1 := by first | rfl | (simp only [c1, c2, c3, if_neg ok_2]; done) | simp [c1, c2, c3, ok_2]
  exact gh_reti hC hg hr hlk (⟨fun h9 => absurd (e9.symm.trans h9) (by decide), by rw [e9]; exact hT⟩) dX3_fanOf_18 (Nat.le_of_ble_eq_true rfl) (Nat.le_of_ble_eq_true rfl)
set_option maxHeartbeats 1000000 in
set_option maxRecDepth 100000 in
theorem t_rollersOf (l : Launch) (V : gh_V) (o : Nat) (ad : Nat → Nat) (I : Nat → Int32) (A : Nat → Nat → Int32) (F : Nat → Nat → UInt32) (g0 : gh_G) (hP : tw_P V g0 o ad I A F) (x : Int32) : MI l yX3_rollersOf cX3_rollersOf 2 (some .int) ({ frames := 2, cells := 0, slots := 0, locals := 43 } : Room) V [.ref o, .int x] g0 (fun r g1 => (c1 (okL x 8) = 0 → r = zn (A 0) x.toNatClampNeg 2) ∧ tw_W V g0 g1 o ad (va_up I 3 (c1 (okL x 8))) A F) := by
  refine MG.of RX3 (by decide) rfl (Nat.le_of_ble_eq_true rfl) (fun pp ee s mm args below meth c ls hC hg hr hlk hnm hl => ?_)
  have hx := hC.1.1
  have hb := hC.1.2.1
  have hml := hC.1.2.2.1
  have hown := hC.1.2.2.2.1
  have hts := hC.1.2.2.2.2
  have hl : lv_has ls 2 [(0, .ref o), (1, .int x)] := hl
  have hT := hP.W
  refine lv_aload_n hx hb dX3_rollersOf_0 rfl (lv_at hl 0 rfl) ?_
  refine lv_iload_n hx hb dX3_rollersOf_1 rfl (lv_at hl 1 rfl) ?_
  refine gh_calli hg (gh_runV (As := [.int x]) (rest := []) hC hg (t_isZone l V o ad I A F _ hT.1 x) 1 (lw_V q3901 q3903 qs55 q138 q3904) hT.1.1 rfl hd_X3_isZone ⟨Nat.le_of_ble_eq_true rfl, Nat.le_of_ble_eq_true rfl⟩ rfl hl.1 rfl (Nat.le_of_ble_eq_true rfl) dX3_rollersOf_2 ⟨Nat.le_of_ble_eq_true rfl, Nat.le_of_ble_eq_true rfl⟩) (fun r_1 g H locs hg hp => ?_)
  replace hp : r_1 = (if okL x 8 then 1 else 0) ∧ tw_W V _ g o ad (va_up I 3 (if okL x 8 then 0 else 1)) A F := hp
  by_cases ok_2 : okL x 8
  · rw [if_pos ok_2, if_pos ok_2] at hp
    obtain ⟨rfl, hp⟩ := hp
    have hT : tw_W V g0 g o ad (va_up I 3 0) A F := hT.call hp
    obtain ⟨h_3a, h_3⟩ := okL_cl (by omega) ok_2
    refine lv_if_eq (tgt := 17) hx hb dX3_rollersOf_5 (by decide) (fun c_4 => (absurd ((nx_eq (show ((1 : Int32)) = nI 1 from rfl) (show ((0 : Int32)) = nI 0 from rfl) (by omega) (by omega)).mp c_4) (by omega))) (fun _ => ?_)
    refine lv_aload_n hx hb dX3_rollersOf_8 rfl (lv_at hl 0 rfl) ?_
    refine lv_iload_n hx hb dX3_rollersOf_9 rfl (lv_at hl 1 rfl) ?_
    refine lv_iconst (v := 2) hx hb dX3_rollersOf_10 (by decide) ?_
    refine gh_calli hg (gh_runV (As := [.int x, .int 2]) (rest := []) hC hg (t_zone l V o ad (va_up I 3 0) A F _ hT.1 x 2 ((x).toNatClampNeg) 2 h_3 (show ((2 : Int32)) = nI 2 from rfl) (by omega) (by omega)) 2 (lw_V q3920 q3922 qs59 q138 q3923) hT.1.1 rfl hd_X3_zone ⟨Nat.le_of_ble_eq_true rfl, Nat.le_of_ble_eq_true rfl⟩ rfl hl.1 rfl (Nat.le_of_ble_eq_true rfl) dX3_rollersOf_11 ⟨Nat.le_of_ble_eq_true rfl, Nat.le_of_ble_eq_true rfl⟩) (fun r_5 g H locs hg hp => ?_)
    obtain ⟨hp, hq⟩ := hp
    replace hp : r_5 = (zn (A 0) ((x).toNatClampNeg) 2) := hp
    subst hp
    rw [hq] at hg
    refine lv_goto (tgt := 18) hx hb dX3_rollersOf_14 (by decide) ?_
    have e9 : c1 (okL x 8) = 0 := by first | rfl | (simp only [c1, c2, c3, if_pos ok_2]; done) | simp [c1, c2, c3, ok_2]
    exact gh_reti hC hg hr hlk (⟨fun h9 => rfl, by rw [e9]; exact hT⟩) dX3_rollersOf_18 (Nat.le_of_ble_eq_true rfl) (Nat.le_of_ble_eq_true rfl)
  rw [if_neg ok_2, if_neg ok_2] at hp
  obtain ⟨rfl, hp⟩ := hp
  have hT : tw_W V g0 g o ad (va_up I 3 1) A F := hT.call hp
  refine lv_if_eq (tgt := 17) hx hb dX3_rollersOf_5 (by decide) (fun _ => ?_) (fun c_6 => (absurd ((nx_eq (show ((0 : Int32)) = nI 0 from rfl) (show ((0 : Int32)) = nI 0 from rfl) (by omega) (by omega)).mpr (by omega)) c_6))
  refine lv_iconst (v := 0) hx hb dX3_rollersOf_17 (by decide) ?_
  have e9 : c1 (okL x 8) = 1 := by first | rfl | (simp only [c1, c2, c3, if_neg ok_2]; done) | simp [c1, c2, c3, ok_2]
  exact gh_reti hC hg hr hlk (⟨fun h9 => absurd (e9.symm.trans h9) (by decide), by rw [e9]; exact hT⟩) dX3_rollersOf_18 (Nat.le_of_ble_eq_true rfl) (Nat.le_of_ble_eq_true rfl)
set_option maxHeartbeats 1000000 in
set_option maxRecDepth 100000 in
theorem t_temperatureOf (l : Launch) (V : gh_V) (o : Nat) (ad : Nat → Nat) (I : Nat → Int32) (A : Nat → Nat → Int32) (F : Nat → Nat → UInt32) (g0 : gh_G) (hP : tw_P V g0 o ad I A F) (x : Int32) : MI l yX3_temperatureOf cX3_temperatureOf 2 (some .int) ({ frames := 2, cells := 0, slots := 0, locals := 43 } : Room) V [.ref o, .int x] g0 (fun r g1 => (c1 (okL x 8) = 0 → r = zn (A 0) x.toNatClampNeg 3) ∧ tw_W V g0 g1 o ad (va_up I 3 (c1 (okL x 8))) A F) := by
  refine MG.of RX3 (by decide) rfl (Nat.le_of_ble_eq_true rfl) (fun pp ee s mm args below meth c ls hC hg hr hlk hnm hl => ?_)
  have hx := hC.1.1
  have hb := hC.1.2.1
  have hml := hC.1.2.2.1
  have hown := hC.1.2.2.2.1
  have hts := hC.1.2.2.2.2
  have hl : lv_has ls 2 [(0, .ref o), (1, .int x)] := hl
  have hT := hP.W
  refine lv_aload_n hx hb dX3_temperatureOf_0 rfl (lv_at hl 0 rfl) ?_
  refine lv_iload_n hx hb dX3_temperatureOf_1 rfl (lv_at hl 1 rfl) ?_
  refine gh_calli hg (gh_runV (As := [.int x]) (rest := []) hC hg (t_isZone l V o ad I A F _ hT.1 x) 1 (lw_V q3901 q3903 qs55 q138 q3904) hT.1.1 rfl hd_X3_isZone ⟨Nat.le_of_ble_eq_true rfl, Nat.le_of_ble_eq_true rfl⟩ rfl hl.1 rfl (Nat.le_of_ble_eq_true rfl) dX3_temperatureOf_2 ⟨Nat.le_of_ble_eq_true rfl, Nat.le_of_ble_eq_true rfl⟩) (fun r_1 g H locs hg hp => ?_)
  replace hp : r_1 = (if okL x 8 then 1 else 0) ∧ tw_W V _ g o ad (va_up I 3 (if okL x 8 then 0 else 1)) A F := hp
  by_cases ok_2 : okL x 8
  · rw [if_pos ok_2, if_pos ok_2] at hp
    obtain ⟨rfl, hp⟩ := hp
    have hT : tw_W V g0 g o ad (va_up I 3 0) A F := hT.call hp
    obtain ⟨h_3a, h_3⟩ := okL_cl (by omega) ok_2
    refine lv_if_eq (tgt := 17) hx hb dX3_temperatureOf_5 (by decide) (fun c_4 => (absurd ((nx_eq (show ((1 : Int32)) = nI 1 from rfl) (show ((0 : Int32)) = nI 0 from rfl) (by omega) (by omega)).mp c_4) (by omega))) (fun _ => ?_)
    refine lv_aload_n hx hb dX3_temperatureOf_8 rfl (lv_at hl 0 rfl) ?_
    refine lv_iload_n hx hb dX3_temperatureOf_9 rfl (lv_at hl 1 rfl) ?_
    refine lv_iconst (v := 3) hx hb dX3_temperatureOf_10 (by decide) ?_
    refine gh_calli hg (gh_runV (As := [.int x, .int 3]) (rest := []) hC hg (t_zone l V o ad (va_up I 3 0) A F _ hT.1 x 3 ((x).toNatClampNeg) 3 h_3 (show ((3 : Int32)) = nI 3 from rfl) (by omega) (by omega)) 2 (lw_V q3920 q3922 qs59 q138 q3923) hT.1.1 rfl hd_X3_zone ⟨Nat.le_of_ble_eq_true rfl, Nat.le_of_ble_eq_true rfl⟩ rfl hl.1 rfl (Nat.le_of_ble_eq_true rfl) dX3_temperatureOf_11 ⟨Nat.le_of_ble_eq_true rfl, Nat.le_of_ble_eq_true rfl⟩) (fun r_5 g H locs hg hp => ?_)
    obtain ⟨hp, hq⟩ := hp
    replace hp : r_5 = (zn (A 0) ((x).toNatClampNeg) 3) := hp
    subst hp
    rw [hq] at hg
    refine lv_goto (tgt := 18) hx hb dX3_temperatureOf_14 (by decide) ?_
    have e9 : c1 (okL x 8) = 0 := by first | rfl | (simp only [c1, c2, c3, if_pos ok_2]; done) | simp [c1, c2, c3, ok_2]
    exact gh_reti hC hg hr hlk (⟨fun h9 => rfl, by rw [e9]; exact hT⟩) dX3_temperatureOf_18 (Nat.le_of_ble_eq_true rfl) (Nat.le_of_ble_eq_true rfl)
  rw [if_neg ok_2, if_neg ok_2] at hp
  obtain ⟨rfl, hp⟩ := hp
  have hT : tw_W V g0 g o ad (va_up I 3 1) A F := hT.call hp
  refine lv_if_eq (tgt := 17) hx hb dX3_temperatureOf_5 (by decide) (fun _ => ?_) (fun c_6 => (absurd ((nx_eq (show ((0 : Int32)) = nI 0 from rfl) (show ((0 : Int32)) = nI 0 from rfl) (by omega) (by omega)).mpr (by omega)) c_6))
  refine lv_iconst (v := 0) hx hb dX3_temperatureOf_17 (by decide) ?_
  have e9 : c1 (okL x 8) = 1 := by first | rfl | (simp only [c1, c2, c3, if_neg ok_2]; done) | simp [c1, c2, c3, ok_2]
  exact gh_reti hC hg hr hlk (⟨fun h9 => absurd (e9.symm.trans h9) (by decide), by rw [e9]; exact hT⟩) dX3_temperatureOf_18 (Nat.le_of_ble_eq_true rfl) (Nat.le_of_ble_eq_true rfl)
set_option maxHeartbeats 1000000 in
set_option maxRecDepth 100000 in
theorem t_lotAt (l : Launch) (V : gh_V) (o : Nat) (ad : Nat → Nat) (I : Nat → Int32) (A : Nat → Nat → Int32) (F : Nat → Nat → UInt32) (g0 : gh_G) (hP : tw_P V g0 o ad I A F) (x : Int32) : MI l yX3_lotAt cX3_lotAt 2 (some .int) ({ frames := 2, cells := 0, slots := 0, locals := 43 } : Room) V [.ref o, .int x] g0 (fun r g1 => (c1 (okL x 24) = 0 → r = pl (A 0) x.toNatClampNeg 0) ∧ tw_W V g0 g1 o ad (va_up I 3 (c1 (okL x 24))) A F) := by
  refine MG.of RX3 (by decide) rfl (Nat.le_of_ble_eq_true rfl) (fun pp ee s mm args below meth c ls hC hg hr hlk hnm hl => ?_)
  have hx := hC.1.1
  have hb := hC.1.2.1
  have hml := hC.1.2.2.1
  have hown := hC.1.2.2.2.1
  have hts := hC.1.2.2.2.2
  have hl : lv_has ls 2 [(0, .ref o), (1, .int x)] := hl
  have hT := hP.W
  refine lv_aload_n hx hb dX3_lotAt_0 rfl (lv_at hl 0 rfl) ?_
  refine lv_iload_n hx hb dX3_lotAt_1 rfl (lv_at hl 1 rfl) ?_
  refine gh_calli hg (gh_runV (As := [.int x]) (rest := []) hC hg (t_isPlace l V o ad I A F _ hT.1 x) 1 (lw_V q4134 q4136 qs88 q138 q4137) hT.1.1 rfl hd_X3_isPlace ⟨Nat.le_of_ble_eq_true rfl, Nat.le_of_ble_eq_true rfl⟩ rfl hl.1 rfl (Nat.le_of_ble_eq_true rfl) dX3_lotAt_2 ⟨Nat.le_of_ble_eq_true rfl, Nat.le_of_ble_eq_true rfl⟩) (fun r_1 g H locs hg hp => ?_)
  replace hp : r_1 = (if okL x 24 then 1 else 0) ∧ tw_W V _ g o ad (va_up I 3 (if okL x 24 then 0 else 1)) A F := hp
  by_cases ok_2 : okL x 24
  · rw [if_pos ok_2, if_pos ok_2] at hp
    obtain ⟨rfl, hp⟩ := hp
    have hT : tw_W V g0 g o ad (va_up I 3 0) A F := hT.call hp
    obtain ⟨h_3a, h_3⟩ := okL_cl (by omega) ok_2
    refine lv_if_eq (tgt := 17) hx hb dX3_lotAt_5 (by decide) (fun c_4 => (absurd ((nx_eq (show ((1 : Int32)) = nI 1 from rfl) (show ((0 : Int32)) = nI 0 from rfl) (by omega) (by omega)).mp c_4) (by omega))) (fun _ => ?_)
    refine lv_aload_n hx hb dX3_lotAt_8 rfl (lv_at hl 0 rfl) ?_
    refine lv_iload_n hx hb dX3_lotAt_9 rfl (lv_at hl 1 rfl) ?_
    refine lv_iconst (v := 0) hx hb dX3_lotAt_10 (by decide) ?_
    refine gh_calli hg (gh_runV (As := [.int x, .int 0]) (rest := []) hC hg (t_at l V o ad (va_up I 3 0) A F _ hT.1 x 0 ((x).toNatClampNeg) 0 h_3 (show ((0 : Int32)) = nI 0 from rfl) (by omega) (by omega)) 2 (lw_V q3964 q3966 qs65 q138 q3967) hT.1.1 rfl hd_X3_at ⟨Nat.le_of_ble_eq_true rfl, Nat.le_of_ble_eq_true rfl⟩ rfl hl.1 rfl (Nat.le_of_ble_eq_true rfl) dX3_lotAt_11 ⟨Nat.le_of_ble_eq_true rfl, Nat.le_of_ble_eq_true rfl⟩) (fun r_5 g H locs hg hp => ?_)
    obtain ⟨hp, hq⟩ := hp
    replace hp : r_5 = (pl (A 0) ((x).toNatClampNeg) 0) := hp
    subst hp
    rw [hq] at hg
    refine lv_goto (tgt := 18) hx hb dX3_lotAt_14 (by decide) ?_
    have e9 : c1 (okL x 24) = 0 := by first | rfl | (simp only [c1, c2, c3, if_pos ok_2]; done) | simp [c1, c2, c3, ok_2]
    exact gh_reti hC hg hr hlk (⟨fun h9 => rfl, by rw [e9]; exact hT⟩) dX3_lotAt_18 (Nat.le_of_ble_eq_true rfl) (Nat.le_of_ble_eq_true rfl)
  rw [if_neg ok_2, if_neg ok_2] at hp
  obtain ⟨rfl, hp⟩ := hp
  have hT : tw_W V g0 g o ad (va_up I 3 1) A F := hT.call hp
  refine lv_if_eq (tgt := 17) hx hb dX3_lotAt_5 (by decide) (fun _ => ?_) (fun c_6 => (absurd ((nx_eq (show ((0 : Int32)) = nI 0 from rfl) (show ((0 : Int32)) = nI 0 from rfl) (by omega) (by omega)).mpr (by omega)) c_6))
  refine lv_iconst (v := 0) hx hb dX3_lotAt_17 (by decide) ?_
  have e9 : c1 (okL x 24) = 1 := by first | rfl | (simp only [c1, c2, c3, if_neg ok_2]; done) | simp [c1, c2, c3, ok_2]
  exact gh_reti hC hg hr hlk (⟨fun h9 => absurd (e9.symm.trans h9) (by decide), by rw [e9]; exact hT⟩) dX3_lotAt_18 (Nat.le_of_ble_eq_true rfl) (Nat.le_of_ble_eq_true rfl)
set_option maxHeartbeats 1000000 in
set_option maxRecDepth 100000 in
theorem t_numberAt (l : Launch) (V : gh_V) (o : Nat) (ad : Nat → Nat) (I : Nat → Int32) (A : Nat → Nat → Int32) (F : Nat → Nat → UInt32) (g0 : gh_G) (hP : tw_P V g0 o ad I A F) (x : Int32) : MI l yX3_numberAt cX3_numberAt 2 (some .int) ({ frames := 2, cells := 0, slots := 0, locals := 43 } : Room) V [.ref o, .int x] g0 (fun r g1 => (c1 (okL x 24) = 0 → r = (if pl (A 0) x.toNatClampNeg 0 = -1 then -1 else pl (A 0) x.toNatClampNeg 1)) ∧ tw_W V g0 g1 o ad (va_up I 3 (c1 (okL x 24))) A F) := by
  refine MG.of RX3 (by decide) rfl (Nat.le_of_ble_eq_true rfl) (fun pp ee s mm args below meth c ls hC hg hr hlk hnm hl => ?_)
  have hx := hC.1.1
  have hb := hC.1.2.1
  have hml := hC.1.2.2.1
  have hown := hC.1.2.2.2.1
  have hts := hC.1.2.2.2.2
  have hl : lv_has ls 2 [(0, .ref o), (1, .int x)] := hl
  have hT := hP.W
  refine lv_aload_n hx hb dX3_numberAt_0 rfl (lv_at hl 0 rfl) ?_
  refine lv_iload_n hx hb dX3_numberAt_1 rfl (lv_at hl 1 rfl) ?_
  refine gh_calli hg (gh_runV (As := [.int x]) (rest := []) hC hg (t_isPlace l V o ad I A F _ hT.1 x) 1 (lw_V q4134 q4136 qs88 q138 q4137) hT.1.1 rfl hd_X3_isPlace ⟨Nat.le_of_ble_eq_true rfl, Nat.le_of_ble_eq_true rfl⟩ rfl hl.1 rfl (Nat.le_of_ble_eq_true rfl) dX3_numberAt_2 ⟨Nat.le_of_ble_eq_true rfl, Nat.le_of_ble_eq_true rfl⟩) (fun r_1 g H locs hg hp => ?_)
  replace hp : r_1 = (if okL x 24 then 1 else 0) ∧ tw_W V _ g o ad (va_up I 3 (if okL x 24 then 0 else 1)) A F := hp
  by_cases ok_2 : okL x 24
  · rw [if_pos ok_2, if_pos ok_2] at hp
    obtain ⟨rfl, hp⟩ := hp
    have hT : tw_W V g0 g o ad (va_up I 3 0) A F := hT.call hp
    obtain ⟨h_3a, h_3⟩ := okL_cl (by omega) ok_2
    refine lv_if_eq (tgt := 29) hx hb dX3_numberAt_5 (by decide) (fun c_4 => (absurd ((nx_eq (show ((1 : Int32)) = nI 1 from rfl) (show ((0 : Int32)) = nI 0 from rfl) (by omega) (by omega)).mp c_4) (by omega))) (fun _ => ?_)
    refine lv_aload_n hx hb dX3_numberAt_8 rfl (lv_at hl 0 rfl) ?_
    refine lv_iload_n hx hb dX3_numberAt_9 rfl (lv_at hl 1 rfl) ?_
    refine gh_calli hg (gh_runV (As := [.int x]) (rest := []) hC hg (t_isPiece l V o ad (va_up I 3 0) A F _ hT.1 x ((x).toNatClampNeg) h_3 (by omega)) 1 (lw_V q3960 q3962 qs64 q138 q3963) hT.1.1 rfl hd_X3_isPiece ⟨Nat.le_of_ble_eq_true rfl, Nat.le_of_ble_eq_true rfl⟩ rfl hl.1 rfl (Nat.le_of_ble_eq_true rfl) dX3_numberAt_10 ⟨Nat.le_of_ble_eq_true rfl, Nat.le_of_ble_eq_true rfl⟩) (fun r_5 g H locs hg hp => ?_)
    replace hp : r_5 = (if ¬ pl (A 0) ((x).toNatClampNeg) 0 = -1 then 1 else 0) ∧ g = _ := hp
    by_cases pc_6 : ¬ pl (A 0) ((x).toNatClampNeg) 0 = -1
    · rw [if_pos pc_6] at hp
      obtain ⟨rfl, hq⟩ := hp
      rw [hq] at hg
      refine lv_if_eq (tgt := 25) hx hb dX3_numberAt_13 (by decide) (fun c_7 => (absurd ((nx_eq (show ((1 : Int32)) = nI 1 from rfl) (show ((0 : Int32)) = nI 0 from rfl) (by omega) (by omega)).mp c_7) (by omega))) (fun _ => ?_)
      refine lv_aload_n hx hb dX3_numberAt_16 rfl (lv_at hl 0 rfl) ?_
      refine lv_iload_n hx hb dX3_numberAt_17 rfl (lv_at hl 1 rfl) ?_
      refine lv_iconst (v := 1) hx hb dX3_numberAt_18 (by decide) ?_
      refine gh_calli hg (gh_runV (As := [.int x, .int 1]) (rest := []) hC hg (t_at l V o ad (va_up I 3 0) A F _ hT.1 x 1 ((x).toNatClampNeg) 1 h_3 (show ((1 : Int32)) = nI 1 from rfl) (by omega) (by omega)) 2 (lw_V q3964 q3966 qs65 q138 q3967) hT.1.1 rfl hd_X3_at ⟨Nat.le_of_ble_eq_true rfl, Nat.le_of_ble_eq_true rfl⟩ rfl hl.1 rfl (Nat.le_of_ble_eq_true rfl) dX3_numberAt_19 ⟨Nat.le_of_ble_eq_true rfl, Nat.le_of_ble_eq_true rfl⟩) (fun r_8 g H locs hg hp => ?_)
      obtain ⟨hp, hq⟩ := hp
      replace hp : r_8 = (pl (A 0) ((x).toNatClampNeg) 1) := hp
      subst hp
      rw [hq] at hg
      refine lv_goto (tgt := 30) hx hb dX3_numberAt_22 (by decide) ?_
      have e9 : c1 (okL x 24) = 0 := by first | rfl | (simp only [c1, c2, c3, if_pos ok_2, if_pos pc_6]; done) | simp [c1, c2, c3, ok_2, pc_6]
      exact gh_reti hC hg hr hlk (⟨fun h9 => by simp [pc_6], by rw [e9]; exact hT⟩) dX3_numberAt_30 (Nat.le_of_ble_eq_true rfl) (Nat.le_of_ble_eq_true rfl)
    rw [if_neg pc_6] at hp
    obtain ⟨rfl, hq⟩ := hp
    rw [hq] at hg
    refine lv_if_eq (tgt := 25) hx hb dX3_numberAt_13 (by decide) (fun _ => ?_) (fun c_9 => (absurd ((nx_eq (show ((0 : Int32)) = nI 0 from rfl) (show ((0 : Int32)) = nI 0 from rfl) (by omega) (by omega)).mpr (by omega)) c_9))
    refine lv_iconst (v := (-1)) hx hb dX3_numberAt_25 (by decide) ?_
    refine lv_goto (tgt := 30) hx hb dX3_numberAt_26 (by decide) ?_
    have e9 : c1 (okL x 24) = 0 := by first | rfl | (simp only [c1, c2, c3, if_pos ok_2, if_neg pc_6]; done) | simp [c1, c2, c3, ok_2, pc_6]
    exact gh_reti hC hg hr hlk (⟨fun h9 => by simp [pc_6], by rw [e9]; exact hT⟩) dX3_numberAt_30 (Nat.le_of_ble_eq_true rfl) (Nat.le_of_ble_eq_true rfl)
  rw [if_neg ok_2, if_neg ok_2] at hp
  obtain ⟨rfl, hp⟩ := hp
  have hT : tw_W V g0 g o ad (va_up I 3 1) A F := hT.call hp
  refine lv_if_eq (tgt := 29) hx hb dX3_numberAt_5 (by decide) (fun _ => ?_) (fun c_10 => (absurd ((nx_eq (show ((0 : Int32)) = nI 0 from rfl) (show ((0 : Int32)) = nI 0 from rfl) (by omega) (by omega)).mpr (by omega)) c_10))
  refine lv_iconst (v := 0) hx hb dX3_numberAt_29 (by decide) ?_
  have e9 : c1 (okL x 24) = 1 := by first | rfl | (simp only [c1, c2, c3, if_neg ok_2]; done) | simp [c1, c2, c3, ok_2]
  exact gh_reti hC hg hr hlk (⟨fun h9 => absurd (e9.symm.trans h9) (by decide), by rw [e9]; exact hT⟩) dX3_numberAt_30 (Nat.le_of_ble_eq_true rfl) (Nat.le_of_ble_eq_true rfl)
set_option maxHeartbeats 1000000 in
set_option maxRecDepth 100000 in
theorem t_kindOf (l : Launch) (V : gh_V) (o : Nat) (ad : Nat → Nat) (I : Nat → Int32) (A : Nat → Nat → Int32) (F : Nat → Nat → UInt32) (g0 : gh_G) (hP : tw_P V g0 o ad I A F) (x : Int32) (L : Nat) (hL : A 0 163 = nI L) (hL12 : L ≤ 12) : MI l yX3_kindOf cX3_kindOf 2 (some .int) ({ frames := 2, cells := 0, slots := 0, locals := 43 } : Room) V [.ref o, .int x] g0 (fun r g1 => (c1 (okL x L) = 0 → r = lt (A 0) x.toNatClampNeg 0) ∧ tw_W V g0 g1 o ad (va_up I 3 (c1 (okL x L))) A F) := by
  refine MG.of RX3 (by decide) rfl (Nat.le_of_ble_eq_true rfl) (fun pp ee s mm args below meth c ls hC hg hr hlk hnm hl => ?_)
  have hx := hC.1.1
  have hb := hC.1.2.1
  have hml := hC.1.2.2.1
  have hown := hC.1.2.2.2.1
  have hts := hC.1.2.2.2.2
  have hl : lv_has ls 2 [(0, .ref o), (1, .int x)] := hl
  have hT := hP.W
  refine lv_aload_n hx hb dX3_kindOf_0 rfl (lv_at hl 0 rfl) ?_
  refine lv_iload_n hx hb dX3_kindOf_1 rfl (lv_at hl 1 rfl) ?_
  refine gh_calli hg (gh_runV (As := [.int x]) (rest := []) hC hg (t_isLot l V o ad I A F _ hT.1 x L (hL) hL12) 1 (lw_V q3948 q3950 qs61 q138 q3951) hT.1.1 rfl hd_X3_isLot ⟨Nat.le_of_ble_eq_true rfl, Nat.le_of_ble_eq_true rfl⟩ rfl hl.1 rfl (Nat.le_of_ble_eq_true rfl) dX3_kindOf_2 ⟨Nat.le_of_ble_eq_true rfl, Nat.le_of_ble_eq_true rfl⟩) (fun r_1 g H locs hg hp => ?_)
  replace hp : r_1 = (if okL x L then 1 else 0) ∧ tw_W V _ g o ad (va_up I 3 (if okL x L then 0 else 1)) A F := hp
  by_cases ok_2 : okL x L
  · rw [if_pos ok_2, if_pos ok_2] at hp
    obtain ⟨rfl, hp⟩ := hp
    have hT : tw_W V g0 g o ad (va_up I 3 0) A F := hT.call hp
    obtain ⟨h_3a, h_3⟩ := okL_cl (by omega) ok_2
    refine lv_if_eq (tgt := 17) hx hb dX3_kindOf_5 (by decide) (fun c_4 => (absurd ((nx_eq (show ((1 : Int32)) = nI 1 from rfl) (show ((0 : Int32)) = nI 0 from rfl) (by omega) (by omega)).mp c_4) (by omega))) (fun _ => ?_)
    refine lv_aload_n hx hb dX3_kindOf_8 rfl (lv_at hl 0 rfl) ?_
    refine lv_iload_n hx hb dX3_kindOf_9 rfl (lv_at hl 1 rfl) ?_
    refine lv_iconst (v := 0) hx hb dX3_kindOf_10 (by decide) ?_
    refine gh_calli hg (gh_runV (As := [.int x, .int 0]) (rest := []) hC hg (t_lot l V o ad (va_up I 3 0) A F _ hT.1 x 0 ((x).toNatClampNeg) 0 h_3 (show ((0 : Int32)) = nI 0 from rfl) (by omega) (by omega)) 2 (lw_V q3956 q3958 qs63 q138 q3959) hT.1.1 rfl hd_X3_lot ⟨Nat.le_of_ble_eq_true rfl, Nat.le_of_ble_eq_true rfl⟩ rfl hl.1 rfl (Nat.le_of_ble_eq_true rfl) dX3_kindOf_11 ⟨Nat.le_of_ble_eq_true rfl, Nat.le_of_ble_eq_true rfl⟩) (fun r_5 g H locs hg hp => ?_)
    obtain ⟨hp, hq⟩ := hp
    replace hp : r_5 = (lt (A 0) ((x).toNatClampNeg) 0) := hp
    subst hp
    rw [hq] at hg
    refine lv_goto (tgt := 18) hx hb dX3_kindOf_14 (by decide) ?_
    have e9 : c1 (okL x L) = 0 := by first | rfl | (simp only [c1, c2, c3, if_pos ok_2]; done) | simp [c1, c2, c3, ok_2]
    exact gh_reti hC hg hr hlk (⟨fun h9 => rfl, by rw [e9]; exact hT⟩) dX3_kindOf_18 (Nat.le_of_ble_eq_true rfl) (Nat.le_of_ble_eq_true rfl)
  rw [if_neg ok_2, if_neg ok_2] at hp
  obtain ⟨rfl, hp⟩ := hp
  have hT : tw_W V g0 g o ad (va_up I 3 1) A F := hT.call hp
  refine lv_if_eq (tgt := 17) hx hb dX3_kindOf_5 (by decide) (fun _ => ?_) (fun c_6 => (absurd ((nx_eq (show ((0 : Int32)) = nI 0 from rfl) (show ((0 : Int32)) = nI 0 from rfl) (by omega) (by omega)).mpr (by omega)) c_6))
  refine lv_iconst (v := 0) hx hb dX3_kindOf_17 (by decide) ?_
  have e9 : c1 (okL x L) = 1 := by first | rfl | (simp only [c1, c2, c3, if_neg ok_2]; done) | simp [c1, c2, c3, ok_2]
  exact gh_reti hC hg hr hlk (⟨fun h9 => absurd (e9.symm.trans h9) (by decide), by rw [e9]; exact hT⟩) dX3_kindOf_18 (Nat.le_of_ble_eq_true rfl) (Nat.le_of_ble_eq_true rfl)
set_option maxHeartbeats 1000000 in
set_option maxRecDepth 100000 in
theorem t_wallOf (l : Launch) (V : gh_V) (o : Nat) (ad : Nat → Nat) (I : Nat → Int32) (A : Nat → Nat → Int32) (F : Nat → Nat → UInt32) (g0 : gh_G) (hP : tw_P V g0 o ad I A F) (x : Int32) (L : Nat) (hL : A 0 163 = nI L) (hL12 : L ≤ 12) : MI l yX3_wallOf cX3_wallOf 2 (some .int) ({ frames := 2, cells := 0, slots := 0, locals := 43 } : Room) V [.ref o, .int x] g0 (fun r g1 => (c1 (okL x L) = 0 → r = lt (A 0) x.toNatClampNeg 1) ∧ tw_W V g0 g1 o ad (va_up I 3 (c1 (okL x L))) A F) := by
  refine MG.of RX3 (by decide) rfl (Nat.le_of_ble_eq_true rfl) (fun pp ee s mm args below meth c ls hC hg hr hlk hnm hl => ?_)
  have hx := hC.1.1
  have hb := hC.1.2.1
  have hml := hC.1.2.2.1
  have hown := hC.1.2.2.2.1
  have hts := hC.1.2.2.2.2
  have hl : lv_has ls 2 [(0, .ref o), (1, .int x)] := hl
  have hT := hP.W
  refine lv_aload_n hx hb dX3_wallOf_0 rfl (lv_at hl 0 rfl) ?_
  refine lv_iload_n hx hb dX3_wallOf_1 rfl (lv_at hl 1 rfl) ?_
  refine gh_calli hg (gh_runV (As := [.int x]) (rest := []) hC hg (t_isLot l V o ad I A F _ hT.1 x L (hL) hL12) 1 (lw_V q3948 q3950 qs61 q138 q3951) hT.1.1 rfl hd_X3_isLot ⟨Nat.le_of_ble_eq_true rfl, Nat.le_of_ble_eq_true rfl⟩ rfl hl.1 rfl (Nat.le_of_ble_eq_true rfl) dX3_wallOf_2 ⟨Nat.le_of_ble_eq_true rfl, Nat.le_of_ble_eq_true rfl⟩) (fun r_1 g H locs hg hp => ?_)
  replace hp : r_1 = (if okL x L then 1 else 0) ∧ tw_W V _ g o ad (va_up I 3 (if okL x L then 0 else 1)) A F := hp
  by_cases ok_2 : okL x L
  · rw [if_pos ok_2, if_pos ok_2] at hp
    obtain ⟨rfl, hp⟩ := hp
    have hT : tw_W V g0 g o ad (va_up I 3 0) A F := hT.call hp
    obtain ⟨h_3a, h_3⟩ := okL_cl (by omega) ok_2
    refine lv_if_eq (tgt := 17) hx hb dX3_wallOf_5 (by decide) (fun c_4 => (absurd ((nx_eq (show ((1 : Int32)) = nI 1 from rfl) (show ((0 : Int32)) = nI 0 from rfl) (by omega) (by omega)).mp c_4) (by omega))) (fun _ => ?_)
    refine lv_aload_n hx hb dX3_wallOf_8 rfl (lv_at hl 0 rfl) ?_
    refine lv_iload_n hx hb dX3_wallOf_9 rfl (lv_at hl 1 rfl) ?_
    refine lv_iconst (v := 1) hx hb dX3_wallOf_10 (by decide) ?_
    refine gh_calli hg (gh_runV (As := [.int x, .int 1]) (rest := []) hC hg (t_lot l V o ad (va_up I 3 0) A F _ hT.1 x 1 ((x).toNatClampNeg) 1 h_3 (show ((1 : Int32)) = nI 1 from rfl) (by omega) (by omega)) 2 (lw_V q3956 q3958 qs63 q138 q3959) hT.1.1 rfl hd_X3_lot ⟨Nat.le_of_ble_eq_true rfl, Nat.le_of_ble_eq_true rfl⟩ rfl hl.1 rfl (Nat.le_of_ble_eq_true rfl) dX3_wallOf_11 ⟨Nat.le_of_ble_eq_true rfl, Nat.le_of_ble_eq_true rfl⟩) (fun r_5 g H locs hg hp => ?_)
    obtain ⟨hp, hq⟩ := hp
    replace hp : r_5 = (lt (A 0) ((x).toNatClampNeg) 1) := hp
    subst hp
    rw [hq] at hg
    refine lv_goto (tgt := 18) hx hb dX3_wallOf_14 (by decide) ?_
    have e9 : c1 (okL x L) = 0 := by first | rfl | (simp only [c1, c2, c3, if_pos ok_2]; done) | simp [c1, c2, c3, ok_2]
    exact gh_reti hC hg hr hlk (⟨fun h9 => rfl, by rw [e9]; exact hT⟩) dX3_wallOf_18 (Nat.le_of_ble_eq_true rfl) (Nat.le_of_ble_eq_true rfl)
  rw [if_neg ok_2, if_neg ok_2] at hp
  obtain ⟨rfl, hp⟩ := hp
  have hT : tw_W V g0 g o ad (va_up I 3 1) A F := hT.call hp
  refine lv_if_eq (tgt := 17) hx hb dX3_wallOf_5 (by decide) (fun _ => ?_) (fun c_6 => (absurd ((nx_eq (show ((0 : Int32)) = nI 0 from rfl) (show ((0 : Int32)) = nI 0 from rfl) (by omega) (by omega)).mpr (by omega)) c_6))
  refine lv_iconst (v := 0) hx hb dX3_wallOf_17 (by decide) ?_
  have e9 : c1 (okL x L) = 1 := by first | rfl | (simp only [c1, c2, c3, if_neg ok_2]; done) | simp [c1, c2, c3, ok_2]
  exact gh_reti hC hg hr hlk (⟨fun h9 => absurd (e9.symm.trans h9) (by decide), by rw [e9]; exact hT⟩) dX3_wallOf_18 (Nat.le_of_ble_eq_true rfl) (Nat.le_of_ble_eq_true rfl)
set_option maxHeartbeats 1000000 in
set_option maxRecDepth 100000 in
theorem t_stockOf (l : Launch) (V : gh_V) (o : Nat) (ad : Nat → Nat) (I : Nat → Int32) (A : Nat → Nat → Int32) (F : Nat → Nat → UInt32) (g0 : gh_G) (hP : tw_P V g0 o ad I A F) (x : Int32) (L : Nat) (hL : A 0 163 = nI L) (hL12 : L ≤ 12) : MI l yX3_stockOf cX3_stockOf 2 (some .int) ({ frames := 2, cells := 0, slots := 0, locals := 43 } : Room) V [.ref o, .int x] g0 (fun r g1 => (c1 (okL x L) = 0 → r = lt (A 0) x.toNatClampNeg 3) ∧ tw_W V g0 g1 o ad (va_up I 3 (c1 (okL x L))) A F) := by
  refine MG.of RX3 (by decide) rfl (Nat.le_of_ble_eq_true rfl) (fun pp ee s mm args below meth c ls hC hg hr hlk hnm hl => ?_)
  have hx := hC.1.1
  have hb := hC.1.2.1
  have hml := hC.1.2.2.1
  have hown := hC.1.2.2.2.1
  have hts := hC.1.2.2.2.2
  have hl : lv_has ls 2 [(0, .ref o), (1, .int x)] := hl
  have hT := hP.W
  refine lv_aload_n hx hb dX3_stockOf_0 rfl (lv_at hl 0 rfl) ?_
  refine lv_iload_n hx hb dX3_stockOf_1 rfl (lv_at hl 1 rfl) ?_
  refine gh_calli hg (gh_runV (As := [.int x]) (rest := []) hC hg (t_isLot l V o ad I A F _ hT.1 x L (hL) hL12) 1 (lw_V q3948 q3950 qs61 q138 q3951) hT.1.1 rfl hd_X3_isLot ⟨Nat.le_of_ble_eq_true rfl, Nat.le_of_ble_eq_true rfl⟩ rfl hl.1 rfl (Nat.le_of_ble_eq_true rfl) dX3_stockOf_2 ⟨Nat.le_of_ble_eq_true rfl, Nat.le_of_ble_eq_true rfl⟩) (fun r_1 g H locs hg hp => ?_)
  replace hp : r_1 = (if okL x L then 1 else 0) ∧ tw_W V _ g o ad (va_up I 3 (if okL x L then 0 else 1)) A F := hp
  by_cases ok_2 : okL x L
  · rw [if_pos ok_2, if_pos ok_2] at hp
    obtain ⟨rfl, hp⟩ := hp
    have hT : tw_W V g0 g o ad (va_up I 3 0) A F := hT.call hp
    obtain ⟨h_3a, h_3⟩ := okL_cl (by omega) ok_2
    refine lv_if_eq (tgt := 17) hx hb dX3_stockOf_5 (by decide) (fun c_4 => (absurd ((nx_eq (show ((1 : Int32)) = nI 1 from rfl) (show ((0 : Int32)) = nI 0 from rfl) (by omega) (by omega)).mp c_4) (by omega))) (fun _ => ?_)
    refine lv_aload_n hx hb dX3_stockOf_8 rfl (lv_at hl 0 rfl) ?_
    refine lv_iload_n hx hb dX3_stockOf_9 rfl (lv_at hl 1 rfl) ?_
    refine lv_iconst (v := 3) hx hb dX3_stockOf_10 (by decide) ?_
    refine gh_calli hg (gh_runV (As := [.int x, .int 3]) (rest := []) hC hg (t_lot l V o ad (va_up I 3 0) A F _ hT.1 x 3 ((x).toNatClampNeg) 3 h_3 (show ((3 : Int32)) = nI 3 from rfl) (by omega) (by omega)) 2 (lw_V q3956 q3958 qs63 q138 q3959) hT.1.1 rfl hd_X3_lot ⟨Nat.le_of_ble_eq_true rfl, Nat.le_of_ble_eq_true rfl⟩ rfl hl.1 rfl (Nat.le_of_ble_eq_true rfl) dX3_stockOf_11 ⟨Nat.le_of_ble_eq_true rfl, Nat.le_of_ble_eq_true rfl⟩) (fun r_5 g H locs hg hp => ?_)
    obtain ⟨hp, hq⟩ := hp
    replace hp : r_5 = (lt (A 0) ((x).toNatClampNeg) 3) := hp
    subst hp
    rw [hq] at hg
    refine lv_goto (tgt := 18) hx hb dX3_stockOf_14 (by decide) ?_
    have e9 : c1 (okL x L) = 0 := by first | rfl | (simp only [c1, c2, c3, if_pos ok_2]; done) | simp [c1, c2, c3, ok_2]
    exact gh_reti hC hg hr hlk (⟨fun h9 => rfl, by rw [e9]; exact hT⟩) dX3_stockOf_18 (Nat.le_of_ble_eq_true rfl) (Nat.le_of_ble_eq_true rfl)
  rw [if_neg ok_2, if_neg ok_2] at hp
  obtain ⟨rfl, hp⟩ := hp
  have hT : tw_W V g0 g o ad (va_up I 3 1) A F := hT.call hp
  refine lv_if_eq (tgt := 17) hx hb dX3_stockOf_5 (by decide) (fun _ => ?_) (fun c_6 => (absurd ((nx_eq (show ((0 : Int32)) = nI 0 from rfl) (show ((0 : Int32)) = nI 0 from rfl) (by omega) (by omega)).mpr (by omega)) c_6))
  refine lv_iconst (v := 0) hx hb dX3_stockOf_17 (by decide) ?_
  have e9 : c1 (okL x L) = 1 := by first | rfl | (simp only [c1, c2, c3, if_neg ok_2]; done) | simp [c1, c2, c3, ok_2]
  exact gh_reti hC hg hr hlk (⟨fun h9 => absurd (e9.symm.trans h9) (by decide), by rw [e9]; exact hT⟩) dX3_stockOf_18 (Nat.le_of_ble_eq_true rfl) (Nat.le_of_ble_eq_true rfl)
set_option maxHeartbeats 1000000 in
set_option maxRecDepth 100000 in
theorem t_incomeOf (l : Launch) (V : gh_V) (o : Nat) (ad : Nat → Nat) (I : Nat → Int32) (A : Nat → Nat → Int32) (F : Nat → Nat → UInt32) (g0 : gh_G) (hP : tw_P V g0 o ad I A F) (x : Int32) (L : Nat) (hL : A 0 163 = nI L) (hL12 : L ≤ 12) : MI l yX3_incomeOf cX3_incomeOf 2 (some .int) ({ frames := 2, cells := 0, slots := 0, locals := 43 } : Room) V [.ref o, .int x] g0 (fun r g1 => (c1 (okL x L) = 0 → r = lt (A 0) x.toNatClampNeg 4) ∧ tw_W V g0 g1 o ad (va_up I 3 (c1 (okL x L))) A F) := by
  refine MG.of RX3 (by decide) rfl (Nat.le_of_ble_eq_true rfl) (fun pp ee s mm args below meth c ls hC hg hr hlk hnm hl => ?_)
  have hx := hC.1.1
  have hb := hC.1.2.1
  have hml := hC.1.2.2.1
  have hown := hC.1.2.2.2.1
  have hts := hC.1.2.2.2.2
  have hl : lv_has ls 2 [(0, .ref o), (1, .int x)] := hl
  have hT := hP.W
  refine lv_aload_n hx hb dX3_incomeOf_0 rfl (lv_at hl 0 rfl) ?_
  refine lv_iload_n hx hb dX3_incomeOf_1 rfl (lv_at hl 1 rfl) ?_
  refine gh_calli hg (gh_runV (As := [.int x]) (rest := []) hC hg (t_isLot l V o ad I A F _ hT.1 x L (hL) hL12) 1 (lw_V q3948 q3950 qs61 q138 q3951) hT.1.1 rfl hd_X3_isLot ⟨Nat.le_of_ble_eq_true rfl, Nat.le_of_ble_eq_true rfl⟩ rfl hl.1 rfl (Nat.le_of_ble_eq_true rfl) dX3_incomeOf_2 ⟨Nat.le_of_ble_eq_true rfl, Nat.le_of_ble_eq_true rfl⟩) (fun r_1 g H locs hg hp => ?_)
  replace hp : r_1 = (if okL x L then 1 else 0) ∧ tw_W V _ g o ad (va_up I 3 (if okL x L then 0 else 1)) A F := hp
  by_cases ok_2 : okL x L
  · rw [if_pos ok_2, if_pos ok_2] at hp
    obtain ⟨rfl, hp⟩ := hp
    have hT : tw_W V g0 g o ad (va_up I 3 0) A F := hT.call hp
    obtain ⟨h_3a, h_3⟩ := okL_cl (by omega) ok_2
    refine lv_if_eq (tgt := 17) hx hb dX3_incomeOf_5 (by decide) (fun c_4 => (absurd ((nx_eq (show ((1 : Int32)) = nI 1 from rfl) (show ((0 : Int32)) = nI 0 from rfl) (by omega) (by omega)).mp c_4) (by omega))) (fun _ => ?_)
    refine lv_aload_n hx hb dX3_incomeOf_8 rfl (lv_at hl 0 rfl) ?_
    refine lv_iload_n hx hb dX3_incomeOf_9 rfl (lv_at hl 1 rfl) ?_
    refine lv_iconst (v := 4) hx hb dX3_incomeOf_10 (by decide) ?_
    refine gh_calli hg (gh_runV (As := [.int x, .int 4]) (rest := []) hC hg (t_lot l V o ad (va_up I 3 0) A F _ hT.1 x 4 ((x).toNatClampNeg) 4 h_3 (show ((4 : Int32)) = nI 4 from rfl) (by omega) (by omega)) 2 (lw_V q3956 q3958 qs63 q138 q3959) hT.1.1 rfl hd_X3_lot ⟨Nat.le_of_ble_eq_true rfl, Nat.le_of_ble_eq_true rfl⟩ rfl hl.1 rfl (Nat.le_of_ble_eq_true rfl) dX3_incomeOf_11 ⟨Nat.le_of_ble_eq_true rfl, Nat.le_of_ble_eq_true rfl⟩) (fun r_5 g H locs hg hp => ?_)
    obtain ⟨hp, hq⟩ := hp
    replace hp : r_5 = (lt (A 0) ((x).toNatClampNeg) 4) := hp
    subst hp
    rw [hq] at hg
    refine lv_goto (tgt := 18) hx hb dX3_incomeOf_14 (by decide) ?_
    have e9 : c1 (okL x L) = 0 := by first | rfl | (simp only [c1, c2, c3, if_pos ok_2]; done) | simp [c1, c2, c3, ok_2]
    exact gh_reti hC hg hr hlk (⟨fun h9 => rfl, by rw [e9]; exact hT⟩) dX3_incomeOf_18 (Nat.le_of_ble_eq_true rfl) (Nat.le_of_ble_eq_true rfl)
  rw [if_neg ok_2, if_neg ok_2] at hp
  obtain ⟨rfl, hp⟩ := hp
  have hT : tw_W V g0 g o ad (va_up I 3 1) A F := hT.call hp
  refine lv_if_eq (tgt := 17) hx hb dX3_incomeOf_5 (by decide) (fun _ => ?_) (fun c_6 => (absurd ((nx_eq (show ((0 : Int32)) = nI 0 from rfl) (show ((0 : Int32)) = nI 0 from rfl) (by omega) (by omega)).mpr (by omega)) c_6))
  refine lv_iconst (v := 0) hx hb dX3_incomeOf_17 (by decide) ?_
  have e9 : c1 (okL x L) = 1 := by first | rfl | (simp only [c1, c2, c3, if_neg ok_2]; done) | simp [c1, c2, c3, ok_2]
  exact gh_reti hC hg hr hlk (⟨fun h9 => absurd (e9.symm.trans h9) (by decide), by rw [e9]; exact hT⟩) dX3_incomeOf_18 (Nat.le_of_ble_eq_true rfl) (Nat.le_of_ble_eq_true rfl)
set_option maxHeartbeats 1000000 in
set_option maxRecDepth 100000 in
theorem t_cleanerAt (l : Launch) (V : gh_V) (o : Nat) (ad : Nat → Nat) (I : Nat → Int32) (A : Nat → Nat → Int32) (F : Nat → Nat → UInt32) (g0 : gh_G) (hP : tw_P V g0 o ad I A F) (x : Int32) : MI l yX3_cleanerAt cX3_cleanerAt 2 (some .int) ({ frames := 2, cells := 0, slots := 0, locals := 44 } : Room) V [.ref o, .int x] g0 (fun r g1 => (c1 (okL x 2 ∧ okL 0 24) = 0 → r = cl (A 0) x.toNatClampNeg 0) ∧ tw_W V g0 g1 o ad (va_up I 3 (c1 (okL x 2 ∧ okL 0 24))) A F) := by
  refine MG.of RX3 (by decide) rfl (Nat.le_of_ble_eq_true rfl) (fun pp ee s mm args below meth c ls hC hg hr hlk hnm hl => ?_)
  have hx := hC.1.1
  have hb := hC.1.2.1
  have hml := hC.1.2.2.1
  have hown := hC.1.2.2.2.1
  have hts := hC.1.2.2.2.2
  have hl : lv_has ls 2 [(0, .ref o), (1, .int x)] := hl
  have hT := hP.W
  refine lv_aload_n hx hb dX3_cleanerAt_0 rfl (lv_at hl 0 rfl) ?_
  refine lv_iload_n hx hb dX3_cleanerAt_1 rfl (lv_at hl 1 rfl) ?_
  refine lv_iconst (v := 0) hx hb dX3_cleanerAt_2 (by decide) ?_
  refine gh_calli hg (gh_runV (As := [.int x, .int 0]) (rest := []) hC hg (t_isCleaner l V o ad I A F _ hT.1 x 0) 2 (lw_V q3980 q3982 qs68 q138 q3983) hT.1.1 rfl hd_X3_isCleaner ⟨Nat.le_of_ble_eq_true rfl, Nat.le_of_ble_eq_true rfl⟩ rfl hl.1 rfl (Nat.le_of_ble_eq_true rfl) dX3_cleanerAt_3 ⟨Nat.le_of_ble_eq_true rfl, Nat.le_of_ble_eq_true rfl⟩) (fun r_1 g H locs hg hp => ?_)
  replace hp : r_1 = (if (okL x 2 ∧ okL 0 24) then 1 else 0) ∧ tw_W V _ g o ad (va_up I 3 (if (okL x 2 ∧ okL 0 24) then 0 else 1)) A F := hp
  by_cases ok_2 : (okL x 2 ∧ okL 0 24)
  · rw [if_pos ok_2, if_pos ok_2] at hp
    obtain ⟨rfl, hp⟩ := hp
    have hT : tw_W V g0 g o ad (va_up I 3 0) A F := hT.call hp
    obtain ⟨h_3a, h_3⟩ := okL_cl (by omega) ok_2.1
    refine lv_if_eq (tgt := 24) hx hb dX3_cleanerAt_6 (by decide) (fun c_4 => (absurd ((nx_eq (show ((1 : Int32)) = nI 1 from rfl) (show ((0 : Int32)) = nI 0 from rfl) (by omega) (by omega)).mp c_4) (by omega))) (fun _ => ?_)
    refine lv_aload_n hx hb dX3_cleanerAt_9 rfl (lv_at hl 0 rfl) ?_
    refine gh_get (v := .ref (ad 0)) hC hg hT.1.1 fX3_7_0 rfl dX3_cleanerAt_10 ?_
    refine lv_sipush (v := 525) hx hb dX3_cleanerAt_13 (by decide) ?_
    refine lv_iconst (v := 2) hx hb dX3_cleanerAt_16 (by decide) ?_
    refine lv_iload_n hx hb dX3_cleanerAt_17 rfl (lv_at hl 1 rfl) ?_
    refine lv_imul hx hb dX3_cleanerAt_18 ?_
    refine lv_iadd hx hb dX3_cleanerAt_19 ?_
    refine gh_iald (n := 578) (f := (A 0)) hC hg (hT.1.2.1 0 (by decide)) (nx_add (show ((525 : Int32)) = nI 525 from rfl) (nx_mul (show ((2 : Int32)) = nI 2 from rfl) h_3)) (by omega) (by omega) dX3_cleanerAt_20 ?_
    refine lv_goto (tgt := 25) hx hb dX3_cleanerAt_21 (by decide) ?_
    have e9 : c1 (okL x 2 ∧ okL 0 24) = 0 := by first | rfl | (simp only [c1, okL_0_24, if_pos ok_2]; done) | simp [c1, okL_0_24, ok_2]
    exact gh_reti hC hg hr hlk (⟨fun h9 => rfl, by rw [e9]; exact hT⟩) dX3_cleanerAt_25 (Nat.le_of_ble_eq_true rfl) (Nat.le_of_ble_eq_true rfl)
  rw [if_neg ok_2, if_neg ok_2] at hp
  obtain ⟨rfl, hp⟩ := hp
  have hT : tw_W V g0 g o ad (va_up I 3 1) A F := hT.call hp
  refine lv_if_eq (tgt := 24) hx hb dX3_cleanerAt_6 (by decide) (fun _ => ?_) (fun c_5 => (absurd ((nx_eq (show ((0 : Int32)) = nI 0 from rfl) (show ((0 : Int32)) = nI 0 from rfl) (by omega) (by omega)).mpr (by omega)) c_5))
  refine lv_iconst (v := 0) hx hb dX3_cleanerAt_24 (by decide) ?_
  have e9 : c1 (okL x 2 ∧ okL 0 24) = 1 := by first | rfl | (simp only [c1, okL_0_24, if_neg ok_2]; done) | simp [c1, okL_0_24, ok_2]
  exact gh_reti hC hg hr hlk (⟨fun h9 => absurd (e9.symm.trans h9) (by decide), by rw [e9]; exact hT⟩) dX3_cleanerAt_25 (Nat.le_of_ble_eq_true rfl) (Nat.le_of_ble_eq_true rfl)
set_option maxHeartbeats 1000000 in
set_option maxRecDepth 100000 in
theorem t_busyFor (l : Launch) (V : gh_V) (o : Nat) (ad : Nat → Nat) (I : Nat → Int32) (A : Nat → Nat → Int32) (F : Nat → Nat → UInt32) (g0 : gh_G) (hP : tw_P V g0 o ad I A F) (x : Int32) : MI l yX3_busyFor cX3_busyFor 2 (some .int) ({ frames := 2, cells := 0, slots := 0, locals := 44 } : Room) V [.ref o, .int x] g0 (fun r g1 => (c1 (okL x 2 ∧ okL 0 24) = 0 → r = cl (A 0) x.toNatClampNeg 1) ∧ tw_W V g0 g1 o ad (va_up I 3 (c1 (okL x 2 ∧ okL 0 24))) A F) := by
  refine MG.of RX3 (by decide) rfl (Nat.le_of_ble_eq_true rfl) (fun pp ee s mm args below meth c ls hC hg hr hlk hnm hl => ?_)
  have hx := hC.1.1
  have hb := hC.1.2.1
  have hml := hC.1.2.2.1
  have hown := hC.1.2.2.2.1
  have hts := hC.1.2.2.2.2
  have hl : lv_has ls 2 [(0, .ref o), (1, .int x)] := hl
  have hT := hP.W
  refine lv_aload_n hx hb dX3_busyFor_0 rfl (lv_at hl 0 rfl) ?_
  refine lv_iload_n hx hb dX3_busyFor_1 rfl (lv_at hl 1 rfl) ?_
  refine lv_iconst (v := 0) hx hb dX3_busyFor_2 (by decide) ?_
  refine gh_calli hg (gh_runV (As := [.int x, .int 0]) (rest := []) hC hg (t_isCleaner l V o ad I A F _ hT.1 x 0) 2 (lw_V q3980 q3982 qs68 q138 q3983) hT.1.1 rfl hd_X3_isCleaner ⟨Nat.le_of_ble_eq_true rfl, Nat.le_of_ble_eq_true rfl⟩ rfl hl.1 rfl (Nat.le_of_ble_eq_true rfl) dX3_busyFor_3 ⟨Nat.le_of_ble_eq_true rfl, Nat.le_of_ble_eq_true rfl⟩) (fun r_1 g H locs hg hp => ?_)
  replace hp : r_1 = (if (okL x 2 ∧ okL 0 24) then 1 else 0) ∧ tw_W V _ g o ad (va_up I 3 (if (okL x 2 ∧ okL 0 24) then 0 else 1)) A F := hp
  by_cases ok_2 : (okL x 2 ∧ okL 0 24)
  · rw [if_pos ok_2, if_pos ok_2] at hp
    obtain ⟨rfl, hp⟩ := hp
    have hT : tw_W V g0 g o ad (va_up I 3 0) A F := hT.call hp
    obtain ⟨h_3a, h_3⟩ := okL_cl (by omega) ok_2.1
    refine lv_if_eq (tgt := 26) hx hb dX3_busyFor_6 (by decide) (fun c_4 => (absurd ((nx_eq (show ((1 : Int32)) = nI 1 from rfl) (show ((0 : Int32)) = nI 0 from rfl) (by omega) (by omega)).mp c_4) (by omega))) (fun _ => ?_)
    refine lv_aload_n hx hb dX3_busyFor_9 rfl (lv_at hl 0 rfl) ?_
    refine gh_get (v := .ref (ad 0)) hC hg hT.1.1 fX3_7_0 rfl dX3_busyFor_10 ?_
    refine lv_sipush (v := 525) hx hb dX3_busyFor_13 (by decide) ?_
    refine lv_iconst (v := 2) hx hb dX3_busyFor_16 (by decide) ?_
    refine lv_iload_n hx hb dX3_busyFor_17 rfl (lv_at hl 1 rfl) ?_
    refine lv_imul hx hb dX3_busyFor_18 ?_
    refine lv_iadd hx hb dX3_busyFor_19 ?_
    refine lv_iconst (v := 1) hx hb dX3_busyFor_20 (by decide) ?_
    refine lv_iadd hx hb dX3_busyFor_21 ?_
    refine gh_iald (n := 578) (f := (A 0)) hC hg (hT.1.2.1 0 (by decide)) (nx_add (nx_add (show ((525 : Int32)) = nI 525 from rfl) (nx_mul (show ((2 : Int32)) = nI 2 from rfl) h_3)) (show ((1 : Int32)) = nI 1 from rfl)) (by omega) (by omega) dX3_busyFor_22 ?_
    refine lv_goto (tgt := 27) hx hb dX3_busyFor_23 (by decide) ?_
    have e9 : c1 (okL x 2 ∧ okL 0 24) = 0 := by first | rfl | (simp only [c1, okL_0_24, if_pos ok_2]; done) | simp [c1, okL_0_24, ok_2]
    exact gh_reti hC hg hr hlk (⟨fun h9 => rfl, by rw [e9]; exact hT⟩) dX3_busyFor_27 (Nat.le_of_ble_eq_true rfl) (Nat.le_of_ble_eq_true rfl)
  rw [if_neg ok_2, if_neg ok_2] at hp
  obtain ⟨rfl, hp⟩ := hp
  have hT : tw_W V g0 g o ad (va_up I 3 1) A F := hT.call hp
  refine lv_if_eq (tgt := 26) hx hb dX3_busyFor_6 (by decide) (fun _ => ?_) (fun c_5 => (absurd ((nx_eq (show ((0 : Int32)) = nI 0 from rfl) (show ((0 : Int32)) = nI 0 from rfl) (by omega) (by omega)).mpr (by omega)) c_5))
  refine lv_iconst (v := 0) hx hb dX3_busyFor_26 (by decide) ?_
  have e9 : c1 (okL x 2 ∧ okL 0 24) = 1 := by first | rfl | (simp only [c1, okL_0_24, if_neg ok_2]; done) | simp [c1, okL_0_24, ok_2]
  exact gh_reti hC hg hr hlk (⟨fun h9 => absurd (e9.symm.trans h9) (by decide), by rw [e9]; exact hT⟩) dX3_busyFor_27 (Nat.le_of_ble_eq_true rfl) (Nat.le_of_ble_eq_true rfl)
