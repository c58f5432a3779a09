/-! the texts: reading -/
abbrev isC (b : Nat → Int32) (N j : Nat) (lo hi : Int32) : Prop := j < N ∧ okR (b j) lo hi
def dg (b : Nat → Int32) (j : Nat) : Nat := (b j).toNatClampNeg - 48
abbrev isTwo (b : Nat → Int32) (N j M : Nat) : Prop := 0 < dg b j ∧ j + 1 < N ∧ okR (b (j + 1)) 48 57 ∧ 10 * dg b j + dg b (j + 1) ≤ M
def nmV (b : Nat → Int32) (N j M : Nat) : Nat := if isTwo b N j M then 10 * dg b j + dg b (j + 1) else dg b j
def nmP (b : Nat → Int32) (N j M : Nat) : Nat := if isTwo b N j M then j + 2 else j + 1
theorem nmP_le {b : Nat → Int32} {N j M : Nat} (h : j < N) : nmP b N j M ≤ N ∧ j < nmP b N j M := by
  unfold nmP; split
  · next h1 => exact ⟨by have := h1.2.1; omega, by omega⟩
  · exact ⟨by omega, by omega⟩
theorem nmV_le {b : Nat → Int32} {N j M : Nat} (h : okR (b j) 48 57) (hM : 9 ≤ M) : nmV b N j M ≤ M := by
  unfold nmV; split
  · next h1 => exact h1.2.2.2
  · obtain ⟨h1, h2, h3⟩ := okR_cl (a := 48) (b := 57) rfl rfl (by omega) (by omega) h
    unfold dg; omega
set_option maxRecDepth 100000
theorem fX3_233_0 : gh_fd RX3 233 0 17 .int false := gh_fd.own (T := TX3) tyX3 rfl in_X3 tyX3_ok nmX3 (by decide) q3847 rfl rfl (fun h => by cases h)
theorem fX3_236_0 : gh_fd RX3 236 0 18 .boolean false := gh_fd.own (T := TX3) tyX3 rfl in_X3 tyX3_ok nmX3 (by decide) q3848 rfl rfl (fun h => by cases h)
theorem hd_X3_sign : yX3_sign.cls = RX3 ∧ yX3_sign.cls ≠ "java/lang/invoke/MethodHandle" ∧ yX3_sign.cls ≠ "java/lang/invoke/VarHandle" ∧ (parseMethodDescriptor yX3_sign.desc).map (fun d => d.parameters.length) = some 2 := by decide +kernel
set_option maxHeartbeats 1000000 in
set_option maxRecDepth 100000 in
theorem t_sign0 (l : Launch) (V : gh_V) (o : Nat) (ad : Nat → Nat) (I : Nat → Int32) (A : Nat → Nat → Int32) (F : Nat → Nat → UInt32) (g0 : gh_G) (hP : tw_P V g0 o ad I A F) (x y : Int32) (sp N : Nat) (h5 : I 5 = nI sp) (h6 : I 6 = 0) (hN : I 2 = nI N) (hN60 : N ≤ 60) (hsp : sp ≤ 60) (h0 : ¬ okR 0 x y) : MI l yX3_sign cX3_sign 4 (some .int) ({ frames := 1, cells := 0, slots := 0, locals := 22 } : Room) V [.ref o, .int x, .int y] g0 (fun r g1 => (isC (A 4) N sp x y ∧ r = A 4 sp ∧ tw_W V g0 g1 o ad (va_up (va_up I 6 0) 5 (nI (sp + 1))) A F) ∨ (¬ isC (A 4) N sp x y ∧ tw_W V g0 g1 o ad (va_up (va_up I 6 1) 5 (nI sp)) A F)) := by
  refine MG.of RX3 (by decide) rfl (Nat.le_of_ble_eq_true rfl) (fun pp ee s mm args below meth c ls hC hg hr hlk hnm hl => ?_)
  have hx := hC.1.1
  have hb := hC.1.2.1
  have hml := hC.1.2.2.1
  have hown := hC.1.2.2.2.1
  have hts := hC.1.2.2.2.2
  have hl : lv_has ls 4 [(0, .ref o), (1, .int x), (2, .int y)] := hl
  have hT := hP.W
  refine lv_aload_n hx hb dX3_sign_0 rfl (lv_at hl 0 rfl) ?_
  refine gh_get (v := .int (I 5)) hC hg hT.1.1 fX3_233_0 rfl dX3_sign_1 ?_
  refine lv_aload_n hx hb dX3_sign_4 rfl (lv_at hl 0 rfl) ?_
  refine gh_get (v := .int (I 2)) hC hg hT.1.1 fX3_230_0 rfl dX3_sign_5 ?_
  refine lv_icmp_ge (tgt := 30) hx hb dX3_sign_8 (by decide) (fun c_1 => ?_) (fun c_1 => ?_)
  · skip
    have c_1 : N ≤ sp := (nx_le hN h5 (by omega) (by omega)).mp c_1
    refine lv_iconst (v := 0) hx hb dX3_sign_30 (by decide) ?_
    refine lv_istore_n (lv' := [(3, .int 0), (0, .ref o), (1, .int x), (2, .int y)]) hx hb dX3_sign_31 rfl hl (by decide) rfl (fun ls hl => ?_)
    refine lv_aload_n hx hb dX3_sign_32 rfl (lv_at hl 1 rfl) ?_
    refine lv_aload_n hx hb dX3_sign_33 rfl (lv_at hl 1 rfl) ?_
    refine gh_get (v := .int (I 6)) hC hg hT.1.1 fX3_236_0 rfl dX3_sign_34 ?_
    refine lv_if_ne (tgt := 49) hx hb dX3_sign_37 (by decide) (fun c_2 => (absurd ((nx_eq (h6.trans (show ((0 : Int32)) = nI 0 from rfl)) (show ((0 : Int32)) = nI 0 from rfl) (by omega) (by omega)).mpr (by omega)) c_2)) (fun _ => ?_)
    refine lv_iload_n hx hb dX3_sign_40 rfl (lv_at hl 0 rfl) ?_
    refine lv_iload_n hx hb dX3_sign_41 rfl (lv_at hl 2 rfl) ?_
    refine lv_iload_n hx hb dX3_sign_42 rfl (lv_at hl 3 rfl) ?_
    refine gh_calli hg (gh_runS (As := [.int 0, .int x, .int y]) (rest := [.ref o]) hC hg (t_in l V _ 0 x y) 3 (lw_S q3905 q3906 q138 q3907) hd_X3_in.2 ⟨Nat.le_of_ble_eq_true rfl, Nat.le_of_ble_eq_true rfl⟩ rfl hl.1 rfl (Nat.le_of_ble_eq_true rfl) dX3_sign_43 ⟨Nat.le_of_ble_eq_true rfl, Nat.le_of_ble_eq_true rfl⟩) (fun r_3 g H locs hg hp => ?_)
    replace hp : r_3 = (if okR 0 x y then 1 else 0) ∧ g = _ := hp
    by_cases ok_4 : okR 0 x y
    · rw [if_pos ok_4] at hp
      obtain ⟨rfl, hq⟩ := hp
      rw [hq] at hg
      refine lv_if_ne (tgt := 53) hx hb dX3_sign_46 (by decide) (fun _ => ?_) (fun c_5 => (absurd ((nx_eq (show ((1 : Int32)) = nI 1 from rfl) (show ((0 : Int32)) = nI 0 from rfl) (by omega) (by omega)).mp c_5) (by omega)))
      refine lv_iconst (v := 0) hx hb dX3_sign_53 (by decide) ?_
      refine gh_put (v := .int 0) hC hg hT.1.1 fX3_236_0 rfl rfl (Nat.le_of_ble_eq_true rfl) dX3_sign_54 (fun g H locs hg hw hn => ?_)
      have hT : tw_W V g0 g o ad (va_up I 6 0) A F := hT.putI 6 0 hw hn
      refine lv_aload_n hx hb dX3_sign_57 rfl (lv_at hl 1 rfl) ?_
      refine lv_dup hx hb dX3_sign_58 rfl ?_
      refine gh_get (v := .int (I 5)) hC hg hT.1.1 fX3_233_0 rfl dX3_sign_59 ?_
      refine lv_aload_n hx hb dX3_sign_62 rfl (lv_at hl 1 rfl) ?_
      refine gh_get (v := .int 0) hC hg hT.1.1 fX3_236_0 rfl dX3_sign_63 ?_
      refine lv_if_eq (tgt := 73) hx hb dX3_sign_66 (by decide) (fun _ => ?_) (fun c_6 => (absurd ((nx_eq (show ((0 : Int32)) = nI 0 from rfl) (show ((0 : Int32)) = nI 0 from rfl) (by omega) (by omega)).mpr (by omega)) c_6))
      refine lv_iconst (v := 1) hx hb dX3_sign_73 (by decide) ?_
      refine lv_iadd hx hb dX3_sign_74 ?_
      refine gh_put (v := .int ((I 5) + 1)) hC hg hT.1.1 fX3_233_0 rfl rfl (Nat.le_of_ble_eq_true rfl) dX3_sign_75 (fun g H locs hg hw hn => ?_)
      have hT : tw_W V g0 g o ad (va_up (va_up I 6 0) 5 ((I 5) + 1)) A F := hT.putI 5 ((I 5) + 1) hw hn
      refine lv_iload_n hx hb dX3_sign_78 rfl (lv_at hl 0 rfl) ?_
      exact gh_reti hC hg hr hlk (absurd ok_4 h0) dX3_sign_79 (Nat.le_of_ble_eq_true rfl) (Nat.le_of_ble_eq_true rfl)
    rw [if_neg ok_4] at hp
    obtain ⟨rfl, hq⟩ := hp
    rw [hq] at hg
    refine lv_if_ne (tgt := 53) hx hb dX3_sign_46 (by decide) (fun c_7 => (absurd ((nx_eq (show ((0 : Int32)) = nI 0 from rfl) (show ((0 : Int32)) = nI 0 from rfl) (by omega) (by omega)).mpr (by omega)) c_7)) (fun _ => ?_)
    refine lv_iconst (v := 1) hx hb dX3_sign_49 (by decide) ?_
    refine lv_goto (tgt := 54) hx hb dX3_sign_50 (by decide) ?_
    refine gh_put (v := .int 1) hC hg hT.1.1 fX3_236_0 rfl rfl (Nat.le_of_ble_eq_true rfl) dX3_sign_54 (fun g H locs hg hw hn => ?_)
    have hT : tw_W V g0 g o ad (va_up I 6 1) A F := hT.putI 6 1 hw hn
    refine lv_aload_n hx hb dX3_sign_57 rfl (lv_at hl 1 rfl) ?_
    refine lv_dup hx hb dX3_sign_58 rfl ?_
    refine gh_get (v := .int (I 5)) hC hg hT.1.1 fX3_233_0 rfl dX3_sign_59 ?_
    refine lv_aload_n hx hb dX3_sign_62 rfl (lv_at hl 1 rfl) ?_
    refine gh_get (v := .int 1) hC hg hT.1.1 fX3_236_0 rfl dX3_sign_63 ?_
    refine lv_if_eq (tgt := 73) hx hb dX3_sign_66 (by decide) (fun c_8 => (absurd ((nx_eq (show ((1 : Int32)) = nI 1 from rfl) (show ((0 : Int32)) = nI 0 from rfl) (by omega) (by omega)).mp c_8) (by omega))) (fun _ => ?_)
    refine lv_iconst (v := 0) hx hb dX3_sign_69 (by decide) ?_
    refine lv_goto (tgt := 74) hx hb dX3_sign_70 (by decide) ?_
    refine lv_iadd hx hb dX3_sign_74 ?_
    refine gh_put (v := .int ((I 5) + 0)) hC hg hT.1.1 fX3_233_0 rfl rfl (Nat.le_of_ble_eq_true rfl) dX3_sign_75 (fun g H locs hg hw hn => ?_)
    have hT : tw_W V g0 g o ad (va_up (va_up I 6 1) 5 ((I 5) + 0)) A F := hT.putI 5 ((I 5) + 0) hw hn
    refine lv_iload_n hx hb dX3_sign_78 rfl (lv_at hl 0 rfl) ?_
    exact gh_reti hC hg hr hlk (Or.inr ⟨fun h9 => absurd h9.1 (by omega), hT.eqI (congrArg (va_up _ 5) (nx_add h5 (show ((0 : Int32)) = nI 0 from rfl)))⟩) dX3_sign_79 (Nat.le_of_ble_eq_true rfl) (Nat.le_of_ble_eq_true rfl)
  have c_1 : ¬ N ≤ sp := fun h9 => c_1 ((nx_le hN h5 (by omega) (by omega)).mpr h9)
  refine lv_aload_n hx hb dX3_sign_11 rfl (lv_at hl 0 rfl) ?_
  refine gh_get (v := .int (I 6)) hC hg hT.1.1 fX3_236_0 rfl dX3_sign_12 ?_
  refine lv_if_ne (tgt := 30) hx hb dX3_sign_15 (by decide) (fun c_9 => (absurd ((nx_eq (h6.trans (show ((0 : Int32)) = nI 0 from rfl)) (show ((0 : Int32)) = nI 0 from rfl) (by omega) (by omega)).mpr (by omega)) c_9)) (fun _ => ?_)
  refine lv_aload_n hx hb dX3_sign_18 rfl (lv_at hl 0 rfl) ?_
  refine gh_get (v := .ref (ad 4)) hC hg hT.1.1 fX3_35_0 rfl dX3_sign_19 ?_
  refine lv_aload_n hx hb dX3_sign_22 rfl (lv_at hl 0 rfl) ?_
  refine gh_get (v := .int (I 5)) hC hg hT.1.1 fX3_233_0 rfl dX3_sign_23 ?_
  refine gh_iald (n := 60) (f := (A 4)) hC hg (hT.1.2.1 4 (by decide)) h5 (by omega) (by omega) dX3_sign_26 ?_
  refine lv_goto (tgt := 31) hx hb dX3_sign_27 (by decide) ?_
  refine lv_istore_n (lv' := [(3, .int ((A 4) sp)), (0, .ref o), (1, .int x), (2, .int y)]) hx hb dX3_sign_31 rfl hl (by decide) rfl (fun ls hl => ?_)
  refine lv_aload_n hx hb dX3_sign_32 rfl (lv_at hl 1 rfl) ?_
  refine lv_aload_n hx hb dX3_sign_33 rfl (lv_at hl 1 rfl) ?_
  refine gh_get (v := .int (I 6)) hC hg hT.1.1 fX3_236_0 rfl dX3_sign_34 ?_
  refine lv_if_ne (tgt := 49) hx hb dX3_sign_37 (by decide) (fun c_10 => (absurd ((nx_eq (h6.trans (show ((0 : Int32)) = nI 0 from rfl)) (show ((0 : Int32)) = nI 0 from rfl) (by omega) (by omega)).mpr (by omega)) c_10)) (fun _ => ?_)
  refine lv_iload_n hx hb dX3_sign_40 rfl (lv_at hl 0 rfl) ?_
  refine lv_iload_n hx hb dX3_sign_41 rfl (lv_at hl 2 rfl) ?_
  refine lv_iload_n hx hb dX3_sign_42 rfl (lv_at hl 3 rfl) ?_
  refine gh_calli hg (gh_runS (As := [.int ((A 4) sp), .int x, .int y]) (rest := [.ref o]) hC hg (t_in l V _ ((A 4) sp) x y) 3 (lw_S q3905 q3906 q138 q3907) hd_X3_in.2 ⟨Nat.le_of_ble_eq_true rfl, Nat.le_of_ble_eq_true rfl⟩ rfl hl.1 rfl (Nat.le_of_ble_eq_true rfl) dX3_sign_43 ⟨Nat.le_of_ble_eq_true rfl, Nat.le_of_ble_eq_true rfl⟩) (fun r_11 g H locs hg hp => ?_)
  replace hp : r_11 = (if okR ((A 4) sp) x y then 1 else 0) ∧ g = _ := hp
  by_cases ok_12 : okR ((A 4) sp) x y
  · rw [if_pos ok_12] at hp
    obtain ⟨rfl, hq⟩ := hp
    rw [hq] at hg
    refine lv_if_ne (tgt := 53) hx hb dX3_sign_46 (by decide) (fun _ => ?_) (fun c_13 => (absurd ((nx_eq (show ((1 : Int32)) = nI 1 from rfl) (show ((0 : Int32)) = nI 0 from rfl) (by omega) (by omega)).mp c_13) (by omega)))
    refine lv_iconst (v := 0) hx hb dX3_sign_53 (by decide) ?_
    refine gh_put (v := .int 0) hC hg hT.1.1 fX3_236_0 rfl rfl (Nat.le_of_ble_eq_true rfl) dX3_sign_54 (fun g H locs hg hw hn => ?_)
    have hT : tw_W V g0 g o ad (va_up I 6 0) A F := hT.putI 6 0 hw hn
    refine lv_aload_n hx hb dX3_sign_57 rfl (lv_at hl 1 rfl) ?_
    refine lv_dup hx hb dX3_sign_58 rfl ?_
    refine gh_get (v := .int (I 5)) hC hg hT.1.1 fX3_233_0 rfl dX3_sign_59 ?_
    refine lv_aload_n hx hb dX3_sign_62 rfl (lv_at hl 1 rfl) ?_
    refine gh_get (v := .int 0) hC hg hT.1.1 fX3_236_0 rfl dX3_sign_63 ?_
    refine lv_if_eq (tgt := 73) hx hb dX3_sign_66 (by decide) (fun _ => ?_) (fun c_14 => (absurd ((nx_eq (show ((0 : Int32)) = nI 0 from rfl) (show ((0 : Int32)) = nI 0 from rfl) (by omega) (by omega)).mpr (by omega)) c_14))
    refine lv_iconst (v := 1) hx hb dX3_sign_73 (by decide) ?_
    refine lv_iadd hx hb dX3_sign_74 ?_
    refine gh_put (v := .int ((I 5) + 1)) hC hg hT.1.1 fX3_233_0 rfl rfl (Nat.le_of_ble_eq_true rfl) dX3_sign_75 (fun g H locs hg hw hn => ?_)
    have hT : tw_W V g0 g o ad (va_up (va_up I 6 0) 5 ((I 5) + 1)) A F := hT.putI 5 ((I 5) + 1) hw hn
    refine lv_iload_n hx hb dX3_sign_78 rfl (lv_at hl 0 rfl) ?_
    exact gh_reti hC hg hr hlk (Or.inl ⟨⟨by omega, ok_12⟩, rfl, hT.eqI (congrArg (va_up _ 5) (nx_add h5 (show ((1 : Int32)) = nI 1 from rfl)))⟩) dX3_sign_79 (Nat.le_of_ble_eq_true rfl) (Nat.le_of_ble_eq_true rfl)
  rw [if_neg ok_12] at hp
  obtain ⟨rfl, hq⟩ := hp
  rw [hq] at hg
  refine lv_if_ne (tgt := 53) hx hb dX3_sign_46 (by decide) (fun c_15 => (absurd ((nx_eq (show ((0 : Int32)) = nI 0 from rfl) (show ((0 : Int32)) = nI 0 from rfl) (by omega) (by omega)).mpr (by omega)) c_15)) (fun _ => ?_)
  refine lv_iconst (v := 1) hx hb dX3_sign_49 (by decide) ?_
  refine lv_goto (tgt := 54) hx hb dX3_sign_50 (by decide) ?_
  refine gh_put (v := .int 1) hC hg hT.1.1 fX3_236_0 rfl rfl (Nat.le_of_ble_eq_true rfl) dX3_sign_54 (fun g H locs hg hw hn => ?_)
  have hT : tw_W V g0 g o ad (va_up I 6 1) A F := hT.putI 6 1 hw hn
  refine lv_aload_n hx hb dX3_sign_57 rfl (lv_at hl 1 rfl) ?_
  refine lv_dup hx hb dX3_sign_58 rfl ?_
  refine gh_get (v := .int (I 5)) hC hg hT.1.1 fX3_233_0 rfl dX3_sign_59 ?_
  refine lv_aload_n hx hb dX3_sign_62 rfl (lv_at hl 1 rfl) ?_
  refine gh_get (v := .int 1) hC hg hT.1.1 fX3_236_0 rfl dX3_sign_63 ?_
  refine lv_if_eq (tgt := 73) hx hb dX3_sign_66 (by decide) (fun c_16 => (absurd ((nx_eq (show ((1 : Int32)) = nI 1 from rfl) (show ((0 : Int32)) = nI 0 from rfl) (by omega) (by omega)).mp c_16) (by omega))) (fun _ => ?_)
  refine lv_iconst (v := 0) hx hb dX3_sign_69 (by decide) ?_
  refine lv_goto (tgt := 74) hx hb dX3_sign_70 (by decide) ?_
  refine lv_iadd hx hb dX3_sign_74 ?_
  refine gh_put (v := .int ((I 5) + 0)) hC hg hT.1.1 fX3_233_0 rfl rfl (Nat.le_of_ble_eq_true rfl) dX3_sign_75 (fun g H locs hg hw hn => ?_)
  have hT : tw_W V g0 g o ad (va_up (va_up I 6 1) 5 ((I 5) + 0)) A F := hT.putI 5 ((I 5) + 0) hw hn
  refine lv_iload_n hx hb dX3_sign_78 rfl (lv_at hl 0 rfl) ?_
  exact gh_reti hC hg hr hlk (Or.inr ⟨fun h9 => ok_12 h9.2, hT.eqI (congrArg (va_up _ 5) (nx_add h5 (show ((0 : Int32)) = nI 0 from rfl)))⟩) dX3_sign_79 (Nat.le_of_ble_eq_true rfl) (Nat.le_of_ble_eq_true rfl)
set_option maxHeartbeats 1000000 in
set_option maxRecDepth 100000 in
theorem t_signW (l : Launch) (V : gh_V) (o : Nat) (ad : Nat → Nat) (I : Nat → Int32) (A : Nat → Nat → Int32) (F : Nat → Nat → UInt32) (g0 : gh_G) (hP : tw_P V g0 o ad I A F) (x y : Int32) (sp N : Nat) (h5 : I 5 = nI sp) (h6 : I 6 = 1) (hN : I 2 = nI N) (hN60 : N ≤ 60) (hsp : sp ≤ 60) : MI l yX3_sign cX3_sign 4 (some .int) ({ frames := 0, cells := 0, slots := 0, locals := 0 } : Room) V [.ref o, .int x, .int y] g0 (fun r g1 => r = 0 ∧ tw_W V g0 g1 o ad (va_up (va_up I 6 1) 5 (nI sp)) A F) := by
  refine MG.of RX3 (by decide) rfl (Nat.le_of_ble_eq_true rfl) (fun pp ee s mm args below meth c ls hC hg hr hlk hnm hl => ?_)
  have hx := hC.1.1
  have hb := hC.1.2.1
  have hml := hC.1.2.2.1
  have hown := hC.1.2.2.2.1
  have hts := hC.1.2.2.2.2
  have hl : lv_has ls 4 [(0, .ref o), (1, .int x), (2, .int y)] := hl
  have hT := hP.W
  refine lv_aload_n hx hb dX3_sign_0 rfl (lv_at hl 0 rfl) ?_
  refine gh_get (v := .int (I 5)) hC hg hT.1.1 fX3_233_0 rfl dX3_sign_1 ?_
  refine lv_aload_n hx hb dX3_sign_4 rfl (lv_at hl 0 rfl) ?_
  refine gh_get (v := .int (I 2)) hC hg hT.1.1 fX3_230_0 rfl dX3_sign_5 ?_
  refine lv_icmp_ge (tgt := 30) hx hb dX3_sign_8 (by decide) (fun c_1 => ?_) (fun c_1 => ?_)
  · skip
    have c_1 : N ≤ sp := (nx_le hN h5 (by omega) (by omega)).mp c_1
    refine lv_iconst (v := 0) hx hb dX3_sign_30 (by decide) ?_
    refine lv_istore_n (lv' := [(3, .int 0), (0, .ref o), (1, .int x), (2, .int y)]) hx hb dX3_sign_31 rfl hl (by decide) rfl (fun ls hl => ?_)
    refine lv_aload_n hx hb dX3_sign_32 rfl (lv_at hl 1 rfl) ?_
    refine lv_aload_n hx hb dX3_sign_33 rfl (lv_at hl 1 rfl) ?_
    refine gh_get (v := .int (I 6)) hC hg hT.1.1 fX3_236_0 rfl dX3_sign_34 ?_
    refine lv_if_ne (tgt := 49) hx hb dX3_sign_37 (by decide) (fun _ => ?_) (fun c_2 => (absurd ((nx_eq (h6.trans (show ((1 : Int32)) = nI 1 from rfl)) (show ((0 : Int32)) = nI 0 from rfl) (by omega) (by omega)).mp c_2) (by omega)))
    refine lv_iconst (v := 1) hx hb dX3_sign_49 (by decide) ?_
    refine lv_goto (tgt := 54) hx hb dX3_sign_50 (by decide) ?_
    refine gh_put (v := .int 1) hC hg hT.1.1 fX3_236_0 rfl rfl (Nat.le_of_ble_eq_true rfl) dX3_sign_54 (fun g H locs hg hw hn => ?_)
    have hT : tw_W V g0 g o ad (va_up I 6 1) A F := hT.putI 6 1 hw hn
    refine lv_aload_n hx hb dX3_sign_57 rfl (lv_at hl 1 rfl) ?_
    refine lv_dup hx hb dX3_sign_58 rfl ?_
    refine gh_get (v := .int (I 5)) hC hg hT.1.1 fX3_233_0 rfl dX3_sign_59 ?_
    refine lv_aload_n hx hb dX3_sign_62 rfl (lv_at hl 1 rfl) ?_
    refine gh_get (v := .int 1) hC hg hT.1.1 fX3_236_0 rfl dX3_sign_63 ?_
    refine lv_if_eq (tgt := 73) hx hb dX3_sign_66 (by decide) (fun c_3 => (absurd ((nx_eq (show ((1 : Int32)) = nI 1 from rfl) (show ((0 : Int32)) = nI 0 from rfl) (by omega) (by omega)).mp c_3) (by omega))) (fun _ => ?_)
    refine lv_iconst (v := 0) hx hb dX3_sign_69 (by decide) ?_
    refine lv_goto (tgt := 74) hx hb dX3_sign_70 (by decide) ?_
    refine lv_iadd hx hb dX3_sign_74 ?_
    refine gh_put (v := .int ((I 5) + 0)) hC hg hT.1.1 fX3_233_0 rfl rfl (Nat.le_of_ble_eq_true rfl) dX3_sign_75 (fun g H locs hg hw hn => ?_)
    have hT : tw_W V g0 g o ad (va_up (va_up I 6 1) 5 ((I 5) + 0)) A F := hT.putI 5 ((I 5) + 0) hw hn
    refine lv_iload_n hx hb dX3_sign_78 rfl (lv_at hl 0 rfl) ?_
    exact gh_reti hC hg hr hlk (⟨rfl, hT.eqI (congrArg (va_up _ 5) (nx_add h5 (show ((0 : Int32)) = nI 0 from rfl)))⟩) dX3_sign_79 (Nat.le_of_ble_eq_true rfl) (Nat.le_of_ble_eq_true rfl)
  have c_1 : ¬ N ≤ sp := fun h9 => c_1 ((nx_le hN h5 (by omega) (by omega)).mpr h9)
  refine lv_aload_n hx hb dX3_sign_11 rfl (lv_at hl 0 rfl) ?_
  refine gh_get (v := .int (I 6)) hC hg hT.1.1 fX3_236_0 rfl dX3_sign_12 ?_
  refine lv_if_ne (tgt := 30) hx hb dX3_sign_15 (by decide) (fun _ => ?_) (fun c_4 => (absurd ((nx_eq (h6.trans (show ((1 : Int32)) = nI 1 from rfl)) (show ((0 : Int32)) = nI 0 from rfl) (by omega) (by omega)).mp c_4) (by omega)))
  refine lv_iconst (v := 0) hx hb dX3_sign_30 (by decide) ?_
  refine lv_istore_n (lv' := [(3, .int 0), (0, .ref o), (1, .int x), (2, .int y)]) hx hb dX3_sign_31 rfl hl (by decide) rfl (fun ls hl => ?_)
  refine lv_aload_n hx hb dX3_sign_32 rfl (lv_at hl 1 rfl) ?_
  refine lv_aload_n hx hb dX3_sign_33 rfl (lv_at hl 1 rfl) ?_
  refine gh_get (v := .int (I 6)) hC hg hT.1.1 fX3_236_0 rfl dX3_sign_34 ?_
  refine lv_if_ne (tgt := 49) hx hb dX3_sign_37 (by decide) (fun _ => ?_) (fun c_5 => (absurd ((nx_eq (h6.trans (show ((1 : Int32)) = nI 1 from rfl)) (show ((0 : Int32)) = nI 0 from rfl) (by omega) (by omega)).mp c_5) (by omega)))
  refine lv_iconst (v := 1) hx hb dX3_sign_49 (by decide) ?_
  refine lv_goto (tgt := 54) hx hb dX3_sign_50 (by decide) ?_
  refine gh_put (v := .int 1) hC hg hT.1.1 fX3_236_0 rfl rfl (Nat.le_of_ble_eq_true rfl) dX3_sign_54 (fun g H locs hg hw hn => ?_)
  have hT : tw_W V g0 g o ad (va_up I 6 1) A F := hT.putI 6 1 hw hn
  refine lv_aload_n hx hb dX3_sign_57 rfl (lv_at hl 1 rfl) ?_
  refine lv_dup hx hb dX3_sign_58 rfl ?_
  refine gh_get (v := .int (I 5)) hC hg hT.1.1 fX3_233_0 rfl dX3_sign_59 ?_
  refine lv_aload_n hx hb dX3_sign_62 rfl (lv_at hl 1 rfl) ?_
  refine gh_get (v := .int 1) hC hg hT.1.1 fX3_236_0 rfl dX3_sign_63 ?_
  refine lv_if_eq (tgt := 73) hx hb dX3_sign_66 (by decide) (fun c_6 => (absurd ((nx_eq (show ((1 : Int32)) = nI 1 from rfl) (show ((0 : Int32)) = nI 0 from rfl) (by omega) (by omega)).mp c_6) (by omega))) (fun _ => ?_)
  refine lv_iconst (v := 0) hx hb dX3_sign_69 (by decide) ?_
  refine lv_goto (tgt := 74) hx hb dX3_sign_70 (by decide) ?_
  refine lv_iadd hx hb dX3_sign_74 ?_
  refine gh_put (v := .int ((I 5) + 0)) hC hg hT.1.1 fX3_233_0 rfl rfl (Nat.le_of_ble_eq_true rfl) dX3_sign_75 (fun g H locs hg hw hn => ?_)
  have hT : tw_W V g0 g o ad (va_up (va_up I 6 1) 5 ((I 5) + 0)) A F := hT.putI 5 ((I 5) + 0) hw hn
  refine lv_iload_n hx hb dX3_sign_78 rfl (lv_at hl 0 rfl) ?_
  exact gh_reti hC hg hr hlk (⟨rfl, hT.eqI (congrArg (va_up _ 5) (nx_add h5 (show ((0 : Int32)) = nI 0 from rfl)))⟩) dX3_sign_79 (Nat.le_of_ble_eq_true rfl) (Nat.le_of_ble_eq_true rfl)
set_option maxHeartbeats 1000000 in
set_option maxRecDepth 100000 in
theorem t_number11 (l : Launch) (V : gh_V) (o : Nat) (ad : Nat → Nat) (I : Nat → Int32) (A : Nat → Nat → Int32) (F : Nat → Nat → UInt32) (g0 : gh_G) (hP : tw_P V g0 o ad I A F) (sp N : Nat) (h5 : I 5 = nI sp) (h6 : I 6 = 0) (hN : I 2 = nI N) (hN60 : N ≤ 60) (hsp : sp ≤ 60) : MI l yX3_number cX3_number 4 (some .int) ({ frames := 2, cells := 0, slots := 0, locals := 45 } : Room) V [.ref o, .int 0, .int 11] g0 (fun r g1 => (isC (A 4) N sp 48 57 ∧ r = nI (nmV (A 4) N sp 11) ∧ tw_W V g0 g1 o ad (va_up (va_up I 6 0) 5 (nI (nmP (A 4) N sp 11))) A F) ∨ (¬ isC (A 4) N sp 48 57 ∧ tw_W V g0 g1 o ad (va_up (va_up I 6 1) 5 (nI sp)) A F)) := by
  refine MG.of RX3 (by decide) rfl (Nat.le_of_ble_eq_true rfl) (fun pp ee s mm args below meth c ls hC hg hr hlk hnm hl => ?_)
  have hx := hC.1.1
  have hb := hC.1.2.1
  have hml := hC.1.2.2.1
  have hown := hC.1.2.2.2.1
  have hts := hC.1.2.2.2.2
  have hl : lv_has ls 4 [(0, .ref o), (1, .int 0), (2, .int 11)] := hl
  have hT := hP.W
  refine lv_aload_n hx hb dX3_number_0 rfl (lv_at hl 0 rfl) ?_
  refine lv_bipush (v := 48) hx hb dX3_number_1 (by decide) ?_
  refine lv_iload_n hx hb dX3_number_3 rfl (lv_at hl 1 rfl) ?_
  refine lv_iadd hx hb dX3_number_4 ?_
  refine lv_bipush (v := 57) hx hb dX3_number_5 (by decide) ?_
  refine gh_calli hg (gh_runV (As := [.int (48 + 0), .int 57]) (rest := []) hC hg (t_sign0 l V o ad I A F _ hT.1 (48 + 0) 57 sp N h5 (h6.trans (show ((0 : Int32)) = nI 0 from rfl)) hN hN60 (by omega) (by decide)) 2 (lw_V q4330 q4332 qs99 q138 q4333) hT.1.1 rfl hd_X3_sign ⟨Nat.le_of_ble_eq_true rfl, Nat.le_of_ble_eq_true rfl⟩ rfl hl.1 rfl (Nat.le_of_ble_eq_true rfl) dX3_number_7 ⟨Nat.le_of_ble_eq_true rfl, Nat.le_of_ble_eq_true rfl⟩) (fun r_1 g H locs hg hp => ?_)
  rcases hp with ⟨sg_2, hpr, hpT⟩ | ⟨sg_2, hpT⟩
  · replace hpr : r_1 = (A 4) sp := hpr
    subst hpr
    have hT : tw_W V g0 g o ad (va_up (va_up I 6 0) 5 (nI (sp + 1))) A F := hT.call hpT
    have sg_2l := sg_2.1
    obtain ⟨h_3a, h_3b, h_3⟩ := okR_cl (nx_add (show ((48 : Int32)) = nI 48 from rfl) (show ((0 : Int32)) = nI 0 from rfl)) (show ((57 : Int32)) = nI 57 from rfl) (by omega) (by omega) sg_2.2
    refine lv_bipush (v := 48) hx hb dX3_number_10 (by decide) ?_
    refine lv_isub hx hb dX3_number_12 ?_
    refine lv_istore_n (lv' := [(3, .int (((A 4) sp) - 48)), (0, .ref o), (1, .int 0), (2, .int 11)]) hx hb dX3_number_13 rfl hl (by decide) rfl (fun ls hl => ?_)
    refine lv_aload_n hx hb dX3_number_14 rfl (lv_at hl 1 rfl) ?_
    refine gh_get (v := .int 0) hC hg hT.1.1 fX3_236_0 rfl dX3_number_15 ?_
    refine lv_if_ne (tgt := 96) hx hb dX3_number_18 (by decide) (fun c_4 => (absurd ((nx_eq (show ((0 : Int32)) = nI 0 from rfl) (show ((0 : Int32)) = nI 0 from rfl) (by omega) (by omega)).mpr (by omega)) c_4)) (fun _ => ?_)
    refine lv_iload_n hx hb dX3_number_21 rfl (lv_at hl 0 rfl) ?_
    refine lv_if_le (tgt := 96) hx hb dX3_number_22 (by decide) (fun c_5 => ?_) (fun c_5 => ?_)
    · skip
      have c_5 : ((((A 4) sp)).toNatClampNeg - 48) ≤ 0 := (nx_le (nx_sub h_3 (show ((48 : Int32)) = nI 48 from rfl) (by omega)) (show ((0 : Int32)) = nI 0 from rfl) (by omega) (by omega)).mp c_5
      refine lv_iload_n hx hb dX3_number_96 rfl (lv_at hl 0 rfl) ?_
      have h2 : ¬ isTwo (A 4) N sp 11 := by intro h9; obtain ⟨h91, h92, h93, h94⟩ := h9; unfold dg at h91 h94; first | omega | exact absurd h93 c_5
      exact gh_reti hC hg hr hlk (Or.inl ⟨sg_2, (nx_sub h_3 (show ((48 : Int32)) = nI 48 from rfl) (by omega)).trans (by unfold nmV; rw [if_neg h2]; rfl), hT.eqI (fam7 rfl rfl rfl rfl rfl (by unfold nmP; rw [if_neg h2] <;> rfl) rfl (fun _ => rfl))⟩) dX3_number_97 (Nat.le_of_ble_eq_true rfl) (Nat.le_of_ble_eq_true rfl)
    have c_5 : ¬ ((((A 4) sp)).toNatClampNeg - 48) ≤ 0 := fun h9 => c_5 ((nx_le (nx_sub h_3 (show ((48 : Int32)) = nI 48 from rfl) (by omega)) (show ((0 : Int32)) = nI 0 from rfl) (by omega) (by omega)).mpr h9)
    refine lv_aload_n hx hb dX3_number_25 rfl (lv_at hl 1 rfl) ?_
    refine gh_get (v := .int (nI (sp + 1))) hC hg hT.1.1 fX3_233_0 rfl dX3_number_26 ?_
    refine lv_aload_n hx hb dX3_number_29 rfl (lv_at hl 1 rfl) ?_
    refine gh_get (v := .int (I 2)) hC hg hT.1.1 fX3_230_0 rfl dX3_number_30 ?_
    refine lv_icmp_ge (tgt := 96) hx hb dX3_number_33 (by decide) (fun c_6 => ?_) (fun c_6 => ?_)
    · skip
      have c_6 : N ≤ (sp + 1) := (nx_le hN rfl (by omega) (by omega)).mp c_6
      refine lv_iload_n hx hb dX3_number_96 rfl (lv_at hl 0 rfl) ?_
      have h2 : ¬ isTwo (A 4) N sp 11 := by intro h9; obtain ⟨h91, h92, h93, h94⟩ := h9; unfold dg at h91 h94; first | omega | exact absurd h93 c_6
      exact gh_reti hC hg hr hlk (Or.inl ⟨sg_2, (nx_sub h_3 (show ((48 : Int32)) = nI 48 from rfl) (by omega)).trans (by unfold nmV; rw [if_neg h2]; rfl), hT.eqI (fam7 rfl rfl rfl rfl rfl (by unfold nmP; rw [if_neg h2] <;> rfl) rfl (fun _ => rfl))⟩) dX3_number_97 (Nat.le_of_ble_eq_true rfl) (Nat.le_of_ble_eq_true rfl)
    have c_6 : ¬ N ≤ (sp + 1) := fun h9 => c_6 ((nx_le hN rfl (by omega) (by omega)).mpr h9)
    refine lv_aload_n hx hb dX3_number_36 rfl (lv_at hl 1 rfl) ?_
    refine gh_get (v := .ref (ad 4)) hC hg hT.1.1 fX3_35_0 rfl dX3_number_37 ?_
    refine lv_aload_n hx hb dX3_number_40 rfl (lv_at hl 1 rfl) ?_
    refine gh_get (v := .int (nI (sp + 1))) hC hg hT.1.1 fX3_233_0 rfl dX3_number_41 ?_
    refine gh_iald (n := 60) (f := (A 4)) hC hg (hT.1.2.1 4 (by decide)) rfl (by omega) (by omega) dX3_number_44 ?_
    refine lv_bipush (v := 48) hx hb dX3_number_45 (by decide) ?_
    refine lv_bipush (v := 57) hx hb dX3_number_47 (by decide) ?_
    refine gh_calli hg (gh_runS (As := [.int ((A 4) (sp + 1)), .int 48, .int 57]) (rest := []) hC hg (t_in l V _ ((A 4) (sp + 1)) 48 57) 3 (lw_S q3905 q3906 q138 q3907) hd_X3_in.2 ⟨Nat.le_of_ble_eq_true rfl, Nat.le_of_ble_eq_true rfl⟩ rfl hl.1 rfl (Nat.le_of_ble_eq_true rfl) dX3_number_49 ⟨Nat.le_of_ble_eq_true rfl, Nat.le_of_ble_eq_true rfl⟩) (fun r_7 g H locs hg hp => ?_)
    replace hp : r_7 = (if okR ((A 4) (sp + 1)) 48 57 then 1 else 0) ∧ g = _ := hp
    by_cases ok_8 : okR ((A 4) (sp + 1)) 48 57
    · rw [if_pos ok_8] at hp
      obtain ⟨rfl, hq⟩ := hp
      rw [hq] at hg
      obtain ⟨h_9a, h_9b, h_9⟩ := okR_cl (show ((48 : Int32)) = nI 48 from rfl) (show ((57 : Int32)) = nI 57 from rfl) (by omega) (by omega) ok_8
      refine lv_if_eq (tgt := 96) hx hb dX3_number_52 (by decide) (fun c_10 => (absurd ((nx_eq (show ((1 : Int32)) = nI 1 from rfl) (show ((0 : Int32)) = nI 0 from rfl) (by omega) (by omega)).mp c_10) (by omega))) (fun _ => ?_)
      refine lv_bipush (v := 10) hx hb dX3_number_55 (by decide) ?_
      refine lv_iload_n hx hb dX3_number_57 rfl (lv_at hl 0 rfl) ?_
      refine lv_imul hx hb dX3_number_58 ?_
      refine lv_aload_n hx hb dX3_number_59 rfl (lv_at hl 1 rfl) ?_
      refine gh_get (v := .ref (ad 4)) hC hg hT.1.1 fX3_35_0 rfl dX3_number_60 ?_
      refine lv_aload_n hx hb dX3_number_63 rfl (lv_at hl 1 rfl) ?_
      refine gh_get (v := .int (nI (sp + 1))) hC hg hT.1.1 fX3_233_0 rfl dX3_number_64 ?_
      refine gh_iald (n := 60) (f := (A 4)) hC hg (hT.1.2.1 4 (by decide)) rfl (by omega) (by omega) dX3_number_67 ?_
      refine lv_iadd hx hb dX3_number_68 ?_
      refine lv_bipush (v := 48) hx hb dX3_number_69 (by decide) ?_
      refine lv_isub hx hb dX3_number_71 ?_
      refine lv_iload_n hx hb dX3_number_72 rfl (lv_at hl 3 rfl) ?_
      refine lv_icmp_gt (tgt := 96) hx hb dX3_number_73 (by decide) (fun c_11 => ?_) (fun c_11 => ?_)
      · skip
        have c_11 : 11 < (((10 * ((((A 4) sp)).toNatClampNeg - 48)) + (((A 4) (sp + 1))).toNatClampNeg) - 48) := (nx_lt (show ((11 : Int32)) = nI 11 from rfl) (nx_sub (nx_add (nx_mul (show ((10 : Int32)) = nI 10 from rfl) (nx_sub h_3 (show ((48 : Int32)) = nI 48 from rfl) (by omega))) h_9) (show ((48 : Int32)) = nI 48 from rfl) (by omega)) (by omega) (by omega)).mp c_11
        refine lv_iload_n hx hb dX3_number_96 rfl (lv_at hl 0 rfl) ?_
        have h2 : ¬ isTwo (A 4) N sp 11 := by intro h9; obtain ⟨h91, h92, h93, h94⟩ := h9; unfold dg at h91 h94; first | omega | exact absurd h93 c_11
        exact gh_reti hC hg hr hlk (Or.inl ⟨sg_2, (nx_sub h_3 (show ((48 : Int32)) = nI 48 from rfl) (by omega)).trans (by unfold nmV; rw [if_neg h2]; rfl), hT.eqI (fam7 rfl rfl rfl rfl rfl (by unfold nmP; rw [if_neg h2] <;> rfl) rfl (fun _ => rfl))⟩) dX3_number_97 (Nat.le_of_ble_eq_true rfl) (Nat.le_of_ble_eq_true rfl)
      have c_11 : ¬ 11 < (((10 * ((((A 4) sp)).toNatClampNeg - 48)) + (((A 4) (sp + 1))).toNatClampNeg) - 48) := fun h9 => c_11 ((nx_lt (show ((11 : Int32)) = nI 11 from rfl) (nx_sub (nx_add (nx_mul (show ((10 : Int32)) = nI 10 from rfl) (nx_sub h_3 (show ((48 : Int32)) = nI 48 from rfl) (by omega))) h_9) (show ((48 : Int32)) = nI 48 from rfl) (by omega)) (by omega) (by omega)).mpr h9)
      refine lv_bipush (v := 10) hx hb dX3_number_76 (by decide) ?_
      refine lv_iload_n hx hb dX3_number_78 rfl (lv_at hl 0 rfl) ?_
      refine lv_imul hx hb dX3_number_79 ?_
      refine lv_aload_n hx hb dX3_number_80 rfl (lv_at hl 1 rfl) ?_
      refine lv_bipush (v := 48) hx hb dX3_number_81 (by decide) ?_
      refine lv_bipush (v := 57) hx hb dX3_number_83 (by decide) ?_
      refine gh_calli hg (gh_runV (As := [.int 48, .int 57]) (rest := [.int (10 * (((A 4) sp) - 48))]) hC hg (t_sign0 l V o ad (va_up (va_up I 6 0) 5 (nI (sp + 1))) A F _ hT.1 48 57 (sp + 1) N rfl (show ((0 : Int32)) = nI 0 from rfl) hN hN60 (by omega) (by decide)) 2 (lw_V q4330 q4332 qs99 q138 q4333) hT.1.1 rfl hd_X3_sign ⟨Nat.le_of_ble_eq_true rfl, Nat.le_of_ble_eq_true rfl⟩ rfl hl.1 rfl (Nat.le_of_ble_eq_true rfl) dX3_number_85 ⟨Nat.le_of_ble_eq_true rfl, Nat.le_of_ble_eq_true rfl⟩) (fun r_12 g H locs hg hp => ?_)
      rcases hp with ⟨sg_13, hpr, hpT⟩ | ⟨sg_13, hpT⟩
      · replace hpr : r_12 = (A 4) (sp + 1) := hpr
        subst hpr
        have hT : tw_W V g0 g o ad (va_up (va_up (va_up (va_up I 6 0) 5 (nI (sp + 1))) 6 0) 5 (nI ((sp + 1) + 1))) A F := hT.call hpT
        have sg_13l := sg_13.1
        obtain ⟨h_14a, h_14b, h_14⟩ := okR_cl (show ((48 : Int32)) = nI 48 from rfl) (show ((57 : Int32)) = nI 57 from rfl) (by omega) (by omega) sg_13.2
        refine lv_iadd hx hb dX3_number_88 ?_
        refine lv_bipush (v := 48) hx hb dX3_number_89 (by decide) ?_
        refine lv_isub hx hb dX3_number_91 ?_
        refine lv_istore_n (lv' := [(3, .int (((10 * (((A 4) sp) - 48)) + ((A 4) (sp + 1))) - 48)), (0, .ref o), (1, .int 0), (2, .int 11)]) hx hb dX3_number_92 rfl hl (by decide) rfl (fun ls hl => ?_)
        refine lv_goto (tgt := 14) hx hb dX3_number_93 (by decide) ?_
        refine lv_aload_n hx hb dX3_number_14 rfl (lv_at hl 1 rfl) ?_
        refine gh_get (v := .int 0) hC hg hT.1.1 fX3_236_0 rfl dX3_number_15 ?_
        refine lv_if_ne (tgt := 96) hx hb dX3_number_18 (by decide) (fun c_15 => (absurd ((nx_eq (show ((0 : Int32)) = nI 0 from rfl) (show ((0 : Int32)) = nI 0 from rfl) (by omega) (by omega)).mpr (by omega)) c_15)) (fun _ => ?_)
        refine lv_iload_n hx hb dX3_number_21 rfl (lv_at hl 0 rfl) ?_
        refine lv_if_le (tgt := 96) hx hb dX3_number_22 (by decide) (fun c_16 => (absurd ((nx_le (nx_sub (nx_add (nx_mul (show ((10 : Int32)) = nI 10 from rfl) (nx_sub h_3 (show ((48 : Int32)) = nI 48 from rfl) (by omega))) h_14) (show ((48 : Int32)) = nI 48 from rfl) (by omega)) (show ((0 : Int32)) = nI 0 from rfl) (by omega) (by omega)).mp c_16) (by omega))) (fun _ => ?_)
        refine lv_aload_n hx hb dX3_number_25 rfl (lv_at hl 1 rfl) ?_
        refine gh_get (v := .int (nI ((sp + 1) + 1))) hC hg hT.1.1 fX3_233_0 rfl dX3_number_26 ?_
        refine lv_aload_n hx hb dX3_number_29 rfl (lv_at hl 1 rfl) ?_
        refine gh_get (v := .int (I 2)) hC hg hT.1.1 fX3_230_0 rfl dX3_number_30 ?_
        refine lv_icmp_ge (tgt := 96) hx hb dX3_number_33 (by decide) (fun c_17 => ?_) (fun c_17 => ?_)
        · skip
          have c_17 : N ≤ ((sp + 1) + 1) := (nx_le hN rfl (by omega) (by omega)).mp c_17
          refine lv_iload_n hx hb dX3_number_96 rfl (lv_at hl 0 rfl) ?_
          have h2 : isTwo (A 4) N sp 11 := ⟨by unfold dg; omega, by omega, ok_8, by unfold dg; omega⟩
          exact gh_reti hC hg hr hlk (Or.inl ⟨sg_2, (nx_sub (nx_add (nx_mul (show ((10 : Int32)) = nI 10 from rfl) (nx_sub h_3 (show ((48 : Int32)) = nI 48 from rfl) (by omega))) h_14) (show ((48 : Int32)) = nI 48 from rfl) (by omega)).trans (by unfold nmV; rw [if_pos h2]; exact congrArg nI (by unfold dg; omega)), hT.eqI (fam7 rfl rfl rfl rfl rfl (by unfold nmP; rw [if_pos h2] <;> rfl) rfl (fun _ => rfl))⟩) dX3_number_97 (Nat.le_of_ble_eq_true rfl) (Nat.le_of_ble_eq_true rfl)
        have c_17 : ¬ N ≤ ((sp + 1) + 1) := fun h9 => c_17 ((nx_le hN rfl (by omega) (by omega)).mpr h9)
        refine lv_aload_n hx hb dX3_number_36 rfl (lv_at hl 1 rfl) ?_
        refine gh_get (v := .ref (ad 4)) hC hg hT.1.1 fX3_35_0 rfl dX3_number_37 ?_
        refine lv_aload_n hx hb dX3_number_40 rfl (lv_at hl 1 rfl) ?_
        refine gh_get (v := .int (nI ((sp + 1) + 1))) hC hg hT.1.1 fX3_233_0 rfl dX3_number_41 ?_
        refine gh_iald (n := 60) (f := (A 4)) hC hg (hT.1.2.1 4 (by decide)) rfl (by omega) (by omega) dX3_number_44 ?_
        refine lv_bipush (v := 48) hx hb dX3_number_45 (by decide) ?_
        refine lv_bipush (v := 57) hx hb dX3_number_47 (by decide) ?_
        refine gh_calli hg (gh_runS (As := [.int ((A 4) ((sp + 1) + 1)), .int 48, .int 57]) (rest := []) hC hg (t_in l V _ ((A 4) ((sp + 1) + 1)) 48 57) 3 (lw_S q3905 q3906 q138 q3907) hd_X3_in.2 ⟨Nat.le_of_ble_eq_true rfl, Nat.le_of_ble_eq_true rfl⟩ rfl hl.1 rfl (Nat.le_of_ble_eq_true rfl) dX3_number_49 ⟨Nat.le_of_ble_eq_true rfl, Nat.le_of_ble_eq_true rfl⟩) (fun r_18 g H locs hg hp => ?_)
        replace hp : r_18 = (if okR ((A 4) ((sp + 1) + 1)) 48 57 then 1 else 0) ∧ g = _ := hp
        by_cases ok_19 : okR ((A 4) ((sp + 1) + 1)) 48 57
        · rw [if_pos ok_19] at hp
          obtain ⟨rfl, hq⟩ := hp
          rw [hq] at hg
          obtain ⟨h_20a, h_20b, h_20⟩ := okR_cl (show ((48 : Int32)) = nI 48 from rfl) (show ((57 : Int32)) = nI 57 from rfl) (by omega) (by omega) ok_19
          refine lv_if_eq (tgt := 96) hx hb dX3_number_52 (by decide) (fun c_21 => (absurd ((nx_eq (show ((1 : Int32)) = nI 1 from rfl) (show ((0 : Int32)) = nI 0 from rfl) (by omega) (by omega)).mp c_21) (by omega))) (fun _ => ?_)
          refine lv_bipush (v := 10) hx hb dX3_number_55 (by decide) ?_
          refine lv_iload_n hx hb dX3_number_57 rfl (lv_at hl 0 rfl) ?_
          refine lv_imul hx hb dX3_number_58 ?_
          refine lv_aload_n hx hb dX3_number_59 rfl (lv_at hl 1 rfl) ?_
          refine gh_get (v := .ref (ad 4)) hC hg hT.1.1 fX3_35_0 rfl dX3_number_60 ?_
          refine lv_aload_n hx hb dX3_number_63 rfl (lv_at hl 1 rfl) ?_
          refine gh_get (v := .int (nI ((sp + 1) + 1))) hC hg hT.1.1 fX3_233_0 rfl dX3_number_64 ?_
          refine gh_iald (n := 60) (f := (A 4)) hC hg (hT.1.2.1 4 (by decide)) rfl (by omega) (by omega) dX3_number_67 ?_
          refine lv_iadd hx hb dX3_number_68 ?_
          refine lv_bipush (v := 48) hx hb dX3_number_69 (by decide) ?_
          refine lv_isub hx hb dX3_number_71 ?_
          refine lv_iload_n hx hb dX3_number_72 rfl (lv_at hl 3 rfl) ?_
          refine lv_icmp_gt (tgt := 96) hx hb dX3_number_73 (by decide) (fun _ => ?_) (fun c_22 => (absurd ((nx_lt (show ((11 : Int32)) = nI 11 from rfl) (nx_sub (nx_add (nx_mul (show ((10 : Int32)) = nI 10 from rfl) (nx_sub (nx_add (nx_mul (show ((10 : Int32)) = nI 10 from rfl) (nx_sub h_3 (show ((48 : Int32)) = nI 48 from rfl) (by omega))) h_14) (show ((48 : Int32)) = nI 48 from rfl) (by omega))) h_20) (show ((48 : Int32)) = nI 48 from rfl) (by omega)) (by omega) (by omega)).mpr (by omega)) c_22))
          refine lv_iload_n hx hb dX3_number_96 rfl (lv_at hl 0 rfl) ?_
          have h2 : isTwo (A 4) N sp 11 := ⟨by unfold dg; omega, by omega, ok_8, by unfold dg; omega⟩
          exact gh_reti hC hg hr hlk (Or.inl ⟨sg_2, (nx_sub (nx_add (nx_mul (show ((10 : Int32)) = nI 10 from rfl) (nx_sub h_3 (show ((48 : Int32)) = nI 48 from rfl) (by omega))) h_14) (show ((48 : Int32)) = nI 48 from rfl) (by omega)).trans (by unfold nmV; rw [if_pos h2]; exact congrArg nI (by unfold dg; omega)), hT.eqI (fam7 rfl rfl rfl rfl rfl (by unfold nmP; rw [if_pos h2] <;> rfl) rfl (fun _ => rfl))⟩) dX3_number_97 (Nat.le_of_ble_eq_true rfl) (Nat.le_of_ble_eq_true rfl)
        rw [if_neg ok_19] at hp
        obtain ⟨rfl, hq⟩ := hp
        rw [hq] at hg
        refine lv_if_eq (tgt := 96) hx hb dX3_number_52 (by decide) (fun _ => ?_) (fun c_23 => (absurd ((nx_eq (show ((0 : Int32)) = nI 0 from rfl) (show ((0 : Int32)) = nI 0 from rfl) (by omega) (by omega)).mpr (by omega)) c_23))
        refine lv_iload_n hx hb dX3_number_96 rfl (lv_at hl 0 rfl) ?_
        have h2 : isTwo (A 4) N sp 11 := ⟨by unfold dg; omega, by omega, ok_8, by unfold dg; omega⟩
        exact gh_reti hC hg hr hlk (Or.inl ⟨sg_2, (nx_sub (nx_add (nx_mul (show ((10 : Int32)) = nI 10 from rfl) (nx_sub h_3 (show ((48 : Int32)) = nI 48 from rfl) (by omega))) h_14) (show ((48 : Int32)) = nI 48 from rfl) (by omega)).trans (by unfold nmV; rw [if_pos h2]; exact congrArg nI (by unfold dg; omega)), hT.eqI (fam7 rfl rfl rfl rfl rfl (by unfold nmP; rw [if_pos h2] <;> rfl) rfl (fun _ => rfl))⟩) dX3_number_97 (Nat.le_of_ble_eq_true rfl) (Nat.le_of_ble_eq_true rfl)
      exact absurd ⟨by omega, ok_8⟩ sg_13
    rw [if_neg ok_8] at hp
    obtain ⟨rfl, hq⟩ := hp
    rw [hq] at hg
    refine lv_if_eq (tgt := 96) hx hb dX3_number_52 (by decide) (fun _ => ?_) (fun c_24 => (absurd ((nx_eq (show ((0 : Int32)) = nI 0 from rfl) (show ((0 : Int32)) = nI 0 from rfl) (by omega) (by omega)).mpr (by omega)) c_24))
    refine lv_iload_n hx hb dX3_number_96 rfl (lv_at hl 0 rfl) ?_
    have h2 : ¬ isTwo (A 4) N sp 11 := by intro h9; obtain ⟨h91, h92, h93, h94⟩ := h9; unfold dg at h91 h94; first | omega | exact absurd h93 ok_8
    exact gh_reti hC hg hr hlk (Or.inl ⟨sg_2, (nx_sub h_3 (show ((48 : Int32)) = nI 48 from rfl) (by omega)).trans (by unfold nmV; rw [if_neg h2]; rfl), hT.eqI (fam7 rfl rfl rfl rfl rfl (by unfold nmP; rw [if_neg h2] <;> rfl) rfl (fun _ => rfl))⟩) dX3_number_97 (Nat.le_of_ble_eq_true rfl) (Nat.le_of_ble_eq_true rfl)
  have hT : tw_W V g0 g o ad (va_up (va_up I 6 1) 5 (nI sp)) A F := hT.call hpT
  refine lv_bipush (v := 48) hx hb dX3_number_10 (by decide) ?_
  refine lv_isub hx hb dX3_number_12 ?_
  refine lv_istore_n (lv' := [(3, .int (r_1 - 48)), (0, .ref o), (1, .int 0), (2, .int 11)]) hx hb dX3_number_13 rfl hl (by decide) rfl (fun ls hl => ?_)
  refine lv_aload_n hx hb dX3_number_14 rfl (lv_at hl 1 rfl) ?_
  refine gh_get (v := .int 1) hC hg hT.1.1 fX3_236_0 rfl dX3_number_15 ?_
  refine lv_if_ne (tgt := 96) hx hb dX3_number_18 (by decide) (fun _ => ?_) (fun c_25 => (absurd ((nx_eq (show ((1 : Int32)) = nI 1 from rfl) (show ((0 : Int32)) = nI 0 from rfl) (by omega) (by omega)).mp c_25) (by omega)))
  refine lv_iload_n hx hb dX3_number_96 rfl (lv_at hl 0 rfl) ?_
  exact gh_reti hC hg hr hlk (Or.inr ⟨sg_2, hT⟩) dX3_number_97 (Nat.le_of_ble_eq_true rfl) (Nat.le_of_ble_eq_true rfl)
set_option maxHeartbeats 1000000 in
set_option maxRecDepth 100000 in
theorem t_number23 (l : Launch) (V : gh_V) (o : Nat) (ad : Nat → Nat) (I : Nat → Int32) (A : Nat → Nat → Int32) (F : Nat → Nat → UInt32) (g0 : gh_G) (hP : tw_P V g0 o ad I A F) (sp N : Nat) (h5 : I 5 = nI sp) (h6 : I 6 = 0) (hN : I 2 = nI N) (hN60 : N ≤ 60) (hsp : sp ≤ 60) : MI l yX3_number cX3_number 4 (some .int) ({ frames := 2, cells := 0, slots := 0, locals := 45 } : Room) V [.ref o, .int 0, .int 23] g0 (fun r g1 => (isC (A 4) N sp 48 57 ∧ r = nI (nmV (A 4) N sp 23) ∧ tw_W V g0 g1 o ad (va_up (va_up I 6 0) 5 (nI (nmP (A 4) N sp 23))) A F) ∨ (¬ isC (A 4) N sp 48 57 ∧ tw_W V g0 g1 o ad (va_up (va_up I 6 1) 5 (nI sp)) A F)) := by
  refine MG.of RX3 (by decide) rfl (Nat.le_of_ble_eq_true rfl) (fun pp ee s mm args below meth c ls hC hg hr hlk hnm hl => ?_)
  have hx := hC.1.1
  have hb := hC.1.2.1
  have hml := hC.1.2.2.1
  have hown := hC.1.2.2.2.1
  have hts := hC.1.2.2.2.2
  have hl : lv_has ls 4 [(0, .ref o), (1, .int 0), (2, .int 23)] := hl
  have hT := hP.W
  refine lv_aload_n hx hb dX3_number_0 rfl (lv_at hl 0 rfl) ?_
  refine lv_bipush (v := 48) hx hb dX3_number_1 (by decide) ?_
  refine lv_iload_n hx hb dX3_number_3 rfl (lv_at hl 1 rfl) ?_
  refine lv_iadd hx hb dX3_number_4 ?_
  refine lv_bipush (v := 57) hx hb dX3_number_5 (by decide) ?_
  refine gh_calli hg (gh_runV (As := [.int (48 + 0), .int 57]) (rest := []) hC hg (t_sign0 l V o ad I A F _ hT.1 (48 + 0) 57 sp N h5 (h6.trans (show ((0 : Int32)) = nI 0 from rfl)) hN hN60 (by omega) (by decide)) 2 (lw_V q4330 q4332 qs99 q138 q4333) hT.1.1 rfl hd_X3_sign ⟨Nat.le_of_ble_eq_true rfl, Nat.le_of_ble_eq_true rfl⟩ rfl hl.1 rfl (Nat.le_of_ble_eq_true rfl) dX3_number_7 ⟨Nat.le_of_ble_eq_true rfl, Nat.le_of_ble_eq_true rfl⟩) (fun r_1 g H locs hg hp => ?_)
  rcases hp with ⟨sg_2, hpr, hpT⟩ | ⟨sg_2, hpT⟩
  · replace hpr : r_1 = (A 4) sp := hpr
    subst hpr
    have hT : tw_W V g0 g o ad (va_up (va_up I 6 0) 5 (nI (sp + 1))) A F := hT.call hpT
    have sg_2l := sg_2.1
    obtain ⟨h_3a, h_3b, h_3⟩ := okR_cl (nx_add (show ((48 : Int32)) = nI 48 from rfl) (show ((0 : Int32)) = nI 0 from rfl)) (show ((57 : Int32)) = nI 57 from rfl) (by omega) (by omega) sg_2.2
    refine lv_bipush (v := 48) hx hb dX3_number_10 (by decide) ?_
    refine lv_isub hx hb dX3_number_12 ?_
    refine lv_istore_n (lv' := [(3, .int (((A 4) sp) - 48)), (0, .ref o), (1, .int 0), (2, .int 23)]) hx hb dX3_number_13 rfl hl (by decide) rfl (fun ls hl => ?_)
    refine lv_aload_n hx hb dX3_number_14 rfl (lv_at hl 1 rfl) ?_
    refine gh_get (v := .int 0) hC hg hT.1.1 fX3_236_0 rfl dX3_number_15 ?_
    refine lv_if_ne (tgt := 96) hx hb dX3_number_18 (by decide) (fun c_4 => (absurd ((nx_eq (show ((0 : Int32)) = nI 0 from rfl) (show ((0 : Int32)) = nI 0 from rfl) (by omega) (by omega)).mpr (by omega)) c_4)) (fun _ => ?_)
    refine lv_iload_n hx hb dX3_number_21 rfl (lv_at hl 0 rfl) ?_
    refine lv_if_le (tgt := 96) hx hb dX3_number_22 (by decide) (fun c_5 => ?_) (fun c_5 => ?_)
    · skip
      have c_5 : ((((A 4) sp)).toNatClampNeg - 48) ≤ 0 := (nx_le (nx_sub h_3 (show ((48 : Int32)) = nI 48 from rfl) (by omega)) (show ((0 : Int32)) = nI 0 from rfl) (by omega) (by omega)).mp c_5
      refine lv_iload_n hx hb dX3_number_96 rfl (lv_at hl 0 rfl) ?_
      have h2 : ¬ isTwo (A 4) N sp 23 := by intro h9; obtain ⟨h91, h92, h93, h94⟩ := h9; unfold dg at h91 h94; first | omega | exact absurd h93 c_5
      exact gh_reti hC hg hr hlk (Or.inl ⟨sg_2, (nx_sub h_3 (show ((48 : Int32)) = nI 48 from rfl) (by omega)).trans (by unfold nmV; rw [if_neg h2]; rfl), hT.eqI (fam7 rfl rfl rfl rfl rfl (by unfold nmP; rw [if_neg h2] <;> rfl) rfl (fun _ => rfl))⟩) dX3_number_97 (Nat.le_of_ble_eq_true rfl) (Nat.le_of_ble_eq_true rfl)
    have c_5 : ¬ ((((A 4) sp)).toNatClampNeg - 48) ≤ 0 := fun h9 => c_5 ((nx_le (nx_sub h_3 (show ((48 : Int32)) = nI 48 from rfl) (by omega)) (show ((0 : Int32)) = nI 0 from rfl) (by omega) (by omega)).mpr h9)
    refine lv_aload_n hx hb dX3_number_25 rfl (lv_at hl 1 rfl) ?_
    refine gh_get (v := .int (nI (sp + 1))) hC hg hT.1.1 fX3_233_0 rfl dX3_number_26 ?_
    refine lv_aload_n hx hb dX3_number_29 rfl (lv_at hl 1 rfl) ?_
    refine gh_get (v := .int (I 2)) hC hg hT.1.1 fX3_230_0 rfl dX3_number_30 ?_
    refine lv_icmp_ge (tgt := 96) hx hb dX3_number_33 (by decide) (fun c_6 => ?_) (fun c_6 => ?_)
    · skip
      have c_6 : N ≤ (sp + 1) := (nx_le hN rfl (by omega) (by omega)).mp c_6
      refine lv_iload_n hx hb dX3_number_96 rfl (lv_at hl 0 rfl) ?_
      have h2 : ¬ isTwo (A 4) N sp 23 := by intro h9; obtain ⟨h91, h92, h93, h94⟩ := h9; unfold dg at h91 h94; first | omega | exact absurd h93 c_6
      exact gh_reti hC hg hr hlk (Or.inl ⟨sg_2, (nx_sub h_3 (show ((48 : Int32)) = nI 48 from rfl) (by omega)).trans (by unfold nmV; rw [if_neg h2]; rfl), hT.eqI (fam7 rfl rfl rfl rfl rfl (by unfold nmP; rw [if_neg h2] <;> rfl) rfl (fun _ => rfl))⟩) dX3_number_97 (Nat.le_of_ble_eq_true rfl) (Nat.le_of_ble_eq_true rfl)
    have c_6 : ¬ N ≤ (sp + 1) := fun h9 => c_6 ((nx_le hN rfl (by omega) (by omega)).mpr h9)
    refine lv_aload_n hx hb dX3_number_36 rfl (lv_at hl 1 rfl) ?_
    refine gh_get (v := .ref (ad 4)) hC hg hT.1.1 fX3_35_0 rfl dX3_number_37 ?_
    refine lv_aload_n hx hb dX3_number_40 rfl (lv_at hl 1 rfl) ?_
    refine gh_get (v := .int (nI (sp + 1))) hC hg hT.1.1 fX3_233_0 rfl dX3_number_41 ?_
    refine gh_iald (n := 60) (f := (A 4)) hC hg (hT.1.2.1 4 (by decide)) rfl (by omega) (by omega) dX3_number_44 ?_
    refine lv_bipush (v := 48) hx hb dX3_number_45 (by decide) ?_
    refine lv_bipush (v := 57) hx hb dX3_number_47 (by decide) ?_
    refine gh_calli hg (gh_runS (As := [.int ((A 4) (sp + 1)), .int 48, .int 57]) (rest := []) hC hg (t_in l V _ ((A 4) (sp + 1)) 48 57) 3 (lw_S q3905 q3906 q138 q3907) hd_X3_in.2 ⟨Nat.le_of_ble_eq_true rfl, Nat.le_of_ble_eq_true rfl⟩ rfl hl.1 rfl (Nat.le_of_ble_eq_true rfl) dX3_number_49 ⟨Nat.le_of_ble_eq_true rfl, Nat.le_of_ble_eq_true rfl⟩) (fun r_7 g H locs hg hp => ?_)
    replace hp : r_7 = (if okR ((A 4) (sp + 1)) 48 57 then 1 else 0) ∧ g = _ := hp
    by_cases ok_8 : okR ((A 4) (sp + 1)) 48 57
    · rw [if_pos ok_8] at hp
      obtain ⟨rfl, hq⟩ := hp
      rw [hq] at hg
      obtain ⟨h_9a, h_9b, h_9⟩ := okR_cl (show ((48 : Int32)) = nI 48 from rfl) (show ((57 : Int32)) = nI 57 from rfl) (by omega) (by omega) ok_8
      refine lv_if_eq (tgt := 96) hx hb dX3_number_52 (by decide) (fun c_10 => (absurd ((nx_eq (show ((1 : Int32)) = nI 1 from rfl) (show ((0 : Int32)) = nI 0 from rfl) (by omega) (by omega)).mp c_10) (by omega))) (fun _ => ?_)
      refine lv_bipush (v := 10) hx hb dX3_number_55 (by decide) ?_
      refine lv_iload_n hx hb dX3_number_57 rfl (lv_at hl 0 rfl) ?_
      refine lv_imul hx hb dX3_number_58 ?_
      refine lv_aload_n hx hb dX3_number_59 rfl (lv_at hl 1 rfl) ?_
      refine gh_get (v := .ref (ad 4)) hC hg hT.1.1 fX3_35_0 rfl dX3_number_60 ?_
      refine lv_aload_n hx hb dX3_number_63 rfl (lv_at hl 1 rfl) ?_
      refine gh_get (v := .int (nI (sp + 1))) hC hg hT.1.1 fX3_233_0 rfl dX3_number_64 ?_
      refine gh_iald (n := 60) (f := (A 4)) hC hg (hT.1.2.1 4 (by decide)) rfl (by omega) (by omega) dX3_number_67 ?_
      refine lv_iadd hx hb dX3_number_68 ?_
      refine lv_bipush (v := 48) hx hb dX3_number_69 (by decide) ?_
      refine lv_isub hx hb dX3_number_71 ?_
      refine lv_iload_n hx hb dX3_number_72 rfl (lv_at hl 3 rfl) ?_
      refine lv_icmp_gt (tgt := 96) hx hb dX3_number_73 (by decide) (fun c_11 => ?_) (fun c_11 => ?_)
      · skip
        have c_11 : 23 < (((10 * ((((A 4) sp)).toNatClampNeg - 48)) + (((A 4) (sp + 1))).toNatClampNeg) - 48) := (nx_lt (show ((23 : Int32)) = nI 23 from rfl) (nx_sub (nx_add (nx_mul (show ((10 : Int32)) = nI 10 from rfl) (nx_sub h_3 (show ((48 : Int32)) = nI 48 from rfl) (by omega))) h_9) (show ((48 : Int32)) = nI 48 from rfl) (by omega)) (by omega) (by omega)).mp c_11
        refine lv_iload_n hx hb dX3_number_96 rfl (lv_at hl 0 rfl) ?_
        have h2 : ¬ isTwo (A 4) N sp 23 := by intro h9; obtain ⟨h91, h92, h93, h94⟩ := h9; unfold dg at h91 h94; first | omega | exact absurd h93 c_11
        exact gh_reti hC hg hr hlk (Or.inl ⟨sg_2, (nx_sub h_3 (show ((48 : Int32)) = nI 48 from rfl) (by omega)).trans (by unfold nmV; rw [if_neg h2]; rfl), hT.eqI (fam7 rfl rfl rfl rfl rfl (by unfold nmP; rw [if_neg h2] <;> rfl) rfl (fun _ => rfl))⟩) dX3_number_97 (Nat.le_of_ble_eq_true rfl) (Nat.le_of_ble_eq_true rfl)
      have c_11 : ¬ 23 < (((10 * ((((A 4) sp)).toNatClampNeg - 48)) + (((A 4) (sp + 1))).toNatClampNeg) - 48) := fun h9 => c_11 ((nx_lt (show ((23 : Int32)) = nI 23 from rfl) (nx_sub (nx_add (nx_mul (show ((10 : Int32)) = nI 10 from rfl) (nx_sub h_3 (show ((48 : Int32)) = nI 48 from rfl) (by omega))) h_9) (show ((48 : Int32)) = nI 48 from rfl) (by omega)) (by omega) (by omega)).mpr h9)
      refine lv_bipush (v := 10) hx hb dX3_number_76 (by decide) ?_
      refine lv_iload_n hx hb dX3_number_78 rfl (lv_at hl 0 rfl) ?_
      refine lv_imul hx hb dX3_number_79 ?_
      refine lv_aload_n hx hb dX3_number_80 rfl (lv_at hl 1 rfl) ?_
      refine lv_bipush (v := 48) hx hb dX3_number_81 (by decide) ?_
      refine lv_bipush (v := 57) hx hb dX3_number_83 (by decide) ?_
      refine gh_calli hg (gh_runV (As := [.int 48, .int 57]) (rest := [.int (10 * (((A 4) sp) - 48))]) hC hg (t_sign0 l V o ad (va_up (va_up I 6 0) 5 (nI (sp + 1))) A F _ hT.1 48 57 (sp + 1) N rfl (show ((0 : Int32)) = nI 0 from rfl) hN hN60 (by omega) (by decide)) 2 (lw_V q4330 q4332 qs99 q138 q4333) hT.1.1 rfl hd_X3_sign ⟨Nat.le_of_ble_eq_true rfl, Nat.le_of_ble_eq_true rfl⟩ rfl hl.1 rfl (Nat.le_of_ble_eq_true rfl) dX3_number_85 ⟨Nat.le_of_ble_eq_true rfl, Nat.le_of_ble_eq_true rfl⟩) (fun r_12 g H locs hg hp => ?_)
      rcases hp with ⟨sg_13, hpr, hpT⟩ | ⟨sg_13, hpT⟩
      · replace hpr : r_12 = (A 4) (sp + 1) := hpr
        subst hpr
        have hT : tw_W V g0 g o ad (va_up (va_up (va_up (va_up I 6 0) 5 (nI (sp + 1))) 6 0) 5 (nI ((sp + 1) + 1))) A F := hT.call hpT
        have sg_13l := sg_13.1
        obtain ⟨h_14a, h_14b, h_14⟩ := okR_cl (show ((48 : Int32)) = nI 48 from rfl) (show ((57 : Int32)) = nI 57 from rfl) (by omega) (by omega) sg_13.2
        refine lv_iadd hx hb dX3_number_88 ?_
        refine lv_bipush (v := 48) hx hb dX3_number_89 (by decide) ?_
        refine lv_isub hx hb dX3_number_91 ?_
        refine lv_istore_n (lv' := [(3, .int (((10 * (((A 4) sp) - 48)) + ((A 4) (sp + 1))) - 48)), (0, .ref o), (1, .int 0), (2, .int 23)]) hx hb dX3_number_92 rfl hl (by decide) rfl (fun ls hl => ?_)
        refine lv_goto (tgt := 14) hx hb dX3_number_93 (by decide) ?_
        refine lv_aload_n hx hb dX3_number_14 rfl (lv_at hl 1 rfl) ?_
        refine gh_get (v := .int 0) hC hg hT.1.1 fX3_236_0 rfl dX3_number_15 ?_
        refine lv_if_ne (tgt := 96) hx hb dX3_number_18 (by decide) (fun c_15 => (absurd ((nx_eq (show ((0 : Int32)) = nI 0 from rfl) (show ((0 : Int32)) = nI 0 from rfl) (by omega) (by omega)).mpr (by omega)) c_15)) (fun _ => ?_)
        refine lv_iload_n hx hb dX3_number_21 rfl (lv_at hl 0 rfl) ?_
        refine lv_if_le (tgt := 96) hx hb dX3_number_22 (by decide) (fun c_16 => (absurd ((nx_le (nx_sub (nx_add (nx_mul (show ((10 : Int32)) = nI 10 from rfl) (nx_sub h_3 (show ((48 : Int32)) = nI 48 from rfl) (by omega))) h_14) (show ((48 : Int32)) = nI 48 from rfl) (by omega)) (show ((0 : Int32)) = nI 0 from rfl) (by omega) (by omega)).mp c_16) (by omega))) (fun _ => ?_)
        refine lv_aload_n hx hb dX3_number_25 rfl (lv_at hl 1 rfl) ?_
        refine gh_get (v := .int (nI ((sp + 1) + 1))) hC hg hT.1.1 fX3_233_0 rfl dX3_number_26 ?_
        refine lv_aload_n hx hb dX3_number_29 rfl (lv_at hl 1 rfl) ?_
        refine gh_get (v := .int (I 2)) hC hg hT.1.1 fX3_230_0 rfl dX3_number_30 ?_
        refine lv_icmp_ge (tgt := 96) hx hb dX3_number_33 (by decide) (fun c_17 => ?_) (fun c_17 => ?_)
        · skip
          have c_17 : N ≤ ((sp + 1) + 1) := (nx_le hN rfl (by omega) (by omega)).mp c_17
          refine lv_iload_n hx hb dX3_number_96 rfl (lv_at hl 0 rfl) ?_
          have h2 : isTwo (A 4) N sp 23 := ⟨by unfold dg; omega, by omega, ok_8, by unfold dg; omega⟩
          exact gh_reti hC hg hr hlk (Or.inl ⟨sg_2, (nx_sub (nx_add (nx_mul (show ((10 : Int32)) = nI 10 from rfl) (nx_sub h_3 (show ((48 : Int32)) = nI 48 from rfl) (by omega))) h_14) (show ((48 : Int32)) = nI 48 from rfl) (by omega)).trans (by unfold nmV; rw [if_pos h2]; exact congrArg nI (by unfold dg; omega)), hT.eqI (fam7 rfl rfl rfl rfl rfl (by unfold nmP; rw [if_pos h2] <;> rfl) rfl (fun _ => rfl))⟩) dX3_number_97 (Nat.le_of_ble_eq_true rfl) (Nat.le_of_ble_eq_true rfl)
        have c_17 : ¬ N ≤ ((sp + 1) + 1) := fun h9 => c_17 ((nx_le hN rfl (by omega) (by omega)).mpr h9)
        refine lv_aload_n hx hb dX3_number_36 rfl (lv_at hl 1 rfl) ?_
        refine gh_get (v := .ref (ad 4)) hC hg hT.1.1 fX3_35_0 rfl dX3_number_37 ?_
        refine lv_aload_n hx hb dX3_number_40 rfl (lv_at hl 1 rfl) ?_
        refine gh_get (v := .int (nI ((sp + 1) + 1))) hC hg hT.1.1 fX3_233_0 rfl dX3_number_41 ?_
        refine gh_iald (n := 60) (f := (A 4)) hC hg (hT.1.2.1 4 (by decide)) rfl (by omega) (by omega) dX3_number_44 ?_
        refine lv_bipush (v := 48) hx hb dX3_number_45 (by decide) ?_
        refine lv_bipush (v := 57) hx hb dX3_number_47 (by decide) ?_
        refine gh_calli hg (gh_runS (As := [.int ((A 4) ((sp + 1) + 1)), .int 48, .int 57]) (rest := []) hC hg (t_in l V _ ((A 4) ((sp + 1) + 1)) 48 57) 3 (lw_S q3905 q3906 q138 q3907) hd_X3_in.2 ⟨Nat.le_of_ble_eq_true rfl, Nat.le_of_ble_eq_true rfl⟩ rfl hl.1 rfl (Nat.le_of_ble_eq_true rfl) dX3_number_49 ⟨Nat.le_of_ble_eq_true rfl, Nat.le_of_ble_eq_true rfl⟩) (fun r_18 g H locs hg hp => ?_)
        replace hp : r_18 = (if okR ((A 4) ((sp + 1) + 1)) 48 57 then 1 else 0) ∧ g = _ := hp
        by_cases ok_19 : okR ((A 4) ((sp + 1) + 1)) 48 57
        · rw [if_pos ok_19] at hp
          obtain ⟨rfl, hq⟩ := hp
          rw [hq] at hg
          obtain ⟨h_20a, h_20b, h_20⟩ := okR_cl (show ((48 : Int32)) = nI 48 from rfl) (show ((57 : Int32)) = nI 57 from rfl) (by omega) (by omega) ok_19
          refine lv_if_eq (tgt := 96) hx hb dX3_number_52 (by decide) (fun c_21 => (absurd ((nx_eq (show ((1 : Int32)) = nI 1 from rfl) (show ((0 : Int32)) = nI 0 from rfl) (by omega) (by omega)).mp c_21) (by omega))) (fun _ => ?_)
          refine lv_bipush (v := 10) hx hb dX3_number_55 (by decide) ?_
          refine lv_iload_n hx hb dX3_number_57 rfl (lv_at hl 0 rfl) ?_
          refine lv_imul hx hb dX3_number_58 ?_
          refine lv_aload_n hx hb dX3_number_59 rfl (lv_at hl 1 rfl) ?_
          refine gh_get (v := .ref (ad 4)) hC hg hT.1.1 fX3_35_0 rfl dX3_number_60 ?_
          refine lv_aload_n hx hb dX3_number_63 rfl (lv_at hl 1 rfl) ?_
          refine gh_get (v := .int (nI ((sp + 1) + 1))) hC hg hT.1.1 fX3_233_0 rfl dX3_number_64 ?_
          refine gh_iald (n := 60) (f := (A 4)) hC hg (hT.1.2.1 4 (by decide)) rfl (by omega) (by omega) dX3_number_67 ?_
          refine lv_iadd hx hb dX3_number_68 ?_
          refine lv_bipush (v := 48) hx hb dX3_number_69 (by decide) ?_
          refine lv_isub hx hb dX3_number_71 ?_
          refine lv_iload_n hx hb dX3_number_72 rfl (lv_at hl 3 rfl) ?_
          refine lv_icmp_gt (tgt := 96) hx hb dX3_number_73 (by decide) (fun _ => ?_) (fun c_22 => (absurd ((nx_lt (show ((23 : Int32)) = nI 23 from rfl) (nx_sub (nx_add (nx_mul (show ((10 : Int32)) = nI 10 from rfl) (nx_sub (nx_add (nx_mul (show ((10 : Int32)) = nI 10 from rfl) (nx_sub h_3 (show ((48 : Int32)) = nI 48 from rfl) (by omega))) h_14) (show ((48 : Int32)) = nI 48 from rfl) (by omega))) h_20) (show ((48 : Int32)) = nI 48 from rfl) (by omega)) (by omega) (by omega)).mpr (by omega)) c_22))
          refine lv_iload_n hx hb dX3_number_96 rfl (lv_at hl 0 rfl) ?_
          have h2 : isTwo (A 4) N sp 23 := ⟨by unfold dg; omega, by omega, ok_8, by unfold dg; omega⟩
          exact gh_reti hC hg hr hlk (Or.inl ⟨sg_2, (nx_sub (nx_add (nx_mul (show ((10 : Int32)) = nI 10 from rfl) (nx_sub h_3 (show ((48 : Int32)) = nI 48 from rfl) (by omega))) h_14) (show ((48 : Int32)) = nI 48 from rfl) (by omega)).trans (by unfold nmV; rw [if_pos h2]; exact congrArg nI (by unfold dg; omega)), hT.eqI (fam7 rfl rfl rfl rfl rfl (by unfold nmP; rw [if_pos h2] <;> rfl) rfl (fun _ => rfl))⟩) dX3_number_97 (Nat.le_of_ble_eq_true rfl) (Nat.le_of_ble_eq_true rfl)
        rw [if_neg ok_19] at hp
        obtain ⟨rfl, hq⟩ := hp
        rw [hq] at hg
        refine lv_if_eq (tgt := 96) hx hb dX3_number_52 (by decide) (fun _ => ?_) (fun c_23 => (absurd ((nx_eq (show ((0 : Int32)) = nI 0 from rfl) (show ((0 : Int32)) = nI 0 from rfl) (by omega) (by omega)).mpr (by omega)) c_23))
        refine lv_iload_n hx hb dX3_number_96 rfl (lv_at hl 0 rfl) ?_
        have h2 : isTwo (A 4) N sp 23 := ⟨by unfold dg; omega, by omega, ok_8, by unfold dg; omega⟩
        exact gh_reti hC hg hr hlk (Or.inl ⟨sg_2, (nx_sub (nx_add (nx_mul (show ((10 : Int32)) = nI 10 from rfl) (nx_sub h_3 (show ((48 : Int32)) = nI 48 from rfl) (by omega))) h_14) (show ((48 : Int32)) = nI 48 from rfl) (by omega)).trans (by unfold nmV; rw [if_pos h2]; exact congrArg nI (by unfold dg; omega)), hT.eqI (fam7 rfl rfl rfl rfl rfl (by unfold nmP; rw [if_pos h2] <;> rfl) rfl (fun _ => rfl))⟩) dX3_number_97 (Nat.le_of_ble_eq_true rfl) (Nat.le_of_ble_eq_true rfl)
      exact absurd ⟨by omega, ok_8⟩ sg_13
    rw [if_neg ok_8] at hp
    obtain ⟨rfl, hq⟩ := hp
    rw [hq] at hg
    refine lv_if_eq (tgt := 96) hx hb dX3_number_52 (by decide) (fun _ => ?_) (fun c_24 => (absurd ((nx_eq (show ((0 : Int32)) = nI 0 from rfl) (show ((0 : Int32)) = nI 0 from rfl) (by omega) (by omega)).mpr (by omega)) c_24))
    refine lv_iload_n hx hb dX3_number_96 rfl (lv_at hl 0 rfl) ?_
    have h2 : ¬ isTwo (A 4) N sp 23 := by intro h9; obtain ⟨h91, h92, h93, h94⟩ := h9; unfold dg at h91 h94; first | omega | exact absurd h93 ok_8
    exact gh_reti hC hg hr hlk (Or.inl ⟨sg_2, (nx_sub h_3 (show ((48 : Int32)) = nI 48 from rfl) (by omega)).trans (by unfold nmV; rw [if_neg h2]; rfl), hT.eqI (fam7 rfl rfl rfl rfl rfl (by unfold nmP; rw [if_neg h2] <;> rfl) rfl (fun _ => rfl))⟩) dX3_number_97 (Nat.le_of_ble_eq_true rfl) (Nat.le_of_ble_eq_true rfl)
  have hT : tw_W V g0 g o ad (va_up (va_up I 6 1) 5 (nI sp)) A F := hT.call hpT
  refine lv_bipush (v := 48) hx hb dX3_number_10 (by decide) ?_
  refine lv_isub hx hb dX3_number_12 ?_
  refine lv_istore_n (lv' := [(3, .int (r_1 - 48)), (0, .ref o), (1, .int 0), (2, .int 23)]) hx hb dX3_number_13 rfl hl (by decide) rfl (fun ls hl => ?_)
  refine lv_aload_n hx hb dX3_number_14 rfl (lv_at hl 1 rfl) ?_
  refine gh_get (v := .int 1) hC hg hT.1.1 fX3_236_0 rfl dX3_number_15 ?_
  refine lv_if_ne (tgt := 96) hx hb dX3_number_18 (by decide) (fun _ => ?_) (fun c_25 => (absurd ((nx_eq (show ((1 : Int32)) = nI 1 from rfl) (show ((0 : Int32)) = nI 0 from rfl) (by omega) (by omega)).mp c_25) (by omega)))
  refine lv_iload_n hx hb dX3_number_96 rfl (lv_at hl 0 rfl) ?_
  exact gh_reti hC hg hr hlk (Or.inr ⟨sg_2, hT⟩) dX3_number_97 (Nat.le_of_ble_eq_true rfl) (Nat.le_of_ble_eq_true rfl)
set_option maxHeartbeats 1000000 in
set_option maxRecDepth 100000 in
theorem t_number60 (l : Launch) (V : gh_V) (o : Nat) (ad : Nat → Nat) (I : Nat → Int32) (A : Nat → Nat → Int32) (F : Nat → Nat → UInt32) (g0 : gh_G) (hP : tw_P V g0 o ad I A F) (sp N : Nat) (h5 : I 5 = nI sp) (h6 : I 6 = 0) (hN : I 2 = nI N) (hN60 : N ≤ 60) (hsp : sp ≤ 60) : MI l yX3_number cX3_number 4 (some .int) ({ frames := 2, cells := 0, slots := 0, locals := 45 } : Room) V [.ref o, .int 1, .int 60] g0 (fun r g1 => (isC (A 4) N sp 49 57 ∧ r = nI (nmV (A 4) N sp 60) ∧ tw_W V g0 g1 o ad (va_up (va_up I 6 0) 5 (nI (nmP (A 4) N sp 60))) A F) ∨ (¬ isC (A 4) N sp 49 57 ∧ tw_W V g0 g1 o ad (va_up (va_up I 6 1) 5 (nI sp)) A F)) := by
  refine MG.of RX3 (by decide) rfl (Nat.le_of_ble_eq_true rfl) (fun pp ee s mm args below meth c ls hC hg hr hlk hnm hl => ?_)
  have hx := hC.1.1
  have hb := hC.1.2.1
  have hml := hC.1.2.2.1
  have hown := hC.1.2.2.2.1
  have hts := hC.1.2.2.2.2
  have hl : lv_has ls 4 [(0, .ref o), (1, .int 1), (2, .int 60)] := hl
  have hT := hP.W
  refine lv_aload_n hx hb dX3_number_0 rfl (lv_at hl 0 rfl) ?_
  refine lv_bipush (v := 48) hx hb dX3_number_1 (by decide) ?_
  refine lv_iload_n hx hb dX3_number_3 rfl (lv_at hl 1 rfl) ?_
  refine lv_iadd hx hb dX3_number_4 ?_
  refine lv_bipush (v := 57) hx hb dX3_number_5 (by decide) ?_
  refine gh_calli hg (gh_runV (As := [.int (48 + 1), .int 57]) (rest := []) hC hg (t_sign0 l V o ad I A F _ hT.1 (48 + 1) 57 sp N h5 (h6.trans (show ((0 : Int32)) = nI 0 from rfl)) hN hN60 (by omega) (by decide)) 2 (lw_V q4330 q4332 qs99 q138 q4333) hT.1.1 rfl hd_X3_sign ⟨Nat.le_of_ble_eq_true rfl, Nat.le_of_ble_eq_true rfl⟩ rfl hl.1 rfl (Nat.le_of_ble_eq_true rfl) dX3_number_7 ⟨Nat.le_of_ble_eq_true rfl, Nat.le_of_ble_eq_true rfl⟩) (fun r_1 g H locs hg hp => ?_)
  rcases hp with ⟨sg_2, hpr, hpT⟩ | ⟨sg_2, hpT⟩
  · replace hpr : r_1 = (A 4) sp := hpr
    subst hpr
    have hT : tw_W V g0 g o ad (va_up (va_up I 6 0) 5 (nI (sp + 1))) A F := hT.call hpT
    have sg_2l := sg_2.1
    obtain ⟨h_3a, h_3b, h_3⟩ := okR_cl (nx_add (show ((48 : Int32)) = nI 48 from rfl) (show ((1 : Int32)) = nI 1 from rfl)) (show ((57 : Int32)) = nI 57 from rfl) (by omega) (by omega) sg_2.2
    refine lv_bipush (v := 48) hx hb dX3_number_10 (by decide) ?_
    refine lv_isub hx hb dX3_number_12 ?_
    refine lv_istore_n (lv' := [(3, .int (((A 4) sp) - 48)), (0, .ref o), (1, .int 1), (2, .int 60)]) hx hb dX3_number_13 rfl hl (by decide) rfl (fun ls hl => ?_)
    refine lv_aload_n hx hb dX3_number_14 rfl (lv_at hl 1 rfl) ?_
    refine gh_get (v := .int 0) hC hg hT.1.1 fX3_236_0 rfl dX3_number_15 ?_
    refine lv_if_ne (tgt := 96) hx hb dX3_number_18 (by decide) (fun c_4 => (absurd ((nx_eq (show ((0 : Int32)) = nI 0 from rfl) (show ((0 : Int32)) = nI 0 from rfl) (by omega) (by omega)).mpr (by omega)) c_4)) (fun _ => ?_)
    refine lv_iload_n hx hb dX3_number_21 rfl (lv_at hl 0 rfl) ?_
    refine lv_if_le (tgt := 96) hx hb dX3_number_22 (by decide) (fun c_5 => ?_) (fun c_5 => ?_)
    · skip
      have c_5 : ((((A 4) sp)).toNatClampNeg - 48) ≤ 0 := (nx_le (nx_sub h_3 (show ((48 : Int32)) = nI 48 from rfl) (by omega)) (show ((0 : Int32)) = nI 0 from rfl) (by omega) (by omega)).mp c_5
      refine lv_iload_n hx hb dX3_number_96 rfl (lv_at hl 0 rfl) ?_
      have h2 : ¬ isTwo (A 4) N sp 60 := by intro h9; obtain ⟨h91, h92, h93, h94⟩ := h9; unfold dg at h91 h94; first | omega | exact absurd h93 c_5
      exact gh_reti hC hg hr hlk (Or.inl ⟨sg_2, (nx_sub h_3 (show ((48 : Int32)) = nI 48 from rfl) (by omega)).trans (by unfold nmV; rw [if_neg h2]; rfl), hT.eqI (fam7 rfl rfl rfl rfl rfl (by unfold nmP; rw [if_neg h2] <;> rfl) rfl (fun _ => rfl))⟩) dX3_number_97 (Nat.le_of_ble_eq_true rfl) (Nat.le_of_ble_eq_true rfl)
    have c_5 : ¬ ((((A 4) sp)).toNatClampNeg - 48) ≤ 0 := fun h9 => c_5 ((nx_le (nx_sub h_3 (show ((48 : Int32)) = nI 48 from rfl) (by omega)) (show ((0 : Int32)) = nI 0 from rfl) (by omega) (by omega)).mpr h9)
    refine lv_aload_n hx hb dX3_number_25 rfl (lv_at hl 1 rfl) ?_
    refine gh_get (v := .int (nI (sp + 1))) hC hg hT.1.1 fX3_233_0 rfl dX3_number_26 ?_
    refine lv_aload_n hx hb dX3_number_29 rfl (lv_at hl 1 rfl) ?_
    refine gh_get (v := .int (I 2)) hC hg hT.1.1 fX3_230_0 rfl dX3_number_30 ?_
    refine lv_icmp_ge (tgt := 96) hx hb dX3_number_33 (by decide) (fun c_6 => ?_) (fun c_6 => ?_)
    · skip
      have c_6 : N ≤ (sp + 1) := (nx_le hN rfl (by omega) (by omega)).mp c_6
      refine lv_iload_n hx hb dX3_number_96 rfl (lv_at hl 0 rfl) ?_
      have h2 : ¬ isTwo (A 4) N sp 60 := by intro h9; obtain ⟨h91, h92, h93, h94⟩ := h9; unfold dg at h91 h94; first | omega | exact absurd h93 c_6
      exact gh_reti hC hg hr hlk (Or.inl ⟨sg_2, (nx_sub h_3 (show ((48 : Int32)) = nI 48 from rfl) (by omega)).trans (by unfold nmV; rw [if_neg h2]; rfl), hT.eqI (fam7 rfl rfl rfl rfl rfl (by unfold nmP; rw [if_neg h2] <;> rfl) rfl (fun _ => rfl))⟩) dX3_number_97 (Nat.le_of_ble_eq_true rfl) (Nat.le_of_ble_eq_true rfl)
    have c_6 : ¬ N ≤ (sp + 1) := fun h9 => c_6 ((nx_le hN rfl (by omega) (by omega)).mpr h9)
    refine lv_aload_n hx hb dX3_number_36 rfl (lv_at hl 1 rfl) ?_
    refine gh_get (v := .ref (ad 4)) hC hg hT.1.1 fX3_35_0 rfl dX3_number_37 ?_
    refine lv_aload_n hx hb dX3_number_40 rfl (lv_at hl 1 rfl) ?_
    refine gh_get (v := .int (nI (sp + 1))) hC hg hT.1.1 fX3_233_0 rfl dX3_number_41 ?_
    refine gh_iald (n := 60) (f := (A 4)) hC hg (hT.1.2.1 4 (by decide)) rfl (by omega) (by omega) dX3_number_44 ?_
    refine lv_bipush (v := 48) hx hb dX3_number_45 (by decide) ?_
    refine lv_bipush (v := 57) hx hb dX3_number_47 (by decide) ?_
    refine gh_calli hg (gh_runS (As := [.int ((A 4) (sp + 1)), .int 48, .int 57]) (rest := []) hC hg (t_in l V _ ((A 4) (sp + 1)) 48 57) 3 (lw_S q3905 q3906 q138 q3907) hd_X3_in.2 ⟨Nat.le_of_ble_eq_true rfl, Nat.le_of_ble_eq_true rfl⟩ rfl hl.1 rfl (Nat.le_of_ble_eq_true rfl) dX3_number_49 ⟨Nat.le_of_ble_eq_true rfl, Nat.le_of_ble_eq_true rfl⟩) (fun r_7 g H locs hg hp => ?_)
    replace hp : r_7 = (if okR ((A 4) (sp + 1)) 48 57 then 1 else 0) ∧ g = _ := hp
    by_cases ok_8 : okR ((A 4) (sp + 1)) 48 57
    · rw [if_pos ok_8] at hp
      obtain ⟨rfl, hq⟩ := hp
      rw [hq] at hg
      obtain ⟨h_9a, h_9b, h_9⟩ := okR_cl (show ((48 : Int32)) = nI 48 from rfl) (show ((57 : Int32)) = nI 57 from rfl) (by omega) (by omega) ok_8
      refine lv_if_eq (tgt := 96) hx hb dX3_number_52 (by decide) (fun c_10 => (absurd ((nx_eq (show ((1 : Int32)) = nI 1 from rfl) (show ((0 : Int32)) = nI 0 from rfl) (by omega) (by omega)).mp c_10) (by omega))) (fun _ => ?_)
      refine lv_bipush (v := 10) hx hb dX3_number_55 (by decide) ?_
      refine lv_iload_n hx hb dX3_number_57 rfl (lv_at hl 0 rfl) ?_
      refine lv_imul hx hb dX3_number_58 ?_
      refine lv_aload_n hx hb dX3_number_59 rfl (lv_at hl 1 rfl) ?_
      refine gh_get (v := .ref (ad 4)) hC hg hT.1.1 fX3_35_0 rfl dX3_number_60 ?_
      refine lv_aload_n hx hb dX3_number_63 rfl (lv_at hl 1 rfl) ?_
      refine gh_get (v := .int (nI (sp + 1))) hC hg hT.1.1 fX3_233_0 rfl dX3_number_64 ?_
      refine gh_iald (n := 60) (f := (A 4)) hC hg (hT.1.2.1 4 (by decide)) rfl (by omega) (by omega) dX3_number_67 ?_
      refine lv_iadd hx hb dX3_number_68 ?_
      refine lv_bipush (v := 48) hx hb dX3_number_69 (by decide) ?_
      refine lv_isub hx hb dX3_number_71 ?_
      refine lv_iload_n hx hb dX3_number_72 rfl (lv_at hl 3 rfl) ?_
      refine lv_icmp_gt (tgt := 96) hx hb dX3_number_73 (by decide) (fun c_11 => ?_) (fun c_11 => ?_)
      · skip
        have c_11 : 60 < (((10 * ((((A 4) sp)).toNatClampNeg - 48)) + (((A 4) (sp + 1))).toNatClampNeg) - 48) := (nx_lt (show ((60 : Int32)) = nI 60 from rfl) (nx_sub (nx_add (nx_mul (show ((10 : Int32)) = nI 10 from rfl) (nx_sub h_3 (show ((48 : Int32)) = nI 48 from rfl) (by omega))) h_9) (show ((48 : Int32)) = nI 48 from rfl) (by omega)) (by omega) (by omega)).mp c_11
        refine lv_iload_n hx hb dX3_number_96 rfl (lv_at hl 0 rfl) ?_
        have h2 : ¬ isTwo (A 4) N sp 60 := by intro h9; obtain ⟨h91, h92, h93, h94⟩ := h9; unfold dg at h91 h94; first | omega | exact absurd h93 c_11
        exact gh_reti hC hg hr hlk (Or.inl ⟨sg_2, (nx_sub h_3 (show ((48 : Int32)) = nI 48 from rfl) (by omega)).trans (by unfold nmV; rw [if_neg h2]; rfl), hT.eqI (fam7 rfl rfl rfl rfl rfl (by unfold nmP; rw [if_neg h2] <;> rfl) rfl (fun _ => rfl))⟩) dX3_number_97 (Nat.le_of_ble_eq_true rfl) (Nat.le_of_ble_eq_true rfl)
      have c_11 : ¬ 60 < (((10 * ((((A 4) sp)).toNatClampNeg - 48)) + (((A 4) (sp + 1))).toNatClampNeg) - 48) := fun h9 => c_11 ((nx_lt (show ((60 : Int32)) = nI 60 from rfl) (nx_sub (nx_add (nx_mul (show ((10 : Int32)) = nI 10 from rfl) (nx_sub h_3 (show ((48 : Int32)) = nI 48 from rfl) (by omega))) h_9) (show ((48 : Int32)) = nI 48 from rfl) (by omega)) (by omega) (by omega)).mpr h9)
      refine lv_bipush (v := 10) hx hb dX3_number_76 (by decide) ?_
      refine lv_iload_n hx hb dX3_number_78 rfl (lv_at hl 0 rfl) ?_
      refine lv_imul hx hb dX3_number_79 ?_
      refine lv_aload_n hx hb dX3_number_80 rfl (lv_at hl 1 rfl) ?_
      refine lv_bipush (v := 48) hx hb dX3_number_81 (by decide) ?_
      refine lv_bipush (v := 57) hx hb dX3_number_83 (by decide) ?_
      refine gh_calli hg (gh_runV (As := [.int 48, .int 57]) (rest := [.int (10 * (((A 4) sp) - 48))]) hC hg (t_sign0 l V o ad (va_up (va_up I 6 0) 5 (nI (sp + 1))) A F _ hT.1 48 57 (sp + 1) N rfl (show ((0 : Int32)) = nI 0 from rfl) hN hN60 (by omega) (by decide)) 2 (lw_V q4330 q4332 qs99 q138 q4333) hT.1.1 rfl hd_X3_sign ⟨Nat.le_of_ble_eq_true rfl, Nat.le_of_ble_eq_true rfl⟩ rfl hl.1 rfl (Nat.le_of_ble_eq_true rfl) dX3_number_85 ⟨Nat.le_of_ble_eq_true rfl, Nat.le_of_ble_eq_true rfl⟩) (fun r_12 g H locs hg hp => ?_)
      rcases hp with ⟨sg_13, hpr, hpT⟩ | ⟨sg_13, hpT⟩
      · replace hpr : r_12 = (A 4) (sp + 1) := hpr
        subst hpr
        have hT : tw_W V g0 g o ad (va_up (va_up (va_up (va_up I 6 0) 5 (nI (sp + 1))) 6 0) 5 (nI ((sp + 1) + 1))) A F := hT.call hpT
        have sg_13l := sg_13.1
        obtain ⟨h_14a, h_14b, h_14⟩ := okR_cl (show ((48 : Int32)) = nI 48 from rfl) (show ((57 : Int32)) = nI 57 from rfl) (by omega) (by omega) sg_13.2
        refine lv_iadd hx hb dX3_number_88 ?_
        refine lv_bipush (v := 48) hx hb dX3_number_89 (by decide) ?_
        refine lv_isub hx hb dX3_number_91 ?_
        refine lv_istore_n (lv' := [(3, .int (((10 * (((A 4) sp) - 48)) + ((A 4) (sp + 1))) - 48)), (0, .ref o), (1, .int 1), (2, .int 60)]) hx hb dX3_number_92 rfl hl (by decide) rfl (fun ls hl => ?_)
        refine lv_goto (tgt := 14) hx hb dX3_number_93 (by decide) ?_
        refine lv_aload_n hx hb dX3_number_14 rfl (lv_at hl 1 rfl) ?_
        refine gh_get (v := .int 0) hC hg hT.1.1 fX3_236_0 rfl dX3_number_15 ?_
        refine lv_if_ne (tgt := 96) hx hb dX3_number_18 (by decide) (fun c_15 => (absurd ((nx_eq (show ((0 : Int32)) = nI 0 from rfl) (show ((0 : Int32)) = nI 0 from rfl) (by omega) (by omega)).mpr (by omega)) c_15)) (fun _ => ?_)
        refine lv_iload_n hx hb dX3_number_21 rfl (lv_at hl 0 rfl) ?_
        refine lv_if_le (tgt := 96) hx hb dX3_number_22 (by decide) (fun c_16 => (absurd ((nx_le (nx_sub (nx_add (nx_mul (show ((10 : Int32)) = nI 10 from rfl) (nx_sub h_3 (show ((48 : Int32)) = nI 48 from rfl) (by omega))) h_14) (show ((48 : Int32)) = nI 48 from rfl) (by omega)) (show ((0 : Int32)) = nI 0 from rfl) (by omega) (by omega)).mp c_16) (by omega))) (fun _ => ?_)
        refine lv_aload_n hx hb dX3_number_25 rfl (lv_at hl 1 rfl) ?_
        refine gh_get (v := .int (nI ((sp + 1) + 1))) hC hg hT.1.1 fX3_233_0 rfl dX3_number_26 ?_
        refine lv_aload_n hx hb dX3_number_29 rfl (lv_at hl 1 rfl) ?_
        refine gh_get (v := .int (I 2)) hC hg hT.1.1 fX3_230_0 rfl dX3_number_30 ?_
        refine lv_icmp_ge (tgt := 96) hx hb dX3_number_33 (by decide) (fun c_17 => ?_) (fun c_17 => ?_)
        · skip
          have c_17 : N ≤ ((sp + 1) + 1) := (nx_le hN rfl (by omega) (by omega)).mp c_17
          refine lv_iload_n hx hb dX3_number_96 rfl (lv_at hl 0 rfl) ?_
          have h2 : isTwo (A 4) N sp 60 := ⟨by unfold dg; omega, by omega, ok_8, by unfold dg; omega⟩
          exact gh_reti hC hg hr hlk (Or.inl ⟨sg_2, (nx_sub (nx_add (nx_mul (show ((10 : Int32)) = nI 10 from rfl) (nx_sub h_3 (show ((48 : Int32)) = nI 48 from rfl) (by omega))) h_14) (show ((48 : Int32)) = nI 48 from rfl) (by omega)).trans (by unfold nmV; rw [if_pos h2]; exact congrArg nI (by unfold dg; omega)), hT.eqI (fam7 rfl rfl rfl rfl rfl (by unfold nmP; rw [if_pos h2] <;> rfl) rfl (fun _ => rfl))⟩) dX3_number_97 (Nat.le_of_ble_eq_true rfl) (Nat.le_of_ble_eq_true rfl)
        have c_17 : ¬ N ≤ ((sp + 1) + 1) := fun h9 => c_17 ((nx_le hN rfl (by omega) (by omega)).mpr h9)
        refine lv_aload_n hx hb dX3_number_36 rfl (lv_at hl 1 rfl) ?_
        refine gh_get (v := .ref (ad 4)) hC hg hT.1.1 fX3_35_0 rfl dX3_number_37 ?_
        refine lv_aload_n hx hb dX3_number_40 rfl (lv_at hl 1 rfl) ?_
        refine gh_get (v := .int (nI ((sp + 1) + 1))) hC hg hT.1.1 fX3_233_0 rfl dX3_number_41 ?_
        refine gh_iald (n := 60) (f := (A 4)) hC hg (hT.1.2.1 4 (by decide)) rfl (by omega) (by omega) dX3_number_44 ?_
        refine lv_bipush (v := 48) hx hb dX3_number_45 (by decide) ?_
        refine lv_bipush (v := 57) hx hb dX3_number_47 (by decide) ?_
        refine gh_calli hg (gh_runS (As := [.int ((A 4) ((sp + 1) + 1)), .int 48, .int 57]) (rest := []) hC hg (t_in l V _ ((A 4) ((sp + 1) + 1)) 48 57) 3 (lw_S q3905 q3906 q138 q3907) hd_X3_in.2 ⟨Nat.le_of_ble_eq_true rfl, Nat.le_of_ble_eq_true rfl⟩ rfl hl.1 rfl (Nat.le_of_ble_eq_true rfl) dX3_number_49 ⟨Nat.le_of_ble_eq_true rfl, Nat.le_of_ble_eq_true rfl⟩) (fun r_18 g H locs hg hp => ?_)
        replace hp : r_18 = (if okR ((A 4) ((sp + 1) + 1)) 48 57 then 1 else 0) ∧ g = _ := hp
        by_cases ok_19 : okR ((A 4) ((sp + 1) + 1)) 48 57
        · rw [if_pos ok_19] at hp
          obtain ⟨rfl, hq⟩ := hp
          rw [hq] at hg
          obtain ⟨h_20a, h_20b, h_20⟩ := okR_cl (show ((48 : Int32)) = nI 48 from rfl) (show ((57 : Int32)) = nI 57 from rfl) (by omega) (by omega) ok_19
          refine lv_if_eq (tgt := 96) hx hb dX3_number_52 (by decide) (fun c_21 => (absurd ((nx_eq (show ((1 : Int32)) = nI 1 from rfl) (show ((0 : Int32)) = nI 0 from rfl) (by omega) (by omega)).mp c_21) (by omega))) (fun _ => ?_)
          refine lv_bipush (v := 10) hx hb dX3_number_55 (by decide) ?_
          refine lv_iload_n hx hb dX3_number_57 rfl (lv_at hl 0 rfl) ?_
          refine lv_imul hx hb dX3_number_58 ?_
          refine lv_aload_n hx hb dX3_number_59 rfl (lv_at hl 1 rfl) ?_
          refine gh_get (v := .ref (ad 4)) hC hg hT.1.1 fX3_35_0 rfl dX3_number_60 ?_
          refine lv_aload_n hx hb dX3_number_63 rfl (lv_at hl 1 rfl) ?_
          refine gh_get (v := .int (nI ((sp + 1) + 1))) hC hg hT.1.1 fX3_233_0 rfl dX3_number_64 ?_
          refine gh_iald (n := 60) (f := (A 4)) hC hg (hT.1.2.1 4 (by decide)) rfl (by omega) (by omega) dX3_number_67 ?_
          refine lv_iadd hx hb dX3_number_68 ?_
          refine lv_bipush (v := 48) hx hb dX3_number_69 (by decide) ?_
          refine lv_isub hx hb dX3_number_71 ?_
          refine lv_iload_n hx hb dX3_number_72 rfl (lv_at hl 3 rfl) ?_
          refine lv_icmp_gt (tgt := 96) hx hb dX3_number_73 (by decide) (fun _ => ?_) (fun c_22 => (absurd ((nx_lt (show ((60 : Int32)) = nI 60 from rfl) (nx_sub (nx_add (nx_mul (show ((10 : Int32)) = nI 10 from rfl) (nx_sub (nx_add (nx_mul (show ((10 : Int32)) = nI 10 from rfl) (nx_sub h_3 (show ((48 : Int32)) = nI 48 from rfl) (by omega))) h_14) (show ((48 : Int32)) = nI 48 from rfl) (by omega))) h_20) (show ((48 : Int32)) = nI 48 from rfl) (by omega)) (by omega) (by omega)).mpr (by omega)) c_22))
          refine lv_iload_n hx hb dX3_number_96 rfl (lv_at hl 0 rfl) ?_
          have h2 : isTwo (A 4) N sp 60 := ⟨by unfold dg; omega, by omega, ok_8, by unfold dg; omega⟩
          exact gh_reti hC hg hr hlk (Or.inl ⟨sg_2, (nx_sub (nx_add (nx_mul (show ((10 : Int32)) = nI 10 from rfl) (nx_sub h_3 (show ((48 : Int32)) = nI 48 from rfl) (by omega))) h_14) (show ((48 : Int32)) = nI 48 from rfl) (by omega)).trans (by unfold nmV; rw [if_pos h2]; exact congrArg nI (by unfold dg; omega)), hT.eqI (fam7 rfl rfl rfl rfl rfl (by unfold nmP; rw [if_pos h2] <;> rfl) rfl (fun _ => rfl))⟩) dX3_number_97 (Nat.le_of_ble_eq_true rfl) (Nat.le_of_ble_eq_true rfl)
        rw [if_neg ok_19] at hp
        obtain ⟨rfl, hq⟩ := hp
        rw [hq] at hg
        refine lv_if_eq (tgt := 96) hx hb dX3_number_52 (by decide) (fun _ => ?_) (fun c_23 => (absurd ((nx_eq (show ((0 : Int32)) = nI 0 from rfl) (show ((0 : Int32)) = nI 0 from rfl) (by omega) (by omega)).mpr (by omega)) c_23))
        refine lv_iload_n hx hb dX3_number_96 rfl (lv_at hl 0 rfl) ?_
        have h2 : isTwo (A 4) N sp 60 := ⟨by unfold dg; omega, by omega, ok_8, by unfold dg; omega⟩
        exact gh_reti hC hg hr hlk (Or.inl ⟨sg_2, (nx_sub (nx_add (nx_mul (show ((10 : Int32)) = nI 10 from rfl) (nx_sub h_3 (show ((48 : Int32)) = nI 48 from rfl) (by omega))) h_14) (show ((48 : Int32)) = nI 48 from rfl) (by omega)).trans (by unfold nmV; rw [if_pos h2]; exact congrArg nI (by unfold dg; omega)), hT.eqI (fam7 rfl rfl rfl rfl rfl (by unfold nmP; rw [if_pos h2] <;> rfl) rfl (fun _ => rfl))⟩) dX3_number_97 (Nat.le_of_ble_eq_true rfl) (Nat.le_of_ble_eq_true rfl)
      exact absurd ⟨by omega, ok_8⟩ sg_13
    rw [if_neg ok_8] at hp
    obtain ⟨rfl, hq⟩ := hp
    rw [hq] at hg
    refine lv_if_eq (tgt := 96) hx hb dX3_number_52 (by decide) (fun _ => ?_) (fun c_24 => (absurd ((nx_eq (show ((0 : Int32)) = nI 0 from rfl) (show ((0 : Int32)) = nI 0 from rfl) (by omega) (by omega)).mpr (by omega)) c_24))
    refine lv_iload_n hx hb dX3_number_96 rfl (lv_at hl 0 rfl) ?_
    have h2 : ¬ isTwo (A 4) N sp 60 := by intro h9; obtain ⟨h91, h92, h93, h94⟩ := h9; unfold dg at h91 h94; first | omega | exact absurd h93 ok_8
    exact gh_reti hC hg hr hlk (Or.inl ⟨sg_2, (nx_sub h_3 (show ((48 : Int32)) = nI 48 from rfl) (by omega)).trans (by unfold nmV; rw [if_neg h2]; rfl), hT.eqI (fam7 rfl rfl rfl rfl rfl (by unfold nmP; rw [if_neg h2] <;> rfl) rfl (fun _ => rfl))⟩) dX3_number_97 (Nat.le_of_ble_eq_true rfl) (Nat.le_of_ble_eq_true rfl)
  have hT : tw_W V g0 g o ad (va_up (va_up I 6 1) 5 (nI sp)) A F := hT.call hpT
  refine lv_bipush (v := 48) hx hb dX3_number_10 (by decide) ?_
  refine lv_isub hx hb dX3_number_12 ?_
  refine lv_istore_n (lv' := [(3, .int (r_1 - 48)), (0, .ref o), (1, .int 1), (2, .int 60)]) hx hb dX3_number_13 rfl hl (by decide) rfl (fun ls hl => ?_)
  refine lv_aload_n hx hb dX3_number_14 rfl (lv_at hl 1 rfl) ?_
  refine gh_get (v := .int 1) hC hg hT.1.1 fX3_236_0 rfl dX3_number_15 ?_
  refine lv_if_ne (tgt := 96) hx hb dX3_number_18 (by decide) (fun _ => ?_) (fun c_25 => (absurd ((nx_eq (show ((1 : Int32)) = nI 1 from rfl) (show ((0 : Int32)) = nI 0 from rfl) (by omega) (by omega)).mp c_25) (by omega)))
  refine lv_iload_n hx hb dX3_number_96 rfl (lv_at hl 0 rfl) ?_
  exact gh_reti hC hg hr hlk (Or.inr ⟨sg_2, hT⟩) dX3_number_97 (Nat.le_of_ble_eq_true rfl) (Nat.le_of_ble_eq_true rfl)
set_option maxHeartbeats 1000000 in
set_option maxRecDepth 100000 in
theorem t_numberW (l : Launch) (V : gh_V) (o : Nat) (ad : Nat → Nat) (I : Nat → Int32) (A : Nat → Nat → Int32) (F : Nat → Nat → UInt32) (g0 : gh_G) (hP : tw_P V g0 o ad I A F) (x y : Int32) (sp N : Nat) (h5 : I 5 = nI sp) (h6 : I 6 = 1) (hN : I 2 = nI N) (hN60 : N ≤ 60) (hsp : sp ≤ 60) : MI l yX3_number cX3_number 4 (some .int) ({ frames := 2, cells := 0, slots := 0, locals := 45 } : Room) V [.ref o, .int x, .int y] g0 (fun r g1 => tw_W V g0 g1 o ad (va_up (va_up I 6 1) 5 (nI sp)) A F) := by
  refine MG.of RX3 (by decide) rfl (Nat.le_of_ble_eq_true rfl) (fun pp ee s mm args below meth c ls hC hg hr hlk hnm hl => ?_)
  have hx := hC.1.1
  have hb := hC.1.2.1
  have hml := hC.1.2.2.1
  have hown := hC.1.2.2.2.1
  have hts := hC.1.2.2.2.2
  have hl : lv_has ls 4 [(0, .ref o), (1, .int x), (2, .int y)] := hl
  have hT := hP.W
  refine lv_aload_n hx hb dX3_number_0 rfl (lv_at hl 0 rfl) ?_
  refine lv_bipush (v := 48) hx hb dX3_number_1 (by decide) ?_
  refine lv_iload_n hx hb dX3_number_3 rfl (lv_at hl 1 rfl) ?_
  refine lv_iadd hx hb dX3_number_4 ?_
  refine lv_bipush (v := 57) hx hb dX3_number_5 (by decide) ?_
  refine gh_calli hg (gh_runV (As := [.int (48 + x), .int 57]) (rest := []) hC hg (t_signW l V o ad I A F _ hT.1 (48 + x) 57 sp N h5 (h6.trans (show ((1 : Int32)) = nI 1 from rfl)) hN hN60 (by omega)) 2 (lw_V q4330 q4332 qs99 q138 q4333) hT.1.1 rfl hd_X3_sign ⟨Nat.le_of_ble_eq_true rfl, Nat.le_of_ble_eq_true rfl⟩ rfl hl.1 rfl (Nat.le_of_ble_eq_true rfl) dX3_number_7 ⟨Nat.le_of_ble_eq_true rfl, Nat.le_of_ble_eq_true rfl⟩) (fun r_1 g H locs hg hp => ?_)
  obtain ⟨hp0, hpT⟩ := hp
  replace hp0 : r_1 = 0 := hp0
  subst hp0
  have hT : tw_W V g0 g o ad (va_up (va_up I 6 1) 5 (nI sp)) A F := hT.call hpT
  refine lv_bipush (v := 48) hx hb dX3_number_10 (by decide) ?_
  refine lv_isub hx hb dX3_number_12 ?_
  refine lv_istore_n (lv' := [(3, .int (0 - 48)), (0, .ref o), (1, .int x), (2, .int y)]) hx hb dX3_number_13 rfl hl (by decide) rfl (fun ls hl => ?_)
  refine lv_aload_n hx hb dX3_number_14 rfl (lv_at hl 1 rfl) ?_
  refine gh_get (v := .int 1) hC hg hT.1.1 fX3_236_0 rfl dX3_number_15 ?_
  refine lv_if_ne (tgt := 96) hx hb dX3_number_18 (by decide) (fun _ => ?_) (fun c_2 => (absurd ((nx_eq (show ((1 : Int32)) = nI 1 from rfl) (show ((0 : Int32)) = nI 0 from rfl) (by omega) (by omega)).mp c_2) (by omega)))
  refine lv_iload_n hx hb dX3_number_96 rfl (lv_at hl 0 rfl) ?_
  exact gh_reti hC hg hr hlk (hT) dX3_number_97 (Nat.le_of_ble_eq_true rfl) (Nat.le_of_ble_eq_true rfl)
