/-! a part of a text: whether it is right, and where it ends (or where it is wrong) -/
def zP (b : Nat → Int32) (N sp : Nat) (hi : Int32) : Bool × Nat := if isC b N (sp + 1) 48 55 then (if isC b N (sp + 1 + 1) 61 61 then (if isC b N (sp + 1 + 1 + 1) 48 hi then (true, sp + 1 + 1 + 1 + 1) else (false, sp + 1 + 1 + 1)) else (false, sp + 1 + 1)) else (false, sp + 1)
def oP (b : Nat → Int32) (N sp : Nat) : Bool × Nat := if isC b N (sp + 1) 48 50 then (if isC b N (sp + 1 + 1) 49 57 then (true, sp + 1 + 1 + 1) else (false, sp + 1 + 1)) else (false, sp + 1)
def nuP (b : Nat → Int32) (N j : Nat) (lo : Int32) (M : Nat) : Bool × Nat := if isC b N j lo 57 then (true, nmP b N j M) else (false, j)
def cP (b : Nat → Int32) (N sp : Nat) : Bool × Nat := if isC b N (sp + 1) 48 49 then (if isC b N (sp + 1 + 1) 58 58 then nuP b N (sp + 1 + 1 + 1) 48 23 else (false, sp + 1 + 1)) else (false, sp + 1)
def ptE (b : Nat → Int32) (N sp : Nat) : Bool × Nat :=
  if ¬ sp < N then (false, sp) else if b sp = 98 then zP b N sp 51 else if b sp = 102 then zP b N sp 51 else if b sp = 114 then zP b N sp 57 else if b sp = 111 then oP b N sp else if b sp = 108 then nuP b N (sp + 1) 48 11 else if b sp = 99 then cP b N sp else if b sp = 109 then nuP b N (sp + 1) 49 60 else (false, sp)
def ptO (b : Nat → Int32) (N sp : Nat) : Nat := if b sp = 108 then nmV b N (sp + 1) 11 else if b sp = 109 then nmV b N (sp + 1) 60 else dg b (sp + 1)
def ptT (b : Nat → Int32) (N sp : Nat) : Nat := if b sp = 108 then 0 else if b sp = 109 then 0 else if b sp = 111 then dg b (sp + 1 + 1) else if b sp = 99 then nmV b N (sp + 1 + 1 + 1) 23 else dg b (sp + 1 + 1 + 1)
theorem nmV_ge {b : Nat → Int32} {N j M : Nat} (h : okR (b j) 49 57) : 1 ≤ nmV b N j M := by
  unfold nmV; split
  · next h1 => have := h1.1; omega
  · obtain ⟨h1, h2, h3⟩ := okR_cl (a := 49) (b := 57) rfl rfl (by omega) (by omega) h
    unfold dg; omega
theorem okR_49 {x : Int32} (h : okR x 49 57) : okR x 48 57 := by
  obtain ⟨h1, h2, h3⟩ := okR_cl (a := 49) (b := 57) rfl rfl (by omega) (by omega) h
  exact okR_of h3 (a := 48) (b := 57) rfl rfl (by omega) h2 (by omega)
set_option maxRecDepth 100000
theorem hd_X3_does : yX3_does.cls = RX3 ∧ yX3_does.cls ≠ "java/lang/invoke/MethodHandle" ∧ yX3_does.cls ≠ "java/lang/invoke/VarHandle" ∧ (parseMethodDescriptor yX3_does.desc).map (fun d => d.parameters.length) = some 3 := by decide +kernel
theorem hd_X3_number : yX3_number.cls = RX3 ∧ yX3_number.cls ≠ "java/lang/invoke/MethodHandle" ∧ yX3_number.cls ≠ "java/lang/invoke/VarHandle" ∧ (parseMethodDescriptor yX3_number.desc).map (fun d => d.parameters.length) = some 2 := by decide +kernel
set_option maxHeartbeats 1000000 in
set_option maxRecDepth 100000 in
theorem t_part0 (l : Launch) (V : gh_V) (o : Nat) (ad : Nat → Nat) (I : Nat → Int32) (A : Nat → Nat → Int32) (F : Nat → Nat → UInt32) (g0 : gh_G) (hP : tw_P V g0 o ad I A F) (sp N : Nat) (h5 : I 5 = nI sp) (h6 : I 6 = 0) (hN : I 2 = nI N) (hN60 : N ≤ 60) (hsp : sp ≤ N) : MI l yX3_part cX3_part 7 (some .boolean) ({ frames := 3, cells := 0, slots := 0, locals := 68 } : Room) V [.ref o, .int 0] g0 (fun r g1 => r = 1 ∧ tw_W V g0 g1 o ad (va_up (va_up I 6 (if (ptE (A 4) N sp).1 = true then 0 else 1)) 5 (nI (ptE (A 4) N sp).2)) A F) := by
  refine MG.of RX3 (by decide) rfl (Nat.le_of_ble_eq_true rfl) (fun pp ee s mm args below meth c ls hC hg hr hlk hnm hl => ?_)
  have hx := hC.1.1
  have hb := hC.1.2.1
  have hml := hC.1.2.2.1
  have hown := hC.1.2.2.2.1
  have hts := hC.1.2.2.2.2
  have hl : lv_has ls 7 [(0, .ref o), (1, .int 0)] := hl
  have hT := hP.W
  refine lv_aload_n hx hb dX3_part_0 rfl (lv_at hl 0 rfl) ?_
  refine gh_get (v := .int (I 5)) hC hg hT.1.1 fX3_233_0 rfl dX3_part_1 ?_
  refine lv_aload_n hx hb dX3_part_4 rfl (lv_at hl 0 rfl) ?_
  refine gh_get (v := .int (I 2)) hC hg hT.1.1 fX3_230_0 rfl dX3_part_5 ?_
  refine lv_icmp_ge (tgt := 30) hx hb dX3_part_8 (by decide) (fun c_1 => ?_) (fun c_1 => ?_)
  · skip
    have c_1 : N ≤ sp := (nx_le hN h5 (by omega) (by omega)).mp c_1
    refine lv_iconst (v := 0) hx hb dX3_part_30 (by decide) ?_
    refine lv_istore_n (lv' := [(2, .int 0), (0, .ref o), (1, .int 0)]) hx hb dX3_part_31 rfl hl (by decide) rfl (fun ls hl => ?_)
    refine lv_iload_n hx hb dX3_part_32 rfl (lv_at hl 0 rfl) ?_
    refine lv_bipush (v := 98) hx hb dX3_part_33 (by decide) ?_
    refine lv_icmp_eq (tgt := 50) hx hb dX3_part_35 (by decide) (fun c_2 => (absurd ((nx_eq (show ((0 : Int32)) = nI 0 from rfl) (show ((98 : Int32)) = nI 98 from rfl) (by omega) (by omega)).mp c_2) (by omega))) (fun _ => ?_)
    refine lv_iload_n hx hb dX3_part_38 rfl (lv_at hl 0 rfl) ?_
    refine lv_bipush (v := 102) hx hb dX3_part_39 (by decide) ?_
    refine lv_icmp_eq (tgt := 50) hx hb dX3_part_41 (by decide) (fun c_3 => (absurd ((nx_eq (show ((0 : Int32)) = nI 0 from rfl) (show ((102 : Int32)) = nI 102 from rfl) (by omega) (by omega)).mp c_3) (by omega))) (fun _ => ?_)
    refine lv_iload_n hx hb dX3_part_44 rfl (lv_at hl 0 rfl) ?_
    refine lv_bipush (v := 114) hx hb dX3_part_45 (by decide) ?_
    refine lv_icmp_ne (tgt := 54) hx hb dX3_part_47 (by decide) (fun _ => ?_) (fun c_4 => (absurd ((nx_eq (show ((0 : Int32)) = nI 0 from rfl) (show ((114 : Int32)) = nI 114 from rfl) (by omega) (by omega)).mp c_4) (by omega)))
    refine lv_iconst (v := 0) hx hb dX3_part_54 (by decide) ?_
    refine lv_istore_n (lv' := [(3, .int 0), (2, .int 0), (0, .ref o), (1, .int 0)]) hx hb dX3_part_55 rfl hl (by decide) rfl (fun ls hl => ?_)
    refine lv_aload_n hx hb dX3_part_56 rfl (lv_at hl 2 rfl) ?_
    refine lv_aload_n hx hb dX3_part_57 rfl (lv_at hl 2 rfl) ?_
    refine gh_get (v := .int (I 6)) hC hg hT.1.1 fX3_236_0 rfl dX3_part_58 ?_
    refine lv_if_ne (tgt := 92) hx hb dX3_part_61 (by decide) (fun c_5 => (absurd ((nx_eq (h6.trans (show ((0 : Int32)) = nI 0 from rfl)) (show ((0 : Int32)) = nI 0 from rfl) (by omega) (by omega)).mpr (by omega)) c_5)) (fun _ => ?_)
    refine lv_iload_n hx hb dX3_part_64 rfl (lv_at hl 0 rfl) ?_
    refine lv_if_ne (tgt := 96) hx hb dX3_part_65 (by decide) (fun c_6 => (absurd ((nx_eq (show ((0 : Int32)) = nI 0 from rfl) (show ((0 : Int32)) = nI 0 from rfl) (by omega) (by omega)).mpr (by omega)) c_6)) (fun _ => ?_)
    refine lv_iload_n hx hb dX3_part_68 rfl (lv_at hl 1 rfl) ?_
    refine lv_bipush (v := 111) hx hb dX3_part_69 (by decide) ?_
    refine lv_icmp_eq (tgt := 96) hx hb dX3_part_71 (by decide) (fun c_7 => (absurd ((nx_eq (show ((0 : Int32)) = nI 0 from rfl) (show ((111 : Int32)) = nI 111 from rfl) (by omega) (by omega)).mp c_7) (by omega))) (fun _ => ?_)
    refine lv_iload_n hx hb dX3_part_74 rfl (lv_at hl 1 rfl) ?_
    refine lv_bipush (v := 108) hx hb dX3_part_75 (by decide) ?_
    refine lv_icmp_eq (tgt := 96) hx hb dX3_part_77 (by decide) (fun c_8 => (absurd ((nx_eq (show ((0 : Int32)) = nI 0 from rfl) (show ((108 : Int32)) = nI 108 from rfl) (by omega) (by omega)).mp c_8) (by omega))) (fun _ => ?_)
    refine lv_iload_n hx hb dX3_part_80 rfl (lv_at hl 1 rfl) ?_
    refine lv_bipush (v := 99) hx hb dX3_part_81 (by decide) ?_
    refine lv_icmp_eq (tgt := 96) hx hb dX3_part_83 (by decide) (fun c_9 => (absurd ((nx_eq (show ((0 : Int32)) = nI 0 from rfl) (show ((99 : Int32)) = nI 99 from rfl) (by omega) (by omega)).mp c_9) (by omega))) (fun _ => ?_)
    refine lv_iload_n hx hb dX3_part_86 rfl (lv_at hl 1 rfl) ?_
    refine lv_bipush (v := 109) hx hb dX3_part_87 (by decide) ?_
    refine lv_icmp_eq (tgt := 96) hx hb dX3_part_89 (by decide) (fun c_10 => (absurd ((nx_eq (show ((0 : Int32)) = nI 0 from rfl) (show ((109 : Int32)) = nI 109 from rfl) (by omega) (by omega)).mp c_10) (by omega))) (fun _ => ?_)
    refine lv_iconst (v := 1) hx hb dX3_part_92 (by decide) ?_
    refine lv_goto (tgt := 97) hx hb dX3_part_93 (by decide) ?_
    refine gh_put (v := .int 1) hC hg hT.1.1 fX3_236_0 rfl rfl (Nat.le_of_ble_eq_true rfl) dX3_part_97 (fun g H locs hg hw hn => ?_)
    have hT : tw_W V g0 g o ad (va_up I 6 1) A F := hT.putI 6 1 hw hn
    refine lv_aload_n hx hb dX3_part_100 rfl (lv_at hl 2 rfl) ?_
    refine lv_dup hx hb dX3_part_101 rfl ?_
    refine gh_get (v := .int (I 5)) hC hg hT.1.1 fX3_233_0 rfl dX3_part_102 ?_
    refine lv_aload_n hx hb dX3_part_105 rfl (lv_at hl 2 rfl) ?_
    refine gh_get (v := .int 1) hC hg hT.1.1 fX3_236_0 rfl dX3_part_106 ?_
    refine lv_if_eq (tgt := 116) hx hb dX3_part_109 (by decide) (fun c_11 => (absurd ((nx_eq (show ((1 : Int32)) = nI 1 from rfl) (show ((0 : Int32)) = nI 0 from rfl) (by omega) (by omega)).mp c_11) (by omega))) (fun _ => ?_)
    refine lv_iconst (v := 0) hx hb dX3_part_112 (by decide) ?_
    refine lv_goto (tgt := 117) hx hb dX3_part_113 (by decide) ?_
    refine lv_iadd hx hb dX3_part_117 ?_
    refine gh_put (v := .int ((I 5) + 0)) hC hg hT.1.1 fX3_233_0 rfl rfl (Nat.le_of_ble_eq_true rfl) dX3_part_118 (fun g H locs hg hw hn => ?_)
    have hT : tw_W V g0 g o ad (va_up (va_up I 6 1) 5 ((I 5) + 0)) A F := hT.putI 5 ((I 5) + 0) hw hn
    refine lv_iconst (v := 0) hx hb dX3_part_121 (by decide) ?_
    refine lv_istore (lv' := [(4, .int 0), (3, .int 0), (2, .int 0), (0, .ref o), (1, .int 0)]) hx hb dX3_part_122 hl (by decide) rfl (fun ls hl => ?_)
    refine lv_iconst (v := 0) hx hb dX3_part_124 (by decide) ?_
    refine lv_istore (lv' := [(5, .int 0), (4, .int 0), (3, .int 0), (2, .int 0), (0, .ref o), (1, .int 0)]) hx hb dX3_part_125 hl (by decide) rfl (fun ls hl => ?_)
    refine lv_iload_n hx hb dX3_part_127 rfl (lv_at hl 2 rfl) ?_
    refine lv_if_eq (tgt := 181) hx hb dX3_part_128 (by decide) (fun _ => ?_) (fun c_12 => (absurd ((nx_eq (show ((0 : Int32)) = nI 0 from rfl) (show ((0 : Int32)) = nI 0 from rfl) (by omega) (by omega)).mpr (by omega)) c_12))
    refine lv_iload_n hx hb dX3_part_181 rfl (lv_at hl 3 rfl) ?_
    refine lv_bipush (v := 111) hx hb dX3_part_182 (by decide) ?_
    refine lv_icmp_ne (tgt := 216) hx hb dX3_part_184 (by decide) (fun _ => ?_) (fun c_13 => (absurd ((nx_eq (show ((0 : Int32)) = nI 0 from rfl) (show ((111 : Int32)) = nI 111 from rfl) (by omega) (by omega)).mp c_13) (by omega)))
    refine lv_iload_n hx hb dX3_part_216 rfl (lv_at hl 3 rfl) ?_
    refine lv_bipush (v := 108) hx hb dX3_part_217 (by decide) ?_
    refine lv_icmp_ne (tgt := 234) hx hb dX3_part_219 (by decide) (fun _ => ?_) (fun c_14 => (absurd ((nx_eq (show ((0 : Int32)) = nI 0 from rfl) (show ((108 : Int32)) = nI 108 from rfl) (by omega) (by omega)).mp c_14) (by omega)))
    refine lv_iload_n hx hb dX3_part_234 rfl (lv_at hl 3 rfl) ?_
    refine lv_bipush (v := 99) hx hb dX3_part_235 (by decide) ?_
    refine lv_icmp_ne (tgt := 275) hx hb dX3_part_237 (by decide) (fun _ => ?_) (fun c_15 => (absurd ((nx_eq (show ((0 : Int32)) = nI 0 from rfl) (show ((99 : Int32)) = nI 99 from rfl) (by omega) (by omega)).mp c_15) (by omega)))
    refine lv_aload_n hx hb dX3_part_275 rfl (lv_at hl 4 rfl) ?_
    refine lv_iconst (v := 1) hx hb dX3_part_276 (by decide) ?_
    refine lv_bipush (v := 60) hx hb dX3_part_277 (by decide) ?_
    refine gh_calli hg (gh_runV (As := [.int 1, .int 60]) (rest := []) hC hg (t_numberW l V o ad (va_up (va_up I 6 1) 5 ((I 5) + 0)) A F _ hT.1 1 60 (sp + 0) N (nx_add h5 (show ((0 : Int32)) = nI 0 from rfl)) (show ((1 : Int32)) = nI 1 from rfl) hN hN60 (by omega)) 2 (lw_V q4334 q4336 qs100 q138 q4337) hT.1.1 rfl hd_X3_number ⟨Nat.le_of_ble_eq_true rfl, Nat.le_of_ble_eq_true rfl⟩ rfl hl.1 rfl (Nat.le_of_ble_eq_true rfl) dX3_part_279 ⟨Nat.le_of_ble_eq_true rfl, Nat.le_of_ble_eq_true rfl⟩) (fun r_16 g H locs hg hp => ?_)
    have hT : tw_W V g0 g o ad (va_up (va_up (va_up (va_up I 6 1) 5 ((I 5) + 0)) 6 1) 5 (nI (sp + 0))) A F := hT.call hp
    refine lv_istore (lv' := [(4, .int r_16), (5, .int 0), (3, .int 0), (2, .int 0), (0, .ref o), (1, .int 0)]) hx hb dX3_part_282 hl (by decide) rfl (fun ls hl => ?_)
    refine lv_iload_n hx hb dX3_part_284 rfl (lv_at hl 5 rfl) ?_
    refine lv_if_eq (tgt := 300) hx hb dX3_part_285 (by decide) (fun _ => ?_) (fun c_17 => (absurd ((nx_eq (show ((0 : Int32)) = nI 0 from rfl) (show ((0 : Int32)) = nI 0 from rfl) (by omega) (by omega)).mpr (by omega)) c_17))
    refine lv_iconst (v := 1) hx hb dX3_part_300 (by decide) ?_
    refine lv_goto (tgt := 305) hx hb dX3_part_301 (by decide) ?_
    have e9 : ptE (A 4) N sp = (false, _) := if_pos (by omega)
    exact gh_retz rfl hC hg hr hlk (⟨rfl, hT.eqI (by rw [e9]; exact (fam7 rfl rfl rfl rfl rfl rfl rfl (fun _ => rfl)))⟩) dX3_part_305 (Nat.le_of_ble_eq_true rfl) (Nat.le_of_ble_eq_true rfl)
  have c_1 : ¬ N ≤ sp := fun h9 => c_1 ((nx_le hN h5 (by omega) (by omega)).mpr h9)
  refine lv_aload_n hx hb dX3_part_11 rfl (lv_at hl 0 rfl) ?_
  refine gh_get (v := .int (I 6)) hC hg hT.1.1 fX3_236_0 rfl dX3_part_12 ?_
  refine lv_if_ne (tgt := 30) hx hb dX3_part_15 (by decide) (fun c_18 => (absurd ((nx_eq (h6.trans (show ((0 : Int32)) = nI 0 from rfl)) (show ((0 : Int32)) = nI 0 from rfl) (by omega) (by omega)).mpr (by omega)) c_18)) (fun _ => ?_)
  refine lv_aload_n hx hb dX3_part_18 rfl (lv_at hl 0 rfl) ?_
  refine gh_get (v := .ref (ad 4)) hC hg hT.1.1 fX3_35_0 rfl dX3_part_19 ?_
  refine lv_aload_n hx hb dX3_part_22 rfl (lv_at hl 0 rfl) ?_
  refine gh_get (v := .int (I 5)) hC hg hT.1.1 fX3_233_0 rfl dX3_part_23 ?_
  refine gh_iald (n := 60) (f := (A 4)) hC hg (hT.1.2.1 4 (by decide)) h5 (by omega) (by omega) dX3_part_26 ?_
  refine lv_goto (tgt := 31) hx hb dX3_part_27 (by decide) ?_
  refine lv_istore_n (lv' := [(2, .int ((A 4) sp)), (0, .ref o), (1, .int 0)]) hx hb dX3_part_31 rfl hl (by decide) rfl (fun ls hl => ?_)
  have hlt : sp < N := by omega
  by_cases hc98 : A 4 sp = 98
  · have hc := hc98
    rw [hc] at hl
    refine lv_iload_n hx hb dX3_part_32 rfl (lv_at hl 0 rfl) ?_
    refine lv_bipush (v := 98) hx hb dX3_part_33 (by decide) ?_
    refine lv_icmp_eq (tgt := 50) hx hb dX3_part_35 (by decide) (fun _ => ?_) (fun c_19 => (absurd ((nx_eq (show ((98 : Int32)) = nI 98 from rfl) (show ((98 : Int32)) = nI 98 from rfl) (by omega) (by omega)).mpr (by omega)) c_19))
    refine lv_iconst (v := 1) hx hb dX3_part_50 (by decide) ?_
    refine lv_goto (tgt := 55) hx hb dX3_part_51 (by decide) ?_
    refine lv_istore_n (lv' := [(3, .int 1), (2, .int 98), (0, .ref o), (1, .int 0)]) hx hb dX3_part_55 rfl hl (by decide) rfl (fun ls hl => ?_)
    refine lv_aload_n hx hb dX3_part_56 rfl (lv_at hl 2 rfl) ?_
    refine lv_aload_n hx hb dX3_part_57 rfl (lv_at hl 2 rfl) ?_
    refine gh_get (v := .int (I 6)) hC hg hT.1.1 fX3_236_0 rfl dX3_part_58 ?_
    refine lv_if_ne (tgt := 92) hx hb dX3_part_61 (by decide) (fun c_20 => (absurd ((nx_eq (h6.trans (show ((0 : Int32)) = nI 0 from rfl)) (show ((0 : Int32)) = nI 0 from rfl) (by omega) (by omega)).mpr (by omega)) c_20)) (fun _ => ?_)
    refine lv_iload_n hx hb dX3_part_64 rfl (lv_at hl 0 rfl) ?_
    refine lv_if_ne (tgt := 96) hx hb dX3_part_65 (by decide) (fun _ => ?_) (fun c_21 => (absurd ((nx_eq (show ((1 : Int32)) = nI 1 from rfl) (show ((0 : Int32)) = nI 0 from rfl) (by omega) (by omega)).mp c_21) (by omega)))
    refine lv_iconst (v := 0) hx hb dX3_part_96 (by decide) ?_
    refine gh_put (v := .int 0) hC hg hT.1.1 fX3_236_0 rfl rfl (Nat.le_of_ble_eq_true rfl) dX3_part_97 (fun g H locs hg hw hn => ?_)
    have hT : tw_W V g0 g o ad (va_up I 6 0) A F := hT.putI 6 0 hw hn
    refine lv_aload_n hx hb dX3_part_100 rfl (lv_at hl 2 rfl) ?_
    refine lv_dup hx hb dX3_part_101 rfl ?_
    refine gh_get (v := .int (I 5)) hC hg hT.1.1 fX3_233_0 rfl dX3_part_102 ?_
    refine lv_aload_n hx hb dX3_part_105 rfl (lv_at hl 2 rfl) ?_
    refine gh_get (v := .int 0) hC hg hT.1.1 fX3_236_0 rfl dX3_part_106 ?_
    refine lv_if_eq (tgt := 116) hx hb dX3_part_109 (by decide) (fun _ => ?_) (fun c_22 => (absurd ((nx_eq (show ((0 : Int32)) = nI 0 from rfl) (show ((0 : Int32)) = nI 0 from rfl) (by omega) (by omega)).mpr (by omega)) c_22))
    refine lv_iconst (v := 1) hx hb dX3_part_116 (by decide) ?_
    refine lv_iadd hx hb dX3_part_117 ?_
    refine gh_put (v := .int ((I 5) + 1)) hC hg hT.1.1 fX3_233_0 rfl rfl (Nat.le_of_ble_eq_true rfl) dX3_part_118 (fun g H locs hg hw hn => ?_)
    have hT : tw_W V g0 g o ad (va_up (va_up I 6 0) 5 ((I 5) + 1)) A F := hT.putI 5 ((I 5) + 1) hw hn
    refine lv_iconst (v := 0) hx hb dX3_part_121 (by decide) ?_
    refine lv_istore (lv' := [(4, .int 0), (3, .int 1), (2, .int 98), (0, .ref o), (1, .int 0)]) hx hb dX3_part_122 hl (by decide) rfl (fun ls hl => ?_)
    refine lv_iconst (v := 0) hx hb dX3_part_124 (by decide) ?_
    refine lv_istore (lv' := [(5, .int 0), (4, .int 0), (3, .int 1), (2, .int 98), (0, .ref o), (1, .int 0)]) hx hb dX3_part_125 hl (by decide) rfl (fun ls hl => ?_)
    refine lv_iload_n hx hb dX3_part_127 rfl (lv_at hl 2 rfl) ?_
    refine lv_if_eq (tgt := 181) hx hb dX3_part_128 (by decide) (fun c_23 => (absurd ((nx_eq (show ((1 : Int32)) = nI 1 from rfl) (show ((0 : Int32)) = nI 0 from rfl) (by omega) (by omega)).mp c_23) (by omega))) (fun _ => ?_)
    refine lv_aload_n hx hb dX3_part_131 rfl (lv_at hl 4 rfl) ?_
    refine lv_bipush (v := 48) hx hb dX3_part_132 (by decide) ?_
    refine lv_bipush (v := 55) hx hb dX3_part_134 (by decide) ?_
    refine gh_calli hg (gh_runV (As := [.int 48, .int 55]) (rest := []) hC hg (t_sign0 l V o ad (va_up (va_up I 6 0) 5 ((I 5) + 1)) A F _ hT.1 48 55 (sp + 1) N (nx_add h5 (show ((1 : Int32)) = nI 1 from rfl)) (show ((0 : Int32)) = nI 0 from rfl) hN hN60 (by omega) (by decide)) 2 (lw_V q4330 q4332 qs99 q138 q4333) hT.1.1 rfl hd_X3_sign ⟨Nat.le_of_ble_eq_true rfl, Nat.le_of_ble_eq_true rfl⟩ rfl hl.1 rfl (Nat.le_of_ble_eq_true rfl) dX3_part_136 ⟨Nat.le_of_ble_eq_true rfl, Nat.le_of_ble_eq_true rfl⟩) (fun r_24 g H locs hg hp => ?_)
    rcases hp with ⟨sg_25, hpr, hpT⟩ | ⟨sg_25, hpT⟩
    · replace hpr : r_24 = (A 4) (sp + 1) := hpr
      subst hpr
      have hT : tw_W V g0 g o ad (va_up (va_up (va_up (va_up I 6 0) 5 ((I 5) + 1)) 6 0) 5 (nI ((sp + 1) + 1))) A F := hT.call hpT
      have sg_25l := sg_25.1
      obtain ⟨h_26a, h_26b, h_26⟩ := okR_cl (show ((48 : Int32)) = nI 48 from rfl) (show ((55 : Int32)) = nI 55 from rfl) (by omega) (by omega) sg_25.2
      refine lv_bipush (v := 48) hx hb dX3_part_139 (by decide) ?_
      refine lv_isub hx hb dX3_part_141 ?_
      refine lv_istore (lv' := [(4, .int (((A 4) (sp + 1)) - 48)), (5, .int 0), (3, .int 1), (2, .int 98), (0, .ref o), (1, .int 0)]) hx hb dX3_part_142 hl (by decide) rfl (fun ls hl => ?_)
      refine lv_aload_n hx hb dX3_part_144 rfl (lv_at hl 4 rfl) ?_
      refine lv_bipush (v := 61) hx hb dX3_part_145 (by decide) ?_
      refine lv_bipush (v := 61) hx hb dX3_part_147 (by decide) ?_
      refine gh_calli hg (gh_runV (As := [.int 61, .int 61]) (rest := []) hC hg (t_sign0 l V o ad (va_up (va_up (va_up (va_up I 6 0) 5 ((I 5) + 1)) 6 0) 5 (nI ((sp + 1) + 1))) A F _ hT.1 61 61 ((sp + 1) + 1) N rfl (show ((0 : Int32)) = nI 0 from rfl) hN hN60 (by omega) (by decide)) 2 (lw_V q4330 q4332 qs99 q138 q4333) hT.1.1 rfl hd_X3_sign ⟨Nat.le_of_ble_eq_true rfl, Nat.le_of_ble_eq_true rfl⟩ rfl hl.1 rfl (Nat.le_of_ble_eq_true rfl) dX3_part_149 ⟨Nat.le_of_ble_eq_true rfl, Nat.le_of_ble_eq_true rfl⟩) (fun r_27 g H locs hg hp => ?_)
      rcases hp with ⟨sg_28, hpr, hpT⟩ | ⟨sg_28, hpT⟩
      · replace hpr : r_27 = (A 4) ((sp + 1) + 1) := hpr
        subst hpr
        have hT : tw_W V g0 g o ad (va_up (va_up (va_up (va_up (va_up (va_up I 6 0) 5 ((I 5) + 1)) 6 0) 5 (nI ((sp + 1) + 1))) 6 0) 5 (nI (((sp + 1) + 1) + 1))) A F := hT.call hpT
        have sg_28l := sg_28.1
        obtain ⟨h_29a, h_29b, h_29⟩ := okR_cl (show ((61 : Int32)) = nI 61 from rfl) (show ((61 : Int32)) = nI 61 from rfl) (by omega) (by omega) sg_28.2
        refine lv_istore (lv' := [(6, .int ((A 4) ((sp + 1) + 1))), (4, .int (((A 4) (sp + 1)) - 48)), (5, .int 0), (3, .int 1), (2, .int 98), (0, .ref o), (1, .int 0)]) hx hb dX3_part_152 hl (by decide) rfl (fun ls hl => ?_)
        refine lv_aload_n hx hb dX3_part_154 rfl (lv_at hl 5 rfl) ?_
        refine lv_bipush (v := 48) hx hb dX3_part_155 (by decide) ?_
        refine lv_iload_n hx hb dX3_part_157 rfl (lv_at hl 4 rfl) ?_
        refine lv_bipush (v := 114) hx hb dX3_part_158 (by decide) ?_
        refine lv_icmp_ne (tgt := 168) hx hb dX3_part_160 (by decide) (fun _ => ?_) (fun c_30 => (absurd ((nx_eq (show ((98 : Int32)) = nI 98 from rfl) (show ((114 : Int32)) = nI 114 from rfl) (by omega) (by omega)).mp c_30) (by omega)))
        refine lv_bipush (v := 51) hx hb dX3_part_168 (by decide) ?_
        refine gh_calli hg (gh_runV (As := [.int 48, .int 51]) (rest := []) hC hg (t_sign0 l V o ad (va_up (va_up (va_up (va_up (va_up (va_up I 6 0) 5 ((I 5) + 1)) 6 0) 5 (nI ((sp + 1) + 1))) 6 0) 5 (nI (((sp + 1) + 1) + 1))) A F _ hT.1 48 51 (((sp + 1) + 1) + 1) N rfl (show ((0 : Int32)) = nI 0 from rfl) hN hN60 (by omega) (by decide)) 2 (lw_V q4330 q4332 qs99 q138 q4333) hT.1.1 rfl hd_X3_sign ⟨Nat.le_of_ble_eq_true rfl, Nat.le_of_ble_eq_true rfl⟩ rfl hl.1 rfl (Nat.le_of_ble_eq_true rfl) dX3_part_170 ⟨Nat.le_of_ble_eq_true rfl, Nat.le_of_ble_eq_true rfl⟩) (fun r_31 g H locs hg hp => ?_)
        rcases hp with ⟨sg_32, hpr, hpT⟩ | ⟨sg_32, hpT⟩
        · replace hpr : r_31 = (A 4) (((sp + 1) + 1) + 1) := hpr
          subst hpr
          have hT : tw_W V g0 g o ad (va_up (va_up (va_up (va_up (va_up (va_up (va_up (va_up I 6 0) 5 ((I 5) + 1)) 6 0) 5 (nI ((sp + 1) + 1))) 6 0) 5 (nI (((sp + 1) + 1) + 1))) 6 0) 5 (nI ((((sp + 1) + 1) + 1) + 1))) A F := hT.call hpT
          have sg_32l := sg_32.1
          obtain ⟨h_33a, h_33b, h_33⟩ := okR_cl (show ((48 : Int32)) = nI 48 from rfl) (show ((51 : Int32)) = nI 51 from rfl) (by omega) (by omega) sg_32.2
          refine lv_bipush (v := 48) hx hb dX3_part_173 (by decide) ?_
          refine lv_isub hx hb dX3_part_175 ?_
          refine lv_istore (lv' := [(5, .int (((A 4) (((sp + 1) + 1) + 1)) - 48)), (6, .int ((A 4) ((sp + 1) + 1))), (4, .int (((A 4) (sp + 1)) - 48)), (3, .int 1), (2, .int 98), (0, .ref o), (1, .int 0)]) hx hb dX3_part_176 hl (by decide) rfl (fun ls hl => ?_)
          refine lv_goto (tgt := 284) hx hb dX3_part_178 (by decide) ?_
          refine lv_iload_n hx hb dX3_part_284 rfl (lv_at hl 6 rfl) ?_
          refine lv_if_eq (tgt := 300) hx hb dX3_part_285 (by decide) (fun _ => ?_) (fun c_34 => (absurd ((nx_eq (show ((0 : Int32)) = nI 0 from rfl) (show ((0 : Int32)) = nI 0 from rfl) (by omega) (by omega)).mpr (by omega)) c_34))
          refine lv_iconst (v := 1) hx hb dX3_part_300 (by decide) ?_
          refine lv_goto (tgt := 305) hx hb dX3_part_301 (by decide) ?_
          have e9 : ptE (A 4) N sp = (true, _) := (by unfold ptE; rw [if_neg (not_not_intro hlt), if_pos hc]; unfold zP; rw [if_pos sg_25, if_pos sg_28, if_pos sg_32])
          exact gh_retz rfl hC hg hr hlk (⟨rfl, hT.eqI (by rw [e9]; exact (fam7 rfl rfl rfl rfl rfl rfl rfl (fun _ => rfl)))⟩) dX3_part_305 (Nat.le_of_ble_eq_true rfl) (Nat.le_of_ble_eq_true rfl)
        have hT : tw_W V g0 g o ad (va_up (va_up (va_up (va_up (va_up (va_up (va_up (va_up I 6 0) 5 ((I 5) + 1)) 6 0) 5 (nI ((sp + 1) + 1))) 6 0) 5 (nI (((sp + 1) + 1) + 1))) 6 1) 5 (nI (((sp + 1) + 1) + 1))) A F := hT.call hpT
        refine lv_bipush (v := 48) hx hb dX3_part_173 (by decide) ?_
        refine lv_isub hx hb dX3_part_175 ?_
        refine lv_istore (lv' := [(5, .int (r_31 - 48)), (6, .int ((A 4) ((sp + 1) + 1))), (4, .int (((A 4) (sp + 1)) - 48)), (3, .int 1), (2, .int 98), (0, .ref o), (1, .int 0)]) hx hb dX3_part_176 hl (by decide) rfl (fun ls hl => ?_)
        refine lv_goto (tgt := 284) hx hb dX3_part_178 (by decide) ?_
        refine lv_iload_n hx hb dX3_part_284 rfl (lv_at hl 6 rfl) ?_
        refine lv_if_eq (tgt := 300) hx hb dX3_part_285 (by decide) (fun _ => ?_) (fun c_35 => (absurd ((nx_eq (show ((0 : Int32)) = nI 0 from rfl) (show ((0 : Int32)) = nI 0 from rfl) (by omega) (by omega)).mpr (by omega)) c_35))
        refine lv_iconst (v := 1) hx hb dX3_part_300 (by decide) ?_
        refine lv_goto (tgt := 305) hx hb dX3_part_301 (by decide) ?_
        have e9 : ptE (A 4) N sp = (false, _) := (by unfold ptE; rw [if_neg (not_not_intro hlt), if_pos hc]; unfold zP; rw [if_pos sg_25, if_pos sg_28, if_neg sg_32])
        exact gh_retz rfl hC hg hr hlk (⟨rfl, hT.eqI (by rw [e9]; exact (fam7 rfl rfl rfl rfl rfl rfl rfl (fun _ => rfl)))⟩) dX3_part_305 (Nat.le_of_ble_eq_true rfl) (Nat.le_of_ble_eq_true rfl)
      have hT : tw_W V g0 g o ad (va_up (va_up (va_up (va_up (va_up (va_up I 6 0) 5 ((I 5) + 1)) 6 0) 5 (nI ((sp + 1) + 1))) 6 1) 5 (nI ((sp + 1) + 1))) A F := hT.call hpT
      refine lv_istore (lv' := [(6, .int r_27), (4, .int (((A 4) (sp + 1)) - 48)), (5, .int 0), (3, .int 1), (2, .int 98), (0, .ref o), (1, .int 0)]) hx hb dX3_part_152 hl (by decide) rfl (fun ls hl => ?_)
      refine lv_aload_n hx hb dX3_part_154 rfl (lv_at hl 5 rfl) ?_
      refine lv_bipush (v := 48) hx hb dX3_part_155 (by decide) ?_
      refine lv_iload_n hx hb dX3_part_157 rfl (lv_at hl 4 rfl) ?_
      refine lv_bipush (v := 114) hx hb dX3_part_158 (by decide) ?_
      refine lv_icmp_ne (tgt := 168) hx hb dX3_part_160 (by decide) (fun _ => ?_) (fun c_36 => (absurd ((nx_eq (show ((98 : Int32)) = nI 98 from rfl) (show ((114 : Int32)) = nI 114 from rfl) (by omega) (by omega)).mp c_36) (by omega)))
      refine lv_bipush (v := 51) hx hb dX3_part_168 (by decide) ?_
      refine gh_calli hg (gh_runV (As := [.int 48, .int 51]) (rest := []) hC hg (t_signW l V o ad (va_up (va_up (va_up (va_up (va_up (va_up I 6 0) 5 ((I 5) + 1)) 6 0) 5 (nI ((sp + 1) + 1))) 6 1) 5 (nI ((sp + 1) + 1))) A F _ hT.1 48 51 ((sp + 1) + 1) N rfl (show ((1 : Int32)) = nI 1 from rfl) hN hN60 (by omega)) 2 (lw_V q4330 q4332 qs99 q138 q4333) hT.1.1 rfl hd_X3_sign ⟨Nat.le_of_ble_eq_true rfl, Nat.le_of_ble_eq_true rfl⟩ rfl hl.1 rfl (Nat.le_of_ble_eq_true rfl) dX3_part_170 ⟨Nat.le_of_ble_eq_true rfl, Nat.le_of_ble_eq_true rfl⟩) (fun r_37 g H locs hg hp => ?_)
      obtain ⟨hp0, hpT⟩ := hp
      replace hp0 : r_37 = 0 := hp0
      subst hp0
      have hT : tw_W V g0 g o ad (va_up (va_up (va_up (va_up (va_up (va_up (va_up (va_up I 6 0) 5 ((I 5) + 1)) 6 0) 5 (nI ((sp + 1) + 1))) 6 1) 5 (nI ((sp + 1) + 1))) 6 1) 5 (nI ((sp + 1) + 1))) A F := hT.call hpT
      refine lv_bipush (v := 48) hx hb dX3_part_173 (by decide) ?_
      refine lv_isub hx hb dX3_part_175 ?_
      refine lv_istore (lv' := [(5, .int (0 - 48)), (6, .int r_27), (4, .int (((A 4) (sp + 1)) - 48)), (3, .int 1), (2, .int 98), (0, .ref o), (1, .int 0)]) hx hb dX3_part_176 hl (by decide) rfl (fun ls hl => ?_)
      refine lv_goto (tgt := 284) hx hb dX3_part_178 (by decide) ?_
      refine lv_iload_n hx hb dX3_part_284 rfl (lv_at hl 6 rfl) ?_
      refine lv_if_eq (tgt := 300) hx hb dX3_part_285 (by decide) (fun _ => ?_) (fun c_38 => (absurd ((nx_eq (show ((0 : Int32)) = nI 0 from rfl) (show ((0 : Int32)) = nI 0 from rfl) (by omega) (by omega)).mpr (by omega)) c_38))
      refine lv_iconst (v := 1) hx hb dX3_part_300 (by decide) ?_
      refine lv_goto (tgt := 305) hx hb dX3_part_301 (by decide) ?_
      have e9 : ptE (A 4) N sp = (false, _) := (by unfold ptE; rw [if_neg (not_not_intro hlt), if_pos hc]; unfold zP; rw [if_pos sg_25, if_neg sg_28])
      exact gh_retz rfl hC hg hr hlk (⟨rfl, hT.eqI (by rw [e9]; exact (fam7 rfl rfl rfl rfl rfl rfl rfl (fun _ => rfl)))⟩) dX3_part_305 (Nat.le_of_ble_eq_true rfl) (Nat.le_of_ble_eq_true rfl)
    have hT : tw_W V g0 g o ad (va_up (va_up (va_up (va_up I 6 0) 5 ((I 5) + 1)) 6 1) 5 (nI (sp + 1))) A F := hT.call hpT
    refine lv_bipush (v := 48) hx hb dX3_part_139 (by decide) ?_
    refine lv_isub hx hb dX3_part_141 ?_
    refine lv_istore (lv' := [(4, .int (r_24 - 48)), (5, .int 0), (3, .int 1), (2, .int 98), (0, .ref o), (1, .int 0)]) hx hb dX3_part_142 hl (by decide) rfl (fun ls hl => ?_)
    refine lv_aload_n hx hb dX3_part_144 rfl (lv_at hl 4 rfl) ?_
    refine lv_bipush (v := 61) hx hb dX3_part_145 (by decide) ?_
    refine lv_bipush (v := 61) hx hb dX3_part_147 (by decide) ?_
    refine gh_calli hg (gh_runV (As := [.int 61, .int 61]) (rest := []) hC hg (t_signW l V o ad (va_up (va_up (va_up (va_up I 6 0) 5 ((I 5) + 1)) 6 1) 5 (nI (sp + 1))) A F _ hT.1 61 61 (sp + 1) N rfl (show ((1 : Int32)) = nI 1 from rfl) hN hN60 (by omega)) 2 (lw_V q4330 q4332 qs99 q138 q4333) hT.1.1 rfl hd_X3_sign ⟨Nat.le_of_ble_eq_true rfl, Nat.le_of_ble_eq_true rfl⟩ rfl hl.1 rfl (Nat.le_of_ble_eq_true rfl) dX3_part_149 ⟨Nat.le_of_ble_eq_true rfl, Nat.le_of_ble_eq_true rfl⟩) (fun r_39 g H locs hg hp => ?_)
    obtain ⟨hp0, hpT⟩ := hp
    replace hp0 : r_39 = 0 := hp0
    subst hp0
    have hT : tw_W V g0 g o ad (va_up (va_up (va_up (va_up (va_up (va_up I 6 0) 5 ((I 5) + 1)) 6 1) 5 (nI (sp + 1))) 6 1) 5 (nI (sp + 1))) A F := hT.call hpT
    refine lv_istore (lv' := [(6, .int 0), (4, .int (r_24 - 48)), (5, .int 0), (3, .int 1), (2, .int 98), (0, .ref o), (1, .int 0)]) hx hb dX3_part_152 hl (by decide) rfl (fun ls hl => ?_)
    refine lv_aload_n hx hb dX3_part_154 rfl (lv_at hl 5 rfl) ?_
    refine lv_bipush (v := 48) hx hb dX3_part_155 (by decide) ?_
    refine lv_iload_n hx hb dX3_part_157 rfl (lv_at hl 4 rfl) ?_
    refine lv_bipush (v := 114) hx hb dX3_part_158 (by decide) ?_
    refine lv_icmp_ne (tgt := 168) hx hb dX3_part_160 (by decide) (fun _ => ?_) (fun c_40 => (absurd ((nx_eq (show ((98 : Int32)) = nI 98 from rfl) (show ((114 : Int32)) = nI 114 from rfl) (by omega) (by omega)).mp c_40) (by omega)))
    refine lv_bipush (v := 51) hx hb dX3_part_168 (by decide) ?_
    refine gh_calli hg (gh_runV (As := [.int 48, .int 51]) (rest := []) hC hg (t_signW l V o ad (va_up (va_up (va_up (va_up (va_up (va_up I 6 0) 5 ((I 5) + 1)) 6 1) 5 (nI (sp + 1))) 6 1) 5 (nI (sp + 1))) A F _ hT.1 48 51 (sp + 1) N rfl (show ((1 : Int32)) = nI 1 from rfl) hN hN60 (by omega)) 2 (lw_V q4330 q4332 qs99 q138 q4333) hT.1.1 rfl hd_X3_sign ⟨Nat.le_of_ble_eq_true rfl, Nat.le_of_ble_eq_true rfl⟩ rfl hl.1 rfl (Nat.le_of_ble_eq_true rfl) dX3_part_170 ⟨Nat.le_of_ble_eq_true rfl, Nat.le_of_ble_eq_true rfl⟩) (fun r_41 g H locs hg hp => ?_)
    obtain ⟨hp0, hpT⟩ := hp
    replace hp0 : r_41 = 0 := hp0
    subst hp0
    have hT : tw_W V g0 g o ad (va_up (va_up (va_up (va_up (va_up (va_up (va_up (va_up I 6 0) 5 ((I 5) + 1)) 6 1) 5 (nI (sp + 1))) 6 1) 5 (nI (sp + 1))) 6 1) 5 (nI (sp + 1))) A F := hT.call hpT
    refine lv_bipush (v := 48) hx hb dX3_part_173 (by decide) ?_
    refine lv_isub hx hb dX3_part_175 ?_
    refine lv_istore (lv' := [(5, .int (0 - 48)), (6, .int 0), (4, .int (r_24 - 48)), (3, .int 1), (2, .int 98), (0, .ref o), (1, .int 0)]) hx hb dX3_part_176 hl (by decide) rfl (fun ls hl => ?_)
    refine lv_goto (tgt := 284) hx hb dX3_part_178 (by decide) ?_
    refine lv_iload_n hx hb dX3_part_284 rfl (lv_at hl 6 rfl) ?_
    refine lv_if_eq (tgt := 300) hx hb dX3_part_285 (by decide) (fun _ => ?_) (fun c_42 => (absurd ((nx_eq (show ((0 : Int32)) = nI 0 from rfl) (show ((0 : Int32)) = nI 0 from rfl) (by omega) (by omega)).mpr (by omega)) c_42))
    refine lv_iconst (v := 1) hx hb dX3_part_300 (by decide) ?_
    refine lv_goto (tgt := 305) hx hb dX3_part_301 (by decide) ?_
    have e9 : ptE (A 4) N sp = (false, _) := (by unfold ptE; rw [if_neg (not_not_intro hlt), if_pos hc]; unfold zP; rw [if_neg sg_25])
    exact gh_retz rfl hC hg hr hlk (⟨rfl, hT.eqI (by rw [e9]; exact (fam7 rfl rfl rfl rfl rfl rfl rfl (fun _ => rfl)))⟩) dX3_part_305 (Nat.le_of_ble_eq_true rfl) (Nat.le_of_ble_eq_true rfl)
  by_cases hc102 : A 4 sp = 102
  · have hc := hc102
    rw [hc] at hl
    refine lv_iload_n hx hb dX3_part_32 rfl (lv_at hl 0 rfl) ?_
    refine lv_bipush (v := 98) hx hb dX3_part_33 (by decide) ?_
    refine lv_icmp_eq (tgt := 50) hx hb dX3_part_35 (by decide) (fun c_43 => (absurd ((nx_eq (show ((102 : Int32)) = nI 102 from rfl) (show ((98 : Int32)) = nI 98 from rfl) (by omega) (by omega)).mp c_43) (by omega))) (fun _ => ?_)
    refine lv_iload_n hx hb dX3_part_38 rfl (lv_at hl 0 rfl) ?_
    refine lv_bipush (v := 102) hx hb dX3_part_39 (by decide) ?_
    refine lv_icmp_eq (tgt := 50) hx hb dX3_part_41 (by decide) (fun _ => ?_) (fun c_44 => (absurd ((nx_eq (show ((102 : Int32)) = nI 102 from rfl) (show ((102 : Int32)) = nI 102 from rfl) (by omega) (by omega)).mpr (by omega)) c_44))
    refine lv_iconst (v := 1) hx hb dX3_part_50 (by decide) ?_
    refine lv_goto (tgt := 55) hx hb dX3_part_51 (by decide) ?_
    refine lv_istore_n (lv' := [(3, .int 1), (2, .int 102), (0, .ref o), (1, .int 0)]) hx hb dX3_part_55 rfl hl (by decide) rfl (fun ls hl => ?_)
    refine lv_aload_n hx hb dX3_part_56 rfl (lv_at hl 2 rfl) ?_
    refine lv_aload_n hx hb dX3_part_57 rfl (lv_at hl 2 rfl) ?_
    refine gh_get (v := .int (I 6)) hC hg hT.1.1 fX3_236_0 rfl dX3_part_58 ?_
    refine lv_if_ne (tgt := 92) hx hb dX3_part_61 (by decide) (fun c_45 => (absurd ((nx_eq (h6.trans (show ((0 : Int32)) = nI 0 from rfl)) (show ((0 : Int32)) = nI 0 from rfl) (by omega) (by omega)).mpr (by omega)) c_45)) (fun _ => ?_)
    refine lv_iload_n hx hb dX3_part_64 rfl (lv_at hl 0 rfl) ?_
    refine lv_if_ne (tgt := 96) hx hb dX3_part_65 (by decide) (fun _ => ?_) (fun c_46 => (absurd ((nx_eq (show ((1 : Int32)) = nI 1 from rfl) (show ((0 : Int32)) = nI 0 from rfl) (by omega) (by omega)).mp c_46) (by omega)))
    refine lv_iconst (v := 0) hx hb dX3_part_96 (by decide) ?_
    refine gh_put (v := .int 0) hC hg hT.1.1 fX3_236_0 rfl rfl (Nat.le_of_ble_eq_true rfl) dX3_part_97 (fun g H locs hg hw hn => ?_)
    have hT : tw_W V g0 g o ad (va_up I 6 0) A F := hT.putI 6 0 hw hn
    refine lv_aload_n hx hb dX3_part_100 rfl (lv_at hl 2 rfl) ?_
    refine lv_dup hx hb dX3_part_101 rfl ?_
    refine gh_get (v := .int (I 5)) hC hg hT.1.1 fX3_233_0 rfl dX3_part_102 ?_
    refine lv_aload_n hx hb dX3_part_105 rfl (lv_at hl 2 rfl) ?_
    refine gh_get (v := .int 0) hC hg hT.1.1 fX3_236_0 rfl dX3_part_106 ?_
    refine lv_if_eq (tgt := 116) hx hb dX3_part_109 (by decide) (fun _ => ?_) (fun c_47 => (absurd ((nx_eq (show ((0 : Int32)) = nI 0 from rfl) (show ((0 : Int32)) = nI 0 from rfl) (by omega) (by omega)).mpr (by omega)) c_47))
    refine lv_iconst (v := 1) hx hb dX3_part_116 (by decide) ?_
    refine lv_iadd hx hb dX3_part_117 ?_
    refine gh_put (v := .int ((I 5) + 1)) hC hg hT.1.1 fX3_233_0 rfl rfl (Nat.le_of_ble_eq_true rfl) dX3_part_118 (fun g H locs hg hw hn => ?_)
    have hT : tw_W V g0 g o ad (va_up (va_up I 6 0) 5 ((I 5) + 1)) A F := hT.putI 5 ((I 5) + 1) hw hn
    refine lv_iconst (v := 0) hx hb dX3_part_121 (by decide) ?_
    refine lv_istore (lv' := [(4, .int 0), (3, .int 1), (2, .int 102), (0, .ref o), (1, .int 0)]) hx hb dX3_part_122 hl (by decide) rfl (fun ls hl => ?_)
    refine lv_iconst (v := 0) hx hb dX3_part_124 (by decide) ?_
    refine lv_istore (lv' := [(5, .int 0), (4, .int 0), (3, .int 1), (2, .int 102), (0, .ref o), (1, .int 0)]) hx hb dX3_part_125 hl (by decide) rfl (fun ls hl => ?_)
    refine lv_iload_n hx hb dX3_part_127 rfl (lv_at hl 2 rfl) ?_
    refine lv_if_eq (tgt := 181) hx hb dX3_part_128 (by decide) (fun c_48 => (absurd ((nx_eq (show ((1 : Int32)) = nI 1 from rfl) (show ((0 : Int32)) = nI 0 from rfl) (by omega) (by omega)).mp c_48) (by omega))) (fun _ => ?_)
    refine lv_aload_n hx hb dX3_part_131 rfl (lv_at hl 4 rfl) ?_
    refine lv_bipush (v := 48) hx hb dX3_part_132 (by decide) ?_
    refine lv_bipush (v := 55) hx hb dX3_part_134 (by decide) ?_
    refine gh_calli hg (gh_runV (As := [.int 48, .int 55]) (rest := []) hC hg (t_sign0 l V o ad (va_up (va_up I 6 0) 5 ((I 5) + 1)) A F _ hT.1 48 55 (sp + 1) N (nx_add h5 (show ((1 : Int32)) = nI 1 from rfl)) (show ((0 : Int32)) = nI 0 from rfl) hN hN60 (by omega) (by decide)) 2 (lw_V q4330 q4332 qs99 q138 q4333) hT.1.1 rfl hd_X3_sign ⟨Nat.le_of_ble_eq_true rfl, Nat.le_of_ble_eq_true rfl⟩ rfl hl.1 rfl (Nat.le_of_ble_eq_true rfl) dX3_part_136 ⟨Nat.le_of_ble_eq_true rfl, Nat.le_of_ble_eq_true rfl⟩) (fun r_49 g H locs hg hp => ?_)
    rcases hp with ⟨sg_50, hpr, hpT⟩ | ⟨sg_50, hpT⟩
    · replace hpr : r_49 = (A 4) (sp + 1) := hpr
      subst hpr
      have hT : tw_W V g0 g o ad (va_up (va_up (va_up (va_up I 6 0) 5 ((I 5) + 1)) 6 0) 5 (nI ((sp + 1) + 1))) A F := hT.call hpT
      have sg_50l := sg_50.1
      obtain ⟨h_51a, h_51b, h_51⟩ := okR_cl (show ((48 : Int32)) = nI 48 from rfl) (show ((55 : Int32)) = nI 55 from rfl) (by omega) (by omega) sg_50.2
      refine lv_bipush (v := 48) hx hb dX3_part_139 (by decide) ?_
      refine lv_isub hx hb dX3_part_141 ?_
      refine lv_istore (lv' := [(4, .int (((A 4) (sp + 1)) - 48)), (5, .int 0), (3, .int 1), (2, .int 102), (0, .ref o), (1, .int 0)]) hx hb dX3_part_142 hl (by decide) rfl (fun ls hl => ?_)
      refine lv_aload_n hx hb dX3_part_144 rfl (lv_at hl 4 rfl) ?_
      refine lv_bipush (v := 61) hx hb dX3_part_145 (by decide) ?_
      refine lv_bipush (v := 61) hx hb dX3_part_147 (by decide) ?_
      refine gh_calli hg (gh_runV (As := [.int 61, .int 61]) (rest := []) hC hg (t_sign0 l V o ad (va_up (va_up (va_up (va_up I 6 0) 5 ((I 5) + 1)) 6 0) 5 (nI ((sp + 1) + 1))) A F _ hT.1 61 61 ((sp + 1) + 1) N rfl (show ((0 : Int32)) = nI 0 from rfl) hN hN60 (by omega) (by decide)) 2 (lw_V q4330 q4332 qs99 q138 q4333) hT.1.1 rfl hd_X3_sign ⟨Nat.le_of_ble_eq_true rfl, Nat.le_of_ble_eq_true rfl⟩ rfl hl.1 rfl (Nat.le_of_ble_eq_true rfl) dX3_part_149 ⟨Nat.le_of_ble_eq_true rfl, Nat.le_of_ble_eq_true rfl⟩) (fun r_52 g H locs hg hp => ?_)
      rcases hp with ⟨sg_53, hpr, hpT⟩ | ⟨sg_53, hpT⟩
      · replace hpr : r_52 = (A 4) ((sp + 1) + 1) := hpr
        subst hpr
        have hT : tw_W V g0 g o ad (va_up (va_up (va_up (va_up (va_up (va_up I 6 0) 5 ((I 5) + 1)) 6 0) 5 (nI ((sp + 1) + 1))) 6 0) 5 (nI (((sp + 1) + 1) + 1))) A F := hT.call hpT
        have sg_53l := sg_53.1
        obtain ⟨h_54a, h_54b, h_54⟩ := okR_cl (show ((61 : Int32)) = nI 61 from rfl) (show ((61 : Int32)) = nI 61 from rfl) (by omega) (by omega) sg_53.2
        refine lv_istore (lv' := [(6, .int ((A 4) ((sp + 1) + 1))), (4, .int (((A 4) (sp + 1)) - 48)), (5, .int 0), (3, .int 1), (2, .int 102), (0, .ref o), (1, .int 0)]) hx hb dX3_part_152 hl (by decide) rfl (fun ls hl => ?_)
        refine lv_aload_n hx hb dX3_part_154 rfl (lv_at hl 5 rfl) ?_
        refine lv_bipush (v := 48) hx hb dX3_part_155 (by decide) ?_
        refine lv_iload_n hx hb dX3_part_157 rfl (lv_at hl 4 rfl) ?_
        refine lv_bipush (v := 114) hx hb dX3_part_158 (by decide) ?_
        refine lv_icmp_ne (tgt := 168) hx hb dX3_part_160 (by decide) (fun _ => ?_) (fun c_55 => (absurd ((nx_eq (show ((102 : Int32)) = nI 102 from rfl) (show ((114 : Int32)) = nI 114 from rfl) (by omega) (by omega)).mp c_55) (by omega)))
        refine lv_bipush (v := 51) hx hb dX3_part_168 (by decide) ?_
        refine gh_calli hg (gh_runV (As := [.int 48, .int 51]) (rest := []) hC hg (t_sign0 l V o ad (va_up (va_up (va_up (va_up (va_up (va_up I 6 0) 5 ((I 5) + 1)) 6 0) 5 (nI ((sp + 1) + 1))) 6 0) 5 (nI (((sp + 1) + 1) + 1))) A F _ hT.1 48 51 (((sp + 1) + 1) + 1) N rfl (show ((0 : Int32)) = nI 0 from rfl) hN hN60 (by omega) (by decide)) 2 (lw_V q4330 q4332 qs99 q138 q4333) hT.1.1 rfl hd_X3_sign ⟨Nat.le_of_ble_eq_true rfl, Nat.le_of_ble_eq_true rfl⟩ rfl hl.1 rfl (Nat.le_of_ble_eq_true rfl) dX3_part_170 ⟨Nat.le_of_ble_eq_true rfl, Nat.le_of_ble_eq_true rfl⟩) (fun r_56 g H locs hg hp => ?_)
        rcases hp with ⟨sg_57, hpr, hpT⟩ | ⟨sg_57, hpT⟩
        · replace hpr : r_56 = (A 4) (((sp + 1) + 1) + 1) := hpr
          subst hpr
          have hT : tw_W V g0 g o ad (va_up (va_up (va_up (va_up (va_up (va_up (va_up (va_up I 6 0) 5 ((I 5) + 1)) 6 0) 5 (nI ((sp + 1) + 1))) 6 0) 5 (nI (((sp + 1) + 1) + 1))) 6 0) 5 (nI ((((sp + 1) + 1) + 1) + 1))) A F := hT.call hpT
          have sg_57l := sg_57.1
          obtain ⟨h_58a, h_58b, h_58⟩ := okR_cl (show ((48 : Int32)) = nI 48 from rfl) (show ((51 : Int32)) = nI 51 from rfl) (by omega) (by omega) sg_57.2
          refine lv_bipush (v := 48) hx hb dX3_part_173 (by decide) ?_
          refine lv_isub hx hb dX3_part_175 ?_
          refine lv_istore (lv' := [(5, .int (((A 4) (((sp + 1) + 1) + 1)) - 48)), (6, .int ((A 4) ((sp + 1) + 1))), (4, .int (((A 4) (sp + 1)) - 48)), (3, .int 1), (2, .int 102), (0, .ref o), (1, .int 0)]) hx hb dX3_part_176 hl (by decide) rfl (fun ls hl => ?_)
          refine lv_goto (tgt := 284) hx hb dX3_part_178 (by decide) ?_
          refine lv_iload_n hx hb dX3_part_284 rfl (lv_at hl 6 rfl) ?_
          refine lv_if_eq (tgt := 300) hx hb dX3_part_285 (by decide) (fun _ => ?_) (fun c_59 => (absurd ((nx_eq (show ((0 : Int32)) = nI 0 from rfl) (show ((0 : Int32)) = nI 0 from rfl) (by omega) (by omega)).mpr (by omega)) c_59))
          refine lv_iconst (v := 1) hx hb dX3_part_300 (by decide) ?_
          refine lv_goto (tgt := 305) hx hb dX3_part_301 (by decide) ?_
          have e9 : ptE (A 4) N sp = (true, _) := (by unfold ptE; rw [if_neg (not_not_intro hlt), if_neg (by rw [hc]; decide), if_pos hc]; unfold zP; rw [if_pos sg_50, if_pos sg_53, if_pos sg_57])
          exact gh_retz rfl hC hg hr hlk (⟨rfl, hT.eqI (by rw [e9]; exact (fam7 rfl rfl rfl rfl rfl rfl rfl (fun _ => rfl)))⟩) dX3_part_305 (Nat.le_of_ble_eq_true rfl) (Nat.le_of_ble_eq_true rfl)
        have hT : tw_W V g0 g o ad (va_up (va_up (va_up (va_up (va_up (va_up (va_up (va_up I 6 0) 5 ((I 5) + 1)) 6 0) 5 (nI ((sp + 1) + 1))) 6 0) 5 (nI (((sp + 1) + 1) + 1))) 6 1) 5 (nI (((sp + 1) + 1) + 1))) A F := hT.call hpT
        refine lv_bipush (v := 48) hx hb dX3_part_173 (by decide) ?_
        refine lv_isub hx hb dX3_part_175 ?_
        refine lv_istore (lv' := [(5, .int (r_56 - 48)), (6, .int ((A 4) ((sp + 1) + 1))), (4, .int (((A 4) (sp + 1)) - 48)), (3, .int 1), (2, .int 102), (0, .ref o), (1, .int 0)]) hx hb dX3_part_176 hl (by decide) rfl (fun ls hl => ?_)
        refine lv_goto (tgt := 284) hx hb dX3_part_178 (by decide) ?_
        refine lv_iload_n hx hb dX3_part_284 rfl (lv_at hl 6 rfl) ?_
        refine lv_if_eq (tgt := 300) hx hb dX3_part_285 (by decide) (fun _ => ?_) (fun c_60 => (absurd ((nx_eq (show ((0 : Int32)) = nI 0 from rfl) (show ((0 : Int32)) = nI 0 from rfl) (by omega) (by omega)).mpr (by omega)) c_60))
        refine lv_iconst (v := 1) hx hb dX3_part_300 (by decide) ?_
        refine lv_goto (tgt := 305) hx hb dX3_part_301 (by decide) ?_
        have e9 : ptE (A 4) N sp = (false, _) := (by unfold ptE; rw [if_neg (not_not_intro hlt), if_neg (by rw [hc]; decide), if_pos hc]; unfold zP; rw [if_pos sg_50, if_pos sg_53, if_neg sg_57])
        exact gh_retz rfl hC hg hr hlk (⟨rfl, hT.eqI (by rw [e9]; exact (fam7 rfl rfl rfl rfl rfl rfl rfl (fun _ => rfl)))⟩) dX3_part_305 (Nat.le_of_ble_eq_true rfl) (Nat.le_of_ble_eq_true rfl)
      have hT : tw_W V g0 g o ad (va_up (va_up (va_up (va_up (va_up (va_up I 6 0) 5 ((I 5) + 1)) 6 0) 5 (nI ((sp + 1) + 1))) 6 1) 5 (nI ((sp + 1) + 1))) A F := hT.call hpT
      refine lv_istore (lv' := [(6, .int r_52), (4, .int (((A 4) (sp + 1)) - 48)), (5, .int 0), (3, .int 1), (2, .int 102), (0, .ref o), (1, .int 0)]) hx hb dX3_part_152 hl (by decide) rfl (fun ls hl => ?_)
      refine lv_aload_n hx hb dX3_part_154 rfl (lv_at hl 5 rfl) ?_
      refine lv_bipush (v := 48) hx hb dX3_part_155 (by decide) ?_
      refine lv_iload_n hx hb dX3_part_157 rfl (lv_at hl 4 rfl) ?_
      refine lv_bipush (v := 114) hx hb dX3_part_158 (by decide) ?_
      refine lv_icmp_ne (tgt := 168) hx hb dX3_part_160 (by decide) (fun _ => ?_) (fun c_61 => (absurd ((nx_eq (show ((102 : Int32)) = nI 102 from rfl) (show ((114 : Int32)) = nI 114 from rfl) (by omega) (by omega)).mp c_61) (by omega)))
      refine lv_bipush (v := 51) hx hb dX3_part_168 (by decide) ?_
      refine gh_calli hg (gh_runV (As := [.int 48, .int 51]) (rest := []) hC hg (t_signW l V o ad (va_up (va_up (va_up (va_up (va_up (va_up I 6 0) 5 ((I 5) + 1)) 6 0) 5 (nI ((sp + 1) + 1))) 6 1) 5 (nI ((sp + 1) + 1))) A F _ hT.1 48 51 ((sp + 1) + 1) N rfl (show ((1 : Int32)) = nI 1 from rfl) hN hN60 (by omega)) 2 (lw_V q4330 q4332 qs99 q138 q4333) hT.1.1 rfl hd_X3_sign ⟨Nat.le_of_ble_eq_true rfl, Nat.le_of_ble_eq_true rfl⟩ rfl hl.1 rfl (Nat.le_of_ble_eq_true rfl) dX3_part_170 ⟨Nat.le_of_ble_eq_true rfl, Nat.le_of_ble_eq_true rfl⟩) (fun r_62 g H locs hg hp => ?_)
      obtain ⟨hp0, hpT⟩ := hp
      replace hp0 : r_62 = 0 := hp0
      subst hp0
      have hT : tw_W V g0 g o ad (va_up (va_up (va_up (va_up (va_up (va_up (va_up (va_up I 6 0) 5 ((I 5) + 1)) 6 0) 5 (nI ((sp + 1) + 1))) 6 1) 5 (nI ((sp + 1) + 1))) 6 1) 5 (nI ((sp + 1) + 1))) A F := hT.call hpT
      refine lv_bipush (v := 48) hx hb dX3_part_173 (by decide) ?_
      refine lv_isub hx hb dX3_part_175 ?_
      refine lv_istore (lv' := [(5, .int (0 - 48)), (6, .int r_52), (4, .int (((A 4) (sp + 1)) - 48)), (3, .int 1), (2, .int 102), (0, .ref o), (1, .int 0)]) hx hb dX3_part_176 hl (by decide) rfl (fun ls hl => ?_)
      refine lv_goto (tgt := 284) hx hb dX3_part_178 (by decide) ?_
      refine lv_iload_n hx hb dX3_part_284 rfl (lv_at hl 6 rfl) ?_
      refine lv_if_eq (tgt := 300) hx hb dX3_part_285 (by decide) (fun _ => ?_) (fun c_63 => (absurd ((nx_eq (show ((0 : Int32)) = nI 0 from rfl) (show ((0 : Int32)) = nI 0 from rfl) (by omega) (by omega)).mpr (by omega)) c_63))
      refine lv_iconst (v := 1) hx hb dX3_part_300 (by decide) ?_
      refine lv_goto (tgt := 305) hx hb dX3_part_301 (by decide) ?_
      have e9 : ptE (A 4) N sp = (false, _) := (by unfold ptE; rw [if_neg (not_not_intro hlt), if_neg (by rw [hc]; decide), if_pos hc]; unfold zP; rw [if_pos sg_50, if_neg sg_53])
      exact gh_retz rfl hC hg hr hlk (⟨rfl, hT.eqI (by rw [e9]; exact (fam7 rfl rfl rfl rfl rfl rfl rfl (fun _ => rfl)))⟩) dX3_part_305 (Nat.le_of_ble_eq_true rfl) (Nat.le_of_ble_eq_true rfl)
    have hT : tw_W V g0 g o ad (va_up (va_up (va_up (va_up I 6 0) 5 ((I 5) + 1)) 6 1) 5 (nI (sp + 1))) A F := hT.call hpT
    refine lv_bipush (v := 48) hx hb dX3_part_139 (by decide) ?_
    refine lv_isub hx hb dX3_part_141 ?_
    refine lv_istore (lv' := [(4, .int (r_49 - 48)), (5, .int 0), (3, .int 1), (2, .int 102), (0, .ref o), (1, .int 0)]) hx hb dX3_part_142 hl (by decide) rfl (fun ls hl => ?_)
    refine lv_aload_n hx hb dX3_part_144 rfl (lv_at hl 4 rfl) ?_
    refine lv_bipush (v := 61) hx hb dX3_part_145 (by decide) ?_
    refine lv_bipush (v := 61) hx hb dX3_part_147 (by decide) ?_
    refine gh_calli hg (gh_runV (As := [.int 61, .int 61]) (rest := []) hC hg (t_signW l V o ad (va_up (va_up (va_up (va_up I 6 0) 5 ((I 5) + 1)) 6 1) 5 (nI (sp + 1))) A F _ hT.1 61 61 (sp + 1) N rfl (show ((1 : Int32)) = nI 1 from rfl) hN hN60 (by omega)) 2 (lw_V q4330 q4332 qs99 q138 q4333) hT.1.1 rfl hd_X3_sign ⟨Nat.le_of_ble_eq_true rfl, Nat.le_of_ble_eq_true rfl⟩ rfl hl.1 rfl (Nat.le_of_ble_eq_true rfl) dX3_part_149 ⟨Nat.le_of_ble_eq_true rfl, Nat.le_of_ble_eq_true rfl⟩) (fun r_64 g H locs hg hp => ?_)
    obtain ⟨hp0, hpT⟩ := hp
    replace hp0 : r_64 = 0 := hp0
    subst hp0
    have hT : tw_W V g0 g o ad (va_up (va_up (va_up (va_up (va_up (va_up I 6 0) 5 ((I 5) + 1)) 6 1) 5 (nI (sp + 1))) 6 1) 5 (nI (sp + 1))) A F := hT.call hpT
    refine lv_istore (lv' := [(6, .int 0), (4, .int (r_49 - 48)), (5, .int 0), (3, .int 1), (2, .int 102), (0, .ref o), (1, .int 0)]) hx hb dX3_part_152 hl (by decide) rfl (fun ls hl => ?_)
    refine lv_aload_n hx hb dX3_part_154 rfl (lv_at hl 5 rfl) ?_
    refine lv_bipush (v := 48) hx hb dX3_part_155 (by decide) ?_
    refine lv_iload_n hx hb dX3_part_157 rfl (lv_at hl 4 rfl) ?_
    refine lv_bipush (v := 114) hx hb dX3_part_158 (by decide) ?_
    refine lv_icmp_ne (tgt := 168) hx hb dX3_part_160 (by decide) (fun _ => ?_) (fun c_65 => (absurd ((nx_eq (show ((102 : Int32)) = nI 102 from rfl) (show ((114 : Int32)) = nI 114 from rfl) (by omega) (by omega)).mp c_65) (by omega)))
    refine lv_bipush (v := 51) hx hb dX3_part_168 (by decide) ?_
    refine gh_calli hg (gh_runV (As := [.int 48, .int 51]) (rest := []) hC hg (t_signW l V o ad (va_up (va_up (va_up (va_up (va_up (va_up I 6 0) 5 ((I 5) + 1)) 6 1) 5 (nI (sp + 1))) 6 1) 5 (nI (sp + 1))) A F _ hT.1 48 51 (sp + 1) N rfl (show ((1 : Int32)) = nI 1 from rfl) hN hN60 (by omega)) 2 (lw_V q4330 q4332 qs99 q138 q4333) hT.1.1 rfl hd_X3_sign ⟨Nat.le_of_ble_eq_true rfl, Nat.le_of_ble_eq_true rfl⟩ rfl hl.1 rfl (Nat.le_of_ble_eq_true rfl) dX3_part_170 ⟨Nat.le_of_ble_eq_true rfl, Nat.le_of_ble_eq_true rfl⟩) (fun r_66 g H locs hg hp => ?_)
    obtain ⟨hp0, hpT⟩ := hp
    replace hp0 : r_66 = 0 := hp0
    subst hp0
    have hT : tw_W V g0 g o ad (va_up (va_up (va_up (va_up (va_up (va_up (va_up (va_up I 6 0) 5 ((I 5) + 1)) 6 1) 5 (nI (sp + 1))) 6 1) 5 (nI (sp + 1))) 6 1) 5 (nI (sp + 1))) A F := hT.call hpT
    refine lv_bipush (v := 48) hx hb dX3_part_173 (by decide) ?_
    refine lv_isub hx hb dX3_part_175 ?_
    refine lv_istore (lv' := [(5, .int (0 - 48)), (6, .int 0), (4, .int (r_49 - 48)), (3, .int 1), (2, .int 102), (0, .ref o), (1, .int 0)]) hx hb dX3_part_176 hl (by decide) rfl (fun ls hl => ?_)
    refine lv_goto (tgt := 284) hx hb dX3_part_178 (by decide) ?_
    refine lv_iload_n hx hb dX3_part_284 rfl (lv_at hl 6 rfl) ?_
    refine lv_if_eq (tgt := 300) hx hb dX3_part_285 (by decide) (fun _ => ?_) (fun c_67 => (absurd ((nx_eq (show ((0 : Int32)) = nI 0 from rfl) (show ((0 : Int32)) = nI 0 from rfl) (by omega) (by omega)).mpr (by omega)) c_67))
    refine lv_iconst (v := 1) hx hb dX3_part_300 (by decide) ?_
    refine lv_goto (tgt := 305) hx hb dX3_part_301 (by decide) ?_
    have e9 : ptE (A 4) N sp = (false, _) := (by unfold ptE; rw [if_neg (not_not_intro hlt), if_neg (by rw [hc]; decide), if_pos hc]; unfold zP; rw [if_neg sg_50])
    exact gh_retz rfl hC hg hr hlk (⟨rfl, hT.eqI (by rw [e9]; exact (fam7 rfl rfl rfl rfl rfl rfl rfl (fun _ => rfl)))⟩) dX3_part_305 (Nat.le_of_ble_eq_true rfl) (Nat.le_of_ble_eq_true rfl)
  by_cases hc114 : A 4 sp = 114
  · have hc := hc114
    rw [hc] at hl
    refine lv_iload_n hx hb dX3_part_32 rfl (lv_at hl 0 rfl) ?_
    refine lv_bipush (v := 98) hx hb dX3_part_33 (by decide) ?_
    refine lv_icmp_eq (tgt := 50) hx hb dX3_part_35 (by decide) (fun c_68 => (absurd ((nx_eq (show ((114 : Int32)) = nI 114 from rfl) (show ((98 : Int32)) = nI 98 from rfl) (by omega) (by omega)).mp c_68) (by omega))) (fun _ => ?_)
    refine lv_iload_n hx hb dX3_part_38 rfl (lv_at hl 0 rfl) ?_
    refine lv_bipush (v := 102) hx hb dX3_part_39 (by decide) ?_
    refine lv_icmp_eq (tgt := 50) hx hb dX3_part_41 (by decide) (fun c_69 => (absurd ((nx_eq (show ((114 : Int32)) = nI 114 from rfl) (show ((102 : Int32)) = nI 102 from rfl) (by omega) (by omega)).mp c_69) (by omega))) (fun _ => ?_)
    refine lv_iload_n hx hb dX3_part_44 rfl (lv_at hl 0 rfl) ?_
    refine lv_bipush (v := 114) hx hb dX3_part_45 (by decide) ?_
    refine lv_icmp_ne (tgt := 54) hx hb dX3_part_47 (by decide) (fun c_70 => (absurd ((nx_eq (show ((114 : Int32)) = nI 114 from rfl) (show ((114 : Int32)) = nI 114 from rfl) (by omega) (by omega)).mpr (by omega)) c_70)) (fun _ => ?_)
    refine lv_iconst (v := 1) hx hb dX3_part_50 (by decide) ?_
    refine lv_goto (tgt := 55) hx hb dX3_part_51 (by decide) ?_
    refine lv_istore_n (lv' := [(3, .int 1), (2, .int 114), (0, .ref o), (1, .int 0)]) hx hb dX3_part_55 rfl hl (by decide) rfl (fun ls hl => ?_)
    refine lv_aload_n hx hb dX3_part_56 rfl (lv_at hl 2 rfl) ?_
    refine lv_aload_n hx hb dX3_part_57 rfl (lv_at hl 2 rfl) ?_
    refine gh_get (v := .int (I 6)) hC hg hT.1.1 fX3_236_0 rfl dX3_part_58 ?_
    refine lv_if_ne (tgt := 92) hx hb dX3_part_61 (by decide) (fun c_71 => (absurd ((nx_eq (h6.trans (show ((0 : Int32)) = nI 0 from rfl)) (show ((0 : Int32)) = nI 0 from rfl) (by omega) (by omega)).mpr (by omega)) c_71)) (fun _ => ?_)
    refine lv_iload_n hx hb dX3_part_64 rfl (lv_at hl 0 rfl) ?_
    refine lv_if_ne (tgt := 96) hx hb dX3_part_65 (by decide) (fun _ => ?_) (fun c_72 => (absurd ((nx_eq (show ((1 : Int32)) = nI 1 from rfl) (show ((0 : Int32)) = nI 0 from rfl) (by omega) (by omega)).mp c_72) (by omega)))
    refine lv_iconst (v := 0) hx hb dX3_part_96 (by decide) ?_
    refine gh_put (v := .int 0) hC hg hT.1.1 fX3_236_0 rfl rfl (Nat.le_of_ble_eq_true rfl) dX3_part_97 (fun g H locs hg hw hn => ?_)
    have hT : tw_W V g0 g o ad (va_up I 6 0) A F := hT.putI 6 0 hw hn
    refine lv_aload_n hx hb dX3_part_100 rfl (lv_at hl 2 rfl) ?_
    refine lv_dup hx hb dX3_part_101 rfl ?_
    refine gh_get (v := .int (I 5)) hC hg hT.1.1 fX3_233_0 rfl dX3_part_102 ?_
    refine lv_aload_n hx hb dX3_part_105 rfl (lv_at hl 2 rfl) ?_
    refine gh_get (v := .int 0) hC hg hT.1.1 fX3_236_0 rfl dX3_part_106 ?_
    refine lv_if_eq (tgt := 116) hx hb dX3_part_109 (by decide) (fun _ => ?_) (fun c_73 => (absurd ((nx_eq (show ((0 : Int32)) = nI 0 from rfl) (show ((0 : Int32)) = nI 0 from rfl) (by omega) (by omega)).mpr (by omega)) c_73))
    refine lv_iconst (v := 1) hx hb dX3_part_116 (by decide) ?_
    refine lv_iadd hx hb dX3_part_117 ?_
    refine gh_put (v := .int ((I 5) + 1)) hC hg hT.1.1 fX3_233_0 rfl rfl (Nat.le_of_ble_eq_true rfl) dX3_part_118 (fun g H locs hg hw hn => ?_)
    have hT : tw_W V g0 g o ad (va_up (va_up I 6 0) 5 ((I 5) + 1)) A F := hT.putI 5 ((I 5) + 1) hw hn
    refine lv_iconst (v := 0) hx hb dX3_part_121 (by decide) ?_
    refine lv_istore (lv' := [(4, .int 0), (3, .int 1), (2, .int 114), (0, .ref o), (1, .int 0)]) hx hb dX3_part_122 hl (by decide) rfl (fun ls hl => ?_)
    refine lv_iconst (v := 0) hx hb dX3_part_124 (by decide) ?_
    refine lv_istore (lv' := [(5, .int 0), (4, .int 0), (3, .int 1), (2, .int 114), (0, .ref o), (1, .int 0)]) hx hb dX3_part_125 hl (by decide) rfl (fun ls hl => ?_)
    refine lv_iload_n hx hb dX3_part_127 rfl (lv_at hl 2 rfl) ?_
    refine lv_if_eq (tgt := 181) hx hb dX3_part_128 (by decide) (fun c_74 => (absurd ((nx_eq (show ((1 : Int32)) = nI 1 from rfl) (show ((0 : Int32)) = nI 0 from rfl) (by omega) (by omega)).mp c_74) (by omega))) (fun _ => ?_)
    refine lv_aload_n hx hb dX3_part_131 rfl (lv_at hl 4 rfl) ?_
    refine lv_bipush (v := 48) hx hb dX3_part_132 (by decide) ?_
    refine lv_bipush (v := 55) hx hb dX3_part_134 (by decide) ?_
    refine gh_calli hg (gh_runV (As := [.int 48, .int 55]) (rest := []) hC hg (t_sign0 l V o ad (va_up (va_up I 6 0) 5 ((I 5) + 1)) A F _ hT.1 48 55 (sp + 1) N (nx_add h5 (show ((1 : Int32)) = nI 1 from rfl)) (show ((0 : Int32)) = nI 0 from rfl) hN hN60 (by omega) (by decide)) 2 (lw_V q4330 q4332 qs99 q138 q4333) hT.1.1 rfl hd_X3_sign ⟨Nat.le_of_ble_eq_true rfl, Nat.le_of_ble_eq_true rfl⟩ rfl hl.1 rfl (Nat.le_of_ble_eq_true rfl) dX3_part_136 ⟨Nat.le_of_ble_eq_true rfl, Nat.le_of_ble_eq_true rfl⟩) (fun r_75 g H locs hg hp => ?_)
    rcases hp with ⟨sg_76, hpr, hpT⟩ | ⟨sg_76, hpT⟩
    · replace hpr : r_75 = (A 4) (sp + 1) := hpr
      subst hpr
      have hT : tw_W V g0 g o ad (va_up (va_up (va_up (va_up I 6 0) 5 ((I 5) + 1)) 6 0) 5 (nI ((sp + 1) + 1))) A F := hT.call hpT
      have sg_76l := sg_76.1
      obtain ⟨h_77a, h_77b, h_77⟩ := okR_cl (show ((48 : Int32)) = nI 48 from rfl) (show ((55 : Int32)) = nI 55 from rfl) (by omega) (by omega) sg_76.2
      refine lv_bipush (v := 48) hx hb dX3_part_139 (by decide) ?_
      refine lv_isub hx hb dX3_part_141 ?_
      refine lv_istore (lv' := [(4, .int (((A 4) (sp + 1)) - 48)), (5, .int 0), (3, .int 1), (2, .int 114), (0, .ref o), (1, .int 0)]) hx hb dX3_part_142 hl (by decide) rfl (fun ls hl => ?_)
      refine lv_aload_n hx hb dX3_part_144 rfl (lv_at hl 4 rfl) ?_
      refine lv_bipush (v := 61) hx hb dX3_part_145 (by decide) ?_
      refine lv_bipush (v := 61) hx hb dX3_part_147 (by decide) ?_
      refine gh_calli hg (gh_runV (As := [.int 61, .int 61]) (rest := []) hC hg (t_sign0 l V o ad (va_up (va_up (va_up (va_up I 6 0) 5 ((I 5) + 1)) 6 0) 5 (nI ((sp + 1) + 1))) A F _ hT.1 61 61 ((sp + 1) + 1) N rfl (show ((0 : Int32)) = nI 0 from rfl) hN hN60 (by omega) (by decide)) 2 (lw_V q4330 q4332 qs99 q138 q4333) hT.1.1 rfl hd_X3_sign ⟨Nat.le_of_ble_eq_true rfl, Nat.le_of_ble_eq_true rfl⟩ rfl hl.1 rfl (Nat.le_of_ble_eq_true rfl) dX3_part_149 ⟨Nat.le_of_ble_eq_true rfl, Nat.le_of_ble_eq_true rfl⟩) (fun r_78 g H locs hg hp => ?_)
      rcases hp with ⟨sg_79, hpr, hpT⟩ | ⟨sg_79, hpT⟩
      · replace hpr : r_78 = (A 4) ((sp + 1) + 1) := hpr
        subst hpr
        have hT : tw_W V g0 g o ad (va_up (va_up (va_up (va_up (va_up (va_up I 6 0) 5 ((I 5) + 1)) 6 0) 5 (nI ((sp + 1) + 1))) 6 0) 5 (nI (((sp + 1) + 1) + 1))) A F := hT.call hpT
        have sg_79l := sg_79.1
        obtain ⟨h_80a, h_80b, h_80⟩ := okR_cl (show ((61 : Int32)) = nI 61 from rfl) (show ((61 : Int32)) = nI 61 from rfl) (by omega) (by omega) sg_79.2
        refine lv_istore (lv' := [(6, .int ((A 4) ((sp + 1) + 1))), (4, .int (((A 4) (sp + 1)) - 48)), (5, .int 0), (3, .int 1), (2, .int 114), (0, .ref o), (1, .int 0)]) hx hb dX3_part_152 hl (by decide) rfl (fun ls hl => ?_)
        refine lv_aload_n hx hb dX3_part_154 rfl (lv_at hl 5 rfl) ?_
        refine lv_bipush (v := 48) hx hb dX3_part_155 (by decide) ?_
        refine lv_iload_n hx hb dX3_part_157 rfl (lv_at hl 4 rfl) ?_
        refine lv_bipush (v := 114) hx hb dX3_part_158 (by decide) ?_
        refine lv_icmp_ne (tgt := 168) hx hb dX3_part_160 (by decide) (fun c_81 => (absurd ((nx_eq (show ((114 : Int32)) = nI 114 from rfl) (show ((114 : Int32)) = nI 114 from rfl) (by omega) (by omega)).mpr (by omega)) c_81)) (fun _ => ?_)
        refine lv_bipush (v := 57) hx hb dX3_part_163 (by decide) ?_
        refine lv_goto (tgt := 170) hx hb dX3_part_165 (by decide) ?_
        refine gh_calli hg (gh_runV (As := [.int 48, .int 57]) (rest := []) hC hg (t_sign0 l V o ad (va_up (va_up (va_up (va_up (va_up (va_up I 6 0) 5 ((I 5) + 1)) 6 0) 5 (nI ((sp + 1) + 1))) 6 0) 5 (nI (((sp + 1) + 1) + 1))) A F _ hT.1 48 57 (((sp + 1) + 1) + 1) N rfl (show ((0 : Int32)) = nI 0 from rfl) hN hN60 (by omega) (by decide)) 2 (lw_V q4330 q4332 qs99 q138 q4333) hT.1.1 rfl hd_X3_sign ⟨Nat.le_of_ble_eq_true rfl, Nat.le_of_ble_eq_true rfl⟩ rfl hl.1 rfl (Nat.le_of_ble_eq_true rfl) dX3_part_170 ⟨Nat.le_of_ble_eq_true rfl, Nat.le_of_ble_eq_true rfl⟩) (fun r_82 g H locs hg hp => ?_)
        rcases hp with ⟨sg_83, hpr, hpT⟩ | ⟨sg_83, hpT⟩
        · replace hpr : r_82 = (A 4) (((sp + 1) + 1) + 1) := hpr
          subst hpr
          have hT : tw_W V g0 g o ad (va_up (va_up (va_up (va_up (va_up (va_up (va_up (va_up I 6 0) 5 ((I 5) + 1)) 6 0) 5 (nI ((sp + 1) + 1))) 6 0) 5 (nI (((sp + 1) + 1) + 1))) 6 0) 5 (nI ((((sp + 1) + 1) + 1) + 1))) A F := hT.call hpT
          have sg_83l := sg_83.1
          obtain ⟨h_84a, h_84b, h_84⟩ := okR_cl (show ((48 : Int32)) = nI 48 from rfl) (show ((57 : Int32)) = nI 57 from rfl) (by omega) (by omega) sg_83.2
          refine lv_bipush (v := 48) hx hb dX3_part_173 (by decide) ?_
          refine lv_isub hx hb dX3_part_175 ?_
          refine lv_istore (lv' := [(5, .int (((A 4) (((sp + 1) + 1) + 1)) - 48)), (6, .int ((A 4) ((sp + 1) + 1))), (4, .int (((A 4) (sp + 1)) - 48)), (3, .int 1), (2, .int 114), (0, .ref o), (1, .int 0)]) hx hb dX3_part_176 hl (by decide) rfl (fun ls hl => ?_)
          refine lv_goto (tgt := 284) hx hb dX3_part_178 (by decide) ?_
          refine lv_iload_n hx hb dX3_part_284 rfl (lv_at hl 6 rfl) ?_
          refine lv_if_eq (tgt := 300) hx hb dX3_part_285 (by decide) (fun _ => ?_) (fun c_85 => (absurd ((nx_eq (show ((0 : Int32)) = nI 0 from rfl) (show ((0 : Int32)) = nI 0 from rfl) (by omega) (by omega)).mpr (by omega)) c_85))
          refine lv_iconst (v := 1) hx hb dX3_part_300 (by decide) ?_
          refine lv_goto (tgt := 305) hx hb dX3_part_301 (by decide) ?_
          have e9 : ptE (A 4) N sp = (true, _) := (by unfold ptE; rw [if_neg (not_not_intro hlt), if_neg (by rw [hc]; decide), if_neg (by rw [hc]; decide), if_pos hc]; unfold zP; rw [if_pos sg_76, if_pos sg_79, if_pos sg_83])
          exact gh_retz rfl hC hg hr hlk (⟨rfl, hT.eqI (by rw [e9]; exact (fam7 rfl rfl rfl rfl rfl rfl rfl (fun _ => rfl)))⟩) dX3_part_305 (Nat.le_of_ble_eq_true rfl) (Nat.le_of_ble_eq_true rfl)
        have hT : tw_W V g0 g o ad (va_up (va_up (va_up (va_up (va_up (va_up (va_up (va_up I 6 0) 5 ((I 5) + 1)) 6 0) 5 (nI ((sp + 1) + 1))) 6 0) 5 (nI (((sp + 1) + 1) + 1))) 6 1) 5 (nI (((sp + 1) + 1) + 1))) A F := hT.call hpT
        refine lv_bipush (v := 48) hx hb dX3_part_173 (by decide) ?_
        refine lv_isub hx hb dX3_part_175 ?_
        refine lv_istore (lv' := [(5, .int (r_82 - 48)), (6, .int ((A 4) ((sp + 1) + 1))), (4, .int (((A 4) (sp + 1)) - 48)), (3, .int 1), (2, .int 114), (0, .ref o), (1, .int 0)]) hx hb dX3_part_176 hl (by decide) rfl (fun ls hl => ?_)
        refine lv_goto (tgt := 284) hx hb dX3_part_178 (by decide) ?_
        refine lv_iload_n hx hb dX3_part_284 rfl (lv_at hl 6 rfl) ?_
        refine lv_if_eq (tgt := 300) hx hb dX3_part_285 (by decide) (fun _ => ?_) (fun c_86 => (absurd ((nx_eq (show ((0 : Int32)) = nI 0 from rfl) (show ((0 : Int32)) = nI 0 from rfl) (by omega) (by omega)).mpr (by omega)) c_86))
        refine lv_iconst (v := 1) hx hb dX3_part_300 (by decide) ?_
        refine lv_goto (tgt := 305) hx hb dX3_part_301 (by decide) ?_
        have e9 : ptE (A 4) N sp = (false, _) := (by unfold ptE; rw [if_neg (not_not_intro hlt), if_neg (by rw [hc]; decide), if_neg (by rw [hc]; decide), if_pos hc]; unfold zP; rw [if_pos sg_76, if_pos sg_79, if_neg sg_83])
        exact gh_retz rfl hC hg hr hlk (⟨rfl, hT.eqI (by rw [e9]; exact (fam7 rfl rfl rfl rfl rfl rfl rfl (fun _ => rfl)))⟩) dX3_part_305 (Nat.le_of_ble_eq_true rfl) (Nat.le_of_ble_eq_true rfl)
      have hT : tw_W V g0 g o ad (va_up (va_up (va_up (va_up (va_up (va_up I 6 0) 5 ((I 5) + 1)) 6 0) 5 (nI ((sp + 1) + 1))) 6 1) 5 (nI ((sp + 1) + 1))) A F := hT.call hpT
      refine lv_istore (lv' := [(6, .int r_78), (4, .int (((A 4) (sp + 1)) - 48)), (5, .int 0), (3, .int 1), (2, .int 114), (0, .ref o), (1, .int 0)]) hx hb dX3_part_152 hl (by decide) rfl (fun ls hl => ?_)
      refine lv_aload_n hx hb dX3_part_154 rfl (lv_at hl 5 rfl) ?_
      refine lv_bipush (v := 48) hx hb dX3_part_155 (by decide) ?_
      refine lv_iload_n hx hb dX3_part_157 rfl (lv_at hl 4 rfl) ?_
      refine lv_bipush (v := 114) hx hb dX3_part_158 (by decide) ?_
      refine lv_icmp_ne (tgt := 168) hx hb dX3_part_160 (by decide) (fun c_87 => (absurd ((nx_eq (show ((114 : Int32)) = nI 114 from rfl) (show ((114 : Int32)) = nI 114 from rfl) (by omega) (by omega)).mpr (by omega)) c_87)) (fun _ => ?_)
      refine lv_bipush (v := 57) hx hb dX3_part_163 (by decide) ?_
      refine lv_goto (tgt := 170) hx hb dX3_part_165 (by decide) ?_
      refine gh_calli hg (gh_runV (As := [.int 48, .int 57]) (rest := []) hC hg (t_signW l V o ad (va_up (va_up (va_up (va_up (va_up (va_up I 6 0) 5 ((I 5) + 1)) 6 0) 5 (nI ((sp + 1) + 1))) 6 1) 5 (nI ((sp + 1) + 1))) A F _ hT.1 48 57 ((sp + 1) + 1) N rfl (show ((1 : Int32)) = nI 1 from rfl) hN hN60 (by omega)) 2 (lw_V q4330 q4332 qs99 q138 q4333) hT.1.1 rfl hd_X3_sign ⟨Nat.le_of_ble_eq_true rfl, Nat.le_of_ble_eq_true rfl⟩ rfl hl.1 rfl (Nat.le_of_ble_eq_true rfl) dX3_part_170 ⟨Nat.le_of_ble_eq_true rfl, Nat.le_of_ble_eq_true rfl⟩) (fun r_88 g H locs hg hp => ?_)
      obtain ⟨hp0, hpT⟩ := hp
      replace hp0 : r_88 = 0 := hp0
      subst hp0
      have hT : tw_W V g0 g o ad (va_up (va_up (va_up (va_up (va_up (va_up (va_up (va_up I 6 0) 5 ((I 5) + 1)) 6 0) 5 (nI ((sp + 1) + 1))) 6 1) 5 (nI ((sp + 1) + 1))) 6 1) 5 (nI ((sp + 1) + 1))) A F := hT.call hpT
      refine lv_bipush (v := 48) hx hb dX3_part_173 (by decide) ?_
      refine lv_isub hx hb dX3_part_175 ?_
      refine lv_istore (lv' := [(5, .int (0 - 48)), (6, .int r_78), (4, .int (((A 4) (sp + 1)) - 48)), (3, .int 1), (2, .int 114), (0, .ref o), (1, .int 0)]) hx hb dX3_part_176 hl (by decide) rfl (fun ls hl => ?_)
      refine lv_goto (tgt := 284) hx hb dX3_part_178 (by decide) ?_
      refine lv_iload_n hx hb dX3_part_284 rfl (lv_at hl 6 rfl) ?_
      refine lv_if_eq (tgt := 300) hx hb dX3_part_285 (by decide) (fun _ => ?_) (fun c_89 => (absurd ((nx_eq (show ((0 : Int32)) = nI 0 from rfl) (show ((0 : Int32)) = nI 0 from rfl) (by omega) (by omega)).mpr (by omega)) c_89))
      refine lv_iconst (v := 1) hx hb dX3_part_300 (by decide) ?_
      refine lv_goto (tgt := 305) hx hb dX3_part_301 (by decide) ?_
      have e9 : ptE (A 4) N sp = (false, _) := (by unfold ptE; rw [if_neg (not_not_intro hlt), if_neg (by rw [hc]; decide), if_neg (by rw [hc]; decide), if_pos hc]; unfold zP; rw [if_pos sg_76, if_neg sg_79])
      exact gh_retz rfl hC hg hr hlk (⟨rfl, hT.eqI (by rw [e9]; exact (fam7 rfl rfl rfl rfl rfl rfl rfl (fun _ => rfl)))⟩) dX3_part_305 (Nat.le_of_ble_eq_true rfl) (Nat.le_of_ble_eq_true rfl)
    have hT : tw_W V g0 g o ad (va_up (va_up (va_up (va_up I 6 0) 5 ((I 5) + 1)) 6 1) 5 (nI (sp + 1))) A F := hT.call hpT
    refine lv_bipush (v := 48) hx hb dX3_part_139 (by decide) ?_
    refine lv_isub hx hb dX3_part_141 ?_
    refine lv_istore (lv' := [(4, .int (r_75 - 48)), (5, .int 0), (3, .int 1), (2, .int 114), (0, .ref o), (1, .int 0)]) hx hb dX3_part_142 hl (by decide) rfl (fun ls hl => ?_)
    refine lv_aload_n hx hb dX3_part_144 rfl (lv_at hl 4 rfl) ?_
    refine lv_bipush (v := 61) hx hb dX3_part_145 (by decide) ?_
    refine lv_bipush (v := 61) hx hb dX3_part_147 (by decide) ?_
    refine gh_calli hg (gh_runV (As := [.int 61, .int 61]) (rest := []) hC hg (t_signW l V o ad (va_up (va_up (va_up (va_up I 6 0) 5 ((I 5) + 1)) 6 1) 5 (nI (sp + 1))) A F _ hT.1 61 61 (sp + 1) N rfl (show ((1 : Int32)) = nI 1 from rfl) hN hN60 (by omega)) 2 (lw_V q4330 q4332 qs99 q138 q4333) hT.1.1 rfl hd_X3_sign ⟨Nat.le_of_ble_eq_true rfl, Nat.le_of_ble_eq_true rfl⟩ rfl hl.1 rfl (Nat.le_of_ble_eq_true rfl) dX3_part_149 ⟨Nat.le_of_ble_eq_true rfl, Nat.le_of_ble_eq_true rfl⟩) (fun r_90 g H locs hg hp => ?_)
    obtain ⟨hp0, hpT⟩ := hp
    replace hp0 : r_90 = 0 := hp0
    subst hp0
    have hT : tw_W V g0 g o ad (va_up (va_up (va_up (va_up (va_up (va_up I 6 0) 5 ((I 5) + 1)) 6 1) 5 (nI (sp + 1))) 6 1) 5 (nI (sp + 1))) A F := hT.call hpT
    refine lv_istore (lv' := [(6, .int 0), (4, .int (r_75 - 48)), (5, .int 0), (3, .int 1), (2, .int 114), (0, .ref o), (1, .int 0)]) hx hb dX3_part_152 hl (by decide) rfl (fun ls hl => ?_)
    refine lv_aload_n hx hb dX3_part_154 rfl (lv_at hl 5 rfl) ?_
    refine lv_bipush (v := 48) hx hb dX3_part_155 (by decide) ?_
    refine lv_iload_n hx hb dX3_part_157 rfl (lv_at hl 4 rfl) ?_
    refine lv_bipush (v := 114) hx hb dX3_part_158 (by decide) ?_
    refine lv_icmp_ne (tgt := 168) hx hb dX3_part_160 (by decide) (fun c_91 => (absurd ((nx_eq (show ((114 : Int32)) = nI 114 from rfl) (show ((114 : Int32)) = nI 114 from rfl) (by omega) (by omega)).mpr (by omega)) c_91)) (fun _ => ?_)
    refine lv_bipush (v := 57) hx hb dX3_part_163 (by decide) ?_
    refine lv_goto (tgt := 170) hx hb dX3_part_165 (by decide) ?_
    refine gh_calli hg (gh_runV (As := [.int 48, .int 57]) (rest := []) hC hg (t_signW l V o ad (va_up (va_up (va_up (va_up (va_up (va_up I 6 0) 5 ((I 5) + 1)) 6 1) 5 (nI (sp + 1))) 6 1) 5 (nI (sp + 1))) A F _ hT.1 48 57 (sp + 1) N rfl (show ((1 : Int32)) = nI 1 from rfl) hN hN60 (by omega)) 2 (lw_V q4330 q4332 qs99 q138 q4333) hT.1.1 rfl hd_X3_sign ⟨Nat.le_of_ble_eq_true rfl, Nat.le_of_ble_eq_true rfl⟩ rfl hl.1 rfl (Nat.le_of_ble_eq_true rfl) dX3_part_170 ⟨Nat.le_of_ble_eq_true rfl, Nat.le_of_ble_eq_true rfl⟩) (fun r_92 g H locs hg hp => ?_)
    obtain ⟨hp0, hpT⟩ := hp
    replace hp0 : r_92 = 0 := hp0
    subst hp0
    have hT : tw_W V g0 g o ad (va_up (va_up (va_up (va_up (va_up (va_up (va_up (va_up I 6 0) 5 ((I 5) + 1)) 6 1) 5 (nI (sp + 1))) 6 1) 5 (nI (sp + 1))) 6 1) 5 (nI (sp + 1))) A F := hT.call hpT
    refine lv_bipush (v := 48) hx hb dX3_part_173 (by decide) ?_
    refine lv_isub hx hb dX3_part_175 ?_
    refine lv_istore (lv' := [(5, .int (0 - 48)), (6, .int 0), (4, .int (r_75 - 48)), (3, .int 1), (2, .int 114), (0, .ref o), (1, .int 0)]) hx hb dX3_part_176 hl (by decide) rfl (fun ls hl => ?_)
    refine lv_goto (tgt := 284) hx hb dX3_part_178 (by decide) ?_
    refine lv_iload_n hx hb dX3_part_284 rfl (lv_at hl 6 rfl) ?_
    refine lv_if_eq (tgt := 300) hx hb dX3_part_285 (by decide) (fun _ => ?_) (fun c_93 => (absurd ((nx_eq (show ((0 : Int32)) = nI 0 from rfl) (show ((0 : Int32)) = nI 0 from rfl) (by omega) (by omega)).mpr (by omega)) c_93))
    refine lv_iconst (v := 1) hx hb dX3_part_300 (by decide) ?_
    refine lv_goto (tgt := 305) hx hb dX3_part_301 (by decide) ?_
    have e9 : ptE (A 4) N sp = (false, _) := (by unfold ptE; rw [if_neg (not_not_intro hlt), if_neg (by rw [hc]; decide), if_neg (by rw [hc]; decide), if_pos hc]; unfold zP; rw [if_neg sg_76])
    exact gh_retz rfl hC hg hr hlk (⟨rfl, hT.eqI (by rw [e9]; exact (fam7 rfl rfl rfl rfl rfl rfl rfl (fun _ => rfl)))⟩) dX3_part_305 (Nat.le_of_ble_eq_true rfl) (Nat.le_of_ble_eq_true rfl)
  by_cases hc111 : A 4 sp = 111
  · have hc := hc111
    rw [hc] at hl
    refine lv_iload_n hx hb dX3_part_32 rfl (lv_at hl 0 rfl) ?_
    refine lv_bipush (v := 98) hx hb dX3_part_33 (by decide) ?_
    refine lv_icmp_eq (tgt := 50) hx hb dX3_part_35 (by decide) (fun c_94 => (absurd ((nx_eq (show ((111 : Int32)) = nI 111 from rfl) (show ((98 : Int32)) = nI 98 from rfl) (by omega) (by omega)).mp c_94) (by omega))) (fun _ => ?_)
    refine lv_iload_n hx hb dX3_part_38 rfl (lv_at hl 0 rfl) ?_
    refine lv_bipush (v := 102) hx hb dX3_part_39 (by decide) ?_
    refine lv_icmp_eq (tgt := 50) hx hb dX3_part_41 (by decide) (fun c_95 => (absurd ((nx_eq (show ((111 : Int32)) = nI 111 from rfl) (show ((102 : Int32)) = nI 102 from rfl) (by omega) (by omega)).mp c_95) (by omega))) (fun _ => ?_)
    refine lv_iload_n hx hb dX3_part_44 rfl (lv_at hl 0 rfl) ?_
    refine lv_bipush (v := 114) hx hb dX3_part_45 (by decide) ?_
    refine lv_icmp_ne (tgt := 54) hx hb dX3_part_47 (by decide) (fun _ => ?_) (fun c_96 => (absurd ((nx_eq (show ((111 : Int32)) = nI 111 from rfl) (show ((114 : Int32)) = nI 114 from rfl) (by omega) (by omega)).mp c_96) (by omega)))
    refine lv_iconst (v := 0) hx hb dX3_part_54 (by decide) ?_
    refine lv_istore_n (lv' := [(3, .int 0), (2, .int 111), (0, .ref o), (1, .int 0)]) hx hb dX3_part_55 rfl hl (by decide) rfl (fun ls hl => ?_)
    refine lv_aload_n hx hb dX3_part_56 rfl (lv_at hl 2 rfl) ?_
    refine lv_aload_n hx hb dX3_part_57 rfl (lv_at hl 2 rfl) ?_
    refine gh_get (v := .int (I 6)) hC hg hT.1.1 fX3_236_0 rfl dX3_part_58 ?_
    refine lv_if_ne (tgt := 92) hx hb dX3_part_61 (by decide) (fun c_97 => (absurd ((nx_eq (h6.trans (show ((0 : Int32)) = nI 0 from rfl)) (show ((0 : Int32)) = nI 0 from rfl) (by omega) (by omega)).mpr (by omega)) c_97)) (fun _ => ?_)
    refine lv_iload_n hx hb dX3_part_64 rfl (lv_at hl 0 rfl) ?_
    refine lv_if_ne (tgt := 96) hx hb dX3_part_65 (by decide) (fun c_98 => (absurd ((nx_eq (show ((0 : Int32)) = nI 0 from rfl) (show ((0 : Int32)) = nI 0 from rfl) (by omega) (by omega)).mpr (by omega)) c_98)) (fun _ => ?_)
    refine lv_iload_n hx hb dX3_part_68 rfl (lv_at hl 1 rfl) ?_
    refine lv_bipush (v := 111) hx hb dX3_part_69 (by decide) ?_
    refine lv_icmp_eq (tgt := 96) hx hb dX3_part_71 (by decide) (fun _ => ?_) (fun c_99 => (absurd ((nx_eq (show ((111 : Int32)) = nI 111 from rfl) (show ((111 : Int32)) = nI 111 from rfl) (by omega) (by omega)).mpr (by omega)) c_99))
    refine lv_iconst (v := 0) hx hb dX3_part_96 (by decide) ?_
    refine gh_put (v := .int 0) hC hg hT.1.1 fX3_236_0 rfl rfl (Nat.le_of_ble_eq_true rfl) dX3_part_97 (fun g H locs hg hw hn => ?_)
    have hT : tw_W V g0 g o ad (va_up I 6 0) A F := hT.putI 6 0 hw hn
    refine lv_aload_n hx hb dX3_part_100 rfl (lv_at hl 2 rfl) ?_
    refine lv_dup hx hb dX3_part_101 rfl ?_
    refine gh_get (v := .int (I 5)) hC hg hT.1.1 fX3_233_0 rfl dX3_part_102 ?_
    refine lv_aload_n hx hb dX3_part_105 rfl (lv_at hl 2 rfl) ?_
    refine gh_get (v := .int 0) hC hg hT.1.1 fX3_236_0 rfl dX3_part_106 ?_
    refine lv_if_eq (tgt := 116) hx hb dX3_part_109 (by decide) (fun _ => ?_) (fun c_100 => (absurd ((nx_eq (show ((0 : Int32)) = nI 0 from rfl) (show ((0 : Int32)) = nI 0 from rfl) (by omega) (by omega)).mpr (by omega)) c_100))
    refine lv_iconst (v := 1) hx hb dX3_part_116 (by decide) ?_
    refine lv_iadd hx hb dX3_part_117 ?_
    refine gh_put (v := .int ((I 5) + 1)) hC hg hT.1.1 fX3_233_0 rfl rfl (Nat.le_of_ble_eq_true rfl) dX3_part_118 (fun g H locs hg hw hn => ?_)
    have hT : tw_W V g0 g o ad (va_up (va_up I 6 0) 5 ((I 5) + 1)) A F := hT.putI 5 ((I 5) + 1) hw hn
    refine lv_iconst (v := 0) hx hb dX3_part_121 (by decide) ?_
    refine lv_istore (lv' := [(4, .int 0), (3, .int 0), (2, .int 111), (0, .ref o), (1, .int 0)]) hx hb dX3_part_122 hl (by decide) rfl (fun ls hl => ?_)
    refine lv_iconst (v := 0) hx hb dX3_part_124 (by decide) ?_
    refine lv_istore (lv' := [(5, .int 0), (4, .int 0), (3, .int 0), (2, .int 111), (0, .ref o), (1, .int 0)]) hx hb dX3_part_125 hl (by decide) rfl (fun ls hl => ?_)
    refine lv_iload_n hx hb dX3_part_127 rfl (lv_at hl 2 rfl) ?_
    refine lv_if_eq (tgt := 181) hx hb dX3_part_128 (by decide) (fun _ => ?_) (fun c_101 => (absurd ((nx_eq (show ((0 : Int32)) = nI 0 from rfl) (show ((0 : Int32)) = nI 0 from rfl) (by omega) (by omega)).mpr (by omega)) c_101))
    refine lv_iload_n hx hb dX3_part_181 rfl (lv_at hl 3 rfl) ?_
    refine lv_bipush (v := 111) hx hb dX3_part_182 (by decide) ?_
    refine lv_icmp_ne (tgt := 216) hx hb dX3_part_184 (by decide) (fun c_102 => (absurd ((nx_eq (show ((111 : Int32)) = nI 111 from rfl) (show ((111 : Int32)) = nI 111 from rfl) (by omega) (by omega)).mpr (by omega)) c_102)) (fun _ => ?_)
    refine lv_aload_n hx hb dX3_part_187 rfl (lv_at hl 4 rfl) ?_
    refine lv_bipush (v := 48) hx hb dX3_part_188 (by decide) ?_
    refine lv_bipush (v := 50) hx hb dX3_part_190 (by decide) ?_
    refine gh_calli hg (gh_runV (As := [.int 48, .int 50]) (rest := []) hC hg (t_sign0 l V o ad (va_up (va_up I 6 0) 5 ((I 5) + 1)) A F _ hT.1 48 50 (sp + 1) N (nx_add h5 (show ((1 : Int32)) = nI 1 from rfl)) (show ((0 : Int32)) = nI 0 from rfl) hN hN60 (by omega) (by decide)) 2 (lw_V q4330 q4332 qs99 q138 q4333) hT.1.1 rfl hd_X3_sign ⟨Nat.le_of_ble_eq_true rfl, Nat.le_of_ble_eq_true rfl⟩ rfl hl.1 rfl (Nat.le_of_ble_eq_true rfl) dX3_part_192 ⟨Nat.le_of_ble_eq_true rfl, Nat.le_of_ble_eq_true rfl⟩) (fun r_103 g H locs hg hp => ?_)
    rcases hp with ⟨sg_104, hpr, hpT⟩ | ⟨sg_104, hpT⟩
    · replace hpr : r_103 = (A 4) (sp + 1) := hpr
      subst hpr
      have hT : tw_W V g0 g o ad (va_up (va_up (va_up (va_up I 6 0) 5 ((I 5) + 1)) 6 0) 5 (nI ((sp + 1) + 1))) A F := hT.call hpT
      have sg_104l := sg_104.1
      obtain ⟨h_105a, h_105b, h_105⟩ := okR_cl (show ((48 : Int32)) = nI 48 from rfl) (show ((50 : Int32)) = nI 50 from rfl) (by omega) (by omega) sg_104.2
      refine lv_bipush (v := 48) hx hb dX3_part_195 (by decide) ?_
      refine lv_isub hx hb dX3_part_197 ?_
      refine lv_istore (lv' := [(4, .int (((A 4) (sp + 1)) - 48)), (5, .int 0), (3, .int 0), (2, .int 111), (0, .ref o), (1, .int 0)]) hx hb dX3_part_198 hl (by decide) rfl (fun ls hl => ?_)
      refine lv_aload_n hx hb dX3_part_200 rfl (lv_at hl 4 rfl) ?_
      refine lv_bipush (v := 49) hx hb dX3_part_201 (by decide) ?_
      refine lv_bipush (v := 57) hx hb dX3_part_203 (by decide) ?_
      refine gh_calli hg (gh_runV (As := [.int 49, .int 57]) (rest := []) hC hg (t_sign0 l V o ad (va_up (va_up (va_up (va_up I 6 0) 5 ((I 5) + 1)) 6 0) 5 (nI ((sp + 1) + 1))) A F _ hT.1 49 57 ((sp + 1) + 1) N rfl (show ((0 : Int32)) = nI 0 from rfl) hN hN60 (by omega) (by decide)) 2 (lw_V q4330 q4332 qs99 q138 q4333) hT.1.1 rfl hd_X3_sign ⟨Nat.le_of_ble_eq_true rfl, Nat.le_of_ble_eq_true rfl⟩ rfl hl.1 rfl (Nat.le_of_ble_eq_true rfl) dX3_part_205 ⟨Nat.le_of_ble_eq_true rfl, Nat.le_of_ble_eq_true rfl⟩) (fun r_106 g H locs hg hp => ?_)
      rcases hp with ⟨sg_107, hpr, hpT⟩ | ⟨sg_107, hpT⟩
      · replace hpr : r_106 = (A 4) ((sp + 1) + 1) := hpr
        subst hpr
        have hT : tw_W V g0 g o ad (va_up (va_up (va_up (va_up (va_up (va_up I 6 0) 5 ((I 5) + 1)) 6 0) 5 (nI ((sp + 1) + 1))) 6 0) 5 (nI (((sp + 1) + 1) + 1))) A F := hT.call hpT
        have sg_107l := sg_107.1
        obtain ⟨h_108a, h_108b, h_108⟩ := okR_cl (show ((49 : Int32)) = nI 49 from rfl) (show ((57 : Int32)) = nI 57 from rfl) (by omega) (by omega) sg_107.2
        refine lv_bipush (v := 48) hx hb dX3_part_208 (by decide) ?_
        refine lv_isub hx hb dX3_part_210 ?_
        refine lv_istore (lv' := [(5, .int (((A 4) ((sp + 1) + 1)) - 48)), (4, .int (((A 4) (sp + 1)) - 48)), (3, .int 0), (2, .int 111), (0, .ref o), (1, .int 0)]) hx hb dX3_part_211 hl (by decide) rfl (fun ls hl => ?_)
        refine lv_goto (tgt := 284) hx hb dX3_part_213 (by decide) ?_
        refine lv_iload_n hx hb dX3_part_284 rfl (lv_at hl 5 rfl) ?_
        refine lv_if_eq (tgt := 300) hx hb dX3_part_285 (by decide) (fun _ => ?_) (fun c_109 => (absurd ((nx_eq (show ((0 : Int32)) = nI 0 from rfl) (show ((0 : Int32)) = nI 0 from rfl) (by omega) (by omega)).mpr (by omega)) c_109))
        refine lv_iconst (v := 1) hx hb dX3_part_300 (by decide) ?_
        refine lv_goto (tgt := 305) hx hb dX3_part_301 (by decide) ?_
        have e9 : ptE (A 4) N sp = (true, _) := (by unfold ptE; rw [if_neg (not_not_intro hlt), if_neg (by rw [hc]; decide), if_neg (by rw [hc]; decide), if_neg (by rw [hc]; decide), if_pos hc]; unfold oP; rw [if_pos sg_104, if_pos sg_107])
        exact gh_retz rfl hC hg hr hlk (⟨rfl, hT.eqI (by rw [e9]; exact (fam7 rfl rfl rfl rfl rfl rfl rfl (fun _ => rfl)))⟩) dX3_part_305 (Nat.le_of_ble_eq_true rfl) (Nat.le_of_ble_eq_true rfl)
      have hT : tw_W V g0 g o ad (va_up (va_up (va_up (va_up (va_up (va_up I 6 0) 5 ((I 5) + 1)) 6 0) 5 (nI ((sp + 1) + 1))) 6 1) 5 (nI ((sp + 1) + 1))) A F := hT.call hpT
      refine lv_bipush (v := 48) hx hb dX3_part_208 (by decide) ?_
      refine lv_isub hx hb dX3_part_210 ?_
      refine lv_istore (lv' := [(5, .int (r_106 - 48)), (4, .int (((A 4) (sp + 1)) - 48)), (3, .int 0), (2, .int 111), (0, .ref o), (1, .int 0)]) hx hb dX3_part_211 hl (by decide) rfl (fun ls hl => ?_)
      refine lv_goto (tgt := 284) hx hb dX3_part_213 (by decide) ?_
      refine lv_iload_n hx hb dX3_part_284 rfl (lv_at hl 5 rfl) ?_
      refine lv_if_eq (tgt := 300) hx hb dX3_part_285 (by decide) (fun _ => ?_) (fun c_110 => (absurd ((nx_eq (show ((0 : Int32)) = nI 0 from rfl) (show ((0 : Int32)) = nI 0 from rfl) (by omega) (by omega)).mpr (by omega)) c_110))
      refine lv_iconst (v := 1) hx hb dX3_part_300 (by decide) ?_
      refine lv_goto (tgt := 305) hx hb dX3_part_301 (by decide) ?_
      have e9 : ptE (A 4) N sp = (false, _) := (by unfold ptE; rw [if_neg (not_not_intro hlt), if_neg (by rw [hc]; decide), if_neg (by rw [hc]; decide), if_neg (by rw [hc]; decide), if_pos hc]; unfold oP; rw [if_pos sg_104, if_neg sg_107])
      exact gh_retz rfl hC hg hr hlk (⟨rfl, hT.eqI (by rw [e9]; exact (fam7 rfl rfl rfl rfl rfl rfl rfl (fun _ => rfl)))⟩) dX3_part_305 (Nat.le_of_ble_eq_true rfl) (Nat.le_of_ble_eq_true rfl)
    have hT : tw_W V g0 g o ad (va_up (va_up (va_up (va_up I 6 0) 5 ((I 5) + 1)) 6 1) 5 (nI (sp + 1))) A F := hT.call hpT
    refine lv_bipush (v := 48) hx hb dX3_part_195 (by decide) ?_
    refine lv_isub hx hb dX3_part_197 ?_
    refine lv_istore (lv' := [(4, .int (r_103 - 48)), (5, .int 0), (3, .int 0), (2, .int 111), (0, .ref o), (1, .int 0)]) hx hb dX3_part_198 hl (by decide) rfl (fun ls hl => ?_)
    refine lv_aload_n hx hb dX3_part_200 rfl (lv_at hl 4 rfl) ?_
    refine lv_bipush (v := 49) hx hb dX3_part_201 (by decide) ?_
    refine lv_bipush (v := 57) hx hb dX3_part_203 (by decide) ?_
    refine gh_calli hg (gh_runV (As := [.int 49, .int 57]) (rest := []) hC hg (t_signW l V o ad (va_up (va_up (va_up (va_up I 6 0) 5 ((I 5) + 1)) 6 1) 5 (nI (sp + 1))) A F _ hT.1 49 57 (sp + 1) N rfl (show ((1 : Int32)) = nI 1 from rfl) hN hN60 (by omega)) 2 (lw_V q4330 q4332 qs99 q138 q4333) hT.1.1 rfl hd_X3_sign ⟨Nat.le_of_ble_eq_true rfl, Nat.le_of_ble_eq_true rfl⟩ rfl hl.1 rfl (Nat.le_of_ble_eq_true rfl) dX3_part_205 ⟨Nat.le_of_ble_eq_true rfl, Nat.le_of_ble_eq_true rfl⟩) (fun r_111 g H locs hg hp => ?_)
    obtain ⟨hp0, hpT⟩ := hp
    replace hp0 : r_111 = 0 := hp0
    subst hp0
    have hT : tw_W V g0 g o ad (va_up (va_up (va_up (va_up (va_up (va_up I 6 0) 5 ((I 5) + 1)) 6 1) 5 (nI (sp + 1))) 6 1) 5 (nI (sp + 1))) A F := hT.call hpT
    refine lv_bipush (v := 48) hx hb dX3_part_208 (by decide) ?_
    refine lv_isub hx hb dX3_part_210 ?_
    refine lv_istore (lv' := [(5, .int (0 - 48)), (4, .int (r_103 - 48)), (3, .int 0), (2, .int 111), (0, .ref o), (1, .int 0)]) hx hb dX3_part_211 hl (by decide) rfl (fun ls hl => ?_)
    refine lv_goto (tgt := 284) hx hb dX3_part_213 (by decide) ?_
    refine lv_iload_n hx hb dX3_part_284 rfl (lv_at hl 5 rfl) ?_
    refine lv_if_eq (tgt := 300) hx hb dX3_part_285 (by decide) (fun _ => ?_) (fun c_112 => (absurd ((nx_eq (show ((0 : Int32)) = nI 0 from rfl) (show ((0 : Int32)) = nI 0 from rfl) (by omega) (by omega)).mpr (by omega)) c_112))
    refine lv_iconst (v := 1) hx hb dX3_part_300 (by decide) ?_
    refine lv_goto (tgt := 305) hx hb dX3_part_301 (by decide) ?_
    have e9 : ptE (A 4) N sp = (false, _) := (by unfold ptE; rw [if_neg (not_not_intro hlt), if_neg (by rw [hc]; decide), if_neg (by rw [hc]; decide), if_neg (by rw [hc]; decide), if_pos hc]; unfold oP; rw [if_neg sg_104])
    exact gh_retz rfl hC hg hr hlk (⟨rfl, hT.eqI (by rw [e9]; exact (fam7 rfl rfl rfl rfl rfl rfl rfl (fun _ => rfl)))⟩) dX3_part_305 (Nat.le_of_ble_eq_true rfl) (Nat.le_of_ble_eq_true rfl)
  by_cases hc108 : A 4 sp = 108
  · have hc := hc108
    rw [hc] at hl
    refine lv_iload_n hx hb dX3_part_32 rfl (lv_at hl 0 rfl) ?_
    refine lv_bipush (v := 98) hx hb dX3_part_33 (by decide) ?_
    refine lv_icmp_eq (tgt := 50) hx hb dX3_part_35 (by decide) (fun c_113 => (absurd ((nx_eq (show ((108 : Int32)) = nI 108 from rfl) (show ((98 : Int32)) = nI 98 from rfl) (by omega) (by omega)).mp c_113) (by omega))) (fun _ => ?_)
    refine lv_iload_n hx hb dX3_part_38 rfl (lv_at hl 0 rfl) ?_
    refine lv_bipush (v := 102) hx hb dX3_part_39 (by decide) ?_
    refine lv_icmp_eq (tgt := 50) hx hb dX3_part_41 (by decide) (fun c_114 => (absurd ((nx_eq (show ((108 : Int32)) = nI 108 from rfl) (show ((102 : Int32)) = nI 102 from rfl) (by omega) (by omega)).mp c_114) (by omega))) (fun _ => ?_)
    refine lv_iload_n hx hb dX3_part_44 rfl (lv_at hl 0 rfl) ?_
    refine lv_bipush (v := 114) hx hb dX3_part_45 (by decide) ?_
    refine lv_icmp_ne (tgt := 54) hx hb dX3_part_47 (by decide) (fun _ => ?_) (fun c_115 => (absurd ((nx_eq (show ((108 : Int32)) = nI 108 from rfl) (show ((114 : Int32)) = nI 114 from rfl) (by omega) (by omega)).mp c_115) (by omega)))
    refine lv_iconst (v := 0) hx hb dX3_part_54 (by decide) ?_
    refine lv_istore_n (lv' := [(3, .int 0), (2, .int 108), (0, .ref o), (1, .int 0)]) hx hb dX3_part_55 rfl hl (by decide) rfl (fun ls hl => ?_)
    refine lv_aload_n hx hb dX3_part_56 rfl (lv_at hl 2 rfl) ?_
    refine lv_aload_n hx hb dX3_part_57 rfl (lv_at hl 2 rfl) ?_
    refine gh_get (v := .int (I 6)) hC hg hT.1.1 fX3_236_0 rfl dX3_part_58 ?_
    refine lv_if_ne (tgt := 92) hx hb dX3_part_61 (by decide) (fun c_116 => (absurd ((nx_eq (h6.trans (show ((0 : Int32)) = nI 0 from rfl)) (show ((0 : Int32)) = nI 0 from rfl) (by omega) (by omega)).mpr (by omega)) c_116)) (fun _ => ?_)
    refine lv_iload_n hx hb dX3_part_64 rfl (lv_at hl 0 rfl) ?_
    refine lv_if_ne (tgt := 96) hx hb dX3_part_65 (by decide) (fun c_117 => (absurd ((nx_eq (show ((0 : Int32)) = nI 0 from rfl) (show ((0 : Int32)) = nI 0 from rfl) (by omega) (by omega)).mpr (by omega)) c_117)) (fun _ => ?_)
    refine lv_iload_n hx hb dX3_part_68 rfl (lv_at hl 1 rfl) ?_
    refine lv_bipush (v := 111) hx hb dX3_part_69 (by decide) ?_
    refine lv_icmp_eq (tgt := 96) hx hb dX3_part_71 (by decide) (fun c_118 => (absurd ((nx_eq (show ((108 : Int32)) = nI 108 from rfl) (show ((111 : Int32)) = nI 111 from rfl) (by omega) (by omega)).mp c_118) (by omega))) (fun _ => ?_)
    refine lv_iload_n hx hb dX3_part_74 rfl (lv_at hl 1 rfl) ?_
    refine lv_bipush (v := 108) hx hb dX3_part_75 (by decide) ?_
    refine lv_icmp_eq (tgt := 96) hx hb dX3_part_77 (by decide) (fun _ => ?_) (fun c_119 => (absurd ((nx_eq (show ((108 : Int32)) = nI 108 from rfl) (show ((108 : Int32)) = nI 108 from rfl) (by omega) (by omega)).mpr (by omega)) c_119))
    refine lv_iconst (v := 0) hx hb dX3_part_96 (by decide) ?_
    refine gh_put (v := .int 0) hC hg hT.1.1 fX3_236_0 rfl rfl (Nat.le_of_ble_eq_true rfl) dX3_part_97 (fun g H locs hg hw hn => ?_)
    have hT : tw_W V g0 g o ad (va_up I 6 0) A F := hT.putI 6 0 hw hn
    refine lv_aload_n hx hb dX3_part_100 rfl (lv_at hl 2 rfl) ?_
    refine lv_dup hx hb dX3_part_101 rfl ?_
    refine gh_get (v := .int (I 5)) hC hg hT.1.1 fX3_233_0 rfl dX3_part_102 ?_
    refine lv_aload_n hx hb dX3_part_105 rfl (lv_at hl 2 rfl) ?_
    refine gh_get (v := .int 0) hC hg hT.1.1 fX3_236_0 rfl dX3_part_106 ?_
    refine lv_if_eq (tgt := 116) hx hb dX3_part_109 (by decide) (fun _ => ?_) (fun c_120 => (absurd ((nx_eq (show ((0 : Int32)) = nI 0 from rfl) (show ((0 : Int32)) = nI 0 from rfl) (by omega) (by omega)).mpr (by omega)) c_120))
    refine lv_iconst (v := 1) hx hb dX3_part_116 (by decide) ?_
    refine lv_iadd hx hb dX3_part_117 ?_
    refine gh_put (v := .int ((I 5) + 1)) hC hg hT.1.1 fX3_233_0 rfl rfl (Nat.le_of_ble_eq_true rfl) dX3_part_118 (fun g H locs hg hw hn => ?_)
    have hT : tw_W V g0 g o ad (va_up (va_up I 6 0) 5 ((I 5) + 1)) A F := hT.putI 5 ((I 5) + 1) hw hn
    refine lv_iconst (v := 0) hx hb dX3_part_121 (by decide) ?_
    refine lv_istore (lv' := [(4, .int 0), (3, .int 0), (2, .int 108), (0, .ref o), (1, .int 0)]) hx hb dX3_part_122 hl (by decide) rfl (fun ls hl => ?_)
    refine lv_iconst (v := 0) hx hb dX3_part_124 (by decide) ?_
    refine lv_istore (lv' := [(5, .int 0), (4, .int 0), (3, .int 0), (2, .int 108), (0, .ref o), (1, .int 0)]) hx hb dX3_part_125 hl (by decide) rfl (fun ls hl => ?_)
    refine lv_iload_n hx hb dX3_part_127 rfl (lv_at hl 2 rfl) ?_
    refine lv_if_eq (tgt := 181) hx hb dX3_part_128 (by decide) (fun _ => ?_) (fun c_121 => (absurd ((nx_eq (show ((0 : Int32)) = nI 0 from rfl) (show ((0 : Int32)) = nI 0 from rfl) (by omega) (by omega)).mpr (by omega)) c_121))
    refine lv_iload_n hx hb dX3_part_181 rfl (lv_at hl 3 rfl) ?_
    refine lv_bipush (v := 111) hx hb dX3_part_182 (by decide) ?_
    refine lv_icmp_ne (tgt := 216) hx hb dX3_part_184 (by decide) (fun _ => ?_) (fun c_122 => (absurd ((nx_eq (show ((108 : Int32)) = nI 108 from rfl) (show ((111 : Int32)) = nI 111 from rfl) (by omega) (by omega)).mp c_122) (by omega)))
    refine lv_iload_n hx hb dX3_part_216 rfl (lv_at hl 3 rfl) ?_
    refine lv_bipush (v := 108) hx hb dX3_part_217 (by decide) ?_
    refine lv_icmp_ne (tgt := 234) hx hb dX3_part_219 (by decide) (fun c_123 => (absurd ((nx_eq (show ((108 : Int32)) = nI 108 from rfl) (show ((108 : Int32)) = nI 108 from rfl) (by omega) (by omega)).mpr (by omega)) c_123)) (fun _ => ?_)
    refine lv_aload_n hx hb dX3_part_222 rfl (lv_at hl 4 rfl) ?_
    refine lv_iconst (v := 0) hx hb dX3_part_223 (by decide) ?_
    refine lv_bipush (v := 11) hx hb dX3_part_224 (by decide) ?_
    refine gh_calli hg (gh_runV (As := [.int 0, .int 11]) (rest := []) hC hg (t_number11 l V o ad (va_up (va_up I 6 0) 5 ((I 5) + 1)) A F _ hT.1 (sp + 1) N (nx_add h5 (show ((1 : Int32)) = nI 1 from rfl)) (show ((0 : Int32)) = nI 0 from rfl) hN hN60 (by omega)) 2 (lw_V q4334 q4336 qs100 q138 q4337) hT.1.1 rfl hd_X3_number ⟨Nat.le_of_ble_eq_true rfl, Nat.le_of_ble_eq_true rfl⟩ rfl hl.1 rfl (Nat.le_of_ble_eq_true rfl) dX3_part_226 ⟨Nat.le_of_ble_eq_true rfl, Nat.le_of_ble_eq_true rfl⟩) (fun r_124 g H locs hg hp => ?_)
    rcases hp with ⟨sg_125, hpr, hpT⟩ | ⟨sg_125, hpT⟩
    · replace hpr : r_124 = nI (nmV (A 4) N (sp + 1) 11) := hpr
      subst hpr
      have hT : tw_W V g0 g o ad (va_up (va_up (va_up (va_up I 6 0) 5 ((I 5) + 1)) 6 0) 5 (nI (nmP (A 4) N (sp + 1) 11))) A F := hT.call hpT
      have sg_125l := nmP_le (b := (A 4)) (M := 11) sg_125.1
      have sg_125m := nmV_le (b := (A 4)) (N := N) (M := 11) sg_125.2 (by omega)
      skip
      refine lv_istore (lv' := [(4, .int (nI (nmV (A 4) N (sp + 1) 11))), (5, .int 0), (3, .int 0), (2, .int 108), (0, .ref o), (1, .int 0)]) hx hb dX3_part_229 hl (by decide) rfl (fun ls hl => ?_)
      refine lv_goto (tgt := 284) hx hb dX3_part_231 (by decide) ?_
      refine lv_iload_n hx hb dX3_part_284 rfl (lv_at hl 5 rfl) ?_
      refine lv_if_eq (tgt := 300) hx hb dX3_part_285 (by decide) (fun _ => ?_) (fun c_126 => (absurd ((nx_eq (show ((0 : Int32)) = nI 0 from rfl) (show ((0 : Int32)) = nI 0 from rfl) (by omega) (by omega)).mpr (by omega)) c_126))
      refine lv_iconst (v := 1) hx hb dX3_part_300 (by decide) ?_
      refine lv_goto (tgt := 305) hx hb dX3_part_301 (by decide) ?_
      have e9 : ptE (A 4) N sp = (true, _) := (by unfold ptE; rw [if_neg (not_not_intro hlt), if_neg (by rw [hc]; decide), if_neg (by rw [hc]; decide), if_neg (by rw [hc]; decide), if_neg (by rw [hc]; decide), if_pos hc]; unfold nuP; rw [if_pos sg_125])
      exact gh_retz rfl hC hg hr hlk (⟨rfl, hT.eqI (by rw [e9]; exact (fam7 rfl rfl rfl rfl rfl rfl rfl (fun _ => rfl)))⟩) dX3_part_305 (Nat.le_of_ble_eq_true rfl) (Nat.le_of_ble_eq_true rfl)
    have hT : tw_W V g0 g o ad (va_up (va_up (va_up (va_up I 6 0) 5 ((I 5) + 1)) 6 1) 5 (nI (sp + 1))) A F := hT.call hpT
    refine lv_istore (lv' := [(4, .int r_124), (5, .int 0), (3, .int 0), (2, .int 108), (0, .ref o), (1, .int 0)]) hx hb dX3_part_229 hl (by decide) rfl (fun ls hl => ?_)
    refine lv_goto (tgt := 284) hx hb dX3_part_231 (by decide) ?_
    refine lv_iload_n hx hb dX3_part_284 rfl (lv_at hl 5 rfl) ?_
    refine lv_if_eq (tgt := 300) hx hb dX3_part_285 (by decide) (fun _ => ?_) (fun c_127 => (absurd ((nx_eq (show ((0 : Int32)) = nI 0 from rfl) (show ((0 : Int32)) = nI 0 from rfl) (by omega) (by omega)).mpr (by omega)) c_127))
    refine lv_iconst (v := 1) hx hb dX3_part_300 (by decide) ?_
    refine lv_goto (tgt := 305) hx hb dX3_part_301 (by decide) ?_
    have e9 : ptE (A 4) N sp = (false, _) := (by unfold ptE; rw [if_neg (not_not_intro hlt), if_neg (by rw [hc]; decide), if_neg (by rw [hc]; decide), if_neg (by rw [hc]; decide), if_neg (by rw [hc]; decide), if_pos hc]; unfold nuP; rw [if_neg sg_125])
    exact gh_retz rfl hC hg hr hlk (⟨rfl, hT.eqI (by rw [e9]; exact (fam7 rfl rfl rfl rfl rfl rfl rfl (fun _ => rfl)))⟩) dX3_part_305 (Nat.le_of_ble_eq_true rfl) (Nat.le_of_ble_eq_true rfl)
  by_cases hc99 : A 4 sp = 99
  · have hc := hc99
    rw [hc] at hl
    refine lv_iload_n hx hb dX3_part_32 rfl (lv_at hl 0 rfl) ?_
    refine lv_bipush (v := 98) hx hb dX3_part_33 (by decide) ?_
    refine lv_icmp_eq (tgt := 50) hx hb dX3_part_35 (by decide) (fun c_128 => (absurd ((nx_eq (show ((99 : Int32)) = nI 99 from rfl) (show ((98 : Int32)) = nI 98 from rfl) (by omega) (by omega)).mp c_128) (by omega))) (fun _ => ?_)
    refine lv_iload_n hx hb dX3_part_38 rfl (lv_at hl 0 rfl) ?_
    refine lv_bipush (v := 102) hx hb dX3_part_39 (by decide) ?_
    refine lv_icmp_eq (tgt := 50) hx hb dX3_part_41 (by decide) (fun c_129 => (absurd ((nx_eq (show ((99 : Int32)) = nI 99 from rfl) (show ((102 : Int32)) = nI 102 from rfl) (by omega) (by omega)).mp c_129) (by omega))) (fun _ => ?_)
    refine lv_iload_n hx hb dX3_part_44 rfl (lv_at hl 0 rfl) ?_
    refine lv_bipush (v := 114) hx hb dX3_part_45 (by decide) ?_
    refine lv_icmp_ne (tgt := 54) hx hb dX3_part_47 (by decide) (fun _ => ?_) (fun c_130 => (absurd ((nx_eq (show ((99 : Int32)) = nI 99 from rfl) (show ((114 : Int32)) = nI 114 from rfl) (by omega) (by omega)).mp c_130) (by omega)))
    refine lv_iconst (v := 0) hx hb dX3_part_54 (by decide) ?_
    refine lv_istore_n (lv' := [(3, .int 0), (2, .int 99), (0, .ref o), (1, .int 0)]) hx hb dX3_part_55 rfl hl (by decide) rfl (fun ls hl => ?_)
    refine lv_aload_n hx hb dX3_part_56 rfl (lv_at hl 2 rfl) ?_
    refine lv_aload_n hx hb dX3_part_57 rfl (lv_at hl 2 rfl) ?_
    refine gh_get (v := .int (I 6)) hC hg hT.1.1 fX3_236_0 rfl dX3_part_58 ?_
    refine lv_if_ne (tgt := 92) hx hb dX3_part_61 (by decide) (fun c_131 => (absurd ((nx_eq (h6.trans (show ((0 : Int32)) = nI 0 from rfl)) (show ((0 : Int32)) = nI 0 from rfl) (by omega) (by omega)).mpr (by omega)) c_131)) (fun _ => ?_)
    refine lv_iload_n hx hb dX3_part_64 rfl (lv_at hl 0 rfl) ?_
    refine lv_if_ne (tgt := 96) hx hb dX3_part_65 (by decide) (fun c_132 => (absurd ((nx_eq (show ((0 : Int32)) = nI 0 from rfl) (show ((0 : Int32)) = nI 0 from rfl) (by omega) (by omega)).mpr (by omega)) c_132)) (fun _ => ?_)
    refine lv_iload_n hx hb dX3_part_68 rfl (lv_at hl 1 rfl) ?_
    refine lv_bipush (v := 111) hx hb dX3_part_69 (by decide) ?_
    refine lv_icmp_eq (tgt := 96) hx hb dX3_part_71 (by decide) (fun c_133 => (absurd ((nx_eq (show ((99 : Int32)) = nI 99 from rfl) (show ((111 : Int32)) = nI 111 from rfl) (by omega) (by omega)).mp c_133) (by omega))) (fun _ => ?_)
    refine lv_iload_n hx hb dX3_part_74 rfl (lv_at hl 1 rfl) ?_
    refine lv_bipush (v := 108) hx hb dX3_part_75 (by decide) ?_
    refine lv_icmp_eq (tgt := 96) hx hb dX3_part_77 (by decide) (fun c_134 => (absurd ((nx_eq (show ((99 : Int32)) = nI 99 from rfl) (show ((108 : Int32)) = nI 108 from rfl) (by omega) (by omega)).mp c_134) (by omega))) (fun _ => ?_)
    refine lv_iload_n hx hb dX3_part_80 rfl (lv_at hl 1 rfl) ?_
    refine lv_bipush (v := 99) hx hb dX3_part_81 (by decide) ?_
    refine lv_icmp_eq (tgt := 96) hx hb dX3_part_83 (by decide) (fun _ => ?_) (fun c_135 => (absurd ((nx_eq (show ((99 : Int32)) = nI 99 from rfl) (show ((99 : Int32)) = nI 99 from rfl) (by omega) (by omega)).mpr (by omega)) c_135))
    refine lv_iconst (v := 0) hx hb dX3_part_96 (by decide) ?_
    refine gh_put (v := .int 0) hC hg hT.1.1 fX3_236_0 rfl rfl (Nat.le_of_ble_eq_true rfl) dX3_part_97 (fun g H locs hg hw hn => ?_)
    have hT : tw_W V g0 g o ad (va_up I 6 0) A F := hT.putI 6 0 hw hn
    refine lv_aload_n hx hb dX3_part_100 rfl (lv_at hl 2 rfl) ?_
    refine lv_dup hx hb dX3_part_101 rfl ?_
    refine gh_get (v := .int (I 5)) hC hg hT.1.1 fX3_233_0 rfl dX3_part_102 ?_
    refine lv_aload_n hx hb dX3_part_105 rfl (lv_at hl 2 rfl) ?_
    refine gh_get (v := .int 0) hC hg hT.1.1 fX3_236_0 rfl dX3_part_106 ?_
    refine lv_if_eq (tgt := 116) hx hb dX3_part_109 (by decide) (fun _ => ?_) (fun c_136 => (absurd ((nx_eq (show ((0 : Int32)) = nI 0 from rfl) (show ((0 : Int32)) = nI 0 from rfl) (by omega) (by omega)).mpr (by omega)) c_136))
    refine lv_iconst (v := 1) hx hb dX3_part_116 (by decide) ?_
    refine lv_iadd hx hb dX3_part_117 ?_
    refine gh_put (v := .int ((I 5) + 1)) hC hg hT.1.1 fX3_233_0 rfl rfl (Nat.le_of_ble_eq_true rfl) dX3_part_118 (fun g H locs hg hw hn => ?_)
    have hT : tw_W V g0 g o ad (va_up (va_up I 6 0) 5 ((I 5) + 1)) A F := hT.putI 5 ((I 5) + 1) hw hn
    refine lv_iconst (v := 0) hx hb dX3_part_121 (by decide) ?_
    refine lv_istore (lv' := [(4, .int 0), (3, .int 0), (2, .int 99), (0, .ref o), (1, .int 0)]) hx hb dX3_part_122 hl (by decide) rfl (fun ls hl => ?_)
    refine lv_iconst (v := 0) hx hb dX3_part_124 (by decide) ?_
    refine lv_istore (lv' := [(5, .int 0), (4, .int 0), (3, .int 0), (2, .int 99), (0, .ref o), (1, .int 0)]) hx hb dX3_part_125 hl (by decide) rfl (fun ls hl => ?_)
    refine lv_iload_n hx hb dX3_part_127 rfl (lv_at hl 2 rfl) ?_
    refine lv_if_eq (tgt := 181) hx hb dX3_part_128 (by decide) (fun _ => ?_) (fun c_137 => (absurd ((nx_eq (show ((0 : Int32)) = nI 0 from rfl) (show ((0 : Int32)) = nI 0 from rfl) (by omega) (by omega)).mpr (by omega)) c_137))
    refine lv_iload_n hx hb dX3_part_181 rfl (lv_at hl 3 rfl) ?_
    refine lv_bipush (v := 111) hx hb dX3_part_182 (by decide) ?_
    refine lv_icmp_ne (tgt := 216) hx hb dX3_part_184 (by decide) (fun _ => ?_) (fun c_138 => (absurd ((nx_eq (show ((99 : Int32)) = nI 99 from rfl) (show ((111 : Int32)) = nI 111 from rfl) (by omega) (by omega)).mp c_138) (by omega)))
    refine lv_iload_n hx hb dX3_part_216 rfl (lv_at hl 3 rfl) ?_
    refine lv_bipush (v := 108) hx hb dX3_part_217 (by decide) ?_
    refine lv_icmp_ne (tgt := 234) hx hb dX3_part_219 (by decide) (fun _ => ?_) (fun c_139 => (absurd ((nx_eq (show ((99 : Int32)) = nI 99 from rfl) (show ((108 : Int32)) = nI 108 from rfl) (by omega) (by omega)).mp c_139) (by omega)))
    refine lv_iload_n hx hb dX3_part_234 rfl (lv_at hl 3 rfl) ?_
    refine lv_bipush (v := 99) hx hb dX3_part_235 (by decide) ?_
    refine lv_icmp_ne (tgt := 275) hx hb dX3_part_237 (by decide) (fun c_140 => (absurd ((nx_eq (show ((99 : Int32)) = nI 99 from rfl) (show ((99 : Int32)) = nI 99 from rfl) (by omega) (by omega)).mpr (by omega)) c_140)) (fun _ => ?_)
    refine lv_aload_n hx hb dX3_part_240 rfl (lv_at hl 4 rfl) ?_
    refine lv_bipush (v := 48) hx hb dX3_part_241 (by decide) ?_
    refine lv_bipush (v := 49) hx hb dX3_part_243 (by decide) ?_
    refine gh_calli hg (gh_runV (As := [.int 48, .int 49]) (rest := []) hC hg (t_sign0 l V o ad (va_up (va_up I 6 0) 5 ((I 5) + 1)) A F _ hT.1 48 49 (sp + 1) N (nx_add h5 (show ((1 : Int32)) = nI 1 from rfl)) (show ((0 : Int32)) = nI 0 from rfl) hN hN60 (by omega) (by decide)) 2 (lw_V q4330 q4332 qs99 q138 q4333) hT.1.1 rfl hd_X3_sign ⟨Nat.le_of_ble_eq_true rfl, Nat.le_of_ble_eq_true rfl⟩ rfl hl.1 rfl (Nat.le_of_ble_eq_true rfl) dX3_part_245 ⟨Nat.le_of_ble_eq_true rfl, Nat.le_of_ble_eq_true rfl⟩) (fun r_141 g H locs hg hp => ?_)
    rcases hp with ⟨sg_142, hpr, hpT⟩ | ⟨sg_142, hpT⟩
    · replace hpr : r_141 = (A 4) (sp + 1) := hpr
      subst hpr
      have hT : tw_W V g0 g o ad (va_up (va_up (va_up (va_up I 6 0) 5 ((I 5) + 1)) 6 0) 5 (nI ((sp + 1) + 1))) A F := hT.call hpT
      have sg_142l := sg_142.1
      obtain ⟨h_143a, h_143b, h_143⟩ := okR_cl (show ((48 : Int32)) = nI 48 from rfl) (show ((49 : Int32)) = nI 49 from rfl) (by omega) (by omega) sg_142.2
      refine lv_bipush (v := 48) hx hb dX3_part_248 (by decide) ?_
      refine lv_isub hx hb dX3_part_250 ?_
      refine lv_istore (lv' := [(4, .int (((A 4) (sp + 1)) - 48)), (5, .int 0), (3, .int 0), (2, .int 99), (0, .ref o), (1, .int 0)]) hx hb dX3_part_251 hl (by decide) rfl (fun ls hl => ?_)
      refine lv_aload_n hx hb dX3_part_253 rfl (lv_at hl 4 rfl) ?_
      refine lv_bipush (v := 58) hx hb dX3_part_254 (by decide) ?_
      refine lv_bipush (v := 58) hx hb dX3_part_256 (by decide) ?_
      refine gh_calli hg (gh_runV (As := [.int 58, .int 58]) (rest := []) hC hg (t_sign0 l V o ad (va_up (va_up (va_up (va_up I 6 0) 5 ((I 5) + 1)) 6 0) 5 (nI ((sp + 1) + 1))) A F _ hT.1 58 58 ((sp + 1) + 1) N rfl (show ((0 : Int32)) = nI 0 from rfl) hN hN60 (by omega) (by decide)) 2 (lw_V q4330 q4332 qs99 q138 q4333) hT.1.1 rfl hd_X3_sign ⟨Nat.le_of_ble_eq_true rfl, Nat.le_of_ble_eq_true rfl⟩ rfl hl.1 rfl (Nat.le_of_ble_eq_true rfl) dX3_part_258 ⟨Nat.le_of_ble_eq_true rfl, Nat.le_of_ble_eq_true rfl⟩) (fun r_144 g H locs hg hp => ?_)
      rcases hp with ⟨sg_145, hpr, hpT⟩ | ⟨sg_145, hpT⟩
      · replace hpr : r_144 = (A 4) ((sp + 1) + 1) := hpr
        subst hpr
        have hT : tw_W V g0 g o ad (va_up (va_up (va_up (va_up (va_up (va_up I 6 0) 5 ((I 5) + 1)) 6 0) 5 (nI ((sp + 1) + 1))) 6 0) 5 (nI (((sp + 1) + 1) + 1))) A F := hT.call hpT
        have sg_145l := sg_145.1
        obtain ⟨h_146a, h_146b, h_146⟩ := okR_cl (show ((58 : Int32)) = nI 58 from rfl) (show ((58 : Int32)) = nI 58 from rfl) (by omega) (by omega) sg_145.2
        refine lv_istore (lv' := [(6, .int ((A 4) ((sp + 1) + 1))), (4, .int (((A 4) (sp + 1)) - 48)), (5, .int 0), (3, .int 0), (2, .int 99), (0, .ref o), (1, .int 0)]) hx hb dX3_part_261 hl (by decide) rfl (fun ls hl => ?_)
        refine lv_aload_n hx hb dX3_part_263 rfl (lv_at hl 5 rfl) ?_
        refine lv_iconst (v := 0) hx hb dX3_part_264 (by decide) ?_
        refine lv_bipush (v := 23) hx hb dX3_part_265 (by decide) ?_
        refine gh_calli hg (gh_runV (As := [.int 0, .int 23]) (rest := []) hC hg (t_number23 l V o ad (va_up (va_up (va_up (va_up (va_up (va_up I 6 0) 5 ((I 5) + 1)) 6 0) 5 (nI ((sp + 1) + 1))) 6 0) 5 (nI (((sp + 1) + 1) + 1))) A F _ hT.1 (((sp + 1) + 1) + 1) N rfl (show ((0 : Int32)) = nI 0 from rfl) hN hN60 (by omega)) 2 (lw_V q4334 q4336 qs100 q138 q4337) hT.1.1 rfl hd_X3_number ⟨Nat.le_of_ble_eq_true rfl, Nat.le_of_ble_eq_true rfl⟩ rfl hl.1 rfl (Nat.le_of_ble_eq_true rfl) dX3_part_267 ⟨Nat.le_of_ble_eq_true rfl, Nat.le_of_ble_eq_true rfl⟩) (fun r_147 g H locs hg hp => ?_)
        rcases hp with ⟨sg_148, hpr, hpT⟩ | ⟨sg_148, hpT⟩
        · replace hpr : r_147 = nI (nmV (A 4) N (((sp + 1) + 1) + 1) 23) := hpr
          subst hpr
          have hT : tw_W V g0 g o ad (va_up (va_up (va_up (va_up (va_up (va_up (va_up (va_up I 6 0) 5 ((I 5) + 1)) 6 0) 5 (nI ((sp + 1) + 1))) 6 0) 5 (nI (((sp + 1) + 1) + 1))) 6 0) 5 (nI (nmP (A 4) N (((sp + 1) + 1) + 1) 23))) A F := hT.call hpT
          have sg_148l := nmP_le (b := (A 4)) (M := 23) sg_148.1
          have sg_148m := nmV_le (b := (A 4)) (N := N) (M := 23) sg_148.2 (by omega)
          skip
          refine lv_istore (lv' := [(5, .int (nI (nmV (A 4) N (((sp + 1) + 1) + 1) 23))), (6, .int ((A 4) ((sp + 1) + 1))), (4, .int (((A 4) (sp + 1)) - 48)), (3, .int 0), (2, .int 99), (0, .ref o), (1, .int 0)]) hx hb dX3_part_270 hl (by decide) rfl (fun ls hl => ?_)
          refine lv_goto (tgt := 284) hx hb dX3_part_272 (by decide) ?_
          refine lv_iload_n hx hb dX3_part_284 rfl (lv_at hl 6 rfl) ?_
          refine lv_if_eq (tgt := 300) hx hb dX3_part_285 (by decide) (fun _ => ?_) (fun c_149 => (absurd ((nx_eq (show ((0 : Int32)) = nI 0 from rfl) (show ((0 : Int32)) = nI 0 from rfl) (by omega) (by omega)).mpr (by omega)) c_149))
          refine lv_iconst (v := 1) hx hb dX3_part_300 (by decide) ?_
          refine lv_goto (tgt := 305) hx hb dX3_part_301 (by decide) ?_
          have e9 : ptE (A 4) N sp = (true, _) := (by unfold ptE; rw [if_neg (not_not_intro hlt), if_neg (by rw [hc]; decide), if_neg (by rw [hc]; decide), if_neg (by rw [hc]; decide), if_neg (by rw [hc]; decide), if_neg (by rw [hc]; decide), if_pos hc]; unfold cP; rw [if_pos sg_142, if_pos sg_145]; unfold nuP; rw [if_pos sg_148])
          exact gh_retz rfl hC hg hr hlk (⟨rfl, hT.eqI (by rw [e9]; exact (fam7 rfl rfl rfl rfl rfl rfl rfl (fun _ => rfl)))⟩) dX3_part_305 (Nat.le_of_ble_eq_true rfl) (Nat.le_of_ble_eq_true rfl)
        have hT : tw_W V g0 g o ad (va_up (va_up (va_up (va_up (va_up (va_up (va_up (va_up I 6 0) 5 ((I 5) + 1)) 6 0) 5 (nI ((sp + 1) + 1))) 6 0) 5 (nI (((sp + 1) + 1) + 1))) 6 1) 5 (nI (((sp + 1) + 1) + 1))) A F := hT.call hpT
        refine lv_istore (lv' := [(5, .int r_147), (6, .int ((A 4) ((sp + 1) + 1))), (4, .int (((A 4) (sp + 1)) - 48)), (3, .int 0), (2, .int 99), (0, .ref o), (1, .int 0)]) hx hb dX3_part_270 hl (by decide) rfl (fun ls hl => ?_)
        refine lv_goto (tgt := 284) hx hb dX3_part_272 (by decide) ?_
        refine lv_iload_n hx hb dX3_part_284 rfl (lv_at hl 6 rfl) ?_
        refine lv_if_eq (tgt := 300) hx hb dX3_part_285 (by decide) (fun _ => ?_) (fun c_150 => (absurd ((nx_eq (show ((0 : Int32)) = nI 0 from rfl) (show ((0 : Int32)) = nI 0 from rfl) (by omega) (by omega)).mpr (by omega)) c_150))
        refine lv_iconst (v := 1) hx hb dX3_part_300 (by decide) ?_
        refine lv_goto (tgt := 305) hx hb dX3_part_301 (by decide) ?_
        have e9 : ptE (A 4) N sp = (false, _) := (by unfold ptE; rw [if_neg (not_not_intro hlt), if_neg (by rw [hc]; decide), if_neg (by rw [hc]; decide), if_neg (by rw [hc]; decide), if_neg (by rw [hc]; decide), if_neg (by rw [hc]; decide), if_pos hc]; unfold cP; rw [if_pos sg_142, if_pos sg_145]; unfold nuP; rw [if_neg sg_148])
        exact gh_retz rfl hC hg hr hlk (⟨rfl, hT.eqI (by rw [e9]; exact (fam7 rfl rfl rfl rfl rfl rfl rfl (fun _ => rfl)))⟩) dX3_part_305 (Nat.le_of_ble_eq_true rfl) (Nat.le_of_ble_eq_true rfl)
      have hT : tw_W V g0 g o ad (va_up (va_up (va_up (va_up (va_up (va_up I 6 0) 5 ((I 5) + 1)) 6 0) 5 (nI ((sp + 1) + 1))) 6 1) 5 (nI ((sp + 1) + 1))) A F := hT.call hpT
      refine lv_istore (lv' := [(6, .int r_144), (4, .int (((A 4) (sp + 1)) - 48)), (5, .int 0), (3, .int 0), (2, .int 99), (0, .ref o), (1, .int 0)]) hx hb dX3_part_261 hl (by decide) rfl (fun ls hl => ?_)
      refine lv_aload_n hx hb dX3_part_263 rfl (lv_at hl 5 rfl) ?_
      refine lv_iconst (v := 0) hx hb dX3_part_264 (by decide) ?_
      refine lv_bipush (v := 23) hx hb dX3_part_265 (by decide) ?_
      refine gh_calli hg (gh_runV (As := [.int 0, .int 23]) (rest := []) hC hg (t_numberW l V o ad (va_up (va_up (va_up (va_up (va_up (va_up I 6 0) 5 ((I 5) + 1)) 6 0) 5 (nI ((sp + 1) + 1))) 6 1) 5 (nI ((sp + 1) + 1))) A F _ hT.1 0 23 ((sp + 1) + 1) N rfl (show ((1 : Int32)) = nI 1 from rfl) hN hN60 (by omega)) 2 (lw_V q4334 q4336 qs100 q138 q4337) hT.1.1 rfl hd_X3_number ⟨Nat.le_of_ble_eq_true rfl, Nat.le_of_ble_eq_true rfl⟩ rfl hl.1 rfl (Nat.le_of_ble_eq_true rfl) dX3_part_267 ⟨Nat.le_of_ble_eq_true rfl, Nat.le_of_ble_eq_true rfl⟩) (fun r_151 g H locs hg hp => ?_)
      have hT : tw_W V g0 g o ad (va_up (va_up (va_up (va_up (va_up (va_up (va_up (va_up I 6 0) 5 ((I 5) + 1)) 6 0) 5 (nI ((sp + 1) + 1))) 6 1) 5 (nI ((sp + 1) + 1))) 6 1) 5 (nI ((sp + 1) + 1))) A F := hT.call hp
      refine lv_istore (lv' := [(5, .int r_151), (6, .int r_144), (4, .int (((A 4) (sp + 1)) - 48)), (3, .int 0), (2, .int 99), (0, .ref o), (1, .int 0)]) hx hb dX3_part_270 hl (by decide) rfl (fun ls hl => ?_)
      refine lv_goto (tgt := 284) hx hb dX3_part_272 (by decide) ?_
      refine lv_iload_n hx hb dX3_part_284 rfl (lv_at hl 6 rfl) ?_
      refine lv_if_eq (tgt := 300) hx hb dX3_part_285 (by decide) (fun _ => ?_) (fun c_152 => (absurd ((nx_eq (show ((0 : Int32)) = nI 0 from rfl) (show ((0 : Int32)) = nI 0 from rfl) (by omega) (by omega)).mpr (by omega)) c_152))
      refine lv_iconst (v := 1) hx hb dX3_part_300 (by decide) ?_
      refine lv_goto (tgt := 305) hx hb dX3_part_301 (by decide) ?_
      have e9 : ptE (A 4) N sp = (false, _) := (by unfold ptE; rw [if_neg (not_not_intro hlt), if_neg (by rw [hc]; decide), if_neg (by rw [hc]; decide), if_neg (by rw [hc]; decide), if_neg (by rw [hc]; decide), if_neg (by rw [hc]; decide), if_pos hc]; unfold cP; rw [if_pos sg_142, if_neg sg_145])
      exact gh_retz rfl hC hg hr hlk (⟨rfl, hT.eqI (by rw [e9]; exact (fam7 rfl rfl rfl rfl rfl rfl rfl (fun _ => rfl)))⟩) dX3_part_305 (Nat.le_of_ble_eq_true rfl) (Nat.le_of_ble_eq_true rfl)
    have hT : tw_W V g0 g o ad (va_up (va_up (va_up (va_up I 6 0) 5 ((I 5) + 1)) 6 1) 5 (nI (sp + 1))) A F := hT.call hpT
    refine lv_bipush (v := 48) hx hb dX3_part_248 (by decide) ?_
    refine lv_isub hx hb dX3_part_250 ?_
    refine lv_istore (lv' := [(4, .int (r_141 - 48)), (5, .int 0), (3, .int 0), (2, .int 99), (0, .ref o), (1, .int 0)]) hx hb dX3_part_251 hl (by decide) rfl (fun ls hl => ?_)
    refine lv_aload_n hx hb dX3_part_253 rfl (lv_at hl 4 rfl) ?_
    refine lv_bipush (v := 58) hx hb dX3_part_254 (by decide) ?_
    refine lv_bipush (v := 58) hx hb dX3_part_256 (by decide) ?_
    refine gh_calli hg (gh_runV (As := [.int 58, .int 58]) (rest := []) hC hg (t_signW l V o ad (va_up (va_up (va_up (va_up I 6 0) 5 ((I 5) + 1)) 6 1) 5 (nI (sp + 1))) A F _ hT.1 58 58 (sp + 1) N rfl (show ((1 : Int32)) = nI 1 from rfl) hN hN60 (by omega)) 2 (lw_V q4330 q4332 qs99 q138 q4333) hT.1.1 rfl hd_X3_sign ⟨Nat.le_of_ble_eq_true rfl, Nat.le_of_ble_eq_true rfl⟩ rfl hl.1 rfl (Nat.le_of_ble_eq_true rfl) dX3_part_258 ⟨Nat.le_of_ble_eq_true rfl, Nat.le_of_ble_eq_true rfl⟩) (fun r_153 g H locs hg hp => ?_)
    obtain ⟨hp0, hpT⟩ := hp
    replace hp0 : r_153 = 0 := hp0
    subst hp0
    have hT : tw_W V g0 g o ad (va_up (va_up (va_up (va_up (va_up (va_up I 6 0) 5 ((I 5) + 1)) 6 1) 5 (nI (sp + 1))) 6 1) 5 (nI (sp + 1))) A F := hT.call hpT
    refine lv_istore (lv' := [(6, .int 0), (4, .int (r_141 - 48)), (5, .int 0), (3, .int 0), (2, .int 99), (0, .ref o), (1, .int 0)]) hx hb dX3_part_261 hl (by decide) rfl (fun ls hl => ?_)
    refine lv_aload_n hx hb dX3_part_263 rfl (lv_at hl 5 rfl) ?_
    refine lv_iconst (v := 0) hx hb dX3_part_264 (by decide) ?_
    refine lv_bipush (v := 23) hx hb dX3_part_265 (by decide) ?_
    refine gh_calli hg (gh_runV (As := [.int 0, .int 23]) (rest := []) hC hg (t_numberW l V o ad (va_up (va_up (va_up (va_up (va_up (va_up I 6 0) 5 ((I 5) + 1)) 6 1) 5 (nI (sp + 1))) 6 1) 5 (nI (sp + 1))) A F _ hT.1 0 23 (sp + 1) N rfl (show ((1 : Int32)) = nI 1 from rfl) hN hN60 (by omega)) 2 (lw_V q4334 q4336 qs100 q138 q4337) hT.1.1 rfl hd_X3_number ⟨Nat.le_of_ble_eq_true rfl, Nat.le_of_ble_eq_true rfl⟩ rfl hl.1 rfl (Nat.le_of_ble_eq_true rfl) dX3_part_267 ⟨Nat.le_of_ble_eq_true rfl, Nat.le_of_ble_eq_true rfl⟩) (fun r_154 g H locs hg hp => ?_)
    have hT : tw_W V g0 g o ad (va_up (va_up (va_up (va_up (va_up (va_up (va_up (va_up I 6 0) 5 ((I 5) + 1)) 6 1) 5 (nI (sp + 1))) 6 1) 5 (nI (sp + 1))) 6 1) 5 (nI (sp + 1))) A F := hT.call hp
    refine lv_istore (lv' := [(5, .int r_154), (6, .int 0), (4, .int (r_141 - 48)), (3, .int 0), (2, .int 99), (0, .ref o), (1, .int 0)]) hx hb dX3_part_270 hl (by decide) rfl (fun ls hl => ?_)
    refine lv_goto (tgt := 284) hx hb dX3_part_272 (by decide) ?_
    refine lv_iload_n hx hb dX3_part_284 rfl (lv_at hl 6 rfl) ?_
    refine lv_if_eq (tgt := 300) hx hb dX3_part_285 (by decide) (fun _ => ?_) (fun c_155 => (absurd ((nx_eq (show ((0 : Int32)) = nI 0 from rfl) (show ((0 : Int32)) = nI 0 from rfl) (by omega) (by omega)).mpr (by omega)) c_155))
    refine lv_iconst (v := 1) hx hb dX3_part_300 (by decide) ?_
    refine lv_goto (tgt := 305) hx hb dX3_part_301 (by decide) ?_
    have e9 : ptE (A 4) N sp = (false, _) := (by unfold ptE; rw [if_neg (not_not_intro hlt), if_neg (by rw [hc]; decide), if_neg (by rw [hc]; decide), if_neg (by rw [hc]; decide), if_neg (by rw [hc]; decide), if_neg (by rw [hc]; decide), if_pos hc]; unfold cP; rw [if_neg sg_142])
    exact gh_retz rfl hC hg hr hlk (⟨rfl, hT.eqI (by rw [e9]; exact (fam7 rfl rfl rfl rfl rfl rfl rfl (fun _ => rfl)))⟩) dX3_part_305 (Nat.le_of_ble_eq_true rfl) (Nat.le_of_ble_eq_true rfl)
  by_cases hc109 : A 4 sp = 109
  · have hc := hc109
    rw [hc] at hl
    refine lv_iload_n hx hb dX3_part_32 rfl (lv_at hl 0 rfl) ?_
    refine lv_bipush (v := 98) hx hb dX3_part_33 (by decide) ?_
    refine lv_icmp_eq (tgt := 50) hx hb dX3_part_35 (by decide) (fun c_156 => (absurd ((nx_eq (show ((109 : Int32)) = nI 109 from rfl) (show ((98 : Int32)) = nI 98 from rfl) (by omega) (by omega)).mp c_156) (by omega))) (fun _ => ?_)
    refine lv_iload_n hx hb dX3_part_38 rfl (lv_at hl 0 rfl) ?_
    refine lv_bipush (v := 102) hx hb dX3_part_39 (by decide) ?_
    refine lv_icmp_eq (tgt := 50) hx hb dX3_part_41 (by decide) (fun c_157 => (absurd ((nx_eq (show ((109 : Int32)) = nI 109 from rfl) (show ((102 : Int32)) = nI 102 from rfl) (by omega) (by omega)).mp c_157) (by omega))) (fun _ => ?_)
    refine lv_iload_n hx hb dX3_part_44 rfl (lv_at hl 0 rfl) ?_
    refine lv_bipush (v := 114) hx hb dX3_part_45 (by decide) ?_
    refine lv_icmp_ne (tgt := 54) hx hb dX3_part_47 (by decide) (fun _ => ?_) (fun c_158 => (absurd ((nx_eq (show ((109 : Int32)) = nI 109 from rfl) (show ((114 : Int32)) = nI 114 from rfl) (by omega) (by omega)).mp c_158) (by omega)))
    refine lv_iconst (v := 0) hx hb dX3_part_54 (by decide) ?_
    refine lv_istore_n (lv' := [(3, .int 0), (2, .int 109), (0, .ref o), (1, .int 0)]) hx hb dX3_part_55 rfl hl (by decide) rfl (fun ls hl => ?_)
    refine lv_aload_n hx hb dX3_part_56 rfl (lv_at hl 2 rfl) ?_
    refine lv_aload_n hx hb dX3_part_57 rfl (lv_at hl 2 rfl) ?_
    refine gh_get (v := .int (I 6)) hC hg hT.1.1 fX3_236_0 rfl dX3_part_58 ?_
    refine lv_if_ne (tgt := 92) hx hb dX3_part_61 (by decide) (fun c_159 => (absurd ((nx_eq (h6.trans (show ((0 : Int32)) = nI 0 from rfl)) (show ((0 : Int32)) = nI 0 from rfl) (by omega) (by omega)).mpr (by omega)) c_159)) (fun _ => ?_)
    refine lv_iload_n hx hb dX3_part_64 rfl (lv_at hl 0 rfl) ?_
    refine lv_if_ne (tgt := 96) hx hb dX3_part_65 (by decide) (fun c_160 => (absurd ((nx_eq (show ((0 : Int32)) = nI 0 from rfl) (show ((0 : Int32)) = nI 0 from rfl) (by omega) (by omega)).mpr (by omega)) c_160)) (fun _ => ?_)
    refine lv_iload_n hx hb dX3_part_68 rfl (lv_at hl 1 rfl) ?_
    refine lv_bipush (v := 111) hx hb dX3_part_69 (by decide) ?_
    refine lv_icmp_eq (tgt := 96) hx hb dX3_part_71 (by decide) (fun c_161 => (absurd ((nx_eq (show ((109 : Int32)) = nI 109 from rfl) (show ((111 : Int32)) = nI 111 from rfl) (by omega) (by omega)).mp c_161) (by omega))) (fun _ => ?_)
    refine lv_iload_n hx hb dX3_part_74 rfl (lv_at hl 1 rfl) ?_
    refine lv_bipush (v := 108) hx hb dX3_part_75 (by decide) ?_
    refine lv_icmp_eq (tgt := 96) hx hb dX3_part_77 (by decide) (fun c_162 => (absurd ((nx_eq (show ((109 : Int32)) = nI 109 from rfl) (show ((108 : Int32)) = nI 108 from rfl) (by omega) (by omega)).mp c_162) (by omega))) (fun _ => ?_)
    refine lv_iload_n hx hb dX3_part_80 rfl (lv_at hl 1 rfl) ?_
    refine lv_bipush (v := 99) hx hb dX3_part_81 (by decide) ?_
    refine lv_icmp_eq (tgt := 96) hx hb dX3_part_83 (by decide) (fun c_163 => (absurd ((nx_eq (show ((109 : Int32)) = nI 109 from rfl) (show ((99 : Int32)) = nI 99 from rfl) (by omega) (by omega)).mp c_163) (by omega))) (fun _ => ?_)
    refine lv_iload_n hx hb dX3_part_86 rfl (lv_at hl 1 rfl) ?_
    refine lv_bipush (v := 109) hx hb dX3_part_87 (by decide) ?_
    refine lv_icmp_eq (tgt := 96) hx hb dX3_part_89 (by decide) (fun _ => ?_) (fun c_164 => (absurd ((nx_eq (show ((109 : Int32)) = nI 109 from rfl) (show ((109 : Int32)) = nI 109 from rfl) (by omega) (by omega)).mpr (by omega)) c_164))
    refine lv_iconst (v := 0) hx hb dX3_part_96 (by decide) ?_
    refine gh_put (v := .int 0) hC hg hT.1.1 fX3_236_0 rfl rfl (Nat.le_of_ble_eq_true rfl) dX3_part_97 (fun g H locs hg hw hn => ?_)
    have hT : tw_W V g0 g o ad (va_up I 6 0) A F := hT.putI 6 0 hw hn
    refine lv_aload_n hx hb dX3_part_100 rfl (lv_at hl 2 rfl) ?_
    refine lv_dup hx hb dX3_part_101 rfl ?_
    refine gh_get (v := .int (I 5)) hC hg hT.1.1 fX3_233_0 rfl dX3_part_102 ?_
    refine lv_aload_n hx hb dX3_part_105 rfl (lv_at hl 2 rfl) ?_
    refine gh_get (v := .int 0) hC hg hT.1.1 fX3_236_0 rfl dX3_part_106 ?_
    refine lv_if_eq (tgt := 116) hx hb dX3_part_109 (by decide) (fun _ => ?_) (fun c_165 => (absurd ((nx_eq (show ((0 : Int32)) = nI 0 from rfl) (show ((0 : Int32)) = nI 0 from rfl) (by omega) (by omega)).mpr (by omega)) c_165))
    refine lv_iconst (v := 1) hx hb dX3_part_116 (by decide) ?_
    refine lv_iadd hx hb dX3_part_117 ?_
    refine gh_put (v := .int ((I 5) + 1)) hC hg hT.1.1 fX3_233_0 rfl rfl (Nat.le_of_ble_eq_true rfl) dX3_part_118 (fun g H locs hg hw hn => ?_)
    have hT : tw_W V g0 g o ad (va_up (va_up I 6 0) 5 ((I 5) + 1)) A F := hT.putI 5 ((I 5) + 1) hw hn
    refine lv_iconst (v := 0) hx hb dX3_part_121 (by decide) ?_
    refine lv_istore (lv' := [(4, .int 0), (3, .int 0), (2, .int 109), (0, .ref o), (1, .int 0)]) hx hb dX3_part_122 hl (by decide) rfl (fun ls hl => ?_)
    refine lv_iconst (v := 0) hx hb dX3_part_124 (by decide) ?_
    refine lv_istore (lv' := [(5, .int 0), (4, .int 0), (3, .int 0), (2, .int 109), (0, .ref o), (1, .int 0)]) hx hb dX3_part_125 hl (by decide) rfl (fun ls hl => ?_)
    refine lv_iload_n hx hb dX3_part_127 rfl (lv_at hl 2 rfl) ?_
    refine lv_if_eq (tgt := 181) hx hb dX3_part_128 (by decide) (fun _ => ?_) (fun c_166 => (absurd ((nx_eq (show ((0 : Int32)) = nI 0 from rfl) (show ((0 : Int32)) = nI 0 from rfl) (by omega) (by omega)).mpr (by omega)) c_166))
    refine lv_iload_n hx hb dX3_part_181 rfl (lv_at hl 3 rfl) ?_
    refine lv_bipush (v := 111) hx hb dX3_part_182 (by decide) ?_
    refine lv_icmp_ne (tgt := 216) hx hb dX3_part_184 (by decide) (fun _ => ?_) (fun c_167 => (absurd ((nx_eq (show ((109 : Int32)) = nI 109 from rfl) (show ((111 : Int32)) = nI 111 from rfl) (by omega) (by omega)).mp c_167) (by omega)))
    refine lv_iload_n hx hb dX3_part_216 rfl (lv_at hl 3 rfl) ?_
    refine lv_bipush (v := 108) hx hb dX3_part_217 (by decide) ?_
    refine lv_icmp_ne (tgt := 234) hx hb dX3_part_219 (by decide) (fun _ => ?_) (fun c_168 => (absurd ((nx_eq (show ((109 : Int32)) = nI 109 from rfl) (show ((108 : Int32)) = nI 108 from rfl) (by omega) (by omega)).mp c_168) (by omega)))
    refine lv_iload_n hx hb dX3_part_234 rfl (lv_at hl 3 rfl) ?_
    refine lv_bipush (v := 99) hx hb dX3_part_235 (by decide) ?_
    refine lv_icmp_ne (tgt := 275) hx hb dX3_part_237 (by decide) (fun _ => ?_) (fun c_169 => (absurd ((nx_eq (show ((109 : Int32)) = nI 109 from rfl) (show ((99 : Int32)) = nI 99 from rfl) (by omega) (by omega)).mp c_169) (by omega)))
    refine lv_aload_n hx hb dX3_part_275 rfl (lv_at hl 4 rfl) ?_
    refine lv_iconst (v := 1) hx hb dX3_part_276 (by decide) ?_
    refine lv_bipush (v := 60) hx hb dX3_part_277 (by decide) ?_
    refine gh_calli hg (gh_runV (As := [.int 1, .int 60]) (rest := []) hC hg (t_number60 l V o ad (va_up (va_up I 6 0) 5 ((I 5) + 1)) A F _ hT.1 (sp + 1) N (nx_add h5 (show ((1 : Int32)) = nI 1 from rfl)) (show ((0 : Int32)) = nI 0 from rfl) hN hN60 (by omega)) 2 (lw_V q4334 q4336 qs100 q138 q4337) hT.1.1 rfl hd_X3_number ⟨Nat.le_of_ble_eq_true rfl, Nat.le_of_ble_eq_true rfl⟩ rfl hl.1 rfl (Nat.le_of_ble_eq_true rfl) dX3_part_279 ⟨Nat.le_of_ble_eq_true rfl, Nat.le_of_ble_eq_true rfl⟩) (fun r_170 g H locs hg hp => ?_)
    rcases hp with ⟨sg_171, hpr, hpT⟩ | ⟨sg_171, hpT⟩
    · replace hpr : r_170 = nI (nmV (A 4) N (sp + 1) 60) := hpr
      subst hpr
      have hT : tw_W V g0 g o ad (va_up (va_up (va_up (va_up I 6 0) 5 ((I 5) + 1)) 6 0) 5 (nI (nmP (A 4) N (sp + 1) 60))) A F := hT.call hpT
      have sg_171l := nmP_le (b := (A 4)) (M := 60) sg_171.1
      have sg_171m := nmV_le (b := (A 4)) (N := N) (M := 60) (okR_49 sg_171.2) (by omega)
      skip
      have sg_171n := nmV_ge (b := (A 4)) (N := N) (M := 60) sg_171.2
      refine lv_istore (lv' := [(4, .int (nI (nmV (A 4) N (sp + 1) 60))), (5, .int 0), (3, .int 0), (2, .int 109), (0, .ref o), (1, .int 0)]) hx hb dX3_part_282 hl (by decide) rfl (fun ls hl => ?_)
      refine lv_iload_n hx hb dX3_part_284 rfl (lv_at hl 5 rfl) ?_
      refine lv_if_eq (tgt := 300) hx hb dX3_part_285 (by decide) (fun _ => ?_) (fun c_172 => (absurd ((nx_eq (show ((0 : Int32)) = nI 0 from rfl) (show ((0 : Int32)) = nI 0 from rfl) (by omega) (by omega)).mpr (by omega)) c_172))
      refine lv_iconst (v := 1) hx hb dX3_part_300 (by decide) ?_
      refine lv_goto (tgt := 305) hx hb dX3_part_301 (by decide) ?_
      have e9 : ptE (A 4) N sp = (true, _) := (by unfold ptE; rw [if_neg (not_not_intro hlt), if_neg (by rw [hc]; decide), if_neg (by rw [hc]; decide), if_neg (by rw [hc]; decide), if_neg (by rw [hc]; decide), if_neg (by rw [hc]; decide), if_neg (by rw [hc]; decide), if_pos hc]; unfold nuP; rw [if_pos sg_171])
      exact gh_retz rfl hC hg hr hlk (⟨rfl, hT.eqI (by rw [e9]; exact (fam7 rfl rfl rfl rfl rfl rfl rfl (fun _ => rfl)))⟩) dX3_part_305 (Nat.le_of_ble_eq_true rfl) (Nat.le_of_ble_eq_true rfl)
    have hT : tw_W V g0 g o ad (va_up (va_up (va_up (va_up I 6 0) 5 ((I 5) + 1)) 6 1) 5 (nI (sp + 1))) A F := hT.call hpT
    refine lv_istore (lv' := [(4, .int r_170), (5, .int 0), (3, .int 0), (2, .int 109), (0, .ref o), (1, .int 0)]) hx hb dX3_part_282 hl (by decide) rfl (fun ls hl => ?_)
    refine lv_iload_n hx hb dX3_part_284 rfl (lv_at hl 5 rfl) ?_
    refine lv_if_eq (tgt := 300) hx hb dX3_part_285 (by decide) (fun _ => ?_) (fun c_173 => (absurd ((nx_eq (show ((0 : Int32)) = nI 0 from rfl) (show ((0 : Int32)) = nI 0 from rfl) (by omega) (by omega)).mpr (by omega)) c_173))
    refine lv_iconst (v := 1) hx hb dX3_part_300 (by decide) ?_
    refine lv_goto (tgt := 305) hx hb dX3_part_301 (by decide) ?_
    have e9 : ptE (A 4) N sp = (false, _) := (by unfold ptE; rw [if_neg (not_not_intro hlt), if_neg (by rw [hc]; decide), if_neg (by rw [hc]; decide), if_neg (by rw [hc]; decide), if_neg (by rw [hc]; decide), if_neg (by rw [hc]; decide), if_neg (by rw [hc]; decide), if_pos hc]; unfold nuP; rw [if_neg sg_171])
    exact gh_retz rfl hC hg hr hlk (⟨rfl, hT.eqI (by rw [e9]; exact (fam7 rfl rfl rfl rfl rfl rfl rfl (fun _ => rfl)))⟩) dX3_part_305 (Nat.le_of_ble_eq_true rfl) (Nat.le_of_ble_eq_true rfl)
  refine lv_iload_n hx hb dX3_part_32 rfl (lv_at hl 0 rfl) ?_
  refine lv_bipush (v := 98) hx hb dX3_part_33 (by decide) ?_
  refine lv_icmp_eq (tgt := 50) hx hb dX3_part_35 (by decide) (fun c_174 => (absurd c_174 hc98)) (fun _ => ?_)
  refine lv_iload_n hx hb dX3_part_38 rfl (lv_at hl 0 rfl) ?_
  refine lv_bipush (v := 102) hx hb dX3_part_39 (by decide) ?_
  refine lv_icmp_eq (tgt := 50) hx hb dX3_part_41 (by decide) (fun c_175 => (absurd c_175 hc102)) (fun _ => ?_)
  refine lv_iload_n hx hb dX3_part_44 rfl (lv_at hl 0 rfl) ?_
  refine lv_bipush (v := 114) hx hb dX3_part_45 (by decide) ?_
  refine lv_icmp_ne (tgt := 54) hx hb dX3_part_47 (by decide) (fun _ => ?_) (fun c_176 => (absurd c_176 hc114))
  refine lv_iconst (v := 0) hx hb dX3_part_54 (by decide) ?_
  refine lv_istore_n (lv' := [(3, .int 0), (2, .int ((A 4) sp)), (0, .ref o), (1, .int 0)]) hx hb dX3_part_55 rfl hl (by decide) rfl (fun ls hl => ?_)
  refine lv_aload_n hx hb dX3_part_56 rfl (lv_at hl 2 rfl) ?_
  refine lv_aload_n hx hb dX3_part_57 rfl (lv_at hl 2 rfl) ?_
  refine gh_get (v := .int (I 6)) hC hg hT.1.1 fX3_236_0 rfl dX3_part_58 ?_
  refine lv_if_ne (tgt := 92) hx hb dX3_part_61 (by decide) (fun c_177 => (absurd ((nx_eq (h6.trans (show ((0 : Int32)) = nI 0 from rfl)) (show ((0 : Int32)) = nI 0 from rfl) (by omega) (by omega)).mpr (by omega)) c_177)) (fun _ => ?_)
  refine lv_iload_n hx hb dX3_part_64 rfl (lv_at hl 0 rfl) ?_
  refine lv_if_ne (tgt := 96) hx hb dX3_part_65 (by decide) (fun c_178 => (absurd ((nx_eq (show ((0 : Int32)) = nI 0 from rfl) (show ((0 : Int32)) = nI 0 from rfl) (by omega) (by omega)).mpr (by omega)) c_178)) (fun _ => ?_)
  refine lv_iload_n hx hb dX3_part_68 rfl (lv_at hl 1 rfl) ?_
  refine lv_bipush (v := 111) hx hb dX3_part_69 (by decide) ?_
  refine lv_icmp_eq (tgt := 96) hx hb dX3_part_71 (by decide) (fun c_179 => (absurd c_179 hc111)) (fun _ => ?_)
  refine lv_iload_n hx hb dX3_part_74 rfl (lv_at hl 1 rfl) ?_
  refine lv_bipush (v := 108) hx hb dX3_part_75 (by decide) ?_
  refine lv_icmp_eq (tgt := 96) hx hb dX3_part_77 (by decide) (fun c_180 => (absurd c_180 hc108)) (fun _ => ?_)
  refine lv_iload_n hx hb dX3_part_80 rfl (lv_at hl 1 rfl) ?_
  refine lv_bipush (v := 99) hx hb dX3_part_81 (by decide) ?_
  refine lv_icmp_eq (tgt := 96) hx hb dX3_part_83 (by decide) (fun c_181 => (absurd c_181 hc99)) (fun _ => ?_)
  refine lv_iload_n hx hb dX3_part_86 rfl (lv_at hl 1 rfl) ?_
  refine lv_bipush (v := 109) hx hb dX3_part_87 (by decide) ?_
  refine lv_icmp_eq (tgt := 96) hx hb dX3_part_89 (by decide) (fun c_182 => (absurd c_182 hc109)) (fun _ => ?_)
  refine lv_iconst (v := 1) hx hb dX3_part_92 (by decide) ?_
  refine lv_goto (tgt := 97) hx hb dX3_part_93 (by decide) ?_
  refine gh_put (v := .int 1) hC hg hT.1.1 fX3_236_0 rfl rfl (Nat.le_of_ble_eq_true rfl) dX3_part_97 (fun g H locs hg hw hn => ?_)
  have hT : tw_W V g0 g o ad (va_up I 6 1) A F := hT.putI 6 1 hw hn
  refine lv_aload_n hx hb dX3_part_100 rfl (lv_at hl 2 rfl) ?_
  refine lv_dup hx hb dX3_part_101 rfl ?_
  refine gh_get (v := .int (I 5)) hC hg hT.1.1 fX3_233_0 rfl dX3_part_102 ?_
  refine lv_aload_n hx hb dX3_part_105 rfl (lv_at hl 2 rfl) ?_
  refine gh_get (v := .int 1) hC hg hT.1.1 fX3_236_0 rfl dX3_part_106 ?_
  refine lv_if_eq (tgt := 116) hx hb dX3_part_109 (by decide) (fun c_183 => (absurd ((nx_eq (show ((1 : Int32)) = nI 1 from rfl) (show ((0 : Int32)) = nI 0 from rfl) (by omega) (by omega)).mp c_183) (by omega))) (fun _ => ?_)
  refine lv_iconst (v := 0) hx hb dX3_part_112 (by decide) ?_
  refine lv_goto (tgt := 117) hx hb dX3_part_113 (by decide) ?_
  refine lv_iadd hx hb dX3_part_117 ?_
  refine gh_put (v := .int ((I 5) + 0)) hC hg hT.1.1 fX3_233_0 rfl rfl (Nat.le_of_ble_eq_true rfl) dX3_part_118 (fun g H locs hg hw hn => ?_)
  have hT : tw_W V g0 g o ad (va_up (va_up I 6 1) 5 ((I 5) + 0)) A F := hT.putI 5 ((I 5) + 0) hw hn
  refine lv_iconst (v := 0) hx hb dX3_part_121 (by decide) ?_
  refine lv_istore (lv' := [(4, .int 0), (3, .int 0), (2, .int ((A 4) sp)), (0, .ref o), (1, .int 0)]) hx hb dX3_part_122 hl (by decide) rfl (fun ls hl => ?_)
  refine lv_iconst (v := 0) hx hb dX3_part_124 (by decide) ?_
  refine lv_istore (lv' := [(5, .int 0), (4, .int 0), (3, .int 0), (2, .int ((A 4) sp)), (0, .ref o), (1, .int 0)]) hx hb dX3_part_125 hl (by decide) rfl (fun ls hl => ?_)
  refine lv_iload_n hx hb dX3_part_127 rfl (lv_at hl 2 rfl) ?_
  refine lv_if_eq (tgt := 181) hx hb dX3_part_128 (by decide) (fun _ => ?_) (fun c_184 => (absurd ((nx_eq (show ((0 : Int32)) = nI 0 from rfl) (show ((0 : Int32)) = nI 0 from rfl) (by omega) (by omega)).mpr (by omega)) c_184))
  refine lv_iload_n hx hb dX3_part_181 rfl (lv_at hl 3 rfl) ?_
  refine lv_bipush (v := 111) hx hb dX3_part_182 (by decide) ?_
  refine lv_icmp_ne (tgt := 216) hx hb dX3_part_184 (by decide) (fun _ => ?_) (fun c_185 => (absurd c_185 hc111))
  refine lv_iload_n hx hb dX3_part_216 rfl (lv_at hl 3 rfl) ?_
  refine lv_bipush (v := 108) hx hb dX3_part_217 (by decide) ?_
  refine lv_icmp_ne (tgt := 234) hx hb dX3_part_219 (by decide) (fun _ => ?_) (fun c_186 => (absurd c_186 hc108))
  refine lv_iload_n hx hb dX3_part_234 rfl (lv_at hl 3 rfl) ?_
  refine lv_bipush (v := 99) hx hb dX3_part_235 (by decide) ?_
  refine lv_icmp_ne (tgt := 275) hx hb dX3_part_237 (by decide) (fun _ => ?_) (fun c_187 => (absurd c_187 hc99))
  refine lv_aload_n hx hb dX3_part_275 rfl (lv_at hl 4 rfl) ?_
  refine lv_iconst (v := 1) hx hb dX3_part_276 (by decide) ?_
  refine lv_bipush (v := 60) hx hb dX3_part_277 (by decide) ?_
  refine gh_calli hg (gh_runV (As := [.int 1, .int 60]) (rest := []) hC hg (t_numberW l V o ad (va_up (va_up I 6 1) 5 ((I 5) + 0)) A F _ hT.1 1 60 (sp + 0) N (nx_add h5 (show ((0 : Int32)) = nI 0 from rfl)) (show ((1 : Int32)) = nI 1 from rfl) hN hN60 (by omega)) 2 (lw_V q4334 q4336 qs100 q138 q4337) hT.1.1 rfl hd_X3_number ⟨Nat.le_of_ble_eq_true rfl, Nat.le_of_ble_eq_true rfl⟩ rfl hl.1 rfl (Nat.le_of_ble_eq_true rfl) dX3_part_279 ⟨Nat.le_of_ble_eq_true rfl, Nat.le_of_ble_eq_true rfl⟩) (fun r_188 g H locs hg hp => ?_)
  have hT : tw_W V g0 g o ad (va_up (va_up (va_up (va_up I 6 1) 5 ((I 5) + 0)) 6 1) 5 (nI (sp + 0))) A F := hT.call hp
  refine lv_istore (lv' := [(4, .int r_188), (5, .int 0), (3, .int 0), (2, .int ((A 4) sp)), (0, .ref o), (1, .int 0)]) hx hb dX3_part_282 hl (by decide) rfl (fun ls hl => ?_)
  refine lv_iload_n hx hb dX3_part_284 rfl (lv_at hl 5 rfl) ?_
  refine lv_if_eq (tgt := 300) hx hb dX3_part_285 (by decide) (fun _ => ?_) (fun c_189 => (absurd ((nx_eq (show ((0 : Int32)) = nI 0 from rfl) (show ((0 : Int32)) = nI 0 from rfl) (by omega) (by omega)).mpr (by omega)) c_189))
  refine lv_iconst (v := 1) hx hb dX3_part_300 (by decide) ?_
  refine lv_goto (tgt := 305) hx hb dX3_part_301 (by decide) ?_
  have e9 : ptE (A 4) N sp = (false, _) := (by unfold ptE; rw [if_neg (not_not_intro hlt), if_neg hc98, if_neg hc102, if_neg hc114, if_neg hc111, if_neg hc108, if_neg hc99, if_neg hc109])
  exact gh_retz rfl hC hg hr hlk (⟨rfl, hT.eqI (by rw [e9]; exact (fam7 rfl rfl rfl rfl rfl rfl rfl (fun _ => rfl)))⟩) dX3_part_305 (Nat.le_of_ble_eq_true rfl) (Nat.le_of_ble_eq_true rfl)
set_option maxHeartbeats 1000000 in
set_option maxRecDepth 100000 in
theorem t_part1 (l : Launch) (V : gh_V) (o : Nat) (ad : Nat → Nat) (I : Nat → Int32) (A : Nat → Nat → Int32) (F : Nat → Nat → UInt32) (g0 : gh_G) (hP : tw_P V g0 o ad I A F) (sp N : Nat) (L D P : Nat) (h5 : I 5 = nI sp) (h6 : I 6 = 0) (hN : I 2 = nI N) (hN60 : N ≤ 60) (hsp : sp ≤ N) (hE : tw_wf (A 0) L D P) (hnn : nnS (F 0)) (hv : (ptE (A 4) N sp).1 = true) : MI l yX3_part cX3_part 7 (some .boolean) ({ frames := 8, cells := 0, slots := 0, locals := 189 } : Room) V [.ref o, .int 1] g0 (fun r g1 => (canB (A 0) (A 4 sp) (ptO (A 4) N sp) (ptT (A 4) N sp) = true → r = 1 ∧ ∃ i4 b5 b6, tw_W V g0 g1 o ad (va_up (va_up (va_up I 6 0) 5 (nI (ptE (A 4) N sp).2)) 4 i4) (va_up (va_up (va_up A 5 b5) 6 b6) 0 (didS (A 0) (F 0) (A 4 sp) (ptO (A 4) N sp) (ptT (A 4) N sp)).1) (va_up F 0 (didS (A 0) (F 0) (A 4 sp) (ptO (A 4) N sp) (ptT (A 4) N sp)).2)) ∧ (canB (A 0) (A 4 sp) (ptO (A 4) N sp) (ptT (A 4) N sp) = false → r = 0 ∧ tw_W V g0 g1 o ad (va_up (va_up I 6 0) 5 (nI (ptE (A 4) N sp).2)) A F)) := by
  refine MG.of RX3 (by decide) rfl (Nat.le_of_ble_eq_true rfl) (fun pp ee s mm args below meth c ls hC hg hr hlk hnm hl => ?_)
  have hx := hC.1.1
  have hb := hC.1.2.1
  have hml := hC.1.2.2.1
  have hown := hC.1.2.2.2.1
  have hts := hC.1.2.2.2.2
  have hl : lv_has ls 7 [(0, .ref o), (1, .int 1)] := hl
  have hT := hP.W
  refine lv_aload_n hx hb dX3_part_0 rfl (lv_at hl 0 rfl) ?_
  refine gh_get (v := .int (I 5)) hC hg hT.1.1 fX3_233_0 rfl dX3_part_1 ?_
  refine lv_aload_n hx hb dX3_part_4 rfl (lv_at hl 0 rfl) ?_
  refine gh_get (v := .int (I 2)) hC hg hT.1.1 fX3_230_0 rfl dX3_part_5 ?_
  refine lv_icmp_ge (tgt := 30) hx hb dX3_part_8 (by decide) (fun c_1 => ?_) (fun c_1 => ?_)
  · skip
    have c_1 : N ≤ sp := (nx_le hN h5 (by omega) (by omega)).mp c_1
    refine lv_iconst (v := 0) hx hb dX3_part_30 (by decide) ?_
    refine lv_istore_n (lv' := [(2, .int 0), (0, .ref o), (1, .int 1)]) hx hb dX3_part_31 rfl hl (by decide) rfl (fun ls hl => ?_)
    rw [show ptE (A 4) N sp = (false, _) from if_pos (by omega)] at hv
    exact absurd hv Bool.false_ne_true
  have c_1 : ¬ N ≤ sp := fun h9 => c_1 ((nx_le hN h5 (by omega) (by omega)).mpr h9)
  refine lv_aload_n hx hb dX3_part_11 rfl (lv_at hl 0 rfl) ?_
  refine gh_get (v := .int (I 6)) hC hg hT.1.1 fX3_236_0 rfl dX3_part_12 ?_
  refine lv_if_ne (tgt := 30) hx hb dX3_part_15 (by decide) (fun c_2 => (absurd ((nx_eq (h6.trans (show ((0 : Int32)) = nI 0 from rfl)) (show ((0 : Int32)) = nI 0 from rfl) (by omega) (by omega)).mpr (by omega)) c_2)) (fun _ => ?_)
  refine lv_aload_n hx hb dX3_part_18 rfl (lv_at hl 0 rfl) ?_
  refine gh_get (v := .ref (ad 4)) hC hg hT.1.1 fX3_35_0 rfl dX3_part_19 ?_
  refine lv_aload_n hx hb dX3_part_22 rfl (lv_at hl 0 rfl) ?_
  refine gh_get (v := .int (I 5)) hC hg hT.1.1 fX3_233_0 rfl dX3_part_23 ?_
  refine gh_iald (n := 60) (f := (A 4)) hC hg (hT.1.2.1 4 (by decide)) h5 (by omega) (by omega) dX3_part_26 ?_
  refine lv_goto (tgt := 31) hx hb dX3_part_27 (by decide) ?_
  refine lv_istore_n (lv' := [(2, .int ((A 4) sp)), (0, .ref o), (1, .int 1)]) hx hb dX3_part_31 rfl hl (by decide) rfl (fun ls hl => ?_)
  have hlt : sp < N := by omega
  by_cases hc98 : A 4 sp = 98
  · have hc := hc98
    rw [hc] at hl
    refine lv_iload_n hx hb dX3_part_32 rfl (lv_at hl 0 rfl) ?_
    refine lv_bipush (v := 98) hx hb dX3_part_33 (by decide) ?_
    refine lv_icmp_eq (tgt := 50) hx hb dX3_part_35 (by decide) (fun _ => ?_) (fun c_3 => (absurd ((nx_eq (show ((98 : Int32)) = nI 98 from rfl) (show ((98 : Int32)) = nI 98 from rfl) (by omega) (by omega)).mpr (by omega)) c_3))
    refine lv_iconst (v := 1) hx hb dX3_part_50 (by decide) ?_
    refine lv_goto (tgt := 55) hx hb dX3_part_51 (by decide) ?_
    refine lv_istore_n (lv' := [(3, .int 1), (2, .int 98), (0, .ref o), (1, .int 1)]) hx hb dX3_part_55 rfl hl (by decide) rfl (fun ls hl => ?_)
    refine lv_aload_n hx hb dX3_part_56 rfl (lv_at hl 2 rfl) ?_
    refine lv_aload_n hx hb dX3_part_57 rfl (lv_at hl 2 rfl) ?_
    refine gh_get (v := .int (I 6)) hC hg hT.1.1 fX3_236_0 rfl dX3_part_58 ?_
    refine lv_if_ne (tgt := 92) hx hb dX3_part_61 (by decide) (fun c_4 => (absurd ((nx_eq (h6.trans (show ((0 : Int32)) = nI 0 from rfl)) (show ((0 : Int32)) = nI 0 from rfl) (by omega) (by omega)).mpr (by omega)) c_4)) (fun _ => ?_)
    refine lv_iload_n hx hb dX3_part_64 rfl (lv_at hl 0 rfl) ?_
    refine lv_if_ne (tgt := 96) hx hb dX3_part_65 (by decide) (fun _ => ?_) (fun c_5 => (absurd ((nx_eq (show ((1 : Int32)) = nI 1 from rfl) (show ((0 : Int32)) = nI 0 from rfl) (by omega) (by omega)).mp c_5) (by omega)))
    refine lv_iconst (v := 0) hx hb dX3_part_96 (by decide) ?_
    refine gh_put (v := .int 0) hC hg hT.1.1 fX3_236_0 rfl rfl (Nat.le_of_ble_eq_true rfl) dX3_part_97 (fun g H locs hg hw hn => ?_)
    have hT : tw_W V g0 g o ad (va_up I 6 0) A F := hT.putI 6 0 hw hn
    refine lv_aload_n hx hb dX3_part_100 rfl (lv_at hl 2 rfl) ?_
    refine lv_dup hx hb dX3_part_101 rfl ?_
    refine gh_get (v := .int (I 5)) hC hg hT.1.1 fX3_233_0 rfl dX3_part_102 ?_
    refine lv_aload_n hx hb dX3_part_105 rfl (lv_at hl 2 rfl) ?_
    refine gh_get (v := .int 0) hC hg hT.1.1 fX3_236_0 rfl dX3_part_106 ?_
    refine lv_if_eq (tgt := 116) hx hb dX3_part_109 (by decide) (fun _ => ?_) (fun c_6 => (absurd ((nx_eq (show ((0 : Int32)) = nI 0 from rfl) (show ((0 : Int32)) = nI 0 from rfl) (by omega) (by omega)).mpr (by omega)) c_6))
    refine lv_iconst (v := 1) hx hb dX3_part_116 (by decide) ?_
    refine lv_iadd hx hb dX3_part_117 ?_
    refine gh_put (v := .int ((I 5) + 1)) hC hg hT.1.1 fX3_233_0 rfl rfl (Nat.le_of_ble_eq_true rfl) dX3_part_118 (fun g H locs hg hw hn => ?_)
    have hT : tw_W V g0 g o ad (va_up (va_up I 6 0) 5 ((I 5) + 1)) A F := hT.putI 5 ((I 5) + 1) hw hn
    refine lv_iconst (v := 0) hx hb dX3_part_121 (by decide) ?_
    refine lv_istore (lv' := [(4, .int 0), (3, .int 1), (2, .int 98), (0, .ref o), (1, .int 1)]) hx hb dX3_part_122 hl (by decide) rfl (fun ls hl => ?_)
    refine lv_iconst (v := 0) hx hb dX3_part_124 (by decide) ?_
    refine lv_istore (lv' := [(5, .int 0), (4, .int 0), (3, .int 1), (2, .int 98), (0, .ref o), (1, .int 1)]) hx hb dX3_part_125 hl (by decide) rfl (fun ls hl => ?_)
    refine lv_iload_n hx hb dX3_part_127 rfl (lv_at hl 2 rfl) ?_
    refine lv_if_eq (tgt := 181) hx hb dX3_part_128 (by decide) (fun c_7 => (absurd ((nx_eq (show ((1 : Int32)) = nI 1 from rfl) (show ((0 : Int32)) = nI 0 from rfl) (by omega) (by omega)).mp c_7) (by omega))) (fun _ => ?_)
    refine lv_aload_n hx hb dX3_part_131 rfl (lv_at hl 4 rfl) ?_
    refine lv_bipush (v := 48) hx hb dX3_part_132 (by decide) ?_
    refine lv_bipush (v := 55) hx hb dX3_part_134 (by decide) ?_
    refine gh_calli hg (gh_runV (As := [.int 48, .int 55]) (rest := []) hC hg (t_sign0 l V o ad (va_up (va_up I 6 0) 5 ((I 5) + 1)) A F _ hT.1 48 55 (sp + 1) N (nx_add h5 (show ((1 : Int32)) = nI 1 from rfl)) (show ((0 : Int32)) = nI 0 from rfl) hN hN60 (by omega) (by decide)) 2 (lw_V q4330 q4332 qs99 q138 q4333) hT.1.1 rfl hd_X3_sign ⟨Nat.le_of_ble_eq_true rfl, Nat.le_of_ble_eq_true rfl⟩ rfl hl.1 rfl (Nat.le_of_ble_eq_true rfl) dX3_part_136 ⟨Nat.le_of_ble_eq_true rfl, Nat.le_of_ble_eq_true rfl⟩) (fun r_8 g H locs hg hp => ?_)
    rcases hp with ⟨sg_9, hpr, hpT⟩ | ⟨sg_9, hpT⟩
    · replace hpr : r_8 = (A 4) (sp + 1) := hpr
      subst hpr
      have hT : tw_W V g0 g o ad (va_up (va_up (va_up (va_up I 6 0) 5 ((I 5) + 1)) 6 0) 5 (nI ((sp + 1) + 1))) A F := hT.call hpT
      have sg_9l := sg_9.1
      obtain ⟨h_10a, h_10b, h_10⟩ := okR_cl (show ((48 : Int32)) = nI 48 from rfl) (show ((55 : Int32)) = nI 55 from rfl) (by omega) (by omega) sg_9.2
      refine lv_bipush (v := 48) hx hb dX3_part_139 (by decide) ?_
      refine lv_isub hx hb dX3_part_141 ?_
      refine lv_istore (lv' := [(4, .int (((A 4) (sp + 1)) - 48)), (5, .int 0), (3, .int 1), (2, .int 98), (0, .ref o), (1, .int 1)]) hx hb dX3_part_142 hl (by decide) rfl (fun ls hl => ?_)
      refine lv_aload_n hx hb dX3_part_144 rfl (lv_at hl 4 rfl) ?_
      refine lv_bipush (v := 61) hx hb dX3_part_145 (by decide) ?_
      refine lv_bipush (v := 61) hx hb dX3_part_147 (by decide) ?_
      refine gh_calli hg (gh_runV (As := [.int 61, .int 61]) (rest := []) hC hg (t_sign0 l V o ad (va_up (va_up (va_up (va_up I 6 0) 5 ((I 5) + 1)) 6 0) 5 (nI ((sp + 1) + 1))) A F _ hT.1 61 61 ((sp + 1) + 1) N rfl (show ((0 : Int32)) = nI 0 from rfl) hN hN60 (by omega) (by decide)) 2 (lw_V q4330 q4332 qs99 q138 q4333) hT.1.1 rfl hd_X3_sign ⟨Nat.le_of_ble_eq_true rfl, Nat.le_of_ble_eq_true rfl⟩ rfl hl.1 rfl (Nat.le_of_ble_eq_true rfl) dX3_part_149 ⟨Nat.le_of_ble_eq_true rfl, Nat.le_of_ble_eq_true rfl⟩) (fun r_11 g H locs hg hp => ?_)
      rcases hp with ⟨sg_12, hpr, hpT⟩ | ⟨sg_12, hpT⟩
      · replace hpr : r_11 = (A 4) ((sp + 1) + 1) := hpr
        subst hpr
        have hT : tw_W V g0 g o ad (va_up (va_up (va_up (va_up (va_up (va_up I 6 0) 5 ((I 5) + 1)) 6 0) 5 (nI ((sp + 1) + 1))) 6 0) 5 (nI (((sp + 1) + 1) + 1))) A F := hT.call hpT
        have sg_12l := sg_12.1
        obtain ⟨h_13a, h_13b, h_13⟩ := okR_cl (show ((61 : Int32)) = nI 61 from rfl) (show ((61 : Int32)) = nI 61 from rfl) (by omega) (by omega) sg_12.2
        refine lv_istore (lv' := [(6, .int ((A 4) ((sp + 1) + 1))), (4, .int (((A 4) (sp + 1)) - 48)), (5, .int 0), (3, .int 1), (2, .int 98), (0, .ref o), (1, .int 1)]) hx hb dX3_part_152 hl (by decide) rfl (fun ls hl => ?_)
        refine lv_aload_n hx hb dX3_part_154 rfl (lv_at hl 5 rfl) ?_
        refine lv_bipush (v := 48) hx hb dX3_part_155 (by decide) ?_
        refine lv_iload_n hx hb dX3_part_157 rfl (lv_at hl 4 rfl) ?_
        refine lv_bipush (v := 114) hx hb dX3_part_158 (by decide) ?_
        refine lv_icmp_ne (tgt := 168) hx hb dX3_part_160 (by decide) (fun _ => ?_) (fun c_14 => (absurd ((nx_eq (show ((98 : Int32)) = nI 98 from rfl) (show ((114 : Int32)) = nI 114 from rfl) (by omega) (by omega)).mp c_14) (by omega)))
        refine lv_bipush (v := 51) hx hb dX3_part_168 (by decide) ?_
        refine gh_calli hg (gh_runV (As := [.int 48, .int 51]) (rest := []) hC hg (t_sign0 l V o ad (va_up (va_up (va_up (va_up (va_up (va_up I 6 0) 5 ((I 5) + 1)) 6 0) 5 (nI ((sp + 1) + 1))) 6 0) 5 (nI (((sp + 1) + 1) + 1))) A F _ hT.1 48 51 (((sp + 1) + 1) + 1) N rfl (show ((0 : Int32)) = nI 0 from rfl) hN hN60 (by omega) (by decide)) 2 (lw_V q4330 q4332 qs99 q138 q4333) hT.1.1 rfl hd_X3_sign ⟨Nat.le_of_ble_eq_true rfl, Nat.le_of_ble_eq_true rfl⟩ rfl hl.1 rfl (Nat.le_of_ble_eq_true rfl) dX3_part_170 ⟨Nat.le_of_ble_eq_true rfl, Nat.le_of_ble_eq_true rfl⟩) (fun r_15 g H locs hg hp => ?_)
        rcases hp with ⟨sg_16, hpr, hpT⟩ | ⟨sg_16, hpT⟩
        · replace hpr : r_15 = (A 4) (((sp + 1) + 1) + 1) := hpr
          subst hpr
          have hT : tw_W V g0 g o ad (va_up (va_up (va_up (va_up (va_up (va_up (va_up (va_up I 6 0) 5 ((I 5) + 1)) 6 0) 5 (nI ((sp + 1) + 1))) 6 0) 5 (nI (((sp + 1) + 1) + 1))) 6 0) 5 (nI ((((sp + 1) + 1) + 1) + 1))) A F := hT.call hpT
          have sg_16l := sg_16.1
          obtain ⟨h_17a, h_17b, h_17⟩ := okR_cl (show ((48 : Int32)) = nI 48 from rfl) (show ((51 : Int32)) = nI 51 from rfl) (by omega) (by omega) sg_16.2
          refine lv_bipush (v := 48) hx hb dX3_part_173 (by decide) ?_
          refine lv_isub hx hb dX3_part_175 ?_
          refine lv_istore (lv' := [(5, .int (((A 4) (((sp + 1) + 1) + 1)) - 48)), (6, .int ((A 4) ((sp + 1) + 1))), (4, .int (((A 4) (sp + 1)) - 48)), (3, .int 1), (2, .int 98), (0, .ref o), (1, .int 1)]) hx hb dX3_part_176 hl (by decide) rfl (fun ls hl => ?_)
          refine lv_goto (tgt := 284) hx hb dX3_part_178 (by decide) ?_
          refine lv_iload_n hx hb dX3_part_284 rfl (lv_at hl 6 rfl) ?_
          refine lv_if_eq (tgt := 300) hx hb dX3_part_285 (by decide) (fun c_18 => (absurd ((nx_eq (show ((1 : Int32)) = nI 1 from rfl) (show ((0 : Int32)) = nI 0 from rfl) (by omega) (by omega)).mp c_18) (by omega))) (fun _ => ?_)
          refine lv_aload_n hx hb dX3_part_288 rfl (lv_at hl 5 rfl) ?_
          refine lv_iload_n hx hb dX3_part_289 rfl (lv_at hl 4 rfl) ?_
          refine lv_iload hx hb dX3_part_290 (lv_at hl 2 rfl) ?_
          refine lv_iload hx hb dX3_part_292 (lv_at hl 0 rfl) ?_
          refine gh_calli hg (gh_runV (As := [.int 98, .int (((A 4) (sp + 1)) - 48), .int (((A 4) (((sp + 1) + 1) + 1)) - 48)]) (rest := []) hC hg (t_does98 l V o ad (va_up (va_up (va_up (va_up (va_up (va_up (va_up (va_up I 6 0) 5 ((I 5) + 1)) 6 0) 5 (nI ((sp + 1) + 1))) 6 0) 5 (nI (((sp + 1) + 1) + 1))) 6 0) 5 (nI ((((sp + 1) + 1) + 1) + 1))) A F _ hT.1 (((A 4) (sp + 1)) - 48) (((A 4) (((sp + 1) + 1) + 1)) - 48) ((((A 4) (sp + 1))).toNatClampNeg - 48) ((((A 4) (((sp + 1) + 1) + 1))).toNatClampNeg - 48) L D P (nx_sub h_10 (show ((48 : Int32)) = nI 48 from rfl) (by omega)) (nx_sub h_17 (show ((48 : Int32)) = nI 48 from rfl) (by omega)) (by omega) (by omega) hE hnn) 3 (lw_V q4338 q4340 qs101 q138 q4341) hT.1.1 rfl hd_X3_does ⟨Nat.le_of_ble_eq_true rfl, Nat.le_of_ble_eq_true rfl⟩ rfl hl.1 rfl (Nat.le_of_ble_eq_true rfl) dX3_part_294 ⟨Nat.le_of_ble_eq_true rfl, Nat.le_of_ble_eq_true rfl⟩) (fun r_19 g H locs hg hp => ?_)
          by_cases cb_20 : canB (A 0) 98 ((((A 4) (sp + 1))).toNatClampNeg - 48) ((((A 4) (((sp + 1) + 1) + 1))).toNatClampNeg - 48) = true
          · obtain ⟨hpr, i4, b5, b6, hpT⟩ := hp.1 cb_20
            replace hpr : r_19 = 1 := hpr
            subst hpr
            have hT : tw_W V g0 g o ad (va_up (va_up (va_up (va_up (va_up (va_up (va_up (va_up (va_up I 6 0) 5 ((I 5) + 1)) 6 0) 5 (nI ((sp + 1) + 1))) 6 0) 5 (nI (((sp + 1) + 1) + 1))) 6 0) 5 (nI ((((sp + 1) + 1) + 1) + 1))) 4 i4) (va_up (va_up (va_up A 5 b5) 6 b6) 0 ((didS (A 0) (F 0) 98 ((((A 4) (sp + 1))).toNatClampNeg - 48) ((((A 4) (((sp + 1) + 1) + 1))).toNatClampNeg - 48)).1)) (va_up F 0 ((didS (A 0) (F 0) 98 ((((A 4) (sp + 1))).toNatClampNeg - 48) ((((A 4) (((sp + 1) + 1) + 1))).toNatClampNeg - 48)).2)) := hT.call hpT
            refine lv_if_eq (tgt := 304) hx hb dX3_part_297 (by decide) (fun c_21 => (absurd ((nx_eq (show ((1 : Int32)) = nI 1 from rfl) (show ((0 : Int32)) = nI 0 from rfl) (by omega) (by omega)).mp c_21) (by omega))) (fun _ => ?_)
            refine lv_iconst (v := 1) hx hb dX3_part_300 (by decide) ?_
            refine lv_goto (tgt := 305) hx hb dX3_part_301 (by decide) ?_
            have e9 : ptE (A 4) N sp = (true, _) := (by unfold ptE; rw [if_neg (not_not_intro hlt), if_pos hc]; unfold zP; rw [if_pos sg_9, if_pos sg_12, if_pos sg_16])
            have eO : ptO (A 4) N sp = ((((A 4) (sp + 1))).toNatClampNeg - 48) := (by unfold ptO; rw [if_neg (by rw [hc]; decide), if_neg (by rw [hc]; decide)] <;> rfl)
            have eT : ptT (A 4) N sp = ((((A 4) (((sp + 1) + 1) + 1))).toNatClampNeg - 48) := (by unfold ptT; rw [if_neg (by rw [hc]; decide), if_neg (by rw [hc]; decide), if_neg (by rw [hc]; decide), if_neg (by rw [hc]; decide)] <;> rfl)
            exact gh_retz rfl hC hg hr hlk (by rw [e9, eO, eT, hc]; exact ⟨fun _ => ⟨rfl, i4, b5, b6, hT.eqI (fam7 rfl rfl rfl rfl rfl rfl rfl (fun _ => rfl))⟩, fun h9 => absurd (h9.symm.trans cb_20) (by decide)⟩) dX3_part_305 (Nat.le_of_ble_eq_true rfl) (Nat.le_of_ble_eq_true rfl)
          obtain ⟨hpr, hpT⟩ := hp.2 (Bool.eq_false_iff.mpr cb_20)
          replace hpr : r_19 = 0 := hpr
          subst hpr
          have hT : tw_W V g0 g o ad (va_up (va_up (va_up (va_up (va_up (va_up (va_up (va_up I 6 0) 5 ((I 5) + 1)) 6 0) 5 (nI ((sp + 1) + 1))) 6 0) 5 (nI (((sp + 1) + 1) + 1))) 6 0) 5 (nI ((((sp + 1) + 1) + 1) + 1))) A F := hT.call hpT
          refine lv_if_eq (tgt := 304) hx hb dX3_part_297 (by decide) (fun _ => ?_) (fun c_22 => (absurd ((nx_eq (show ((0 : Int32)) = nI 0 from rfl) (show ((0 : Int32)) = nI 0 from rfl) (by omega) (by omega)).mpr (by omega)) c_22))
          refine lv_iconst (v := 0) hx hb dX3_part_304 (by decide) ?_
          have e9 : ptE (A 4) N sp = (true, _) := (by unfold ptE; rw [if_neg (not_not_intro hlt), if_pos hc]; unfold zP; rw [if_pos sg_9, if_pos sg_12, if_pos sg_16])
          have eO : ptO (A 4) N sp = ((((A 4) (sp + 1))).toNatClampNeg - 48) := (by unfold ptO; rw [if_neg (by rw [hc]; decide), if_neg (by rw [hc]; decide)] <;> rfl)
          have eT : ptT (A 4) N sp = ((((A 4) (((sp + 1) + 1) + 1))).toNatClampNeg - 48) := (by unfold ptT; rw [if_neg (by rw [hc]; decide), if_neg (by rw [hc]; decide), if_neg (by rw [hc]; decide), if_neg (by rw [hc]; decide)] <;> rfl)
          exact gh_retz rfl hC hg hr hlk (by rw [e9, eO, eT, hc]; exact ⟨fun h9 => absurd h9 cb_20, fun _ => ⟨rfl, hT.eqI (fam7 rfl rfl rfl rfl rfl rfl rfl (fun _ => rfl))⟩⟩) dX3_part_305 (Nat.le_of_ble_eq_true rfl) (Nat.le_of_ble_eq_true rfl)
        rw [show ptE (A 4) N sp = (false, _) from (by unfold ptE; rw [if_neg (not_not_intro hlt), if_pos hc]; unfold zP; rw [if_pos sg_9, if_pos sg_12, if_neg sg_16])] at hv
        exact absurd hv Bool.false_ne_true
      rw [show ptE (A 4) N sp = (false, _) from (by unfold ptE; rw [if_neg (not_not_intro hlt), if_pos hc]; unfold zP; rw [if_pos sg_9, if_neg sg_12])] at hv
      exact absurd hv Bool.false_ne_true
    rw [show ptE (A 4) N sp = (false, _) from (by unfold ptE; rw [if_neg (not_not_intro hlt), if_pos hc]; unfold zP; rw [if_neg sg_9])] at hv
    exact absurd hv Bool.false_ne_true
  by_cases hc102 : A 4 sp = 102
  · have hc := hc102
    rw [hc] at hl
    refine lv_iload_n hx hb dX3_part_32 rfl (lv_at hl 0 rfl) ?_
    refine lv_bipush (v := 98) hx hb dX3_part_33 (by decide) ?_
    refine lv_icmp_eq (tgt := 50) hx hb dX3_part_35 (by decide) (fun c_23 => (absurd ((nx_eq (show ((102 : Int32)) = nI 102 from rfl) (show ((98 : Int32)) = nI 98 from rfl) (by omega) (by omega)).mp c_23) (by omega))) (fun _ => ?_)
    refine lv_iload_n hx hb dX3_part_38 rfl (lv_at hl 0 rfl) ?_
    refine lv_bipush (v := 102) hx hb dX3_part_39 (by decide) ?_
    refine lv_icmp_eq (tgt := 50) hx hb dX3_part_41 (by decide) (fun _ => ?_) (fun c_24 => (absurd ((nx_eq (show ((102 : Int32)) = nI 102 from rfl) (show ((102 : Int32)) = nI 102 from rfl) (by omega) (by omega)).mpr (by omega)) c_24))
    refine lv_iconst (v := 1) hx hb dX3_part_50 (by decide) ?_
    refine lv_goto (tgt := 55) hx hb dX3_part_51 (by decide) ?_
    refine lv_istore_n (lv' := [(3, .int 1), (2, .int 102), (0, .ref o), (1, .int 1)]) hx hb dX3_part_55 rfl hl (by decide) rfl (fun ls hl => ?_)
    refine lv_aload_n hx hb dX3_part_56 rfl (lv_at hl 2 rfl) ?_
    refine lv_aload_n hx hb dX3_part_57 rfl (lv_at hl 2 rfl) ?_
    refine gh_get (v := .int (I 6)) hC hg hT.1.1 fX3_236_0 rfl dX3_part_58 ?_
    refine lv_if_ne (tgt := 92) hx hb dX3_part_61 (by decide) (fun c_25 => (absurd ((nx_eq (h6.trans (show ((0 : Int32)) = nI 0 from rfl)) (show ((0 : Int32)) = nI 0 from rfl) (by omega) (by omega)).mpr (by omega)) c_25)) (fun _ => ?_)
    refine lv_iload_n hx hb dX3_part_64 rfl (lv_at hl 0 rfl) ?_
    refine lv_if_ne (tgt := 96) hx hb dX3_part_65 (by decide) (fun _ => ?_) (fun c_26 => (absurd ((nx_eq (show ((1 : Int32)) = nI 1 from rfl) (show ((0 : Int32)) = nI 0 from rfl) (by omega) (by omega)).mp c_26) (by omega)))
    refine lv_iconst (v := 0) hx hb dX3_part_96 (by decide) ?_
    refine gh_put (v := .int 0) hC hg hT.1.1 fX3_236_0 rfl rfl (Nat.le_of_ble_eq_true rfl) dX3_part_97 (fun g H locs hg hw hn => ?_)
    have hT : tw_W V g0 g o ad (va_up I 6 0) A F := hT.putI 6 0 hw hn
    refine lv_aload_n hx hb dX3_part_100 rfl (lv_at hl 2 rfl) ?_
    refine lv_dup hx hb dX3_part_101 rfl ?_
    refine gh_get (v := .int (I 5)) hC hg hT.1.1 fX3_233_0 rfl dX3_part_102 ?_
    refine lv_aload_n hx hb dX3_part_105 rfl (lv_at hl 2 rfl) ?_
    refine gh_get (v := .int 0) hC hg hT.1.1 fX3_236_0 rfl dX3_part_106 ?_
    refine lv_if_eq (tgt := 116) hx hb dX3_part_109 (by decide) (fun _ => ?_) (fun c_27 => (absurd ((nx_eq (show ((0 : Int32)) = nI 0 from rfl) (show ((0 : Int32)) = nI 0 from rfl) (by omega) (by omega)).mpr (by omega)) c_27))
    refine lv_iconst (v := 1) hx hb dX3_part_116 (by decide) ?_
    refine lv_iadd hx hb dX3_part_117 ?_
    refine gh_put (v := .int ((I 5) + 1)) hC hg hT.1.1 fX3_233_0 rfl rfl (Nat.le_of_ble_eq_true rfl) dX3_part_118 (fun g H locs hg hw hn => ?_)
    have hT : tw_W V g0 g o ad (va_up (va_up I 6 0) 5 ((I 5) + 1)) A F := hT.putI 5 ((I 5) + 1) hw hn
    refine lv_iconst (v := 0) hx hb dX3_part_121 (by decide) ?_
    refine lv_istore (lv' := [(4, .int 0), (3, .int 1), (2, .int 102), (0, .ref o), (1, .int 1)]) hx hb dX3_part_122 hl (by decide) rfl (fun ls hl => ?_)
    refine lv_iconst (v := 0) hx hb dX3_part_124 (by decide) ?_
    refine lv_istore (lv' := [(5, .int 0), (4, .int 0), (3, .int 1), (2, .int 102), (0, .ref o), (1, .int 1)]) hx hb dX3_part_125 hl (by decide) rfl (fun ls hl => ?_)
    refine lv_iload_n hx hb dX3_part_127 rfl (lv_at hl 2 rfl) ?_
    refine lv_if_eq (tgt := 181) hx hb dX3_part_128 (by decide) (fun c_28 => (absurd ((nx_eq (show ((1 : Int32)) = nI 1 from rfl) (show ((0 : Int32)) = nI 0 from rfl) (by omega) (by omega)).mp c_28) (by omega))) (fun _ => ?_)
    refine lv_aload_n hx hb dX3_part_131 rfl (lv_at hl 4 rfl) ?_
    refine lv_bipush (v := 48) hx hb dX3_part_132 (by decide) ?_
    refine lv_bipush (v := 55) hx hb dX3_part_134 (by decide) ?_
    refine gh_calli hg (gh_runV (As := [.int 48, .int 55]) (rest := []) hC hg (t_sign0 l V o ad (va_up (va_up I 6 0) 5 ((I 5) + 1)) A F _ hT.1 48 55 (sp + 1) N (nx_add h5 (show ((1 : Int32)) = nI 1 from rfl)) (show ((0 : Int32)) = nI 0 from rfl) hN hN60 (by omega) (by decide)) 2 (lw_V q4330 q4332 qs99 q138 q4333) hT.1.1 rfl hd_X3_sign ⟨Nat.le_of_ble_eq_true rfl, Nat.le_of_ble_eq_true rfl⟩ rfl hl.1 rfl (Nat.le_of_ble_eq_true rfl) dX3_part_136 ⟨Nat.le_of_ble_eq_true rfl, Nat.le_of_ble_eq_true rfl⟩) (fun r_29 g H locs hg hp => ?_)
    rcases hp with ⟨sg_30, hpr, hpT⟩ | ⟨sg_30, hpT⟩
    · replace hpr : r_29 = (A 4) (sp + 1) := hpr
      subst hpr
      have hT : tw_W V g0 g o ad (va_up (va_up (va_up (va_up I 6 0) 5 ((I 5) + 1)) 6 0) 5 (nI ((sp + 1) + 1))) A F := hT.call hpT
      have sg_30l := sg_30.1
      obtain ⟨h_31a, h_31b, h_31⟩ := okR_cl (show ((48 : Int32)) = nI 48 from rfl) (show ((55 : Int32)) = nI 55 from rfl) (by omega) (by omega) sg_30.2
      refine lv_bipush (v := 48) hx hb dX3_part_139 (by decide) ?_
      refine lv_isub hx hb dX3_part_141 ?_
      refine lv_istore (lv' := [(4, .int (((A 4) (sp + 1)) - 48)), (5, .int 0), (3, .int 1), (2, .int 102), (0, .ref o), (1, .int 1)]) hx hb dX3_part_142 hl (by decide) rfl (fun ls hl => ?_)
      refine lv_aload_n hx hb dX3_part_144 rfl (lv_at hl 4 rfl) ?_
      refine lv_bipush (v := 61) hx hb dX3_part_145 (by decide) ?_
      refine lv_bipush (v := 61) hx hb dX3_part_147 (by decide) ?_
      refine gh_calli hg (gh_runV (As := [.int 61, .int 61]) (rest := []) hC hg (t_sign0 l V o ad (va_up (va_up (va_up (va_up I 6 0) 5 ((I 5) + 1)) 6 0) 5 (nI ((sp + 1) + 1))) A F _ hT.1 61 61 ((sp + 1) + 1) N rfl (show ((0 : Int32)) = nI 0 from rfl) hN hN60 (by omega) (by decide)) 2 (lw_V q4330 q4332 qs99 q138 q4333) hT.1.1 rfl hd_X3_sign ⟨Nat.le_of_ble_eq_true rfl, Nat.le_of_ble_eq_true rfl⟩ rfl hl.1 rfl (Nat.le_of_ble_eq_true rfl) dX3_part_149 ⟨Nat.le_of_ble_eq_true rfl, Nat.le_of_ble_eq_true rfl⟩) (fun r_32 g H locs hg hp => ?_)
      rcases hp with ⟨sg_33, hpr, hpT⟩ | ⟨sg_33, hpT⟩
      · replace hpr : r_32 = (A 4) ((sp + 1) + 1) := hpr
        subst hpr
        have hT : tw_W V g0 g o ad (va_up (va_up (va_up (va_up (va_up (va_up I 6 0) 5 ((I 5) + 1)) 6 0) 5 (nI ((sp + 1) + 1))) 6 0) 5 (nI (((sp + 1) + 1) + 1))) A F := hT.call hpT
        have sg_33l := sg_33.1
        obtain ⟨h_34a, h_34b, h_34⟩ := okR_cl (show ((61 : Int32)) = nI 61 from rfl) (show ((61 : Int32)) = nI 61 from rfl) (by omega) (by omega) sg_33.2
        refine lv_istore (lv' := [(6, .int ((A 4) ((sp + 1) + 1))), (4, .int (((A 4) (sp + 1)) - 48)), (5, .int 0), (3, .int 1), (2, .int 102), (0, .ref o), (1, .int 1)]) hx hb dX3_part_152 hl (by decide) rfl (fun ls hl => ?_)
        refine lv_aload_n hx hb dX3_part_154 rfl (lv_at hl 5 rfl) ?_
        refine lv_bipush (v := 48) hx hb dX3_part_155 (by decide) ?_
        refine lv_iload_n hx hb dX3_part_157 rfl (lv_at hl 4 rfl) ?_
        refine lv_bipush (v := 114) hx hb dX3_part_158 (by decide) ?_
        refine lv_icmp_ne (tgt := 168) hx hb dX3_part_160 (by decide) (fun _ => ?_) (fun c_35 => (absurd ((nx_eq (show ((102 : Int32)) = nI 102 from rfl) (show ((114 : Int32)) = nI 114 from rfl) (by omega) (by omega)).mp c_35) (by omega)))
        refine lv_bipush (v := 51) hx hb dX3_part_168 (by decide) ?_
        refine gh_calli hg (gh_runV (As := [.int 48, .int 51]) (rest := []) hC hg (t_sign0 l V o ad (va_up (va_up (va_up (va_up (va_up (va_up I 6 0) 5 ((I 5) + 1)) 6 0) 5 (nI ((sp + 1) + 1))) 6 0) 5 (nI (((sp + 1) + 1) + 1))) A F _ hT.1 48 51 (((sp + 1) + 1) + 1) N rfl (show ((0 : Int32)) = nI 0 from rfl) hN hN60 (by omega) (by decide)) 2 (lw_V q4330 q4332 qs99 q138 q4333) hT.1.1 rfl hd_X3_sign ⟨Nat.le_of_ble_eq_true rfl, Nat.le_of_ble_eq_true rfl⟩ rfl hl.1 rfl (Nat.le_of_ble_eq_true rfl) dX3_part_170 ⟨Nat.le_of_ble_eq_true rfl, Nat.le_of_ble_eq_true rfl⟩) (fun r_36 g H locs hg hp => ?_)
        rcases hp with ⟨sg_37, hpr, hpT⟩ | ⟨sg_37, hpT⟩
        · replace hpr : r_36 = (A 4) (((sp + 1) + 1) + 1) := hpr
          subst hpr
          have hT : tw_W V g0 g o ad (va_up (va_up (va_up (va_up (va_up (va_up (va_up (va_up I 6 0) 5 ((I 5) + 1)) 6 0) 5 (nI ((sp + 1) + 1))) 6 0) 5 (nI (((sp + 1) + 1) + 1))) 6 0) 5 (nI ((((sp + 1) + 1) + 1) + 1))) A F := hT.call hpT
          have sg_37l := sg_37.1
          obtain ⟨h_38a, h_38b, h_38⟩ := okR_cl (show ((48 : Int32)) = nI 48 from rfl) (show ((51 : Int32)) = nI 51 from rfl) (by omega) (by omega) sg_37.2
          refine lv_bipush (v := 48) hx hb dX3_part_173 (by decide) ?_
          refine lv_isub hx hb dX3_part_175 ?_
          refine lv_istore (lv' := [(5, .int (((A 4) (((sp + 1) + 1) + 1)) - 48)), (6, .int ((A 4) ((sp + 1) + 1))), (4, .int (((A 4) (sp + 1)) - 48)), (3, .int 1), (2, .int 102), (0, .ref o), (1, .int 1)]) hx hb dX3_part_176 hl (by decide) rfl (fun ls hl => ?_)
          refine lv_goto (tgt := 284) hx hb dX3_part_178 (by decide) ?_
          refine lv_iload_n hx hb dX3_part_284 rfl (lv_at hl 6 rfl) ?_
          refine lv_if_eq (tgt := 300) hx hb dX3_part_285 (by decide) (fun c_39 => (absurd ((nx_eq (show ((1 : Int32)) = nI 1 from rfl) (show ((0 : Int32)) = nI 0 from rfl) (by omega) (by omega)).mp c_39) (by omega))) (fun _ => ?_)
          refine lv_aload_n hx hb dX3_part_288 rfl (lv_at hl 5 rfl) ?_
          refine lv_iload_n hx hb dX3_part_289 rfl (lv_at hl 4 rfl) ?_
          refine lv_iload hx hb dX3_part_290 (lv_at hl 2 rfl) ?_
          refine lv_iload hx hb dX3_part_292 (lv_at hl 0 rfl) ?_
          refine gh_calli hg (gh_runV (As := [.int 102, .int (((A 4) (sp + 1)) - 48), .int (((A 4) (((sp + 1) + 1) + 1)) - 48)]) (rest := []) hC hg (t_does102 l V o ad (va_up (va_up (va_up (va_up (va_up (va_up (va_up (va_up I 6 0) 5 ((I 5) + 1)) 6 0) 5 (nI ((sp + 1) + 1))) 6 0) 5 (nI (((sp + 1) + 1) + 1))) 6 0) 5 (nI ((((sp + 1) + 1) + 1) + 1))) A F _ hT.1 (((A 4) (sp + 1)) - 48) (((A 4) (((sp + 1) + 1) + 1)) - 48) ((((A 4) (sp + 1))).toNatClampNeg - 48) ((((A 4) (((sp + 1) + 1) + 1))).toNatClampNeg - 48) L D P (nx_sub h_31 (show ((48 : Int32)) = nI 48 from rfl) (by omega)) (nx_sub h_38 (show ((48 : Int32)) = nI 48 from rfl) (by omega)) (by omega) (by omega) hE hnn) 3 (lw_V q4338 q4340 qs101 q138 q4341) hT.1.1 rfl hd_X3_does ⟨Nat.le_of_ble_eq_true rfl, Nat.le_of_ble_eq_true rfl⟩ rfl hl.1 rfl (Nat.le_of_ble_eq_true rfl) dX3_part_294 ⟨Nat.le_of_ble_eq_true rfl, Nat.le_of_ble_eq_true rfl⟩) (fun r_40 g H locs hg hp => ?_)
          by_cases cb_41 : canB (A 0) 102 ((((A 4) (sp + 1))).toNatClampNeg - 48) ((((A 4) (((sp + 1) + 1) + 1))).toNatClampNeg - 48) = true
          · obtain ⟨hpr, i4, b5, b6, hpT⟩ := hp.1 cb_41
            replace hpr : r_40 = 1 := hpr
            subst hpr
            have hT : tw_W V g0 g o ad (va_up (va_up (va_up (va_up (va_up (va_up (va_up (va_up (va_up I 6 0) 5 ((I 5) + 1)) 6 0) 5 (nI ((sp + 1) + 1))) 6 0) 5 (nI (((sp + 1) + 1) + 1))) 6 0) 5 (nI ((((sp + 1) + 1) + 1) + 1))) 4 i4) (va_up (va_up (va_up A 5 b5) 6 b6) 0 ((didS (A 0) (F 0) 102 ((((A 4) (sp + 1))).toNatClampNeg - 48) ((((A 4) (((sp + 1) + 1) + 1))).toNatClampNeg - 48)).1)) (va_up F 0 ((didS (A 0) (F 0) 102 ((((A 4) (sp + 1))).toNatClampNeg - 48) ((((A 4) (((sp + 1) + 1) + 1))).toNatClampNeg - 48)).2)) := hT.call hpT
            refine lv_if_eq (tgt := 304) hx hb dX3_part_297 (by decide) (fun c_42 => (absurd ((nx_eq (show ((1 : Int32)) = nI 1 from rfl) (show ((0 : Int32)) = nI 0 from rfl) (by omega) (by omega)).mp c_42) (by omega))) (fun _ => ?_)
            refine lv_iconst (v := 1) hx hb dX3_part_300 (by decide) ?_
            refine lv_goto (tgt := 305) hx hb dX3_part_301 (by decide) ?_
            have e9 : ptE (A 4) N sp = (true, _) := (by unfold ptE; rw [if_neg (not_not_intro hlt), if_neg (by rw [hc]; decide), if_pos hc]; unfold zP; rw [if_pos sg_30, if_pos sg_33, if_pos sg_37])
            have eO : ptO (A 4) N sp = ((((A 4) (sp + 1))).toNatClampNeg - 48) := (by unfold ptO; rw [if_neg (by rw [hc]; decide), if_neg (by rw [hc]; decide)] <;> rfl)
            have eT : ptT (A 4) N sp = ((((A 4) (((sp + 1) + 1) + 1))).toNatClampNeg - 48) := (by unfold ptT; rw [if_neg (by rw [hc]; decide), if_neg (by rw [hc]; decide), if_neg (by rw [hc]; decide), if_neg (by rw [hc]; decide)] <;> rfl)
            exact gh_retz rfl hC hg hr hlk (by rw [e9, eO, eT, hc]; exact ⟨fun _ => ⟨rfl, i4, b5, b6, hT.eqI (fam7 rfl rfl rfl rfl rfl rfl rfl (fun _ => rfl))⟩, fun h9 => absurd (h9.symm.trans cb_41) (by decide)⟩) dX3_part_305 (Nat.le_of_ble_eq_true rfl) (Nat.le_of_ble_eq_true rfl)
          obtain ⟨hpr, hpT⟩ := hp.2 (Bool.eq_false_iff.mpr cb_41)
          replace hpr : r_40 = 0 := hpr
          subst hpr
          have hT : tw_W V g0 g o ad (va_up (va_up (va_up (va_up (va_up (va_up (va_up (va_up I 6 0) 5 ((I 5) + 1)) 6 0) 5 (nI ((sp + 1) + 1))) 6 0) 5 (nI (((sp + 1) + 1) + 1))) 6 0) 5 (nI ((((sp + 1) + 1) + 1) + 1))) A F := hT.call hpT
          refine lv_if_eq (tgt := 304) hx hb dX3_part_297 (by decide) (fun _ => ?_) (fun c_43 => (absurd ((nx_eq (show ((0 : Int32)) = nI 0 from rfl) (show ((0 : Int32)) = nI 0 from rfl) (by omega) (by omega)).mpr (by omega)) c_43))
          refine lv_iconst (v := 0) hx hb dX3_part_304 (by decide) ?_
          have e9 : ptE (A 4) N sp = (true, _) := (by unfold ptE; rw [if_neg (not_not_intro hlt), if_neg (by rw [hc]; decide), if_pos hc]; unfold zP; rw [if_pos sg_30, if_pos sg_33, if_pos sg_37])
          have eO : ptO (A 4) N sp = ((((A 4) (sp + 1))).toNatClampNeg - 48) := (by unfold ptO; rw [if_neg (by rw [hc]; decide), if_neg (by rw [hc]; decide)] <;> rfl)
          have eT : ptT (A 4) N sp = ((((A 4) (((sp + 1) + 1) + 1))).toNatClampNeg - 48) := (by unfold ptT; rw [if_neg (by rw [hc]; decide), if_neg (by rw [hc]; decide), if_neg (by rw [hc]; decide), if_neg (by rw [hc]; decide)] <;> rfl)
          exact gh_retz rfl hC hg hr hlk (by rw [e9, eO, eT, hc]; exact ⟨fun h9 => absurd h9 cb_41, fun _ => ⟨rfl, hT.eqI (fam7 rfl rfl rfl rfl rfl rfl rfl (fun _ => rfl))⟩⟩) dX3_part_305 (Nat.le_of_ble_eq_true rfl) (Nat.le_of_ble_eq_true rfl)
        rw [show ptE (A 4) N sp = (false, _) from (by unfold ptE; rw [if_neg (not_not_intro hlt), if_neg (by rw [hc]; decide), if_pos hc]; unfold zP; rw [if_pos sg_30, if_pos sg_33, if_neg sg_37])] at hv
        exact absurd hv Bool.false_ne_true
      rw [show ptE (A 4) N sp = (false, _) from (by unfold ptE; rw [if_neg (not_not_intro hlt), if_neg (by rw [hc]; decide), if_pos hc]; unfold zP; rw [if_pos sg_30, if_neg sg_33])] at hv
      exact absurd hv Bool.false_ne_true
    rw [show ptE (A 4) N sp = (false, _) from (by unfold ptE; rw [if_neg (not_not_intro hlt), if_neg (by rw [hc]; decide), if_pos hc]; unfold zP; rw [if_neg sg_30])] at hv
    exact absurd hv Bool.false_ne_true
  by_cases hc114 : A 4 sp = 114
  · have hc := hc114
    rw [hc] at hl
    refine lv_iload_n hx hb dX3_part_32 rfl (lv_at hl 0 rfl) ?_
    refine lv_bipush (v := 98) hx hb dX3_part_33 (by decide) ?_
    refine lv_icmp_eq (tgt := 50) hx hb dX3_part_35 (by decide) (fun c_44 => (absurd ((nx_eq (show ((114 : Int32)) = nI 114 from rfl) (show ((98 : Int32)) = nI 98 from rfl) (by omega) (by omega)).mp c_44) (by omega))) (fun _ => ?_)
    refine lv_iload_n hx hb dX3_part_38 rfl (lv_at hl 0 rfl) ?_
    refine lv_bipush (v := 102) hx hb dX3_part_39 (by decide) ?_
    refine lv_icmp_eq (tgt := 50) hx hb dX3_part_41 (by decide) (fun c_45 => (absurd ((nx_eq (show ((114 : Int32)) = nI 114 from rfl) (show ((102 : Int32)) = nI 102 from rfl) (by omega) (by omega)).mp c_45) (by omega))) (fun _ => ?_)
    refine lv_iload_n hx hb dX3_part_44 rfl (lv_at hl 0 rfl) ?_
    refine lv_bipush (v := 114) hx hb dX3_part_45 (by decide) ?_
    refine lv_icmp_ne (tgt := 54) hx hb dX3_part_47 (by decide) (fun c_46 => (absurd ((nx_eq (show ((114 : Int32)) = nI 114 from rfl) (show ((114 : Int32)) = nI 114 from rfl) (by omega) (by omega)).mpr (by omega)) c_46)) (fun _ => ?_)
    refine lv_iconst (v := 1) hx hb dX3_part_50 (by decide) ?_
    refine lv_goto (tgt := 55) hx hb dX3_part_51 (by decide) ?_
    refine lv_istore_n (lv' := [(3, .int 1), (2, .int 114), (0, .ref o), (1, .int 1)]) hx hb dX3_part_55 rfl hl (by decide) rfl (fun ls hl => ?_)
    refine lv_aload_n hx hb dX3_part_56 rfl (lv_at hl 2 rfl) ?_
    refine lv_aload_n hx hb dX3_part_57 rfl (lv_at hl 2 rfl) ?_
    refine gh_get (v := .int (I 6)) hC hg hT.1.1 fX3_236_0 rfl dX3_part_58 ?_
    refine lv_if_ne (tgt := 92) hx hb dX3_part_61 (by decide) (fun c_47 => (absurd ((nx_eq (h6.trans (show ((0 : Int32)) = nI 0 from rfl)) (show ((0 : Int32)) = nI 0 from rfl) (by omega) (by omega)).mpr (by omega)) c_47)) (fun _ => ?_)
    refine lv_iload_n hx hb dX3_part_64 rfl (lv_at hl 0 rfl) ?_
    refine lv_if_ne (tgt := 96) hx hb dX3_part_65 (by decide) (fun _ => ?_) (fun c_48 => (absurd ((nx_eq (show ((1 : Int32)) = nI 1 from rfl) (show ((0 : Int32)) = nI 0 from rfl) (by omega) (by omega)).mp c_48) (by omega)))
    refine lv_iconst (v := 0) hx hb dX3_part_96 (by decide) ?_
    refine gh_put (v := .int 0) hC hg hT.1.1 fX3_236_0 rfl rfl (Nat.le_of_ble_eq_true rfl) dX3_part_97 (fun g H locs hg hw hn => ?_)
    have hT : tw_W V g0 g o ad (va_up I 6 0) A F := hT.putI 6 0 hw hn
    refine lv_aload_n hx hb dX3_part_100 rfl (lv_at hl 2 rfl) ?_
    refine lv_dup hx hb dX3_part_101 rfl ?_
    refine gh_get (v := .int (I 5)) hC hg hT.1.1 fX3_233_0 rfl dX3_part_102 ?_
    refine lv_aload_n hx hb dX3_part_105 rfl (lv_at hl 2 rfl) ?_
    refine gh_get (v := .int 0) hC hg hT.1.1 fX3_236_0 rfl dX3_part_106 ?_
    refine lv_if_eq (tgt := 116) hx hb dX3_part_109 (by decide) (fun _ => ?_) (fun c_49 => (absurd ((nx_eq (show ((0 : Int32)) = nI 0 from rfl) (show ((0 : Int32)) = nI 0 from rfl) (by omega) (by omega)).mpr (by omega)) c_49))
    refine lv_iconst (v := 1) hx hb dX3_part_116 (by decide) ?_
    refine lv_iadd hx hb dX3_part_117 ?_
    refine gh_put (v := .int ((I 5) + 1)) hC hg hT.1.1 fX3_233_0 rfl rfl (Nat.le_of_ble_eq_true rfl) dX3_part_118 (fun g H locs hg hw hn => ?_)
    have hT : tw_W V g0 g o ad (va_up (va_up I 6 0) 5 ((I 5) + 1)) A F := hT.putI 5 ((I 5) + 1) hw hn
    refine lv_iconst (v := 0) hx hb dX3_part_121 (by decide) ?_
    refine lv_istore (lv' := [(4, .int 0), (3, .int 1), (2, .int 114), (0, .ref o), (1, .int 1)]) hx hb dX3_part_122 hl (by decide) rfl (fun ls hl => ?_)
    refine lv_iconst (v := 0) hx hb dX3_part_124 (by decide) ?_
    refine lv_istore (lv' := [(5, .int 0), (4, .int 0), (3, .int 1), (2, .int 114), (0, .ref o), (1, .int 1)]) hx hb dX3_part_125 hl (by decide) rfl (fun ls hl => ?_)
    refine lv_iload_n hx hb dX3_part_127 rfl (lv_at hl 2 rfl) ?_
    refine lv_if_eq (tgt := 181) hx hb dX3_part_128 (by decide) (fun c_50 => (absurd ((nx_eq (show ((1 : Int32)) = nI 1 from rfl) (show ((0 : Int32)) = nI 0 from rfl) (by omega) (by omega)).mp c_50) (by omega))) (fun _ => ?_)
    refine lv_aload_n hx hb dX3_part_131 rfl (lv_at hl 4 rfl) ?_
    refine lv_bipush (v := 48) hx hb dX3_part_132 (by decide) ?_
    refine lv_bipush (v := 55) hx hb dX3_part_134 (by decide) ?_
    refine gh_calli hg (gh_runV (As := [.int 48, .int 55]) (rest := []) hC hg (t_sign0 l V o ad (va_up (va_up I 6 0) 5 ((I 5) + 1)) A F _ hT.1 48 55 (sp + 1) N (nx_add h5 (show ((1 : Int32)) = nI 1 from rfl)) (show ((0 : Int32)) = nI 0 from rfl) hN hN60 (by omega) (by decide)) 2 (lw_V q4330 q4332 qs99 q138 q4333) hT.1.1 rfl hd_X3_sign ⟨Nat.le_of_ble_eq_true rfl, Nat.le_of_ble_eq_true rfl⟩ rfl hl.1 rfl (Nat.le_of_ble_eq_true rfl) dX3_part_136 ⟨Nat.le_of_ble_eq_true rfl, Nat.le_of_ble_eq_true rfl⟩) (fun r_51 g H locs hg hp => ?_)
    rcases hp with ⟨sg_52, hpr, hpT⟩ | ⟨sg_52, hpT⟩
    · replace hpr : r_51 = (A 4) (sp + 1) := hpr
      subst hpr
      have hT : tw_W V g0 g o ad (va_up (va_up (va_up (va_up I 6 0) 5 ((I 5) + 1)) 6 0) 5 (nI ((sp + 1) + 1))) A F := hT.call hpT
      have sg_52l := sg_52.1
      obtain ⟨h_53a, h_53b, h_53⟩ := okR_cl (show ((48 : Int32)) = nI 48 from rfl) (show ((55 : Int32)) = nI 55 from rfl) (by omega) (by omega) sg_52.2
      refine lv_bipush (v := 48) hx hb dX3_part_139 (by decide) ?_
      refine lv_isub hx hb dX3_part_141 ?_
      refine lv_istore (lv' := [(4, .int (((A 4) (sp + 1)) - 48)), (5, .int 0), (3, .int 1), (2, .int 114), (0, .ref o), (1, .int 1)]) hx hb dX3_part_142 hl (by decide) rfl (fun ls hl => ?_)
      refine lv_aload_n hx hb dX3_part_144 rfl (lv_at hl 4 rfl) ?_
      refine lv_bipush (v := 61) hx hb dX3_part_145 (by decide) ?_
      refine lv_bipush (v := 61) hx hb dX3_part_147 (by decide) ?_
      refine gh_calli hg (gh_runV (As := [.int 61, .int 61]) (rest := []) hC hg (t_sign0 l V o ad (va_up (va_up (va_up (va_up I 6 0) 5 ((I 5) + 1)) 6 0) 5 (nI ((sp + 1) + 1))) A F _ hT.1 61 61 ((sp + 1) + 1) N rfl (show ((0 : Int32)) = nI 0 from rfl) hN hN60 (by omega) (by decide)) 2 (lw_V q4330 q4332 qs99 q138 q4333) hT.1.1 rfl hd_X3_sign ⟨Nat.le_of_ble_eq_true rfl, Nat.le_of_ble_eq_true rfl⟩ rfl hl.1 rfl (Nat.le_of_ble_eq_true rfl) dX3_part_149 ⟨Nat.le_of_ble_eq_true rfl, Nat.le_of_ble_eq_true rfl⟩) (fun r_54 g H locs hg hp => ?_)
      rcases hp with ⟨sg_55, hpr, hpT⟩ | ⟨sg_55, hpT⟩
      · replace hpr : r_54 = (A 4) ((sp + 1) + 1) := hpr
        subst hpr
        have hT : tw_W V g0 g o ad (va_up (va_up (va_up (va_up (va_up (va_up I 6 0) 5 ((I 5) + 1)) 6 0) 5 (nI ((sp + 1) + 1))) 6 0) 5 (nI (((sp + 1) + 1) + 1))) A F := hT.call hpT
        have sg_55l := sg_55.1
        obtain ⟨h_56a, h_56b, h_56⟩ := okR_cl (show ((61 : Int32)) = nI 61 from rfl) (show ((61 : Int32)) = nI 61 from rfl) (by omega) (by omega) sg_55.2
        refine lv_istore (lv' := [(6, .int ((A 4) ((sp + 1) + 1))), (4, .int (((A 4) (sp + 1)) - 48)), (5, .int 0), (3, .int 1), (2, .int 114), (0, .ref o), (1, .int 1)]) hx hb dX3_part_152 hl (by decide) rfl (fun ls hl => ?_)
        refine lv_aload_n hx hb dX3_part_154 rfl (lv_at hl 5 rfl) ?_
        refine lv_bipush (v := 48) hx hb dX3_part_155 (by decide) ?_
        refine lv_iload_n hx hb dX3_part_157 rfl (lv_at hl 4 rfl) ?_
        refine lv_bipush (v := 114) hx hb dX3_part_158 (by decide) ?_
        refine lv_icmp_ne (tgt := 168) hx hb dX3_part_160 (by decide) (fun c_57 => (absurd ((nx_eq (show ((114 : Int32)) = nI 114 from rfl) (show ((114 : Int32)) = nI 114 from rfl) (by omega) (by omega)).mpr (by omega)) c_57)) (fun _ => ?_)
        refine lv_bipush (v := 57) hx hb dX3_part_163 (by decide) ?_
        refine lv_goto (tgt := 170) hx hb dX3_part_165 (by decide) ?_
        refine gh_calli hg (gh_runV (As := [.int 48, .int 57]) (rest := []) hC hg (t_sign0 l V o ad (va_up (va_up (va_up (va_up (va_up (va_up I 6 0) 5 ((I 5) + 1)) 6 0) 5 (nI ((sp + 1) + 1))) 6 0) 5 (nI (((sp + 1) + 1) + 1))) A F _ hT.1 48 57 (((sp + 1) + 1) + 1) N rfl (show ((0 : Int32)) = nI 0 from rfl) hN hN60 (by omega) (by decide)) 2 (lw_V q4330 q4332 qs99 q138 q4333) hT.1.1 rfl hd_X3_sign ⟨Nat.le_of_ble_eq_true rfl, Nat.le_of_ble_eq_true rfl⟩ rfl hl.1 rfl (Nat.le_of_ble_eq_true rfl) dX3_part_170 ⟨Nat.le_of_ble_eq_true rfl, Nat.le_of_ble_eq_true rfl⟩) (fun r_58 g H locs hg hp => ?_)
        rcases hp with ⟨sg_59, hpr, hpT⟩ | ⟨sg_59, hpT⟩
        · replace hpr : r_58 = (A 4) (((sp + 1) + 1) + 1) := hpr
          subst hpr
          have hT : tw_W V g0 g o ad (va_up (va_up (va_up (va_up (va_up (va_up (va_up (va_up I 6 0) 5 ((I 5) + 1)) 6 0) 5 (nI ((sp + 1) + 1))) 6 0) 5 (nI (((sp + 1) + 1) + 1))) 6 0) 5 (nI ((((sp + 1) + 1) + 1) + 1))) A F := hT.call hpT
          have sg_59l := sg_59.1
          obtain ⟨h_60a, h_60b, h_60⟩ := okR_cl (show ((48 : Int32)) = nI 48 from rfl) (show ((57 : Int32)) = nI 57 from rfl) (by omega) (by omega) sg_59.2
          refine lv_bipush (v := 48) hx hb dX3_part_173 (by decide) ?_
          refine lv_isub hx hb dX3_part_175 ?_
          refine lv_istore (lv' := [(5, .int (((A 4) (((sp + 1) + 1) + 1)) - 48)), (6, .int ((A 4) ((sp + 1) + 1))), (4, .int (((A 4) (sp + 1)) - 48)), (3, .int 1), (2, .int 114), (0, .ref o), (1, .int 1)]) hx hb dX3_part_176 hl (by decide) rfl (fun ls hl => ?_)
          refine lv_goto (tgt := 284) hx hb dX3_part_178 (by decide) ?_
          refine lv_iload_n hx hb dX3_part_284 rfl (lv_at hl 6 rfl) ?_
          refine lv_if_eq (tgt := 300) hx hb dX3_part_285 (by decide) (fun c_61 => (absurd ((nx_eq (show ((1 : Int32)) = nI 1 from rfl) (show ((0 : Int32)) = nI 0 from rfl) (by omega) (by omega)).mp c_61) (by omega))) (fun _ => ?_)
          refine lv_aload_n hx hb dX3_part_288 rfl (lv_at hl 5 rfl) ?_
          refine lv_iload_n hx hb dX3_part_289 rfl (lv_at hl 4 rfl) ?_
          refine lv_iload hx hb dX3_part_290 (lv_at hl 2 rfl) ?_
          refine lv_iload hx hb dX3_part_292 (lv_at hl 0 rfl) ?_
          refine gh_calli hg (gh_runV (As := [.int 114, .int (((A 4) (sp + 1)) - 48), .int (((A 4) (((sp + 1) + 1) + 1)) - 48)]) (rest := []) hC hg (t_does114 l V o ad (va_up (va_up (va_up (va_up (va_up (va_up (va_up (va_up I 6 0) 5 ((I 5) + 1)) 6 0) 5 (nI ((sp + 1) + 1))) 6 0) 5 (nI (((sp + 1) + 1) + 1))) 6 0) 5 (nI ((((sp + 1) + 1) + 1) + 1))) A F _ hT.1 (((A 4) (sp + 1)) - 48) (((A 4) (((sp + 1) + 1) + 1)) - 48) ((((A 4) (sp + 1))).toNatClampNeg - 48) ((((A 4) (((sp + 1) + 1) + 1))).toNatClampNeg - 48) L D P (nx_sub h_53 (show ((48 : Int32)) = nI 48 from rfl) (by omega)) (nx_sub h_60 (show ((48 : Int32)) = nI 48 from rfl) (by omega)) (by omega) (by omega) hE hnn) 3 (lw_V q4338 q4340 qs101 q138 q4341) hT.1.1 rfl hd_X3_does ⟨Nat.le_of_ble_eq_true rfl, Nat.le_of_ble_eq_true rfl⟩ rfl hl.1 rfl (Nat.le_of_ble_eq_true rfl) dX3_part_294 ⟨Nat.le_of_ble_eq_true rfl, Nat.le_of_ble_eq_true rfl⟩) (fun r_62 g H locs hg hp => ?_)
          by_cases cb_63 : canB (A 0) 114 ((((A 4) (sp + 1))).toNatClampNeg - 48) ((((A 4) (((sp + 1) + 1) + 1))).toNatClampNeg - 48) = true
          · obtain ⟨hpr, i4, b5, b6, hpT⟩ := hp.1 cb_63
            replace hpr : r_62 = 1 := hpr
            subst hpr
            have hT : tw_W V g0 g o ad (va_up (va_up (va_up (va_up (va_up (va_up (va_up (va_up (va_up I 6 0) 5 ((I 5) + 1)) 6 0) 5 (nI ((sp + 1) + 1))) 6 0) 5 (nI (((sp + 1) + 1) + 1))) 6 0) 5 (nI ((((sp + 1) + 1) + 1) + 1))) 4 i4) (va_up (va_up (va_up A 5 b5) 6 b6) 0 ((didS (A 0) (F 0) 114 ((((A 4) (sp + 1))).toNatClampNeg - 48) ((((A 4) (((sp + 1) + 1) + 1))).toNatClampNeg - 48)).1)) (va_up F 0 ((didS (A 0) (F 0) 114 ((((A 4) (sp + 1))).toNatClampNeg - 48) ((((A 4) (((sp + 1) + 1) + 1))).toNatClampNeg - 48)).2)) := hT.call hpT
            refine lv_if_eq (tgt := 304) hx hb dX3_part_297 (by decide) (fun c_64 => (absurd ((nx_eq (show ((1 : Int32)) = nI 1 from rfl) (show ((0 : Int32)) = nI 0 from rfl) (by omega) (by omega)).mp c_64) (by omega))) (fun _ => ?_)
            refine lv_iconst (v := 1) hx hb dX3_part_300 (by decide) ?_
            refine lv_goto (tgt := 305) hx hb dX3_part_301 (by decide) ?_
            have e9 : ptE (A 4) N sp = (true, _) := (by unfold ptE; rw [if_neg (not_not_intro hlt), if_neg (by rw [hc]; decide), if_neg (by rw [hc]; decide), if_pos hc]; unfold zP; rw [if_pos sg_52, if_pos sg_55, if_pos sg_59])
            have eO : ptO (A 4) N sp = ((((A 4) (sp + 1))).toNatClampNeg - 48) := (by unfold ptO; rw [if_neg (by rw [hc]; decide), if_neg (by rw [hc]; decide)] <;> rfl)
            have eT : ptT (A 4) N sp = ((((A 4) (((sp + 1) + 1) + 1))).toNatClampNeg - 48) := (by unfold ptT; rw [if_neg (by rw [hc]; decide), if_neg (by rw [hc]; decide), if_neg (by rw [hc]; decide), if_neg (by rw [hc]; decide)] <;> rfl)
            exact gh_retz rfl hC hg hr hlk (by rw [e9, eO, eT, hc]; exact ⟨fun _ => ⟨rfl, i4, b5, b6, hT.eqI (fam7 rfl rfl rfl rfl rfl rfl rfl (fun _ => rfl))⟩, fun h9 => absurd (h9.symm.trans cb_63) (by decide)⟩) dX3_part_305 (Nat.le_of_ble_eq_true rfl) (Nat.le_of_ble_eq_true rfl)
          obtain ⟨hpr, hpT⟩ := hp.2 (Bool.eq_false_iff.mpr cb_63)
          replace hpr : r_62 = 0 := hpr
          subst hpr
          have hT : tw_W V g0 g o ad (va_up (va_up (va_up (va_up (va_up (va_up (va_up (va_up I 6 0) 5 ((I 5) + 1)) 6 0) 5 (nI ((sp + 1) + 1))) 6 0) 5 (nI (((sp + 1) + 1) + 1))) 6 0) 5 (nI ((((sp + 1) + 1) + 1) + 1))) A F := hT.call hpT
          refine lv_if_eq (tgt := 304) hx hb dX3_part_297 (by decide) (fun _ => ?_) (fun c_65 => (absurd ((nx_eq (show ((0 : Int32)) = nI 0 from rfl) (show ((0 : Int32)) = nI 0 from rfl) (by omega) (by omega)).mpr (by omega)) c_65))
          refine lv_iconst (v := 0) hx hb dX3_part_304 (by decide) ?_
          have e9 : ptE (A 4) N sp = (true, _) := (by unfold ptE; rw [if_neg (not_not_intro hlt), if_neg (by rw [hc]; decide), if_neg (by rw [hc]; decide), if_pos hc]; unfold zP; rw [if_pos sg_52, if_pos sg_55, if_pos sg_59])
          have eO : ptO (A 4) N sp = ((((A 4) (sp + 1))).toNatClampNeg - 48) := (by unfold ptO; rw [if_neg (by rw [hc]; decide), if_neg (by rw [hc]; decide)] <;> rfl)
          have eT : ptT (A 4) N sp = ((((A 4) (((sp + 1) + 1) + 1))).toNatClampNeg - 48) := (by unfold ptT; rw [if_neg (by rw [hc]; decide), if_neg (by rw [hc]; decide), if_neg (by rw [hc]; decide), if_neg (by rw [hc]; decide)] <;> rfl)
          exact gh_retz rfl hC hg hr hlk (by rw [e9, eO, eT, hc]; exact ⟨fun h9 => absurd h9 cb_63, fun _ => ⟨rfl, hT.eqI (fam7 rfl rfl rfl rfl rfl rfl rfl (fun _ => rfl))⟩⟩) dX3_part_305 (Nat.le_of_ble_eq_true rfl) (Nat.le_of_ble_eq_true rfl)
        rw [show ptE (A 4) N sp = (false, _) from (by unfold ptE; rw [if_neg (not_not_intro hlt), if_neg (by rw [hc]; decide), if_neg (by rw [hc]; decide), if_pos hc]; unfold zP; rw [if_pos sg_52, if_pos sg_55, if_neg sg_59])] at hv
        exact absurd hv Bool.false_ne_true
      rw [show ptE (A 4) N sp = (false, _) from (by unfold ptE; rw [if_neg (not_not_intro hlt), if_neg (by rw [hc]; decide), if_neg (by rw [hc]; decide), if_pos hc]; unfold zP; rw [if_pos sg_52, if_neg sg_55])] at hv
      exact absurd hv Bool.false_ne_true
    rw [show ptE (A 4) N sp = (false, _) from (by unfold ptE; rw [if_neg (not_not_intro hlt), if_neg (by rw [hc]; decide), if_neg (by rw [hc]; decide), if_pos hc]; unfold zP; rw [if_neg sg_52])] at hv
    exact absurd hv Bool.false_ne_true
  by_cases hc111 : A 4 sp = 111
  · have hc := hc111
    rw [hc] at hl
    refine lv_iload_n hx hb dX3_part_32 rfl (lv_at hl 0 rfl) ?_
    refine lv_bipush (v := 98) hx hb dX3_part_33 (by decide) ?_
    refine lv_icmp_eq (tgt := 50) hx hb dX3_part_35 (by decide) (fun c_66 => (absurd ((nx_eq (show ((111 : Int32)) = nI 111 from rfl) (show ((98 : Int32)) = nI 98 from rfl) (by omega) (by omega)).mp c_66) (by omega))) (fun _ => ?_)
    refine lv_iload_n hx hb dX3_part_38 rfl (lv_at hl 0 rfl) ?_
    refine lv_bipush (v := 102) hx hb dX3_part_39 (by decide) ?_
    refine lv_icmp_eq (tgt := 50) hx hb dX3_part_41 (by decide) (fun c_67 => (absurd ((nx_eq (show ((111 : Int32)) = nI 111 from rfl) (show ((102 : Int32)) = nI 102 from rfl) (by omega) (by omega)).mp c_67) (by omega))) (fun _ => ?_)
    refine lv_iload_n hx hb dX3_part_44 rfl (lv_at hl 0 rfl) ?_
    refine lv_bipush (v := 114) hx hb dX3_part_45 (by decide) ?_
    refine lv_icmp_ne (tgt := 54) hx hb dX3_part_47 (by decide) (fun _ => ?_) (fun c_68 => (absurd ((nx_eq (show ((111 : Int32)) = nI 111 from rfl) (show ((114 : Int32)) = nI 114 from rfl) (by omega) (by omega)).mp c_68) (by omega)))
    refine lv_iconst (v := 0) hx hb dX3_part_54 (by decide) ?_
    refine lv_istore_n (lv' := [(3, .int 0), (2, .int 111), (0, .ref o), (1, .int 1)]) hx hb dX3_part_55 rfl hl (by decide) rfl (fun ls hl => ?_)
    refine lv_aload_n hx hb dX3_part_56 rfl (lv_at hl 2 rfl) ?_
    refine lv_aload_n hx hb dX3_part_57 rfl (lv_at hl 2 rfl) ?_
    refine gh_get (v := .int (I 6)) hC hg hT.1.1 fX3_236_0 rfl dX3_part_58 ?_
    refine lv_if_ne (tgt := 92) hx hb dX3_part_61 (by decide) (fun c_69 => (absurd ((nx_eq (h6.trans (show ((0 : Int32)) = nI 0 from rfl)) (show ((0 : Int32)) = nI 0 from rfl) (by omega) (by omega)).mpr (by omega)) c_69)) (fun _ => ?_)
    refine lv_iload_n hx hb dX3_part_64 rfl (lv_at hl 0 rfl) ?_
    refine lv_if_ne (tgt := 96) hx hb dX3_part_65 (by decide) (fun c_70 => (absurd ((nx_eq (show ((0 : Int32)) = nI 0 from rfl) (show ((0 : Int32)) = nI 0 from rfl) (by omega) (by omega)).mpr (by omega)) c_70)) (fun _ => ?_)
    refine lv_iload_n hx hb dX3_part_68 rfl (lv_at hl 1 rfl) ?_
    refine lv_bipush (v := 111) hx hb dX3_part_69 (by decide) ?_
    refine lv_icmp_eq (tgt := 96) hx hb dX3_part_71 (by decide) (fun _ => ?_) (fun c_71 => (absurd ((nx_eq (show ((111 : Int32)) = nI 111 from rfl) (show ((111 : Int32)) = nI 111 from rfl) (by omega) (by omega)).mpr (by omega)) c_71))
    refine lv_iconst (v := 0) hx hb dX3_part_96 (by decide) ?_
    refine gh_put (v := .int 0) hC hg hT.1.1 fX3_236_0 rfl rfl (Nat.le_of_ble_eq_true rfl) dX3_part_97 (fun g H locs hg hw hn => ?_)
    have hT : tw_W V g0 g o ad (va_up I 6 0) A F := hT.putI 6 0 hw hn
    refine lv_aload_n hx hb dX3_part_100 rfl (lv_at hl 2 rfl) ?_
    refine lv_dup hx hb dX3_part_101 rfl ?_
    refine gh_get (v := .int (I 5)) hC hg hT.1.1 fX3_233_0 rfl dX3_part_102 ?_
    refine lv_aload_n hx hb dX3_part_105 rfl (lv_at hl 2 rfl) ?_
    refine gh_get (v := .int 0) hC hg hT.1.1 fX3_236_0 rfl dX3_part_106 ?_
    refine lv_if_eq (tgt := 116) hx hb dX3_part_109 (by decide) (fun _ => ?_) (fun c_72 => (absurd ((nx_eq (show ((0 : Int32)) = nI 0 from rfl) (show ((0 : Int32)) = nI 0 from rfl) (by omega) (by omega)).mpr (by omega)) c_72))
    refine lv_iconst (v := 1) hx hb dX3_part_116 (by decide) ?_
    refine lv_iadd hx hb dX3_part_117 ?_
    refine gh_put (v := .int ((I 5) + 1)) hC hg hT.1.1 fX3_233_0 rfl rfl (Nat.le_of_ble_eq_true rfl) dX3_part_118 (fun g H locs hg hw hn => ?_)
    have hT : tw_W V g0 g o ad (va_up (va_up I 6 0) 5 ((I 5) + 1)) A F := hT.putI 5 ((I 5) + 1) hw hn
    refine lv_iconst (v := 0) hx hb dX3_part_121 (by decide) ?_
    refine lv_istore (lv' := [(4, .int 0), (3, .int 0), (2, .int 111), (0, .ref o), (1, .int 1)]) hx hb dX3_part_122 hl (by decide) rfl (fun ls hl => ?_)
    refine lv_iconst (v := 0) hx hb dX3_part_124 (by decide) ?_
    refine lv_istore (lv' := [(5, .int 0), (4, .int 0), (3, .int 0), (2, .int 111), (0, .ref o), (1, .int 1)]) hx hb dX3_part_125 hl (by decide) rfl (fun ls hl => ?_)
    refine lv_iload_n hx hb dX3_part_127 rfl (lv_at hl 2 rfl) ?_
    refine lv_if_eq (tgt := 181) hx hb dX3_part_128 (by decide) (fun _ => ?_) (fun c_73 => (absurd ((nx_eq (show ((0 : Int32)) = nI 0 from rfl) (show ((0 : Int32)) = nI 0 from rfl) (by omega) (by omega)).mpr (by omega)) c_73))
    refine lv_iload_n hx hb dX3_part_181 rfl (lv_at hl 3 rfl) ?_
    refine lv_bipush (v := 111) hx hb dX3_part_182 (by decide) ?_
    refine lv_icmp_ne (tgt := 216) hx hb dX3_part_184 (by decide) (fun c_74 => (absurd ((nx_eq (show ((111 : Int32)) = nI 111 from rfl) (show ((111 : Int32)) = nI 111 from rfl) (by omega) (by omega)).mpr (by omega)) c_74)) (fun _ => ?_)
    refine lv_aload_n hx hb dX3_part_187 rfl (lv_at hl 4 rfl) ?_
    refine lv_bipush (v := 48) hx hb dX3_part_188 (by decide) ?_
    refine lv_bipush (v := 50) hx hb dX3_part_190 (by decide) ?_
    refine gh_calli hg (gh_runV (As := [.int 48, .int 50]) (rest := []) hC hg (t_sign0 l V o ad (va_up (va_up I 6 0) 5 ((I 5) + 1)) A F _ hT.1 48 50 (sp + 1) N (nx_add h5 (show ((1 : Int32)) = nI 1 from rfl)) (show ((0 : Int32)) = nI 0 from rfl) hN hN60 (by omega) (by decide)) 2 (lw_V q4330 q4332 qs99 q138 q4333) hT.1.1 rfl hd_X3_sign ⟨Nat.le_of_ble_eq_true rfl, Nat.le_of_ble_eq_true rfl⟩ rfl hl.1 rfl (Nat.le_of_ble_eq_true rfl) dX3_part_192 ⟨Nat.le_of_ble_eq_true rfl, Nat.le_of_ble_eq_true rfl⟩) (fun r_75 g H locs hg hp => ?_)
    rcases hp with ⟨sg_76, hpr, hpT⟩ | ⟨sg_76, hpT⟩
    · replace hpr : r_75 = (A 4) (sp + 1) := hpr
      subst hpr
      have hT : tw_W V g0 g o ad (va_up (va_up (va_up (va_up I 6 0) 5 ((I 5) + 1)) 6 0) 5 (nI ((sp + 1) + 1))) A F := hT.call hpT
      have sg_76l := sg_76.1
      obtain ⟨h_77a, h_77b, h_77⟩ := okR_cl (show ((48 : Int32)) = nI 48 from rfl) (show ((50 : Int32)) = nI 50 from rfl) (by omega) (by omega) sg_76.2
      refine lv_bipush (v := 48) hx hb dX3_part_195 (by decide) ?_
      refine lv_isub hx hb dX3_part_197 ?_
      refine lv_istore (lv' := [(4, .int (((A 4) (sp + 1)) - 48)), (5, .int 0), (3, .int 0), (2, .int 111), (0, .ref o), (1, .int 1)]) hx hb dX3_part_198 hl (by decide) rfl (fun ls hl => ?_)
      refine lv_aload_n hx hb dX3_part_200 rfl (lv_at hl 4 rfl) ?_
      refine lv_bipush (v := 49) hx hb dX3_part_201 (by decide) ?_
      refine lv_bipush (v := 57) hx hb dX3_part_203 (by decide) ?_
      refine gh_calli hg (gh_runV (As := [.int 49, .int 57]) (rest := []) hC hg (t_sign0 l V o ad (va_up (va_up (va_up (va_up I 6 0) 5 ((I 5) + 1)) 6 0) 5 (nI ((sp + 1) + 1))) A F _ hT.1 49 57 ((sp + 1) + 1) N rfl (show ((0 : Int32)) = nI 0 from rfl) hN hN60 (by omega) (by decide)) 2 (lw_V q4330 q4332 qs99 q138 q4333) hT.1.1 rfl hd_X3_sign ⟨Nat.le_of_ble_eq_true rfl, Nat.le_of_ble_eq_true rfl⟩ rfl hl.1 rfl (Nat.le_of_ble_eq_true rfl) dX3_part_205 ⟨Nat.le_of_ble_eq_true rfl, Nat.le_of_ble_eq_true rfl⟩) (fun r_78 g H locs hg hp => ?_)
      rcases hp with ⟨sg_79, hpr, hpT⟩ | ⟨sg_79, hpT⟩
      · replace hpr : r_78 = (A 4) ((sp + 1) + 1) := hpr
        subst hpr
        have hT : tw_W V g0 g o ad (va_up (va_up (va_up (va_up (va_up (va_up I 6 0) 5 ((I 5) + 1)) 6 0) 5 (nI ((sp + 1) + 1))) 6 0) 5 (nI (((sp + 1) + 1) + 1))) A F := hT.call hpT
        have sg_79l := sg_79.1
        obtain ⟨h_80a, h_80b, h_80⟩ := okR_cl (show ((49 : Int32)) = nI 49 from rfl) (show ((57 : Int32)) = nI 57 from rfl) (by omega) (by omega) sg_79.2
        refine lv_bipush (v := 48) hx hb dX3_part_208 (by decide) ?_
        refine lv_isub hx hb dX3_part_210 ?_
        refine lv_istore (lv' := [(5, .int (((A 4) ((sp + 1) + 1)) - 48)), (4, .int (((A 4) (sp + 1)) - 48)), (3, .int 0), (2, .int 111), (0, .ref o), (1, .int 1)]) hx hb dX3_part_211 hl (by decide) rfl (fun ls hl => ?_)
        refine lv_goto (tgt := 284) hx hb dX3_part_213 (by decide) ?_
        refine lv_iload_n hx hb dX3_part_284 rfl (lv_at hl 5 rfl) ?_
        refine lv_if_eq (tgt := 300) hx hb dX3_part_285 (by decide) (fun c_81 => (absurd ((nx_eq (show ((1 : Int32)) = nI 1 from rfl) (show ((0 : Int32)) = nI 0 from rfl) (by omega) (by omega)).mp c_81) (by omega))) (fun _ => ?_)
        refine lv_aload_n hx hb dX3_part_288 rfl (lv_at hl 4 rfl) ?_
        refine lv_iload_n hx hb dX3_part_289 rfl (lv_at hl 3 rfl) ?_
        refine lv_iload hx hb dX3_part_290 (lv_at hl 1 rfl) ?_
        refine lv_iload hx hb dX3_part_292 (lv_at hl 0 rfl) ?_
        refine gh_calli hg (gh_runV (As := [.int 111, .int (((A 4) (sp + 1)) - 48), .int (((A 4) ((sp + 1) + 1)) - 48)]) (rest := []) hC hg (t_does111 l V o ad (va_up (va_up (va_up (va_up (va_up (va_up I 6 0) 5 ((I 5) + 1)) 6 0) 5 (nI ((sp + 1) + 1))) 6 0) 5 (nI (((sp + 1) + 1) + 1))) A F _ hT.1 (((A 4) (sp + 1)) - 48) (((A 4) ((sp + 1) + 1)) - 48) ((((A 4) (sp + 1))).toNatClampNeg - 48) ((((A 4) ((sp + 1) + 1))).toNatClampNeg - 48) L D P (nx_sub h_77 (show ((48 : Int32)) = nI 48 from rfl) (by omega)) (nx_sub h_80 (show ((48 : Int32)) = nI 48 from rfl) (by omega)) (by omega) (by omega) hE hnn) 3 (lw_V q4338 q4340 qs101 q138 q4341) hT.1.1 rfl hd_X3_does ⟨Nat.le_of_ble_eq_true rfl, Nat.le_of_ble_eq_true rfl⟩ rfl hl.1 rfl (Nat.le_of_ble_eq_true rfl) dX3_part_294 ⟨Nat.le_of_ble_eq_true rfl, Nat.le_of_ble_eq_true rfl⟩) (fun r_82 g H locs hg hp => ?_)
        by_cases cb_83 : canB (A 0) 111 ((((A 4) (sp + 1))).toNatClampNeg - 48) ((((A 4) ((sp + 1) + 1))).toNatClampNeg - 48) = true
        · obtain ⟨hpr, i4, b5, b6, hpT⟩ := hp.1 cb_83
          replace hpr : r_82 = 1 := hpr
          subst hpr
          have hT : tw_W V g0 g o ad (va_up (va_up (va_up (va_up (va_up (va_up (va_up I 6 0) 5 ((I 5) + 1)) 6 0) 5 (nI ((sp + 1) + 1))) 6 0) 5 (nI (((sp + 1) + 1) + 1))) 4 i4) (va_up (va_up (va_up A 5 b5) 6 b6) 0 ((didS (A 0) (F 0) 111 ((((A 4) (sp + 1))).toNatClampNeg - 48) ((((A 4) ((sp + 1) + 1))).toNatClampNeg - 48)).1)) (va_up F 0 ((didS (A 0) (F 0) 111 ((((A 4) (sp + 1))).toNatClampNeg - 48) ((((A 4) ((sp + 1) + 1))).toNatClampNeg - 48)).2)) := hT.call hpT
          refine lv_if_eq (tgt := 304) hx hb dX3_part_297 (by decide) (fun c_84 => (absurd ((nx_eq (show ((1 : Int32)) = nI 1 from rfl) (show ((0 : Int32)) = nI 0 from rfl) (by omega) (by omega)).mp c_84) (by omega))) (fun _ => ?_)
          refine lv_iconst (v := 1) hx hb dX3_part_300 (by decide) ?_
          refine lv_goto (tgt := 305) hx hb dX3_part_301 (by decide) ?_
          have e9 : ptE (A 4) N sp = (true, _) := (by unfold ptE; rw [if_neg (not_not_intro hlt), if_neg (by rw [hc]; decide), if_neg (by rw [hc]; decide), if_neg (by rw [hc]; decide), if_pos hc]; unfold oP; rw [if_pos sg_76, if_pos sg_79])
          have eO : ptO (A 4) N sp = ((((A 4) (sp + 1))).toNatClampNeg - 48) := (by unfold ptO; rw [if_neg (by rw [hc]; decide), if_neg (by rw [hc]; decide)] <;> rfl)
          have eT : ptT (A 4) N sp = ((((A 4) ((sp + 1) + 1))).toNatClampNeg - 48) := (by unfold ptT; rw [if_neg (by rw [hc]; decide), if_neg (by rw [hc]; decide), if_pos hc] <;> rfl)
          exact gh_retz rfl hC hg hr hlk (by rw [e9, eO, eT, hc]; exact ⟨fun _ => ⟨rfl, i4, b5, b6, hT.eqI (fam7 rfl rfl rfl rfl rfl rfl rfl (fun _ => rfl))⟩, fun h9 => absurd (h9.symm.trans cb_83) (by decide)⟩) dX3_part_305 (Nat.le_of_ble_eq_true rfl) (Nat.le_of_ble_eq_true rfl)
        obtain ⟨hpr, hpT⟩ := hp.2 (Bool.eq_false_iff.mpr cb_83)
        replace hpr : r_82 = 0 := hpr
        subst hpr
        have hT : tw_W V g0 g o ad (va_up (va_up (va_up (va_up (va_up (va_up I 6 0) 5 ((I 5) + 1)) 6 0) 5 (nI ((sp + 1) + 1))) 6 0) 5 (nI (((sp + 1) + 1) + 1))) A F := hT.call hpT
        refine lv_if_eq (tgt := 304) hx hb dX3_part_297 (by decide) (fun _ => ?_) (fun c_85 => (absurd ((nx_eq (show ((0 : Int32)) = nI 0 from rfl) (show ((0 : Int32)) = nI 0 from rfl) (by omega) (by omega)).mpr (by omega)) c_85))
        refine lv_iconst (v := 0) hx hb dX3_part_304 (by decide) ?_
        have e9 : ptE (A 4) N sp = (true, _) := (by unfold ptE; rw [if_neg (not_not_intro hlt), if_neg (by rw [hc]; decide), if_neg (by rw [hc]; decide), if_neg (by rw [hc]; decide), if_pos hc]; unfold oP; rw [if_pos sg_76, if_pos sg_79])
        have eO : ptO (A 4) N sp = ((((A 4) (sp + 1))).toNatClampNeg - 48) := (by unfold ptO; rw [if_neg (by rw [hc]; decide), if_neg (by rw [hc]; decide)] <;> rfl)
        have eT : ptT (A 4) N sp = ((((A 4) ((sp + 1) + 1))).toNatClampNeg - 48) := (by unfold ptT; rw [if_neg (by rw [hc]; decide), if_neg (by rw [hc]; decide), if_pos hc] <;> rfl)
        exact gh_retz rfl hC hg hr hlk (by rw [e9, eO, eT, hc]; exact ⟨fun h9 => absurd h9 cb_83, fun _ => ⟨rfl, hT.eqI (fam7 rfl rfl rfl rfl rfl rfl rfl (fun _ => rfl))⟩⟩) dX3_part_305 (Nat.le_of_ble_eq_true rfl) (Nat.le_of_ble_eq_true rfl)
      rw [show ptE (A 4) N sp = (false, _) from (by unfold ptE; rw [if_neg (not_not_intro hlt), if_neg (by rw [hc]; decide), if_neg (by rw [hc]; decide), if_neg (by rw [hc]; decide), if_pos hc]; unfold oP; rw [if_pos sg_76, if_neg sg_79])] at hv
      exact absurd hv Bool.false_ne_true
    rw [show ptE (A 4) N sp = (false, _) from (by unfold ptE; rw [if_neg (not_not_intro hlt), if_neg (by rw [hc]; decide), if_neg (by rw [hc]; decide), if_neg (by rw [hc]; decide), if_pos hc]; unfold oP; rw [if_neg sg_76])] at hv
    exact absurd hv Bool.false_ne_true
  by_cases hc108 : A 4 sp = 108
  · have hc := hc108
    rw [hc] at hl
    refine lv_iload_n hx hb dX3_part_32 rfl (lv_at hl 0 rfl) ?_
    refine lv_bipush (v := 98) hx hb dX3_part_33 (by decide) ?_
    refine lv_icmp_eq (tgt := 50) hx hb dX3_part_35 (by decide) (fun c_86 => (absurd ((nx_eq (show ((108 : Int32)) = nI 108 from rfl) (show ((98 : Int32)) = nI 98 from rfl) (by omega) (by omega)).mp c_86) (by omega))) (fun _ => ?_)
    refine lv_iload_n hx hb dX3_part_38 rfl (lv_at hl 0 rfl) ?_
    refine lv_bipush (v := 102) hx hb dX3_part_39 (by decide) ?_
    refine lv_icmp_eq (tgt := 50) hx hb dX3_part_41 (by decide) (fun c_87 => (absurd ((nx_eq (show ((108 : Int32)) = nI 108 from rfl) (show ((102 : Int32)) = nI 102 from rfl) (by omega) (by omega)).mp c_87) (by omega))) (fun _ => ?_)
    refine lv_iload_n hx hb dX3_part_44 rfl (lv_at hl 0 rfl) ?_
    refine lv_bipush (v := 114) hx hb dX3_part_45 (by decide) ?_
    refine lv_icmp_ne (tgt := 54) hx hb dX3_part_47 (by decide) (fun _ => ?_) (fun c_88 => (absurd ((nx_eq (show ((108 : Int32)) = nI 108 from rfl) (show ((114 : Int32)) = nI 114 from rfl) (by omega) (by omega)).mp c_88) (by omega)))
    refine lv_iconst (v := 0) hx hb dX3_part_54 (by decide) ?_
    refine lv_istore_n (lv' := [(3, .int 0), (2, .int 108), (0, .ref o), (1, .int 1)]) hx hb dX3_part_55 rfl hl (by decide) rfl (fun ls hl => ?_)
    refine lv_aload_n hx hb dX3_part_56 rfl (lv_at hl 2 rfl) ?_
    refine lv_aload_n hx hb dX3_part_57 rfl (lv_at hl 2 rfl) ?_
    refine gh_get (v := .int (I 6)) hC hg hT.1.1 fX3_236_0 rfl dX3_part_58 ?_
    refine lv_if_ne (tgt := 92) hx hb dX3_part_61 (by decide) (fun c_89 => (absurd ((nx_eq (h6.trans (show ((0 : Int32)) = nI 0 from rfl)) (show ((0 : Int32)) = nI 0 from rfl) (by omega) (by omega)).mpr (by omega)) c_89)) (fun _ => ?_)
    refine lv_iload_n hx hb dX3_part_64 rfl (lv_at hl 0 rfl) ?_
    refine lv_if_ne (tgt := 96) hx hb dX3_part_65 (by decide) (fun c_90 => (absurd ((nx_eq (show ((0 : Int32)) = nI 0 from rfl) (show ((0 : Int32)) = nI 0 from rfl) (by omega) (by omega)).mpr (by omega)) c_90)) (fun _ => ?_)
    refine lv_iload_n hx hb dX3_part_68 rfl (lv_at hl 1 rfl) ?_
    refine lv_bipush (v := 111) hx hb dX3_part_69 (by decide) ?_
    refine lv_icmp_eq (tgt := 96) hx hb dX3_part_71 (by decide) (fun c_91 => (absurd ((nx_eq (show ((108 : Int32)) = nI 108 from rfl) (show ((111 : Int32)) = nI 111 from rfl) (by omega) (by omega)).mp c_91) (by omega))) (fun _ => ?_)
    refine lv_iload_n hx hb dX3_part_74 rfl (lv_at hl 1 rfl) ?_
    refine lv_bipush (v := 108) hx hb dX3_part_75 (by decide) ?_
    refine lv_icmp_eq (tgt := 96) hx hb dX3_part_77 (by decide) (fun _ => ?_) (fun c_92 => (absurd ((nx_eq (show ((108 : Int32)) = nI 108 from rfl) (show ((108 : Int32)) = nI 108 from rfl) (by omega) (by omega)).mpr (by omega)) c_92))
    refine lv_iconst (v := 0) hx hb dX3_part_96 (by decide) ?_
    refine gh_put (v := .int 0) hC hg hT.1.1 fX3_236_0 rfl rfl (Nat.le_of_ble_eq_true rfl) dX3_part_97 (fun g H locs hg hw hn => ?_)
    have hT : tw_W V g0 g o ad (va_up I 6 0) A F := hT.putI 6 0 hw hn
    refine lv_aload_n hx hb dX3_part_100 rfl (lv_at hl 2 rfl) ?_
    refine lv_dup hx hb dX3_part_101 rfl ?_
    refine gh_get (v := .int (I 5)) hC hg hT.1.1 fX3_233_0 rfl dX3_part_102 ?_
    refine lv_aload_n hx hb dX3_part_105 rfl (lv_at hl 2 rfl) ?_
    refine gh_get (v := .int 0) hC hg hT.1.1 fX3_236_0 rfl dX3_part_106 ?_
    refine lv_if_eq (tgt := 116) hx hb dX3_part_109 (by decide) (fun _ => ?_) (fun c_93 => (absurd ((nx_eq (show ((0 : Int32)) = nI 0 from rfl) (show ((0 : Int32)) = nI 0 from rfl) (by omega) (by omega)).mpr (by omega)) c_93))
    refine lv_iconst (v := 1) hx hb dX3_part_116 (by decide) ?_
    refine lv_iadd hx hb dX3_part_117 ?_
    refine gh_put (v := .int ((I 5) + 1)) hC hg hT.1.1 fX3_233_0 rfl rfl (Nat.le_of_ble_eq_true rfl) dX3_part_118 (fun g H locs hg hw hn => ?_)
    have hT : tw_W V g0 g o ad (va_up (va_up I 6 0) 5 ((I 5) + 1)) A F := hT.putI 5 ((I 5) + 1) hw hn
    refine lv_iconst (v := 0) hx hb dX3_part_121 (by decide) ?_
    refine lv_istore (lv' := [(4, .int 0), (3, .int 0), (2, .int 108), (0, .ref o), (1, .int 1)]) hx hb dX3_part_122 hl (by decide) rfl (fun ls hl => ?_)
    refine lv_iconst (v := 0) hx hb dX3_part_124 (by decide) ?_
    refine lv_istore (lv' := [(5, .int 0), (4, .int 0), (3, .int 0), (2, .int 108), (0, .ref o), (1, .int 1)]) hx hb dX3_part_125 hl (by decide) rfl (fun ls hl => ?_)
    refine lv_iload_n hx hb dX3_part_127 rfl (lv_at hl 2 rfl) ?_
    refine lv_if_eq (tgt := 181) hx hb dX3_part_128 (by decide) (fun _ => ?_) (fun c_94 => (absurd ((nx_eq (show ((0 : Int32)) = nI 0 from rfl) (show ((0 : Int32)) = nI 0 from rfl) (by omega) (by omega)).mpr (by omega)) c_94))
    refine lv_iload_n hx hb dX3_part_181 rfl (lv_at hl 3 rfl) ?_
    refine lv_bipush (v := 111) hx hb dX3_part_182 (by decide) ?_
    refine lv_icmp_ne (tgt := 216) hx hb dX3_part_184 (by decide) (fun _ => ?_) (fun c_95 => (absurd ((nx_eq (show ((108 : Int32)) = nI 108 from rfl) (show ((111 : Int32)) = nI 111 from rfl) (by omega) (by omega)).mp c_95) (by omega)))
    refine lv_iload_n hx hb dX3_part_216 rfl (lv_at hl 3 rfl) ?_
    refine lv_bipush (v := 108) hx hb dX3_part_217 (by decide) ?_
    refine lv_icmp_ne (tgt := 234) hx hb dX3_part_219 (by decide) (fun c_96 => (absurd ((nx_eq (show ((108 : Int32)) = nI 108 from rfl) (show ((108 : Int32)) = nI 108 from rfl) (by omega) (by omega)).mpr (by omega)) c_96)) (fun _ => ?_)
    refine lv_aload_n hx hb dX3_part_222 rfl (lv_at hl 4 rfl) ?_
    refine lv_iconst (v := 0) hx hb dX3_part_223 (by decide) ?_
    refine lv_bipush (v := 11) hx hb dX3_part_224 (by decide) ?_
    refine gh_calli hg (gh_runV (As := [.int 0, .int 11]) (rest := []) hC hg (t_number11 l V o ad (va_up (va_up I 6 0) 5 ((I 5) + 1)) A F _ hT.1 (sp + 1) N (nx_add h5 (show ((1 : Int32)) = nI 1 from rfl)) (show ((0 : Int32)) = nI 0 from rfl) hN hN60 (by omega)) 2 (lw_V q4334 q4336 qs100 q138 q4337) hT.1.1 rfl hd_X3_number ⟨Nat.le_of_ble_eq_true rfl, Nat.le_of_ble_eq_true rfl⟩ rfl hl.1 rfl (Nat.le_of_ble_eq_true rfl) dX3_part_226 ⟨Nat.le_of_ble_eq_true rfl, Nat.le_of_ble_eq_true rfl⟩) (fun r_97 g H locs hg hp => ?_)
    rcases hp with ⟨sg_98, hpr, hpT⟩ | ⟨sg_98, hpT⟩
    · replace hpr : r_97 = nI (nmV (A 4) N (sp + 1) 11) := hpr
      subst hpr
      have hT : tw_W V g0 g o ad (va_up (va_up (va_up (va_up I 6 0) 5 ((I 5) + 1)) 6 0) 5 (nI (nmP (A 4) N (sp + 1) 11))) A F := hT.call hpT
      have sg_98l := nmP_le (b := (A 4)) (M := 11) sg_98.1
      have sg_98m := nmV_le (b := (A 4)) (N := N) (M := 11) sg_98.2 (by omega)
      skip
      refine lv_istore (lv' := [(4, .int (nI (nmV (A 4) N (sp + 1) 11))), (5, .int 0), (3, .int 0), (2, .int 108), (0, .ref o), (1, .int 1)]) hx hb dX3_part_229 hl (by decide) rfl (fun ls hl => ?_)
      refine lv_goto (tgt := 284) hx hb dX3_part_231 (by decide) ?_
      refine lv_iload_n hx hb dX3_part_284 rfl (lv_at hl 5 rfl) ?_
      refine lv_if_eq (tgt := 300) hx hb dX3_part_285 (by decide) (fun c_99 => (absurd ((nx_eq (show ((1 : Int32)) = nI 1 from rfl) (show ((0 : Int32)) = nI 0 from rfl) (by omega) (by omega)).mp c_99) (by omega))) (fun _ => ?_)
      refine lv_aload_n hx hb dX3_part_288 rfl (lv_at hl 4 rfl) ?_
      refine lv_iload_n hx hb dX3_part_289 rfl (lv_at hl 3 rfl) ?_
      refine lv_iload hx hb dX3_part_290 (lv_at hl 0 rfl) ?_
      refine lv_iload hx hb dX3_part_292 (lv_at hl 1 rfl) ?_
      refine gh_calli hg (gh_runV (As := [.int 108, .int (nI (nmV (A 4) N (sp + 1) 11)), .int 0]) (rest := []) hC hg (t_does108 l V o ad (va_up (va_up (va_up (va_up I 6 0) 5 ((I 5) + 1)) 6 0) 5 (nI (nmP (A 4) N (sp + 1) 11))) A F _ hT.1 (nI (nmV (A 4) N (sp + 1) 11)) 0 (nmV (A 4) N (sp + 1) 11) 0 L D P rfl (show ((0 : Int32)) = nI 0 from rfl) (by omega) (by omega) hE hnn) 3 (lw_V q4338 q4340 qs101 q138 q4341) hT.1.1 rfl hd_X3_does ⟨Nat.le_of_ble_eq_true rfl, Nat.le_of_ble_eq_true rfl⟩ rfl hl.1 rfl (Nat.le_of_ble_eq_true rfl) dX3_part_294 ⟨Nat.le_of_ble_eq_true rfl, Nat.le_of_ble_eq_true rfl⟩) (fun r_100 g H locs hg hp => ?_)
      by_cases cb_101 : canB (A 0) 108 (nmV (A 4) N (sp + 1) 11) 0 = true
      · obtain ⟨hpr, i4, b5, b6, hpT⟩ := hp.1 cb_101
        replace hpr : r_100 = 1 := hpr
        subst hpr
        have hT : tw_W V g0 g o ad (va_up (va_up (va_up (va_up (va_up I 6 0) 5 ((I 5) + 1)) 6 0) 5 (nI (nmP (A 4) N (sp + 1) 11))) 4 i4) (va_up (va_up (va_up A 5 b5) 6 b6) 0 ((didS (A 0) (F 0) 108 (nmV (A 4) N (sp + 1) 11) 0).1)) (va_up F 0 ((didS (A 0) (F 0) 108 (nmV (A 4) N (sp + 1) 11) 0).2)) := hT.call hpT
        refine lv_if_eq (tgt := 304) hx hb dX3_part_297 (by decide) (fun c_102 => (absurd ((nx_eq (show ((1 : Int32)) = nI 1 from rfl) (show ((0 : Int32)) = nI 0 from rfl) (by omega) (by omega)).mp c_102) (by omega))) (fun _ => ?_)
        refine lv_iconst (v := 1) hx hb dX3_part_300 (by decide) ?_
        refine lv_goto (tgt := 305) hx hb dX3_part_301 (by decide) ?_
        have e9 : ptE (A 4) N sp = (true, _) := (by unfold ptE; rw [if_neg (not_not_intro hlt), if_neg (by rw [hc]; decide), if_neg (by rw [hc]; decide), if_neg (by rw [hc]; decide), if_neg (by rw [hc]; decide), if_pos hc]; unfold nuP; rw [if_pos sg_98])
        have eO : ptO (A 4) N sp = (nmV (A 4) N (sp + 1) 11) := (by unfold ptO; rw [if_pos hc] <;> rfl)
        have eT : ptT (A 4) N sp = 0 := (by unfold ptT; rw [if_pos hc] <;> rfl)
        exact gh_retz rfl hC hg hr hlk (by rw [e9, eO, eT, hc]; exact ⟨fun _ => ⟨rfl, i4, b5, b6, hT.eqI (fam7 rfl rfl rfl rfl rfl rfl rfl (fun _ => rfl))⟩, fun h9 => absurd (h9.symm.trans cb_101) (by decide)⟩) dX3_part_305 (Nat.le_of_ble_eq_true rfl) (Nat.le_of_ble_eq_true rfl)
      obtain ⟨hpr, hpT⟩ := hp.2 (Bool.eq_false_iff.mpr cb_101)
      replace hpr : r_100 = 0 := hpr
      subst hpr
      have hT : tw_W V g0 g o ad (va_up (va_up (va_up (va_up I 6 0) 5 ((I 5) + 1)) 6 0) 5 (nI (nmP (A 4) N (sp + 1) 11))) A F := hT.call hpT
      refine lv_if_eq (tgt := 304) hx hb dX3_part_297 (by decide) (fun _ => ?_) (fun c_103 => (absurd ((nx_eq (show ((0 : Int32)) = nI 0 from rfl) (show ((0 : Int32)) = nI 0 from rfl) (by omega) (by omega)).mpr (by omega)) c_103))
      refine lv_iconst (v := 0) hx hb dX3_part_304 (by decide) ?_
      have e9 : ptE (A 4) N sp = (true, _) := (by unfold ptE; rw [if_neg (not_not_intro hlt), if_neg (by rw [hc]; decide), if_neg (by rw [hc]; decide), if_neg (by rw [hc]; decide), if_neg (by rw [hc]; decide), if_pos hc]; unfold nuP; rw [if_pos sg_98])
      have eO : ptO (A 4) N sp = (nmV (A 4) N (sp + 1) 11) := (by unfold ptO; rw [if_pos hc] <;> rfl)
      have eT : ptT (A 4) N sp = 0 := (by unfold ptT; rw [if_pos hc] <;> rfl)
      exact gh_retz rfl hC hg hr hlk (by rw [e9, eO, eT, hc]; exact ⟨fun h9 => absurd h9 cb_101, fun _ => ⟨rfl, hT.eqI (fam7 rfl rfl rfl rfl rfl rfl rfl (fun _ => rfl))⟩⟩) dX3_part_305 (Nat.le_of_ble_eq_true rfl) (Nat.le_of_ble_eq_true rfl)
    rw [show ptE (A 4) N sp = (false, _) from (by unfold ptE; rw [if_neg (not_not_intro hlt), if_neg (by rw [hc]; decide), if_neg (by rw [hc]; decide), if_neg (by rw [hc]; decide), if_neg (by rw [hc]; decide), if_pos hc]; unfold nuP; rw [if_neg sg_98])] at hv
    exact absurd hv Bool.false_ne_true
  by_cases hc99 : A 4 sp = 99
  · have hc := hc99
    rw [hc] at hl
    refine lv_iload_n hx hb dX3_part_32 rfl (lv_at hl 0 rfl) ?_
    refine lv_bipush (v := 98) hx hb dX3_part_33 (by decide) ?_
    refine lv_icmp_eq (tgt := 50) hx hb dX3_part_35 (by decide) (fun c_104 => (absurd ((nx_eq (show ((99 : Int32)) = nI 99 from rfl) (show ((98 : Int32)) = nI 98 from rfl) (by omega) (by omega)).mp c_104) (by omega))) (fun _ => ?_)
    refine lv_iload_n hx hb dX3_part_38 rfl (lv_at hl 0 rfl) ?_
    refine lv_bipush (v := 102) hx hb dX3_part_39 (by decide) ?_
    refine lv_icmp_eq (tgt := 50) hx hb dX3_part_41 (by decide) (fun c_105 => (absurd ((nx_eq (show ((99 : Int32)) = nI 99 from rfl) (show ((102 : Int32)) = nI 102 from rfl) (by omega) (by omega)).mp c_105) (by omega))) (fun _ => ?_)
    refine lv_iload_n hx hb dX3_part_44 rfl (lv_at hl 0 rfl) ?_
    refine lv_bipush (v := 114) hx hb dX3_part_45 (by decide) ?_
    refine lv_icmp_ne (tgt := 54) hx hb dX3_part_47 (by decide) (fun _ => ?_) (fun c_106 => (absurd ((nx_eq (show ((99 : Int32)) = nI 99 from rfl) (show ((114 : Int32)) = nI 114 from rfl) (by omega) (by omega)).mp c_106) (by omega)))
    refine lv_iconst (v := 0) hx hb dX3_part_54 (by decide) ?_
    refine lv_istore_n (lv' := [(3, .int 0), (2, .int 99), (0, .ref o), (1, .int 1)]) hx hb dX3_part_55 rfl hl (by decide) rfl (fun ls hl => ?_)
    refine lv_aload_n hx hb dX3_part_56 rfl (lv_at hl 2 rfl) ?_
    refine lv_aload_n hx hb dX3_part_57 rfl (lv_at hl 2 rfl) ?_
    refine gh_get (v := .int (I 6)) hC hg hT.1.1 fX3_236_0 rfl dX3_part_58 ?_
    refine lv_if_ne (tgt := 92) hx hb dX3_part_61 (by decide) (fun c_107 => (absurd ((nx_eq (h6.trans (show ((0 : Int32)) = nI 0 from rfl)) (show ((0 : Int32)) = nI 0 from rfl) (by omega) (by omega)).mpr (by omega)) c_107)) (fun _ => ?_)
    refine lv_iload_n hx hb dX3_part_64 rfl (lv_at hl 0 rfl) ?_
    refine lv_if_ne (tgt := 96) hx hb dX3_part_65 (by decide) (fun c_108 => (absurd ((nx_eq (show ((0 : Int32)) = nI 0 from rfl) (show ((0 : Int32)) = nI 0 from rfl) (by omega) (by omega)).mpr (by omega)) c_108)) (fun _ => ?_)
    refine lv_iload_n hx hb dX3_part_68 rfl (lv_at hl 1 rfl) ?_
    refine lv_bipush (v := 111) hx hb dX3_part_69 (by decide) ?_
    refine lv_icmp_eq (tgt := 96) hx hb dX3_part_71 (by decide) (fun c_109 => (absurd ((nx_eq (show ((99 : Int32)) = nI 99 from rfl) (show ((111 : Int32)) = nI 111 from rfl) (by omega) (by omega)).mp c_109) (by omega))) (fun _ => ?_)
    refine lv_iload_n hx hb dX3_part_74 rfl (lv_at hl 1 rfl) ?_
    refine lv_bipush (v := 108) hx hb dX3_part_75 (by decide) ?_
    refine lv_icmp_eq (tgt := 96) hx hb dX3_part_77 (by decide) (fun c_110 => (absurd ((nx_eq (show ((99 : Int32)) = nI 99 from rfl) (show ((108 : Int32)) = nI 108 from rfl) (by omega) (by omega)).mp c_110) (by omega))) (fun _ => ?_)
    refine lv_iload_n hx hb dX3_part_80 rfl (lv_at hl 1 rfl) ?_
    refine lv_bipush (v := 99) hx hb dX3_part_81 (by decide) ?_
    refine lv_icmp_eq (tgt := 96) hx hb dX3_part_83 (by decide) (fun _ => ?_) (fun c_111 => (absurd ((nx_eq (show ((99 : Int32)) = nI 99 from rfl) (show ((99 : Int32)) = nI 99 from rfl) (by omega) (by omega)).mpr (by omega)) c_111))
    refine lv_iconst (v := 0) hx hb dX3_part_96 (by decide) ?_
    refine gh_put (v := .int 0) hC hg hT.1.1 fX3_236_0 rfl rfl (Nat.le_of_ble_eq_true rfl) dX3_part_97 (fun g H locs hg hw hn => ?_)
    have hT : tw_W V g0 g o ad (va_up I 6 0) A F := hT.putI 6 0 hw hn
    refine lv_aload_n hx hb dX3_part_100 rfl (lv_at hl 2 rfl) ?_
    refine lv_dup hx hb dX3_part_101 rfl ?_
    refine gh_get (v := .int (I 5)) hC hg hT.1.1 fX3_233_0 rfl dX3_part_102 ?_
    refine lv_aload_n hx hb dX3_part_105 rfl (lv_at hl 2 rfl) ?_
    refine gh_get (v := .int 0) hC hg hT.1.1 fX3_236_0 rfl dX3_part_106 ?_
    refine lv_if_eq (tgt := 116) hx hb dX3_part_109 (by decide) (fun _ => ?_) (fun c_112 => (absurd ((nx_eq (show ((0 : Int32)) = nI 0 from rfl) (show ((0 : Int32)) = nI 0 from rfl) (by omega) (by omega)).mpr (by omega)) c_112))
    refine lv_iconst (v := 1) hx hb dX3_part_116 (by decide) ?_
    refine lv_iadd hx hb dX3_part_117 ?_
    refine gh_put (v := .int ((I 5) + 1)) hC hg hT.1.1 fX3_233_0 rfl rfl (Nat.le_of_ble_eq_true rfl) dX3_part_118 (fun g H locs hg hw hn => ?_)
    have hT : tw_W V g0 g o ad (va_up (va_up I 6 0) 5 ((I 5) + 1)) A F := hT.putI 5 ((I 5) + 1) hw hn
    refine lv_iconst (v := 0) hx hb dX3_part_121 (by decide) ?_
    refine lv_istore (lv' := [(4, .int 0), (3, .int 0), (2, .int 99), (0, .ref o), (1, .int 1)]) hx hb dX3_part_122 hl (by decide) rfl (fun ls hl => ?_)
    refine lv_iconst (v := 0) hx hb dX3_part_124 (by decide) ?_
    refine lv_istore (lv' := [(5, .int 0), (4, .int 0), (3, .int 0), (2, .int 99), (0, .ref o), (1, .int 1)]) hx hb dX3_part_125 hl (by decide) rfl (fun ls hl => ?_)
    refine lv_iload_n hx hb dX3_part_127 rfl (lv_at hl 2 rfl) ?_
    refine lv_if_eq (tgt := 181) hx hb dX3_part_128 (by decide) (fun _ => ?_) (fun c_113 => (absurd ((nx_eq (show ((0 : Int32)) = nI 0 from rfl) (show ((0 : Int32)) = nI 0 from rfl) (by omega) (by omega)).mpr (by omega)) c_113))
    refine lv_iload_n hx hb dX3_part_181 rfl (lv_at hl 3 rfl) ?_
    refine lv_bipush (v := 111) hx hb dX3_part_182 (by decide) ?_
    refine lv_icmp_ne (tgt := 216) hx hb dX3_part_184 (by decide) (fun _ => ?_) (fun c_114 => (absurd ((nx_eq (show ((99 : Int32)) = nI 99 from rfl) (show ((111 : Int32)) = nI 111 from rfl) (by omega) (by omega)).mp c_114) (by omega)))
    refine lv_iload_n hx hb dX3_part_216 rfl (lv_at hl 3 rfl) ?_
    refine lv_bipush (v := 108) hx hb dX3_part_217 (by decide) ?_
    refine lv_icmp_ne (tgt := 234) hx hb dX3_part_219 (by decide) (fun _ => ?_) (fun c_115 => (absurd ((nx_eq (show ((99 : Int32)) = nI 99 from rfl) (show ((108 : Int32)) = nI 108 from rfl) (by omega) (by omega)).mp c_115) (by omega)))
    refine lv_iload_n hx hb dX3_part_234 rfl (lv_at hl 3 rfl) ?_
    refine lv_bipush (v := 99) hx hb dX3_part_235 (by decide) ?_
    refine lv_icmp_ne (tgt := 275) hx hb dX3_part_237 (by decide) (fun c_116 => (absurd ((nx_eq (show ((99 : Int32)) = nI 99 from rfl) (show ((99 : Int32)) = nI 99 from rfl) (by omega) (by omega)).mpr (by omega)) c_116)) (fun _ => ?_)
    refine lv_aload_n hx hb dX3_part_240 rfl (lv_at hl 4 rfl) ?_
    refine lv_bipush (v := 48) hx hb dX3_part_241 (by decide) ?_
    refine lv_bipush (v := 49) hx hb dX3_part_243 (by decide) ?_
    refine gh_calli hg (gh_runV (As := [.int 48, .int 49]) (rest := []) hC hg (t_sign0 l V o ad (va_up (va_up I 6 0) 5 ((I 5) + 1)) A F _ hT.1 48 49 (sp + 1) N (nx_add h5 (show ((1 : Int32)) = nI 1 from rfl)) (show ((0 : Int32)) = nI 0 from rfl) hN hN60 (by omega) (by decide)) 2 (lw_V q4330 q4332 qs99 q138 q4333) hT.1.1 rfl hd_X3_sign ⟨Nat.le_of_ble_eq_true rfl, Nat.le_of_ble_eq_true rfl⟩ rfl hl.1 rfl (Nat.le_of_ble_eq_true rfl) dX3_part_245 ⟨Nat.le_of_ble_eq_true rfl, Nat.le_of_ble_eq_true rfl⟩) (fun r_117 g H locs hg hp => ?_)
    rcases hp with ⟨sg_118, hpr, hpT⟩ | ⟨sg_118, hpT⟩
    · replace hpr : r_117 = (A 4) (sp + 1) := hpr
      subst hpr
      have hT : tw_W V g0 g o ad (va_up (va_up (va_up (va_up I 6 0) 5 ((I 5) + 1)) 6 0) 5 (nI ((sp + 1) + 1))) A F := hT.call hpT
      have sg_118l := sg_118.1
      obtain ⟨h_119a, h_119b, h_119⟩ := okR_cl (show ((48 : Int32)) = nI 48 from rfl) (show ((49 : Int32)) = nI 49 from rfl) (by omega) (by omega) sg_118.2
      refine lv_bipush (v := 48) hx hb dX3_part_248 (by decide) ?_
      refine lv_isub hx hb dX3_part_250 ?_
      refine lv_istore (lv' := [(4, .int (((A 4) (sp + 1)) - 48)), (5, .int 0), (3, .int 0), (2, .int 99), (0, .ref o), (1, .int 1)]) hx hb dX3_part_251 hl (by decide) rfl (fun ls hl => ?_)
      refine lv_aload_n hx hb dX3_part_253 rfl (lv_at hl 4 rfl) ?_
      refine lv_bipush (v := 58) hx hb dX3_part_254 (by decide) ?_
      refine lv_bipush (v := 58) hx hb dX3_part_256 (by decide) ?_
      refine gh_calli hg (gh_runV (As := [.int 58, .int 58]) (rest := []) hC hg (t_sign0 l V o ad (va_up (va_up (va_up (va_up I 6 0) 5 ((I 5) + 1)) 6 0) 5 (nI ((sp + 1) + 1))) A F _ hT.1 58 58 ((sp + 1) + 1) N rfl (show ((0 : Int32)) = nI 0 from rfl) hN hN60 (by omega) (by decide)) 2 (lw_V q4330 q4332 qs99 q138 q4333) hT.1.1 rfl hd_X3_sign ⟨Nat.le_of_ble_eq_true rfl, Nat.le_of_ble_eq_true rfl⟩ rfl hl.1 rfl (Nat.le_of_ble_eq_true rfl) dX3_part_258 ⟨Nat.le_of_ble_eq_true rfl, Nat.le_of_ble_eq_true rfl⟩) (fun r_120 g H locs hg hp => ?_)
      rcases hp with ⟨sg_121, hpr, hpT⟩ | ⟨sg_121, hpT⟩
      · replace hpr : r_120 = (A 4) ((sp + 1) + 1) := hpr
        subst hpr
        have hT : tw_W V g0 g o ad (va_up (va_up (va_up (va_up (va_up (va_up I 6 0) 5 ((I 5) + 1)) 6 0) 5 (nI ((sp + 1) + 1))) 6 0) 5 (nI (((sp + 1) + 1) + 1))) A F := hT.call hpT
        have sg_121l := sg_121.1
        obtain ⟨h_122a, h_122b, h_122⟩ := okR_cl (show ((58 : Int32)) = nI 58 from rfl) (show ((58 : Int32)) = nI 58 from rfl) (by omega) (by omega) sg_121.2
        refine lv_istore (lv' := [(6, .int ((A 4) ((sp + 1) + 1))), (4, .int (((A 4) (sp + 1)) - 48)), (5, .int 0), (3, .int 0), (2, .int 99), (0, .ref o), (1, .int 1)]) hx hb dX3_part_261 hl (by decide) rfl (fun ls hl => ?_)
        refine lv_aload_n hx hb dX3_part_263 rfl (lv_at hl 5 rfl) ?_
        refine lv_iconst (v := 0) hx hb dX3_part_264 (by decide) ?_
        refine lv_bipush (v := 23) hx hb dX3_part_265 (by decide) ?_
        refine gh_calli hg (gh_runV (As := [.int 0, .int 23]) (rest := []) hC hg (t_number23 l V o ad (va_up (va_up (va_up (va_up (va_up (va_up I 6 0) 5 ((I 5) + 1)) 6 0) 5 (nI ((sp + 1) + 1))) 6 0) 5 (nI (((sp + 1) + 1) + 1))) A F _ hT.1 (((sp + 1) + 1) + 1) N rfl (show ((0 : Int32)) = nI 0 from rfl) hN hN60 (by omega)) 2 (lw_V q4334 q4336 qs100 q138 q4337) hT.1.1 rfl hd_X3_number ⟨Nat.le_of_ble_eq_true rfl, Nat.le_of_ble_eq_true rfl⟩ rfl hl.1 rfl (Nat.le_of_ble_eq_true rfl) dX3_part_267 ⟨Nat.le_of_ble_eq_true rfl, Nat.le_of_ble_eq_true rfl⟩) (fun r_123 g H locs hg hp => ?_)
        rcases hp with ⟨sg_124, hpr, hpT⟩ | ⟨sg_124, hpT⟩
        · replace hpr : r_123 = nI (nmV (A 4) N (((sp + 1) + 1) + 1) 23) := hpr
          subst hpr
          have hT : tw_W V g0 g o ad (va_up (va_up (va_up (va_up (va_up (va_up (va_up (va_up I 6 0) 5 ((I 5) + 1)) 6 0) 5 (nI ((sp + 1) + 1))) 6 0) 5 (nI (((sp + 1) + 1) + 1))) 6 0) 5 (nI (nmP (A 4) N (((sp + 1) + 1) + 1) 23))) A F := hT.call hpT
          have sg_124l := nmP_le (b := (A 4)) (M := 23) sg_124.1
          have sg_124m := nmV_le (b := (A 4)) (N := N) (M := 23) sg_124.2 (by omega)
          skip
          refine lv_istore (lv' := [(5, .int (nI (nmV (A 4) N (((sp + 1) + 1) + 1) 23))), (6, .int ((A 4) ((sp + 1) + 1))), (4, .int (((A 4) (sp + 1)) - 48)), (3, .int 0), (2, .int 99), (0, .ref o), (1, .int 1)]) hx hb dX3_part_270 hl (by decide) rfl (fun ls hl => ?_)
          refine lv_goto (tgt := 284) hx hb dX3_part_272 (by decide) ?_
          refine lv_iload_n hx hb dX3_part_284 rfl (lv_at hl 6 rfl) ?_
          refine lv_if_eq (tgt := 300) hx hb dX3_part_285 (by decide) (fun c_125 => (absurd ((nx_eq (show ((1 : Int32)) = nI 1 from rfl) (show ((0 : Int32)) = nI 0 from rfl) (by omega) (by omega)).mp c_125) (by omega))) (fun _ => ?_)
          refine lv_aload_n hx hb dX3_part_288 rfl (lv_at hl 5 rfl) ?_
          refine lv_iload_n hx hb dX3_part_289 rfl (lv_at hl 4 rfl) ?_
          refine lv_iload hx hb dX3_part_290 (lv_at hl 2 rfl) ?_
          refine lv_iload hx hb dX3_part_292 (lv_at hl 0 rfl) ?_
          refine gh_calli hg (gh_runV (As := [.int 99, .int (((A 4) (sp + 1)) - 48), .int (nI (nmV (A 4) N (((sp + 1) + 1) + 1) 23))]) (rest := []) hC hg (t_does99 l V o ad (va_up (va_up (va_up (va_up (va_up (va_up (va_up (va_up I 6 0) 5 ((I 5) + 1)) 6 0) 5 (nI ((sp + 1) + 1))) 6 0) 5 (nI (((sp + 1) + 1) + 1))) 6 0) 5 (nI (nmP (A 4) N (((sp + 1) + 1) + 1) 23))) A F _ hT.1 (((A 4) (sp + 1)) - 48) (nI (nmV (A 4) N (((sp + 1) + 1) + 1) 23)) ((((A 4) (sp + 1))).toNatClampNeg - 48) (nmV (A 4) N (((sp + 1) + 1) + 1) 23) L D P (nx_sub h_119 (show ((48 : Int32)) = nI 48 from rfl) (by omega)) rfl (by omega) (by omega) hE hnn) 3 (lw_V q4338 q4340 qs101 q138 q4341) hT.1.1 rfl hd_X3_does ⟨Nat.le_of_ble_eq_true rfl, Nat.le_of_ble_eq_true rfl⟩ rfl hl.1 rfl (Nat.le_of_ble_eq_true rfl) dX3_part_294 ⟨Nat.le_of_ble_eq_true rfl, Nat.le_of_ble_eq_true rfl⟩) (fun r_126 g H locs hg hp => ?_)
          by_cases cb_127 : canB (A 0) 99 ((((A 4) (sp + 1))).toNatClampNeg - 48) (nmV (A 4) N (((sp + 1) + 1) + 1) 23) = true
          · obtain ⟨hpr, i4, b5, b6, hpT⟩ := hp.1 cb_127
            replace hpr : r_126 = 1 := hpr
            subst hpr
            have hT : tw_W V g0 g o ad (va_up (va_up (va_up (va_up (va_up (va_up (va_up (va_up (va_up I 6 0) 5 ((I 5) + 1)) 6 0) 5 (nI ((sp + 1) + 1))) 6 0) 5 (nI (((sp + 1) + 1) + 1))) 6 0) 5 (nI (nmP (A 4) N (((sp + 1) + 1) + 1) 23))) 4 i4) (va_up (va_up (va_up A 5 b5) 6 b6) 0 ((didS (A 0) (F 0) 99 ((((A 4) (sp + 1))).toNatClampNeg - 48) (nmV (A 4) N (((sp + 1) + 1) + 1) 23)).1)) (va_up F 0 ((didS (A 0) (F 0) 99 ((((A 4) (sp + 1))).toNatClampNeg - 48) (nmV (A 4) N (((sp + 1) + 1) + 1) 23)).2)) := hT.call hpT
            refine lv_if_eq (tgt := 304) hx hb dX3_part_297 (by decide) (fun c_128 => (absurd ((nx_eq (show ((1 : Int32)) = nI 1 from rfl) (show ((0 : Int32)) = nI 0 from rfl) (by omega) (by omega)).mp c_128) (by omega))) (fun _ => ?_)
            refine lv_iconst (v := 1) hx hb dX3_part_300 (by decide) ?_
            refine lv_goto (tgt := 305) hx hb dX3_part_301 (by decide) ?_
            have e9 : ptE (A 4) N sp = (true, _) := (by unfold ptE; rw [if_neg (not_not_intro hlt), if_neg (by rw [hc]; decide), if_neg (by rw [hc]; decide), if_neg (by rw [hc]; decide), if_neg (by rw [hc]; decide), if_neg (by rw [hc]; decide), if_pos hc]; unfold cP; rw [if_pos sg_118, if_pos sg_121]; unfold nuP; rw [if_pos sg_124])
            have eO : ptO (A 4) N sp = ((((A 4) (sp + 1))).toNatClampNeg - 48) := (by unfold ptO; rw [if_neg (by rw [hc]; decide), if_neg (by rw [hc]; decide)] <;> rfl)
            have eT : ptT (A 4) N sp = (nmV (A 4) N (((sp + 1) + 1) + 1) 23) := (by unfold ptT; rw [if_neg (by rw [hc]; decide), if_neg (by rw [hc]; decide), if_neg (by rw [hc]; decide), if_pos hc] <;> rfl)
            exact gh_retz rfl hC hg hr hlk (by rw [e9, eO, eT, hc]; exact ⟨fun _ => ⟨rfl, i4, b5, b6, hT.eqI (fam7 rfl rfl rfl rfl rfl rfl rfl (fun _ => rfl))⟩, fun h9 => absurd (h9.symm.trans cb_127) (by decide)⟩) dX3_part_305 (Nat.le_of_ble_eq_true rfl) (Nat.le_of_ble_eq_true rfl)
          obtain ⟨hpr, hpT⟩ := hp.2 (Bool.eq_false_iff.mpr cb_127)
          replace hpr : r_126 = 0 := hpr
          subst hpr
          have hT : tw_W V g0 g o ad (va_up (va_up (va_up (va_up (va_up (va_up (va_up (va_up I 6 0) 5 ((I 5) + 1)) 6 0) 5 (nI ((sp + 1) + 1))) 6 0) 5 (nI (((sp + 1) + 1) + 1))) 6 0) 5 (nI (nmP (A 4) N (((sp + 1) + 1) + 1) 23))) A F := hT.call hpT
          refine lv_if_eq (tgt := 304) hx hb dX3_part_297 (by decide) (fun _ => ?_) (fun c_129 => (absurd ((nx_eq (show ((0 : Int32)) = nI 0 from rfl) (show ((0 : Int32)) = nI 0 from rfl) (by omega) (by omega)).mpr (by omega)) c_129))
          refine lv_iconst (v := 0) hx hb dX3_part_304 (by decide) ?_
          have e9 : ptE (A 4) N sp = (true, _) := (by unfold ptE; rw [if_neg (not_not_intro hlt), if_neg (by rw [hc]; decide), if_neg (by rw [hc]; decide), if_neg (by rw [hc]; decide), if_neg (by rw [hc]; decide), if_neg (by rw [hc]; decide), if_pos hc]; unfold cP; rw [if_pos sg_118, if_pos sg_121]; unfold nuP; rw [if_pos sg_124])
          have eO : ptO (A 4) N sp = ((((A 4) (sp + 1))).toNatClampNeg - 48) := (by unfold ptO; rw [if_neg (by rw [hc]; decide), if_neg (by rw [hc]; decide)] <;> rfl)
          have eT : ptT (A 4) N sp = (nmV (A 4) N (((sp + 1) + 1) + 1) 23) := (by unfold ptT; rw [if_neg (by rw [hc]; decide), if_neg (by rw [hc]; decide), if_neg (by rw [hc]; decide), if_pos hc] <;> rfl)
          exact gh_retz rfl hC hg hr hlk (by rw [e9, eO, eT, hc]; exact ⟨fun h9 => absurd h9 cb_127, fun _ => ⟨rfl, hT.eqI (fam7 rfl rfl rfl rfl rfl rfl rfl (fun _ => rfl))⟩⟩) dX3_part_305 (Nat.le_of_ble_eq_true rfl) (Nat.le_of_ble_eq_true rfl)
        rw [show ptE (A 4) N sp = (false, _) from (by unfold ptE; rw [if_neg (not_not_intro hlt), if_neg (by rw [hc]; decide), if_neg (by rw [hc]; decide), if_neg (by rw [hc]; decide), if_neg (by rw [hc]; decide), if_neg (by rw [hc]; decide), if_pos hc]; unfold cP; rw [if_pos sg_118, if_pos sg_121]; unfold nuP; rw [if_neg sg_124])] at hv
        exact absurd hv Bool.false_ne_true
      rw [show ptE (A 4) N sp = (false, _) from (by unfold ptE; rw [if_neg (not_not_intro hlt), if_neg (by rw [hc]; decide), if_neg (by rw [hc]; decide), if_neg (by rw [hc]; decide), if_neg (by rw [hc]; decide), if_neg (by rw [hc]; decide), if_pos hc]; unfold cP; rw [if_pos sg_118, if_neg sg_121])] at hv
      exact absurd hv Bool.false_ne_true
    rw [show ptE (A 4) N sp = (false, _) from (by unfold ptE; rw [if_neg (not_not_intro hlt), if_neg (by rw [hc]; decide), if_neg (by rw [hc]; decide), if_neg (by rw [hc]; decide), if_neg (by rw [hc]; decide), if_neg (by rw [hc]; decide), if_pos hc]; unfold cP; rw [if_neg sg_118])] at hv
    exact absurd hv Bool.false_ne_true
  by_cases hc109 : A 4 sp = 109
  · have hc := hc109
    rw [hc] at hl
    refine lv_iload_n hx hb dX3_part_32 rfl (lv_at hl 0 rfl) ?_
    refine lv_bipush (v := 98) hx hb dX3_part_33 (by decide) ?_
    refine lv_icmp_eq (tgt := 50) hx hb dX3_part_35 (by decide) (fun c_130 => (absurd ((nx_eq (show ((109 : Int32)) = nI 109 from rfl) (show ((98 : Int32)) = nI 98 from rfl) (by omega) (by omega)).mp c_130) (by omega))) (fun _ => ?_)
    refine lv_iload_n hx hb dX3_part_38 rfl (lv_at hl 0 rfl) ?_
    refine lv_bipush (v := 102) hx hb dX3_part_39 (by decide) ?_
    refine lv_icmp_eq (tgt := 50) hx hb dX3_part_41 (by decide) (fun c_131 => (absurd ((nx_eq (show ((109 : Int32)) = nI 109 from rfl) (show ((102 : Int32)) = nI 102 from rfl) (by omega) (by omega)).mp c_131) (by omega))) (fun _ => ?_)
    refine lv_iload_n hx hb dX3_part_44 rfl (lv_at hl 0 rfl) ?_
    refine lv_bipush (v := 114) hx hb dX3_part_45 (by decide) ?_
    refine lv_icmp_ne (tgt := 54) hx hb dX3_part_47 (by decide) (fun _ => ?_) (fun c_132 => (absurd ((nx_eq (show ((109 : Int32)) = nI 109 from rfl) (show ((114 : Int32)) = nI 114 from rfl) (by omega) (by omega)).mp c_132) (by omega)))
    refine lv_iconst (v := 0) hx hb dX3_part_54 (by decide) ?_
    refine lv_istore_n (lv' := [(3, .int 0), (2, .int 109), (0, .ref o), (1, .int 1)]) hx hb dX3_part_55 rfl hl (by decide) rfl (fun ls hl => ?_)
    refine lv_aload_n hx hb dX3_part_56 rfl (lv_at hl 2 rfl) ?_
    refine lv_aload_n hx hb dX3_part_57 rfl (lv_at hl 2 rfl) ?_
    refine gh_get (v := .int (I 6)) hC hg hT.1.1 fX3_236_0 rfl dX3_part_58 ?_
    refine lv_if_ne (tgt := 92) hx hb dX3_part_61 (by decide) (fun c_133 => (absurd ((nx_eq (h6.trans (show ((0 : Int32)) = nI 0 from rfl)) (show ((0 : Int32)) = nI 0 from rfl) (by omega) (by omega)).mpr (by omega)) c_133)) (fun _ => ?_)
    refine lv_iload_n hx hb dX3_part_64 rfl (lv_at hl 0 rfl) ?_
    refine lv_if_ne (tgt := 96) hx hb dX3_part_65 (by decide) (fun c_134 => (absurd ((nx_eq (show ((0 : Int32)) = nI 0 from rfl) (show ((0 : Int32)) = nI 0 from rfl) (by omega) (by omega)).mpr (by omega)) c_134)) (fun _ => ?_)
    refine lv_iload_n hx hb dX3_part_68 rfl (lv_at hl 1 rfl) ?_
    refine lv_bipush (v := 111) hx hb dX3_part_69 (by decide) ?_
    refine lv_icmp_eq (tgt := 96) hx hb dX3_part_71 (by decide) (fun c_135 => (absurd ((nx_eq (show ((109 : Int32)) = nI 109 from rfl) (show ((111 : Int32)) = nI 111 from rfl) (by omega) (by omega)).mp c_135) (by omega))) (fun _ => ?_)
    refine lv_iload_n hx hb dX3_part_74 rfl (lv_at hl 1 rfl) ?_
    refine lv_bipush (v := 108) hx hb dX3_part_75 (by decide) ?_
    refine lv_icmp_eq (tgt := 96) hx hb dX3_part_77 (by decide) (fun c_136 => (absurd ((nx_eq (show ((109 : Int32)) = nI 109 from rfl) (show ((108 : Int32)) = nI 108 from rfl) (by omega) (by omega)).mp c_136) (by omega))) (fun _ => ?_)
    refine lv_iload_n hx hb dX3_part_80 rfl (lv_at hl 1 rfl) ?_
    refine lv_bipush (v := 99) hx hb dX3_part_81 (by decide) ?_
    refine lv_icmp_eq (tgt := 96) hx hb dX3_part_83 (by decide) (fun c_137 => (absurd ((nx_eq (show ((109 : Int32)) = nI 109 from rfl) (show ((99 : Int32)) = nI 99 from rfl) (by omega) (by omega)).mp c_137) (by omega))) (fun _ => ?_)
    refine lv_iload_n hx hb dX3_part_86 rfl (lv_at hl 1 rfl) ?_
    refine lv_bipush (v := 109) hx hb dX3_part_87 (by decide) ?_
    refine lv_icmp_eq (tgt := 96) hx hb dX3_part_89 (by decide) (fun _ => ?_) (fun c_138 => (absurd ((nx_eq (show ((109 : Int32)) = nI 109 from rfl) (show ((109 : Int32)) = nI 109 from rfl) (by omega) (by omega)).mpr (by omega)) c_138))
    refine lv_iconst (v := 0) hx hb dX3_part_96 (by decide) ?_
    refine gh_put (v := .int 0) hC hg hT.1.1 fX3_236_0 rfl rfl (Nat.le_of_ble_eq_true rfl) dX3_part_97 (fun g H locs hg hw hn => ?_)
    have hT : tw_W V g0 g o ad (va_up I 6 0) A F := hT.putI 6 0 hw hn
    refine lv_aload_n hx hb dX3_part_100 rfl (lv_at hl 2 rfl) ?_
    refine lv_dup hx hb dX3_part_101 rfl ?_
    refine gh_get (v := .int (I 5)) hC hg hT.1.1 fX3_233_0 rfl dX3_part_102 ?_
    refine lv_aload_n hx hb dX3_part_105 rfl (lv_at hl 2 rfl) ?_
    refine gh_get (v := .int 0) hC hg hT.1.1 fX3_236_0 rfl dX3_part_106 ?_
    refine lv_if_eq (tgt := 116) hx hb dX3_part_109 (by decide) (fun _ => ?_) (fun c_139 => (absurd ((nx_eq (show ((0 : Int32)) = nI 0 from rfl) (show ((0 : Int32)) = nI 0 from rfl) (by omega) (by omega)).mpr (by omega)) c_139))
    refine lv_iconst (v := 1) hx hb dX3_part_116 (by decide) ?_
    refine lv_iadd hx hb dX3_part_117 ?_
    refine gh_put (v := .int ((I 5) + 1)) hC hg hT.1.1 fX3_233_0 rfl rfl (Nat.le_of_ble_eq_true rfl) dX3_part_118 (fun g H locs hg hw hn => ?_)
    have hT : tw_W V g0 g o ad (va_up (va_up I 6 0) 5 ((I 5) + 1)) A F := hT.putI 5 ((I 5) + 1) hw hn
    refine lv_iconst (v := 0) hx hb dX3_part_121 (by decide) ?_
    refine lv_istore (lv' := [(4, .int 0), (3, .int 0), (2, .int 109), (0, .ref o), (1, .int 1)]) hx hb dX3_part_122 hl (by decide) rfl (fun ls hl => ?_)
    refine lv_iconst (v := 0) hx hb dX3_part_124 (by decide) ?_
    refine lv_istore (lv' := [(5, .int 0), (4, .int 0), (3, .int 0), (2, .int 109), (0, .ref o), (1, .int 1)]) hx hb dX3_part_125 hl (by decide) rfl (fun ls hl => ?_)
    refine lv_iload_n hx hb dX3_part_127 rfl (lv_at hl 2 rfl) ?_
    refine lv_if_eq (tgt := 181) hx hb dX3_part_128 (by decide) (fun _ => ?_) (fun c_140 => (absurd ((nx_eq (show ((0 : Int32)) = nI 0 from rfl) (show ((0 : Int32)) = nI 0 from rfl) (by omega) (by omega)).mpr (by omega)) c_140))
    refine lv_iload_n hx hb dX3_part_181 rfl (lv_at hl 3 rfl) ?_
    refine lv_bipush (v := 111) hx hb dX3_part_182 (by decide) ?_
    refine lv_icmp_ne (tgt := 216) hx hb dX3_part_184 (by decide) (fun _ => ?_) (fun c_141 => (absurd ((nx_eq (show ((109 : Int32)) = nI 109 from rfl) (show ((111 : Int32)) = nI 111 from rfl) (by omega) (by omega)).mp c_141) (by omega)))
    refine lv_iload_n hx hb dX3_part_216 rfl (lv_at hl 3 rfl) ?_
    refine lv_bipush (v := 108) hx hb dX3_part_217 (by decide) ?_
    refine lv_icmp_ne (tgt := 234) hx hb dX3_part_219 (by decide) (fun _ => ?_) (fun c_142 => (absurd ((nx_eq (show ((109 : Int32)) = nI 109 from rfl) (show ((108 : Int32)) = nI 108 from rfl) (by omega) (by omega)).mp c_142) (by omega)))
    refine lv_iload_n hx hb dX3_part_234 rfl (lv_at hl 3 rfl) ?_
    refine lv_bipush (v := 99) hx hb dX3_part_235 (by decide) ?_
    refine lv_icmp_ne (tgt := 275) hx hb dX3_part_237 (by decide) (fun _ => ?_) (fun c_143 => (absurd ((nx_eq (show ((109 : Int32)) = nI 109 from rfl) (show ((99 : Int32)) = nI 99 from rfl) (by omega) (by omega)).mp c_143) (by omega)))
    refine lv_aload_n hx hb dX3_part_275 rfl (lv_at hl 4 rfl) ?_
    refine lv_iconst (v := 1) hx hb dX3_part_276 (by decide) ?_
    refine lv_bipush (v := 60) hx hb dX3_part_277 (by decide) ?_
    refine gh_calli hg (gh_runV (As := [.int 1, .int 60]) (rest := []) hC hg (t_number60 l V o ad (va_up (va_up I 6 0) 5 ((I 5) + 1)) A F _ hT.1 (sp + 1) N (nx_add h5 (show ((1 : Int32)) = nI 1 from rfl)) (show ((0 : Int32)) = nI 0 from rfl) hN hN60 (by omega)) 2 (lw_V q4334 q4336 qs100 q138 q4337) hT.1.1 rfl hd_X3_number ⟨Nat.le_of_ble_eq_true rfl, Nat.le_of_ble_eq_true rfl⟩ rfl hl.1 rfl (Nat.le_of_ble_eq_true rfl) dX3_part_279 ⟨Nat.le_of_ble_eq_true rfl, Nat.le_of_ble_eq_true rfl⟩) (fun r_144 g H locs hg hp => ?_)
    rcases hp with ⟨sg_145, hpr, hpT⟩ | ⟨sg_145, hpT⟩
    · replace hpr : r_144 = nI (nmV (A 4) N (sp + 1) 60) := hpr
      subst hpr
      have hT : tw_W V g0 g o ad (va_up (va_up (va_up (va_up I 6 0) 5 ((I 5) + 1)) 6 0) 5 (nI (nmP (A 4) N (sp + 1) 60))) A F := hT.call hpT
      have sg_145l := nmP_le (b := (A 4)) (M := 60) sg_145.1
      have sg_145m := nmV_le (b := (A 4)) (N := N) (M := 60) (okR_49 sg_145.2) (by omega)
      skip
      have sg_145n := nmV_ge (b := (A 4)) (N := N) (M := 60) sg_145.2
      refine lv_istore (lv' := [(4, .int (nI (nmV (A 4) N (sp + 1) 60))), (5, .int 0), (3, .int 0), (2, .int 109), (0, .ref o), (1, .int 1)]) hx hb dX3_part_282 hl (by decide) rfl (fun ls hl => ?_)
      refine lv_iload_n hx hb dX3_part_284 rfl (lv_at hl 5 rfl) ?_
      refine lv_if_eq (tgt := 300) hx hb dX3_part_285 (by decide) (fun c_146 => (absurd ((nx_eq (show ((1 : Int32)) = nI 1 from rfl) (show ((0 : Int32)) = nI 0 from rfl) (by omega) (by omega)).mp c_146) (by omega))) (fun _ => ?_)
      refine lv_aload_n hx hb dX3_part_288 rfl (lv_at hl 4 rfl) ?_
      refine lv_iload_n hx hb dX3_part_289 rfl (lv_at hl 3 rfl) ?_
      refine lv_iload hx hb dX3_part_290 (lv_at hl 0 rfl) ?_
      refine lv_iload hx hb dX3_part_292 (lv_at hl 1 rfl) ?_
      refine gh_calli hg (gh_runV (As := [.int 109, .int (nI (nmV (A 4) N (sp + 1) 60)), .int 0]) (rest := []) hC hg (t_does109 l V o ad (va_up (va_up (va_up (va_up I 6 0) 5 ((I 5) + 1)) 6 0) 5 (nI (nmP (A 4) N (sp + 1) 60))) A F _ hT.1 (nI (nmV (A 4) N (sp + 1) 60)) 0 (nmV (A 4) N (sp + 1) 60) 0 L D P rfl (show ((0 : Int32)) = nI 0 from rfl) (by omega) (by omega) hE hnn) 3 (lw_V q4338 q4340 qs101 q138 q4341) hT.1.1 rfl hd_X3_does ⟨Nat.le_of_ble_eq_true rfl, Nat.le_of_ble_eq_true rfl⟩ rfl hl.1 rfl (Nat.le_of_ble_eq_true rfl) dX3_part_294 ⟨Nat.le_of_ble_eq_true rfl, Nat.le_of_ble_eq_true rfl⟩) (fun r_147 g H locs hg hp => ?_)
      by_cases cb_148 : canB (A 0) 109 (nmV (A 4) N (sp + 1) 60) 0 = true
      · obtain ⟨hpr, i4, b5, b6, hpT⟩ := hp.1 cb_148
        replace hpr : r_147 = 1 := hpr
        subst hpr
        have hT : tw_W V g0 g o ad (va_up (va_up (va_up (va_up (va_up I 6 0) 5 ((I 5) + 1)) 6 0) 5 (nI (nmP (A 4) N (sp + 1) 60))) 4 i4) (va_up (va_up (va_up A 5 b5) 6 b6) 0 ((didS (A 0) (F 0) 109 (nmV (A 4) N (sp + 1) 60) 0).1)) (va_up F 0 ((didS (A 0) (F 0) 109 (nmV (A 4) N (sp + 1) 60) 0).2)) := hT.call hpT
        refine lv_if_eq (tgt := 304) hx hb dX3_part_297 (by decide) (fun c_149 => (absurd ((nx_eq (show ((1 : Int32)) = nI 1 from rfl) (show ((0 : Int32)) = nI 0 from rfl) (by omega) (by omega)).mp c_149) (by omega))) (fun _ => ?_)
        refine lv_iconst (v := 1) hx hb dX3_part_300 (by decide) ?_
        refine lv_goto (tgt := 305) hx hb dX3_part_301 (by decide) ?_
        have e9 : ptE (A 4) N sp = (true, _) := (by unfold ptE; rw [if_neg (not_not_intro hlt), if_neg (by rw [hc]; decide), if_neg (by rw [hc]; decide), if_neg (by rw [hc]; decide), if_neg (by rw [hc]; decide), if_neg (by rw [hc]; decide), if_neg (by rw [hc]; decide), if_pos hc]; unfold nuP; rw [if_pos sg_145])
        have eO : ptO (A 4) N sp = (nmV (A 4) N (sp + 1) 60) := (by unfold ptO; rw [if_neg (by rw [hc]; decide), if_pos hc] <;> rfl)
        have eT : ptT (A 4) N sp = 0 := (by unfold ptT; rw [if_neg (by rw [hc]; decide), if_pos hc] <;> rfl)
        exact gh_retz rfl hC hg hr hlk (by rw [e9, eO, eT, hc]; exact ⟨fun _ => ⟨rfl, i4, b5, b6, hT.eqI (fam7 rfl rfl rfl rfl rfl rfl rfl (fun _ => rfl))⟩, fun h9 => absurd (h9.symm.trans cb_148) (by decide)⟩) dX3_part_305 (Nat.le_of_ble_eq_true rfl) (Nat.le_of_ble_eq_true rfl)
      obtain ⟨hpr, hpT⟩ := hp.2 (Bool.eq_false_iff.mpr cb_148)
      replace hpr : r_147 = 0 := hpr
      subst hpr
      have hT : tw_W V g0 g o ad (va_up (va_up (va_up (va_up I 6 0) 5 ((I 5) + 1)) 6 0) 5 (nI (nmP (A 4) N (sp + 1) 60))) A F := hT.call hpT
      refine lv_if_eq (tgt := 304) hx hb dX3_part_297 (by decide) (fun _ => ?_) (fun c_150 => (absurd ((nx_eq (show ((0 : Int32)) = nI 0 from rfl) (show ((0 : Int32)) = nI 0 from rfl) (by omega) (by omega)).mpr (by omega)) c_150))
      refine lv_iconst (v := 0) hx hb dX3_part_304 (by decide) ?_
      have e9 : ptE (A 4) N sp = (true, _) := (by unfold ptE; rw [if_neg (not_not_intro hlt), if_neg (by rw [hc]; decide), if_neg (by rw [hc]; decide), if_neg (by rw [hc]; decide), if_neg (by rw [hc]; decide), if_neg (by rw [hc]; decide), if_neg (by rw [hc]; decide), if_pos hc]; unfold nuP; rw [if_pos sg_145])
      have eO : ptO (A 4) N sp = (nmV (A 4) N (sp + 1) 60) := (by unfold ptO; rw [if_neg (by rw [hc]; decide), if_pos hc] <;> rfl)
      have eT : ptT (A 4) N sp = 0 := (by unfold ptT; rw [if_neg (by rw [hc]; decide), if_pos hc] <;> rfl)
      exact gh_retz rfl hC hg hr hlk (by rw [e9, eO, eT, hc]; exact ⟨fun h9 => absurd h9 cb_148, fun _ => ⟨rfl, hT.eqI (fam7 rfl rfl rfl rfl rfl rfl rfl (fun _ => rfl))⟩⟩) dX3_part_305 (Nat.le_of_ble_eq_true rfl) (Nat.le_of_ble_eq_true rfl)
    rw [show ptE (A 4) N sp = (false, _) from (by unfold ptE; rw [if_neg (not_not_intro hlt), if_neg (by rw [hc]; decide), if_neg (by rw [hc]; decide), if_neg (by rw [hc]; decide), if_neg (by rw [hc]; decide), if_neg (by rw [hc]; decide), if_neg (by rw [hc]; decide), if_pos hc]; unfold nuP; rw [if_neg sg_145])] at hv
    exact absurd hv Bool.false_ne_true
  rw [show ptE (A 4) N sp = (false, _) from (by unfold ptE; rw [if_neg (not_not_intro hlt), if_neg hc98, if_neg hc102, if_neg hc114, if_neg hc111, if_neg hc108, if_neg hc99, if_neg hc109])] at hv
  exact absurd hv Bool.false_ne_true
