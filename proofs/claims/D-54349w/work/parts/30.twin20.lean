section
variable {s : Nat → Int32} {st : Nat → UInt32} {i j : Nat}
theorem canB_98 : canB s 98 i j = true := rfl
theorem canB_102 : canB s 102 i j = true := rfl
theorem canB_114 : canB s 114 i j = true := rfl
theorem canB_111 : canB s 111 i j = decide (nL s < 12) := rfl
theorem canB_108 : canB s 108 i j = (decide (i < nL s) && decide (noLoad s i = 0)) := rfl
theorem canB_99 : canB s 99 i j = decide (noCln s i j = 0) := rfl
theorem canB_109 : canB s 109 i j = decide (s 0 + nI i ≤ 9999) := rfl
theorem didS_98 : didS s st 98 i j = (zs s i 0 (nI j), st) := rfl
theorem didS_102 : didS s st 102 i j = (zs s i 1 (nI j), st) := rfl
theorem didS_114 : didS s st 114 i j = (zs s i 2 (nI j), st) := rfl
theorem didS_111 : didS s st 111 i j = (opensS s (nL s) (nI i) (nI j), st) := rfl
theorem didS_108 : didS s st 108 i j = (loadsS s i (nI i), va_up st 0 FP.fconst0) := rfl
theorem didS_99 : didS s st 99 i j = (sendsS s i (nI j), st) := rfl
theorem didS_109 : didS s st 109 i j = ((runsF s st i).1, (runsF s st i).2.1) := rfl
end
theorem nlt_le {a b : Int32} (h : ¬ b < a) : a ≤ b := Int32.not_lt.mp h
theorem lt_nle {a b : Int32} (h : b < a) : ¬ a ≤ b := fun e => absurd h (Int32.not_lt.mpr e)
set_option maxRecDepth 100000

set_option maxHeartbeats 1000000 in
set_option maxRecDepth 100000 in
theorem t_does98 (l : Launch) (V : gh_V) (o : Nat) (ad : Nat → Nat) (I : Nat → Int32) (A : Nat → Nat → Int32) (F : Nat → Nat → UInt32) (g0 : gh_G) (hP : tw_P V g0 o ad I A F) (x y : Int32) (i j : Nat) (L D P : Nat) (ex : x = nI i) (ey : y = nI j) (bi : i < 8) (bj : j ≤ 3) (hE : tw_wf (A 0) L D P) (hnn : nnS (F 0)) : MI l yX3_does cX3_does 7 (some .boolean) ({ frames := 2, cells := 0, slots := 0, locals := 47 } : Room) V [.ref o, .int 98, .int x, .int y] g0 (fun r g1 => (canB (A 0) 98 i j = true → r = 1 ∧ ∃ i4 b5 b6, tw_W V g0 g1 o ad (va_up I 4 i4) (va_up (va_up (va_up A 5 b5) 6 b6) 0 (didS (A 0) (F 0) 98 i j).1) (va_up F 0 (didS (A 0) (F 0) 98 i j).2)) ∧ (canB (A 0) 98 i j = false → r = 0 ∧ tw_W V g0 g1 o ad I A F)) := by
  refine MG.of RX3 (by decide) rfl (Nat.le_of_ble_eq_true rfl) (fun pp ee s mm args below meth c ls hC hg hr hlk hnm hl => ?_)
  have hx := hC.1.1
  have hb := hC.1.2.1
  have hml := hC.1.2.2.1
  have hown := hC.1.2.2.2.1
  have hts := hC.1.2.2.2.2
  have hl : lv_has ls 7 [(0, .ref o), (1, .int 98), (2, .int x), (3, .int y)] := hl
  have hT := hP.W
  have hL := hE.1.1
  have hL12 := hE.1.2
  refine lv_iload_n hx hb dX3_does_0 rfl (lv_at hl 1 rfl) ?_
  refine lv_bipush (v := 111) hx hb dX3_does_1 (by decide) ?_
  refine lv_icmp_ne (tgt := 27) hx hb dX3_does_3 (by decide) (fun _ => ?_) (fun c_1 => (absurd ((nx_eq (show ((98 : Int32)) = nI 98 from rfl) (show ((111 : Int32)) = nI 111 from rfl) (by omega) (by omega)).mp c_1) (by omega)))
  refine lv_iload_n hx hb dX3_does_27 rfl (lv_at hl 1 rfl) ?_
  refine lv_bipush (v := 108) hx hb dX3_does_28 (by decide) ?_
  refine lv_icmp_ne (tgt := 53) hx hb dX3_does_30 (by decide) (fun _ => ?_) (fun c_2 => (absurd ((nx_eq (show ((98 : Int32)) = nI 98 from rfl) (show ((108 : Int32)) = nI 108 from rfl) (by omega) (by omega)).mp c_2) (by omega)))
  refine lv_iload_n hx hb dX3_does_53 rfl (lv_at hl 1 rfl) ?_
  refine lv_bipush (v := 99) hx hb dX3_does_54 (by decide) ?_
  refine lv_icmp_ne (tgt := 76) hx hb dX3_does_56 (by decide) (fun _ => ?_) (fun c_3 => (absurd ((nx_eq (show ((98 : Int32)) = nI 98 from rfl) (show ((99 : Int32)) = nI 99 from rfl) (by omega) (by omega)).mp c_3) (by omega)))
  refine lv_iload_n hx hb dX3_does_76 rfl (lv_at hl 1 rfl) ?_
  refine lv_bipush (v := 109) hx hb dX3_does_77 (by decide) ?_
  refine lv_icmp_ne (tgt := 96) hx hb dX3_does_79 (by decide) (fun _ => ?_) (fun c_4 => (absurd ((nx_eq (show ((98 : Int32)) = nI 98 from rfl) (show ((109 : Int32)) = nI 109 from rfl) (by omega) (by omega)).mp c_4) (by omega)))
  refine lv_iconst (v := 1) hx hb dX3_does_96 (by decide) ?_
  refine lv_goto (tgt := 101) hx hb dX3_does_97 (by decide) ?_
  refine lv_istore (lv' := [(4, .int 1), (0, .ref o), (1, .int 98), (2, .int x), (3, .int y)]) hx hb dX3_does_101 hl (by decide) rfl (fun ls hl => ?_)
  refine lv_iload hx hb dX3_does_103 (lv_at hl 0 rfl) ?_
  refine lv_if_eq (tgt := 126) hx hb dX3_does_105 (by decide) (fun c_5 => (absurd ((nx_eq (show ((1 : Int32)) = nI 1 from rfl) (show ((0 : Int32)) = nI 0 from rfl) (by omega) (by omega)).mp c_5) (by omega))) (fun _ => ?_)
  refine lv_iload_n hx hb dX3_does_108 rfl (lv_at hl 2 rfl) ?_
  refine lv_bipush (v := 108) hx hb dX3_does_109 (by decide) ?_
  refine lv_icmp_ne (tgt := 122) hx hb dX3_does_111 (by decide) (fun _ => ?_) (fun c_6 => (absurd ((nx_eq (show ((98 : Int32)) = nI 98 from rfl) (show ((108 : Int32)) = nI 108 from rfl) (by omega) (by omega)).mp c_6) (by omega)))
  refine lv_iconst (v := 1) hx hb dX3_does_122 (by decide) ?_
  refine lv_goto (tgt := 127) hx hb dX3_does_123 (by decide) ?_
  refine lv_istore (lv' := [(4, .int 1), (0, .ref o), (1, .int 98), (2, .int x), (3, .int y)]) hx hb dX3_does_127 hl (by decide) rfl (fun ls hl => ?_)
  refine lv_iload hx hb dX3_does_129 (lv_at hl 0 rfl) ?_
  refine lv_if_eq (tgt := 245) hx hb dX3_does_131 (by decide) (fun c_7 => (absurd ((nx_eq (show ((1 : Int32)) = nI 1 from rfl) (show ((0 : Int32)) = nI 0 from rfl) (by omega) (by omega)).mp c_7) (by omega))) (fun _ => ?_)
  refine lv_iload_n hx hb dX3_does_134 rfl (lv_at hl 2 rfl) ?_
  refine lv_bipush (v := 98) hx hb dX3_does_135 (by decide) ?_
  refine lv_icmp_eq (tgt := 152) hx hb dX3_does_137 (by decide) (fun _ => ?_) (fun c_8 => (absurd ((nx_eq (show ((98 : Int32)) = nI 98 from rfl) (show ((98 : Int32)) = nI 98 from rfl) (by omega) (by omega)).mpr (by omega)) c_8))
  refine lv_iconst (v := 1) hx hb dX3_does_152 (by decide) ?_
  refine lv_goto (tgt := 157) hx hb dX3_does_153 (by decide) ?_
  refine lv_istore (lv' := [(5, .int 1), (4, .int 1), (0, .ref o), (1, .int 98), (2, .int x), (3, .int y)]) hx hb dX3_does_157 hl (by decide) rfl (fun ls hl => ?_)
  refine lv_iload hx hb dX3_does_159 (lv_at hl 0 rfl) ?_
  refine lv_if_eq (tgt := 194) hx hb dX3_does_161 (by decide) (fun c_9 => (absurd ((nx_eq (show ((1 : Int32)) = nI 1 from rfl) (show ((0 : Int32)) = nI 0 from rfl) (by omega) (by omega)).mp c_9) (by omega))) (fun _ => ?_)
  refine lv_aload_n hx hb dX3_does_164 rfl (lv_at hl 2 rfl) ?_
  refine lv_iload_n hx hb dX3_does_165 rfl (lv_at hl 4 rfl) ?_
  refine lv_iload_n hx hb dX3_does_166 rfl (lv_at hl 3 rfl) ?_
  refine lv_bipush (v := 98) hx hb dX3_does_167 (by decide) ?_
  refine lv_icmp_ne (tgt := 176) hx hb dX3_does_169 (by decide) (fun c_10 => (absurd ((nx_eq (show ((98 : Int32)) = nI 98 from rfl) (show ((98 : Int32)) = nI 98 from rfl) (by omega) (by omega)).mpr (by omega)) c_10)) (fun _ => ?_)
  refine lv_iconst (v := 0) hx hb dX3_does_172 (by decide) ?_
  refine lv_goto (tgt := 187) hx hb dX3_does_173 (by decide) ?_
  refine lv_iload_n hx hb dX3_does_187 rfl (lv_at hl 5 rfl) ?_
  refine gh_calli hg (gh_runV (As := [.int x, .int 0, .int y]) (rest := []) hC hg (t_changes l V o ad I A F _ hT.1 x 0 y i 0 ex (show ((0 : Int32)) = nI 0 from rfl)  (by omega) (by omega)) 3 (lw_V q3916 q3918 qs58 q138 q3919) hT.1.1 rfl hd_X3_changes ⟨Nat.le_of_ble_eq_true rfl, Nat.le_of_ble_eq_true rfl⟩ rfl hl.1 rfl (Nat.le_of_ble_eq_true rfl) dX3_does_188 ⟨Nat.le_of_ble_eq_true rfl, Nat.le_of_ble_eq_true rfl⟩) (fun r_11 g H locs hg hp => ?_)
  obtain ⟨hp, hpT⟩ := hp
  replace hp : r_11 = (zn (A 0) i 0) := hp
  subst hp
  have hT : tw_W V g0 g o ad I (va_up A 0 (zs (A 0) i 0 y)) F := hT.call hpT
  refine lv_goto (tgt := 243) hx hb dX3_does_191 (by decide) ?_
  refine lv_istore (lv' := [(6, .int (zn (A 0) i 0)), (5, .int 1), (4, .int 1), (0, .ref o), (1, .int 98), (2, .int x), (3, .int y)]) hx hb dX3_does_243 hl (by decide) rfl (fun ls hl => ?_)
  refine lv_iload hx hb dX3_does_245 (lv_at hl 2 rfl) ?_
  have e9 : canB (A 0) 98 i j = true := canB_98
  subst ex
  subst ey
  exact gh_retz rfl hC hg hr hlk (⟨fun _ => ⟨rfl, (I 4), (A 5), (A 6), hT.eqIAF (fam7 rfl rfl rfl rfl rfl rfl rfl (fun _ => rfl)) (fam8 (by rw [didS_98] <;> rfl) rfl rfl rfl rfl rfl rfl rfl (fun _ => rfl)) (fam4 (by rw [didS_98] <;> rfl) rfl rfl rfl (fun _ => rfl))⟩, fun h9 => absurd (e9.symm.trans h9) (by decide)⟩) dX3_does_247 (Nat.le_of_ble_eq_true rfl) (Nat.le_of_ble_eq_true rfl)
set_option maxHeartbeats 1000000 in
set_option maxRecDepth 100000 in
theorem t_does102 (l : Launch) (V : gh_V) (o : Nat) (ad : Nat → Nat) (I : Nat → Int32) (A : Nat → Nat → Int32) (F : Nat → Nat → UInt32) (g0 : gh_G) (hP : tw_P V g0 o ad I A F) (x y : Int32) (i j : Nat) (L D P : Nat) (ex : x = nI i) (ey : y = nI j) (bi : i < 8) (bj : j ≤ 3) (hE : tw_wf (A 0) L D P) (hnn : nnS (F 0)) : MI l yX3_does cX3_does 7 (some .boolean) ({ frames := 2, cells := 0, slots := 0, locals := 47 } : Room) V [.ref o, .int 102, .int x, .int y] g0 (fun r g1 => (canB (A 0) 102 i j = true → r = 1 ∧ ∃ i4 b5 b6, tw_W V g0 g1 o ad (va_up I 4 i4) (va_up (va_up (va_up A 5 b5) 6 b6) 0 (didS (A 0) (F 0) 102 i j).1) (va_up F 0 (didS (A 0) (F 0) 102 i j).2)) ∧ (canB (A 0) 102 i j = false → r = 0 ∧ tw_W V g0 g1 o ad I A F)) := by
  refine MG.of RX3 (by decide) rfl (Nat.le_of_ble_eq_true rfl) (fun pp ee s mm args below meth c ls hC hg hr hlk hnm hl => ?_)
  have hx := hC.1.1
  have hb := hC.1.2.1
  have hml := hC.1.2.2.1
  have hown := hC.1.2.2.2.1
  have hts := hC.1.2.2.2.2
  have hl : lv_has ls 7 [(0, .ref o), (1, .int 102), (2, .int x), (3, .int y)] := hl
  have hT := hP.W
  have hL := hE.1.1
  have hL12 := hE.1.2
  refine lv_iload_n hx hb dX3_does_0 rfl (lv_at hl 1 rfl) ?_
  refine lv_bipush (v := 111) hx hb dX3_does_1 (by decide) ?_
  refine lv_icmp_ne (tgt := 27) hx hb dX3_does_3 (by decide) (fun _ => ?_) (fun c_1 => (absurd ((nx_eq (show ((102 : Int32)) = nI 102 from rfl) (show ((111 : Int32)) = nI 111 from rfl) (by omega) (by omega)).mp c_1) (by omega)))
  refine lv_iload_n hx hb dX3_does_27 rfl (lv_at hl 1 rfl) ?_
  refine lv_bipush (v := 108) hx hb dX3_does_28 (by decide) ?_
  refine lv_icmp_ne (tgt := 53) hx hb dX3_does_30 (by decide) (fun _ => ?_) (fun c_2 => (absurd ((nx_eq (show ((102 : Int32)) = nI 102 from rfl) (show ((108 : Int32)) = nI 108 from rfl) (by omega) (by omega)).mp c_2) (by omega)))
  refine lv_iload_n hx hb dX3_does_53 rfl (lv_at hl 1 rfl) ?_
  refine lv_bipush (v := 99) hx hb dX3_does_54 (by decide) ?_
  refine lv_icmp_ne (tgt := 76) hx hb dX3_does_56 (by decide) (fun _ => ?_) (fun c_3 => (absurd ((nx_eq (show ((102 : Int32)) = nI 102 from rfl) (show ((99 : Int32)) = nI 99 from rfl) (by omega) (by omega)).mp c_3) (by omega)))
  refine lv_iload_n hx hb dX3_does_76 rfl (lv_at hl 1 rfl) ?_
  refine lv_bipush (v := 109) hx hb dX3_does_77 (by decide) ?_
  refine lv_icmp_ne (tgt := 96) hx hb dX3_does_79 (by decide) (fun _ => ?_) (fun c_4 => (absurd ((nx_eq (show ((102 : Int32)) = nI 102 from rfl) (show ((109 : Int32)) = nI 109 from rfl) (by omega) (by omega)).mp c_4) (by omega)))
  refine lv_iconst (v := 1) hx hb dX3_does_96 (by decide) ?_
  refine lv_goto (tgt := 101) hx hb dX3_does_97 (by decide) ?_
  refine lv_istore (lv' := [(4, .int 1), (0, .ref o), (1, .int 102), (2, .int x), (3, .int y)]) hx hb dX3_does_101 hl (by decide) rfl (fun ls hl => ?_)
  refine lv_iload hx hb dX3_does_103 (lv_at hl 0 rfl) ?_
  refine lv_if_eq (tgt := 126) hx hb dX3_does_105 (by decide) (fun c_5 => (absurd ((nx_eq (show ((1 : Int32)) = nI 1 from rfl) (show ((0 : Int32)) = nI 0 from rfl) (by omega) (by omega)).mp c_5) (by omega))) (fun _ => ?_)
  refine lv_iload_n hx hb dX3_does_108 rfl (lv_at hl 2 rfl) ?_
  refine lv_bipush (v := 108) hx hb dX3_does_109 (by decide) ?_
  refine lv_icmp_ne (tgt := 122) hx hb dX3_does_111 (by decide) (fun _ => ?_) (fun c_6 => (absurd ((nx_eq (show ((102 : Int32)) = nI 102 from rfl) (show ((108 : Int32)) = nI 108 from rfl) (by omega) (by omega)).mp c_6) (by omega)))
  refine lv_iconst (v := 1) hx hb dX3_does_122 (by decide) ?_
  refine lv_goto (tgt := 127) hx hb dX3_does_123 (by decide) ?_
  refine lv_istore (lv' := [(4, .int 1), (0, .ref o), (1, .int 102), (2, .int x), (3, .int y)]) hx hb dX3_does_127 hl (by decide) rfl (fun ls hl => ?_)
  refine lv_iload hx hb dX3_does_129 (lv_at hl 0 rfl) ?_
  refine lv_if_eq (tgt := 245) hx hb dX3_does_131 (by decide) (fun c_7 => (absurd ((nx_eq (show ((1 : Int32)) = nI 1 from rfl) (show ((0 : Int32)) = nI 0 from rfl) (by omega) (by omega)).mp c_7) (by omega))) (fun _ => ?_)
  refine lv_iload_n hx hb dX3_does_134 rfl (lv_at hl 2 rfl) ?_
  refine lv_bipush (v := 98) hx hb dX3_does_135 (by decide) ?_
  refine lv_icmp_eq (tgt := 152) hx hb dX3_does_137 (by decide) (fun c_8 => (absurd ((nx_eq (show ((102 : Int32)) = nI 102 from rfl) (show ((98 : Int32)) = nI 98 from rfl) (by omega) (by omega)).mp c_8) (by omega))) (fun _ => ?_)
  refine lv_iload_n hx hb dX3_does_140 rfl (lv_at hl 2 rfl) ?_
  refine lv_bipush (v := 102) hx hb dX3_does_141 (by decide) ?_
  refine lv_icmp_eq (tgt := 152) hx hb dX3_does_143 (by decide) (fun _ => ?_) (fun c_9 => (absurd ((nx_eq (show ((102 : Int32)) = nI 102 from rfl) (show ((102 : Int32)) = nI 102 from rfl) (by omega) (by omega)).mpr (by omega)) c_9))
  refine lv_iconst (v := 1) hx hb dX3_does_152 (by decide) ?_
  refine lv_goto (tgt := 157) hx hb dX3_does_153 (by decide) ?_
  refine lv_istore (lv' := [(5, .int 1), (4, .int 1), (0, .ref o), (1, .int 102), (2, .int x), (3, .int y)]) hx hb dX3_does_157 hl (by decide) rfl (fun ls hl => ?_)
  refine lv_iload hx hb dX3_does_159 (lv_at hl 0 rfl) ?_
  refine lv_if_eq (tgt := 194) hx hb dX3_does_161 (by decide) (fun c_10 => (absurd ((nx_eq (show ((1 : Int32)) = nI 1 from rfl) (show ((0 : Int32)) = nI 0 from rfl) (by omega) (by omega)).mp c_10) (by omega))) (fun _ => ?_)
  refine lv_aload_n hx hb dX3_does_164 rfl (lv_at hl 2 rfl) ?_
  refine lv_iload_n hx hb dX3_does_165 rfl (lv_at hl 4 rfl) ?_
  refine lv_iload_n hx hb dX3_does_166 rfl (lv_at hl 3 rfl) ?_
  refine lv_bipush (v := 98) hx hb dX3_does_167 (by decide) ?_
  refine lv_icmp_ne (tgt := 176) hx hb dX3_does_169 (by decide) (fun _ => ?_) (fun c_11 => (absurd ((nx_eq (show ((102 : Int32)) = nI 102 from rfl) (show ((98 : Int32)) = nI 98 from rfl) (by omega) (by omega)).mp c_11) (by omega)))
  refine lv_iload_n hx hb dX3_does_176 rfl (lv_at hl 3 rfl) ?_
  refine lv_bipush (v := 102) hx hb dX3_does_177 (by decide) ?_
  refine lv_icmp_ne (tgt := 186) hx hb dX3_does_179 (by decide) (fun c_12 => (absurd ((nx_eq (show ((102 : Int32)) = nI 102 from rfl) (show ((102 : Int32)) = nI 102 from rfl) (by omega) (by omega)).mpr (by omega)) c_12)) (fun _ => ?_)
  refine lv_iconst (v := 1) hx hb dX3_does_182 (by decide) ?_
  refine lv_goto (tgt := 187) hx hb dX3_does_183 (by decide) ?_
  refine lv_iload_n hx hb dX3_does_187 rfl (lv_at hl 5 rfl) ?_
  refine gh_calli hg (gh_runV (As := [.int x, .int 1, .int y]) (rest := []) hC hg (t_changes l V o ad I A F _ hT.1 x 1 y i 1 ex (show ((1 : Int32)) = nI 1 from rfl)  (by omega) (by omega)) 3 (lw_V q3916 q3918 qs58 q138 q3919) hT.1.1 rfl hd_X3_changes ⟨Nat.le_of_ble_eq_true rfl, Nat.le_of_ble_eq_true rfl⟩ rfl hl.1 rfl (Nat.le_of_ble_eq_true rfl) dX3_does_188 ⟨Nat.le_of_ble_eq_true rfl, Nat.le_of_ble_eq_true rfl⟩) (fun r_13 g H locs hg hp => ?_)
  obtain ⟨hp, hpT⟩ := hp
  replace hp : r_13 = (zn (A 0) i 1) := hp
  subst hp
  have hT : tw_W V g0 g o ad I (va_up A 0 (zs (A 0) i 1 y)) F := hT.call hpT
  refine lv_goto (tgt := 243) hx hb dX3_does_191 (by decide) ?_
  refine lv_istore (lv' := [(6, .int (zn (A 0) i 1)), (5, .int 1), (4, .int 1), (0, .ref o), (1, .int 102), (2, .int x), (3, .int y)]) hx hb dX3_does_243 hl (by decide) rfl (fun ls hl => ?_)
  refine lv_iload hx hb dX3_does_245 (lv_at hl 2 rfl) ?_
  have e9 : canB (A 0) 102 i j = true := canB_102
  subst ex
  subst ey
  exact gh_retz rfl hC hg hr hlk (⟨fun _ => ⟨rfl, (I 4), (A 5), (A 6), hT.eqIAF (fam7 rfl rfl rfl rfl rfl rfl rfl (fun _ => rfl)) (fam8 (by rw [didS_102] <;> rfl) rfl rfl rfl rfl rfl rfl rfl (fun _ => rfl)) (fam4 (by rw [didS_102] <;> rfl) rfl rfl rfl (fun _ => rfl))⟩, fun h9 => absurd (e9.symm.trans h9) (by decide)⟩) dX3_does_247 (Nat.le_of_ble_eq_true rfl) (Nat.le_of_ble_eq_true rfl)
set_option maxHeartbeats 1000000 in
set_option maxRecDepth 100000 in
theorem t_does114 (l : Launch) (V : gh_V) (o : Nat) (ad : Nat → Nat) (I : Nat → Int32) (A : Nat → Nat → Int32) (F : Nat → Nat → UInt32) (g0 : gh_G) (hP : tw_P V g0 o ad I A F) (x y : Int32) (i j : Nat) (L D P : Nat) (ex : x = nI i) (ey : y = nI j) (bi : i < 8) (bj : j ≤ 9) (hE : tw_wf (A 0) L D P) (hnn : nnS (F 0)) : MI l yX3_does cX3_does 7 (some .boolean) ({ frames := 2, cells := 0, slots := 0, locals := 47 } : Room) V [.ref o, .int 114, .int x, .int y] g0 (fun r g1 => (canB (A 0) 114 i j = true → r = 1 ∧ ∃ i4 b5 b6, tw_W V g0 g1 o ad (va_up I 4 i4) (va_up (va_up (va_up A 5 b5) 6 b6) 0 (didS (A 0) (F 0) 114 i j).1) (va_up F 0 (didS (A 0) (F 0) 114 i j).2)) ∧ (canB (A 0) 114 i j = false → r = 0 ∧ tw_W V g0 g1 o ad I A F)) := by
  refine MG.of RX3 (by decide) rfl (Nat.le_of_ble_eq_true rfl) (fun pp ee s mm args below meth c ls hC hg hr hlk hnm hl => ?_)
  have hx := hC.1.1
  have hb := hC.1.2.1
  have hml := hC.1.2.2.1
  have hown := hC.1.2.2.2.1
  have hts := hC.1.2.2.2.2
  have hl : lv_has ls 7 [(0, .ref o), (1, .int 114), (2, .int x), (3, .int y)] := hl
  have hT := hP.W
  have hL := hE.1.1
  have hL12 := hE.1.2
  refine lv_iload_n hx hb dX3_does_0 rfl (lv_at hl 1 rfl) ?_
  refine lv_bipush (v := 111) hx hb dX3_does_1 (by decide) ?_
  refine lv_icmp_ne (tgt := 27) hx hb dX3_does_3 (by decide) (fun _ => ?_) (fun c_1 => (absurd ((nx_eq (show ((114 : Int32)) = nI 114 from rfl) (show ((111 : Int32)) = nI 111 from rfl) (by omega) (by omega)).mp c_1) (by omega)))
  refine lv_iload_n hx hb dX3_does_27 rfl (lv_at hl 1 rfl) ?_
  refine lv_bipush (v := 108) hx hb dX3_does_28 (by decide) ?_
  refine lv_icmp_ne (tgt := 53) hx hb dX3_does_30 (by decide) (fun _ => ?_) (fun c_2 => (absurd ((nx_eq (show ((114 : Int32)) = nI 114 from rfl) (show ((108 : Int32)) = nI 108 from rfl) (by omega) (by omega)).mp c_2) (by omega)))
  refine lv_iload_n hx hb dX3_does_53 rfl (lv_at hl 1 rfl) ?_
  refine lv_bipush (v := 99) hx hb dX3_does_54 (by decide) ?_
  refine lv_icmp_ne (tgt := 76) hx hb dX3_does_56 (by decide) (fun _ => ?_) (fun c_3 => (absurd ((nx_eq (show ((114 : Int32)) = nI 114 from rfl) (show ((99 : Int32)) = nI 99 from rfl) (by omega) (by omega)).mp c_3) (by omega)))
  refine lv_iload_n hx hb dX3_does_76 rfl (lv_at hl 1 rfl) ?_
  refine lv_bipush (v := 109) hx hb dX3_does_77 (by decide) ?_
  refine lv_icmp_ne (tgt := 96) hx hb dX3_does_79 (by decide) (fun _ => ?_) (fun c_4 => (absurd ((nx_eq (show ((114 : Int32)) = nI 114 from rfl) (show ((109 : Int32)) = nI 109 from rfl) (by omega) (by omega)).mp c_4) (by omega)))
  refine lv_iconst (v := 1) hx hb dX3_does_96 (by decide) ?_
  refine lv_goto (tgt := 101) hx hb dX3_does_97 (by decide) ?_
  refine lv_istore (lv' := [(4, .int 1), (0, .ref o), (1, .int 114), (2, .int x), (3, .int y)]) hx hb dX3_does_101 hl (by decide) rfl (fun ls hl => ?_)
  refine lv_iload hx hb dX3_does_103 (lv_at hl 0 rfl) ?_
  refine lv_if_eq (tgt := 126) hx hb dX3_does_105 (by decide) (fun c_5 => (absurd ((nx_eq (show ((1 : Int32)) = nI 1 from rfl) (show ((0 : Int32)) = nI 0 from rfl) (by omega) (by omega)).mp c_5) (by omega))) (fun _ => ?_)
  refine lv_iload_n hx hb dX3_does_108 rfl (lv_at hl 2 rfl) ?_
  refine lv_bipush (v := 108) hx hb dX3_does_109 (by decide) ?_
  refine lv_icmp_ne (tgt := 122) hx hb dX3_does_111 (by decide) (fun _ => ?_) (fun c_6 => (absurd ((nx_eq (show ((114 : Int32)) = nI 114 from rfl) (show ((108 : Int32)) = nI 108 from rfl) (by omega) (by omega)).mp c_6) (by omega)))
  refine lv_iconst (v := 1) hx hb dX3_does_122 (by decide) ?_
  refine lv_goto (tgt := 127) hx hb dX3_does_123 (by decide) ?_
  refine lv_istore (lv' := [(4, .int 1), (0, .ref o), (1, .int 114), (2, .int x), (3, .int y)]) hx hb dX3_does_127 hl (by decide) rfl (fun ls hl => ?_)
  refine lv_iload hx hb dX3_does_129 (lv_at hl 0 rfl) ?_
  refine lv_if_eq (tgt := 245) hx hb dX3_does_131 (by decide) (fun c_7 => (absurd ((nx_eq (show ((1 : Int32)) = nI 1 from rfl) (show ((0 : Int32)) = nI 0 from rfl) (by omega) (by omega)).mp c_7) (by omega))) (fun _ => ?_)
  refine lv_iload_n hx hb dX3_does_134 rfl (lv_at hl 2 rfl) ?_
  refine lv_bipush (v := 98) hx hb dX3_does_135 (by decide) ?_
  refine lv_icmp_eq (tgt := 152) hx hb dX3_does_137 (by decide) (fun c_8 => (absurd ((nx_eq (show ((114 : Int32)) = nI 114 from rfl) (show ((98 : Int32)) = nI 98 from rfl) (by omega) (by omega)).mp c_8) (by omega))) (fun _ => ?_)
  refine lv_iload_n hx hb dX3_does_140 rfl (lv_at hl 2 rfl) ?_
  refine lv_bipush (v := 102) hx hb dX3_does_141 (by decide) ?_
  refine lv_icmp_eq (tgt := 152) hx hb dX3_does_143 (by decide) (fun c_9 => (absurd ((nx_eq (show ((114 : Int32)) = nI 114 from rfl) (show ((102 : Int32)) = nI 102 from rfl) (by omega) (by omega)).mp c_9) (by omega))) (fun _ => ?_)
  refine lv_iload_n hx hb dX3_does_146 rfl (lv_at hl 2 rfl) ?_
  refine lv_bipush (v := 114) hx hb dX3_does_147 (by decide) ?_
  refine lv_icmp_ne (tgt := 156) hx hb dX3_does_149 (by decide) (fun c_10 => (absurd ((nx_eq (show ((114 : Int32)) = nI 114 from rfl) (show ((114 : Int32)) = nI 114 from rfl) (by omega) (by omega)).mpr (by omega)) c_10)) (fun _ => ?_)
  refine lv_iconst (v := 1) hx hb dX3_does_152 (by decide) ?_
  refine lv_goto (tgt := 157) hx hb dX3_does_153 (by decide) ?_
  refine lv_istore (lv' := [(5, .int 1), (4, .int 1), (0, .ref o), (1, .int 114), (2, .int x), (3, .int y)]) hx hb dX3_does_157 hl (by decide) rfl (fun ls hl => ?_)
  refine lv_iload hx hb dX3_does_159 (lv_at hl 0 rfl) ?_
  refine lv_if_eq (tgt := 194) hx hb dX3_does_161 (by decide) (fun c_11 => (absurd ((nx_eq (show ((1 : Int32)) = nI 1 from rfl) (show ((0 : Int32)) = nI 0 from rfl) (by omega) (by omega)).mp c_11) (by omega))) (fun _ => ?_)
  refine lv_aload_n hx hb dX3_does_164 rfl (lv_at hl 2 rfl) ?_
  refine lv_iload_n hx hb dX3_does_165 rfl (lv_at hl 4 rfl) ?_
  refine lv_iload_n hx hb dX3_does_166 rfl (lv_at hl 3 rfl) ?_
  refine lv_bipush (v := 98) hx hb dX3_does_167 (by decide) ?_
  refine lv_icmp_ne (tgt := 176) hx hb dX3_does_169 (by decide) (fun _ => ?_) (fun c_12 => (absurd ((nx_eq (show ((114 : Int32)) = nI 114 from rfl) (show ((98 : Int32)) = nI 98 from rfl) (by omega) (by omega)).mp c_12) (by omega)))
  refine lv_iload_n hx hb dX3_does_176 rfl (lv_at hl 3 rfl) ?_
  refine lv_bipush (v := 102) hx hb dX3_does_177 (by decide) ?_
  refine lv_icmp_ne (tgt := 186) hx hb dX3_does_179 (by decide) (fun _ => ?_) (fun c_13 => (absurd ((nx_eq (show ((114 : Int32)) = nI 114 from rfl) (show ((102 : Int32)) = nI 102 from rfl) (by omega) (by omega)).mp c_13) (by omega)))
  refine lv_iconst (v := 2) hx hb dX3_does_186 (by decide) ?_
  refine lv_iload_n hx hb dX3_does_187 rfl (lv_at hl 5 rfl) ?_
  refine gh_calli hg (gh_runV (As := [.int x, .int 2, .int y]) (rest := []) hC hg (t_changes l V o ad I A F _ hT.1 x 2 y i 2 ex (show ((2 : Int32)) = nI 2 from rfl)  (by omega) (by omega)) 3 (lw_V q3916 q3918 qs58 q138 q3919) hT.1.1 rfl hd_X3_changes ⟨Nat.le_of_ble_eq_true rfl, Nat.le_of_ble_eq_true rfl⟩ rfl hl.1 rfl (Nat.le_of_ble_eq_true rfl) dX3_does_188 ⟨Nat.le_of_ble_eq_true rfl, Nat.le_of_ble_eq_true rfl⟩) (fun r_14 g H locs hg hp => ?_)
  obtain ⟨hp, hpT⟩ := hp
  replace hp : r_14 = (zn (A 0) i 2) := hp
  subst hp
  have hT : tw_W V g0 g o ad I (va_up A 0 (zs (A 0) i 2 y)) F := hT.call hpT
  refine lv_goto (tgt := 243) hx hb dX3_does_191 (by decide) ?_
  refine lv_istore (lv' := [(6, .int (zn (A 0) i 2)), (5, .int 1), (4, .int 1), (0, .ref o), (1, .int 114), (2, .int x), (3, .int y)]) hx hb dX3_does_243 hl (by decide) rfl (fun ls hl => ?_)
  refine lv_iload hx hb dX3_does_245 (lv_at hl 2 rfl) ?_
  have e9 : canB (A 0) 114 i j = true := canB_114
  subst ex
  subst ey
  exact gh_retz rfl hC hg hr hlk (⟨fun _ => ⟨rfl, (I 4), (A 5), (A 6), hT.eqIAF (fam7 rfl rfl rfl rfl rfl rfl rfl (fun _ => rfl)) (fam8 (by rw [didS_114] <;> rfl) rfl rfl rfl rfl rfl rfl rfl (fun _ => rfl)) (fam4 (by rw [didS_114] <;> rfl) rfl rfl rfl (fun _ => rfl))⟩, fun h9 => absurd (e9.symm.trans h9) (by decide)⟩) dX3_does_247 (Nat.le_of_ble_eq_true rfl) (Nat.le_of_ble_eq_true rfl)
set_option maxHeartbeats 1000000 in
set_option maxRecDepth 100000 in
theorem t_does111 (l : Launch) (V : gh_V) (o : Nat) (ad : Nat → Nat) (I : Nat → Int32) (A : Nat → Nat → Int32) (F : Nat → Nat → UInt32) (g0 : gh_G) (hP : tw_P V g0 o ad I A F) (x y : Int32) (i j : Nat) (L D P : Nat) (ex : x = nI i) (ey : y = nI j) (bi : i ≤ 2) (bj : 1 ≤ j ∧ j ≤ 9) (hE : tw_wf (A 0) L D P) (hnn : nnS (F 0)) : MI l yX3_does cX3_does 7 (some .boolean) ({ frames := 1, cells := 0, slots := 0, locals := 24 } : Room) V [.ref o, .int 111, .int x, .int y] g0 (fun r g1 => (canB (A 0) 111 i j = true → r = 1 ∧ ∃ i4 b5 b6, tw_W V g0 g1 o ad (va_up I 4 i4) (va_up (va_up (va_up A 5 b5) 6 b6) 0 (didS (A 0) (F 0) 111 i j).1) (va_up F 0 (didS (A 0) (F 0) 111 i j).2)) ∧ (canB (A 0) 111 i j = false → r = 0 ∧ tw_W V g0 g1 o ad I A F)) := by
  refine MG.of RX3 (by decide) rfl (Nat.le_of_ble_eq_true rfl) (fun pp ee s mm args below meth c ls hC hg hr hlk hnm hl => ?_)
  have hx := hC.1.1
  have hb := hC.1.2.1
  have hml := hC.1.2.2.1
  have hown := hC.1.2.2.2.1
  have hts := hC.1.2.2.2.2
  have hl : lv_has ls 7 [(0, .ref o), (1, .int 111), (2, .int x), (3, .int y)] := hl
  have hT := hP.W
  have hL := hE.1.1
  have hL12 := hE.1.2
  refine lv_iload_n hx hb dX3_does_0 rfl (lv_at hl 1 rfl) ?_
  refine lv_bipush (v := 111) hx hb dX3_does_1 (by decide) ?_
  refine lv_icmp_ne (tgt := 27) hx hb dX3_does_3 (by decide) (fun c_1 => (absurd ((nx_eq (show ((111 : Int32)) = nI 111 from rfl) (show ((111 : Int32)) = nI 111 from rfl) (by omega) (by omega)).mpr (by omega)) c_1)) (fun _ => ?_)
  refine lv_aload_n hx hb dX3_does_6 rfl (lv_at hl 0 rfl) ?_
  refine gh_get (v := .ref (ad 0)) hC hg hT.1.1 fX3_7_0 rfl dX3_does_7 ?_
  refine lv_sipush (v := 163) hx hb dX3_does_10 (by decide) ?_
  refine gh_iald (n := 578) (f := (A 0)) hC hg (hT.1.2.1 0 (by decide)) (show ((163 : Int32)) = nI 163 from rfl) (by omega) (by omega) dX3_does_13 ?_
  refine lv_bipush (v := 12) hx hb dX3_does_14 (by decide) ?_
  refine lv_icmp_ge (tgt := 23) hx hb dX3_does_16 (by decide) (fun c_2 => ?_) (fun c_2 => ?_)
  · skip
    have c_2 : 12 ≤ L := (nx_le (show ((12 : Int32)) = nI 12 from rfl) hL (by omega) (by omega)).mp c_2
    refine lv_iconst (v := 0) hx hb dX3_does_23 (by decide) ?_
    refine lv_goto (tgt := 101) hx hb dX3_does_24 (by decide) ?_
    refine lv_istore (lv' := [(4, .int 0), (0, .ref o), (1, .int 111), (2, .int x), (3, .int y)]) hx hb dX3_does_101 hl (by decide) rfl (fun ls hl => ?_)
    refine lv_iload hx hb dX3_does_103 (lv_at hl 0 rfl) ?_
    refine lv_if_eq (tgt := 126) hx hb dX3_does_105 (by decide) (fun _ => ?_) (fun c_3 => (absurd ((nx_eq (show ((0 : Int32)) = nI 0 from rfl) (show ((0 : Int32)) = nI 0 from rfl) (by omega) (by omega)).mpr (by omega)) c_3))
    refine lv_iconst (v := 0) hx hb dX3_does_126 (by decide) ?_
    refine lv_istore (lv' := [(4, .int 0), (0, .ref o), (1, .int 111), (2, .int x), (3, .int y)]) hx hb dX3_does_127 hl (by decide) rfl (fun ls hl => ?_)
    refine lv_iload hx hb dX3_does_129 (lv_at hl 0 rfl) ?_
    refine lv_if_eq (tgt := 245) hx hb dX3_does_131 (by decide) (fun _ => ?_) (fun c_4 => (absurd ((nx_eq (show ((0 : Int32)) = nI 0 from rfl) (show ((0 : Int32)) = nI 0 from rfl) (by omega) (by omega)).mpr (by omega)) c_4))
    refine lv_iload hx hb dX3_does_245 (lv_at hl 0 rfl) ?_
    have e9 : canB (A 0) 111 i j = false := canB_111.trans (decide_eq_false (by rw [nL_of hE]; omega))
    exact gh_retz rfl hC hg hr hlk (⟨fun h9 => absurd (e9.symm.trans h9) (by decide), fun _ => ⟨rfl, hT⟩⟩) dX3_does_247 (Nat.le_of_ble_eq_true rfl) (Nat.le_of_ble_eq_true rfl)
  have c_2 : ¬ 12 ≤ L := fun h9 => c_2 ((nx_le (show ((12 : Int32)) = nI 12 from rfl) hL (by omega) (by omega)).mpr h9)
  refine lv_iconst (v := 1) hx hb dX3_does_19 (by decide) ?_
  refine lv_goto (tgt := 101) hx hb dX3_does_20 (by decide) ?_
  refine lv_istore (lv' := [(4, .int 1), (0, .ref o), (1, .int 111), (2, .int x), (3, .int y)]) hx hb dX3_does_101 hl (by decide) rfl (fun ls hl => ?_)
  refine lv_iload hx hb dX3_does_103 (lv_at hl 0 rfl) ?_
  refine lv_if_eq (tgt := 126) hx hb dX3_does_105 (by decide) (fun c_5 => (absurd ((nx_eq (show ((1 : Int32)) = nI 1 from rfl) (show ((0 : Int32)) = nI 0 from rfl) (by omega) (by omega)).mp c_5) (by omega))) (fun _ => ?_)
  refine lv_iload_n hx hb dX3_does_108 rfl (lv_at hl 2 rfl) ?_
  refine lv_bipush (v := 108) hx hb dX3_does_109 (by decide) ?_
  refine lv_icmp_ne (tgt := 122) hx hb dX3_does_111 (by decide) (fun _ => ?_) (fun c_6 => (absurd ((nx_eq (show ((111 : Int32)) = nI 111 from rfl) (show ((108 : Int32)) = nI 108 from rfl) (by omega) (by omega)).mp c_6) (by omega)))
  refine lv_iconst (v := 1) hx hb dX3_does_122 (by decide) ?_
  refine lv_goto (tgt := 127) hx hb dX3_does_123 (by decide) ?_
  refine lv_istore (lv' := [(4, .int 1), (0, .ref o), (1, .int 111), (2, .int x), (3, .int y)]) hx hb dX3_does_127 hl (by decide) rfl (fun ls hl => ?_)
  refine lv_iload hx hb dX3_does_129 (lv_at hl 0 rfl) ?_
  refine lv_if_eq (tgt := 245) hx hb dX3_does_131 (by decide) (fun c_7 => (absurd ((nx_eq (show ((1 : Int32)) = nI 1 from rfl) (show ((0 : Int32)) = nI 0 from rfl) (by omega) (by omega)).mp c_7) (by omega))) (fun _ => ?_)
  refine lv_iload_n hx hb dX3_does_134 rfl (lv_at hl 2 rfl) ?_
  refine lv_bipush (v := 98) hx hb dX3_does_135 (by decide) ?_
  refine lv_icmp_eq (tgt := 152) hx hb dX3_does_137 (by decide) (fun c_8 => (absurd ((nx_eq (show ((111 : Int32)) = nI 111 from rfl) (show ((98 : Int32)) = nI 98 from rfl) (by omega) (by omega)).mp c_8) (by omega))) (fun _ => ?_)
  refine lv_iload_n hx hb dX3_does_140 rfl (lv_at hl 2 rfl) ?_
  refine lv_bipush (v := 102) hx hb dX3_does_141 (by decide) ?_
  refine lv_icmp_eq (tgt := 152) hx hb dX3_does_143 (by decide) (fun c_9 => (absurd ((nx_eq (show ((111 : Int32)) = nI 111 from rfl) (show ((102 : Int32)) = nI 102 from rfl) (by omega) (by omega)).mp c_9) (by omega))) (fun _ => ?_)
  refine lv_iload_n hx hb dX3_does_146 rfl (lv_at hl 2 rfl) ?_
  refine lv_bipush (v := 114) hx hb dX3_does_147 (by decide) ?_
  refine lv_icmp_ne (tgt := 156) hx hb dX3_does_149 (by decide) (fun _ => ?_) (fun c_10 => (absurd ((nx_eq (show ((111 : Int32)) = nI 111 from rfl) (show ((114 : Int32)) = nI 114 from rfl) (by omega) (by omega)).mp c_10) (by omega)))
  refine lv_iconst (v := 0) hx hb dX3_does_156 (by decide) ?_
  refine lv_istore (lv' := [(5, .int 0), (4, .int 1), (0, .ref o), (1, .int 111), (2, .int x), (3, .int y)]) hx hb dX3_does_157 hl (by decide) rfl (fun ls hl => ?_)
  refine lv_iload hx hb dX3_does_159 (lv_at hl 0 rfl) ?_
  refine lv_if_eq (tgt := 194) hx hb dX3_does_161 (by decide) (fun _ => ?_) (fun c_11 => (absurd ((nx_eq (show ((0 : Int32)) = nI 0 from rfl) (show ((0 : Int32)) = nI 0 from rfl) (by omega) (by omega)).mpr (by omega)) c_11))
  refine lv_iload_n hx hb dX3_does_194 rfl (lv_at hl 3 rfl) ?_
  refine lv_bipush (v := 111) hx hb dX3_does_195 (by decide) ?_
  refine lv_icmp_ne (tgt := 209) hx hb dX3_does_197 (by decide) (fun c_12 => (absurd ((nx_eq (show ((111 : Int32)) = nI 111 from rfl) (show ((111 : Int32)) = nI 111 from rfl) (by omega) (by omega)).mpr (by omega)) c_12)) (fun _ => ?_)
  refine lv_aload_n hx hb dX3_does_200 rfl (lv_at hl 2 rfl) ?_
  refine lv_iload_n hx hb dX3_does_201 rfl (lv_at hl 4 rfl) ?_
  refine lv_iload_n hx hb dX3_does_202 rfl (lv_at hl 5 rfl) ?_
  refine gh_calli hg (gh_runV (As := [.int x, .int y]) (rest := []) hC hg (t_opens l V o ad I A F _ hT.1 x y L hL (by omega)) 2 (lw_V q3940 q3942 qs60 q138 q3943) hT.1.1 rfl hd_X3_opens ⟨Nat.le_of_ble_eq_true rfl, Nat.le_of_ble_eq_true rfl⟩ rfl hl.1 rfl (Nat.le_of_ble_eq_true rfl) dX3_does_203 ⟨Nat.le_of_ble_eq_true rfl, Nat.le_of_ble_eq_true rfl⟩) (fun r_13 g H locs hg hp => ?_)
  obtain ⟨hp, hpT⟩ := hp
  replace hp : r_13 = ((A 0) 163) := hp
  subst hp
  have hT : tw_W V g0 g o ad I (va_up A 0 (opensS (A 0) L x y)) F := hT.call hpT
  refine lv_goto (tgt := 243) hx hb dX3_does_206 (by decide) ?_
  refine lv_istore (lv' := [(6, .int ((A 0) 163)), (5, .int 0), (4, .int 1), (0, .ref o), (1, .int 111), (2, .int x), (3, .int y)]) hx hb dX3_does_243 hl (by decide) rfl (fun ls hl => ?_)
  refine lv_iload hx hb dX3_does_245 (lv_at hl 2 rfl) ?_
  have e9 : canB (A 0) 111 i j = true := canB_111.trans (decide_eq_true (by rw [nL_of hE]; omega))
  subst ex
  subst ey
  exact gh_retz rfl hC hg hr hlk (⟨fun _ => ⟨rfl, (I 4), (A 5), (A 6), hT.eqIAF (fam7 rfl rfl rfl rfl rfl rfl rfl (fun _ => rfl)) (fam8 (by rw [didS_111, nL_of hE] <;> rfl) rfl rfl rfl rfl rfl rfl rfl (fun _ => rfl)) (fam4 (by rw [didS_111] <;> rfl) rfl rfl rfl (fun _ => rfl))⟩, fun h9 => absurd (e9.symm.trans h9) (by decide)⟩) dX3_does_247 (Nat.le_of_ble_eq_true rfl) (Nat.le_of_ble_eq_true rfl)
set_option maxHeartbeats 1000000 in
set_option maxRecDepth 100000 in
theorem t_does108 (l : Launch) (V : gh_V) (o : Nat) (ad : Nat → Nat) (I : Nat → Int32) (A : Nat → Nat → Int32) (F : Nat → Nat → UInt32) (g0 : gh_G) (hP : tw_P V g0 o ad I A F) (x y : Int32) (i j : Nat) (L D P : Nat) (ex : x = nI i) (ey : y = nI j) (bi : i ≤ 11) (bj : j = 0) (hE : tw_wf (A 0) L D P) (hnn : nnS (F 0)) : MI l yX3_does cX3_does 7 (some .boolean) ({ frames := 3, cells := 0, slots := 0, locals := 64 } : Room) V [.ref o, .int 108, .int x, .int y] g0 (fun r g1 => (canB (A 0) 108 i j = true → r = 1 ∧ ∃ i4 b5 b6, tw_W V g0 g1 o ad (va_up I 4 i4) (va_up (va_up (va_up A 5 b5) 6 b6) 0 (didS (A 0) (F 0) 108 i j).1) (va_up F 0 (didS (A 0) (F 0) 108 i j).2)) ∧ (canB (A 0) 108 i j = false → r = 0 ∧ tw_W V g0 g1 o ad I A F)) := by
  refine MG.of RX3 (by decide) rfl (Nat.le_of_ble_eq_true rfl) (fun pp ee s mm args below meth c ls hC hg hr hlk hnm hl => ?_)
  have hx := hC.1.1
  have hb := hC.1.2.1
  have hml := hC.1.2.2.1
  have hown := hC.1.2.2.2.1
  have hts := hC.1.2.2.2.2
  have hl : lv_has ls 7 [(0, .ref o), (1, .int 108), (2, .int x), (3, .int y)] := hl
  have hT := hP.W
  have hL := hE.1.1
  have hL12 := hE.1.2
  refine lv_iload_n hx hb dX3_does_0 rfl (lv_at hl 1 rfl) ?_
  refine lv_bipush (v := 111) hx hb dX3_does_1 (by decide) ?_
  refine lv_icmp_ne (tgt := 27) hx hb dX3_does_3 (by decide) (fun _ => ?_) (fun c_1 => (absurd ((nx_eq (show ((108 : Int32)) = nI 108 from rfl) (show ((111 : Int32)) = nI 111 from rfl) (by omega) (by omega)).mp c_1) (by omega)))
  refine lv_iload_n hx hb dX3_does_27 rfl (lv_at hl 1 rfl) ?_
  refine lv_bipush (v := 108) hx hb dX3_does_28 (by decide) ?_
  refine lv_icmp_ne (tgt := 53) hx hb dX3_does_30 (by decide) (fun c_2 => (absurd ((nx_eq (show ((108 : Int32)) = nI 108 from rfl) (show ((108 : Int32)) = nI 108 from rfl) (by omega) (by omega)).mpr (by omega)) c_2)) (fun _ => ?_)
  refine lv_iload_n hx hb dX3_does_33 rfl (lv_at hl 2 rfl) ?_
  refine lv_aload_n hx hb dX3_does_34 rfl (lv_at hl 0 rfl) ?_
  refine gh_get (v := .ref (ad 0)) hC hg hT.1.1 fX3_7_0 rfl dX3_does_35 ?_
  refine lv_sipush (v := 163) hx hb dX3_does_38 (by decide) ?_
  refine gh_iald (n := 578) (f := (A 0)) hC hg (hT.1.2.1 0 (by decide)) (show ((163 : Int32)) = nI 163 from rfl) (by omega) (by omega) dX3_does_41 ?_
  refine lv_icmp_ge (tgt := 49) hx hb dX3_does_42 (by decide) (fun c_3 => ?_) (fun c_3 => ?_)
  · skip
    have c_3 : L ≤ i := (nx_le hL ex (by omega) (by omega)).mp c_3
    refine lv_iconst (v := 0) hx hb dX3_does_49 (by decide) ?_
    refine lv_goto (tgt := 101) hx hb dX3_does_50 (by decide) ?_
    refine lv_istore (lv' := [(4, .int 0), (0, .ref o), (1, .int 108), (2, .int x), (3, .int y)]) hx hb dX3_does_101 hl (by decide) rfl (fun ls hl => ?_)
    refine lv_iload hx hb dX3_does_103 (lv_at hl 0 rfl) ?_
    refine lv_if_eq (tgt := 126) hx hb dX3_does_105 (by decide) (fun _ => ?_) (fun c_4 => (absurd ((nx_eq (show ((0 : Int32)) = nI 0 from rfl) (show ((0 : Int32)) = nI 0 from rfl) (by omega) (by omega)).mpr (by omega)) c_4))
    refine lv_iconst (v := 0) hx hb dX3_does_126 (by decide) ?_
    refine lv_istore (lv' := [(4, .int 0), (0, .ref o), (1, .int 108), (2, .int x), (3, .int y)]) hx hb dX3_does_127 hl (by decide) rfl (fun ls hl => ?_)
    refine lv_iload hx hb dX3_does_129 (lv_at hl 0 rfl) ?_
    refine lv_if_eq (tgt := 245) hx hb dX3_does_131 (by decide) (fun _ => ?_) (fun c_5 => (absurd ((nx_eq (show ((0 : Int32)) = nI 0 from rfl) (show ((0 : Int32)) = nI 0 from rfl) (by omega) (by omega)).mpr (by omega)) c_5))
    refine lv_iload hx hb dX3_does_245 (lv_at hl 0 rfl) ?_
    have e9 : canB (A 0) 108 i j = false := canB_108.trans (by rw [nL_of hE, decide_eq_false (show ¬ i < L by omega)]; rfl)
    exact gh_retz rfl hC hg hr hlk (⟨fun h9 => absurd (e9.symm.trans h9) (by decide), fun _ => ⟨rfl, hT⟩⟩) dX3_does_247 (Nat.le_of_ble_eq_true rfl) (Nat.le_of_ble_eq_true rfl)
  have c_3 : ¬ L ≤ i := fun h9 => c_3 ((nx_le hL ex (by omega) (by omega)).mpr h9)
  refine lv_iconst (v := 1) hx hb dX3_does_45 (by decide) ?_
  refine lv_goto (tgt := 101) hx hb dX3_does_46 (by decide) ?_
  refine lv_istore (lv' := [(4, .int 1), (0, .ref o), (1, .int 108), (2, .int x), (3, .int y)]) hx hb dX3_does_101 hl (by decide) rfl (fun ls hl => ?_)
  refine lv_iload hx hb dX3_does_103 (lv_at hl 0 rfl) ?_
  refine lv_if_eq (tgt := 126) hx hb dX3_does_105 (by decide) (fun c_6 => (absurd ((nx_eq (show ((1 : Int32)) = nI 1 from rfl) (show ((0 : Int32)) = nI 0 from rfl) (by omega) (by omega)).mp c_6) (by omega))) (fun _ => ?_)
  refine lv_iload_n hx hb dX3_does_108 rfl (lv_at hl 2 rfl) ?_
  refine lv_bipush (v := 108) hx hb dX3_does_109 (by decide) ?_
  refine lv_icmp_ne (tgt := 122) hx hb dX3_does_111 (by decide) (fun c_7 => (absurd ((nx_eq (show ((108 : Int32)) = nI 108 from rfl) (show ((108 : Int32)) = nI 108 from rfl) (by omega) (by omega)).mpr (by omega)) c_7)) (fun _ => ?_)
  refine lv_aload_n hx hb dX3_does_114 rfl (lv_at hl 1 rfl) ?_
  refine lv_iload_n hx hb dX3_does_115 rfl (lv_at hl 3 rfl) ?_
  refine gh_calli hg (gh_runV (As := [.int x]) (rest := []) hC hg (t_noLoading l V o ad I A F _ hT.1 x i ex (by omega)) 1 (lw_V q3952 q3954 qs62 q138 q3955) hT.1.1 rfl hd_X3_noLoading ⟨Nat.le_of_ble_eq_true rfl, Nat.le_of_ble_eq_true rfl⟩ rfl hl.1 rfl (Nat.le_of_ble_eq_true rfl) dX3_does_116 ⟨Nat.le_of_ble_eq_true rfl, Nat.le_of_ble_eq_true rfl⟩) (fun r_8 g H locs hg hp => ?_)
  obtain ⟨hp, hq⟩ := hp
  replace hp : r_8 = (noLoad (A 0) i) := hp
  subst hp
  rw [hq] at hg
  refine lv_if_ne (tgt := 126) hx hb dX3_does_119 (by decide) (fun c_9 => ?_) (fun c_9 => ?_)
  · skip
    refine lv_iconst (v := 0) hx hb dX3_does_126 (by decide) ?_
    refine lv_istore (lv' := [(4, .int 0), (0, .ref o), (1, .int 108), (2, .int x), (3, .int y)]) hx hb dX3_does_127 hl (by decide) rfl (fun ls hl => ?_)
    refine lv_iload hx hb dX3_does_129 (lv_at hl 0 rfl) ?_
    refine lv_if_eq (tgt := 245) hx hb dX3_does_131 (by decide) (fun _ => ?_) (fun c_10 => (absurd ((nx_eq (show ((0 : Int32)) = nI 0 from rfl) (show ((0 : Int32)) = nI 0 from rfl) (by omega) (by omega)).mpr (by omega)) c_10))
    refine lv_iload hx hb dX3_does_245 (lv_at hl 0 rfl) ?_
    have e9 : canB (A 0) 108 i j = false := canB_108.trans (by rw [decide_eq_false c_9, Bool.and_false])
    exact gh_retz rfl hC hg hr hlk (⟨fun h9 => absurd (e9.symm.trans h9) (by decide), fun _ => ⟨rfl, hT⟩⟩) dX3_does_247 (Nat.le_of_ble_eq_true rfl) (Nat.le_of_ble_eq_true rfl)
  refine lv_iconst (v := 1) hx hb dX3_does_122 (by decide) ?_
  refine lv_goto (tgt := 127) hx hb dX3_does_123 (by decide) ?_
  refine lv_istore (lv' := [(4, .int 1), (0, .ref o), (1, .int 108), (2, .int x), (3, .int y)]) hx hb dX3_does_127 hl (by decide) rfl (fun ls hl => ?_)
  refine lv_iload hx hb dX3_does_129 (lv_at hl 0 rfl) ?_
  refine lv_if_eq (tgt := 245) hx hb dX3_does_131 (by decide) (fun c_11 => (absurd ((nx_eq (show ((1 : Int32)) = nI 1 from rfl) (show ((0 : Int32)) = nI 0 from rfl) (by omega) (by omega)).mp c_11) (by omega))) (fun _ => ?_)
  refine lv_iload_n hx hb dX3_does_134 rfl (lv_at hl 2 rfl) ?_
  refine lv_bipush (v := 98) hx hb dX3_does_135 (by decide) ?_
  refine lv_icmp_eq (tgt := 152) hx hb dX3_does_137 (by decide) (fun c_12 => (absurd ((nx_eq (show ((108 : Int32)) = nI 108 from rfl) (show ((98 : Int32)) = nI 98 from rfl) (by omega) (by omega)).mp c_12) (by omega))) (fun _ => ?_)
  refine lv_iload_n hx hb dX3_does_140 rfl (lv_at hl 2 rfl) ?_
  refine lv_bipush (v := 102) hx hb dX3_does_141 (by decide) ?_
  refine lv_icmp_eq (tgt := 152) hx hb dX3_does_143 (by decide) (fun c_13 => (absurd ((nx_eq (show ((108 : Int32)) = nI 108 from rfl) (show ((102 : Int32)) = nI 102 from rfl) (by omega) (by omega)).mp c_13) (by omega))) (fun _ => ?_)
  refine lv_iload_n hx hb dX3_does_146 rfl (lv_at hl 2 rfl) ?_
  refine lv_bipush (v := 114) hx hb dX3_does_147 (by decide) ?_
  refine lv_icmp_ne (tgt := 156) hx hb dX3_does_149 (by decide) (fun _ => ?_) (fun c_14 => (absurd ((nx_eq (show ((108 : Int32)) = nI 108 from rfl) (show ((114 : Int32)) = nI 114 from rfl) (by omega) (by omega)).mp c_14) (by omega)))
  refine lv_iconst (v := 0) hx hb dX3_does_156 (by decide) ?_
  refine lv_istore (lv' := [(5, .int 0), (4, .int 1), (0, .ref o), (1, .int 108), (2, .int x), (3, .int y)]) hx hb dX3_does_157 hl (by decide) rfl (fun ls hl => ?_)
  refine lv_iload hx hb dX3_does_159 (lv_at hl 0 rfl) ?_
  refine lv_if_eq (tgt := 194) hx hb dX3_does_161 (by decide) (fun _ => ?_) (fun c_15 => (absurd ((nx_eq (show ((0 : Int32)) = nI 0 from rfl) (show ((0 : Int32)) = nI 0 from rfl) (by omega) (by omega)).mpr (by omega)) c_15))
  refine lv_iload_n hx hb dX3_does_194 rfl (lv_at hl 3 rfl) ?_
  refine lv_bipush (v := 111) hx hb dX3_does_195 (by decide) ?_
  refine lv_icmp_ne (tgt := 209) hx hb dX3_does_197 (by decide) (fun _ => ?_) (fun c_16 => (absurd ((nx_eq (show ((108 : Int32)) = nI 108 from rfl) (show ((111 : Int32)) = nI 111 from rfl) (by omega) (by omega)).mp c_16) (by omega)))
  refine lv_iload_n hx hb dX3_does_209 rfl (lv_at hl 3 rfl) ?_
  refine lv_bipush (v := 108) hx hb dX3_does_210 (by decide) ?_
  refine lv_icmp_ne (tgt := 223) hx hb dX3_does_212 (by decide) (fun c_17 => (absurd ((nx_eq (show ((108 : Int32)) = nI 108 from rfl) (show ((108 : Int32)) = nI 108 from rfl) (by omega) (by omega)).mpr (by omega)) c_17)) (fun _ => ?_)
  refine lv_aload_n hx hb dX3_does_215 rfl (lv_at hl 2 rfl) ?_
  refine lv_iload_n hx hb dX3_does_216 rfl (lv_at hl 4 rfl) ?_
  refine gh_calli hg (gh_runV (As := [.int x]) (rest := []) hC hg (t_loads l V o ad I A F _ hT.1 x i ex (by omega)) 1 (lw_V q3968 q3970 qs66 q138 q3971) hT.1.1 rfl hd_X3_loads ⟨Nat.le_of_ble_eq_true rfl, Nat.le_of_ble_eq_true rfl⟩ rfl hl.1 rfl (Nat.le_of_ble_eq_true rfl) dX3_does_217 ⟨Nat.le_of_ble_eq_true rfl, Nat.le_of_ble_eq_true rfl⟩) (fun r_18 g H locs hg hp => ?_)
  obtain ⟨hp, hpT⟩ := hp
  replace hp : r_18 = (lt (A 0) i 2) := hp
  subst hp
  have hT : tw_W V g0 g o ad I (va_up A 0 (loadsS (A 0) i x)) (va_up F 0 (va_up (F 0) 0 FP.fconst0)) := hT.call hpT
  refine lv_goto (tgt := 243) hx hb dX3_does_220 (by decide) ?_
  refine lv_istore (lv' := [(6, .int (lt (A 0) i 2)), (5, .int 0), (4, .int 1), (0, .ref o), (1, .int 108), (2, .int x), (3, .int y)]) hx hb dX3_does_243 hl (by decide) rfl (fun ls hl => ?_)
  refine lv_iload hx hb dX3_does_245 (lv_at hl 2 rfl) ?_
  have e9 : canB (A 0) 108 i j = true := canB_108.trans (by rw [nL_of hE, decide_eq_true (show i < L by omega), decide_eq_true c_9]; rfl)
  subst ex
  subst ey
  exact gh_retz rfl hC hg hr hlk (⟨fun _ => ⟨rfl, (I 4), (A 5), (A 6), hT.eqIAF (fam7 rfl rfl rfl rfl rfl rfl rfl (fun _ => rfl)) (fam8 (by rw [didS_108] <;> rfl) rfl rfl rfl rfl rfl rfl rfl (fun _ => rfl)) (fam4 (by rw [didS_108] <;> rfl) rfl rfl rfl (fun _ => rfl))⟩, fun h9 => absurd (e9.symm.trans h9) (by decide)⟩) dX3_does_247 (Nat.le_of_ble_eq_true rfl) (Nat.le_of_ble_eq_true rfl)
set_option maxHeartbeats 1000000 in
set_option maxRecDepth 100000 in
theorem t_does99 (l : Launch) (V : gh_V) (o : Nat) (ad : Nat → Nat) (I : Nat → Int32) (A : Nat → Nat → Int32) (F : Nat → Nat → UInt32) (g0 : gh_G) (hP : tw_P V g0 o ad I A F) (x y : Int32) (i j : Nat) (L D P : Nat) (ex : x = nI i) (ey : y = nI j) (bi : i < 2) (bj : j < 24) (hE : tw_wf (A 0) L D P) (hnn : nnS (F 0)) : MI l yX3_does cX3_does 7 (some .boolean) ({ frames := 2, cells := 0, slots := 0, locals := 45 } : Room) V [.ref o, .int 99, .int x, .int y] g0 (fun r g1 => (canB (A 0) 99 i j = true → r = 1 ∧ ∃ i4 b5 b6, tw_W V g0 g1 o ad (va_up I 4 i4) (va_up (va_up (va_up A 5 b5) 6 b6) 0 (didS (A 0) (F 0) 99 i j).1) (va_up F 0 (didS (A 0) (F 0) 99 i j).2)) ∧ (canB (A 0) 99 i j = false → r = 0 ∧ tw_W V g0 g1 o ad I A F)) := by
  refine MG.of RX3 (by decide) rfl (Nat.le_of_ble_eq_true rfl) (fun pp ee s mm args below meth c ls hC hg hr hlk hnm hl => ?_)
  have hx := hC.1.1
  have hb := hC.1.2.1
  have hml := hC.1.2.2.1
  have hown := hC.1.2.2.2.1
  have hts := hC.1.2.2.2.2
  have hl : lv_has ls 7 [(0, .ref o), (1, .int 99), (2, .int x), (3, .int y)] := hl
  have hT := hP.W
  have hL := hE.1.1
  have hL12 := hE.1.2
  refine lv_iload_n hx hb dX3_does_0 rfl (lv_at hl 1 rfl) ?_
  refine lv_bipush (v := 111) hx hb dX3_does_1 (by decide) ?_
  refine lv_icmp_ne (tgt := 27) hx hb dX3_does_3 (by decide) (fun _ => ?_) (fun c_1 => (absurd ((nx_eq (show ((99 : Int32)) = nI 99 from rfl) (show ((111 : Int32)) = nI 111 from rfl) (by omega) (by omega)).mp c_1) (by omega)))
  refine lv_iload_n hx hb dX3_does_27 rfl (lv_at hl 1 rfl) ?_
  refine lv_bipush (v := 108) hx hb dX3_does_28 (by decide) ?_
  refine lv_icmp_ne (tgt := 53) hx hb dX3_does_30 (by decide) (fun _ => ?_) (fun c_2 => (absurd ((nx_eq (show ((99 : Int32)) = nI 99 from rfl) (show ((108 : Int32)) = nI 108 from rfl) (by omega) (by omega)).mp c_2) (by omega)))
  refine lv_iload_n hx hb dX3_does_53 rfl (lv_at hl 1 rfl) ?_
  refine lv_bipush (v := 99) hx hb dX3_does_54 (by decide) ?_
  refine lv_icmp_ne (tgt := 76) hx hb dX3_does_56 (by decide) (fun c_3 => (absurd ((nx_eq (show ((99 : Int32)) = nI 99 from rfl) (show ((99 : Int32)) = nI 99 from rfl) (by omega) (by omega)).mpr (by omega)) c_3)) (fun _ => ?_)
  refine lv_aload_n hx hb dX3_does_59 rfl (lv_at hl 0 rfl) ?_
  refine lv_iload_n hx hb dX3_does_60 rfl (lv_at hl 2 rfl) ?_
  refine lv_iload_n hx hb dX3_does_61 rfl (lv_at hl 3 rfl) ?_
  refine gh_calli hg (gh_runV (As := [.int x, .int y]) (rest := []) hC hg (t_noCleaning l V o ad I A F _ hT.1 x y i j ex ey (by omega) (by omega)) 2 (lw_V q3984 q3986 qs69 q138 q3987) hT.1.1 rfl hd_X3_noCleaning ⟨Nat.le_of_ble_eq_true rfl, Nat.le_of_ble_eq_true rfl⟩ rfl hl.1 rfl (Nat.le_of_ble_eq_true rfl) dX3_does_62 ⟨Nat.le_of_ble_eq_true rfl, Nat.le_of_ble_eq_true rfl⟩) (fun r_4 g H locs hg hp => ?_)
  obtain ⟨hp, hq⟩ := hp
  replace hp : r_4 = (noCln (A 0) i j) := hp
  subst hp
  rw [hq] at hg
  refine lv_if_ne (tgt := 72) hx hb dX3_does_65 (by decide) (fun c_5 => ?_) (fun c_5 => ?_)
  · skip
    refine lv_iconst (v := 0) hx hb dX3_does_72 (by decide) ?_
    refine lv_goto (tgt := 101) hx hb dX3_does_73 (by decide) ?_
    refine lv_istore (lv' := [(4, .int 0), (0, .ref o), (1, .int 99), (2, .int x), (3, .int y)]) hx hb dX3_does_101 hl (by decide) rfl (fun ls hl => ?_)
    refine lv_iload hx hb dX3_does_103 (lv_at hl 0 rfl) ?_
    refine lv_if_eq (tgt := 126) hx hb dX3_does_105 (by decide) (fun _ => ?_) (fun c_6 => (absurd ((nx_eq (show ((0 : Int32)) = nI 0 from rfl) (show ((0 : Int32)) = nI 0 from rfl) (by omega) (by omega)).mpr (by omega)) c_6))
    refine lv_iconst (v := 0) hx hb dX3_does_126 (by decide) ?_
    refine lv_istore (lv' := [(4, .int 0), (0, .ref o), (1, .int 99), (2, .int x), (3, .int y)]) hx hb dX3_does_127 hl (by decide) rfl (fun ls hl => ?_)
    refine lv_iload hx hb dX3_does_129 (lv_at hl 0 rfl) ?_
    refine lv_if_eq (tgt := 245) hx hb dX3_does_131 (by decide) (fun _ => ?_) (fun c_7 => (absurd ((nx_eq (show ((0 : Int32)) = nI 0 from rfl) (show ((0 : Int32)) = nI 0 from rfl) (by omega) (by omega)).mpr (by omega)) c_7))
    refine lv_iload hx hb dX3_does_245 (lv_at hl 0 rfl) ?_
    have e9 : canB (A 0) 99 i j = false := canB_99.trans (decide_eq_false c_5)
    exact gh_retz rfl hC hg hr hlk (⟨fun h9 => absurd (e9.symm.trans h9) (by decide), fun _ => ⟨rfl, hT⟩⟩) dX3_does_247 (Nat.le_of_ble_eq_true rfl) (Nat.le_of_ble_eq_true rfl)
  refine lv_iconst (v := 1) hx hb dX3_does_68 (by decide) ?_
  refine lv_goto (tgt := 101) hx hb dX3_does_69 (by decide) ?_
  refine lv_istore (lv' := [(4, .int 1), (0, .ref o), (1, .int 99), (2, .int x), (3, .int y)]) hx hb dX3_does_101 hl (by decide) rfl (fun ls hl => ?_)
  refine lv_iload hx hb dX3_does_103 (lv_at hl 0 rfl) ?_
  refine lv_if_eq (tgt := 126) hx hb dX3_does_105 (by decide) (fun c_8 => (absurd ((nx_eq (show ((1 : Int32)) = nI 1 from rfl) (show ((0 : Int32)) = nI 0 from rfl) (by omega) (by omega)).mp c_8) (by omega))) (fun _ => ?_)
  refine lv_iload_n hx hb dX3_does_108 rfl (lv_at hl 2 rfl) ?_
  refine lv_bipush (v := 108) hx hb dX3_does_109 (by decide) ?_
  refine lv_icmp_ne (tgt := 122) hx hb dX3_does_111 (by decide) (fun _ => ?_) (fun c_9 => (absurd ((nx_eq (show ((99 : Int32)) = nI 99 from rfl) (show ((108 : Int32)) = nI 108 from rfl) (by omega) (by omega)).mp c_9) (by omega)))
  refine lv_iconst (v := 1) hx hb dX3_does_122 (by decide) ?_
  refine lv_goto (tgt := 127) hx hb dX3_does_123 (by decide) ?_
  refine lv_istore (lv' := [(4, .int 1), (0, .ref o), (1, .int 99), (2, .int x), (3, .int y)]) hx hb dX3_does_127 hl (by decide) rfl (fun ls hl => ?_)
  refine lv_iload hx hb dX3_does_129 (lv_at hl 0 rfl) ?_
  refine lv_if_eq (tgt := 245) hx hb dX3_does_131 (by decide) (fun c_10 => (absurd ((nx_eq (show ((1 : Int32)) = nI 1 from rfl) (show ((0 : Int32)) = nI 0 from rfl) (by omega) (by omega)).mp c_10) (by omega))) (fun _ => ?_)
  refine lv_iload_n hx hb dX3_does_134 rfl (lv_at hl 2 rfl) ?_
  refine lv_bipush (v := 98) hx hb dX3_does_135 (by decide) ?_
  refine lv_icmp_eq (tgt := 152) hx hb dX3_does_137 (by decide) (fun c_11 => (absurd ((nx_eq (show ((99 : Int32)) = nI 99 from rfl) (show ((98 : Int32)) = nI 98 from rfl) (by omega) (by omega)).mp c_11) (by omega))) (fun _ => ?_)
  refine lv_iload_n hx hb dX3_does_140 rfl (lv_at hl 2 rfl) ?_
  refine lv_bipush (v := 102) hx hb dX3_does_141 (by decide) ?_
  refine lv_icmp_eq (tgt := 152) hx hb dX3_does_143 (by decide) (fun c_12 => (absurd ((nx_eq (show ((99 : Int32)) = nI 99 from rfl) (show ((102 : Int32)) = nI 102 from rfl) (by omega) (by omega)).mp c_12) (by omega))) (fun _ => ?_)
  refine lv_iload_n hx hb dX3_does_146 rfl (lv_at hl 2 rfl) ?_
  refine lv_bipush (v := 114) hx hb dX3_does_147 (by decide) ?_
  refine lv_icmp_ne (tgt := 156) hx hb dX3_does_149 (by decide) (fun _ => ?_) (fun c_13 => (absurd ((nx_eq (show ((99 : Int32)) = nI 99 from rfl) (show ((114 : Int32)) = nI 114 from rfl) (by omega) (by omega)).mp c_13) (by omega)))
  refine lv_iconst (v := 0) hx hb dX3_does_156 (by decide) ?_
  refine lv_istore (lv' := [(5, .int 0), (4, .int 1), (0, .ref o), (1, .int 99), (2, .int x), (3, .int y)]) hx hb dX3_does_157 hl (by decide) rfl (fun ls hl => ?_)
  refine lv_iload hx hb dX3_does_159 (lv_at hl 0 rfl) ?_
  refine lv_if_eq (tgt := 194) hx hb dX3_does_161 (by decide) (fun _ => ?_) (fun c_14 => (absurd ((nx_eq (show ((0 : Int32)) = nI 0 from rfl) (show ((0 : Int32)) = nI 0 from rfl) (by omega) (by omega)).mpr (by omega)) c_14))
  refine lv_iload_n hx hb dX3_does_194 rfl (lv_at hl 3 rfl) ?_
  refine lv_bipush (v := 111) hx hb dX3_does_195 (by decide) ?_
  refine lv_icmp_ne (tgt := 209) hx hb dX3_does_197 (by decide) (fun _ => ?_) (fun c_15 => (absurd ((nx_eq (show ((99 : Int32)) = nI 99 from rfl) (show ((111 : Int32)) = nI 111 from rfl) (by omega) (by omega)).mp c_15) (by omega)))
  refine lv_iload_n hx hb dX3_does_209 rfl (lv_at hl 3 rfl) ?_
  refine lv_bipush (v := 108) hx hb dX3_does_210 (by decide) ?_
  refine lv_icmp_ne (tgt := 223) hx hb dX3_does_212 (by decide) (fun _ => ?_) (fun c_16 => (absurd ((nx_eq (show ((99 : Int32)) = nI 99 from rfl) (show ((108 : Int32)) = nI 108 from rfl) (by omega) (by omega)).mp c_16) (by omega)))
  refine lv_iload_n hx hb dX3_does_223 rfl (lv_at hl 3 rfl) ?_
  refine lv_bipush (v := 99) hx hb dX3_does_224 (by decide) ?_
  refine lv_icmp_ne (tgt := 238) hx hb dX3_does_226 (by decide) (fun c_17 => (absurd ((nx_eq (show ((99 : Int32)) = nI 99 from rfl) (show ((99 : Int32)) = nI 99 from rfl) (by omega) (by omega)).mpr (by omega)) c_17)) (fun _ => ?_)
  refine lv_aload_n hx hb dX3_does_229 rfl (lv_at hl 2 rfl) ?_
  refine lv_iload_n hx hb dX3_does_230 rfl (lv_at hl 4 rfl) ?_
  refine lv_iload_n hx hb dX3_does_231 rfl (lv_at hl 5 rfl) ?_
  refine gh_calli hg (gh_runV (As := [.int x, .int y]) (rest := []) hC hg (t_sends l V o ad I A F _ hT.1 x y i ex (by omega)) 2 (lw_V q3988 q3990 qs70 q138 q3991) hT.1.1 rfl hd_X3_sends ⟨Nat.le_of_ble_eq_true rfl, Nat.le_of_ble_eq_true rfl⟩ rfl hl.1 rfl (Nat.le_of_ble_eq_true rfl) dX3_does_232 ⟨Nat.le_of_ble_eq_true rfl, Nat.le_of_ble_eq_true rfl⟩) (fun r_18 g H locs hg hp => ?_)
  obtain ⟨hp, hpT⟩ := hp
  replace hp : r_18 = (3 + farN (A 0) i y / 2) := hp
  subst hp
  have hT : tw_W V g0 g o ad I (va_up A 0 (sendsS (A 0) i y)) F := hT.call hpT
  refine lv_goto (tgt := 243) hx hb dX3_does_235 (by decide) ?_
  refine lv_istore (lv' := [(6, .int (3 + farN (A 0) i y / 2)), (5, .int 0), (4, .int 1), (0, .ref o), (1, .int 99), (2, .int x), (3, .int y)]) hx hb dX3_does_243 hl (by decide) rfl (fun ls hl => ?_)
  refine lv_iload hx hb dX3_does_245 (lv_at hl 2 rfl) ?_
  have e9 : canB (A 0) 99 i j = true := canB_99.trans (decide_eq_true c_5)
  subst ex
  subst ey
  exact gh_retz rfl hC hg hr hlk (⟨fun _ => ⟨rfl, (I 4), (A 5), (A 6), hT.eqIAF (fam7 rfl rfl rfl rfl rfl rfl rfl (fun _ => rfl)) (fam8 (by rw [didS_99] <;> rfl) rfl rfl rfl rfl rfl rfl rfl (fun _ => rfl)) (fam4 (by rw [didS_99] <;> rfl) rfl rfl rfl (fun _ => rfl))⟩, fun h9 => absurd (e9.symm.trans h9) (by decide)⟩) dX3_does_247 (Nat.le_of_ble_eq_true rfl) (Nat.le_of_ble_eq_true rfl)
set_option maxHeartbeats 1000000 in
set_option maxRecDepth 100000 in
theorem t_does109 (l : Launch) (V : gh_V) (o : Nat) (ad : Nat → Nat) (I : Nat → Int32) (A : Nat → Nat → Int32) (F : Nat → Nat → UInt32) (g0 : gh_G) (hP : tw_P V g0 o ad I A F) (x y : Int32) (i j : Nat) (L D P : Nat) (ex : x = nI i) (ey : y = nI j) (bi : 1 ≤ i ∧ i ≤ 60) (bj : j = 0) (hE : tw_wf (A 0) L D P) (hnn : nnS (F 0)) : MI l yX3_does cX3_does 7 (some .boolean) ({ frames := 7, cells := 0, slots := 0, locals := 163 } : Room) V [.ref o, .int 109, .int x, .int y] g0 (fun r g1 => (canB (A 0) 109 i j = true → r = 1 ∧ ∃ i4 b5 b6, tw_W V g0 g1 o ad (va_up I 4 i4) (va_up (va_up (va_up A 5 b5) 6 b6) 0 (didS (A 0) (F 0) 109 i j).1) (va_up F 0 (didS (A 0) (F 0) 109 i j).2)) ∧ (canB (A 0) 109 i j = false → r = 0 ∧ tw_W V g0 g1 o ad I A F)) := by
  refine MG.of RX3 (by decide) rfl (Nat.le_of_ble_eq_true rfl) (fun pp ee s mm args below meth c ls hC hg hr hlk hnm hl => ?_)
  have hx := hC.1.1
  have hb := hC.1.2.1
  have hml := hC.1.2.2.1
  have hown := hC.1.2.2.2.1
  have hts := hC.1.2.2.2.2
  have hl : lv_has ls 7 [(0, .ref o), (1, .int 109), (2, .int x), (3, .int y)] := hl
  have hT := hP.W
  have hL := hE.1.1
  have hL12 := hE.1.2
  refine lv_iload_n hx hb dX3_does_0 rfl (lv_at hl 1 rfl) ?_
  refine lv_bipush (v := 111) hx hb dX3_does_1 (by decide) ?_
  refine lv_icmp_ne (tgt := 27) hx hb dX3_does_3 (by decide) (fun _ => ?_) (fun c_1 => (absurd ((nx_eq (show ((109 : Int32)) = nI 109 from rfl) (show ((111 : Int32)) = nI 111 from rfl) (by omega) (by omega)).mp c_1) (by omega)))
  refine lv_iload_n hx hb dX3_does_27 rfl (lv_at hl 1 rfl) ?_
  refine lv_bipush (v := 108) hx hb dX3_does_28 (by decide) ?_
  refine lv_icmp_ne (tgt := 53) hx hb dX3_does_30 (by decide) (fun _ => ?_) (fun c_2 => (absurd ((nx_eq (show ((109 : Int32)) = nI 109 from rfl) (show ((108 : Int32)) = nI 108 from rfl) (by omega) (by omega)).mp c_2) (by omega)))
  refine lv_iload_n hx hb dX3_does_53 rfl (lv_at hl 1 rfl) ?_
  refine lv_bipush (v := 99) hx hb dX3_does_54 (by decide) ?_
  refine lv_icmp_ne (tgt := 76) hx hb dX3_does_56 (by decide) (fun _ => ?_) (fun c_3 => (absurd ((nx_eq (show ((109 : Int32)) = nI 109 from rfl) (show ((99 : Int32)) = nI 99 from rfl) (by omega) (by omega)).mp c_3) (by omega)))
  refine lv_iload_n hx hb dX3_does_76 rfl (lv_at hl 1 rfl) ?_
  refine lv_bipush (v := 109) hx hb dX3_does_77 (by decide) ?_
  refine lv_icmp_ne (tgt := 96) hx hb dX3_does_79 (by decide) (fun c_4 => (absurd ((nx_eq (show ((109 : Int32)) = nI 109 from rfl) (show ((109 : Int32)) = nI 109 from rfl) (by omega) (by omega)).mpr (by omega)) c_4)) (fun _ => ?_)
  refine lv_aload_n hx hb dX3_does_82 rfl (lv_at hl 0 rfl) ?_
  refine gh_get (v := .ref (ad 0)) hC hg hT.1.1 fX3_7_0 rfl dX3_does_83 ?_
  refine lv_iconst (v := 0) hx hb dX3_does_86 (by decide) ?_
  refine gh_iald (n := 578) (f := (A 0)) hC hg (hT.1.2.1 0 (by decide)) (show ((0 : Int32)) = nI 0 from rfl) (by omega) (by omega) dX3_does_87 ?_
  refine lv_iload_n hx hb dX3_does_88 rfl (lv_at hl 2 rfl) ?_
  refine lv_iadd hx hb dX3_does_89 ?_
  refine lv_sipush (v := 9999) hx hb dX3_does_90 (by decide) ?_
  refine lv_icmp_gt (tgt := 100) hx hb dX3_does_93 (by decide) (fun c_5 => ?_) (fun c_5 => ?_)
  · skip
    refine lv_iconst (v := 0) hx hb dX3_does_100 (by decide) ?_
    refine lv_istore (lv' := [(4, .int 0), (0, .ref o), (1, .int 109), (2, .int x), (3, .int y)]) hx hb dX3_does_101 hl (by decide) rfl (fun ls hl => ?_)
    refine lv_iload hx hb dX3_does_103 (lv_at hl 0 rfl) ?_
    refine lv_if_eq (tgt := 126) hx hb dX3_does_105 (by decide) (fun _ => ?_) (fun c_6 => (absurd ((nx_eq (show ((0 : Int32)) = nI 0 from rfl) (show ((0 : Int32)) = nI 0 from rfl) (by omega) (by omega)).mpr (by omega)) c_6))
    refine lv_iconst (v := 0) hx hb dX3_does_126 (by decide) ?_
    refine lv_istore (lv' := [(4, .int 0), (0, .ref o), (1, .int 109), (2, .int x), (3, .int y)]) hx hb dX3_does_127 hl (by decide) rfl (fun ls hl => ?_)
    refine lv_iload hx hb dX3_does_129 (lv_at hl 0 rfl) ?_
    refine lv_if_eq (tgt := 245) hx hb dX3_does_131 (by decide) (fun _ => ?_) (fun c_7 => (absurd ((nx_eq (show ((0 : Int32)) = nI 0 from rfl) (show ((0 : Int32)) = nI 0 from rfl) (by omega) (by omega)).mpr (by omega)) c_7))
    refine lv_iload hx hb dX3_does_245 (lv_at hl 0 rfl) ?_
    have e9 : canB (A 0) 109 i j = false := canB_109.trans (decide_eq_false (by rw [← ex]; exact lt_nle c_5))
    exact gh_retz rfl hC hg hr hlk (⟨fun h9 => absurd (e9.symm.trans h9) (by decide), fun _ => ⟨rfl, hT⟩⟩) dX3_does_247 (Nat.le_of_ble_eq_true rfl) (Nat.le_of_ble_eq_true rfl)
  refine lv_iconst (v := 1) hx hb dX3_does_96 (by decide) ?_
  refine lv_goto (tgt := 101) hx hb dX3_does_97 (by decide) ?_
  refine lv_istore (lv' := [(4, .int 1), (0, .ref o), (1, .int 109), (2, .int x), (3, .int y)]) hx hb dX3_does_101 hl (by decide) rfl (fun ls hl => ?_)
  refine lv_iload hx hb dX3_does_103 (lv_at hl 0 rfl) ?_
  refine lv_if_eq (tgt := 126) hx hb dX3_does_105 (by decide) (fun c_8 => (absurd ((nx_eq (show ((1 : Int32)) = nI 1 from rfl) (show ((0 : Int32)) = nI 0 from rfl) (by omega) (by omega)).mp c_8) (by omega))) (fun _ => ?_)
  refine lv_iload_n hx hb dX3_does_108 rfl (lv_at hl 2 rfl) ?_
  refine lv_bipush (v := 108) hx hb dX3_does_109 (by decide) ?_
  refine lv_icmp_ne (tgt := 122) hx hb dX3_does_111 (by decide) (fun _ => ?_) (fun c_9 => (absurd ((nx_eq (show ((109 : Int32)) = nI 109 from rfl) (show ((108 : Int32)) = nI 108 from rfl) (by omega) (by omega)).mp c_9) (by omega)))
  refine lv_iconst (v := 1) hx hb dX3_does_122 (by decide) ?_
  refine lv_goto (tgt := 127) hx hb dX3_does_123 (by decide) ?_
  refine lv_istore (lv' := [(4, .int 1), (0, .ref o), (1, .int 109), (2, .int x), (3, .int y)]) hx hb dX3_does_127 hl (by decide) rfl (fun ls hl => ?_)
  refine lv_iload hx hb dX3_does_129 (lv_at hl 0 rfl) ?_
  refine lv_if_eq (tgt := 245) hx hb dX3_does_131 (by decide) (fun c_10 => (absurd ((nx_eq (show ((1 : Int32)) = nI 1 from rfl) (show ((0 : Int32)) = nI 0 from rfl) (by omega) (by omega)).mp c_10) (by omega))) (fun _ => ?_)
  refine lv_iload_n hx hb dX3_does_134 rfl (lv_at hl 2 rfl) ?_
  refine lv_bipush (v := 98) hx hb dX3_does_135 (by decide) ?_
  refine lv_icmp_eq (tgt := 152) hx hb dX3_does_137 (by decide) (fun c_11 => (absurd ((nx_eq (show ((109 : Int32)) = nI 109 from rfl) (show ((98 : Int32)) = nI 98 from rfl) (by omega) (by omega)).mp c_11) (by omega))) (fun _ => ?_)
  refine lv_iload_n hx hb dX3_does_140 rfl (lv_at hl 2 rfl) ?_
  refine lv_bipush (v := 102) hx hb dX3_does_141 (by decide) ?_
  refine lv_icmp_eq (tgt := 152) hx hb dX3_does_143 (by decide) (fun c_12 => (absurd ((nx_eq (show ((109 : Int32)) = nI 109 from rfl) (show ((102 : Int32)) = nI 102 from rfl) (by omega) (by omega)).mp c_12) (by omega))) (fun _ => ?_)
  refine lv_iload_n hx hb dX3_does_146 rfl (lv_at hl 2 rfl) ?_
  refine lv_bipush (v := 114) hx hb dX3_does_147 (by decide) ?_
  refine lv_icmp_ne (tgt := 156) hx hb dX3_does_149 (by decide) (fun _ => ?_) (fun c_13 => (absurd ((nx_eq (show ((109 : Int32)) = nI 109 from rfl) (show ((114 : Int32)) = nI 114 from rfl) (by omega) (by omega)).mp c_13) (by omega)))
  refine lv_iconst (v := 0) hx hb dX3_does_156 (by decide) ?_
  refine lv_istore (lv' := [(5, .int 0), (4, .int 1), (0, .ref o), (1, .int 109), (2, .int x), (3, .int y)]) hx hb dX3_does_157 hl (by decide) rfl (fun ls hl => ?_)
  refine lv_iload hx hb dX3_does_159 (lv_at hl 0 rfl) ?_
  refine lv_if_eq (tgt := 194) hx hb dX3_does_161 (by decide) (fun _ => ?_) (fun c_14 => (absurd ((nx_eq (show ((0 : Int32)) = nI 0 from rfl) (show ((0 : Int32)) = nI 0 from rfl) (by omega) (by omega)).mpr (by omega)) c_14))
  refine lv_iload_n hx hb dX3_does_194 rfl (lv_at hl 3 rfl) ?_
  refine lv_bipush (v := 111) hx hb dX3_does_195 (by decide) ?_
  refine lv_icmp_ne (tgt := 209) hx hb dX3_does_197 (by decide) (fun _ => ?_) (fun c_15 => (absurd ((nx_eq (show ((109 : Int32)) = nI 109 from rfl) (show ((111 : Int32)) = nI 111 from rfl) (by omega) (by omega)).mp c_15) (by omega)))
  refine lv_iload_n hx hb dX3_does_209 rfl (lv_at hl 3 rfl) ?_
  refine lv_bipush (v := 108) hx hb dX3_does_210 (by decide) ?_
  refine lv_icmp_ne (tgt := 223) hx hb dX3_does_212 (by decide) (fun _ => ?_) (fun c_16 => (absurd ((nx_eq (show ((109 : Int32)) = nI 109 from rfl) (show ((108 : Int32)) = nI 108 from rfl) (by omega) (by omega)).mp c_16) (by omega)))
  refine lv_iload_n hx hb dX3_does_223 rfl (lv_at hl 3 rfl) ?_
  refine lv_bipush (v := 99) hx hb dX3_does_224 (by decide) ?_
  refine lv_icmp_ne (tgt := 238) hx hb dX3_does_226 (by decide) (fun _ => ?_) (fun c_17 => (absurd ((nx_eq (show ((109 : Int32)) = nI 109 from rfl) (show ((99 : Int32)) = nI 99 from rfl) (by omega) (by omega)).mp c_17) (by omega)))
  refine lv_aload_n hx hb dX3_does_238 rfl (lv_at hl 2 rfl) ?_
  refine lv_iload_n hx hb dX3_does_239 rfl (lv_at hl 4 rfl) ?_
  refine gh_calli hg (gh_runV (As := [.int x]) (rest := []) hC hg (t_passes l V o ad I A F _ hT.1 x i L ex (wf_n hE) hnn (by omega)) 1 (lw_V q4016 q4018 qs74 q138 q4019) hT.1.1 rfl hd_X3_passes ⟨Nat.le_of_ble_eq_true rfl, Nat.le_of_ble_eq_true rfl⟩ rfl hl.1 rfl (Nat.le_of_ble_eq_true rfl) dX3_does_240 ⟨Nat.le_of_ble_eq_true rfl, Nat.le_of_ble_eq_true rfl⟩) (fun r_18 g H locs hg hp => ?_)
  obtain ⟨hp, b5, b6, hpT⟩ := hp
  replace hp : r_18 = (runsF (A 0) (F 0) i).2.2.1 := hp
  subst hp
  have hT : tw_W V g0 g o ad (va_up I 4 ((runsF (A 0) (F 0) i).2.2.2)) (va_up (va_up (va_up A 5 b5) 6 b6) 0 ((runsF (A 0) (F 0) i).1)) (va_up F 0 ((runsF (A 0) (F 0) i).2.1)) := hT.call hpT
  refine lv_istore (lv' := [(6, .int ((runsF (A 0) (F 0) i).2.2.1)), (5, .int 0), (4, .int 1), (0, .ref o), (1, .int 109), (2, .int x), (3, .int y)]) hx hb dX3_does_243 hl (by decide) rfl (fun ls hl => ?_)
  refine lv_iload hx hb dX3_does_245 (lv_at hl 2 rfl) ?_
  have e9 : canB (A 0) 109 i j = true := canB_109.trans (decide_eq_true (by rw [← ex]; exact nlt_le c_5))
  subst ex
  subst ey
  exact gh_retz rfl hC hg hr hlk (⟨fun _ => ⟨rfl, ((runsF (A 0) (F 0) i).2.2.2), b5, b6, hT.eqIAF (fam7 rfl rfl rfl rfl rfl rfl rfl (fun _ => rfl)) (fam8 (by rw [didS_109] <;> rfl) rfl rfl rfl rfl rfl rfl rfl (fun _ => rfl)) (fam4 (by rw [didS_109] <;> rfl) rfl rfl rfl (fun _ => rfl))⟩, fun h9 => absurd (e9.symm.trans h9) (by decide)⟩) dX3_does_247 (Nat.le_of_ble_eq_true rfl) (Nat.le_of_ble_eq_true rfl)
