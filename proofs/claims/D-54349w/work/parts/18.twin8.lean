def svI (I : Nat → Int32) (K : Nat) : Nat → Int32 := va_up I 0 (nI (svK K))
def svA (A : Nat → Nat → Int32) (K : Nat) : Nat → Nat → Int32 := va_up A 1 (svf (A 1) (A 0) 578 K)
def svF (F : Nat → Nat → UInt32) (K : Nat) : Nat → Nat → UInt32 := va_up F 1 (svf (F 1) (F 0) 24 K)
theorem svI_5 (I : Nat → Int32) (h : I 0 = nI 5) : va_up (va_up I 0 (I 0 - 1)) 0 ((I 0 - 1) + 1) = svI I 5 := by
  rw [bx_uu, h]; rfl
theorem svI_n (I : Nat → Int32) {K : Nat} (h : I 0 = nI K) (hK : ¬ K = 5) : va_up I 0 (I 0 + 1) = svI I K := by
  rw [svI, svK, if_neg hK, h, nI_1]
theorem svA_5 (A : Nat → Nat → Int32) : va_up (va_up A 1 (cps (A 1) 578 2312)) 1 (cpt (A 0) (cps (A 1) 578 2312) (578 * (5 - 1)) 578) = svA A 5 := by
  rw [bx_uu]; rfl
theorem svA_n (A : Nat → Nat → Int32) {K : Nat} (hK : ¬ K = 5) : va_up A 1 (cpt (A 0) (A 1) (578 * K) 578) = svA A K := by
  rw [svA, svf, if_neg hK]
theorem svF_5 (A : Nat → Nat → UInt32) : va_up (va_up A 1 (cps (A 1) 24 96)) 1 (cpt (A 0) (cps (A 1) 24 96) (24 * (5 - 1)) 24) = svF A 5 := by
  rw [bx_uu]; rfl
theorem svF_n (A : Nat → Nat → UInt32) {K : Nat} (hK : ¬ K = 5) : va_up A 1 (cpt (A 0) (A 1) (24 * K) 24) = svF A K := by
  rw [svF, svf, if_neg hK]
set_option maxRecDepth 100000
theorem fX3_17_0 : gh_fd RX3 17 0 2 (.array .int) true := gh_fd.own (T := TX3) tyX3 rfl in_X3 tyX3_ok nmX3 (by decide) q3832 rfl rfl (fun h => rfl)
theorem fX3_20_0 : gh_fd RX3 20 0 3 (.array .float) true := gh_fd.own (T := TX3) tyX3 rfl in_X3 tyX3_ok nmX3 (by decide) q3833 rfl rfl (fun h => rfl)
theorem fX3_230_0 : gh_fd RX3 230 0 11 .int false := gh_fd.own (T := TX3) tyX3 rfl in_X3 tyX3_ok nmX3 (by decide) q3841 rfl rfl (fun h => by cases h)
theorem fX3_35_0 : gh_fd RX3 35 0 10 (.array .int) true := gh_fd.own (T := TX3) tyX3 rfl in_X3 tyX3_ok nmX3 (by decide) q3840 rfl rfl (fun h => rfl)
theorem hd_X3_changes : yX3_changes.cls = RX3 ∧ yX3_changes.cls ≠ "java/lang/invoke/MethodHandle" ∧ yX3_changes.cls ≠ "java/lang/invoke/VarHandle" ∧ (parseMethodDescriptor yX3_changes.desc).map (fun d => d.parameters.length) = some 3 := by decide +kernel
theorem hd_X3_putZone : yX3_putZone.cls = RX3 ∧ yX3_putZone.cls ≠ "java/lang/invoke/MethodHandle" ∧ yX3_putZone.cls ≠ "java/lang/invoke/VarHandle" ∧ (parseMethodDescriptor yX3_putZone.desc).map (fun d => d.parameters.length) = some 3 := by decide +kernel
theorem hd_X3_save : yX3_save.cls = RX3 ∧ yX3_save.cls ≠ "java/lang/invoke/MethodHandle" ∧ yX3_save.cls ≠ "java/lang/invoke/VarHandle" ∧ (parseMethodDescriptor yX3_save.desc).map (fun d => d.parameters.length) = some 0 := by decide +kernel
theorem hd_X3_sets : yX3_sets.cls = RX3 ∧ yX3_sets.cls ≠ "java/lang/invoke/MethodHandle" ∧ yX3_sets.cls ≠ "java/lang/invoke/VarHandle" ∧ (parseMethodDescriptor yX3_sets.desc).map (fun d => d.parameters.length) = some 4 := by decide +kernel
set_option maxHeartbeats 1000000 in
set_option maxRecDepth 100000 in
theorem t_save (l : Launch) (V : gh_V) (o : Nat) (ad : Nat → Nat) (I : Nat → Int32) (A : Nat → Nat → Int32) (F : Nat → Nat → UInt32) (g0 : gh_G) (hP : tw_P V g0 o ad I A F) (K : Nat) (hKn : I 0 = nI K) (hK5 : K ≤ 5) : MV l yX3_save cX3_save 2 ({ frames := 0, cells := 0, slots := 0, locals := 0 } : Room) V [.ref o] g0 (fun g1 => tw_W V g0 g1 o ad (svI I K) (svA A K) (svF F K)) := by
  refine MG.of RX3 (by decide) rfl (Nat.le_of_ble_eq_true rfl) (fun pp ee s mm args below meth c ls hC hg hr hlk hnm hl => ?_)
  have hx := hC.1.1
  have hb := hC.1.2.1
  have hml := hC.1.2.2.1
  have hown := hC.1.2.2.2.1
  have hts := hC.1.2.2.2.2
  have hl : lv_has ls 2 [(0, .ref o)] := hl
  have hT := hP.W
  refine lv_aload_n hx hb dX3_save_0 rfl (lv_at hl 0 rfl) ?_
  refine gh_get (v := .int (I 0)) hC hg hT.1.1 fX3_66_0 rfl dX3_save_1 ?_
  refine lv_iconst (v := 5) hx hb dX3_save_4 (by decide) ?_
  refine lv_icmp_ne (tgt := 78) hx hb dX3_save_5 (by decide) (fun c_1 => ?_) (fun c_1 => ?_)
  · skip
    have c_1 : ¬ K = 5 := fun h9 => c_1 ((nx_eq hKn (show ((5 : Int32)) = nI 5 from rfl) (by omega) (by omega)).mpr h9)
    refine lv_iconst (v := 0) hx hb dX3_save_78 (by decide) ?_
    refine lv_istore_n (lv' := [(1, .int 0), (0, .ref o)]) hx hb dX3_save_79 rfl hl (by decide) rfl (fun ls hl => ?_)
    refine gh_loop (N := 578) (X := fun i_2 g ls => tw_W V g0 g o ad I (va_up A 1 (cpt (A 0) (A 1) (578 * K) i_2)) F ∧ lv_has ls 2 [(0, .ref o), (1, .int (nI i_2))]) ?_ ?_ 0 (by omega) hg ⟨(hT.eqA (by rw [cpt_0, up_self])), lv_sub hl [1, 0] rfl⟩
    · intro g H locs ls hg hX
      obtain ⟨hT, hl⟩ := hX
      refine lv_iload_n hx hb dX3_save_80 rfl (lv_at hl 1 rfl) ?_
      refine lv_sipush (v := 578) hx hb dX3_save_81 (by decide) ?_
      refine lv_icmp_ge (tgt := 114) hx hb dX3_save_84 (by decide) (fun _ => ?_) (fun c_3 => (absurd ((nx_le (show ((578 : Int32)) = nI 578 from rfl) rfl (by omega) (by omega)).mpr (by omega)) c_3))
      refine lv_iconst (v := 0) hx hb dX3_save_114 (by decide) ?_
      refine lv_istore_n (lv' := [(1, .int 0), (0, .ref o)]) hx hb dX3_save_115 rfl hl (by decide) rfl (fun ls hl => ?_)
      refine gh_loop (N := 24) (X := fun i_4 g ls => tw_W V g0 g o ad I (va_up A 1 (cpt (A 0) (A 1) (578 * K) 578)) (va_up F 1 (cpt (F 0) (F 1) (24 * K) i_4)) ∧ lv_has ls 2 [(0, .ref o), (1, .int (nI i_4))]) ?_ ?_ 0 (by omega) hg ⟨(hT.eqF (by rw [cpt_0, up_self])), lv_sub hl [1, 0] rfl⟩
      · intro g H locs ls hg hX
        obtain ⟨hT, hl⟩ := hX
        refine lv_iload_n hx hb dX3_save_116 rfl (lv_at hl 1 rfl) ?_
        refine lv_bipush (v := 24) hx hb dX3_save_117 (by decide) ?_
        refine lv_icmp_ge (tgt := 148) hx hb dX3_save_119 (by decide) (fun _ => ?_) (fun c_5 => (absurd ((nx_le (show ((24 : Int32)) = nI 24 from rfl) rfl (by omega) (by omega)).mpr (by omega)) c_5))
        refine lv_aload_n hx hb dX3_save_148 rfl (lv_at hl 0 rfl) ?_
        refine lv_dup hx hb dX3_save_149 rfl ?_
        refine gh_get (v := .int (I 0)) hC hg hT.1.1 fX3_66_0 rfl dX3_save_150 ?_
        refine lv_iconst (v := 1) hx hb dX3_save_153 (by decide) ?_
        refine lv_iadd hx hb dX3_save_154 ?_
        refine gh_put (v := .int ((I 0) + 1)) hC hg hT.1.1 fX3_66_0 rfl rfl (Nat.le_of_ble_eq_true rfl) dX3_save_155 (fun g H locs hg hw hn => ?_)
        have hT : tw_W V g0 g o ad (va_up I 0 ((I 0) + 1)) (va_up A 1 (cpt (A 0) (A 1) (578 * K) 578)) (va_up F 1 (cpt (F 0) (F 1) (24 * K) 24)) := hT.putI 0 ((I 0) + 1) hw hn
        exact gh_retv hC hg hr hlk (((hT.eqI (svI_n I hKn c_1)).eqA (svA_n A c_1)).eqF (svF_n F c_1)) dX3_save_158 (Nat.le_of_ble_eq_true rfl) (Nat.le_of_ble_eq_true rfl)
      · intro i_4 h_6 ih116 g H locs ls hg hX
        obtain ⟨hT, hl⟩ := hX
        refine lv_iload_n hx hb dX3_save_116 rfl (lv_at hl 1 rfl) ?_
        refine lv_bipush (v := 24) hx hb dX3_save_117 (by decide) ?_
        refine lv_icmp_ge (tgt := 148) hx hb dX3_save_119 (by decide) (fun c_7 => (absurd ((nx_le (show ((24 : Int32)) = nI 24 from rfl) rfl (by omega) (by omega)).mp c_7) (by omega))) (fun _ => ?_)
        refine lv_aload_n hx hb dX3_save_122 rfl (lv_at hl 0 rfl) ?_
        refine gh_get (v := .ref (ad 9)) hC hg hT.1.1 fX3_20_0 rfl dX3_save_123 ?_
        refine lv_bipush (v := 24) hx hb dX3_save_126 (by decide) ?_
        refine lv_aload_n hx hb dX3_save_128 rfl (lv_at hl 0 rfl) ?_
        refine gh_get (v := .int (I 0)) hC hg hT.1.1 fX3_66_0 rfl dX3_save_129 ?_
        refine lv_imul hx hb dX3_save_132 ?_
        refine lv_iload_n hx hb dX3_save_133 rfl (lv_at hl 1 rfl) ?_
        refine lv_iadd hx hb dX3_save_134 ?_
        refine lv_aload_n hx hb dX3_save_135 rfl (lv_at hl 0 rfl) ?_
        refine gh_get (v := .ref (ad 8)) hC hg hT.1.1 fX3_13_0 rfl dX3_save_136 ?_
        refine lv_iload_n hx hb dX3_save_139 rfl (lv_at hl 1 rfl) ?_
        refine gh_fald (n := 24) (f := (F 0)) hC hg (hT.1.2.2 0 (by decide)) rfl (by omega) (by omega) dX3_save_140 ?_
        refine gh_fast (n := 120) (f := (cpt (F 0) (F 1) (24 * K) i_4)) hC hg (hT.1.2.2 1 (by decide)) (nx_add (nx_mul (show ((24 : Int32)) = nI 24 from rfl) hKn) rfl) (by omega) (by omega) dX3_save_141 (fun g H locs hg hw hn => ?_)
        have hT : tw_W V g0 g o ad I (va_up A 1 (cpt (A 0) (A 1) (578 * K) 578)) (va_up (va_up F 1 (cpt (F 0) (F 1) (24 * K) i_4)) 1 (va_up (cpt (F 0) (F 1) (24 * K) i_4) ((24 * K) + i_4) ((F 0) i_4))) := hT.putF 1 (by decide) hw hn
        refine lv_iinc (v := (nI (i_4 + 1))) (lv' := [(1, .int (nI (i_4 + 1))), (0, .ref o)]) hx hb dX3_save_142 hl (k := 1) rfl (nx_iinc rfl) (by decide) rfl (fun ls hl => ?_)
        refine lv_goto (tgt := 116) hx hb dX3_save_145 (by decide) ?_
        exact ih116 _ _ _ _ hg ⟨(hT.eqF (by rw [bx_uu]; exact congrArg (va_up _ _) cpt_sf)), lv_sub hl [1, 0] rfl⟩
    · intro i_2 h_8 ih80 g H locs ls hg hX
      obtain ⟨hT, hl⟩ := hX
      refine lv_iload_n hx hb dX3_save_80 rfl (lv_at hl 1 rfl) ?_
      refine lv_sipush (v := 578) hx hb dX3_save_81 (by decide) ?_
      refine lv_icmp_ge (tgt := 114) hx hb dX3_save_84 (by decide) (fun c_9 => (absurd ((nx_le (show ((578 : Int32)) = nI 578 from rfl) rfl (by omega) (by omega)).mp c_9) (by omega))) (fun _ => ?_)
      refine lv_aload_n hx hb dX3_save_87 rfl (lv_at hl 0 rfl) ?_
      refine gh_get (v := .ref (ad 1)) hC hg hT.1.1 fX3_17_0 rfl dX3_save_88 ?_
      refine lv_sipush (v := 578) hx hb dX3_save_91 (by decide) ?_
      refine lv_aload_n hx hb dX3_save_94 rfl (lv_at hl 0 rfl) ?_
      refine gh_get (v := .int (I 0)) hC hg hT.1.1 fX3_66_0 rfl dX3_save_95 ?_
      refine lv_imul hx hb dX3_save_98 ?_
      refine lv_iload_n hx hb dX3_save_99 rfl (lv_at hl 1 rfl) ?_
      refine lv_iadd hx hb dX3_save_100 ?_
      refine lv_aload_n hx hb dX3_save_101 rfl (lv_at hl 0 rfl) ?_
      refine gh_get (v := .ref (ad 0)) hC hg hT.1.1 fX3_7_0 rfl dX3_save_102 ?_
      refine lv_iload_n hx hb dX3_save_105 rfl (lv_at hl 1 rfl) ?_
      refine gh_iald (n := 578) (f := (A 0)) hC hg (hT.1.2.1 0 (by decide)) rfl (by omega) (by omega) dX3_save_106 ?_
      refine gh_iast (n := 2890) (f := (cpt (A 0) (A 1) (578 * K) i_2)) hC hg (hT.1.2.1 1 (by decide)) (nx_add (nx_mul (show ((578 : Int32)) = nI 578 from rfl) hKn) rfl) (by omega) (by omega) dX3_save_107 (fun g H locs hg hw hn => ?_)
      have hT : tw_W V g0 g o ad I (va_up (va_up A 1 (cpt (A 0) (A 1) (578 * K) i_2)) 1 (upd (cpt (A 0) (A 1) (578 * K) i_2) ((578 * K) + i_2) ((A 0) i_2))) F := hT.putA 1 (by decide) hw hn
      refine lv_iinc (v := (nI (i_2 + 1))) (lv' := [(1, .int (nI (i_2 + 1))), (0, .ref o)]) hx hb dX3_save_108 hl (k := 1) rfl (nx_iinc rfl) (by decide) rfl (fun ls hl => ?_)
      refine lv_goto (tgt := 80) hx hb dX3_save_111 (by decide) ?_
      exact ih80 _ _ _ _ hg ⟨(hT.eqA (by rw [bx_uu]; exact congrArg (va_up _ _) cpt_s)), lv_sub hl [1, 0] rfl⟩
  have c_1 : K = 5 := (nx_eq hKn (show ((5 : Int32)) = nI 5 from rfl) (by omega) (by omega)).mp c_1
  subst c_1
  refine lv_iconst (v := 0) hx hb dX3_save_8 (by decide) ?_
  refine lv_istore_n (lv' := [(1, .int 0), (0, .ref o)]) hx hb dX3_save_9 rfl hl (by decide) rfl (fun ls hl => ?_)
  refine gh_loop (N := 2312) (X := fun i_10 g ls => tw_W V g0 g o ad I (va_up A 1 (cps (A 1) 578 i_10)) F ∧ lv_has ls 2 [(0, .ref o), (1, .int (nI i_10))]) ?_ ?_ 0 (by omega) hg ⟨(hT.eqA (by rw [cps_0, up_self])), lv_sub hl [1, 0] rfl⟩
  · intro g H locs ls hg hX
    obtain ⟨hT, hl⟩ := hX
    refine lv_iload_n hx hb dX3_save_10 rfl (lv_at hl 1 rfl) ?_
    refine lv_sipush (v := 2312) hx hb dX3_save_11 (by decide) ?_
    refine lv_icmp_ge (tgt := 39) hx hb dX3_save_14 (by decide) (fun _ => ?_) (fun c_11 => (absurd ((nx_le (show ((2312 : Int32)) = nI 2312 from rfl) rfl (by omega) (by omega)).mpr (by omega)) c_11))
    refine lv_iconst (v := 0) hx hb dX3_save_39 (by decide) ?_
    refine lv_istore_n (lv' := [(1, .int 0), (0, .ref o)]) hx hb dX3_save_40 rfl hl (by decide) rfl (fun ls hl => ?_)
    refine gh_loop (N := 96) (X := fun i_12 g ls => tw_W V g0 g o ad I (va_up A 1 (cps (A 1) 578 2312)) (va_up F 1 (cps (F 1) 24 i_12)) ∧ lv_has ls 2 [(0, .ref o), (1, .int (nI i_12))]) ?_ ?_ 0 (by omega) hg ⟨(hT.eqF (by rw [cps_0, up_self])), lv_sub hl [1, 0] rfl⟩
    · intro g H locs ls hg hX
      obtain ⟨hT, hl⟩ := hX
      refine lv_iload_n hx hb dX3_save_41 rfl (lv_at hl 1 rfl) ?_
      refine lv_bipush (v := 96) hx hb dX3_save_42 (by decide) ?_
      refine lv_icmp_ge (tgt := 68) hx hb dX3_save_44 (by decide) (fun _ => ?_) (fun c_13 => (absurd ((nx_le (show ((96 : Int32)) = nI 96 from rfl) rfl (by omega) (by omega)).mpr (by omega)) c_13))
      refine lv_aload_n hx hb dX3_save_68 rfl (lv_at hl 0 rfl) ?_
      refine lv_dup hx hb dX3_save_69 rfl ?_
      refine gh_get (v := .int (I 0)) hC hg hT.1.1 fX3_66_0 rfl dX3_save_70 ?_
      refine lv_iconst (v := 1) hx hb dX3_save_73 (by decide) ?_
      refine lv_isub hx hb dX3_save_74 ?_
      refine gh_put (v := .int ((I 0) - 1)) hC hg hT.1.1 fX3_66_0 rfl rfl (Nat.le_of_ble_eq_true rfl) dX3_save_75 (fun g H locs hg hw hn => ?_)
      have hT : tw_W V g0 g o ad (va_up I 0 ((I 0) - 1)) (va_up A 1 (cps (A 1) 578 2312)) (va_up F 1 (cps (F 1) 24 96)) := hT.putI 0 ((I 0) - 1) hw hn
      refine lv_iconst (v := 0) hx hb dX3_save_78 (by decide) ?_
      refine lv_istore_n (lv' := [(1, .int 0), (0, .ref o)]) hx hb dX3_save_79 rfl hl (by decide) rfl (fun ls hl => ?_)
      refine gh_loop (N := 578) (X := fun i_14 g ls => tw_W V g0 g o ad (va_up I 0 ((I 0) - 1)) (va_up (va_up A 1 (cps (A 1) 578 2312)) 1 (cpt (A 0) (cps (A 1) 578 2312) (578 * 4) i_14)) (va_up F 1 (cps (F 1) 24 96)) ∧ lv_has ls 2 [(0, .ref o), (1, .int (nI i_14))]) ?_ ?_ 0 (by omega) hg ⟨(hT.eqA (by rw [cpt_0, bx_uu])), lv_sub hl [1, 0] rfl⟩
      · intro g H locs ls hg hX
        obtain ⟨hT, hl⟩ := hX
        refine lv_iload_n hx hb dX3_save_80 rfl (lv_at hl 1 rfl) ?_
        refine lv_sipush (v := 578) hx hb dX3_save_81 (by decide) ?_
        refine lv_icmp_ge (tgt := 114) hx hb dX3_save_84 (by decide) (fun _ => ?_) (fun c_15 => (absurd ((nx_le (show ((578 : Int32)) = nI 578 from rfl) rfl (by omega) (by omega)).mpr (by omega)) c_15))
        refine lv_iconst (v := 0) hx hb dX3_save_114 (by decide) ?_
        refine lv_istore_n (lv' := [(1, .int 0), (0, .ref o)]) hx hb dX3_save_115 rfl hl (by decide) rfl (fun ls hl => ?_)
        refine gh_loop (N := 24) (X := fun i_16 g ls => tw_W V g0 g o ad (va_up I 0 ((I 0) - 1)) (va_up (va_up A 1 (cps (A 1) 578 2312)) 1 (cpt (A 0) (cps (A 1) 578 2312) (578 * 4) 578)) (va_up (va_up F 1 (cps (F 1) 24 96)) 1 (cpt (F 0) (cps (F 1) 24 96) (24 * 4) i_16)) ∧ lv_has ls 2 [(0, .ref o), (1, .int (nI i_16))]) ?_ ?_ 0 (by omega) hg ⟨(hT.eqF (by rw [cpt_0, bx_uu])), lv_sub hl [1, 0] rfl⟩
        · intro g H locs ls hg hX
          obtain ⟨hT, hl⟩ := hX
          refine lv_iload_n hx hb dX3_save_116 rfl (lv_at hl 1 rfl) ?_
          refine lv_bipush (v := 24) hx hb dX3_save_117 (by decide) ?_
          refine lv_icmp_ge (tgt := 148) hx hb dX3_save_119 (by decide) (fun _ => ?_) (fun c_17 => (absurd ((nx_le (show ((24 : Int32)) = nI 24 from rfl) rfl (by omega) (by omega)).mpr (by omega)) c_17))
          refine lv_aload_n hx hb dX3_save_148 rfl (lv_at hl 0 rfl) ?_
          refine lv_dup hx hb dX3_save_149 rfl ?_
          refine gh_get (v := .int ((I 0) - 1)) hC hg hT.1.1 fX3_66_0 rfl dX3_save_150 ?_
          refine lv_iconst (v := 1) hx hb dX3_save_153 (by decide) ?_
          refine lv_iadd hx hb dX3_save_154 ?_
          refine gh_put (v := .int (((I 0) - 1) + 1)) hC hg hT.1.1 fX3_66_0 rfl rfl (Nat.le_of_ble_eq_true rfl) dX3_save_155 (fun g H locs hg hw hn => ?_)
          have hT : tw_W V g0 g o ad (va_up (va_up I 0 ((I 0) - 1)) 0 (((I 0) - 1) + 1)) (va_up (va_up A 1 (cps (A 1) 578 2312)) 1 (cpt (A 0) (cps (A 1) 578 2312) (578 * 4) 578)) (va_up (va_up F 1 (cps (F 1) 24 96)) 1 (cpt (F 0) (cps (F 1) 24 96) (24 * 4) 24)) := hT.putI 0 (((I 0) - 1) + 1) hw hn
          exact gh_retv hC hg hr hlk (((hT.eqI (svI_5 I hKn)).eqA (svA_5 A)).eqF (svF_5 F)) dX3_save_158 (Nat.le_of_ble_eq_true rfl) (Nat.le_of_ble_eq_true rfl)
        · intro i_16 h_18 ih116 g H locs ls hg hX
          obtain ⟨hT, hl⟩ := hX
          refine lv_iload_n hx hb dX3_save_116 rfl (lv_at hl 1 rfl) ?_
          refine lv_bipush (v := 24) hx hb dX3_save_117 (by decide) ?_
          refine lv_icmp_ge (tgt := 148) hx hb dX3_save_119 (by decide) (fun c_19 => (absurd ((nx_le (show ((24 : Int32)) = nI 24 from rfl) rfl (by omega) (by omega)).mp c_19) (by omega))) (fun _ => ?_)
          refine lv_aload_n hx hb dX3_save_122 rfl (lv_at hl 0 rfl) ?_
          refine gh_get (v := .ref (ad 9)) hC hg hT.1.1 fX3_20_0 rfl dX3_save_123 ?_
          refine lv_bipush (v := 24) hx hb dX3_save_126 (by decide) ?_
          refine lv_aload_n hx hb dX3_save_128 rfl (lv_at hl 0 rfl) ?_
          refine gh_get (v := .int ((I 0) - 1)) hC hg hT.1.1 fX3_66_0 rfl dX3_save_129 ?_
          refine lv_imul hx hb dX3_save_132 ?_
          refine lv_iload_n hx hb dX3_save_133 rfl (lv_at hl 1 rfl) ?_
          refine lv_iadd hx hb dX3_save_134 ?_
          refine lv_aload_n hx hb dX3_save_135 rfl (lv_at hl 0 rfl) ?_
          refine gh_get (v := .ref (ad 8)) hC hg hT.1.1 fX3_13_0 rfl dX3_save_136 ?_
          refine lv_iload_n hx hb dX3_save_139 rfl (lv_at hl 1 rfl) ?_
          refine gh_fald (n := 24) (f := (F 0)) hC hg (hT.1.2.2 0 (by decide)) rfl (by omega) (by omega) dX3_save_140 ?_
          refine gh_fast (n := 120) (f := (cpt (F 0) (cps (F 1) 24 96) (24 * 4) i_16)) hC hg (hT.1.2.2 1 (by decide)) (nx_add (nx_mul (show ((24 : Int32)) = nI 24 from rfl) (nx_sub hKn (show ((1 : Int32)) = nI 1 from rfl) (by omega))) rfl) (by omega) (by omega) dX3_save_141 (fun g H locs hg hw hn => ?_)
          have hT : tw_W V g0 g o ad (va_up I 0 ((I 0) - 1)) (va_up (va_up A 1 (cps (A 1) 578 2312)) 1 (cpt (A 0) (cps (A 1) 578 2312) (578 * 4) 578)) (va_up (va_up (va_up F 1 (cps (F 1) 24 96)) 1 (cpt (F 0) (cps (F 1) 24 96) (24 * 4) i_16)) 1 (va_up (cpt (F 0) (cps (F 1) 24 96) (24 * 4) i_16) ((24 * 4) + i_16) ((F 0) i_16))) := hT.putF 1 (by decide) hw hn
          refine lv_iinc (v := (nI (i_16 + 1))) (lv' := [(1, .int (nI (i_16 + 1))), (0, .ref o)]) hx hb dX3_save_142 hl (k := 1) rfl (nx_iinc rfl) (by decide) rfl (fun ls hl => ?_)
          refine lv_goto (tgt := 116) hx hb dX3_save_145 (by decide) ?_
          exact ih116 _ _ _ _ hg ⟨(hT.eqF (by rw [bx_uu]; exact congrArg (va_up _ _) cpt_sf)), lv_sub hl [1, 0] rfl⟩
      · intro i_14 h_20 ih80 g H locs ls hg hX
        obtain ⟨hT, hl⟩ := hX
        refine lv_iload_n hx hb dX3_save_80 rfl (lv_at hl 1 rfl) ?_
        refine lv_sipush (v := 578) hx hb dX3_save_81 (by decide) ?_
        refine lv_icmp_ge (tgt := 114) hx hb dX3_save_84 (by decide) (fun c_21 => (absurd ((nx_le (show ((578 : Int32)) = nI 578 from rfl) rfl (by omega) (by omega)).mp c_21) (by omega))) (fun _ => ?_)
        refine lv_aload_n hx hb dX3_save_87 rfl (lv_at hl 0 rfl) ?_
        refine gh_get (v := .ref (ad 1)) hC hg hT.1.1 fX3_17_0 rfl dX3_save_88 ?_
        refine lv_sipush (v := 578) hx hb dX3_save_91 (by decide) ?_
        refine lv_aload_n hx hb dX3_save_94 rfl (lv_at hl 0 rfl) ?_
        refine gh_get (v := .int ((I 0) - 1)) hC hg hT.1.1 fX3_66_0 rfl dX3_save_95 ?_
        refine lv_imul hx hb dX3_save_98 ?_
        refine lv_iload_n hx hb dX3_save_99 rfl (lv_at hl 1 rfl) ?_
        refine lv_iadd hx hb dX3_save_100 ?_
        refine lv_aload_n hx hb dX3_save_101 rfl (lv_at hl 0 rfl) ?_
        refine gh_get (v := .ref (ad 0)) hC hg hT.1.1 fX3_7_0 rfl dX3_save_102 ?_
        refine lv_iload_n hx hb dX3_save_105 rfl (lv_at hl 1 rfl) ?_
        refine gh_iald (n := 578) (f := (A 0)) hC hg (hT.1.2.1 0 (by decide)) rfl (by omega) (by omega) dX3_save_106 ?_
        refine gh_iast (n := 2890) (f := (cpt (A 0) (cps (A 1) 578 2312) (578 * 4) i_14)) hC hg (hT.1.2.1 1 (by decide)) (nx_add (nx_mul (show ((578 : Int32)) = nI 578 from rfl) (nx_sub hKn (show ((1 : Int32)) = nI 1 from rfl) (by omega))) rfl) (by omega) (by omega) dX3_save_107 (fun g H locs hg hw hn => ?_)
        have hT : tw_W V g0 g o ad (va_up I 0 ((I 0) - 1)) (va_up (va_up (va_up A 1 (cps (A 1) 578 2312)) 1 (cpt (A 0) (cps (A 1) 578 2312) (578 * 4) i_14)) 1 (upd (cpt (A 0) (cps (A 1) 578 2312) (578 * 4) i_14) ((578 * 4) + i_14) ((A 0) i_14))) (va_up F 1 (cps (F 1) 24 96)) := hT.putA 1 (by decide) hw hn
        refine lv_iinc (v := (nI (i_14 + 1))) (lv' := [(1, .int (nI (i_14 + 1))), (0, .ref o)]) hx hb dX3_save_108 hl (k := 1) rfl (nx_iinc rfl) (by decide) rfl (fun ls hl => ?_)
        refine lv_goto (tgt := 80) hx hb dX3_save_111 (by decide) ?_
        exact ih80 _ _ _ _ hg ⟨(hT.eqA (by rw [bx_uu]; exact congrArg (va_up _ _) cpt_s)), lv_sub hl [1, 0] rfl⟩
    · intro i_12 h_22 ih41 g H locs ls hg hX
      obtain ⟨hT, hl⟩ := hX
      refine lv_iload_n hx hb dX3_save_41 rfl (lv_at hl 1 rfl) ?_
      refine lv_bipush (v := 96) hx hb dX3_save_42 (by decide) ?_
      refine lv_icmp_ge (tgt := 68) hx hb dX3_save_44 (by decide) (fun c_23 => (absurd ((nx_le (show ((96 : Int32)) = nI 96 from rfl) rfl (by omega) (by omega)).mp c_23) (by omega))) (fun _ => ?_)
      refine lv_aload_n hx hb dX3_save_47 rfl (lv_at hl 0 rfl) ?_
      refine gh_get (v := .ref (ad 9)) hC hg hT.1.1 fX3_20_0 rfl dX3_save_48 ?_
      refine lv_iload_n hx hb dX3_save_51 rfl (lv_at hl 1 rfl) ?_
      refine lv_aload_n hx hb dX3_save_52 rfl (lv_at hl 0 rfl) ?_
      refine gh_get (v := .ref (ad 9)) hC hg hT.1.1 fX3_20_0 rfl dX3_save_53 ?_
      refine lv_bipush (v := 24) hx hb dX3_save_56 (by decide) ?_
      refine lv_iload_n hx hb dX3_save_58 rfl (lv_at hl 1 rfl) ?_
      refine lv_iadd hx hb dX3_save_59 ?_
      refine gh_fald (n := 120) (f := (cps (F 1) 24 i_12)) hC hg (hT.1.2.2 1 (by decide)) (nx_add (show ((24 : Int32)) = nI 24 from rfl) rfl) (by omega) (by omega) dX3_save_60 ?_
      refine gh_fast (n := 120) (f := (cps (F 1) 24 i_12)) hC hg (hT.1.2.2 1 (by decide)) rfl (by omega) (by omega) dX3_save_61 (fun g H locs hg hw hn => ?_)
      have hT : tw_W V g0 g o ad I (va_up A 1 (cps (A 1) 578 2312)) (va_up (va_up F 1 (cps (F 1) 24 i_12)) 1 (va_up (cps (F 1) 24 i_12) i_12 ((cps (F 1) 24 i_12) (24 + i_12)))) := hT.putF 1 (by decide) hw hn
      refine lv_iinc (v := (nI (i_12 + 1))) (lv' := [(1, .int (nI (i_12 + 1))), (0, .ref o)]) hx hb dX3_save_62 hl (k := 1) rfl (nx_iinc rfl) (by decide) rfl (fun ls hl => ?_)
      refine lv_goto (tgt := 41) hx hb dX3_save_65 (by decide) ?_
      exact ih41 _ _ _ _ hg ⟨(hT.eqF (by rw [bx_uu]; exact congrArg (va_up _ _) (cps_sf (by omega)))), lv_sub hl [1, 0] rfl⟩
  · intro i_10 h_24 ih10 g H locs ls hg hX
    obtain ⟨hT, hl⟩ := hX
    refine lv_iload_n hx hb dX3_save_10 rfl (lv_at hl 1 rfl) ?_
    refine lv_sipush (v := 2312) hx hb dX3_save_11 (by decide) ?_
    refine lv_icmp_ge (tgt := 39) hx hb dX3_save_14 (by decide) (fun c_25 => (absurd ((nx_le (show ((2312 : Int32)) = nI 2312 from rfl) rfl (by omega) (by omega)).mp c_25) (by omega))) (fun _ => ?_)
    refine lv_aload_n hx hb dX3_save_17 rfl (lv_at hl 0 rfl) ?_
    refine gh_get (v := .ref (ad 1)) hC hg hT.1.1 fX3_17_0 rfl dX3_save_18 ?_
    refine lv_iload_n hx hb dX3_save_21 rfl (lv_at hl 1 rfl) ?_
    refine lv_aload_n hx hb dX3_save_22 rfl (lv_at hl 0 rfl) ?_
    refine gh_get (v := .ref (ad 1)) hC hg hT.1.1 fX3_17_0 rfl dX3_save_23 ?_
    refine lv_sipush (v := 578) hx hb dX3_save_26 (by decide) ?_
    refine lv_iload_n hx hb dX3_save_29 rfl (lv_at hl 1 rfl) ?_
    refine lv_iadd hx hb dX3_save_30 ?_
    refine gh_iald (n := 2890) (f := (cps (A 1) 578 i_10)) hC hg (hT.1.2.1 1 (by decide)) (nx_add (show ((578 : Int32)) = nI 578 from rfl) rfl) (by omega) (by omega) dX3_save_31 ?_
    refine gh_iast (n := 2890) (f := (cps (A 1) 578 i_10)) hC hg (hT.1.2.1 1 (by decide)) rfl (by omega) (by omega) dX3_save_32 (fun g H locs hg hw hn => ?_)
    have hT : tw_W V g0 g o ad I (va_up (va_up A 1 (cps (A 1) 578 i_10)) 1 (upd (cps (A 1) 578 i_10) i_10 ((cps (A 1) 578 i_10) (578 + i_10)))) F := hT.putA 1 (by decide) hw hn
    refine lv_iinc (v := (nI (i_10 + 1))) (lv' := [(1, .int (nI (i_10 + 1))), (0, .ref o)]) hx hb dX3_save_33 hl (k := 1) rfl (nx_iinc rfl) (by decide) rfl (fun ls hl => ?_)
    refine lv_goto (tgt := 10) hx hb dX3_save_36 (by decide) ?_
    exact ih10 _ _ _ _ hg ⟨(hT.eqA (by rw [bx_uu]; exact congrArg (va_up _ _) (cps_s (by omega)))), lv_sub hl [1, 0] rfl⟩
set_option maxHeartbeats 1000000 in
set_option maxRecDepth 100000 in
theorem t_changes (l : Launch) (V : gh_V) (o : Nat) (ad : Nat → Nat) (I : Nat → Int32) (A : Nat → Nat → Int32) (F : Nat → Nat → UInt32) (g0 : gh_G) (hP : tw_P V g0 o ad I A F) (x y v : Int32) (z k : Nat) (ex : x = nI z) (ey : y = nI k) (bz : z < 8) (bk : k < 5) : MI l yX3_changes cX3_changes 5 (some .int) ({ frames := 1, cells := 0, slots := 0, locals := 23 } : Room) V [.ref o, .int x, .int y, .int v] g0 (fun r g1 => r = zn (A 0) z k ∧ tw_W V g0 g1 o ad I (va_up A 0 (zs (A 0) z k v)) F) := by
  refine MG.of RX3 (by decide) rfl (Nat.le_of_ble_eq_true rfl) (fun pp ee s mm args below meth c ls hC hg hr hlk hnm hl => ?_)
  have hx := hC.1.1
  have hb := hC.1.2.1
  have hml := hC.1.2.2.1
  have hown := hC.1.2.2.2.1
  have hts := hC.1.2.2.2.2
  have hl : lv_has ls 5 [(0, .ref o), (1, .int x), (2, .int y), (3, .int v)] := hl
  have hT := hP.W
  refine lv_aload_n hx hb dX3_changes_0 rfl (lv_at hl 0 rfl) ?_
  refine lv_iload_n hx hb dX3_changes_1 rfl (lv_at hl 1 rfl) ?_
  refine lv_iload_n hx hb dX3_changes_2 rfl (lv_at hl 2 rfl) ?_
  refine gh_calli hg (gh_runV (As := [.int x, .int y]) (rest := []) hC hg (t_zone l V o ad I A F _ hT.1 x y z k ex ey (by omega) (by omega)) 2 (lw_V q3920 q3922 qs59 q138 q3923) hT.1.1 rfl hd_X3_zone ⟨Nat.le_of_ble_eq_true rfl, Nat.le_of_ble_eq_true rfl⟩ rfl hl.1 rfl (Nat.le_of_ble_eq_true rfl) dX3_changes_3 ⟨Nat.le_of_ble_eq_true rfl, Nat.le_of_ble_eq_true rfl⟩) (fun r_1 g H locs hg hp => ?_)
  obtain ⟨hp, hq⟩ := hp
  replace hp : r_1 = (zn (A 0) z k) := hp
  subst hp
  rw [hq] at hg
  refine lv_istore (lv' := [(4, .int (zn (A 0) z k)), (0, .ref o), (1, .int x), (2, .int y), (3, .int v)]) hx hb dX3_changes_6 hl (by decide) rfl (fun ls hl => ?_)
  refine lv_aload_n hx hb dX3_changes_8 rfl (lv_at hl 1 rfl) ?_
  refine lv_iload_n hx hb dX3_changes_9 rfl (lv_at hl 2 rfl) ?_
  refine lv_iload_n hx hb dX3_changes_10 rfl (lv_at hl 3 rfl) ?_
  refine lv_iload_n hx hb dX3_changes_11 rfl (lv_at hl 4 rfl) ?_
  refine gh_callv hg (gh_runV (As := [.int x, .int y, .int v]) (rest := []) hC hg (t_putZone l V o ad I A F _ hT.1 x y v z k ex ey (by omega) (by omega)) 3 (lw_V q3822 q3824 qs52 q138 q3825) hT.1.1 rfl hd_X3_putZone ⟨Nat.le_of_ble_eq_true rfl, Nat.le_of_ble_eq_true rfl⟩ rfl hl.1 rfl (Nat.le_of_ble_eq_true rfl) dX3_changes_12 ⟨Nat.le_of_ble_eq_true rfl, Nat.le_of_ble_eq_true rfl⟩) (fun g H locs hg hp => ?_)
  have hT : tw_W V g0 g o ad I (va_up A 0 (zs (A 0) z k v)) F := hT.call hp
  refine lv_iload hx hb dX3_changes_15 (lv_at hl 0 rfl) ?_
  exact gh_reti hC hg hr hlk (⟨rfl, hT⟩) dX3_changes_17 (Nat.le_of_ble_eq_true rfl) (Nat.le_of_ble_eq_true rfl)
set_option maxHeartbeats 1000000 in
set_option maxRecDepth 100000 in
theorem t_sets (l : Launch) (V : gh_V) (o : Nat) (ad : Nat → Nat) (I : Nat → Int32) (A : Nat → Nat → Int32) (F : Nat → Nat → UInt32) (g0 : gh_G) (hP : tw_P V g0 o ad I A F) (x y v u : Int32) (k : Nat) (ey : y = nI k) (bk : k < 5) (K : Nat) (hKn : I 0 = nI K) (hK5 : K ≤ 5) : MI l yX3_sets cX3_sets 5 (some .int) ({ frames := 2, cells := 0, slots := 0, locals := 47 } : Room) V [.ref o, .int x, .int y, .int v, .int u] g0 (fun r g1 => (c2 (okL x 8) (okR v 0 u) = 0 → r = zn (A 0) x.toNatClampNeg k ∧ tw_W V g0 g1 o ad (svI (va_up I 3 0) K) (va_up (svA A K) 0 (zs (A 0) x.toNatClampNeg k v)) (svF F K)) ∧ (¬ c2 (okL x 8) (okR v 0 u) = 0 → tw_W V g0 g1 o ad (va_up I 3 (c2 (okL x 8) (okR v 0 u))) A F)) := by
  refine MG.of RX3 (by decide) rfl (Nat.le_of_ble_eq_true rfl) (fun pp ee s mm args below meth c ls hC hg hr hlk hnm hl => ?_)
  have hx := hC.1.1
  have hb := hC.1.2.1
  have hml := hC.1.2.2.1
  have hown := hC.1.2.2.2.1
  have hts := hC.1.2.2.2.2
  have hl : lv_has ls 5 [(0, .ref o), (1, .int x), (2, .int y), (3, .int v), (4, .int u)] := hl
  have hT := hP.W
  refine lv_aload_n hx hb dX3_sets_0 rfl (lv_at hl 0 rfl) ?_
  refine lv_iload_n hx hb dX3_sets_1 rfl (lv_at hl 1 rfl) ?_
  refine gh_calli hg (gh_runV (As := [.int x]) (rest := []) hC hg (t_isZone l V o ad I A F _ hT.1 x) 1 (lw_V q3901 q3903 qs55 q138 q3904) hT.1.1 rfl hd_X3_isZone ⟨Nat.le_of_ble_eq_true rfl, Nat.le_of_ble_eq_true rfl⟩ rfl hl.1 rfl (Nat.le_of_ble_eq_true rfl) dX3_sets_2 ⟨Nat.le_of_ble_eq_true rfl, Nat.le_of_ble_eq_true rfl⟩) (fun r_1 g H locs hg hp => ?_)
  replace hp : r_1 = (if okL x 8 then 1 else 0) ∧ tw_W V _ g o ad (va_up I 3 (if okL x 8 then 0 else 1)) A F := hp
  by_cases ok_2 : okL x 8
  · rw [if_pos ok_2, if_pos ok_2] at hp
    obtain ⟨rfl, hp⟩ := hp
    have hT : tw_W V g0 g o ad (va_up I 3 0) A F := hT.call hp
    obtain ⟨h_3a, h_3⟩ := okL_cl (by omega) ok_2
    refine lv_if_ne (tgt := 10) hx hb dX3_sets_5 (by decide) (fun _ => ?_) (fun c_4 => (absurd ((nx_eq (show ((1 : Int32)) = nI 1 from rfl) (show ((0 : Int32)) = nI 0 from rfl) (by omega) (by omega)).mp c_4) (by omega)))
    refine lv_iload_n hx hb dX3_sets_10 rfl (lv_at hl 3 rfl) ?_
    refine lv_iconst (v := 0) hx hb dX3_sets_11 (by decide) ?_
    refine lv_iload hx hb dX3_sets_12 (lv_at hl 4 rfl) ?_
    refine gh_calli hg (gh_runS (As := [.int v, .int 0, .int u]) (rest := []) hC hg (t_in l V _ v 0 u) 3 (lw_S q3905 q3906 q138 q3907) hd_X3_in.2 ⟨Nat.le_of_ble_eq_true rfl, Nat.le_of_ble_eq_true rfl⟩ rfl hl.1 rfl (Nat.le_of_ble_eq_true rfl) dX3_sets_14 ⟨Nat.le_of_ble_eq_true rfl, Nat.le_of_ble_eq_true rfl⟩) (fun r_5 g H locs hg hp => ?_)
    replace hp : r_5 = (if okR v 0 u then 1 else 0) ∧ g = _ := hp
    by_cases ok_6 : okR v 0 u
    · rw [if_pos ok_6] at hp
      obtain ⟨rfl, hq⟩ := hp
      rw [hq] at hg
      refine lv_if_ne (tgt := 26) hx hb dX3_sets_17 (by decide) (fun _ => ?_) (fun c_7 => (absurd ((nx_eq (show ((1 : Int32)) = nI 1 from rfl) (show ((0 : Int32)) = nI 0 from rfl) (by omega) (by omega)).mp c_7) (by omega)))
      refine lv_aload_n hx hb dX3_sets_26 rfl (lv_at hl 0 rfl) ?_
      refine gh_callv hg (gh_runV (As := []) (rest := []) hC hg (t_save l V o ad (va_up I 3 0) A F _ hT.1 K (by rw [show va_up I 3 0 0 = I 0 from rfl]; exact hKn) hK5) 0 (lw_V q3912 q3914 qs57 q138 q3915) hT.1.1 rfl hd_X3_save ⟨Nat.le_of_ble_eq_true rfl, Nat.le_of_ble_eq_true rfl⟩ rfl hl.1 rfl (Nat.le_of_ble_eq_true rfl) dX3_sets_27 ⟨Nat.le_of_ble_eq_true rfl, Nat.le_of_ble_eq_true rfl⟩) (fun g H locs hg hp => ?_)
      have hT : tw_W V g0 g o ad (svI (va_up I 3 0) K) (svA A K) (svF F K) := hT.call hp
      refine lv_aload_n hx hb dX3_sets_30 rfl (lv_at hl 0 rfl) ?_
      refine lv_iload_n hx hb dX3_sets_31 rfl (lv_at hl 1 rfl) ?_
      refine lv_iload_n hx hb dX3_sets_32 rfl (lv_at hl 2 rfl) ?_
      refine lv_iload_n hx hb dX3_sets_33 rfl (lv_at hl 3 rfl) ?_
      refine gh_calli hg (gh_runV (As := [.int x, .int y, .int v]) (rest := []) hC hg (t_changes l V o ad (svI (va_up I 3 0) K) (svA A K) (svF F K) _ hT.1 x y v ((x).toNatClampNeg) k h_3 ey  (by omega) (by omega)) 3 (lw_V q3916 q3918 qs58 q138 q3919) hT.1.1 rfl hd_X3_changes ⟨Nat.le_of_ble_eq_true rfl, Nat.le_of_ble_eq_true rfl⟩ rfl hl.1 rfl (Nat.le_of_ble_eq_true rfl) dX3_sets_34 ⟨Nat.le_of_ble_eq_true rfl, Nat.le_of_ble_eq_true rfl⟩) (fun r_8 g H locs hg hp => ?_)
      obtain ⟨hp, hpT⟩ := hp
      replace hp : r_8 = (zn (A 0) ((x).toNatClampNeg) k) := hp
      subst hp
      have hT : tw_W V g0 g o ad (svI (va_up I 3 0) K) (va_up (svA A K) 0 (zs (A 0) ((x).toNatClampNeg) k v)) (svF F K) := hT.call hpT
      have e9 : c2 (okL x 8) (okR v 0 u) = 0 := by first | rfl | (simp only [c1, c2, c3, if_pos ok_2, if_pos ok_6]; done) | simp [c1, c2, c3, ok_2, ok_6]
      exact gh_reti hC hg hr hlk (⟨fun _ => ⟨rfl, hT⟩, fun h9 => absurd e9 h9⟩) dX3_sets_37 (Nat.le_of_ble_eq_true rfl) (Nat.le_of_ble_eq_true rfl)
    rw [if_neg ok_6] at hp
    obtain ⟨rfl, hq⟩ := hp
    rw [hq] at hg
    refine lv_if_ne (tgt := 26) hx hb dX3_sets_17 (by decide) (fun c_9 => (absurd ((nx_eq (show ((0 : Int32)) = nI 0 from rfl) (show ((0 : Int32)) = nI 0 from rfl) (by omega) (by omega)).mpr (by omega)) c_9)) (fun _ => ?_)
    refine lv_aload_n hx hb dX3_sets_20 rfl (lv_at hl 0 rfl) ?_
    refine lv_iconst (v := 2) hx hb dX3_sets_21 (by decide) ?_
    refine gh_calli hg (gh_runV (As := [.int 2]) (rest := []) hC hg (t_throwing l V o ad (va_up I 3 0) A F _ hT.1 2) 1 (lw_V q3908 q3910 qs56 q138 q3911) hT.1.1 rfl hd_X3_throwing ⟨Nat.le_of_ble_eq_true rfl, Nat.le_of_ble_eq_true rfl⟩ rfl hl.1 rfl (Nat.le_of_ble_eq_true rfl) dX3_sets_22 ⟨Nat.le_of_ble_eq_true rfl, Nat.le_of_ble_eq_true rfl⟩) (fun r_10 g H locs hg hp => ?_)
    obtain ⟨hp, hpT⟩ := hp
    replace hp : r_10 = 0 := hp
    subst hp
    have hT : tw_W V g0 g o ad (va_up (va_up I 3 0) 3 2) A F := hT.call hpT
    have e9 : c2 (okL x 8) (okR v 0 u) = 2 := by first | rfl | (simp only [c1, c2, c3, if_pos ok_2, if_neg ok_6]; done) | simp [c1, c2, c3, ok_2, ok_6]
    exact gh_reti hC hg hr hlk (⟨fun h9 => absurd (e9.symm.trans h9) (by decide), fun _ => by rw [e9]; exact hT⟩) dX3_sets_25 (Nat.le_of_ble_eq_true rfl) (Nat.le_of_ble_eq_true rfl)
  rw [if_neg ok_2, if_neg ok_2] at hp
  obtain ⟨rfl, hp⟩ := hp
  have hT : tw_W V g0 g o ad (va_up I 3 1) A F := hT.call hp
  refine lv_if_ne (tgt := 10) hx hb dX3_sets_5 (by decide) (fun c_11 => (absurd ((nx_eq (show ((0 : Int32)) = nI 0 from rfl) (show ((0 : Int32)) = nI 0 from rfl) (by omega) (by omega)).mpr (by omega)) c_11)) (fun _ => ?_)
  refine lv_iconst (v := 0) hx hb dX3_sets_8 (by decide) ?_
  have e9 : c2 (okL x 8) (okR v 0 u) = 1 := by first | rfl | (simp only [c1, c2, c3, if_neg ok_2]; done) | simp [c1, c2, c3, ok_2]
  exact gh_reti hC hg hr hlk (⟨fun h9 => absurd (e9.symm.trans h9) (by decide), fun _ => by rw [e9]; exact hT⟩) dX3_sets_9 (Nat.le_of_ble_eq_true rfl) (Nat.le_of_ble_eq_true rfl)
set_option maxHeartbeats 1000000 in
set_option maxRecDepth 100000 in
theorem t_setBurner (l : Launch) (V : gh_V) (o : Nat) (ad : Nat → Nat) (I : Nat → Int32) (A : Nat → Nat → Int32) (F : Nat → Nat → UInt32) (g0 : gh_G) (hP : tw_P V g0 o ad I A F) (x v : Int32) (K : Nat) (hKn : I 0 = nI K) (hK5 : K ≤ 5) : MI l yX3_setBurner cX3_setBurner 3 (some .int) ({ frames := 3, cells := 0, slots := 0, locals := 71 } : Room) V [.ref o, .int x, .int v] g0 (fun r g1 => (c2 (okL x 8) (okR v 0 3) = 0 → r = zn (A 0) x.toNatClampNeg 0 ∧ tw_W V g0 g1 o ad (svI (va_up I 3 0) K) (va_up (svA A K) 0 (zs (A 0) x.toNatClampNeg 0 v)) (svF F K)) ∧ (¬ c2 (okL x 8) (okR v 0 3) = 0 → tw_W V g0 g1 o ad (va_up I 3 (c2 (okL x 8) (okR v 0 3))) A F)) := by
  refine MG.of RX3 (by decide) rfl (Nat.le_of_ble_eq_true rfl) (fun pp ee s mm args below meth c ls hC hg hr hlk hnm hl => ?_)
  have hx := hC.1.1
  have hb := hC.1.2.1
  have hml := hC.1.2.2.1
  have hown := hC.1.2.2.2.1
  have hts := hC.1.2.2.2.2
  have hl : lv_has ls 3 [(0, .ref o), (1, .int x), (2, .int v)] := hl
  have hT := hP.W
  refine lv_aload_n hx hb dX3_setBurner_0 rfl (lv_at hl 0 rfl) ?_
  refine lv_iload_n hx hb dX3_setBurner_1 rfl (lv_at hl 1 rfl) ?_
  refine lv_iconst (v := 0) hx hb dX3_setBurner_2 (by decide) ?_
  refine lv_iload_n hx hb dX3_setBurner_3 rfl (lv_at hl 2 rfl) ?_
  refine lv_iconst (v := 3) hx hb dX3_setBurner_4 (by decide) ?_
  refine gh_calli hg (gh_runV (As := [.int x, .int 0, .int v, .int 3]) (rest := []) hC hg (t_sets l V o ad I A F _ hT.1 x 0 v 3 0 (show ((0 : Int32)) = nI 0 from rfl) (by omega) K hKn hK5) 4 (lw_V q3897 q3899 qs54 q138 q3900) hT.1.1 rfl hd_X3_sets ⟨Nat.le_of_ble_eq_true rfl, Nat.le_of_ble_eq_true rfl⟩ rfl hl.1 rfl (Nat.le_of_ble_eq_true rfl) dX3_setBurner_5 ⟨Nat.le_of_ble_eq_true rfl, Nat.le_of_ble_eq_true rfl⟩) (fun r_1 g H locs hg hp => ?_)
  exact gh_reti hC hg hr hlk hp dX3_setBurner_8 (Nat.le_of_ble_eq_true rfl) (Nat.le_of_ble_eq_true rfl)
set_option maxHeartbeats 1000000 in
set_option maxRecDepth 100000 in
theorem t_setFan (l : Launch) (V : gh_V) (o : Nat) (ad : Nat → Nat) (I : Nat → Int32) (A : Nat → Nat → Int32) (F : Nat → Nat → UInt32) (g0 : gh_G) (hP : tw_P V g0 o ad I A F) (x v : Int32) (K : Nat) (hKn : I 0 = nI K) (hK5 : K ≤ 5) : MI l yX3_setFan cX3_setFan 3 (some .int) ({ frames := 3, cells := 0, slots := 0, locals := 71 } : Room) V [.ref o, .int x, .int v] g0 (fun r g1 => (c2 (okL x 8) (okR v 0 3) = 0 → r = zn (A 0) x.toNatClampNeg 1 ∧ tw_W V g0 g1 o ad (svI (va_up I 3 0) K) (va_up (svA A K) 0 (zs (A 0) x.toNatClampNeg 1 v)) (svF F K)) ∧ (¬ c2 (okL x 8) (okR v 0 3) = 0 → tw_W V g0 g1 o ad (va_up I 3 (c2 (okL x 8) (okR v 0 3))) A F)) := by
  refine MG.of RX3 (by decide) rfl (Nat.le_of_ble_eq_true rfl) (fun pp ee s mm args below meth c ls hC hg hr hlk hnm hl => ?_)
  have hx := hC.1.1
  have hb := hC.1.2.1
  have hml := hC.1.2.2.1
  have hown := hC.1.2.2.2.1
  have hts := hC.1.2.2.2.2
  have hl : lv_has ls 3 [(0, .ref o), (1, .int x), (2, .int v)] := hl
  have hT := hP.W
  refine lv_aload_n hx hb dX3_setFan_0 rfl (lv_at hl 0 rfl) ?_
  refine lv_iload_n hx hb dX3_setFan_1 rfl (lv_at hl 1 rfl) ?_
  refine lv_iconst (v := 1) hx hb dX3_setFan_2 (by decide) ?_
  refine lv_iload_n hx hb dX3_setFan_3 rfl (lv_at hl 2 rfl) ?_
  refine lv_iconst (v := 3) hx hb dX3_setFan_4 (by decide) ?_
  refine gh_calli hg (gh_runV (As := [.int x, .int 1, .int v, .int 3]) (rest := []) hC hg (t_sets l V o ad I A F _ hT.1 x 1 v 3 1 (show ((1 : Int32)) = nI 1 from rfl) (by omega) K hKn hK5) 4 (lw_V q3897 q3899 qs54 q138 q3900) hT.1.1 rfl hd_X3_sets ⟨Nat.le_of_ble_eq_true rfl, Nat.le_of_ble_eq_true rfl⟩ rfl hl.1 rfl (Nat.le_of_ble_eq_true rfl) dX3_setFan_5 ⟨Nat.le_of_ble_eq_true rfl, Nat.le_of_ble_eq_true rfl⟩) (fun r_1 g H locs hg hp => ?_)
  exact gh_reti hC hg hr hlk hp dX3_setFan_8 (Nat.le_of_ble_eq_true rfl) (Nat.le_of_ble_eq_true rfl)
set_option maxHeartbeats 1000000 in
set_option maxRecDepth 100000 in
theorem t_setRollers (l : Launch) (V : gh_V) (o : Nat) (ad : Nat → Nat) (I : Nat → Int32) (A : Nat → Nat → Int32) (F : Nat → Nat → UInt32) (g0 : gh_G) (hP : tw_P V g0 o ad I A F) (x v : Int32) (K : Nat) (hKn : I 0 = nI K) (hK5 : K ≤ 5) : MI l yX3_setRollers cX3_setRollers 3 (some .int) ({ frames := 3, cells := 0, slots := 0, locals := 71 } : Room) V [.ref o, .int x, .int v] g0 (fun r g1 => (c2 (okL x 8) (okR v 0 9) = 0 → r = zn (A 0) x.toNatClampNeg 2 ∧ tw_W V g0 g1 o ad (svI (va_up I 3 0) K) (va_up (svA A K) 0 (zs (A 0) x.toNatClampNeg 2 v)) (svF F K)) ∧ (¬ c2 (okL x 8) (okR v 0 9) = 0 → tw_W V g0 g1 o ad (va_up I 3 (c2 (okL x 8) (okR v 0 9))) A F)) := by
  refine MG.of RX3 (by decide) rfl (Nat.le_of_ble_eq_true rfl) (fun pp ee s mm args below meth c ls hC hg hr hlk hnm hl => ?_)
  have hx := hC.1.1
  have hb := hC.1.2.1
  have hml := hC.1.2.2.1
  have hown := hC.1.2.2.2.1
  have hts := hC.1.2.2.2.2
  have hl : lv_has ls 3 [(0, .ref o), (1, .int x), (2, .int v)] := hl
  have hT := hP.W
  refine lv_aload_n hx hb dX3_setRollers_0 rfl (lv_at hl 0 rfl) ?_
  refine lv_iload_n hx hb dX3_setRollers_1 rfl (lv_at hl 1 rfl) ?_
  refine lv_iconst (v := 2) hx hb dX3_setRollers_2 (by decide) ?_
  refine lv_iload_n hx hb dX3_setRollers_3 rfl (lv_at hl 2 rfl) ?_
  refine lv_bipush (v := 9) hx hb dX3_setRollers_4 (by decide) ?_
  refine gh_calli hg (gh_runV (As := [.int x, .int 2, .int v, .int 9]) (rest := []) hC hg (t_sets l V o ad I A F _ hT.1 x 2 v 9 2 (show ((2 : Int32)) = nI 2 from rfl) (by omega) K hKn hK5) 4 (lw_V q3897 q3899 qs54 q138 q3900) hT.1.1 rfl hd_X3_sets ⟨Nat.le_of_ble_eq_true rfl, Nat.le_of_ble_eq_true rfl⟩ rfl hl.1 rfl (Nat.le_of_ble_eq_true rfl) dX3_setRollers_6 ⟨Nat.le_of_ble_eq_true rfl, Nat.le_of_ble_eq_true rfl⟩) (fun r_1 g H locs hg hp => ?_)
  exact gh_reti hC hg hr hlk hp dX3_setRollers_9 (Nat.le_of_ble_eq_true rfl) (Nat.le_of_ble_eq_true rfl)
set_option maxHeartbeats 1000000 in
set_option maxRecDepth 100000 in
theorem t_setSupply (l : Launch) (V : gh_V) (o : Nat) (ad : Nat → Nat) (I : Nat → Int32) (A : Nat → Nat → Int32) (F : Nat → Nat → UInt32) (g0 : gh_G) (hP : tw_P V g0 o ad I A F) (x : Int32) (K : Nat) (hKn : I 0 = nI K) (hK5 : K ≤ 5) : MI l yX3_setSupply cX3_setSupply 3 (some .int) ({ frames := 1, cells := 0, slots := 0, locals := 22 } : Room) V [.ref o, .int x] g0 (fun r g1 => (c1 (okR x 0 99) = 0 → r = A 0 1 ∧ tw_W V g0 g1 o ad (svI (va_up I 3 0) K) (va_up (svA A K) 0 (upd (A 0) 1 x)) (svF F K)) ∧ (¬ c1 (okR x 0 99) = 0 → tw_W V g0 g1 o ad (va_up I 3 (c1 (okR x 0 99))) A F)) := by
  refine MG.of RX3 (by decide) rfl (Nat.le_of_ble_eq_true rfl) (fun pp ee s mm args below meth c ls hC hg hr hlk hnm hl => ?_)
  have hx := hC.1.1
  have hb := hC.1.2.1
  have hml := hC.1.2.2.1
  have hown := hC.1.2.2.2.1
  have hts := hC.1.2.2.2.2
  have hl : lv_has ls 3 [(0, .ref o), (1, .int x)] := hl
  have hT := hP.W
  refine lv_aload_n hx hb dX3_setSupply_0 rfl (lv_at hl 0 rfl) ?_
  refine lv_iconst (v := 0) hx hb dX3_setSupply_1 (by decide) ?_
  refine gh_put (v := .int 0) hC hg hT.1.1 fX3_54_0 rfl rfl (Nat.le_of_ble_eq_true rfl) dX3_setSupply_2 (fun g H locs hg hw hn => ?_)
  have hT : tw_W V g0 g o ad (va_up I 3 0) A F := hT.putI 3 0 hw hn
  refine lv_iload_n hx hb dX3_setSupply_5 rfl (lv_at hl 1 rfl) ?_
  refine lv_iconst (v := 0) hx hb dX3_setSupply_6 (by decide) ?_
  refine lv_bipush (v := 99) hx hb dX3_setSupply_7 (by decide) ?_
  refine gh_calli hg (gh_runS (As := [.int x, .int 0, .int 99]) (rest := []) hC hg (t_in l V _ x 0 99) 3 (lw_S q3905 q3906 q138 q3907) hd_X3_in.2 ⟨Nat.le_of_ble_eq_true rfl, Nat.le_of_ble_eq_true rfl⟩ rfl hl.1 rfl (Nat.le_of_ble_eq_true rfl) dX3_setSupply_9 ⟨Nat.le_of_ble_eq_true rfl, Nat.le_of_ble_eq_true rfl⟩) (fun r_1 g H locs hg hp => ?_)
  replace hp : r_1 = (if okR x 0 99 then 1 else 0) ∧ g = _ := hp
  by_cases ok_2 : okR x 0 99
  · rw [if_pos ok_2] at hp
    obtain ⟨rfl, hq⟩ := hp
    rw [hq] at hg
    obtain ⟨h_3a, h_3b, h_3⟩ := okR_cl (show ((0 : Int32)) = nI 0 from rfl) (show ((99 : Int32)) = nI 99 from rfl) (by omega) (by omega) ok_2
    refine lv_if_ne (tgt := 21) hx hb dX3_setSupply_12 (by decide) (fun _ => ?_) (fun c_4 => (absurd ((nx_eq (show ((1 : Int32)) = nI 1 from rfl) (show ((0 : Int32)) = nI 0 from rfl) (by omega) (by omega)).mp c_4) (by omega)))
    refine lv_aload_n hx hb dX3_setSupply_21 rfl (lv_at hl 0 rfl) ?_
    refine gh_callv hg (gh_runV (As := []) (rest := []) hC hg (t_save l V o ad (va_up I 3 0) A F _ hT.1 K (by rw [show va_up I 3 0 0 = I 0 from rfl]; exact hKn) hK5) 0 (lw_V q3912 q3914 qs57 q138 q3915) hT.1.1 rfl hd_X3_save ⟨Nat.le_of_ble_eq_true rfl, Nat.le_of_ble_eq_true rfl⟩ rfl hl.1 rfl (Nat.le_of_ble_eq_true rfl) dX3_setSupply_22 ⟨Nat.le_of_ble_eq_true rfl, Nat.le_of_ble_eq_true rfl⟩) (fun g H locs hg hp => ?_)
    have hT : tw_W V g0 g o ad (svI (va_up I 3 0) K) (svA A K) (svF F K) := hT.call hp
    refine lv_aload_n hx hb dX3_setSupply_25 rfl (lv_at hl 0 rfl) ?_
    refine gh_get (v := .ref (ad 0)) hC hg hT.1.1 fX3_7_0 rfl dX3_setSupply_26 ?_
    refine lv_iconst (v := 1) hx hb dX3_setSupply_29 (by decide) ?_
    refine gh_iald (n := 578) (f := (A 0)) hC hg (hT.1.2.1 0 (by decide)) (show ((1 : Int32)) = nI 1 from rfl) (by omega) (by omega) dX3_setSupply_30 ?_
    refine lv_istore_n (lv' := [(2, .int ((A 0) 1)), (0, .ref o), (1, .int x)]) hx hb dX3_setSupply_31 rfl hl (by decide) rfl (fun ls hl => ?_)
    refine lv_aload_n hx hb dX3_setSupply_32 rfl (lv_at hl 1 rfl) ?_
    refine gh_get (v := .ref (ad 0)) hC hg hT.1.1 fX3_7_0 rfl dX3_setSupply_33 ?_
    refine lv_iconst (v := 1) hx hb dX3_setSupply_36 (by decide) ?_
    refine lv_iload_n hx hb dX3_setSupply_37 rfl (lv_at hl 2 rfl) ?_
    refine gh_iast (n := 578) (f := (A 0)) hC hg (hT.1.2.1 0 (by decide)) (show ((1 : Int32)) = nI 1 from rfl) (by omega) (by omega) dX3_setSupply_38 (fun g H locs hg hw hn => ?_)
    have hT : tw_W V g0 g o ad (svI (va_up I 3 0) K) (va_up (svA A K) 0 (upd (A 0) 1 x)) (svF F K) := hT.putA 0 (by decide) hw hn
    refine lv_iload_n hx hb dX3_setSupply_39 rfl (lv_at hl 0 rfl) ?_
    have e9 : c1 (okR x 0 99) = 0 := by first | rfl | (simp only [c1, c2, c3, if_pos ok_2]; done) | simp [c1, c2, c3, ok_2]
    exact gh_reti hC hg hr hlk (⟨fun _ => ⟨rfl, hT⟩, fun h9 => absurd e9 h9⟩) dX3_setSupply_40 (Nat.le_of_ble_eq_true rfl) (Nat.le_of_ble_eq_true rfl)
  rw [if_neg ok_2] at hp
  obtain ⟨rfl, hq⟩ := hp
  rw [hq] at hg
  refine lv_if_ne (tgt := 21) hx hb dX3_setSupply_12 (by decide) (fun c_5 => (absurd ((nx_eq (show ((0 : Int32)) = nI 0 from rfl) (show ((0 : Int32)) = nI 0 from rfl) (by omega) (by omega)).mpr (by omega)) c_5)) (fun _ => ?_)
  refine lv_aload_n hx hb dX3_setSupply_15 rfl (lv_at hl 0 rfl) ?_
  refine lv_iconst (v := 1) hx hb dX3_setSupply_16 (by decide) ?_
  refine gh_calli hg (gh_runV (As := [.int 1]) (rest := []) hC hg (t_throwing l V o ad (va_up I 3 0) A F _ hT.1 1) 1 (lw_V q3908 q3910 qs56 q138 q3911) hT.1.1 rfl hd_X3_throwing ⟨Nat.le_of_ble_eq_true rfl, Nat.le_of_ble_eq_true rfl⟩ rfl hl.1 rfl (Nat.le_of_ble_eq_true rfl) dX3_setSupply_17 ⟨Nat.le_of_ble_eq_true rfl, Nat.le_of_ble_eq_true rfl⟩) (fun r_6 g H locs hg hp => ?_)
  obtain ⟨hp, hpT⟩ := hp
  replace hp : r_6 = 0 := hp
  subst hp
  have hT : tw_W V g0 g o ad (va_up (va_up I 3 0) 3 1) A F := hT.call hpT
  have e9 : c1 (okR x 0 99) = 1 := by first | rfl | (simp only [c1, c2, c3, if_neg ok_2]; done) | simp [c1, c2, c3, ok_2]
  exact gh_reti hC hg hr hlk (⟨fun h9 => absurd (e9.symm.trans h9) (by decide), fun _ => by rw [e9]; exact hT⟩) dX3_setSupply_20 (Nat.le_of_ble_eq_true rfl) (Nat.le_of_ble_eq_true rfl)
set_option maxHeartbeats 1000000 in
set_option maxRecDepth 100000 in
theorem t_append (l : Launch) (V : gh_V) (o : Nat) (ad : Nat → Nat) (I : Nat → Int32) (A : Nat → Nat → Int32) (F : Nat → Nat → UInt32) (g0 : gh_G) (hP : tw_P V g0 o ad I A F) (x : Int32) (N : Nat) (hN : I 2 = nI N) (hN60 : N ≤ 60) : MI l yX3_append cX3_append 2 (some .int) ({ frames := 1, cells := 0, slots := 0, locals := 22 } : Room) V [.ref o, .int x] g0 (fun r g1 => (c2 (okR x 32 126) (¬ N = 60) = 0 → r = I 2 + 1 ∧ tw_W V g0 g1 o ad (va_up (va_up I 3 0) 2 (I 2 + 1)) (va_up A 4 (upd (A 4) N x)) F) ∧ (¬ c2 (okR x 32 126) (¬ N = 60) = 0 → tw_W V g0 g1 o ad (va_up I 3 (c2 (okR x 32 126) (¬ N = 60))) A F)) := by
  refine MG.of RX3 (by decide) rfl (Nat.le_of_ble_eq_true rfl) (fun pp ee s mm args below meth c ls hC hg hr hlk hnm hl => ?_)
  have hx := hC.1.1
  have hb := hC.1.2.1
  have hml := hC.1.2.2.1
  have hown := hC.1.2.2.2.1
  have hts := hC.1.2.2.2.2
  have hl : lv_has ls 2 [(0, .ref o), (1, .int x)] := hl
  have hT := hP.W
  refine lv_aload_n hx hb dX3_append_0 rfl (lv_at hl 0 rfl) ?_
  refine lv_iconst (v := 0) hx hb dX3_append_1 (by decide) ?_
  refine gh_put (v := .int 0) hC hg hT.1.1 fX3_54_0 rfl rfl (Nat.le_of_ble_eq_true rfl) dX3_append_2 (fun g H locs hg hw hn => ?_)
  have hT : tw_W V g0 g o ad (va_up I 3 0) A F := hT.putI 3 0 hw hn
  refine lv_iload_n hx hb dX3_append_5 rfl (lv_at hl 1 rfl) ?_
  refine lv_bipush (v := 32) hx hb dX3_append_6 (by decide) ?_
  refine lv_bipush (v := 126) hx hb dX3_append_8 (by decide) ?_
  refine gh_calli hg (gh_runS (As := [.int x, .int 32, .int 126]) (rest := []) hC hg (t_in l V _ x 32 126) 3 (lw_S q3905 q3906 q138 q3907) hd_X3_in.2 ⟨Nat.le_of_ble_eq_true rfl, Nat.le_of_ble_eq_true rfl⟩ rfl hl.1 rfl (Nat.le_of_ble_eq_true rfl) dX3_append_10 ⟨Nat.le_of_ble_eq_true rfl, Nat.le_of_ble_eq_true rfl⟩) (fun r_1 g H locs hg hp => ?_)
  replace hp : r_1 = (if okR x 32 126 then 1 else 0) ∧ g = _ := hp
  by_cases ok_2 : okR x 32 126
  · rw [if_pos ok_2] at hp
    obtain ⟨rfl, hq⟩ := hp
    rw [hq] at hg
    obtain ⟨h_3a, h_3b, h_3⟩ := okR_cl (show ((32 : Int32)) = nI 32 from rfl) (show ((126 : Int32)) = nI 126 from rfl) (by omega) (by omega) ok_2
    refine lv_if_ne (tgt := 22) hx hb dX3_append_13 (by decide) (fun _ => ?_) (fun c_4 => (absurd ((nx_eq (show ((1 : Int32)) = nI 1 from rfl) (show ((0 : Int32)) = nI 0 from rfl) (by omega) (by omega)).mp c_4) (by omega)))
    refine lv_aload_n hx hb dX3_append_22 rfl (lv_at hl 0 rfl) ?_
    refine gh_get (v := .int (I 2)) hC hg hT.1.1 fX3_230_0 rfl dX3_append_23 ?_
    refine lv_bipush (v := 60) hx hb dX3_append_26 (by decide) ?_
    refine lv_icmp_ne (tgt := 37) hx hb dX3_append_28 (by decide) (fun c_5 => ?_) (fun c_5 => ?_)
    · skip
      have c_5 : ¬ N = 60 := fun h9 => c_5 ((nx_eq hN (show ((60 : Int32)) = nI 60 from rfl) (by omega) (by omega)).mpr h9)
      refine lv_aload_n hx hb dX3_append_37 rfl (lv_at hl 0 rfl) ?_
      refine gh_get (v := .ref (ad 4)) hC hg hT.1.1 fX3_35_0 rfl dX3_append_38 ?_
      refine lv_aload_n hx hb dX3_append_41 rfl (lv_at hl 0 rfl) ?_
      refine gh_get (v := .int (I 2)) hC hg hT.1.1 fX3_230_0 rfl dX3_append_42 ?_
      refine lv_iload_n hx hb dX3_append_45 rfl (lv_at hl 1 rfl) ?_
      refine gh_iast (n := 60) (f := (A 4)) hC hg (hT.1.2.1 4 (by decide)) hN (by omega) (by omega) dX3_append_46 (fun g H locs hg hw hn => ?_)
      have hT : tw_W V g0 g o ad (va_up I 3 0) (va_up A 4 (upd (A 4) N x)) F := hT.putA 4 (by decide) hw hn
      refine lv_aload_n hx hb dX3_append_47 rfl (lv_at hl 0 rfl) ?_
      refine lv_dup hx hb dX3_append_48 rfl ?_
      refine gh_get (v := .int (I 2)) hC hg hT.1.1 fX3_230_0 rfl dX3_append_49 ?_
      refine lv_iconst (v := 1) hx hb dX3_append_52 (by decide) ?_
      refine lv_iadd hx hb dX3_append_53 ?_
      refine gh_put (v := .int ((I 2) + 1)) hC hg hT.1.1 fX3_230_0 rfl rfl (Nat.le_of_ble_eq_true rfl) dX3_append_54 (fun g H locs hg hw hn => ?_)
      have hT : tw_W V g0 g o ad (va_up (va_up I 3 0) 2 ((I 2) + 1)) (va_up A 4 (upd (A 4) N x)) F := hT.putI 2 ((I 2) + 1) hw hn
      refine lv_aload_n hx hb dX3_append_57 rfl (lv_at hl 0 rfl) ?_
      refine gh_get (v := .int ((I 2) + 1)) hC hg hT.1.1 fX3_230_0 rfl dX3_append_58 ?_
      have e9 : c2 (okR x 32 126) (¬ N = 60) = 0 := by first | rfl | (simp only [c1, c2, c3, if_pos ok_2, if_neg c_5]; done) | simp [c1, c2, c3, ok_2, c_5]
      exact gh_reti hC hg hr hlk (⟨fun _ => ⟨rfl, hT⟩, fun h9 => absurd e9 h9⟩) dX3_append_61 (Nat.le_of_ble_eq_true rfl) (Nat.le_of_ble_eq_true rfl)
    have c_5 : N = 60 := (nx_eq hN (show ((60 : Int32)) = nI 60 from rfl) (by omega) (by omega)).mp c_5
    refine lv_aload_n hx hb dX3_append_31 rfl (lv_at hl 0 rfl) ?_
    refine lv_iconst (v := 2) hx hb dX3_append_32 (by decide) ?_
    refine gh_calli hg (gh_runV (As := [.int 2]) (rest := []) hC hg (t_throwing l V o ad (va_up I 3 0) A F _ hT.1 2) 1 (lw_V q3908 q3910 qs56 q138 q3911) hT.1.1 rfl hd_X3_throwing ⟨Nat.le_of_ble_eq_true rfl, Nat.le_of_ble_eq_true rfl⟩ rfl hl.1 rfl (Nat.le_of_ble_eq_true rfl) dX3_append_33 ⟨Nat.le_of_ble_eq_true rfl, Nat.le_of_ble_eq_true rfl⟩) (fun r_6 g H locs hg hp => ?_)
    obtain ⟨hp, hpT⟩ := hp
    replace hp : r_6 = 0 := hp
    subst hp
    have hT : tw_W V g0 g o ad (va_up (va_up I 3 0) 3 2) A F := hT.call hpT
    have e9 : c2 (okR x 32 126) (¬ N = 60) = 2 := by first | rfl | (simp only [c1, c2, c3, if_pos ok_2, if_pos c_5]; done) | simp [c1, c2, c3, ok_2, c_5]
    exact gh_reti hC hg hr hlk (⟨fun h9 => absurd (e9.symm.trans h9) (by decide), fun _ => by rw [e9]; exact hT⟩) dX3_append_36 (Nat.le_of_ble_eq_true rfl) (Nat.le_of_ble_eq_true rfl)
  rw [if_neg ok_2] at hp
  obtain ⟨rfl, hq⟩ := hp
  rw [hq] at hg
  refine lv_if_ne (tgt := 22) hx hb dX3_append_13 (by decide) (fun c_7 => (absurd ((nx_eq (show ((0 : Int32)) = nI 0 from rfl) (show ((0 : Int32)) = nI 0 from rfl) (by omega) (by omega)).mpr (by omega)) c_7)) (fun _ => ?_)
  refine lv_aload_n hx hb dX3_append_16 rfl (lv_at hl 0 rfl) ?_
  refine lv_iconst (v := 1) hx hb dX3_append_17 (by decide) ?_
  refine gh_calli hg (gh_runV (As := [.int 1]) (rest := []) hC hg (t_throwing l V o ad (va_up I 3 0) A F _ hT.1 1) 1 (lw_V q3908 q3910 qs56 q138 q3911) hT.1.1 rfl hd_X3_throwing ⟨Nat.le_of_ble_eq_true rfl, Nat.le_of_ble_eq_true rfl⟩ rfl hl.1 rfl (Nat.le_of_ble_eq_true rfl) dX3_append_18 ⟨Nat.le_of_ble_eq_true rfl, Nat.le_of_ble_eq_true rfl⟩) (fun r_8 g H locs hg hp => ?_)
  obtain ⟨hp, hpT⟩ := hp
  replace hp : r_8 = 0 := hp
  subst hp
  have hT : tw_W V g0 g o ad (va_up (va_up I 3 0) 3 1) A F := hT.call hpT
  have e9 : c2 (okR x 32 126) (¬ N = 60) = 1 := by first | rfl | (simp only [c1, c2, c3, if_neg ok_2]; done) | simp [c1, c2, c3, ok_2]
  exact gh_reti hC hg hr hlk (⟨fun h9 => absurd (e9.symm.trans h9) (by decide), fun _ => by rw [e9]; exact hT⟩) dX3_append_21 (Nat.le_of_ble_eq_true rfl) (Nat.le_of_ble_eq_true rfl)
set_option maxHeartbeats 1000000 in
set_option maxRecDepth 100000 in
theorem t_clearText (l : Launch) (V : gh_V) (o : Nat) (ad : Nat → Nat) (I : Nat → Int32) (A : Nat → Nat → Int32) (F : Nat → Nat → UInt32) (g0 : gh_G) (hP : tw_P V g0 o ad I A F)  : MI l yX3_clearText cX3_clearText 2 (some .int) ({ frames := 0, cells := 0, slots := 0, locals := 0 } : Room) V [.ref o] g0 (fun r g1 => r = I 2 ∧ tw_W V g0 g1 o ad (va_up (va_up I 3 0) 2 0) A F) := by
  refine MG.of RX3 (by decide) rfl (Nat.le_of_ble_eq_true rfl) (fun pp ee s mm args below meth c ls hC hg hr hlk hnm hl => ?_)
  have hx := hC.1.1
  have hb := hC.1.2.1
  have hml := hC.1.2.2.1
  have hown := hC.1.2.2.2.1
  have hts := hC.1.2.2.2.2
  have hl : lv_has ls 2 [(0, .ref o)] := hl
  have hT := hP.W
  refine lv_aload_n hx hb dX3_clearText_0 rfl (lv_at hl 0 rfl) ?_
  refine lv_iconst (v := 0) hx hb dX3_clearText_1 (by decide) ?_
  refine gh_put (v := .int 0) hC hg hT.1.1 fX3_54_0 rfl rfl (Nat.le_of_ble_eq_true rfl) dX3_clearText_2 (fun g H locs hg hw hn => ?_)
  have hT : tw_W V g0 g o ad (va_up I 3 0) A F := hT.putI 3 0 hw hn
  refine lv_aload_n hx hb dX3_clearText_5 rfl (lv_at hl 0 rfl) ?_
  refine gh_get (v := .int (I 2)) hC hg hT.1.1 fX3_230_0 rfl dX3_clearText_6 ?_
  refine lv_istore_n (lv' := [(1, .int (I 2)), (0, .ref o)]) hx hb dX3_clearText_9 rfl hl (by decide) rfl (fun ls hl => ?_)
  refine lv_aload_n hx hb dX3_clearText_10 rfl (lv_at hl 1 rfl) ?_
  refine lv_iconst (v := 0) hx hb dX3_clearText_11 (by decide) ?_
  refine gh_put (v := .int 0) hC hg hT.1.1 fX3_230_0 rfl rfl (Nat.le_of_ble_eq_true rfl) dX3_clearText_12 (fun g H locs hg hw hn => ?_)
  have hT : tw_W V g0 g o ad (va_up (va_up I 3 0) 2 0) A F := hT.putI 2 0 hw hn
  refine lv_iload_n hx hb dX3_clearText_15 rfl (lv_at hl 0 rfl) ?_
  exact gh_reti hC hg hr hlk (⟨rfl, hT⟩) dX3_clearText_16 (Nat.le_of_ble_eq_true rfl) (Nat.le_of_ble_eq_true rfl)
