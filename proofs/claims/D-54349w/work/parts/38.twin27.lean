theorem fcz1 {x : UInt32} {op : CmpOp} (h : x.toNat = 0) : Op.cmpValue (FP.fcmp x FP.fconst0) op = 0 := by
  have e : x = 0 := UInt32.toNat_inj.mp h
  subst e
  have e1 : FP.fcmp 0 FP.fconst0 = some .eq := by decide +kernel
  rw [e1]; rfl
theorem fc_0 : FP.Core.decode FP.Core.b32 (FP.fconst0).toNat = .fin false 0 (-149) := by decide +kernel
theorem fcz2 {x : UInt32} {op : CmpOp} (h : x.toNat < 2139095040) (h0 : 0 < x.toNat) : ¬ Op.cmpValue (FP.fcmp x FP.fconst0) op = 0 := by
  obtain ⟨b1, b2, b3, b4, -⟩ := f9_b h h0
  have e : FP.fcmp x FP.fconst0 = FP.Core.order (FP.Core.decode FP.Core.b32 x.toNat) (FP.Core.decode FP.Core.b32 (FP.fconst0).toNat) := rfl
  rw [e, f9_dec h, fc_0]
  generalize fc9 x = c at b1 b2
  generalize fq9 x = q at b3 b4
  have e2 : FP.Core.order (.fin false c q) (.fin false 0 (-149)) = some (compare ((c * 2 ^ (q - min q (-149)).toNat : Nat) : Int) ((0 * 2 ^ (-149 - min q (-149)).toNat : Nat) : Int)) := rfl
  rw [e2, Nat.zero_mul]
  have hp : 0 < c * 2 ^ (q - min q (-149)).toNat := Nat.mul_pos b1 (Nat.two_pow_pos _)
  generalize c * 2 ^ (q - min q (-149)).toNat = n at hp
  have e3 : compare ((n : Nat) : Int) ((0 : Nat) : Int) = Ordering.gt := by
    show compareOfLessAndEq ((n : Nat) : Int) ((0 : Nat) : Int) = Ordering.gt
    unfold compareOfLessAndEq
    rw [if_neg (by omega), if_neg (by omega)]
  rw [e3]
  show ¬ (1 : Int32) = 0
  decide
/-- the rest's bits: k of them read -/
def rsN (R k : Nat) : Nat := R * 2 ^ k % 8388608
def btN (E R k : Nat) : Nat := E * 2 ^ k + R * 2 ^ k / 8388608
theorem rsN_0 {R : Nat} (h : R < 8388608) : rsN R 0 = R := by unfold rsN; rw [Nat.pow_zero, Nat.mul_one, Nat.mod_eq_of_lt h]
theorem btN_0 {E R : Nat} (h : R < 8388608) : btN E R 0 = E := by unfold btN; rw [Nat.pow_zero, Nat.mul_one, Nat.mul_one, Nat.div_eq_of_lt h, Nat.add_zero]
theorem rsN_lt (R k : Nat) : rsN R k < 8388608 := Nat.mod_lt _ (by omega)
theorem rsN_s (R k : Nat) : (2 * rsN R k < 8388608 → rsN R (k + 1) = 2 * rsN R k ∧ ∀ E, btN E R (k + 1) = 2 * btN E R k) ∧ (8388608 ≤ 2 * rsN R k → rsN R (k + 1) = 2 * rsN R k - 8388608 ∧ ∀ E, btN E R (k + 1) = 2 * btN E R k + 1) := by
  have e : R * 2 ^ (k + 1) = 2 * (R * 2 ^ k) := by rw [Nat.pow_succ, Nat.mul_comm 2, Nat.mul_assoc]
  have e2 : ∀ E, E * 2 ^ (k + 1) = 2 * (E * 2 ^ k) := fun E => by rw [Nat.pow_succ, Nat.mul_comm 2, Nat.mul_assoc]
  unfold rsN btN
  rw [e]
  generalize R * 2 ^ k = n
  refine ⟨fun h => ⟨by omega, fun E => ?_⟩, fun h => ⟨by omega, fun E => ?_⟩⟩
  · rw [e2]; omega
  · rw [e2]; omega
theorem btN_23 (E R : Nat) : btN E R 23 = E * 8388608 + R := by
  unfold btN
  rw [show (2 : Nat) ^ 23 = 8388608 by decide, Nat.mul_div_cancel _ (by omega)]
theorem bo_P0 {r : Nat} (h : 2 * r < 8388608) : vf_n64 (FP.dsub (dy (2 * r) (-23)) (FP.i2d 0)) := by
  rw [bo_sub0 h]; exact dy_P (Nat.lt_trans h (by decide)) (by decide) (by decide)
theorem bo_P1 {r : Nat} (h1 : 8388608 ≤ 2 * r) (h : r < 8388608) : vf_n64 (FP.dsub (dy (2 * r) (-23)) (FP.i2d 1)) := by
  have h2 : 2 * r < 16777216 := by omega
  have h3 : 2 * r - 8388608 < 9007199254740992 := by omega
  rw [bo_sub1 h1 h2]
  generalize 2 * r - 8388608 = k at h3
  exact dy_P h3 (by decide) (by decide)
theorem bt_fin {E R n : Nat} (h : n = E * 8388608 + R) : nI (btN E R 23) = nI n := by rw [btN_23, h]
set_option maxRecDepth 100000

set_option maxHeartbeats 1000000 in
set_option maxRecDepth 100000 in
theorem t_bitsOf (l : Launch) (V : gh_V) (g0 : gh_G) (x : UInt32) (hf : x.toNat < 2139095040) : MI l yX3_bitsOf cX3_bitsOf 10 (some .int) ({ frames := 0, cells := 0, slots := 0, locals := 0 } : Room) V [.float x] g0 (fun r g1 => r = nI x.toNat ∧ g1 = g0) := by
  refine MG.of RX3 (by decide) rfl (Nat.le_of_ble_eq_true rfl) (fun pp ee s mm args below meth c ls hC hg hr hlk hnm hl => ?_)
  have hx := hC.1.1
  have hb := hC.1.2.1
  have hml := hC.1.2.2.1
  have hown := hC.1.2.2.2.1
  have hts := hC.1.2.2.2.2
  have hl : lv_has ls 10 [(0, .float x)] := hl
  have hT : g0 = g0 := rfl
  by_cases h0 : x.toNat = 0
  · skip
    refine lv_fload_n hx hb dX3_bitsOf_0 rfl (lv_at hl 0 rfl) ?_
    refine lv_fconst0 hx hb dX3_bitsOf_1 ?_
    refine lv_fcmp hx hb dX3_bitsOf_2 ?_
    refine lv_if_ne (tgt := 8) hx hb dX3_bitsOf_3 (by decide) (fun c_1 => (absurd (fcz1 h0) c_1)) (fun _ => ?_)
    refine lv_iconst (v := 0) hx hb dX3_bitsOf_6 (by decide) ?_
    exact gh_reti hC hg hr hlk (⟨(by rw [h0]; rfl), hT⟩) dX3_bitsOf_7 (Nat.le_of_ble_eq_true rfl) (Nat.le_of_ble_eq_true rfl)
  have hp : 0 < x.toNat := by omega
  obtain ⟨b1, b2, b3, b4, b5⟩ := f9_b hf hp
  have hd := f9_dec hf
  obtain ⟨K1, hK1⟩ : ∃ K : Nat, K = ((fq9 x) + 23).toNat := ⟨_, rfl⟩
  obtain ⟨K2, hK2⟩ : ∃ K : Nat, K = (-23 - (fq9 x)).toNat := ⟨_, rfl⟩
  generalize hcc : fc9 x = C at b1 b2 b5 hd
  generalize hqq : fq9 x = Q at b3 b4 b5 hd hK1 hK2
  refine lv_fload_n hx hb dX3_bitsOf_0 rfl (lv_at hl 0 rfl) ?_
  refine lv_fconst0 hx hb dX3_bitsOf_1 ?_
  refine lv_fcmp hx hb dX3_bitsOf_2 ?_
  refine lv_if_ne (tgt := 8) hx hb dX3_bitsOf_3 (by decide) (fun _ => ?_) (fun c_2 => (absurd c_2 (fcz2 hf hp)))
  refine lv_fload_n hx hb dX3_bitsOf_8 rfl (lv_at hl 0 rfl) ?_
  refine lv_f2d hx hb dX3_bitsOf_9 (by rw [dy_f2d hd b1 b2 b3 b4]; exact dy_P (by omega) (by omega) (by omega)) ?_
  refine W.eq (g2 := F0 mm 10 ls [.double (dy C Q)]) (by rw [dy_f2d hd b1 b2 b3 b4] <;> rfl) ?_
  refine lv_dstore_n (lv' := [(1, .double (dy C Q)), (0, .float x)]) hx hb dX3_bitsOf_10 rfl hl (by decide) rfl (fun ls hl => ?_)
  refine lv_bipush (v := 127) hx hb dX3_bitsOf_11 (by decide) ?_
  refine lv_istore_n (lv' := [(3, .int 127), (1, .double (dy C Q)), (0, .float x)]) hx hb dX3_bitsOf_13 rfl hl (by decide) rfl (fun ls hl => ?_)
  refine gh_loop (N := K1) (X := fun i_3 g ls => g = g0 ∧ lv_has ls 10 [(0, .float x), (1, .double (dy C (Q - (i_3 : Nat)))), (3, .int (nI (127 + i_3)))]) ?_ ?_ 0 (by omega) hg ⟨hT, (by rw [show Q - ((0 : Nat) : Int) = Q by omega]; exact lv_sub hl [2, 1, 0] rfl)⟩
  · intro g H locs ls hg hX
    obtain ⟨hT, hl⟩ := hX
    refine lv_dload_n hx hb dX3_bitsOf_14 rfl (lv_at hl 1 rfl) ?_
    refine lv_ldc2d (v := 4611686018427387904) hx hb hown (hts _ q4161) dX3_bitsOf_15 ?_
    refine lv_dcmp hx hb dX3_bitsOf_18 ?_
    refine lv_if_lt (tgt := 34) hx hb dX3_bitsOf_19 (by decide) (fun _ => ?_) (fun c_4 => (absurd (bo_lt2 b1 (by omega) (by omega) (by omega) (by omega)) c_4))
    refine gh_loop (N := K2) (X := fun i_5 g ls => g = g0 ∧ lv_has ls 10 [(0, .float x), (1, .double (dy C (Q - (K1 : Nat) + (i_5 : Nat)))), (3, .int (nI (127 + K1 - i_5)))]) ?_ ?_ 0 (by omega) hg ⟨hT, (by rw [show Q - (K1 : Int) + ((0 : Nat) : Int) = Q - (K1 : Int) by omega]; exact lv_sub hl [0, 1, 2] rfl)⟩
    · intro g H locs ls hg hX
      obtain ⟨hT, hl⟩ := hX
      have hfin : Q - (K1 : Int) + (K2 : Int) = -23 := by omega
      rw [hfin] at hl
      rcases b5 with ⟨b6, b7, b8⟩ | ⟨b6, b7, b8, b9⟩
      · skip
        refine lv_dload_n hx hb dX3_bitsOf_34 rfl (lv_at hl 1 rfl) ?_
        refine lv_dconst1 hx hb dX3_bitsOf_35 ?_
        refine lv_dcmp hx hb dX3_bitsOf_36 ?_
        refine lv_if_ge (tgt := 57) hx hb dX3_bitsOf_37 (by decide) (fun _ => ?_) (fun c_6 => (absurd (bo_ge1 b1 (by omega) (by omega) (by omega) (by omega)) c_6))
        refine lv_dload_n hx hb dX3_bitsOf_57 rfl (lv_at hl 1 rfl) ?_
        refine lv_dconst1 hx hb dX3_bitsOf_58 ?_
        refine lv_dcmp hx hb dX3_bitsOf_59 ?_
        refine lv_if_ge (tgt := 67) hx hb dX3_bitsOf_60 (by decide) (fun _ => ?_) (fun c_7 => (absurd (bo_ge1 b1 (by omega) (by omega) (by omega) (by omega)) c_7))
        refine lv_iconst (v := 0) hx hb dX3_bitsOf_67 (by decide) ?_
        refine lv_istore (lv' := [(4, .int 0), (0, .float x), (1, .double (dy C (-23))), (3, .int (nI (127 + K1 - K2)))]) hx hb dX3_bitsOf_68 hl (by decide) rfl (fun ls hl => ?_)
        refine lv_iload hx hb dX3_bitsOf_70 (lv_at hl 0 rfl) ?_
        refine lv_if_eq (tgt := 79) hx hb dX3_bitsOf_72 (by decide) (fun _ => ?_) (fun c_8 => (absurd ((nx_eq (show ((0 : Int32)) = nI 0 from rfl) (show ((0 : Int32)) = nI 0 from rfl) (by omega) (by omega)).mpr (by omega)) c_8))
        refine lv_dload_n hx hb dX3_bitsOf_79 rfl (lv_at hl 2 rfl) ?_
        refine lv_dconst1 hx hb dX3_bitsOf_80 ?_
        refine lv_dsub hx hb dX3_bitsOf_81 (by rw [dy_sub1 b6 b2]; exact dy_P (by omega) (by omega) (by omega)) ?_
        refine W.eq (g2 := F0 mm 82 ls [.double (dy (C - 8388608) (-23))]) (by rw [dy_sub1 b6 b2] <;> rfl) ?_
        refine lv_dstore (lv' := [(5, .double (dy (C - 8388608) (-23))), (4, .int 0), (0, .float x), (1, .double (dy C (-23))), (3, .int (nI (127 + K1 - K2)))]) hx hb dX3_bitsOf_82 hl (by decide) rfl (fun ls hl => ?_)
        refine lv_iload hx hb dX3_bitsOf_84 (lv_at hl 1 rfl) ?_
        refine lv_if_eq (tgt := 93) hx hb dX3_bitsOf_86 (by decide) (fun _ => ?_) (fun c_9 => (absurd ((nx_eq (show ((0 : Int32)) = nI 0 from rfl) (show ((0 : Int32)) = nI 0 from rfl) (by omega) (by omega)).mpr (by omega)) c_9))
        refine lv_iload_n hx hb dX3_bitsOf_93 rfl (lv_at hl 4 rfl) ?_
        refine lv_istore (lv' := [(7, .int (nI (127 + K1 - K2))), (5, .double (dy (C - 8388608) (-23))), (4, .int 0), (0, .float x), (1, .double (dy C (-23))), (3, .int (nI (127 + K1 - K2)))]) hx hb dX3_bitsOf_94 hl (by decide) rfl (fun ls hl => ?_)
        refine lv_iconst (v := 0) hx hb dX3_bitsOf_96 (by decide) ?_
        refine lv_istore (lv' := [(8, .int 0), (7, .int (nI (127 + K1 - K2))), (5, .double (dy (C - 8388608) (-23))), (4, .int 0), (0, .float x), (1, .double (dy C (-23))), (3, .int (nI (127 + K1 - K2)))]) hx hb dX3_bitsOf_97 hl (by decide) rfl (fun ls hl => ?_)
        obtain ⟨R9, hR9⟩ : ∃ R, R = C - 8388608 := ⟨_, rfl⟩
        obtain ⟨E9, hE9⟩ : ∃ E, E = 127 + K1 - K2 := ⟨_, rfl⟩
        rw [← hR9, ← hE9] at hl
        have hR : R9 < 8388608 := by omega
        have hE8 : E9 = (Q + 150).toNat := by omega
        have hfx : x.toNat = E9 * 8388608 + R9 := by rw [b8, hE8, hR9]
        refine gh_loop (N := 23) (X := fun i_10 g ls => g = g0 ∧ lv_has ls 10 [(5, .double (dy (rsN R9 i_10) (-23))), (7, .int (nI (btN E9 R9 i_10))), (8, .int (nI i_10))]) ?_ ?_ 0 (by omega) hg ⟨hT, (by rw [rsN_0 hR, btN_0 hR]; exact lv_sub hl [2, 1, 0] rfl)⟩
        · intro g H locs ls hg hX
          obtain ⟨hT, hl⟩ := hX
          refine lv_iload hx hb dX3_bitsOf_99 (lv_at hl 2 rfl) ?_
          refine lv_bipush (v := 23) hx hb dX3_bitsOf_101 (by decide) ?_
          refine lv_icmp_ge (tgt := 151) hx hb dX3_bitsOf_103 (by decide) (fun _ => ?_) (fun c_11 => (absurd ((nx_le (show ((23 : Int32)) = nI 23 from rfl) rfl (by omega) (by omega)).mpr (by omega)) c_11))
          refine lv_iload hx hb dX3_bitsOf_151 (lv_at hl 1 rfl) ?_
          exact gh_reti hC hg hr hlk (⟨bt_fin hfx, hT⟩) dX3_bitsOf_153 (Nat.le_of_ble_eq_true rfl) (Nat.le_of_ble_eq_true rfl)
        · intro i_10 h_12 ih99 g H locs ls hg hX
          obtain ⟨hT, hl⟩ := hX
          refine lv_iload hx hb dX3_bitsOf_99 (lv_at hl 2 rfl) ?_
          have hr9 := rsN_lt R9 i_10
          refine lv_bipush (v := 23) hx hb dX3_bitsOf_101 (by decide) ?_
          refine lv_icmp_ge (tgt := 151) hx hb dX3_bitsOf_103 (by decide) (fun c_13 => (absurd ((nx_le (show ((23 : Int32)) = nI 23 from rfl) rfl (by omega) (by omega)).mp c_13) (by omega))) (fun _ => ?_)
          refine lv_dload hx hb dX3_bitsOf_106 (lv_at hl 0 rfl) ?_
          refine lv_ldc2d (v := 4611686018427387904) hx hb hown (hts _ q4161) dX3_bitsOf_108 ?_
          refine lv_dmul hx hb dX3_bitsOf_111 (by rw [bo_dbl hr9]; exact dy_P (by omega) (by omega) (by omega)) ?_
          refine W.eq (g2 := F0 mm 112 ls [.double (dy (2 * (rsN R9 i_10)) (-23))]) (by rw [bo_dbl hr9] <;> rfl) ?_
          refine lv_dstore (lv' := [(5, .double (dy (2 * (rsN R9 i_10)) (-23))), (7, .int (nI (btN E9 R9 i_10))), (8, .int (nI i_10))]) hx hb dX3_bitsOf_112 hl (by decide) rfl (fun ls hl => ?_)
          refine lv_dload hx hb dX3_bitsOf_114 (lv_at hl 0 rfl) ?_
          refine lv_dconst1 hx hb dX3_bitsOf_116 ?_
          refine lv_dcmp hx hb dX3_bitsOf_117 ?_
          refine lv_if_lt (tgt := 125) hx hb dX3_bitsOf_118 (by decide) (fun c_14 => ?_) (fun c_14 => ?_)
          · skip
            have hlt9 := (bo_c1 (by omega)).mp c_14
            refine lv_iconst (v := 0) hx hb dX3_bitsOf_125 (by decide) ?_
            refine lv_istore (lv' := [(9, .int 0), (5, .double (dy (2 * (rsN R9 i_10)) (-23))), (7, .int (nI (btN E9 R9 i_10))), (8, .int (nI i_10))]) hx hb dX3_bitsOf_126 hl (by decide) rfl (fun ls hl => ?_)
            refine lv_dload hx hb dX3_bitsOf_128 (lv_at hl 1 rfl) ?_
            refine lv_iload hx hb dX3_bitsOf_130 (lv_at hl 0 rfl) ?_
            refine lv_i2d hx hb dX3_bitsOf_132 ?_
            refine lv_dsub hx hb dX3_bitsOf_133 (bo_P0 hlt9) ?_
            refine W.eq (g2 := F0 mm 134 ls [.double (dy (2 * (rsN R9 i_10)) (-23))]) (by rw [bo_sub0 hlt9] <;> rfl) ?_
            refine lv_dstore (lv' := [(5, .double (dy (2 * (rsN R9 i_10)) (-23))), (9, .int 0), (7, .int (nI (btN E9 R9 i_10))), (8, .int (nI i_10))]) hx hb dX3_bitsOf_134 hl (by decide) rfl (fun ls hl => ?_)
            refine lv_iconst (v := 2) hx hb dX3_bitsOf_136 (by decide) ?_
            refine lv_iload hx hb dX3_bitsOf_137 (lv_at hl 2 rfl) ?_
            refine lv_imul hx hb dX3_bitsOf_139 ?_
            refine lv_iload hx hb dX3_bitsOf_140 (lv_at hl 1 rfl) ?_
            refine lv_iadd hx hb dX3_bitsOf_142 ?_
            refine W.eq (g2 := F0 mm 143 ls [.int (nI (2 * (btN E9 R9 i_10)))]) (by rw [(nx_add (nx_mul (show ((2 : Int32)) = nI 2 from rfl) rfl) (show ((0 : Int32)) = nI 0 from rfl))] <;> rfl) ?_
            refine lv_istore (lv' := [(7, .int (nI (2 * (btN E9 R9 i_10)))), (5, .double (dy (2 * (rsN R9 i_10)) (-23))), (9, .int 0), (8, .int (nI i_10))]) hx hb dX3_bitsOf_143 hl (by decide) rfl (fun ls hl => ?_)
            refine lv_iinc (v := (nI (i_10 + 1))) (lv' := [(8, .int (nI (i_10 + 1))), (7, .int (nI (2 * (btN E9 R9 i_10)))), (5, .double (dy (2 * (rsN R9 i_10)) (-23))), (9, .int 0)]) hx hb dX3_bitsOf_145 hl (k := 3) rfl (nx_iinc rfl) (by decide) rfl (fun ls hl => ?_)
            refine lv_goto (tgt := 99) hx hb dX3_bitsOf_148 (by decide) ?_
            exact ih99 _ _ _ _ hg ⟨hT, (by rw [((rsN_s R9 i_10).1 (by omega)).1, ((rsN_s R9 i_10).1 (by omega)).2]; exact lv_sub hl [2, 1, 0] rfl)⟩
          have hlt9 : 8388608 ≤ 2 * (rsN R9 i_10) := Nat.le_of_not_lt (fun h9 => c_14 ((bo_c1 (by omega)).mpr h9))
          have eS : FP.dsub (dy (2 * (rsN R9 i_10)) (-23)) (FP.i2d 1) = dy (2 * (rsN R9 i_10) - 8388608) (-23) := bo_sub1 hlt9 (by omega)
          refine lv_iconst (v := 1) hx hb dX3_bitsOf_121 (by decide) ?_
          refine lv_goto (tgt := 126) hx hb dX3_bitsOf_122 (by decide) ?_
          refine lv_istore (lv' := [(9, .int 1), (5, .double (dy (2 * (rsN R9 i_10)) (-23))), (7, .int (nI (btN E9 R9 i_10))), (8, .int (nI i_10))]) hx hb dX3_bitsOf_126 hl (by decide) rfl (fun ls hl => ?_)
          refine lv_dload hx hb dX3_bitsOf_128 (lv_at hl 1 rfl) ?_
          refine lv_iload hx hb dX3_bitsOf_130 (lv_at hl 0 rfl) ?_
          refine lv_i2d hx hb dX3_bitsOf_132 ?_
          refine lv_dsub hx hb dX3_bitsOf_133 (bo_P1 hlt9 hr9) ?_
          refine W.eq (g2 := F0 mm 134 ls [.double (dy (2 * (rsN R9 i_10) - 8388608) (-23))]) (by rw [eS] <;> rfl) ?_
          refine lv_dstore (lv' := [(5, .double (dy (2 * (rsN R9 i_10) - 8388608) (-23))), (9, .int 1), (7, .int (nI (btN E9 R9 i_10))), (8, .int (nI i_10))]) hx hb dX3_bitsOf_134 hl (by decide) rfl (fun ls hl => ?_)
          refine lv_iconst (v := 2) hx hb dX3_bitsOf_136 (by decide) ?_
          refine lv_iload hx hb dX3_bitsOf_137 (lv_at hl 2 rfl) ?_
          refine lv_imul hx hb dX3_bitsOf_139 ?_
          refine lv_iload hx hb dX3_bitsOf_140 (lv_at hl 1 rfl) ?_
          refine lv_iadd hx hb dX3_bitsOf_142 ?_
          refine W.eq (g2 := F0 mm 143 ls [.int (nI (2 * (btN E9 R9 i_10) + 1))]) (by rw [(nx_add (nx_mul (show ((2 : Int32)) = nI 2 from rfl) rfl) (show ((1 : Int32)) = nI 1 from rfl))] <;> rfl) ?_
          refine lv_istore (lv' := [(7, .int (nI (2 * (btN E9 R9 i_10) + 1))), (5, .double (dy (2 * (rsN R9 i_10) - 8388608) (-23))), (9, .int 1), (8, .int (nI i_10))]) hx hb dX3_bitsOf_143 hl (by decide) rfl (fun ls hl => ?_)
          refine lv_iinc (v := (nI (i_10 + 1))) (lv' := [(8, .int (nI (i_10 + 1))), (7, .int (nI (2 * (btN E9 R9 i_10) + 1))), (5, .double (dy (2 * (rsN R9 i_10) - 8388608) (-23))), (9, .int 1)]) hx hb dX3_bitsOf_145 hl (k := 3) rfl (nx_iinc rfl) (by decide) rfl (fun ls hl => ?_)
          refine lv_goto (tgt := 99) hx hb dX3_bitsOf_148 (by decide) ?_
          exact ih99 _ _ _ _ hg ⟨hT, (by rw [((rsN_s R9 i_10).2 (by omega)).1, ((rsN_s R9 i_10).2 (by omega)).2]; exact lv_sub hl [2, 1, 0] rfl)⟩
      refine lv_dload_n hx hb dX3_bitsOf_34 rfl (lv_at hl 1 rfl) ?_
      refine lv_dconst1 hx hb dX3_bitsOf_35 ?_
      refine lv_dcmp hx hb dX3_bitsOf_36 ?_
      refine lv_if_ge (tgt := 57) hx hb dX3_bitsOf_37 (by decide) (fun c_15 => (absurd c_15 (bo_lt1 b1 (by omega) (by omega) (by omega) (by omega)))) (fun _ => ?_)
      refine lv_iload_n hx hb dX3_bitsOf_40 rfl (lv_at hl 2 rfl) ?_
      refine lv_iconst (v := 1) hx hb dX3_bitsOf_41 (by decide) ?_
      refine lv_icmp_le (tgt := 57) hx hb dX3_bitsOf_42 (by decide) (fun _ => ?_) (fun c_16 => (absurd ((nx_le rfl (show ((1 : Int32)) = nI 1 from rfl) (by omega) (by omega)).mpr (by omega)) c_16))
      refine lv_dload_n hx hb dX3_bitsOf_57 rfl (lv_at hl 1 rfl) ?_
      refine lv_dconst1 hx hb dX3_bitsOf_58 ?_
      refine lv_dcmp hx hb dX3_bitsOf_59 ?_
      refine lv_if_ge (tgt := 67) hx hb dX3_bitsOf_60 (by decide) (fun c_17 => (absurd c_17 (bo_lt1 b1 (by omega) (by omega) (by omega) (by omega)))) (fun _ => ?_)
      refine lv_iconst (v := 1) hx hb dX3_bitsOf_63 (by decide) ?_
      refine lv_goto (tgt := 68) hx hb dX3_bitsOf_64 (by decide) ?_
      refine lv_istore (lv' := [(4, .int 1), (0, .float x), (1, .double (dy C (-23))), (3, .int (nI (127 + K1 - K2)))]) hx hb dX3_bitsOf_68 hl (by decide) rfl (fun ls hl => ?_)
      refine lv_iload hx hb dX3_bitsOf_70 (lv_at hl 0 rfl) ?_
      refine lv_if_eq (tgt := 79) hx hb dX3_bitsOf_72 (by decide) (fun c_18 => (absurd ((nx_eq (show ((1 : Int32)) = nI 1 from rfl) (show ((0 : Int32)) = nI 0 from rfl) (by omega) (by omega)).mp c_18) (by omega))) (fun _ => ?_)
      refine lv_dload_n hx hb dX3_bitsOf_75 rfl (lv_at hl 2 rfl) ?_
      refine lv_goto (tgt := 82) hx hb dX3_bitsOf_76 (by decide) ?_
      refine lv_dstore (lv' := [(5, .double (dy C (-23))), (4, .int 1), (0, .float x), (1, .double (dy C (-23))), (3, .int (nI (127 + K1 - K2)))]) hx hb dX3_bitsOf_82 hl (by decide) rfl (fun ls hl => ?_)
      refine lv_iload hx hb dX3_bitsOf_84 (lv_at hl 1 rfl) ?_
      refine lv_if_eq (tgt := 93) hx hb dX3_bitsOf_86 (by decide) (fun c_19 => (absurd ((nx_eq (show ((1 : Int32)) = nI 1 from rfl) (show ((0 : Int32)) = nI 0 from rfl) (by omega) (by omega)).mp c_19) (by omega))) (fun _ => ?_)
      refine lv_iconst (v := 0) hx hb dX3_bitsOf_89 (by decide) ?_
      refine lv_goto (tgt := 94) hx hb dX3_bitsOf_90 (by decide) ?_
      refine lv_istore (lv' := [(7, .int 0), (5, .double (dy C (-23))), (4, .int 1), (0, .float x), (1, .double (dy C (-23))), (3, .int (nI (127 + K1 - K2)))]) hx hb dX3_bitsOf_94 hl (by decide) rfl (fun ls hl => ?_)
      refine lv_iconst (v := 0) hx hb dX3_bitsOf_96 (by decide) ?_
      refine lv_istore (lv' := [(8, .int 0), (7, .int 0), (5, .double (dy C (-23))), (4, .int 1), (0, .float x), (1, .double (dy C (-23))), (3, .int (nI (127 + K1 - K2)))]) hx hb dX3_bitsOf_97 hl (by decide) rfl (fun ls hl => ?_)
      have hR : C < 8388608 := by omega
      have hfx : x.toNat = 0 * 8388608 + C := by rw [b9, Nat.zero_mul, Nat.zero_add]
      refine gh_loop (N := 23) (X := fun i_20 g ls => g = g0 ∧ lv_has ls 10 [(5, .double (dy (rsN C i_20) (-23))), (7, .int (nI (btN 0 C i_20))), (8, .int (nI i_20))]) ?_ ?_ 0 (by omega) hg ⟨hT, (by rw [rsN_0 hR, btN_0 hR]; exact lv_sub hl [2, 1, 0] rfl)⟩
      · intro g H locs ls hg hX
        obtain ⟨hT, hl⟩ := hX
        refine lv_iload hx hb dX3_bitsOf_99 (lv_at hl 2 rfl) ?_
        refine lv_bipush (v := 23) hx hb dX3_bitsOf_101 (by decide) ?_
        refine lv_icmp_ge (tgt := 151) hx hb dX3_bitsOf_103 (by decide) (fun _ => ?_) (fun c_21 => (absurd ((nx_le (show ((23 : Int32)) = nI 23 from rfl) rfl (by omega) (by omega)).mpr (by omega)) c_21))
        refine lv_iload hx hb dX3_bitsOf_151 (lv_at hl 1 rfl) ?_
        exact gh_reti hC hg hr hlk (⟨bt_fin hfx, hT⟩) dX3_bitsOf_153 (Nat.le_of_ble_eq_true rfl) (Nat.le_of_ble_eq_true rfl)
      · intro i_20 h_22 ih99 g H locs ls hg hX
        obtain ⟨hT, hl⟩ := hX
        refine lv_iload hx hb dX3_bitsOf_99 (lv_at hl 2 rfl) ?_
        have hr9 := rsN_lt C i_20
        refine lv_bipush (v := 23) hx hb dX3_bitsOf_101 (by decide) ?_
        refine lv_icmp_ge (tgt := 151) hx hb dX3_bitsOf_103 (by decide) (fun c_23 => (absurd ((nx_le (show ((23 : Int32)) = nI 23 from rfl) rfl (by omega) (by omega)).mp c_23) (by omega))) (fun _ => ?_)
        refine lv_dload hx hb dX3_bitsOf_106 (lv_at hl 0 rfl) ?_
        refine lv_ldc2d (v := 4611686018427387904) hx hb hown (hts _ q4161) dX3_bitsOf_108 ?_
        refine lv_dmul hx hb dX3_bitsOf_111 (by rw [bo_dbl hr9]; exact dy_P (by omega) (by omega) (by omega)) ?_
        refine W.eq (g2 := F0 mm 112 ls [.double (dy (2 * (rsN C i_20)) (-23))]) (by rw [bo_dbl hr9] <;> rfl) ?_
        refine lv_dstore (lv' := [(5, .double (dy (2 * (rsN C i_20)) (-23))), (7, .int (nI (btN 0 C i_20))), (8, .int (nI i_20))]) hx hb dX3_bitsOf_112 hl (by decide) rfl (fun ls hl => ?_)
        refine lv_dload hx hb dX3_bitsOf_114 (lv_at hl 0 rfl) ?_
        refine lv_dconst1 hx hb dX3_bitsOf_116 ?_
        refine lv_dcmp hx hb dX3_bitsOf_117 ?_
        refine lv_if_lt (tgt := 125) hx hb dX3_bitsOf_118 (by decide) (fun c_24 => ?_) (fun c_24 => ?_)
        · skip
          have hlt9 := (bo_c1 (by omega)).mp c_24
          refine lv_iconst (v := 0) hx hb dX3_bitsOf_125 (by decide) ?_
          refine lv_istore (lv' := [(9, .int 0), (5, .double (dy (2 * (rsN C i_20)) (-23))), (7, .int (nI (btN 0 C i_20))), (8, .int (nI i_20))]) hx hb dX3_bitsOf_126 hl (by decide) rfl (fun ls hl => ?_)
          refine lv_dload hx hb dX3_bitsOf_128 (lv_at hl 1 rfl) ?_
          refine lv_iload hx hb dX3_bitsOf_130 (lv_at hl 0 rfl) ?_
          refine lv_i2d hx hb dX3_bitsOf_132 ?_
          refine lv_dsub hx hb dX3_bitsOf_133 (bo_P0 hlt9) ?_
          refine W.eq (g2 := F0 mm 134 ls [.double (dy (2 * (rsN C i_20)) (-23))]) (by rw [bo_sub0 hlt9] <;> rfl) ?_
          refine lv_dstore (lv' := [(5, .double (dy (2 * (rsN C i_20)) (-23))), (9, .int 0), (7, .int (nI (btN 0 C i_20))), (8, .int (nI i_20))]) hx hb dX3_bitsOf_134 hl (by decide) rfl (fun ls hl => ?_)
          refine lv_iconst (v := 2) hx hb dX3_bitsOf_136 (by decide) ?_
          refine lv_iload hx hb dX3_bitsOf_137 (lv_at hl 2 rfl) ?_
          refine lv_imul hx hb dX3_bitsOf_139 ?_
          refine lv_iload hx hb dX3_bitsOf_140 (lv_at hl 1 rfl) ?_
          refine lv_iadd hx hb dX3_bitsOf_142 ?_
          refine W.eq (g2 := F0 mm 143 ls [.int (nI (2 * (btN 0 C i_20)))]) (by rw [(nx_add (nx_mul (show ((2 : Int32)) = nI 2 from rfl) rfl) (show ((0 : Int32)) = nI 0 from rfl))] <;> rfl) ?_
          refine lv_istore (lv' := [(7, .int (nI (2 * (btN 0 C i_20)))), (5, .double (dy (2 * (rsN C i_20)) (-23))), (9, .int 0), (8, .int (nI i_20))]) hx hb dX3_bitsOf_143 hl (by decide) rfl (fun ls hl => ?_)
          refine lv_iinc (v := (nI (i_20 + 1))) (lv' := [(8, .int (nI (i_20 + 1))), (7, .int (nI (2 * (btN 0 C i_20)))), (5, .double (dy (2 * (rsN C i_20)) (-23))), (9, .int 0)]) hx hb dX3_bitsOf_145 hl (k := 3) rfl (nx_iinc rfl) (by decide) rfl (fun ls hl => ?_)
          refine lv_goto (tgt := 99) hx hb dX3_bitsOf_148 (by decide) ?_
          exact ih99 _ _ _ _ hg ⟨hT, (by rw [((rsN_s C i_20).1 (by omega)).1, ((rsN_s C i_20).1 (by omega)).2]; exact lv_sub hl [2, 1, 0] rfl)⟩
        have hlt9 : 8388608 ≤ 2 * (rsN C i_20) := Nat.le_of_not_lt (fun h9 => c_24 ((bo_c1 (by omega)).mpr h9))
        have eS : FP.dsub (dy (2 * (rsN C i_20)) (-23)) (FP.i2d 1) = dy (2 * (rsN C i_20) - 8388608) (-23) := bo_sub1 hlt9 (by omega)
        refine lv_iconst (v := 1) hx hb dX3_bitsOf_121 (by decide) ?_
        refine lv_goto (tgt := 126) hx hb dX3_bitsOf_122 (by decide) ?_
        refine lv_istore (lv' := [(9, .int 1), (5, .double (dy (2 * (rsN C i_20)) (-23))), (7, .int (nI (btN 0 C i_20))), (8, .int (nI i_20))]) hx hb dX3_bitsOf_126 hl (by decide) rfl (fun ls hl => ?_)
        refine lv_dload hx hb dX3_bitsOf_128 (lv_at hl 1 rfl) ?_
        refine lv_iload hx hb dX3_bitsOf_130 (lv_at hl 0 rfl) ?_
        refine lv_i2d hx hb dX3_bitsOf_132 ?_
        refine lv_dsub hx hb dX3_bitsOf_133 (bo_P1 hlt9 hr9) ?_
        refine W.eq (g2 := F0 mm 134 ls [.double (dy (2 * (rsN C i_20) - 8388608) (-23))]) (by rw [eS] <;> rfl) ?_
        refine lv_dstore (lv' := [(5, .double (dy (2 * (rsN C i_20) - 8388608) (-23))), (9, .int 1), (7, .int (nI (btN 0 C i_20))), (8, .int (nI i_20))]) hx hb dX3_bitsOf_134 hl (by decide) rfl (fun ls hl => ?_)
        refine lv_iconst (v := 2) hx hb dX3_bitsOf_136 (by decide) ?_
        refine lv_iload hx hb dX3_bitsOf_137 (lv_at hl 2 rfl) ?_
        refine lv_imul hx hb dX3_bitsOf_139 ?_
        refine lv_iload hx hb dX3_bitsOf_140 (lv_at hl 1 rfl) ?_
        refine lv_iadd hx hb dX3_bitsOf_142 ?_
        refine W.eq (g2 := F0 mm 143 ls [.int (nI (2 * (btN 0 C i_20) + 1))]) (by rw [(nx_add (nx_mul (show ((2 : Int32)) = nI 2 from rfl) rfl) (show ((1 : Int32)) = nI 1 from rfl))] <;> rfl) ?_
        refine lv_istore (lv' := [(7, .int (nI (2 * (btN 0 C i_20) + 1))), (5, .double (dy (2 * (rsN C i_20) - 8388608) (-23))), (9, .int 1), (8, .int (nI i_20))]) hx hb dX3_bitsOf_143 hl (by decide) rfl (fun ls hl => ?_)
        refine lv_iinc (v := (nI (i_20 + 1))) (lv' := [(8, .int (nI (i_20 + 1))), (7, .int (nI (2 * (btN 0 C i_20) + 1))), (5, .double (dy (2 * (rsN C i_20) - 8388608) (-23))), (9, .int 1)]) hx hb dX3_bitsOf_145 hl (k := 3) rfl (nx_iinc rfl) (by decide) rfl (fun ls hl => ?_)
        refine lv_goto (tgt := 99) hx hb dX3_bitsOf_148 (by decide) ?_
        exact ih99 _ _ _ _ hg ⟨hT, (by rw [((rsN_s C i_20).2 (by omega)).1, ((rsN_s C i_20).2 (by omega)).2]; exact lv_sub hl [2, 1, 0] rfl)⟩
    · intro i_5 h_25 ih34 g H locs ls hg hX
      obtain ⟨hT, hl⟩ := hX
      refine lv_dload_n hx hb dX3_bitsOf_34 rfl (lv_at hl 1 rfl) ?_
      refine lv_dconst1 hx hb dX3_bitsOf_35 ?_
      refine lv_dcmp hx hb dX3_bitsOf_36 ?_
      refine lv_if_ge (tgt := 57) hx hb dX3_bitsOf_37 (by decide) (fun c_26 => (absurd c_26 (bo_lt1 b1 (by omega) (by omega) (by omega) (by omega)))) (fun _ => ?_)
      refine lv_iload_n hx hb dX3_bitsOf_40 rfl (lv_at hl 2 rfl) ?_
      refine lv_iconst (v := 1) hx hb dX3_bitsOf_41 (by decide) ?_
      refine lv_icmp_le (tgt := 57) hx hb dX3_bitsOf_42 (by decide) (fun c_27 => (absurd ((nx_le rfl (show ((1 : Int32)) = nI 1 from rfl) (by omega) (by omega)).mp c_27) (by omega))) (fun _ => ?_)
      refine lv_dload_n hx hb dX3_bitsOf_45 rfl (lv_at hl 1 rfl) ?_
      refine lv_ldc2d (v := 4611686018427387904) hx hb hown (hts _ q4161) dX3_bitsOf_46 ?_
      refine lv_dmul hx hb dX3_bitsOf_49 (by rw [dy_dbl b1 (by omega) (by omega) (by omega)]; exact dy_P (by omega) (by omega) (by omega)) ?_
      refine W.eq (g2 := F0 mm 50 ls [.double (dy C (Q - (K1 : Nat) + (i_5 : Nat) + 1))]) (by rw [dy_dbl b1 (by omega) (by omega) (by omega)] <;> rfl) ?_
      refine lv_dstore_n (lv' := [(1, .double (dy C (Q - (K1 : Nat) + (i_5 : Nat) + 1))), (0, .float x), (3, .int (nI (127 + K1 - i_5)))]) hx hb dX3_bitsOf_50 rfl hl (by decide) rfl (fun ls hl => ?_)
      refine lv_iinc (v := (nI (127 + K1 - (i_5 + 1)))) (lv' := [(3, .int (nI (127 + K1 - (i_5 + 1)))), (1, .double (dy C (Q - (K1 : Nat) + (i_5 : Nat) + 1))), (0, .float x)]) hx hb dX3_bitsOf_51 hl (k := 2) rfl (nx_idec (a := 127 + K1 - i_5) rfl (show 1 ≤ 127 + K1 - i_5 by omega)) (by decide) rfl (fun ls hl => ?_)
      refine lv_goto (tgt := 34) hx hb dX3_bitsOf_54 (by decide) ?_
      exact ih34 _ _ _ _ hg ⟨hT, (by rw [show dy C (Q - (K1 : Int) + ((i_5 + 1 : Nat) : Int)) = (dy C (Q - (K1 : Nat) + (i_5 : Nat) + 1)) from by rw [show Q - (K1 : Int) + ((i_5 + 1 : Nat) : Int) = Q - (K1 : Nat) + (i_5 : Nat) + 1 by omega]]; exact lv_sub hl [2, 1, 0] rfl)⟩
  · intro i_3 h_28 ih14 g H locs ls hg hX
    obtain ⟨hT, hl⟩ := hX
    refine lv_dload_n hx hb dX3_bitsOf_14 rfl (lv_at hl 1 rfl) ?_
    refine lv_ldc2d (v := 4611686018427387904) hx hb hown (hts _ q4161) dX3_bitsOf_15 ?_
    refine lv_dcmp hx hb dX3_bitsOf_18 ?_
    refine lv_if_lt (tgt := 34) hx hb dX3_bitsOf_19 (by decide) (fun c_29 => (absurd c_29 (bo_ge2 b1 (by omega) (by omega) (by omega) (by omega)))) (fun _ => ?_)
    refine lv_dload_n hx hb dX3_bitsOf_22 rfl (lv_at hl 1 rfl) ?_
    refine lv_ldc2d (v := 4611686018427387904) hx hb hown (hts _ q4161) dX3_bitsOf_23 ?_
    refine lv_ddiv hx hb dX3_bitsOf_26 (by rw [dy_half b1 (by omega) (by omega) (by omega)]; exact dy_P (by omega) (by omega) (by omega)) ?_
    refine W.eq (g2 := F0 mm 27 ls [.double (dy C (Q - (i_3 : Nat) - 1))]) (by rw [dy_half b1 (by omega) (by omega) (by omega)] <;> rfl) ?_
    refine lv_dstore_n (lv' := [(1, .double (dy C (Q - (i_3 : Nat) - 1))), (0, .float x), (3, .int (nI (127 + i_3)))]) hx hb dX3_bitsOf_27 rfl hl (by decide) rfl (fun ls hl => ?_)
    refine lv_iinc (v := (nI ((127 + i_3) + 1))) (lv' := [(3, .int (nI ((127 + i_3) + 1))), (1, .double (dy C (Q - (i_3 : Nat) - 1))), (0, .float x)]) hx hb dX3_bitsOf_28 hl (k := 2) rfl (nx_iinc rfl) (by decide) rfl (fun ls hl => ?_)
    refine lv_goto (tgt := 14) hx hb dX3_bitsOf_31 (by decide) ?_
    exact ih14 _ _ _ _ hg ⟨hT, (by rw [show dy C (Q - ((i_3 + 1 : Nat) : Int)) = (dy C (Q - (i_3 : Nat) - 1)) from by rw [show (Q : Int) - ((i_3 + 1 : Nat) : Int) = Q - (i_3 : Nat) - 1 by omega]]; exact lv_sub hl [2, 1, 0] rfl)⟩
