/-! doubles -/
theorem fg_dec (m : Nat) : FP.Core.decode FP.Core.b64 m = (if m / 4503599627370496 % 2048 = 2047 then (if m % 4503599627370496 = 0 then .inf (m / 4503599627370496 / 2048 % 2 == 1) else .nan) else if m / 4503599627370496 % 2048 = 0 then .fin (m / 4503599627370496 / 2048 % 2 == 1) (m % 4503599627370496) (-1074) else .fin (m / 4503599627370496 / 2048 % 2 == 1) (4503599627370496 + m % 4503599627370496) (-1074 + (((m / 4503599627370496 % 2048 : Nat) : Int) - 1))) := rfl
theorem fg_enc (s : Bool) (c : Nat) (q : Int) : FP.Core.encode FP.Core.b64 (.fin s c q) = if c < 4503599627370496 then (s.toNat * 2048 + 0) * 4503599627370496 + c else (s.toNat * 2048 + ((q - (-1074)).toNat + 1)) * 4503599627370496 + (c - 4503599627370496) := rfl
theorem fg_encI (s : Bool) : FP.Core.encode FP.Core.b64 (.inf s) = (s.toNat * 2048 + 2047) * 4503599627370496 + 0 := rfl
def P64 (y : UInt64) : Prop := y.toNat ≤ 9218868437227405312
theorem P64.n {y : UInt64} (h : P64 y) : vf_n64 y := by
  unfold vf_n64
  rw [UInt64.le_iff_toNat_le, UInt64.toNat_and]
  show y.toNat &&& (2 ^ 63 - 1) ≤ 9218868437227405312
  rw [Nat.and_two_pow_sub_one_eq_mod]
  have h : y.toNat ≤ 9218868437227405312 := h
  omega
theorem fg_num {m : Nat} (h : m ≤ 9218868437227405312) : FP.Core.decode FP.Core.b64 m = .inf false ∨ ∃ c q, FP.Core.decode FP.Core.b64 m = .fin false c q := by
  have hs : (m / 4503599627370496 / 2048 % 2 == 1) = false := by
    rw [show m / 4503599627370496 / 2048 % 2 = 0 by omega]; rfl
  rw [fg_dec, hs]
  by_cases h1 : m / 4503599627370496 % 2048 = 2047
  · rw [if_pos h1, if_pos (by omega)]
    exact Or.inl rfl
  · rw [if_neg h1]
    by_cases h2 : m / 4503599627370496 % 2048 = 0
    · rw [if_pos h2]; exact Or.inr ⟨_, _, rfl⟩
    · rw [if_neg h2]; exact Or.inr ⟨_, _, rfl⟩
theorem fc_numP {m : Nat} (h : m ≤ 2139095040) : FP.Core.decode FP.Core.b32 m = .inf false ∨ ∃ c q, FP.Core.decode FP.Core.b32 m = .fin false c q := by
  have hs : (m / 8388608 / 256 % 2 == 1) = false := by
    rw [show m / 8388608 / 256 % 2 = 0 by omega]; rfl
  rw [fc_dec, hs]
  by_cases h1 : m / 8388608 % 256 = 255
  · rw [if_pos h1, if_pos (by omega)]
    exact Or.inl rfl
  · rw [if_neg h1]
    by_cases h2 : m / 8388608 % 256 = 0
    · rw [if_pos h2]; exact Or.inr ⟨_, _, rfl⟩
    · rw [if_neg h2]; exact Or.inr ⟨_, _, rfl⟩
theorem fg_settle (s : Bool) (c : Nat) (q : Int) : FP.Core.settle FP.Core.b64 s c q = .inf s ∨ ∃ c' q', FP.Core.settle FP.Core.b64 s c q = .fin s c' q' ∧ c' < 9007199254740992 ∧ q' ≤ 971 := by
  unfold FP.Core.settle
  by_cases h : c < 2 ^ FP.Core.b64.p
  · rw [if_pos h]
    unfold FP.Core.bound
    by_cases h1 : q ≤ FP.Core.b64.qmax
    · rw [if_pos h1]; exact Or.inr ⟨c, q, rfl, h, h1⟩
    · rw [if_neg h1]; exact Or.inl rfl
  · rw [if_neg h]
    unfold FP.Core.bound
    by_cases h1 : q + 1 ≤ FP.Core.b64.qmax
    · rw [if_pos h1]; exact Or.inr ⟨_, q + 1, rfl, by decide, h1⟩
    · rw [if_neg h1]; exact Or.inl rfl
theorem fg_rr (s : Bool) (num den : Nat) (e : Int) : FP.Core.roundRatio FP.Core.b64 s num den e = .inf s ∨ ∃ c q, FP.Core.roundRatio FP.Core.b64 s num den e = .fin s c q ∧ c < 9007199254740992 ∧ q ≤ 971 := by
  unfold FP.Core.roundRatio
  by_cases h : num = 0
  · rw [if_pos h]; exact Or.inr ⟨0, _, rfl, by decide, by decide⟩
  · rw [if_neg h]
    exact fg_settle s _ _
theorem fg_rrP (num den : Nat) (e : Int) : P64 (UInt64.ofNat (FP.Core.encode FP.Core.b64 (FP.Core.roundRatio FP.Core.b64 false num den e))) := by
  unfold P64
  rw [UInt64.toNat_ofNat']
  rcases fg_rr false num den e with h | ⟨c, q, h1, h2, h3⟩
  · rw [h, fg_encI]; show ((0 * 2048 + 2047) * 4503599627370496 + 0) % _ ≤ _; omega
  · rw [h1, fg_enc]
    show (if c < 4503599627370496 then (0 * 2048 + 0) * 4503599627370496 + c else (0 * 2048 + ((q - (-1074)).toNat + 1)) * 4503599627370496 + (c - 4503599627370496)) % _ ≤ _
    split <;> omega
theorem fg_infP : P64 (UInt64.ofNat (FP.Core.encode FP.Core.b64 (.inf false))) := by
  unfold P64
  rw [UInt64.toNat_ofNat', fg_encI]
  show ((0 * 2048 + 2047) * 4503599627370496 + 0) % _ ≤ _
  omega
theorem fg_f2d (x : UInt32) (h : FP.Core.decode FP.Core.b32 x.toNat ≠ .nan) : FP.f2d x = UInt64.ofNat (FP.Core.encode FP.Core.b64 (FP.Core.round FP.Core.b64 (FP.Core.decode FP.Core.b32 x.toNat))) := if_neg (fun e => h (of_decide_eq_true e))
theorem fg_add (x y : UInt64) : FP.dadd x y = UInt64.ofNat (FP.Core.encode FP.Core.b64 (FP.Core.round FP.Core.b64 (FP.Core.exactSum (FP.Core.decode FP.Core.b64 x.toNat) (FP.Core.decode FP.Core.b64 y.toNat)))) := rfl
theorem fg_div (x y : UInt64) : FP.ddiv x y = UInt64.ofNat (FP.Core.encode FP.Core.b64 (FP.Core.quotient FP.Core.b64 (FP.Core.decode FP.Core.b64 x.toNat) (FP.Core.decode FP.Core.b64 y.toNat))) := rfl
theorem f2d_P {x : UInt32} (h : x.toNat ≤ 2139095040) : P64 (FP.f2d x) := by
  rcases fc_numP h with h1 | ⟨c, q, h1⟩
  · rw [fg_f2d x (by rw [h1]; exact fun e => by cases e), h1]; exact fg_infP
  · rw [fg_f2d x (by rw [h1]; exact fun e => by cases e), h1]; exact fg_rrP _ _ _
theorem fg_sgn (c d : Nat) (q r e : Int) : FP.Core.sumSign false false (FP.Core.sumUnits false c q false d r e) = false := by
  unfold FP.Core.sumSign
  split
  · rfl
  · have h : (0 : Int) ≤ FP.Core.sumUnits false c q false d r e := by
      show (0 : Int) ≤ ((FP.Core.inUnits c q e : Nat) : Int) + ((FP.Core.inUnits d r e : Nat) : Int)
      omega
    exact decide_eq_false (by omega)
theorem dadd_P {x y : UInt64} (hx : P64 x) (hy : P64 y) : P64 (FP.dadd x y) := by
  rw [fg_add]
  rcases fg_num hx with h1 | ⟨c, q, h1⟩
  · rcases fg_num hy with h2 | ⟨d, r, h2⟩
    · rw [h1, h2]; exact fg_infP
    · rw [h1, h2]; exact fg_infP
  · rcases fg_num hy with h2 | ⟨d, r, h2⟩
    · rw [h1, h2]; exact fg_infP
    · rw [h1, h2]
      show P64 (UInt64.ofNat (FP.Core.encode FP.Core.b64 (FP.Core.roundRatio FP.Core.b64 (FP.Core.sumSign false false (FP.Core.sumUnits false c q false d r (min q r))) _ 1 _)))
      rw [fg_sgn]
      exact fg_rrP _ _ _
def fg_ok (d : FP.Core.Datum) : Bool := match d with
  | .fin false d _ => decide (d ≠ 0)
  | _ => false
theorem fg_i2d : ∀ n, n < 25 → 1 ≤ n → fg_ok (FP.Core.decode FP.Core.b64 (FP.i2d (nI n)).toNat) = true := by decide +kernel
theorem ddiv_P {x : UInt64} {n : Nat} (hx : P64 x) (h1 : 1 ≤ n) (h2 : n < 25) : P64 (FP.ddiv x (FP.i2d (nI n))) := by
  rw [fg_div]
  have hn := fg_i2d n h2 h1
  generalize FP.Core.decode FP.Core.b64 (FP.i2d (nI n)).toNat = z at hn ⊢
  match z, hn with
  | .fin false d r, hn =>
    have hd : d ≠ 0 := of_decide_eq_true hn
    rcases fg_num hx with h1 | ⟨c, q, h1⟩
    · rw [h1]; exact fg_infP
    · rw [h1]
      have e : FP.Core.quotient FP.Core.b64 (.fin false c q) (.fin false d r) = FP.Core.roundRatio FP.Core.b64 false c d (q - r) := if_neg hd
      rw [e]
      exact fg_rrP _ _ _
/-- no stress is below 0, or NaN -/
def posS (st : Nat → UInt32) : Prop := ∀ q, q < 24 → (st q).toNat ≤ 2139095040
noncomputable def mst (s : Nat → Int32) (st : Nat → UInt32) : Nat → UInt64
  | 0 => FP.dconst0
  | p + 1 => FP.dadd (mst s st p) (if pl s p 0 = -1 then FP.dconst0 else FP.f2d (st p))
def cnP (s : Nat → Int32) : Nat → Nat
  | 0 => 0
  | p + 1 => cnP s p + (if pl s p 0 = -1 then 0 else 1)
theorem cnP_le (s : Nat → Int32) : ∀ p, cnP s p ≤ p
  | 0 => Nat.le_refl _
  | p + 1 => by
    have := cnP_le s p
    show cnP s p + (if pl s p 0 = -1 then 0 else 1) ≤ p + 1
    split <;> omega
theorem mst_P {s : Nat → Int32} {st : Nat → UInt32} (h : posS st) : ∀ p, p ≤ 24 → P64 (mst s st p)
  | 0, _ => by unfold mst P64; decide
  | p + 1, hp => by
    show P64 (FP.dadd (mst s st p) (if pl s p 0 = -1 then FP.dconst0 else FP.f2d (st p)))
    refine dadd_P (mst_P h p (by omega)) ?_
    split
    · unfold P64; decide
    · exact f2d_P (h p (by omega))
noncomputable def meanN (s : Nat → Int32) (st : Nat → UInt32) (N : Nat) : UInt64 := if cnP s N = 0 then FP.dconst0 else FP.ddiv (mst s st N) (FP.i2d (nI (cnP s N)))
theorem dc0_P : P64 FP.dconst0 := by unfold P64; decide
theorem mst_s (s : Nat → Int32) (st : Nat → UInt32) (p : Nat) : mst s st (p + 1) = FP.dadd (mst s st p) (if pl s p 0 = -1 then FP.dconst0 else FP.f2d (st p)) := rfl
set_option maxRecDepth 100000

set_option maxHeartbeats 1000000 in
set_option maxRecDepth 100000 in
theorem t_meanStress (l : Launch) (V : gh_V) (o : Nat) (ad : Nat → Nat) (I : Nat → Int32) (A : Nat → Nat → Int32) (F : Nat → Nat → UInt32) (g0 : gh_G) (hP : tw_P V g0 o ad I A F) (hpos : posS (F 0)) : MD l yX3_meanStress cX3_meanStress 5 (some .double) ({ frames := 2, cells := 0, slots := 0, locals := 43 } : Room) V [.ref o] g0 (fun r g1 => r = meanN (A 0) (F 0) 24 ∧ tw_W V g0 g1 o ad (va_up I 3 0) A F) := by
  refine MG.of RX3 (by decide) rfl (Nat.le_of_ble_eq_true rfl) (fun pp ee s mm args below meth c ls hC hg hr hlk hnm hl => ?_)
  have hx := hC.1.1
  have hb := hC.1.2.1
  have hml := hC.1.2.2.1
  have hown := hC.1.2.2.2.1
  have hts := hC.1.2.2.2.2
  have hl : lv_has ls 5 [(0, .ref o)] := hl
  have hT := hP.W
  obtain ⟨N9, hN9⟩ : ∃ N, N = 24 := ⟨24, rfl⟩
  refine lv_aload_n hx hb dX3_meanStress_0 rfl (lv_at hl 0 rfl) ?_
  refine lv_iconst (v := 0) hx hb dX3_meanStress_1 (by decide) ?_
  refine gh_put (v := .int 0) hC hg hT.1.1 fX3_54_0 rfl rfl (Nat.le_of_ble_eq_true rfl) dX3_meanStress_2 (fun g H locs hg hw hn => ?_)
  have hT : tw_W V g0 g o ad (va_up I 3 0) A F := hT.putI 3 0 hw hn
  refine lv_dconst0 hx hb dX3_meanStress_5 ?_
  refine lv_dstore_n (lv' := [(1, .double FP.dconst0), (0, .ref o)]) hx hb dX3_meanStress_6 rfl hl (by decide) rfl (fun ls hl => ?_)
  refine lv_iconst (v := 0) hx hb dX3_meanStress_7 (by decide) ?_
  refine lv_istore_n (lv' := [(3, .int 0), (1, .double FP.dconst0), (0, .ref o)]) hx hb dX3_meanStress_8 rfl hl (by decide) rfl (fun ls hl => ?_)
  refine lv_iconst (v := 0) hx hb dX3_meanStress_9 (by decide) ?_
  refine lv_istore (lv' := [(4, .int 0), (3, .int 0), (1, .double FP.dconst0), (0, .ref o)]) hx hb dX3_meanStress_10 hl (by decide) rfl (fun ls hl => ?_)
  refine gh_loop (N := N9) (X := fun i_1 g ls => tw_W V g0 g o ad (va_up I 3 0) A F ∧ lv_has ls 5 [(0, .ref o), (1, .double (mst (A 0) (F 0) i_1)), (3, .int (nI (cnP (A 0) i_1))), (4, .int (nI i_1))]) ?_ ?_ 0 (by omega) hg ⟨hT, lv_sub hl [3, 2, 1, 0] rfl⟩
  · intro g H locs ls hg hX
    obtain ⟨hT, hl⟩ := hX
    have hc9 := cnP_le (A 0) N9
    refine lv_iload hx hb dX3_meanStress_12 (lv_at hl 3 rfl) ?_
    refine lv_bipush (v := 24) hx hb dX3_meanStress_14 (by decide) ?_
    refine lv_icmp_ge (tgt := 66) hx hb dX3_meanStress_16 (by decide) (fun _ => ?_) (fun c_2 => (absurd (by rw [hN9]; decide) c_2))
    refine lv_iload_n hx hb dX3_meanStress_66 rfl (lv_at hl 2 rfl) ?_
    refine lv_if_ne (tgt := 74) hx hb dX3_meanStress_67 (by decide) (fun c_3 => ?_) (fun c_3 => ?_)
    · skip
      have c_3 : ¬ (cnP (A 0) N9) = 0 := fun h9 => c_3 ((nx_eq rfl (show ((0 : Int32)) = nI 0 from rfl) (by omega) (by omega)).mpr h9)
      refine lv_dload_n hx hb dX3_meanStress_74 rfl (lv_at hl 1 rfl) ?_
      refine lv_iload_n hx hb dX3_meanStress_75 rfl (lv_at hl 2 rfl) ?_
      refine lv_i2d hx hb dX3_meanStress_76 ?_
      refine lv_ddiv hx hb dX3_meanStress_77 (ddiv_P (mst_P hpos N9 (by omega)) (by omega) (by have := cnP_le (A 0) N9; omega)).n ?_
      exact gh_retd hC hg hr hlk (⟨by rw [← hN9]; unfold meanN; rw [if_neg c_3], hT⟩) dX3_meanStress_78 (Nat.le_of_ble_eq_true rfl) (Nat.le_of_ble_eq_true rfl)
    have c_3 : (cnP (A 0) N9) = 0 := (nx_eq rfl (show ((0 : Int32)) = nI 0 from rfl) (by omega) (by omega)).mp c_3
    refine lv_dconst0 hx hb dX3_meanStress_70 ?_
    refine lv_goto (tgt := 78) hx hb dX3_meanStress_71 (by decide) ?_
    exact gh_retd hC hg hr hlk (⟨by rw [← hN9]; unfold meanN; rw [if_pos c_3], hT⟩) dX3_meanStress_78 (Nat.le_of_ble_eq_true rfl) (Nat.le_of_ble_eq_true rfl)
  · intro i_1 h_4 ih12 g H locs ls hg hX
    obtain ⟨hT, hl⟩ := hX
    refine lv_iload hx hb dX3_meanStress_12 (lv_at hl 3 rfl) ?_
    have hi24 : i_1 < 24 := by omega
    have hP9 := mst_P (s := A 0) hpos i_1 (by omega)
    have hc9 := cnP_le (A 0) i_1
    refine lv_bipush (v := 24) hx hb dX3_meanStress_14 (by decide) ?_
    refine lv_icmp_ge (tgt := 66) hx hb dX3_meanStress_16 (by decide) (fun c_5 => (absurd ((nx_le (show ((24 : Int32)) = nI 24 from rfl) rfl (by omega) (by omega)).mp c_5) (by omega))) (fun _ => ?_)
    refine lv_dload_n hx hb dX3_meanStress_19 rfl (lv_at hl 1 rfl) ?_
    refine lv_aload_n hx hb dX3_meanStress_20 rfl (lv_at hl 0 rfl) ?_
    refine lv_iload hx hb dX3_meanStress_21 (lv_at hl 3 rfl) ?_
    refine gh_calli hg (gh_runV (As := [.int (nI i_1)]) (rest := [.double (mst (A 0) (F 0) i_1)]) hC hg (t_isPiece l V o ad (va_up I 3 0) A F _ hT.1 (nI i_1) i_1 rfl (by omega)) 1 (lw_V q3960 q3962 qs64 q138 q3963) hT.1.1 rfl hd_X3_isPiece ⟨Nat.le_of_ble_eq_true rfl, Nat.le_of_ble_eq_true rfl⟩ rfl hl.1 rfl (Nat.le_of_ble_eq_true rfl) dX3_meanStress_23 ⟨Nat.le_of_ble_eq_true rfl, Nat.le_of_ble_eq_true rfl⟩) (fun r_6 g H locs hg hp => ?_)
    replace hp : r_6 = (if ¬ pl (A 0) i_1 0 = -1 then 1 else 0) ∧ g = _ := hp
    by_cases pc_7 : ¬ pl (A 0) i_1 0 = -1
    · rw [if_pos pc_7] at hp
      obtain ⟨rfl, hq⟩ := hp
      rw [hq] at hg
      refine lv_if_eq (tgt := 40) hx hb dX3_meanStress_26 (by decide) (fun c_8 => (absurd ((nx_eq (show ((1 : Int32)) = nI 1 from rfl) (show ((0 : Int32)) = nI 0 from rfl) (by omega) (by omega)).mp c_8) (by omega))) (fun _ => ?_)
      refine lv_aload_n hx hb dX3_meanStress_29 rfl (lv_at hl 0 rfl) ?_
      refine gh_get (v := .ref (ad 8)) hC hg hT.1.1 fX3_13_0 rfl dX3_meanStress_30 ?_
      refine lv_iload hx hb dX3_meanStress_33 (lv_at hl 3 rfl) ?_
      refine gh_fald (n := 24) (f := (F 0)) hC hg (hT.1.2.2 0 (by decide)) rfl (by omega) (by omega) dX3_meanStress_35 ?_
      refine lv_f2d hx hb dX3_meanStress_36 (f2d_P (hpos i_1 hi24)).n ?_
      refine lv_goto (tgt := 41) hx hb dX3_meanStress_37 (by decide) ?_
      refine lv_dadd hx hb dX3_meanStress_41 (dadd_P hP9 (f2d_P (hpos i_1 hi24))).n ?_
      refine lv_dstore_n (lv' := [(1, .double (FP.dadd (mst (A 0) (F 0) i_1) (FP.f2d ((F 0) i_1)))), (0, .ref o), (3, .int (nI (cnP (A 0) i_1))), (4, .int (nI i_1))]) hx hb dX3_meanStress_42 rfl hl (by decide) rfl (fun ls hl => ?_)
      refine lv_iload_n hx hb dX3_meanStress_43 rfl (lv_at hl 2 rfl) ?_
      refine lv_aload_n hx hb dX3_meanStress_44 rfl (lv_at hl 1 rfl) ?_
      refine lv_iload hx hb dX3_meanStress_45 (lv_at hl 3 rfl) ?_
      refine gh_calli hg (gh_runV (As := [.int (nI i_1)]) (rest := [.int (nI (cnP (A 0) i_1))]) hC hg (t_isPiece l V o ad (va_up I 3 0) A F _ hT.1 (nI i_1) i_1 rfl (by omega)) 1 (lw_V q3960 q3962 qs64 q138 q3963) hT.1.1 rfl hd_X3_isPiece ⟨Nat.le_of_ble_eq_true rfl, Nat.le_of_ble_eq_true rfl⟩ rfl hl.1 rfl (Nat.le_of_ble_eq_true rfl) dX3_meanStress_47 ⟨Nat.le_of_ble_eq_true rfl, Nat.le_of_ble_eq_true rfl⟩) (fun r_9 g H locs hg hp => ?_)
      replace hp : r_9 = (if ¬ pl (A 0) i_1 0 = -1 then 1 else 0) ∧ g = _ := hp
      rw [if_pos pc_7] at hp
      obtain ⟨rfl, hq⟩ := hp
      rw [hq] at hg
      refine lv_if_eq (tgt := 57) hx hb dX3_meanStress_50 (by decide) (fun c_11 => (absurd ((nx_eq (show ((1 : Int32)) = nI 1 from rfl) (show ((0 : Int32)) = nI 0 from rfl) (by omega) (by omega)).mp c_11) (by omega))) (fun _ => ?_)
      refine lv_iconst (v := 1) hx hb dX3_meanStress_53 (by decide) ?_
      refine lv_goto (tgt := 58) hx hb dX3_meanStress_54 (by decide) ?_
      refine lv_iadd hx hb dX3_meanStress_58 ?_
      refine lv_istore_n (lv' := [(3, .int ((nI (cnP (A 0) i_1)) + 1)), (1, .double (FP.dadd (mst (A 0) (F 0) i_1) (FP.f2d ((F 0) i_1)))), (0, .ref o), (4, .int (nI i_1))]) hx hb dX3_meanStress_59 rfl hl (by decide) rfl (fun ls hl => ?_)
      refine lv_iinc (v := (nI (i_1 + 1))) (lv' := [(4, .int (nI (i_1 + 1))), (3, .int ((nI (cnP (A 0) i_1)) + 1)), (1, .double (FP.dadd (mst (A 0) (F 0) i_1) (FP.f2d ((F 0) i_1)))), (0, .ref o)]) hx hb dX3_meanStress_60 hl (k := 3) rfl (nx_iinc rfl) (by decide) rfl (fun ls hl => ?_)
      refine lv_goto (tgt := 12) hx hb dX3_meanStress_63 (by decide) ?_
      exact ih12 _ _ _ _ hg ⟨hT, (by rw [show mst (A 0) (F 0) (i_1 + 1) = (FP.dadd (mst (A 0) (F 0) i_1) (FP.f2d ((F 0) i_1))) from by rw [mst_s, if_neg pc_7], show nI (cnP (A 0) (i_1 + 1)) = ((nI (cnP (A 0) i_1)) + 1) from by show nI (cnP (A 0) i_1 + (if pl (A 0) i_1 0 = -1 then 0 else 1)) = _; rw [if_neg pc_7] <;> exact (nx_add rfl rfl).symm]; exact lv_sub hl [3, 2, 1, 0] rfl)⟩
    rw [if_neg pc_7] at hp
    obtain ⟨rfl, hq⟩ := hp
    rw [hq] at hg
    have pc_7 := Decidable.not_not.mp pc_7
    refine lv_if_eq (tgt := 40) hx hb dX3_meanStress_26 (by decide) (fun _ => ?_) (fun c_12 => (absurd ((nx_eq (show ((0 : Int32)) = nI 0 from rfl) (show ((0 : Int32)) = nI 0 from rfl) (by omega) (by omega)).mpr (by omega)) c_12))
    refine lv_dconst0 hx hb dX3_meanStress_40 ?_
    refine lv_dadd hx hb dX3_meanStress_41 (dadd_P hP9 dc0_P).n ?_
    refine lv_dstore_n (lv' := [(1, .double (FP.dadd (mst (A 0) (F 0) i_1) FP.dconst0)), (0, .ref o), (3, .int (nI (cnP (A 0) i_1))), (4, .int (nI i_1))]) hx hb dX3_meanStress_42 rfl hl (by decide) rfl (fun ls hl => ?_)
    refine lv_iload_n hx hb dX3_meanStress_43 rfl (lv_at hl 2 rfl) ?_
    refine lv_aload_n hx hb dX3_meanStress_44 rfl (lv_at hl 1 rfl) ?_
    refine lv_iload hx hb dX3_meanStress_45 (lv_at hl 3 rfl) ?_
    refine gh_calli hg (gh_runV (As := [.int (nI i_1)]) (rest := [.int (nI (cnP (A 0) i_1))]) hC hg (t_isPiece l V o ad (va_up I 3 0) A F _ hT.1 (nI i_1) i_1 rfl (by omega)) 1 (lw_V q3960 q3962 qs64 q138 q3963) hT.1.1 rfl hd_X3_isPiece ⟨Nat.le_of_ble_eq_true rfl, Nat.le_of_ble_eq_true rfl⟩ rfl hl.1 rfl (Nat.le_of_ble_eq_true rfl) dX3_meanStress_47 ⟨Nat.le_of_ble_eq_true rfl, Nat.le_of_ble_eq_true rfl⟩) (fun r_13 g H locs hg hp => ?_)
    replace hp : r_13 = (if ¬ pl (A 0) i_1 0 = -1 then 1 else 0) ∧ g = _ := hp
    rw [if_neg (not_not_intro pc_7)] at hp
    obtain ⟨rfl, hq⟩ := hp
    rw [hq] at hg
    refine lv_if_eq (tgt := 57) hx hb dX3_meanStress_50 (by decide) (fun _ => ?_) (fun c_15 => (absurd ((nx_eq (show ((0 : Int32)) = nI 0 from rfl) (show ((0 : Int32)) = nI 0 from rfl) (by omega) (by omega)).mpr (by omega)) c_15))
    refine lv_iconst (v := 0) hx hb dX3_meanStress_57 (by decide) ?_
    refine lv_iadd hx hb dX3_meanStress_58 ?_
    refine lv_istore_n (lv' := [(3, .int ((nI (cnP (A 0) i_1)) + 0)), (1, .double (FP.dadd (mst (A 0) (F 0) i_1) FP.dconst0)), (0, .ref o), (4, .int (nI i_1))]) hx hb dX3_meanStress_59 rfl hl (by decide) rfl (fun ls hl => ?_)
    refine lv_iinc (v := (nI (i_1 + 1))) (lv' := [(4, .int (nI (i_1 + 1))), (3, .int ((nI (cnP (A 0) i_1)) + 0)), (1, .double (FP.dadd (mst (A 0) (F 0) i_1) FP.dconst0)), (0, .ref o)]) hx hb dX3_meanStress_60 hl (k := 3) rfl (nx_iinc rfl) (by decide) rfl (fun ls hl => ?_)
    refine lv_goto (tgt := 12) hx hb dX3_meanStress_63 (by decide) ?_
    exact ih12 _ _ _ _ hg ⟨hT, (by rw [show mst (A 0) (F 0) (i_1 + 1) = (FP.dadd (mst (A 0) (F 0) i_1) FP.dconst0) from by rw [mst_s, if_pos pc_7], show nI (cnP (A 0) (i_1 + 1)) = ((nI (cnP (A 0) i_1)) + 0) from by show nI (cnP (A 0) i_1 + (if pl (A 0) i_1 0 = -1 then 0 else 1)) = _; rw [if_pos pc_7] <;> exact (nx_add rfl rfl).symm]; exact lv_sub hl [3, 2, 1, 0] rfl)⟩
