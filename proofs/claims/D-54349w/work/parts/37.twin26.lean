/-! doubles that are whole numbers times a power of two, exactly -/
theorem fg_rt {C : Nat} {Q : Int} (h1 : 4503599627370496 ≤ C) (h2 : C < 9007199254740992) (h3 : -1074 ≤ Q) (h4 : Q ≤ 971) : FP.Core.decode FP.Core.b64 (UInt64.ofNat (FP.Core.encode FP.Core.b64 (.fin false C Q))).toNat = .fin false C Q := by
  obtain ⟨k, rfl⟩ : ∃ k : Nat, Q = -1074 + (k : Int) := ⟨(Q + 1074).toNat, by omega⟩
  obtain ⟨t, rfl⟩ : ∃ t, C = 4503599627370496 + t := ⟨C - 4503599627370496, by omega⟩
  have e : (FP.Core.encode FP.Core.b64 (.fin false (4503599627370496 + t) (-1074 + (k : Int)))) = (k + 1) * 4503599627370496 + t := by
    rw [fg_enc, if_neg (by omega)]
    show (0 * 2048 + ((-1074 + (k : Int) - (-1074)).toNat + 1)) * 4503599627370496 + (4503599627370496 + t - 4503599627370496) = _
    omega
  rw [e, UInt64.toNat_ofNat', Nat.mod_eq_of_lt (by omega), fg_dec, if_neg (by omega), if_neg (by omega)]
  have e1 : (((k + 1) * 4503599627370496 + t) / 4503599627370496 / 2048 % 2 == 1) = false := by
    rw [show ((k + 1) * 4503599627370496 + t) / 4503599627370496 / 2048 % 2 = 0 by omega]; rfl
  rw [e1, show ((k + 1) * 4503599627370496 + t) % 4503599627370496 = t by omega, show ((k + 1) * 4503599627370496 + t) / 4503599627370496 % 2048 = k + 1 by omega]
  rw [show -1074 + (((k + 1 : Nat) : Int) - 1) = -1074 + (k : Int) by omega]
theorem fg_near {n d : Nat} (hd : 0 < d) : FP.Core.nearest (n * d) d = n := by
  unfold FP.Core.nearest
  rw [Nat.mul_mod_left, if_pos (by omega), Nat.mul_div_cancel _ hd]
theorem fg_lead {n j : Nat} (hn : 0 < n) : FP.Core.leading n (2 ^ j) = (n.log2 : Int) - j := by
  unfold FP.Core.leading
  have h := Nat.log2_self_le (n := n) (by omega)
  show (if 2 ^ j * 2 ^ ((n.log2 : Int) - ((2 ^ j).log2 : Int)).toNat ≤ n * 2 ^ (-((n.log2 : Int) - ((2 ^ j).log2 : Int))).toNat then ((n.log2 : Int) - ((2 ^ j).log2 : Int)) else ((n.log2 : Int) - ((2 ^ j).log2 : Int)) - 1) = _
  rw [Nat.log2_two_pow]
  refine if_pos ?_
  rw [← Nat.pow_add]
  by_cases hj : j ≤ n.log2
  · rw [show j + ((n.log2 : Int) - (j : Int)).toNat = n.log2 by omega, show (-((n.log2 : Int) - (j : Int))).toNat = 0 by omega]
    omega
  · rw [show j + ((n.log2 : Int) - (j : Int)).toNat = n.log2 + (j - n.log2) by omega, show (-((n.log2 : Int) - (j : Int))).toNat = j - n.log2 by omega, Nat.pow_add]
    exact Nat.mul_le_mul_right _ h
theorem fg_rr2 {n j : Nat} {E : Int} {C : Nat} {Q : Int} (hn : 0 < n) (hQ : Q = (n.log2 : Int) - j + E - 52) (h1 : -1074 ≤ Q) (h2 : Q ≤ 971) (hC : n * 2 ^ (E - Q).toNat = C * (2 ^ j * 2 ^ (Q - E).toNat)) (hC2 : C < 9007199254740992) : FP.Core.roundRatio FP.Core.b64 false n (2 ^ j) E = .fin false C Q := by
  unfold FP.Core.roundRatio
  rw [if_neg (by omega)]
  have hq : FP.Core.quantum FP.Core.b64 n (2 ^ j) E = Q := by
    show max (-1074 : Int) (FP.Core.leading n (2 ^ j) + E - (53 - 1)) = Q
    rw [fg_lead hn]
    omega
  rw [hq]
  unfold FP.Core.roundAt
  have hu : FP.Core.unitsNum n E Q = C * FP.Core.unitsDen (2 ^ j) E Q := hC
  have hd : 0 < FP.Core.unitsDen (2 ^ j) E Q := Nat.mul_pos (Nat.two_pow_pos _) (Nat.two_pow_pos _)
  rw [hu, fg_near hd]
  unfold FP.Core.settle
  rw [if_pos (show C < 2 ^ FP.Core.b64.p from hC2)]
  exact if_pos h2
theorem log2_of {n k : Nat} (h1 : 2 ^ k ≤ n) (h2 : n < 2 ^ (k + 1)) : n.log2 = k := by
  have h0 : n ≠ 0 := by have := Nat.two_pow_pos k; omega
  have a := (Nat.le_log2 h0).mpr h1
  have b := (Nat.log2_lt h0).mpr h2
  omega
/-- R * 2^e as a double -/
def dyD (R : Nat) (e : Int) : FP.Core.Datum := if R = 0 then .fin false 0 (-1074) else .fin false (R * 2 ^ (52 - R.log2)) (e - ((52 - R.log2 : Nat) : Int))
def dy (R : Nat) (e : Int) : UInt64 := UInt64.ofNat (FP.Core.encode FP.Core.b64 (dyD R e))
theorem dy_C {R : Nat} (h0 : 0 < R) (h : R < 9007199254740992) : R.log2 ≤ 52 ∧ 4503599627370496 ≤ R * 2 ^ (52 - R.log2) ∧ R * 2 ^ (52 - R.log2) < 9007199254740992 := by
  have h1 : R.log2 < 53 := fc_log h (by omega)
  have h2 := Nat.log2_self_le (n := R) (by omega)
  have h3 : R < 2 ^ (R.log2 + 1) := Nat.lt_log2_self
  refine ⟨by omega, ?_, ?_⟩
  · have := Nat.mul_le_mul_right (2 ^ (52 - R.log2)) h2
    rw [← Nat.pow_add, show R.log2 + (52 - R.log2) = 52 by omega] at this
    exact this
  · have := Nat.mul_lt_mul_of_pos_right h3 (Nat.two_pow_pos (52 - R.log2))
    rw [← Nat.pow_add, show R.log2 + 1 + (52 - R.log2) = 53 by omega] at this
    exact this
theorem dy_dec {R : Nat} {e : Int} (h0 : 0 < R) (h : R < 9007199254740992) (h1 : -1000 ≤ e) (h2 : e ≤ 900) : FP.Core.decode FP.Core.b64 (dy R e).toNat = .fin false (R * 2 ^ (52 - R.log2)) (e - ((52 - R.log2 : Nat) : Int)) := by
  obtain ⟨a, b, c⟩ := dy_C h0 h
  unfold dy dyD
  rw [if_neg (by omega)]
  exact fg_rt b c (by omega) (by omega)
theorem dy_f2d {x : UInt32} {c : Nat} {q : Int} (h : FP.Core.decode FP.Core.b32 x.toNat = .fin false c q) (h0 : 0 < c) (hc : c < 16777216) (h1 : -149 ≤ q) (h2 : q ≤ 104) : FP.f2d x = dy c q := by
  rw [fg_f2d x (by rw [h]; exact fun e => by cases e), h]
  obtain ⟨a, b, d⟩ := dy_C h0 (by omega)
  unfold dy dyD
  rw [if_neg (by omega)]
  have e1 : FP.Core.round FP.Core.b64 (.fin false c q) = FP.Core.roundRatio FP.Core.b64 false c (2 ^ 0) q := rfl
  rw [e1, fg_rr2 (C := c * 2 ^ (52 - c.log2)) (Q := q - ((52 - c.log2 : Nat) : Int)) h0 (by omega) (by omega) (by omega) (by
    rw [show (q - (q - ((52 - c.log2 : Nat) : Int))).toNat = 52 - c.log2 by omega, show (q - ((52 - c.log2 : Nat) : Int) - q).toNat = 0 by omega, Nat.pow_zero, Nat.mul_one]) d]
theorem fg_2 : FP.Core.decode FP.Core.b64 (4611686018427387904 : UInt64).toNat = .fin false 4503599627370496 (-51) := by decide +kernel
theorem fg_1 : FP.Core.decode FP.Core.b64 (FP.dconst1).toNat = .fin false 4503599627370496 (-52) := by decide +kernel
theorem fg_mul (x y : UInt64) : FP.dmul x y = UInt64.ofNat (FP.Core.encode FP.Core.b64 (FP.Core.round FP.Core.b64 (FP.Core.exactProduct (FP.Core.decode FP.Core.b64 x.toNat) (FP.Core.decode FP.Core.b64 y.toNat)))) := rfl
theorem fg_sub (x y : UInt64) : FP.dsub x y = UInt64.ofNat (FP.Core.encode FP.Core.b64 (FP.Core.round FP.Core.b64 (FP.Core.exactSum (FP.Core.decode FP.Core.b64 x.toNat) (FP.Core.negate (FP.Core.decode FP.Core.b64 y.toNat))))) := rfl
theorem fg_quo {c d : Nat} {q r : Int} (h : d ≠ 0) : FP.Core.quotient FP.Core.b64 (.fin false c q) (.fin false d r) = FP.Core.roundRatio FP.Core.b64 false c d (q - r) := if_neg h
theorem dy_half {R : Nat} {e : Int} (h0 : 0 < R) (h : R < 9007199254740992) (h1 : -900 ≤ e) (h2 : e ≤ 900) : FP.ddiv (dy R e) 4611686018427387904 = dy R (e - 1) := by
  obtain ⟨a, b, d⟩ := dy_C h0 h
  rw [fg_div, dy_dec h0 h (by omega) h2, fg_2]
  have hl : (R * 2 ^ (52 - R.log2)).log2 = 52 := log2_of b d
  have e2 : (4503599627370496 : Nat) = 2 ^ 52 := by decide
  rw [fg_quo (by decide), e2, fg_rr2 (C := R * 2 ^ (52 - R.log2)) (Q := e - 1 - ((52 - R.log2 : Nat) : Int)) (by omega) (by rw [hl]; omega) (by omega) (by omega) (by
    rw [show (e - ((52 - R.log2 : Nat) : Int) - (-51) - (e - 1 - ((52 - R.log2 : Nat) : Int))).toNat = 52 by omega, show (e - 1 - ((52 - R.log2 : Nat) : Int) - (e - ((52 - R.log2 : Nat) : Int) - (-51))).toNat = 0 by omega, Nat.pow_zero, Nat.mul_one]) d]
  unfold dy dyD
  rw [if_neg (by omega)]
theorem dy_dbl {R : Nat} {e : Int} (h0 : 0 < R) (h : R < 9007199254740992) (h1 : -900 ≤ e) (h2 : e ≤ 900) : FP.dmul (dy R e) 4611686018427387904 = dy R (e + 1) := by
  obtain ⟨a, b, d⟩ := dy_C h0 h
  rw [fg_mul, dy_dec h0 h (by omega) h2, fg_2]
  have hl : (R * 2 ^ (52 - R.log2) * 4503599627370496).log2 = 104 := log2_of (by omega) (by omega)
  have e1 : FP.Core.round FP.Core.b64 (FP.Core.exactProduct (.fin false (R * 2 ^ (52 - R.log2)) (e - ((52 - R.log2 : Nat) : Int))) (.fin false 4503599627370496 (-51))) = FP.Core.roundRatio FP.Core.b64 false (R * 2 ^ (52 - R.log2) * 4503599627370496) (2 ^ 0) (e - ((52 - R.log2 : Nat) : Int) + (-51)) := rfl
  rw [e1, fg_rr2 (C := R * 2 ^ (52 - R.log2)) (Q := e + 1 - ((52 - R.log2 : Nat) : Int)) (by omega) (by rw [hl]; omega) (by omega) (by omega) (by
    rw [show (e - ((52 - R.log2 : Nat) : Int) + (-51) - (e + 1 - ((52 - R.log2 : Nat) : Int))).toNat = 0 by omega, show (e + 1 - ((52 - R.log2 : Nat) : Int) - (e - ((52 - R.log2 : Nat) : Int) + (-51))).toNat = 52 by omega, Nat.pow_zero, Nat.mul_one, Nat.one_mul]) d]
  unfold dy dyD
  rw [if_neg (by omega)]
theorem fg_sgn2 {v : Int} (h : 0 ≤ v) : FP.Core.sumSign false true v = false := by
  unfold FP.Core.sumSign
  split
  · rfl
  · exact decide_eq_false (by omega)
theorem log2_mul {r k : Nat} (h : 0 < r) : (r * 2 ^ k).log2 = r.log2 + k := by
  have h2 := Nat.log2_self_le (n := r) (by omega)
  have h3 : r < 2 ^ (r.log2 + 1) := Nat.lt_log2_self
  refine log2_of ?_ ?_
  · rw [Nat.pow_add]; exact Nat.mul_le_mul_right _ h2
  · rw [show r.log2 + k + 1 = r.log2 + 1 + k by omega, Nat.pow_add]; exact Nat.mul_lt_mul_of_pos_right h3 (Nat.two_pow_pos _)
theorem dy_sub1 {R : Nat} (h1 : 8388608 ≤ R) (h2 : R < 16777216) : FP.dsub (dy R (-23)) FP.dconst1 = dy (R - 8388608) (-23) := by
  have hl : R.log2 = 23 := log2_of h1 h2
  rw [fg_sub, dy_dec (by omega) (by omega) (by omega) (by omega), fg_1, hl]
  have e0 : (-23 : Int) - ((52 - 23 : Nat) : Int) = -52 := by decide
  have e9 : R * 2 ^ (52 - 23) = R * 536870912 := rfl
  rw [e0, e9]
  have hv : FP.Core.sumUnits false (R * 536870912) (-52) true 4503599627370496 (-52) (-52) = (((R - 8388608) * 536870912 : Nat) : Int) := by
    have a1 : FP.Core.sumUnits false (R * 536870912) (-52) true 4503599627370496 (-52) (-52) = ((R * 536870912 * 1 : Nat) : Int) + -((4503599627370496 * 1 : Nat) : Int) := rfl
    rw [a1]; omega
  have e1 : FP.Core.exactSum (.fin false (R * 536870912) (-52)) (FP.Core.negate (.fin false 4503599627370496 (-52))) = .fin (FP.Core.sumSign false true (FP.Core.sumUnits false (R * 536870912) (-52) true 4503599627370496 (-52) (-52))) (FP.Core.sumUnits false (R * 536870912) (-52) true 4503599627370496 (-52) (-52)).natAbs (-52) := rfl
  rw [e1, hv, fg_sgn2 (by omega), Int.natAbs_natCast]
  have e3 : FP.Core.round FP.Core.b64 (.fin false ((R - 8388608) * 536870912) (-52)) = FP.Core.roundRatio FP.Core.b64 false ((R - 8388608) * 536870912) (2 ^ 0) (-52) := rfl
  rw [e3]
  generalize hr : R - 8388608 = r
  unfold dy dyD
  by_cases h0 : r = 0
  · subst h0
    rw [if_pos rfl]
    unfold FP.Core.roundRatio
    rw [if_pos (Nat.zero_mul _)]
    rfl
  · rw [if_neg h0]
    obtain ⟨a, b, d⟩ := dy_C (R := r) (by omega) (by omega)
    have ha : r.log2 < 23 := fc_log (by omega) (by omega)
    have hm : (r * 536870912).log2 = r.log2 + 29 := log2_mul (k := 29) (by omega)
    rw [fg_rr2 (C := r * 2 ^ (52 - r.log2)) (Q := -23 - ((52 - r.log2 : Nat) : Int)) (by omega) (by rw [hm]; omega) (by omega) (by omega) (by
      rw [show (-52 - (-23 - ((52 - r.log2 : Nat) : Int))).toNat = 23 - r.log2 by omega, show (-23 - ((52 - r.log2 : Nat) : Int) - -52).toNat = 0 by omega, Nat.pow_zero, Nat.mul_one, Nat.mul_assoc, show (536870912 : Nat) = 2 ^ 29 by decide, ← Nat.pow_add, show 29 + (23 - r.log2) = 52 - r.log2 by omega]) d]
theorem int_lt {x y : Int} : compare x y = Ordering.lt ↔ x < y := by
  show compareOfLessAndEq x y = Ordering.lt ↔ x < y
  unfold compareOfLessAndEq
  by_cases h : x < y
  · rw [if_pos h]; exact ⟨fun _ => h, fun _ => rfl⟩
  · rw [if_neg h]
    refine ⟨fun e => ?_, fun e => absurd e h⟩
    split at e <;> cases e
theorem fg_ord {c d : Nat} {q r : Int} : FP.Core.order (.fin false c q) (.fin false d r) = some .lt ↔ c * 2 ^ (q - min q r).toNat < d * 2 ^ (r - min q r).toNat := by
  have e : FP.Core.order (.fin false c q) (.fin false d r) = some (compare ((c * 2 ^ (q - min q r).toNat : Nat) : Int) ((d * 2 ^ (r - min q r).toNat : Nat) : Int)) := rfl
  rw [e]
  constructor
  · intro h
    have h := int_lt.mp (Option.some.inj h)
    omega
  · intro h
    exact congrArg some (int_lt.mpr (by omega))
/-- R * 2^e is below 2^m -/
theorem dy_ord {R : Nat} {e m : Int} (h0 : 0 < R) (h : R < 9007199254740992) : FP.Core.order (.fin false (R * 2 ^ (52 - R.log2)) (e - ((52 - R.log2 : Nat) : Int))) (.fin false 4503599627370496 (m - 52)) = some .lt ↔ (R.log2 : Int) + e < m := by
  obtain ⟨a, b, d⟩ := dy_C h0 h
  rw [fg_ord]
  generalize hC : R * 2 ^ (52 - R.log2) = C at b d ⊢
  by_cases hlt : (R.log2 : Int) + e < m
  · refine ⟨fun _ => hlt, fun _ => ?_⟩
    have e1 : ((e - ((52 - R.log2 : Nat) : Int)) - min (e - ((52 - R.log2 : Nat) : Int)) (m - 52)).toNat = 0 := by omega
    obtain ⟨k, hk⟩ : ∃ k, ((m - 52) - min (e - ((52 - R.log2 : Nat) : Int)) (m - 52)).toNat = k + 1 := ⟨((m - 52) - min (e - ((52 - R.log2 : Nat) : Int)) (m - 52)).toNat - 1, by omega⟩
    rw [e1, hk, Nat.pow_zero, Nat.mul_one, Nat.pow_succ]
    have := Nat.two_pow_pos k
    omega
  · refine ⟨fun h9 => ?_, fun h9 => absurd h9 hlt⟩
    exfalso
    have e1 : ((m - 52) - min (e - ((52 - R.log2 : Nat) : Int)) (m - 52)).toNat = 0 := by omega
    rw [e1, Nat.pow_zero, Nat.mul_one] at h9
    have h8 := Nat.le_mul_of_pos_right C (Nat.two_pow_pos ((e - ((52 - R.log2 : Nat) : Int)) - min (e - ((52 - R.log2 : Nat) : Int)) (m - 52)).toNat)
    omega
theorem fg_cmp (x y : UInt64) : FP.dcmp x y = FP.Core.order (FP.Core.decode FP.Core.b64 x.toNat) (FP.Core.decode FP.Core.b64 y.toNat) := rfl
theorem dy_lt1 {R : Nat} {e : Int} (h0 : 0 < R) (h : R < 9007199254740992) (h1 : -1000 ≤ e) (h2 : e ≤ 900) : FP.dcmp (dy R e) FP.dconst1 = some .lt ↔ (R.log2 : Int) + e < 0 := by
  rw [fg_cmp, dy_dec h0 h h1 h2, fg_1]
  exact dy_ord (m := 0) h0 h
theorem dy_lt2 {R : Nat} {e : Int} (h0 : 0 < R) (h : R < 9007199254740992) (h1 : -1000 ≤ e) (h2 : e ≤ 900) : FP.dcmp (dy R e) 4611686018427387904 = some .lt ↔ (R.log2 : Int) + e < 1 := by
  rw [fg_cmp, dy_dec h0 h h1 h2, fg_2]
  exact dy_ord (m := 1) h0 h
theorem dy_2R {R : Nat} {e : Int} (h0 : 0 < R) (h : R < 4503599627370496) : dy (2 * R) e = dy R (e + 1) := by
  have hl : (2 * R).log2 = R.log2 + 1 := by
    have := log2_mul (k := 1) h0
    rw [Nat.pow_one, Nat.mul_comm] at this
    exact this
  have ha : R.log2 < 52 := fc_log h (by omega)
  unfold dy dyD
  rw [if_neg (by omega), if_neg (by omega), hl]
  have e1 : 2 * R * 2 ^ (52 - (R.log2 + 1)) = R * 2 ^ (52 - R.log2) := by
    rw [show 52 - R.log2 = (52 - (R.log2 + 1)) + 1 by omega, Nat.pow_succ, Nat.mul_comm 2 R, Nat.mul_assoc, Nat.mul_comm 2]
  have e2 : e - ((52 - (R.log2 + 1) : Nat) : Int) = e + 1 - ((52 - R.log2 : Nat) : Int) := by omega
  rw [e1, e2]
theorem dy_0 (e : Int) : dy 0 e = FP.dconst0 := by
  unfold dy dyD
  rw [if_pos rfl]
  decide +kernel
theorem fg_neg {o : Option Ordering} {op : CmpOp} (h : o ≠ none) : Op.cmpValue o op < 0 ↔ o = some .lt := by
  match o, h with
  | some .lt, _ => exact ⟨fun _ => rfl, fun _ => by show (-1 : Int32) < 0; decide⟩
  | some .eq, _ => exact ⟨fun h => absurd (show (0 : Int32) < 0 from h) (by decide), fun h => by cases h⟩
  | some .gt, _ => exact ⟨fun h => absurd (show (1 : Int32) < 0 from h) (by decide), fun h => by cases h⟩
theorem dy_some {R : Nat} {e : Int} {y : UInt64} {C : Nat} {Q : Int} (h0 : 0 < R) (h : R < 9007199254740992) (h1 : -1000 ≤ e) (h2 : e ≤ 900) (hy : FP.Core.decode FP.Core.b64 y.toNat = .fin false C Q) : FP.dcmp (dy R e) y ≠ none := by
  rw [fg_cmp, dy_dec h0 h h1 h2, hy]
  exact fun e => by cases e
theorem dz_lt1 : FP.dcmp FP.dconst0 FP.dconst1 = some .lt := by decide +kernel
theorem dz_mul : FP.dmul FP.dconst0 4611686018427387904 = FP.dconst0 := by decide +kernel
theorem dz_sub : FP.dsub FP.dconst0 FP.dconst0 = FP.dconst0 := by decide +kernel
theorem i2d_0 : FP.i2d 0 = FP.dconst0 := by decide +kernel
theorem i2d_1 : FP.i2d 1 = FP.dconst1 := by decide +kernel
theorem fg_0 : FP.Core.decode FP.Core.b64 (FP.dconst0).toNat = .fin false 0 (-1074) := by decide +kernel
theorem dy_sub0 {R : Nat} {e : Int} (h0 : 0 < R) (h : R < 9007199254740992) (h1 : -1000 ≤ e) (h2 : e ≤ 900) : FP.dsub (dy R e) FP.dconst0 = dy R e := by
  obtain ⟨a, b, d⟩ := dy_C h0 h
  rw [fg_sub, dy_dec h0 h h1 h2, fg_0]
  generalize hC : R * 2 ^ (52 - R.log2) = C at b d
  generalize hQ : e - ((52 - R.log2 : Nat) : Int) = Q
  have hm : min Q (-1074) = -1074 := by omega
  have e1 : FP.Core.exactSum (.fin false C Q) (FP.Core.negate (.fin false 0 (-1074))) = .fin (FP.Core.sumSign false true (FP.Core.sumUnits false C Q true 0 (-1074) (min Q (-1074)))) (FP.Core.sumUnits false C Q true 0 (-1074) (min Q (-1074))).natAbs (min Q (-1074)) := rfl
  have hv : FP.Core.sumUnits false C Q true 0 (-1074) (-1074) = ((C * 2 ^ (Q - (-1074)).toNat : Nat) : Int) := by
    have a1 : FP.Core.sumUnits false C Q true 0 (-1074) (-1074) = ((C * 2 ^ (Q - (-1074)).toNat : Nat) : Int) + -((0 * 1 : Nat) : Int) := rfl
    rw [a1]; omega
  rw [e1, hm, hv, fg_sgn2 (by omega), Int.natAbs_natCast]
  have e3 : ∀ n, FP.Core.round FP.Core.b64 (.fin false n (-1074)) = FP.Core.roundRatio FP.Core.b64 false n (2 ^ 0) (-1074) := fun _ => rfl
  have hl : C.log2 = 52 := log2_of b d
  rw [e3, fg_rr2 (C := C) (Q := Q) (Nat.mul_pos (by omega) (Nat.two_pow_pos _)) (by rw [log2_mul (by omega), hl]; omega) (by omega) (by omega) (by
    rw [show (-1074 - Q).toNat = 0 by omega, Nat.pow_zero, Nat.mul_one, Nat.one_mul]) d]
  unfold dy dyD
  rw [if_neg (by omega), hC, hQ]
theorem bo_ge2 {R : Nat} {e : Int} {op : CmpOp} (h0 : 0 < R) (h : R < 9007199254740992) (h1 : -1000 ≤ e) (h2 : e ≤ 900) (hm : 1 ≤ (R.log2 : Int) + e) : ¬ Op.cmpValue (FP.dcmp (dy R e) 4611686018427387904) op < 0 := by
  rw [fg_neg (dy_some h0 h h1 h2 fg_2), dy_lt2 h0 h h1 h2]; omega
theorem bo_lt2 {R : Nat} {e : Int} {op : CmpOp} (h0 : 0 < R) (h : R < 9007199254740992) (h1 : -1000 ≤ e) (h2 : e ≤ 900) (hm : (R.log2 : Int) + e < 1) : Op.cmpValue (FP.dcmp (dy R e) 4611686018427387904) op < 0 := by
  rw [fg_neg (dy_some h0 h h1 h2 fg_2), dy_lt2 h0 h h1 h2]; omega
theorem bo_ge1 {R : Nat} {e : Int} {op : CmpOp} (h0 : 0 < R) (h : R < 9007199254740992) (h1 : -1000 ≤ e) (h2 : e ≤ 900) (hm : 0 ≤ (R.log2 : Int) + e) : 0 ≤ Op.cmpValue (FP.dcmp (dy R e) FP.dconst1) op := by
  refine Int32.not_lt.mp ?_
  rw [fg_neg (dy_some h0 h h1 h2 fg_1), dy_lt1 h0 h h1 h2]; omega
theorem bo_lt1 {R : Nat} {e : Int} {op : CmpOp} (h0 : 0 < R) (h : R < 9007199254740992) (h1 : -1000 ≤ e) (h2 : e ≤ 900) (hm : (R.log2 : Int) + e < 0) : ¬ 0 ≤ Op.cmpValue (FP.dcmp (dy R e) FP.dconst1) op := by
  intro h9
  refine absurd ?_ (Int32.not_lt.mpr h9)
  rw [fg_neg (dy_some h0 h h1 h2 fg_1), dy_lt1 h0 h h1 h2]; omega
/-! the bits of the rest -/
theorem bo_dbl {r : Nat} (h : r < 8388608) : FP.dmul (dy r (-23)) 4611686018427387904 = dy (2 * r) (-23) := by
  by_cases h0 : r = 0
  · subst h0; rw [dy_0, dz_mul]
  · rw [dy_dbl (by omega) (by omega) (by omega) (by omega), dy_2R (by omega) (by omega)]
theorem bo_c1 {r : Nat} {op : CmpOp} (h : r < 16777216) : Op.cmpValue (FP.dcmp (dy r (-23)) FP.dconst1) op < 0 ↔ r < 8388608 := by
  by_cases h0 : r = 0
  · subst h0; rw [dy_0, dz_lt1]
    exact ⟨fun _ => by omega, fun _ => by show (-1 : Int32) < 0; decide⟩
  · rw [fg_neg (dy_some (by omega) (by omega) (by omega) (by omega) fg_1), dy_lt1 (by omega) (by omega) (by omega) (by omega)]
    have a := Nat.log2_lt (n := r) (k := 23) h0
    have e : (2 : Nat) ^ 23 = 8388608 := by decide
    rw [e] at a
    omega
theorem bo_sub0 {r : Nat} (h : r < 8388608) : FP.dsub (dy r (-23)) (FP.i2d 0) = dy r (-23) := by
  rw [i2d_0]
  by_cases h0 : r = 0
  · subst h0; rw [dy_0, dz_sub]
  · exact dy_sub0 (by omega) (by omega) (by omega) (by omega)
theorem bo_sub1 {r : Nat} (h1 : 8388608 ≤ r) (h : r < 16777216) : FP.dsub (dy r (-23)) (FP.i2d 1) = dy (r - 8388608) (-23) := by
  rw [i2d_1]; exact dy_sub1 h1 h
theorem dy_P {R : Nat} {e : Int} (h : R < 9007199254740992) (h1 : -1000 ≤ e) (h2 : e ≤ 900) : vf_n64 (dy R e) := by
  by_cases h0 : R = 0
  · subst h0; rw [dy_0]; exact dc0_P.n
  · obtain ⟨a, b, d⟩ := dy_C (R := R) (by omega) h
    refine P64.n ?_
    unfold P64 dy dyD
    rw [if_neg h0, UInt64.toNat_ofNat', fg_enc, if_neg (by omega)]
    show ((0 * 2048 + (((e - ((52 - R.log2 : Nat) : Int)) - (-1074)).toNat + 1)) * 4503599627370496 + (R * 2 ^ (52 - R.log2) - 4503599627370496)) % _ ≤ _
    omega
/-- the pieces of a positive finite float -/
def fE (x : UInt32) : Nat := x.toNat / 8388608
def fT (x : UInt32) : Nat := x.toNat % 8388608
def fc9 (x : UInt32) : Nat := if fE x = 0 then fT x else 8388608 + fT x
def fq9 (x : UInt32) : Int := if fE x = 0 then -149 else -150 + (fE x : Int)
theorem f9_dec {x : UInt32} (h : x.toNat < 2139095040) : FP.Core.decode FP.Core.b32 x.toNat = .fin false (fc9 x) (fq9 x) := by
  have hs : (x.toNat / 8388608 / 256 % 2 == 1) = false := by
    rw [show x.toNat / 8388608 / 256 % 2 = 0 by omega]; rfl
  rw [fc_dec, hs, if_neg (by omega)]
  unfold fc9 fq9 fE fT
  by_cases h2 : x.toNat / 8388608 = 0
  · rw [if_pos (by omega), if_pos h2, if_pos h2]
  · rw [if_neg (by omega), if_neg h2, if_neg h2, show x.toNat / 8388608 % 256 = x.toNat / 8388608 by omega, show (-149 : Int) + (((x.toNat / 8388608 : Nat) : Int) - 1) = -150 + ((x.toNat / 8388608 : Nat) : Int) by omega]
theorem f9_b {x : UInt32} (h : x.toNat < 2139095040) (h0 : 0 < x.toNat) : 0 < fc9 x ∧ fc9 x < 16777216 ∧ -149 ≤ fq9 x ∧ fq9 x ≤ 104 ∧ ((8388608 ≤ fc9 x ∧ (fc9 x).log2 = 23 ∧ x.toNat = (fq9 x + 150).toNat * 8388608 + (fc9 x - 8388608)) ∨ (fc9 x < 8388608 ∧ (fc9 x).log2 < 23 ∧ fq9 x = -149 ∧ x.toNat = fc9 x)) := by
  have e23 : (2 : Nat) ^ 23 = 8388608 := by decide
  have e24 : (2 : Nat) ^ (23 + 1) = 16777216 := by decide
  by_cases h2 : fE x = 0
  · have h3 : fc9 x = fT x := if_pos h2
    have h4 : fq9 x = -149 := if_pos h2
    have h5 : fT x = x.toNat := by unfold fT; unfold fE at h2; omega
    have h6 : x.toNat < 8388608 := by unfold fE at h2; omega
    refine ⟨by omega, by omega, by omega, by omega, Or.inr ⟨by omega, fc_log (by rw [h3, h5, e23]; exact h6) (by omega), h4, by omega⟩⟩
  · have h3 : fc9 x = 8388608 + fT x := if_neg h2
    have h4 : fq9 x = -150 + (fE x : Int) := if_neg h2
    have h5 : fT x < 8388608 := Nat.mod_lt _ (by omega)
    have h6 : x.toNat = fE x * 8388608 + fT x := by unfold fE fT; omega
    have h7 : fE x < 255 := by unfold fE; omega
    refine ⟨by omega, by omega, by omega, by omega, Or.inl ⟨by omega, log2_of (by rw [h3, e23]; omega) (by rw [h3, e24]; omega), ?_⟩⟩
    rw [h4, h3, show (-150 + (fE x : Int) + 150).toNat = fE x by omega]
    omega
