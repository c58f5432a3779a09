/-! floats: what is wanted of them -/
def fin32 (x : UInt32) : Prop := x &&& 0x7fffffff < 0x7f800000
/-! floats: bits and data -/
theorem fc_dec (m : Nat) : FP.Core.decode FP.Core.b32 m = (if m / 8388608 % 256 = 255 then (if m % 8388608 = 0 then .inf (m / 8388608 / 256 % 2 == 1) else .nan) else if m / 8388608 % 256 = 0 then .fin (m / 8388608 / 256 % 2 == 1) (m % 8388608) (-149) else .fin (m / 8388608 / 256 % 2 == 1) (8388608 + m % 8388608) (-149 + (((m / 8388608 % 256 : Nat) : Int) - 1))) := rfl
theorem fc_enc (s : Bool) (c : Nat) (q : Int) : FP.Core.encode FP.Core.b32 (.fin s c q) = if c < 8388608 then (s.toNat * 256 + 0) * 8388608 + c else (s.toNat * 256 + ((q - (-149)).toNat + 1)) * 8388608 + (c - 8388608) := rfl
theorem fc_encI (s : Bool) : FP.Core.encode FP.Core.b32 (.inf s) = (s.toNat * 256 + 255) * 8388608 + 0 := rfl
theorem fc_n32 (x : UInt32) : vf_n32 x ↔ x.toNat % 2147483648 ≤ 2139095040 := by
  unfold vf_n32
  rw [UInt32.le_iff_toNat_le, UInt32.toNat_and]
  show x.toNat &&& (2 ^ 31 - 1) ≤ 2139095040 ↔ _
  rw [Nat.and_two_pow_sub_one_eq_mod]
theorem fc_fin32 (x : UInt32) : fin32 x ↔ x.toNat % 2147483648 < 2139095040 := by
  unfold fin32
  rw [UInt32.lt_iff_toNat_lt, UInt32.toNat_and]
  show x.toNat &&& (2 ^ 31 - 1) < 2139095040 ↔ _
  rw [Nat.and_two_pow_sub_one_eq_mod]
/-- what is not NaN -/
theorem fc_num {m : Nat} (h : m % 2147483648 ≤ 2139095040) : (∃ s, FP.Core.decode FP.Core.b32 m = .inf s) ∨ ∃ s c q, FP.Core.decode FP.Core.b32 m = .fin s c q := by
  rw [fc_dec]
  by_cases h1 : m / 8388608 % 256 = 255
  · rw [if_pos h1, if_pos (by omega)]
    exact Or.inl ⟨_, rfl⟩
  · rw [if_neg h1]
    by_cases h2 : m / 8388608 % 256 = 0
    · rw [if_pos h2]; exact Or.inr ⟨_, _, _, rfl⟩
    · rw [if_neg h2]; exact Or.inr ⟨_, _, _, rfl⟩
/-- what is finite; its exponent -/
theorem fc_fin {m K : Nat} (h : m % 2147483648 < 2139095040) (hK : m / 8388608 % 256 ≤ K) : ∃ s c, ∃ q : Int, FP.Core.decode FP.Core.b32 m = .fin s c q ∧ c < 16777216 ∧ -149 ≤ q ∧ q ≤ -149 + K := by
  rw [fc_dec, if_neg (by omega)]
  by_cases h2 : m / 8388608 % 256 = 0
  · rw [if_pos h2]; exact ⟨_, _, _, rfl, by omega, by omega, by omega⟩
  · rw [if_neg h2]; exact ⟨_, _, _, rfl, by omega, by omega, by omega⟩
theorem fc_log {n k : Nat} (h : n < 2 ^ k) (hk : 0 < k) : n.log2 < k := by
  by_cases h0 : n = 0
  · subst h0; rw [Nat.log2_zero]; exact hk
  · exact (Nat.log2_lt h0).mpr h
theorem fc_leading (num den : Nat) : FP.Core.leading num den ≤ num.log2 := by
  unfold FP.Core.leading
  show (if den * 2 ^ ((num.log2 : Int) - (den.log2 : Int)).toNat ≤ num * 2 ^ (-((num.log2 : Int) - (den.log2 : Int))).toNat then ((num.log2 : Int) - (den.log2 : Int)) else ((num.log2 : Int) - (den.log2 : Int)) - 1) ≤ _
  split <;> omega
theorem fc_settle (s : Bool) (c : Nat) (q : Int) : FP.Core.settle FP.Core.b32 s c q = .inf s ∨ ∃ c' q', FP.Core.settle FP.Core.b32 s c q = .fin s c' q' ∧ c' < 16777216 ∧ q' ≤ 104 ∧ (q' = q ∨ q' = q + 1) := by
  unfold FP.Core.settle
  by_cases h : c < 2 ^ FP.Core.b32.p
  · rw [if_pos h]
    unfold FP.Core.bound
    by_cases h1 : q ≤ FP.Core.b32.qmax
    · rw [if_pos h1]; exact Or.inr ⟨c, q, rfl, h, h1, Or.inl rfl⟩
    · rw [if_neg h1]; exact Or.inl rfl
  · rw [if_neg h]
    unfold FP.Core.bound
    by_cases h1 : q + 1 ≤ FP.Core.b32.qmax
    · rw [if_pos h1]; exact Or.inr ⟨_, q + 1, rfl, by decide, h1, Or.inr rfl⟩
    · rw [if_neg h1]; exact Or.inl rfl
theorem fc_settleF (s : Bool) (c : Nat) (q : Int) (h : q ≤ 103) : ∃ c' q', FP.Core.settle FP.Core.b32 s c q = .fin s c' q' ∧ c' < 16777216 ∧ q' ≤ q + 1 := by
  unfold FP.Core.settle
  by_cases h0 : c < 2 ^ FP.Core.b32.p
  · rw [if_pos h0]
    unfold FP.Core.bound
    rw [if_pos (by show q ≤ 104; omega)]
    exact ⟨c, q, rfl, h0, by omega⟩
  · rw [if_neg h0]
    unfold FP.Core.bound
    rw [if_pos (by show q + 1 ≤ 104; omega)]
    exact ⟨_, q + 1, rfl, by decide, by omega⟩
theorem fc_rr (s : Bool) (num den : Nat) (e : Int) : FP.Core.roundRatio FP.Core.b32 s num den e = .inf s ∨ ∃ c q, FP.Core.roundRatio FP.Core.b32 s num den e = .fin s c q ∧ c < 16777216 ∧ q ≤ 104 := by
  unfold FP.Core.roundRatio
  by_cases h : num = 0
  · rw [if_pos h]; exact Or.inr ⟨0, _, rfl, by decide, by decide⟩
  · rw [if_neg h]
    unfold FP.Core.roundAt
    rcases fc_settle s (FP.Core.nearest (FP.Core.unitsNum num e (FP.Core.quantum FP.Core.b32 num den e)) (FP.Core.unitsDen den e (FP.Core.quantum FP.Core.b32 num den e))) (FP.Core.quantum FP.Core.b32 num den e) with h | ⟨c, q, h1, h2, h3, -⟩
    · exact Or.inl h
    · exact Or.inr ⟨c, q, h1, h2, h3⟩
theorem fc_rrF (s : Bool) (num den : Nat) (e : Int) {Q : Int} (hq : (num.log2 : Int) + e - 23 ≤ Q) (h0 : -149 ≤ Q) (h1 : Q ≤ 103) : ∃ c q, FP.Core.roundRatio FP.Core.b32 s num den e = .fin s c q ∧ c < 16777216 ∧ q ≤ Q + 1 := by
  unfold FP.Core.roundRatio
  by_cases h : num = 0
  · rw [if_pos h]; exact ⟨0, _, rfl, by decide, by show (-149 : Int) ≤ Q + 1; omega⟩
  · rw [if_neg h]
    unfold FP.Core.roundAt
    have hl := fc_leading num den
    have hQ : FP.Core.quantum FP.Core.b32 num den e ≤ Q := by
      show max (-149 : Int) (FP.Core.leading num den + e - (24 - 1)) ≤ Q
      omega
    obtain ⟨c, q, h1, h2, h3⟩ := fc_settleF s (FP.Core.nearest (FP.Core.unitsNum num e (FP.Core.quantum FP.Core.b32 num den e)) (FP.Core.unitsDen den e (FP.Core.quantum FP.Core.b32 num den e))) (FP.Core.quantum FP.Core.b32 num den e) (by omega)
    exact ⟨c, q, h1, h2, by omega⟩
theorem fc_le {s : Bool} {c : Nat} {q : Int} (hc : c < 16777216) (hq : q ≤ 104) : ∃ k, FP.Core.encode FP.Core.b32 (.fin s c q) = s.toNat * 2147483648 + k ∧ k < 2139095040 := by
  rw [fc_enc]
  split
  · exact ⟨c, by omega, by omega⟩
  · exact ⟨((q - (-149)).toNat + 1) * 8388608 + (c - 8388608), by omega, by omega⟩
theorem fc_leQ {s : Bool} {c : Nat} {q : Int} {Q : Nat} (hc : c < 16777216) (hq : q ≤ Q) (hQ : Q ≤ 104) : ∃ k, FP.Core.encode FP.Core.b32 (.fin s c q) = s.toNat * 2147483648 + k ∧ k < (Q + 151) * 8388608 := by
  rw [fc_enc]
  split
  · exact ⟨c, by omega, by omega⟩
  · exact ⟨((q - (-149)).toNat + 1) * 8388608 + (c - 8388608), by omega, by omega⟩
theorem fc_bool (s : Bool) : s.toNat ≤ 1 := by cases s <;> decide
theorem fc_rrN (s : Bool) (num den : Nat) (e : Int) : vf_n32 (UInt32.ofNat (FP.Core.encode FP.Core.b32 (FP.Core.roundRatio FP.Core.b32 s num den e))) := by
  rw [fc_n32, UInt32.toNat_ofNat']
  have hs := fc_bool s
  rcases fc_rr s num den e with h | ⟨c, q, h1, h2, h3⟩
  · rw [h, fc_encI]; omega
  · obtain ⟨k, hk, hk2⟩ := fc_le (s := s) h2 h3
    rw [h1, hk]; omega
theorem fc_infN (s : Bool) : vf_n32 (UInt32.ofNat (FP.Core.encode FP.Core.b32 (.inf s))) := by
  rw [fc_n32, UInt32.toNat_ofNat', fc_encI]
  have hs := fc_bool s
  omega
theorem fp_add {x y : UInt32} (hx : vf_n32 x) (hy : fin32 y) : vf_n32 (FP.fadd x y) := by
  rw [fc_n32] at hx
  rw [fc_fin32] at hy
  show vf_n32 (UInt32.ofNat (FP.Core.encode FP.Core.b32 (FP.Core.round FP.Core.b32 (FP.Core.exactSum (FP.Core.decode FP.Core.b32 x.toNat) (FP.Core.decode FP.Core.b32 y.toNat)))))
  obtain ⟨s, c, q, h1, -⟩ := fc_fin (K := 255) hy (by omega)
  rw [h1]
  rcases fc_num hx with ⟨t, h2⟩ | ⟨t, d, r, h2⟩
  · rw [h2]; exact fc_infN t
  · rw [h2]; exact fc_rrN _ _ _ _
theorem fc_quo {s t : Bool} {c d : Nat} {q r : Int} (h : d ≠ 0) : FP.Core.quotient FP.Core.b32 (.fin s c q) (.fin t d r) = FP.Core.roundRatio FP.Core.b32 (s != t) c d (q - r) := if_neg h
theorem fc_quoI {s t : Bool} {d : Nat} {r : Int} : FP.Core.quotient FP.Core.b32 (.inf s) (.fin t d r) = .inf (s != t) := rfl
theorem fc_d2 : FP.Core.decode FP.Core.b32 (FP.fconst2).toNat = .fin false 8388608 (-22) := by decide +kernel
theorem fc_d40 : FP.Core.decode FP.Core.b32 (0x42200000 : UInt32).toNat = .fin false 10485760 (-18) := by decide +kernel
theorem fc_d25 : FP.Core.decode FP.Core.b32 (0x41c80000 : UInt32).toNat = .fin false 13107200 (-19) := by decide +kernel
theorem fc_d60 : FP.Core.decode FP.Core.b32 (0x42700000 : UInt32).toNat = .fin false 15728640 (-18) := by decide +kernel
theorem fc_div (x y : UInt32) : FP.fdiv x y = UInt32.ofNat (FP.Core.encode FP.Core.b32 (FP.Core.quotient FP.Core.b32 (FP.Core.decode FP.Core.b32 x.toNat) (FP.Core.decode FP.Core.b32 y.toNat))) := rfl
theorem fp_half {x : UInt32} (hx : vf_n32 x) : vf_n32 (FP.fdiv x FP.fconst2) := by
  rw [fc_n32] at hx
  rw [fc_div, fc_d2]
  rcases fc_num hx with ⟨t, h2⟩ | ⟨t, d, r, h2⟩
  · rw [h2, fc_quoI]; exact fc_infN _
  · rw [h2, fc_quo (by decide)]; exact fc_rrN _ _ _ _
/-- a whole number as a float: not above 2^9 * 2^24 -/
theorem fc_i2f (n : Int32) : ∃ s : Bool, ∃ k, (FP.i2f n).toNat = s.toNat * 2147483648 + k ∧ k < 160 * 8388608 := by
  show ∃ s : Bool, ∃ k, (UInt32.ofNat (FP.Core.encode FP.Core.b32 (FP.Core.roundRatio FP.Core.b32 (decide (n.toInt < 0)) n.toInt.natAbs 1 0))).toNat = _ ∧ _
  have h1 := n.toInt_lt
  have h2 := n.le_toInt
  have hl : n.toInt.natAbs.log2 < 32 := fc_log (by omega) (by omega)
  obtain ⟨c, q, h3, h4, h5⟩ := fc_rrF (decide (n.toInt < 0)) n.toInt.natAbs 1 0 (Q := 8) (by omega) (by omega) (by omega)
  obtain ⟨k, h6, h7⟩ := fc_leQ (s := decide (n.toInt < 0)) (q := q) (Q := 9) h4 (by omega) (by omega)
  refine ⟨decide (n.toInt < 0), k, ?_, by omega⟩
  have hs := fc_bool (decide (n.toInt < 0))
  rw [h3, h6, UInt32.toNat_ofNat']
  omega
theorem fp_divX (n : Int32) (d : UInt32) (hd : d = 0x42200000 ∨ d = 0x41c80000 ∨ d = 0x42700000) : vf_n32 (FP.fdiv (FP.i2f n) d) ∧ fin32 (FP.fdiv (FP.i2f n) d) := by
  obtain ⟨s, k, h1, h2⟩ := fc_i2f n
  have hs := fc_bool s
  obtain ⟨t, c, q, h3, h4, h5, h6⟩ := fc_fin (m := (FP.i2f n).toNat) (K := 160) (by omega) (by omega)
  have key : ∀ (d : Nat) (r : Int), 0 < d → -20 ≤ r → vf_n32 (UInt32.ofNat (FP.Core.encode FP.Core.b32 (FP.Core.roundRatio FP.Core.b32 (t != false) c d (q - r)))) ∧ fin32 (UInt32.ofNat (FP.Core.encode FP.Core.b32 (FP.Core.roundRatio FP.Core.b32 (t != false) c d (q - r)))) := by
    intro d r hd0 hr
    refine ⟨fc_rrN _ _ _ _, ?_⟩
    have hl : c.log2 < 24 := fc_log (by omega) (by omega)
    obtain ⟨c', q', h7, h8, h9⟩ := fc_rrF (t != false) c d (q - r) (Q := 60) (by omega) (by omega) (by omega)
    obtain ⟨k', h10, h11⟩ := fc_leQ (s := (t != false)) (q := q') (Q := 61) h8 (by omega) (by omega)
    have hs' := fc_bool (t != false)
    rw [fc_fin32, UInt32.toNat_ofNat', h7, h10]
    omega
  rw [fc_div, h3]
  rcases hd with rfl | rfl | rfl
  · rw [fc_d40, fc_quo (by decide)]; exact key _ _ (by omega) (by omega)
  · rw [fc_d25, fc_quo (by decide)]; exact key _ _ (by omega) (by omega)
  · rw [fc_d60, fc_quo (by decide)]; exact key _ _ (by omega) (by omega)
theorem fc_40 : FP.i2f 40 = 0x42200000 := by decide +kernel
theorem fc_25 : FP.i2f 25 = 0x41c80000 := by decide +kernel
theorem fc_60 : FP.i2f 60 = 0x42700000 := by decide +kernel
theorem fp_div (n k : Int32) (hk : k = 40 ∨ k = 25 ∨ k = 60) : vf_n32 (FP.fdiv (FP.i2f n) (FP.i2f k)) ∧ fin32 (FP.fdiv (FP.i2f n) (FP.i2f k)) := by
  rcases hk with rfl | rfl | rfl
  · rw [fc_40]; exact fp_divX n _ (Or.inl rfl)
  · rw [fc_25]; exact fp_divX n _ (Or.inr (Or.inl rfl))
  · rw [fc_60]; exact fp_divX n _ (Or.inr (Or.inr rfl))
theorem fp_zero : vf_n32 FP.fconst0 := by unfold vf_n32; decide
/-! WF under writes elsewhere -/
def wJ (j : Nat) : Prop := j = 1 ∨ j = 163 ∨ j = 464 ∨ 529 ≤ j ∨ (∃ z, z < 8 ∧ j = 3 + 5 * z) ∨ (∃ q, q < 24 ∧ (j = 43 + 5 * q ∨ j = 44 + 5 * q)) ∨ (∃ i, i < 12 ∧ (j = 165 + 25 * i ∨ j = 166 + 25 * i)) ∨ j = 525 ∨ j = 527
theorem wf_of {s s' : Nat → Int32} {L D P : Nat} (h : tw_wf s L D P) (e : ∀ j, wJ j → s' j = s j) : tw_wf s' L D P := by
  obtain ⟨⟨h1, h2⟩, ⟨h3, h4⟩, ⟨h5, h6⟩, h7, h8, h9, h10, h11, h12, h13⟩ := h
  have eq0 : ∀ q, q < 24 → pl s' q 0 = pl s q 0 := fun q hq => e _ (Or.inr (Or.inr (Or.inr (Or.inr (Or.inr (Or.inl ⟨q, hq, Or.inl (by omega)⟩))))))
  have eq1 : ∀ q, q < 24 → pl s' q 1 = pl s q 1 := fun q hq => e _ (Or.inr (Or.inr (Or.inr (Or.inr (Or.inr (Or.inl ⟨q, hq, Or.inr (by omega)⟩))))))
  refine ⟨⟨(e _ (by unfold wJ; omega)).trans h1, h2⟩, ⟨(e _ (by unfold wJ; omega)).trans h3, h4⟩, ⟨(e _ (by unfold wJ; omega)).trans h5, h6⟩, fun q hq hn => ?_, fun i hi => ?_, fun z hz => ?_, fun k hk => ?_, fun c hc => ?_, ?_, fun i hi => ?_⟩
  · rw [eq0 q hq] at hn ⊢
    rw [eq1 q hq]
    exact h7 q hq hn
  · have : lt s' i 2 = lt s i 2 := e _ (Or.inr (Or.inr (Or.inr (Or.inr (Or.inr (Or.inr (Or.inl ⟨i, by omega, Or.inr (by omega)⟩)))))))
    rw [this]; exact h8 i hi
  · have : zn s' z 0 = zn s z 0 := e _ (Or.inr (Or.inr (Or.inr (Or.inr (Or.inl ⟨z, hz, by omega⟩)))))
    rw [this]; exact h9 z hz
  · have a1 : pn s' k 1 = pn s k 1 := e _ (Or.inr (Or.inr (Or.inr (Or.inl (by omega)))))
    have a2 : pn s' k 2 = pn s k 2 := e _ (Or.inr (Or.inr (Or.inr (Or.inl (by omega)))))
    rw [a1, a2]; exact h10 k hk
  · have : cl s' c 0 = cl s c 0 := e _ (by unfold wJ; omega)
    rw [this]; exact h11 c hc
  · rw [e 1 (Or.inl rfl)]; exact h12
  · have : lt s' i 1 = lt s i 1 := e _ (Or.inr (Or.inr (Or.inr (Or.inr (Or.inr (Or.inr (Or.inl ⟨i, by omega, Or.inl (by omega)⟩)))))))
    rw [this]; exact h13 i hi
theorem wf_upd {s : Nat → Int32} {L D P a : Nat} (h : tw_wf s L D P) (ha : ¬ wJ a) (v : Int32) : tw_wf (upd s a v) L D P :=
  wf_of h fun j hj => if_neg (fun e => ha (by rw [← e]; exact hj))
theorem nJ_pl {q k : Nat} (hq : q < 24) (h2 : 2 ≤ k) (h5 : k < 5) : ¬ wJ (43 + 5 * q + k) := by
  rintro (h | h | h | h | ⟨z, hz, h⟩ | ⟨z, hz, h⟩ | ⟨z, hz, h⟩ | h | h) <;> omega
theorem nJ_zn {q k : Nat} (hq : q < 8) (h2 : 1 ≤ k) (h5 : k < 5) : ¬ wJ (3 + 5 * q + k) := by
  rintro (h | h | h | h | ⟨z, hz, h⟩ | ⟨z, hz, h⟩ | ⟨z, hz, h⟩ | h | h) <;> omega
theorem nJ_lt {q k : Nat} (hq : q < 12) (h2 : 3 ≤ k) (h5 : k < 25) : ¬ wJ (164 + 25 * q + k) := by
  rintro (h | h | h | h | ⟨z, hz, h⟩ | ⟨z, hz, h⟩ | ⟨z, hz, h⟩ | h | h) <;> omega
theorem nJ_od {q k : Nat} (hq : q < 10) (h5 : k < 6) : ¬ wJ (465 + 6 * q + k) := by
  rintro (h | h | h | h | ⟨z, hz, h⟩ | ⟨z, hz, h⟩ | ⟨z, hz, h⟩ | h | h) <;> omega
theorem nJ_0 : ¬ wJ 0 := by
  rintro (h | h | h | h | ⟨z, hz, h⟩ | ⟨z, hz, h⟩ | ⟨z, hz, h⟩ | h | h) <;> omega
theorem nJ_2 : ¬ wJ 2 := by
  rintro (h | h | h | h | ⟨z, hz, h⟩ | ⟨z, hz, h⟩ | ⟨z, hz, h⟩ | h | h) <;> omega
theorem nJ_cl {c : Nat} (hc : c < 2) : ¬ wJ (525 + 2 * c + 1) := by
  rintro (h | h | h | h | ⟨z, hz, h⟩ | ⟨z, hz, h⟩ | ⟨z, hz, h⟩ | h | h) <;> omega
theorem wf_ht {s : Nat → Int32} {L D P : Nat} (h : tw_wf s L D P) : tw_wf (ht2 s 8) L D P := by
  refine wf_of h fun j hj => ?_
  have h1 : ¬ (3 ≤ j ∧ j < 3 + 5 * 8 ∧ (j - 3) % 5 = 3) := fun e => by
    refine nJ_zn (q := (j - 3) / 5) (k := 3) (by omega) (by omega) (by omega) ?_
    rwa [show 3 + 5 * ((j - 3) / 5) + 3 = j by omega]
  have h2 : ¬ (3 ≤ j ∧ j < 3 + 5 * 8 ∧ (j - 3) % 5 = 4) := fun e => by
    refine nJ_zn (q := (j - 3) / 5) (k := 4) (by omega) (by omega) (by omega) ?_
    rwa [show 3 + 5 * ((j - 3) / 5) + 4 = j by omega]
  have h3 : ¬ j = 2 := fun e => nJ_2 (e ▸ hj)
  unfold ht2
  rw [if_neg h1]
  unfold ht1
  rw [if_neg h3, if_neg h2]
section
variable {V : gh_V} {g0 g : gh_G} {o : Nat} {ad : Nat → Nat} {I I' : Nat → Int32} {A A' : Nat → Nat → Int32} {F F' : Nat → Nat → UInt32}
theorem tw_W.eqAF (h : tw_W V g0 g o ad I A F) (e : A = A') (f : F = F') : tw_W V g0 g o ad I A' F' := by subst e; subst f; exact h
end
/-- no stress is NaN -/
def nnS (st : Nat → UInt32) : Prop := ∀ q, q < 24 → vf_n32 (st q)
theorem nnS_up {st : Nat → UInt32} (h : nnS st) (p : Nat) {v : UInt32} (hv : vf_n32 v) : nnS (va_up st p v) := by
  intro q hq
  unfold va_up
  split
  · exact hv
  · exact h q hq
/-! a value that doesn't unfold -/
noncomputable def frz {α : Type} (a : α) : α := Classical.choose (p := fun x => x = a) ⟨a, rfl⟩
theorem frz_eq {α : Type} (a : α) : frz a = a := Classical.choose_spec (p := fun x => x = a) ⟨a, rfl⟩
/-! cools -/
def coolB (s0 s : Nat → Int32) (p : Nat) : Int32 := pl s p 2 + sp_step (zn s0 (p / 3) 3 - pl s p 2) (lt s (pl s p 0).toNatClampNeg 1 + 2)
def coolG (s0 s : Nat → Int32) (p : Nat) : Int32 := if coolB s0 s p ≤ zn s0 (p / 3) 3 then (if zn s0 (p / 3) 3 ≤ coolB s0 s p then 0 else -1) else 1
def coolT (s0 s : Nat → Int32) (st : Nat → UInt32) (p : Nat) : Nat → UInt32 :=
  if pl s p 2 ≤ sp_high (lt s (pl s p 0).toNatClampNeg 0) then (if pl s p 2 < sp_low (lt s (pl s p 0).toNatClampNeg 0) then st else
    if pl s p 2 ≤ coolB s0 s p then va_up st p (FP.fdiv (st p) FP.fconst2) else
      va_up st p (FP.fadd (st p) (FP.fdiv (FP.i2f (lt s (pl s p 0).toNatClampNeg 1 * lt s (pl s p 0).toNatClampNeg 1 * (pl s p 2 - coolB s0 s p))) (FP.i2f (sp_soft (lt s (pl s p 0).toNatClampNeg 0))))))
  else va_up st p FP.fconst0
def coolX (s0 s : Nat → Int32) (p : Nat) : Nat → Int32 := zs (ps s p 2 (coolB s0 s p)) (p / 3) 3 (zn (ps s p 2 (coolB s0 s p)) (p / 3) 3 + coolG s0 s p)
def cool1 (s0 : Nat → Int32) (x : (Nat → Int32) × (Nat → UInt32)) (p : Nat) : (Nat → Int32) × (Nat → UInt32) := if pl x.1 p 0 = -1 then x else (coolX s0 x.1 p, coolT s0 x.1 x.2 p)
def cool (s : Nat → Int32) (st : Nat → UInt32) : Nat → (Nat → Int32) × (Nat → UInt32)
  | 0 => (s, st)
  | p + 1 => cool1 s (cool s st p) p
theorem cool_s (s : Nat → Int32) (st : Nat → UInt32) (p : Nat) : cool s st (p + 1) = cool1 s (cool s st p) p := rfl
noncomputable def coolF (s : Nat → Int32) (st : Nat → UInt32) : (Nat → Int32) × (Nat → UInt32) := frz (cool s st 24)
theorem coolF_eq (s : Nat → Int32) (st : Nat → UInt32) : coolF s st = cool s st 24 := frz_eq _
theorem coolF_N {N : Nat} (h : N = 24) (s : Nat → Int32) (st : Nat → UInt32) : cool s st N = coolF s st := by rw [h, coolF_eq]
theorem wf_coolX {s0 s : Nat → Int32} {L D P p : Nat} (h : tw_wf s L D P) (hp : p < 24) : tw_wf (coolX s0 s p) L D P :=
  wf_upd (wf_upd h (nJ_pl hp (by omega) (by omega)) _) (nJ_zn (by omega) (by omega) (by omega)) _
theorem sp_soft_in (k : Int32) : sp_soft k = 40 ∨ sp_soft k = 25 ∨ sp_soft k = 60 := by
  unfold sp_soft; split
  · exact Or.inl rfl
  · split
    · exact Or.inr (Or.inl rfl)
    · exact Or.inr (Or.inr rfl)
theorem nnS_coolT {s0 s : Nat → Int32} {st : Nat → UInt32} {p : Nat} (h : nnS st) (hp : p < 24) : nnS (coolT s0 s st p) := by
  unfold coolT
  split
  · split
    · exact h
    · split
      · exact nnS_up h p (fp_half (h p hp))
      · exact nnS_up h p (fp_add (h p hp) (fp_div _ _ (sp_soft_in _)).2)
  · exact nnS_up h p fp_zero
theorem cool_wf {s : Nat → Int32} {st : Nat → UInt32} {L D P : Nat} (h : tw_wf s L D P) (hn : nnS st) : ∀ p, p ≤ 24 → tw_wf (cool s st p).1 L D P ∧ nnS (cool s st p).2
  | 0, _ => ⟨h, hn⟩
  | p + 1, hp => by
    have ih := cool_wf h hn p (by omega)
    rw [cool_s]
    unfold cool1
    split
    · exact ih
    · exact ⟨wf_coolX ih.1 (by omega), nnS_coolT ih.2 (by omega)⟩
/-- the lot and number of the piece at place q -/
theorem wf_pc {s : Nat → Int32} {L D P q : Nat} (h : tw_wf s L D P) (hq : q < 24) (hn : ¬ pl s q 0 = -1) : (pl s q 0 = nI (pl s q 0).toNatClampNeg ∧ (pl s q 0).toNatClampNeg < L) ∧ pl s q 1 = nI (pl s q 1).toNatClampNeg ∧ (pl s q 1).toNatClampNeg < 20 := by
  obtain ⟨i, n, hi, hn2, e1, e2⟩ := h.2.2.2.1 q hq hn
  have := h.1.2
  rw [e1, e2, nI_clamp (by omega), nI_clamp (by omega)]
  exact ⟨⟨rfl, hi⟩, rfl, hn2⟩
theorem wf_wall {s : Nat → Int32} {L D P i : Nat} (h : tw_wf s L D P) (hi : i < L) : ¬ lt s i 1 + 2 = 0 := by
  obtain ⟨w, h1, h9, e⟩ := h.2.2.2.2.2.2.2.2.2 i hi
  rw [e]
  have e2 : nI w + 2 = nI (w + 2) := nx_add rfl rfl
  rw [e2]
  exact nI_ne0 (by omega) (by omega)
/-! ends, breaks -/
def endS (s : Nat → Int32) (p : Nat) (f : Int32) : Nat → Int32 :=
  ps (ps (ps (ps (upd s (164 + 25 * (pl s p 0).toNatClampNeg + 5 + (pl s p 1).toNatClampNeg) f) p 0 (-1)) p 1 0) p 2 0) p 3 0
def brk1 (x : (Nat → Int32) × (Nat → UInt32) × Int32) (p : Nat) : (Nat → Int32) × (Nat → UInt32) × Int32 :=
  if pl x.1 p 0 = -1 then x else if Op.cmpValue (FP.fcmp (x.2.1 p) (FP.i2f (sp_limit (lt x.1 (pl x.1 p 0).toNatClampNeg 0)))) .l ≤ 0 then x else (ps (endS x.1 p 4) p 4 1, va_up x.2.1 p FP.fconst0, x.2.2 + 1)
def brk (s : Nat → Int32) (st : Nat → UInt32) : Nat → (Nat → Int32) × (Nat → UInt32) × Int32
  | 0 => (s, st, 0)
  | p + 1 => brk1 (brk s st p) p
theorem brk_s (s : Nat → Int32) (st : Nat → UInt32) (p : Nat) : brk s st (p + 1) = brk1 (brk s st p) p := rfl
noncomputable def brkF (s : Nat → Int32) (st : Nat → UInt32) : (Nat → Int32) × (Nat → UInt32) × Int32 := frz (brk s st 24)
theorem brkF_eq (s : Nat → Int32) (st : Nat → UInt32) : brkF s st = brk s st 24 := frz_eq _
theorem brkF_N {N : Nat} (h : N = 24) (s : Nat → Int32) (st : Nat → UInt32) : brk s st N = brkF s st := by rw [h, brkF_eq]
theorem wf_endS {s : Nat → Int32} {L D P p : Nat} {f : Int32} (h : tw_wf s L D P) (hp : p < 24) (hn : ¬ pl s p 0 = -1) : tw_wf (endS s p f) L D P := by
  obtain ⟨⟨-, hi⟩, -, hn2⟩ := wf_pc h hp hn
  have hL := h.1.2
  have h0 := wf_upd h (a := 164 + 25 * (pl s p 0).toNatClampNeg + (5 + (pl s p 1).toNatClampNeg)) (nJ_lt (by omega) (by omega) (by omega)) f
  rw [← Nat.add_assoc] at h0
  unfold endS
  refine wf_upd (wf_upd ?_ (nJ_pl hp (by omega) (by omega)) _) (nJ_pl hp (by omega) (by omega)) _
  generalize hs1 : upd s (164 + 25 * (pl s p 0).toNatClampNeg + 5 + (pl s p 1).toNatClampNeg) f = s1 at h0
  obtain ⟨h1, h3, h5, h7, h8, h9, h10, h11, h12, h13⟩ := h0
  have ne : ∀ j, j ≠ 43 + 5 * p → j ≠ 44 + 5 * p → ps (ps s1 p 0 (-1)) p 1 0 j = s1 j := fun j a b => by
    show (if _ then _ else if _ then _ else _) = _
    rw [if_neg (by omega), if_neg (by omega)]
  have e0 : pl (ps (ps s1 p 0 (-1)) p 1 0) p 0 = -1 := by
    show (if _ then _ else if _ then _ else _) = _
    rw [if_neg (by omega), if_pos rfl]
  refine ⟨⟨(ne _ (by omega) (by omega)).trans h1.1, h1.2⟩, ⟨(ne _ (by omega) (by omega)).trans h3.1, h3.2⟩, ⟨(ne _ (by omega) (by omega)).trans h5.1, h5.2⟩, fun q hq hn => ?_, fun i hi => ?_, fun z hz => ?_, fun k hk => ?_, fun c hc => ?_, ?_, fun i hi => ?_⟩
  · by_cases hqp : q = p
    · subst hqp; exact absurd e0 hn
    · have a0 : pl (ps (ps s1 p 0 (-1)) p 1 0) q 0 = pl s1 q 0 := ne _ (by omega) (by omega)
      have a1 : pl (ps (ps s1 p 0 (-1)) p 1 0) q 1 = pl s1 q 1 := ne _ (by omega) (by omega)
      rw [a0] at hn ⊢; rw [a1]; exact h7 q hq hn
  · have a : lt (ps (ps s1 p 0 (-1)) p 1 0) i 2 = lt s1 i 2 := ne _ (by omega) (by omega)
    rw [a]; exact h8 i hi
  · have a : zn (ps (ps s1 p 0 (-1)) p 1 0) z 0 = zn s1 z 0 := ne _ (by omega) (by omega)
    rw [a]; exact h9 z hz
  · have a1 : pn (ps (ps s1 p 0 (-1)) p 1 0) k 1 = pn s1 k 1 := ne _ (by omega) (by omega)
    have a2 : pn (ps (ps s1 p 0 (-1)) p 1 0) k 2 = pn s1 k 2 := ne _ (by omega) (by omega)
    rw [a1, a2]; exact h10 k hk
  · have a : cl (ps (ps s1 p 0 (-1)) p 1 0) c 0 = cl s1 c 0 := ne _ (by omega) (by omega)
    rw [a]; exact h11 c hc
  · rw [ne 1 (by omega) (by omega)]; exact h12
  · have a : lt (ps (ps s1 p 0 (-1)) p 1 0) i 1 = lt s1 i 1 := ne _ (by omega) (by omega)
    rw [a]; exact h13 i hi
theorem brk_wf {s : Nat → Int32} {st : Nat → UInt32} {L D P : Nat} (h : tw_wf s L D P) (hn : nnS st) : ∀ p, p ≤ 24 → tw_wf (brk s st p).1 L D P ∧ nnS (brk s st p).2.1
  | 0, _ => ⟨h, hn⟩
  | p + 1, hp => by
    have ih := brk_wf h hn p (by omega)
    rw [brk_s]
    unfold brk1
    split
    · exact ih
    · rename_i hq
      split
      · exact ih
      · exact ⟨wf_upd (wf_endS ih.1 (by omega) hq) (nJ_pl (by omega) (by omega) (by omega)) _, nnS_up ih.2 _ fp_zero⟩
/-- the twin's arrays behind cools -/
noncomputable def clA (A : Nat → Nat → Int32) (st : Nat → UInt32) : Nat → Nat → Int32 := va_up (va_up A 6 (cpn (fun z => zn (A 0) z 3) (A 6) 8)) 0 (coolF (A 0) st).1
set_option maxRecDepth 100000
theorem hd_X3_ends : yX3_ends.cls = RX3 ∧ yX3_ends.cls ≠ "java/lang/invoke/MethodHandle" ∧ yX3_ends.cls ≠ "java/lang/invoke/VarHandle" ∧ (parseMethodDescriptor yX3_ends.desc).map (fun d => d.parameters.length) = some 2 := by decide +kernel
theorem hd_X3_high : yX3_high.cls = RX3 ∧ yX3_high.cls ≠ "java/lang/invoke/MethodHandle" ∧ yX3_high.cls ≠ "java/lang/invoke/VarHandle" ∧ (parseMethodDescriptor yX3_high.desc).map (fun d => d.parameters.length) = some 1 := by decide +kernel
theorem hd_X3_kindAt : yX3_kindAt.cls = RX3 ∧ yX3_kindAt.cls ≠ "java/lang/invoke/MethodHandle" ∧ yX3_kindAt.cls ≠ "java/lang/invoke/VarHandle" ∧ (parseMethodDescriptor yX3_kindAt.desc).map (fun d => d.parameters.length) = some 1 := by decide +kernel
theorem hd_X3_limit : yX3_limit.cls = RX3 ∧ yX3_limit.cls ≠ "java/lang/invoke/MethodHandle" ∧ yX3_limit.cls ≠ "java/lang/invoke/VarHandle" ∧ (parseMethodDescriptor yX3_limit.desc).map (fun d => d.parameters.length) = some 1 := by decide +kernel
theorem hd_X3_low : yX3_low.cls = RX3 ∧ yX3_low.cls ≠ "java/lang/invoke/MethodHandle" ∧ yX3_low.cls ≠ "java/lang/invoke/VarHandle" ∧ (parseMethodDescriptor yX3_low.desc).map (fun d => d.parameters.length) = some 1 := by decide +kernel
theorem hd_X3_soft : yX3_soft.cls = RX3 ∧ yX3_soft.cls ≠ "java/lang/invoke/MethodHandle" ∧ yX3_soft.cls ≠ "java/lang/invoke/VarHandle" ∧ (parseMethodDescriptor yX3_soft.desc).map (fun d => d.parameters.length) = some 1 := by decide +kernel
set_option maxHeartbeats 1000000 in
set_option maxRecDepth 100000 in
theorem t_cools (l : Launch) (V : gh_V) (o : Nat) (ad : Nat → Nat) (I : Nat → Int32) (A : Nat → Nat → Int32) (F : Nat → Nat → UInt32) (g0 : gh_G) (hP : tw_P V g0 o ad I A F) (L D P : Nat) (hE : tw_wf (A 0) L D P) (hnn : nnS (F 0)) : MV l yX3_cools cX3_cools 6 ({ frames := 2, cells := 0, slots := 0, locals := 43 } : Room) V [.ref o] g0 (fun g1 => ∃ b6, tw_W V g0 g1 o ad I (va_up (va_up A 6 b6) 0 (coolF (A 0) (F 0)).1) (va_up F 0 (coolF (A 0) (F 0)).2)) := by
  refine MG.of RX3 (by decide) rfl (Nat.le_of_ble_eq_true rfl) (fun pp ee s mm args below meth c ls hC hg hr hlk hnm hl => ?_)
  have hx := hC.1.1
  have hb := hC.1.2.1
  have hml := hC.1.2.2.1
  have hown := hC.1.2.2.2.1
  have hts := hC.1.2.2.2.2
  have hl : lv_has ls 6 [(0, .ref o)] := hl
  have hT := hP.W
  refine lv_iconst (v := 0) hx hb dX3_cools_0 (by decide) ?_
  refine lv_istore_n (lv' := [(1, .int 0), (0, .ref o)]) hx hb dX3_cools_1 rfl hl (by decide) rfl (fun ls hl => ?_)
  refine gh_loop (N := 8) (X := fun i_1 g ls => tw_W V g0 g o ad I (va_up A 6 (cpn (fun z => zn (A 0) z 3) (A 6) i_1)) F ∧ lv_has ls 6 [(0, .ref o), (1, .int (nI i_1))]) ?_ ?_ 0 (by omega) hg ⟨(hT.eqA (fam8 rfl rfl rfl rfl rfl rfl rfl rfl (fun _ => rfl))), lv_sub hl [1, 0] rfl⟩
  · intro g H locs ls hg hX
    obtain ⟨hT, hl⟩ := hX
    refine lv_iload_n hx hb dX3_cools_2 rfl (lv_at hl 1 rfl) ?_
    refine lv_bipush (v := 8) hx hb dX3_cools_3 (by decide) ?_
    refine lv_icmp_ge (tgt := 26) hx hb dX3_cools_5 (by decide) (fun _ => ?_) (fun c_2 => (absurd ((nx_le (show ((8 : Int32)) = nI 8 from rfl) rfl (by omega) (by omega)).mpr (by omega)) c_2))
    refine lv_iconst (v := 0) hx hb dX3_cools_26 (by decide) ?_
    refine lv_istore_n (lv' := [(1, .int 0), (0, .ref o)]) hx hb dX3_cools_27 rfl hl (by decide) rfl (fun ls hl => ?_)
    obtain ⟨N9, hN9⟩ : ∃ N, N = 24 := ⟨24, rfl⟩
    refine gh_loop (N := N9) (X := fun i_3 g ls => tw_W V g0 g o ad I (va_up (va_up A 6 (cpn (fun z => zn (A 0) z 3) (A 6) 8)) 0 ((cool (A 0) (F 0) i_3).1)) (va_up F 0 ((cool (A 0) (F 0) i_3).2)) ∧ lv_has ls 6 [(0, .ref o), (1, .int (nI i_3))]) ?_ ?_ 0 (by omega) hg ⟨(hT.eqAF (fam8 rfl rfl rfl rfl rfl rfl rfl rfl (fun _ => rfl)) (fam4 rfl rfl rfl rfl (fun _ => rfl))), lv_sub hl [1, 0] rfl⟩
    · intro g H locs ls hg hX
      obtain ⟨hT, hl⟩ := hX
      refine lv_iload_n hx hb dX3_cools_28 rfl (lv_at hl 1 rfl) ?_
      refine lv_bipush (v := 24) hx hb dX3_cools_29 (by decide) ?_
      refine lv_icmp_ge (tgt := 231) hx hb dX3_cools_31 (by decide) (fun _ => ?_) (fun c_4 => (absurd ((nx_le (show ((24 : Int32)) = nI 24 from rfl) rfl (by omega) (by omega)).mpr (by omega)) c_4))
      exact gh_retv hC hg hr hlk (⟨_, (hT.eqAF (fam8 (congrArg Prod.fst (coolF_N hN9 _ _)) rfl rfl rfl rfl rfl rfl rfl (fun _ => rfl)) (fam4 (congrArg Prod.snd (coolF_N hN9 _ _)) rfl rfl rfl (fun _ => rfl)))⟩) dX3_cools_231 (Nat.le_of_ble_eq_true rfl) (Nat.le_of_ble_eq_true rfl)
    · intro i_3 h_5 ih28 g H locs ls hg hX
      obtain ⟨hT, hl⟩ := hX
      refine lv_iload_n hx hb dX3_cools_28 rfl (lv_at hl 1 rfl) ?_
      have hi24 : i_3 < 24 := by omega
      have hW := cool_wf hE hnn i_3 (by omega)
      refine lv_bipush (v := 24) hx hb dX3_cools_29 (by decide) ?_
      refine lv_icmp_ge (tgt := 231) hx hb dX3_cools_31 (by decide) (fun c_6 => (absurd ((nx_le (show ((24 : Int32)) = nI 24 from rfl) rfl (by omega) (by omega)).mp c_6) (by omega))) (fun _ => ?_)
      refine lv_aload_n hx hb dX3_cools_34 rfl (lv_at hl 0 rfl) ?_
      refine lv_iload_n hx hb dX3_cools_35 rfl (lv_at hl 1 rfl) ?_
      refine gh_calli hg (gh_runV (As := [.int (nI i_3)]) (rest := []) hC hg (t_isPiece l V o ad I (va_up (va_up A 6 (cpn (fun z => zn (A 0) z 3) (A 6) 8)) 0 ((cool (A 0) (F 0) i_3).1)) (va_up F 0 ((cool (A 0) (F 0) i_3).2)) _ hT.1 (nI i_3) i_3 rfl (by omega)) 1 (lw_V q3960 q3962 qs64 q138 q3963) hT.1.1 rfl hd_X3_isPiece ⟨Nat.le_of_ble_eq_true rfl, Nat.le_of_ble_eq_true rfl⟩ rfl hl.1 rfl (Nat.le_of_ble_eq_true rfl) dX3_cools_36 ⟨Nat.le_of_ble_eq_true rfl, Nat.le_of_ble_eq_true rfl⟩) (fun r_7 g H locs hg hp => ?_)
      replace hp : r_7 = (if ¬ pl ((cool (A 0) (F 0) i_3).1) i_3 0 = -1 then 1 else 0) ∧ g = _ := hp
      by_cases pc_8 : ¬ pl ((cool (A 0) (F 0) i_3).1) i_3 0 = -1
      · rw [if_pos pc_8] at hp
        obtain ⟨rfl, hq⟩ := hp
        rw [hq] at hg
        have hq9 := wf_pc hW.1 hi24 pc_8
        have hL9 := hE.1.2
        have hw9 := wf_wall hW.1 hq9.1.2
        refine lv_if_eq (tgt := 225) hx hb dX3_cools_39 (by decide) (fun c_9 => (absurd ((nx_eq (show ((1 : Int32)) = nI 1 from rfl) (show ((0 : Int32)) = nI 0 from rfl) (by omega) (by omega)).mp c_9) (by omega))) (fun _ => ?_)
        refine lv_aload_n hx hb dX3_cools_42 rfl (lv_at hl 0 rfl) ?_
        refine lv_aload_n hx hb dX3_cools_43 rfl (lv_at hl 0 rfl) ?_
        refine lv_iload_n hx hb dX3_cools_44 rfl (lv_at hl 1 rfl) ?_
        refine lv_iconst (v := 0) hx hb dX3_cools_45 (by decide) ?_
        refine gh_calli hg (gh_runV (As := [.int (nI i_3), .int 0]) (rest := [.ref o]) hC hg (t_at l V o ad I (va_up (va_up A 6 (cpn (fun z => zn (A 0) z 3) (A 6) 8)) 0 ((cool (A 0) (F 0) i_3).1)) (va_up F 0 ((cool (A 0) (F 0) i_3).2)) _ hT.1 (nI i_3) 0 i_3 0 rfl (show ((0 : Int32)) = nI 0 from rfl) (by omega) (by omega)) 2 (lw_V q3964 q3966 qs65 q138 q3967) hT.1.1 rfl hd_X3_at ⟨Nat.le_of_ble_eq_true rfl, Nat.le_of_ble_eq_true rfl⟩ rfl hl.1 rfl (Nat.le_of_ble_eq_true rfl) dX3_cools_46 ⟨Nat.le_of_ble_eq_true rfl, Nat.le_of_ble_eq_true rfl⟩) (fun r_10 g H locs hg hp => ?_)
        obtain ⟨hp, hq⟩ := hp
        replace hp : r_10 = (pl ((cool (A 0) (F 0) i_3).1) i_3 0) := hp
        subst hp
        rw [hq] at hg
        refine lv_iconst (v := 1) hx hb dX3_cools_49 (by decide) ?_
        refine gh_calli hg (gh_runV (As := [.int (pl ((cool (A 0) (F 0) i_3).1) i_3 0), .int 1]) (rest := []) hC hg (t_lot l V o ad I (va_up (va_up A 6 (cpn (fun z => zn (A 0) z 3) (A 6) 8)) 0 ((cool (A 0) (F 0) i_3).1)) (va_up F 0 ((cool (A 0) (F 0) i_3).2)) _ hT.1 (pl ((cool (A 0) (F 0) i_3).1) i_3 0) 1 ((pl ((cool (A 0) (F 0) i_3).1) i_3 0).toNatClampNeg) 1 hq9.1.1 (show ((1 : Int32)) = nI 1 from rfl) (by omega) (by omega)) 2 (lw_V q3956 q3958 qs63 q138 q3959) hT.1.1 rfl hd_X3_lot ⟨Nat.le_of_ble_eq_true rfl, Nat.le_of_ble_eq_true rfl⟩ rfl hl.1 rfl (Nat.le_of_ble_eq_true rfl) dX3_cools_50 ⟨Nat.le_of_ble_eq_true rfl, Nat.le_of_ble_eq_true rfl⟩) (fun r_11 g H locs hg hp => ?_)
        obtain ⟨hp, hq⟩ := hp
        replace hp : r_11 = (lt ((cool (A 0) (F 0) i_3).1) ((pl ((cool (A 0) (F 0) i_3).1) i_3 0).toNatClampNeg) 1) := hp
        subst hp
        rw [hq] at hg
        refine lv_istore_n (lv' := [(2, .int (lt ((cool (A 0) (F 0) i_3).1) ((pl ((cool (A 0) (F 0) i_3).1) i_3 0).toNatClampNeg) 1)), (0, .ref o), (1, .int (nI i_3))]) hx hb dX3_cools_53 rfl hl (by decide) rfl (fun ls hl => ?_)
        refine lv_aload_n hx hb dX3_cools_54 rfl (lv_at hl 1 rfl) ?_
        refine lv_iload_n hx hb dX3_cools_55 rfl (lv_at hl 2 rfl) ?_
        refine gh_calli hg (gh_runV (As := [.int (nI i_3)]) (rest := []) hC hg (t_kindAt l V o ad I (va_up (va_up A 6 (cpn (fun z => zn (A 0) z 3) (A 6) 8)) 0 ((cool (A 0) (F 0) i_3).1)) (va_up F 0 ((cool (A 0) (F 0) i_3).2)) _ hT.1 (nI i_3) i_3 ((pl ((cool (A 0) (F 0) i_3).1) i_3 0).toNatClampNeg) rfl (by omega) hq9.1.1 (by omega)) 1 (lw_V q4046 q4048 qs80 q138 q4049) hT.1.1 rfl hd_X3_kindAt ⟨Nat.le_of_ble_eq_true rfl, Nat.le_of_ble_eq_true rfl⟩ rfl hl.1 rfl (Nat.le_of_ble_eq_true rfl) dX3_cools_56 ⟨Nat.le_of_ble_eq_true rfl, Nat.le_of_ble_eq_true rfl⟩) (fun r_12 g H locs hg hp => ?_)
        obtain ⟨hp, hq⟩ := hp
        replace hp : r_12 = (lt ((cool (A 0) (F 0) i_3).1) ((pl ((cool (A 0) (F 0) i_3).1) i_3 0).toNatClampNeg) 0) := hp
        subst hp
        rw [hq] at hg
        refine lv_istore_n (lv' := [(3, .int (lt ((cool (A 0) (F 0) i_3).1) ((pl ((cool (A 0) (F 0) i_3).1) i_3 0).toNatClampNeg) 0)), (2, .int (lt ((cool (A 0) (F 0) i_3).1) ((pl ((cool (A 0) (F 0) i_3).1) i_3 0).toNatClampNeg) 1)), (0, .ref o), (1, .int (nI i_3))]) hx hb dX3_cools_59 rfl hl (by decide) rfl (fun ls hl => ?_)
        refine lv_aload_n hx hb dX3_cools_60 rfl (lv_at hl 2 rfl) ?_
        refine lv_iload_n hx hb dX3_cools_61 rfl (lv_at hl 3 rfl) ?_
        refine lv_iconst (v := 2) hx hb dX3_cools_62 (by decide) ?_
        refine gh_calli hg (gh_runV (As := [.int (nI i_3), .int 2]) (rest := []) hC hg (t_at l V o ad I (va_up (va_up A 6 (cpn (fun z => zn (A 0) z 3) (A 6) 8)) 0 ((cool (A 0) (F 0) i_3).1)) (va_up F 0 ((cool (A 0) (F 0) i_3).2)) _ hT.1 (nI i_3) 2 i_3 2 rfl (show ((2 : Int32)) = nI 2 from rfl) (by omega) (by omega)) 2 (lw_V q3964 q3966 qs65 q138 q3967) hT.1.1 rfl hd_X3_at ⟨Nat.le_of_ble_eq_true rfl, Nat.le_of_ble_eq_true rfl⟩ rfl hl.1 rfl (Nat.le_of_ble_eq_true rfl) dX3_cools_63 ⟨Nat.le_of_ble_eq_true rfl, Nat.le_of_ble_eq_true rfl⟩) (fun r_13 g H locs hg hp => ?_)
        obtain ⟨hp, hq⟩ := hp
        replace hp : r_13 = (pl ((cool (A 0) (F 0) i_3).1) i_3 2) := hp
        subst hp
        rw [hq] at hg
        refine lv_istore (lv' := [(4, .int (pl ((cool (A 0) (F 0) i_3).1) i_3 2)), (3, .int (lt ((cool (A 0) (F 0) i_3).1) ((pl ((cool (A 0) (F 0) i_3).1) i_3 0).toNatClampNeg) 0)), (2, .int (lt ((cool (A 0) (F 0) i_3).1) ((pl ((cool (A 0) (F 0) i_3).1) i_3 0).toNatClampNeg) 1)), (0, .ref o), (1, .int (nI i_3))]) hx hb dX3_cools_66 hl (by decide) rfl (fun ls hl => ?_)
        refine lv_iload hx hb dX3_cools_68 (lv_at hl 0 rfl) ?_
        refine lv_aload_n hx hb dX3_cools_70 rfl (lv_at hl 3 rfl) ?_
        refine gh_get (v := .ref (ad 6)) hC hg hT.1.1 fX3_41_0 rfl dX3_cools_71 ?_
        refine lv_iload_n hx hb dX3_cools_74 rfl (lv_at hl 4 rfl) ?_
        refine lv_iconst (v := 3) hx hb dX3_cools_75 (by decide) ?_
        refine lv_idiv hx hb dX3_cools_76 (by decide) ?_
        refine gh_iald (n := 8) (f := (cpn (fun z => zn (A 0) z 3) (A 6) 8)) hC hg (hT.1.2.1 6 (by decide)) (nx_div rfl (show ((3 : Int32)) = nI 3 from rfl) (by omega) (by omega) (by omega)) (by omega) (by omega) dX3_cools_77 ?_
        refine W.eq (g2 := F0 mm 78 ls [.int (zn (A 0) (i_3 / 3) 3), .int (pl ((cool (A 0) (F 0) i_3).1) i_3 2)]) (by rw [cpn_lt (f := (fun z => zn (A 0) z 3)) (by omega)] <;> rfl) ?_
        refine lv_iload hx hb dX3_cools_78 (lv_at hl 0 rfl) ?_
        refine lv_isub hx hb dX3_cools_80 ?_
        refine lv_iload_n hx hb dX3_cools_81 rfl (lv_at hl 2 rfl) ?_
        refine lv_iconst (v := 2) hx hb dX3_cools_82 (by decide) ?_
        refine lv_iadd hx hb dX3_cools_83 ?_
        refine gh_calli hg (gh_runS (As := [.int ((zn (A 0) (i_3 / 3) 3) - (pl ((cool (A 0) (F 0) i_3).1) i_3 2)), .int ((lt ((cool (A 0) (F 0) i_3).1) ((pl ((cool (A 0) (F 0) i_3).1) i_3 0).toNatClampNeg) 1) + 2)]) (rest := [.int (pl ((cool (A 0) (F 0) i_3).1) i_3 2)]) hC hg (t_step l V _ ((zn (A 0) (i_3 / 3) 3) - (pl ((cool (A 0) (F 0) i_3).1) i_3 2)) ((lt ((cool (A 0) (F 0) i_3).1) ((pl ((cool (A 0) (F 0) i_3).1) i_3 0).toNatClampNeg) 1) + 2) hw9) 2 (lw_S q4039 q4040 q138 q4041) hd_X3_step.2 ⟨Nat.le_of_ble_eq_true rfl, Nat.le_of_ble_eq_true rfl⟩ rfl hl.1 rfl (Nat.le_of_ble_eq_true rfl) dX3_cools_84 ⟨Nat.le_of_ble_eq_true rfl, Nat.le_of_ble_eq_true rfl⟩) (fun r_14 g H locs hg hp => ?_)
        obtain ⟨hp, hq⟩ := hp
        replace hp : r_14 = (sp_step ((zn (A 0) (i_3 / 3) 3) - (pl ((cool (A 0) (F 0) i_3).1) i_3 2)) ((lt ((cool (A 0) (F 0) i_3).1) ((pl ((cool (A 0) (F 0) i_3).1) i_3 0).toNatClampNeg) 1) + 2)) := hp
        subst hp
        rw [hq] at hg
        refine lv_iadd hx hb dX3_cools_87 ?_
        refine W.eq (g2 := F0 mm 88 ls [.int (coolB (A 0) ((cool (A 0) (F 0) i_3).1) i_3)]) (by rw [(show ((pl ((cool (A 0) (F 0) i_3).1) i_3 2) + (sp_step ((zn (A 0) (i_3 / 3) 3) - (pl ((cool (A 0) (F 0) i_3).1) i_3 2)) ((lt ((cool (A 0) (F 0) i_3).1) ((pl ((cool (A 0) (F 0) i_3).1) i_3 0).toNatClampNeg) 1) + 2))) = (coolB (A 0) ((cool (A 0) (F 0) i_3).1) i_3) from rfl)] <;> rfl) ?_
        refine lv_istore (lv' := [(5, .int (coolB (A 0) ((cool (A 0) (F 0) i_3).1) i_3)), (4, .int (pl ((cool (A 0) (F 0) i_3).1) i_3 2)), (3, .int (lt ((cool (A 0) (F 0) i_3).1) ((pl ((cool (A 0) (F 0) i_3).1) i_3 0).toNatClampNeg) 0)), (2, .int (lt ((cool (A 0) (F 0) i_3).1) ((pl ((cool (A 0) (F 0) i_3).1) i_3 0).toNatClampNeg) 1)), (0, .ref o), (1, .int (nI i_3))]) hx hb dX3_cools_88 hl (by decide) rfl (fun ls hl => ?_)
        refine lv_aload_n hx hb dX3_cools_90 rfl (lv_at hl 4 rfl) ?_
        refine lv_iload_n hx hb dX3_cools_91 rfl (lv_at hl 5 rfl) ?_
        refine lv_iconst (v := 2) hx hb dX3_cools_92 (by decide) ?_
        refine lv_iload hx hb dX3_cools_93 (lv_at hl 0 rfl) ?_
        refine gh_callv hg (gh_runV (As := [.int (nI i_3), .int 2, .int (coolB (A 0) ((cool (A 0) (F 0) i_3).1) i_3)]) (rest := []) hC hg (t_putPlace l V o ad I (va_up (va_up A 6 (cpn (fun z => zn (A 0) z 3) (A 6) 8)) 0 ((cool (A 0) (F 0) i_3).1)) (va_up F 0 ((cool (A 0) (F 0) i_3).2)) _ hT.1 (nI i_3) 2 (coolB (A 0) ((cool (A 0) (F 0) i_3).1) i_3) i_3 2 rfl (show ((2 : Int32)) = nI 2 from rfl) (by omega) (by omega)) 3 (lw_V q3826 q3828 qs53 q138 q3829) hT.1.1 rfl hd_X3_putPlace ⟨Nat.le_of_ble_eq_true rfl, Nat.le_of_ble_eq_true rfl⟩ rfl hl.1 rfl (Nat.le_of_ble_eq_true rfl) dX3_cools_95 ⟨Nat.le_of_ble_eq_true rfl, Nat.le_of_ble_eq_true rfl⟩) (fun g H locs hg hp => ?_)
        have hT : tw_W V g0 g o ad I (va_up (va_up (va_up A 6 (cpn (fun z => zn (A 0) z 3) (A 6) 8)) 0 ((cool (A 0) (F 0) i_3).1)) 0 (ps ((cool (A 0) (F 0) i_3).1) i_3 2 (coolB (A 0) ((cool (A 0) (F 0) i_3).1) i_3))) (va_up F 0 ((cool (A 0) (F 0) i_3).2)) := hT.call hp
        refine lv_iload hx hb dX3_cools_98 (lv_at hl 1 rfl) ?_
        refine lv_iload_n hx hb dX3_cools_100 rfl (lv_at hl 2 rfl) ?_
        refine gh_calli hg (gh_runS (As := [.int (lt ((cool (A 0) (F 0) i_3).1) ((pl ((cool (A 0) (F 0) i_3).1) i_3 0).toNatClampNeg) 0)]) (rest := [.int (pl ((cool (A 0) (F 0) i_3).1) i_3 2)]) hC hg (t_high l V _ (lt ((cool (A 0) (F 0) i_3).1) ((pl ((cool (A 0) (F 0) i_3).1) i_3 0).toNatClampNeg) 0)) 1 (lw_S q4050 q4051 q138 q4052) hd_X3_high.2 ⟨Nat.le_of_ble_eq_true rfl, Nat.le_of_ble_eq_true rfl⟩ rfl hl.1 rfl (Nat.le_of_ble_eq_true rfl) dX3_cools_101 ⟨Nat.le_of_ble_eq_true rfl, Nat.le_of_ble_eq_true rfl⟩) (fun r_15 g H locs hg hp => ?_)
        obtain ⟨hp, hq⟩ := hp
        replace hp : r_15 = (sp_high (lt ((cool (A 0) (F 0) i_3).1) ((pl ((cool (A 0) (F 0) i_3).1) i_3 0).toNatClampNeg) 0)) := hp
        subst hp
        rw [hq] at hg
        refine lv_icmp_le (tgt := 117) hx hb dX3_cools_104 (by decide) (fun c_16 => ?_) (fun c_16 => ?_)
        · skip
          refine lv_iload hx hb dX3_cools_117 (lv_at hl 1 rfl) ?_
          refine lv_iload_n hx hb dX3_cools_119 rfl (lv_at hl 2 rfl) ?_
          refine gh_calli hg (gh_runS (As := [.int (lt ((cool (A 0) (F 0) i_3).1) ((pl ((cool (A 0) (F 0) i_3).1) i_3 0).toNatClampNeg) 0)]) (rest := [.int (pl ((cool (A 0) (F 0) i_3).1) i_3 2)]) hC hg (t_low l V _ (lt ((cool (A 0) (F 0) i_3).1) ((pl ((cool (A 0) (F 0) i_3).1) i_3 0).toNatClampNeg) 0)) 1 (lw_S q4053 q4054 q138 q4055) hd_X3_low.2 ⟨Nat.le_of_ble_eq_true rfl, Nat.le_of_ble_eq_true rfl⟩ rfl hl.1 rfl (Nat.le_of_ble_eq_true rfl) dX3_cools_120 ⟨Nat.le_of_ble_eq_true rfl, Nat.le_of_ble_eq_true rfl⟩) (fun r_17 g H locs hg hp => ?_)
          obtain ⟨hp, hq⟩ := hp
          replace hp : r_17 = (sp_low (lt ((cool (A 0) (F 0) i_3).1) ((pl ((cool (A 0) (F 0) i_3).1) i_3 0).toNatClampNeg) 0)) := hp
          subst hp
          rw [hq] at hg
          refine lv_icmp_lt (tgt := 173) hx hb dX3_cools_123 (by decide) (fun c_18 => ?_) (fun c_18 => ?_)
          · skip
            refine lv_aload_n hx hb dX3_cools_173 rfl (lv_at hl 4 rfl) ?_
            refine lv_iload_n hx hb dX3_cools_174 rfl (lv_at hl 5 rfl) ?_
            refine lv_iconst (v := 3) hx hb dX3_cools_175 (by decide) ?_
            refine lv_idiv hx hb dX3_cools_176 (by decide) ?_
            refine lv_iconst (v := 3) hx hb dX3_cools_177 (by decide) ?_
            refine lv_aload_n hx hb dX3_cools_178 rfl (lv_at hl 4 rfl) ?_
            refine lv_iload_n hx hb dX3_cools_179 rfl (lv_at hl 5 rfl) ?_
            refine lv_iconst (v := 3) hx hb dX3_cools_180 (by decide) ?_
            refine lv_idiv hx hb dX3_cools_181 (by decide) ?_
            refine lv_iconst (v := 3) hx hb dX3_cools_182 (by decide) ?_
            refine gh_calli hg (gh_runV (As := [.int ((nI i_3) / 3), .int 3]) (rest := [.int 3, .int ((nI i_3) / 3), .ref o]) hC hg (t_zone l V o ad I (va_up (va_up (va_up A 6 (cpn (fun z => zn (A 0) z 3) (A 6) 8)) 0 ((cool (A 0) (F 0) i_3).1)) 0 (ps ((cool (A 0) (F 0) i_3).1) i_3 2 (coolB (A 0) ((cool (A 0) (F 0) i_3).1) i_3))) (va_up F 0 ((cool (A 0) (F 0) i_3).2)) _ hT.1 ((nI i_3) / 3) 3 (i_3 / 3) 3 (nx_div rfl (show ((3 : Int32)) = nI 3 from rfl) (by omega) (by omega) (by omega)) (show ((3 : Int32)) = nI 3 from rfl) (by omega) (by omega)) 2 (lw_V q3920 q3922 qs59 q138 q3923) hT.1.1 rfl hd_X3_zone ⟨Nat.le_of_ble_eq_true rfl, Nat.le_of_ble_eq_true rfl⟩ rfl hl.1 rfl (Nat.le_of_ble_eq_true rfl) dX3_cools_183 ⟨Nat.le_of_ble_eq_true rfl, Nat.le_of_ble_eq_true rfl⟩) (fun r_19 g H locs hg hp => ?_)
            obtain ⟨hp, hq⟩ := hp
            replace hp : r_19 = (zn (ps ((cool (A 0) (F 0) i_3).1) i_3 2 (coolB (A 0) ((cool (A 0) (F 0) i_3).1) i_3)) (i_3 / 3) 3) := hp
            subst hp
            rw [hq] at hg
            refine lv_iload hx hb dX3_cools_186 (lv_at hl 0 rfl) ?_
            refine lv_aload_n hx hb dX3_cools_188 rfl (lv_at hl 4 rfl) ?_
            refine gh_get (v := .ref (ad 6)) hC hg hT.1.1 fX3_41_0 rfl dX3_cools_189 ?_
            refine lv_iload_n hx hb dX3_cools_192 rfl (lv_at hl 5 rfl) ?_
            refine lv_iconst (v := 3) hx hb dX3_cools_193 (by decide) ?_
            refine lv_idiv hx hb dX3_cools_194 (by decide) ?_
            refine gh_iald (n := 8) (f := (cpn (fun z => zn (A 0) z 3) (A 6) 8)) hC hg (hT.1.2.1 6 (by decide)) (nx_div rfl (show ((3 : Int32)) = nI 3 from rfl) (by omega) (by omega) (by omega)) (by omega) (by omega) dX3_cools_195 ?_
            refine W.eq (g2 := F0 mm 196 ls [.int (zn (A 0) (i_3 / 3) 3), .int (coolB (A 0) ((cool (A 0) (F 0) i_3).1) i_3), .int (zn (ps ((cool (A 0) (F 0) i_3).1) i_3 2 (coolB (A 0) ((cool (A 0) (F 0) i_3).1) i_3)) (i_3 / 3) 3), .int 3, .int ((nI i_3) / 3), .ref o]) (by rw [cpn_lt (f := (fun z => zn (A 0) z 3)) (by omega)] <;> rfl) ?_
            refine lv_icmp_le (tgt := 203) hx hb dX3_cools_196 (by decide) (fun c_20 => ?_) (fun c_20 => ?_)
            · skip
              refine lv_iload hx hb dX3_cools_203 (lv_at hl 0 rfl) ?_
              refine lv_aload_n hx hb dX3_cools_205 rfl (lv_at hl 4 rfl) ?_
              refine gh_get (v := .ref (ad 6)) hC hg hT.1.1 fX3_41_0 rfl dX3_cools_206 ?_
              refine lv_iload_n hx hb dX3_cools_209 rfl (lv_at hl 5 rfl) ?_
              refine lv_iconst (v := 3) hx hb dX3_cools_210 (by decide) ?_
              refine lv_idiv hx hb dX3_cools_211 (by decide) ?_
              refine gh_iald (n := 8) (f := (cpn (fun z => zn (A 0) z 3) (A 6) 8)) hC hg (hT.1.2.1 6 (by decide)) (nx_div rfl (show ((3 : Int32)) = nI 3 from rfl) (by omega) (by omega) (by omega)) (by omega) (by omega) dX3_cools_212 ?_
              refine W.eq (g2 := F0 mm 213 ls [.int (zn (A 0) (i_3 / 3) 3), .int (coolB (A 0) ((cool (A 0) (F 0) i_3).1) i_3), .int (zn (ps ((cool (A 0) (F 0) i_3).1) i_3 2 (coolB (A 0) ((cool (A 0) (F 0) i_3).1) i_3)) (i_3 / 3) 3), .int 3, .int ((nI i_3) / 3), .ref o]) (by rw [cpn_lt (f := (fun z => zn (A 0) z 3)) (by omega)] <;> rfl) ?_
              refine lv_icmp_ge (tgt := 220) hx hb dX3_cools_213 (by decide) (fun c_21 => ?_) (fun c_21 => ?_)
              · skip
                refine lv_iconst (v := 0) hx hb dX3_cools_220 (by decide) ?_
                refine lv_iadd hx hb dX3_cools_221 ?_
                refine gh_callv hg (gh_runV (As := [.int ((nI i_3) / 3), .int 3, .int ((zn (ps ((cool (A 0) (F 0) i_3).1) i_3 2 (coolB (A 0) ((cool (A 0) (F 0) i_3).1) i_3)) (i_3 / 3) 3) + 0)]) (rest := []) hC hg (t_putZone l V o ad I (va_up (va_up (va_up A 6 (cpn (fun z => zn (A 0) z 3) (A 6) 8)) 0 ((cool (A 0) (F 0) i_3).1)) 0 (ps ((cool (A 0) (F 0) i_3).1) i_3 2 (coolB (A 0) ((cool (A 0) (F 0) i_3).1) i_3))) (va_up F 0 ((cool (A 0) (F 0) i_3).2)) _ hT.1 ((nI i_3) / 3) 3 ((zn (ps ((cool (A 0) (F 0) i_3).1) i_3 2 (coolB (A 0) ((cool (A 0) (F 0) i_3).1) i_3)) (i_3 / 3) 3) + 0) (i_3 / 3) 3 (nx_div rfl (show ((3 : Int32)) = nI 3 from rfl) (by omega) (by omega) (by omega)) (show ((3 : Int32)) = nI 3 from rfl) (by omega) (by omega)) 3 (lw_V q3822 q3824 qs52 q138 q3825) hT.1.1 rfl hd_X3_putZone ⟨Nat.le_of_ble_eq_true rfl, Nat.le_of_ble_eq_true rfl⟩ rfl hl.1 rfl (Nat.le_of_ble_eq_true rfl) dX3_cools_222 ⟨Nat.le_of_ble_eq_true rfl, Nat.le_of_ble_eq_true rfl⟩) (fun g H locs hg hp => ?_)
                have hT : tw_W V g0 g o ad I (va_up (va_up (va_up (va_up A 6 (cpn (fun z => zn (A 0) z 3) (A 6) 8)) 0 ((cool (A 0) (F 0) i_3).1)) 0 (ps ((cool (A 0) (F 0) i_3).1) i_3 2 (coolB (A 0) ((cool (A 0) (F 0) i_3).1) i_3))) 0 (zs (ps ((cool (A 0) (F 0) i_3).1) i_3 2 (coolB (A 0) ((cool (A 0) (F 0) i_3).1) i_3)) (i_3 / 3) 3 ((zn (ps ((cool (A 0) (F 0) i_3).1) i_3 2 (coolB (A 0) ((cool (A 0) (F 0) i_3).1) i_3)) (i_3 / 3) 3) + 0))) (va_up F 0 ((cool (A 0) (F 0) i_3).2)) := hT.call hp
                refine lv_iinc (v := (nI (i_3 + 1))) (lv' := [(1, .int (nI (i_3 + 1))), (5, .int (coolB (A 0) ((cool (A 0) (F 0) i_3).1) i_3)), (4, .int (pl ((cool (A 0) (F 0) i_3).1) i_3 2)), (3, .int (lt ((cool (A 0) (F 0) i_3).1) ((pl ((cool (A 0) (F 0) i_3).1) i_3 0).toNatClampNeg) 0)), (2, .int (lt ((cool (A 0) (F 0) i_3).1) ((pl ((cool (A 0) (F 0) i_3).1) i_3 0).toNatClampNeg) 1)), (0, .ref o)]) hx hb dX3_cools_225 hl (k := 5) rfl (nx_iinc rfl) (by decide) rfl (fun ls hl => ?_)
                refine lv_goto (tgt := 28) hx hb dX3_cools_228 (by decide) ?_
                exact ih28 _ _ _ _ hg ⟨(hT.eqAF (fam8 (show (zs (ps ((cool (A 0) (F 0) i_3).1) i_3 2 (coolB (A 0) ((cool (A 0) (F 0) i_3).1) i_3)) (i_3 / 3) 3 ((zn (ps ((cool (A 0) (F 0) i_3).1) i_3 2 (coolB (A 0) ((cool (A 0) (F 0) i_3).1) i_3)) (i_3 / 3) 3) + 0)) = (cool (A 0) (F 0) (i_3 + 1)).1 from by rw [cool_s]; unfold cool1; rw [if_neg pc_8]; show _ = coolX _ _ _; unfold coolX coolG; simp only [if_pos c_16, if_pos c_18, if_pos c_20, if_pos c_21]) rfl rfl rfl rfl rfl rfl rfl (fun _ => rfl)) (fam4 (show (cool (A 0) (F 0) i_3).2 = (cool (A 0) (F 0) (i_3 + 1)).2 from by rw [cool_s]; unfold cool1; rw [if_neg pc_8]; show _ = coolT _ _ _ _; unfold coolT; simp only [if_pos c_16, if_pos c_18, if_pos c_20, if_pos c_21]) rfl rfl rfl (fun _ => rfl))), lv_sub hl [5, 0] rfl⟩
              refine lv_iconst (v := (-1)) hx hb dX3_cools_216 (by decide) ?_
              refine lv_goto (tgt := 221) hx hb dX3_cools_217 (by decide) ?_
              refine lv_iadd hx hb dX3_cools_221 ?_
              refine gh_callv hg (gh_runV (As := [.int ((nI i_3) / 3), .int 3, .int ((zn (ps ((cool (A 0) (F 0) i_3).1) i_3 2 (coolB (A 0) ((cool (A 0) (F 0) i_3).1) i_3)) (i_3 / 3) 3) + (-1))]) (rest := []) hC hg (t_putZone l V o ad I (va_up (va_up (va_up A 6 (cpn (fun z => zn (A 0) z 3) (A 6) 8)) 0 ((cool (A 0) (F 0) i_3).1)) 0 (ps ((cool (A 0) (F 0) i_3).1) i_3 2 (coolB (A 0) ((cool (A 0) (F 0) i_3).1) i_3))) (va_up F 0 ((cool (A 0) (F 0) i_3).2)) _ hT.1 ((nI i_3) / 3) 3 ((zn (ps ((cool (A 0) (F 0) i_3).1) i_3 2 (coolB (A 0) ((cool (A 0) (F 0) i_3).1) i_3)) (i_3 / 3) 3) + (-1)) (i_3 / 3) 3 (nx_div rfl (show ((3 : Int32)) = nI 3 from rfl) (by omega) (by omega) (by omega)) (show ((3 : Int32)) = nI 3 from rfl) (by omega) (by omega)) 3 (lw_V q3822 q3824 qs52 q138 q3825) hT.1.1 rfl hd_X3_putZone ⟨Nat.le_of_ble_eq_true rfl, Nat.le_of_ble_eq_true rfl⟩ rfl hl.1 rfl (Nat.le_of_ble_eq_true rfl) dX3_cools_222 ⟨Nat.le_of_ble_eq_true rfl, Nat.le_of_ble_eq_true rfl⟩) (fun g H locs hg hp => ?_)
              have hT : tw_W V g0 g o ad I (va_up (va_up (va_up (va_up A 6 (cpn (fun z => zn (A 0) z 3) (A 6) 8)) 0 ((cool (A 0) (F 0) i_3).1)) 0 (ps ((cool (A 0) (F 0) i_3).1) i_3 2 (coolB (A 0) ((cool (A 0) (F 0) i_3).1) i_3))) 0 (zs (ps ((cool (A 0) (F 0) i_3).1) i_3 2 (coolB (A 0) ((cool (A 0) (F 0) i_3).1) i_3)) (i_3 / 3) 3 ((zn (ps ((cool (A 0) (F 0) i_3).1) i_3 2 (coolB (A 0) ((cool (A 0) (F 0) i_3).1) i_3)) (i_3 / 3) 3) + (-1)))) (va_up F 0 ((cool (A 0) (F 0) i_3).2)) := hT.call hp
              refine lv_iinc (v := (nI (i_3 + 1))) (lv' := [(1, .int (nI (i_3 + 1))), (5, .int (coolB (A 0) ((cool (A 0) (F 0) i_3).1) i_3)), (4, .int (pl ((cool (A 0) (F 0) i_3).1) i_3 2)), (3, .int (lt ((cool (A 0) (F 0) i_3).1) ((pl ((cool (A 0) (F 0) i_3).1) i_3 0).toNatClampNeg) 0)), (2, .int (lt ((cool (A 0) (F 0) i_3).1) ((pl ((cool (A 0) (F 0) i_3).1) i_3 0).toNatClampNeg) 1)), (0, .ref o)]) hx hb dX3_cools_225 hl (k := 5) rfl (nx_iinc rfl) (by decide) rfl (fun ls hl => ?_)
              refine lv_goto (tgt := 28) hx hb dX3_cools_228 (by decide) ?_
              exact ih28 _ _ _ _ hg ⟨(hT.eqAF (fam8 (show (zs (ps ((cool (A 0) (F 0) i_3).1) i_3 2 (coolB (A 0) ((cool (A 0) (F 0) i_3).1) i_3)) (i_3 / 3) 3 ((zn (ps ((cool (A 0) (F 0) i_3).1) i_3 2 (coolB (A 0) ((cool (A 0) (F 0) i_3).1) i_3)) (i_3 / 3) 3) + (-1))) = (cool (A 0) (F 0) (i_3 + 1)).1 from by rw [cool_s]; unfold cool1; rw [if_neg pc_8]; show _ = coolX _ _ _; unfold coolX coolG; simp only [if_pos c_16, if_pos c_18, if_pos c_20, if_neg c_21]) rfl rfl rfl rfl rfl rfl rfl (fun _ => rfl)) (fam4 (show (cool (A 0) (F 0) i_3).2 = (cool (A 0) (F 0) (i_3 + 1)).2 from by rw [cool_s]; unfold cool1; rw [if_neg pc_8]; show _ = coolT _ _ _ _; unfold coolT; simp only [if_pos c_16, if_pos c_18, if_pos c_20, if_neg c_21]) rfl rfl rfl (fun _ => rfl))), lv_sub hl [5, 0] rfl⟩
            refine lv_iconst (v := 1) hx hb dX3_cools_199 (by decide) ?_
            refine lv_goto (tgt := 221) hx hb dX3_cools_200 (by decide) ?_
            refine lv_iadd hx hb dX3_cools_221 ?_
            refine gh_callv hg (gh_runV (As := [.int ((nI i_3) / 3), .int 3, .int ((zn (ps ((cool (A 0) (F 0) i_3).1) i_3 2 (coolB (A 0) ((cool (A 0) (F 0) i_3).1) i_3)) (i_3 / 3) 3) + 1)]) (rest := []) hC hg (t_putZone l V o ad I (va_up (va_up (va_up A 6 (cpn (fun z => zn (A 0) z 3) (A 6) 8)) 0 ((cool (A 0) (F 0) i_3).1)) 0 (ps ((cool (A 0) (F 0) i_3).1) i_3 2 (coolB (A 0) ((cool (A 0) (F 0) i_3).1) i_3))) (va_up F 0 ((cool (A 0) (F 0) i_3).2)) _ hT.1 ((nI i_3) / 3) 3 ((zn (ps ((cool (A 0) (F 0) i_3).1) i_3 2 (coolB (A 0) ((cool (A 0) (F 0) i_3).1) i_3)) (i_3 / 3) 3) + 1) (i_3 / 3) 3 (nx_div rfl (show ((3 : Int32)) = nI 3 from rfl) (by omega) (by omega) (by omega)) (show ((3 : Int32)) = nI 3 from rfl) (by omega) (by omega)) 3 (lw_V q3822 q3824 qs52 q138 q3825) hT.1.1 rfl hd_X3_putZone ⟨Nat.le_of_ble_eq_true rfl, Nat.le_of_ble_eq_true rfl⟩ rfl hl.1 rfl (Nat.le_of_ble_eq_true rfl) dX3_cools_222 ⟨Nat.le_of_ble_eq_true rfl, Nat.le_of_ble_eq_true rfl⟩) (fun g H locs hg hp => ?_)
            have hT : tw_W V g0 g o ad I (va_up (va_up (va_up (va_up A 6 (cpn (fun z => zn (A 0) z 3) (A 6) 8)) 0 ((cool (A 0) (F 0) i_3).1)) 0 (ps ((cool (A 0) (F 0) i_3).1) i_3 2 (coolB (A 0) ((cool (A 0) (F 0) i_3).1) i_3))) 0 (zs (ps ((cool (A 0) (F 0) i_3).1) i_3 2 (coolB (A 0) ((cool (A 0) (F 0) i_3).1) i_3)) (i_3 / 3) 3 ((zn (ps ((cool (A 0) (F 0) i_3).1) i_3 2 (coolB (A 0) ((cool (A 0) (F 0) i_3).1) i_3)) (i_3 / 3) 3) + 1))) (va_up F 0 ((cool (A 0) (F 0) i_3).2)) := hT.call hp
            refine lv_iinc (v := (nI (i_3 + 1))) (lv' := [(1, .int (nI (i_3 + 1))), (5, .int (coolB (A 0) ((cool (A 0) (F 0) i_3).1) i_3)), (4, .int (pl ((cool (A 0) (F 0) i_3).1) i_3 2)), (3, .int (lt ((cool (A 0) (F 0) i_3).1) ((pl ((cool (A 0) (F 0) i_3).1) i_3 0).toNatClampNeg) 0)), (2, .int (lt ((cool (A 0) (F 0) i_3).1) ((pl ((cool (A 0) (F 0) i_3).1) i_3 0).toNatClampNeg) 1)), (0, .ref o)]) hx hb dX3_cools_225 hl (k := 5) rfl (nx_iinc rfl) (by decide) rfl (fun ls hl => ?_)
            refine lv_goto (tgt := 28) hx hb dX3_cools_228 (by decide) ?_
            exact ih28 _ _ _ _ hg ⟨(hT.eqAF (fam8 (show (zs (ps ((cool (A 0) (F 0) i_3).1) i_3 2 (coolB (A 0) ((cool (A 0) (F 0) i_3).1) i_3)) (i_3 / 3) 3 ((zn (ps ((cool (A 0) (F 0) i_3).1) i_3 2 (coolB (A 0) ((cool (A 0) (F 0) i_3).1) i_3)) (i_3 / 3) 3) + 1)) = (cool (A 0) (F 0) (i_3 + 1)).1 from by rw [cool_s]; unfold cool1; rw [if_neg pc_8]; show _ = coolX _ _ _; unfold coolX coolG; simp only [if_pos c_16, if_pos c_18, if_neg c_20]) rfl rfl rfl rfl rfl rfl rfl (fun _ => rfl)) (fam4 (show (cool (A 0) (F 0) i_3).2 = (cool (A 0) (F 0) (i_3 + 1)).2 from by rw [cool_s]; unfold cool1; rw [if_neg pc_8]; show _ = coolT _ _ _ _; unfold coolT; simp only [if_pos c_16, if_pos c_18, if_neg c_20]) rfl rfl rfl (fun _ => rfl))), lv_sub hl [5, 0] rfl⟩
          refine lv_aload_n hx hb dX3_cools_126 rfl (lv_at hl 4 rfl) ?_
          refine gh_get (v := .ref (ad 8)) hC hg hT.1.1 fX3_13_0 rfl dX3_cools_127 ?_
          refine lv_iload_n hx hb dX3_cools_130 rfl (lv_at hl 5 rfl) ?_
          refine lv_iload hx hb dX3_cools_131 (lv_at hl 0 rfl) ?_
          refine lv_iload hx hb dX3_cools_133 (lv_at hl 1 rfl) ?_
          refine lv_icmp_ge (tgt := 164) hx hb dX3_cools_135 (by decide) (fun c_22 => ?_) (fun c_22 => ?_)
          · skip
            refine lv_aload_n hx hb dX3_cools_164 rfl (lv_at hl 4 rfl) ?_
            refine gh_get (v := .ref (ad 8)) hC hg hT.1.1 fX3_13_0 rfl dX3_cools_165 ?_
            refine lv_iload_n hx hb dX3_cools_168 rfl (lv_at hl 5 rfl) ?_
            refine gh_fald (n := 24) (f := ((cool (A 0) (F 0) i_3).2)) hC hg (hT.1.2.2 0 (by decide)) rfl (by omega) (by omega) dX3_cools_169 ?_
            refine lv_fconst2 hx hb dX3_cools_170 ?_
            refine lv_fdiv hx hb dX3_cools_171 (fp_half (hW.2 i_3 hi24)) ?_
            refine gh_fast (n := 24) (f := ((cool (A 0) (F 0) i_3).2)) hC hg (hT.1.2.2 0 (by decide)) rfl (by omega) (by omega) dX3_cools_172 (fun g H locs hg hw hn => ?_)
            have hT : tw_W V g0 g o ad I (va_up (va_up (va_up A 6 (cpn (fun z => zn (A 0) z 3) (A 6) 8)) 0 ((cool (A 0) (F 0) i_3).1)) 0 (ps ((cool (A 0) (F 0) i_3).1) i_3 2 (coolB (A 0) ((cool (A 0) (F 0) i_3).1) i_3))) (va_up (va_up F 0 ((cool (A 0) (F 0) i_3).2)) 0 (va_up ((cool (A 0) (F 0) i_3).2) i_3 (FP.fdiv (((cool (A 0) (F 0) i_3).2) i_3) FP.fconst2))) := hT.putF 0 (by decide) hw hn
            refine lv_aload_n hx hb dX3_cools_173 rfl (lv_at hl 4 rfl) ?_
            refine lv_iload_n hx hb dX3_cools_174 rfl (lv_at hl 5 rfl) ?_
            refine lv_iconst (v := 3) hx hb dX3_cools_175 (by decide) ?_
            refine lv_idiv hx hb dX3_cools_176 (by decide) ?_
            refine lv_iconst (v := 3) hx hb dX3_cools_177 (by decide) ?_
            refine lv_aload_n hx hb dX3_cools_178 rfl (lv_at hl 4 rfl) ?_
            refine lv_iload_n hx hb dX3_cools_179 rfl (lv_at hl 5 rfl) ?_
            refine lv_iconst (v := 3) hx hb dX3_cools_180 (by decide) ?_
            refine lv_idiv hx hb dX3_cools_181 (by decide) ?_
            refine lv_iconst (v := 3) hx hb dX3_cools_182 (by decide) ?_
            refine gh_calli hg (gh_runV (As := [.int ((nI i_3) / 3), .int 3]) (rest := [.int 3, .int ((nI i_3) / 3), .ref o]) hC hg (t_zone l V o ad I (va_up (va_up (va_up A 6 (cpn (fun z => zn (A 0) z 3) (A 6) 8)) 0 ((cool (A 0) (F 0) i_3).1)) 0 (ps ((cool (A 0) (F 0) i_3).1) i_3 2 (coolB (A 0) ((cool (A 0) (F 0) i_3).1) i_3))) (va_up (va_up F 0 ((cool (A 0) (F 0) i_3).2)) 0 (va_up ((cool (A 0) (F 0) i_3).2) i_3 (FP.fdiv (((cool (A 0) (F 0) i_3).2) i_3) FP.fconst2))) _ hT.1 ((nI i_3) / 3) 3 (i_3 / 3) 3 (nx_div rfl (show ((3 : Int32)) = nI 3 from rfl) (by omega) (by omega) (by omega)) (show ((3 : Int32)) = nI 3 from rfl) (by omega) (by omega)) 2 (lw_V q3920 q3922 qs59 q138 q3923) hT.1.1 rfl hd_X3_zone ⟨Nat.le_of_ble_eq_true rfl, Nat.le_of_ble_eq_true rfl⟩ rfl hl.1 rfl (Nat.le_of_ble_eq_true rfl) dX3_cools_183 ⟨Nat.le_of_ble_eq_true rfl, Nat.le_of_ble_eq_true rfl⟩) (fun r_23 g H locs hg hp => ?_)
            obtain ⟨hp, hq⟩ := hp
            replace hp : r_23 = (zn (ps ((cool (A 0) (F 0) i_3).1) i_3 2 (coolB (A 0) ((cool (A 0) (F 0) i_3).1) i_3)) (i_3 / 3) 3) := hp
            subst hp
            rw [hq] at hg
            refine lv_iload hx hb dX3_cools_186 (lv_at hl 0 rfl) ?_
            refine lv_aload_n hx hb dX3_cools_188 rfl (lv_at hl 4 rfl) ?_
            refine gh_get (v := .ref (ad 6)) hC hg hT.1.1 fX3_41_0 rfl dX3_cools_189 ?_
            refine lv_iload_n hx hb dX3_cools_192 rfl (lv_at hl 5 rfl) ?_
            refine lv_iconst (v := 3) hx hb dX3_cools_193 (by decide) ?_
            refine lv_idiv hx hb dX3_cools_194 (by decide) ?_
            refine gh_iald (n := 8) (f := (cpn (fun z => zn (A 0) z 3) (A 6) 8)) hC hg (hT.1.2.1 6 (by decide)) (nx_div rfl (show ((3 : Int32)) = nI 3 from rfl) (by omega) (by omega) (by omega)) (by omega) (by omega) dX3_cools_195 ?_
            refine W.eq (g2 := F0 mm 196 ls [.int (zn (A 0) (i_3 / 3) 3), .int (coolB (A 0) ((cool (A 0) (F 0) i_3).1) i_3), .int (zn (ps ((cool (A 0) (F 0) i_3).1) i_3 2 (coolB (A 0) ((cool (A 0) (F 0) i_3).1) i_3)) (i_3 / 3) 3), .int 3, .int ((nI i_3) / 3), .ref o]) (by rw [cpn_lt (f := (fun z => zn (A 0) z 3)) (by omega)] <;> rfl) ?_
            refine lv_icmp_le (tgt := 203) hx hb dX3_cools_196 (by decide) (fun c_24 => ?_) (fun c_24 => ?_)
            · skip
              refine lv_iload hx hb dX3_cools_203 (lv_at hl 0 rfl) ?_
              refine lv_aload_n hx hb dX3_cools_205 rfl (lv_at hl 4 rfl) ?_
              refine gh_get (v := .ref (ad 6)) hC hg hT.1.1 fX3_41_0 rfl dX3_cools_206 ?_
              refine lv_iload_n hx hb dX3_cools_209 rfl (lv_at hl 5 rfl) ?_
              refine lv_iconst (v := 3) hx hb dX3_cools_210 (by decide) ?_
              refine lv_idiv hx hb dX3_cools_211 (by decide) ?_
              refine gh_iald (n := 8) (f := (cpn (fun z => zn (A 0) z 3) (A 6) 8)) hC hg (hT.1.2.1 6 (by decide)) (nx_div rfl (show ((3 : Int32)) = nI 3 from rfl) (by omega) (by omega) (by omega)) (by omega) (by omega) dX3_cools_212 ?_
              refine W.eq (g2 := F0 mm 213 ls [.int (zn (A 0) (i_3 / 3) 3), .int (coolB (A 0) ((cool (A 0) (F 0) i_3).1) i_3), .int (zn (ps ((cool (A 0) (F 0) i_3).1) i_3 2 (coolB (A 0) ((cool (A 0) (F 0) i_3).1) i_3)) (i_3 / 3) 3), .int 3, .int ((nI i_3) / 3), .ref o]) (by rw [cpn_lt (f := (fun z => zn (A 0) z 3)) (by omega)] <;> rfl) ?_
              refine lv_icmp_ge (tgt := 220) hx hb dX3_cools_213 (by decide) (fun c_25 => ?_) (fun c_25 => ?_)
              · skip
                refine lv_iconst (v := 0) hx hb dX3_cools_220 (by decide) ?_
                refine lv_iadd hx hb dX3_cools_221 ?_
                refine gh_callv hg (gh_runV (As := [.int ((nI i_3) / 3), .int 3, .int ((zn (ps ((cool (A 0) (F 0) i_3).1) i_3 2 (coolB (A 0) ((cool (A 0) (F 0) i_3).1) i_3)) (i_3 / 3) 3) + 0)]) (rest := []) hC hg (t_putZone l V o ad I (va_up (va_up (va_up A 6 (cpn (fun z => zn (A 0) z 3) (A 6) 8)) 0 ((cool (A 0) (F 0) i_3).1)) 0 (ps ((cool (A 0) (F 0) i_3).1) i_3 2 (coolB (A 0) ((cool (A 0) (F 0) i_3).1) i_3))) (va_up (va_up F 0 ((cool (A 0) (F 0) i_3).2)) 0 (va_up ((cool (A 0) (F 0) i_3).2) i_3 (FP.fdiv (((cool (A 0) (F 0) i_3).2) i_3) FP.fconst2))) _ hT.1 ((nI i_3) / 3) 3 ((zn (ps ((cool (A 0) (F 0) i_3).1) i_3 2 (coolB (A 0) ((cool (A 0) (F 0) i_3).1) i_3)) (i_3 / 3) 3) + 0) (i_3 / 3) 3 (nx_div rfl (show ((3 : Int32)) = nI 3 from rfl) (by omega) (by omega) (by omega)) (show ((3 : Int32)) = nI 3 from rfl) (by omega) (by omega)) 3 (lw_V q3822 q3824 qs52 q138 q3825) hT.1.1 rfl hd_X3_putZone ⟨Nat.le_of_ble_eq_true rfl, Nat.le_of_ble_eq_true rfl⟩ rfl hl.1 rfl (Nat.le_of_ble_eq_true rfl) dX3_cools_222 ⟨Nat.le_of_ble_eq_true rfl, Nat.le_of_ble_eq_true rfl⟩) (fun g H locs hg hp => ?_)
                have hT : tw_W V g0 g o ad I (va_up (va_up (va_up (va_up A 6 (cpn (fun z => zn (A 0) z 3) (A 6) 8)) 0 ((cool (A 0) (F 0) i_3).1)) 0 (ps ((cool (A 0) (F 0) i_3).1) i_3 2 (coolB (A 0) ((cool (A 0) (F 0) i_3).1) i_3))) 0 (zs (ps ((cool (A 0) (F 0) i_3).1) i_3 2 (coolB (A 0) ((cool (A 0) (F 0) i_3).1) i_3)) (i_3 / 3) 3 ((zn (ps ((cool (A 0) (F 0) i_3).1) i_3 2 (coolB (A 0) ((cool (A 0) (F 0) i_3).1) i_3)) (i_3 / 3) 3) + 0))) (va_up (va_up F 0 ((cool (A 0) (F 0) i_3).2)) 0 (va_up ((cool (A 0) (F 0) i_3).2) i_3 (FP.fdiv (((cool (A 0) (F 0) i_3).2) i_3) FP.fconst2))) := hT.call hp
                refine lv_iinc (v := (nI (i_3 + 1))) (lv' := [(1, .int (nI (i_3 + 1))), (5, .int (coolB (A 0) ((cool (A 0) (F 0) i_3).1) i_3)), (4, .int (pl ((cool (A 0) (F 0) i_3).1) i_3 2)), (3, .int (lt ((cool (A 0) (F 0) i_3).1) ((pl ((cool (A 0) (F 0) i_3).1) i_3 0).toNatClampNeg) 0)), (2, .int (lt ((cool (A 0) (F 0) i_3).1) ((pl ((cool (A 0) (F 0) i_3).1) i_3 0).toNatClampNeg) 1)), (0, .ref o)]) hx hb dX3_cools_225 hl (k := 5) rfl (nx_iinc rfl) (by decide) rfl (fun ls hl => ?_)
                refine lv_goto (tgt := 28) hx hb dX3_cools_228 (by decide) ?_
                exact ih28 _ _ _ _ hg ⟨(hT.eqAF (fam8 (show (zs (ps ((cool (A 0) (F 0) i_3).1) i_3 2 (coolB (A 0) ((cool (A 0) (F 0) i_3).1) i_3)) (i_3 / 3) 3 ((zn (ps ((cool (A 0) (F 0) i_3).1) i_3 2 (coolB (A 0) ((cool (A 0) (F 0) i_3).1) i_3)) (i_3 / 3) 3) + 0)) = (cool (A 0) (F 0) (i_3 + 1)).1 from by rw [cool_s]; unfold cool1; rw [if_neg pc_8]; show _ = coolX _ _ _; unfold coolX coolG; simp only [if_pos c_16, if_neg c_18, if_pos c_22, if_pos c_24, if_pos c_25]) rfl rfl rfl rfl rfl rfl rfl (fun _ => rfl)) (fam4 (show (va_up ((cool (A 0) (F 0) i_3).2) i_3 (FP.fdiv (((cool (A 0) (F 0) i_3).2) i_3) FP.fconst2)) = (cool (A 0) (F 0) (i_3 + 1)).2 from by rw [cool_s]; unfold cool1; rw [if_neg pc_8]; show _ = coolT _ _ _ _; unfold coolT; simp only [if_pos c_16, if_neg c_18, if_pos c_22, if_pos c_24, if_pos c_25]) rfl rfl rfl (fun _ => rfl))), lv_sub hl [5, 0] rfl⟩
              refine lv_iconst (v := (-1)) hx hb dX3_cools_216 (by decide) ?_
              refine lv_goto (tgt := 221) hx hb dX3_cools_217 (by decide) ?_
              refine lv_iadd hx hb dX3_cools_221 ?_
              refine gh_callv hg (gh_runV (As := [.int ((nI i_3) / 3), .int 3, .int ((zn (ps ((cool (A 0) (F 0) i_3).1) i_3 2 (coolB (A 0) ((cool (A 0) (F 0) i_3).1) i_3)) (i_3 / 3) 3) + (-1))]) (rest := []) hC hg (t_putZone l V o ad I (va_up (va_up (va_up A 6 (cpn (fun z => zn (A 0) z 3) (A 6) 8)) 0 ((cool (A 0) (F 0) i_3).1)) 0 (ps ((cool (A 0) (F 0) i_3).1) i_3 2 (coolB (A 0) ((cool (A 0) (F 0) i_3).1) i_3))) (va_up (va_up F 0 ((cool (A 0) (F 0) i_3).2)) 0 (va_up ((cool (A 0) (F 0) i_3).2) i_3 (FP.fdiv (((cool (A 0) (F 0) i_3).2) i_3) FP.fconst2))) _ hT.1 ((nI i_3) / 3) 3 ((zn (ps ((cool (A 0) (F 0) i_3).1) i_3 2 (coolB (A 0) ((cool (A 0) (F 0) i_3).1) i_3)) (i_3 / 3) 3) + (-1)) (i_3 / 3) 3 (nx_div rfl (show ((3 : Int32)) = nI 3 from rfl) (by omega) (by omega) (by omega)) (show ((3 : Int32)) = nI 3 from rfl) (by omega) (by omega)) 3 (lw_V q3822 q3824 qs52 q138 q3825) hT.1.1 rfl hd_X3_putZone ⟨Nat.le_of_ble_eq_true rfl, Nat.le_of_ble_eq_true rfl⟩ rfl hl.1 rfl (Nat.le_of_ble_eq_true rfl) dX3_cools_222 ⟨Nat.le_of_ble_eq_true rfl, Nat.le_of_ble_eq_true rfl⟩) (fun g H locs hg hp => ?_)
              have hT : tw_W V g0 g o ad I (va_up (va_up (va_up (va_up A 6 (cpn (fun z => zn (A 0) z 3) (A 6) 8)) 0 ((cool (A 0) (F 0) i_3).1)) 0 (ps ((cool (A 0) (F 0) i_3).1) i_3 2 (coolB (A 0) ((cool (A 0) (F 0) i_3).1) i_3))) 0 (zs (ps ((cool (A 0) (F 0) i_3).1) i_3 2 (coolB (A 0) ((cool (A 0) (F 0) i_3).1) i_3)) (i_3 / 3) 3 ((zn (ps ((cool (A 0) (F 0) i_3).1) i_3 2 (coolB (A 0) ((cool (A 0) (F 0) i_3).1) i_3)) (i_3 / 3) 3) + (-1)))) (va_up (va_up F 0 ((cool (A 0) (F 0) i_3).2)) 0 (va_up ((cool (A 0) (F 0) i_3).2) i_3 (FP.fdiv (((cool (A 0) (F 0) i_3).2) i_3) FP.fconst2))) := hT.call hp
              refine lv_iinc (v := (nI (i_3 + 1))) (lv' := [(1, .int (nI (i_3 + 1))), (5, .int (coolB (A 0) ((cool (A 0) (F 0) i_3).1) i_3)), (4, .int (pl ((cool (A 0) (F 0) i_3).1) i_3 2)), (3, .int (lt ((cool (A 0) (F 0) i_3).1) ((pl ((cool (A 0) (F 0) i_3).1) i_3 0).toNatClampNeg) 0)), (2, .int (lt ((cool (A 0) (F 0) i_3).1) ((pl ((cool (A 0) (F 0) i_3).1) i_3 0).toNatClampNeg) 1)), (0, .ref o)]) hx hb dX3_cools_225 hl (k := 5) rfl (nx_iinc rfl) (by decide) rfl (fun ls hl => ?_)
              refine lv_goto (tgt := 28) hx hb dX3_cools_228 (by decide) ?_
              exact ih28 _ _ _ _ hg ⟨(hT.eqAF (fam8 (show (zs (ps ((cool (A 0) (F 0) i_3).1) i_3 2 (coolB (A 0) ((cool (A 0) (F 0) i_3).1) i_3)) (i_3 / 3) 3 ((zn (ps ((cool (A 0) (F 0) i_3).1) i_3 2 (coolB (A 0) ((cool (A 0) (F 0) i_3).1) i_3)) (i_3 / 3) 3) + (-1))) = (cool (A 0) (F 0) (i_3 + 1)).1 from by rw [cool_s]; unfold cool1; rw [if_neg pc_8]; show _ = coolX _ _ _; unfold coolX coolG; simp only [if_pos c_16, if_neg c_18, if_pos c_22, if_pos c_24, if_neg c_25]) rfl rfl rfl rfl rfl rfl rfl (fun _ => rfl)) (fam4 (show (va_up ((cool (A 0) (F 0) i_3).2) i_3 (FP.fdiv (((cool (A 0) (F 0) i_3).2) i_3) FP.fconst2)) = (cool (A 0) (F 0) (i_3 + 1)).2 from by rw [cool_s]; unfold cool1; rw [if_neg pc_8]; show _ = coolT _ _ _ _; unfold coolT; simp only [if_pos c_16, if_neg c_18, if_pos c_22, if_pos c_24, if_neg c_25]) rfl rfl rfl (fun _ => rfl))), lv_sub hl [5, 0] rfl⟩
            refine lv_iconst (v := 1) hx hb dX3_cools_199 (by decide) ?_
            refine lv_goto (tgt := 221) hx hb dX3_cools_200 (by decide) ?_
            refine lv_iadd hx hb dX3_cools_221 ?_
            refine gh_callv hg (gh_runV (As := [.int ((nI i_3) / 3), .int 3, .int ((zn (ps ((cool (A 0) (F 0) i_3).1) i_3 2 (coolB (A 0) ((cool (A 0) (F 0) i_3).1) i_3)) (i_3 / 3) 3) + 1)]) (rest := []) hC hg (t_putZone l V o ad I (va_up (va_up (va_up A 6 (cpn (fun z => zn (A 0) z 3) (A 6) 8)) 0 ((cool (A 0) (F 0) i_3).1)) 0 (ps ((cool (A 0) (F 0) i_3).1) i_3 2 (coolB (A 0) ((cool (A 0) (F 0) i_3).1) i_3))) (va_up (va_up F 0 ((cool (A 0) (F 0) i_3).2)) 0 (va_up ((cool (A 0) (F 0) i_3).2) i_3 (FP.fdiv (((cool (A 0) (F 0) i_3).2) i_3) FP.fconst2))) _ hT.1 ((nI i_3) / 3) 3 ((zn (ps ((cool (A 0) (F 0) i_3).1) i_3 2 (coolB (A 0) ((cool (A 0) (F 0) i_3).1) i_3)) (i_3 / 3) 3) + 1) (i_3 / 3) 3 (nx_div rfl (show ((3 : Int32)) = nI 3 from rfl) (by omega) (by omega) (by omega)) (show ((3 : Int32)) = nI 3 from rfl) (by omega) (by omega)) 3 (lw_V q3822 q3824 qs52 q138 q3825) hT.1.1 rfl hd_X3_putZone ⟨Nat.le_of_ble_eq_true rfl, Nat.le_of_ble_eq_true rfl⟩ rfl hl.1 rfl (Nat.le_of_ble_eq_true rfl) dX3_cools_222 ⟨Nat.le_of_ble_eq_true rfl, Nat.le_of_ble_eq_true rfl⟩) (fun g H locs hg hp => ?_)
            have hT : tw_W V g0 g o ad I (va_up (va_up (va_up (va_up A 6 (cpn (fun z => zn (A 0) z 3) (A 6) 8)) 0 ((cool (A 0) (F 0) i_3).1)) 0 (ps ((cool (A 0) (F 0) i_3).1) i_3 2 (coolB (A 0) ((cool (A 0) (F 0) i_3).1) i_3))) 0 (zs (ps ((cool (A 0) (F 0) i_3).1) i_3 2 (coolB (A 0) ((cool (A 0) (F 0) i_3).1) i_3)) (i_3 / 3) 3 ((zn (ps ((cool (A 0) (F 0) i_3).1) i_3 2 (coolB (A 0) ((cool (A 0) (F 0) i_3).1) i_3)) (i_3 / 3) 3) + 1))) (va_up (va_up F 0 ((cool (A 0) (F 0) i_3).2)) 0 (va_up ((cool (A 0) (F 0) i_3).2) i_3 (FP.fdiv (((cool (A 0) (F 0) i_3).2) i_3) FP.fconst2))) := hT.call hp
            refine lv_iinc (v := (nI (i_3 + 1))) (lv' := [(1, .int (nI (i_3 + 1))), (5, .int (coolB (A 0) ((cool (A 0) (F 0) i_3).1) i_3)), (4, .int (pl ((cool (A 0) (F 0) i_3).1) i_3 2)), (3, .int (lt ((cool (A 0) (F 0) i_3).1) ((pl ((cool (A 0) (F 0) i_3).1) i_3 0).toNatClampNeg) 0)), (2, .int (lt ((cool (A 0) (F 0) i_3).1) ((pl ((cool (A 0) (F 0) i_3).1) i_3 0).toNatClampNeg) 1)), (0, .ref o)]) hx hb dX3_cools_225 hl (k := 5) rfl (nx_iinc rfl) (by decide) rfl (fun ls hl => ?_)
            refine lv_goto (tgt := 28) hx hb dX3_cools_228 (by decide) ?_
            exact ih28 _ _ _ _ hg ⟨(hT.eqAF (fam8 (show (zs (ps ((cool (A 0) (F 0) i_3).1) i_3 2 (coolB (A 0) ((cool (A 0) (F 0) i_3).1) i_3)) (i_3 / 3) 3 ((zn (ps ((cool (A 0) (F 0) i_3).1) i_3 2 (coolB (A 0) ((cool (A 0) (F 0) i_3).1) i_3)) (i_3 / 3) 3) + 1)) = (cool (A 0) (F 0) (i_3 + 1)).1 from by rw [cool_s]; unfold cool1; rw [if_neg pc_8]; show _ = coolX _ _ _; unfold coolX coolG; simp only [if_pos c_16, if_neg c_18, if_pos c_22, if_neg c_24]) rfl rfl rfl rfl rfl rfl rfl (fun _ => rfl)) (fam4 (show (va_up ((cool (A 0) (F 0) i_3).2) i_3 (FP.fdiv (((cool (A 0) (F 0) i_3).2) i_3) FP.fconst2)) = (cool (A 0) (F 0) (i_3 + 1)).2 from by rw [cool_s]; unfold cool1; rw [if_neg pc_8]; show _ = coolT _ _ _ _; unfold coolT; simp only [if_pos c_16, if_neg c_18, if_pos c_22, if_neg c_24]) rfl rfl rfl (fun _ => rfl))), lv_sub hl [5, 0] rfl⟩
          refine lv_aload_n hx hb dX3_cools_138 rfl (lv_at hl 4 rfl) ?_
          refine gh_get (v := .ref (ad 8)) hC hg hT.1.1 fX3_13_0 rfl dX3_cools_139 ?_
          refine lv_iload_n hx hb dX3_cools_142 rfl (lv_at hl 5 rfl) ?_
          refine gh_fald (n := 24) (f := ((cool (A 0) (F 0) i_3).2)) hC hg (hT.1.2.2 0 (by decide)) rfl (by omega) (by omega) dX3_cools_143 ?_
          refine lv_iload_n hx hb dX3_cools_144 rfl (lv_at hl 3 rfl) ?_
          refine lv_iload_n hx hb dX3_cools_145 rfl (lv_at hl 3 rfl) ?_
          refine lv_imul hx hb dX3_cools_146 ?_
          refine lv_iload hx hb dX3_cools_147 (lv_at hl 1 rfl) ?_
          refine lv_iload hx hb dX3_cools_149 (lv_at hl 0 rfl) ?_
          refine lv_isub hx hb dX3_cools_151 ?_
          refine lv_imul hx hb dX3_cools_152 ?_
          refine lv_i2f hx hb dX3_cools_153 ?_
          refine lv_iload_n hx hb dX3_cools_154 rfl (lv_at hl 2 rfl) ?_
          refine gh_calli hg (gh_runS (As := [.int (lt ((cool (A 0) (F 0) i_3).1) ((pl ((cool (A 0) (F 0) i_3).1) i_3 0).toNatClampNeg) 0)]) (rest := [.float (FP.i2f (((lt ((cool (A 0) (F 0) i_3).1) ((pl ((cool (A 0) (F 0) i_3).1) i_3 0).toNatClampNeg) 1) * (lt ((cool (A 0) (F 0) i_3).1) ((pl ((cool (A 0) (F 0) i_3).1) i_3 0).toNatClampNeg) 1)) * ((pl ((cool (A 0) (F 0) i_3).1) i_3 2) - (coolB (A 0) ((cool (A 0) (F 0) i_3).1) i_3)))), .float (((cool (A 0) (F 0) i_3).2) i_3), .int (nI i_3), .ref (ad 8)]) hC hg (t_soft l V _ (lt ((cool (A 0) (F 0) i_3).1) ((pl ((cool (A 0) (F 0) i_3).1) i_3 0).toNatClampNeg) 0)) 1 (lw_S q4056 q4057 q138 q4058) hd_X3_soft.2 ⟨Nat.le_of_ble_eq_true rfl, Nat.le_of_ble_eq_true rfl⟩ rfl hl.1 rfl (Nat.le_of_ble_eq_true rfl) dX3_cools_155 ⟨Nat.le_of_ble_eq_true rfl, Nat.le_of_ble_eq_true rfl⟩) (fun r_26 g H locs hg hp => ?_)
          obtain ⟨hp, hq⟩ := hp
          replace hp : r_26 = (sp_soft (lt ((cool (A 0) (F 0) i_3).1) ((pl ((cool (A 0) (F 0) i_3).1) i_3 0).toNatClampNeg) 0)) := hp
          subst hp
          rw [hq] at hg
          refine lv_i2f hx hb dX3_cools_158 ?_
          refine lv_fdiv hx hb dX3_cools_159 (fp_div _ _ (sp_soft_in _)).1 ?_
          refine lv_fadd hx hb dX3_cools_160 (fp_add (hW.2 i_3 hi24) (fp_div _ _ (sp_soft_in _)).2) ?_
          refine lv_goto (tgt := 172) hx hb dX3_cools_161 (by decide) ?_
          refine gh_fast (n := 24) (f := ((cool (A 0) (F 0) i_3).2)) hC hg (hT.1.2.2 0 (by decide)) rfl (by omega) (by omega) dX3_cools_172 (fun g H locs hg hw hn => ?_)
          have hT : tw_W V g0 g o ad I (va_up (va_up (va_up A 6 (cpn (fun z => zn (A 0) z 3) (A 6) 8)) 0 ((cool (A 0) (F 0) i_3).1)) 0 (ps ((cool (A 0) (F 0) i_3).1) i_3 2 (coolB (A 0) ((cool (A 0) (F 0) i_3).1) i_3))) (va_up (va_up F 0 ((cool (A 0) (F 0) i_3).2)) 0 (va_up ((cool (A 0) (F 0) i_3).2) i_3 (FP.fadd (((cool (A 0) (F 0) i_3).2) i_3) (FP.fdiv (FP.i2f (((lt ((cool (A 0) (F 0) i_3).1) ((pl ((cool (A 0) (F 0) i_3).1) i_3 0).toNatClampNeg) 1) * (lt ((cool (A 0) (F 0) i_3).1) ((pl ((cool (A 0) (F 0) i_3).1) i_3 0).toNatClampNeg) 1)) * ((pl ((cool (A 0) (F 0) i_3).1) i_3 2) - (coolB (A 0) ((cool (A 0) (F 0) i_3).1) i_3)))) (FP.i2f (sp_soft (lt ((cool (A 0) (F 0) i_3).1) ((pl ((cool (A 0) (F 0) i_3).1) i_3 0).toNatClampNeg) 0))))))) := hT.putF 0 (by decide) hw hn
          refine lv_aload_n hx hb dX3_cools_173 rfl (lv_at hl 4 rfl) ?_
          refine lv_iload_n hx hb dX3_cools_174 rfl (lv_at hl 5 rfl) ?_
          refine lv_iconst (v := 3) hx hb dX3_cools_175 (by decide) ?_
          refine lv_idiv hx hb dX3_cools_176 (by decide) ?_
          refine lv_iconst (v := 3) hx hb dX3_cools_177 (by decide) ?_
          refine lv_aload_n hx hb dX3_cools_178 rfl (lv_at hl 4 rfl) ?_
          refine lv_iload_n hx hb dX3_cools_179 rfl (lv_at hl 5 rfl) ?_
          refine lv_iconst (v := 3) hx hb dX3_cools_180 (by decide) ?_
          refine lv_idiv hx hb dX3_cools_181 (by decide) ?_
          refine lv_iconst (v := 3) hx hb dX3_cools_182 (by decide) ?_
          refine gh_calli hg (gh_runV (As := [.int ((nI i_3) / 3), .int 3]) (rest := [.int 3, .int ((nI i_3) / 3), .ref o]) hC hg (t_zone l V o ad I (va_up (va_up (va_up A 6 (cpn (fun z => zn (A 0) z 3) (A 6) 8)) 0 ((cool (A 0) (F 0) i_3).1)) 0 (ps ((cool (A 0) (F 0) i_3).1) i_3 2 (coolB (A 0) ((cool (A 0) (F 0) i_3).1) i_3))) (va_up (va_up F 0 ((cool (A 0) (F 0) i_3).2)) 0 (va_up ((cool (A 0) (F 0) i_3).2) i_3 (FP.fadd (((cool (A 0) (F 0) i_3).2) i_3) (FP.fdiv (FP.i2f (((lt ((cool (A 0) (F 0) i_3).1) ((pl ((cool (A 0) (F 0) i_3).1) i_3 0).toNatClampNeg) 1) * (lt ((cool (A 0) (F 0) i_3).1) ((pl ((cool (A 0) (F 0) i_3).1) i_3 0).toNatClampNeg) 1)) * ((pl ((cool (A 0) (F 0) i_3).1) i_3 2) - (coolB (A 0) ((cool (A 0) (F 0) i_3).1) i_3)))) (FP.i2f (sp_soft (lt ((cool (A 0) (F 0) i_3).1) ((pl ((cool (A 0) (F 0) i_3).1) i_3 0).toNatClampNeg) 0))))))) _ hT.1 ((nI i_3) / 3) 3 (i_3 / 3) 3 (nx_div rfl (show ((3 : Int32)) = nI 3 from rfl) (by omega) (by omega) (by omega)) (show ((3 : Int32)) = nI 3 from rfl) (by omega) (by omega)) 2 (lw_V q3920 q3922 qs59 q138 q3923) hT.1.1 rfl hd_X3_zone ⟨Nat.le_of_ble_eq_true rfl, Nat.le_of_ble_eq_true rfl⟩ rfl hl.1 rfl (Nat.le_of_ble_eq_true rfl) dX3_cools_183 ⟨Nat.le_of_ble_eq_true rfl, Nat.le_of_ble_eq_true rfl⟩) (fun r_27 g H locs hg hp => ?_)
          obtain ⟨hp, hq⟩ := hp
          replace hp : r_27 = (zn (ps ((cool (A 0) (F 0) i_3).1) i_3 2 (coolB (A 0) ((cool (A 0) (F 0) i_3).1) i_3)) (i_3 / 3) 3) := hp
          subst hp
          rw [hq] at hg
          refine lv_iload hx hb dX3_cools_186 (lv_at hl 0 rfl) ?_
          refine lv_aload_n hx hb dX3_cools_188 rfl (lv_at hl 4 rfl) ?_
          refine gh_get (v := .ref (ad 6)) hC hg hT.1.1 fX3_41_0 rfl dX3_cools_189 ?_
          refine lv_iload_n hx hb dX3_cools_192 rfl (lv_at hl 5 rfl) ?_
          refine lv_iconst (v := 3) hx hb dX3_cools_193 (by decide) ?_
          refine lv_idiv hx hb dX3_cools_194 (by decide) ?_
          refine gh_iald (n := 8) (f := (cpn (fun z => zn (A 0) z 3) (A 6) 8)) hC hg (hT.1.2.1 6 (by decide)) (nx_div rfl (show ((3 : Int32)) = nI 3 from rfl) (by omega) (by omega) (by omega)) (by omega) (by omega) dX3_cools_195 ?_
          refine W.eq (g2 := F0 mm 196 ls [.int (zn (A 0) (i_3 / 3) 3), .int (coolB (A 0) ((cool (A 0) (F 0) i_3).1) i_3), .int (zn (ps ((cool (A 0) (F 0) i_3).1) i_3 2 (coolB (A 0) ((cool (A 0) (F 0) i_3).1) i_3)) (i_3 / 3) 3), .int 3, .int ((nI i_3) / 3), .ref o]) (by rw [cpn_lt (f := (fun z => zn (A 0) z 3)) (by omega)] <;> rfl) ?_
          refine lv_icmp_le (tgt := 203) hx hb dX3_cools_196 (by decide) (fun c_28 => ?_) (fun c_28 => ?_)
          · skip
            refine lv_iload hx hb dX3_cools_203 (lv_at hl 0 rfl) ?_
            refine lv_aload_n hx hb dX3_cools_205 rfl (lv_at hl 4 rfl) ?_
            refine gh_get (v := .ref (ad 6)) hC hg hT.1.1 fX3_41_0 rfl dX3_cools_206 ?_
            refine lv_iload_n hx hb dX3_cools_209 rfl (lv_at hl 5 rfl) ?_
            refine lv_iconst (v := 3) hx hb dX3_cools_210 (by decide) ?_
            refine lv_idiv hx hb dX3_cools_211 (by decide) ?_
            refine gh_iald (n := 8) (f := (cpn (fun z => zn (A 0) z 3) (A 6) 8)) hC hg (hT.1.2.1 6 (by decide)) (nx_div rfl (show ((3 : Int32)) = nI 3 from rfl) (by omega) (by omega) (by omega)) (by omega) (by omega) dX3_cools_212 ?_
            refine W.eq (g2 := F0 mm 213 ls [.int (zn (A 0) (i_3 / 3) 3), .int (coolB (A 0) ((cool (A 0) (F 0) i_3).1) i_3), .int (zn (ps ((cool (A 0) (F 0) i_3).1) i_3 2 (coolB (A 0) ((cool (A 0) (F 0) i_3).1) i_3)) (i_3 / 3) 3), .int 3, .int ((nI i_3) / 3), .ref o]) (by rw [cpn_lt (f := (fun z => zn (A 0) z 3)) (by omega)] <;> rfl) ?_
            refine lv_icmp_ge (tgt := 220) hx hb dX3_cools_213 (by decide) (fun c_29 => ?_) (fun c_29 => ?_)
            · skip
              refine lv_iconst (v := 0) hx hb dX3_cools_220 (by decide) ?_
              refine lv_iadd hx hb dX3_cools_221 ?_
              refine gh_callv hg (gh_runV (As := [.int ((nI i_3) / 3), .int 3, .int ((zn (ps ((cool (A 0) (F 0) i_3).1) i_3 2 (coolB (A 0) ((cool (A 0) (F 0) i_3).1) i_3)) (i_3 / 3) 3) + 0)]) (rest := []) hC hg (t_putZone l V o ad I (va_up (va_up (va_up A 6 (cpn (fun z => zn (A 0) z 3) (A 6) 8)) 0 ((cool (A 0) (F 0) i_3).1)) 0 (ps ((cool (A 0) (F 0) i_3).1) i_3 2 (coolB (A 0) ((cool (A 0) (F 0) i_3).1) i_3))) (va_up (va_up F 0 ((cool (A 0) (F 0) i_3).2)) 0 (va_up ((cool (A 0) (F 0) i_3).2) i_3 (FP.fadd (((cool (A 0) (F 0) i_3).2) i_3) (FP.fdiv (FP.i2f (((lt ((cool (A 0) (F 0) i_3).1) ((pl ((cool (A 0) (F 0) i_3).1) i_3 0).toNatClampNeg) 1) * (lt ((cool (A 0) (F 0) i_3).1) ((pl ((cool (A 0) (F 0) i_3).1) i_3 0).toNatClampNeg) 1)) * ((pl ((cool (A 0) (F 0) i_3).1) i_3 2) - (coolB (A 0) ((cool (A 0) (F 0) i_3).1) i_3)))) (FP.i2f (sp_soft (lt ((cool (A 0) (F 0) i_3).1) ((pl ((cool (A 0) (F 0) i_3).1) i_3 0).toNatClampNeg) 0))))))) _ hT.1 ((nI i_3) / 3) 3 ((zn (ps ((cool (A 0) (F 0) i_3).1) i_3 2 (coolB (A 0) ((cool (A 0) (F 0) i_3).1) i_3)) (i_3 / 3) 3) + 0) (i_3 / 3) 3 (nx_div rfl (show ((3 : Int32)) = nI 3 from rfl) (by omega) (by omega) (by omega)) (show ((3 : Int32)) = nI 3 from rfl) (by omega) (by omega)) 3 (lw_V q3822 q3824 qs52 q138 q3825) hT.1.1 rfl hd_X3_putZone ⟨Nat.le_of_ble_eq_true rfl, Nat.le_of_ble_eq_true rfl⟩ rfl hl.1 rfl (Nat.le_of_ble_eq_true rfl) dX3_cools_222 ⟨Nat.le_of_ble_eq_true rfl, Nat.le_of_ble_eq_true rfl⟩) (fun g H locs hg hp => ?_)
              have hT : tw_W V g0 g o ad I (va_up (va_up (va_up (va_up A 6 (cpn (fun z => zn (A 0) z 3) (A 6) 8)) 0 ((cool (A 0) (F 0) i_3).1)) 0 (ps ((cool (A 0) (F 0) i_3).1) i_3 2 (coolB (A 0) ((cool (A 0) (F 0) i_3).1) i_3))) 0 (zs (ps ((cool (A 0) (F 0) i_3).1) i_3 2 (coolB (A 0) ((cool (A 0) (F 0) i_3).1) i_3)) (i_3 / 3) 3 ((zn (ps ((cool (A 0) (F 0) i_3).1) i_3 2 (coolB (A 0) ((cool (A 0) (F 0) i_3).1) i_3)) (i_3 / 3) 3) + 0))) (va_up (va_up F 0 ((cool (A 0) (F 0) i_3).2)) 0 (va_up ((cool (A 0) (F 0) i_3).2) i_3 (FP.fadd (((cool (A 0) (F 0) i_3).2) i_3) (FP.fdiv (FP.i2f (((lt ((cool (A 0) (F 0) i_3).1) ((pl ((cool (A 0) (F 0) i_3).1) i_3 0).toNatClampNeg) 1) * (lt ((cool (A 0) (F 0) i_3).1) ((pl ((cool (A 0) (F 0) i_3).1) i_3 0).toNatClampNeg) 1)) * ((pl ((cool (A 0) (F 0) i_3).1) i_3 2) - (coolB (A 0) ((cool (A 0) (F 0) i_3).1) i_3)))) (FP.i2f (sp_soft (lt ((cool (A 0) (F 0) i_3).1) ((pl ((cool (A 0) (F 0) i_3).1) i_3 0).toNatClampNeg) 0))))))) := hT.call hp
              refine lv_iinc (v := (nI (i_3 + 1))) (lv' := [(1, .int (nI (i_3 + 1))), (5, .int (coolB (A 0) ((cool (A 0) (F 0) i_3).1) i_3)), (4, .int (pl ((cool (A 0) (F 0) i_3).1) i_3 2)), (3, .int (lt ((cool (A 0) (F 0) i_3).1) ((pl ((cool (A 0) (F 0) i_3).1) i_3 0).toNatClampNeg) 0)), (2, .int (lt ((cool (A 0) (F 0) i_3).1) ((pl ((cool (A 0) (F 0) i_3).1) i_3 0).toNatClampNeg) 1)), (0, .ref o)]) hx hb dX3_cools_225 hl (k := 5) rfl (nx_iinc rfl) (by decide) rfl (fun ls hl => ?_)
              refine lv_goto (tgt := 28) hx hb dX3_cools_228 (by decide) ?_
              exact ih28 _ _ _ _ hg ⟨(hT.eqAF (fam8 (show (zs (ps ((cool (A 0) (F 0) i_3).1) i_3 2 (coolB (A 0) ((cool (A 0) (F 0) i_3).1) i_3)) (i_3 / 3) 3 ((zn (ps ((cool (A 0) (F 0) i_3).1) i_3 2 (coolB (A 0) ((cool (A 0) (F 0) i_3).1) i_3)) (i_3 / 3) 3) + 0)) = (cool (A 0) (F 0) (i_3 + 1)).1 from by rw [cool_s]; unfold cool1; rw [if_neg pc_8]; show _ = coolX _ _ _; unfold coolX coolG; simp only [if_pos c_16, if_neg c_18, if_neg c_22, if_pos c_28, if_pos c_29]) rfl rfl rfl rfl rfl rfl rfl (fun _ => rfl)) (fam4 (show (va_up ((cool (A 0) (F 0) i_3).2) i_3 (FP.fadd (((cool (A 0) (F 0) i_3).2) i_3) (FP.fdiv (FP.i2f (((lt ((cool (A 0) (F 0) i_3).1) ((pl ((cool (A 0) (F 0) i_3).1) i_3 0).toNatClampNeg) 1) * (lt ((cool (A 0) (F 0) i_3).1) ((pl ((cool (A 0) (F 0) i_3).1) i_3 0).toNatClampNeg) 1)) * ((pl ((cool (A 0) (F 0) i_3).1) i_3 2) - (coolB (A 0) ((cool (A 0) (F 0) i_3).1) i_3)))) (FP.i2f (sp_soft (lt ((cool (A 0) (F 0) i_3).1) ((pl ((cool (A 0) (F 0) i_3).1) i_3 0).toNatClampNeg) 0)))))) = (cool (A 0) (F 0) (i_3 + 1)).2 from by rw [cool_s]; unfold cool1; rw [if_neg pc_8]; show _ = coolT _ _ _ _; unfold coolT; simp only [if_pos c_16, if_neg c_18, if_neg c_22, if_pos c_28, if_pos c_29]) rfl rfl rfl (fun _ => rfl))), lv_sub hl [5, 0] rfl⟩
            refine lv_iconst (v := (-1)) hx hb dX3_cools_216 (by decide) ?_
            refine lv_goto (tgt := 221) hx hb dX3_cools_217 (by decide) ?_
            refine lv_iadd hx hb dX3_cools_221 ?_
            refine gh_callv hg (gh_runV (As := [.int ((nI i_3) / 3), .int 3, .int ((zn (ps ((cool (A 0) (F 0) i_3).1) i_3 2 (coolB (A 0) ((cool (A 0) (F 0) i_3).1) i_3)) (i_3 / 3) 3) + (-1))]) (rest := []) hC hg (t_putZone l V o ad I (va_up (va_up (va_up A 6 (cpn (fun z => zn (A 0) z 3) (A 6) 8)) 0 ((cool (A 0) (F 0) i_3).1)) 0 (ps ((cool (A 0) (F 0) i_3).1) i_3 2 (coolB (A 0) ((cool (A 0) (F 0) i_3).1) i_3))) (va_up (va_up F 0 ((cool (A 0) (F 0) i_3).2)) 0 (va_up ((cool (A 0) (F 0) i_3).2) i_3 (FP.fadd (((cool (A 0) (F 0) i_3).2) i_3) (FP.fdiv (FP.i2f (((lt ((cool (A 0) (F 0) i_3).1) ((pl ((cool (A 0) (F 0) i_3).1) i_3 0).toNatClampNeg) 1) * (lt ((cool (A 0) (F 0) i_3).1) ((pl ((cool (A 0) (F 0) i_3).1) i_3 0).toNatClampNeg) 1)) * ((pl ((cool (A 0) (F 0) i_3).1) i_3 2) - (coolB (A 0) ((cool (A 0) (F 0) i_3).1) i_3)))) (FP.i2f (sp_soft (lt ((cool (A 0) (F 0) i_3).1) ((pl ((cool (A 0) (F 0) i_3).1) i_3 0).toNatClampNeg) 0))))))) _ hT.1 ((nI i_3) / 3) 3 ((zn (ps ((cool (A 0) (F 0) i_3).1) i_3 2 (coolB (A 0) ((cool (A 0) (F 0) i_3).1) i_3)) (i_3 / 3) 3) + (-1)) (i_3 / 3) 3 (nx_div rfl (show ((3 : Int32)) = nI 3 from rfl) (by omega) (by omega) (by omega)) (show ((3 : Int32)) = nI 3 from rfl) (by omega) (by omega)) 3 (lw_V q3822 q3824 qs52 q138 q3825) hT.1.1 rfl hd_X3_putZone ⟨Nat.le_of_ble_eq_true rfl, Nat.le_of_ble_eq_true rfl⟩ rfl hl.1 rfl (Nat.le_of_ble_eq_true rfl) dX3_cools_222 ⟨Nat.le_of_ble_eq_true rfl, Nat.le_of_ble_eq_true rfl⟩) (fun g H locs hg hp => ?_)
            have hT : tw_W V g0 g o ad I (va_up (va_up (va_up (va_up A 6 (cpn (fun z => zn (A 0) z 3) (A 6) 8)) 0 ((cool (A 0) (F 0) i_3).1)) 0 (ps ((cool (A 0) (F 0) i_3).1) i_3 2 (coolB (A 0) ((cool (A 0) (F 0) i_3).1) i_3))) 0 (zs (ps ((cool (A 0) (F 0) i_3).1) i_3 2 (coolB (A 0) ((cool (A 0) (F 0) i_3).1) i_3)) (i_3 / 3) 3 ((zn (ps ((cool (A 0) (F 0) i_3).1) i_3 2 (coolB (A 0) ((cool (A 0) (F 0) i_3).1) i_3)) (i_3 / 3) 3) + (-1)))) (va_up (va_up F 0 ((cool (A 0) (F 0) i_3).2)) 0 (va_up ((cool (A 0) (F 0) i_3).2) i_3 (FP.fadd (((cool (A 0) (F 0) i_3).2) i_3) (FP.fdiv (FP.i2f (((lt ((cool (A 0) (F 0) i_3).1) ((pl ((cool (A 0) (F 0) i_3).1) i_3 0).toNatClampNeg) 1) * (lt ((cool (A 0) (F 0) i_3).1) ((pl ((cool (A 0) (F 0) i_3).1) i_3 0).toNatClampNeg) 1)) * ((pl ((cool (A 0) (F 0) i_3).1) i_3 2) - (coolB (A 0) ((cool (A 0) (F 0) i_3).1) i_3)))) (FP.i2f (sp_soft (lt ((cool (A 0) (F 0) i_3).1) ((pl ((cool (A 0) (F 0) i_3).1) i_3 0).toNatClampNeg) 0))))))) := hT.call hp
            refine lv_iinc (v := (nI (i_3 + 1))) (lv' := [(1, .int (nI (i_3 + 1))), (5, .int (coolB (A 0) ((cool (A 0) (F 0) i_3).1) i_3)), (4, .int (pl ((cool (A 0) (F 0) i_3).1) i_3 2)), (3, .int (lt ((cool (A 0) (F 0) i_3).1) ((pl ((cool (A 0) (F 0) i_3).1) i_3 0).toNatClampNeg) 0)), (2, .int (lt ((cool (A 0) (F 0) i_3).1) ((pl ((cool (A 0) (F 0) i_3).1) i_3 0).toNatClampNeg) 1)), (0, .ref o)]) hx hb dX3_cools_225 hl (k := 5) rfl (nx_iinc rfl) (by decide) rfl (fun ls hl => ?_)
            refine lv_goto (tgt := 28) hx hb dX3_cools_228 (by decide) ?_
            exact ih28 _ _ _ _ hg ⟨(hT.eqAF (fam8 (show (zs (ps ((cool (A 0) (F 0) i_3).1) i_3 2 (coolB (A 0) ((cool (A 0) (F 0) i_3).1) i_3)) (i_3 / 3) 3 ((zn (ps ((cool (A 0) (F 0) i_3).1) i_3 2 (coolB (A 0) ((cool (A 0) (F 0) i_3).1) i_3)) (i_3 / 3) 3) + (-1))) = (cool (A 0) (F 0) (i_3 + 1)).1 from by rw [cool_s]; unfold cool1; rw [if_neg pc_8]; show _ = coolX _ _ _; unfold coolX coolG; simp only [if_pos c_16, if_neg c_18, if_neg c_22, if_pos c_28, if_neg c_29]) rfl rfl rfl rfl rfl rfl rfl (fun _ => rfl)) (fam4 (show (va_up ((cool (A 0) (F 0) i_3).2) i_3 (FP.fadd (((cool (A 0) (F 0) i_3).2) i_3) (FP.fdiv (FP.i2f (((lt ((cool (A 0) (F 0) i_3).1) ((pl ((cool (A 0) (F 0) i_3).1) i_3 0).toNatClampNeg) 1) * (lt ((cool (A 0) (F 0) i_3).1) ((pl ((cool (A 0) (F 0) i_3).1) i_3 0).toNatClampNeg) 1)) * ((pl ((cool (A 0) (F 0) i_3).1) i_3 2) - (coolB (A 0) ((cool (A 0) (F 0) i_3).1) i_3)))) (FP.i2f (sp_soft (lt ((cool (A 0) (F 0) i_3).1) ((pl ((cool (A 0) (F 0) i_3).1) i_3 0).toNatClampNeg) 0)))))) = (cool (A 0) (F 0) (i_3 + 1)).2 from by rw [cool_s]; unfold cool1; rw [if_neg pc_8]; show _ = coolT _ _ _ _; unfold coolT; simp only [if_pos c_16, if_neg c_18, if_neg c_22, if_pos c_28, if_neg c_29]) rfl rfl rfl (fun _ => rfl))), lv_sub hl [5, 0] rfl⟩
          refine lv_iconst (v := 1) hx hb dX3_cools_199 (by decide) ?_
          refine lv_goto (tgt := 221) hx hb dX3_cools_200 (by decide) ?_
          refine lv_iadd hx hb dX3_cools_221 ?_
          refine gh_callv hg (gh_runV (As := [.int ((nI i_3) / 3), .int 3, .int ((zn (ps ((cool (A 0) (F 0) i_3).1) i_3 2 (coolB (A 0) ((cool (A 0) (F 0) i_3).1) i_3)) (i_3 / 3) 3) + 1)]) (rest := []) hC hg (t_putZone l V o ad I (va_up (va_up (va_up A 6 (cpn (fun z => zn (A 0) z 3) (A 6) 8)) 0 ((cool (A 0) (F 0) i_3).1)) 0 (ps ((cool (A 0) (F 0) i_3).1) i_3 2 (coolB (A 0) ((cool (A 0) (F 0) i_3).1) i_3))) (va_up (va_up F 0 ((cool (A 0) (F 0) i_3).2)) 0 (va_up ((cool (A 0) (F 0) i_3).2) i_3 (FP.fadd (((cool (A 0) (F 0) i_3).2) i_3) (FP.fdiv (FP.i2f (((lt ((cool (A 0) (F 0) i_3).1) ((pl ((cool (A 0) (F 0) i_3).1) i_3 0).toNatClampNeg) 1) * (lt ((cool (A 0) (F 0) i_3).1) ((pl ((cool (A 0) (F 0) i_3).1) i_3 0).toNatClampNeg) 1)) * ((pl ((cool (A 0) (F 0) i_3).1) i_3 2) - (coolB (A 0) ((cool (A 0) (F 0) i_3).1) i_3)))) (FP.i2f (sp_soft (lt ((cool (A 0) (F 0) i_3).1) ((pl ((cool (A 0) (F 0) i_3).1) i_3 0).toNatClampNeg) 0))))))) _ hT.1 ((nI i_3) / 3) 3 ((zn (ps ((cool (A 0) (F 0) i_3).1) i_3 2 (coolB (A 0) ((cool (A 0) (F 0) i_3).1) i_3)) (i_3 / 3) 3) + 1) (i_3 / 3) 3 (nx_div rfl (show ((3 : Int32)) = nI 3 from rfl) (by omega) (by omega) (by omega)) (show ((3 : Int32)) = nI 3 from rfl) (by omega) (by omega)) 3 (lw_V q3822 q3824 qs52 q138 q3825) hT.1.1 rfl hd_X3_putZone ⟨Nat.le_of_ble_eq_true rfl, Nat.le_of_ble_eq_true rfl⟩ rfl hl.1 rfl (Nat.le_of_ble_eq_true rfl) dX3_cools_222 ⟨Nat.le_of_ble_eq_true rfl, Nat.le_of_ble_eq_true rfl⟩) (fun g H locs hg hp => ?_)
          have hT : tw_W V g0 g o ad I (va_up (va_up (va_up (va_up A 6 (cpn (fun z => zn (A 0) z 3) (A 6) 8)) 0 ((cool (A 0) (F 0) i_3).1)) 0 (ps ((cool (A 0) (F 0) i_3).1) i_3 2 (coolB (A 0) ((cool (A 0) (F 0) i_3).1) i_3))) 0 (zs (ps ((cool (A 0) (F 0) i_3).1) i_3 2 (coolB (A 0) ((cool (A 0) (F 0) i_3).1) i_3)) (i_3 / 3) 3 ((zn (ps ((cool (A 0) (F 0) i_3).1) i_3 2 (coolB (A 0) ((cool (A 0) (F 0) i_3).1) i_3)) (i_3 / 3) 3) + 1))) (va_up (va_up F 0 ((cool (A 0) (F 0) i_3).2)) 0 (va_up ((cool (A 0) (F 0) i_3).2) i_3 (FP.fadd (((cool (A 0) (F 0) i_3).2) i_3) (FP.fdiv (FP.i2f (((lt ((cool (A 0) (F 0) i_3).1) ((pl ((cool (A 0) (F 0) i_3).1) i_3 0).toNatClampNeg) 1) * (lt ((cool (A 0) (F 0) i_3).1) ((pl ((cool (A 0) (F 0) i_3).1) i_3 0).toNatClampNeg) 1)) * ((pl ((cool (A 0) (F 0) i_3).1) i_3 2) - (coolB (A 0) ((cool (A 0) (F 0) i_3).1) i_3)))) (FP.i2f (sp_soft (lt ((cool (A 0) (F 0) i_3).1) ((pl ((cool (A 0) (F 0) i_3).1) i_3 0).toNatClampNeg) 0))))))) := hT.call hp
          refine lv_iinc (v := (nI (i_3 + 1))) (lv' := [(1, .int (nI (i_3 + 1))), (5, .int (coolB (A 0) ((cool (A 0) (F 0) i_3).1) i_3)), (4, .int (pl ((cool (A 0) (F 0) i_3).1) i_3 2)), (3, .int (lt ((cool (A 0) (F 0) i_3).1) ((pl ((cool (A 0) (F 0) i_3).1) i_3 0).toNatClampNeg) 0)), (2, .int (lt ((cool (A 0) (F 0) i_3).1) ((pl ((cool (A 0) (F 0) i_3).1) i_3 0).toNatClampNeg) 1)), (0, .ref o)]) hx hb dX3_cools_225 hl (k := 5) rfl (nx_iinc rfl) (by decide) rfl (fun ls hl => ?_)
          refine lv_goto (tgt := 28) hx hb dX3_cools_228 (by decide) ?_
          exact ih28 _ _ _ _ hg ⟨(hT.eqAF (fam8 (show (zs (ps ((cool (A 0) (F 0) i_3).1) i_3 2 (coolB (A 0) ((cool (A 0) (F 0) i_3).1) i_3)) (i_3 / 3) 3 ((zn (ps ((cool (A 0) (F 0) i_3).1) i_3 2 (coolB (A 0) ((cool (A 0) (F 0) i_3).1) i_3)) (i_3 / 3) 3) + 1)) = (cool (A 0) (F 0) (i_3 + 1)).1 from by rw [cool_s]; unfold cool1; rw [if_neg pc_8]; show _ = coolX _ _ _; unfold coolX coolG; simp only [if_pos c_16, if_neg c_18, if_neg c_22, if_neg c_28]) rfl rfl rfl rfl rfl rfl rfl (fun _ => rfl)) (fam4 (show (va_up ((cool (A 0) (F 0) i_3).2) i_3 (FP.fadd (((cool (A 0) (F 0) i_3).2) i_3) (FP.fdiv (FP.i2f (((lt ((cool (A 0) (F 0) i_3).1) ((pl ((cool (A 0) (F 0) i_3).1) i_3 0).toNatClampNeg) 1) * (lt ((cool (A 0) (F 0) i_3).1) ((pl ((cool (A 0) (F 0) i_3).1) i_3 0).toNatClampNeg) 1)) * ((pl ((cool (A 0) (F 0) i_3).1) i_3 2) - (coolB (A 0) ((cool (A 0) (F 0) i_3).1) i_3)))) (FP.i2f (sp_soft (lt ((cool (A 0) (F 0) i_3).1) ((pl ((cool (A 0) (F 0) i_3).1) i_3 0).toNatClampNeg) 0)))))) = (cool (A 0) (F 0) (i_3 + 1)).2 from by rw [cool_s]; unfold cool1; rw [if_neg pc_8]; show _ = coolT _ _ _ _; unfold coolT; simp only [if_pos c_16, if_neg c_18, if_neg c_22, if_neg c_28]) rfl rfl rfl (fun _ => rfl))), lv_sub hl [5, 0] rfl⟩
        refine lv_aload_n hx hb dX3_cools_107 rfl (lv_at hl 4 rfl) ?_
        refine gh_get (v := .ref (ad 8)) hC hg hT.1.1 fX3_13_0 rfl dX3_cools_108 ?_
        refine lv_iload_n hx hb dX3_cools_111 rfl (lv_at hl 5 rfl) ?_
        refine lv_fconst0 hx hb dX3_cools_112 ?_
        refine gh_fast (n := 24) (f := ((cool (A 0) (F 0) i_3).2)) hC hg (hT.1.2.2 0 (by decide)) rfl (by omega) (by omega) dX3_cools_113 (fun g H locs hg hw hn => ?_)
        have hT : tw_W V g0 g o ad I (va_up (va_up (va_up A 6 (cpn (fun z => zn (A 0) z 3) (A 6) 8)) 0 ((cool (A 0) (F 0) i_3).1)) 0 (ps ((cool (A 0) (F 0) i_3).1) i_3 2 (coolB (A 0) ((cool (A 0) (F 0) i_3).1) i_3))) (va_up (va_up F 0 ((cool (A 0) (F 0) i_3).2)) 0 (va_up ((cool (A 0) (F 0) i_3).2) i_3 FP.fconst0)) := hT.putF 0 (by decide) hw hn
        refine lv_goto (tgt := 173) hx hb dX3_cools_114 (by decide) ?_
        refine lv_aload_n hx hb dX3_cools_173 rfl (lv_at hl 4 rfl) ?_
        refine lv_iload_n hx hb dX3_cools_174 rfl (lv_at hl 5 rfl) ?_
        refine lv_iconst (v := 3) hx hb dX3_cools_175 (by decide) ?_
        refine lv_idiv hx hb dX3_cools_176 (by decide) ?_
        refine lv_iconst (v := 3) hx hb dX3_cools_177 (by decide) ?_
        refine lv_aload_n hx hb dX3_cools_178 rfl (lv_at hl 4 rfl) ?_
        refine lv_iload_n hx hb dX3_cools_179 rfl (lv_at hl 5 rfl) ?_
        refine lv_iconst (v := 3) hx hb dX3_cools_180 (by decide) ?_
        refine lv_idiv hx hb dX3_cools_181 (by decide) ?_
        refine lv_iconst (v := 3) hx hb dX3_cools_182 (by decide) ?_
        refine gh_calli hg (gh_runV (As := [.int ((nI i_3) / 3), .int 3]) (rest := [.int 3, .int ((nI i_3) / 3), .ref o]) hC hg (t_zone l V o ad I (va_up (va_up (va_up A 6 (cpn (fun z => zn (A 0) z 3) (A 6) 8)) 0 ((cool (A 0) (F 0) i_3).1)) 0 (ps ((cool (A 0) (F 0) i_3).1) i_3 2 (coolB (A 0) ((cool (A 0) (F 0) i_3).1) i_3))) (va_up (va_up F 0 ((cool (A 0) (F 0) i_3).2)) 0 (va_up ((cool (A 0) (F 0) i_3).2) i_3 FP.fconst0)) _ hT.1 ((nI i_3) / 3) 3 (i_3 / 3) 3 (nx_div rfl (show ((3 : Int32)) = nI 3 from rfl) (by omega) (by omega) (by omega)) (show ((3 : Int32)) = nI 3 from rfl) (by omega) (by omega)) 2 (lw_V q3920 q3922 qs59 q138 q3923) hT.1.1 rfl hd_X3_zone ⟨Nat.le_of_ble_eq_true rfl, Nat.le_of_ble_eq_true rfl⟩ rfl hl.1 rfl (Nat.le_of_ble_eq_true rfl) dX3_cools_183 ⟨Nat.le_of_ble_eq_true rfl, Nat.le_of_ble_eq_true rfl⟩) (fun r_30 g H locs hg hp => ?_)
        obtain ⟨hp, hq⟩ := hp
        replace hp : r_30 = (zn (ps ((cool (A 0) (F 0) i_3).1) i_3 2 (coolB (A 0) ((cool (A 0) (F 0) i_3).1) i_3)) (i_3 / 3) 3) := hp
        subst hp
        rw [hq] at hg
        refine lv_iload hx hb dX3_cools_186 (lv_at hl 0 rfl) ?_
        refine lv_aload_n hx hb dX3_cools_188 rfl (lv_at hl 4 rfl) ?_
        refine gh_get (v := .ref (ad 6)) hC hg hT.1.1 fX3_41_0 rfl dX3_cools_189 ?_
        refine lv_iload_n hx hb dX3_cools_192 rfl (lv_at hl 5 rfl) ?_
        refine lv_iconst (v := 3) hx hb dX3_cools_193 (by decide) ?_
        refine lv_idiv hx hb dX3_cools_194 (by decide) ?_
        refine gh_iald (n := 8) (f := (cpn (fun z => zn (A 0) z 3) (A 6) 8)) hC hg (hT.1.2.1 6 (by decide)) (nx_div rfl (show ((3 : Int32)) = nI 3 from rfl) (by omega) (by omega) (by omega)) (by omega) (by omega) dX3_cools_195 ?_
        refine W.eq (g2 := F0 mm 196 ls [.int (zn (A 0) (i_3 / 3) 3), .int (coolB (A 0) ((cool (A 0) (F 0) i_3).1) i_3), .int (zn (ps ((cool (A 0) (F 0) i_3).1) i_3 2 (coolB (A 0) ((cool (A 0) (F 0) i_3).1) i_3)) (i_3 / 3) 3), .int 3, .int ((nI i_3) / 3), .ref o]) (by rw [cpn_lt (f := (fun z => zn (A 0) z 3)) (by omega)] <;> rfl) ?_
        refine lv_icmp_le (tgt := 203) hx hb dX3_cools_196 (by decide) (fun c_31 => ?_) (fun c_31 => ?_)
        · skip
          refine lv_iload hx hb dX3_cools_203 (lv_at hl 0 rfl) ?_
          refine lv_aload_n hx hb dX3_cools_205 rfl (lv_at hl 4 rfl) ?_
          refine gh_get (v := .ref (ad 6)) hC hg hT.1.1 fX3_41_0 rfl dX3_cools_206 ?_
          refine lv_iload_n hx hb dX3_cools_209 rfl (lv_at hl 5 rfl) ?_
          refine lv_iconst (v := 3) hx hb dX3_cools_210 (by decide) ?_
          refine lv_idiv hx hb dX3_cools_211 (by decide) ?_
          refine gh_iald (n := 8) (f := (cpn (fun z => zn (A 0) z 3) (A 6) 8)) hC hg (hT.1.2.1 6 (by decide)) (nx_div rfl (show ((3 : Int32)) = nI 3 from rfl) (by omega) (by omega) (by omega)) (by omega) (by omega) dX3_cools_212 ?_
          refine W.eq (g2 := F0 mm 213 ls [.int (zn (A 0) (i_3 / 3) 3), .int (coolB (A 0) ((cool (A 0) (F 0) i_3).1) i_3), .int (zn (ps ((cool (A 0) (F 0) i_3).1) i_3 2 (coolB (A 0) ((cool (A 0) (F 0) i_3).1) i_3)) (i_3 / 3) 3), .int 3, .int ((nI i_3) / 3), .ref o]) (by rw [cpn_lt (f := (fun z => zn (A 0) z 3)) (by omega)] <;> rfl) ?_
          refine lv_icmp_ge (tgt := 220) hx hb dX3_cools_213 (by decide) (fun c_32 => ?_) (fun c_32 => ?_)
          · skip
            refine lv_iconst (v := 0) hx hb dX3_cools_220 (by decide) ?_
            refine lv_iadd hx hb dX3_cools_221 ?_
            refine gh_callv hg (gh_runV (As := [.int ((nI i_3) / 3), .int 3, .int ((zn (ps ((cool (A 0) (F 0) i_3).1) i_3 2 (coolB (A 0) ((cool (A 0) (F 0) i_3).1) i_3)) (i_3 / 3) 3) + 0)]) (rest := []) hC hg (t_putZone l V o ad I (va_up (va_up (va_up A 6 (cpn (fun z => zn (A 0) z 3) (A 6) 8)) 0 ((cool (A 0) (F 0) i_3).1)) 0 (ps ((cool (A 0) (F 0) i_3).1) i_3 2 (coolB (A 0) ((cool (A 0) (F 0) i_3).1) i_3))) (va_up (va_up F 0 ((cool (A 0) (F 0) i_3).2)) 0 (va_up ((cool (A 0) (F 0) i_3).2) i_3 FP.fconst0)) _ hT.1 ((nI i_3) / 3) 3 ((zn (ps ((cool (A 0) (F 0) i_3).1) i_3 2 (coolB (A 0) ((cool (A 0) (F 0) i_3).1) i_3)) (i_3 / 3) 3) + 0) (i_3 / 3) 3 (nx_div rfl (show ((3 : Int32)) = nI 3 from rfl) (by omega) (by omega) (by omega)) (show ((3 : Int32)) = nI 3 from rfl) (by omega) (by omega)) 3 (lw_V q3822 q3824 qs52 q138 q3825) hT.1.1 rfl hd_X3_putZone ⟨Nat.le_of_ble_eq_true rfl, Nat.le_of_ble_eq_true rfl⟩ rfl hl.1 rfl (Nat.le_of_ble_eq_true rfl) dX3_cools_222 ⟨Nat.le_of_ble_eq_true rfl, Nat.le_of_ble_eq_true rfl⟩) (fun g H locs hg hp => ?_)
            have hT : tw_W V g0 g o ad I (va_up (va_up (va_up (va_up A 6 (cpn (fun z => zn (A 0) z 3) (A 6) 8)) 0 ((cool (A 0) (F 0) i_3).1)) 0 (ps ((cool (A 0) (F 0) i_3).1) i_3 2 (coolB (A 0) ((cool (A 0) (F 0) i_3).1) i_3))) 0 (zs (ps ((cool (A 0) (F 0) i_3).1) i_3 2 (coolB (A 0) ((cool (A 0) (F 0) i_3).1) i_3)) (i_3 / 3) 3 ((zn (ps ((cool (A 0) (F 0) i_3).1) i_3 2 (coolB (A 0) ((cool (A 0) (F 0) i_3).1) i_3)) (i_3 / 3) 3) + 0))) (va_up (va_up F 0 ((cool (A 0) (F 0) i_3).2)) 0 (va_up ((cool (A 0) (F 0) i_3).2) i_3 FP.fconst0)) := hT.call hp
            refine lv_iinc (v := (nI (i_3 + 1))) (lv' := [(1, .int (nI (i_3 + 1))), (5, .int (coolB (A 0) ((cool (A 0) (F 0) i_3).1) i_3)), (4, .int (pl ((cool (A 0) (F 0) i_3).1) i_3 2)), (3, .int (lt ((cool (A 0) (F 0) i_3).1) ((pl ((cool (A 0) (F 0) i_3).1) i_3 0).toNatClampNeg) 0)), (2, .int (lt ((cool (A 0) (F 0) i_3).1) ((pl ((cool (A 0) (F 0) i_3).1) i_3 0).toNatClampNeg) 1)), (0, .ref o)]) hx hb dX3_cools_225 hl (k := 5) rfl (nx_iinc rfl) (by decide) rfl (fun ls hl => ?_)
            refine lv_goto (tgt := 28) hx hb dX3_cools_228 (by decide) ?_
            exact ih28 _ _ _ _ hg ⟨(hT.eqAF (fam8 (show (zs (ps ((cool (A 0) (F 0) i_3).1) i_3 2 (coolB (A 0) ((cool (A 0) (F 0) i_3).1) i_3)) (i_3 / 3) 3 ((zn (ps ((cool (A 0) (F 0) i_3).1) i_3 2 (coolB (A 0) ((cool (A 0) (F 0) i_3).1) i_3)) (i_3 / 3) 3) + 0)) = (cool (A 0) (F 0) (i_3 + 1)).1 from by rw [cool_s]; unfold cool1; rw [if_neg pc_8]; show _ = coolX _ _ _; unfold coolX coolG; simp only [if_neg c_16, if_pos c_31, if_pos c_32]) rfl rfl rfl rfl rfl rfl rfl (fun _ => rfl)) (fam4 (show (va_up ((cool (A 0) (F 0) i_3).2) i_3 FP.fconst0) = (cool (A 0) (F 0) (i_3 + 1)).2 from by rw [cool_s]; unfold cool1; rw [if_neg pc_8]; show _ = coolT _ _ _ _; unfold coolT; simp only [if_neg c_16, if_pos c_31, if_pos c_32]) rfl rfl rfl (fun _ => rfl))), lv_sub hl [5, 0] rfl⟩
          refine lv_iconst (v := (-1)) hx hb dX3_cools_216 (by decide) ?_
          refine lv_goto (tgt := 221) hx hb dX3_cools_217 (by decide) ?_
          refine lv_iadd hx hb dX3_cools_221 ?_
          refine gh_callv hg (gh_runV (As := [.int ((nI i_3) / 3), .int 3, .int ((zn (ps ((cool (A 0) (F 0) i_3).1) i_3 2 (coolB (A 0) ((cool (A 0) (F 0) i_3).1) i_3)) (i_3 / 3) 3) + (-1))]) (rest := []) hC hg (t_putZone l V o ad I (va_up (va_up (va_up A 6 (cpn (fun z => zn (A 0) z 3) (A 6) 8)) 0 ((cool (A 0) (F 0) i_3).1)) 0 (ps ((cool (A 0) (F 0) i_3).1) i_3 2 (coolB (A 0) ((cool (A 0) (F 0) i_3).1) i_3))) (va_up (va_up F 0 ((cool (A 0) (F 0) i_3).2)) 0 (va_up ((cool (A 0) (F 0) i_3).2) i_3 FP.fconst0)) _ hT.1 ((nI i_3) / 3) 3 ((zn (ps ((cool (A 0) (F 0) i_3).1) i_3 2 (coolB (A 0) ((cool (A 0) (F 0) i_3).1) i_3)) (i_3 / 3) 3) + (-1)) (i_3 / 3) 3 (nx_div rfl (show ((3 : Int32)) = nI 3 from rfl) (by omega) (by omega) (by omega)) (show ((3 : Int32)) = nI 3 from rfl) (by omega) (by omega)) 3 (lw_V q3822 q3824 qs52 q138 q3825) hT.1.1 rfl hd_X3_putZone ⟨Nat.le_of_ble_eq_true rfl, Nat.le_of_ble_eq_true rfl⟩ rfl hl.1 rfl (Nat.le_of_ble_eq_true rfl) dX3_cools_222 ⟨Nat.le_of_ble_eq_true rfl, Nat.le_of_ble_eq_true rfl⟩) (fun g H locs hg hp => ?_)
          have hT : tw_W V g0 g o ad I (va_up (va_up (va_up (va_up A 6 (cpn (fun z => zn (A 0) z 3) (A 6) 8)) 0 ((cool (A 0) (F 0) i_3).1)) 0 (ps ((cool (A 0) (F 0) i_3).1) i_3 2 (coolB (A 0) ((cool (A 0) (F 0) i_3).1) i_3))) 0 (zs (ps ((cool (A 0) (F 0) i_3).1) i_3 2 (coolB (A 0) ((cool (A 0) (F 0) i_3).1) i_3)) (i_3 / 3) 3 ((zn (ps ((cool (A 0) (F 0) i_3).1) i_3 2 (coolB (A 0) ((cool (A 0) (F 0) i_3).1) i_3)) (i_3 / 3) 3) + (-1)))) (va_up (va_up F 0 ((cool (A 0) (F 0) i_3).2)) 0 (va_up ((cool (A 0) (F 0) i_3).2) i_3 FP.fconst0)) := hT.call hp
          refine lv_iinc (v := (nI (i_3 + 1))) (lv' := [(1, .int (nI (i_3 + 1))), (5, .int (coolB (A 0) ((cool (A 0) (F 0) i_3).1) i_3)), (4, .int (pl ((cool (A 0) (F 0) i_3).1) i_3 2)), (3, .int (lt ((cool (A 0) (F 0) i_3).1) ((pl ((cool (A 0) (F 0) i_3).1) i_3 0).toNatClampNeg) 0)), (2, .int (lt ((cool (A 0) (F 0) i_3).1) ((pl ((cool (A 0) (F 0) i_3).1) i_3 0).toNatClampNeg) 1)), (0, .ref o)]) hx hb dX3_cools_225 hl (k := 5) rfl (nx_iinc rfl) (by decide) rfl (fun ls hl => ?_)
          refine lv_goto (tgt := 28) hx hb dX3_cools_228 (by decide) ?_
          exact ih28 _ _ _ _ hg ⟨(hT.eqAF (fam8 (show (zs (ps ((cool (A 0) (F 0) i_3).1) i_3 2 (coolB (A 0) ((cool (A 0) (F 0) i_3).1) i_3)) (i_3 / 3) 3 ((zn (ps ((cool (A 0) (F 0) i_3).1) i_3 2 (coolB (A 0) ((cool (A 0) (F 0) i_3).1) i_3)) (i_3 / 3) 3) + (-1))) = (cool (A 0) (F 0) (i_3 + 1)).1 from by rw [cool_s]; unfold cool1; rw [if_neg pc_8]; show _ = coolX _ _ _; unfold coolX coolG; simp only [if_neg c_16, if_pos c_31, if_neg c_32]) rfl rfl rfl rfl rfl rfl rfl (fun _ => rfl)) (fam4 (show (va_up ((cool (A 0) (F 0) i_3).2) i_3 FP.fconst0) = (cool (A 0) (F 0) (i_3 + 1)).2 from by rw [cool_s]; unfold cool1; rw [if_neg pc_8]; show _ = coolT _ _ _ _; unfold coolT; simp only [if_neg c_16, if_pos c_31, if_neg c_32]) rfl rfl rfl (fun _ => rfl))), lv_sub hl [5, 0] rfl⟩
        refine lv_iconst (v := 1) hx hb dX3_cools_199 (by decide) ?_
        refine lv_goto (tgt := 221) hx hb dX3_cools_200 (by decide) ?_
        refine lv_iadd hx hb dX3_cools_221 ?_
        refine gh_callv hg (gh_runV (As := [.int ((nI i_3) / 3), .int 3, .int ((zn (ps ((cool (A 0) (F 0) i_3).1) i_3 2 (coolB (A 0) ((cool (A 0) (F 0) i_3).1) i_3)) (i_3 / 3) 3) + 1)]) (rest := []) hC hg (t_putZone l V o ad I (va_up (va_up (va_up A 6 (cpn (fun z => zn (A 0) z 3) (A 6) 8)) 0 ((cool (A 0) (F 0) i_3).1)) 0 (ps ((cool (A 0) (F 0) i_3).1) i_3 2 (coolB (A 0) ((cool (A 0) (F 0) i_3).1) i_3))) (va_up (va_up F 0 ((cool (A 0) (F 0) i_3).2)) 0 (va_up ((cool (A 0) (F 0) i_3).2) i_3 FP.fconst0)) _ hT.1 ((nI i_3) / 3) 3 ((zn (ps ((cool (A 0) (F 0) i_3).1) i_3 2 (coolB (A 0) ((cool (A 0) (F 0) i_3).1) i_3)) (i_3 / 3) 3) + 1) (i_3 / 3) 3 (nx_div rfl (show ((3 : Int32)) = nI 3 from rfl) (by omega) (by omega) (by omega)) (show ((3 : Int32)) = nI 3 from rfl) (by omega) (by omega)) 3 (lw_V q3822 q3824 qs52 q138 q3825) hT.1.1 rfl hd_X3_putZone ⟨Nat.le_of_ble_eq_true rfl, Nat.le_of_ble_eq_true rfl⟩ rfl hl.1 rfl (Nat.le_of_ble_eq_true rfl) dX3_cools_222 ⟨Nat.le_of_ble_eq_true rfl, Nat.le_of_ble_eq_true rfl⟩) (fun g H locs hg hp => ?_)
        have hT : tw_W V g0 g o ad I (va_up (va_up (va_up (va_up A 6 (cpn (fun z => zn (A 0) z 3) (A 6) 8)) 0 ((cool (A 0) (F 0) i_3).1)) 0 (ps ((cool (A 0) (F 0) i_3).1) i_3 2 (coolB (A 0) ((cool (A 0) (F 0) i_3).1) i_3))) 0 (zs (ps ((cool (A 0) (F 0) i_3).1) i_3 2 (coolB (A 0) ((cool (A 0) (F 0) i_3).1) i_3)) (i_3 / 3) 3 ((zn (ps ((cool (A 0) (F 0) i_3).1) i_3 2 (coolB (A 0) ((cool (A 0) (F 0) i_3).1) i_3)) (i_3 / 3) 3) + 1))) (va_up (va_up F 0 ((cool (A 0) (F 0) i_3).2)) 0 (va_up ((cool (A 0) (F 0) i_3).2) i_3 FP.fconst0)) := hT.call hp
        refine lv_iinc (v := (nI (i_3 + 1))) (lv' := [(1, .int (nI (i_3 + 1))), (5, .int (coolB (A 0) ((cool (A 0) (F 0) i_3).1) i_3)), (4, .int (pl ((cool (A 0) (F 0) i_3).1) i_3 2)), (3, .int (lt ((cool (A 0) (F 0) i_3).1) ((pl ((cool (A 0) (F 0) i_3).1) i_3 0).toNatClampNeg) 0)), (2, .int (lt ((cool (A 0) (F 0) i_3).1) ((pl ((cool (A 0) (F 0) i_3).1) i_3 0).toNatClampNeg) 1)), (0, .ref o)]) hx hb dX3_cools_225 hl (k := 5) rfl (nx_iinc rfl) (by decide) rfl (fun ls hl => ?_)
        refine lv_goto (tgt := 28) hx hb dX3_cools_228 (by decide) ?_
        exact ih28 _ _ _ _ hg ⟨(hT.eqAF (fam8 (show (zs (ps ((cool (A 0) (F 0) i_3).1) i_3 2 (coolB (A 0) ((cool (A 0) (F 0) i_3).1) i_3)) (i_3 / 3) 3 ((zn (ps ((cool (A 0) (F 0) i_3).1) i_3 2 (coolB (A 0) ((cool (A 0) (F 0) i_3).1) i_3)) (i_3 / 3) 3) + 1)) = (cool (A 0) (F 0) (i_3 + 1)).1 from by rw [cool_s]; unfold cool1; rw [if_neg pc_8]; show _ = coolX _ _ _; unfold coolX coolG; simp only [if_neg c_16, if_neg c_31]) rfl rfl rfl rfl rfl rfl rfl (fun _ => rfl)) (fam4 (show (va_up ((cool (A 0) (F 0) i_3).2) i_3 FP.fconst0) = (cool (A 0) (F 0) (i_3 + 1)).2 from by rw [cool_s]; unfold cool1; rw [if_neg pc_8]; show _ = coolT _ _ _ _; unfold coolT; simp only [if_neg c_16, if_neg c_31]) rfl rfl rfl (fun _ => rfl))), lv_sub hl [5, 0] rfl⟩
      rw [if_neg pc_8] at hp
      obtain ⟨rfl, hq⟩ := hp
      rw [hq] at hg
      have pc_8 := Decidable.not_not.mp pc_8
      refine lv_if_eq (tgt := 225) hx hb dX3_cools_39 (by decide) (fun _ => ?_) (fun c_33 => (absurd ((nx_eq (show ((0 : Int32)) = nI 0 from rfl) (show ((0 : Int32)) = nI 0 from rfl) (by omega) (by omega)).mpr (by omega)) c_33))
      refine lv_iinc (v := (nI (i_3 + 1))) (lv' := [(1, .int (nI (i_3 + 1))), (0, .ref o)]) hx hb dX3_cools_225 hl (k := 1) rfl (nx_iinc rfl) (by decide) rfl (fun ls hl => ?_)
      refine lv_goto (tgt := 28) hx hb dX3_cools_228 (by decide) ?_
      exact ih28 _ _ _ _ hg ⟨(hT.eqAF (fam8 (by rw [cool_s]; unfold cool1; rw [if_pos pc_8]) rfl rfl rfl rfl rfl rfl rfl (fun _ => rfl)) (fam4 (by rw [cool_s]; unfold cool1; rw [if_pos pc_8]) rfl rfl rfl (fun _ => rfl))), lv_sub hl [1, 0] rfl⟩
  · intro i_1 h_34 ih2 g H locs ls hg hX
    obtain ⟨hT, hl⟩ := hX
    refine lv_iload_n hx hb dX3_cools_2 rfl (lv_at hl 1 rfl) ?_
    refine lv_bipush (v := 8) hx hb dX3_cools_3 (by decide) ?_
    refine lv_icmp_ge (tgt := 26) hx hb dX3_cools_5 (by decide) (fun c_35 => (absurd ((nx_le (show ((8 : Int32)) = nI 8 from rfl) rfl (by omega) (by omega)).mp c_35) (by omega))) (fun _ => ?_)
    refine lv_aload_n hx hb dX3_cools_8 rfl (lv_at hl 0 rfl) ?_
    refine gh_get (v := .ref (ad 6)) hC hg hT.1.1 fX3_41_0 rfl dX3_cools_9 ?_
    refine lv_iload_n hx hb dX3_cools_12 rfl (lv_at hl 1 rfl) ?_
    refine lv_aload_n hx hb dX3_cools_13 rfl (lv_at hl 0 rfl) ?_
    refine lv_iload_n hx hb dX3_cools_14 rfl (lv_at hl 1 rfl) ?_
    refine lv_iconst (v := 3) hx hb dX3_cools_15 (by decide) ?_
    refine gh_calli hg (gh_runV (As := [.int (nI i_1), .int 3]) (rest := [.int (nI i_1), .ref (ad 6)]) hC hg (t_zone l V o ad I (va_up A 6 (cpn (fun z => zn (A 0) z 3) (A 6) i_1)) F _ hT.1 (nI i_1) 3 i_1 3 rfl (show ((3 : Int32)) = nI 3 from rfl) (by omega) (by omega)) 2 (lw_V q3920 q3922 qs59 q138 q3923) hT.1.1 rfl hd_X3_zone ⟨Nat.le_of_ble_eq_true rfl, Nat.le_of_ble_eq_true rfl⟩ rfl hl.1 rfl (Nat.le_of_ble_eq_true rfl) dX3_cools_16 ⟨Nat.le_of_ble_eq_true rfl, Nat.le_of_ble_eq_true rfl⟩) (fun r_36 g H locs hg hp => ?_)
    obtain ⟨hp, hq⟩ := hp
    replace hp : r_36 = (zn (A 0) i_1 3) := hp
    subst hp
    rw [hq] at hg
    refine gh_iast (n := 8) (f := (cpn (fun z => zn (A 0) z 3) (A 6) i_1)) hC hg (hT.1.2.1 6 (by decide)) rfl (by omega) (by omega) dX3_cools_19 (fun g H locs hg hw hn => ?_)
    have hT : tw_W V g0 g o ad I (va_up (va_up A 6 (cpn (fun z => zn (A 0) z 3) (A 6) i_1)) 6 (upd (cpn (fun z => zn (A 0) z 3) (A 6) i_1) i_1 (zn (A 0) i_1 3))) F := hT.putA 6 (by decide) hw hn
    refine lv_iinc (v := (nI (i_1 + 1))) (lv' := [(1, .int (nI (i_1 + 1))), (0, .ref o)]) hx hb dX3_cools_20 hl (k := 1) rfl (nx_iinc rfl) (by decide) rfl (fun ls hl => ?_)
    refine lv_goto (tgt := 2) hx hb dX3_cools_23 (by decide) ?_
    exact ih2 _ _ _ _ hg ⟨(hT.eqA (fam8 rfl rfl rfl rfl rfl rfl (cpn_s _ _ _) rfl (fun _ => rfl))), lv_sub hl [1, 0] rfl⟩
set_option maxHeartbeats 1000000 in
set_option maxRecDepth 100000 in
theorem t_ends (l : Launch) (V : gh_V) (o : Nat) (ad : Nat → Nat) (I : Nat → Int32) (A : Nat → Nat → Int32) (F : Nat → Nat → UInt32) (g0 : gh_G) (hP : tw_P V g0 o ad I A F) (x f : Int32) (q : Nat) (L D P : Nat) (ex : x = nI q) (bq : q < 24) (hE : tw_wf (A 0) L D P) (hn9 : ¬ pl (A 0) q 0 = -1) : MV l yX3_ends cX3_ends 4 ({ frames := 1, cells := 0, slots := 0, locals := 23 } : Room) V [.ref o, .int x, .int f] g0 (fun g1 => tw_W V g0 g1 o ad I (va_up A 0 (endS (A 0) q f)) (va_up F 0 (va_up (F 0) q FP.fconst0))) := by
  refine MG.of RX3 (by decide) rfl (Nat.le_of_ble_eq_true rfl) (fun pp ee s mm args below meth c ls hC hg hr hlk hnm hl => ?_)
  have hx := hC.1.1
  have hb := hC.1.2.1
  have hml := hC.1.2.2.1
  have hown := hC.1.2.2.2.1
  have hts := hC.1.2.2.2.2
  have hl : lv_has ls 4 [(0, .ref o), (1, .int x), (2, .int f)] := hl
  have hT := hP.W
  have hq9 := wf_pc hE bq hn9
  have hL9 := hE.1.2
  refine lv_aload_n hx hb dX3_ends_0 rfl (lv_at hl 0 rfl) ?_
  refine lv_iload_n hx hb dX3_ends_1 rfl (lv_at hl 1 rfl) ?_
  refine lv_iconst (v := 0) hx hb dX3_ends_2 (by decide) ?_
  refine gh_calli hg (gh_runV (As := [.int x, .int 0]) (rest := []) hC hg (t_at l V o ad I A F _ hT.1 x 0 q 0 ex (show ((0 : Int32)) = nI 0 from rfl) (by omega) (by omega)) 2 (lw_V q3964 q3966 qs65 q138 q3967) hT.1.1 rfl hd_X3_at ⟨Nat.le_of_ble_eq_true rfl, Nat.le_of_ble_eq_true rfl⟩ rfl hl.1 rfl (Nat.le_of_ble_eq_true rfl) dX3_ends_3 ⟨Nat.le_of_ble_eq_true rfl, Nat.le_of_ble_eq_true rfl⟩) (fun r_1 g H locs hg hp => ?_)
  obtain ⟨hp, hq⟩ := hp
  replace hp : r_1 = (pl (A 0) q 0) := hp
  subst hp
  rw [hq] at hg
  refine lv_istore_n (lv' := [(3, .int (pl (A 0) q 0)), (0, .ref o), (1, .int x), (2, .int f)]) hx hb dX3_ends_6 rfl hl (by decide) rfl (fun ls hl => ?_)
  refine lv_aload_n hx hb dX3_ends_7 rfl (lv_at hl 1 rfl) ?_
  refine gh_get (v := .ref (ad 0)) hC hg hT.1.1 fX3_7_0 rfl dX3_ends_8 ?_
  refine lv_sipush (v := 164) hx hb dX3_ends_11 (by decide) ?_
  refine lv_bipush (v := 25) hx hb dX3_ends_14 (by decide) ?_
  refine lv_iload_n hx hb dX3_ends_16 rfl (lv_at hl 0 rfl) ?_
  refine lv_imul hx hb dX3_ends_17 ?_
  refine lv_iadd hx hb dX3_ends_18 ?_
  refine lv_iconst (v := 5) hx hb dX3_ends_19 (by decide) ?_
  refine lv_iadd hx hb dX3_ends_20 ?_
  refine lv_aload_n hx hb dX3_ends_21 rfl (lv_at hl 1 rfl) ?_
  refine lv_iload_n hx hb dX3_ends_22 rfl (lv_at hl 2 rfl) ?_
  refine lv_iconst (v := 1) hx hb dX3_ends_23 (by decide) ?_
  refine gh_calli hg (gh_runV (As := [.int x, .int 1]) (rest := [.int ((164 + (25 * (pl (A 0) q 0))) + 5), .ref (ad 0)]) hC hg (t_at l V o ad I A F _ hT.1 x 1 q 1 ex (show ((1 : Int32)) = nI 1 from rfl) (by omega) (by omega)) 2 (lw_V q3964 q3966 qs65 q138 q3967) hT.1.1 rfl hd_X3_at ⟨Nat.le_of_ble_eq_true rfl, Nat.le_of_ble_eq_true rfl⟩ rfl hl.1 rfl (Nat.le_of_ble_eq_true rfl) dX3_ends_24 ⟨Nat.le_of_ble_eq_true rfl, Nat.le_of_ble_eq_true rfl⟩) (fun r_2 g H locs hg hp => ?_)
  obtain ⟨hp, hq⟩ := hp
  replace hp : r_2 = (pl (A 0) q 1) := hp
  subst hp
  rw [hq] at hg
  refine lv_iadd hx hb dX3_ends_27 ?_
  refine lv_iload_n hx hb dX3_ends_28 rfl (lv_at hl 3 rfl) ?_
  refine gh_iast (n := 578) (f := (A 0)) hC hg (hT.1.2.1 0 (by decide)) (nx_add (nx_add (nx_add (show ((164 : Int32)) = nI 164 from rfl) (nx_mul (show ((25 : Int32)) = nI 25 from rfl) hq9.1.1)) (show ((5 : Int32)) = nI 5 from rfl)) hq9.2.1) (by omega) (by omega) dX3_ends_29 (fun g H locs hg hw hn => ?_)
  have hT : tw_W V g0 g o ad I (va_up A 0 (upd (A 0) (((164 + (25 * (pl (A 0) q 0).toNatClampNeg)) + 5) + (pl (A 0) q 1).toNatClampNeg) f)) F := hT.putA 0 (by decide) hw hn
  refine lv_aload_n hx hb dX3_ends_30 rfl (lv_at hl 1 rfl) ?_
  refine lv_iload_n hx hb dX3_ends_31 rfl (lv_at hl 2 rfl) ?_
  refine lv_iconst (v := 0) hx hb dX3_ends_32 (by decide) ?_
  refine lv_iconst (v := (-1)) hx hb dX3_ends_33 (by decide) ?_
  refine gh_callv hg (gh_runV (As := [.int x, .int 0, .int (-1)]) (rest := []) hC hg (t_putPlace l V o ad I (va_up A 0 (upd (A 0) (((164 + (25 * (pl (A 0) q 0).toNatClampNeg)) + 5) + (pl (A 0) q 1).toNatClampNeg) f)) F _ hT.1 x 0 (-1) q 0 ex (show ((0 : Int32)) = nI 0 from rfl) (by omega) (by omega)) 3 (lw_V q3826 q3828 qs53 q138 q3829) hT.1.1 rfl hd_X3_putPlace ⟨Nat.le_of_ble_eq_true rfl, Nat.le_of_ble_eq_true rfl⟩ rfl hl.1 rfl (Nat.le_of_ble_eq_true rfl) dX3_ends_34 ⟨Nat.le_of_ble_eq_true rfl, Nat.le_of_ble_eq_true rfl⟩) (fun g H locs hg hp => ?_)
  have hT : tw_W V g0 g o ad I (va_up (va_up A 0 (upd (A 0) (((164 + (25 * (pl (A 0) q 0).toNatClampNeg)) + 5) + (pl (A 0) q 1).toNatClampNeg) f)) 0 (ps (upd (A 0) (((164 + (25 * (pl (A 0) q 0).toNatClampNeg)) + 5) + (pl (A 0) q 1).toNatClampNeg) f) q 0 (-1))) F := hT.call hp
  refine lv_aload_n hx hb dX3_ends_37 rfl (lv_at hl 1 rfl) ?_
  refine lv_iload_n hx hb dX3_ends_38 rfl (lv_at hl 2 rfl) ?_
  refine lv_iconst (v := 1) hx hb dX3_ends_39 (by decide) ?_
  refine lv_iconst (v := 0) hx hb dX3_ends_40 (by decide) ?_
  refine gh_callv hg (gh_runV (As := [.int x, .int 1, .int 0]) (rest := []) hC hg (t_putPlace l V o ad I (va_up (va_up A 0 (upd (A 0) (((164 + (25 * (pl (A 0) q 0).toNatClampNeg)) + 5) + (pl (A 0) q 1).toNatClampNeg) f)) 0 (ps (upd (A 0) (((164 + (25 * (pl (A 0) q 0).toNatClampNeg)) + 5) + (pl (A 0) q 1).toNatClampNeg) f) q 0 (-1))) F _ hT.1 x 1 0 q 1 ex (show ((1 : Int32)) = nI 1 from rfl) (by omega) (by omega)) 3 (lw_V q3826 q3828 qs53 q138 q3829) hT.1.1 rfl hd_X3_putPlace ⟨Nat.le_of_ble_eq_true rfl, Nat.le_of_ble_eq_true rfl⟩ rfl hl.1 rfl (Nat.le_of_ble_eq_true rfl) dX3_ends_41 ⟨Nat.le_of_ble_eq_true rfl, Nat.le_of_ble_eq_true rfl⟩) (fun g H locs hg hp => ?_)
  have hT : tw_W V g0 g o ad I (va_up (va_up (va_up A 0 (upd (A 0) (((164 + (25 * (pl (A 0) q 0).toNatClampNeg)) + 5) + (pl (A 0) q 1).toNatClampNeg) f)) 0 (ps (upd (A 0) (((164 + (25 * (pl (A 0) q 0).toNatClampNeg)) + 5) + (pl (A 0) q 1).toNatClampNeg) f) q 0 (-1))) 0 (ps (ps (upd (A 0) (((164 + (25 * (pl (A 0) q 0).toNatClampNeg)) + 5) + (pl (A 0) q 1).toNatClampNeg) f) q 0 (-1)) q 1 0)) F := hT.call hp
  refine lv_aload_n hx hb dX3_ends_44 rfl (lv_at hl 1 rfl) ?_
  refine lv_iload_n hx hb dX3_ends_45 rfl (lv_at hl 2 rfl) ?_
  refine lv_iconst (v := 2) hx hb dX3_ends_46 (by decide) ?_
  refine lv_iconst (v := 0) hx hb dX3_ends_47 (by decide) ?_
  refine gh_callv hg (gh_runV (As := [.int x, .int 2, .int 0]) (rest := []) hC hg (t_putPlace l V o ad I (va_up (va_up (va_up A 0 (upd (A 0) (((164 + (25 * (pl (A 0) q 0).toNatClampNeg)) + 5) + (pl (A 0) q 1).toNatClampNeg) f)) 0 (ps (upd (A 0) (((164 + (25 * (pl (A 0) q 0).toNatClampNeg)) + 5) + (pl (A 0) q 1).toNatClampNeg) f) q 0 (-1))) 0 (ps (ps (upd (A 0) (((164 + (25 * (pl (A 0) q 0).toNatClampNeg)) + 5) + (pl (A 0) q 1).toNatClampNeg) f) q 0 (-1)) q 1 0)) F _ hT.1 x 2 0 q 2 ex (show ((2 : Int32)) = nI 2 from rfl) (by omega) (by omega)) 3 (lw_V q3826 q3828 qs53 q138 q3829) hT.1.1 rfl hd_X3_putPlace ⟨Nat.le_of_ble_eq_true rfl, Nat.le_of_ble_eq_true rfl⟩ rfl hl.1 rfl (Nat.le_of_ble_eq_true rfl) dX3_ends_48 ⟨Nat.le_of_ble_eq_true rfl, Nat.le_of_ble_eq_true rfl⟩) (fun g H locs hg hp => ?_)
  have hT : tw_W V g0 g o ad I (va_up (va_up (va_up (va_up A 0 (upd (A 0) (((164 + (25 * (pl (A 0) q 0).toNatClampNeg)) + 5) + (pl (A 0) q 1).toNatClampNeg) f)) 0 (ps (upd (A 0) (((164 + (25 * (pl (A 0) q 0).toNatClampNeg)) + 5) + (pl (A 0) q 1).toNatClampNeg) f) q 0 (-1))) 0 (ps (ps (upd (A 0) (((164 + (25 * (pl (A 0) q 0).toNatClampNeg)) + 5) + (pl (A 0) q 1).toNatClampNeg) f) q 0 (-1)) q 1 0)) 0 (ps (ps (ps (upd (A 0) (((164 + (25 * (pl (A 0) q 0).toNatClampNeg)) + 5) + (pl (A 0) q 1).toNatClampNeg) f) q 0 (-1)) q 1 0) q 2 0)) F := hT.call hp
  refine lv_aload_n hx hb dX3_ends_51 rfl (lv_at hl 1 rfl) ?_
  refine lv_iload_n hx hb dX3_ends_52 rfl (lv_at hl 2 rfl) ?_
  refine lv_iconst (v := 3) hx hb dX3_ends_53 (by decide) ?_
  refine lv_iconst (v := 0) hx hb dX3_ends_54 (by decide) ?_
  refine gh_callv hg (gh_runV (As := [.int x, .int 3, .int 0]) (rest := []) hC hg (t_putPlace l V o ad I (va_up (va_up (va_up (va_up A 0 (upd (A 0) (((164 + (25 * (pl (A 0) q 0).toNatClampNeg)) + 5) + (pl (A 0) q 1).toNatClampNeg) f)) 0 (ps (upd (A 0) (((164 + (25 * (pl (A 0) q 0).toNatClampNeg)) + 5) + (pl (A 0) q 1).toNatClampNeg) f) q 0 (-1))) 0 (ps (ps (upd (A 0) (((164 + (25 * (pl (A 0) q 0).toNatClampNeg)) + 5) + (pl (A 0) q 1).toNatClampNeg) f) q 0 (-1)) q 1 0)) 0 (ps (ps (ps (upd (A 0) (((164 + (25 * (pl (A 0) q 0).toNatClampNeg)) + 5) + (pl (A 0) q 1).toNatClampNeg) f) q 0 (-1)) q 1 0) q 2 0)) F _ hT.1 x 3 0 q 3 ex (show ((3 : Int32)) = nI 3 from rfl) (by omega) (by omega)) 3 (lw_V q3826 q3828 qs53 q138 q3829) hT.1.1 rfl hd_X3_putPlace ⟨Nat.le_of_ble_eq_true rfl, Nat.le_of_ble_eq_true rfl⟩ rfl hl.1 rfl (Nat.le_of_ble_eq_true rfl) dX3_ends_55 ⟨Nat.le_of_ble_eq_true rfl, Nat.le_of_ble_eq_true rfl⟩) (fun g H locs hg hp => ?_)
  have hT : tw_W V g0 g o ad I (va_up (va_up (va_up (va_up (va_up A 0 (upd (A 0) (((164 + (25 * (pl (A 0) q 0).toNatClampNeg)) + 5) + (pl (A 0) q 1).toNatClampNeg) f)) 0 (ps (upd (A 0) (((164 + (25 * (pl (A 0) q 0).toNatClampNeg)) + 5) + (pl (A 0) q 1).toNatClampNeg) f) q 0 (-1))) 0 (ps (ps (upd (A 0) (((164 + (25 * (pl (A 0) q 0).toNatClampNeg)) + 5) + (pl (A 0) q 1).toNatClampNeg) f) q 0 (-1)) q 1 0)) 0 (ps (ps (ps (upd (A 0) (((164 + (25 * (pl (A 0) q 0).toNatClampNeg)) + 5) + (pl (A 0) q 1).toNatClampNeg) f) q 0 (-1)) q 1 0) q 2 0)) 0 (ps (ps (ps (ps (upd (A 0) (((164 + (25 * (pl (A 0) q 0).toNatClampNeg)) + 5) + (pl (A 0) q 1).toNatClampNeg) f) q 0 (-1)) q 1 0) q 2 0) q 3 0)) F := hT.call hp
  refine lv_aload_n hx hb dX3_ends_58 rfl (lv_at hl 1 rfl) ?_
  refine gh_get (v := .ref (ad 8)) hC hg hT.1.1 fX3_13_0 rfl dX3_ends_59 ?_
  refine lv_iload_n hx hb dX3_ends_62 rfl (lv_at hl 2 rfl) ?_
  refine lv_fconst0 hx hb dX3_ends_63 ?_
  refine gh_fast (n := 24) (f := (F 0)) hC hg (hT.1.2.2 0 (by decide)) ex (by omega) (by omega) dX3_ends_64 (fun g H locs hg hw hn => ?_)
  have hT : tw_W V g0 g o ad I (va_up (va_up (va_up (va_up (va_up A 0 (upd (A 0) (((164 + (25 * (pl (A 0) q 0).toNatClampNeg)) + 5) + (pl (A 0) q 1).toNatClampNeg) f)) 0 (ps (upd (A 0) (((164 + (25 * (pl (A 0) q 0).toNatClampNeg)) + 5) + (pl (A 0) q 1).toNatClampNeg) f) q 0 (-1))) 0 (ps (ps (upd (A 0) (((164 + (25 * (pl (A 0) q 0).toNatClampNeg)) + 5) + (pl (A 0) q 1).toNatClampNeg) f) q 0 (-1)) q 1 0)) 0 (ps (ps (ps (upd (A 0) (((164 + (25 * (pl (A 0) q 0).toNatClampNeg)) + 5) + (pl (A 0) q 1).toNatClampNeg) f) q 0 (-1)) q 1 0) q 2 0)) 0 (ps (ps (ps (ps (upd (A 0) (((164 + (25 * (pl (A 0) q 0).toNatClampNeg)) + 5) + (pl (A 0) q 1).toNatClampNeg) f) q 0 (-1)) q 1 0) q 2 0) q 3 0)) (va_up F 0 (va_up (F 0) q FP.fconst0)) := hT.putF 0 (by decide) hw hn
  exact gh_retv hC hg hr hlk (hT.eqAF (fam8 rfl rfl rfl rfl rfl rfl rfl rfl (fun _ => rfl)) (fam4 rfl rfl rfl rfl (fun _ => rfl))) dX3_ends_65 (Nat.le_of_ble_eq_true rfl) (Nat.le_of_ble_eq_true rfl)
set_option maxHeartbeats 1000000 in
set_option maxRecDepth 100000 in
theorem t_breaks (l : Launch) (V : gh_V) (o : Nat) (ad : Nat → Nat) (I : Nat → Int32) (A : Nat → Nat → Int32) (F : Nat → Nat → UInt32) (g0 : gh_G) (hP : tw_P V g0 o ad I A F) (L D P : Nat) (hE : tw_wf (A 0) L D P) (hnn : nnS (F 0)) : MI l yX3_breaks cX3_breaks 3 (some .int) ({ frames := 2, cells := 0, slots := 0, locals := 46 } : Room) V [.ref o] g0 (fun r g1 => r = (brkF (A 0) (F 0)).2.2 ∧ tw_W V g0 g1 o ad I (va_up A 0 (brkF (A 0) (F 0)).1) (va_up F 0 (brkF (A 0) (F 0)).2.1)) := by
  refine MG.of RX3 (by decide) rfl (Nat.le_of_ble_eq_true rfl) (fun pp ee s mm args below meth c ls hC hg hr hlk hnm hl => ?_)
  have hx := hC.1.1
  have hb := hC.1.2.1
  have hml := hC.1.2.2.1
  have hown := hC.1.2.2.2.1
  have hts := hC.1.2.2.2.2
  have hl : lv_has ls 3 [(0, .ref o)] := hl
  have hT := hP.W
  refine lv_iconst (v := 0) hx hb dX3_breaks_0 (by decide) ?_
  refine lv_istore_n (lv' := [(1, .int 0), (0, .ref o)]) hx hb dX3_breaks_1 rfl hl (by decide) rfl (fun ls hl => ?_)
  refine lv_iconst (v := 0) hx hb dX3_breaks_2 (by decide) ?_
  refine lv_istore_n (lv' := [(2, .int 0), (1, .int 0), (0, .ref o)]) hx hb dX3_breaks_3 rfl hl (by decide) rfl (fun ls hl => ?_)
  obtain ⟨N9, hN9⟩ : ∃ N, N = 24 := ⟨24, rfl⟩
  refine gh_loop (N := N9) (X := fun i_1 g ls => tw_W V g0 g o ad I (va_up A 0 ((brk (A 0) (F 0) i_1).1)) (va_up F 0 ((brk (A 0) (F 0) i_1).2.1)) ∧ lv_has ls 3 [(0, .ref o), (1, .int ((brk (A 0) (F 0) i_1).2.2)), (2, .int (nI i_1))]) ?_ ?_ 0 (by omega) hg ⟨(hT.eqAF (fam8 rfl rfl rfl rfl rfl rfl rfl rfl (fun _ => rfl)) (fam4 rfl rfl rfl rfl (fun _ => rfl))), lv_sub hl [2, 1, 0] rfl⟩
  · intro g H locs ls hg hX
    obtain ⟨hT, hl⟩ := hX
    refine lv_iload_n hx hb dX3_breaks_4 rfl (lv_at hl 2 rfl) ?_
    refine lv_bipush (v := 24) hx hb dX3_breaks_5 (by decide) ?_
    refine lv_icmp_ge (tgt := 59) hx hb dX3_breaks_7 (by decide) (fun _ => ?_) (fun c_2 => (absurd ((nx_le (show ((24 : Int32)) = nI 24 from rfl) rfl (by omega) (by omega)).mpr (by omega)) c_2))
    refine lv_iload_n hx hb dX3_breaks_59 rfl (lv_at hl 1 rfl) ?_
    exact gh_reti hC hg hr hlk (⟨congrArg (fun x => x.2.2) (brkF_N hN9 _ _), (hT.eqAF (fam8 (congrArg Prod.fst (brkF_N hN9 _ _)) rfl rfl rfl rfl rfl rfl rfl (fun _ => rfl)) (fam4 (congrArg (fun x => x.2.1) (brkF_N hN9 _ _)) rfl rfl rfl (fun _ => rfl)))⟩) dX3_breaks_60 (Nat.le_of_ble_eq_true rfl) (Nat.le_of_ble_eq_true rfl)
  · intro i_1 h_3 ih4 g H locs ls hg hX
    obtain ⟨hT, hl⟩ := hX
    refine lv_iload_n hx hb dX3_breaks_4 rfl (lv_at hl 2 rfl) ?_
    have hi24 : i_1 < 24 := by omega
    have hW := brk_wf hE hnn i_1 (by omega)
    refine lv_bipush (v := 24) hx hb dX3_breaks_5 (by decide) ?_
    refine lv_icmp_ge (tgt := 59) hx hb dX3_breaks_7 (by decide) (fun c_4 => (absurd ((nx_le (show ((24 : Int32)) = nI 24 from rfl) rfl (by omega) (by omega)).mp c_4) (by omega))) (fun _ => ?_)
    refine lv_aload_n hx hb dX3_breaks_10 rfl (lv_at hl 0 rfl) ?_
    refine lv_iload_n hx hb dX3_breaks_11 rfl (lv_at hl 2 rfl) ?_
    refine gh_calli hg (gh_runV (As := [.int (nI i_1)]) (rest := []) hC hg (t_isPiece l V o ad I (va_up A 0 ((brk (A 0) (F 0) i_1).1)) (va_up F 0 ((brk (A 0) (F 0) i_1).2.1)) _ hT.1 (nI i_1) i_1 rfl (by omega)) 1 (lw_V q3960 q3962 qs64 q138 q3963) hT.1.1 rfl hd_X3_isPiece ⟨Nat.le_of_ble_eq_true rfl, Nat.le_of_ble_eq_true rfl⟩ rfl hl.1 rfl (Nat.le_of_ble_eq_true rfl) dX3_breaks_12 ⟨Nat.le_of_ble_eq_true rfl, Nat.le_of_ble_eq_true rfl⟩) (fun r_5 g H locs hg hp => ?_)
    replace hp : r_5 = (if ¬ pl ((brk (A 0) (F 0) i_1).1) i_1 0 = -1 then 1 else 0) ∧ g = _ := hp
    by_cases pc_6 : ¬ pl ((brk (A 0) (F 0) i_1).1) i_1 0 = -1
    · rw [if_pos pc_6] at hp
      obtain ⟨rfl, hq⟩ := hp
      rw [hq] at hg
      have hq9 := wf_pc hW.1 hi24 pc_6
      have hL9 := hE.1.2
      have hn9 := pc_6
      refine lv_if_eq (tgt := 53) hx hb dX3_breaks_15 (by decide) (fun c_7 => (absurd ((nx_eq (show ((1 : Int32)) = nI 1 from rfl) (show ((0 : Int32)) = nI 0 from rfl) (by omega) (by omega)).mp c_7) (by omega))) (fun _ => ?_)
      refine lv_aload_n hx hb dX3_breaks_18 rfl (lv_at hl 0 rfl) ?_
      refine gh_get (v := .ref (ad 8)) hC hg hT.1.1 fX3_13_0 rfl dX3_breaks_19 ?_
      refine lv_iload_n hx hb dX3_breaks_22 rfl (lv_at hl 2 rfl) ?_
      refine gh_fald (n := 24) (f := ((brk (A 0) (F 0) i_1).2.1)) hC hg (hT.1.2.2 0 (by decide)) rfl (by omega) (by omega) dX3_breaks_23 ?_
      refine lv_aload_n hx hb dX3_breaks_24 rfl (lv_at hl 0 rfl) ?_
      refine lv_iload_n hx hb dX3_breaks_25 rfl (lv_at hl 2 rfl) ?_
      refine gh_calli hg (gh_runV (As := [.int (nI i_1)]) (rest := [.float (((brk (A 0) (F 0) i_1).2.1) i_1)]) hC hg (t_kindAt l V o ad I (va_up A 0 ((brk (A 0) (F 0) i_1).1)) (va_up F 0 ((brk (A 0) (F 0) i_1).2.1)) _ hT.1 (nI i_1) i_1 ((pl ((brk (A 0) (F 0) i_1).1) i_1 0).toNatClampNeg) rfl (by omega) hq9.1.1 (by omega)) 1 (lw_V q4046 q4048 qs80 q138 q4049) hT.1.1 rfl hd_X3_kindAt ⟨Nat.le_of_ble_eq_true rfl, Nat.le_of_ble_eq_true rfl⟩ rfl hl.1 rfl (Nat.le_of_ble_eq_true rfl) dX3_breaks_26 ⟨Nat.le_of_ble_eq_true rfl, Nat.le_of_ble_eq_true rfl⟩) (fun r_8 g H locs hg hp => ?_)
      obtain ⟨hp, hq⟩ := hp
      replace hp : r_8 = (lt ((brk (A 0) (F 0) i_1).1) ((pl ((brk (A 0) (F 0) i_1).1) i_1 0).toNatClampNeg) 0) := hp
      subst hp
      rw [hq] at hg
      refine gh_calli hg (gh_runS (As := [.int (lt ((brk (A 0) (F 0) i_1).1) ((pl ((brk (A 0) (F 0) i_1).1) i_1 0).toNatClampNeg) 0)]) (rest := [.float (((brk (A 0) (F 0) i_1).2.1) i_1)]) hC hg (t_limit l V _ (lt ((brk (A 0) (F 0) i_1).1) ((pl ((brk (A 0) (F 0) i_1).1) i_1 0).toNatClampNeg) 0)) 1 (lw_S q4063 q4064 q138 q4065) hd_X3_limit.2 ⟨Nat.le_of_ble_eq_true rfl, Nat.le_of_ble_eq_true rfl⟩ rfl hl.1 rfl (Nat.le_of_ble_eq_true rfl) dX3_breaks_29 ⟨Nat.le_of_ble_eq_true rfl, Nat.le_of_ble_eq_true rfl⟩) (fun r_9 g H locs hg hp => ?_)
      obtain ⟨hp, hq⟩ := hp
      replace hp : r_9 = (sp_limit (lt ((brk (A 0) (F 0) i_1).1) ((pl ((brk (A 0) (F 0) i_1).1) i_1 0).toNatClampNeg) 0)) := hp
      subst hp
      rw [hq] at hg
      refine lv_i2f hx hb dX3_breaks_32 ?_
      refine lv_fcmp hx hb dX3_breaks_33 ?_
      refine lv_if_le (tgt := 53) hx hb dX3_breaks_34 (by decide) (fun c_10 => ?_) (fun c_10 => ?_)
      · skip
        refine lv_iinc (v := (nI (i_1 + 1))) (lv' := [(2, .int (nI (i_1 + 1))), (0, .ref o), (1, .int ((brk (A 0) (F 0) i_1).2.2))]) hx hb dX3_breaks_53 hl (k := 2) rfl (nx_iinc rfl) (by decide) rfl (fun ls hl => ?_)
        refine lv_goto (tgt := 4) hx hb dX3_breaks_56 (by decide) ?_
        exact ih4 _ _ _ _ hg ⟨(hT.eqAF (fam8 (show (brk (A 0) (F 0) i_1).1 = (brk (A 0) (F 0) (i_1 + 1)).1 from by rw [brk_s]; unfold brk1; simp only [if_neg pc_6, if_pos c_10]) rfl rfl rfl rfl rfl rfl rfl (fun _ => rfl)) (fam4 (show (brk (A 0) (F 0) i_1).2.1 = (brk (A 0) (F 0) (i_1 + 1)).2.1 from by rw [brk_s]; unfold brk1; simp only [if_neg pc_6, if_pos c_10]) rfl rfl rfl (fun _ => rfl))), (by rw [show (brk (A 0) (F 0) (i_1 + 1)).2.2 = (brk (A 0) (F 0) i_1).2.2 from by rw [brk_s]; unfold brk1; simp only [if_neg pc_6, if_pos c_10]]; exact lv_sub hl [1, 2, 0] rfl)⟩
      refine lv_aload_n hx hb dX3_breaks_37 rfl (lv_at hl 0 rfl) ?_
      refine lv_iload_n hx hb dX3_breaks_38 rfl (lv_at hl 2 rfl) ?_
      refine lv_iconst (v := 4) hx hb dX3_breaks_39 (by decide) ?_
      refine gh_callv hg (gh_runV (As := [.int (nI i_1), .int 4]) (rest := []) hC hg (t_ends l V o ad I (va_up A 0 ((brk (A 0) (F 0) i_1).1)) (va_up F 0 ((brk (A 0) (F 0) i_1).2.1)) _ hT.1 (nI i_1) 4 i_1 L D P rfl (by omega) hW.1 hn9) 2 (lw_V q4066 q4068 qs82 q138 q4069) hT.1.1 rfl hd_X3_ends ⟨Nat.le_of_ble_eq_true rfl, Nat.le_of_ble_eq_true rfl⟩ rfl hl.1 rfl (Nat.le_of_ble_eq_true rfl) dX3_breaks_40 ⟨Nat.le_of_ble_eq_true rfl, Nat.le_of_ble_eq_true rfl⟩) (fun g H locs hg hp => ?_)
      have hT : tw_W V g0 g o ad I (va_up (va_up A 0 ((brk (A 0) (F 0) i_1).1)) 0 (endS ((brk (A 0) (F 0) i_1).1) i_1 4)) (va_up (va_up F 0 ((brk (A 0) (F 0) i_1).2.1)) 0 (va_up ((brk (A 0) (F 0) i_1).2.1) i_1 FP.fconst0)) := hT.call hp
      refine lv_aload_n hx hb dX3_breaks_43 rfl (lv_at hl 0 rfl) ?_
      refine lv_iload_n hx hb dX3_breaks_44 rfl (lv_at hl 2 rfl) ?_
      refine lv_iconst (v := 4) hx hb dX3_breaks_45 (by decide) ?_
      refine lv_iconst (v := 1) hx hb dX3_breaks_46 (by decide) ?_
      refine gh_callv hg (gh_runV (As := [.int (nI i_1), .int 4, .int 1]) (rest := []) hC hg (t_putPlace l V o ad I (va_up (va_up A 0 ((brk (A 0) (F 0) i_1).1)) 0 (endS ((brk (A 0) (F 0) i_1).1) i_1 4)) (va_up (va_up F 0 ((brk (A 0) (F 0) i_1).2.1)) 0 (va_up ((brk (A 0) (F 0) i_1).2.1) i_1 FP.fconst0)) _ hT.1 (nI i_1) 4 1 i_1 4 rfl (show ((4 : Int32)) = nI 4 from rfl) (by omega) (by omega)) 3 (lw_V q3826 q3828 qs53 q138 q3829) hT.1.1 rfl hd_X3_putPlace ⟨Nat.le_of_ble_eq_true rfl, Nat.le_of_ble_eq_true rfl⟩ rfl hl.1 rfl (Nat.le_of_ble_eq_true rfl) dX3_breaks_47 ⟨Nat.le_of_ble_eq_true rfl, Nat.le_of_ble_eq_true rfl⟩) (fun g H locs hg hp => ?_)
      have hT : tw_W V g0 g o ad I (va_up (va_up (va_up A 0 ((brk (A 0) (F 0) i_1).1)) 0 (endS ((brk (A 0) (F 0) i_1).1) i_1 4)) 0 (ps (endS ((brk (A 0) (F 0) i_1).1) i_1 4) i_1 4 1)) (va_up (va_up F 0 ((brk (A 0) (F 0) i_1).2.1)) 0 (va_up ((brk (A 0) (F 0) i_1).2.1) i_1 FP.fconst0)) := hT.call hp
      refine lv_iinc (v := ((brk (A 0) (F 0) i_1).2.2 + 1)) (lv' := [(1, .int ((brk (A 0) (F 0) i_1).2.2 + 1)), (0, .ref o), (2, .int (nI i_1))]) hx hb dX3_breaks_50 hl (k := 1) rfl rfl (by decide) rfl (fun ls hl => ?_)
      refine lv_iinc (v := (nI (i_1 + 1))) (lv' := [(2, .int (nI (i_1 + 1))), (1, .int ((brk (A 0) (F 0) i_1).2.2 + 1)), (0, .ref o)]) hx hb dX3_breaks_53 hl (k := 2) rfl (nx_iinc rfl) (by decide) rfl (fun ls hl => ?_)
      refine lv_goto (tgt := 4) hx hb dX3_breaks_56 (by decide) ?_
      exact ih4 _ _ _ _ hg ⟨(hT.eqAF (fam8 (show (ps (endS ((brk (A 0) (F 0) i_1).1) i_1 4) i_1 4 1) = (brk (A 0) (F 0) (i_1 + 1)).1 from by rw [brk_s]; unfold brk1; simp only [if_neg pc_6, if_neg c_10]) rfl rfl rfl rfl rfl rfl rfl (fun _ => rfl)) (fam4 (show (va_up ((brk (A 0) (F 0) i_1).2.1) i_1 FP.fconst0) = (brk (A 0) (F 0) (i_1 + 1)).2.1 from by rw [brk_s]; unfold brk1; simp only [if_neg pc_6, if_neg c_10]) rfl rfl rfl (fun _ => rfl))), (by rw [show (brk (A 0) (F 0) (i_1 + 1)).2.2 = ((brk (A 0) (F 0) i_1).2.2 + 1) from by rw [brk_s]; unfold brk1; simp only [if_neg pc_6, if_neg c_10]]; exact lv_sub hl [2, 1, 0] rfl)⟩
    rw [if_neg pc_6] at hp
    obtain ⟨rfl, hq⟩ := hp
    rw [hq] at hg
    have pc_6 := Decidable.not_not.mp pc_6
    refine lv_if_eq (tgt := 53) hx hb dX3_breaks_15 (by decide) (fun _ => ?_) (fun c_11 => (absurd ((nx_eq (show ((0 : Int32)) = nI 0 from rfl) (show ((0 : Int32)) = nI 0 from rfl) (by omega) (by omega)).mpr (by omega)) c_11))
    refine lv_iinc (v := (nI (i_1 + 1))) (lv' := [(2, .int (nI (i_1 + 1))), (0, .ref o), (1, .int ((brk (A 0) (F 0) i_1).2.2))]) hx hb dX3_breaks_53 hl (k := 2) rfl (nx_iinc rfl) (by decide) rfl (fun ls hl => ?_)
    refine lv_goto (tgt := 4) hx hb dX3_breaks_56 (by decide) ?_
    exact ih4 _ _ _ _ hg ⟨(hT.eqAF (fam8 (show (brk (A 0) (F 0) i_1).1 = (brk (A 0) (F 0) (i_1 + 1)).1 from by rw [brk_s]; unfold brk1; simp only [if_pos pc_6]) rfl rfl rfl rfl rfl rfl rfl (fun _ => rfl)) (fam4 (show (brk (A 0) (F 0) i_1).2.1 = (brk (A 0) (F 0) (i_1 + 1)).2.1 from by rw [brk_s]; unfold brk1; simp only [if_pos pc_6]) rfl rfl rfl (fun _ => rfl))), (by rw [show (brk (A 0) (F 0) (i_1 + 1)).2.2 = (brk (A 0) (F 0) i_1).2.2 from by rw [brk_s]; unfold brk1; simp only [if_pos pc_6]]; exact lv_sub hl [1, 2, 0] rfl)⟩
