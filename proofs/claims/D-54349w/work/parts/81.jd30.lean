/-! CARRYING OUT -/
def trp (s : Nat → Int32) (i : Nat) : Int32 × Int32 × Int32 := (pn s i 0, pn s i 1, pn s i 2)
theorem mvj_pn {s : Nat → Int32} {l k q : Nat} (hl : l ≤ k) (hq : q < 3) : mvj s l k 3 (530 + 3 * l + q) = s (530 + 3 * k + q) := by
  have hq : q = 0 ∨ q = 1 ∨ q = 2 := by omega
  rcases hq with rfl | rfl | rfl
  · simp only [mvj, upd]
    rw [if_neg (by omega), if_neg (by omega), if_pos True.intro]
  · simp only [mvj, upd]
    rw [if_neg (by omega), if_pos True.intro]
    by_cases hk2 : k = l
    · subst hk2; rw [if_neg (by omega)]
    · rw [if_neg (by omega)]
  · simp only [mvj, upd]
    rw [if_pos True.intro, if_neg (by omega), if_neg (by omega)]
/-- the plans that stay, in order -/
theorem co_list {s : Nat → Int32} {L D P : Nat} (h : tw_wf s L D P) : ∀ k, k ≤ P → (List.range' 0 (co s k).2).map (trp (co s k).1) = ((List.range' 0 k).filter (fun i => !decide (pn s i 0 = s 0))).map (trp s)
  | 0, _ => rfl
  | k + 1, hk => by
    have ih := co_list h k (by omega)
    obtain ⟨i1, i2, i3⟩ := co_inv h k (by omega)
    have hrd : ∀ q, q < 3 → (co s k).1 (530 + 3 * k + q) = pn s k q := fun q hq => i2 _ (by omega) (by omega)
    have h0 : (co s k).1 0 = s 0 := i2 0 (by omega) (by omega)
    have hz := co_zone h (k := k) (by omega)
    rw [List.range'_1_concat, List.filter_append, List.map_append, ← ih, Nat.zero_add, co_s]
    have e0 : (co s k).1 (530 + 3 * k) = pn s k 0 := hrd 0 (by omega)
    rw [e0, h0]
    by_cases c : pn s k 0 = s 0
    · rw [if_pos c]
      rw [show List.filter (fun i => !decide (pn s i 0 = s 0)) [k] = [] by simp [c]]
      simp only [List.map_nil, List.append_nil]
      apply List.map_congr_left
      intro i hi
      have e9 : ∀ q, q < 3 → pn (zs (co s k).1 ((co s k).1 (530 + 3 * k + 1)).toNatClampNeg 0 ((co s k).1 (530 + 3 * k + 2))) i q = pn (co s k).1 i q := fun q hq => by
        show zs _ _ _ _ (530 + 3 * i + q) = _
        unfold zs upd
        rw [if_neg (by omega)]
        rfl
      unfold trp
      rw [e9 0 (by omega), e9 1 (by omega), e9 2 (by omega)]
    · rw [if_neg c]
      rw [show List.filter (fun i => !decide (pn s i 0 = s 0)) [k] = [k] by simp [c]]
      show (List.range' 0 ((co s k).2 + 1)).map (trp (mvj (co s k).1 (co s k).2 k 3)) = _
      rw [List.range'_1_concat, List.map_append, Nat.zero_add]
      congr 1
      · apply List.map_congr_left
        intro i hi
        have hi : i < (co s k).2 := by have := (List.mem_range'_1.mp hi).2; omega
        have e9 : ∀ q, q < 3 → pn (mvj (co s k).1 (co s k).2 k 3) i q = pn (co s k).1 i q := fun q hq => mvj_ne (by omega) 3 (by omega)
        unfold trp
        rw [e9 0 (by omega), e9 1 (by omega), e9 2 (by omega)]
      · show [trp (mvj (co s k).1 (co s k).2 k 3) (co s k).2] = [trp s k]
        have e9 : ∀ q, q < 3 → pn (mvj (co s k).1 (co s k).2 k 3) (co s k).2 q = pn s k q := fun q hq => (mvj_pn i1 hq).trans (hrd q hq)
        unfold trp
        rw [e9 0 (by omega), e9 1 (by omega), e9 2 (by omega)]
theorem firstOf_snoc {f : Nat → Bool} {v : Nat → Int32} : ∀ n i, (∀ k, i ≤ k → k < i + n → f k = true → v k ≠ -1) → firstOf f v i (n + 1) = if firstOf f v i n = -1 then (if f (i + n) = true then v (i + n) else -1) else firstOf f v i n
  | 0, i, _ => by
    show (if f i = true then v i else -1) = if (-1 : Int32) = -1 then (if f (i + 0) = true then v (i + 0) else -1) else -1
    rw [if_pos rfl]; rfl
  | n + 1, i, h => by
    by_cases c : f i = true
    · rw [firstOf, if_pos c, firstOf, if_pos c, if_neg (h i (by omega) (by omega) c)]
    · rw [firstOf, if_neg c, firstOf_snoc n (i + 1) (fun k h1 h2 => h k (by omega) (by omega)), firstOf, if_neg c, show i + 1 + n = i + (n + 1) by omega]
/-- the burners behind the plans 0 .. k - 1 -/
theorem co_burn {s : Nat → Int32} {L D P : Nat} (h : tw_wf s L D P) (hJ : jn s) (hP : nP s = P) {t : Nat} (h0 : s 0 = nI t) (ht : t < 10000) {z : Nat} (hz : z < 8) : ∀ k, k ≤ P → zn (co s k).1 z 0 = if firstOf (isPl s (nI t) (nI z)) (fun k => pn s k 2) 0 k = -1 then zn s z 0 else firstOf (isPl s (nI t) (nI z)) (fun k => pn s k 2) 0 k
  | 0, _ => (if_pos rfl).symm
  | k + 1, hk => by
    have ih := co_burn h hJ hP h0 ht hz k (by omega)
    obtain ⟨i1, i2, i3⟩ := co_inv h k (by omega)
    have hrd : ∀ q, q < 3 → (co s k).1 (530 + 3 * k + q) = pn s k q := fun q hq => i2 _ (by omega) (by omega)
    have h00 : (co s k).1 0 = s 0 := i2 0 (by omega) (by omega)
    have e0 : (co s k).1 (530 + 3 * k) = pn s k 0 := hrd 0 (by omega)
    obtain ⟨t', z', b', g1, g2, g3, p0, p1, p2⟩ := hJ.2.1 k (by omega)
    have hnb : ∀ j, 0 ≤ j → j < 0 + k → isPl s (nI t) (nI z) j = true → pn s j 2 ≠ -1 := fun j _ hj _ => by
      obtain ⟨-, -, b, -, -, q3, -, -, q2⟩ := hJ.2.1 j (by omega)
      rw [q2]; exact nI_ne_m1 (by omega)
    rw [firstOf_snoc k 0 hnb, Nat.zero_add, co_s, e0, h00]
    by_cases c : pn s k 0 = s 0
    · rw [if_pos c]
      have ez : ((co s k).1 (530 + 3 * k + 1)).toNatClampNeg = z' := by rw [hrd 1 (by omega), p1, nI_clamp (by omega)]
      have hzn : zn (zs (co s k).1 ((co s k).1 (530 + 3 * k + 1)).toNatClampNeg 0 ((co s k).1 (530 + 3 * k + 2))) z 0 = if z = z' then pn s k 2 else zn (co s k).1 z 0 := by
        rw [ez]
        show zs _ _ _ _ (3 + 5 * z + 0) = _
        unfold zs upd
        by_cases e : z = z'
        · rw [if_pos e, if_pos (by omega)]; exact hrd 2 (by omega)
        · rw [if_neg e, if_neg (by omega)]; rfl
      show zn (zs _ _ _ _) z 0 = _
      rw [hzn]
      have ht' : t' = t := nI_inj (by omega) (by omega) (p0.symm.trans (c.trans h0))
      by_cases e : z = z'
      · have hpl : isPl s (nI t) (nI z) k = true := by unfold isPl; rw [decide_eq_true_iff, p0, p1, ht', e]; exact ⟨rfl, rfl⟩
        have hno : firstOf (isPl s (nI t) (nI z)) (fun k => pn s k 2) 0 k = -1 := by
          rcases firstOf_two (isPl s (nI t) (nI z)) (fun k => pn s k 2) (fun k => pn s k 2) k 0 with ⟨q1, -, -⟩ | ⟨j, q1, q2, q3, -, -⟩
          · exact q1
          · have a := (isPl_code hJ (by omega) ht hz).mp q3
            have b := (isPl_code hJ (by omega) ht hz).mp hpl
            have := hJ.2.2 j k (by omega) (by omega) (a.trans b.symm)
            omega
        rw [if_pos e, hno, if_pos rfl, hpl, if_pos rfl, if_neg (by rw [p2]; exact nI_ne_m1 (by omega))]
      · have hpl : ¬ isPl s (nI t) (nI z) k = true := fun hh => by
          have a := (isPl_code hJ (by omega) ht hz).mp hh
          rw [pcode_eq (b := b') g1 g2 p0 p1] at a
          omega
        rw [if_neg e, ih, if_neg hpl]
        by_cases c2 : firstOf (isPl s (nI t) (nI z)) (fun k => pn s k 2) 0 k = -1
        · rw [if_pos c2, if_pos c2, if_pos rfl]
        · rw [if_neg c2, if_neg c2, if_neg c2]
    · rw [if_neg c]
      have hpl : ¬ isPl s (nI t) (nI z) k = true := fun hh => by
        have a := (isPl_code hJ (by omega) ht hz).mp hh
        rw [pcode_eq (b := b') g1 g2 p0 p1] at a
        exact c (by rw [p0, h0, show t' = t by omega])
      have e9 : zn (mvj (co s k).1 (co s k).2 k 3) z 0 = zn (co s k).1 z 0 := mvj_ne (by omega) 3 (by omega)
      show zn (mvj _ _ _ 3) z 0 = _
      rw [e9, ih, if_neg hpl]
      by_cases c2 : firstOf (isPl s (nI t) (nI z)) (fun k => pn s k 2) 0 k = -1
      · rw [if_pos c2, if_pos c2, if_pos rfl]
      · rw [if_neg c2, if_neg c2, if_neg c2]
/-- the map behind the zones 0 .. n - 1 -/
def cM (M : List (Nat × Nat × Option Nat)) (t : Nat) : Nat → List (Nat × Nat × Option Nat)
  | 0 => M
  | n + 1 => lm_del (cM M t n) (8 * t + n)
theorem cM_map {M : List (Nat × Nat × Option Nat)} {t : Nat} : ∀ n, (cM M t n).map (fun e => (e.1, e.2.2)) = (M.map (fun e => (e.1, e.2.2))).filter (fun q => !decide (8 * t ≤ q.1 ∧ q.1 < 8 * t + n))
  | 0 => by
    show M.map (fun e => (e.1, e.2.2)) = _
    symm
    rw [List.filter_eq_self]
    intro q _
    rw [decide_eq_false (by omega : ¬ (8 * t ≤ q.1 ∧ q.1 < 8 * t + 0))]; rfl
  | n + 1 => by
    show (lm_del (cM M t n) (8 * t + n)).map _ = _
    rw [lm_del_map, cM_map n, List.filter_filter]
    congr 1
    funext q
    by_cases h : q.1 = 8 * t + n
    · have h2 : 8 * t ≤ q.1 ∧ q.1 < 8 * t + (n + 1) := by omega
      simp [h]
    · by_cases h2 : 8 * t ≤ q.1 ∧ q.1 < 8 * t + n
      · have h3 : 8 * t ≤ q.1 ∧ q.1 < 8 * t + (n + 1) := by omega
        simp [h2, h3]
      · have h3 : ¬ (8 * t ≤ q.1 ∧ q.1 < 8 * t + (n + 1)) := by omega
        simp only [h2, h3]
        simp [h]
theorem cM_get {M : List (Nat × Nat × Option Nat)} {t z : Nat} : ∀ n, n ≤ z → lm_get (cM M t n) (8 * t + z) = lm_get M (8 * t + z)
  | 0, _ => rfl
  | n + 1, h => by
    show lm_get (lm_del (cM M t n) (8 * t + n)) _ = _
    rw [lm_get_del (by omega), cM_get n (by omega)]
theorem range_filter_len {s : Nat → Int32} {n : Nat} {x : Int32} {i : Nat} (hi : i < n) (h : pn s i 0 = x) : ((List.range' 0 n).filter (fun i => !decide (pn s i 0 = x))).length < n := by
  have h1 := List.length_filter_lt_length_iff_exists (l := List.range' 0 n) (p := fun i => !decide (pn s i 0 = x))
  have h2 := h1.mpr ⟨i, List.mem_range'_1.mpr ⟨by omega, by omega⟩, by simp [h]⟩
  rwa [List.length_range'] at h2
section Carry
variable {V : gh_V} {s : Nat → Int32} {L D P t : Nat} {M : List (Nat × Nat × Option Nat)}
theorem carry_pn (h : tw_wf s L D P) {i q : Nat} (hi : i < (co s P).2) (hq : q < 3) : pn (carryS s P) i q = pn (co s P).1 i q := by
  show carryS s P (530 + 3 * i + q) = _
  unfold carryS upd clr
  rw [if_neg (by omega), if_neg (by omega)]
  rfl
theorem carry_nP (h : tw_wf s L D P) : nP (carryS s P) = (co s P).2 := by
  have := (co_inv h P (Nat.le_refl _)).1
  have := h.2.2.1.2
  show (carryS s P 529).toNatClampNeg = _
  rw [show carryS s P 529 = nI (co s P).2 from by unfold carryS; exact upd_self _ _ _, nI_clamp (by omega)]
theorem carry_trp (h : tw_wf s L D P) : (List.range' 0 (nP (carryS s P))).map (trp (carryS s P)) = ((List.range' 0 P).filter (fun i => !decide (pn s i 0 = s 0))).map (trp s) := by
  rw [← co_list h P (Nat.le_refl _), carry_nP h]
  apply List.map_congr_left
  intro i hi
  have hi : i < (co s P).2 := by have := (List.mem_range'_1.mp hi).2; omega
  unfold trp
  rw [carry_pn h hi (by omega), carry_pn h hi (by omega), carry_pn h hi (by omega)]
theorem pls_trp (n : Nat) : pls V s n = ((List.range' 0 n).map (trp s)).map (fun q => (8 * q.1.toNatClampNeg + q.2.1.toNatClampNeg, some (V.2.2 (10 + (q.2.2.toNatClampNeg + 128))))) := by
  rw [List.map_map]; rfl
theorem carry_pls (h : tw_wf s L D P) (hJ : jn s) (hP : nP s = P) (h0 : s 0 = nI t) (ht : t < 10000) (hM : M.map (fun e => (e.1, e.2.2)) = pls V s P) : (cM M t 8).map (fun e => (e.1, e.2.2)) = pls V (carryS s P) (nP (carryS s P)) := by
  rw [cM_map, hM, pls_trp, pls_trp, carry_trp h, List.map_map, List.map_map, List.filter_map]
  congr 1
  apply List.filter_congr
  intro i hi
  have hi : i < P := by have := (List.mem_range'_1.mp hi).2; omega
  obtain ⟨t', z', b', g1, g2, g3, p0, p1, p2⟩ := hJ.2.1 i (by omega)
  have e1 : (8 * (pn s i 0).toNatClampNeg + (pn s i 1).toNatClampNeg) = 8 * t' + z' := by rw [p0, p1, nI_clamp (by omega), nI_clamp (by omega)]
  show (!decide (8 * t ≤ 8 * (pn s i 0).toNatClampNeg + (pn s i 1).toNatClampNeg ∧ 8 * (pn s i 0).toNatClampNeg + (pn s i 1).toNatClampNeg < 8 * t + 8)) = !decide (pn s i 0 = s 0)
  rw [e1, p0, h0]
  congr 1
  rw [decide_eq_decide]
  constructor
  · intro h; rw [show t' = t by omega]
  · intro h; have := nI_inj (by omega) (by omega) h; omega
theorem carry_jn (h : tw_wf s L D P) (hJ : jn s) (hP : nP s = P) : jn (carryS s P) ∧ (∀ i, i < nP (carryS s P) → ∃ k, k < P ∧ trp (carryS s P) i = trp s k ∧ pn s k 0 ≠ s 0) := by
  have hl := carry_trp h
  have hm : ∀ i, i < nP (carryS s P) → ∃ k, k < P ∧ trp (carryS s P) i = trp s k ∧ pn s k 0 ≠ s 0 := fun i hi => by
    have h1 : trp (carryS s P) i ∈ (List.range' 0 (nP (carryS s P))).map (trp (carryS s P)) := List.mem_map.mpr ⟨i, List.mem_range'_1.mpr ⟨by omega, by omega⟩, rfl⟩
    rw [hl] at h1
    obtain ⟨k, hk, e⟩ := List.mem_map.mp h1
    obtain ⟨hk, h2⟩ := List.mem_filter.mp hk
    exact ⟨k, by have := (List.mem_range'_1.mp hk).2; omega, e.symm, by simpa using h2⟩
  refine ⟨⟨?_, fun i hi => ?_, ?_⟩, hm⟩
  · rw [carry_nP h]
    have := (co_inv h P (Nat.le_refl _)).1
    have := h.2.2.1.2
    omega
  · obtain ⟨k, hk, e, -⟩ := hm i hi
    obtain ⟨t', z', b', g1, g2, g3, p0, p1, p2⟩ := hJ.2.1 k (by omega)
    have e0 : pn (carryS s P) i 0 = pn s k 0 := congrArg (fun q => q.1) e
    have e1 : pn (carryS s P) i 1 = pn s k 1 := congrArg (fun q => q.2.1) e
    have e2 : pn (carryS s P) i 2 = pn s k 2 := congrArg (fun q => q.2.2) e
    exact ⟨t', z', b', g1, g2, g3, e0.trans p0, e1.trans p1, e2.trans p2⟩
  · have hnd : ((List.range' 0 P).filter (fun i => !decide (pn s i 0 = s 0))).Pairwise (fun a b => pcode s a ≠ pcode s b) := by
      have h1 : ((List.range' 0 P).filter (fun i => !decide (pn s i 0 = s 0))).Pairwise (fun a b => a ≠ b) := (List.nodup_range' (s := 0) (n := P)).filter _
      refine h1.imp_of_mem (fun {a b} ha hb hne e => hne ?_)
      have ha := (List.mem_range'_1.mp (List.mem_filter.mp ha).1).2
      have hb := (List.mem_range'_1.mp (List.mem_filter.mp hb).1).2
      exact hJ.2.2 a b (by omega) (by omega) e
    have h2 : (((List.range' 0 P).filter (fun i => !decide (pn s i 0 = s 0))).map (trp s)).Pairwise (fun a b => 8 * a.1.toNatClampNeg + a.2.1.toNatClampNeg ≠ 8 * b.1.toNatClampNeg + b.2.1.toNatClampNeg) := List.pairwise_map.mpr hnd
    rw [← hl] at h2
    have h3 := List.pairwise_map.mp h2
    intro i j hi hj e
    rw [List.pairwise_iff_getElem] at h3
    rcases Nat.lt_trichotomy i j with c | c | c
    · have := h3 i j (by rw [List.length_range']; exact hi) (by rw [List.length_range']; exact hj) c
      simp at this
      exact absurd e this
    · exact c
    · have := h3 j i (by rw [List.length_range']; exact hj) (by rw [List.length_range']; exact hi) c
      simp at this
      exact absurd e.symm this
theorem carry_lt (h : tw_wf s L D P) {i : Nat} (hi : i < P) (e : pn s i 0 = s 0) : nP (carryS s P) < P := by
  have h1 := congrArg List.length (carry_trp h)
  rw [List.length_map, List.length_map, List.length_range'] at h1
  rw [h1]
  exact range_filter_len hi e
theorem carry_same (h : tw_wf s L D P) (hno : ∀ i, i < P → pn s i 0 ≠ s 0) : carryS s P = s := by
  have key : ∀ k, k ≤ P → co s k = (s, k) := by
    intro k
    induction k with
    | zero => intro _; rfl
    | succ k ih =>
      intro hk
      rw [co_s, ih (by omega)]
      have hn : ¬ (s, k).1 (530 + 3 * k) = (s, k).1 0 := hno k (by omega)
      rw [if_neg hn]
      have e : mvj s k k 3 = s := by
        funext j
        by_cases c : j < 530 + 3 * k ∨ 530 + 3 * k + 3 ≤ j
        · exact mvj_ne c 3 (by omega)
        · obtain ⟨q, hq, rfl⟩ : ∃ q, q < 3 ∧ j = 530 + 3 * k + q := ⟨j - (530 + 3 * k), by omega, by omega⟩
          exact mvj_pn (Nat.le_refl _) hq
      show (mvj s k k 3, k + 1) = _
      rw [e]
  unfold carryS
  rw [key P (Nat.le_refl _)]
  funext j
  unfold upd clr
  by_cases c : j = 529
  · rw [if_pos c, c]; exact h.2.2.1.1.symm
  · rw [if_neg c, if_neg (by omega)]
end Carry
theorem cpn_same {α : Type} {f d : Nat → α} {i : Nat} (h : f i = d i) : cpn f d (i + 1) = cpn f d i := by
  funext j
  unfold cpn
  by_cases c : j < i
  · rw [if_pos c, if_pos (by omega)]
  · by_cases e : j = i
    · rw [e, if_pos (by omega), if_neg (by omega), h]
    · rw [if_neg c, if_neg (by omega)]
/-- the burners behind carrying out -/
def bf9 (s a : Nat → Int32) (t P : Nat) : Nat → Int32 := fun j => if plannedN s (nI t) (nI j) P = -1 then a j else plannedN s (nI t) (nI j) P
theorem carry_V {s : Nat → Int32} {L D P t : Nat} {I : Nat → Int32} {A : Nat → Nat → Int32} {x : Int32} (h : tw_wf s L D P) (hJ : jn s) (hP : nP s = P) (h0 : s 0 = nI t) (ht : t < 10000) (hV : st_V s I A) : st_V (carryS s P) (va_up I 3 x) (va_up A 0 (cpn (bf9 s (A 0) t P) (A 0) 8)) := by
  obtain ⟨v0, v1, v2, hz, hs, hc⟩ := hV
  have ne := fun (j : Nat) (q : j < 3 ∨ (43 ≤ j ∧ j < 529) ∨ (3 ≤ j ∧ j < 43 ∧ (j - 3) % 5 ≠ 0)) => carry_ne h q
  refine ⟨v0.trans (ne 0 (by omega)).symm, v1.trans (ne 1 (by omega)).symm, v2.trans (ne 2 (by omega)).symm, fun z hzz => ?_, fun p hp => ?_, fun c hcc => ?_⟩
  · obtain ⟨z0, z1, z2, z3, z4⟩ := hz z hzz
    refine ⟨?_, z1.trans (ne _ (by omega)).symm, z2.trans (ne _ (by omega)).symm, z3.trans (ne _ (by omega)).symm, z4.trans (ne _ (by omega)).symm⟩
    show cpn (bf9 s (A 0) t P) (A 0) 8 z = _
    rw [cpn_lt hzz]
    have e : zn (carryS s P) z 0 = zn (co s P).1 z 0 := by
      show carryS s P (3 + 5 * z + 0) = _
      unfold carryS upd clr
      rw [if_neg (by omega), if_neg (by omega)]
      rfl
    rw [e, co_burn h hJ hP h0 ht hzz P (Nat.le_refl _)]
    unfold bf9 plannedN
    rw [z0]
  · exact (hs p hp).trans (ne _ (by omega)).symm
  · exact ⟨(hc c hcc).1.trans (ne _ (by omega)).symm, (hc c hcc).2.trans (ne _ (by omega)).symm⟩
theorem npF_no {s : Nat → Int32} {t : Nat} (hJ : jn s) (h0 : s 0 = nI t) (ht : t < 20000) (hle : ∀ i, i < nP s → t ≤ (pn s i 0).toNatClampNeg) (hne : ¬ npF s (nP s) = s 0) : ∀ i, i < nP s → pn s i 0 ≠ s 0 := fun i hi e => by
  rcases npF_min hJ (nP s) (Nat.le_refl _) with ⟨h1, -⟩ | ⟨k, hk, h1, h2⟩
  · omega
  · have a := h2 i hi
    have b := hle k hk
    obtain ⟨t', z', b', g1, -, -, p0, -, -⟩ := hJ.2.1 k hk
    rw [e, h0, p0, nI_clamp (by omega), nI_clamp (by omega)] at a
    rw [p0, nI_clamp (by omega)] at b
    exact hne (by rw [h1, p0, h0, show t' = t by omega])
theorem npF_yes {s : Nat → Int32} {t : Nat} (hJ : jn s) (h0 : s 0 = nI t) (ht : t < 20000) (he : npF s (nP s) = s 0) : t < 10000 ∧ ∃ i, i < nP s ∧ pn s i 0 = s 0 := by
  rcases npF_min hJ (nP s) (Nat.le_refl _) with ⟨-, h1⟩ | ⟨k, hk, h1, h2⟩
  · rw [h1, h0] at he
    exact absurd he.symm (nI_ne_m1 (by omega))
  · obtain ⟨t', z', b', g1, -, -, p0, -, -⟩ := hJ.2.1 k hk
    have e : pn s k 0 = s 0 := h1.symm.trans he
    have : t' = t := nI_inj (by omega) (by omega) (p0.symm.trans (e.trans h0))
    exact ⟨by omega, k, hk, e⟩
set_option maxRecDepth 100000

set_option maxHeartbeats 1000000 in
set_option maxRecDepth 100000 in
theorem j_X2_carryOutPlans (l : Launch) (V : gh_V) (g0 : gh_G) (S : Nat) (ad : Nat → Nat) (I : Nat → Int32) (A : Nat → Nat → Int32) (P : Nat → Option Nat) (hT0 : st_C V g0 S ad I A P) (hTR : tr_S l V) (s : Nat → Int32) (L D Pn : Nat) (hE : tw_wf s L D Pn) (hJn : jn s) (hV : st_V s I A) (M : List (Nat × Nat × Option Nat)) (hM0 : lm_P V S 11 g0 (ad 13) 10 M) (hMp : M.map (fun e => (e.1, e.2.2)) = pls V s (nP s)) (hnx : I 3 = npF s (nP s)) (t9 cm9 sm9 : Nat) (h09 : s 0 = nI t9) (ht20 : t9 < 20000) (hle : ∀ i, i < nP s → t9 ≤ (pn s i 0).toNatClampNeg) (hcm9 : npF s (nP s) = s 0 → 138 ≤ cm9) (hsm9 : npF s (nP s) = s 0 → 791 ≤ sm9) : MV l yX2_carryOutPlans cX2_carryOutPlans 3 ({ frames := 11, cells := cm9, slots := sm9, locals := 395 } : Room) V [.ref S] g0 (fun g1 => ∃ I1 A1, st_C V g1 S ad I1 A1 P ∧ st_V (carryS s (nP s)) I1 A1 ∧ pn_P V g1 S (ad 13) (I1 3) (carryS s (nP s)) ∧ gh_fw S [0, 11] g0 g1) := by
  refine MG.of RX2 (by decide) rfl (Nat.le_of_ble_eq_true rfl) (fun pp ee s9 mm args below meth c ls hC hg hr hlk hnm hl => ?_)
  have hx := hC.1.1
  have hb := hC.1.2.1
  have hml := hC.1.2.2.1
  have hown := hC.1.2.2.2.1
  have hts := hC.1.2.2.2.2
  have hl : lv_has ls 3 [(0, .ref S)] := hl
  obtain ⟨g, hg, hgg⟩ : ∃ g, gh_W V (gh_A g0 s9.heap.size) s9 g s9.heap [] ∧ g = g0 := ⟨g0, hg, rfl⟩
  have hT := hT0
  rw [← hgg] at hT
  have hF : gh_fw S [0, 11] g0 g := by rw [hgg]; exact gh_fw.rf
  have hM := hM0
  rw [← hgg] at hM
  have hPn := nP_of hE
  refine lv_aload_n hx hb dX2_carryOutPlans_0 rfl (lv_at hl 0 rfl) ?_
  refine gh_get (v := .int (I 3)) hC hg hT.1 fX2_41_2 rfl dX2_carryOutPlans_1 ?_
  refine W.eq (g2 := F0 mm 4 ls [.int (npF s (nP s))]) (by rw [hnx] <;> rfl) ?_
  refine lv_aload_n hx hb dX2_carryOutPlans_4 rfl (lv_at hl 0 rfl) ?_
  refine gh_get (v := .int (I 0)) hC hg hT.1 fX2_82_2 rfl dX2_carryOutPlans_5 ?_
  refine W.eq (g2 := F0 mm 8 ls [.int (s 0), .int (npF s (nP s))]) (by rw [hV.1] <;> rfl) ?_
  refine lv_icmp_eq (tgt := 12) hx hb dX2_carryOutPlans_8 (by decide) (fun c_1 => ?_) (fun c_1 => ?_)
  · skip
    obtain ⟨ht9, k9, hk9, hk0⟩ := npF_yes hJn h09 ht20 c_1
    have hcm8 := hcm9 c_1
    have hsm8 := hsm9 c_1
    refine lv_iconst (v := 0) hx hb dX2_carryOutPlans_12 (by decide) ?_
    refine lv_istore_n (lv' := [(1, .int 0), (0, .ref S)]) hx hb dX2_carryOutPlans_13 rfl hl (by decide) rfl (fun ls hl => ?_)
    refine gh_loopF (N := 8) (lo := 0) (fun i_2 => 17 * i_2) (fun i_2 => 98 * i_2) (X := fun i_2 g ls => (st_C V g S ad I (va_up A 0 (cpn (bf9 s (A 0) t9 (nP s)) (A 0) i_2)) P) ∧ (gh_fw S [0, 11] g0 g) ∧ (lm_P V S 11 g (ad 13) 10 (cM M t9 i_2)) ∧ lv_has ls 3 [(0, .ref S), (1, .int (nI i_2))]) ?_ ?_ (by omega) (by first | omega | (dsimp only; omega) | exact (by first | omega | (dsimp only; omega) | exact Nat.le_of_ble_eq_true rfl)) (by first | omega | (dsimp only; omega) | exact (by first | omega | (dsimp only; omega) | exact Nat.le_of_ble_eq_true rfl)) hg ⟨(hT.eqA (fam8 (cpn_0 (bf9 s (A 0) t9 (nP s)) (A 0)).symm rfl rfl rfl rfl rfl rfl rfl (fun _ => rfl))), hF, hM, lv_sub hl [1, 0] rfl⟩
    · intro g H locs ls hg hX
      obtain ⟨hT, hF, hM, hl⟩ := hX
      obtain ⟨hJn1, -⟩ := carry_jn hE hJn hPn
      have hMp1 := carry_pls hE hJn hPn h09 ht9 (hPn ▸ hMp)
      refine lv_iload_n hx hb dX2_carryOutPlans_14 rfl (lv_at hl 1 rfl) ?_
      refine lv_bipush (v := 8) hx hb dX2_carryOutPlans_15 (by decide) ?_
      refine lv_icmp_ge (tgt := 65) hx hb dX2_carryOutPlans_17 (by decide) (fun _ => ?_) (fun c_3 => (absurd ((nx_le (show ((8 : Int32)) = nI 8 from rfl) rfl (by omega) (by omega)).mpr (by omega)) c_3))
      refine lv_aload_n hx hb dX2_carryOutPlans_65 rfl (lv_at hl 0 rfl) ?_
      refine gh_callv hg (gh_runV (As := []) (rest := []) hC hg (j_X2_findNextPlan l V _ S ad I (va_up A 0 (cpn (bf9 s (A 0) t9 (nP s)) (A 0) 8)) P hT (carryS s Pn) _ hJn1 hM hMp1) 0 (lw_V q2385 q2387 qs35 q104 q2388) hT.1 rfl hd_X2_findNextPlan ⟨(by first | omega | (dsimp only; omega) | exact Nat.le_of_ble_eq_true rfl), (by first | omega | (dsimp only; omega) | exact Nat.le_of_ble_eq_true rfl)⟩ rfl hl.1 rfl ((by first | omega | (dsimp only; omega) | exact Nat.le_of_ble_eq_true rfl)) dX2_carryOutPlans_66 ⟨(by first | omega | (dsimp only; omega) | exact Nat.le_of_ble_eq_true rfl), (by first | omega | (dsimp only; omega) | exact Nat.le_of_ble_eq_true rfl)⟩) (fun g H locs hg hp => ?_)
      obtain ⟨hT, hM1, hF9⟩ := hp
      have hfw9 : gh_fw S [0, 11] _ g := hF9
      have hf9 := hfw9.v
      have hF : gh_fw S [0, 11] g0 g := hF.tr hfw9 (fun _ u => u) (by decide)
      have hT : st_C V g S ad (va_up I 3 (npF (carryS s Pn) (nP (carryS s Pn)))) (va_up A 0 (cpn (bf9 s (A 0) t9 (nP s)) (A 0) 8)) P := hT
      exact gh_retv hC hg hr hlk (⟨_, _, hT, by rw [hPn]; exact carry_V hE hJn hPn h09 ht9 hV, by rw [hPn]; exact ⟨_, hM1, hMp1, rfl⟩, hF⟩) dX2_carryOutPlans_69 ((by first | omega | (dsimp only; omega) | exact Nat.le_of_ble_eq_true rfl)) ((by first | omega | (dsimp only; omega) | exact Nat.le_of_ble_eq_true rfl))
    · intro i_2 hi14 ih14 g H locs ls hg hX
      obtain ⟨hT, hF, hM, hl⟩ := hX
      have hz9 : i_2 < 8 := hi14
      refine lv_iload_n hx hb dX2_carryOutPlans_14 rfl (lv_at hl 1 rfl) ?_
      refine lv_bipush (v := 8) hx hb dX2_carryOutPlans_15 (by decide) ?_
      refine lv_icmp_ge (tgt := 65) hx hb dX2_carryOutPlans_17 (by decide) (fun c_4 => (absurd ((nx_le (show ((8 : Int32)) = nI 8 from rfl) rfl (by omega) (by omega)).mp c_4) (by omega))) (fun _ => ?_)
      refine lv_aload_n hx hb dX2_carryOutPlans_20 rfl (lv_at hl 0 rfl) ?_
      refine gh_get (v := .ref (ad 13)) hC hg hT.1 fX2_70_2 rfl dX2_carryOutPlans_21 ?_
      have hT_o := hT
      have hF_o := hF
      have hM_o := hM
      refine gh_new (ci := 10) (fs := [.int 0, .int 0]) hC hg (fun q9 => ((V.2.2 9), 1, 0)) rfl in_X12 tyX12 tyX12_ok q2337 q2338 q169 (by decide +kernel) ((by first | omega | (dsimp only; omega) | exact Nat.le_of_ble_eq_true rfl)) ((by first | omega | (dsimp only; omega) | exact Nat.le_of_ble_eq_true rfl)) dX2_carryOutPlans_24 (fun q_5 g H hg h0 hw hn => ?_)
      have hf9 : gh_fv S [] _ g := (gh_fw.nw h0 hn).v
      have hF : gh_fw S [0, 11] g0 g := hF.new h0 hn
      have hM : lm_P V S 11 g (ad 13) 10 (cM M t9 i_2) := hf9.lm (by decide) (by decide) hM
      have hT : st_C V g S ad I (va_up A 0 (cpn (bf9 s (A 0) t9 (nP s)) (A 0) i_2)) P := hT.nw h0 hn
      have c_6 : g q_5 = some (((V.2.2 9), 1, 0), oo 10 [.int 0, .int 0]) := hw
      have h0k_q_5 := h0
      have hnk_q_5 := hn
      refine lv_dup hx hb dX2_carryOutPlans_27 rfl ?_
      refine lv_aload_n hx hb dX2_carryOutPlans_28 rfl (lv_at hl 0 rfl) ?_
      refine gh_get (v := .int (I 0)) hC hg hT.1 fX2_82_2 rfl dX2_carryOutPlans_29 ?_
      refine W.eq (g2 := F0 mm 32 ls [.int (nI t9), .ref q_5, .ref q_5, .ref (ad 13)]) (by rw [(hV.1.trans h09)] <;> rfl) ?_
      refine lv_iload_n hx hb dX2_carryOutPlans_32 rfl (lv_at hl 1 rfl) ?_
      refine gh_callv hg (gh_runI (As := [.int (nI t9), .int (nI i_2)]) (rest := [.ref q_5, .ref (ad 13)]) hC hg (j_X12_init l V _ q_5 (nI t9) (nI i_2) ((V.2.2 9), 1, 0) c_6) 2 (lw_meth q2341) q169 q2339 q2340 rfl hd_X12_init.2 ⟨(by first | omega | (dsimp only; omega) | exact Nat.le_of_ble_eq_true rfl), (by first | omega | (dsimp only; omega) | exact Nat.le_of_ble_eq_true rfl)⟩ rfl hl.1 rfl ((by first | omega | (dsimp only; omega) | exact Nat.le_of_ble_eq_true rfl)) dX2_carryOutPlans_33 ⟨(by first | omega | (dsimp only; omega) | exact Nat.le_of_ble_eq_true rfl), (by first | omega | (dsimp only; omega) | exact Nat.le_of_ble_eq_true rfl)⟩) (fun g H locs hg hp => ?_)
      obtain ⟨hw, hn9⟩ := hp
      have hn : ∀ b, b ≠ q_5 → g b = _ := fun b hb => (hn9 b hb).trans (hnk_q_5 b hb)
      have h0 := h0k_q_5
      have hfw9 : gh_fw S [] _ g := gh_fw.nw h0 hn
      have hf9 := hfw9.v
      have hF : gh_fw S [0, 11] g0 g := hF_o.new h0 hn
      have hM : lm_P V S 11 g (ad 13) 10 (cM M t9 i_2) := hf9.lm (by decide) (by decide) hM_o
      have hT : st_C V g S ad I (va_up A 0 (cpn (bf9 s (A 0) t9 (nP s)) (A 0) i_2)) P := hT_o.nw h0 hn
      have c_6 : g q_5 = some (((V.2.2 9), 1, 0), oo 10 [.int (nI t9), .int (nI i_2)]) := hw
      have hky9 : ky_P V g 10 q_5 (8 * t9 + i_2) := ⟨t9, i_2, c_6, (Or.inr ⟨rfl, ht9, hz9, rfl⟩)⟩
      obtain ⟨Dm, hD, hMD⟩ := hM
      have hm9 := (hD).1.1.cm
      refine gh_callFq hg (gh_runF (x := ⟨"java/util/Map", "remove", "(Ljava/lang/Object;)Ljava/lang/Object;"⟩) (As := [.ref q_5]) (rest := []) hC hg (j_J4_remove l V _ hTR S 11 (ad 13) 10 q_5 (8 * t9 + i_2) Dm hD hky9) 1 (lw_F q2352 q2357 q2355 q109 q2359) hm9 rfl (by decide +kernel) q2358 q2356 q1305 hdF_Map_remove_1 ⟨(by first | omega | (dsimp only; omega) | exact Nat.le_of_ble_eq_true rfl), (by first | omega | (dsimp only; omega) | exact Nat.le_of_ble_eq_true rfl)⟩ rfl hl.1 rfl ((by first | omega | (dsimp only; omega) | exact Nat.le_of_ble_eq_true rfl)) dX2_carryOutPlans_36 ⟨(by first | omega | (dsimp only; omega) | exact Nat.le_of_ble_eq_true rfl), (by first | omega | (dsimp only; omega) | exact Nat.le_of_ble_eq_true rfl)⟩) (fun r_7 g H locs hg hp => ?_)
      obtain ⟨hr9, hM, hF9⟩ := hp
      rw [hMD, cM_get i_2 (Nat.le_refl _)] at hr9
      rw [hMD] at hM
      have hfw9 : gh_fw S [11] _ g := gh_fw.fk hF9
      have hf9 := hfw9.v
      have c_6 : g q_5 = some (((V.2.2 9), 1, 0), oo 10 [.int (nI t9), .int (nI i_2)]) := hfw9 _ _ _ c_6 (fun h9 => absurd (show 1 ∈ [11] from h9.2) (by decide))
      have hF : gh_fw S [0, 11] g0 g := hF.tr hfw9 (fun _ u => u) (by decide)
      have hky9 : ky_P V g 10 q_5 (8 * t9 + i_2) := hf9.ky (by decide) hky9
      have hT : st_C V g S ad I (va_up A 0 (cpn (bf9 s (A 0) t9 (nP s)) (A 0) i_2)) P := hT.kp hf9 (by decide)
      have hM : lm_P V S 11 g (ad 13) 10 (cM M t9 (i_2 + 1)) := hM
      refine W.eq (g2 := F0 mm 41 ls [va_rf (lm_get M (8 * t9 + i_2))]) (by rw [hr9] <;> rfl) ?_
      obtain ⟨k9, hk9, hkc, hka, hkp⟩ | ⟨hkn, hka, hkp⟩ := plan_dec hJn ht9 hz9
      · skip
        obtain ⟨t0, z0, b9, -, -, hb9, -, -, e2⟩ := hJn.2.1 k9 hk9
        have hget := (M_get hJn hMp hk9).1
        rw [hkc, show pval V s k9 = V.2.2 (10 + (b9 + 128)) from by unfold pval; rw [e2, nI_clamp (by omega)]] at hget
        refine W.eq (g2 := F0 mm 41 ls [.ref (V.2.2 (10 + (b9 + 128)))]) (by rw [hget] <;> rfl) ?_
        refine gh_castI (j := b9 + 128) hC hg (by omega) q2383 dX2_carryOutPlans_41 ?_
        have hbf : bf9 s (A 0) t9 (nP s) i_2 = nI b9 := by unfold bf9; rw [hkp, e2, if_neg (nI_ne_m1 (by omega))]
        refine lv_astore_n (lv' := [(2, .ref (V.2.2 (10 + (b9 + 128)))), (0, .ref S), (1, .int (nI i_2))]) hx hb dX2_carryOutPlans_44 rfl hl (by decide) rfl (fun ls hl => ?_)
        refine lv_aload_n hx hb dX2_carryOutPlans_45 rfl (lv_at hl 0 rfl) ?_
        refine lv_ifnull hx hb dX2_carryOutPlans_46 ?_
        refine lv_aload_n hx hb dX2_carryOutPlans_49 rfl (lv_at hl 1 rfl) ?_
        refine gh_get (v := .ref (ad 0)) hC hg hT.1 fX2_44_2 rfl dX2_carryOutPlans_50 ?_
        refine lv_iload_n hx hb dX2_carryOutPlans_53 rfl (lv_at hl 2 rfl) ?_
        refine lv_aload_n hx hb dX2_carryOutPlans_54 rfl (lv_at hl 0 rfl) ?_
        refine gh_calli hg (gh_runVr (As := []) (rest := [.int (nI i_2), .ref (ad 0)]) hC hg (j_J23_intValue l V _ b9 (by omega)) 0 (lw_V q2384 q2197 q2198 q129 q2199) (gh_Irec (j := b9 + 128) hC hg (by omega)) hd_J23_intValue ⟨(by first | omega | (dsimp only; omega) | exact Nat.le_of_ble_eq_true rfl), (by first | omega | (dsimp only; omega) | exact Nat.le_of_ble_eq_true rfl)⟩ rfl hl.1 rfl ((by first | omega | (dsimp only; omega) | exact Nat.le_of_ble_eq_true rfl)) dX2_carryOutPlans_55 ⟨(by first | omega | (dsimp only; omega) | exact Nat.le_of_ble_eq_true rfl), (by first | omega | (dsimp only; omega) | exact Nat.le_of_ble_eq_true rfl)⟩) (fun r_8 g H locs hg hp => ?_)
        obtain ⟨hp, hq⟩ := hp
        replace hp : (nI b9) = r_8 := hp.symm
        subst hp
        rw [← hq] at hT hF hky9 hM c_6
        try rw [← hq] at hgg
        refine gh_iast (n := 8) (f := (cpn (bf9 s (A 0) t9 (nP s)) (A 0) i_2)) hC hg hT.a0 rfl (by omega) (by omega) dX2_carryOutPlans_58 (fun g H locs hg hw hn => ?_)
        have c_6 : g q_5 = some (((V.2.2 9), 1, 0), oo 10 [.int (nI t9), .int (nI i_2)]) := (hn _ (gh_neK c_6 hT.a0 rfl)).trans c_6
        have hf9 : gh_fv S [0] _ g := (gh_fw.st hT.a0 hn).v
        have hF : gh_fw S [0, 11] g0 g := hF.set hT.a0 (by decide) hn
        have hky9 : ky_P V g 10 q_5 (8 * t9 + i_2) := hf9.ky (by decide) hky9
        have hM : lm_P V S 11 g (ad 13) 10 (cM M t9 (i_2 + 1)) := hf9.lm (by decide) (by decide) hM
        have hT : st_C V g S ad I (va_up (va_up A 0 (cpn (bf9 s (A 0) t9 (nP s)) (A 0) i_2)) 0 (upd (cpn (bf9 s (A 0) t9 (nP s)) (A 0) i_2) i_2 (nI b9))) P := hT.setA 0 (by decide) hw hn
        refine lv_iinc (v := (nI (i_2 + 1))) (lv' := [(1, .int (nI (i_2 + 1))), (2, .ref (V.2.2 (10 + (b9 + 128)))), (0, .ref S)]) hx hb dX2_carryOutPlans_59 hl (k := 2) rfl (nx_iinc rfl) (by decide) rfl (fun ls hl => ?_)
        refine lv_goto (tgt := 14) hx hb dX2_carryOutPlans_62 (by decide) ?_
        exact W.widen (by first | omega | (dsimp only; omega) | exact (by first | omega | (dsimp only; omega) | exact Nat.le_of_ble_eq_true rfl)) (by first | omega | (dsimp only; omega) | exact (by first | omega | (dsimp only; omega) | exact Nat.le_of_ble_eq_true rfl)) (ih14 _ _ _ _ hg ⟨(hT.eqA (fam8 (by rw [← hbf]; exact cpn_s _ _ _) rfl rfl rfl rfl rfl rfl rfl (fun _ => rfl))), hF, hM, lv_sub hl [2, 0] rfl⟩)
      have hget := (M_getN hMp hkn).1
      refine W.eq (g2 := F0 mm 41 ls [.null]) (by rw [hget] <;> rfl) ?_
      refine lv_castN hx hb dX2_carryOutPlans_41 ?_
      have hbf : bf9 s (A 0) t9 (nP s) i_2 = A 0 i_2 := by unfold bf9; rw [hkp, if_pos rfl]
      refine lv_astore_nN (lv' := [(2, .null), (0, .ref S), (1, .int (nI i_2))]) hx hb dX2_carryOutPlans_44 rfl hl (by decide) rfl (fun ls hl => ?_)
      refine lv_aload_nN hx hb dX2_carryOutPlans_45 rfl (lv_at hl 0 rfl) ?_
      refine lv_ifnullN (tgt := 59) hx hb dX2_carryOutPlans_46 (by decide) ?_
      refine lv_iinc (v := (nI (i_2 + 1))) (lv' := [(1, .int (nI (i_2 + 1))), (2, .null), (0, .ref S)]) hx hb dX2_carryOutPlans_59 hl (k := 2) rfl (nx_iinc rfl) (by decide) rfl (fun ls hl => ?_)
      refine lv_goto (tgt := 14) hx hb dX2_carryOutPlans_62 (by decide) ?_
      exact W.widen (by first | omega | (dsimp only; omega) | exact (by first | omega | (dsimp only; omega) | exact Nat.le_of_ble_eq_true rfl)) (by first | omega | (dsimp only; omega) | exact (by first | omega | (dsimp only; omega) | exact Nat.le_of_ble_eq_true rfl)) (ih14 _ _ _ _ hg ⟨(hT.eqA (fam8 (cpn_same hbf).symm rfl rfl rfl rfl rfl rfl rfl (fun _ => rfl))), hF, hM, lv_sub hl [2, 0] rfl⟩)
  have hsame := carry_same hE (fun i hi => npF_no hJn h09 ht20 hle c_1 i (by omega))
  exact gh_retv hC hg hr hlk (⟨I, A, hT, by rw [hPn, hsame]; exact hV, by rw [hPn, hsame]; exact ⟨M, hM, hMp, hnx⟩, hF⟩) dX2_carryOutPlans_11 ((by first | omega | (dsimp only; omega) | exact Nat.le_of_ble_eq_true rfl)) ((by first | omega | (dsimp only; omega) | exact Nat.le_of_ble_eq_true rfl))
