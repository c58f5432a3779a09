/-! RESIZING: lists split in two -/
theorem gh_join {p : Program} {l : Launch} {e : Env} {R : Room} {s : State} {m : MethodId} {args : Array Value} {below : List Frame} {meth : Method} {c : Code} {H : Heap} {locs : List Loc} {cells slots : Nat} {Q : State → Prop} {st0 : JFrame} (pc : Nat) (st : List Value) (P : Array Slot → Prop) (h1 : (∀ ls, P ls → W p l e R s m args below meth c H locs cells slots Q (F0 m pc ls st)) → W p l e R s m args below meth c H locs cells slots Q st0) (h2 : ∀ ls, P ls → W p l e R s m args below meth c H locs cells slots Q (F0 m pc ls st)) : W p l e R s m args below meth c H locs cells slots Q st0 := h1 h2
def hm_lk (nx : Nat → Option Nat) : List Nat → Prop
  | [] => True
  | [_] => True
  | a :: b :: l => nx a = some b ∧ hm_lk nx (b :: l)
theorem hm_lk.congr {nx nx' : Nat → Option Nat} {l : List Nat} (h : hm_lk nx l) (he : ∀ p t, l = p ++ [t] → ∀ a, a ∈ p → nx' a = nx a) : hm_lk nx' l := by
  induction l with
  | nil => trivial
  | cons a l ih =>
    cases l with
    | nil => trivial
    | cons b l =>
      have hl : ∃ p t, b :: l = p ++ [t] := ⟨(b :: l).dropLast, (b :: l).getLast (by simp), (List.dropLast_concat_getLast (by simp)).symm⟩
      obtain ⟨p, t, hp⟩ := hl
      refine ⟨(he (a :: p) t (by rw [hp]; rfl) a List.mem_cons_self).trans h.1, ih h.2 (fun p' t' e x hx => he (a :: p') t' (by rw [e]; rfl) x (List.mem_cons_of_mem _ hx))⟩
theorem hm_lk.snoc {nx : Nat → Option Nat} {p : List Nat} {t e : Nat} (h : hm_lk nx (p ++ [t])) (ht : nx t = some e) : hm_lk nx (p ++ [t] ++ [e]) := by
  induction p with
  | nil => exact ⟨ht, trivial⟩
  | cons a p ih =>
    cases p with
    | nil => exact ⟨h.1, ht, trivial⟩
    | cons b p => exact ⟨h.1, ih h.2⟩
theorem hm_lk.fin {nx : Nat → Option Nat} {p : List Nat} {t : Nat} (h : hm_lk nx (p ++ [t])) (ht : nx t = none) : hm_ch nx (p ++ [t]).head? (p ++ [t]) := by
  induction p with
  | nil => exact ⟨rfl, ht⟩
  | cons a p ih =>
    cases p with
    | nil => exact ⟨rfl, h.1, ht⟩
    | cons b p =>
      refine ⟨rfl, ?_⟩
      have h9 := ih h.2
      rw [show nx a = some b from h.1]
      exact h9
/-- a write at the last of a list, if there is one -/
def rz_w (nx : Nat → Option Nat) (tl y : Option Nat) : Nat → Option Nat := match tl with | none => nx | some t => va_up nx t y
theorem rz_w_ne {nx : Nat → Option Nat} {tl y : Option Nat} {a : Nat} (h : ∀ t, tl = some t → a ≠ t) : rz_w nx tl y a = nx a := by
  cases tl with
  | none => rfl
  | some t => exact va_up_ne _ _ (h t rfl)
theorem last_split {q : List Nat} {t : Nat} (h : q.getLast? = some t) : ∃ p, q = p ++ [t] := List.getLast?_eq_some_iff.mp h
/-- one more at a list's end -/
theorem hm_lk.more {nx : Nat → Option Nat} {q : List Nat} {e : Nat} (h : hm_lk nx q) (hn : q.Nodup) : hm_lk (rz_w nx q.getLast? (some e)) (q ++ [e]) := by
  cases hq : q.getLast? with
  | none => rw [List.getLast?_eq_none_iff.mp hq]; trivial
  | some t =>
    obtain ⟨p, rfl⟩ := last_split hq
    refine hm_lk.snoc (h.congr fun p' t' e9 a ha => ?_) (va_up_self _ _ _)
    obtain ⟨e1, e2⟩ := List.append_inj' e9 rfl
    cases e2
    refine va_up_ne _ _ (fun e8 => ?_)
    rw [← e1, e8] at ha
    exact (List.nodup_append.mp hn).2.2 t ha t (List.mem_singleton.mpr rfl) rfl
/-- the list's end is set to null -/
theorem hm_lk.done {nx : Nat → Option Nat} {q : List Nat} (h : hm_lk nx q) (hn : q.Nodup) : hm_ch (rz_w nx q.getLast? none) q.head? q := by
  cases hq : q.getLast? with
  | none => rw [List.getLast?_eq_none_iff.mp hq]; rfl
  | some t =>
    obtain ⟨p, rfl⟩ := last_split hq
    refine hm_lk.fin (h.congr fun p' t' e9 a ha => ?_) (va_up_self _ _ _)
    obtain ⟨e1, e2⟩ := List.append_inj' e9 rfl
    cases e2
    refine va_up_ne _ _ (fun e8 => ?_)
    rw [← e1, e8] at ha
    exact (List.nodup_append.mp hn).2.2 t ha t (List.mem_singleton.mpr rfl) rfl
def rz_p (D : HD) (j : Nat) : Nat → Bool := fun a => hm_sp (D.C a) % (2 * D.n) == j
/-- bin j of the table twice as long -/
def rz_B (D : HD) (j : Nat) : List Nat := (D.B (j % D.n)).filter (rz_p D j)
/-- the bins below i are moved -/
def rz_I (D : HD) (i : Nat) (nx f T : Nat → Option Nat) : Prop :=
  (∀ b, i ≤ b → b < D.n → f b = D.T b ∧ hm_ch nx (D.T b) (D.B b)) ∧ (∀ j, j < 2 * D.n → j % D.n < i → hm_ch nx (T j) (rz_B D j)) ∧ (∀ j, j < 2 * D.n → i ≤ j % D.n → T j = none)
/-- of bin i the nodes p are moved -/
def rz_J (D : HD) (i : Nat) (nx T : Nat → Option Nat) (p : List Nat) (e : Option Nat) (l : List Nat) : Prop :=
  D.B i = p ++ l ∧ hm_lk nx (p.filter (rz_p D i)) ∧ hm_lk nx (p.filter (rz_p D (i + D.n))) ∧ hm_ch nx e l ∧ (∀ b, i < b → b < D.n → hm_ch nx (D.T b) (D.B b)) ∧ (∀ j, j < 2 * D.n → j % D.n < i → hm_ch nx (T j) (rz_B D j))
theorem rz_mod {h n i : Nat} (hn : 0 < n) (hi : h % n = i) : h % (2 * n) = i ∨ h % (2 * n) = i + n := by
  have h1 : h % (2 * n) % n = h % n := Nat.mod_mul_left_mod h 2 n
  have h2 : h % (2 * n) < 2 * n := Nat.mod_lt _ (by omega)
  rcases Nat.lt_or_ge (h % (2 * n)) n with h3 | h3
  · rw [Nat.mod_eq_of_lt h3] at h1; omega
  · rw [Nat.mod_eq_sub_mod h3, Nat.mod_eq_of_lt (by omega)] at h1; omega
theorem rz_and {h n j i : Nat} (hj : n = 2 ^ j) (hi : h % n = i) : (h &&& n = 0 ↔ h % (2 * n) = i) := by
  have hp : 0 < n := by rw [hj]; exact Nat.two_pow_pos j
  have h1 : h &&& n = n * ((h / n) % 2) := by
    rw [hj]
    apply Nat.eq_of_testBit_eq
    intro x
    rw [Nat.testBit_and, Nat.testBit_two_pow]
    by_cases hx : j = x
    · subst hx
      rw [Nat.testBit_two_pow_mul]
      simp [Nat.testBit_eq_decide_div_mod_eq]
    · simp only [hx, decide_false, Bool.and_false]
      rw [Nat.testBit_two_pow_mul]
      by_cases hx2 : j ≤ x
      · have h3 : (h / 2 ^ j % 2).testBit (x - j) = false := Nat.testBit_lt_two_pow (Nat.lt_of_lt_of_le (Nat.mod_lt _ (by omega)) (by
          have : 1 ≤ x - j := by omega
          exact Nat.le_trans (by decide) (Nat.pow_le_pow_right (by decide) this)))
        simp [h3]
      · simp [hx2]
  have h2 : h % (2 * n) = h % n + n * (h / n % 2) := by
    rw [Nat.mul_comm 2 n]; exact Nat.mod_mul
  rw [h1, h2, hi]
  constructor
  · intro h3
    omega
  · intro h3
    have h5 : h / n % 2 < 2 := Nat.mod_lt _ (by omega)
    rcases (show h / n % 2 = 0 ∨ h / n % 2 = 1 by omega) with h4 | h4
    · rw [h4, Nat.mul_zero]
    · rw [h4, Nat.mul_one] at h3; omega
theorem rz_disj {D : HD} {i a : Nat} (hn : 0 < D.n) (h1 : rz_p D i a = true) (h2 : rz_p D (i + D.n) a = true) : False := by
  have h1 : hm_sp (D.C a) % (2 * D.n) = i := by simpa [rz_p] using h1
  have h2 : hm_sp (D.C a) % (2 * D.n) = i + D.n := by simpa [rz_p] using h2
  omega
/-- the write at the end of one half keeps all else -/
theorem rz_keep {D : HD} {i : Nat} {nx T : Nat → Option Nat} {q : List Nat} {y : Option Nat} (hq : ∀ a, a ∈ q → a ∈ D.B i) (hdis : ∀ b, b < D.n → b ≠ i → ∀ a, a ∈ D.B b → a ∉ D.B i) (h1 : ∀ b, i < b → b < D.n → hm_ch nx (D.T b) (D.B b)) (h2 : ∀ j, j < 2 * D.n → j % D.n < i → hm_ch nx (T j) (rz_B D j)) (hn : 0 < D.n) :
    (∀ b, i < b → b < D.n → hm_ch (rz_w nx q.getLast? y) (D.T b) (D.B b)) ∧ (∀ j, j < 2 * D.n → j % D.n < i → hm_ch (rz_w nx q.getLast? y) (T j) (rz_B D j)) := by
  refine ⟨fun b hb hbn => (h1 b hb hbn).congr fun a ha => rz_w_ne fun t ht e => ?_, fun j hj hji => (h2 j hj hji).congr fun a ha => rz_w_ne fun t ht e => ?_⟩
  · exact hdis b hbn (by omega) a ha (e ▸ hq t (List.mem_of_getLast? ht))
  · exact hdis (j % D.n) (Nat.mod_lt _ hn) (by omega) a (List.mem_filter.mp ha).1 (e ▸ hq t (List.mem_of_getLast? ht))
theorem rz_step {D : HD} {i e : Nat} {nx T : Nat → Option Nat} {p l : List Nat} (h : rz_J D i nx T p (some e) (e :: l)) (hn : 0 < D.n) (hnd : (D.B i).Nodup) (hdis : ∀ b, b < D.n → b ≠ i → ∀ a, a ∈ D.B b → a ∉ D.B i) :
    (rz_p D i e = true → rz_J D i (rz_w nx (p.filter (rz_p D i)).getLast? (some e)) T (p ++ [e]) (nx e) l) ∧ (rz_p D (i + D.n) e = true → rz_J D i (rz_w nx (p.filter (rz_p D (i + D.n))).getLast? (some e)) T (p ++ [e]) (nx e) l) := by
  obtain ⟨h1, h2, h3, h4, h5, h6⟩ := h
  have hp : ∀ a, a ∈ p → a ∈ D.B i := fun a ha => by rw [h1]; exact List.mem_append_left _ ha
  rw [h1] at hnd
  have hd := List.nodup_append.mp hnd
  have hel : ∀ a, a ∈ p → ∀ b, b ∈ e :: l → b ≠ a := fun a ha b hb e9 => hd.2.2 a ha b hb e9.symm
  have hlast : ∀ {f : Nat → Bool} {t : Nat}, (p.filter f).getLast? = some t → t ∈ p ∧ f t = true := fun ht => List.mem_filter.mp (List.mem_of_getLast? ht)
  constructor
  · intro hlo
    have hhi : rz_p D (i + D.n) e = false := by
      cases hx : rz_p D (i + D.n) e with
      | false => rfl
      | true => exact absurd (rz_disj hn hlo hx) id
    obtain ⟨k1, k2⟩ := rz_keep (y := some e) (q := p.filter (rz_p D i)) (fun a ha => hp a (List.mem_filter.mp ha).1) hdis h5 h6 hn
    refine ⟨by rw [h1, List.append_assoc]; rfl, ?_, ?_, ?_, k1, k2⟩
    · rw [List.filter_append, List.filter_cons_of_pos hlo, List.filter_nil]
      exact h2.more (hd.1.filter _)
    · rw [List.filter_append, List.filter_cons_of_neg (by rw [hhi]; decide), List.filter_nil, List.append_nil]
      refine h3.congr fun p' t' e9 a ha => rz_w_ne fun t ht e8 => ?_
      have ha' : a ∈ p.filter (rz_p D (i + D.n)) := by rw [e9]; exact List.mem_append_left _ ha
      have := (List.mem_filter.mp ha').2
      rw [e8] at this
      exact rz_disj hn (hlast ht).2 this
    · exact h4.2.congr fun a ha => rz_w_ne fun t ht e8 => hel t (hlast ht).1 a (List.mem_cons_of_mem _ ha) e8
  · intro hhi
    have hlo : rz_p D i e = false := by
      cases hx : rz_p D i e with
      | false => rfl
      | true => exact absurd (rz_disj hn hx hhi) id
    obtain ⟨k1, k2⟩ := rz_keep (y := some e) (q := p.filter (rz_p D (i + D.n))) (fun a ha => hp a (List.mem_filter.mp ha).1) hdis h5 h6 hn
    refine ⟨by rw [h1, List.append_assoc]; rfl, ?_, ?_, ?_, k1, k2⟩
    · rw [List.filter_append, List.filter_cons_of_neg (by rw [hlo]; decide), List.filter_nil, List.append_nil]
      refine h2.congr fun p' t' e9 a ha => rz_w_ne fun t ht e8 => ?_
      have ha' : a ∈ p.filter (rz_p D i) := by rw [e9]; exact List.mem_append_left _ ha
      have := (List.mem_filter.mp ha').2
      rw [e8] at this
      exact rz_disj hn this (hlast ht).2
    · rw [List.filter_append, List.filter_cons_of_pos hhi, List.filter_nil]
      exact h3.more (hd.1.filter _)
    · exact h4.2.congr fun a ha => rz_w_ne fun t ht e8 => hel t (hlast ht).1 a (List.mem_cons_of_mem _ ha) e8
theorem rz_start {D : HD} {i : Nat} {nx f T : Nat → Option Nat} (h : rz_I D i nx f T) (hi : i < D.n) : rz_J D i nx T [] (D.T i) (D.B i) :=
  ⟨rfl, trivial, trivial, (h.1 i (Nat.le_refl _) hi).2, fun b hb hbn => (h.1 b (Nat.le_of_lt hb) hbn).2, h.2.1⟩
/-- the head of a list is stored, if there is one -/
def rz_t (T : Nat → Option Nat) (q : List Nat) (j : Nat) : Nat → Option Nat := match q.getLast? with | none => T | some _ => va_up T j q.head?
theorem rz_t_ne {T : Nat → Option Nat} {q : List Nat} {j x : Nat} (h : x ≠ j) : rz_t T q j x = T x := by
  unfold rz_t
  cases q.getLast? with
  | none => rfl
  | some _ => exact va_up_ne _ _ h
theorem rz_t_at {T : Nat → Option Nat} {q : List Nat} {j : Nat} (h : T j = none) : rz_t T q j j = q.head? := by
  unfold rz_t
  cases hq : q.getLast? with
  | none => rw [List.getLast?_eq_none_iff.mp hq]; exact h
  | some _ => exact va_up_self _ _ _
theorem rz_end {D : HD} {i : Nat} {nx f T : Nat → Option Nat} (h0 : rz_I D i nx f T → True) {fo : Nat → Option Nat} (hf : ∀ b, i < b → b < D.n → fo b = D.T b) (hT : ∀ j, j < 2 * D.n → i ≤ j % D.n → T j = none) (h : rz_J D i nx T (D.B i) none []) (hi : i < D.n) (hnd : (D.B i).Nodup) (hdis : ∀ b, b < D.n → b ≠ i → ∀ a, a ∈ D.B b → a ∉ D.B i) :
    rz_I D (i + 1) (rz_w (rz_w nx ((D.B i).filter (rz_p D i)).getLast? none) ((D.B i).filter (rz_p D (i + D.n))).getLast? none) fo (rz_t (rz_t T ((D.B i).filter (rz_p D i)) i) ((D.B i).filter (rz_p D (i + D.n))) (i + D.n)) := by
  obtain ⟨h1, h2, h3, h4, h5, h6⟩ := h
  have hn : 0 < D.n := by omega
  obtain ⟨k1, k2⟩ := rz_keep (y := none) (q := (D.B i).filter (rz_p D i)) (fun a ha => (List.mem_filter.mp ha).1) hdis h5 h6 hn
  obtain ⟨k3, k4⟩ := rz_keep (y := none) (q := (D.B i).filter (rz_p D (i + D.n))) (fun a ha => (List.mem_filter.mp ha).1) hdis k1 k2 hn
  have hlast : ∀ {f : Nat → Bool} {t : Nat}, ((D.B i).filter f).getLast? = some t → f t = true := fun ht => (List.mem_filter.mp (List.mem_of_getLast? ht)).2
  have m1 : i % D.n = i := Nat.mod_eq_of_lt hi
  have m2 : (i + D.n) % D.n = i := by rw [Nat.add_mod_right, m1]
  have j1 : (j : Nat) → j < 2 * D.n → j % D.n = i → j = i ∨ j = i + D.n := fun j hj e => by
    have := rz_mod hn e
    rw [Nat.mod_eq_of_lt hj] at this; exact this
  refine ⟨fun b hb hbn => ⟨hf b (by omega) hbn, k3 b (by omega) hbn⟩, fun j hj hji => ?_, fun j hj hji => ?_⟩
  · by_cases e : j % D.n = i
    · rcases j1 j hj e with rfl | rfl
      · rw [rz_t_ne (by omega), rz_t_at (hT j hj (by omega))]
        show hm_ch _ _ ((D.B (j % D.n)).filter (rz_p D j))
        rw [m1]
        refine (h2.done (hnd.filter _)).congr fun a ha => rz_w_ne fun t ht e8 => ?_
        rw [e8] at ha
        exact rz_disj hn (List.mem_filter.mp ha).2 (hlast ht)
      · rw [rz_t_at (by rw [rz_t_ne (by omega)]; exact hT _ hj (by omega))]
        show hm_ch _ _ ((D.B ((i + D.n) % D.n)).filter (rz_p D (i + D.n)))
        rw [m2]
        refine hm_lk.done (h3.congr fun p' t' e9 a ha => rz_w_ne fun t ht e8 => ?_) (hnd.filter _)
        have ha' : a ∈ (D.B i).filter (rz_p D (i + D.n)) := by rw [e9]; exact List.mem_append_left _ ha
        rw [e8] at ha'
        exact rz_disj hn (hlast ht) (List.mem_filter.mp ha').2
    · have ne1 : j ≠ i := fun e9 => e (by rw [e9, m1])
      have ne2 : j ≠ i + D.n := fun e9 => e (by rw [e9, m2])
      rw [rz_t_ne ne2, rz_t_ne ne1]
      exact k4 j hj (by omega)
  · have ne1 : j ≠ i := fun e9 => by rw [e9, m1] at hji; omega
    have ne2 : j ≠ i + D.n := fun e9 => by rw [e9, m2] at hji; omega
    rw [rz_t_ne ne2, rz_t_ne ne1]
    exact hT j hj (by omega)
theorem rz_none {D : HD} {i : Nat} {nx f T : Nat → Option Nat} (h : rz_I D i nx f T) (hi : i < D.n) (hB : D.B i = []) : rz_I D (i + 1) nx f T := by
  refine ⟨fun b hb hbn => h.1 b (by omega) hbn, fun j hj hji => ?_, fun j hj hji => h.2.2 j hj (by omega)⟩
  by_cases e : j % D.n = i
  · rw [h.2.2 j hj (by omega)]
    show hm_ch _ _ ((D.B (j % D.n)).filter _)
    rw [e, hB]; rfl
  · exact h.2.1 j hj (by omega)
theorem rz_one {D : HD} {i e : Nat} {nx f T : Nat → Option Nat} (h : rz_I D i nx f T) (hi : i < D.n) (hB : D.B i = [e]) (he : hm_sp (D.C e) % D.n = i) : rz_I D (i + 1) nx (va_up f i none) (va_up T (hm_sp (D.C e) % (2 * D.n)) (some e)) := by
  have hn : 0 < D.n := by omega
  have m1 : i % D.n = i := Nat.mod_eq_of_lt hi
  have m2 : (i + D.n) % D.n = i := by rw [Nat.add_mod_right, m1]
  have hx : nx e = none := by have := (h.1 i (Nat.le_refl _) hi).2; rw [hB] at this; exact this.2
  have hem : hm_sp (D.C e) % (2 * D.n) % D.n = i := by rw [Nat.mod_mul_left_mod]; exact he
  refine ⟨fun b hb hbn => ⟨by rw [va_up_ne _ _ (by omega)]; exact (h.1 b (by omega) hbn).1, (h.1 b (by omega) hbn).2⟩, fun j hj hji => ?_, fun j hj hji => ?_⟩
  · by_cases e1 : j % D.n = i
    · show hm_ch _ _ ((D.B (j % D.n)).filter (rz_p D j))
      rw [e1, hB]
      by_cases e2 : hm_sp (D.C e) % (2 * D.n) = j
      · rw [e2, va_up_self, List.filter_cons_of_pos (by simp [rz_p, e2]), List.filter_nil]
        exact ⟨rfl, hx⟩
      · rw [va_up_ne _ _ (fun e9 => e2 e9.symm), List.filter_cons_of_neg (by simp [rz_p, e2]), List.filter_nil]
        exact h.2.2 j hj (by omega)
    · rw [va_up_ne _ _ (fun e9 => e1 (by rw [e9]; exact hem))]
      exact h.2.1 j hj (by omega)
  · rw [va_up_ne _ _ (fun e9 => by rw [e9, hem] at hji; omega)]
    exact h.2.2 j hj (by omega)
theorem rz_fp0 : ∀ j : Fin 10, (FP.fmul (FP.i2f (nI (2 ^ j.val))) 1061158912 &&& 0x7fffffff ≤ 0x7f800000) ∧ Op.cmpValue (FP.fcmp (FP.fmul (FP.i2f (nI (2 ^ j.val))) 1061158912) 1317011456) .g = -1 ∧ FP.f2i (FP.fmul (FP.i2f (nI (2 ^ j.val))) 1061158912) = nI (3 * 2 ^ j.val / 4) := by decide +kernel
theorem rz_fp {j : Nat} (h : j ≤ 9) : vf_n32 (FP.fmul (FP.i2f (nI (2 ^ j))) 1061158912) ∧ Op.cmpValue (FP.fcmp (FP.fmul (FP.i2f (nI (2 ^ j))) 1061158912) 1317011456) .g = -1 ∧ FP.f2i (FP.fmul (FP.i2f (nI (2 ^ j))) 1061158912) = nI (3 * 2 ^ j / 4) := rz_fp0 ⟨j, by omega⟩
/-- the map with its first table -/
def rz_D0 (D : HD) (q cap : Nat) : HD := ((cap, q, 3 * cap / 4, D.mc, D.es, D.ks, D.vs), D.2.1, D.ci, D.nx, D.ex, fun _ => none, fun _ => [])
/-- the map with its table twice as long -/
def rz_D (D : HD) (q : Nat) (nx T : Nat → Option Nat) : HD := ((2 * D.n, q, 3 * (2 * D.n) / 4, D.mc, D.es, D.ks, D.vs), D.2.1, D.ci, nx, D.ex, T, fun j => rz_B D j)
def rz_R (D D' : HD) : Prop := D'.n ≠ 0 ∧ D'.n = (if D.n = 0 then (if D.th = 0 then 16 else D.th) else 2 * D.n) ∧ D'.2.1 = D.2.1 ∧ D'.ci = D.ci ∧ D'.ex = D.ex ∧ D'.mc = D.mc ∧ D'.es = D.es ∧ D'.ks = D.ks ∧ D'.vs = D.vs
theorem hm_G.oth {V : gh_V} {o k : Nat} {g g1 : gh_G} {m ck : Nat} {D : HD} {sz : Nat} {X : Option Nat} (h : hm_G V o k g m ck D sz X) {q : Nat} (hq0 : g q = none) (hfr : ∀ b, b ≠ m → (D.n ≠ 0 → b ≠ D.tb) → b ≠ q → b ∉ D.L → g1 b = g b) : gh_fk o k g g1 ∧ ∀ {b : Nat} {n : Nat} {x : gh_E}, g b = some ((o, k, n), x) → n ≠ 0 → n ≠ 1 → n ≠ 2 → g1 b = some ((o, k, n), x) := by
  refine ⟨fun b t x hb ht => ?_, fun {b n x} hb h0 h1 h2 => ?_⟩
  · obtain ⟨e1, e2⟩ := h.sep hb ht
    rw [hfr b e1 (fun hn e => by rw [e, h.ct hn] at hb; cases hb; exact ht ⟨rfl, rfl⟩) (fun e => by rw [e, hq0] at hb; cases hb) e2]; exact hb
  · rw [hfr b (fun e => by rw [e, h.cm] at hb; cases hb; exact h0 rfl) (fun hn e => by rw [e, h.ct hn] at hb; cases hb; exact h1 rfl) (fun e => by rw [e, hq0] at hb; cases hb) (fun e => by rw [h.cn b e] at hb; cases hb; exact h2 rfl)]; exact hb
theorem rz_fin0 {V : gh_V} {o k : Nat} {g g1 : gh_G} {m ck : Nat} {D : HD} {sz : Nat} (h : hm_G V o k g m ck D sz none) {q cap : Nat} (hn : D.n = 0) (hq0 : g q = none) (hcap : ∃ j, 1 ≤ j ∧ j ≤ 9 ∧ cap = 2 ^ j)
    (hm : g1 m = some ((o, k, 0), oo 13 [.ref q, va_rf D.es, .int (nI sz), .int D.mc, .int (nI (3 * cap / 4)), .float 1061158912, va_rf D.ks, va_rf D.vs, va_rf D.L.head?, va_rf D.L.getLast?, .int 0, .int 0]))
    (hq : g1 q = some ((o, k, 1), aq V 9 cap (fun _ => none))) (hfr : ∀ b, b ≠ m → b ≠ q → g1 b = g b) : hm_G V o k g1 m ck (rz_D0 D q cap) sz none ∧ gh_fk o k g g1 := by
  obtain ⟨hf, oth⟩ := h.oth (g1 := g1) hq0 (fun b h1 _ h3 _ => hfr b h1 h3)
  have hL := (h.z hn).1
  have hcp : cap ≠ 0 := by obtain ⟨j, h1, h2, h3⟩ := hcap; rw [h3]; exact Nat.ne_of_gt (Nat.two_pow_pos j)
  have none9 : ∀ {a}, a ∈ D.L → False := fun ha => by rw [hL] at ha; cases ha
  refine ⟨⟨?_, fun _ => hq, fun a ha => (none9 ha).elim, fun a ha => (none9 ha).elim, h.nd, fun a ha => (none9 ha).elim, fun i hi => rfl, fun i hi => List.nodup_nil, fun i hi a => ⟨(fun e => by cases e), (fun e => (none9 e.1).elim)⟩, fun e => absurd e hcp, fun _ => ⟨hcap, rfl⟩, fun i hi => Or.inl (fun a ha => by cases ha), Or.inl (fun a ha => (none9 ha).elim), ⟨h.len.1, fun a ha => (none9 ha).elim⟩, h.k10, fun x e => oth (h.vw.1 x e) (by decide) (by decide) (by decide), fun x e => oth (h.vw.2.1 x e) (by decide) (by decide) (by decide), fun x e => oth (h.vw.2.2 x e) (by decide) (by decide) (by decide)⟩, hf⟩
  show g1 m = some ((o, k, 0), oo 13 [va_rf (if cap = 0 then none else some q), va_rf D.es, .int (nI sz), .int D.mc, .int (nI (3 * cap / 4)), .float 1061158912, va_rf D.ks, va_rf D.vs, va_rf D.L.head?, va_rf D.L.getLast?, .int 0, .int 0])
  rw [if_neg hcp]; exact hm
theorem rz_fin {V : gh_V} {o k : Nat} {g g1 : gh_G} {m ck : Nat} {D : HD} {sz : Nat} (h : hm_G V o k g m ck D sz none) {q : Nat} {nx f T : Nat → Option Nat} (hn : D.n ≠ 0) (h256 : D.n ≤ 256) (h14 : ∀ a, a ∈ D.L → D.ci a = 14) (hq0 : g q = none)
    (hm : g1 m = some ((o, k, 0), oo 13 [.ref q, va_rf D.es, .int (nI sz), .int D.mc, .int (nI (3 * (2 * D.n) / 4)), .float 1061158912, va_rf D.ks, va_rf D.vs, va_rf D.L.head?, va_rf D.L.getLast?, .int 0, .int 0]))
    (hq : g1 q = some ((o, k, 1), aq V 9 (2 * D.n) T))
    (hN : ∀ a, a ∈ D.L → g1 a = some ((o, k, 2), oo (D.ci a) (.int (nI (hm_sp (D.C a))) :: .ref (D.K a) :: va_rf (D.v a) :: va_rf (nx a) :: va_rf (pvL D.L a) :: va_rf (scL D.L a) :: D.ex a)))
    (hfr : ∀ b, b ≠ m → b ≠ D.tb → b ≠ q → b ∉ D.L → g1 b = g b) (hI : rz_I D D.n nx f T) : hm_G V o k g1 m ck (rz_D D q nx T) sz none ∧ gh_fk o k g g1 := by
  obtain ⟨hf, oth⟩ := h.oth (g1 := g1) hq0 (fun b h1 h2 h3 h4 => hfr b h1 (h2 hn) h3 h4)
  have hp : 0 < D.n := Nat.pos_of_ne_zero hn
  refine ⟨⟨?_, fun _ => hq, hN, fun a ha => (h.ky a ha).fk hf h.k10, h.nd, h.inj, fun i hi => hI.2.1 i hi (Nat.mod_lt _ hp), fun i hi => (h.bn _ (Nat.mod_lt _ hp)).filter _, fun i hi a => ?_, fun e => ?_, fun _ => ⟨?_, rfl⟩, fun i hi => Or.inl fun a ha => ?_, Or.inl h14, h.len, h.k10, fun x e => oth (h.vw.1 x e) (by decide) (by decide) (by decide), fun x e => oth (h.vw.2.1 x e) (by decide) (by decide) (by decide), fun x e => oth (h.vw.2.2 x e) (by decide) (by decide) (by decide)⟩, hf⟩
  · show g1 m = some ((o, k, 0), oo 13 [va_rf (if 2 * D.n = 0 then none else some q), va_rf D.es, .int (nI sz), .int D.mc, .int (nI (3 * (2 * D.n) / 4)), .float 1061158912, va_rf D.ks, va_rf D.vs, va_rf D.L.head?, va_rf D.L.getLast?, .int 0, .int 0])
    rw [if_neg (by omega)]; exact hm
  · have hi : i < 2 * D.n := hi
    show a ∈ (D.B (i % D.n)).filter (rz_p D i) ↔ a ∈ D.L ∧ ¬ none = some a ∧ hm_sp (D.C a) % (2 * D.n) = i
    rw [List.mem_filter, h.bm _ (Nat.mod_lt _ hp) a]
    constructor
    · intro ⟨h1, h2⟩
      exact ⟨h1.1, h1.2.1, by simpa [rz_p] using h2⟩
    · intro ⟨h1, h2, h3⟩
      refine ⟨⟨h1, h2, ?_⟩, by simp [rz_p, h3]⟩
      rw [← h3, Nat.mod_mul_left_mod]
  · have e : 2 * D.n = 0 := e
    omega
  · obtain ⟨⟨j, j1, j2, j3⟩, -⟩ := h.pw hn
    refine ⟨j + 1, by omega, ?_, ?_⟩
    · rcases Nat.lt_or_ge j 9 with h9 | h9
      · omega
      · have e9 : j = 9 := by omega
        rw [e9] at j3
        have : (2 : Nat) ^ 9 = 512 := by decide
        omega
    · show 2 * D.n = 2 ^ (j + 1)
      rw [j3, Nat.pow_succ, Nat.mul_comm]
  · have ha : a ∈ (D.B (i % D.n)).filter (rz_p D i) := ha
    have ha := (List.mem_filter.mp ha).1
    rcases h.bin _ (Nat.mod_lt i hp) with h9 | h9
    · exact h9 a ha
    · have e1 := h9.2.1 a ha
      rw [h14 a (h.mem (Nat.mod_lt i hp) ha)] at e1
      omega
theorem hm_G.nn0 {D : HD} (h : D.n ≠ 0) : D.n ≠ 0 := h
