/-- the function f, but y at q -/
def fuN {α : Type} (f : Nat → α) (q : Nat) (y : α) : Nat → α := fun a => if a = q then y else f a
theorem fuN_self {α : Type} {f : Nat → α} {q : Nat} {y : α} : fuN f q y q = y := if_pos rfl
theorem fuN_ne {α : Type} {f : Nat → α} {q : Nat} {y : α} {a : Nat} (h : a ≠ q) : fuN f q y a = f a := if_neg h
/-- a node q linked at the end, in no bin -/
def hd_app (D : HD) (q c ka : Nat) (v nx : Option Nat) (ci : Nat) (ex : List Value) : HD := (D.1, (D.L ++ [q], fuN D.C q c, fuN D.K q ka, fuN D.v q v), fuN D.ci q ci, fuN D.nx q nx, fuN D.ex q ex, D.T, D.B)
theorem hm_ne_last {l : List Nat} {q a : Nat} (h : q ∉ l) (ha : a ∈ l) : a ≠ q := fun e => h (e ▸ ha)
theorem hm_G.sep {V : gh_V} {o k : Nat} {g : gh_G} {m ck : Nat} {D : HD} {sz : Nat} {X : Option Nat} (h : hm_G V o k g m ck D sz X) {b : Nat} {t : gh_T} {x : gh_E} (hb : g b = some (t, x)) (ht : ¬ (t.1 = o ∧ t.2.1 = k)) : b ≠ m ∧ b ∉ D.L := by
  refine ⟨fun e => ?_, fun e => ?_⟩
  · rw [e, h.cm] at hb; cases hb; exact ht ⟨rfl, rfl⟩
  · rw [h.cn b e] at hb; cases hb; exact ht ⟨rfl, rfl⟩
theorem tr_congr {ex ex' : Nat → List Value} {pv : Nat → Option Nat} {d : Nat} {p r : Option Nat} {l : List Nat} (h : tr_T ex pv d p r l) (he : ∀ a, a ∈ l → ex' a = ex a) : tr_T ex' pv d p r l := by
  induction d generalizing p r l with
  | zero => exact h
  | succ d ih =>
    rcases h with h | ⟨a, x, y, la, lb, red, h1, h2, h3, h4, h5, h6⟩
    · exact Or.inl h
    · subst h2
      exact Or.inr ⟨a, x, y, la, lb, red, h1, rfl, h3, by rw [he a (List.mem_append_right _ List.mem_cons_self)]; exact h4, ih h5 (fun b hb => he b (List.mem_append_left _ hb)), ih h6 (fun b hb => he b (List.mem_append_right _ (List.mem_cons_of_mem _ hb)))⟩
theorem hm_G.app {V : gh_V} {o k : Nat} {g g1 : gh_G} {m ck : Nat} {D : HD} {sz : Nat} (h : hm_G V o k g m ck D sz none) {q c ka : Nat} {v nx : Option Nat} {ci : Nat} {ex : List Value} (hq0 : g q = none) (hn : D.n ≠ 0) (hci : ci = 14 ∨ ci = 15) (hky : ky_P V g ck ka c) (hnew : ∀ a, a ∈ D.L → D.C a ≠ c)
    (hm : g1 m = some ((o, k, 0), oo 13 [va_rf (hm_tab D), va_rf D.es, .int (nI sz), .int D.mc, .int (nI D.th), .float 1061158912, va_rf D.ks, va_rf D.vs, va_rf (D.L ++ [q]).head?, .ref q, .int 0, .int 0]))
    (hN : ∀ a, a ∈ D.L → g1 a = some ((o, k, 2), oo (D.ci a) (.int (nI (hm_sp (D.C a))) :: .ref (D.K a) :: va_rf (D.v a) :: va_rf (D.nx a) :: va_rf (pvL (D.L ++ [q]) a) :: va_rf (scL (D.L ++ [q]) a) :: D.ex a)))
    (hq : g1 q = some ((o, k, 2), oo ci (.int (nI (hm_sp c)) :: .ref ka :: va_rf v :: va_rf nx :: va_rf D.L.getLast? :: .null :: ex)))
    (hfr : ∀ b, b ≠ m → b ≠ q → b ∉ D.L → g1 b = g b) (hlen : D.L.length < 240) (hmd : ((∀ a, a ∈ D.L → D.ci a = 14) ∧ ci = 14) ∨ D.L.length < 16) :
    hm_G V o k g1 m ck (hd_app D q c ka v nx ci ex) sz (some q) ∧ gh_fk o k g g1 := by
  have hqL : q ∉ D.L := fun e => by rw [h.cn q e] at hq0; cases hq0
  have ne : ∀ {a}, a ∈ D.L → a ≠ q := fun ha => hm_ne_last hqL ha
  have hf : gh_fk o k g g1 := fun b t x hb ht => by
    obtain ⟨h1, h2⟩ := h.sep hb ht
    rw [hfr b h1 (fun e => by rw [e, hq0] at hb; cases hb) h2]; exact hb
  have oth : ∀ {b : Nat} {n : Nat} {x : gh_E}, g b = some ((o, k, n), x) → n ≠ 0 → n ≠ 2 → g1 b = some ((o, k, n), x) := fun {b n x} hb h0 h2 => by
    rw [hfr b (fun e => by rw [e, h.cm] at hb; cases hb; exact h0 rfl) (fun e => by rw [e, hq0] at hb; cases hb) (fun e => by rw [h.cn b e] at hb; cases hb; exact h2 rfl)]; exact hb
  refine ⟨⟨?_, fun _ => ?_, ?_, ?_, ?_, ?_, ?_, h.bn, ?_, fun e => absurd e hn, h.pw, ?_, ?_, ?_, h.k10, ?_⟩, hf⟩
  · show g1 m = some ((o, k, 0), oo 13 [va_rf (hm_tab D), va_rf D.es, .int (nI sz), .int D.mc, .int (nI D.th), .float 1061158912, va_rf D.ks, va_rf D.vs, va_rf (D.L ++ [q]).head?, va_rf (D.L ++ [q]).getLast?, .int 0, .int 0])
    rw [List.getLast?_append, List.getLast?_singleton]
    exact hm
  · exact oth (h.ct hn) (by decide) (by decide)
  · intro a ha
    rcases List.mem_append.mp ha with ha | ha
    · have e := ne ha
      show g1 a = some ((o, k, 2), oo (fuN D.ci q ci a) (.int (nI (hm_sp (fuN D.C q c a))) :: .ref (fuN D.K q ka a) :: va_rf (fuN D.v q v a) :: va_rf (fuN D.nx q nx a) :: va_rf (pvL (D.L ++ [q]) a) :: va_rf (scL (D.L ++ [q]) a) :: fuN D.ex q ex a))
      rw [fuN_ne e, fuN_ne e, fuN_ne e, fuN_ne e, fuN_ne e, fuN_ne e]
      exact hN a ha
    · cases List.mem_singleton.mp ha
      show g1 q = some ((o, k, 2), oo (fuN D.ci q ci q) (.int (nI (hm_sp (fuN D.C q c q))) :: .ref (fuN D.K q ka q) :: va_rf (fuN D.v q v q) :: va_rf (fuN D.nx q nx q) :: va_rf (pvL (D.L ++ [q]) q) :: va_rf (scL (D.L ++ [q]) q) :: fuN D.ex q ex q))
      rw [fuN_self, fuN_self, fuN_self, fuN_self, fuN_self, fuN_self, pvL_last, scL_last hqL]
      exact hq
  · intro a ha
    rcases List.mem_append.mp ha with ha | ha
    · show ky_P V g1 ck (fuN D.K q ka a) (fuN D.C q c a)
      rw [fuN_ne (ne ha), fuN_ne (ne ha)]
      exact (h.ky a ha).fk hf h.k10
    · cases List.mem_singleton.mp ha
      show ky_P V g1 ck (fuN D.K q ka q) (fuN D.C q c q)
      rw [fuN_self, fuN_self]
      exact hky.fk hf h.k10
  · show (D.L ++ [q]).Nodup
    exact List.nodup_append.mpr ⟨h.nd, List.nodup_cons.mpr ⟨by simp, List.nodup_nil⟩, fun a ha b hb => by cases List.mem_singleton.mp hb; exact ne ha⟩
  · intro a ha b hb e
    have e : fuN D.C q c a = fuN D.C q c b := e
    rcases List.mem_append.mp ha with ha | ha
    · rcases List.mem_append.mp hb with hb | hb
      · rw [fuN_ne (ne ha), fuN_ne (ne hb)] at e; exact h.inj a ha b hb e
      · cases List.mem_singleton.mp hb
        rw [fuN_ne (ne ha), fuN_self] at e; exact absurd e (hnew a ha)
    · cases List.mem_singleton.mp ha
      rcases List.mem_append.mp hb with hb | hb
      · rw [fuN_ne (ne hb), fuN_self] at e; exact absurd e.symm (hnew b hb)
      · cases List.mem_singleton.mp hb; rfl
  · intro i hi
    exact (h.ch i hi).congr (fun a ha => fuN_ne (ne (h.mem hi ha)))
  · intro i hi a
    show a ∈ D.B i ↔ a ∈ D.L ++ [q] ∧ ¬ some q = some a ∧ hm_sp (fuN D.C q c a) % D.n = i
    constructor
    · intro ha
      have ha' := (h.bm i hi a).mp ha
      exact ⟨List.mem_append_left _ ha'.1, fun e => ne ha'.1 (Option.some.inj e).symm, by rw [fuN_ne (ne ha'.1)]; exact ha'.2.2⟩
    · intro ⟨h1, h2, h3⟩
      rcases List.mem_append.mp h1 with h1 | h1
      · rw [fuN_ne (ne h1)] at h3
        exact (h.bm i hi a).mpr ⟨h1, (fun e => by cases e), h3⟩
      · exact absurd (by rw [List.mem_singleton.mp h1]) h2
  · intro i hi
    rcases h.bin i hi with hb | ⟨hb1, hb2, d, tl, hb3, hb4, hb5⟩
    · refine Or.inl fun a ha => ?_
      show fuN D.ci q ci a = 14 ∧ fuN D.ex q ex a = []
      rw [fuN_ne (ne (h.mem hi ha)), fuN_ne (ne (h.mem hi ha))]
      exact hb a ha
    · refine Or.inr ⟨hb1, fun a ha => ?_, d, tl, hb3, ?_, ?_⟩
      · show fuN D.ci q ci a = 15
        rw [fuN_ne (ne (h.mem hi ha))]; exact hb2 a ha
      · refine hb4.imp_of_mem fun {a b} ha hb h9 => ?_
        show hm_sp (fuN D.C q c a) < hm_sp (fuN D.C q c b)
        rw [fuN_ne (ne (h.mem hi ((hb3 a).mp ha))), fuN_ne (ne (h.mem hi ((hb3 b).mp hb)))]; exact h9
      · exact tr_congr hb5 (fun a ha => fuN_ne (ne (h.mem hi ((hb3 a).mp ha))))
  · rcases hmd with ⟨h1, h2⟩ | h1
    · refine Or.inl fun a ha => ?_
      show fuN D.ci q ci a = 14
      rcases List.mem_append.mp ha with ha | ha
      · rw [fuN_ne (ne ha)]; exact h1 a ha
      · rw [List.mem_singleton.mp ha, fuN_self]; exact h2
    · refine Or.inr ?_
      show (D.L ++ [q]).length ≤ 16
      rw [List.length_append, List.length_singleton]; omega
  · refine ⟨?_, fun a ha => ?_⟩
    · show (D.L ++ [q]).length ≤ 240
      rw [List.length_append, List.length_singleton]; omega
    · show fuN D.ci q ci a = 14 ∨ fuN D.ci q ci a = 15
      rcases List.mem_append.mp ha with ha | ha
      · rw [fuN_ne (ne ha)]; exact h.ci2 ha
      · rw [List.mem_singleton.mp ha, fuN_self]; exact hci
  · exact ⟨fun x e => oth (h.vw.1 x e) (by decide) (by decide), fun x e => oth (h.vw.2.1 x e) (by decide) (by decide), fun x e => oth (h.vw.2.2 x e) (by decide) (by decide)⟩
