/-! PUTTING -/
def hm_M (D : HD) : List (Nat × Nat × Option Nat) := D.L.map (fun a => (D.C a, D.K a, D.v a))
theorem hm_M_len {D : HD} : (hm_M D).length = D.L.length := List.length_map _
theorem hm_M_congr {D D' : HD} (h : D'.2.1 = D.2.1) : hm_M D' = hm_M D := by unfold hm_M; rw [show D'.L = D.L from congrArg (fun z => z.1) h, show D'.C = D.C from congrArg (fun z => z.2.1) h, show D'.K = D.K from congrArg (fun z => z.2.2.1) h, show D'.v = D.v from congrArg (fun z => z.2.2.2) h]
theorem hm_M_app {D : HD} {q c ka : Nat} {v nx : Option Nat} {ci : Nat} {ex : List Value} (hq : q ∉ D.L) : hm_M (hd_app D q c ka v nx ci ex) = hm_M D ++ [(c, ka, v)] := by
  show (D.L ++ [q]).map (fun a => (fuN D.C q c a, fuN D.K q ka a, fuN D.v q v a)) = _
  rw [List.map_append]
  congr 1
  · exact List.map_congr_left fun a ha => by rw [fuN_ne (hm_ne_last hq ha), fuN_ne (hm_ne_last hq ha), fuN_ne (hm_ne_last hq ha)]
  · show [(fuN D.C q c q, fuN D.K q ka q, fuN D.v q v q)] = _
    rw [fuN_self, fuN_self, fuN_self]
/-- node q comes into its bin, at the end -/
def hd_in (D : HD) (i q : Nat) (nx T : Nat → Option Nat) : HD := (D.1, D.2.1, D.ci, nx, D.ex, T, fuN D.B i (D.B i ++ [q]))
theorem hm_G.inb {V : gh_V} {o k : Nat} {g g1 : gh_G} {m ck : Nat} {D : HD} {sz q i : Nat} (h : hm_G V o k g m ck D sz (some q)) {nx T : Nat → Option Nat} (hn : D.n ≠ 0) (hi : hm_sp (D.C q) % D.n = i) (hq : q ∈ D.L) (hq14 : D.ci q = 14 ∧ D.ex q = []) (hpl : ∀ a, a ∈ D.B i → D.ci a = 14 ∧ D.ex a = [])
    (hT : ∀ j, j ≠ i → T j = D.T j) (hnx : ∀ a, a ∈ D.L → a ∉ D.B i → a ≠ q → nx a = D.nx a) (hch : hm_ch nx (T i) (D.B i ++ [q]))
    (hm : g1 m = g m) (htb : g1 D.tb = some ((o, k, 1), aq V 9 D.n T))
    (hN : ∀ a, a ∈ D.L → g1 a = some ((o, k, 2), oo (D.ci a) (.int (nI (hm_sp (D.C a))) :: .ref (D.K a) :: va_rf (D.v a) :: va_rf (nx a) :: va_rf (pvL D.L a) :: va_rf (scL D.L a) :: D.ex a)))
    (hfr : ∀ b, b ≠ D.tb → b ∉ D.L → g1 b = g b) : hm_G V o k g1 m ck (hd_in D i q nx T) sz none ∧ gh_fk o k g g1 := by
  have hil : i < D.n := by rw [← hi]; exact hm_idxlt hn
  have hf : gh_fk o k g g1 := fun b t x hb ht => by
    obtain ⟨h1, h2⟩ := h.sep hb ht
    rw [hfr b (fun e => by rw [e, h.ct hn] at hb; cases hb; exact ht ⟨rfl, rfl⟩) h2]; exact hb
  have oth : ∀ {b : Nat} {n : Nat} {x : gh_E}, g b = some ((o, k, n), x) → n ≠ 1 → n ≠ 2 → g1 b = some ((o, k, n), x) := fun {b n x} hb h1 h2 => by
    rw [hfr b (fun e => by rw [e, h.ct hn] at hb; cases hb; exact h1 rfl) (fun e => by rw [h.cn b e] at hb; cases hb; exact h2 rfl)]; exact hb
  have hqB : ∀ j, j < D.n → q ∉ D.B j := fun j hj e => ((h.bm j hj q).mp e).2.1 rfl
  have hB : ∀ j, j ≠ i → fuN D.B i (D.B i ++ [q]) j = D.B j := fun j e => fuN_ne e
  refine ⟨⟨by rw [hm]; exact h.cm, fun _ => htb, hN, fun a ha => (h.ky a ha).fk hf h.k10, h.nd, h.inj, fun j hj => ?_, fun j hj => ?_, fun j hj a => ?_, fun e => absurd e hn, h.pw, fun j hj => ?_, h.md, h.len, h.k10, fun x e => oth (h.vw.1 x e) (by decide) (by decide), fun x e => oth (h.vw.2.1 x e) (by decide) (by decide), fun x e => oth (h.vw.2.2 x e) (by decide) (by decide)⟩, hf⟩
  · show hm_ch nx (T j) (fuN D.B i (D.B i ++ [q]) j)
    by_cases e : j = i
    · rw [e, fuN_self]; exact hch
    · rw [hB j e, hT j e]
      refine (h.ch j hj).congr fun a ha => hnx a (h.mem hj ha) (fun e2 => e ?_) (fun e2 => hqB j hj (e2 ▸ ha))
      exact ((h.bm j hj a).mp ha).2.2.symm.trans ((h.bm i hil a).mp e2).2.2
  · show (fuN D.B i (D.B i ++ [q]) j).Nodup
    by_cases e : j = i
    · rw [e, fuN_self]
      exact List.nodup_append.mpr ⟨h.bn i hil, List.nodup_cons.mpr ⟨by simp, List.nodup_nil⟩, fun a ha b hb e2 => by rw [List.mem_singleton.mp hb] at e2; exact hqB i hil (e2 ▸ ha)⟩
    · rw [hB j e]; exact h.bn j hj
  · show a ∈ fuN D.B i (D.B i ++ [q]) j ↔ a ∈ D.L ∧ ¬ none = some a ∧ hm_sp (D.C a) % D.n = j
    by_cases e : j = i
    · rw [e, fuN_self, List.mem_append, h.bm i hil a, List.mem_singleton]
      constructor
      · rintro (⟨h1, h2, h3⟩ | rfl)
        · exact ⟨h1, (fun e => by cases e), h3⟩
        · exact ⟨hq, (fun e => by cases e), hi⟩
      · intro ⟨h1, _, h3⟩
        by_cases e2 : a = q
        · exact Or.inr e2
        · exact Or.inl ⟨h1, fun e3 => e2 (Option.some.inj e3).symm, h3⟩
    · rw [hB j e, h.bm j hj a]
      constructor
      · intro ⟨h1, _, h3⟩; exact ⟨h1, (fun e => by cases e), h3⟩
      · intro ⟨h1, _, h3⟩
        exact ⟨h1, fun e3 => e (by rw [← h3, ← Option.some.inj e3, hi]), h3⟩
  · by_cases e : j = i
    · refine Or.inl fun a ha => ?_
      have ha : a ∈ fuN D.B i (D.B i ++ [q]) j := ha
      rw [e, fuN_self] at ha
      rcases List.mem_append.mp ha with ha | ha
      · exact hpl a ha
      · rw [List.mem_singleton.mp ha]; exact hq14
    · rcases h.bin j hj with h9 | h9
      · refine Or.inl fun a ha => h9 a ?_
        have ha : a ∈ fuN D.B i (D.B i ++ [q]) j := ha
        rw [hB j e] at ha; exact ha
      · refine Or.inr ?_
        obtain ⟨h1, h2, d, tl, h3, h4, h5⟩ := h9
        refine ⟨h1, ?_, d, tl, ?_, h4, ?_⟩
        · show ∀ a, a ∈ fuN D.B i (D.B i ++ [q]) j → D.ci a = 15
          rw [hB j e]; exact h2
        · show ∀ a, a ∈ tl ↔ a ∈ fuN D.B i (D.B i ++ [q]) j
          rw [hB j e]; exact h3
        · show tr_T D.ex (pvL (fuN D.B i (D.B i ++ [q]) j)) d none (fuN D.B i (D.B i ++ [q]) j).head? tl
          rw [hB j e]; exact h5
theorem hm_ch.snoc {nx nx' : Nat → Option Nat} {p : Option Nat} {l : List Nat} {t q : Nat} (h : hm_ch nx p (l ++ [t])) (he : ∀ a, a ∈ l → nx' a = nx a) (ht : nx' t = some q) (hq : nx' q = none) : hm_ch nx' p (l ++ [t] ++ [q]) := by
  induction l generalizing p with
  | nil => exact ⟨h.1, ht, hq⟩
  | cons a l ih =>
    refine ⟨h.1, ?_⟩
    rw [he a List.mem_cons_self]
    exact ih h.2 (fun b hb => he b (List.mem_cons_of_mem _ hb))
/-- a new value at node b -/
def hd_val (D : HD) (b : Nat) (y : Option Nat) : HD := (D.1, (D.L, D.C, D.K, va_up D.v b y), D.2.2)
theorem hm_G.val {V : gh_V} {o k : Nat} {g g1 : gh_G} {m ck : Nat} {D : HD} {sz b : Nat} {X : Option Nat} (h : hm_G V o k g m ck D sz X) {y : Option Nat} (hb : b ∈ D.L)
    (hN : ∀ a, a ∈ D.L → g1 a = some ((o, k, 2), oo (D.ci a) (.int (nI (hm_sp (D.C a))) :: .ref (D.K a) :: va_rf (va_up D.v b y a) :: va_rf (D.nx a) :: va_rf (pvL D.L a) :: va_rf (scL D.L a) :: D.ex a)))
    (hfr : ∀ a, a ≠ b → g1 a = g a) : hm_G V o k g1 m ck (hd_val D b y) sz X ∧ gh_fk o k g g1 := by
  have e0 : ∀ {a n x}, g a = some ((o, k, n), x) → n ≠ 2 → g1 a = some ((o, k, n), x) := fun {a n x} ha hn => by
    rw [hfr a (fun e => by rw [e, h.cn b hb] at ha; cases ha; exact hn rfl)]; exact ha
  have hf : gh_fk o k g g1 := fun a t x ha ht => by
    rw [hfr a (fun e => by rw [e, h.cn b hb] at ha; cases ha; exact ht ⟨rfl, rfl⟩)]; exact ha
  exact ⟨⟨e0 h.cm (by decide), fun hn => e0 (h.ct hn) (by decide), hN, fun a ha => (h.ky a ha).fk hf h.k10, h.nd, h.inj, h.ch, h.bn, h.bm, h.z, h.pw, h.bin, h.md, h.len, h.k10, fun x e => e0 (h.vw.1 x e) (by decide), fun x e => e0 (h.vw.2.1 x e) (by decide), fun x e => e0 (h.vw.2.2 x e) (by decide)⟩, hf⟩
def lm_put (M : List (Nat × Nat × Option Nat)) (c ka : Nat) (v : Option Nat) : List (Nat × Nat × Option Nat) := if M.any (fun e => e.1 == c) then M.map (fun e => if e.1 = c then (e.1, e.2.1, v) else e) else M ++ [(c, ka, v)]
theorem hm_M_none {D : HD} {c : Nat} (h : ∀ b, b ∈ D.L → D.C b ≠ c) : (hm_M D).any (fun e => e.1 == c) = false := by
  rw [List.any_eq_false]
  intro e he
  obtain ⟨a, ha, rfl⟩ := List.mem_map.mp he
  simp [h a ha]
theorem hm_M_some {D : HD} {b c : Nat} (h : b ∈ D.L) (hc : D.C b = c) : (hm_M D).any (fun e => e.1 == c) = true := by
  rw [List.any_eq_true]
  exact ⟨_, List.mem_map.mpr ⟨b, h, rfl⟩, by simp [hc]⟩
theorem hm_M_val {D : HD} {b c ka : Nat} {y : Option Nat} (h : b ∈ D.L) (hc : D.C b = c) (hinj : ∀ a, a ∈ D.L → ∀ b, b ∈ D.L → D.C a = D.C b → a = b) : hm_M (hd_val D b y) = lm_put (hm_M D) c ka y := by
  unfold lm_put
  rw [if_pos (hm_M_some h hc)]
  unfold hm_M
  rw [List.map_map]
  refine List.map_congr_left fun a ha => ?_
  show (D.C a, D.K a, va_up D.v b y a) = if D.C a = c then (D.C a, D.K a, y) else (D.C a, D.K a, D.v a)
  by_cases e : a = b
  · rw [e, va_up_self, if_pos hc]
  · rw [va_up_ne _ _ e, if_neg (fun e2 => e (hinj a ha b h (e2.trans hc.symm)))]
/-- at a table of 64 or more no bin of pieces' keys has more than four -/
theorem pg_9 {V : gh_V} {o k : Nat} {g : gh_G} {m : Nat} {D : HD} {sz : Nat} {X : Option Nat} (h : hm_G V o k g m 9 D sz X) {i : Nat} (hi : i < D.n) (h64 : 64 ≤ D.n) : (D.B i).length ≤ 4 := by
  have key : ∀ (l : List Nat), l.Nodup → (∀ x, x ∈ l → x < 4) → l.length ≤ 4 := by
    intro l hn hl
    have h1 : ∀ n (l : List Nat), l.Nodup → (∀ x, x ∈ l → x < n) → l.length ≤ n := by
      intro n
      induction n with
      | zero =>
        intro l _ hl
        cases l with
        | nil => exact Nat.le_refl _
        | cons a l => exact absurd (hl a List.mem_cons_self) (Nat.not_lt_zero _)
      | succ n ih =>
        intro l hn hl
        have h2 := ih (l.erase n) (hn.erase n) (fun x hx => by
          have h3 := hl x (List.mem_of_mem_erase hx)
          have h4 : x ≠ n := fun e => by rw [e] at hx; exact hn.not_mem_erase hx
          omega)
        have h5 : l.length ≤ (l.erase n).length + 1 := by
          rw [List.length_erase]
          split
          · omega
          · omega
        omega
    exact h1 4 l hn hl
  have hlt : ∀ a, a ∈ D.B i → D.C a < 240 := fun a ha => by
    obtain ⟨u, w, -, h1 | h1⟩ := h.ky a (h.mem hi ha)
    · omega
    · exact absurd h1.1 (by decide)
  have hsp : ∀ a, a ∈ D.B i → hm_sp (D.C a) = D.C a := fun a ha => hm_sp_lo (Nat.lt_trans (hlt a ha) (by decide))
  have h3 := key ((D.B i).map (fun a => D.C a / D.n)) (by
    rw [List.nodup_iff_pairwise_ne, List.pairwise_map]
    refine (List.nodup_iff_pairwise_ne.mp (h.bn i hi)).imp_of_mem fun {a b} ha hb hne e => hne ?_
    have ea := ((h.bm i hi a).mp ha).2.2
    have eb := ((h.bm i hi b).mp hb).2.2
    rw [hsp a ha] at ea; rw [hsp b hb] at eb
    refine h.inj a (h.mem hi ha) b (h.mem hi hb) ?_
    rw [← Nat.div_add_mod (D.C a) D.n, ← Nat.div_add_mod (D.C b) D.n, ea, eb]
    rw [show D.C a / D.n = D.C b / D.n from e]) (fun x hx => by
    obtain ⟨a, ha, rfl⟩ := List.mem_map.mp hx
    have := hlt a ha
    exact Nat.div_lt_of_lt_mul (by omega))
  rw [List.length_map] at h3
  exact h3
