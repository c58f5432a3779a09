/-! LINKEDHASHMAP: what its cells hold -/
/-- a tree of height at most d, its root r below parent p, its nodes in order l; the tree's own fields: parent, left, right, prev, red -/
def tr_T (ex : Nat → List Value) (pv : Nat → Option Nat) : Nat → Option Nat → Option Nat → List Nat → Prop
  | 0, _, r, l => r = none ∧ l = []
  | d + 1, p, r, l => (r = none ∧ l = []) ∨ ∃ (a : Nat) (x y : Option Nat) (la lb : List Nat) (red : Int32), r = some a ∧ l = la ++ a :: lb ∧ (red = 0 ∨ red = 1) ∧ ex a = [va_rf p, va_rf x, va_rf y, va_rf (pv a), .int red] ∧ tr_T ex pv d (some a) x la ∧ tr_T ex pv d (some a) y lb
abbrev HD : Type := (Nat × Nat × Nat × Int32 × Option Nat × Option Nat × Option Nat) × (List Nat × (Nat → Nat) × (Nat → Nat) × (Nat → Option Nat)) × (Nat → Nat) × (Nat → Option Nat) × (Nat → List Value) × (Nat → Option Nat) × (Nat → List Nat)
abbrev HD.n (D : HD) : Nat := D.1.1
abbrev HD.tb (D : HD) : Nat := D.1.2.1
abbrev HD.th (D : HD) : Nat := D.1.2.2.1
abbrev HD.mc (D : HD) : Int32 := D.1.2.2.2.1
abbrev HD.es (D : HD) : Option Nat := D.1.2.2.2.2.1
abbrev HD.ks (D : HD) : Option Nat := D.1.2.2.2.2.2.1
abbrev HD.vs (D : HD) : Option Nat := D.1.2.2.2.2.2.2
abbrev HD.L (D : HD) : List Nat := D.2.1.1
abbrev HD.C (D : HD) : Nat → Nat := D.2.1.2.1
abbrev HD.K (D : HD) : Nat → Nat := D.2.1.2.2.1
abbrev HD.v (D : HD) : Nat → Option Nat := D.2.1.2.2.2
abbrev HD.ci (D : HD) : Nat → Nat := D.2.2.1
abbrev HD.nx (D : HD) : Nat → Option Nat := D.2.2.2.1
abbrev HD.ex (D : HD) : Nat → List Value := D.2.2.2.2.1
abbrev HD.T (D : HD) : Nat → Option Nat := D.2.2.2.2.2.1
abbrev HD.B (D : HD) : Nat → List Nat := D.2.2.2.2.2.2
/-- bin i is a tree -/
def hm_tr (D : HD) (i : Nat) : Prop := 64 ≤ D.n ∧ (∀ a, a ∈ D.B i → D.ci a = 15) ∧ ∃ (d : Nat) (tl : List Nat), (∀ a, a ∈ tl ↔ a ∈ D.B i) ∧ tl.Pairwise (fun a b => hm_sp (D.C a) < hm_sp (D.C b)) ∧ tr_T D.ex (pvL (D.B i)) d none (D.B i).head? tl
/-- a bin's nodes are all plain, or a tree -/
def hm_bin (D : HD) (i : Nat) : Prop := (∀ a, a ∈ D.B i → D.ci a = 14 ∧ D.ex a = []) ∨ hm_tr D i
abbrev hm_tab (D : HD) : Option Nat := if D.n = 0 then none else some D.tb
/-- what a map's cells hold: D; sz: the count in its field; X: a node that is linked and in no bin -/
def hm_G (V : gh_V) (o k : Nat) (g : gh_G) (m ck : Nat) (D : HD) (sz : Nat) (X : Option Nat) : Prop :=
  (g m = some ((o, k, 0), oo 13 [va_rf (hm_tab D), va_rf D.es, .int (nI sz), .int D.mc, .int (nI D.th), .float 1061158912, va_rf D.ks, va_rf D.vs, va_rf D.L.head?, va_rf D.L.getLast?, .int 0, .int 0])) ∧
  (D.n ≠ 0 → g D.tb = some ((o, k, 1), aq V 9 D.n D.T)) ∧
  (∀ a, a ∈ D.L → g a = some ((o, k, 2), oo (D.ci a) (.int (nI (hm_sp (D.C a))) :: .ref (D.K a) :: va_rf (D.v a) :: va_rf (D.nx a) :: va_rf (pvL D.L a) :: va_rf (scL D.L a) :: D.ex a))) ∧
  (∀ a, a ∈ D.L → ky_P V g ck (D.K a) (D.C a)) ∧
  (D.L.Nodup) ∧
  (∀ a, a ∈ D.L → ∀ b, b ∈ D.L → D.C a = D.C b → a = b) ∧
  (∀ i, i < D.n → hm_ch D.nx (D.T i) (D.B i)) ∧
  (∀ i, i < D.n → (D.B i).Nodup) ∧
  (∀ i, i < D.n → ∀ a, a ∈ D.B i ↔ a ∈ D.L ∧ ¬ X = some a ∧ hm_sp (D.C a) % D.n = i) ∧
  (D.n = 0 → D.L = [] ∧ (D.th = 0 ∨ ∃ j, 1 ≤ j ∧ j ≤ 9 ∧ D.th = 2 ^ j)) ∧
  (D.n ≠ 0 → (∃ j, 1 ≤ j ∧ j ≤ 9 ∧ D.n = 2 ^ j) ∧ D.th = 3 * D.n / 4) ∧
  (∀ i, i < D.n → hm_bin D i) ∧
  ((∀ a, a ∈ D.L → D.ci a = 14) ∨ D.L.length ≤ 16) ∧
  (D.L.length ≤ 240 ∧ ∀ a, a ∈ D.L → D.ci a = 14 ∨ D.ci a = 15) ∧
  (10 ≤ k) ∧
  ((∀ q, D.es = some q → g q = some ((o, k, 4), oo 24 [.int 0, .ref m])) ∧ (∀ q, D.ks = some q → g q = some ((o, k, 5), oo 22 [.int 0, .ref m])) ∧ (∀ q, D.vs = some q → g q = some ((o, k, 6), oo 23 [.int 0, .ref m])))
def hm_I (V : gh_V) (o k : Nat) (g : gh_G) (m ck : Nat) (D : HD) : Prop := hm_G V o k g m ck D D.L.length none ∧ (D.n ≠ 0 → D.L.length ≤ D.th)
theorem hm_G.cm {V : gh_V} {o k : Nat} {g : gh_G} {m ck : Nat} {D : HD} {sz : Nat} {X : Option Nat} (h : hm_G V o k g m ck D sz X) : g m = some ((o, k, 0), oo 13 [va_rf (hm_tab D), va_rf D.es, .int (nI sz), .int D.mc, .int (nI D.th), .float 1061158912, va_rf D.ks, va_rf D.vs, va_rf D.L.head?, va_rf D.L.getLast?, .int 0, .int 0]) := h.1
theorem hm_G.ct {V : gh_V} {o k : Nat} {g : gh_G} {m ck : Nat} {D : HD} {sz : Nat} {X : Option Nat} (h : hm_G V o k g m ck D sz X) : D.n ≠ 0 → g D.tb = some ((o, k, 1), aq V 9 D.n D.T) := h.2.1
theorem hm_G.cn {V : gh_V} {o k : Nat} {g : gh_G} {m ck : Nat} {D : HD} {sz : Nat} {X : Option Nat} (h : hm_G V o k g m ck D sz X) : ∀ a, a ∈ D.L → g a = some ((o, k, 2), oo (D.ci a) (.int (nI (hm_sp (D.C a))) :: .ref (D.K a) :: va_rf (D.v a) :: va_rf (D.nx a) :: va_rf (pvL D.L a) :: va_rf (scL D.L a) :: D.ex a)) := h.2.2.1
theorem hm_G.ky {V : gh_V} {o k : Nat} {g : gh_G} {m ck : Nat} {D : HD} {sz : Nat} {X : Option Nat} (h : hm_G V o k g m ck D sz X) : ∀ a, a ∈ D.L → ky_P V g ck (D.K a) (D.C a) := h.2.2.2.1
theorem hm_G.nd {V : gh_V} {o k : Nat} {g : gh_G} {m ck : Nat} {D : HD} {sz : Nat} {X : Option Nat} (h : hm_G V o k g m ck D sz X) : D.L.Nodup := h.2.2.2.2.1
theorem hm_G.inj {V : gh_V} {o k : Nat} {g : gh_G} {m ck : Nat} {D : HD} {sz : Nat} {X : Option Nat} (h : hm_G V o k g m ck D sz X) : ∀ a, a ∈ D.L → ∀ b, b ∈ D.L → D.C a = D.C b → a = b := h.2.2.2.2.2.1
theorem hm_G.ch {V : gh_V} {o k : Nat} {g : gh_G} {m ck : Nat} {D : HD} {sz : Nat} {X : Option Nat} (h : hm_G V o k g m ck D sz X) : ∀ i, i < D.n → hm_ch D.nx (D.T i) (D.B i) := h.2.2.2.2.2.2.1
theorem hm_G.bn {V : gh_V} {o k : Nat} {g : gh_G} {m ck : Nat} {D : HD} {sz : Nat} {X : Option Nat} (h : hm_G V o k g m ck D sz X) : ∀ i, i < D.n → (D.B i).Nodup := h.2.2.2.2.2.2.2.1
theorem hm_G.bm {V : gh_V} {o k : Nat} {g : gh_G} {m ck : Nat} {D : HD} {sz : Nat} {X : Option Nat} (h : hm_G V o k g m ck D sz X) : ∀ i, i < D.n → ∀ a, a ∈ D.B i ↔ a ∈ D.L ∧ ¬ X = some a ∧ hm_sp (D.C a) % D.n = i := h.2.2.2.2.2.2.2.2.1
theorem hm_G.z {V : gh_V} {o k : Nat} {g : gh_G} {m ck : Nat} {D : HD} {sz : Nat} {X : Option Nat} (h : hm_G V o k g m ck D sz X) : D.n = 0 → D.L = [] ∧ (D.th = 0 ∨ ∃ j, 1 ≤ j ∧ j ≤ 9 ∧ D.th = 2 ^ j) := h.2.2.2.2.2.2.2.2.2.1
theorem hm_G.pw {V : gh_V} {o k : Nat} {g : gh_G} {m ck : Nat} {D : HD} {sz : Nat} {X : Option Nat} (h : hm_G V o k g m ck D sz X) : D.n ≠ 0 → (∃ j, 1 ≤ j ∧ j ≤ 9 ∧ D.n = 2 ^ j) ∧ D.th = 3 * D.n / 4 := h.2.2.2.2.2.2.2.2.2.2.1
theorem hm_G.bin {V : gh_V} {o k : Nat} {g : gh_G} {m ck : Nat} {D : HD} {sz : Nat} {X : Option Nat} (h : hm_G V o k g m ck D sz X) : ∀ i, i < D.n → hm_bin D i := h.2.2.2.2.2.2.2.2.2.2.2.1
theorem hm_G.md {V : gh_V} {o k : Nat} {g : gh_G} {m ck : Nat} {D : HD} {sz : Nat} {X : Option Nat} (h : hm_G V o k g m ck D sz X) : (∀ a, a ∈ D.L → D.ci a = 14) ∨ D.L.length ≤ 16 := h.2.2.2.2.2.2.2.2.2.2.2.2.1
theorem hm_G.len {V : gh_V} {o k : Nat} {g : gh_G} {m ck : Nat} {D : HD} {sz : Nat} {X : Option Nat} (h : hm_G V o k g m ck D sz X) : D.L.length ≤ 240 ∧ ∀ a, a ∈ D.L → D.ci a = 14 ∨ D.ci a = 15 := h.2.2.2.2.2.2.2.2.2.2.2.2.2.1
theorem hm_G.k10 {V : gh_V} {o k : Nat} {g : gh_G} {m ck : Nat} {D : HD} {sz : Nat} {X : Option Nat} (h : hm_G V o k g m ck D sz X) : 10 ≤ k := h.2.2.2.2.2.2.2.2.2.2.2.2.2.2.1
theorem hm_G.vw {V : gh_V} {o k : Nat} {g : gh_G} {m ck : Nat} {D : HD} {sz : Nat} {X : Option Nat} (h : hm_G V o k g m ck D sz X) : (∀ q, D.es = some q → g q = some ((o, k, 4), oo 24 [.int 0, .ref m])) ∧ (∀ q, D.ks = some q → g q = some ((o, k, 5), oo 22 [.int 0, .ref m])) ∧ (∀ q, D.vs = some q → g q = some ((o, k, 6), oo 23 [.int 0, .ref m])) := h.2.2.2.2.2.2.2.2.2.2.2.2.2.2.2
theorem hm_I.cm {V : gh_V} {o k : Nat} {g : gh_G} {m ck : Nat} {D : HD} (h : hm_I V o k g m ck D) : g m = some ((o, k, 0), oo 13 [va_rf (hm_tab D), va_rf D.es, .int (nI D.L.length), .int D.mc, .int (nI D.th), .float 1061158912, va_rf D.ks, va_rf D.vs, va_rf D.L.head?, va_rf D.L.getLast?, .int 0, .int 0]) := h.1.cm
theorem hm_I.ct {V : gh_V} {o k : Nat} {g : gh_G} {m ck : Nat} {D : HD} (h : hm_I V o k g m ck D) : D.n ≠ 0 → g D.tb = some ((o, k, 1), aq V 9 D.n D.T) := h.1.ct
theorem hm_I.cn {V : gh_V} {o k : Nat} {g : gh_G} {m ck : Nat} {D : HD} (h : hm_I V o k g m ck D) : ∀ a, a ∈ D.L → g a = some ((o, k, 2), oo (D.ci a) (.int (nI (hm_sp (D.C a))) :: .ref (D.K a) :: va_rf (D.v a) :: va_rf (D.nx a) :: va_rf (pvL D.L a) :: va_rf (scL D.L a) :: D.ex a)) := h.1.cn
theorem hm_I.ky {V : gh_V} {o k : Nat} {g : gh_G} {m ck : Nat} {D : HD} (h : hm_I V o k g m ck D) : ∀ a, a ∈ D.L → ky_P V g ck (D.K a) (D.C a) := h.1.ky
theorem hm_I.nd {V : gh_V} {o k : Nat} {g : gh_G} {m ck : Nat} {D : HD} (h : hm_I V o k g m ck D) : D.L.Nodup := h.1.nd
theorem hm_I.inj {V : gh_V} {o k : Nat} {g : gh_G} {m ck : Nat} {D : HD} (h : hm_I V o k g m ck D) : ∀ a, a ∈ D.L → ∀ b, b ∈ D.L → D.C a = D.C b → a = b := h.1.inj
theorem hm_I.ch {V : gh_V} {o k : Nat} {g : gh_G} {m ck : Nat} {D : HD} (h : hm_I V o k g m ck D) : ∀ i, i < D.n → hm_ch D.nx (D.T i) (D.B i) := h.1.ch
theorem hm_I.bn {V : gh_V} {o k : Nat} {g : gh_G} {m ck : Nat} {D : HD} (h : hm_I V o k g m ck D) : ∀ i, i < D.n → (D.B i).Nodup := h.1.bn
theorem hm_I.bm {V : gh_V} {o k : Nat} {g : gh_G} {m ck : Nat} {D : HD} (h : hm_I V o k g m ck D) : ∀ i, i < D.n → ∀ a, a ∈ D.B i ↔ a ∈ D.L ∧ hm_sp (D.C a) % D.n = i := fun i hi a => (h.1.bm i hi a).trans ⟨fun q => ⟨q.1, q.2.2⟩, fun q => ⟨q.1, (fun e => by cases e), q.2⟩⟩
theorem hm_I.z {V : gh_V} {o k : Nat} {g : gh_G} {m ck : Nat} {D : HD} (h : hm_I V o k g m ck D) : D.n = 0 → D.L = [] ∧ (D.th = 0 ∨ ∃ j, 1 ≤ j ∧ j ≤ 9 ∧ D.th = 2 ^ j) := h.1.z
theorem hm_I.pw {V : gh_V} {o k : Nat} {g : gh_G} {m ck : Nat} {D : HD} (h : hm_I V o k g m ck D) : D.n ≠ 0 → (∃ j, 1 ≤ j ∧ j ≤ 9 ∧ D.n = 2 ^ j) ∧ D.th = 3 * D.n / 4 ∧ D.L.length ≤ D.th := fun hn => ⟨(h.1.pw hn).1, (h.1.pw hn).2, h.2 hn⟩
theorem hm_I.bin {V : gh_V} {o k : Nat} {g : gh_G} {m ck : Nat} {D : HD} (h : hm_I V o k g m ck D) : ∀ i, i < D.n → hm_bin D i := h.1.bin
theorem hm_I.md {V : gh_V} {o k : Nat} {g : gh_G} {m ck : Nat} {D : HD} (h : hm_I V o k g m ck D) : (∀ a, a ∈ D.L → D.ci a = 14) ∨ D.L.length ≤ 16 := h.1.md
theorem hm_I.len {V : gh_V} {o k : Nat} {g : gh_G} {m ck : Nat} {D : HD} (h : hm_I V o k g m ck D) : D.L.length ≤ 240 ∧ ∀ a, a ∈ D.L → D.ci a = 14 ∨ D.ci a = 15 := h.1.len
theorem hm_I.k10 {V : gh_V} {o k : Nat} {g : gh_G} {m ck : Nat} {D : HD} (h : hm_I V o k g m ck D) : 10 ≤ k := h.1.k10
theorem hm_I.vw {V : gh_V} {o k : Nat} {g : gh_G} {m ck : Nat} {D : HD} (h : hm_I V o k g m ck D) : (∀ q, D.es = some q → g q = some ((o, k, 4), oo 24 [.int 0, .ref m])) ∧ (∀ q, D.ks = some q → g q = some ((o, k, 5), oo 22 [.int 0, .ref m])) ∧ (∀ q, D.vs = some q → g q = some ((o, k, 6), oo 23 [.int 0, .ref m])) := h.1.vw
theorem hm_idx9 {x y : Int32} {n j h i : Nat} (hx : x = nI (n - 1)) (hy : y = nI h) (hn : n = 2 ^ j) (hi : h % n = i) : x &&& y = nI i := by rw [hx, hy, hm_idx hn, hi]
theorem hm_I.spl {V : gh_V} {o k : Nat} {g : gh_G} {m ck : Nat} {D : HD} (h : hm_I V o k g m ck D) {a : Nat} (ha : a ∈ D.L) : hm_sp (D.C a) < 131072 := hm_sp_lt (Nat.lt_trans (h.ky a ha).lt (by decide))
def hm_find (D : HD) (c : Nat) (r : Option Nat) : Prop := (∃ b, b ∈ D.L ∧ D.C b = c ∧ r = some b) ∨ ((∀ b, b ∈ D.L → D.C b ≠ c) ∧ r = none)
theorem pow2_lt {j : Nat} (h : j ≤ 9) : 2 ^ j ≤ 512 := Nat.pow_le_pow_right (by decide) h
theorem hm_I.nlt {V : gh_V} {o k : Nat} {g : gh_G} {m ck : Nat} {D : HD} (h : hm_I V o k g m ck D) : D.n ≤ 512 := by
  rcases Nat.eq_zero_or_pos D.n with e | e
  · omega
  · obtain ⟨⟨j, -, h1, h2⟩, -⟩ := h.pw (by omega)
    have := pow2_lt h1
    omega
theorem hm_I.ci2 {V : gh_V} {o k : Nat} {g : gh_G} {m ck : Nat} {D : HD} (h : hm_I V o k g m ck D) {a : Nat} (ha : a ∈ D.L) : D.ci a = 14 ∨ D.ci a = 15 := h.1.len.2 a ha
theorem hm_G.ci2 {V : gh_V} {o k : Nat} {g : gh_G} {m ck : Nat} {D : HD} {sz : Nat} {X : Option Nat} (h : hm_G V o k g m ck D sz X) {a : Nat} (ha : a ∈ D.L) : D.ci a = 14 ∨ D.ci a = 15 := h.len.2 a ha
theorem hm_I.mem {V : gh_V} {o k : Nat} {g : gh_G} {m ck : Nat} {D : HD} (h : hm_I V o k g m ck D) {i a : Nat} (hi : i < D.n) (ha : a ∈ D.B i) : a ∈ D.L := ((h.bm i hi a).mp ha).1
theorem hm_I.clt {V : gh_V} {o k : Nat} {g : gh_G} {m ck : Nat} {D : HD} (h : hm_I V o k g m ck D) {a : Nat} (ha : a ∈ D.L) : D.C a < 80000 := (h.ky a ha).lt
/-- not in the bin, not in the map -/
theorem hm_I.none {V : gh_V} {o k : Nat} {g : gh_G} {m ck : Nat} {D : HD} (h : hm_I V o k g m ck D) {i c : Nat} (hi : i < D.n) (hc : hm_sp c % D.n = i) (hb : ∀ a, a ∈ D.B i → D.C a ≠ c) : ∀ b, b ∈ D.L → D.C b ≠ c := fun b hb9 e => hb b ((h.bm i hi b).mpr ⟨hb9, by rw [e, hc]⟩) e
theorem hm_idxlt {n c : Nat} (hn : n ≠ 0) : hm_sp c % n < n := Nat.mod_lt _ (Nat.pos_of_ne_zero hn)
def tg_S (l : Launch) (V : gh_V) : Prop := ∀ (g0 : gh_G) (o k m ck : Nat) (D : HD) (i a c x : Nat), hm_I V o k g0 m ck D → i < D.n → (D.B i).head? = some a → D.ci a = 15 → hm_sp c % D.n = i → ky_P V g0 ck x c →
  MR l yJ39_getTreeNode cJ39_getTreeNode 3 (some (.object "java/util/HashMap$TreeNode")) ({ frames := 8, cells := 0, slots := 0, locals := 300 } : Room) V [.ref a, .int (nI (hm_sp c)), .ref x] g0 (fun r g1 => hm_find D c r ∧ g1 = g0)
theorem hm_G.nlt {V : gh_V} {o k : Nat} {g : gh_G} {m ck : Nat} {D : HD} {sz : Nat} {X : Option Nat} (h : hm_G V o k g m ck D sz X) : D.n ≤ 512 := by
  rcases Nat.eq_zero_or_pos D.n with e | e
  · omega
  · obtain ⟨⟨j, -, h1, h2⟩, -⟩ := h.pw (by omega)
    have := pow2_lt h1
    omega
theorem hm_G.spl {V : gh_V} {o k : Nat} {g : gh_G} {m ck : Nat} {D : HD} {sz : Nat} {X : Option Nat} (h : hm_G V o k g m ck D sz X) {a : Nat} (ha : a ∈ D.L) : hm_sp (D.C a) < 131072 := hm_sp_lt (Nat.lt_trans (h.ky a ha).lt (by decide))
theorem hm_G.mem {V : gh_V} {o k : Nat} {g : gh_G} {m ck : Nat} {D : HD} {sz : Nat} {X : Option Nat} (h : hm_G V o k g m ck D sz X) {i a : Nat} (hi : i < D.n) (ha : a ∈ D.B i) : a ∈ D.L := ((h.bm i hi a).mp ha).1
theorem hm_G.clt {V : gh_V} {o k : Nat} {g : gh_G} {m ck : Nat} {D : HD} {sz : Nat} {X : Option Nat} (h : hm_G V o k g m ck D sz X) {a : Nat} (ha : a ∈ D.L) : D.C a < 80000 := (h.ky a ha).lt
set_option maxRecDepth 100000
theorem fJ4_105_13 : gh_fd RJ4 105 13 0 (.array (.object "java/util/HashMap$Node")) false := gh_fd.own (T := TJ5) tyJ5 rfl in_J5 tyJ5_ok nmJ5 (by decide) q244 rfl rfl (fun h => by cases h)
theorem fJ4_177_14 : gh_fd RJ4 177 14 3 (.object "java/util/HashMap$Node") false := gh_fd.own (T := TJ36) tyJ36 rfl in_J36 tyJ36_ok nmJ36 (by decide) q1875 rfl rfl (fun h => by cases h)
theorem fJ4_177_15 : gh_fd RJ4 177 15 3 (.object "java/util/HashMap$Node") false := gh_fd.own (T := TJ39) tyJ39 rfl in_J39 tyJ39_ok nmJ39 (by decide) q1875 rfl rfl (fun h => by cases h)
theorem rfJ4_168_14 : gh_fdr RJ4 168 14 0 := gh_fdr.own (T := TJ36) rfl in_J36 (by decide) q1856
theorem rfJ4_168_15 : gh_fdr RJ4 168 15 0 := gh_fdr.own (T := TJ39) rfl in_J39 (by decide) q1856
theorem rfJ4_170_14 : gh_fdr RJ4 170 14 1 := gh_fdr.own (T := TJ36) rfl in_J36 (by decide) q1863
theorem rfJ4_170_15 : gh_fdr RJ4 170 15 1 := gh_fdr.own (T := TJ39) rfl in_J39 (by decide) q1863
theorem fNJ4_177 {ci : Nat} (h : ci = 14 ∨ ci = 15) : gh_fd RJ4 177 ci 3 (.object "java/util/HashMap$Node") false := by
  rcases h with rfl | rfl
  · exact fJ4_177_14
  · exact fJ4_177_15
theorem rfNJ4_168 {ci : Nat} (h : ci = 14 ∨ ci = 15) : gh_fdr RJ4 168 ci 0 := by
  rcases h with rfl | rfl
  · exact rfJ4_168_14
  · exact rfJ4_168_15
theorem rfNJ4_170 {ci : Nat} (h : ci = 14 ∨ ci = 15) : gh_fdr RJ4 170 ci 1 := by
  rcases h with rfl | rfl
  · exact rfJ4_170_14
  · exact rfJ4_170_15
theorem hd_J39_getTreeNode : yJ39_getTreeNode.cls = RJ39 ∧ yJ39_getTreeNode.cls ≠ "java/lang/invoke/MethodHandle" ∧ yJ39_getTreeNode.cls ≠ "java/lang/invoke/VarHandle" ∧ (parseMethodDescriptor yJ39_getTreeNode.desc).map (fun d => d.parameters.length) = some 2 := by decide +kernel
theorem hd_J4_hash : yJ4_hash.cls = RJ4 ∧ yJ4_hash.cls ≠ "java/lang/invoke/MethodHandle" ∧ yJ4_hash.cls ≠ "java/lang/invoke/VarHandle" ∧ (parseMethodDescriptor yJ4_hash.desc).map (fun d => d.parameters.length) = some 1 := by decide +kernel
set_option maxHeartbeats 1000000 in
set_option maxRecDepth 100000 in
theorem j_J4_getNode (l : Launch) (V : gh_V) (g0 : gh_G) (hTG : tg_S l V) (o k m ck : Nat) (D : HD) (hI9 : hm_I V o k g0 m ck D) (x c9 : Nat) (hk9 : ky_P V g0 ck x c9) : MR l yJ4_getNode cJ4_getNode 8 (some (.object "java/util/HashMap$Node")) ({ frames := 9, cells := 0, slots := 0, locals := 322 } : Room) V [.ref m, .ref x] g0 (fun r g1 => hm_find D c9 r ∧ g1 = g0) := by
  refine MG.of RJ4 (by decide) rfl (Nat.le_of_ble_eq_true rfl) (fun pp ee s mm args below meth c ls hC hg hr hlk hnm hl => ?_)
  have hx := hC.1.1
  have hb := hC.1.2.1
  have hml := hC.1.2.2.1
  have hown := hC.1.2.2.2.1
  have hts := hC.1.2.2.2.2
  have hl : lv_has ls 8 [(0, .ref m), (1, .ref x)] := hl
  obtain ⟨g, hg, hgg⟩ : ∃ g, gh_W V (gh_A g0 s.heap.size) s g s.heap [] ∧ g = g0 := ⟨g0, hg, rfl⟩
  obtain ⟨bc, hcv⟩ : c9 < 80000 ∧ True := ⟨hk9.lt, trivial⟩
  have hI := hI9
  have hk90 := hk9
  rw [← hgg] at hI hk9
  have hnl := hI.nlt
  have hspc : hm_sp c9 < 131072 := hm_sp_lt (by omega)
  rcases Nat.eq_zero_or_pos D.n with hn0 | hn0
  · skip
    refine lv_aload_n hx hb dJ4_getNode_0 rfl (lv_at hl 0 rfl) ?_
    refine gh_get (v := va_rf (hm_tab D)) hC hg hI.cm fJ4_105_13 rfl dJ4_getNode_1 ?_
    refine lv_dup hx hb dJ4_getNode_4 (gh_cQ _) ?_
    refine lv_astore_nQ (lv' := [(2, va_rf (hm_tab D)), (0, .ref m), (1, .ref x)]) hx hb dJ4_getNode_5 rfl hl (by decide) rfl (fun ls hl => ?_)
    refine lv_ifnullQ (tgt := 148) hx hb dJ4_getNode_6 (by decide) (fun _ => ?_) (fun y_2 hq_1 => absurd (hq_1.symm.trans (show hm_tab D = none from if_pos hn0)) (by simp))
    rw [(show hm_tab D = none from if_pos hn0)] at hl
    have hl : lv_has ls 8 [(2, .null), (0, .ref m), (1, .ref x)] := hl
    refine lv_null hx hb dJ4_getNode_148 ?_
    exact gh_retq (r := none) (Or.inl ⟨_, rfl⟩) hC hg hr hlk (⟨Or.inr ⟨(fun b hb9 => by rw [(hI.z hn0).1] at hb9; cases hb9), rfl⟩, hgg⟩) dJ4_getNode_149 (Nat.le_of_ble_eq_true rfl) (Nat.le_of_ble_eq_true rfl)
  replace hn0 : D.n ≠ 0 := by omega
  obtain ⟨⟨j, hj1, hj2, hj⟩, hth, hle⟩ := hI.pw hn0
  have hi := hm_idxlt (c := c9) hn0
  generalize hie : hm_sp c9 % D.n = i at hi
  refine lv_aload_n hx hb dJ4_getNode_0 rfl (lv_at hl 0 rfl) ?_
  refine gh_get (v := va_rf (hm_tab D)) hC hg hI.cm fJ4_105_13 rfl dJ4_getNode_1 ?_
  refine lv_dup hx hb dJ4_getNode_4 (gh_cQ _) ?_
  refine lv_astore_nQ (lv' := [(2, va_rf (hm_tab D)), (0, .ref m), (1, .ref x)]) hx hb dJ4_getNode_5 rfl hl (by decide) rfl (fun ls hl => ?_)
  refine lv_ifnullQ (tgt := 148) hx hb dJ4_getNode_6 (by decide) (fun hq_3 => absurd (hq_3.symm.trans (show hm_tab D = some D.tb from if_neg hn0)) (by simp)) (fun _ _ => ?_)
  rw [(show hm_tab D = some D.tb from if_neg hn0)] at hl
  have hl : lv_has ls 8 [(2, .ref D.tb), (0, .ref m), (1, .ref x)] := hl
  refine lv_aload_n hx hb dJ4_getNode_9 rfl (lv_at hl 0 rfl) ?_
  refine gh_alen hC hg (hI.ct hn0) rfl dJ4_getNode_10 ?_
  refine lv_dup hx hb dJ4_getNode_11 rfl ?_
  refine lv_istore (lv' := [(5, .int (nI D.n)), (2, .ref D.tb), (0, .ref m), (1, .ref x)]) hx hb dJ4_getNode_12 hl (by decide) rfl (fun ls hl => ?_)
  refine lv_if_le (tgt := 148) hx hb dJ4_getNode_14 (by decide) (fun c_5 => (absurd ((nx_le rfl (show ((0 : Int32)) = nI 0 from rfl) (by omega) (by omega)).mp c_5) (by omega))) (fun _ => ?_)
  refine lv_aload_n hx hb dJ4_getNode_17 rfl (lv_at hl 1 rfl) ?_
  refine lv_iload hx hb dJ4_getNode_18 (lv_at hl 0 rfl) ?_
  refine lv_iconst (v := 1) hx hb dJ4_getNode_20 (by decide) ?_
  refine lv_isub hx hb dJ4_getNode_21 ?_
  refine lv_aload_n hx hb dJ4_getNode_22 rfl (lv_at hl 3 rfl) ?_
  refine gh_calli hg (gh_runS (As := [.ref x]) (rest := [.int ((nI D.n) - 1), .ref D.tb]) hC hg (j_J4_hash l V _ x ck c9 hk9) 1 (lw_S q1703 q1704 q109 q1705) hd_J4_hash.2 ⟨Nat.le_of_ble_eq_true rfl, Nat.le_of_ble_eq_true rfl⟩ rfl hl.1 rfl (Nat.le_of_ble_eq_true rfl) dJ4_getNode_23 ⟨Nat.le_of_ble_eq_true rfl, Nat.le_of_ble_eq_true rfl⟩) (fun r_6 g H locs hg hp => ?_)
  obtain ⟨hp, hq⟩ := hp
  replace hp : (nI (hm_sp c9)) = r_6 := hp.symm
  subst hp
  rw [hq] at hg
  refine lv_dup hx hb dJ4_getNode_26 rfl ?_
  refine lv_istore (lv' := [(6, .int (nI (hm_sp c9))), (5, .int (nI D.n)), (2, .ref D.tb), (0, .ref m), (1, .ref x)]) hx hb dJ4_getNode_27 hl (by decide) rfl (fun ls hl => ?_)
  refine lv_iand hx hb dJ4_getNode_29 ?_
  refine W.eq (g2 := F0 mm 30 ls [.int (nI i), .ref D.tb]) (by rw [(hm_idx9 (nx_sub rfl (show ((1 : Int32)) = nI 1 from rfl) (by omega)) rfl hj hie)] <;> rfl) ?_
  refine gh_qald (n := D.n) (f := D.T) hC hg (hI.ct hn0) rfl rfl (by omega) (by omega) dJ4_getNode_30 ?_
  refine lv_dup hx hb dJ4_getNode_31 (gh_cQ _) ?_
  refine lv_astore_nQ (lv' := [(3, va_rf (D.T i)), (6, .int (nI (hm_sp c9))), (5, .int (nI D.n)), (2, .ref D.tb), (0, .ref m), (1, .ref x)]) hx hb dJ4_getNode_32 rfl hl (by decide) rfl (fun ls hl => ?_)
  refine lv_ifnullQ (tgt := 148) hx hb dJ4_getNode_33 (by decide) (fun hq_7 => ?_) (fun y_8 hq_7 => ?_)
  · skip
    rw [hq_7] at hl
    have hl : lv_has ls 8 [(3, .null), (6, .int (nI (hm_sp c9))), (5, .int (nI D.n)), (2, .ref D.tb), (0, .ref m), (1, .ref x)] := hl
    have hb0 : D.B i = [] := by
        have h9 := hI.ch i hi
        rw [hq_7] at h9
        cases h8 : D.B i with
        | nil => rfl
        | cons a l => rw [h8] at h9; cases h9.1
    refine lv_null hx hb dJ4_getNode_148 ?_
    exact gh_retq (r := none) (Or.inl ⟨_, rfl⟩) hC hg hr hlk (⟨Or.inr ⟨hI.none hi hie (fun a ha => by rw [hb0] at ha; cases ha), rfl⟩, hgg⟩) dJ4_getNode_149 (Nat.le_of_ble_eq_true rfl) (Nat.le_of_ble_eq_true rfl)
  rw [hq_7] at hl
  have hl : lv_has ls 8 [(3, .ref y_8), (6, .int (nI (hm_sp c9))), (5, .int (nI D.n)), (2, .ref D.tb), (0, .ref m), (1, .ref x)] := hl
  obtain ⟨l2, hb0⟩ : ∃ l2, D.B i = y_8 :: l2 := by
      have h9 := hI.ch i hi
      rw [hq_7] at h9
      cases h8 : D.B i with
      | nil => rw [h8] at h9; cases h9
      | cons a l => rw [h8] at h9; cases h9.1; exact ⟨l, rfl⟩
  have hm1 : y_8 ∈ D.B i := by rw [hb0]; exact List.mem_cons_self
  have hm0 : y_8 ∈ D.L := hI.mem hi hm1
  have hc0 := hI.clt hm0
  have hs0 := hI.spl hm0
  have hnx : hm_ch D.nx (D.nx y_8) l2 := by have h9 := hI.ch i hi; rw [hb0] at h9; exact h9.2
  refine lv_aload_n hx hb dJ4_getNode_36 rfl (lv_at hl 0 rfl) ?_
  refine gh_getr (v := .int (nI (hm_sp (D.C y_8)))) hC hg (hI.cn y_8 hm0) (rfNJ4_168 (hI.ci2 hm0)) rfl dJ4_getNode_37 ?_
  refine lv_iload hx hb dJ4_getNode_40 (lv_at hl 1 rfl) ?_
  refine lv_icmp_ne (tgt := 71) hx hb dJ4_getNode_42 (by decide) (fun c_9 => ?_) (fun c_9 => ?_)
  · skip
    have c_9 : ¬ (hm_sp (D.C y_8)) = (hm_sp c9) := fun h9 => c_9 ((nx_eq rfl rfl (by omega) (by omega)).mpr h9)
    have hcn : D.C y_8 ≠ c9 := fun h9 => c_9 (by rw [h9])
    refine lv_aload_n hx hb dJ4_getNode_71 rfl (lv_at hl 0 rfl) ?_
    refine gh_get (v := va_rf (D.nx y_8)) hC hg (hI.cn y_8 hm0) (fNJ4_177 (hI.ci2 hm0)) rfl dJ4_getNode_72 ?_
    refine lv_dup hx hb dJ4_getNode_75 (gh_cQ _) ?_
    refine lv_astoreQ (lv' := [(4, va_rf (D.nx y_8)), (3, .ref y_8), (6, .int (nI (hm_sp c9))), (5, .int (nI D.n)), (2, .ref D.tb), (0, .ref m), (1, .ref x)]) hx hb dJ4_getNode_76 hl (by decide) rfl (fun ls hl => ?_)
    refine lv_ifnullQ (tgt := 148) hx hb dJ4_getNode_78 (by decide) (fun hq_10 => ?_) (fun y_11 hq_10 => ?_)
    · skip
      rw [hq_10] at hl
      have hl : lv_has ls 8 [(4, .null), (3, .ref y_8), (6, .int (nI (hm_sp c9))), (5, .int (nI D.n)), (2, .ref D.tb), (0, .ref m), (1, .ref x)] := hl
      have hl2 : l2 = [] := by
          cases l2 with
          | nil => rfl
          | cons a l => have h9 := hnx.1; rw [hq_10] at h9; cases h9
      refine lv_null hx hb dJ4_getNode_148 ?_
      exact gh_retq (r := none) (Or.inl ⟨_, rfl⟩) hC hg hr hlk (⟨Or.inr ⟨hI.none hi hie (fun a ha => by rw [hb0, hl2] at ha; cases List.mem_singleton.mp ha; exact hcn), rfl⟩, hgg⟩) dJ4_getNode_149 (Nat.le_of_ble_eq_true rfl) (Nat.le_of_ble_eq_true rfl)
    rw [hq_10] at hl
    have hl : lv_has ls 8 [(4, .ref y_11), (3, .ref y_8), (6, .int (nI (hm_sp c9))), (5, .int (nI D.n)), (2, .ref D.tb), (0, .ref m), (1, .ref x)] := hl
    obtain ⟨l3, hl2⟩ : ∃ l3, l2 = y_11 :: l3 := by
        cases l2 with
        | nil => have h9 := hnx; rw [hq_10] at h9; cases h9
        | cons a l => have h9 := hnx.1; rw [hq_10] at h9; cases h9; exact ⟨l, rfl⟩
    rcases hI.bin i hi with h14 | h15
    · skip
      refine lv_aload_n hx hb dJ4_getNode_81 rfl (lv_at hl 1 rfl) ?_
      refine gh_instNo (C := "java/util/LinkedHashMap$Entry") (ci := (D.ci y_8)) hC hg (hI.cn y_8 hm0) (by rw [(h14 _ hm1).1]; rfl) q1822 (by decide +kernel) dJ4_getNode_82 ?_
      refine lv_if_eq (tgt := 99) hx hb dJ4_getNode_85 (by decide) (fun _ => ?_) (fun c_12 => (absurd ((nx_eq (show ((0 : Int32)) = nI 0 from rfl) (show ((0 : Int32)) = nI 0 from rfl) (by omega) (by omega)).mpr (by omega)) c_12))
      refine gh_while (α := List Nat × Nat × List Nat) (μ := fun q => q.2.2.length) (X := fun q9 g ls => ∃ p a l, q9 = (p, a, l) ∧ D.B i = p ++ a :: l ∧ (∀ b, b ∈ p → D.C b ≠ c9) ∧ g = g0 ∧ lv_has ls 8 [(0, .ref m), (1, .ref x), (4, .ref a), (6, .int (nI (hm_sp c9)))]) ?_ ([y_8], y_11, l3) hg ⟨[y_8], y_11, l3, rfl, (by rw [hb0, hl2]; rfl), (fun b hb9 => by cases List.mem_singleton.mp hb9; exact hcn), hgg, lv_sub hl [5, 6, 0, 2] rfl⟩
      intro q9 ih99 g H locs ls hg hX
      obtain ⟨p, a, l, rfl, hX99_0, hX99_1, hX99_2, hl⟩ := hX
      have hI := hI9
      have hk9 := hk90
      rw [← hX99_2] at hI hk9
      have hgg := hX99_2
      have hma : a ∈ D.B i := by rw [hX99_0]; exact List.mem_append_right _ List.mem_cons_self
      have hmL : a ∈ D.L := hI.mem hi hma
      have hs1 := hI.spl hmL
      have hnx : hm_ch D.nx (D.nx a) l := by have h9 := hI.ch i hi; rw [hX99_0] at h9; exact h9.next
      refine lv_aload hx hb dJ4_getNode_99 (lv_at hl 2 rfl) ?_
      refine gh_getr (v := .int (nI (hm_sp (D.C a)))) hC hg (hI.cn a hmL) (rfNJ4_168 (hI.ci2 hmL)) rfl dJ4_getNode_101 ?_
      refine lv_iload hx hb dJ4_getNode_104 (lv_at hl 3 rfl) ?_
      refine lv_icmp_ne (tgt := 137) hx hb dJ4_getNode_106 (by decide) (fun c_13 => ?_) (fun c_13 => ?_)
      · skip
        have c_13 : ¬ (hm_sp (D.C a)) = (hm_sp c9) := fun h9 => c_13 ((nx_eq rfl rfl (by omega) (by omega)).mpr h9)
        have hcn : D.C a ≠ c9 := fun h9 => c_13 (by rw [h9])
        refine lv_aload hx hb dJ4_getNode_137 (lv_at hl 2 rfl) ?_
        refine gh_get (v := va_rf (D.nx a)) hC hg (hI.cn a hmL) (fNJ4_177 (hI.ci2 hmL)) rfl dJ4_getNode_139 ?_
        refine lv_dup hx hb dJ4_getNode_142 (gh_cQ _) ?_
        refine lv_astoreQ (lv' := [(4, va_rf (D.nx a)), (0, .ref m), (1, .ref x), (6, .int (nI (hm_sp c9)))]) hx hb dJ4_getNode_143 hl (by decide) rfl (fun ls hl => ?_)
        refine lv_ifnonnullQ (tgt := 99) hx hb dJ4_getNode_145 (by decide) (fun y_15 hq_14 => ?_) (fun hq_14 => ?_)
        · skip
          rw [hq_14] at hl
          have hl : lv_has ls 8 [(4, .ref y_15), (0, .ref m), (1, .ref x), (6, .int (nI (hm_sp c9)))] := hl
          obtain ⟨l3, hl2⟩ : ∃ l3, l = y_15 :: l3 := by
              cases l with
              | nil => have h9 := hnx; rw [hq_14] at h9; cases h9
              | cons a l => have h9 := hnx.1; rw [hq_14] at h9; cases h9; exact ⟨l, rfl⟩
          exact ih99 (p ++ [a], y_15, l3) (by rw [hl2]; exact Nat.lt_succ_self _) _ _ _ _ hg ⟨p ++ [a], y_15, l3, rfl, (by rw [hX99_0, hl2]; simp), (fun b hb9 => by rcases List.mem_append.mp hb9 with hb9 | hb9; exact hX99_1 b hb9; cases List.mem_singleton.mp hb9; exact hcn), hgg, lv_sub hl [1, 2, 0, 3] rfl⟩
        rw [hq_14] at hl
        have hl : lv_has ls 8 [(4, .null), (0, .ref m), (1, .ref x), (6, .int (nI (hm_sp c9)))] := hl
        have hl2 : l = [] := by
            cases l with
            | nil => rfl
            | cons a l => have h9 := hnx.1; rw [hq_14] at h9; cases h9
        refine lv_null hx hb dJ4_getNode_148 ?_
        exact gh_retq (r := none) (Or.inl ⟨_, rfl⟩) hC hg hr hlk (⟨Or.inr ⟨hI.none hi hie (fun b hb9 => by rw [hX99_0, hl2] at hb9; rcases List.mem_append.mp hb9 with hb9 | hb9; exact hX99_1 b hb9; cases List.mem_singleton.mp hb9; exact hcn), rfl⟩, hgg⟩) dJ4_getNode_149 (Nat.le_of_ble_eq_true rfl) (Nat.le_of_ble_eq_true rfl)
      have c_13 : (hm_sp (D.C a)) = (hm_sp c9) := (nx_eq rfl rfl (by omega) (by omega)).mp c_13
      have hce : D.C a = c9 := hm_sp_inj (by have := hI.clt hmL; omega) (by omega) c_13
      refine lv_aload hx hb dJ4_getNode_109 (lv_at hl 2 rfl) ?_
      refine gh_getr (v := .ref (D.K a)) hC hg (hI.cn a hmL) (rfNJ4_170 (hI.ci2 hmL)) rfl dJ4_getNode_111 ?_
      refine lv_dup hx hb dJ4_getNode_114 rfl ?_
      refine lv_astore (lv' := [(7, .ref (D.K a)), (0, .ref m), (1, .ref x), (4, .ref a), (6, .int (nI (hm_sp c9)))]) hx hb dJ4_getNode_115 hl (by decide) rfl (fun ls hl => ?_)
      refine lv_aload_n hx hb dJ4_getNode_117 rfl (lv_at hl 2 rfl) ?_
      refine lv_acmp_eq (rx := (some (D.K a))) (ry := (some x)) (tgt := 134) hx hb dJ4_getNode_118 (by decide) (fun c_16 => ?_) (fun c_16 => ?_)
      · skip
        refine lv_aload hx hb dJ4_getNode_134 (lv_at hl 3 rfl) ?_
        exact gh_retq (r := some a) (Or.inl ⟨_, rfl⟩) hC hg hr hlk (⟨Or.inl ⟨a, hmL, hce, rfl⟩, hgg⟩) dJ4_getNode_136 (Nat.le_of_ble_eq_true rfl) (Nat.le_of_ble_eq_true rfl)
      refine lv_aload_n hx hb dJ4_getNode_121 rfl (lv_at hl 2 rfl) ?_
      refine lv_ifnull hx hb dJ4_getNode_122 ?_
      refine lv_aload_n hx hb dJ4_getNode_125 rfl (lv_at hl 2 rfl) ?_
      refine lv_aload hx hb dJ4_getNode_126 (lv_at hl 0 rfl) ?_
      refine gh_keq4 hk9 (hI.ky a hmL) hC hg hl.1 (Nat.le_of_ble_eq_true rfl) dJ4_getNode_128 ⟨Nat.le_of_ble_eq_true rfl, Nat.le_of_ble_eq_true rfl⟩ ⟨Nat.le_of_ble_eq_true rfl, Nat.le_of_ble_eq_true rfl⟩ (fun H locs hg => ?_)
      rw [if_pos (hce.symm)]
      refine lv_if_eq (tgt := 137) hx hb dJ4_getNode_131 (by decide) (fun c_18 => (absurd ((nx_eq (show ((1 : Int32)) = nI 1 from rfl) (show ((0 : Int32)) = nI 0 from rfl) (by omega) (by omega)).mp c_18) (by omega))) (fun _ => ?_)
      refine lv_aload hx hb dJ4_getNode_134 (lv_at hl 3 rfl) ?_
      exact gh_retq (r := some a) (Or.inl ⟨_, rfl⟩) hC hg hr hlk (⟨Or.inl ⟨a, hmL, hce, rfl⟩, hgg⟩) dJ4_getNode_136 (Nat.le_of_ble_eq_true rfl) (Nat.le_of_ble_eq_true rfl)
    refine lv_aload_n hx hb dJ4_getNode_81 rfl (lv_at hl 1 rfl) ?_
    refine gh_instS (C := "java/util/HashMap$TreeNode") (ci := (D.ci y_8)) hC hg (hI.cn y_8 hm0) (by rw [(h15.2.1 _ hm1)]; rfl) q1822 dJ4_getNode_82 ?_
    refine lv_if_eq (tgt := 99) hx hb dJ4_getNode_85 (by decide) (fun c_19 => (absurd ((nx_eq (show ((1 : Int32)) = nI 1 from rfl) (show ((0 : Int32)) = nI 0 from rfl) (by omega) (by omega)).mp c_19) (by omega))) (fun _ => ?_)
    refine lv_aload_n hx hb dJ4_getNode_88 rfl (lv_at hl 1 rfl) ?_
    refine gh_castS (C := "java/util/HashMap$TreeNode") (ci := (D.ci y_8)) hC hg (hI.cn y_8 hm0) (by rw [(h15.2.1 _ hm1)]; rfl) q1822 dJ4_getNode_89 ?_
    refine lv_iload hx hb dJ4_getNode_92 (lv_at hl 2 rfl) ?_
    refine lv_aload_n hx hb dJ4_getNode_94 rfl (lv_at hl 6 rfl) ?_
    refine gh_callq hg (gh_runVr (As := [.int (nI (hm_sp c9)), .ref x]) (rest := []) hC hg (hTG _ o k m ck D i y_8 c9 x hI hi (by rw [hb0]; rfl) (h15.2.1 _ hm1) hie hk9) 2 (lw_V q2365 q2366 q2367 q148 q2368) (gh_recv (C := "java/util/HashMap$TreeNode") (ci := (D.ci y_8)) hC hg (hI.cn y_8 hm0) (by rw [(h15.2.1 _ hm1)]; rfl)) hd_J39_getTreeNode ⟨Nat.le_of_ble_eq_true rfl, Nat.le_of_ble_eq_true rfl⟩ rfl hl.1 rfl (Nat.le_of_ble_eq_true rfl) dJ4_getNode_95 ⟨Nat.le_of_ble_eq_true rfl, Nat.le_of_ble_eq_true rfl⟩) (fun r_20 g H locs hg hp => ?_)
    obtain ⟨hfd, hq⟩ := hp
    rw [hq] at hg
    exact gh_retq (r := r_20) (Or.inl ⟨_, rfl⟩) hC hg hr hlk (⟨hfd, hgg⟩) dJ4_getNode_98 (Nat.le_of_ble_eq_true rfl) (Nat.le_of_ble_eq_true rfl)
  have c_9 : (hm_sp (D.C y_8)) = (hm_sp c9) := (nx_eq rfl rfl (by omega) (by omega)).mp c_9
  have hce : D.C y_8 = c9 := hm_sp_inj (by have := hI.clt hm0; omega) (by omega) c_9
  refine lv_aload_n hx hb dJ4_getNode_45 rfl (lv_at hl 0 rfl) ?_
  refine gh_getr (v := .ref (D.K y_8)) hC hg (hI.cn y_8 hm0) (rfNJ4_170 (hI.ci2 hm0)) rfl dJ4_getNode_46 ?_
  refine lv_dup hx hb dJ4_getNode_49 rfl ?_
  refine lv_astore (lv' := [(7, .ref (D.K y_8)), (3, .ref y_8), (6, .int (nI (hm_sp c9))), (5, .int (nI D.n)), (2, .ref D.tb), (0, .ref m), (1, .ref x)]) hx hb dJ4_getNode_50 hl (by decide) rfl (fun ls hl => ?_)
  refine lv_aload_n hx hb dJ4_getNode_52 rfl (lv_at hl 6 rfl) ?_
  refine lv_acmp_eq (rx := (some (D.K y_8))) (ry := (some x)) (tgt := 69) hx hb dJ4_getNode_53 (by decide) (fun c_21 => ?_) (fun c_21 => ?_)
  · skip
    refine lv_aload_n hx hb dJ4_getNode_69 rfl (lv_at hl 1 rfl) ?_
    exact gh_retq (r := some y_8) (Or.inl ⟨_, rfl⟩) hC hg hr hlk (⟨Or.inl ⟨y_8, hm0, hce, rfl⟩, hgg⟩) dJ4_getNode_70 (Nat.le_of_ble_eq_true rfl) (Nat.le_of_ble_eq_true rfl)
  refine lv_aload_n hx hb dJ4_getNode_56 rfl (lv_at hl 6 rfl) ?_
  refine lv_ifnull hx hb dJ4_getNode_57 ?_
  refine lv_aload_n hx hb dJ4_getNode_60 rfl (lv_at hl 6 rfl) ?_
  refine lv_aload hx hb dJ4_getNode_61 (lv_at hl 0 rfl) ?_
  refine gh_keq4 hk9 (hI.ky y_8 hm0) hC hg hl.1 (Nat.le_of_ble_eq_true rfl) dJ4_getNode_63 ⟨Nat.le_of_ble_eq_true rfl, Nat.le_of_ble_eq_true rfl⟩ ⟨Nat.le_of_ble_eq_true rfl, Nat.le_of_ble_eq_true rfl⟩ (fun H locs hg => ?_)
  rw [if_pos (hce.symm)]
  refine lv_if_eq (tgt := 71) hx hb dJ4_getNode_66 (by decide) (fun c_23 => (absurd ((nx_eq (show ((1 : Int32)) = nI 1 from rfl) (show ((0 : Int32)) = nI 0 from rfl) (by omega) (by omega)).mp c_23) (by omega))) (fun _ => ?_)
  refine lv_aload_n hx hb dJ4_getNode_69 rfl (lv_at hl 1 rfl) ?_
  exact gh_retq (r := some y_8) (Or.inl ⟨_, rfl⟩) hC hg hr hlk (⟨Or.inl ⟨y_8, hm0, hce, rfl⟩, hgg⟩) dJ4_getNode_70 (Nat.le_of_ble_eq_true rfl) (Nat.le_of_ble_eq_true rfl)
