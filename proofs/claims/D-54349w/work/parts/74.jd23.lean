/-! STATE: its own cell and arrays -/
def st_fs (ad : Nat → Nat) (I : Nat → Int32) : List Value := [.int (I 0), .int (I 1), .int (I 2), .ref (ad 0), .ref (ad 1), .ref (ad 2), .ref (ad 3), .ref (ad 4), .ref (ad 8), .ref (ad 5), .ref (ad 6), .ref (ad 7), .ref (ad 9), .ref (ad 10), .ref (ad 11), .ref (ad 12), .ref (ad 13), .int (I 3)]
def st_n : Nat → Nat
  | 5 => 24
  | 6 => 2
  | 7 => 2
  | _ => 8
def st_k : Nat → Nat
  | 5 => 3
  | _ => 0
def st_C (V : gh_V) (g : gh_G) (S : Nat) (ad : Nat → Nat) (I : Nat → Int32) (A : Nat → Nat → Int32) (P : Nat → Option Nat) : Prop :=
  g S = some ((S, 0, 0), oo 2 (st_fs ad I)) ∧ (∀ j, j < 8 → g (ad j) = some ((S, 0, j + 1), ai V (st_k j) (st_n j) (A j))) ∧ g (ad 8) = some ((S, 0, 9), aq V 6 24 P)
section StC
variable {V : gh_V} {g g1 : gh_G} {S : Nat} {ad : Nat → Nat} {I : Nat → Int32} {A : Nat → Nat → Int32} {P : Nat → Option Nat}
theorem st_C.a (h : st_C V g S ad I A P) (j : Nat) (hj : j < 8) : g (ad j) = some ((S, 0, j + 1), ai V (st_k j) (st_n j) (A j)) := h.2.1 j hj
theorem st_C.a0 (h : st_C V g S ad I A P) : g (ad 0) = some ((S, 0, 1), ai V 0 8 (A 0)) := h.2.1 0 (by decide)
theorem st_C.a1 (h : st_C V g S ad I A P) : g (ad 1) = some ((S, 0, 2), ai V 0 8 (A 1)) := h.2.1 1 (by decide)
theorem st_C.a2 (h : st_C V g S ad I A P) : g (ad 2) = some ((S, 0, 3), ai V 0 8 (A 2)) := h.2.1 2 (by decide)
theorem st_C.a3 (h : st_C V g S ad I A P) : g (ad 3) = some ((S, 0, 4), ai V 0 8 (A 3)) := h.2.1 3 (by decide)
theorem st_C.a4 (h : st_C V g S ad I A P) : g (ad 4) = some ((S, 0, 5), ai V 0 8 (A 4)) := h.2.1 4 (by decide)
theorem st_C.a5 (h : st_C V g S ad I A P) : g (ad 5) = some ((S, 0, 6), ai V 3 24 (A 5)) := h.2.1 5 (by decide)
theorem st_C.a6 (h : st_C V g S ad I A P) : g (ad 6) = some ((S, 0, 7), ai V 0 2 (A 6)) := h.2.1 6 (by decide)
theorem st_C.a7 (h : st_C V g S ad I A P) : g (ad 7) = some ((S, 0, 8), ai V 0 2 (A 7)) := h.2.1 7 (by decide)
theorem st_C.keep (h : st_C V g S ad I A P) (hf : ∀ a t x, g a = some (t, x) → t.1 = S → t.2.1 = 0 → g1 a = some (t, x)) : st_C V g1 S ad I A P := ⟨hf _ _ _ h.1 rfl rfl, fun j hj => hf _ _ _ (h.2.1 j hj) rfl rfl, hf _ _ _ h.2.2 rfl rfl⟩
theorem st_C.nw (h : st_C V g S ad I A P) {a : Nat} (h0 : g a = none) (hn : ∀ q, q ≠ a → g1 q = g q) : st_C V g1 S ad I A P := h.keep (fun b t x hb _ _ => by rw [hn b (fun e => by rw [e, h0] at hb; cases hb)]; exact hb)
theorem st_C.ne (h : st_C V g S ad I A P) {a : Nat} {t : gh_T} {x : gh_E} (ha : g a = some (t, x)) (hne : ¬ (t.1 = S ∧ t.2.1 = 0)) (hn : ∀ q, q ≠ a → g1 q = g q) : st_C V g1 S ad I A P := h.keep (fun b u y hb e1 e2 => by rw [hn b (fun e => by rw [e, ha] at hb; cases hb; exact hne ⟨e1, e2⟩)]; exact hb)
theorem st_C.setI (h : st_C V g S ad I A P) (k : Nat) {v : Int32} (hw : g1 S = some ((S, 0, 0), oo 2 (st_fs ad (va_up I k v)))) (hn : ∀ q, q ≠ S → g1 q = g q) : st_C V g1 S ad (va_up I k v) A P :=
  ⟨hw, fun j hj => by rw [hn _ (fun e => by have h9 := h.2.1 j hj; rw [e, h.1] at h9; have h8 := congrArg (fun z => z.1.2.2) (Option.some.inj h9); exact absurd h8 (by simp))]; exact h.2.1 j hj, by rw [hn _ (fun e => by have h9 := h.2.2; rw [e, h.1] at h9; have h8 := congrArg (fun z => z.1.2.2) (Option.some.inj h9); exact absurd h8 (by simp))]; exact h.2.2⟩
theorem st_C.setA (h : st_C V g S ad I A P) (j : Nat) (hj : j < 8) {f : Nat → Int32} (hw : g1 (ad j) = some ((S, 0, j + 1), ai V (st_k j) (st_n j) f)) (hn : ∀ q, q ≠ ad j → g1 q = g q) : st_C V g1 S ad I (va_up A j f) P := by
  refine ⟨by rw [hn _ (fun e => by have h9 := h.2.1 j hj; rw [← e, h.1] at h9; have h8 := congrArg (fun z => z.1.2.2) (Option.some.inj h9); exact absurd h8 (by simp))]; exact h.1, fun i hi => ?_, by rw [hn _ (fun e => by have h9 := h.2.1 j hj; rw [← e, h.2.2] at h9; have h8 := congrArg (fun z => z.1.2.2) (Option.some.inj h9); simp at h8; omega)]; exact h.2.2⟩
  unfold va_up
  by_cases e : i = j
  · subst e; rw [if_pos rfl]; exact hw
  · rw [if_neg e, hn _ (fun e9 => by have h9 := h.2.1 i hi; rw [e9, h.2.1 j hj] at h9; have h8 : j + 1 = i + 1 := congrArg (fun z => z.1.2.2) (Option.some.inj h9); omega)]; exact h.2.1 i hi
theorem st_C.setP (h : st_C V g S ad I A P) {f : Nat → Option Nat} (hw : g1 (ad 8) = some ((S, 0, 9), aq V 6 24 f)) (hn : ∀ q, q ≠ ad 8 → g1 q = g q) : st_C V g1 S ad I A f :=
  ⟨by rw [hn _ (fun e => by have h9 := h.2.2; rw [← e, h.1] at h9; have h8 := congrArg (fun z => z.1.2.2) (Option.some.inj h9); exact absurd h8 (by simp))]; exact h.1, fun j hj => by rw [hn _ (fun e => by have h9 := h.2.1 j hj; rw [e, h.2.2] at h9; have h8 := congrArg (fun z => z.1.2.2) (Option.some.inj h9); simp at h8; omega)]; exact h.2.1 j hj, hw⟩
end StC
/-- frame of a state's methods: all but the cells of owner S, kinds 1 and 2 (shared things) kept -/
def gh_fS (S : Nat) (g g1 : gh_G) : Prop := ∀ a t x, g a = some (t, x) → ¬ (t.1 = S ∧ t.2.1 ≠ 1 ∧ t.2.1 ≠ 2) → g1 a = some (t, x)
theorem gh_fS.rf {S : Nat} {g : gh_G} : gh_fS S g g := fun _ _ _ h _ => h
theorem gh_fS.tr {S : Nat} {g g1 g2 : gh_G} (h : gh_fS S g g1) (h2 : gh_fS S g1 g2) : gh_fS S g g2 := fun a t x q n => h2 a t x (h a t x q n) n
theorem gh_fS.set {S : Nat} {g g1 g2 : gh_G} (h : gh_fS S g g1) {a k n : Nat} {x : gh_E} (ha : g1 a = some ((S, k, n), x)) (hk : k ≠ 1 ∧ k ≠ 2) (hn : ∀ q, q ≠ a → g2 q = g1 q) : gh_fS S g g2 := fun b t y q n9 => by
  have h1 := h b t y q n9
  rw [hn b (fun e => by rw [e, ha] at h1; cases h1; exact n9 ⟨rfl, hk⟩)]; exact h1
theorem gh_fS.new {S : Nat} {g g1 g2 : gh_G} (h : gh_fS S g g1) {a : Nat} (h0 : g1 a = none) (hn : ∀ q, q ≠ a → g2 q = g1 q) : gh_fS S g g2 := fun b t y q n9 => by
  have h1 := h b t y q n9
  rw [hn b (fun e => by rw [e, h0] at h1; cases h1)]; exact h1
theorem gh_fS.fk {S k : Nat} {g g1 g2 : gh_G} (h : gh_fS S g g1) (hk : k ≠ 1 ∧ k ≠ 2) (h2 : gh_fk S k g1 g2) : gh_fS S g g2 := fun a t x q n => h2 a t x (h a t x q n) (fun e => n ⟨e.1, by rw [e.2]; exact hk⟩)
theorem gh_fS.ge {S : Nat} {g g1 g2 : gh_G} (h : gh_fS S g g1) (h2 : gh_ge g1 g2) : gh_fS S g g2 := fun a t x q n => h2 a _ (h a t x q n)
/-- what a part of the heap keeps under a write, a new cell, a frame -/
theorem gh_kn {FP : gh_T → Prop} {g g1 : gh_G} {a : Nat} {ta : gh_T} {xa : gh_E} (ha : g a = some (ta, xa)) (h : ¬ FP ta) (hn : ∀ q, q ≠ a → g1 q = g q) : ∀ b t x, g b = some (t, x) → FP t → g1 b = some (t, x) := fun b t x hb hf => by
  rw [hn b (fun e => by rw [e, ha] at hb; cases hb; exact h hf)]; exact hb
theorem gh_k0 {FP : gh_T → Prop} {g g1 : gh_G} {a : Nat} (h0 : g a = none) (hn : ∀ q, q ≠ a → g1 q = g q) : ∀ b t x, g b = some (t, x) → FP t → g1 b = some (t, x) := fun b t x hb _ => by
  rw [hn b (fun e => by rw [e, h0] at hb; cases hb)]; exact hb
theorem gh_kf {FP : gh_T → Prop} {o k : Nat} {g g1 : gh_G} (hf : gh_fk o k g g1) (h : ∀ t, FP t → ¬ (t.1 = o ∧ t.2.1 = k)) : ∀ b t x, g b = some (t, x) → FP t → g1 b = some (t, x) := fun b t x hb hp => hf b t x hb (h t hp)
theorem gh_kS {FP : gh_T → Prop} {S : Nat} {g g1 : gh_G} (hf : gh_fS S g g1) (h : ∀ t, FP t → ¬ (t.1 = S ∧ t.2.1 ≠ 1 ∧ t.2.1 ≠ 2)) : ∀ b t x, g b = some (t, x) → FP t → g1 b = some (t, x) := fun b t x hb hp => hf b t x hb (h t hp)
/-- the values of the state's own cell and arrays are those of s -/
def st_V (s : Nat → Int32) (I : Nat → Int32) (A : Nat → Nat → Int32) : Prop :=
  I 0 = s 0 ∧ I 1 = s 1 ∧ I 2 = s 2 ∧ (∀ z, z < 8 → A 0 z = zn s z 0 ∧ A 1 z = zn s z 1 ∧ A 2 z = zn s z 2 ∧ A 3 z = zn s z 3 ∧ A 4 z = zn s z 4) ∧ (∀ p, p < 24 → A 5 p = pl s p 4) ∧ (∀ c, c < 2 → A 6 c = cl s c 0 ∧ A 7 c = cl s c 1)
/-! FRAMES BY KINDS of the owner S -/
def gh_fw (S : Nat) (ks : List Nat) (g g1 : gh_G) : Prop := ∀ a t x, g a = some (t, x) → ¬ (t.1 = S ∧ t.2.1 ∈ ks) → g1 a = some (t, x)
section Fw
variable {S k n a : Nat} {ks k1 k2 : List Nat} {g g1 g2 : gh_G} {x : gh_E}
theorem gh_fw.rf : gh_fw S ks g g := fun _ _ _ h _ => h
theorem gh_fw.tr (h : gh_fw S k1 g g1) (h2 : gh_fw S k2 g1 g2) (e1 : ∀ k, k ∈ k1 → k ∈ ks) (e2 : ∀ k, k ∈ k2 → k ∈ ks) : gh_fw S ks g g2 := fun a t x q n => h2 a t x (h a t x q (fun e => n ⟨e.1, e1 _ e.2⟩)) (fun e => n ⟨e.1, e2 _ e.2⟩)
theorem gh_fw.mn (h : gh_fw S k1 g g1) (e : ∀ k, k ∈ k1 → k ∈ ks) : gh_fw S ks g g1 := fun a t x q n => h a t x q (fun u => n ⟨u.1, e _ u.2⟩)
theorem gh_fw.st (ha : g a = some ((S, k, n), x)) (hn : ∀ q, q ≠ a → g1 q = g q) : gh_fw S [k] g g1 := fun b t y q n9 => by
  rw [hn b (fun e => by rw [e, ha] at q; cases q; exact n9 ⟨rfl, List.mem_singleton.mpr rfl⟩)]; exact q
theorem gh_fw.nw (h0 : g a = none) (hn : ∀ q, q ≠ a → g1 q = g q) : gh_fw S ks g g1 := fun b t y q _ => by
  rw [hn b (fun e => by rw [e, h0] at q; cases q)]; exact q
theorem gh_fw.fk (h : gh_fk S k g g1) : gh_fw S [k] g g1 := fun b t y q n9 => h b t y q (fun e => n9 ⟨e.1, List.mem_singleton.mpr e.2⟩)
theorem gh_fw.ge (h : gh_ge g g1) : gh_fw S ks g g1 := fun b t y q _ => h b _ q
theorem gh_fw.fS (h : gh_fw S ks g g1) (e : ∀ k, k ∈ ks → k ≠ 1 ∧ k ≠ 2) : gh_fS S g g1 := fun a t x q n => h a t x q (fun u => n ⟨u.1, e _ u.2⟩)
theorem gh_fw.set (h : gh_fw S ks g g1) (ha : g1 a = some ((S, k, n), x)) (hk : k ∈ ks) (hn : ∀ q, q ≠ a → g2 q = g1 q) : gh_fw S ks g g2 := h.tr (gh_fw.st ha hn) (fun _ u => u) (fun _ u => by rw [List.mem_singleton.mp u]; exact hk)
theorem gh_fw.new (h : gh_fw S ks g g1) (h0 : g1 a = none) (hn : ∀ q, q ≠ a → g2 q = g1 q) : gh_fw S ks g g2 := h.tr (gh_fw.nw (ks := []) h0 hn) (fun _ u => u) (fun _ u => absurd u List.not_mem_nil)
/-- kept: the state's own cells but those kinds, and what is shared -/
def gh_fv (S : Nat) (ks : List Nat) (g g1 : gh_G) : Prop := ∀ a t x, g a = some (t, x) → (t.1 = S ∨ t.2.1 = 1 ∨ t.2.1 = 2) → ¬ (t.1 = S ∧ t.2.1 ∈ ks) → g1 a = some (t, x)
theorem gh_fw.v (h : gh_fw S ks g g1) : gh_fv S ks g g1 := fun a t x q _ n => h a t x q n
theorem gh_fS.v {S1 : Nat} (h : gh_fS S1 g g1) (hne : S ≠ S1) : gh_fv S ks g g1 := fun a t x q u _ => h a t x q (fun e => u.elim (fun e2 => hne (e2.symm.trans e.1)) (fun e2 => e2.elim e.2.1 e.2.2))
theorem gh_fv.wa {V : gh_V} {w i : Nat} {wl : Int32} (h : gh_fv S ks g g1) (hk : 2 ∉ ks) (hw : wa_P V g w i wl) : wa_P V g1 w i wl := hw.keep (fun a t x ha ht => h a t x ha (Or.inr (Or.inr ht.2)) (fun e => hk (ht.2 ▸ e.2)))
theorem gh_fv.ky {V : gh_V} {c y ck : Nat} (h : gh_fv S ks g g1) (hk : 1 ∉ ks) (hw : ky_P V g ck y c) : ky_P V g1 ck y c := hw.keep (fun t x ha ht => h _ t x ha (Or.inr (Or.inl ht)) (fun e => hk (ht ▸ e.2)))
theorem gh_fv.al {V : gh_V} {l m : Nat} {es : Nat → Nat} (h : gh_fv S ks g g1) (hk : k ∉ ks) (hw : al_P V S k g l m es) : al_P V S k g1 l m es := hw.keep (fun a t x ha e1 e2 => h a t x ha (Or.inl e1) (fun e => hk (e2 ▸ e.2)))
theorem gh_fv.lm {V : gh_V} {m ck : Nat} {M : List (Nat × Nat × Option Nat)} (h : gh_fv S ks g g1) (hk : k ∉ ks) (hk1 : 1 ∉ ks) (hw : lm_P V S k g m ck M) : lm_P V S k g1 m ck M :=
  hw.keep (fun a t x ha ht => h a t x ha (ht.elim (fun u => Or.inl u.1) (fun u => Or.inr (Or.inl u.1))) (fun e => ht.elim (fun u => hk (u.2 ▸ e.2)) (fun u => hk1 (u.1 ▸ e.2))))
theorem gh_fv.hs {V : gh_V} {q : Nat} {L : List (Nat × Nat)} (h : gh_fv S ks g g1) (hk : k ∉ ks) (hk1 : 1 ∉ ks) (hk8 : 8 ∉ ks) (hw : hs_P V S k g q L) : hs_P V S k g1 q L := by
  have hq : g1 q = g q := by
    obtain ⟨m, D, h1, -⟩ := hw
    exact (h _ _ _ h1.1 (Or.inl rfl) (fun e => hk8 e.2)).trans h1.1.symm
  exact hw.keep hq (fun a t x ha ht => h a t x ha (ht.elim (fun u => Or.inl u.1) (fun u => Or.inr (Or.inl u.1))) (fun e => ht.elim (fun u => hk (u.2 ▸ e.2)) (fun u => hk1 (u.1 ▸ e.2))))
theorem st_C.kp {V : gh_V} {ad : Nat → Nat} {I : Nat → Int32} {A : Nat → Nat → Int32} {P : Nat → Option Nat} (h : st_C V g S ad I A P) (hf : gh_fv S ks g g1) (hk : 0 ∉ ks) : st_C V g1 S ad I A P := h.keep (fun a t x ha e1 e2 => hf a t x ha (Or.inl e1) (fun e => hk (e2 ▸ e.2)))
end Fw
/-! THE PARTS of a state S that holds (s, F) -/
def pk (s : Nat → Int32) (p : Nat) : Nat := (pl s p 0).toNatClampNeg
def cd (s : Nat → Int32) (p : Nat) : Nat := 20 * pk s p + (pl s p 1).toNatClampNeg
def kd (s : Nat → Int32) (k : Nat) : Nat := (lt s k 0).toNatClampNeg
abbrev oc (s : Nat → Int32) (p : Nat) : Prop := ¬ pl s p 0 = -1
def pcode (s : Nat → Int32) (i : Nat) : Nat := 8 * (pn s i 0).toNatClampNeg + (pn s i 1).toNatClampNeg
def pval (V : gh_V) (s : Nat → Int32) (i : Nat) : Nat := V.2.2 (10 + ((pn s i 2).toNatClampNeg + 128))
def pls (V : gh_V) (s : Nat → Int32) (n : Nat) : List (Nat × Option Nat) := (List.range' 0 n).map (fun i => (pcode s i, some (pval V s i)))
/-- lot k at q: fa counts the pieces that are gone -/
def lo1 (V : gh_V) (g : gh_G) (S : Nat) (s : Nat → Int32) (k q la lw : Nat) (fa : Nat → Int32) : Prop :=
  g q = some ((S, 4, k), oo 3 [.ref lw, .ref la, .int (lt s k 2), .int (lt s k 3), .int (lt s k 4)]) ∧ g la = some ((S, 5, k), ai V 0 5 fa) ∧ wa_P V g lw (kd s k) (lt s k 1) ∧ ∀ f, 1 ≤ f → f < 5 → fa f = fated s k (nI f)
def lo_P (V : gh_V) (g : gh_G) (S l : Nat) (s : Nat → Int32) : Prop := ∃ (es la lw : Nat → Nat) (fa : Nat → Nat → Int32), al_P V S 12 g l (nL s) es ∧ ∀ k, k < nL s → lo1 V g S s k (es k) (la k) (lw k) (fa k)
def de1 (g : gh_G) (S : Nat) (s : Nat → Int32) (d q : Nat) : Prop := g q = some ((S, 6, d), oo 4 [.int (od s d 0), .int (od s d 1), .int (od s d 3), .int (od s d 4), .int (od s d 2), .int (od s d 5)])
def de_P (V : gh_V) (g : gh_G) (S l : Nat) (s : Nat → Int32) : Prop := ∃ es : Nat → Nat, al_P V S 13 g l (nD s) es ∧ ∀ d, d < nD s → de1 g S s d (es d)
/-- the piece at place p: q its object, kx its key, pw its ware -/
def pc1 (V : gh_V) (g : gh_G) (S : Nat) (s : Nat → Int32) (F : Nat → UInt32) (p q kx pw : Nat) : Prop :=
  g q = some ((S, 7, cd s p), oo 5 [.ref kx, .ref pw, .int (nI p), .int (pl s p 3), .int (pl s p 2), .float (F p)]) ∧ ky_P V g 9 kx (cd s p) ∧ wa_P V g pw (kd s (pk s p)) (lt s (pk s p) 1)
def pc_P (V : gh_V) (g : gh_G) (S : Nat) (P : Nat → Option Nat) (kx pw : Nat → Nat) (s : Nat → Int32) (F : Nat → UInt32) : Prop :=
  ∀ p, p < 24 → (pl s p 0 = -1 → P p = none) ∧ (oc s p → ∃ q, P p = some q ∧ pc1 V g S s F p q (kx p) (pw p))
def ot_P (V : gh_V) (g : gh_G) (S m : Nat) (P : Nat → Option Nat) (kx : Nat → Nat) (s : Nat → Int32) (n0 : Nat) : Prop :=
  ∃ M, lm_P V S 10 g m 9 M ∧ M.length = n0 ∧ (∀ p, p < 24 → oc s p → (cd s p, kx p, P p) ∈ M) ∧ ∀ e, e ∈ M → ∃ p, p < 24 ∧ oc s p ∧ e = (cd s p, kx p, P p)
def go_P (V : gh_V) (g : gh_G) (S l : Nat) (s : Nat → Int32) (n1 : Nat) : Prop :=
  ∃ (gq : Nat → Nat) (SS : Nat → List (Nat × Nat)), al_P V S 14 g l 4 gq ∧ (∀ i, i < 4 → hs_P V S (20 + i) g (gq i) (SS i)) ∧ (SS 0).length + (SS 1).length + (SS 2).length + (SS 3).length = n1 ∧ ∀ i k n, i < 4 → k < 12 → n < 20 → (st_any (SS i) (20 * k + n) = true ↔ k < nL s ∧ lt s k (5 + n) = nI (i + 1))
def npF (s : Nat → Int32) : Nat → Int32
  | 0 => -1
  | i + 1 => if npF s i = -1 then pn s i 0 else if pn s i 0 < npF s i then pn s i 0 else npF s i
def pn_P (V : gh_V) (g : gh_G) (S m : Nat) (nx : Int32) (s : Nat → Int32) : Prop :=
  ∃ M, lm_P V S 11 g m 10 M ∧ M.map (fun e => (e.1, e.2.2)) = pls V s (nP s) ∧ nx = npF s (nP s)
section Parts
variable {V : gh_V} {g g1 : gh_G} {S l q la lw kx pw p k d n0 n1 m : Nat} {s s1 : Nat → Int32} {F F1 : Nat → UInt32} {ks : List Nat} {fa : Nat → Int32} {P : Nat → Option Nat} {kxs pws : Nat → Nat} {nx : Int32}
theorem lo1.kp (h : lo1 V g S s k q la lw fa) (hf : gh_fv S ks g g1) (hk : ∀ j, j ∈ [2, 4, 5] → j ∉ ks) : lo1 V g1 S s k q la lw fa :=
  ⟨hf _ _ _ h.1 (Or.inl rfl) (fun e => hk 4 (by decide) e.2), hf _ _ _ h.2.1 (Or.inl rfl) (fun e => hk 5 (by decide) e.2), hf.wa (hk 2 (by decide)) h.2.2.1, h.2.2.2⟩
theorem lo_P.kp (h : lo_P V g S l s) (hf : gh_fv S ks g g1) (hk : ∀ j, j ∈ [2, 4, 5, 12] → j ∉ ks) : lo_P V g1 S l s := by
  obtain ⟨es, la, lw, fa, h1, h2⟩ := h
  exact ⟨es, la, lw, fa, hf.al (hk 12 (by decide)) h1, fun k h => (h2 k h).kp hf (fun j hj => hk j (by revert hj; simp; omega))⟩
theorem de1.kp (h : de1 g S s d q) (hf : gh_fv S ks g g1) (hk : 6 ∉ ks) : de1 g1 S s d q := hf _ _ _ h (Or.inl rfl) (fun e => hk e.2)
theorem de_P.kp (h : de_P V g S l s) (hf : gh_fv S ks g g1) (hk : ∀ j, j ∈ [6, 13] → j ∉ ks) : de_P V g1 S l s := by
  obtain ⟨es, h1, h2⟩ := h
  exact ⟨es, hf.al (hk 13 (by decide)) h1, fun k h => (h2 k h).kp hf (hk 6 (by decide))⟩
theorem pc1.kp (h : pc1 V g S s F p q kx pw) (hf : gh_fv S ks g g1) (hk : ∀ j, j ∈ [1, 2, 7] → j ∉ ks) : pc1 V g1 S s F p q kx pw :=
  ⟨hf _ _ _ h.1 (Or.inl rfl) (fun e => hk 7 (by decide) e.2), hf.ky (hk 1 (by decide)) h.2.1, hf.wa (hk 2 (by decide)) h.2.2⟩
theorem pc_P.kp (h : pc_P V g S P kxs pws s F) (hf : gh_fv S ks g g1) (hk : ∀ j, j ∈ [1, 2, 7] → j ∉ ks) : pc_P V g1 S P kxs pws s F := fun p hp =>
  ⟨(h p hp).1, fun ho => by obtain ⟨q, h1, h2⟩ := (h p hp).2 ho; exact ⟨q, h1, h2.kp hf hk⟩⟩
theorem ot_P.kp (h : ot_P V g S m P kxs s n0) (hf : gh_fv S ks g g1) (hk : ∀ j, j ∈ [1, 10] → j ∉ ks) : ot_P V g1 S m P kxs s n0 := by
  obtain ⟨M, h1, h2⟩ := h
  exact ⟨M, hf.lm (hk 10 (by decide)) (hk 1 (by decide)) h1, h2⟩
theorem go_P.kp (h : go_P V g S l s n1) (hf : gh_fv S ks g g1) (hk : ∀ j, j ∈ [1, 8, 14, 20, 21, 22, 23] → j ∉ ks) : go_P V g1 S l s n1 := by
  obtain ⟨gq, SS, h1, h2, h3⟩ := h
  exact ⟨gq, SS, hf.al (hk 14 (by decide)) h1, fun i hi => hf.hs (hk (20 + i) (by have h9 : i = 0 ∨ i = 1 ∨ i = 2 ∨ i = 3 := (by omega); (rcases h9 with rfl | rfl | rfl | rfl <;> decide))) (hk 1 (by decide)) (hk 8 (by decide)) (h2 i hi), h3⟩
theorem pn_P.kp (h : pn_P V g S m nx s) (hf : gh_fv S ks g g1) (hk : ∀ j, j ∈ [1, 11] → j ∉ ks) : pn_P V g1 S m nx s := by
  obtain ⟨M, h1, h2⟩ := h
  exact ⟨M, hf.lm (hk 11 (by decide)) (hk 1 (by decide)) h1, h2⟩
end Parts
/-- the state S holds s, F; its maps have at most N entries together -/
def cw_Q (V : gh_V) (g : gh_G) (S : Nat) (s : Nat → Int32) (F : Nat → UInt32) (N : Nat) (ad : Nat → Nat) (I : Nat → Int32) (A : Nat → Nat → Int32) (P : Nat → Option Nat) (kx pw : Nat → Nat) (n0 n1 : Nat) : Prop :=
  st_C V g S ad I A P ∧ st_V s I A ∧ lo_P V g S (ad 9) s ∧ de_P V g S (ad 10) s ∧ pc_P V g S P kx pw s F ∧ ot_P V g S (ad 11) P kx s n0 ∧ go_P V g S (ad 12) s n1 ∧ pn_P V g S (ad 13) (I 3) s ∧ n0 + n1 ≤ N
def cw_R (V : gh_V) (g : gh_G) (S : Nat) (s : Nat → Int32) (F : Nat → UInt32) (N : Nat) : Prop :=
  ∃ (ad : Nat → Nat) (I : Nat → Int32) (A : Nat → Nat → Int32) (P : Nat → Option Nat) (kx pw : Nat → Nat) (n0 n1 : Nat), cw_Q V g S s F N ad I A P kx pw n0 n1
theorem cw_R.kp {V : gh_V} {g g1 : gh_G} {S N : Nat} {s : Nat → Int32} {F : Nat → UInt32} (h : cw_R V g S s F N) (hf : gh_fv S [] g g1) : cw_R V g1 S s F N := by
  obtain ⟨ad, I, A, P, kx, pw, n0, n1, h1, h2, h3, h4, h5, h6, h7, h8, h9⟩ := h
  have hk : ∀ (L : List Nat) (j : Nat), j ∈ L → j ∉ ([] : List Nat) := fun _ _ _ h => absurd h List.not_mem_nil
  exact ⟨ad, I, A, P, kx, pw, n0, n1, h1.kp hf List.not_mem_nil, h2, h3.kp hf (hk _), h4.kp hf (hk _), h5.kp hf (hk _), h6.kp hf (hk _), h7.kp hf (hk _), h8.kp hf (hk _), h9⟩
/-- kept by what another state's method does -/
theorem cw_R.fS {V : gh_V} {g g1 : gh_G} {S S1 N : Nat} {s : Nat → Int32} {F : Nat → UInt32} (h : cw_R V g S s F N) (hne : S ≠ S1) (hf : gh_fS S1 g g1) : cw_R V g1 S s F N := h.kp (hf.v hne)
section GhLoopF
variable {V : gh_V} {p : Program} {l : Launch} {e : Env} {R : Room} {s : State} {m : MethodId} {args : Array Value} {below : List Frame} {meth : Method} {c : Code} {H : Heap} {locs : List Loc} {cells slots : Nat} {Q : State → Prop} {A : Nat → Prop} {g : gh_G} {pc : Nat} {ls : Array Slot} {st : List Value}
/-- a loop with what it has taken behind turn i -/
theorem gh_loopF {N lo : Nat} (cf sf : Nat → Nat) (X : Nat → gh_G → Array Slot → Prop)
    (hexit : ∀ (g : gh_G) (H : Heap) (locs : List Loc) (ls : Array Slot), gh_W V A s g H locs → X N g ls → W p l e R s m args below meth c H locs (cf N) (sf N) Q (F0 m pc ls st))
    (hstep : ∀ i, i < N → (∀ (g : gh_G) (H : Heap) (locs : List Loc) (ls : Array Slot), gh_W V A s g H locs → X (i + 1) g ls → W p l e R s m args below meth c H locs (cf (i + 1)) (sf (i + 1)) Q (F0 m pc ls st)) →
      ∀ (g : gh_G) (H : Heap) (locs : List Loc) (ls : Array Slot), gh_W V A s g H locs → X i g ls → W p l e R s m args below meth c H locs (cf i) (sf i) Q (F0 m pc ls st))
    (hlo : lo ≤ N) (hc : cells ≤ cf lo) (hs : slots ≤ sf lo) (hg : gh_W V A s g H locs) (hX : X lo g ls) : W p l e R s m args below meth c H locs cells slots Q (F0 m pc ls st) := by
  have key : ∀ n i, i + n = N → ∀ (g : gh_G) (H : Heap) (locs : List Loc) (ls : Array Slot), gh_W V A s g H locs → X i g ls → W p l e R s m args below meth c H locs (cf i) (sf i) Q (F0 m pc ls st) := by
    intro n
    induction n with
    | zero =>
      intro i hi g H locs ls hg hX
      have hi : i = N := hi
      subst hi
      exact hexit g H locs ls hg hX
    | succ n ih =>
      intro i hi g H locs ls hg hX
      exact hstep i (by omega) (ih (i + 1) (by omega)) g H locs ls hg hX
  exact W.widen hc hs (key (N - lo) lo (by omega) g H locs ls hg hX)
end GhLoopF
theorem st_C.eqA {V : gh_V} {g : gh_G} {S : Nat} {ad : Nat → Nat} {I : Nat → Int32} {A A' : Nat → Nat → Int32} {P : Nat → Option Nat} (h : st_C V g S ad I A P) (e : A = A') : st_C V g S ad I A' P := e ▸ h
/-! burn, exchange -/
theorem cpn_ge {α : Type} {f d : Nat → α} {n j : Nat} (h : n ≤ j) : cpn f d n j = d j := if_neg (by omega)
theorem gsum_lf {s : Nat → Int32} (hu : s 1 = nI (lf s 0)) (hb : lf s 0 ≤ 99) : ∀ k, gsum s k = s 1 - nI (lf s k) ∧ lf s k ≤ 99
  | 0 => ⟨by rw [hu, gsum, sm]; exact (Int32.sub_self _).symm, hb⟩
  | k + 1 => by
    obtain ⟨h1, h2⟩ := gsum_lf hu hb k
    have h3 : 3 * bn s k ≤ lf s k := bnU_u _ _
    have e : lf s (k + 1) = lf s k - 3 * bn s k := rfl
    refine ⟨?_, by rw [e]; omega⟩
    rw [e, ← nx_sub (rfl : nI (lf s k) = nI (lf s k)) (rfl : nI (3 * bn s k) = nI (3 * bn s k)) h3]
    show gsum s k + 3 * nI (bn s k) = _
    rw [h1, show (3 : Int32) * nI (bn s k) = nI (3 * bn s k) from nx_mul rfl rfl]
    generalize nI (lf s k) = a, nI (3 * bn s k) = b, s 1 = x
    apply Int32.toBitVec_inj.mp
    simp only [Int32.toBitVec_add, Int32.toBitVec_sub]
    bv_omega
def gq9 (s : Nat → Int32) (a : Nat → Int32) : Nat → Int32 := fun j => a j + nI (3 * bn s j)
def fl9 (t : Nat → Int32) (i : Nat) : Int32 := (t i - t (i + 1)) / 16
def exN (t : Nat → Int32) : Nat → (Nat → Int32)
  | 0 => t
  | i + 1 => upd (upd (exN t i) i (exN t i i - fl9 t i)) (i + 1) (upd (exN t i) i (exN t i i - fl9 t i) (i + 1) + fl9 t i)
theorem exN_gt (t : Nat → Int32) : ∀ i j, i < j → exN t i j = t j
  | 0, _, _ => rfl
  | i + 1, j, h => by
    show upd _ _ _ j = _
    unfold upd
    rw [if_neg (by omega), if_neg (by omega)]
    exact exN_gt t i j (by omega)
theorem exN_v (t : Nat → Int32) : ∀ i j, j ≤ i → exN t i j = t j - (if i ≤ j then 0 else fl9 t j) + (if j ≤ 0 then 0 else fl9 t (j - 1))
  | 0, j, h => by
    obtain rfl : j = 0 := by omega
    show t 0 = _
    simp
  | i + 1, j, h => by
    show upd _ _ _ j = _
    unfold upd
    by_cases e : j = i + 1
    · subst e
      rw [if_pos rfl, if_neg (by omega), if_pos (by omega), if_neg (by omega), exN_gt t i _ (by omega), Int32.sub_zero]
      rfl
    · rw [if_neg e]
      by_cases e2 : j = i
      · subst e2
        rw [if_pos rfl, if_neg (by omega), exN_v t j j (by omega), if_pos (by omega), Int32.sub_zero]
        split
        · rw [Int32.add_zero, Int32.add_zero]
        · rw [Int32.sub_eq_add_neg, Int32.sub_eq_add_neg, Int32.add_assoc, Int32.add_assoc, Int32.add_comm (fl9 t (j - 1))]
      · rw [if_neg e2, exN_v t i j (by omega), if_neg (show ¬ i ≤ j by omega), if_neg (show ¬ i + 1 ≤ j by omega)]
theorem exN_cg {t u : Nat → Int32} (h : ∀ j, j < 8 → t j = u j) : ∀ i, i < 8 → ∀ j, j < 8 → exN t i j = exN u i j
  | 0, _, j, hj => h j hj
  | i + 1, hi, j, hj => by
    have e1 := exN_cg h i (by omega) i (by omega)
    have e2 := exN_cg h i (by omega) (i + 1) (by omega)
    have e3 := exN_cg h i (by omega) j hj
    show upd _ _ _ j = upd _ _ _ j
    unfold upd fl9
    rw [e1, e2, e3, h i (by omega), h (i + 1) (by omega)]
theorem exN_z {s t : Nat → Int32} (h : ∀ j, j < 8 → t j = wm s j) {z : Nat} (hz : z < 8) : exN t 7 z = exz s z := by
  rw [exN_cg h 7 (by omega) z hz, exN_v _ 7 z (by omega)]
  unfold exz fl9
  by_cases e : z ≤ 0
  · rw [if_pos e, if_pos e]
  · rw [if_neg e, if_neg e, show z - 1 + 1 = z by omega]
def bnp (s : Nat → Int32) : Nat → Nat
  | 0 => 0
  | i + 1 => bn s i
def clA9 (A : Nat → Nat → Int32) (c q : Nat) : Nat → Nat → Int32 :=
  if A 7 c ≤ 0 then A else if A 7 c - 1 = 0 then va_up (va_up A 7 (upd (A 7) c (A 7 c - 1))) 5 (upd (A 5) q 0) else va_up A 7 (upd (A 7) c (A 7 c - 1))
set_option maxRecDepth 100000
theorem fX2_17_2 : gh_fd RX2 17 2 8 (.array (.object "AnnealingLehr$Piece")) true := gh_fd.own (T := TX2) tyX2 rfl in_X2 tyX2_ok nmX2 (by decide) q1195 rfl rfl (fun h => rfl)
theorem fX2_44_2 : gh_fd RX2 44 2 3 (.array .int) true := gh_fd.own (T := TX2) tyX2 rfl in_X2 tyX2_ok nmX2 (by decide) q1185 rfl rfl (fun h => rfl)
theorem fX2_48_2 : gh_fd RX2 48 2 4 (.array .int) true := gh_fd.own (T := TX2) tyX2 rfl in_X2 tyX2_ok nmX2 (by decide) q1187 rfl rfl (fun h => rfl)
theorem fX2_51_2 : gh_fd RX2 51 2 5 (.array .int) true := gh_fd.own (T := TX2) tyX2 rfl in_X2 tyX2_ok nmX2 (by decide) q1189 rfl rfl (fun h => rfl)
theorem fX2_54_2 : gh_fd RX2 54 2 6 (.array .int) true := gh_fd.own (T := TX2) tyX2 rfl in_X2 tyX2_ok nmX2 (by decide) q1191 rfl rfl (fun h => rfl)
theorem fX2_57_2 : gh_fd RX2 57 2 7 (.array .int) true := gh_fd.own (T := TX2) tyX2 rfl in_X2 tyX2_ok nmX2 (by decide) q1193 rfl rfl (fun h => rfl)
theorem fX2_60_2 : gh_fd RX2 60 2 9 (.array .boolean) true := gh_fd.own (T := TX2) tyX2 rfl in_X2 tyX2_ok nmX2 (by decide) q1197 rfl rfl (fun h => rfl)
theorem fX2_64_2 : gh_fd RX2 64 2 10 (.array .int) true := gh_fd.own (T := TX2) tyX2 rfl in_X2 tyX2_ok nmX2 (by decide) q1199 rfl rfl (fun h => rfl)
theorem fX2_67_2 : gh_fd RX2 67 2 11 (.array .int) true := gh_fd.own (T := TX2) tyX2 rfl in_X2 tyX2_ok nmX2 (by decide) q1201 rfl rfl (fun h => rfl)
theorem fX2_85_2 : gh_fd RX2 85 2 2 .int false := gh_fd.own (T := TX2) tyX2 rfl in_X2 tyX2_ok nmX2 (by decide) q1183 rfl rfl (fun h => by cases h)
theorem fX2_9_2 : gh_fd RX2 9 2 1 .int false := gh_fd.own (T := TX2) tyX2 rfl in_X2 tyX2_ok nmX2 (by decide) q1181 rfl rfl (fun h => by cases h)
theorem hd_X13_of : yX13_of.cls = RX13 ∧ yX13_of.cls ≠ "java/lang/invoke/MethodHandle" ∧ yX13_of.cls ≠ "java/lang/invoke/VarHandle" ∧ (parseMethodDescriptor yX13_of.desc).map (fun d => d.parameters.length) = some 1 := by decide +kernel
theorem hdF_AnnealingLehr_Burner_with_1 : (⟨"AnnealingLehr$Burner", "with", "(I)LAnnealingLehr$Burner;"⟩ : MethodName).cls ≠ "java/lang/invoke/MethodHandle" ∧ (⟨"AnnealingLehr$Burner", "with", "(I)LAnnealingLehr$Burner;"⟩ : MethodName).cls ≠ "java/lang/invoke/VarHandle" ∧ (parseMethodDescriptor (⟨"AnnealingLehr$Burner", "with", "(I)LAnnealingLehr$Burner;"⟩ : MethodName).desc).map (fun d => d.parameters.length) = some 1 := by decide +kernel
theorem hdF_Enum_ordinal_0 : (⟨"java/lang/Enum", "ordinal", "()I"⟩ : MethodName).cls ≠ "java/lang/invoke/MethodHandle" ∧ (⟨"java/lang/Enum", "ordinal", "()I"⟩ : MethodName).cls ≠ "java/lang/invoke/VarHandle" ∧ (parseMethodDescriptor (⟨"java/lang/Enum", "ordinal", "()I"⟩ : MethodName).desc).map (fun d => d.parameters.length) = some 0 := by decide +kernel
set_option maxHeartbeats 1000000 in
set_option maxRecDepth 100000 in
theorem j_X2_zoneOf (l : Launch) (V : gh_V) (g0 : gh_G) (p9 : Nat) (hp24 : p9 < 24) : MI l yX2_zoneOf cX2_zoneOf 1 (some .int) ({ frames := 0, cells := 0, slots := 0, locals := 0 } : Room) V [.int (nI p9)] g0 (fun r g1 => r = nI (p9 / 3) ∧ g1 = g0) := by
  refine MG.of RX2 (by decide) rfl (Nat.le_of_ble_eq_true rfl) (fun pp ee s mm args below meth c ls hC hg hr hlk hnm hl => ?_)
  have hx := hC.1.1
  have hb := hC.1.2.1
  have hml := hC.1.2.2.1
  have hown := hC.1.2.2.2.1
  have hts := hC.1.2.2.2.2
  have hl : lv_has ls 1 [(0, .int (nI p9))] := hl
  obtain ⟨g, hg, hgg⟩ : ∃ g, gh_W V (gh_A g0 s.heap.size) s g s.heap [] ∧ g = g0 := ⟨g0, hg, rfl⟩
  have h3 : nI p9 / 3 = nI (p9 / 3) := nx_div rfl rfl (by omega) (by omega) (by omega)
  refine lv_iload_n hx hb dX2_zoneOf_0 rfl (lv_at hl 0 rfl) ?_
  refine lv_iconst (v := 3) hx hb dX2_zoneOf_1 (by decide) ?_
  refine lv_idiv hx hb dX2_zoneOf_2 (by decide) ?_
  exact gh_reti hC hg hr hlk (⟨h3, hgg⟩) dX2_zoneOf_3 (Nat.le_of_ble_eq_true rfl) (Nat.le_of_ble_eq_true rfl)
set_option maxHeartbeats 1000000 in
set_option maxRecDepth 100000 in
theorem j_X2_setBurner (l : Launch) (V : gh_V) (g0 : gh_G) (S : Nat) (ad : Nat → Nat) (I : Nat → Int32) (A : Nat → Nat → Int32) (P : Nat → Option Nat) (hT0 : st_C V g0 S ad I A P) (z : Nat) (v9 : Int32) (hz : z < 8) : MI l yX2_setBurner cX2_setBurner 3 (some .boolean) ({ frames := 0, cells := 0, slots := 0, locals := 0 } : Room) V [.ref S, .int (nI z), .int v9] g0 (fun r g1 => r = 1 ∧ st_C V g1 S ad I (va_up A 0 (upd (A 0) z v9)) P ∧ gh_fw S [0] g0 g1) := by
  refine MG.of RX2 (by decide) rfl (Nat.le_of_ble_eq_true rfl) (fun pp ee s9 mm args below meth c ls hC hg hr hlk hnm hl => ?_)
  have hx := hC.1.1
  have hb := hC.1.2.1
  have hml := hC.1.2.2.1
  have hown := hC.1.2.2.2.1
  have hts := hC.1.2.2.2.2
  have hl : lv_has ls 3 [(0, .ref S), (1, .int (nI z)), (2, .int v9)] := hl
  obtain ⟨g, hg, hgg⟩ : ∃ g, gh_W V (gh_A g0 s9.heap.size) s9 g s9.heap [] ∧ g = g0 := ⟨g0, hg, rfl⟩
  have hT := hT0
  rw [← hgg] at hT
  have hF : gh_fw S [0] g0 g := by rw [hgg]; exact gh_fw.rf
  refine lv_aload_n hx hb dX2_setBurner_0 rfl (lv_at hl 0 rfl) ?_
  refine gh_get (v := .ref (ad 0)) hC hg hT.1 fX2_44_2 rfl dX2_setBurner_1 ?_
  refine lv_iload_n hx hb dX2_setBurner_4 rfl (lv_at hl 1 rfl) ?_
  refine lv_iload_n hx hb dX2_setBurner_5 rfl (lv_at hl 2 rfl) ?_
  refine gh_iast (n := 8) (f := (A 0)) hC hg hT.a0 rfl (by omega) (by omega) dX2_setBurner_6 (fun g H locs hg hw hn => ?_)
  have hF : gh_fw S [0] g0 g := hF.set hT.a0 (by decide) hn
  have hT : st_C V g S ad I (va_up A 0 (upd (A 0) z v9)) P := hT.setA 0 (by decide) hw hn
  refine lv_iconst (v := 1) hx hb dX2_setBurner_7 (by decide) ?_
  exact gh_retz rfl hC hg hr hlk (⟨rfl, hT, hF⟩) dX2_setBurner_8 (Nat.le_of_ble_eq_true rfl) (Nat.le_of_ble_eq_true rfl)
set_option maxHeartbeats 1000000 in
set_option maxRecDepth 100000 in
theorem j_X2_setFan (l : Launch) (V : gh_V) (g0 : gh_G) (S : Nat) (ad : Nat → Nat) (I : Nat → Int32) (A : Nat → Nat → Int32) (P : Nat → Option Nat) (hT0 : st_C V g0 S ad I A P) (z : Nat) (v9 : Int32) (hz : z < 8) : MI l yX2_setFan cX2_setFan 3 (some .boolean) ({ frames := 0, cells := 0, slots := 0, locals := 0 } : Room) V [.ref S, .int (nI z), .int v9] g0 (fun r g1 => r = 1 ∧ st_C V g1 S ad I (va_up A 1 (upd (A 1) z v9)) P ∧ gh_fw S [0] g0 g1) := by
  refine MG.of RX2 (by decide) rfl (Nat.le_of_ble_eq_true rfl) (fun pp ee s9 mm args below meth c ls hC hg hr hlk hnm hl => ?_)
  have hx := hC.1.1
  have hb := hC.1.2.1
  have hml := hC.1.2.2.1
  have hown := hC.1.2.2.2.1
  have hts := hC.1.2.2.2.2
  have hl : lv_has ls 3 [(0, .ref S), (1, .int (nI z)), (2, .int v9)] := hl
  obtain ⟨g, hg, hgg⟩ : ∃ g, gh_W V (gh_A g0 s9.heap.size) s9 g s9.heap [] ∧ g = g0 := ⟨g0, hg, rfl⟩
  have hT := hT0
  rw [← hgg] at hT
  have hF : gh_fw S [0] g0 g := by rw [hgg]; exact gh_fw.rf
  refine lv_aload_n hx hb dX2_setFan_0 rfl (lv_at hl 0 rfl) ?_
  refine gh_get (v := .ref (ad 1)) hC hg hT.1 fX2_48_2 rfl dX2_setFan_1 ?_
  refine lv_iload_n hx hb dX2_setFan_4 rfl (lv_at hl 1 rfl) ?_
  refine lv_iload_n hx hb dX2_setFan_5 rfl (lv_at hl 2 rfl) ?_
  refine gh_iast (n := 8) (f := (A 1)) hC hg hT.a1 rfl (by omega) (by omega) dX2_setFan_6 (fun g H locs hg hw hn => ?_)
  have hF : gh_fw S [0] g0 g := hF.set hT.a1 (by decide) hn
  have hT : st_C V g S ad I (va_up A 1 (upd (A 1) z v9)) P := hT.setA 1 (by decide) hw hn
  refine lv_iconst (v := 1) hx hb dX2_setFan_7 (by decide) ?_
  exact gh_retz rfl hC hg hr hlk (⟨rfl, hT, hF⟩) dX2_setFan_8 (Nat.le_of_ble_eq_true rfl) (Nat.le_of_ble_eq_true rfl)
set_option maxHeartbeats 1000000 in
set_option maxRecDepth 100000 in
theorem j_X2_setRollers (l : Launch) (V : gh_V) (g0 : gh_G) (S : Nat) (ad : Nat → Nat) (I : Nat → Int32) (A : Nat → Nat → Int32) (P : Nat → Option Nat) (hT0 : st_C V g0 S ad I A P) (z : Nat) (v9 : Int32) (hz : z < 8) : MI l yX2_setRollers cX2_setRollers 3 (some .boolean) ({ frames := 0, cells := 0, slots := 0, locals := 0 } : Room) V [.ref S, .int (nI z), .int v9] g0 (fun r g1 => r = 1 ∧ st_C V g1 S ad I (va_up A 2 (upd (A 2) z v9)) P ∧ gh_fw S [0] g0 g1) := by
  refine MG.of RX2 (by decide) rfl (Nat.le_of_ble_eq_true rfl) (fun pp ee s9 mm args below meth c ls hC hg hr hlk hnm hl => ?_)
  have hx := hC.1.1
  have hb := hC.1.2.1
  have hml := hC.1.2.2.1
  have hown := hC.1.2.2.2.1
  have hts := hC.1.2.2.2.2
  have hl : lv_has ls 3 [(0, .ref S), (1, .int (nI z)), (2, .int v9)] := hl
  obtain ⟨g, hg, hgg⟩ : ∃ g, gh_W V (gh_A g0 s9.heap.size) s9 g s9.heap [] ∧ g = g0 := ⟨g0, hg, rfl⟩
  have hT := hT0
  rw [← hgg] at hT
  have hF : gh_fw S [0] g0 g := by rw [hgg]; exact gh_fw.rf
  refine lv_aload_n hx hb dX2_setRollers_0 rfl (lv_at hl 0 rfl) ?_
  refine gh_get (v := .ref (ad 2)) hC hg hT.1 fX2_51_2 rfl dX2_setRollers_1 ?_
  refine lv_iload_n hx hb dX2_setRollers_4 rfl (lv_at hl 1 rfl) ?_
  refine lv_iload_n hx hb dX2_setRollers_5 rfl (lv_at hl 2 rfl) ?_
  refine gh_iast (n := 8) (f := (A 2)) hC hg hT.a2 rfl (by omega) (by omega) dX2_setRollers_6 (fun g H locs hg hw hn => ?_)
  have hF : gh_fw S [0] g0 g := hF.set hT.a2 (by decide) hn
  have hT : st_C V g S ad I (va_up A 2 (upd (A 2) z v9)) P := hT.setA 2 (by decide) hw hn
  refine lv_iconst (v := 1) hx hb dX2_setRollers_7 (by decide) ?_
  exact gh_retz rfl hC hg hr hlk (⟨rfl, hT, hF⟩) dX2_setRollers_8 (Nat.le_of_ble_eq_true rfl) (Nat.le_of_ble_eq_true rfl)
set_option maxHeartbeats 1000000 in
set_option maxRecDepth 100000 in
theorem j_X2_isFree (l : Launch) (V : gh_V) (g0 : gh_G) (S : Nat) (ad : Nat → Nat) (I : Nat → Int32) (A : Nat → Nat → Int32) (P : Nat → Option Nat) (hT0 : st_C V g0 S ad I A P) (p9 : Nat) (hp24 : p9 < 24) : MI l yX2_isFree cX2_isFree 2 (some .boolean) ({ frames := 0, cells := 0, slots := 0, locals := 0 } : Room) V [.ref S, .int (nI p9)] g0 (fun r g1 => r = (if P p9 = none ∧ A 5 p9 = 0 then 1 else 0) ∧ g1 = g0) := by
  refine MG.of RX2 (by decide) rfl (Nat.le_of_ble_eq_true rfl) (fun pp ee s9 mm args below meth c ls hC hg hr hlk hnm hl => ?_)
  have hx := hC.1.1
  have hb := hC.1.2.1
  have hml := hC.1.2.2.1
  have hown := hC.1.2.2.2.1
  have hts := hC.1.2.2.2.2
  have hl : lv_has ls 2 [(0, .ref S), (1, .int (nI p9))] := hl
  obtain ⟨g, hg, hgg⟩ : ∃ g, gh_W V (gh_A g0 s9.heap.size) s9 g s9.heap [] ∧ g = g0 := ⟨g0, hg, rfl⟩
  have hT := hT0
  rw [← hgg] at hT
  refine lv_aload_n hx hb dX2_isFree_0 rfl (lv_at hl 0 rfl) ?_
  refine gh_get (v := .ref (ad 8)) hC hg hT.1 fX2_17_2 rfl dX2_isFree_1 ?_
  refine lv_iload_n hx hb dX2_isFree_4 rfl (lv_at hl 1 rfl) ?_
  refine gh_qald (n := 24) (f := P) hC hg hT.2.2 rfl rfl (by omega) (by omega) dX2_isFree_5 ?_
  refine lv_ifnonnullQ (tgt := 22) hx hb dX2_isFree_6 (by decide) (fun y_2 hq_1 => ?_) (fun hq_1 => ?_)
  · skip
    refine lv_iconst (v := 0) hx hb dX2_isFree_22 (by decide) ?_
    exact gh_retz rfl hC hg hr hlk (⟨(if_neg (fun h9 => absurd (hq_1.symm.trans h9.1) (by simp))).symm, hgg⟩) dX2_isFree_23 (Nat.le_of_ble_eq_true rfl) (Nat.le_of_ble_eq_true rfl)
  refine lv_aload_n hx hb dX2_isFree_9 rfl (lv_at hl 0 rfl) ?_
  refine gh_get (v := .ref (ad 5)) hC hg hT.1 fX2_60_2 rfl dX2_isFree_10 ?_
  refine lv_iload_n hx hb dX2_isFree_13 rfl (lv_at hl 1 rfl) ?_
  refine gh_zald (n := 24) (f := (A 5)) hC hg hT.a5 rfl (by omega) (by omega) dX2_isFree_14 ?_
  refine lv_if_ne (tgt := 22) hx hb dX2_isFree_15 (by decide) (fun c_3 => ?_) (fun c_3 => ?_)
  · skip
    refine lv_iconst (v := 0) hx hb dX2_isFree_22 (by decide) ?_
    exact gh_retz rfl hC hg hr hlk (⟨(if_neg (fun h9 => c_3 h9.2)).symm, hgg⟩) dX2_isFree_23 (Nat.le_of_ble_eq_true rfl) (Nat.le_of_ble_eq_true rfl)
  refine lv_iconst (v := 1) hx hb dX2_isFree_18 (by decide) ?_
  refine lv_goto (tgt := 23) hx hb dX2_isFree_19 (by decide) ?_
  exact gh_retz rfl hC hg hr hlk (⟨(if_pos ⟨hq_1, c_3⟩).symm, hgg⟩) dX2_isFree_23 (Nat.le_of_ble_eq_true rfl) (Nat.le_of_ble_eq_true rfl)
theorem gh_withX2 {V : gh_V} {p : Program} {l : Launch} {e : Env} {R : Room} {s : State} {m : MethodId} {args : Array Value} {below : List Frame} {meth : Method} {c0 : Code} {H : Heap} {locs : List Loc} {cells slots : Nat} {Q : State → Prop} {cc : ByteArray} {nL : Nat} {A : Nat → Prop} {g : gh_G} {pc : Nat} {ls : Array Slot} {rest : List Value} {i u : Nat} (hi4 : i < 4) (hu9 : u < 1000)
    (hC : gh_C V p s m args c0 cc nL RX2 A) (hg : gh_W V A s g H locs) (hl : ls.size = nL) (hW : (rest.map fun v => v.category).sum ≤ 8) (hdg : decode cc pc = .ok (.invokevirtual 301, 3)) (hR : 2 ≤ R.frames ∧ 42 ≤ R.locals) (hf : cells + 0 ≤ R.cells ∧ slots + 0 ≤ R.slots)
    (kk : ∀ (H1 : Heap) (locs1 : List Loc), gh_W V A s g H1 locs1 → W p l e R s m args below meth c0 H1 locs1 cells slots Q (F0 m (pc + 3) ls (.ref (V.2.2 (2 + bnU u i)) :: rest))) : W p l e R s m args below meth c0 H locs cells slots Q (F0 m pc ls (.int (nI u) :: .ref (V.2.2 (2 + i)) :: rest)) := by
  have hts := hC.1.2.2.2.2
  obtain rfl | rfl | rfl | rfl : i = 0 ∨ i = 1 ∨ i = 2 ∨ i = 3 := by omega
  · refine gh_callq hg (gh_runU (x := ⟨"AnnealingLehr$Burner", "with", "(I)LAnnealingLehr$Burner;"⟩) (C := "AnnealingLehr$Burner$1") (owner := "AnnealingLehr$Burner") (As := [.int (nI u)]) (rest := rest) hC hg (j_X13_with l V _ 0 u (by decide) hu9) 1 (va_cwU 1 hts (lw_U q2635 q2637 q2636 q2638 q172 q2642) rfl rfl rfl rfl hdF_AnnealingLehr_Burner_with_1 ⟨Nat.le_trans (by decide) hR.1, Nat.le_trans (by decide) hR.2⟩) (gh_recvK hC hg (by decide +kernel : ("AnnealingLehr$Burner$1", 2) ∈ gh_co)) rfl hl rfl hW hdg hf) (fun r9 g1 H1 locs1 hg1 hp => ?_)
    obtain ⟨rfl, rfl⟩ := hp
    exact kk H1 locs1 hg1
  · refine gh_callq hg (gh_runU (x := ⟨"AnnealingLehr$Burner", "with", "(I)LAnnealingLehr$Burner;"⟩) (C := "AnnealingLehr$Burner$2") (owner := "AnnealingLehr$Burner") (As := [.int (nI u)]) (rest := rest) hC hg (j_X13_with l V _ 1 u (by decide) hu9) 1 (va_cwU 1 hts (lw_U q2635 q2637 q2636 q2639 q172 q2642) rfl rfl rfl rfl hdF_AnnealingLehr_Burner_with_1 ⟨Nat.le_trans (by decide) hR.1, Nat.le_trans (by decide) hR.2⟩) (gh_recvK hC hg (by decide +kernel : ("AnnealingLehr$Burner$2", 3) ∈ gh_co)) rfl hl rfl hW hdg hf) (fun r9 g1 H1 locs1 hg1 hp => ?_)
    obtain ⟨rfl, rfl⟩ := hp
    exact kk H1 locs1 hg1
  · refine gh_callq hg (gh_runU (x := ⟨"AnnealingLehr$Burner", "with", "(I)LAnnealingLehr$Burner;"⟩) (C := "AnnealingLehr$Burner$3") (owner := "AnnealingLehr$Burner") (As := [.int (nI u)]) (rest := rest) hC hg (j_X13_with l V _ 2 u (by decide) hu9) 1 (va_cwU 1 hts (lw_U q2635 q2637 q2636 q2640 q172 q2642) rfl rfl rfl rfl hdF_AnnealingLehr_Burner_with_1 ⟨Nat.le_trans (by decide) hR.1, Nat.le_trans (by decide) hR.2⟩) (gh_recvK hC hg (by decide +kernel : ("AnnealingLehr$Burner$3", 4) ∈ gh_co)) rfl hl rfl hW hdg hf) (fun r9 g1 H1 locs1 hg1 hp => ?_)
    obtain ⟨rfl, rfl⟩ := hp
    exact kk H1 locs1 hg1
  · refine gh_callq hg (gh_runU (x := ⟨"AnnealingLehr$Burner", "with", "(I)LAnnealingLehr$Burner;"⟩) (C := "AnnealingLehr$Burner$4") (owner := "AnnealingLehr$Burner") (As := [.int (nI u)]) (rest := rest) hC hg (j_X13_with l V _ 3 u (by decide) hu9) 1 (va_cwU 1 hts (lw_U q2635 q2637 q2636 q2641 q172 q2642) rfl rfl rfl rfl hdF_AnnealingLehr_Burner_with_1 ⟨Nat.le_trans (by decide) hR.1, Nat.le_trans (by decide) hR.2⟩) (gh_recvK hC hg (by decide +kernel : ("AnnealingLehr$Burner$4", 5) ∈ gh_co)) rfl hl rfl hW hdg hf) (fun r9 g1 H1 locs1 hg1 hp => ?_)
    obtain ⟨rfl, rfl⟩ := hp
    exact kk H1 locs1 hg1
set_option maxHeartbeats 1000000 in
set_option maxRecDepth 100000 in
theorem j_X2_burn (l : Launch) (V : gh_V) (g0 : gh_G) (S : Nat) (ad : Nat → Nat) (I : Nat → Int32) (A : Nat → Nat → Int32) (P : Nat → Option Nat) (hT0 : st_C V g0 S ad I A P) (s : Nat → Int32) (L D Pn : Nat) (hE : tw_wf s L D Pn) (hV : st_V s I A) : MV l yX2_burn cX2_burn 5 ({ frames := 2, cells := 0, slots := 0, locals := 42 } : Room) V [.ref S] g0 (fun g1 => st_C V g1 S ad (va_up I 2 (s 2 + gsum s 8)) (va_up (va_up A 4 (cpn (gq9 s (A 4)) (A 4) 8)) 3 (cpn (wm s) (A 3) 8)) P ∧ gh_fw S [0] g0 g1) := by
  refine MG.of RX2 (by decide) rfl (Nat.le_of_ble_eq_true rfl) (fun pp ee s9 mm args below meth c ls hC hg hr hlk hnm hl => ?_)
  have hx := hC.1.1
  have hb := hC.1.2.1
  have hml := hC.1.2.2.1
  have hown := hC.1.2.2.2.1
  have hts := hC.1.2.2.2.2
  have hl : lv_has ls 5 [(0, .ref S)] := hl
  obtain ⟨g, hg, hgg⟩ : ∃ g, gh_W V (gh_A g0 s9.heap.size) s9 g s9.heap [] ∧ g = g0 := ⟨g0, hg, rfl⟩
  have hT := hT0
  rw [← hgg] at hT
  have hF : gh_fw S [0] g0 g := by rw [hgg]; exact gh_fw.rf
  have hu := wf_u hE
  refine lv_aload_n hx hb dX2_burn_0 rfl (lv_at hl 0 rfl) ?_
  refine gh_get (v := .int (I 1)) hC hg hT.1 fX2_9_2 rfl dX2_burn_1 ?_
  refine W.eq (g2 := F0 mm 4 ls [.int (nI (lf s 0))]) (by rw [(hV.2.1.trans hu.1)] <;> rfl) ?_
  refine lv_istore_n (lv' := [(1, .int (nI (lf s 0))), (0, .ref S)]) hx hb dX2_burn_4 rfl hl (by decide) rfl (fun ls hl => ?_)
  refine lv_iconst (v := 0) hx hb dX2_burn_5 (by decide) ?_
  refine lv_istore_n (lv' := [(2, .int 0), (1, .int (nI (lf s 0))), (0, .ref S)]) hx hb dX2_burn_6 rfl hl (by decide) rfl (fun ls hl => ?_)
  refine gh_loop (N := 8) (X := fun i_1 g ls => (st_C V g S ad I (va_up (va_up A 4 (cpn (gq9 s (A 4)) (A 4) i_1)) 3 (cpn (wm s) (A 3) i_1)) P) ∧ (gh_fw S [0] g0 g) ∧ lv_has ls 5 [(0, .ref S), (1, .int (nI (lf s i_1))), (2, .int (nI i_1))]) ?_ ?_ 0 (by omega) hg ⟨(hT.eqA (fam8 rfl rfl rfl (cpn_0 (wm s) (A 3)).symm (cpn_0 (gq9 s (A 4)) (A 4)).symm rfl rfl rfl (fun _ => rfl))), hF, lv_sub hl [2, 1, 0] rfl⟩
  · intro g H locs ls hg hX
    obtain ⟨hT, hF, hl⟩ := hX
    refine lv_iload_n hx hb dX2_burn_7 rfl (lv_at hl 2 rfl) ?_
    refine lv_bipush (v := 8) hx hb dX2_burn_8 (by decide) ?_
    refine lv_icmp_ge (tgt := 106) hx hb dX2_burn_10 (by decide) (fun _ => ?_) (fun c_2 => (absurd ((nx_le (show ((8 : Int32)) = nI 8 from rfl) rfl (by omega) (by omega)).mpr (by omega)) c_2))
    refine lv_aload_n hx hb dX2_burn_106 rfl (lv_at hl 0 rfl) ?_
    refine lv_dup hx hb dX2_burn_107 rfl ?_
    refine gh_get (v := .int (I 2)) hC hg hT.1 fX2_85_2 rfl dX2_burn_108 ?_
    refine lv_aload_n hx hb dX2_burn_111 rfl (lv_at hl 0 rfl) ?_
    refine gh_get (v := .int (I 1)) hC hg hT.1 fX2_9_2 rfl dX2_burn_112 ?_
    refine lv_iload_n hx hb dX2_burn_115 rfl (lv_at hl 1 rfl) ?_
    refine lv_isub hx hb dX2_burn_116 ?_
    refine lv_iadd hx hb dX2_burn_117 ?_
    have hEq : ((I 2) + ((I 1) - (nI (lf s 8)))) = s 2 + gsum s 8 := by rw [(gsum_lf hu.1 hu.2 8).1, hV.2.2.1, hV.2.1]
    refine gh_put (v := .int ((I 2) + ((I 1) - (nI (lf s 8))))) hC hg hT.1 fX2_85_2 rfl rfl (Nat.le_of_ble_eq_true rfl) dX2_burn_118 (fun g H locs hg hw hn => ?_)
    have hF : gh_fw S [0] g0 g := hF.set hT.1 (by decide) hn
    have hT : st_C V g S ad (va_up I 2 ((I 2) + ((I 1) - (nI (lf s 8))))) (va_up (va_up A 4 (cpn (gq9 s (A 4)) (A 4) 8)) 3 (cpn (wm s) (A 3) 8)) P := hT.setI 2 hw hn
    exact gh_retv hC hg hr hlk (⟨by rw [← hEq]; exact hT, hF⟩) dX2_burn_121 (Nat.le_of_ble_eq_true rfl) (Nat.le_of_ble_eq_true rfl)
  · intro i_1 hi7 ih7 g H locs ls hg hX
    obtain ⟨hT, hF, hl⟩ := hX
    have hb3 := (wf_bz hE hi7).2
    have hlf := (gsum_lf hu.1 hu.2 i_1).2
    have hbl : 3 * bn s i_1 ≤ lf s i_1 := bnU_u _ _
    have hbn : bn s i_1 ≤ bz s i_1 := bnU_le _ _
    refine lv_iload_n hx hb dX2_burn_7 rfl (lv_at hl 2 rfl) ?_
    refine lv_bipush (v := 8) hx hb dX2_burn_8 (by decide) ?_
    refine lv_icmp_ge (tgt := 106) hx hb dX2_burn_10 (by decide) (fun c_3 => (absurd ((nx_le (show ((8 : Int32)) = nI 8 from rfl) rfl (by omega) (by omega)).mp c_3) (by omega))) (fun _ => ?_)
    refine lv_aload_n hx hb dX2_burn_13 rfl (lv_at hl 0 rfl) ?_
    refine gh_get (v := .ref (ad 0)) hC hg hT.1 fX2_44_2 rfl dX2_burn_14 ?_
    refine lv_iload_n hx hb dX2_burn_17 rfl (lv_at hl 2 rfl) ?_
    refine gh_iald (n := 8) (f := (A 0)) hC hg hT.a0 rfl (by omega) (by omega) dX2_burn_18 ?_
    refine W.eq (g2 := F0 mm 19 ls [.int (nI (bz s i_1))]) (by rw [((hV.2.2.2.1 i_1 (by omega)).1.trans (wf_bz hE (by omega)).1)] <;> rfl) ?_
    refine gh_callq hg (gh_runS (As := [.int (nI (bz s i_1))]) (rest := []) hC hg (j_X13_of l V _ (bz s i_1) (by omega)) 1 (lw_S q2624 q2625 q172 q2626) hd_X13_of.2 ⟨Nat.le_of_ble_eq_true rfl, Nat.le_of_ble_eq_true rfl⟩ rfl hl.1 rfl (Nat.le_of_ble_eq_true rfl) dX2_burn_19 ⟨Nat.le_of_ble_eq_true rfl, Nat.le_of_ble_eq_true rfl⟩) (fun r_4 g H locs hg hp => ?_)
    obtain ⟨hp, hq9⟩ := hp
    subst hp
    rw [← hq9] at hT hF
    try rw [← hq9] at hgg
    refine W.eq (g2 := F0 mm 22 ls [.ref (V.2.2 (2 + (bz s i_1)))]) rfl ?_
    refine lv_iload_n hx hb dX2_burn_22 rfl (lv_at hl 1 rfl) ?_
    refine gh_withX2 (i := bz s i_1) (u := lf s i_1) (by omega) (by omega) hC hg hl.1 (Nat.le_of_ble_eq_true rfl) dX2_burn_23 ⟨Nat.le_of_ble_eq_true rfl, Nat.le_of_ble_eq_true rfl⟩ ⟨Nat.le_of_ble_eq_true rfl, Nat.le_of_ble_eq_true rfl⟩ (fun H locs hg => ?_)
    refine W.eq (g2 := F0 mm 26 ls [.ref (V.2.2 (2 + (bn s i_1)))]) rfl ?_
    refine lv_astore_n (lv' := [(3, .ref (V.2.2 (2 + (bn s i_1)))), (0, .ref S), (1, .int (nI (lf s i_1))), (2, .int (nI i_1))]) hx hb dX2_burn_26 rfl hl (by decide) rfl (fun ls hl => ?_)
    refine lv_iload_n hx hb dX2_burn_27 rfl (lv_at hl 2 rfl) ?_
    refine lv_aload_n hx hb dX2_burn_28 rfl (lv_at hl 0 rfl) ?_
    refine gh_gasX2 (i := (bn s i_1)) (by omega) hC hg hl.1 (Nat.le_of_ble_eq_true rfl) dX2_burn_29 ⟨Nat.le_of_ble_eq_true rfl, Nat.le_of_ble_eq_true rfl⟩ ⟨Nat.le_of_ble_eq_true rfl, Nat.le_of_ble_eq_true rfl⟩ (fun H locs hg => ?_)
    refine lv_isub hx hb dX2_burn_32 ?_
    refine lv_istore_n (lv' := [(1, .int ((nI (lf s i_1)) - (nI (3 * bn s i_1)))), (3, .ref (V.2.2 (2 + (bn s i_1)))), (0, .ref S), (2, .int (nI i_1))]) hx hb dX2_burn_33 rfl hl (by decide) rfl (fun ls hl => ?_)
    refine lv_aload_n hx hb dX2_burn_34 rfl (lv_at hl 2 rfl) ?_
    refine gh_get (v := .ref (ad 4)) hC hg hT.1 fX2_57_2 rfl dX2_burn_35 ?_
    refine lv_iload_n hx hb dX2_burn_38 rfl (lv_at hl 3 rfl) ?_
    refine lv_dup2_11 hx hb dX2_burn_39 rfl rfl ?_
    refine gh_iald (n := 8) (f := (cpn (gq9 s (A 4)) (A 4) i_1)) hC hg hT.a4 rfl (by omega) (by omega) dX2_burn_40 ?_
    refine W.eq (g2 := F0 mm 41 ls [.int (A 4 i_1), .int (nI i_1), .ref (ad 4)]) (by rw [cpn_ge (f := gq9 s (A 4)) (d := A 4) (Nat.le_refl i_1)] <;> rfl) ?_
    refine lv_aload_n hx hb dX2_burn_41 rfl (lv_at hl 1 rfl) ?_
    refine gh_gasX2 (i := (bn s i_1)) (by omega) hC hg hl.1 (Nat.le_of_ble_eq_true rfl) dX2_burn_42 ⟨Nat.le_of_ble_eq_true rfl, Nat.le_of_ble_eq_true rfl⟩ ⟨Nat.le_of_ble_eq_true rfl, Nat.le_of_ble_eq_true rfl⟩ (fun H locs hg => ?_)
    refine lv_iadd hx hb dX2_burn_45 ?_
    refine gh_iast (n := 8) (f := (cpn (gq9 s (A 4)) (A 4) i_1)) hC hg hT.a4 rfl (by omega) (by omega) dX2_burn_46 (fun g H locs hg hw hn => ?_)
    have hF : gh_fw S [0] g0 g := hF.set hT.a4 (by decide) hn
    have hT : st_C V g S ad I (va_up (va_up (va_up A 4 (cpn (gq9 s (A 4)) (A 4) i_1)) 3 (cpn (wm s) (A 3) i_1)) 4 (upd (cpn (gq9 s (A 4)) (A 4) i_1) i_1 ((A 4 i_1) + (nI (3 * bn s i_1))))) P := hT.setA 4 (by decide) hw hn
    refine lv_aload_n hx hb dX2_burn_47 rfl (lv_at hl 2 rfl) ?_
    refine gh_get (v := .ref (ad 3)) hC hg hT.1 fX2_54_2 rfl dX2_burn_48 ?_
    refine lv_iload_n hx hb dX2_burn_51 rfl (lv_at hl 3 rfl) ?_
    refine gh_iald (n := 8) (f := (cpn (wm s) (A 3) i_1)) hC hg hT.a3 rfl (by omega) (by omega) dX2_burn_52 ?_
    refine W.eq (g2 := F0 mm 53 ls [.int (zn s i_1 3)]) (by rw [((cpn_ge (f := wm s) (d := A 3) (Nat.le_refl i_1)).trans (hV.2.2.2.1 i_1 (by omega)).2.2.2.1)] <;> rfl) ?_
    refine lv_istore (lv' := [(4, .int (zn s i_1 3)), (1, .int ((nI (lf s i_1)) - (nI (3 * bn s i_1)))), (3, .ref (V.2.2 (2 + (bn s i_1)))), (0, .ref S), (2, .int (nI i_1))]) hx hb dX2_burn_53 hl (by decide) rfl (fun ls hl => ?_)
    refine lv_iload hx hb dX2_burn_55 (lv_at hl 0 rfl) ?_
    refine lv_aload_n hx hb dX2_burn_57 rfl (lv_at hl 2 rfl) ?_
    refine gh_targetX2 (i := (bn s i_1)) (by omega) hC hg hl.1 (Nat.le_of_ble_eq_true rfl) dX2_burn_58 ⟨Nat.le_of_ble_eq_true rfl, Nat.le_of_ble_eq_true rfl⟩ ⟨Nat.le_of_ble_eq_true rfl, Nat.le_of_ble_eq_true rfl⟩ (fun H locs hg => ?_)
    refine lv_iload hx hb dX2_burn_61 (lv_at hl 0 rfl) ?_
    refine lv_isub hx hb dX2_burn_63 ?_
    refine lv_bipush (v := 8) hx hb dX2_burn_64 (by decide) ?_
    refine gh_calli hg (gh_runSN (As := [.int ((sp_target (nI (bn s i_1))) - (zn s i_1 3)), .int 8]) (rest := [.int (zn s i_1 3)]) hC hg (j_X1_step l V _ ((sp_target (nI (bn s i_1))) - (zn s i_1 3)) 8 (by decide)) 2 q2697 q2698 q103 q2699 hd_X1_step.2 ⟨Nat.le_of_ble_eq_true rfl, Nat.le_of_ble_eq_true rfl⟩ rfl hl.1 rfl (Nat.le_of_ble_eq_true rfl) dX2_burn_66 ⟨Nat.le_of_ble_eq_true rfl, Nat.le_of_ble_eq_true rfl⟩) (fun r_5 g H locs hg hp => ?_)
    obtain ⟨hp, hq⟩ := hp
    replace hp : (sp_step ((sp_target (nI (bn s i_1))) - (zn s i_1 3)) 8) = r_5 := hp.symm
    subst hp
    rw [← hq] at hT hF
    try rw [← hq] at hgg
    refine lv_iadd hx hb dX2_burn_69 ?_
    refine lv_istore (lv' := [(4, .int ((zn s i_1 3) + (sp_step ((sp_target (nI (bn s i_1))) - (zn s i_1 3)) 8))), (1, .int ((nI (lf s i_1)) - (nI (3 * bn s i_1)))), (3, .ref (V.2.2 (2 + (bn s i_1)))), (0, .ref S), (2, .int (nI i_1))]) hx hb dX2_burn_70 hl (by decide) rfl (fun ls hl => ?_)
    refine lv_iload hx hb dX2_burn_72 (lv_at hl 0 rfl) ?_
    refine lv_iload hx hb dX2_burn_74 (lv_at hl 0 rfl) ?_
    refine lv_bipush (v := 20) hx hb dX2_burn_76 (by decide) ?_
    refine lv_isub hx hb dX2_burn_78 ?_
    refine lv_aload_n hx hb dX2_burn_79 rfl (lv_at hl 3 rfl) ?_
    refine gh_get (v := .ref (ad 1)) hC hg hT.1 fX2_48_2 rfl dX2_burn_80 ?_
    refine lv_iload_n hx hb dX2_burn_83 rfl (lv_at hl 4 rfl) ?_
    refine gh_iald (n := 8) (f := (A 1)) hC hg hT.a1 rfl (by omega) (by omega) dX2_burn_84 ?_
    refine W.eq (g2 := F0 mm 85 ls [.int (zn s i_1 1), .int (((zn s i_1 3) + (sp_step ((sp_target (nI (bn s i_1))) - (zn s i_1 3)) 8)) - 20), .int ((zn s i_1 3) + (sp_step ((sp_target (nI (bn s i_1))) - (zn s i_1 3)) 8))]) (by rw [(hV.2.2.2.1 i_1 (by omega)).2.1] <;> rfl) ?_
    refine lv_imul hx hb dX2_burn_85 ?_
    refine W.eq (g2 := F0 mm 86 ls [.int ((zn s i_1 1) * (((zn s i_1 3) + (sp_step ((sp_target (nI (bn s i_1))) - (zn s i_1 3)) 8)) - 20)), .int ((zn s i_1 3) + (sp_step ((sp_target (nI (bn s i_1))) - (zn s i_1 3)) 8))]) (by rw [(Int32.mul_comm (((zn s i_1 3) + (sp_step ((sp_target (nI (bn s i_1))) - (zn s i_1 3)) 8)) - 20) (zn s i_1 1))] <;> rfl) ?_
    refine lv_bipush (v := 50) hx hb dX2_burn_86 (by decide) ?_
    refine lv_idiv hx hb dX2_burn_88 (by decide) ?_
    refine lv_isub hx hb dX2_burn_89 ?_
    refine lv_istore (lv' := [(4, .int (((zn s i_1 3) + (sp_step ((sp_target (nI (bn s i_1))) - (zn s i_1 3)) 8)) - (((zn s i_1 1) * (((zn s i_1 3) + (sp_step ((sp_target (nI (bn s i_1))) - (zn s i_1 3)) 8)) - 20)) / 50))), (1, .int ((nI (lf s i_1)) - (nI (3 * bn s i_1)))), (3, .ref (V.2.2 (2 + (bn s i_1)))), (0, .ref S), (2, .int (nI i_1))]) hx hb dX2_burn_90 hl (by decide) rfl (fun ls hl => ?_)
    refine lv_aload_n hx hb dX2_burn_92 rfl (lv_at hl 3 rfl) ?_
    refine gh_get (v := .ref (ad 3)) hC hg hT.1 fX2_54_2 rfl dX2_burn_93 ?_
    refine lv_iload_n hx hb dX2_burn_96 rfl (lv_at hl 4 rfl) ?_
    refine lv_iload hx hb dX2_burn_97 (lv_at hl 0 rfl) ?_
    refine W.eq (g2 := F0 mm 99 ls [.int (wm s i_1), .int (nI i_1), .ref (ad 3)]) rfl ?_
    refine gh_iast (n := 8) (f := (cpn (wm s) (A 3) i_1)) hC hg hT.a3 rfl (by omega) (by omega) dX2_burn_99 (fun g H locs hg hw hn => ?_)
    have hF : gh_fw S [0] g0 g := hF.set hT.a3 (by decide) hn
    have hT : st_C V g S ad I (va_up (va_up (va_up (va_up A 4 (cpn (gq9 s (A 4)) (A 4) i_1)) 3 (cpn (wm s) (A 3) i_1)) 4 (upd (cpn (gq9 s (A 4)) (A 4) i_1) i_1 ((A 4 i_1) + (nI (3 * bn s i_1))))) 3 (upd (cpn (wm s) (A 3) i_1) i_1 (wm s i_1))) P := hT.setA 3 (by decide) hw hn
    refine lv_iinc (v := (nI (i_1 + 1))) (lv' := [(2, .int (nI (i_1 + 1))), (4, .int (((zn s i_1 3) + (sp_step ((sp_target (nI (bn s i_1))) - (zn s i_1 3)) 8)) - (((zn s i_1 1) * (((zn s i_1 3) + (sp_step ((sp_target (nI (bn s i_1))) - (zn s i_1 3)) 8)) - 20)) / 50))), (1, .int ((nI (lf s i_1)) - (nI (3 * bn s i_1)))), (3, .ref (V.2.2 (2 + (bn s i_1)))), (0, .ref S)]) hx hb dX2_burn_100 hl (k := 4) rfl (nx_iinc rfl) (by decide) rfl (fun ls hl => ?_)
    refine lv_goto (tgt := 7) hx hb dX2_burn_103 (by decide) ?_
    exact ih7 _ _ _ _ hg ⟨(hT.eqA (fam8 rfl rfl rfl (cpn_s _ _ _) (cpn_s (gq9 s (A 4)) _ _) rfl rfl rfl (fun _ => rfl))), hF, (by rw [show nI (lf s (i_1 + 1)) = nI (lf s i_1) - nI (3 * bn s i_1) from (nx_sub (rfl : nI (lf s i_1) = nI (lf s i_1)) (rfl : nI (3 * bn s i_1) = nI (3 * bn s i_1)) (by omega)).symm]; exact lv_sub hl [4, 2, 0] rfl)⟩
theorem gh_ordX2 {V : gh_V} {p : Program} {l : Launch} {e : Env} {R : Room} {s : State} {m : MethodId} {args : Array Value} {below : List Frame} {meth : Method} {c0 : Code} {H : Heap} {locs : List Loc} {cells slots : Nat} {Q : State → Prop} {cc : ByteArray} {nL : Nat} {A : Nat → Prop} {g : gh_G} {pc : Nat} {ls : Array Slot} {rest : List Value} {i : Nat} (hi4 : i < 4)
    (hC : gh_C V p s m args c0 cc nL RX2 A) (hg : gh_W V A s g H locs) (hl : ls.size = nL) (hW : (rest.map fun v => v.category).sum ≤ 8) (hdg : decode cc pc = .ok (.invokevirtual 316, 3)) (hR : 1 ≤ R.frames ∧ 20 ≤ R.locals) (hf : cells + 0 ≤ R.cells ∧ slots + 0 ≤ R.slots)
    (kk : ∀ (H1 : Heap) (locs1 : List Loc), gh_W V A s g H1 locs1 → W p l e R s m args below meth c0 H1 locs1 cells slots Q (F0 m (pc + 3) ls (.int (nI i) :: rest))) : W p l e R s m args below meth c0 H locs cells slots Q (F0 m pc ls (.ref (V.2.2 (2 + i)) :: rest)) := by
  have hts := hC.1.2.2.2.2
  obtain rfl | rfl | rfl | rfl : i = 0 ∨ i = 1 ∨ i = 2 ∨ i = 3 := by omega
  · refine gh_calli hg (gh_runU (x := ⟨"AnnealingLehr$Burner", "ordinal", "()I"⟩) (C := "AnnealingLehr$Burner$1") (owner := "java/lang/Enum") (As := []) (rest := rest) hC hg (j_J52_ordinal l V _ 0 (by decide)) 0 (va_cwU 0 hts (lw_U q3430 q3431 q3437 q3433 q171 q3438) rfl rfl rfl rfl hdF_Enum_ordinal_0 ⟨Nat.le_trans (by decide) hR.1, Nat.le_trans (by decide) hR.2⟩) (gh_recvK hC hg (by decide +kernel : ("AnnealingLehr$Burner$1", 2) ∈ gh_co)) rfl hl rfl hW hdg hf) (fun r9 g1 H1 locs1 hg1 hp => ?_)
    obtain ⟨rfl, rfl⟩ := hp
    exact kk H1 locs1 hg1
  · refine gh_calli hg (gh_runU (x := ⟨"AnnealingLehr$Burner", "ordinal", "()I"⟩) (C := "AnnealingLehr$Burner$2") (owner := "java/lang/Enum") (As := []) (rest := rest) hC hg (j_J52_ordinal l V _ 1 (by decide)) 0 (va_cwU 0 hts (lw_U q3430 q3431 q3437 q3434 q171 q3438) rfl rfl rfl rfl hdF_Enum_ordinal_0 ⟨Nat.le_trans (by decide) hR.1, Nat.le_trans (by decide) hR.2⟩) (gh_recvK hC hg (by decide +kernel : ("AnnealingLehr$Burner$2", 3) ∈ gh_co)) rfl hl rfl hW hdg hf) (fun r9 g1 H1 locs1 hg1 hp => ?_)
    obtain ⟨rfl, rfl⟩ := hp
    exact kk H1 locs1 hg1
  · refine gh_calli hg (gh_runU (x := ⟨"AnnealingLehr$Burner", "ordinal", "()I"⟩) (C := "AnnealingLehr$Burner$3") (owner := "java/lang/Enum") (As := []) (rest := rest) hC hg (j_J52_ordinal l V _ 2 (by decide)) 0 (va_cwU 0 hts (lw_U q3430 q3431 q3437 q3435 q171 q3438) rfl rfl rfl rfl hdF_Enum_ordinal_0 ⟨Nat.le_trans (by decide) hR.1, Nat.le_trans (by decide) hR.2⟩) (gh_recvK hC hg (by decide +kernel : ("AnnealingLehr$Burner$3", 4) ∈ gh_co)) rfl hl rfl hW hdg hf) (fun r9 g1 H1 locs1 hg1 hp => ?_)
    obtain ⟨rfl, rfl⟩ := hp
    exact kk H1 locs1 hg1
  · refine gh_calli hg (gh_runU (x := ⟨"AnnealingLehr$Burner", "ordinal", "()I"⟩) (C := "AnnealingLehr$Burner$4") (owner := "java/lang/Enum") (As := []) (rest := rest) hC hg (j_J52_ordinal l V _ 3 (by decide)) 0 (va_cwU 0 hts (lw_U q3430 q3431 q3437 q3436 q171 q3438) rfl rfl rfl rfl hdF_Enum_ordinal_0 ⟨Nat.le_trans (by decide) hR.1, Nat.le_trans (by decide) hR.2⟩) (gh_recvK hC hg (by decide +kernel : ("AnnealingLehr$Burner$4", 5) ∈ gh_co)) rfl hl rfl hW hdg hf) (fun r9 g1 H1 locs1 hg1 hp => ?_)
    obtain ⟨rfl, rfl⟩ := hp
    exact kk H1 locs1 hg1
set_option maxHeartbeats 1000000 in
set_option maxRecDepth 100000 in
theorem j_X2_burning (l : Launch) (V : gh_V) (g0 : gh_G) (S : Nat) (ad : Nat → Nat) (I : Nat → Int32) (A : Nat → Nat → Int32) (P : Nat → Option Nat) (hT0 : st_C V g0 S ad I A P) (s : Nat → Int32) (L D Pn : Nat) (hE : tw_wf s L D Pn) (hV : st_V s I A) (z : Nat) (hz : z < 8) : MI l yX2_burning cX2_burning 5 (some .int) ({ frames := 2, cells := 0, slots := 0, locals := 42 } : Room) V [.ref S, .int (nI z)] g0 (fun r g1 => r = nI (bn s z) ∧ g1 = g0) := by
  refine MG.of RX2 (by decide) rfl (Nat.le_of_ble_eq_true rfl) (fun pp ee s9 mm args below meth c ls hC hg hr hlk hnm hl => ?_)
  have hx := hC.1.1
  have hb := hC.1.2.1
  have hml := hC.1.2.2.1
  have hown := hC.1.2.2.2.1
  have hts := hC.1.2.2.2.2
  have hl : lv_has ls 5 [(0, .ref S), (1, .int (nI z))] := hl
  obtain ⟨g, hg, hgg⟩ : ∃ g, gh_W V (gh_A g0 s9.heap.size) s9 g s9.heap [] ∧ g = g0 := ⟨g0, hg, rfl⟩
  have hT := hT0
  rw [← hgg] at hT
  have hu := wf_u hE
  refine lv_aload_n hx hb dX2_burning_0 rfl (lv_at hl 0 rfl) ?_
  refine gh_get (v := .int (I 1)) hC hg hT.1 fX2_9_2 rfl dX2_burning_1 ?_
  refine W.eq (g2 := F0 mm 4 ls [.int (nI (lf s 0))]) (by rw [(hV.2.1.trans hu.1)] <;> rfl) ?_
  refine lv_istore_n (lv' := [(2, .int (nI (lf s 0))), (0, .ref S), (1, .int (nI z))]) hx hb dX2_burning_4 rfl hl (by decide) rfl (fun ls hl => ?_)
  refine gh_getsR (C := "AnnealingLehr$Burner") (n := "OFF") (d := "LAnnealingLehr$Burner;") (k := 2) hC hg (by decide +kernel) q3429 (fun _ _ _ _ h => h) dX2_burning_5 ?_
  refine lv_astore_n (lv' := [(3, .ref (V.2.2 2)), (2, .int (nI (lf s 0))), (0, .ref S), (1, .int (nI z))]) hx hb dX2_burning_8 rfl hl (by decide) rfl (fun ls hl => ?_)
  refine lv_iconst (v := 0) hx hb dX2_burning_9 (by decide) ?_
  refine lv_istore (lv' := [(4, .int 0), (3, .ref (V.2.2 2)), (2, .int (nI (lf s 0))), (0, .ref S), (1, .int (nI z))]) hx hb dX2_burning_10 hl (by decide) rfl (fun ls hl => ?_)
  refine gh_loop (N := (z + 1)) (X := fun i_1 g ls => (st_C V g S ad I A P) ∧ (g = g0) ∧ lv_has ls 5 [(0, .ref S), (1, .int (nI z)), (2, .int (nI (lf s i_1))), (3, .ref (V.2.2 (2 + bnp s i_1))), (4, .int (nI i_1))]) ?_ ?_ 0 (by omega) hg ⟨hT, hgg, lv_sub hl [3, 4, 2, 1, 0] rfl⟩
  · intro g H locs ls hg hX
    obtain ⟨hT, hgg, hl⟩ := hX
    have hb3 := (wf_bz hE hz).2
    have hbn : bn s z ≤ bz s z := bnU_le _ _
    refine lv_iload hx hb dX2_burning_12 (lv_at hl 4 rfl) ?_
    refine lv_iload_n hx hb dX2_burning_14 rfl (lv_at hl 1 rfl) ?_
    refine lv_icmp_gt (tgt := 46) hx hb dX2_burning_15 (by decide) (fun _ => ?_) (fun c_2 => (absurd ((nx_lt rfl rfl (by omega) (by omega)).mpr (by omega)) c_2))
    refine lv_aload_n hx hb dX2_burning_46 rfl (lv_at hl 3 rfl) ?_
    refine W.eq (g2 := F0 mm 47 ls [.ref (V.2.2 (2 + bn s z))]) rfl ?_
    refine gh_ordX2 (i := bn s z) (by omega) hC hg hl.1 (Nat.le_of_ble_eq_true rfl) dX2_burning_47 ⟨Nat.le_of_ble_eq_true rfl, Nat.le_of_ble_eq_true rfl⟩ ⟨Nat.le_of_ble_eq_true rfl, Nat.le_of_ble_eq_true rfl⟩ (fun H locs hg => ?_)
    exact gh_reti hC hg hr hlk (⟨rfl, hgg⟩) dX2_burning_50 (Nat.le_of_ble_eq_true rfl) (Nat.le_of_ble_eq_true rfl)
  · intro i_1 hi12 ih12 g H locs ls hg hX
    obtain ⟨hT, hgg, hl⟩ := hX
    have hb3 := (wf_bz hE (show i_1 < 8 by omega)).2
    have hlf := (gsum_lf hu.1 hu.2 i_1).2
    have hbl : 3 * bn s i_1 ≤ lf s i_1 := bnU_u _ _
    have hbn : bn s i_1 ≤ bz s i_1 := bnU_le _ _
    refine lv_iload hx hb dX2_burning_12 (lv_at hl 4 rfl) ?_
    refine lv_iload_n hx hb dX2_burning_14 rfl (lv_at hl 1 rfl) ?_
    refine lv_icmp_gt (tgt := 46) hx hb dX2_burning_15 (by decide) (fun c_3 => (absurd ((nx_lt rfl rfl (by omega) (by omega)).mp c_3) (by omega))) (fun _ => ?_)
    refine lv_aload_n hx hb dX2_burning_18 rfl (lv_at hl 0 rfl) ?_
    refine gh_get (v := .ref (ad 0)) hC hg hT.1 fX2_44_2 rfl dX2_burning_19 ?_
    refine lv_iload hx hb dX2_burning_22 (lv_at hl 4 rfl) ?_
    refine gh_iald (n := 8) (f := (A 0)) hC hg hT.a0 rfl (by omega) (by omega) dX2_burning_24 ?_
    refine W.eq (g2 := F0 mm 25 ls [.int (nI (bz s i_1))]) (by rw [((hV.2.2.2.1 i_1 (by omega)).1.trans (wf_bz hE (by omega)).1)] <;> rfl) ?_
    refine gh_callq hg (gh_runS (As := [.int (nI (bz s i_1))]) (rest := []) hC hg (j_X13_of l V _ (bz s i_1) (by omega)) 1 (lw_S q2624 q2625 q172 q2626) hd_X13_of.2 ⟨Nat.le_of_ble_eq_true rfl, Nat.le_of_ble_eq_true rfl⟩ rfl hl.1 rfl (Nat.le_of_ble_eq_true rfl) dX2_burning_25 ⟨Nat.le_of_ble_eq_true rfl, Nat.le_of_ble_eq_true rfl⟩) (fun r_4 g H locs hg hp => ?_)
    obtain ⟨hp, hq9⟩ := hp
    subst hp
    rw [← hq9] at hT
    try rw [← hq9] at hgg
    refine W.eq (g2 := F0 mm 28 ls [.ref (V.2.2 (2 + (bz s i_1)))]) rfl ?_
    refine lv_iload_n hx hb dX2_burning_28 rfl (lv_at hl 2 rfl) ?_
    refine gh_withX2 (i := bz s i_1) (u := lf s i_1) (by omega) (by omega) hC hg hl.1 (Nat.le_of_ble_eq_true rfl) dX2_burning_29 ⟨Nat.le_of_ble_eq_true rfl, Nat.le_of_ble_eq_true rfl⟩ ⟨Nat.le_of_ble_eq_true rfl, Nat.le_of_ble_eq_true rfl⟩ (fun H locs hg => ?_)
    refine W.eq (g2 := F0 mm 32 ls [.ref (V.2.2 (2 + (bn s i_1)))]) rfl ?_
    refine lv_astore_n (lv' := [(3, .ref (V.2.2 (2 + (bn s i_1)))), (0, .ref S), (1, .int (nI z)), (2, .int (nI (lf s i_1))), (4, .int (nI i_1))]) hx hb dX2_burning_32 rfl hl (by decide) rfl (fun ls hl => ?_)
    refine lv_iload_n hx hb dX2_burning_33 rfl (lv_at hl 3 rfl) ?_
    refine lv_aload_n hx hb dX2_burning_34 rfl (lv_at hl 0 rfl) ?_
    refine gh_gasX2 (i := (bn s i_1)) (by omega) hC hg hl.1 (Nat.le_of_ble_eq_true rfl) dX2_burning_35 ⟨Nat.le_of_ble_eq_true rfl, Nat.le_of_ble_eq_true rfl⟩ ⟨Nat.le_of_ble_eq_true rfl, Nat.le_of_ble_eq_true rfl⟩ (fun H locs hg => ?_)
    refine lv_isub hx hb dX2_burning_38 ?_
    refine lv_istore_n (lv' := [(2, .int ((nI (lf s i_1)) - (nI (3 * bn s i_1)))), (3, .ref (V.2.2 (2 + (bn s i_1)))), (0, .ref S), (1, .int (nI z)), (4, .int (nI i_1))]) hx hb dX2_burning_39 rfl hl (by decide) rfl (fun ls hl => ?_)
    refine lv_iinc (v := (nI (i_1 + 1))) (lv' := [(4, .int (nI (i_1 + 1))), (2, .int ((nI (lf s i_1)) - (nI (3 * bn s i_1)))), (3, .ref (V.2.2 (2 + (bn s i_1)))), (0, .ref S), (1, .int (nI z))]) hx hb dX2_burning_40 hl (k := 4) rfl (nx_iinc rfl) (by decide) rfl (fun ls hl => ?_)
    refine lv_goto (tgt := 12) hx hb dX2_burning_43 (by decide) ?_
    exact ih12 _ _ _ _ hg ⟨hT, hgg, (by rw [show nI (lf s (i_1 + 1)) = nI (lf s i_1) - nI (3 * bn s i_1) from (nx_sub (rfl : nI (lf s i_1) = nI (lf s i_1)) (rfl : nI (3 * bn s i_1) = nI (3 * bn s i_1)) (by omega)).symm]; exact lv_sub hl [3, 4, 1, 2, 0] rfl)⟩
set_option maxHeartbeats 1000000 in
set_option maxRecDepth 100000 in
theorem j_X2_exchange (l : Launch) (V : gh_V) (g0 : gh_G) (S : Nat) (ad : Nat → Nat) (I : Nat → Int32) (A : Nat → Nat → Int32) (P : Nat → Option Nat) (hT0 : st_C V g0 S ad I A P)  : MV l yX2_exchange cX2_exchange 4 ({ frames := 1, cells := 1, slots := 10, locals := 14 } : Room) V [.ref S] g0 (fun g1 => st_C V g1 S ad I (va_up A 3 (exN (A 3) 7)) P ∧ gh_fw S [0] g0 g1) := by
  refine MG.of RX2 (by decide) rfl (Nat.le_of_ble_eq_true rfl) (fun pp ee s9 mm args below meth c ls hC hg hr hlk hnm hl => ?_)
  have hx := hC.1.1
  have hb := hC.1.2.1
  have hml := hC.1.2.2.1
  have hown := hC.1.2.2.2.1
  have hts := hC.1.2.2.2.2
  have hl : lv_has ls 4 [(0, .ref S)] := hl
  obtain ⟨g, hg, hgg⟩ : ∃ g, gh_W V (gh_A g0 s9.heap.size) s9 g s9.heap [] ∧ g = g0 := ⟨g0, hg, rfl⟩
  have hT := hT0
  rw [← hgg] at hT
  have hF : gh_fw S [0] g0 g := by rw [hgg]; exact gh_fw.rf
  refine lv_aload_n hx hb dX2_exchange_0 rfl (lv_at hl 0 rfl) ?_
  refine gh_get (v := .ref (ad 3)) hC hg hT.1 fX2_54_2 rfl dX2_exchange_1 ?_
  refine gh_clone hC hg hl.1 (fun q9 => (S, 3, 0)) hT.a3 rfl (hC.2.1.2 0 _ rfl).2 q2707 q2708 q427 q428 q2709 q2710 (fun _ _ => rfl) (Nat.le_of_ble_eq_true rfl) (Nat.le_of_ble_eq_true rfl) (Nat.le_of_ble_eq_true rfl) (Nat.le_of_ble_eq_true rfl) dX2_exchange_4 (fun q_1 g H hg h0 hw hn => ?_)
  have hF : gh_fw S [0] g0 g := hF.new h0 hn
  have hT : st_C V g S ad I A P := hT.nw h0 hn
  have c_2 : g q_1 = some ((S, 3, 0), ai V 0 8 (A 3)) := hw
  refine gh_castAi hC hg c_2 rfl (hC.2.1.2 0 _ rfl).2 q2711 dX2_exchange_7 ?_
  refine lv_astore_n (lv' := [(1, .ref q_1), (0, .ref S)]) hx hb dX2_exchange_10 rfl hl (by decide) rfl (fun ls hl => ?_)
  refine lv_iconst (v := 0) hx hb dX2_exchange_11 (by decide) ?_
  refine lv_istore_n (lv' := [(2, .int 0), (1, .ref q_1), (0, .ref S)]) hx hb dX2_exchange_12 rfl hl (by decide) rfl (fun ls hl => ?_)
  refine gh_loop (N := 7) (X := fun i_3 g ls => (st_C V g S ad I (va_up A 3 (exN (A 3) i_3)) P) ∧ (gh_fw S [0] g0 g) ∧ (g q_1 = some ((S, 3, 0), ai V 0 8 (A 3))) ∧ lv_has ls 4 [(0, .ref S), (1, .ref q_1), (2, .int (nI i_3))]) ?_ ?_ 0 (by omega) hg ⟨(hT.eqA (fam8 rfl rfl rfl rfl rfl rfl rfl rfl (fun _ => rfl))), hF, c_2, lv_sub hl [2, 1, 0] rfl⟩
  · intro g H locs ls hg hX
    obtain ⟨hT, hF, hb9, hl⟩ := hX
    refine lv_iload_n hx hb dX2_exchange_13 rfl (lv_at hl 2 rfl) ?_
    refine lv_bipush (v := 7) hx hb dX2_exchange_14 (by decide) ?_
    refine lv_icmp_ge (tgt := 60) hx hb dX2_exchange_16 (by decide) (fun _ => ?_) (fun c_4 => (absurd ((nx_le (show ((7 : Int32)) = nI 7 from rfl) rfl (by omega) (by omega)).mpr (by omega)) c_4))
    exact gh_retv hC hg hr hlk (⟨hT, hF⟩) dX2_exchange_60 (Nat.le_of_ble_eq_true rfl) (Nat.le_of_ble_eq_true rfl)
  · intro i_3 hi13 ih13 g H locs ls hg hX
    obtain ⟨hT, hF, hb9, hl⟩ := hX
    refine lv_iload_n hx hb dX2_exchange_13 rfl (lv_at hl 2 rfl) ?_
    refine lv_bipush (v := 7) hx hb dX2_exchange_14 (by decide) ?_
    refine lv_icmp_ge (tgt := 60) hx hb dX2_exchange_16 (by decide) (fun c_5 => (absurd ((nx_le (show ((7 : Int32)) = nI 7 from rfl) rfl (by omega) (by omega)).mp c_5) (by omega))) (fun _ => ?_)
    refine lv_aload_n hx hb dX2_exchange_19 rfl (lv_at hl 1 rfl) ?_
    refine lv_iload_n hx hb dX2_exchange_20 rfl (lv_at hl 2 rfl) ?_
    refine gh_iald (n := 8) (f := (A 3)) hC hg hb9 rfl (by omega) (by omega) dX2_exchange_21 ?_
    refine lv_aload_n hx hb dX2_exchange_22 rfl (lv_at hl 1 rfl) ?_
    refine lv_iload_n hx hb dX2_exchange_23 rfl (lv_at hl 2 rfl) ?_
    refine lv_iconst (v := 1) hx hb dX2_exchange_24 (by decide) ?_
    refine lv_iadd hx hb dX2_exchange_25 ?_
    refine gh_iald (n := 8) (f := (A 3)) hC hg hb9 (nx_add rfl (show ((1 : Int32)) = nI 1 from rfl)) (by omega) (by omega) dX2_exchange_26 ?_
    refine lv_isub hx hb dX2_exchange_27 ?_
    refine lv_bipush (v := 16) hx hb dX2_exchange_28 (by decide) ?_
    refine lv_idiv hx hb dX2_exchange_30 (by decide) ?_
    refine W.eq (g2 := F0 mm 31 ls [.int (fl9 (A 3) i_3)]) rfl ?_
    refine lv_istore_n (lv' := [(3, .int (fl9 (A 3) i_3)), (0, .ref S), (1, .ref q_1), (2, .int (nI i_3))]) hx hb dX2_exchange_31 rfl hl (by decide) rfl (fun ls hl => ?_)
    refine lv_aload_n hx hb dX2_exchange_32 rfl (lv_at hl 1 rfl) ?_
    refine gh_get (v := .ref (ad 3)) hC hg hT.1 fX2_54_2 rfl dX2_exchange_33 ?_
    refine lv_iload_n hx hb dX2_exchange_36 rfl (lv_at hl 3 rfl) ?_
    refine lv_dup2_11 hx hb dX2_exchange_37 rfl rfl ?_
    refine gh_iald (n := 8) (f := (exN (A 3) i_3)) hC hg hT.a3 rfl (by omega) (by omega) dX2_exchange_38 ?_
    refine lv_iload_n hx hb dX2_exchange_39 rfl (lv_at hl 0 rfl) ?_
    refine lv_isub hx hb dX2_exchange_40 ?_
    refine gh_iast (n := 8) (f := (exN (A 3) i_3)) hC hg hT.a3 rfl (by omega) (by omega) dX2_exchange_41 (fun g H locs hg hw hn => ?_)
    have hb9 : g q_1 = some ((S, 3, 0), ai V 0 8 (A 3)) := (hn _ (gh_neK hb9 hT.a3 rfl)).trans hb9
    have hF : gh_fw S [0] g0 g := hF.set hT.a3 (by decide) hn
    have hT : st_C V g S ad I (va_up (va_up A 3 (exN (A 3) i_3)) 3 (upd (exN (A 3) i_3) i_3 (((exN (A 3) i_3) i_3) - (fl9 (A 3) i_3)))) P := hT.setA 3 (by decide) hw hn
    refine lv_aload_n hx hb dX2_exchange_42 rfl (lv_at hl 1 rfl) ?_
    refine gh_get (v := .ref (ad 3)) hC hg hT.1 fX2_54_2 rfl dX2_exchange_43 ?_
    refine lv_iload_n hx hb dX2_exchange_46 rfl (lv_at hl 3 rfl) ?_
    refine lv_iconst (v := 1) hx hb dX2_exchange_47 (by decide) ?_
    refine lv_iadd hx hb dX2_exchange_48 ?_
    refine lv_dup2_11 hx hb dX2_exchange_49 rfl rfl ?_
    refine gh_iald (n := 8) (f := (upd (exN (A 3) i_3) i_3 (((exN (A 3) i_3) i_3) - (fl9 (A 3) i_3)))) hC hg hT.a3 (nx_add rfl (show ((1 : Int32)) = nI 1 from rfl)) (by omega) (by omega) dX2_exchange_50 ?_
    refine lv_iload_n hx hb dX2_exchange_51 rfl (lv_at hl 0 rfl) ?_
    refine lv_iadd hx hb dX2_exchange_52 ?_
    refine gh_iast (n := 8) (f := (upd (exN (A 3) i_3) i_3 (((exN (A 3) i_3) i_3) - (fl9 (A 3) i_3)))) hC hg hT.a3 (nx_add rfl (show ((1 : Int32)) = nI 1 from rfl)) (by omega) (by omega) dX2_exchange_53 (fun g H locs hg hw hn => ?_)
    have hb9 : g q_1 = some ((S, 3, 0), ai V 0 8 (A 3)) := (hn _ (gh_neK hb9 hT.a3 rfl)).trans hb9
    have hF : gh_fw S [0] g0 g := hF.set hT.a3 (by decide) hn
    have hT : st_C V g S ad I (va_up (va_up (va_up A 3 (exN (A 3) i_3)) 3 (upd (exN (A 3) i_3) i_3 (((exN (A 3) i_3) i_3) - (fl9 (A 3) i_3)))) 3 (upd (upd (exN (A 3) i_3) i_3 (((exN (A 3) i_3) i_3) - (fl9 (A 3) i_3))) (i_3 + 1) (((upd (exN (A 3) i_3) i_3 (((exN (A 3) i_3) i_3) - (fl9 (A 3) i_3))) (i_3 + 1)) + (fl9 (A 3) i_3)))) P := hT.setA 3 (by decide) hw hn
    refine lv_iinc (v := (nI (i_3 + 1))) (lv' := [(2, .int (nI (i_3 + 1))), (3, .int (fl9 (A 3) i_3)), (0, .ref S), (1, .ref q_1)]) hx hb dX2_exchange_54 hl (k := 3) rfl (nx_iinc rfl) (by decide) rfl (fun ls hl => ?_)
    refine lv_goto (tgt := 13) hx hb dX2_exchange_57 (by decide) ?_
    exact ih13 _ _ _ _ hg ⟨(hT.eqA (fam8 rfl rfl rfl (rfl : _ = exN (A 3) (i_3 + 1)) rfl rfl rfl rfl (fun _ => rfl))), hF, hb9, lv_sub hl [2, 3, 0] rfl⟩
set_option maxHeartbeats 1000000 in
set_option maxRecDepth 100000 in
theorem j_X2_clean (l : Launch) (V : gh_V) (g0 : gh_G) (S : Nat) (ad : Nat → Nat) (I : Nat → Int32) (A : Nat → Nat → Int32) (P : Nat → Option Nat) (hT0 : st_C V g0 S ad I A P) (c9 q9 : Nat) (hc2 : c9 < 2) (hq24 : q9 < 24) (hq9 : A 6 c9 = nI q9) : MV l yX2_clean cX2_clean 2 ({ frames := 0, cells := 0, slots := 0, locals := 0 } : Room) V [.ref S, .int (nI c9)] g0 (fun g1 => st_C V g1 S ad I (clA9 A c9 q9) P ∧ gh_fw S [0] g0 g1) := by
  refine MG.of RX2 (by decide) rfl (Nat.le_of_ble_eq_true rfl) (fun pp ee s9 mm args below meth c ls hC hg hr hlk hnm hl => ?_)
  have hx := hC.1.1
  have hb := hC.1.2.1
  have hml := hC.1.2.2.1
  have hown := hC.1.2.2.2.1
  have hts := hC.1.2.2.2.2
  have hl : lv_has ls 2 [(0, .ref S), (1, .int (nI c9))] := hl
  obtain ⟨g, hg, hgg⟩ : ∃ g, gh_W V (gh_A g0 s9.heap.size) s9 g s9.heap [] ∧ g = g0 := ⟨g0, hg, rfl⟩
  have hT := hT0
  rw [← hgg] at hT
  have hF : gh_fw S [0] g0 g := by rw [hgg]; exact gh_fw.rf
  refine lv_aload_n hx hb dX2_clean_0 rfl (lv_at hl 0 rfl) ?_
  refine gh_get (v := .ref (ad 7)) hC hg hT.1 fX2_67_2 rfl dX2_clean_1 ?_
  refine lv_iload_n hx hb dX2_clean_4 rfl (lv_at hl 1 rfl) ?_
  refine gh_iald (n := 2) (f := (A 7)) hC hg hT.a7 rfl (by omega) (by omega) dX2_clean_5 ?_
  refine lv_if_le (tgt := 40) hx hb dX2_clean_6 (by decide) (fun c_1 => ?_) (fun c_1 => ?_)
  · skip
    exact gh_retv hC hg hr hlk (⟨hT.eqA (by unfold clA9; rw [if_pos c_1]), hF⟩) dX2_clean_40 (Nat.le_of_ble_eq_true rfl) (Nat.le_of_ble_eq_true rfl)
  refine lv_aload_n hx hb dX2_clean_9 rfl (lv_at hl 0 rfl) ?_
  refine gh_get (v := .ref (ad 7)) hC hg hT.1 fX2_67_2 rfl dX2_clean_10 ?_
  refine lv_iload_n hx hb dX2_clean_13 rfl (lv_at hl 1 rfl) ?_
  refine lv_dup2_11 hx hb dX2_clean_14 rfl rfl ?_
  refine gh_iald (n := 2) (f := (A 7)) hC hg hT.a7 rfl (by omega) (by omega) dX2_clean_15 ?_
  refine lv_iconst (v := 1) hx hb dX2_clean_16 (by decide) ?_
  refine lv_isub hx hb dX2_clean_17 ?_
  refine gh_iast (n := 2) (f := (A 7)) hC hg hT.a7 rfl (by omega) (by omega) dX2_clean_18 (fun g H locs hg hw hn => ?_)
  have hF : gh_fw S [0] g0 g := hF.set hT.a7 (by decide) hn
  have hT : st_C V g S ad I (va_up A 7 (upd (A 7) c9 (((A 7) c9) - 1))) P := hT.setA 7 (by decide) hw hn
  refine lv_aload_n hx hb dX2_clean_19 rfl (lv_at hl 0 rfl) ?_
  refine gh_get (v := .ref (ad 7)) hC hg hT.1 fX2_67_2 rfl dX2_clean_20 ?_
  refine lv_iload_n hx hb dX2_clean_23 rfl (lv_at hl 1 rfl) ?_
  refine gh_iald (n := 2) (f := (upd (A 7) c9 (((A 7) c9) - 1))) hC hg hT.a7 rfl (by omega) (by omega) dX2_clean_24 ?_
  refine lv_if_ne (tgt := 40) hx hb dX2_clean_25 (by decide) (fun c_2 => ?_) (fun c_2 => ?_)
  · skip
    exact gh_retv hC hg hr hlk (⟨hT.eqA (by unfold clA9; rw [if_neg c_1]; rw [if_neg (fun h9 => c_2 (by rw [upd_self]; exact h9))]), hF⟩) dX2_clean_40 (Nat.le_of_ble_eq_true rfl) (Nat.le_of_ble_eq_true rfl)
  refine lv_aload_n hx hb dX2_clean_28 rfl (lv_at hl 0 rfl) ?_
  refine gh_get (v := .ref (ad 5)) hC hg hT.1 fX2_60_2 rfl dX2_clean_29 ?_
  refine lv_aload_n hx hb dX2_clean_32 rfl (lv_at hl 0 rfl) ?_
  refine gh_get (v := .ref (ad 6)) hC hg hT.1 fX2_64_2 rfl dX2_clean_33 ?_
  refine lv_iload_n hx hb dX2_clean_36 rfl (lv_at hl 1 rfl) ?_
  refine gh_iald (n := 2) (f := (A 6)) hC hg hT.a6 rfl (by omega) (by omega) dX2_clean_37 ?_
  refine W.eq (g2 := F0 mm 38 ls [.int (nI q9), .ref (ad 5)]) (by rw [hq9] <;> rfl) ?_
  refine lv_iconst (v := 0) hx hb dX2_clean_38 (by decide) ?_
  refine gh_zast (n := 24) (f := (A 5)) hC hg hT.a5 rfl (by omega) (by omega) dX2_clean_39 (fun g H locs hg hw hn => ?_)
  have hF : gh_fw S [0] g0 g := hF.set hT.a5 (by decide) hn
  have hT : st_C V g S ad I (va_up (va_up A 7 (upd (A 7) c9 (((A 7) c9) - 1))) 5 (upd (A 5) q9 0)) P := hT.setA 5 (by decide) hw hn
  exact gh_retv hC hg hr hlk (⟨hT.eqA (by unfold clA9; rw [if_neg c_1]; rw [if_pos (show A 7 c9 - 1 = 0 by rw [upd_self] at c_2; exact c_2)]), hF⟩) dX2_clean_40 (Nat.le_of_ble_eq_true rfl) (Nat.le_of_ble_eq_true rfl)
