/-! THE TWIN's WORLD: AnnealingLehrModel's object o, its arrays at ad 0 .. ad 11, its numbers I, int arrays A, float arrays F.
I: 0 known 1 isKept 2 length 3 thrown 4 broken 5 spot 6 isWrong; A: 0 s 1 before 2 kept 3 aside 4 buffer 5 burning 6 warm 7 why; F: 0 stress 1 stressBefore 2 stressKept 3 stressAside -/
def tw_fs (ad : Nat → Nat) (I : Nat → Int32) : List Value := [.ref (ad 0), .ref (ad 8), .ref (ad 1), .ref (ad 9), .int (I 0), .ref (ad 2), .ref (ad 10), .int (I 1), .ref (ad 3), .ref (ad 11), .ref (ad 4), .int (I 2), .int (I 3), .ref (ad 5), .ref (ad 6), .int (I 4), .ref (ad 7), .int (I 5), .int (I 6)]
def tw_n : Nat → Nat
  | 0 => 578
  | 1 => 2890
  | 2 => 578
  | 3 => 578
  | 4 => 60
  | 5 => 8
  | 6 => 8
  | _ => 24
def tw_nf : Nat → Nat
  | 1 => 120
  | _ => 24
def tw_P (V : gh_V) (g : gh_G) (o : Nat) (ad : Nat → Nat) (I : Nat → Int32) (A : Nat → Nat → Int32) (F : Nat → Nat → UInt32) : Prop :=
  g o = some ((o, 0, 0), oo 0 (tw_fs ad I)) ∧ (∀ j, j < 8 → g (ad j) = some ((o, 1, j), ai V 0 (tw_n j) (A j))) ∧ (∀ j, j < 4 → g (ad (8 + j)) = some ((o, 2, j), af V 2 (tw_nf j) (F j)))
/-- all cells of other owners are as they were -/
def gh_fr (r : Nat) (g g1 : gh_G) : Prop := ∀ q t e, t.1 ≠ r → g q = some (t, e) → g1 q = some (t, e)
theorem gh_fr.rf {r : Nat} {g : gh_G} : gh_fr r g g := fun _ _ _ _ h => h
theorem gh_fr.tr {r : Nat} {g g1 g2 : gh_G} (h : gh_fr r g g1) (k : gh_fr r g1 g2) : gh_fr r g g2 := fun q t e ht hq => k q t e ht (h q t e ht hq)
theorem gh_fr.put {r : Nat} {g0 g g1 : gh_G} {a : Nat} {t : gh_T} {e : gh_E} (h : gh_fr r g0 g) (ha : g a = some (t, e)) (hr : t.1 = r) (hn : ∀ q, q ≠ a → g1 q = g q) : gh_fr r g0 g1 := by
  intro q u x hu hq
  have h1 := h q u x hu hq
  have hqa : q ≠ a := gh_ne h1 ha (fun e9 => hu (by rw [e9]; exact hr))
  rw [hn q hqa]
  exact h1
def tw_W (V : gh_V) (g0 g : gh_G) (o : Nat) (ad : Nat → Nat) (I : Nat → Int32) (A : Nat → Nat → Int32) (F : Nat → Nat → UInt32) : Prop := tw_P V g o ad I A F ∧ gh_fr o g0 g
section TwRows
variable {V : gh_V} {g0 g g1 : gh_G} {o : Nat} {ad : Nat → Nat} {I : Nat → Int32} {A : Nat → Nat → Int32} {F : Nat → Nat → UInt32}
theorem tw_P.W (h : tw_P V g o ad I A F) : tw_W V g g o ad I A F := ⟨h, gh_fr.rf⟩
theorem tw_W.putI (h : tw_W V g0 g o ad I A F) (j : Nat) (v : Int32) (hw : g1 o = some ((o, 0, 0), oo 0 (tw_fs ad (va_up I j v)))) (hn : ∀ q, q ≠ o → g1 q = g q) : tw_W V g0 g1 o ad (va_up I j v) A F := by
  refine ⟨⟨hw, fun i hi => ?_, fun i hi => ?_⟩, h.2.put h.1.1 rfl hn⟩
  · have h1 := h.1.2.1 i hi
    rw [hn _ (gh_neK h1 h.1.1 rfl)]
    exact h1
  · have h1 := h.1.2.2 i hi
    rw [hn _ (gh_neK h1 h.1.1 rfl)]
    exact h1
theorem tw_W.putA (h : tw_W V g0 g o ad I A F) (j : Nat) (hj : j < 8) {f : Nat → Int32} (hw : g1 (ad j) = some ((o, 1, j), ai V 0 (tw_n j) f)) (hn : ∀ q, q ≠ ad j → g1 q = g q) : tw_W V g0 g1 o ad I (va_up A j f) F := by
  have ha := h.1.2.1 j hj
  refine ⟨⟨?_, fun i hi => ?_, fun i hi => ?_⟩, h.2.put ha rfl hn⟩
  · rw [hn _ (gh_neK h.1.1 ha rfl)]
    exact h.1.1
  · by_cases hij : i = j
    · subst hij
      rw [hw, show va_up A i f i = f from if_pos rfl]
    · have h1 := h.1.2.1 i hi
      rw [hn _ (gh_ne h1 ha (fun e => hij (congrArg (fun t : gh_T => t.2.2) e))), h1, show va_up A j f i = A i from if_neg hij]
  · have h1 := h.1.2.2 i hi
    rw [hn _ (gh_neK h1 ha rfl)]
    exact h1
theorem tw_W.putF (h : tw_W V g0 g o ad I A F) (j : Nat) (hj : j < 4) {f : Nat → UInt32} (hw : g1 (ad (8 + j)) = some ((o, 2, j), af V 2 (tw_nf j) f)) (hn : ∀ q, q ≠ ad (8 + j) → g1 q = g q) : tw_W V g0 g1 o ad I A (va_up F j f) := by
  have ha := h.1.2.2 j hj
  refine ⟨⟨?_, fun i hi => ?_, fun i hi => ?_⟩, h.2.put ha rfl hn⟩
  · rw [hn _ (gh_neK h.1.1 ha rfl)]
    exact h.1.1
  · have h1 := h.1.2.1 i hi
    rw [hn _ (gh_neK h1 ha rfl)]
    exact h1
  · by_cases hij : i = j
    · subst hij
      rw [hw, show va_up F i f i = f from if_pos rfl]
    · have h1 := h.1.2.2 i hi
      rw [hn _ (gh_ne h1 ha (fun e => hij (congrArg (fun t : gh_T => t.2.2) e))), h1, show va_up F j f i = F i from if_neg hij]
theorem tw_W.call {I1 : Nat → Int32} {A1 : Nat → Nat → Int32} {F1 : Nat → Nat → UInt32} (h : tw_W V g0 g o ad I A F) (k : tw_W V g g1 o ad I1 A1 F1) : tw_W V g0 g1 o ad I1 A1 F1 := ⟨k.1, h.2.tr k.2⟩
end TwRows
/-! PURE: the places of s -/
def zn (s : Nat → Int32) (z k : Nat) : Int32 := s (3 + 5 * z + k)
def pl (s : Nat → Int32) (p k : Nat) : Int32 := s (43 + 5 * p + k)
def lt (s : Nat → Int32) (i k : Nat) : Int32 := s (164 + 25 * i + k)
def od (s : Nat → Int32) (i k : Nat) : Int32 := s (465 + 6 * i + k)
def cl (s : Nat → Int32) (i k : Nat) : Int32 := s (525 + 2 * i + k)
def pn (s : Nat → Int32) (i k : Nat) : Int32 := s (530 + 3 * i + k)
def zs (s : Nat → Int32) (z k : Nat) (v : Int32) : Nat → Int32 := upd s (3 + 5 * z + k) v
def ps (s : Nat → Int32) (p k : Nat) (v : Int32) : Nat → Int32 := upd s (43 + 5 * p + k) v
def lts (s : Nat → Int32) (i k : Nat) (v : Int32) : Nat → Int32 := upd s (164 + 25 * i + k) v
def ods (s : Nat → Int32) (i k : Nat) (v : Int32) : Nat → Int32 := upd s (465 + 6 * i + k) v
def cls (s : Nat → Int32) (i k : Nat) (v : Int32) : Nat → Int32 := upd s (525 + 2 * i + k) v
def pns (s : Nat → Int32) (i k : Nat) (v : Int32) : Nat → Int32 := upd s (530 + 3 * i + k) v
def sp_low (k : Int32) : Int32 := if k = 0 then 450 else if k = 1 then 470 else 430
def sp_high (k : Int32) : Int32 := if k = 0 then 550 else if k = 1 then 560 else 540
def sp_soft (k : Int32) : Int32 := if k = 0 then 40 else if k = 1 then 25 else 60
def sp_limit (k : Int32) : Int32 := if k = 0 then 30 else if k = 1 then 20 else 45
def sp_target (k : Int32) : Int32 := if k = 0 then 20 else if k = 1 then 250 else if k = 2 then 450 else 580
def sp_step (d b : Int32) : Int32 := if ¬ d / b = 0 then d / b else if d = 0 then d / b else if d < 0 then -1 else 1
/-- copying the first i places -/
def cpn {α : Type} (f d : Nat → α) (i : Nat) : Nat → α := fun j => if j < i then f j else d j
theorem cpn_0 {α : Type} (f d : Nat → α) : cpn f d 0 = d := rfl
theorem cpn_s (f d : Nat → Int32) (i : Nat) : upd (cpn f d i) i (f i) = cpn f d (i + 1) := by
  funext j
  simp only [upd, cpn]
  by_cases h : j = i
  · subst h; simp
  · have e : (j < i + 1) ↔ (j < i) := by omega
    simp [h, e]
theorem cpn_sf (f d : Nat → UInt32) (i : Nat) : va_up (cpn f d i) i (f i) = cpn f d (i + 1) := by
  funext j
  simp only [va_up, cpn]
  by_cases h : j = i
  · subst h; simp
  · have e : (j < i + 1) ↔ (j < i) := by omega
    simp [h, e]
theorem up_up {α : Type} (f : Nat → α) (k : Nat) (v w : α) : va_up (va_up f k v) k w = va_up f k w := bx_uu f k v w
theorem up_self {α : Type} (f : Nat → α) (k : Nat) : va_up f k (f k) = f := by
  funext j
  unfold va_up
  by_cases h : j = k
  · rw [if_pos h, h]
  · rw [if_neg h]
