/-! THE GHOST HEAP: what the world's cells hold, by address, each with a tag (owner, kind, number) -/
abbrev gh_T : Type := Nat × Nat × Nat
abbrev gh_E : Type := va_E ⊕ Cell
abbrev gh_G : Type := Nat → Option (gh_T × gh_E)
/-- what is fixed for a run: the classes' numbers and slots, the array classes, the constants' addresses -/
abbrev gh_V : Type := va_G × (Nat → ClassId) × (Nat → Nat)
abbrev oo (ci : Nat) (fs : List Value) : gh_E := .inl (.inr (ci, fs))
abbrev ai (V : gh_V) (k n : Nat) (f : Nat → Int32) : gh_E := .inl (.inl (V.2.1 k, n, .inl f))
abbrev al (V : gh_V) (k n : Nat) (f : Nat → Int64) : gh_E := .inl (.inl (V.2.1 k, n, .inr (.inl f)))
abbrev af (V : gh_V) (k n : Nat) (f : Nat → UInt32) : gh_E := .inl (.inl (V.2.1 k, n, .inr (.inr (.inl f))))
abbrev aq (V : gh_V) (k n : Nat) (f : Nat → Option Nat) : gh_E := .inl (.inl (V.2.1 k, n, .inr (.inr (.inr (.inr f)))))
abbrev gh_TY (V : gh_V) : List (ClassId × FieldType) := [(V.2.1 0, .int), (V.2.1 1, .long), (V.2.1 2, .float), (V.2.1 3, .boolean), (V.2.1 4, .byte), (V.2.1 5, .object "java/lang/Object"), (V.2.1 6, .object "AnnealingLehr$Piece"), (V.2.1 7, .object "AnnealingLehr$Work"), (V.2.1 8, .object "AnnealingLehr$Reason"), (V.2.1 9, .object "java/util/HashMap$Node")]
def gh_at (V : gh_V) (a : Nat) (e : gh_E) (H : Heap) : Prop := match e with
  | .inl x => va_at V.1 CL (a, x) H
  | .inr c => H[a]? = some c
def gh_P (V : gh_V) (g : gh_G) (H : Heap) : Prop := ∀ a t e, g a = some (t, e) → gh_at V a e H
def gh_A (g : gh_G) (sz : Nat) : Nat → Prop := fun q => g q ≠ none ∨ sz ≤ q
def gh_W (V : gh_V) (A : Nat → Prop) (s : State) (g : gh_G) (H : Heap) (locs : List Loc) : Prop :=
  gh_P V g H ∧ (∀ q, g q ≠ none → A q) ∧ va_S A s.heap H locs ∧ (∀ q, s.heap.size ≤ q → A q)
theorem gh_at.kept {V : gh_V} {a : Nat} {e : gh_E} {H H1 : Heap} (h : gh_at V a e H) (hq : H1[a]? = H[a]?) : gh_at V a e H1 := by
  cases e with
  | inl x => exact va_at.kept (q := (a, x)) h hq
  | inr c => exact hq.trans h
theorem gh_at.lt {V : gh_V} {a : Nat} {e : gh_E} {H : Heap} (h : gh_at V a e H) : a < H.size := by
  cases e with
  | inl x => exact va_at.lt (q := (a, x)) h
  | inr c => exact (Array.getElem?_eq_some_iff.mp h).1
theorem gh_ne {g : gh_G} {a b : Nat} {t u : gh_T} {x y : gh_E} (ha : g a = some (t, x)) (hb : g b = some (u, y)) (h : t ≠ u) : a ≠ b := by
  intro e
  subst e
  rw [ha] at hb
  exact h (congrArg Prod.fst (Option.some.inj hb))
theorem gh_neK {g : gh_G} {a b : Nat} {t u : gh_T} {x y : gh_E} (ha : g a = some (t, x)) (hb : g b = some (u, y)) (h : Nat.beq t.2.1 u.2.1 = false) : a ≠ b :=
  gh_ne ha hb (fun e => by rw [e, Nat.beq_refl] at h; cases h)
theorem gh_neI {g : gh_G} {a b : Nat} {t u : gh_T} {x y : gh_E} (ha : g a = some (t, x)) (hb : g b = some (u, y)) (h : Nat.beq t.2.2 u.2.2 = false) : a ≠ b :=
  gh_ne ha hb (fun e => by rw [e, Nat.beq_refl] at h; cases h)
theorem gh_neO {g : gh_G} {a b : Nat} {t u : gh_T} {x y : gh_E} (ha : g a = some (t, x)) (hb : g b = some (u, y)) (h : t.1 ≠ u.1) : a ≠ b :=
  gh_ne ha hb (fun e => h (congrArg Prod.fst e))
theorem gh_W.P1 {V : gh_V} {A : Nat → Prop} {s : State} {g : gh_G} {H : Heap} {locs : List Loc} (h : gh_W V A s g H locs) {a : Nat} {t : gh_T} {x : va_E} (ha : g a = some (t, .inl x)) : va_P V.1 CL [(a, x)] H := by
  intro k q hq
  have hz : k < 1 := (List.getElem?_eq_some_iff.mp hq).1
  rw [show k = 0 by omega] at hq
  cases hq
  exact h.1 a t _ ha
/-- a cell is written -/
theorem gh_W.set {V : gh_V} {A : Nat → Prop} {s : State} {g : gh_G} {H H1 : Heap} {locs : List Loc} {a k : Nat} {t : gh_T} {e0 e1 : gh_E} (h : gh_W V A s g H locs) (ha : g a = some (t, e0)) (h1 : gh_at V a e1 H1) (z : H1.size = H.size) (oq : ∀ q : Nat, q ≠ a → H1[q]? = H[q]?) :
    ∃ g1 : gh_G, gh_W V A s g1 H1 (locs ++ [⟨a, k⟩]) ∧ g1 a = some (t, e1) ∧ ∀ q, q ≠ a → g1 q = g q := by
  refine ⟨fun q => if q = a then some (t, e1) else g q, ⟨fun b u e hb => ?_, fun q hq => ?_, h.2.2.1.put z oq (h.2.1 a (by rw [ha]; exact fun e => by cases e)), h.2.2.2⟩, if_pos rfl, fun q hq => if_neg hq⟩
  · by_cases hba : b = a
    · subst hba
      have hb : (if b = b then some (t, e1) else g b) = some (u, e) := hb
      rw [if_pos rfl] at hb
      cases hb
      exact h1
    · have hb : (if b = a then some (t, e1) else g b) = some (u, e) := hb
      rw [if_neg hba] at hb
      exact (h.1 b u e hb).kept (oq b hba)
  · by_cases hba : q = a
    · subst hba
      exact h.2.1 q (by rw [ha]; exact fun e => by cases e)
    · have hq : (if q = a then some (t, e1) else g q) ≠ none := hq
      rw [if_neg hba] at hq
      exact h.2.1 q hq
/-- a new cell, of any tag -/
theorem gh_W.new {V : gh_V} {A : Nat → Prop} {s : State} {g : gh_G} {H H1 : Heap} {locs : List Loc} (h : gh_W V A s g H locs) (t : gh_T) {e1 : gh_E} (h1 : gh_at V H.size e1 H1) (z : H1.size = H.size + 1) (oq : ∀ q : Nat, q < H.size → H1[q]? = H[q]?) :
    g H.size = none ∧ ∃ g1 : gh_G, gh_W V A s g1 H1 locs ∧ g1 H.size = some (t, e1) ∧ ∀ q, q ≠ H.size → g1 q = g q := by
  have hn : g H.size = none := by
    cases hg : g H.size with
    | none => rfl
    | some x => exact absurd (h.1 _ x.1 x.2 hg).lt (Nat.lt_irrefl _)
  refine ⟨hn, fun q => if q = H.size then some (t, e1) else g q, ⟨fun b u e hb => ?_, fun q hq => ?_, ⟨Nat.le_trans h.2.2.1.1 (by omega), fun q h1 h2 => ?_, h.2.2.1.2.2⟩, h.2.2.2⟩, if_pos rfl, fun q hq => if_neg hq⟩
  · by_cases hba : b = H.size
    · subst hba
      have hb : (if H.size = H.size then some (t, e1) else g H.size) = some (u, e) := hb
      rw [if_pos rfl] at hb
      cases hb
      exact h1
    · have hb : (if b = H.size then some (t, e1) else g b) = some (u, e) := hb
      rw [if_neg hba] at hb
      exact (h.1 b u e hb).kept (oq b (h.1 b u e hb).lt)
  · by_cases hba : q = H.size
    · subst hba
      exact h.2.2.2 _ h.2.2.1.1
    · have hq : (if q = H.size then some (t, e1) else g q) ≠ none := hq
      rw [if_neg hba] at hq
      exact h.2.1 q hq
  · exact (oq q (Nat.lt_of_lt_of_le h1 h.2.2.1.1)).trans (h.2.2.1.2.1 q h1 h2)
theorem gh_W.lt {V : gh_V} {A : Nat → Prop} {s : State} {g : gh_G} {H : Heap} {locs : List Loc} (h : gh_W V A s g H locs) {a : Nat} {t : gh_T} {e : gh_E} (ha : g a = some (t, e)) : a < H.size := (h.1 a t e ha).lt
theorem gh_W.sub {V : gh_V} {A : Nat → Prop} {s : State} {g : gh_G} {H : Heap} {locs : List Loc} (h : gh_W V A s g H locs) : ∀ q, gh_A g H.size q → A q := fun q hq => by
  rcases hq with hq | hq
  · exact h.2.1 q hq
  · exact h.2.2.2 q (Nat.le_trans h.2.2.1.1 hq)
/-! WORDS THAT DON'T RIDE IN lw_all, carried by every contract -/
def gh_mv : Cond → Bool
  | .castable _ _ => true
  | .declares _ => true
  | .fieldLinkNest _ _ _ _ _ _ => true
  | .methodLinkNest _ _ _ _ => true
  | .publicMethod _ => true
  | .unhidden _ _ _ => true
  | .arrayOver (.object _) => true
  | _ => false
theorem gh_tr {u U : State} (hvm : u.vm.Alike U.vm) {c : Cond} (hc : c.onTables = true) (h : c.before #[] (u.setVm U.vm) = true) : c.before #[] U = true := by
  have e := Cond.onTables_vm (A := #[]) (A' := #[]) (U := u) (U' := U) U.vm c hc
  have hU : U.setVm U.vm = U := rfl
  rw [hU] at e
  rw [← e]
  exact h
theorem gh_mv.moved {w : Cond} (hw : gh_mv w = true) {s U : State} (hW : s.WarmedH U.vm) (h : va_Nw w s) : va_Nw w U := by
  unfold gh_mv at hw
  split at hw
  · exact va_Nw.warmC hW h
  · exact va_Nw.warmD hW h
  · exact va_Nw.warmF hW h
  · exact va_Nw.warmM hW h
  · exact gh_tr hW.alike rfl (by rw [Cond.publicMethod_setVm hW.alike]; exact h)
  · exact gh_tr hW.alike rfl (by rw [Cond.unhidden_setVm hW.alike]; exact h)
  · exact va_AO.moved hW.alike h
  · cases hw
def gh_nw : List Cond := lw_tbl.filter gh_mv
/-- interfaces' methods that are called -/
def gh_ifs : List MethodName := [⟨"AnnealingLehr$Reason", "holds", "()Z"⟩, ⟨"AnnealingLehr$Ware", "wall", "()I"⟩, ⟨"AnnealingLehr$Work", "doIt", "(LAnnealingLehr$State;)Z"⟩, ⟨"java/util/Collection", "iterator", "()Ljava/util/Iterator;"⟩, ⟨"java/util/Collection", "size", "()I"⟩, ⟨"java/util/Iterator", "hasNext", "()Z"⟩, ⟨"java/util/Iterator", "next", "()Ljava/lang/Object;"⟩, ⟨"java/util/List", "add", "(Ljava/lang/Object;)Z"⟩, ⟨"java/util/List", "size", "()I"⟩, ⟨"java/util/List", "get", "(I)Ljava/lang/Object;"⟩, ⟨"java/util/Map", "size", "()I"⟩, ⟨"java/util/Map", "put", "(Ljava/lang/Object;Ljava/lang/Object;)Ljava/lang/Object;"⟩, ⟨"java/util/Map", "remove", "(Ljava/lang/Object;)Ljava/lang/Object;"⟩, ⟨"java/util/Map", "keySet", "()Ljava/util/Set;"⟩, ⟨"java/util/Map", "entrySet", "()Ljava/util/Set;"⟩, ⟨"java/util/Map", "values", "()Ljava/util/Collection;"⟩, ⟨"java/util/Map", "containsKey", "(Ljava/lang/Object;)Z"⟩, ⟨"java/util/Map", "get", "(Ljava/lang/Object;)Ljava/lang/Object;"⟩, ⟨"java/util/Map$Entry", "getKey", "()Ljava/lang/Object;"⟩, ⟨"java/util/Map$Entry", "getValue", "()Ljava/lang/Object;"⟩, ⟨"java/util/Set", "iterator", "()Ljava/util/Iterator;"⟩, ⟨"java/util/Set", "add", "(Ljava/lang/Object;)Z"⟩, ⟨"java/util/Set", "contains", "(Ljava/lang/Object;)Z"⟩]
def gh_ncs : List (String × String) := [("java/util/LinkedHashMap$Entry", "java/util/HashMap$TreeNode"), ("AnnealingLehr$PlanKey", "java/lang/Comparable"), ("AnnealingLehr$Pane", "AnnealingLehr$Bottle"), ("AnnealingLehr$Bowl", "AnnealingLehr$Bottle"), ("AnnealingLehr$Bowl", "AnnealingLehr$Pane")]
def gh_If (x : MethodName) (U : State) : Prop := (Cond.declares x).before #[] U = true ∧ (Cond.interfaceMethod x.cls x.cls x.name x.desc).before #[] U = true
theorem gh_If.moved {x : MethodName} (hx : x.cls ≠ "java/lang/invoke/MethodHandle" ∧ x.cls ≠ "java/lang/invoke/VarHandle") {u U : State} (hvm : u.vm.Alike U.vm) (h : gh_If x u) : gh_If x U := by
  obtain ⟨h1, h2⟩ := h
  obtain ⟨r, meth, hn, -⟩ := Cond.declares_spec h1
  exact ⟨gh_tr hvm rfl (by rw [Cond.declares_setVm hvm]; exact h1), gh_tr hvm rfl (by rw [Cond.interfaceMethod_setVm hvm (r := r) hn hx]; exact h2)⟩
theorem gh_ifs_ok : ∀ x ∈ gh_ifs, x.cls ≠ "java/lang/invoke/MethodHandle" ∧ x.cls ≠ "java/lang/invoke/VarHandle" := by decide +kernel
/-- a private method that is called through an object of a class below; the lambdas' sites, as they were in some state ahead -/
def gh_ps : List MethodName := [⟨"java/lang/AbstractStringBuilder", "newCapacity", "(I)I"⟩, ⟨"java/lang/AbstractStringBuilder", "ensureCapacityInternal", "(I)V"⟩]
/-- the lambda's site number k: it is linked; its objects' class is V's number 50 + k -/
def lam_S (V : gh_V) (U : State) (k : Nat) (w : Cond) : Prop := ∀ (x : MethodName) (pc index : Nat) (σ : Lambda.Shape), w = .lambdaSite x pc index σ → ∃ (m : MethodId) (kc : Class) (cf : ClassFile) (i0 p0 : Nat), U.methodNamed? x = some m ∧ U.vm.classes[m.cls]? = some kc ∧ kc.cf = some cf ∧ Lambda.shapeOf? cf index = some σ ∧
  (kc.callSites.find? fun y => y.1 == m.idx && y.2.1 == pc) = some (i0, p0, .makes (V.2.1 (50 + k))) ∧ Lambda.isMade { classPath := fun _ => none } U.vm m.cls σ (V.2.1 (50 + k)) = true ∧ U.lambdaCallable σ (V.2.1 (50 + k)) = true
theorem lam_S.moved {V : gh_V} {s U : State} {k : Nat} {w : Cond} (hW : s.WarmedH U.vm) (h : lam_S V s k w) : lam_S V U k w := fun x pc index σ e => by
  obtain ⟨m, kc, cf, i0, p0, hm, hk, hcf, hsh, hfind, hmade, hcall⟩ := h x pc index σ e
  obtain ⟨kc', hk', he⟩ := hW.alike.2.2 _ _ hk
  refine ⟨m, kc', cf, i0, p0, ?_, hk', by rw [he]; exact hcf, hsh, by rw [he]; exact hfind, Lambda.isMade_warmer hW hmade, ?_⟩
  · have := State.methodNamed?_setVm (s := s) hW.alike x
    rw [hm] at this
    exact this
  · have hA := hW.alike
    simp only [State.lambdaCallable, hA.findClass, hA.assignable, hA.superclasses, hA.declaredIn] at hcall ⊢
    exact hcall
def gh_Zl (V : gh_V) (U : State) : Prop := (∀ y ∈ gh_ps, (Cond.privateMethod y).before #[] U = true) ∧ ∀ (k : Nat) (w : Cond), siteWords_1[k]? = some w → lam_S V U k w
theorem gh_Zl.moved {V : gh_V} {s U : State} (hW : s.WarmedH U.vm) (h : gh_Zl V s) : gh_Zl V U := by
  refine ⟨fun y hy => gh_tr hW.alike rfl (by rw [Cond.privateMethod_setVm hW.alike]; exact h.1 y hy), fun k w hw => (h.2 k w hw).moved hW⟩
/-- what rides beside lw_all: words of the tables; interfaces' entries; statics and constants -/
def gh_Zt (V : gh_V) (U : State) : Prop := (∀ w ∈ gh_nw, va_Nw w U) ∧ (∀ x ∈ gh_ifs, gh_If x U) ∧ (∀ q ∈ gh_ncs, va_Nc q.1 q.2 U) ∧ va_Dc U ∧ gh_Zl V U
theorem gh_Zt.moved {V : gh_V} {s U : State} (hW : s.WarmedH U.vm) (h : gh_Zt V s) : gh_Zt V U := ⟨fun w hw => gh_mv.moved (List.mem_filter.mp hw).2 hW (h.1 w hw), fun x hx => (h.2.1 x hx).moved (gh_ifs_ok x hx) hW.alike, fun q hq => (h.2.2.1 q hq).moved hW.alike, h.2.2.2.1.moved hW.alike, h.2.2.2.2.moved hW⟩
/-- statics that hold ints -/
def gh_si : List (String × String × String × Int32) := [("java/lang/String", "COMPACT_STRINGS", "Z", 1), ("java/util/HashMap$TreeNode", "$assertionsDisabled", "Z", 1), ("java/lang/Integer$IntegerCache", "high", "I", 127), ("java/lang/StrictMath", "$assertionsDisabled", "Z", 1)]
/-- statics that hold constant objects: class, field, descriptor, number -/
def gh_sr : List (String × String × String × Nat) := [("java/util/ArrayList", "DEFAULTCAPACITY_EMPTY_ELEMENTDATA", "[Ljava/lang/Object;", 0), ("java/util/HashSet", "PRESENT", "Ljava/lang/Object;", 1), ("AnnealingLehr$Burner", "OFF", "LAnnealingLehr$Burner;", 2), ("AnnealingLehr$Burner", "LOW", "LAnnealingLehr$Burner;", 3), ("AnnealingLehr$Burner", "MIDDLE", "LAnnealingLehr$Burner;", 4), ("AnnealingLehr$Burner", "HIGH", "LAnnealingLehr$Burner;", 5), ("java/lang/Integer$IntegerCache", "cache", "[Ljava/lang/Integer;", 6), ("jdk/internal/util/Preconditions", "SIOOBE_FORMATTER", "Ljava/util/function/BiFunction;", 8)]
/-- classes of constant objects, by number -/
def gh_co : List (String × Nat) := [("java/lang/Object", 1), ("AnnealingLehr$Burner$1", 2), ("AnnealingLehr$Burner$2", 3), ("AnnealingLehr$Burner$3", 4), ("AnnealingLehr$Burner$4", 5)]
/-- constants: 0 the empty array of lists, 1 a set's value, 2 .. 5 burners, 6 the cache of Integers, 7 the class object of Object[], 8 a formatter, 10 .. the Integers from -128 on -/
def gh_Zc (V : gh_V) (A : Nat → Prop) (U : State) (H : Heap) : Prop :=
  (∀ q ∈ gh_si, va_Z q.1 q.2.1 q.2.2.1 (.int q.2.2.2) A U H) ∧ (∀ q ∈ gh_sr, va_Z q.1 q.2.1 q.2.2.1 (.ref (V.2.2 q.2.2.2)) A U H) ∧ (∀ q ∈ gh_co, va_O q.1 (V.2.2 q.2) A U H) ∧
  va_T (.object "java/lang/Object") (V.2.2 0) 0 (fun _ => .null) A U H ∧ (∀ i, i < 4 → va_OF "java/lang/Enum" "ordinal" "I" (.int (nI i)) (V.2.2 (2 + i)) A U H) ∧
  vb_C (fun k => V.2.2 (10 + k)) A U H ∧ va_T (.object "java/lang/Integer") (V.2.2 6) 256 (fun k => .ref (V.2.2 (10 + k))) A U H ∧ va_Mi "[Ljava/lang/Object;" (V.2.2 7) U
theorem gh_Zc.moved {V : gh_V} {A B : Nat → Prop} {s U : State} {H H1 : Heap} (hv : s.vm.Alike U.vm) (hq : ∀ a : Nat, a < H.size → ¬ A a → H1[a]? = H[a]?) (hAB : ∀ q, B q → A q) (h : gh_Zc V A s H) : gh_Zc V B U H1 := by
  obtain ⟨h1, h2, h3, h4, h5, h6, h7, h8⟩ := h
  exact ⟨fun q m => (((h1 q m).moved hv).kept hq).narrow hAB, fun q m => (((h2 q m).moved hv).kept hq).narrow hAB, fun q m => (((h3 q m).moved hv).kept hq).narrow hAB, ((h4.moved hv).kept hq).narrow hAB, fun i hi => (((h5 i hi).moved hv).kept hq).narrow hAB, ((h6.moved hv).kept hq).narrow hAB, ((h7.moved hv).kept hq).narrow hAB, h8.moved hv⟩
def gh_Z (V : gh_V) (A : Nat → Prop) (U : State) (H : Heap) : Prop := gh_Zt V U ∧ gh_Zc V A U H
theorem gh_Z.moved {V : gh_V} {A B : Nat → Prop} {s U : State} {H H1 : Heap} (hW : s.WarmedH U.vm) (hq : ∀ a : Nat, a < H.size → ¬ A a → H1[a]? = H[a]?) (hAB : ∀ q, B q → A q) (h : gh_Z V A s H) : gh_Z V B U H1 := ⟨gh_Zt.moved hW h.1, gh_Zc.moved hW.alike hq hAB h.2⟩
theorem gh_Z.calling {V : gh_V} {A : Nat → Prop} {U : State} {H : Heap} (g : JFrame) (mk : MethodId) (a : Array Value) (h : gh_Z V A U H) : gh_Z V A (U.calling g mk a) H :=
  ⟨gh_Zt.moved (s := U) (U := U.calling g mk a) (State.WarmedH.refl U) h.1, gh_Zc.moved (s := U) (U := U.calling g mk a) (Vm.Alike.refl U.vm) (fun _ _ _ => rfl) (fun _ h => h) h.2⟩
/-! CONTRACTS -/
def gh_Pc (V : gh_V) (av : List Value) (sz : Nat) (g : gh_G) : Array Value → State → Prop := va_Pc av (fun U => U.heap.size = sz ∧ va_K V.1 CL (gh_TY V) U ∧ gh_Z V (gh_A g sz) U U.heap ∧ gh_P V g U.heap)
def gh_B (V : gh_V) (g0 : gh_G) (sz : Nat) (g1 : gh_G) (t : State) : Prop := gh_P V g1 t.heap ∧ ∀ q, g1 q ≠ none → gh_A g0 sz q
abbrev gh_Q : Type := (gh_G → State → Prop) → (Nat → Prop) → Array Value → State → Outcome → State → Prop
/-- a contract: from every heap that holds g the method y at arguments av returns; Qp says its answer and the new ghost heap -/
def MG (l : Launch) (y : MethodName) (cc : ByteArray) (nL : Nat) (ret : Option FieldType) (rm : Room) (V : gh_V) (av : List Value) (g : gh_G) (Qp : gh_Q) : Prop :=
  ∀ sz : Nat, Met l y (ws_ y cc nL ret) rm (gh_Pc V av sz g) (Qp (gh_B V g sz) (gh_A g sz)) rm.cells rm.slots (gh_A g sz)
abbrev MI (l : Launch) (y : MethodName) (cc : ByteArray) (nL : Nat) (ret : Option FieldType) (rm : Room) (V : gh_V) (av : List Value) (g : gh_G) (post : Int32 → gh_G → Prop) : Prop := MG l y cc nL ret rm V av g (va_Qi post)
abbrev MV (l : Launch) (y : MethodName) (cc : ByteArray) (nL : Nat) (rm : Room) (V : gh_V) (av : List Value) (g : gh_G) (post : gh_G → Prop) : Prop := MG l y cc nL none rm V av g (va_Qv post)
abbrev MF (l : Launch) (y : MethodName) (cc : ByteArray) (nL : Nat) (ret : Option FieldType) (rm : Room) (V : gh_V) (av : List Value) (g : gh_G) (post : UInt32 → gh_G → Prop) : Prop := MG l y cc nL ret rm V av g (va_Qf post)
abbrev MD (l : Launch) (y : MethodName) (cc : ByteArray) (nL : Nat) (ret : Option FieldType) (rm : Room) (V : gh_V) (av : List Value) (g : gh_G) (post : UInt64 → gh_G → Prop) : Prop := MG l y cc nL ret rm V av g (va_Qd post)
abbrev MR (l : Launch) (y : MethodName) (cc : ByteArray) (nL : Nat) (ret : Option FieldType) (rm : Room) (V : gh_V) (av : List Value) (g : gh_G) (post : Option Nat → gh_G → Prop) : Prop := MG l y cc nL ret rm V av g (va_Qq post)
def gh_C (V : gh_V) (p : Program) (s : State) (m : MethodId) (args : Array Value) (c : Code) (cc : ByteArray) (nL : Nat) (own : String) (A : Nat → Prop) : Prop :=
  CallFix p m c cc nL s args lw_all own ∧ va_K V.1 CL (gh_TY V) s ∧ gh_Z V A s s.heap
theorem MG.of {l : Launch} {y : MethodName} {cc : ByteArray} {nL : Nat} {ret : Option FieldType} {rm : Room} {V : gh_V} {av : List Value} {g : gh_G} {Qp : gh_Q} (own : String) (hy : plainName y.cls = true) (ho : y.cls = own) (hn : (lg_sl av).length ≤ nL)
    (body : ∀ (p : Program) (e : Env) (s : State) (m : MethodId) (args : Array Value) (below : List Frame) (meth : Method) (c : Code) (ls : Array Slot),
      gh_C V p s m args c cc nL own (gh_A g s.heap.size) → gh_W V (gh_A g s.heap.size) s g s.heap [] → meth.sig.returnType = ret → meth.locks = false → meth.name = y.name → lv_has ls nL (lv_args 0 av) →
      W p l e rm s m args below meth c s.heap [] 0 0 (MQ below (Qp (gh_B V g s.heap.size) (gh_A g s.heap.size)) args s rm.cells rm.slots (gh_A g s.heap.size)) (F0 m 0 ls [])) : MG l y cc nL ret rm V av g Qp := by
  intro sz
  refine Met.ofW (cc := cc) (maxL := nL) (ret := ret) hy rfl ?_
  intro p e s m args below meth c s₁ B hml hv
  obtain ⟨rfl, hsz, hK, hZ, hP⟩ := hv
  subst hsz
  subst ho
  have hts := atoms_spec (ws := ws_ y cc nL ret) B.pre
  have hts : ∀ w ∈ lw_all, w.before _ s = true := fun w h => hts w (List.mem_cons_of_mem _ h)
  have hown : s.vm.findClass y.cls = some m.cls := findClass_of_methodNamed B.named
  have hin : meth.name = y.name := (name_of_methodNamed B.named B.method).1
  rw [lg_entry_eq]
  exact body p e s m av.toArray below meth c _ ⟨⟨B.exec, B.bytes, hml, hown, hts⟩, hK, hZ⟩ ⟨hP, fun q hq => Or.inl hq, va_S.rf, fun q hq => Or.inr hq⟩ B.returns B.notSynchronized hin (lv_entry av hn)
section GhCalls
variable {V : gh_V} {p : Program} {l : Launch} {e : Env} {R : Room} {s : State} {m : MethodId} {args : Array Value} {below : List Frame} {meth : Method} {c : Code} {H : Heap} {locs : List Loc} {cells slots : Nat} {Q : State → Prop} {cc : ByteArray} {nL : Nat} {own : String} {A : Nat → Prop} {g : gh_G} {pc : Nat} {ls : Array Slot} {rest st : List Value}
theorem gh_preS (hC : gh_C V p s m args c cc nL own A) (hg : gh_W V A s g H locs) (av : List Value) : FrameBlind (gh_Pc V av H.size g) ∧ ∀ U : State, U.heap = H → s.WarmedH U.vm → gh_Pc V av H.size g av.toArray U := by
  refine ⟨fun a U f mk q => ?_, fun U hU hW => ?_⟩
  · obtain ⟨q0, q1, qK, qZ, qP⟩ := q
    exact ⟨q0, q1, va_K.moved (u := U) (U := U.calling f mk a) (Vm.Alike.refl U.vm) qK, qZ.calling f mk a, qP⟩
  · subst hU
    exact ⟨rfl, rfl, va_K.moved hW.alike hC.2.1, gh_Z.moved hW (fun a h1 h2 => hg.2.2.1.2.1 a h1 h2) (fun q hq => hg.sub q hq) hC.2.2, hg.1⟩
theorem gh_recv (hC : gh_C V p s m args c cc nL own A) (hg : gh_W V A s g H locs) {b : Nat} {t : gh_T} {ci : Nat} {fs : List Value} (hb : g b = some (t, oo ci fs)) {C : String} (hc : (CL[ci]?).map (fun q => q.1) = some C) : ∃ cellB : Cell, H[b]? = some cellB ∧ cellB.vm.isStatics = false ∧ s.vm.findClass C = some cellB.cls := by
  cases hq : CL[ci]? with
  | none => rw [hq] at hc; cases hc
  | some q =>
    rw [hq] at hc
    cases hc
    exact va_recv hC.2.1 (hg.P1 hb) (q0 := 0) hq rfl
/-- a virtual call -/
theorem gh_runV (hC : gh_C V p s m args c cc nL own A) (hg : gh_W V A s g H locs) {y : MethodName} {bytes : ByteArray} {maxL : Nat} {ret : Option FieldType} {rm : Room} {b : Nat} {As : List Value} {Qp : gh_Q} (hM : MG l y bytes maxL ret rm V (.ref b :: As) g Qp) (n : Nat) {C : String} {index : Nat} (hT : GoodIn lw_all (wsV own index C y (ws_ y bytes maxL ret)))
    {t : gh_T} {ci : Nat} {fs : List Value} (hb : g b = some (t, oo ci fs)) (hc : (CL[ci]?).map (fun q => q.1) = some C)
    (hd : y.cls = C ∧ y.cls ≠ "java/lang/invoke/MethodHandle" ∧ y.cls ≠ "java/lang/invoke/VarHandle" ∧ (parseMethodDescriptor y.desc).map (fun d => d.parameters.length) = some n) (hR : rm.frames + 1 ≤ R.frames ∧ 8 + (maxL + 11) + rm.locals ≤ R.locals)
    (hn : As.length = n) (hls : ls.size = nL) (hst : st = As.reverse ++ .ref b :: rest) (hW : (rest.map fun v => v.category).sum ≤ 8) (hdg : decode cc pc = .ok (.invokevirtual index, 3)) (hf : cells + rm.cells ≤ R.cells ∧ slots + rm.slots ≤ R.slots) :
    va_Run p l e R s m args below meth c H locs cells slots rm.cells rm.slots (F0 m pc ls st) rest (Qp (gh_B V g H.size) (gh_A g H.size) (Value.ref b :: As).toArray) (gh_A g H.size) :=
  va_runV hC.1 (hM H.size) (cwV n hC.1.2.2.2.2 hT rfl rfl rfl hd hR) ⟨(gh_preS hC hg (.ref b :: As)).1, gh_recv hC hg hb hc, (gh_preS hC hg (.ref b :: As)).2⟩ rfl hn hls hst (lv_room hW) hdg hf
theorem gh_runS (hC : gh_C V p s m args c cc nL own A) (hg : gh_W V A s g H locs) {y : MethodName} {bytes : ByteArray} {maxL : Nat} {ret : Option FieldType} {rm : Room} {As : List Value} {Qp : gh_Q} (hM : MG l y bytes maxL ret rm V As g Qp) (n : Nat) {index : Nat} (hT : GoodIn lw_all (va_wsS own index y (ws_ y bytes maxL ret)))
    (hd : y.cls ≠ "java/lang/invoke/MethodHandle" ∧ y.cls ≠ "java/lang/invoke/VarHandle" ∧ (parseMethodDescriptor y.desc).map (fun d => d.parameters.length) = some n) (hR : rm.frames + 1 ≤ R.frames ∧ 8 + (maxL + 11) + rm.locals ≤ R.locals)
    (hn : As.length = n) (hls : ls.size = nL) (hst : st = As.reverse ++ rest) (hW : (rest.map fun v => v.category).sum ≤ 8) (hdg : decode cc pc = .ok (.invokestatic index, 3)) (hf : cells + rm.cells ≤ R.cells ∧ slots + rm.slots ≤ R.slots) :
    va_Run p l e R s m args below meth c H locs cells slots rm.cells rm.slots (F0 m pc ls st) rest (Qp (gh_B V g H.size) (gh_A g H.size) As.toArray) (gh_A g H.size) :=
  va_runS hC.1 (hM H.size) (va_cwS n hC.1.2.2.2.2 hT rfl rfl rfl hd hR) (gh_preS hC hg As) rfl hn hls hst (lv_room hW) hdg hf
theorem gh_runI (hC : gh_C V p s m args c cc nL own A) (hg : gh_W V A s g H locs) {y : MethodName} {bytes : ByteArray} {maxL : Nat} {rm : Room} {b : Nat} {As : List Value} {Qp : gh_Q} (hM : MG l y bytes maxL none rm V (.ref b :: As) g Qp) (n : Nat) {index : Nat} (hT : GoodIn lw_all (ws_ y bytes maxL none)) (hini : Cond.initialized y.cls ∈ lw_all) (hlk : Cond.methodLink own index y ∈ lw_all) (hin : Cond.instanceMethod y ∈ lw_all) (hy1 : y.name = "<init>")
    (hd : y.cls ≠ "java/lang/invoke/MethodHandle" ∧ y.cls ≠ "java/lang/invoke/VarHandle" ∧ (parseMethodDescriptor y.desc).map (fun d => d.parameters.length) = some n) (hR : rm.frames + 1 ≤ R.frames ∧ 8 + (maxL + 11) + rm.locals ≤ R.locals)
    (hn : As.length = n) (hls : ls.size = nL) (hst : st = As.reverse ++ .ref b :: rest) (hW : (rest.map fun v => v.category).sum ≤ 8) (hdg : decode cc pc = .ok (.invokespecial index, 3)) (hf : cells + rm.cells ≤ R.cells ∧ slots + rm.slots ≤ R.slots) :
    va_Run p l e R s m args below meth c H locs cells slots rm.cells rm.slots (F0 m pc ls st) rest (Qp (gh_B V g H.size) (gh_A g H.size) (Value.ref b :: As).toArray) (gh_A g H.size) :=
  va_runI hC.1 (hM H.size) (cwI n hC.1.2.2.2.2 hT rfl rfl rfl (hC.1.2.2.2.2 _ hini) (hC.1.2.2.2.2 _ hlk) (hC.1.2.2.2.2 _ hin) hy1 hd hR) (gh_preS hC hg (.ref b :: As)) rfl hn hls hst (lv_room hW) hdg hf
theorem gh_back (hg : gh_W V A s g H locs) {g1 : gh_G} {t : State} {H1 : Heap} {locs1 : List Loc} (ht : t.heap = H1) (hB : gh_B V g H.size g1 t) (hS : va_S A s.heap H1 locs1) : gh_W V A s g1 H1 locs1 := by
  subst ht
  exact ⟨hB.1, fun q hq => hg.sub q (hB.2 q hq), hS, hg.2.2.2⟩
variable {mc ms : Nat} {a : Array Value}
theorem gh_calli {post : Int32 → gh_G → Prop} (hg : gh_W V A s g H locs) (hr : va_Run p l e R s m args below meth c H locs cells slots mc ms (F0 m pc ls st) rest (va_Qi post (gh_B V g H.size) (gh_A g H.size) a) (gh_A g H.size))
    (kk : ∀ (r : Int32) (g1 : gh_G) (H1 : Heap) (locs1 : List Loc), gh_W V A s g1 H1 locs1 → post r g1 → W p l e R s m args below meth c H1 locs1 (cells + mc) (slots + ms) Q (F0 m (pc + 3) ls (.int r :: rest))) : W p l e R s m args below meth c H locs cells slots Q (F0 m pc ls st) :=
  va_calli hr hg.2.2.1 (fun q _ h => hg.sub q h) (fun q h => hg.sub q h) (fun r u t H1 locs1 ht _ hp hB _ _ hS => kk r u H1 locs1 (gh_back hg ht hB hS) hp)
theorem gh_callf {post : UInt32 → gh_G → Prop} (hg : gh_W V A s g H locs) (hr : va_Run p l e R s m args below meth c H locs cells slots mc ms (F0 m pc ls st) rest (va_Qf post (gh_B V g H.size) (gh_A g H.size) a) (gh_A g H.size))
    (kk : ∀ (r : UInt32) (g1 : gh_G) (H1 : Heap) (locs1 : List Loc), gh_W V A s g1 H1 locs1 → post r g1 → W p l e R s m args below meth c H1 locs1 (cells + mc) (slots + ms) Q (F0 m (pc + 3) ls (.float r :: rest))) : W p l e R s m args below meth c H locs cells slots Q (F0 m pc ls st) :=
  va_callf hr hg.2.2.1 (fun q _ h => hg.sub q h) (fun q h => hg.sub q h) (fun r u t H1 locs1 ht _ hp hB _ _ hS => kk r u H1 locs1 (gh_back hg ht hB hS) hp)
theorem gh_calld {post : UInt64 → gh_G → Prop} (hg : gh_W V A s g H locs) (hr : va_Run p l e R s m args below meth c H locs cells slots mc ms (F0 m pc ls st) rest (va_Qd post (gh_B V g H.size) (gh_A g H.size) a) (gh_A g H.size))
    (kk : ∀ (r : UInt64) (g1 : gh_G) (H1 : Heap) (locs1 : List Loc), gh_W V A s g1 H1 locs1 → post r g1 → W p l e R s m args below meth c H1 locs1 (cells + mc) (slots + ms) Q (F0 m (pc + 3) ls (.double r :: rest))) : W p l e R s m args below meth c H locs cells slots Q (F0 m pc ls st) :=
  va_calld hr hg.2.2.1 (fun q _ h => hg.sub q h) (fun q h => hg.sub q h) (fun r u t H1 locs1 ht _ hp hB _ _ hS => kk r u H1 locs1 (gh_back hg ht hB hS) hp)
theorem gh_callv {post : gh_G → Prop} (hg : gh_W V A s g H locs) (hr : va_Run p l e R s m args below meth c H locs cells slots mc ms (F0 m pc ls st) rest (va_Qv post (gh_B V g H.size) (gh_A g H.size) a) (gh_A g H.size))
    (kk : ∀ (g1 : gh_G) (H1 : Heap) (locs1 : List Loc), gh_W V A s g1 H1 locs1 → post g1 → W p l e R s m args below meth c H1 locs1 (cells + mc) (slots + ms) Q (F0 m (pc + 3) ls rest)) : W p l e R s m args below meth c H locs cells slots Q (F0 m pc ls st) :=
  va_callv hr hg.2.2.1 (fun q _ h => hg.sub q h) (fun q h => hg.sub q h) (fun u t H1 locs1 ht _ hp hB _ _ hS => kk u H1 locs1 (gh_back hg ht hB hS) hp)
theorem gh_callq {post : Option Nat → gh_G → Prop} (hg : gh_W V A s g H locs) (hr : va_Run p l e R s m args below meth c H locs cells slots mc ms (F0 m pc ls st) rest (va_Qq post (gh_B V g H.size) (gh_A g H.size) a) (gh_A g H.size))
    (kk : ∀ (r : Option Nat) (g1 : gh_G) (H1 : Heap) (locs1 : List Loc), gh_W V A s g1 H1 locs1 → post r g1 → W p l e R s m args below meth c H1 locs1 (cells + mc) (slots + ms) Q (F0 m (pc + 3) ls (va_rf r :: rest))) : W p l e R s m args below meth c H locs cells slots Q (F0 m pc ls st) :=
  va_callq hr hg.2.2.1 (fun q _ h => hg.sub q h) (fun q h => hg.sub q h) (fun r u t H1 locs1 ht _ hp hB _ _ hS => kk r u H1 locs1 (gh_back hg ht hB hS) hp)
end GhCalls
