/-! REMOVING -/
theorem er_mid {l1 l2 : List Nat} {b : Nat} (h : b ∉ l1) : (l1 ++ b :: l2).erase b = l1 ++ l2 := by
  rw [List.erase_append_right _ h, List.erase_cons_head]
/-- node b leaves its bin -/
def hd_out (D : HD) (i b : Nat) (nx T : Nat → Option Nat) : HD := (D.1, D.2.1, D.ci, nx, D.ex, T, fuN D.B i ((D.B i).erase b))
theorem hm_G.outb {V : gh_V} {o k : Nat} {g g1 : gh_G} {m ck : Nat} {D : HD} {sz b i : Nat} (h : hm_G V o k g m ck D sz none) {nx T : Nat → Option Nat} (hn : D.n ≠ 0) (hil : i < D.n) (hb : b ∈ D.B i) (hpl : ∀ a, a ∈ D.B i → D.ci a = 14 ∧ D.ex a = [])
    (hT : ∀ j, j ≠ i → T j = D.T j) (hnx : ∀ a, a ∈ D.L → a ∉ D.B i → nx a = D.nx a) (hch : hm_ch nx (T i) ((D.B i).erase b))
    (hm : g1 m = g m) (htb : g1 D.tb = some ((o, k, 1), aq V 9 D.n T))
    (hN : ∀ a, a ∈ D.L → g1 a = some ((o, k, 2), oo (D.ci a) (.int (nI (hm_sp (D.C a))) :: .ref (D.K a) :: va_rf (D.v a) :: va_rf (nx a) :: va_rf (pvL D.L a) :: va_rf (scL D.L a) :: D.ex a)))
    (hfr : ∀ b, b ≠ D.tb → b ∉ D.L → g1 b = g b) : hm_G V o k g1 m ck (hd_out D i b nx T) sz (some b) ∧ gh_fk o k g g1 := by
  have hf : gh_fk o k g g1 := fun b t x hb ht => by
    obtain ⟨h1, h2⟩ := h.sep hb ht
    rw [hfr b (fun e => by rw [e, h.ct hn] at hb; cases hb; exact ht ⟨rfl, rfl⟩) h2]; exact hb
  have oth : ∀ {b : Nat} {n : Nat} {x : gh_E}, g b = some ((o, k, n), x) → n ≠ 1 → n ≠ 2 → g1 b = some ((o, k, n), x) := fun {b n x} hb h1 h2 => by
    rw [hfr b (fun e => by rw [e, h.ct hn] at hb; cases hb; exact h1 rfl) (fun e => by rw [h.cn b e] at hb; cases hb; exact h2 rfl)]; exact hb
  have hB : ∀ j, j ≠ i → fuN D.B i ((D.B i).erase b) j = D.B j := fun j e => fuN_ne e
  have hbm := (h.bm i hil b).mp hb
  refine ⟨⟨by rw [hm]; exact h.cm, fun _ => htb, hN, fun a ha => (h.ky a ha).fk hf h.k10, h.nd, h.inj, fun j hj => ?_, fun j hj => ?_, fun j hj a => ?_, fun e => absurd e hn, h.pw, fun j hj => ?_, h.md, h.len, h.k10, fun x e => oth (h.vw.1 x e) (by decide) (by decide), fun x e => oth (h.vw.2.1 x e) (by decide) (by decide), fun x e => oth (h.vw.2.2 x e) (by decide) (by decide)⟩, hf⟩
  · show hm_ch nx (T j) (fuN D.B i ((D.B i).erase b) j)
    by_cases e : j = i
    · rw [e, fuN_self]; exact hch
    · rw [hB j e, hT j e]
      refine (h.ch j hj).congr fun a ha => hnx a (h.mem hj ha) (fun e2 => e ?_)
      exact ((h.bm j hj a).mp ha).2.2.symm.trans ((h.bm i hil a).mp e2).2.2
  · show (fuN D.B i ((D.B i).erase b) j).Nodup
    by_cases e : j = i
    · rw [e, fuN_self]; exact (h.bn i hil).erase b
    · rw [hB j e]; exact h.bn j hj
  · show a ∈ fuN D.B i ((D.B i).erase b) j ↔ a ∈ D.L ∧ ¬ some b = some a ∧ hm_sp (D.C a) % D.n = j
    by_cases e : j = i
    · rw [e, fuN_self, (h.bn i hil).mem_erase_iff, h.bm i hil a]
      constructor
      · intro ⟨h1, h2, h3, h4⟩; exact ⟨h2, (fun e2 => h1 (Option.some.inj e2).symm), h4⟩
      · intro ⟨h1, h2, h3⟩; exact ⟨(fun e2 => h2 (by rw [e2])), h1, (fun e2 => by cases e2), h3⟩
    · rw [hB j e, h.bm j hj a]
      constructor
      · intro ⟨h1, _, h3⟩
        exact ⟨h1, fun e3 => e (by rw [← h3, ← Option.some.inj e3, hbm.2.2]), h3⟩
      · intro ⟨h1, _, h3⟩; exact ⟨h1, (fun e2 => by cases e2), h3⟩
  · by_cases e : j = i
    · refine Or.inl fun a ha => ?_
      have ha : a ∈ fuN D.B i ((D.B i).erase b) j := ha
      rw [e, fuN_self] at ha
      exact hpl a (List.mem_of_mem_erase ha)
    · rcases h.bin j hj with h9 | h9
      · refine Or.inl fun a ha => h9 a ?_
        have ha : a ∈ fuN D.B i ((D.B i).erase b) j := ha
        rw [hB j e] at ha; exact ha
      · refine Or.inr ?_
        obtain ⟨h1, h2, d, tl, h3, h4, h5⟩ := h9
        refine ⟨h1, ?_, d, tl, ?_, h4, ?_⟩
        · show ∀ a, a ∈ fuN D.B i ((D.B i).erase b) j → D.ci a = 15
          rw [hB j e]; exact h2
        · show ∀ a, a ∈ tl ↔ a ∈ fuN D.B i ((D.B i).erase b) j
          rw [hB j e]; exact h3
        · show tr_T D.ex (pvL (fuN D.B i ((D.B i).erase b) j)) d none (fuN D.B i ((D.B i).erase b) j).head? tl
          rw [hB j e]; exact h5
theorem hm_ch.cut {nx nx' : Nat → Option Nat} {p : Option Nat} {l1 l2 : List Nat} {t b : Nat} (h : hm_ch nx p (l1 ++ t :: b :: l2)) (he : ∀ a, a ∈ l1 ++ l2 → nx' a = nx a) (ht : nx' t = nx b) : hm_ch nx' p (l1 ++ t :: l2) := by
  induction l1 generalizing p with
  | nil =>
    refine ⟨h.1, ?_⟩
    rw [ht]
    exact h.2.2.congr (fun a ha => he a ha)
  | cons a l ih =>
    refine ⟨h.1, ?_⟩
    rw [he a List.mem_cons_self]
    exact ih h.2 (fun b hb => he b (List.mem_cons_of_mem _ hb))
/-- node b is linked no more -/
def hd_del (D : HD) (b : Nat) : HD := (D.1, (D.L.erase b, D.C, D.K, D.v), D.2.2)
theorem scL_del {l1 l2 : List Nat} {p a : Nat} (hn : (l1 ++ p :: l2).Nodup) (ha : a ∈ l1 ++ l2) : scL (l1 ++ l2) a = if l1.getLast? = some a then l2.head? else scL (l1 ++ p :: l2) a := by
  have hn1 := List.nodup_append.mp hn
  by_cases e : l1.getLast? = some a
  · rw [if_pos e]
    obtain ⟨l3, rfl⟩ := last_split e
    rw [List.append_assoc]
    exact scL_at (l2 := l2) (fun q => (List.nodup_append.mp hn1.1).2.2 a q a (List.mem_singleton.mpr rfl) rfl)
  · rw [if_neg e]
    rcases List.mem_append.mp ha with h | h
    · rw [scL_l (b := 0) h e, scL_l (b := 0) h e]
    · have h1 : a ∉ l1 := fun q => hn1.2.2 a q a (List.mem_cons_of_mem _ h) rfl
      have h2 : p ≠ a := fun q => (List.nodup_cons.mp hn1.2.1).1 (q ▸ h)
      rw [scL_r h1, scL_r h1, scL, if_neg h2]
theorem pvL_del {l1 l2 : List Nat} {p a : Nat} (hn : (l1 ++ p :: l2).Nodup) (ha : a ∈ l1 ++ l2) : pvL (l1 ++ l2) a = if l2.head? = some a then l1.getLast? else pvL (l1 ++ p :: l2) a := by
  have e1 : (l1 ++ p :: l2).reverse = l2.reverse ++ p :: l1.reverse := by simp
  have h := scL_del (l1 := l2.reverse) (l2 := l1.reverse) (p := p) (a := a) (by rw [← e1]; exact List.pairwise_reverse.mpr (hn.imp (fun h e => h e.symm))) (by simp at ha ⊢; rcases ha with h | h; exact Or.inr h; exact Or.inl h)
  show scL (l1 ++ l2).reverse a = _
  rw [List.reverse_append, h, List.getLast?_reverse, List.head?_reverse]
  show _ = if l2.head? = some a then l1.getLast? else scL (l1 ++ p :: l2).reverse a
  rw [e1]
theorem sc_mid {l1 l2 : List Nat} {p : Nat} (hn : (l1 ++ p :: l2).Nodup) : scL (l1 ++ p :: l2) p = l2.head? := scL_at (fun q => (List.nodup_append.mp hn).2.2 p q p List.mem_cons_self rfl)
theorem pv_mid {l1 l2 : List Nat} {p : Nat} (hn : (l1 ++ p :: l2).Nodup) : pvL (l1 ++ p :: l2) p = l1.getLast? := by
  show scL (l1 ++ p :: l2).reverse p = _
  have e1 : (l1 ++ p :: l2).reverse = l2.reverse ++ p :: l1.reverse := by simp
  rw [e1, scL_at (fun q => by
    have := (List.nodup_append.mp hn).2.1
    exact (List.nodup_cons.mp this).1 (List.mem_reverse.mp q)), List.head?_reverse]
theorem hd_mid {l1 l2 : List Nat} {p : Nat} : (l1 ++ p :: l2).head? = (match l1.head? with | some a => some a | none => some p) := by cases l1 <;> rfl
theorem hm_G.del {V : gh_V} {o k : Nat} {g g1 : gh_G} {m ck : Nat} {D : HD} {sz b : Nat} (h : hm_G V o k g m ck D sz (some b)) (hn : D.n ≠ 0) (hb : b ∈ D.L)
    (hm : g1 m = some ((o, k, 0), oo 13 [va_rf (hm_tab D), va_rf D.es, .int (nI sz), .int D.mc, .int (nI D.th), .float 1061158912, va_rf D.ks, va_rf D.vs, va_rf (D.L.erase b).head?, va_rf (D.L.erase b).getLast?, .int 0, .int 0]))
    (hN : ∀ a, a ∈ D.L → a ≠ b → g1 a = some ((o, k, 2), oo (D.ci a) (.int (nI (hm_sp (D.C a))) :: .ref (D.K a) :: va_rf (D.v a) :: va_rf (D.nx a) :: va_rf (pvL (D.L.erase b) a) :: va_rf (scL (D.L.erase b) a) :: D.ex a)))
    (hfr : ∀ a, a ≠ m → a ∉ D.L → g1 a = g a) : hm_G V o k g1 m ck (hd_del D b) sz none ∧ gh_fk o k g g1 := by
  have hf : gh_fk o k g g1 := fun b t x hb ht => by
    obtain ⟨h1, h2⟩ := h.sep hb ht
    rw [hfr b h1 h2]; exact hb
  have oth : ∀ {b : Nat} {n : Nat} {x : gh_E}, g b = some ((o, k, n), x) → n ≠ 0 → n ≠ 2 → g1 b = some ((o, k, n), x) := fun {b n x} hb h1 h2 => by
    rw [hfr b (fun e => by rw [e, h.cm] at hb; cases hb; exact h1 rfl) (fun e => by rw [h.cn b e] at hb; cases hb; exact h2 rfl)]; exact hb
  have me : ∀ {a}, a ∈ D.L.erase b → a ∈ D.L ∧ a ≠ b := fun ha => by have := (h.nd.mem_erase_iff).mp ha; exact ⟨this.2, this.1⟩
  refine ⟨⟨hm, fun hn => oth (h.ct hn) (by decide) (by decide), fun a ha => hN a (me ha).1 (me ha).2, fun a ha => (h.ky a (me ha).1).fk hf h.k10, h.nd.erase b, fun a ha c hc => h.inj a (me ha).1 c (me hc).1, h.ch, h.bn, fun i hi a => ?_, fun e => absurd e hn, h.pw, h.bin, ?_, ⟨?_, fun a ha => h.len.2 a (me ha).1⟩, h.k10, fun x e => oth (h.vw.1 x e) (by decide) (by decide), fun x e => oth (h.vw.2.1 x e) (by decide) (by decide), fun x e => oth (h.vw.2.2 x e) (by decide) (by decide)⟩, hf⟩
  · show a ∈ D.B i ↔ a ∈ D.L.erase b ∧ ¬ none = some a ∧ hm_sp (D.C a) % D.n = i
    rw [h.bm i hi a, h.nd.mem_erase_iff]
    constructor
    · intro ⟨h1, h2, h3⟩; exact ⟨⟨fun e => h2 (by rw [e]), h1⟩, (fun e => by cases e), h3⟩
    · intro ⟨⟨h1, h2⟩, _, h3⟩; exact ⟨h2, (fun e => h1 (Option.some.inj e).symm), h3⟩
  · rcases h.md with h1 | h1
    · exact Or.inl fun a ha => h1 a (me ha).1
    · exact Or.inr (Nat.le_trans (List.length_erase_le) h1)
  · exact Nat.le_trans (List.length_erase_le) h.len.1
def lm_del (M : List (Nat × Nat × Option Nat)) (c : Nat) : List (Nat × Nat × Option Nat) := M.filter (fun e => !(e.1 == c))
theorem hm_M_del {D : HD} {b : Nat} (hnd : D.L.Nodup) (hb : b ∈ D.L) (hinj : ∀ a, a ∈ D.L → ∀ b, b ∈ D.L → D.C a = D.C b → a = b) : hm_M (hd_del D b) = lm_del (hm_M D) (D.C b) := by
  show (D.L.erase b).map (fun a => (D.C a, D.K a, D.v a)) = (D.L.map (fun a => (D.C a, D.K a, D.v a))).filter (fun e => !(e.1 == D.C b))
  rw [hnd.erase_eq_filter, List.filter_map]
  congr 1
  refine List.filter_congr fun a ha => ?_
  by_cases e : a = b
  · simp [e]
  · have : D.C a ≠ D.C b := fun e2 => e (hinj a ha b hb e2)
    have e1 : (a == b) = false := by simpa using e
    have e2 : (D.C a == D.C b) = false := by simpa using this
    show (!(a == b)) = !(D.C a == D.C b)
    rw [e1, e2]
theorem lm_del_none {D : HD} {c : Nat} (h : ∀ b, b ∈ D.L → D.C b ≠ c) : lm_del (hm_M D) c = hm_M D := by
  unfold lm_del
  rw [List.filter_eq_self]
  intro e he
  obtain ⟨a, ha, rfl⟩ := List.mem_map.mp he
  simp [h a ha]
section GhCastE
variable {V : gh_V} {p : Program} {l : Launch} {e : Env} {R : Room} {s : State} {m : MethodId} {args : Array Value} {below : List Frame} {meth : Method} {c : Code} {H : Heap} {locs : List Loc} {cells slots : Nat} {Q : State → Prop} {cc : ByteArray} {nL : Nat} {own : String} {A : Nat → Prop} {g : gh_G} {pc : Nat} {ls : Array Slot} {rest st : List Value}
theorem gh_castE (hC : gh_C V p s m args c cc nL own A) (hg : gh_W V A s g H locs) {index a : Nat} {t : gh_T} {ci : Nat} {fs : List Value} (ha : g a = some (t, oo ci fs)) (hci : ci = 14 ∨ ci = 15) (hlink : Cond.classLink own index "java/util/LinkedHashMap$Entry" ∈ lw_all) (hcast : Cond.castable "java/util/HashMap$TreeNode" "java/util/LinkedHashMap$Entry" ∈ lw_tbl) (hdg : decode cc pc = .ok (.checkcast index, 3))
    (kk : W p l e R s m args below meth c H locs cells slots Q (F0 m (pc + 3) ls (.ref a :: rest))) : W p l e R s m args below meth c H locs cells slots Q (F0 m pc ls (.ref a :: rest)) := by
  rcases hci with rfl | rfl
  · exact gh_castS (C := "java/util/LinkedHashMap$Entry") hC hg ha rfl hlink hdg kk
  · exact gh_castY (C := "java/util/HashMap$TreeNode") hC hg ha rfl hlink hcast hdg kk
end GhCastE
theorem er_hd {l1 l2 : List Nat} {p y : Nat} (h : l1.getLast? = some y) : (l1 ++ l2).head? = (l1 ++ p :: l2).head? := by
  cases l1 with
  | nil => cases h
  | cons a l => rfl
theorem er_la {l1 l2 : List Nat} {p z : Nat} (h : l2.head? = some z) : (l1 ++ l2).getLast? = (l1 ++ p :: l2).getLast? := by
  cases l2 with
  | nil => cases h
  | cons a l => rw [List.getLast?_append, List.getLast?_append]; rfl
theorem er_hd0 {l1 l2 : List Nat} (h : l1.getLast? = none) : (l1 ++ l2).head? = l2.head? := by rw [List.getLast?_eq_none_iff.mp h]; rfl
theorem er_la0 {l1 l2 : List Nat} (h : l2.head? = none) : (l1 ++ l2).getLast? = l1.getLast? := by
  cases l2 with
  | nil => rw [List.append_nil]
  | cons a l => cases h
