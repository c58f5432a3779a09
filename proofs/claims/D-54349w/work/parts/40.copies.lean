/-! COPIES of arrays over the ghost heap -/
section GhCopies
variable {V : gh_V} {p : Program} {l : Launch} {e : Env} {R : Room} {s : State} {m : MethodId} {args : Array Value} {below : List Frame} {meth : Method} {c : Code} {H : Heap} {locs : List Loc} {cells slots : Nat} {Q : State → Prop} {cc : ByteArray} {nL : Nat} {own : String} {A : Nat → Prop} {g : gh_G} {pc : Nat} {ls : Array Slot} {rest st : List Value}
theorem gh_nn {z : Int32} (h : ¬ z < 0) : z.toInt = (z.toNatClampNeg : Int) := by
  have h0 : (0 : Int) ≤ z.toInt := by
    have := Int32.not_lt.mp h
    simpa using Int32.le_iff_toInt_le.mp this
  show z.toInt = ((z.toInt.toNat : Nat) : Int)
  omega
/-- the ghost heap behind a run of stores into one cell -/
theorem gh_W.put1 {s : State} {g : gh_G} {H H1 : Heap} {locs L : List Loc} {a : Nat} {t : gh_T} {e0 e1 : gh_E} (h : gh_W V A s g H locs) (ha : g a = some (t, e0)) (h1 : gh_at V a e1 H1) (z : H1.size = H.size) (oq : ∀ q : Nat, q ≠ a → H1[q]? = H[q]?) (hL : ∀ q ∈ L, q.base = a) :
    ∃ g1 : gh_G, gh_W V A s g1 H1 (locs ++ L) ∧ g1 a = some (t, e1) ∧ ∀ q, q ≠ a → g1 q = g q := by
  obtain ⟨g1, w1, w2, w3⟩ := h.set (k := 0) ha h1 z oq
  refine ⟨g1, ⟨w1.1, w1.2.1, ⟨w1.2.2.1.1, w1.2.2.1.2.1, fun q hq => ?_⟩, w1.2.2.2⟩, w2, w3⟩
  rcases List.mem_append.mp hq with hq | hq
  · exact h.2.2.1.2.2 q hq
  · rw [hL q hq]; exact h.2.1 a (by rw [ha]; exact fun e => by cases e)
theorem gh_copyi (hC : gh_C V p s m args c cc nL own A) (hg : gh_W V A s g H locs) (hl : ls.size = nL) {a a0 : Nat} {t t0 : gh_T} {k n0 n1 : Nat} {f f1 : Nat → Int32} {ty : FieldType} (ha0 : g a0 = some (t0, ai V k n0 f)) (ha : g a = some (t, ai V k n1 f1)) (ht : (gh_TY V)[k]? = some (V.2.1 k, ty)) (hprim : refKind ty = false) {index : Nat}
    (hlink : Cond.methodLink own index arraycopyName ∈ lw_all) (hnat : Cond.native arraycopyName ∈ lw_all) (hstat : Cond.static arraycopyName ∈ lw_all) (hini : Cond.initialized "java/lang/System" ∈ lw_all)
    {xs xd xn : Int32} {sp dp n : Nat} (hxs : xs = nI sp) (hxd : xd = nI dp) (hxn : xn = nI n) (b0 : sp + n ≤ n0) (b1 : dp + n ≤ n1) (c0 : n0 < 2 ^ 31) (c1 : n1 < 2 ^ 31) (hfit : ∀ i, i < n → fits ty (.int (f (sp + i))) = true)
    (hframes : 1 ≤ R.frames) (hlocals : (rest.map fun v => v.category).sum + (nativeFrameWords "java/lang/System" "arraycopy" 5 + 11) ≤ R.locals) (hdg : decode cc pc = .ok (.invokestatic index, 3))
    (kk : ∀ (g1 : gh_G) (H1 : Heap) (locs1 : List Loc), gh_W V A s g1 H1 locs1 → g1 a = some (t, ai V k n1 (va_cpy f f1 sp dp n)) → (∀ q, q ≠ a → g1 q = g q) → W p l e R s m args below meth c H1 locs1 cells slots Q (F0 m (pc + 3) ls rest)) : W p l e R s m args below meth c H locs cells slots Q (F0 m pc ls (.int xn :: .int xd :: .ref a :: .int xs :: .ref a0 :: rest)) := by
  have es : xs.toNatClampNeg = sp := by rw [hxs]; exact nI_clamp (by omega)
  have ed : xd.toNatClampNeg = dp := by rw [hxd]; exact nI_clamp (by omega)
  have en : xn.toNatClampNeg = n := by rw [hxn]; exact nI_clamp (by omega)
  have h1 : ¬ xs < 0 := by rw [hxs]; exact nI_pos (by omega)
  have h2 : ¬ xd < 0 := by rw [hxd]; exact nI_pos (by omega)
  have h3 : ¬ xn < 0 := by rw [hxn]; exact nI_pos (by omega)
  have hts := hC.1.2.2.2.2
  intro T hT X
  have hc0 : H[a0]? = some (vp_cell (V.2.1 k) (n0, .inl f)) := hg.P1 ha0 0 _ rfl
  have hc1 : H[a]? = some (vp_cell (V.2.1 k) (n1, .inl f1)) := hg.P1 ha 0 _ rfl
  obtain ⟨-, k0, hk0, cm0, hkk0⟩ := (hC.2.1.2 k _ ht).1 n0 (fun j => .int (f j))
  obtain ⟨-, k1, hk1, cm1, hkk1⟩ := (hC.2.1.2 k _ ht).1 n1 (fun j => .int (f1 j))
  obtain ⟨vm', X', step⟩ := X.arraycopy hC.1.1 hC.1.2.2.2.1 (hts _ hlink) (hts _ hnat) (hts _ hstat) (hts _ hini) (src := a0) (dst := a) (cs := vp_cell (V.2.1 k) (n0, .inl f)) (cd := vp_cell (V.2.1 k) (n1, .inl f1)) (srcPos := xs) (destPos := xd) (n := xn) (by rw [hT]; exact hc0) (by rw [hT]; exact hc1)
    (fun _ h => by cases h) (fun _ h => by cases h) (fun h => by cases h) (fun h => by cases h) hk0 hk1 hkk0 hkk1 (by simp [hprim]) h1 h2 h3
    (by rw [gh_nn h1, gh_nn h3, es, en]; show ¬ _ > ((arrV (V.2.1 k) n0 (fun j => .int (f j))).slots.size : Int); rw [arrV_size]; omega)
    (by rw [gh_nn h2, gh_nn h3, ed, en]; show ¬ _ > ((arrV (V.2.1 k) n1 (fun j => .int (f1 j))).slots.size : Int); rw [arrV_size]; omega)
    (fun vm₁ _ i hi => by
      rw [en] at hi
      have e : (vp_cell (V.2.1 k) (n0, .inl f)).slots.getD (xs.toNatClampNeg + i) .null = .int (f (sp + i)) := by
        show (arrV (V.2.1 k) n0 (fun j => .int (f j))).slots.getD _ _ = _
        rw [es, Array.getD_eq_getD_getElem?, arrV_read _ _ (by omega)]
        rfl
      rw [e]
      exact ⟨hfit i hi, trivial⟩)
    (g := F0 m pc ls (.int xn :: .int xd :: .ref a :: .int xs :: .ref a0 :: rest)) rfl (by rw [hC.1.2.2.1]; exact hl) (rest := rest) rfl (by rw [hC.1.2.1]; exact hdg) hframes (by show 2 * 0 + _ + _ ≤ _; omega)
  have e1 : copied (vp_cell (V.2.1 k) (n0, .inl f)) (vp_cell (V.2.1 k) (n1, .inl f1)) xs xd xn = vp_cell (V.2.1 k) (n1, .inl (va_cpy f f1 sp dp n)) := by
    have := va_copied (fun z => Value.int z) (V.2.1 k) (V.2.1 k) (n0 := n0) (n1 := n1) (sp := xs.toNatClampNeg) (dp := xd.toNatClampNeg) (n := xn.toNatClampNeg) f f1 (by rw [es, en]; exact b0)
    rw [es, ed, en] at this
    unfold copied
    rw [es, ed, en]
    exact this
  rw [e1] at X' step
  have hlt : a < H.size := (Array.getElem?_eq_some_iff.mp hc1).1
  obtain ⟨g1, w1, w2, w3⟩ := hg.put1 (L := List.map (fun q => { base := a, slot := xd.toNatClampNeg + q.snd }) ((vp_cell (V.2.1 k) (n0, .inl f)).stretch xs.toNatClampNeg xn.toNatClampNeg).zipIdx) (H1 := H.setIfInBounds a (vp_cell (V.2.1 k) (n1, .inl (va_cpy f f1 sp dp n)))) ha (e1 := ai V k n1 (va_cpy f f1 sp dp n)) (by show (H.setIfInBounds a _)[a]? = some _; simp [Array.getElem?_setIfInBounds, hlt]) (by simp) (fun q hq => by simp [Array.getElem?_setIfInBounds, Ne.symm hq]) (fun q hq => by
    obtain ⟨z, -, hz⟩ := List.mem_map.mp hq
    rw [← hz])
  obtain ⟨t, a1, b1⟩ := kk g1 _ _ w1 w2 w3 ((T.setVm vm').setCell a (vp_cell (V.2.1 k) (n1, .inl (va_cpy f f1 sp dp n)))) (by rw [← hT]; rfl) X'
  exact ⟨t, step t a1, b1⟩
theorem gh_copyq (hC : gh_C V p s m args c cc nL own A) (hg : gh_W V A s g H locs) (hl : ls.size = nL) {a a0 : Nat} {t t0 : gh_T} {k k0 n0 n1 : Nat} {f f1 : Nat → Option Nat} {E0 E1 : String} (ha0 : g a0 = some (t0, aq V k0 n0 f)) (ha : g a = some (t, aq V k n1 f1)) (ht0 : (gh_TY V)[k0]? = some (V.2.1 k0, .object E0)) (ht : (gh_TY V)[k]? = some (V.2.1 k, .object E1)) {index : Nat}
    (hlink : Cond.methodLink own index arraycopyName ∈ lw_all) (hnat : Cond.native arraycopyName ∈ lw_all) (hstat : Cond.static arraycopyName ∈ lw_all) (hini : Cond.initialized "java/lang/System" ∈ lw_all)
    {xs xd xn : Int32} {sp dp n : Nat} (hxs : xs = nI sp) (hxd : xd = nI dp) (hxn : xn = nI n) (b0 : sp + n ≤ n0) (b1 : dp + n ≤ n1) (c0 : n0 < 2 ^ 31) (c1 : n1 < 2 ^ 31)
    {ce : Nat} {C : String} (hce : (CL[ce]?).map (fun q => q.1) = some C) (hcast : Cond.castable C E1 ∈ lw_tbl) (hel : ∀ i, i < n → ∀ y, f (sp + i) = some y → ∃ tv vs, g y = some (tv, oo ce vs))
    (hframes : 1 ≤ R.frames) (hlocals : (rest.map fun v => v.category).sum + (nativeFrameWords "java/lang/System" "arraycopy" 5 + 11) ≤ R.locals) (hdg : decode cc pc = .ok (.invokestatic index, 3))
    (kk : ∀ (g1 : gh_G) (H1 : Heap) (locs1 : List Loc), gh_W V A s g1 H1 locs1 → g1 a = some (t, aq V k n1 (va_cpy f f1 sp dp n)) → (∀ q, q ≠ a → g1 q = g q) → W p l e R s m args below meth c H1 locs1 cells slots Q (F0 m (pc + 3) ls rest)) : W p l e R s m args below meth c H locs cells slots Q (F0 m pc ls (.int xn :: .int xd :: .ref a :: .int xs :: .ref a0 :: rest)) := by
  have es : xs.toNatClampNeg = sp := by rw [hxs]; exact nI_clamp (by omega)
  have ed : xd.toNatClampNeg = dp := by rw [hxd]; exact nI_clamp (by omega)
  have en : xn.toNatClampNeg = n := by rw [hxn]; exact nI_clamp (by omega)
  have h1 : ¬ xs < 0 := by rw [hxs]; exact nI_pos (by omega)
  have h2 : ¬ xd < 0 := by rw [hxd]; exact nI_pos (by omega)
  have h3 : ¬ xn < 0 := by rw [hxn]; exact nI_pos (by omega)
  have hts := hC.1.2.2.2.2
  obtain ⟨ccl, ctl, f1', f2', f3'⟩ := Cond.castable_spec (va_Nw.use (A := args) rfl (hC.2.2.1.1 _ (gh_nwm hcast rfl)))
  intro T hT X
  have hc0 : H[a0]? = some (vp_cell (V.2.1 k0) (n0, .inr (.inr (.inr (.inr f))))) := hg.P1 ha0 0 _ rfl
  have hc1 : H[a]? = some (vp_cell (V.2.1 k) (n1, .inr (.inr (.inr (.inr f1))))) := hg.P1 ha 0 _ rfl
  obtain ⟨-, kk0, hk0, cm0, hkk0⟩ := (hC.2.1.2 k0 _ ht0).1 n0 (fun j => va_rf (f j))
  obtain ⟨-, k1, hk1, cm1, hkk1⟩ := (hC.2.1.2 k _ ht).1 n1 (fun j => va_rf (f1 j))
  obtain ⟨vm', X', step⟩ := X.arraycopy hC.1.1 hC.1.2.2.2.1 (hts _ hlink) (hts _ hnat) (hts _ hstat) (hts _ hini) (src := a0) (dst := a) (cs := vp_cell (V.2.1 k0) (n0, .inr (.inr (.inr (.inr f))))) (cd := vp_cell (V.2.1 k) (n1, .inr (.inr (.inr (.inr f1))))) (srcPos := xs) (destPos := xd) (n := xn) (by rw [hT]; exact hc0) (by rw [hT]; exact hc1)
    (fun _ h => by cases h) (fun _ h => by cases h) (fun h => by cases h) (fun h => by cases h) hk0 hk1 hkk0 hkk1 rfl h1 h2 h3
    (by rw [gh_nn h1, gh_nn h3, es, en]; show ¬ _ > ((arrV (V.2.1 k0) n0 (fun j => va_rf (f j))).slots.size : Int); rw [arrV_size]; omega)
    (by rw [gh_nn h2, gh_nn h3, ed, en]; show ¬ _ > ((arrV (V.2.1 k) n1 (fun j => va_rf (f1 j))).slots.size : Int); rw [arrV_size]; omega)
    (fun vm₁ hal i hi => by
      rw [en] at hi
      have e : (vp_cell (V.2.1 k0) (n0, .inr (.inr (.inr (.inr f))))).slots.getD (xs.toNatClampNeg + i) .null = va_rf (f (sp + i)) := by
        show (arrV (V.2.1 k0) n0 (fun j => va_rf (f j))).slots.getD _ _ = _
        rw [es, Array.getD_eq_getD_getElem?, arrV_read _ _ (by omega)]
        rfl
      rw [e]
      cases hy : f (sp + i) with
      | none => exact ⟨rfl, trivial⟩
      | some y =>
        obtain ⟨tv, vs, hv⟩ := hel i hi y hy
        obtain ⟨cellV, q1, q2, q3⟩ := gh_recv hC hg hv hce
        obtain ⟨kA, comp, r1, r2, r3, -⟩ := (hC.2.1.2 k _ ht).2
        cases hk1.symm.trans r1
        cases hkk1.symm.trans r2
        obtain ⟨kC, hkC, -⟩ := Vm.findClass_spec q3
        obtain ⟨kE, hkE, -⟩ := Vm.findClass_spec r3
        obtain ⟨kC', hkC', -⟩ := hal.2.2 _ _ hkC
        obtain ⟨kE', hkE', -⟩ := hal.2.2 _ _ hkE
        refine ⟨rfl, cellV, (show T.heap[y]? = some cellV by rw [hT]; exact q1), (fun q h => by rw [h] at q2; cases q2), ⟨kC', hkC'⟩, ?_, ?_⟩
        · exact ⟨kE', hkE'⟩
        · show vm₁.assignable _ _ = true
          rw [hal.assignable]
          have e0 : cellV.cls = ccl := Option.some.inj (q3.symm.trans f1')
          have e9 : cm1 = ctl := Option.some.inj (r3.symm.trans f2')
          rw [e0, e9]
          exact f3')
    (g := F0 m pc ls (.int xn :: .int xd :: .ref a :: .int xs :: .ref a0 :: rest)) rfl (by rw [hC.1.2.2.1]; exact hl) (rest := rest) rfl (by rw [hC.1.2.1]; exact hdg) hframes (by show 2 * 0 + _ + _ ≤ _; omega)
  have e1 : copied (vp_cell (V.2.1 k0) (n0, .inr (.inr (.inr (.inr f))))) (vp_cell (V.2.1 k) (n1, .inr (.inr (.inr (.inr f1))))) xs xd xn = vp_cell (V.2.1 k) (n1, .inr (.inr (.inr (.inr (va_cpy f f1 sp dp n))))) := by
    rw [vp_cell_q, vp_cell_q, vp_cell_q]
    have := va_copied (fun z => va_rf z) (V.2.1 k0) (V.2.1 k) (n0 := n0) (n1 := n1) (sp := xs.toNatClampNeg) (dp := xd.toNatClampNeg) (n := xn.toNatClampNeg) f f1 (by rw [es, en]; exact b0)
    rw [es, ed, en] at this
    unfold copied
    rw [es, ed, en]
    exact this
  rw [e1] at X' step
  have hlt : a < H.size := (Array.getElem?_eq_some_iff.mp hc1).1
  obtain ⟨g1, w1, w2, w3⟩ := hg.put1 (L := List.map (fun q => { base := a, slot := xd.toNatClampNeg + q.snd }) ((vp_cell (V.2.1 k0) (n0, .inr (.inr (.inr (.inr f))))).stretch xs.toNatClampNeg xn.toNatClampNeg).zipIdx) (H1 := H.setIfInBounds a (vp_cell (V.2.1 k) (n1, .inr (.inr (.inr (.inr (va_cpy f f1 sp dp n))))))) ha (e1 := aq V k n1 (va_cpy f f1 sp dp n)) (by show (H.setIfInBounds a _)[a]? = some _; simp [Array.getElem?_setIfInBounds, hlt]) (by simp) (fun q hq => by simp [Array.getElem?_setIfInBounds, Ne.symm hq]) (fun q hq => by
    obtain ⟨z, -, hz⟩ := List.mem_map.mp hq
    rw [← hz])
  obtain ⟨t, a1, b1⟩ := kk g1 _ _ w1 w2 w3 ((T.setVm vm').setCell a (vp_cell (V.2.1 k) (n1, .inr (.inr (.inr (.inr (va_cpy f f1 sp dp n))))))) (by rw [← hT]; rfl) X'
  exact ⟨t, step t a1, b1⟩
/-- an array's clone -/
theorem gh_clone (hC : gh_C V p s m args c cc nL own A) (hg : gh_W V A s g H locs) (hl : ls.size = nL) (tg : Nat → gh_T) {ad : String} {index a : Nat} {t : gh_T} {k n : Nat} {f : Nat → Int32} {ty : FieldType} (ha : g a = some (t, ai V k n f)) (ht : (gh_TY V)[k]? = some (V.2.1 k, ty)) (hnm : s.vm.findClass ad = some (V.2.1 k))
    (hlink : Cond.methodLink own index ⟨ad, "clone", "()Ljava/lang/Object;"⟩ ∈ lw_all) (hsame : Cond.sameMethod ad "java/lang/Object" "clone" "()Ljava/lang/Object;" ∈ lw_all) (hnat : Cond.native ⟨"java/lang/Object", "clone", "()Ljava/lang/Object;"⟩ ∈ lw_all) (hinst : Cond.instanceMethod ⟨"java/lang/Object", "clone", "()Ljava/lang/Object;"⟩ ∈ lw_all)
    (hsel : Cond.selects ad ⟨ad, "clone", "()Ljava/lang/Object;"⟩ ⟨"java/lang/Object", "clone", "()Ljava/lang/Object;"⟩ ∈ lw_all) (hcl : Cond.castable ad "java/lang/Cloneable" ∈ lw_tbl) (hfit : ∀ i, i < n → fits ty (.int (f i)) = true)
    (hframes : 1 ≤ R.frames) (hlocals : (rest.map fun v => v.category).sum + 14 ≤ R.locals) (hcells : cells + 1 ≤ R.cells) (hslots : slots + n ≤ R.slots) (hdg : decode cc pc = .ok (.invokevirtual index, 3))
    (kk : ∀ (q : Nat) (g1 : gh_G) (H1 : Heap), gh_W V A s g1 H1 locs → g q = none → g1 q = some (tg q, ai V k n f) → (∀ b, b ≠ q → g1 b = g b) → W p l e R s m args below meth c H1 locs (cells + 1) (slots + n) Q (F0 m (pc + 3) ls (.ref q :: rest))) : W p l e R s m args below meth c H locs cells slots Q (F0 m pc ls (.ref a :: rest)) := by
  have hts := hC.1.2.2.2.2
  obtain ⟨c0, t0', f1, f2, f3⟩ := Cond.castable_spec (va_Nw.use (A := args) rfl (hC.2.2.1.1 _ (gh_nwm hcl rfl)))
  cases hnm.symm.trans f1
  intro T hT X
  have hcellT : T.heap[a]? = some (vp_cell (V.2.1 k) (n, .inl f)) := by rw [hT]; exact hg.P1 ha 0 _ rfl
  obtain ⟨-, kA, hkA, comp, hkind⟩ := State.isArrayOf_alike X.warmed.alike ((hC.2.1.2 k _ ht).1 0 (fun _ => .null))
  obtain ⟨-, kS, hkS, compS, hkindS⟩ := (hC.2.1.2 k _ ht).1 0 (fun _ => .null)
  have hsz : (vp_cell (V.2.1 k) (n, .inl f)).slots.size = n := arrV_size _ _ _
  obtain ⟨vm', X', st⟩ := X.cloneArray hC.1.1 hC.1.2.2.2.1 (hts _ hlink) (hts _ hsame) (hts _ hnat) (hts _ hinst) (hts _ hsel) (a := a) (cell := vp_cell (V.2.1 k) (n, .inl f)) hcellT (fun k h => by cases h) (fun h => by cases h) hnm f2 f3
    (fun i v hv => by
      have hi : i < n := by rw [← hsz]; exact (Array.getElem?_eq_some_iff.mp hv).1
      have e : (arrV (V.2.1 k) n (fun j => Value.int (f j))).slots[i]? = some (.int (f i)) := arrV_read _ _ hi
      have e2 : v = .int (f i) := by
        have hv : (arrV (V.2.1 k) n (fun j => Value.int (f j))).slots[i]? = some v := hv
        rw [e] at hv; exact (Option.some.inj hv).symm
      have hk' : T.vm.classes[V.2.1 k]? = some kA := hkA
      have hcl0 : (vp_cell (V.2.1 k) (n, .inl f)).cls = V.2.1 k := rfl
      rw [e2, hcl0]
      simpa [State.fitsSlot, State.slotType?, hk', hkind] using hfit i hi)
    (g := F0 m pc ls (.ref a :: rest)) rfl (by rw [hC.1.2.2.1]; exact hl) rfl (by rw [hC.1.2.1]; exact hdg) hframes (by show 2 * 0 + _ + 14 ≤ _; omega) hcells (by rw [hsz]; exact hslots) (hloader := Vm.clonesLoader_of_array hkS hkindS)
  have hcellE : ({ cls := (vp_cell (V.2.1 k) (n, .inl f)).cls, slots := (vp_cell (V.2.1 k) (n, .inl f)).slots } : Cell) = vp_cell (V.2.1 k) (n, .inl f) := rfl
  rw [hcellE, hsz] at X'
  generalize hH1 : H.push (vp_cell (V.2.1 k) (n, .inl f)) = H1
  have z1 : H1.size = H.size + 1 := by rw [← hH1, Array.size_push]
  have e1 : H1[H.size]? = some (vp_cell (V.2.1 k) (n, .inl f)) := by rw [← hH1, Array.getElem?_push_size]
  have o1 : ∀ q : Nat, q < H.size → H1[q]? = H[q]? := fun q hq => by rw [← hH1, Array.getElem?_push, if_neg (Nat.ne_of_lt hq)]
  obtain ⟨w0, g1, w1, w2, w3⟩ := hg.new (tg H.size) (e1 := ai V k n f) (H1 := H1) e1 z1 o1
  obtain ⟨t9, b1, b2⟩ := kk H.size g1 H1 w1 w0 w2 w3 ((T.setVm vm').pushCell (vp_cell (V.2.1 k) (n, .inl f))) (by rw [← hH1, ← hT]; rfl) X'
  refine ⟨t9, st t9 ?_, b2⟩
  rw [hcellE, hT]
  exact b1
end GhCopies
theorem lw_F {own : String} {idx : Nat} {C : String} {x y : MethodName} {b : ByteArray} {L : Nat} {r : Option FieldType} (h1 : Cond.methodLink own idx x ∈ lw_all) (h2 : Cond.instanceMethod y ∈ lw_all) (h3 : Cond.selects C x y ∈ lw_all) (h4 : Cond.initialized y.cls ∈ lw_all) (h5 : Cond.code y b L r ∈ lw_all) : GoodIn lw_all (va_wsF own idx C x y (ws_ y b L r)) := by
  refine lw_app ?_ (lw_meth h5)
  intro w hw
  simp only [List.mem_cons, List.not_mem_nil, or_false] at hw
  rcases hw with e | e | e | e
  · rw [e]; exact h1
  · rw [e]; exact h3
  · rw [e]; exact h2
  · rw [e]; exact h4
theorem lw_U {own : String} {idx : Nat} {C owner : String} {x y : MethodName} {b : ByteArray} {L : Nat} {r : Option FieldType} (h1 : Cond.methodLink own idx x ∈ lw_all) (h6 : Cond.sameMethod x.cls owner x.name x.desc ∈ lw_all) (h2 : Cond.instanceMethod y ∈ lw_all) (h3 : Cond.selects C x y ∈ lw_all) (h4 : Cond.initialized y.cls ∈ lw_all) (h5 : Cond.code y b L r ∈ lw_all) : GoodIn lw_all (va_wsU own idx C owner x y (ws_ y b L r)) := by
  refine lw_app ?_ (lw_meth h5)
  intro w hw
  simp only [List.mem_cons, List.not_mem_nil, or_false] at hw
  rcases hw with e | e | e | e | e
  · rw [e]; exact h1
  · rw [e]; exact h6
  · rw [e]; exact h3
  · rw [e]; exact h2
  · rw [e]; exact h4
theorem lw_O {own : String} {idx : Nat} {C owner : String} {x y : MethodName} {b : ByteArray} {L : Nat} {r : Option FieldType} (h1 : Cond.methodLink own idx x ∈ lw_all) (h6 : Cond.sameMethod x.cls owner x.name x.desc ∈ lw_all) (h7 : Cond.instanceMethod ⟨owner, x.name, x.desc⟩ ∈ lw_all) (h2 : Cond.instanceMethod y ∈ lw_all) (h3 : Cond.selects C x y ∈ lw_all) (h4 : Cond.initialized y.cls ∈ lw_all) (h5 : Cond.code y b L r ∈ lw_all) : GoodIn lw_all (va_wsO own idx C owner x y (ws_ y b L r)) := by
  refine lw_app ?_ (lw_meth h5)
  intro w hw
  simp only [List.mem_cons, List.not_mem_nil, or_false] at hw
  rcases hw with e | e | e | e | e | e
  · rw [e]; exact h1
  · rw [e]; exact h6
  · rw [e]; exact h7
  · rw [e]; exact h3
  · rw [e]; exact h2
  · rw [e]; exact h4
theorem lw_SU {own : String} {idx : Nat} {y : MethodName} {b : ByteArray} {L : Nat} {r : Option FieldType} (h1 : Cond.methodLink own idx y ∈ lw_all) (h6 : Cond.sameMethod y.cls y.cls y.name y.desc ∈ lw_all) (h7 : Cond.superclass own y.cls ∈ lw_all) (h2 : Cond.instanceMethod y ∈ lw_all) (h4 : Cond.initialized y.cls ∈ lw_all) (h5 : Cond.code y b L r ∈ lw_all) : GoodIn lw_all (va_wsSU own idx y (ws_ y b L r)) := by
  refine lw_app ?_ (lw_meth h5)
  intro w hw
  simp only [List.mem_cons, List.not_mem_nil, or_false] at hw
  rcases hw with e | e | e | e | e
  · rw [e]; exact h1
  · rw [e]; exact h6
  · rw [e]; exact h7
  · rw [e]; exact h2
  · rw [e]; exact h4
/-! ROWS for references that may be null; constants; class objects -/
section GhQ
variable {p : Program} {l : Launch} {e : Env} {R : Room} {s : State} {m : MethodId} {args : Array Value} {below : List Frame} {meth : Method} {c : Code} {H : Heap} {locs : List Loc} {cells slots : Nat} {Q : State → Prop} {cc : ByteArray} {pc : Nat} {ls : Array Slot} {rest : List Value}
theorem lv_aload_nQ (hexec : p.tables.exec = Jvm.exec) (hb : c.code = cc) {k : Fin 4} {i : Nat} {r : Option Nat} (hdg : decode cc pc = .ok (.aload_n k, 1)) (hi : (k : Nat) = i) (hl : ls[i]? = some (.val (va_rf r)))
    (kk : W p l e R s m args below meth c H locs cells slots Q (F0 m (pc + 1) ls (va_rf r :: rest))) : W p l e R s m args below meth c H locs cells slots Q (F0 m pc ls (rest)) := by
  cases r with
  | none => exact lv_aload_nN hexec hb hdg hi hl kk
  | some a => exact lv_aload_n hexec hb hdg hi hl kk
theorem lv_aloadQ (hexec : p.tables.exec = Jvm.exec) (hb : c.code = cc) {i : Nat} {r : Option Nat} (hdg : decode cc pc = .ok (.aload i, 2)) (hl : ls[i]? = some (.val (va_rf r)))
    (kk : W p l e R s m args below meth c H locs cells slots Q (F0 m (pc + 2) ls (va_rf r :: rest))) : W p l e R s m args below meth c H locs cells slots Q (F0 m pc ls (rest)) := by
  cases r with
  | none => exact lv_aloadN hexec hb hdg hl kk
  | some a => exact lv_aload hexec hb hdg hl kk
theorem lv_astore_nQ (hexec : p.tables.exec = Jvm.exec) (hb : c.code = cc) {k : Fin 4} {i nL : Nat} {r : Option Nat} {lv lv' : List (Nat × Value)} (hdg : decode cc pc = .ok (.astore_n k, 1)) (hi : (k : Nat) = i) (h : lv_has ls nL lv) (hn : i < nL) (hl : (i, va_rf r) :: lv.filter (fun q => !(q.1 == i) && !(q.1 + 1 == i && q.2.category == 2)) = lv')
    (kk : ∀ ls' : Array Slot, lv_has ls' nL lv' → W p l e R s m args below meth c H locs cells slots Q (F0 m (pc + 1) ls' rest)) : W p l e R s m args below meth c H locs cells slots Q (F0 m pc ls (va_rf r :: rest)) := by
  cases r with
  | none => exact lv_astore_nN hexec hb hdg hi h hn hl kk
  | some a => exact lv_astore_n hexec hb hdg hi h hn hl kk
theorem lv_astoreQ (hexec : p.tables.exec = Jvm.exec) (hb : c.code = cc) {i nL : Nat} {r : Option Nat} {lv lv' : List (Nat × Value)} (hdg : decode cc pc = .ok (.astore i, 2)) (h : lv_has ls nL lv) (hn : i < nL) (hl : (i, va_rf r) :: lv.filter (fun q => !(q.1 == i) && !(q.1 + 1 == i && q.2.category == 2)) = lv')
    (kk : ∀ ls' : Array Slot, lv_has ls' nL lv' → W p l e R s m args below meth c H locs cells slots Q (F0 m (pc + 2) ls' rest)) : W p l e R s m args below meth c H locs cells slots Q (F0 m pc ls (va_rf r :: rest)) := by
  cases r with
  | none => exact lv_astoreN hexec hb hdg h hn hl kk
  | some a => exact lv_astore hexec hb hdg h hn hl kk
theorem lv_ifnullQ (hexec : p.tables.exec = Jvm.exec) (hb : c.code = cc) {r : Option Nat} {off : Int} {tgt : Nat} (hdg : decode cc pc = .ok (.ifnull off, 3)) (ht : (pc : Int) + off = (tgt : Int))
    (kt : r = none → W p l e R s m args below meth c H locs cells slots Q (F0 m tgt ls rest)) (kf : ∀ y, r = some y → W p l e R s m args below meth c H locs cells slots Q (F0 m (pc + 3) ls rest)) : W p l e R s m args below meth c H locs cells slots Q (F0 m pc ls (va_rf r :: rest)) := by
  cases r with
  | none => exact lv_ifnullN hexec hb hdg ht (kt rfl)
  | some a => exact lv_ifnull hexec hb hdg (kf a rfl)
theorem lv_ifnonnullQ (hexec : p.tables.exec = Jvm.exec) (hb : c.code = cc) {r : Option Nat} {off : Int} {tgt : Nat} (hdg : decode cc pc = .ok (.ifnonnull off, 3)) (ht : (pc : Int) + off = (tgt : Int))
    (kt : ∀ y, r = some y → W p l e R s m args below meth c H locs cells slots Q (F0 m tgt ls rest)) (kf : r = none → W p l e R s m args below meth c H locs cells slots Q (F0 m (pc + 3) ls rest)) : W p l e R s m args below meth c H locs cells slots Q (F0 m pc ls (va_rf r :: rest)) := by
  cases r with
  | none => exact lv_ifnonnullN hexec hb hdg (kf rfl)
  | some a => exact lv_ifnonnull hexec hb hdg ht (kt a rfl)
end GhQ
theorem gh_neN {g : gh_G} {a b : Nat} {x : gh_T × gh_E} (hb : g b = some x) (ha : g a = none) : b ≠ a := fun e => by rw [e, ha] at hb; cases hb
theorem gh_neC {g : gh_G} {a b : Nat} {t u : gh_T} {i j : Nat} {x y : List Value} (ha : g a = some (t, oo i x)) (hb : g b = some (u, oo j y)) (h : Nat.beq i j = false) : a ≠ b := fun e => by
  subst e
  rw [ha] at hb
  cases hb
  rw [Nat.beq_refl] at h; cases h
/-- all cells but those of the owner o and kind k are kept -/
def gh_fk (o k : Nat) (g g1 : gh_G) : Prop := ∀ a t x, g a = some (t, x) → ¬ (t.1 = o ∧ t.2.1 = k) → g1 a = some (t, x)
/-- all cells of other owners are kept -/
def gh_fo (o : Nat) (g g1 : gh_G) : Prop := ∀ a t x, g a = some (t, x) → ¬ t.1 = o → g1 a = some (t, x)
theorem gh_fk.rf {o k : Nat} {g : gh_G} : gh_fk o k g g := fun _ _ _ h _ => h
theorem gh_fk.tr {o k : Nat} {g g1 g2 : gh_G} (h : gh_fk o k g g1) (h2 : gh_fk o k g1 g2) : gh_fk o k g g2 := fun a t x q n => h2 a t x (h a t x q n) n
theorem gh_fk.set {o k : Nat} {g g1 g2 : gh_G} (h : gh_fk o k g g1) {a n : Nat} {x : gh_E} (ha : g1 a = some ((o, k, n), x)) (hn : ∀ q, q ≠ a → g2 q = g1 q) : gh_fk o k g g2 := fun b t y q n => by
  rw [hn b (fun e => by rw [e, ] at q; have := h a t y q n; rw [ha] at this; cases this; exact n ⟨rfl, rfl⟩)]
  exact h b t y q n
theorem gh_fk.new {o k : Nat} {g g1 g2 : gh_G} (h : gh_fk o k g g1) {a : Nat} (ha : g1 a = none) (hn : ∀ q, q ≠ a → g2 q = g1 q) : gh_fk o k g g2 := fun b t y q n => by
  have h1 := h b t y q n
  rw [hn b (gh_neN h1 ha)]
  exact h1
theorem gh_fo.rf {o : Nat} {g : gh_G} : gh_fo o g g := fun _ _ _ h _ => h
theorem gh_fo.tr {o : Nat} {g g1 g2 : gh_G} (h : gh_fo o g g1) (h2 : gh_fo o g1 g2) : gh_fo o g g2 := fun a t x q n => h2 a t x (h a t x q n) n
theorem gh_fo.set {o : Nat} {g g1 g2 : gh_G} (h : gh_fo o g g1) {a n k : Nat} {x : gh_E} (ha : g1 a = some ((o, k, n), x)) (hn : ∀ q, q ≠ a → g2 q = g1 q) : gh_fo o g g2 := fun b t y q n => by
  rw [hn b (fun e => by rw [e] at q; have := h a t y q n; rw [ha] at this; cases this; exact n rfl)]
  exact h b t y q n
theorem gh_fo.new {o : Nat} {g g1 g2 : gh_G} (h : gh_fo o g g1) {a : Nat} (ha : g1 a = none) (hn : ∀ q, q ≠ a → g2 q = g1 q) : gh_fo o g g2 := fun b t y q n => by
  have h1 := h b t y q n
  rw [hn b (gh_neN h1 ha)]
  exact h1
theorem gh_fk.fo {o k : Nat} {g g1 g2 : gh_G} (h : gh_fo o g g1) (h2 : gh_fk o k g1 g2) : gh_fo o g g2 := fun a t x q n => h2 a t x (h a t x q n) (fun e => n e.1)
section GhConst
variable {V : gh_V} {p : Program} {l : Launch} {e : Env} {R : Room} {s : State} {m : MethodId} {args : Array Value} {below : List Frame} {meth : Method} {c : Code} {H : Heap} {locs : List Loc} {cells slots : Nat} {Q : State → Prop} {cc : ByteArray} {nL : Nat} {own : String} {A : Nat → Prop} {g : gh_G} {pc : Nat} {ls : Array Slot} {rest st : List Value}
theorem gh_cempty (hC : gh_C V p s m args c cc nL own A) (hg : gh_W V A s g H locs) (hdg : decode cc pc = .ok (.arraylength, 1))
    (kk : W p l e R s m args below meth c H locs cells slots Q (F0 m (pc + 1) ls (.int (nI 0) :: rest))) : W p l e R s m args below meth c H locs cells slots Q (F0 m pc ls (.ref (V.2.2 0) :: rest)) :=
  va_tlen hC.1.1 hC.1.2.1 hC.2.2.2.2.2.2.1 hg.2.2.1 rfl hdg kk
/-- a constant is no cell of the ghost heap -/
theorem gh_cne (hC : gh_C V p s m args c cc nL own A) (hg : gh_W V A s g H locs) {a : Nat} {x : gh_T × gh_E} (ha : g a = some x) : a ≠ V.2.2 0 := fun e => by
  obtain ⟨cell, -, -, -, -, -, -, hA⟩ := hC.2.2.2.2.2.2.1
  exact hA (hg.2.1 _ (by rw [← e, ha]; exact fun e => by cases e))
theorem gh_recvK (hC : gh_C V p s m args c cc nL own A) (hg : gh_W V A s g H locs) {C : String} {k : Nat} (hk : (C, k) ∈ gh_co) : ∃ cellB : Cell, H[V.2.2 k]? = some cellB ∧ cellB.vm.isStatics = false ∧ s.vm.findClass C = some cellB.cls := va_Orecv (hC.2.2.2.2.2.1 _ hk) hg.2.2.1
/-- a call through an object, the method found above or below the one named -/
theorem gh_runU (hC : gh_C V p s m args c cc nL own A) (hg : gh_W V A s g H locs) {x y : MethodName} {bytes : ByteArray} {maxL : Nat} {ret : Option FieldType} {rm : Room} {b : Nat} {As : List Value} {Qp : gh_Q} (hM : MG l y bytes maxL ret rm V (.ref b :: As) g Qp) (n : Nat) {C owner : String} {index : Nat} (cw : va_CU R s args own C owner index x y bytes maxL ret (ws_ y bytes maxL ret) rm rm.cells rm.slots n)
    (hrec : ∃ cellB : Cell, H[b]? = some cellB ∧ cellB.vm.isStatics = false ∧ s.vm.findClass C = some cellB.cls)
    (hn : As.length = n) (hls : ls.size = nL) (hst : st = As.reverse ++ .ref b :: rest) (hW : (rest.map fun v => v.category).sum ≤ 8) (hdg : decode cc pc = .ok (.invokevirtual index, 3)) (hf : cells + rm.cells ≤ R.cells ∧ slots + rm.slots ≤ R.slots) :
    va_Run p l e R s m args below meth c H locs cells slots rm.cells rm.slots (F0 m pc ls st) rest (Qp (gh_B V g H.size) (gh_A g H.size) (Value.ref b :: As).toArray) (gh_A g H.size) :=
  va_runU hC.1 (hM H.size) cw ⟨(gh_preS hC hg (.ref b :: As)).1, hrec, (gh_preS hC hg (.ref b :: As)).2⟩ rfl hn hls hst (lv_room hW) hdg hf
theorem gh_ldcM (hC : gh_C V p s m args c cc nL own A) {index : Nat} (hl : Cond.classLink own index "[Ljava/lang/Object;" ∈ lw_all) (hdg : decode cc pc = .ok (.ldc index, 2))
    (k : W p l e R s m args below meth c H locs cells slots Q (F0 m (pc + 2) ls (.ref (V.2.2 7) :: rest))) : W p l e R s m args below meth c H locs cells slots Q (F0 m pc ls rest) :=
  va_ldcM hC.1.1 hC.1.2.1 hC.1.2.2.2.1 (hC.1.2.2.2.2 _ hl) hC.2.2.2.2.2.2.2.2.2.2 hdg k
theorem gh_getCA (hC : gh_C V p s m args c cc nL own A) (hg : gh_W V A s g H locs) (hl : ls.size = nL) {a : Nat} {t : gh_T} {n : Nat} {f : Nat → Option Nat} (ha : g a = some (t, aq V 5 n f)) {index : Nat} (hlink : Cond.methodLink own index ⟨"java/lang/Object", "getClass", "()Ljava/lang/Class;"⟩ ∈ lw_all)
    (hsel : Cond.selects "[Ljava/lang/Object;" ⟨"java/lang/Object", "getClass", "()Ljava/lang/Class;"⟩ ⟨"java/lang/Object", "getClass", "()Ljava/lang/Class;"⟩ ∈ lw_all) (hinst : Cond.instanceMethod ⟨"java/lang/Object", "getClass", "()Ljava/lang/Class;"⟩ ∈ lw_all) (hnat : Cond.native ⟨"java/lang/Object", "getClass", "()Ljava/lang/Class;"⟩ ∈ lw_all)
    (hframes : 1 ≤ R.frames) (hlocals : (rest.map fun v => v.category).sum + 14 ≤ R.locals) (hdg : decode cc pc = .ok (.invokevirtual index, 3))
    (k : W p l e R s m args below meth c H locs cells slots Q (F0 m (pc + 3) ls (.ref (V.2.2 7) :: rest))) : W p l e R s m args below meth c H locs cells slots Q (F0 m pc ls (.ref a :: rest)) := by
  obtain ⟨kA', comp', k1, k2, k3, k4⟩ := (hC.2.1.2 5 _ rfl).2
  have hts := hC.1.2.2.2.2
  exact va_getC hC.1.1 hC.1.2.1 (by rw [hC.1.2.2.1]; exact hl.symm) hC.1.2.2.2.1 (hts _ hlink) (va_Dc.use hC.2.2.1.2.2.2.1) (hts _ hsel) (hts _ hinst) (hts _ hnat) hC.2.2.2.2.2.2.2.2.2.2 ⟨_, hg.P1 ha 0 _ rfl, rfl, k4⟩ hframes hlocals hdg k
theorem gh_castA (hC : gh_C V p s m args c cc nL own A) (hg : gh_W V A s g H locs) {C nm : String} {a : Nat} {t : gh_T} {n k : Nat} {f : Nat → Option Nat} (ha : g a = some (t, aq V k n f)) {index : Nat} (ht : (gh_TY V)[k]? = some (V.2.1 k, .object C)) (hnm : "[L" ++ C ++ ";" = nm) (hlink : Cond.classLink own index nm ∈ lw_all) (hdg : decode cc pc = .ok (.checkcast index, 3))
    (kk : W p l e R s m args below meth c H locs cells slots Q (F0 m (pc + 3) ls (.ref a :: rest))) : W p l e R s m args below meth c H locs cells slots Q (F0 m pc ls (.ref a :: rest)) := by
  obtain ⟨kA', comp', k1, k2, k3, k4⟩ := (hC.2.1.2 k _ ht).2
  subst hnm
  exact va_castA hC.1.1 hC.1.2.1 hC.1.2.2.2.1 (hC.1.2.2.2.2 _ hlink) (hg.P1 ha) 0 rfl k4 hdg kk
end GhConst
theorem gh_nQ {C : String} (r : Option Nat) : narrow (.object C) (va_rf r) = va_rf r := by cases r <;> rfl
theorem gh_fQ {C : String} (r : Option Nat) : fits (.object C) (va_rf r) = true := by cases r <;> rfl
theorem gh_nQa {C : FieldType} (r : Option Nat) : narrow (.array C) (va_rf r) = va_rf r := by cases r <;> rfl
theorem gh_fQa {C : FieldType} (r : Option Nat) : fits (.array C) (va_rf r) = true := by cases r <;> rfl
theorem gh_len {k : Nat} (h : k < 6) {a b c d e f : Value} {r : List Value} : k < (a :: b :: c :: d :: e :: f :: r).length := by simp only [List.length_cons]; omega
section GhQ2
variable {V : gh_V} {p : Program} {l : Launch} {e : Env} {R : Room} {s : State} {m : MethodId} {args : Array Value} {below : List Frame} {meth : Method} {c : Code} {H : Heap} {locs : List Loc} {cells slots : Nat} {Q : State → Prop} {cc : ByteArray} {nL : Nat} {own : String} {A : Nat → Prop} {g : gh_G} {pc : Nat} {ls : Array Slot} {rest st : List Value}
theorem gh_qastQ (hC : gh_C V p s m args c cc nL own A) (hg : gh_W V A s g H locs) {a : Nat} {t : gh_T} {k n : Nat} {f : Nat → Option Nat} (ha : g a = some (t, aq V k n f)) {C : String} (ht : (gh_TY V)[k]? = some (V.2.1 k, .object C)) {v : Option Nat} {ci : Nat} (hv : ∀ y, v = some y → ∃ tv vs, g y = some (tv, oo ci vs)) {r : vw_C} (hc : CL[ci]? = some r) (hcast : va_Nw (.castable r.1 C) s) {x : Int32} {i : Nat} (hx : x = nI i) (hi : i < n) (hn : n < 2 ^ 31) (hdg : decode cc pc = .ok (.aastore, 1))
    (kk : ∀ (g1 : gh_G) (H1 : Heap) (locs1 : List Loc), gh_W V A s g1 H1 locs1 → g1 a = some (t, aq V k n (va_up f i v)) → (∀ q, q ≠ a → g1 q = g q) → W p l e R s m args below meth c H1 locs1 cells slots Q (F0 m (pc + 1) ls rest)) : W p l e R s m args below meth c H locs cells slots Q (F0 m pc ls (va_rf v :: .int x :: .ref a :: rest)) := by
  cases v with
  | none => exact gh_qastN hC hg ha ht hx hi hn hdg kk
  | some y =>
    obtain ⟨tv, vs, hy⟩ := hv y rfl
    exact gh_qastO hC hg ha ht hy hc hcast hx hi hn hdg kk
end GhQ2
theorem gh_fd.ref {own : String} {index ci k : Nat} {ty : FieldType} {fin : Bool} {C ref : String} {T : u_T} {N : Nat} (ty0 : Nat → FieldType) (hc : CL[ci]? = some (C, T, N)) (hin : ∀ w ∈ u_ws C T N, w ∈ lw_all) (hty : ∀ j, j < N → parseFieldDescriptor (T j).2.2.1 = some (ty0 j)) (hnm : ∀ a, a < N → ∀ b, b < N → a ≠ b → (T a).2.1 ≠ (T b).2.1) (hk : k < N)
    (hl : Cond.fieldLink own index ref (T k).2.1 (T k).2.2.1 ∈ lw_all) (hsame : ∀ (args : Array Value) (s : State), (∀ w ∈ lw_all, w.before args s = true) → ∀ x, s.fieldFound? (T k).1 (T k).2.1 (T k).2.2.1 = some x → s.fieldFound? ref (T k).2.1 (T k).2.2.1 = some x) (hfin : (T k).2.2.2 = fin) (hp : parseFieldDescriptor (T k).2.2.1 = some ty) (ho : fin = true → (T k).1 = own) : gh_fd own index ci k ty fin :=
  ⟨ref, C, T, N, ty0, hc, hin, hty, hnm, hk, hl, hsame, hfin, hp, ho⟩
theorem gh_cQ (r : Option Nat) : (va_rf r).category = 1 := by cases r <;> rfl
/-- a field as it is read (final ones too, from any class) -/
def gh_fdr (own : String) (index ci k : Nat) : Prop := ∃ (ref C : String) (T : u_T) (N : Nat), CL[ci]? = some (C, T, N) ∧ (∀ w ∈ u_ws C T N, w ∈ lw_all) ∧ k < N ∧ Cond.fieldLink own index ref (T k).2.1 (T k).2.2.1 ∈ lw_all ∧ (∀ (args : Array Value) (s : State), (∀ w ∈ lw_all, w.before args s = true) → ∀ x, s.fieldFound? (T k).1 (T k).2.1 (T k).2.2.1 = some x → s.fieldFound? ref (T k).2.1 (T k).2.2.1 = some x)
theorem gh_fdr.own {own : String} {index ci k : Nat} {C : String} {T : u_T} {N : Nat} (hc : CL[ci]? = some (C, T, N)) (hin : ∀ w ∈ u_ws C T N, w ∈ lw_all) (hk : k < N) (hl : Cond.fieldLink own index (T k).1 (T k).2.1 (T k).2.2.1 ∈ lw_all) : gh_fdr own index ci k := ⟨(T k).1, C, T, N, hc, hin, hk, hl, fun _ _ _ _ h => h⟩
theorem gh_fdr.ref {own : String} {index ci k : Nat} {C ref : String} {T : u_T} {N : Nat} (hc : CL[ci]? = some (C, T, N)) (hin : ∀ w ∈ u_ws C T N, w ∈ lw_all) (hk : k < N) (hl : Cond.fieldLink own index ref (T k).2.1 (T k).2.2.1 ∈ lw_all) (hsame : ∀ (args : Array Value) (s : State), (∀ w ∈ lw_all, w.before args s = true) → ∀ x, s.fieldFound? (T k).1 (T k).2.1 (T k).2.2.1 = some x → s.fieldFound? ref (T k).2.1 (T k).2.2.1 = some x) : gh_fdr own index ci k := ⟨ref, C, T, N, hc, hin, hk, hl, hsame⟩
section GhGetr
variable {V : gh_V} {p : Program} {l : Launch} {e : Env} {R : Room} {s : State} {m : MethodId} {args : Array Value} {below : List Frame} {meth : Method} {c : Code} {H : Heap} {locs : List Loc} {cells slots : Nat} {Q : State → Prop} {cc : ByteArray} {nL : Nat} {own : String} {A : Nat → Prop} {g : gh_G} {pc : Nat} {ls : Array Slot} {rest st : List Value}
theorem gh_getr (hC : gh_C V p s m args c cc nL own A) (hg : gh_W V A s g H locs) {a : Nat} {t : gh_T} {ci index k : Nat} {fs : List Value} (ha : g a = some (t, oo ci fs)) (hf : gh_fdr own index ci k) {v : Value} (hv : fs[k]? = some v) (hdg : decode cc pc = .ok (.getfield index, 3))
    (kk : W p l e R s m args below meth c H locs cells slots Q (F0 m (pc + 3) ls (v :: rest))) : W p l e R s m args below meth c H locs cells slots Q (F0 m pc ls (.ref a :: rest)) := by
  obtain ⟨ref, C, T, N, hc, hin, hk, hl, hsame⟩ := hf
  exact va_get hC.1.1 hC.1.2.1 hC.1.2.2.2.2 hin hC.1.2.2.2.1 hC.2.1 (hg.P1 ha) 0 rfl hc k hk (hC.1.2.2.2.2 _ hl) (hsame _ _ hC.1.2.2.2.2) hv hdg kk
end GhGetr
