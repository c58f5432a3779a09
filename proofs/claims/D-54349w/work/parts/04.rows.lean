/-! ROWS over the ghost heap -/
/-- a field's static facts: seen from class own by entry index, the k-th field of class number ci, of type ty; fin: final -/
def gh_fd (own : String) (index ci k : Nat) (ty : FieldType) (fin : Bool) : Prop := ∃ (ref C : String) (T : u_T) (N : Nat) (ty0 : Nat → FieldType), CL[ci]? = some (C, T, N) ∧ (∀ w ∈ u_ws C T N, w ∈ lw_all) ∧ (∀ j, j < N → parseFieldDescriptor (T j).2.2.1 = some (ty0 j)) ∧ (∀ a, a < N → ∀ b, b < N → a ≠ b → (T a).2.1 ≠ (T b).2.1) ∧ k < N ∧
  Cond.fieldLink own index ref (T k).2.1 (T k).2.2.1 ∈ lw_all ∧ (∀ (args : Array Value) (s : State), (∀ w ∈ lw_all, w.before args s = true) → ∀ x, s.fieldFound? (T k).1 (T k).2.1 (T k).2.2.1 = some x → s.fieldFound? ref (T k).2.1 (T k).2.2.1 = some x) ∧ (T k).2.2.2 = fin ∧ parseFieldDescriptor (T k).2.2.1 = some ty ∧ (fin = true → (T k).1 = own)
theorem gh_fd.own {own : String} {index ci k : Nat} {ty : FieldType} {fin : Bool} {C : String} {T : u_T} {N : Nat} (ty0 : Nat → FieldType) (hc : CL[ci]? = some (C, T, N)) (hin : ∀ w ∈ u_ws C T N, w ∈ lw_all) (hty : ∀ j, j < N → parseFieldDescriptor (T j).2.2.1 = some (ty0 j)) (hnm : ∀ a, a < N → ∀ b, b < N → a ≠ b → (T a).2.1 ≠ (T b).2.1) (hk : k < N)
    (hl : Cond.fieldLink own index (T k).1 (T k).2.1 (T k).2.2.1 ∈ lw_all) (hfin : (T k).2.2.2 = fin) (hp : parseFieldDescriptor (T k).2.2.1 = some ty) (ho : fin = true → (T k).1 = own) : gh_fd own index ci k ty fin :=
  ⟨(T k).1, C, T, N, ty0, hc, hin, hty, hnm, hk, hl, fun _ _ _ _ h => h, hfin, hp, ho⟩
theorem nx_add {x y : Int32} {a b : Nat} (h : x = nI a) (k : y = nI b) : x + y = nI (a + b) := by rw [h, k, nI_add]
theorem nx_mul {x y : Int32} {a b : Nat} (h : x = nI a) (k : y = nI b) : x * y = nI (a * b) := by rw [h, k, pk_mul]
theorem nx_sub {x y : Int32} {a b : Nat} (h : x = nI a) (k : y = nI b) (hl : b ≤ a) : x - y = nI (a - b) := by rw [h, k, pk_sub hl]
theorem nx_div {x y : Int32} {a b : Nat} (h : x = nI a) (k : y = nI b) (ha : a < 2 ^ 31) (h0 : 0 < b) (hb : b < 2 ^ 31) : x / y = nI (a / b) := by rw [h, k, pk_div ha h0 hb]
theorem nx_inc {x : Int32} {a : Nat} (h : x = nI a) : x + 1 = nI (a + 1) := by rw [h, nI_1]
theorem nx_le {x y : Int32} {a b : Nat} (h : x = nI a) (k : y = nI b) (ha : a < 2 ^ 31) (hb : b < 2 ^ 31) : x ≤ y ↔ a ≤ b := by rw [h, k]; exact nI_leI ha hb
theorem nx_lt {x y : Int32} {a b : Nat} (h : x = nI a) (k : y = nI b) (ha : a < 2 ^ 31) (hb : b < 2 ^ 31) : x < y ↔ a < b := by rw [h, k]; exact nI_ltI ha hb
theorem nx_eq {x y : Int32} {a b : Nat} (h : x = nI a) (k : y = nI b) (ha : a < 2 ^ 31) (hb : b < 2 ^ 31) : x = y ↔ a = b := by rw [h, k]; exact nI_eq ha hb
theorem nx_in {x : Int32} {i n : Nat} (h : x = nI i) (hi : i < n) (hn : n < 2 ^ 31) : vp_in x n := by rw [h]; exact vp_in_nI hi hn
theorem nx_cl {x : Int32} {i n : Nat} (h : x = nI i) (hi : i < n) (hn : n < 2 ^ 31) : x.toNatClampNeg = i := by rw [h]; exact nI_clamp (Nat.lt_trans hi hn)
section GhRows
variable {V : gh_V} {p : Program} {l : Launch} {e : Env} {R : Room} {s : State} {m : MethodId} {args : Array Value} {below : List Frame} {meth : Method} {c : Code} {H : Heap} {locs : List Loc} {cells slots : Nat} {Q : State → Prop} {cc : ByteArray} {nL : Nat} {own : String} {A : Nat → Prop} {g : gh_G} {pc : Nat} {ls : Array Slot} {rest st : List Value}
theorem gh_get (hC : gh_C V p s m args c cc nL own A) (hg : gh_W V A s g H locs) {a : Nat} {t : gh_T} {ci index k : Nat} {fs : List Value} {ty : FieldType} {fin : Bool} (ha : g a = some (t, oo ci fs)) (hf : gh_fd own index ci k ty fin) {v : Value} (hv : fs[k]? = some v) (hdg : decode cc pc = .ok (.getfield index, 3))
    (kk : W p l e R s m args below meth c H locs cells slots Q (F0 m (pc + 3) ls (v :: rest))) : W p l e R s m args below meth c H locs cells slots Q (F0 m pc ls (.ref a :: rest)) := by
  obtain ⟨ref, C, T, N, ty0, hc, hin, -, -, hk, hl, hsame, -⟩ := hf
  exact va_get hC.1.1 hC.1.2.1 hC.1.2.2.2.2 hin hC.1.2.2.2.1 hC.2.1 (hg.P1 ha) 0 rfl hc k hk (hC.1.2.2.2.2 _ hl) (hsame _ _ hC.1.2.2.2.2) hv hdg kk
theorem gh_put (hC : gh_C V p s m args c cc nL own A) (hg : gh_W V A s g H locs) {a : Nat} {t : gh_T} {ci index k : Nat} {fs : List Value} {ty : FieldType} (ha : g a = some (t, oo ci fs)) (hf : gh_fd own index ci k ty false) {v : Value} (hn : narrow ty v = v) (hfit : fits ty v = true) (hl : k < fs.length) (hdg : decode cc pc = .ok (.putfield index, 3))
    (kk : ∀ (g1 : gh_G) (H1 : Heap) (locs1 : List Loc), gh_W V A s g1 H1 locs1 → g1 a = some (t, oo ci (fs.set k v)) → (∀ q, q ≠ a → g1 q = g q) → W p l e R s m args below meth c H1 locs1 cells slots Q (F0 m (pc + 3) ls rest)) : W p l e R s m args below meth c H locs cells slots Q (F0 m pc ls (v :: .ref a :: rest)) := by
  obtain ⟨ref, C, T, N, ty0, hc, hin, hty, hnm, hk, hl9, hsame, hfin, hd, -⟩ := hf
  have hts := hC.1.2.2.2.2
  have hap := va_apart (own := own) hts hin ty0 hty hnm hC.2.1 hc
  obtain ⟨r, h1, cell, q1, q2, q3, q4⟩ := hg.P1 ha 0 _ rfl
  have hr : r = (C, T, N) := Option.some.inj (h1.symm.trans hc)
  subst hr
  obtain ⟨hS, hfc, kC, hkC, hkind⟩ := hC.2.1.1 ci _ hc
  obtain ⟨cf, kf, fi, f, hi, hsl⟩ := hS k hk
  have hlay := hts _ (hin _ (u_in_lay hk))
  unfold u_lay at hlay
  rw [if_neg (by rw [hfin]; decide)] at hlay
  have hst := (u_facts hfc hkC (u_lays hts hin hk) hi).1
  have h6 := u_store hfc hkC hkind hlay hi hd hn hfit
  refine W.putK hC.1.1 hC.1.2.1 (f := f) ⟨hC.1.2.2.2.1, hts _ hl9, ⟨_, _, _, hsame _ _ hts _ hi⟩, hst⟩ (by rw [q2]; exact h6) q1 q3 (by rw [hsl]; exact k2_hasslot (q4 k hk)) rfl rfl hdg fun H' e1 e2 e3 => ?_
  rw [hsl] at e1 ⊢
  obtain ⟨g1, w1, w2, w3⟩ := hg.set (k := V.1.2 ci k) ha (e1 := oo ci (fs.set k v)) ⟨_, hc, t_OB.to (V := updV (vp_V fs) k v) ⟨_, e1, q2, q3, t_set q4 hap hk v⟩ (fun j _ => vp_updV_set hl v j)⟩ e2 e3
  exact kk g1 H' _ w1 w2 w3
theorem gh_putF (hC : gh_C V p s m args c cc nL own A) (hg : gh_W V A s g H locs) (hin2 : meth.name = "<init>") {a : Nat} {t : gh_T} {ci index k : Nat} {fs : List Value} {ty : FieldType} (ha : g a = some (t, oo ci fs)) (hf : gh_fd own index ci k ty true) {v : Value} (hn : narrow ty v = v) (hfit : fits ty v = true) (hl : k < fs.length) (hdg : decode cc pc = .ok (.putfield index, 3))
    (kk : ∀ (g1 : gh_G) (H1 : Heap) (locs1 : List Loc), gh_W V A s g1 H1 locs1 → g1 a = some (t, oo ci (fs.set k v)) → (∀ q, q ≠ a → g1 q = g q) → W p l e R s m args below meth c H1 locs1 cells slots Q (F0 m (pc + 3) ls rest)) : W p l e R s m args below meth c H locs cells slots Q (F0 m pc ls (v :: .ref a :: rest)) := by
  obtain ⟨ref, C, T, N, ty0, hc, hin, hty, hnm, hk, hl9, hsame, hfin, hd, hdecl⟩ := hf
  have hdecl := hdecl rfl
  have hts := hC.1.2.2.2.2
  have hap := va_apart (own := own) hts hin ty0 hty hnm hC.2.1 hc
  obtain ⟨r, h1, cell, q1, q2, q3, q4⟩ := hg.P1 ha 0 _ rfl
  have hr : r = (C, T, N) := Option.some.inj (h1.symm.trans hc)
  subst hr
  obtain ⟨hS, hfc, kC, hkC, hkind⟩ := hC.2.1.1 ci _ hc
  obtain ⟨cf, kf, fi, f, hi, hsl⟩ := hS k hk
  have hlay := hts _ (hin _ (u_in_lay hk))
  unfold u_lay at hlay
  rw [if_pos hfin] at hlay
  have hst := (u_facts hfc hkC (u_lays hts hin hk) hi).1
  have hcf : m.cls = cf := by
    obtain ⟨_, _, c', _, _, _, -, -, hf', -, -, -, hown2, -⟩ := Cond.laysFinal_spec hlay
    have e1 : c' = cf := by have := hi.symm.trans hf'; simp at this; exact this.1.symm
    rw [hdecl] at hown2
    rw [← e1]; exact Option.some.inj (hC.1.2.2.2.1.symm.trans hown2)
  have h6 := u_fits hfc hkC hkind (Or.inr hlay) hi hd hn hfit
  refine W.putFinK hC.1.1 hC.1.2.1 hC.1.2.2.2.1 (hts _ hl9) (hsame _ _ hts _ hi) hst hcf hin2 (by rw [q2]; exact h6) q1 q3 (by rw [hsl]; exact k2_hasslot (q4 k hk)) rfl rfl hdg fun H' e1 e2 e3 => ?_
  rw [hsl] at e1 ⊢
  obtain ⟨g1, w1, w2, w3⟩ := hg.set (k := V.1.2 ci k) ha (e1 := oo ci (fs.set k v)) ⟨_, hc, t_OB.to (V := updV (vp_V fs) k v) ⟨_, e1, q2, q3, t_set q4 hap hk v⟩ (fun j _ => vp_updV_set hl v j)⟩ e2 e3
  exact kk g1 H' _ w1 w2 w3
theorem gh_new (hC : gh_C V p s m args c cc nL own A) (hg : gh_W V A s g H locs) {C : String} {T : u_T} {N ci index : Nat} (tg : Nat → gh_T) (hc : CL[ci]? = some (C, T, N)) (hin : ∀ w ∈ u_ws C T N, w ∈ lw_all) (ty : Nat → FieldType) (hty : ∀ k, k < N → parseFieldDescriptor (T k).2.2.1 = some (ty k)) (hcl : Cond.classLink own index C ∈ lw_all) (hinst : Cond.instantiable C N ∈ lw_all) (hini : Cond.initialized C ∈ lw_all)
    {fs : List Value} (hfs : ∀ j, j < N → defaultValue (ty j) = vp_V fs j) (hcells : cells + 1 ≤ R.cells) (hslots : slots + N ≤ R.slots) (hdg : decode cc pc = .ok (.new index, 3))
    (kk : ∀ (q : Nat) (g1 : gh_G) (H1 : Heap), gh_W V A s g1 H1 locs → g q = none → g1 q = some (tg q, oo ci fs) → (∀ b, b ≠ q → g1 b = g b) → W p l e R s m args below meth c H1 locs (cells + 1) (slots + N) Q (F0 m (pc + 3) ls (.ref q :: rest))) : W p l e R s m args below meth c H locs cells slots Q (F0 m pc ls rest) := by
  have hts := hC.1.2.2.2.2
  have hKn := hC.2.1.1 ci _ hc
  refine W.newcK hC.1.1 hC.1.2.1 hC.1.2.2.2.1 (hts _ hcl) (hts _ hinst) (hts _ hini) rfl hdg hcells hslots hKn.2.1 rfl fun H1 kC hkC e1 z1 o1 => ?_
  obtain ⟨w0, g1, w1, w2, w3⟩ := hg.new (tg H.size) (e1 := oo ci fs) ⟨_, hc, (u_born ty hts hin hKn hkC e1 hty).to hfs⟩ z1 o1
  exact kk H.size g1 H1 w1 w0 w2 w3
theorem gh_alen (hC : gh_C V p s m args c cc nL own A) (hg : gh_W V A s g H locs) {a : Nat} {t : gh_T} {x : vp_A} {k : Nat} {ty : FieldType} (ha : g a = some (t, .inl (.inl (V.2.1 k, x)))) (ht : (gh_TY V)[k]? = some (V.2.1 k, ty)) (hdg : decode cc pc = .ok (.arraylength, 1))
    (kk : W p l e R s m args below meth c H locs cells slots Q (F0 m (pc + 1) ls (.int (nI x.1) :: rest))) : W p l e R s m args below meth c H locs cells slots Q (F0 m pc ls (.ref a :: rest)) :=
  va_alen hC.1.1 hC.1.2.1 hC.2.1 (hg.P1 ha) 0 k rfl ht rfl hdg kk
theorem gh_iald (hC : gh_C V p s m args c cc nL own A) (hg : gh_W V A s g H locs) {a : Nat} {t : gh_T} {n : Nat} {f : Nat → Int32} (ha : g a = some (t, ai V 0 n f)) {x : Int32} {i : Nat} (hx : x = nI i) (hi : i < n) (hn : n < 2 ^ 31) (hdg : decode cc pc = .ok (.iaload, 1))
    (kk : W p l e R s m args below meth c H locs cells slots Q (F0 m (pc + 1) ls (.int (f i) :: rest))) : W p l e R s m args below meth c H locs cells slots Q (F0 m pc ls (.int x :: .ref a :: rest)) :=
  va_iald hC.1.1 hC.1.2.1 hC.2.1 (hg.P1 ha) 0 0 rfl rfl (nx_in hx hi hn) hdg (by rw [nx_cl hx hi hn]; exact kk)
theorem gh_zald (hC : gh_C V p s m args c cc nL own A) (hg : gh_W V A s g H locs) {a : Nat} {t : gh_T} {n : Nat} {f : Nat → Int32} (ha : g a = some (t, ai V 3 n f)) {x : Int32} {i : Nat} (hx : x = nI i) (hi : i < n) (hn : n < 2 ^ 31) (hdg : decode cc pc = .ok (.baload, 1))
    (kk : W p l e R s m args below meth c H locs cells slots Q (F0 m (pc + 1) ls (.int (f i) :: rest))) : W p l e R s m args below meth c H locs cells slots Q (F0 m pc ls (.int x :: .ref a :: rest)) :=
  va_zald hC.1.1 hC.1.2.1 hC.2.1 (hg.P1 ha) 0 3 rfl rfl (nx_in hx hi hn) hdg (by rw [nx_cl hx hi hn]; exact kk)
theorem gh_bald (hC : gh_C V p s m args c cc nL own A) (hg : gh_W V A s g H locs) {a : Nat} {t : gh_T} {n : Nat} {f : Nat → Int32} (ha : g a = some (t, ai V 4 n f)) {x : Int32} {i : Nat} (hx : x = nI i) (hi : i < n) (hn : n < 2 ^ 31) (hdg : decode cc pc = .ok (.baload, 1))
    (kk : W p l e R s m args below meth c H locs cells slots Q (F0 m (pc + 1) ls (.int (f i) :: rest))) : W p l e R s m args below meth c H locs cells slots Q (F0 m pc ls (.int x :: .ref a :: rest)) :=
  va_bald hC.1.1 hC.1.2.1 hC.2.1 (hg.P1 ha) 0 4 rfl rfl (nx_in hx hi hn) hdg (by rw [nx_cl hx hi hn]; exact kk)
theorem gh_lald (hC : gh_C V p s m args c cc nL own A) (hg : gh_W V A s g H locs) {a : Nat} {t : gh_T} {n : Nat} {f : Nat → Int64} (ha : g a = some (t, al V 1 n f)) {x : Int32} {i : Nat} (hx : x = nI i) (hi : i < n) (hn : n < 2 ^ 31) (hdg : decode cc pc = .ok (.laload, 1))
    (kk : W p l e R s m args below meth c H locs cells slots Q (F0 m (pc + 1) ls (.long (f i) :: rest))) : W p l e R s m args below meth c H locs cells slots Q (F0 m pc ls (.int x :: .ref a :: rest)) :=
  va_lald hC.1.1 hC.1.2.1 hC.2.1 (hg.P1 ha) 0 1 rfl rfl (nx_in hx hi hn) hdg (by rw [nx_cl hx hi hn]; exact kk)
theorem gh_fald (hC : gh_C V p s m args c cc nL own A) (hg : gh_W V A s g H locs) {a : Nat} {t : gh_T} {n : Nat} {f : Nat → UInt32} (ha : g a = some (t, af V 2 n f)) {x : Int32} {i : Nat} (hx : x = nI i) (hi : i < n) (hn : n < 2 ^ 31) (hdg : decode cc pc = .ok (.faload, 1))
    (kk : W p l e R s m args below meth c H locs cells slots Q (F0 m (pc + 1) ls (.float (f i) :: rest))) : W p l e R s m args below meth c H locs cells slots Q (F0 m pc ls (.int x :: .ref a :: rest)) :=
  va_fald hC.1.1 hC.1.2.1 hC.2.1 (hg.P1 ha) 0 2 rfl rfl (nx_in hx hi hn) hdg (by rw [nx_cl hx hi hn]; exact kk)
theorem gh_qald (hC : gh_C V p s m args c cc nL own A) (hg : gh_W V A s g H locs) {a : Nat} {t : gh_T} {k n : Nat} {f : Nat → Option Nat} (ha : g a = some (t, aq V k n f)) {C : String} (ht : (gh_TY V)[k]? = some (V.2.1 k, .object C)) {x : Int32} {i : Nat} (hx : x = nI i) (hi : i < n) (hn : n < 2 ^ 31) (hdg : decode cc pc = .ok (.aaload, 1))
    (kk : W p l e R s m args below meth c H locs cells slots Q (F0 m (pc + 1) ls (va_rf (f i) :: rest))) : W p l e R s m args below meth c H locs cells slots Q (F0 m pc ls (.int x :: .ref a :: rest)) :=
  va_aldq hC.1.1 hC.1.2.1 hC.2.1 (hg.P1 ha) 0 k rfl ht (nx_in hx hi hn) hdg (by rw [nx_cl hx hi hn]; exact kk)
theorem gh_iast (hC : gh_C V p s m args c cc nL own A) (hg : gh_W V A s g H locs) {a : Nat} {t : gh_T} {n : Nat} {f : Nat → Int32} (ha : g a = some (t, ai V 0 n f)) {x : Int32} {i : Nat} (hx : x = nI i) (hi : i < n) (hn : n < 2 ^ 31) {v : Int32} (hdg : decode cc pc = .ok (.iastore, 1))
    (kk : ∀ (g1 : gh_G) (H1 : Heap) (locs1 : List Loc), gh_W V A s g1 H1 locs1 → g1 a = some (t, ai V 0 n (upd f i v)) → (∀ q, q ≠ a → g1 q = g q) → W p l e R s m args below meth c H1 locs1 cells slots Q (F0 m (pc + 1) ls rest)) : W p l e R s m args below meth c H locs cells slots Q (F0 m pc ls (.int v :: .int x :: .ref a :: rest)) := by
  have hin := nx_in hx hi hn
  have hcl := nx_cl hx hi hn
  refine W.iast hC.1.1 hC.1.2.1 (hg.P1 ha 0 _ rfl) ((hC.2.1.2 0 _ rfl).1 n (fun j => .int (f j))) (fun q => by cases q) (by show ¬ (x < 0 ∨ (arrV _ _ _).slots.size ≤ _); rw [arrV_size]; exact hin) rfl rfl hdg fun H1 e1 z oq => ?_
  obtain ⟨g1, w1, w2, w3⟩ := hg.set (k := x.toNatClampNeg) ha (e1 := ai V 0 n (upd f i v)) (H1 := H1) (by
    show H1[a]? = some (vp_cell _ _)
    rw [e1, vp_cell_i, vp_cell_i, arrV_store, hcl]
    congr 2
    funext q
    by_cases hq : q = i
    · subst hq
      simp [updV, upd, vp_nar]
      try rfl
    · simp [updV, upd, hq]) z oq
  exact kk g1 H1 _ w1 w2 w3
theorem gh_zast (hC : gh_C V p s m args c cc nL own A) (hg : gh_W V A s g H locs) {a : Nat} {t : gh_T} {n : Nat} {f : Nat → Int32} (ha : g a = some (t, ai V 3 n f)) {x : Int32} {i : Nat} (hx : x = nI i) (hi : i < n) (hn : n < 2 ^ 31) {v : Int32} (hdg : decode cc pc = .ok (.bastore, 1))
    (kk : ∀ (g1 : gh_G) (H1 : Heap) (locs1 : List Loc), gh_W V A s g1 H1 locs1 → g1 a = some (t, ai V 3 n (upd f i (vp_nar .boolean v))) → (∀ q, q ≠ a → g1 q = g q) → W p l e R s m args below meth c H1 locs1 cells slots Q (F0 m (pc + 1) ls rest)) : W p l e R s m args below meth c H locs cells slots Q (F0 m pc ls (.int v :: .int x :: .ref a :: rest)) := by
  have hin := nx_in hx hi hn
  have hcl := nx_cl hx hi hn
  refine W.zast hC.1.1 hC.1.2.1 (hg.P1 ha 0 _ rfl) ((hC.2.1.2 3 _ rfl).1 n (fun j => .int (f j))) (fun q => by cases q) (by show ¬ (x < 0 ∨ (arrV _ _ _).slots.size ≤ _); rw [arrV_size]; exact hin) rfl rfl hdg fun H1 e1 z oq => ?_
  obtain ⟨g1, w1, w2, w3⟩ := hg.set (k := x.toNatClampNeg) ha (e1 := ai V 3 n (upd f i (vp_nar .boolean v))) (H1 := H1) (by
    show H1[a]? = some (vp_cell _ _)
    rw [e1, vp_cell_i, vp_cell_i, arrV_store, hcl]
    congr 2
    funext q
    by_cases hq : q = i
    · subst hq
      simp [updV, upd, vp_nar]
      try rfl
    · simp [updV, upd, hq]) z oq
  exact kk g1 H1 _ w1 w2 w3
theorem gh_bast (hC : gh_C V p s m args c cc nL own A) (hg : gh_W V A s g H locs) {a : Nat} {t : gh_T} {n : Nat} {f : Nat → Int32} (ha : g a = some (t, ai V 4 n f)) {x : Int32} {i : Nat} (hx : x = nI i) (hi : i < n) (hn : n < 2 ^ 31) {v : Int32} (hdg : decode cc pc = .ok (.bastore, 1))
    (kk : ∀ (g1 : gh_G) (H1 : Heap) (locs1 : List Loc), gh_W V A s g1 H1 locs1 → g1 a = some (t, ai V 4 n (upd f i (vp_nar .byte v))) → (∀ q, q ≠ a → g1 q = g q) → W p l e R s m args below meth c H1 locs1 cells slots Q (F0 m (pc + 1) ls rest)) : W p l e R s m args below meth c H locs cells slots Q (F0 m pc ls (.int v :: .int x :: .ref a :: rest)) := by
  have hin := nx_in hx hi hn
  have hcl := nx_cl hx hi hn
  refine W.bast hC.1.1 hC.1.2.1 (hg.P1 ha 0 _ rfl) ((hC.2.1.2 4 _ rfl).1 n (fun j => .int (f j))) (fun q => by cases q) (by show ¬ (x < 0 ∨ (arrV _ _ _).slots.size ≤ _); rw [arrV_size]; exact hin) rfl rfl hdg fun H1 e1 z oq => ?_
  obtain ⟨g1, w1, w2, w3⟩ := hg.set (k := x.toNatClampNeg) ha (e1 := ai V 4 n (upd f i (vp_nar .byte v))) (H1 := H1) (by
    show H1[a]? = some (vp_cell _ _)
    rw [e1, vp_cell_i, vp_cell_i, arrV_store, hcl]
    congr 2
    funext q
    by_cases hq : q = i
    · subst hq
      simp [updV, upd, vp_nar]
      try rfl
    · simp [updV, upd, hq]) z oq
  exact kk g1 H1 _ w1 w2 w3
theorem gh_last (hC : gh_C V p s m args c cc nL own A) (hg : gh_W V A s g H locs) {a : Nat} {t : gh_T} {n : Nat} {f : Nat → Int64} (ha : g a = some (t, al V 1 n f)) {x : Int32} {i : Nat} (hx : x = nI i) (hi : i < n) (hn : n < 2 ^ 31) {v : Int64} (hdg : decode cc pc = .ok (.lastore, 1))
    (kk : ∀ (g1 : gh_G) (H1 : Heap) (locs1 : List Loc), gh_W V A s g1 H1 locs1 → g1 a = some (t, al V 1 n (va_up f i v)) → (∀ q, q ≠ a → g1 q = g q) → W p l e R s m args below meth c H1 locs1 cells slots Q (F0 m (pc + 1) ls rest)) : W p l e R s m args below meth c H locs cells slots Q (F0 m pc ls (.long v :: .int x :: .ref a :: rest)) := by
  have hin := nx_in hx hi hn
  have hcl := nx_cl hx hi hn
  refine W.last hC.1.1 hC.1.2.1 (hg.P1 ha 0 _ rfl) ((hC.2.1.2 1 _ rfl).1 n (fun j => .long (f j))) (fun q => by cases q) (by show ¬ (x < 0 ∨ (arrV _ _ _).slots.size ≤ _); rw [arrV_size]; exact hin) rfl rfl hdg fun H1 e1 z oq => ?_
  obtain ⟨g1, w1, w2, w3⟩ := hg.set (k := x.toNatClampNeg) ha (e1 := al V 1 n (va_up f i v)) (H1 := H1) (by
    show H1[a]? = some (vp_cell _ _)
    rw [e1, vp_cell_l, vp_cell_l, arrV_store, hcl]
    congr 2
    funext q
    by_cases hq : q = i
    · subst hq
      simp [updV, va_up, vp_nar]
      try rfl
    · simp [updV, va_up, hq]) z oq
  exact kk g1 H1 _ w1 w2 w3
theorem gh_fast (hC : gh_C V p s m args c cc nL own A) (hg : gh_W V A s g H locs) {a : Nat} {t : gh_T} {n : Nat} {f : Nat → UInt32} (ha : g a = some (t, af V 2 n f)) {x : Int32} {i : Nat} (hx : x = nI i) (hi : i < n) (hn : n < 2 ^ 31) {v : UInt32} (hdg : decode cc pc = .ok (.fastore, 1))
    (kk : ∀ (g1 : gh_G) (H1 : Heap) (locs1 : List Loc), gh_W V A s g1 H1 locs1 → g1 a = some (t, af V 2 n (va_up f i v)) → (∀ q, q ≠ a → g1 q = g q) → W p l e R s m args below meth c H1 locs1 cells slots Q (F0 m (pc + 1) ls rest)) : W p l e R s m args below meth c H locs cells slots Q (F0 m pc ls (.float v :: .int x :: .ref a :: rest)) := by
  have hin := nx_in hx hi hn
  have hcl := nx_cl hx hi hn
  refine W.fast hC.1.1 hC.1.2.1 (hg.P1 ha 0 _ rfl) ((hC.2.1.2 2 _ rfl).1 n (fun j => .float (f j))) (fun q => by cases q) (by show ¬ (x < 0 ∨ (arrV _ _ _).slots.size ≤ _); rw [arrV_size]; exact hin) rfl rfl hdg fun H1 e1 z oq => ?_
  obtain ⟨g1, w1, w2, w3⟩ := hg.set (k := x.toNatClampNeg) ha (e1 := af V 2 n (va_up f i v)) (H1 := H1) (by
    show H1[a]? = some (vp_cell _ _)
    rw [e1, vp_cell_f, vp_cell_f, arrV_store, hcl]
    congr 2
    funext q
    by_cases hq : q = i
    · subst hq
      simp [updV, va_up, vp_nar]
      try rfl
    · simp [updV, va_up, hq]) z oq
  exact kk g1 H1 _ w1 w2 w3
theorem gh_qast (hC : gh_C V p s m args c cc nL own A) (hg : gh_W V A s g H locs) {a : Nat} {t : gh_T} {k n : Nat} {f : Nat → Option Nat} (ha : g a = some (t, aq V k n f)) {r : vw_C} (ht : (gh_TY V)[k]? = some (V.2.1 k, .object r.1)) {v : Nat} {tv : gh_T} {ci : Nat} {vs : List Value} (hv : g v = some (tv, oo ci vs)) (hc : CL[ci]? = some r) {x : Int32} {i : Nat} (hx : x = nI i) (hi : i < n) (hn : n < 2 ^ 31) (hdg : decode cc pc = .ok (.aastore, 1))
    (kk : ∀ (g1 : gh_G) (H1 : Heap) (locs1 : List Loc), gh_W V A s g1 H1 locs1 → g1 a = some (t, aq V k n (va_up f i (some v))) → (∀ q, q ≠ a → g1 q = g q) → W p l e R s m args below meth c H1 locs1 cells slots Q (F0 m (pc + 1) ls rest)) : W p l e R s m args below meth c H locs cells slots Q (F0 m pc ls (.ref v :: .int x :: .ref a :: rest)) := by
  have hin := nx_in hx hi hn
  have hcl := nx_cl hx hi hn
  have hlt : x.toNatClampNeg < n := by rw [hcl]; exact hi
  have h0 : ¬ x < 0 := fun q => hin (Or.inl q)
  obtain ⟨r', hr', cellV, g1, g2, g3, -⟩ := hg.P1 hv 0 _ rfl
  have hcls := (hC.2.1.1 ci r hc).2
  obtain ⟨kA, comp, k1, k2, k3, -⟩ := (hC.2.1.2 k _ ht).2
  have hcomp : comp = V.1.1 ci := Option.some.inj (k3.symm.trans hcls.1)
  subst hcomp
  obtain ⟨kC, hkC, -⟩ := hcls.2
  refine W.aast hC.1.1 hC.1.2.1 (hg.P1 ha 0 _ rfl) (fun q h => by cases h) (fun h => by cases h) k1 k2 rfl hkC ⟨h0, by show _ < (arrV _ _ _).slots.size; rw [arrV_size]; exact hlt⟩ g1 (fun q h => by rw [g3] at h; cases h) (by rw [g2]; exact hkC) (by rw [g2]; exact va_assign hcls) rfl rfl hdg fun H1 e1 z oq => ?_
  obtain ⟨g1, w1, w2, w3⟩ := hg.set (k := x.toNatClampNeg) ha (e1 := aq V k n (va_up f i (some v))) (H1 := H1) (by
    show H1[a]? = some (vp_cell _ _)
    rw [e1, vp_cell_q, vp_cell_q, arrV_store, hcl]
    congr 2
    funext q
    by_cases hq : q = i
    · subst hq
      simp [updV, va_up, va_rf]
    · simp [updV, va_up, hq]) z oq
  exact kk g1 H1 _ w1 w2 w3
/-- a reference of any class into an array of Objects -/
theorem gh_qastO (hC : gh_C V p s m args c cc nL own A) (hg : gh_W V A s g H locs) {a : Nat} {t : gh_T} {k n : Nat} {f : Nat → Option Nat} (ha : g a = some (t, aq V k n f)) {C : String} (ht : (gh_TY V)[k]? = some (V.2.1 k, .object C)) {v : Nat} {tv : gh_T} {ci : Nat} {vs : List Value} (hv : g v = some (tv, oo ci vs)) {r : vw_C} (hc : CL[ci]? = some r) (hcast : va_Nw (.castable r.1 C) s) {x : Int32} {i : Nat} (hx : x = nI i) (hi : i < n) (hn : n < 2 ^ 31) (hdg : decode cc pc = .ok (.aastore, 1))
    (kk : ∀ (g1 : gh_G) (H1 : Heap) (locs1 : List Loc), gh_W V A s g1 H1 locs1 → g1 a = some (t, aq V k n (va_up f i (some v))) → (∀ q, q ≠ a → g1 q = g q) → W p l e R s m args below meth c H1 locs1 cells slots Q (F0 m (pc + 1) ls rest)) : W p l e R s m args below meth c H locs cells slots Q (F0 m pc ls (.ref v :: .int x :: .ref a :: rest)) := by
  have hin := nx_in hx hi hn
  have hcl := nx_cl hx hi hn
  have hlt : x.toNatClampNeg < n := by rw [hcl]; exact hi
  have h0 : ¬ x < 0 := fun q => hin (Or.inl q)
  obtain ⟨r', hr', cellV, g1, g2, g3, -⟩ := hg.P1 hv 0 _ rfl
  have hcls := (hC.2.1.1 ci r hc).2
  obtain ⟨kA, comp, k1, k2, k3, -⟩ := (hC.2.1.2 k _ ht).2
  obtain ⟨c0, t0, f1, f2, f3⟩ := Cond.castable_spec (va_Nw.use (A := args) rfl hcast)
  have e0 : V.1.1 ci = c0 := Option.some.inj (hcls.1.symm.trans f1)
  have e9 : comp = t0 := Option.some.inj (k3.symm.trans f2)
  subst e0; subst e9
  obtain ⟨kC, hkC, -⟩ := hcls.2
  obtain ⟨kc, hkc⟩ : ∃ kc, s.vm.classes[comp]? = some kc := by
    obtain ⟨k9, hk9, -⟩ := Vm.findClass_spec k3
    exact ⟨k9, hk9⟩
  refine W.aast hC.1.1 hC.1.2.1 (hg.P1 ha 0 _ rfl) (fun q h => by cases h) (fun h => by cases h) k1 k2 rfl hkc ⟨h0, by show _ < (arrV _ _ _).slots.size; rw [arrV_size]; exact hlt⟩ g1 (fun q h => by rw [g3] at h; cases h) (by rw [g2]; exact hkC) (by rw [g2]; exact f3) rfl rfl hdg fun H1 e1 z oq => ?_
  obtain ⟨g1, w1, w2, w3⟩ := hg.set (k := x.toNatClampNeg) ha (e1 := aq V k n (va_up f i (some v))) (H1 := H1) (by
    show H1[a]? = some (vp_cell _ _)
    rw [e1, vp_cell_q, vp_cell_q, arrV_store, hcl]
    congr 2
    funext q
    by_cases hq : q = i
    · subst hq
      simp [updV, va_up, va_rf]
    · simp [updV, va_up, hq]) z oq
  exact kk g1 H1 _ w1 w2 w3
theorem gh_qastN (hC : gh_C V p s m args c cc nL own A) (hg : gh_W V A s g H locs) {a : Nat} {t : gh_T} {k n : Nat} {f : Nat → Option Nat} (ha : g a = some (t, aq V k n f)) {C : String} (ht : (gh_TY V)[k]? = some (V.2.1 k, .object C)) {x : Int32} {i : Nat} (hx : x = nI i) (hi : i < n) (hn : n < 2 ^ 31) (hdg : decode cc pc = .ok (.aastore, 1))
    (kk : ∀ (g1 : gh_G) (H1 : Heap) (locs1 : List Loc), gh_W V A s g1 H1 locs1 → g1 a = some (t, aq V k n (va_up f i none)) → (∀ q, q ≠ a → g1 q = g q) → W p l e R s m args below meth c H1 locs1 cells slots Q (F0 m (pc + 1) ls rest)) : W p l e R s m args below meth c H locs cells slots Q (F0 m pc ls (.null :: .int x :: .ref a :: rest)) := by
  have hin := nx_in hx hi hn
  have hcl := nx_cl hx hi hn
  refine va_WaastN (C := C) hC.1.1 hC.1.2.1 (hg.P1 ha 0 _ rfl) ((hC.2.1.2 k _ ht).1 n (fun j => va_rf (f j))) (fun h => by cases h) (by show ¬ (x < 0 ∨ (arrV _ _ _).slots.size ≤ _); rw [arrV_size]; exact hin) rfl rfl hdg fun H1 e1 z oq => ?_
  obtain ⟨g1, w1, w2, w3⟩ := hg.set (k := x.toNatClampNeg) ha (e1 := aq V k n (va_up f i none)) (H1 := H1) (by
    show H1[a]? = some (vp_cell _ _)
    rw [e1, vp_cell_q, vp_cell_q, arrV_store, hcl]
    congr 2
    funext q
    by_cases hq : q = i
    · subst hq
      simp [updV, va_up, va_rf]
    · simp [updV, va_up, hq]) z oq
  exact kk g1 H1 _ w1 w2 w3
theorem gh_newaI (hC : gh_C V p s m args c cc nL own A) (hg : gh_W V A s g H locs) (tg : Nat → gh_T) (harr : Cond.arrayClass .int ∈ lw_all) {x : Int32} {n : Nat} (hx : x = nI n) (hn : n < 2 ^ 24) (hcells : cells + 1 ≤ R.cells) (hslots : slots + n ≤ R.slots) (hdg : decode cc pc = .ok (.newarray .int, 2))
    (kk : ∀ (q : Nat) (g1 : gh_G) (H1 : Heap), gh_W V A s g1 H1 locs → g q = none → g1 q = some (tg q, ai V 0 n (fun _ => 0)) → (∀ b, b ≠ q → g1 b = g b) → W p l e R s m args below meth c H1 locs (cells + 1) (slots + n) Q (F0 m (pc + 2) ls (.ref q :: rest))) : W p l e R s m args below meth c H locs cells slots Q (F0 m pc ls (.int x :: rest)) := by
  refine va_newaK (atype := .int) hC.1.1 hC.1.2.1 (hC.1.2.2.2.2 _ harr) rfl hdg rfl (by rw [hx]; exact nI_pos (by omega)) (N := n) (by rw [hx]; exact nI_clamp (by omega)) (by simp only [newarray.typeOf, componentBytes]; omega) hcells hslots rfl fun H1 cA e1 z1 o1 hAr hNm => ?_
  have hcA : cA = V.2.1 0 := Option.some.inj (hNm.symm.trans (hC.2.1.2 0 _ rfl).2)
  subst hcA
  obtain ⟨w0, g1, w1, w2, w3⟩ := hg.new (tg H.size) (e1 := ai V 0 n (fun _ => 0)) (H1 := H1) (by
    show H1[H.size]? = some (vp_cell _ _)
    rw [vp_cell_i]
    exact e1) z1 o1
  exact kk H.size g1 H1 w1 w0 w2 w3
theorem gh_newaJ (hC : gh_C V p s m args c cc nL own A) (hg : gh_W V A s g H locs) (tg : Nat → gh_T) (harr : Cond.arrayClass .long ∈ lw_all) {x : Int32} {n : Nat} (hx : x = nI n) (hn : n < 2 ^ 24) (hcells : cells + 1 ≤ R.cells) (hslots : slots + n ≤ R.slots) (hdg : decode cc pc = .ok (.newarray .long, 2))
    (kk : ∀ (q : Nat) (g1 : gh_G) (H1 : Heap), gh_W V A s g1 H1 locs → g q = none → g1 q = some (tg q, al V 1 n (fun _ => 0)) → (∀ b, b ≠ q → g1 b = g b) → W p l e R s m args below meth c H1 locs (cells + 1) (slots + n) Q (F0 m (pc + 2) ls (.ref q :: rest))) : W p l e R s m args below meth c H locs cells slots Q (F0 m pc ls (.int x :: rest)) := by
  refine va_newaK (atype := .long) hC.1.1 hC.1.2.1 (hC.1.2.2.2.2 _ harr) rfl hdg rfl (by rw [hx]; exact nI_pos (by omega)) (N := n) (by rw [hx]; exact nI_clamp (by omega)) (by simp only [newarray.typeOf, componentBytes]; omega) hcells hslots rfl fun H1 cA e1 z1 o1 hAr hNm => ?_
  have hcA : cA = V.2.1 1 := Option.some.inj (hNm.symm.trans (hC.2.1.2 1 _ rfl).2)
  subst hcA
  obtain ⟨w0, g1, w1, w2, w3⟩ := hg.new (tg H.size) (e1 := al V 1 n (fun _ => 0)) (H1 := H1) (by
    show H1[H.size]? = some (vp_cell _ _)
    rw [vp_cell_l]
    exact e1) z1 o1
  exact kk H.size g1 H1 w1 w0 w2 w3
theorem gh_newaF (hC : gh_C V p s m args c cc nL own A) (hg : gh_W V A s g H locs) (tg : Nat → gh_T) (harr : Cond.arrayClass .float ∈ lw_all) {x : Int32} {n : Nat} (hx : x = nI n) (hn : n < 2 ^ 24) (hcells : cells + 1 ≤ R.cells) (hslots : slots + n ≤ R.slots) (hdg : decode cc pc = .ok (.newarray .float, 2))
    (kk : ∀ (q : Nat) (g1 : gh_G) (H1 : Heap), gh_W V A s g1 H1 locs → g q = none → g1 q = some (tg q, af V 2 n (fun _ => 0)) → (∀ b, b ≠ q → g1 b = g b) → W p l e R s m args below meth c H1 locs (cells + 1) (slots + n) Q (F0 m (pc + 2) ls (.ref q :: rest))) : W p l e R s m args below meth c H locs cells slots Q (F0 m pc ls (.int x :: rest)) := by
  refine va_newaK (atype := .float) hC.1.1 hC.1.2.1 (hC.1.2.2.2.2 _ harr) rfl hdg rfl (by rw [hx]; exact nI_pos (by omega)) (N := n) (by rw [hx]; exact nI_clamp (by omega)) (by simp only [newarray.typeOf, componentBytes]; omega) hcells hslots rfl fun H1 cA e1 z1 o1 hAr hNm => ?_
  have hcA : cA = V.2.1 2 := Option.some.inj (hNm.symm.trans (hC.2.1.2 2 _ rfl).2)
  subst hcA
  obtain ⟨w0, g1, w1, w2, w3⟩ := hg.new (tg H.size) (e1 := af V 2 n (fun _ => 0)) (H1 := H1) (by
    show H1[H.size]? = some (vp_cell _ _)
    rw [vp_cell_f]
    exact e1) z1 o1
  exact kk H.size g1 H1 w1 w0 w2 w3
theorem gh_newaZ (hC : gh_C V p s m args c cc nL own A) (hg : gh_W V A s g H locs) (tg : Nat → gh_T) (harr : Cond.arrayClass .boolean ∈ lw_all) {x : Int32} {n : Nat} (hx : x = nI n) (hn : n < 2 ^ 24) (hcells : cells + 1 ≤ R.cells) (hslots : slots + n ≤ R.slots) (hdg : decode cc pc = .ok (.newarray .boolean, 2))
    (kk : ∀ (q : Nat) (g1 : gh_G) (H1 : Heap), gh_W V A s g1 H1 locs → g q = none → g1 q = some (tg q, ai V 3 n (fun _ => 0)) → (∀ b, b ≠ q → g1 b = g b) → W p l e R s m args below meth c H1 locs (cells + 1) (slots + n) Q (F0 m (pc + 2) ls (.ref q :: rest))) : W p l e R s m args below meth c H locs cells slots Q (F0 m pc ls (.int x :: rest)) := by
  refine va_newaK (atype := .boolean) hC.1.1 hC.1.2.1 (hC.1.2.2.2.2 _ harr) rfl hdg rfl (by rw [hx]; exact nI_pos (by omega)) (N := n) (by rw [hx]; exact nI_clamp (by omega)) (by simp only [newarray.typeOf, componentBytes]; omega) hcells hslots rfl fun H1 cA e1 z1 o1 hAr hNm => ?_
  have hcA : cA = V.2.1 3 := Option.some.inj (hNm.symm.trans (hC.2.1.2 3 _ rfl).2)
  subst hcA
  obtain ⟨w0, g1, w1, w2, w3⟩ := hg.new (tg H.size) (e1 := ai V 3 n (fun _ => 0)) (H1 := H1) (by
    show H1[H.size]? = some (vp_cell _ _)
    rw [vp_cell_i]
    exact e1) z1 o1
  exact kk H.size g1 H1 w1 w0 w2 w3
theorem gh_newaB (hC : gh_C V p s m args c cc nL own A) (hg : gh_W V A s g H locs) (tg : Nat → gh_T) (harr : Cond.arrayClass .byte ∈ lw_all) {x : Int32} {n : Nat} (hx : x = nI n) (hn : n < 2 ^ 24) (hcells : cells + 1 ≤ R.cells) (hslots : slots + n ≤ R.slots) (hdg : decode cc pc = .ok (.newarray .byte, 2))
    (kk : ∀ (q : Nat) (g1 : gh_G) (H1 : Heap), gh_W V A s g1 H1 locs → g q = none → g1 q = some (tg q, ai V 4 n (fun _ => 0)) → (∀ b, b ≠ q → g1 b = g b) → W p l e R s m args below meth c H1 locs (cells + 1) (slots + n) Q (F0 m (pc + 2) ls (.ref q :: rest))) : W p l e R s m args below meth c H locs cells slots Q (F0 m pc ls (.int x :: rest)) := by
  refine va_newaK (atype := .byte) hC.1.1 hC.1.2.1 (hC.1.2.2.2.2 _ harr) rfl hdg rfl (by rw [hx]; exact nI_pos (by omega)) (N := n) (by rw [hx]; exact nI_clamp (by omega)) (by simp only [newarray.typeOf, componentBytes]; omega) hcells hslots rfl fun H1 cA e1 z1 o1 hAr hNm => ?_
  have hcA : cA = V.2.1 4 := Option.some.inj (hNm.symm.trans (hC.2.1.2 4 _ rfl).2)
  subst hcA
  obtain ⟨w0, g1, w1, w2, w3⟩ := hg.new (tg H.size) (e1 := ai V 4 n (fun _ => 0)) (H1 := H1) (by
    show H1[H.size]? = some (vp_cell _ _)
    rw [vp_cell_i]
    exact e1) z1 o1
  exact kk H.size g1 H1 w1 w0 w2 w3
theorem gh_newq (hC : gh_C V p s m args c cc nL own A) (hg : gh_W V A s g H locs) (tg : Nat → gh_T) {C : String} {index k : Nat} (ht : (gh_TY V)[k]? = some (V.2.1 k, .object C)) (hl : Cond.classLink own index C ∈ lw_all) (hover : va_AO C s) {x : Int32} {n : Nat} (hx : x = nI n) (hn : n < 2 ^ 24) (hcells : cells + 1 ≤ R.cells) (hslots : slots + n ≤ R.slots) (hdg : decode cc pc = .ok (.anewarray index, 3))
    (kk : ∀ (q : Nat) (g1 : gh_G) (H1 : Heap), gh_W V A s g1 H1 locs → g q = none → g1 q = some (tg q, aq V k n (fun _ => none)) → (∀ b, b ≠ q → g1 b = g b) → W p l e R s m args below meth c H1 locs (cells + 1) (slots + n) Q (F0 m (pc + 3) ls (.ref q :: rest))) : W p l e R s m args below meth c H locs cells slots Q (F0 m pc ls (.int x :: rest)) := by
  have hcl : x.toNatClampNeg = n := by rw [hx]; exact nI_clamp (by omega)
  refine W.anew hC.1.1 hC.1.2.1 hC.1.2.2.2.1 (hC.1.2.2.2.2 _ hl) (va_AO.use hover) rfl hdg rfl (by rw [hx]; exact nI_pos (by omega)) (by rw [hcl]; omega) hcells (by rw [hcl]; exact hslots) fun cA kA comp f1 f2 f3 f4 => ?_
  obtain ⟨kA', comp', k1, k2, k3, k4⟩ := (hC.2.1.2 k _ ht).2
  have hcA : cA = V.2.1 k := Option.some.inj (f1.symm.trans k4)
  subst hcA
  rw [hcl]
  generalize hH1 : H.push ({ cls := V.2.1 k, slots := Array.replicate n .null, vm := .none } : Cell) = H1
  have z1 : H1.size = H.size + 1 := by rw [← hH1, Array.size_push]
  have e1 : H1[H.size]? = some (arrV (V.2.1 k) n (fun _ => .null)) := by rw [← hH1, Array.getElem?_push_size, ← arrV_new]
  have o1 : ∀ q : Nat, q < H.size → H1[q]? = H[q]? := fun q hq => by rw [← hH1, Array.getElem?_push, if_neg (Nat.ne_of_lt hq)]
  obtain ⟨w0, g1, w1, w2, w3⟩ := hg.new (tg H.size) (e1 := aq V k n (fun _ => none)) (H1 := H1) (by
    show H1[H.size]? = some (vp_cell _ _)
    rw [vp_cell_q]
    exact e1) z1 o1
  exact kk H.size g1 H1 w1 w0 w2 w3
variable {g0 : gh_G} {rm : Room}
theorem gh_reti {post : Int32 → gh_G → Prop} {v : Int32} (hC : gh_C V p s m args c cc nL own (gh_A g0 s.heap.size)) (hg : gh_W V (gh_A g0 s.heap.size) s g H locs) (hr : meth.sig.returnType = some .int) (hlk : meth.locks = false) (hp : post v g) (hdg : decode cc pc = .ok (.ireturn, 1)) (hc : cells ≤ rm.cells) (hs : slots ≤ rm.slots) :
    W p l e R s m args below meth c H locs cells slots (MQ below (va_Qi post (gh_B V g0 s.heap.size) (gh_A g0 s.heap.size)) args s rm.cells rm.slots (gh_A g0 s.heap.size)) (F0 m pc ls [.int v]) :=
  W.widen hc hs (W.iret hC.1.1 hC.1.2.1 hr (fun t ht hW => ⟨⟨v, g, rfl, hp, by rw [ht]; exact hg.1, hg.2.1⟩, hg.2.2.1.F ht⟩) hg.2.2.1.2.2 hdg hlk)
theorem gh_retf {post : UInt32 → gh_G → Prop} {v : UInt32} (hC : gh_C V p s m args c cc nL own (gh_A g0 s.heap.size)) (hg : gh_W V (gh_A g0 s.heap.size) s g H locs) (hr : meth.sig.returnType = some .float) (hlk : meth.locks = false) (hp : post v g) (hdg : decode cc pc = .ok (.freturn, 1)) (hc : cells ≤ rm.cells) (hs : slots ≤ rm.slots) :
    W p l e R s m args below meth c H locs cells slots (MQ below (va_Qf post (gh_B V g0 s.heap.size) (gh_A g0 s.heap.size)) args s rm.cells rm.slots (gh_A g0 s.heap.size)) (F0 m pc ls [.float v]) :=
  W.widen hc hs (W.fret hC.1.1 hC.1.2.1 hr (fun t ht hW => ⟨⟨v, g, rfl, hp, by rw [ht]; exact hg.1, hg.2.1⟩, hg.2.2.1.F ht⟩) hg.2.2.1.2.2 hdg hlk)
theorem gh_retd {post : UInt64 → gh_G → Prop} {v : UInt64} (hC : gh_C V p s m args c cc nL own (gh_A g0 s.heap.size)) (hg : gh_W V (gh_A g0 s.heap.size) s g H locs) (hr : meth.sig.returnType = some .double) (hlk : meth.locks = false) (hp : post v g) (hdg : decode cc pc = .ok (.dreturn, 1)) (hc : cells ≤ rm.cells) (hs : slots ≤ rm.slots) :
    W p l e R s m args below meth c H locs cells slots (MQ below (va_Qd post (gh_B V g0 s.heap.size) (gh_A g0 s.heap.size)) args s rm.cells rm.slots (gh_A g0 s.heap.size)) (F0 m pc ls [.double v]) :=
  W.widen hc hs (W.dret hC.1.1 hC.1.2.1 hr (fun t ht hW => ⟨⟨v, g, rfl, hp, by rw [ht]; exact hg.1, hg.2.1⟩, hg.2.2.1.F ht⟩) hg.2.2.1.2.2 hdg hlk)
theorem gh_retz {post : Int32 → gh_G → Prop} {v : Int32} {ty : FieldType} (hn : narrow ty (.int v) = .int v) (hC : gh_C V p s m args c cc nL own (gh_A g0 s.heap.size)) (hg : gh_W V (gh_A g0 s.heap.size) s g H locs) (hr : meth.sig.returnType = some ty) (hlk : meth.locks = false) (hp : post v g) (hdg : decode cc pc = .ok (.ireturn, 1)) (hc : cells ≤ rm.cells) (hs : slots ≤ rm.slots) :
    W p l e R s m args below meth c H locs cells slots (MQ below (va_Qi post (gh_B V g0 s.heap.size) (gh_A g0 s.heap.size)) args s rm.cells rm.slots (gh_A g0 s.heap.size)) (F0 m pc ls [.int v]) :=
  W.widen hc hs (W.zret hC.1.1 hC.1.2.1 hr hn (fun t ht hW => ⟨⟨v, g, rfl, hp, by rw [ht]; exact hg.1, hg.2.1⟩, hg.2.2.1.F ht⟩) hg.2.2.1.2.2 hdg hlk)
theorem gh_retv {post : gh_G → Prop} (hC : gh_C V p s m args c cc nL own (gh_A g0 s.heap.size)) (hg : gh_W V (gh_A g0 s.heap.size) s g H locs) (hr : meth.sig.returnType = none) (hlk : meth.locks = false) (hp : post g) (hdg : decode cc pc = .ok (.return_, 1)) (hc : cells ≤ rm.cells) (hs : slots ≤ rm.slots) :
    W p l e R s m args below meth c H locs cells slots (MQ below (va_Qv post (gh_B V g0 s.heap.size) (gh_A g0 s.heap.size)) args s rm.cells rm.slots (gh_A g0 s.heap.size)) (F0 m pc ls []) :=
  W.widen hc hs (W.vret hC.1.1 hC.1.2.1 hr (fun t ht hW => ⟨⟨g, rfl, hp, by rw [ht]; exact hg.1, hg.2.1⟩, hg.2.2.1.F ht⟩) hg.2.2.1.2.2 hdg hlk)
theorem gh_retq {post : Option Nat → gh_G → Prop} {r : Option Nat} {rt : FieldType} (hrt : (∃ n, rt = .object n) ∨ ∃ t, rt = .array t) (hC : gh_C V p s m args c cc nL own (gh_A g0 s.heap.size)) (hg : gh_W V (gh_A g0 s.heap.size) s g H locs) (hr : meth.sig.returnType = some rt) (hlk : meth.locks = false) (hp : post r g) (hdg : decode cc pc = .ok (.areturn, 1)) (hc : cells ≤ rm.cells) (hs : slots ≤ rm.slots) :
    W p l e R s m args below meth c H locs cells slots (MQ below (va_Qq post (gh_B V g0 s.heap.size) (gh_A g0 s.heap.size)) args s rm.cells rm.slots (gh_A g0 s.heap.size)) (F0 m pc ls [va_rf r]) :=
  W.widen hc hs (W.aret hC.1.1 hC.1.2.1 hr hrt (by cases r with | none => exact Or.inl rfl | some a => exact Or.inr ⟨a, rfl⟩) (fun t ht hW => ⟨⟨r, g, rfl, hp, by rw [ht]; exact hg.1, hg.2.1⟩, hg.2.2.1.F ht⟩) hg.2.2.1.2.2 hdg hlk)
end GhRows
theorem nx_iinc {x : Int32} {a : Nat} (h : x = nI a) : x + Int32.ofInt 1 = nI (a + 1) := by rw [h]; exact nI_1 a
theorem nx_idec {x : Int32} {a : Nat} (h : x = nI a) (ha : 0 < a) : x + Int32.ofInt (-1) = nI (a - 1) := by
  obtain ⟨b, rfl⟩ : ∃ b, a = b + 1 := ⟨a - 1, by omega⟩
  rw [h]; exact pk_m1 b
section GhLoops
variable {V : gh_V} {p : Program} {l : Launch} {e : Env} {R : Room} {s : State} {m : MethodId} {args : Array Value} {below : List Frame} {meth : Method} {c : Code} {H : Heap} {locs : List Loc} {cells slots : Nat} {Q : State → Prop} {A : Nat → Prop} {g : gh_G} {pc : Nat} {ls : Array Slot} {st : List Value}
theorem gh_loop {N : Nat} (X : Nat → gh_G → Array Slot → Prop)
    (hexit : ∀ (g : gh_G) (H : Heap) (locs : List Loc) (ls : Array Slot), gh_W V A s g H locs → X N g ls → W p l e R s m args below meth c H locs cells slots Q (F0 m pc ls st))
    (hstep : ∀ i, i < N → (∀ (g : gh_G) (H : Heap) (locs : List Loc) (ls : Array Slot), gh_W V A s g H locs → X (i + 1) g ls → W p l e R s m args below meth c H locs cells slots Q (F0 m pc ls st)) →
      ∀ (g : gh_G) (H : Heap) (locs : List Loc) (ls : Array Slot), gh_W V A s g H locs → X i g ls → W p l e R s m args below meth c H locs cells slots Q (F0 m pc ls st))
    (i : Nat) (hi : i ≤ N) (hg : gh_W V A s g H locs) (hX : X i g ls) : W p l e R s m args below meth c H locs cells slots Q (F0 m pc ls st) := by
  have key : ∀ n i, i + n = N → ∀ (g : gh_G) (H : Heap) (locs : List Loc) (ls : Array Slot), gh_W V A s g H locs → X i g ls → W p l e R s m args below meth c H locs cells slots Q (F0 m pc ls st) := by
    intro n
    induction n with
    | zero =>
      intro i hi g H locs ls hg hX
      have hi : i = N := hi
      subst hi
      exact hexit g H locs ls hg hX
    | succ n ih =>
      intro i hi g H locs ls hg hX
      exact hstep i (by omega) (ih (i + 1) (by omega)) g H locs ls hg hX
  exact key (N - i) i (by omega) g H locs ls hg hX
theorem gh_while {α : Type} (μ : α → Nat) (X : α → gh_G → Array Slot → Prop)
    (hstep : ∀ a, (∀ b, μ b < μ a → ∀ (g : gh_G) (H : Heap) (locs : List Loc) (ls : Array Slot), gh_W V A s g H locs → X b g ls → W p l e R s m args below meth c H locs cells slots Q (F0 m pc ls st)) →
      ∀ (g : gh_G) (H : Heap) (locs : List Loc) (ls : Array Slot), gh_W V A s g H locs → X a g ls → W p l e R s m args below meth c H locs cells slots Q (F0 m pc ls st))
    (a : α) (hg : gh_W V A s g H locs) (hX : X a g ls) : W p l e R s m args below meth c H locs cells slots Q (F0 m pc ls st) := by
  have key : ∀ n a, μ a < n → ∀ (g : gh_G) (H : Heap) (locs : List Loc) (ls : Array Slot), gh_W V A s g H locs → X a g ls → W p l e R s m args below meth c H locs cells slots Q (F0 m pc ls st) := by
    intro n
    induction n with
    | zero => intro a h; exact absurd h (Nat.not_lt_zero _)
    | succ n ih =>
      intro a ha g H locs ls hg hX
      exact hstep a (fun b hb => ih b (by omega)) g H locs ls hg hX
  exact key (μ a + 1) a (by omega) g H locs ls hg hX
end GhLoops
