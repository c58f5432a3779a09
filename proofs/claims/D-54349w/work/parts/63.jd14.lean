/-! contracts of methods of classes that have rows of natives (the method itself has none); Math.ceil's row, owed -/
theorem Met.ofWF {l : Launch} {y : MethodName} {ws ws' : List Cond} {rm : Room} {Pc : Array Value → State → Prop} {Qc : Array Value → State → Outcome → State → Prop} {mc ms : Nat} {free : Addr → Prop} {cc : ByteArray} {maxL : Nat} {ret : Option FieldType}
    (hy : plainFor y = true) (hw : ws = Cond.code y cc maxL ret :: ws')
    (body : ∀ p e s m args below meth c s₁, BodyLoose p l y (headSpec ws rm) cc maxL ret e s m args below meth c s₁ → c.maxLocals = maxL → Pc args s →
      W p l e (headSpec ws rm).room s m args below meth c s.heap [] 0 0 (MQ below Qc args s mc ms free) (entryFrame m args maxL)) : Met l y ws rm Pc Qc mc ms free := by
  refine MetFree.of_bodySF (code := cc) (maxLocals := maxL) (ret := ret) hy (fun args s m h hn => ?_) (fun p e s m args below meth c s₁ B hml hP _ => ?_)
  · obtain ⟨meth, c, h1, h2, h3, h4, h5, h6, -, -⟩ := Cond.code_spec hn (atoms_spec (ws := ws) h _ (by rw [hw]; exact List.mem_cons_self))
    exact ⟨meth, c, h1, h2, h3, h4, h5, h6⟩
  · obtain ⟨t, a1, o, b1, b2, b3⟩ := body p e s m args below meth c s₁ B hml hP s₁ (by rw [B.state]; rfl) (Stand.of_body B)
    exact ⟨t, o, a1, b1, b2, ⟨b3.1, b3.2⟩⟩
theorem MG.ofF {l : Launch} {y : MethodName} {cc : ByteArray} {nL : Nat} {ret : Option FieldType} {rm : Room} {V : gh_V} {av : List Value} {g : gh_G} {Qp : gh_Q} (own : String) (hy : plainFor y = true) (ho : y.cls = own) (hn : (lg_sl av).length ≤ nL)
    (body : ∀ (p : Program) (e : Env) (s : State) (m : MethodId) (args : Array Value) (below : List Frame) (meth : Method) (c : Code) (ls : Array Slot),
      gh_C V p s m args c cc nL own (gh_A g s.heap.size) → gh_W V (gh_A g s.heap.size) s g s.heap [] → meth.sig.returnType = ret → meth.locks = false → meth.name = y.name → lv_has ls nL (lv_args 0 av) →
      W p l e rm s m args below meth c s.heap [] 0 0 (MQ below (Qp (gh_B V g s.heap.size) (gh_A g s.heap.size)) args s rm.cells rm.slots (gh_A g s.heap.size)) (F0 m 0 ls [])) : MG l y cc nL ret rm V av g Qp := by
  intro sz
  refine Met.ofWF (cc := cc) (maxL := nL) (ret := ret) hy rfl ?_
  intro p e s m args below meth c s₁ B hml hv
  obtain ⟨rfl, hsz, hK, hZ, hP⟩ := hv
  subst hsz
  subst ho
  have hts := atoms_spec (ws := ws_ y cc nL ret) B.pre
  have hts : ∀ w ∈ lw_all, w.before _ s = true := fun w h => hts w (List.mem_cons_of_mem _ h)
  have hown : s.vm.findClass y.cls = some m.cls := findClass_of_methodNamed B.named
  have hin : meth.name = y.name := (name_of_methodNamed B.named B.method).1
  rw [lg_entry_eq]
  exact body p e s m av.toArray below meth c _ ⟨⟨B.exec, B.bytes, hml, hown, hts⟩, hK, hZ⟩ ⟨hP, fun q hq => Or.inl hq, va_S.rf, fun q hq => Or.inr hq⟩ B.returns B.notSynchronized hin (lv_entry av hn)
/-- the capacity for n elements -/
def cl_Q (n : Nat) : UInt64 := FP.ddiv (FP.i2d (nI n)) 0x3FE8000000000000
def cl_P (n : Nat) (r : UInt64) : Prop := FP.d2i r = nI ((4 * n + 2) / 3) ∧ Op.cmpValue (FP.dcmp r 0x41D0000000000000) .g = -1
/-- owed: the row of a call of Math.ceil at a capacity's quotient -/
def ce_S (l : Launch) : Prop := ∀ (V : gh_V) (p : Program) (e : Env) (R : Room) (s : State) (m : MethodId) (args : Array Value) (below : List Frame) (meth : Method) (c : Code) (H : Heap) (locs : List Loc) (cells slots : Nat) (Q : State → Prop) (cc : ByteArray) (nL : Nat) (own : String) (A : Nat → Prop) (g : gh_G) (pc : Nat) (ls : Array Slot) (rest : List Value) (index n : Nat),
  1 ≤ n → n ≤ 63 → gh_C V p s m args c cc nL own A → gh_W V A s g H locs → ls.size = nL → Cond.methodLink own index ⟨"java/lang/Math", "ceil", "(D)D"⟩ ∈ lw_all → decode cc pc = .ok (.invokestatic index, 3) → (rest.map fun v => v.category).sum ≤ 8 → 5 ≤ R.frames ∧ 1300 ≤ R.locals → cells ≤ R.cells ∧ slots ≤ R.slots →
  (∀ (r : UInt64) (H1 : Heap) (locs1 : List Loc), cl_P n r → gh_W V A s g H1 locs1 → W p l e R s m args below meth c H1 locs1 cells slots Q (F0 m (pc + 3) ls (.double r :: rest))) →
  W p l e R s m args below meth c H locs cells slots Q (F0 m pc ls (.double (cl_Q n) :: rest))
section GhPrivate
variable {V : gh_V} {p : Program} {l : Launch} {e : Env} {R : Room} {s : State} {m : MethodId} {args : Array Value} {below : List Frame} {meth : Method} {c : Code} {T : State} {H : Heap} {locs : List Loc} {cells slots : Nat} {cc : ByteArray} {nL : Nat} {own : String} {A : Nat → Prop} {g : gh_G} {pc : Nat} {ls : Array Slot} {rest st : List Value}
/-- a call of a private method of a class above the object's -/
theorem gh_callP0 (X : Stand p l e R s m args below meth c T locs cells slots) (hexec : p.tables.exec = Jvm.exec) {own C : String} {index : Nat} {y y2 : MethodName} {bytes : ByteArray} {maxL : Nat} {ret : Option FieldType}
    (hown : s.vm.findClass own = some m.cls) (hlink : (Cond.methodLink own index y).before args s = true) (hinst : (Cond.instanceMethod y).before args s = true) (hpriv : s.PrivateAt y) (hsel : (Cond.selects C y2 y2).before args s = true) (h2 : y2.cls = y.cls)
    (hcode : (Cond.code y bytes maxL ret).before args s = true) (hy : y.cls ≠ "java/lang/invoke/MethodHandle" ∧ y.cls ≠ "java/lang/invoke/VarHandle")
    {W : Nat} {Pre : Pt → Array Value → Prop} {Post : Pt → Array Value → Option Value → Pt → Prop} (hK : Back l R p e below s args y 3 W Pre Post)
    {b : Addr} {cellB : Cell} (hcell : T.heap[b]? = some cellB) (hobj : cellB.vm.isStatics = false)
    {g : JFrame} (hg : g.method = m) (hsize : g.locals.size = c.maxLocals) {argsL rest : List Value} (hlen : ∀ sig, parseMethodDescriptor y.desc = some sig → argsL.length = sig.parameters.length)
    (hstack : g.stack = argsL.reverse ++ .ref b :: rest) (hW : 2 * g.monitorRoom + (rest.map fun v => v.category).sum ≤ W) (hdg : decode c.code g.pc = .ok (.invokevirtual index, 3))
    (hpre : ∀ vm₁, s.WarmedH vm₁ → Pre ⟨T.setVm vm₁, locs, cells, slots⟩ (Value.ref b :: argsL).toArray) :
    ∃ (v : Option Value) (vm₁ : Vm) (B : Pt), s.WarmedH vm₁ ∧ Stand p l e R s m args below meth c B.U B.locs B.cells B.slots ∧ Post ⟨T.setVm vm₁, locs, cells, slots⟩ (Value.ref b :: argsL).toArray v B ∧
      ∀ target, Steps p.tables e below (B.U.setTop { g with pc := g.pc + 3, stack := v.toList ++ rest }) target → Steps p.tables e below (T.setTop g) target := by
  obtain ⟨mk, methM, hnamed, hmethM, hstM, habM⟩ := Cond.instanceMethod_spec hinst
  obtain ⟨methM', cM, hmethM', hcodeM', -, hlocalsM, -, -, -, hsigM⟩ := Cond.code_spec hnamed hcode
  cases hmethM.symm.trans hmethM'
  obtain ⟨c2, r2, m2, -, -, q3, -, kP, hkP, hkPi⟩ := Cond.selects_spec hsel
  have hc2 : m2.cls = mk.cls := by
    have a1 := findClass_of_methodNamed q3
    have a2 := findClass_of_methodNamed hnamed
    rw [h2, a2] at a1
    exact (Option.some.inj a1).symm
  rw [hc2] at hkP
  have hselP : selectMethod e.platform s.vm cellB.cls mk = .method mk := selectMethod_private hmethM (hpriv mk methM hnamed hmethM)
  have hob : ∀ q, cellB.vm ≠ .statics q := fun q h => by rw [h] at hobj; cases hobj
  obtain ⟨vm₁, X₁, hstep₁⟩ := X.invokevirtual hexec hown hlink hnamed hmethM hstM hkP hkPi hy (a := b) (cell := cellB) hcell hob hselP hmethM habM hkP hkPi (g := g) hg (argsL := argsL) (rest := rest) (hlen _ hsigM) hstack hdg
  obtain ⟨v, B, X', hpost, hsteps⟩ := hK m meth c ⟨T.setVm vm₁, locs, cells, slots⟩ { g with stack := rest } (.invokevirtual index) mk (Value.ref b :: argsL).toArray X₁ hg hsize hdg hW (X₁.named hnamed) (hpre vm₁ X₁.warmed)
  exact ⟨v, vm₁, B, X₁.warmed, X', hpost, fun target h => hstep₁ _ fun acts => by rw [doInvoke_state]; exact hsteps.trans h⟩
theorem gh_runP (hC : gh_C V p s m args c cc nL own A) (hg : gh_W V A s g H locs) {y y2 : MethodName} {bytes : ByteArray} {maxL : Nat} {ret : Option FieldType} {rm : Room} {b : Nat} {As : List Value} {Qp : gh_Q} (hM : MG l y bytes maxL ret rm V (.ref b :: As) g Qp) (n : Nat) {C : String} {index : Nat} (hlink : Cond.methodLink own index y ∈ lw_all) (hinst : Cond.instanceMethod y ∈ lw_all) (hsel : Cond.selects C y2 y2 ∈ lw_all) (hini : Cond.initialized y.cls ∈ lw_all) (hcode : Cond.code y bytes maxL ret ∈ lw_all) (hpriv : s.PrivateAt y) (h2 : y2.cls = y.cls)
    {t : gh_T} {ci : Nat} {fs : List Value} (hb : g b = some (t, oo ci fs)) (hc : (CL[ci]?).map (fun q => q.1) = some C)
    (hd : y.cls ≠ "java/lang/invoke/MethodHandle" ∧ y.cls ≠ "java/lang/invoke/VarHandle" ∧ (parseMethodDescriptor y.desc).map (fun d => d.parameters.length) = some n) (hR : rm.frames + 1 ≤ R.frames ∧ 8 + (maxL + 11) + rm.locals ≤ R.locals)
    (hn : As.length = n) (hls : ls.size = nL) (hst : st = As.reverse ++ .ref b :: rest) (hW : (rest.map fun v => v.category).sum ≤ 8) (hdg : decode cc pc = .ok (.invokevirtual index, 3)) (hf : cells + rm.cells ≤ R.cells ∧ slots + rm.slots ≤ R.slots) :
    va_Run p l e R s m args below meth c H locs cells slots rm.cells rm.slots (F0 m pc ls st) rest (Qp (gh_B V g H.size) (gh_A g H.size) (Value.ref b :: As).toArray) (gh_A g H.size) := by
  have hts := hC.1.2.2.2.2
  have hws : ∀ w ∈ ws_ y bytes maxL ret, ∀ (a' : Array Value) (U : State), s.WarmedH U.vm → w.before a' U = true := pay_in hts (lw_meth hcode)
  have hK : Back l R p e below s args y 3 8 (PreOf R rm.cells rm.slots (gh_Pc V (.ref b :: As) H.size g)) (PostOf (Qp (gh_B V g H.size) (gh_A g H.size)) rm.cells rm.slots (gh_A g H.size)) := back_of (bytes := bytes) (maxL := maxL) (ret := ret) (hM H.size) (gh_preS hC hg (.ref b :: As)).1 rfl rfl hR.1 hR.2 hws List.mem_cons_self (fun a' U hW => word_at hW (Or.inl (by first | rfl | simp [Cond.onTables, Cond.keeps, Cond.steady])) (hts _ hini))
  obtain ⟨cellB, hcB, hoB, hclB⟩ := gh_recv hC hg hb hc
  have hPc := (gh_preS hC hg (.ref b :: As)).2
  have hlen : ∀ sig, parseMethodDescriptor y.desc = some sig → As.length = sig.parameters.length := fun sig h => by
    have h2 := hd.2.2
    rw [h] at h2
    rw [hn]; exact (Option.some.inj h2).symm
  intro T hT X
  obtain ⟨v, vm₁, ⟨U', l2, c2, s2⟩, hW₁, X', ⟨g', mk, t, L, e1, e2, hq, h1, hL, h2, h3⟩, st⟩ := gh_callP0 X hC.1.1 (C := C) (bytes := bytes) (maxL := maxL) (ret := ret) hC.1.2.2.2.1 (hts _ hlink) (hts _ hinst) hpriv (hts _ hsel) h2 (hts _ hcode) ⟨hd.1, hd.2.1⟩ hK (by rw [hT]; exact hcB) hoB (g := F0 m pc ls st) rfl (hls.trans hC.1.2.2.1.symm) (argsL := As) (rest := rest) hlen hst (lv_room hW) (by rw [hC.1.2.1]; exact hdg)
    (fun vm₁ hW₁ => ⟨hf.1, hf.2, hPc (T.setVm vm₁) hT hW₁⟩)
  dsimp only [Pt.U, Pt.locs, Pt.cells, Pt.slots] at X' e1 e2 h1 h2 h3 st
  subst h1; subst h2; subst h3
  exact ⟨v, (T.setVm vm₁).calling g' mk (Value.ref b :: As).toArray, t, U', L, hT, X', hL, e1, e2, hq, st⟩
end GhPrivate
/-! new maps -/
def nz7 (i : Nat) : Nat := if i < 16 then (if i < 4 then 31 - i / 2 else 29 - i / 4 / 2) else (if i / 16 < 4 then 27 - i / 16 / 2 else 25 - i / 16 / 4 / 2)
/-- the least power of two that is not less than c -/
def tsf (c : Nat) : Nat := 2 ^ (32 - nz7 (c - 1))
theorem tsf_pw : ∀ c, c < 129 → 2 ≤ c → ∃ j, 1 ≤ j ∧ j ≤ 9 ∧ tsf c = 2 ^ j ∧ tsf c ≤ 128 := by
  have h : ∀ c, c < 129 → 2 ≤ c → 1 ≤ 32 - nz7 (c - 1) ∧ 32 - nz7 (c - 1) ≤ 9 ∧ tsf c ≤ 128 := by decide
  exact fun c h1 h2 => ⟨32 - nz7 (c - 1), (h c h1 h2).1, (h c h1 h2).2.1, rfl, (h c h1 h2).2.2⟩
theorem nz7_b : ∀ i, i < 128 → 1 ≤ i → 25 ≤ nz7 i ∧ nz7 i ≤ 31 := by decide
theorem nz7_sh {z : Nat} (h1 : 25 ≤ z) (h2 : z ≤ 31) : ((-1 : Int32).toUInt32 >>> ((nI z).toUInt32 &&& Int32.toUInt32 31)).toInt32 = nI (2 ^ (32 - z) - 1) := by
  obtain rfl | rfl | rfl | rfl | rfl | rfl | rfl : z = 25 ∨ z = 26 ∨ z = 27 ∨ z = 28 ∨ z = 29 ∨ z = 30 ∨ z = 31 := by omega
  all_goals decide
theorem nI_us : ∀ i, i < 128 → ((nI i).toUInt32 >>> ((4 : Int32).toUInt32 &&& Int32.toUInt32 31)).toInt32 = nI (i / 16) ∧ ((nI i).toUInt32 >>> ((2 : Int32).toUInt32 &&& Int32.toUInt32 31)).toInt32 = nI (i / 4) ∧ ((nI i).toUInt32 >>> ((1 : Int32).toUInt32 &&& Int32.toUInt32 31)).toInt32 = nI (i / 2) := by decide
theorem tsf_le : ∀ c, c < 129 → 2 ≤ c → 1 ≤ 2 ^ (32 - nz7 (c - 1)) ∧ 2 ^ (32 - nz7 (c - 1)) ≤ 128 := by decide
theorem nf75 : Op.cmpValue (FP.fcmp 1061158912 FP.fconst0) .g = 1 := by decide +kernel
theorem nf75n : Op.cmpValue (FP.fcmp 1061158912 1061158912) .l = 0 := by decide +kernel
/-- a map as its constructor leaves it -/
theorem hm_new {V : gh_V} {o k : Nat} {g : gh_G} {m ck th : Nat} (hm : g m = some ((o, k, 0), oo 13 [.null, .null, .int 0, .int 0, .int (nI th), .float 1061158912, .null, .null, .null, .null, .int 0, .int 0])) (hk : 10 ≤ k) (hck : ck = 9 ∨ ck = 10) (ht : th = 0 ∨ ∃ j, 1 ≤ j ∧ j ≤ 9 ∧ th = 2 ^ j ∧ th ≤ 128) : ∃ D : HD, lm_D V o k g m ck D ∧ hm_M D = [] ∧ D.n = 0 ∧ D.th = th := by
  refine ⟨((0, 0, th, 0, none, none, none), ([], (fun _ => 0), (fun _ => 0), fun _ => none), (fun _ => 0), (fun _ => none), (fun _ => []), (fun _ => none), fun _ => []), ⟨⟨⟨hm, fun hn => absurd rfl hn, fun a ha => (List.not_mem_nil (show a ∈ ([] : List Nat) from ha)).elim, fun a ha => (List.not_mem_nil (show a ∈ ([] : List Nat) from ha)).elim, List.nodup_nil, fun a ha => (List.not_mem_nil (show a ∈ ([] : List Nat) from ha)).elim, fun i hi => absurd hi (Nat.not_lt_zero _), fun i hi => absurd hi (Nat.not_lt_zero _), fun i hi => absurd hi (Nat.not_lt_zero _), fun _ => ⟨rfl, ?_⟩, fun hn => absurd rfl hn, fun i hi => absurd hi (Nat.not_lt_zero _), Or.inl (fun a ha => (List.not_mem_nil (show a ∈ ([] : List Nat) from ha)).elim), ⟨Nat.zero_le _, fun a ha => (List.not_mem_nil (show a ∈ ([] : List Nat) from ha)).elim⟩, hk, ⟨fun q hq => (by cases hq), fun q hq => (by cases hq), fun q hq => (by cases hq)⟩⟩, fun hn => absurd rfl hn⟩, hck, fun _ a ha => (List.not_mem_nil (show a ∈ ([] : List Nat) from ha)).elim, fun _ => ?_⟩, rfl, rfl, rfl⟩
  · rcases ht with h | ⟨j, h1, h2, h3, -⟩
    · exact Or.inl h
    · exact Or.inr ⟨j, h1, h2, h3⟩
  · rcases ht with h | ⟨j, h1, h2, h3, h4⟩
    · show th ≤ 128
      omega
    · exact h4
/-- a LinkedHashSet s: its map m and the map's D -/
def hs_D (V : gh_V) (o k : Nat) (g : gh_G) (s m : Nat) (D : HD) : Prop := g s = some ((o, 8, k), oo 16 [.ref m]) ∧ lm_D V o k g m 9 D
/-- the set s holds the keys S (code, key) in order -/
def hs_P (V : gh_V) (o k : Nat) (g : gh_G) (s : Nat) (S : List (Nat × Nat)) : Prop := ∃ (m : Nat) (D : HD), hs_D V o k g s m D ∧ hm_M D = S.map (fun e => (e.1, e.2, some (V.2.2 1)))
theorem hs_new {V : gh_V} {o k : Nat} {g : gh_G} {s m th : Nat} (hs : g s = some ((o, 8, k), oo 16 [.ref m])) (hm : g m = some ((o, k, 0), oo 13 [.null, .null, .int 0, .int 0, .int (nI th), .float 1061158912, .null, .null, .null, .null, .int 0, .int 0])) (hk : 10 ≤ k) (ht : th = 0 ∨ ∃ j, 1 ≤ j ∧ j ≤ 9 ∧ th = 2 ^ j ∧ th ≤ 128) : hs_P V o k g s [] := by
  obtain ⟨D, h1, h2, -, -⟩ := hm_new (ck := 9) hm hk (Or.inl rfl) ht
  exact ⟨m, D, ⟨hs, h1⟩, h2⟩
theorem hs_D.keep {V : gh_V} {o k : Nat} {g g1 : gh_G} {s m : Nat} {D : HD} (h : hs_D V o k g s m D) (hs : g1 s = g s) (hf : ∀ a t x, g a = some (t, x) → (t.1 = o ∧ t.2.1 = k) ∨ t.2.1 = 1 ∧ t.1 = V.2.2 9 → g1 a = some (t, x)) : hs_D V o k g1 s m D := ⟨hs.trans h.1, h.2.keep hf⟩
theorem hs_P.keep {V : gh_V} {o k : Nat} {g g1 : gh_G} {s : Nat} {S : List (Nat × Nat)} (h : hs_P V o k g s S) (hs : g1 s = g s) (hf : ∀ a t x, g a = some (t, x) → (t.1 = o ∧ t.2.1 = k) ∨ t.2.1 = 1 ∧ t.1 = V.2.2 9 → g1 a = some (t, x)) : hs_P V o k g1 s S := by
  obtain ⟨m, D, h1, h2⟩ := h
  exact ⟨m, D, h1.keep hs hf, h2⟩
/-- frame: all cells but s and those of owner o's kind k -/
def gh_fs (s o k : Nat) (g g1 : gh_G) : Prop := ∀ a t x, g a = some (t, x) → a ≠ s → ¬ (t.1 = o ∧ t.2.1 = k) → g1 a = some (t, x)
theorem gh_fs.rf {s o k : Nat} {g : gh_G} : gh_fs s o k g g := fun _ _ _ h _ _ => h
theorem gh_fs.self {s o k : Nat} {g g1 g2 : gh_G} (h : gh_fs s o k g g1) (hn : ∀ q, q ≠ s → g2 q = g1 q) : gh_fs s o k g g2 := fun a t x q n n2 => (hn a n).trans (h a t x q n n2)
theorem gh_fs.fk {s o k : Nat} {g g1 g2 : gh_G} (h : gh_fs s o k g g1) (h2 : gh_fk o k g1 g2) : gh_fs s o k g g2 := fun a t x q n n2 => h2 a t x (h a t x q n n2) n2
theorem gh_fs.tr {s o k : Nat} {g g1 g2 : gh_G} (h : gh_fs s o k g g1) (h2 : gh_fs s o k g1 g2) : gh_fs s o k g g2 := fun a t x q n n2 => h2 a t x (h a t x q n n2) n n2
set_option maxRecDepth 100000
theorem fJ7_10_16 : gh_fd RJ7 10 16 0 (.object "java/util/HashMap") false := gh_fd.own (T := TJ8) tyJ8 rfl in_J8 tyJ8_ok nmJ8 (by decide) q1140 rfl rfl (fun h => by cases h)
theorem hd_J23_numberOfLeadingZeros : yJ23_numberOfLeadingZeros.cls = RJ23 ∧ yJ23_numberOfLeadingZeros.cls ≠ "java/lang/invoke/MethodHandle" ∧ yJ23_numberOfLeadingZeros.cls ≠ "java/lang/invoke/VarHandle" ∧ (parseMethodDescriptor yJ23_numberOfLeadingZeros.desc).map (fun d => d.parameters.length) = some 1 := by decide +kernel
theorem hd_J24_isNaN : yJ24_isNaN.cls = RJ24 ∧ yJ24_isNaN.cls ≠ "java/lang/invoke/MethodHandle" ∧ yJ24_isNaN.cls ≠ "java/lang/invoke/VarHandle" ∧ (parseMethodDescriptor yJ24_isNaN.desc).map (fun d => d.parameters.length) = some 1 := by decide +kernel
theorem hd_J3_init : yJ3_init.cls = RJ3 ∧ yJ3_init.cls ≠ "java/lang/invoke/MethodHandle" ∧ yJ3_init.cls ≠ "java/lang/invoke/VarHandle" ∧ (parseMethodDescriptor yJ3_init.desc).map (fun d => d.parameters.length) = some 0 := by decide +kernel
theorem hd_J4_init : yJ4_init.cls = RJ4 ∧ yJ4_init.cls ≠ "java/lang/invoke/MethodHandle" ∧ yJ4_init.cls ≠ "java/lang/invoke/VarHandle" ∧ (parseMethodDescriptor yJ4_init.desc).map (fun d => d.parameters.length) = some 0 := by decide +kernel
theorem hd_J4_init_2 : yJ4_init_2.cls = RJ4 ∧ yJ4_init_2.cls ≠ "java/lang/invoke/MethodHandle" ∧ yJ4_init_2.cls ≠ "java/lang/invoke/VarHandle" ∧ (parseMethodDescriptor yJ4_init_2.desc).map (fun d => d.parameters.length) = some 2 := by decide +kernel
theorem hd_J4_tableSizeFor : yJ4_tableSizeFor.cls = RJ4 ∧ yJ4_tableSizeFor.cls ≠ "java/lang/invoke/MethodHandle" ∧ yJ4_tableSizeFor.cls ≠ "java/lang/invoke/VarHandle" ∧ (parseMethodDescriptor yJ4_tableSizeFor.desc).map (fun d => d.parameters.length) = some 1 := by decide +kernel
theorem hd_J5_init_2 : yJ5_init_2.cls = RJ5 ∧ yJ5_init_2.cls ≠ "java/lang/invoke/MethodHandle" ∧ yJ5_init_2.cls ≠ "java/lang/invoke/VarHandle" ∧ (parseMethodDescriptor yJ5_init_2.desc).map (fun d => d.parameters.length) = some 2 := by decide +kernel
theorem hd_J7_init : yJ7_init.cls = RJ7 ∧ yJ7_init.cls ≠ "java/lang/invoke/MethodHandle" ∧ yJ7_init.cls ≠ "java/lang/invoke/VarHandle" ∧ (parseMethodDescriptor yJ7_init.desc).map (fun d => d.parameters.length) = some 3 := by decide +kernel
set_option maxHeartbeats 1000000 in
set_option maxRecDepth 100000 in
theorem j_J3_init (l : Launch) (V : gh_V) (g0 : gh_G) (a : Nat) : MV l yJ3_init cJ3_init 1 ({ frames := 1, cells := 0, slots := 0, locals := 12 } : Room) V [.ref a] g0 (fun g1 => g1 = g0) := by
  refine MG.of RJ3 (by decide) rfl (Nat.le_of_ble_eq_true rfl) (fun pp ee s mm args below meth c ls hC hg hr hlk hnm hl => ?_)
  have hx := hC.1.1
  have hb := hC.1.2.1
  have hml := hC.1.2.2.1
  have hown := hC.1.2.2.2.1
  have hts := hC.1.2.2.2.2
  have hl : lv_has ls 1 [(0, .ref a)] := hl
  obtain ⟨g, hg, hgg⟩ : ∃ g, gh_W V (gh_A g0 s.heap.size) s g s.heap [] ∧ g = g0 := ⟨g0, hg, rfl⟩
  refine lv_aload_n hx hb dJ3_init_0 rfl (lv_at hl 0 rfl) ?_
  refine W.objInit hx hb hown (hts _ q235) (hts _ q185) (hts _ q186) rfl (by rw [hml]; exact hl.1) rfl dJ3_init_1 (Nat.le_of_ble_eq_true rfl) (Nat.le_of_ble_eq_true rfl) ?_
  refine W.eq (g2 := F0 mm 4 ls []) rfl ?_
  exact gh_retv hC hg hr hlk hgg dJ3_init_4 (Nat.le_of_ble_eq_true rfl) (Nat.le_of_ble_eq_true rfl)
set_option maxHeartbeats 1000000 in
set_option maxRecDepth 100000 in
theorem j_J24_isNaN (l : Launch) (V : gh_V) (g0 : gh_G)  : MI l yJ24_isNaN cJ24_isNaN 1 (some .boolean) ({ frames := 0, cells := 0, slots := 0, locals := 0 } : Room) V [.float 1061158912] g0 (fun r g1 => r = 0 ∧ g1 = g0) := by
  refine MG.ofF RJ24 (by decide +kernel) rfl (Nat.le_of_ble_eq_true rfl) (fun pp ee s mm args below meth c ls hC hg hr hlk hnm hl => ?_)
  have hx := hC.1.1
  have hb := hC.1.2.1
  have hml := hC.1.2.2.1
  have hown := hC.1.2.2.2.1
  have hts := hC.1.2.2.2.2
  have hl : lv_has ls 1 [(0, .float 1061158912)] := hl
  obtain ⟨g, hg, hgg⟩ : ∃ g, gh_W V (gh_A g0 s.heap.size) s g s.heap [] ∧ g = g0 := ⟨g0, hg, rfl⟩
  refine lv_fload_n hx hb dJ24_isNaN_0 rfl (lv_at hl 0 rfl) ?_
  refine lv_fload_n hx hb dJ24_isNaN_1 rfl (lv_at hl 0 rfl) ?_
  refine lv_fcmp hx hb dJ24_isNaN_2 ?_
  refine W.eq (g2 := F0 mm 3 ls [.int 0]) (by rw [nf75n] <;> rfl) ?_
  refine lv_if_eq (tgt := 10) hx hb dJ24_isNaN_3 (by decide) (fun _ => ?_) (fun c_1 => (absurd rfl c_1))
  refine lv_iconst (v := 0) hx hb dJ24_isNaN_10 (by decide) ?_
  exact gh_retz rfl hC hg hr hlk (⟨rfl, hgg⟩) dJ24_isNaN_11 (Nat.le_of_ble_eq_true rfl) (Nat.le_of_ble_eq_true rfl)
set_option maxHeartbeats 1000000 in
set_option maxRecDepth 100000 in
theorem j_J23_numberOfLeadingZeros (l : Launch) (V : gh_V) (g0 : gh_G) (x : Int32) (i : Nat) (hxi : x = nI i) (hi1 : 1 ≤ i) (hi2 : i < 128) : MI l yJ23_numberOfLeadingZeros cJ23_numberOfLeadingZeros 2 (some .int) ({ frames := 0, cells := 0, slots := 0, locals := 0 } : Room) V [.int (nI i)] g0 (fun r g1 => r = nI (nz7 i) ∧ g1 = g0) := by
  refine MG.ofF RJ23 (by decide +kernel) rfl (Nat.le_of_ble_eq_true rfl) (fun pp ee s mm args below meth c ls hC hg hr hlk hnm hl => ?_)
  have hx := hC.1.1
  have hb := hC.1.2.1
  have hml := hC.1.2.2.1
  have hown := hC.1.2.2.2.1
  have hts := hC.1.2.2.2.2
  have hl : lv_has ls 2 [(0, .int (nI i))] := hl
  obtain ⟨g, hg, hgg⟩ : ∃ g, gh_W V (gh_A g0 s.heap.size) s g s.heap [] ∧ g = g0 := ⟨g0, hg, rfl⟩
  have hu := nI_us i hi2
  refine lv_iload_n hx hb dJ23_numberOfLeadingZeros_0 rfl (lv_at hl 0 rfl) ?_
  refine lv_if_gt (tgt := 15) hx hb dJ23_numberOfLeadingZeros_1 (by decide) (fun _ => ?_) (fun c_1 => (absurd ((nx_lt (show ((0 : Int32)) = nI 0 from rfl) rfl (by omega) (by omega)).mpr (by omega)) c_1))
  refine lv_bipush (v := 31) hx hb dJ23_numberOfLeadingZeros_15 (by decide) ?_
  refine lv_istore_n (lv' := [(1, .int 31), (0, .int (nI i))]) hx hb dJ23_numberOfLeadingZeros_17 rfl hl (by decide) rfl (fun ls hl => ?_)
  refine lv_iload_n hx hb dJ23_numberOfLeadingZeros_18 rfl (lv_at hl 1 rfl) ?_
  refine lv_ldcw (v := 65536) hx hb hown (hts _ q684) dJ23_numberOfLeadingZeros_19 ?_
  refine lv_icmp_lt (tgt := 33) hx hb dJ23_numberOfLeadingZeros_22 (by decide) (fun _ => ?_) (fun c_2 => (absurd ((nx_lt rfl (show ((65536 : Int32)) = nI 65536 from rfl) (by omega) (by omega)).mpr (by omega)) c_2))
  refine lv_iload_n hx hb dJ23_numberOfLeadingZeros_33 rfl (lv_at hl 1 rfl) ?_
  refine lv_sipush (v := 256) hx hb dJ23_numberOfLeadingZeros_34 (by decide) ?_
  refine lv_icmp_lt (tgt := 48) hx hb dJ23_numberOfLeadingZeros_37 (by decide) (fun _ => ?_) (fun c_3 => (absurd ((nx_lt rfl (show ((256 : Int32)) = nI 256 from rfl) (by omega) (by omega)).mpr (by omega)) c_3))
  refine lv_iload_n hx hb dJ23_numberOfLeadingZeros_48 rfl (lv_at hl 1 rfl) ?_
  refine lv_bipush (v := 16) hx hb dJ23_numberOfLeadingZeros_49 (by decide) ?_
  refine lv_icmp_lt (tgt := 61) hx hb dJ23_numberOfLeadingZeros_51 (by decide) (fun c_4 => ?_) (fun c_4 => ?_)
  · skip
    have c_4 : i < 16 := (nx_lt rfl (show ((16 : Int32)) = nI 16 from rfl) (by omega) (by omega)).mp c_4
    refine lv_iload_n hx hb dJ23_numberOfLeadingZeros_61 rfl (lv_at hl 1 rfl) ?_
    refine lv_iconst (v := 4) hx hb dJ23_numberOfLeadingZeros_62 (by decide) ?_
    refine lv_icmp_lt (tgt := 73) hx hb dJ23_numberOfLeadingZeros_63 (by decide) (fun c_5 => ?_) (fun c_5 => ?_)
    · skip
      have c_5 : i < 4 := (nx_lt rfl (show ((4 : Int32)) = nI 4 from rfl) (by omega) (by omega)).mp c_5
      refine lv_iload_n hx hb dJ23_numberOfLeadingZeros_73 rfl (lv_at hl 0 rfl) ?_
      refine lv_iload_n hx hb dJ23_numberOfLeadingZeros_74 rfl (lv_at hl 1 rfl) ?_
      refine lv_iconst (v := 1) hx hb dJ23_numberOfLeadingZeros_75 (by decide) ?_
      refine lv_iushr (v := (nI (i / 2))) hx hb dJ23_numberOfLeadingZeros_76 (nI_us _ (by omega)).2.2 ?_
      refine lv_isub hx hb dJ23_numberOfLeadingZeros_77 ?_
      exact gh_reti hC hg hr hlk (⟨by unfold nz7; rw [if_pos (by omega : i < 16)]; rw [if_pos (by omega : i < 4)]; exact (nx_sub (show ((31 : Int32)) = nI 31 from rfl) rfl (by omega)), hgg⟩) dJ23_numberOfLeadingZeros_78 (Nat.le_of_ble_eq_true rfl) (Nat.le_of_ble_eq_true rfl)
    have c_5 : ¬ i < 4 := fun h9 => c_5 ((nx_lt rfl (show ((4 : Int32)) = nI 4 from rfl) (by omega) (by omega)).mpr h9)
    refine lv_iinc (v := 29) (lv' := [(1, .int 29), (0, .int (nI i))]) hx hb dJ23_numberOfLeadingZeros_66 hl (k := 0) rfl (by decide) (by decide) rfl (fun ls hl => ?_)
    refine lv_iload_n hx hb dJ23_numberOfLeadingZeros_69 rfl (lv_at hl 1 rfl) ?_
    refine lv_iconst (v := 2) hx hb dJ23_numberOfLeadingZeros_70 (by decide) ?_
    refine lv_iushr (v := (nI (i / 4))) hx hb dJ23_numberOfLeadingZeros_71 hu.2.1 ?_
    refine lv_istore_n (lv' := [(0, .int (nI (i / 4))), (1, .int 29)]) hx hb dJ23_numberOfLeadingZeros_72 rfl hl (by decide) rfl (fun ls hl => ?_)
    refine lv_iload_n hx hb dJ23_numberOfLeadingZeros_73 rfl (lv_at hl 1 rfl) ?_
    refine lv_iload_n hx hb dJ23_numberOfLeadingZeros_74 rfl (lv_at hl 0 rfl) ?_
    refine lv_iconst (v := 1) hx hb dJ23_numberOfLeadingZeros_75 (by decide) ?_
    refine lv_iushr (v := (nI ((i / 4) / 2))) hx hb dJ23_numberOfLeadingZeros_76 (nI_us _ (by omega)).2.2 ?_
    refine lv_isub hx hb dJ23_numberOfLeadingZeros_77 ?_
    exact gh_reti hC hg hr hlk (⟨by unfold nz7; rw [if_pos (by omega : i < 16)]; rw [if_neg (by omega : ¬ i < 4)]; exact (nx_sub (show ((29 : Int32)) = nI 29 from rfl) rfl (by omega)), hgg⟩) dJ23_numberOfLeadingZeros_78 (Nat.le_of_ble_eq_true rfl) (Nat.le_of_ble_eq_true rfl)
  have c_4 : ¬ i < 16 := fun h9 => c_4 ((nx_lt rfl (show ((16 : Int32)) = nI 16 from rfl) (by omega) (by omega)).mpr h9)
  refine lv_iinc (v := 27) (lv' := [(1, .int 27), (0, .int (nI i))]) hx hb dJ23_numberOfLeadingZeros_54 hl (k := 0) rfl (by decide) (by decide) rfl (fun ls hl => ?_)
  refine lv_iload_n hx hb dJ23_numberOfLeadingZeros_57 rfl (lv_at hl 1 rfl) ?_
  refine lv_iconst (v := 4) hx hb dJ23_numberOfLeadingZeros_58 (by decide) ?_
  refine lv_iushr (v := (nI (i / 16))) hx hb dJ23_numberOfLeadingZeros_59 hu.1 ?_
  refine lv_istore_n (lv' := [(0, .int (nI (i / 16))), (1, .int 27)]) hx hb dJ23_numberOfLeadingZeros_60 rfl hl (by decide) rfl (fun ls hl => ?_)
  refine lv_iload_n hx hb dJ23_numberOfLeadingZeros_61 rfl (lv_at hl 0 rfl) ?_
  refine lv_iconst (v := 4) hx hb dJ23_numberOfLeadingZeros_62 (by decide) ?_
  refine lv_icmp_lt (tgt := 73) hx hb dJ23_numberOfLeadingZeros_63 (by decide) (fun c_6 => ?_) (fun c_6 => ?_)
  · skip
    have c_6 : (i / 16) < 4 := (nx_lt rfl (show ((4 : Int32)) = nI 4 from rfl) (by omega) (by omega)).mp c_6
    refine lv_iload_n hx hb dJ23_numberOfLeadingZeros_73 rfl (lv_at hl 1 rfl) ?_
    refine lv_iload_n hx hb dJ23_numberOfLeadingZeros_74 rfl (lv_at hl 0 rfl) ?_
    refine lv_iconst (v := 1) hx hb dJ23_numberOfLeadingZeros_75 (by decide) ?_
    refine lv_iushr (v := (nI ((i / 16) / 2))) hx hb dJ23_numberOfLeadingZeros_76 (nI_us _ (by omega)).2.2 ?_
    refine lv_isub hx hb dJ23_numberOfLeadingZeros_77 ?_
    exact gh_reti hC hg hr hlk (⟨by unfold nz7; rw [if_neg (by omega : ¬ i < 16)]; rw [if_pos (by omega : (i / 16) < 4)]; exact (nx_sub (show ((27 : Int32)) = nI 27 from rfl) rfl (by omega)), hgg⟩) dJ23_numberOfLeadingZeros_78 (Nat.le_of_ble_eq_true rfl) (Nat.le_of_ble_eq_true rfl)
  have c_6 : ¬ (i / 16) < 4 := fun h9 => c_6 ((nx_lt rfl (show ((4 : Int32)) = nI 4 from rfl) (by omega) (by omega)).mpr h9)
  refine lv_iinc (v := 25) (lv' := [(1, .int 25), (0, .int (nI (i / 16)))]) hx hb dJ23_numberOfLeadingZeros_66 hl (k := 1) rfl (by decide) (by decide) rfl (fun ls hl => ?_)
  refine lv_iload_n hx hb dJ23_numberOfLeadingZeros_69 rfl (lv_at hl 1 rfl) ?_
  refine lv_iconst (v := 2) hx hb dJ23_numberOfLeadingZeros_70 (by decide) ?_
  refine lv_iushr (v := (nI ((i / 16) / 4))) hx hb dJ23_numberOfLeadingZeros_71 (nI_us _ (by omega)).2.1 ?_
  refine lv_istore_n (lv' := [(0, .int (nI ((i / 16) / 4))), (1, .int 25)]) hx hb dJ23_numberOfLeadingZeros_72 rfl hl (by decide) rfl (fun ls hl => ?_)
  refine lv_iload_n hx hb dJ23_numberOfLeadingZeros_73 rfl (lv_at hl 1 rfl) ?_
  refine lv_iload_n hx hb dJ23_numberOfLeadingZeros_74 rfl (lv_at hl 0 rfl) ?_
  refine lv_iconst (v := 1) hx hb dJ23_numberOfLeadingZeros_75 (by decide) ?_
  refine lv_iushr (v := (nI (((i / 16) / 4) / 2))) hx hb dJ23_numberOfLeadingZeros_76 (nI_us _ (by omega)).2.2 ?_
  refine lv_isub hx hb dJ23_numberOfLeadingZeros_77 ?_
  exact gh_reti hC hg hr hlk (⟨by unfold nz7; rw [if_neg (by omega : ¬ i < 16)]; rw [if_neg (by omega : ¬ (i / 16) < 4)]; exact (nx_sub (show ((25 : Int32)) = nI 25 from rfl) rfl (by omega)), hgg⟩) dJ23_numberOfLeadingZeros_78 (Nat.le_of_ble_eq_true rfl) (Nat.le_of_ble_eq_true rfl)
set_option maxHeartbeats 1000000 in
set_option maxRecDepth 100000 in
theorem j_J4_tableSizeFor (l : Launch) (V : gh_V) (g0 : gh_G) (c0 : Nat) (hc2 : 2 ≤ c0) (hc1 : c0 ≤ 128) : MI l yJ4_tableSizeFor cJ4_tableSizeFor 2 (some .int) ({ frames := 1, cells := 0, slots := 0, locals := 21 } : Room) V [.int (nI c0)] g0 (fun r g1 => r = nI (tsf c0) ∧ g1 = g0) := by
  refine MG.of RJ4 (by decide) rfl (Nat.le_of_ble_eq_true rfl) (fun pp ee s mm args below meth c ls hC hg hr hlk hnm hl => ?_)
  have hx := hC.1.1
  have hb := hC.1.2.1
  have hml := hC.1.2.2.1
  have hown := hC.1.2.2.2.1
  have hts := hC.1.2.2.2.2
  have hl : lv_has ls 2 [(0, .int (nI c0))] := hl
  obtain ⟨g, hg, hgg⟩ : ∃ g, gh_W V (gh_A g0 s.heap.size) s g s.heap [] ∧ g = g0 := ⟨g0, hg, rfl⟩
  have hz := nz7_b (c0 - 1) (by omega) (by omega)
  have hts2 : 1 ≤ tsf c0 ∧ tsf c0 ≤ 128 := tsf_le c0 (by omega) hc2
  refine lv_iconst (v := (-1)) hx hb dJ4_tableSizeFor_0 (by decide) ?_
  refine lv_iload_n hx hb dJ4_tableSizeFor_1 rfl (lv_at hl 0 rfl) ?_
  refine lv_iconst (v := 1) hx hb dJ4_tableSizeFor_2 (by decide) ?_
  refine lv_isub hx hb dJ4_tableSizeFor_3 ?_
  refine W.eq (g2 := F0 mm 4 ls [.int (nI (c0 - 1)), .int (-1)]) (by rw [(nx_sub rfl (show ((1 : Int32)) = nI 1 from rfl) (by omega))] <;> rfl) ?_
  refine gh_calli hg (gh_runS (As := [.int (nI (c0 - 1))]) (rest := [.int (-1)]) hC hg (j_J23_numberOfLeadingZeros l V _ (nI (c0 - 1)) (c0 - 1) rfl (by omega) (by omega)) 1 (lw_S q1139 q682 q129 q683) hd_J23_numberOfLeadingZeros.2 ⟨Nat.le_of_ble_eq_true rfl, Nat.le_of_ble_eq_true rfl⟩ rfl hl.1 rfl (Nat.le_of_ble_eq_true rfl) dJ4_tableSizeFor_4 ⟨Nat.le_of_ble_eq_true rfl, Nat.le_of_ble_eq_true rfl⟩) (fun r_1 g H locs hg hp => ?_)
  obtain ⟨hp, hq⟩ := hp
  replace hp : (nI (nz7 (c0 - 1))) = r_1 := hp.symm
  subst hp
  rw [hq] at hg
  refine lv_iushr (v := (nI (tsf c0 - 1))) hx hb dJ4_tableSizeFor_7 (nz7_sh hz.1 hz.2) ?_
  refine lv_istore_n (lv' := [(1, .int (nI (tsf c0 - 1))), (0, .int (nI c0))]) hx hb dJ4_tableSizeFor_8 rfl hl (by decide) rfl (fun ls hl => ?_)
  refine lv_iload_n hx hb dJ4_tableSizeFor_9 rfl (lv_at hl 0 rfl) ?_
  refine lv_if_ge (tgt := 17) hx hb dJ4_tableSizeFor_10 (by decide) (fun _ => ?_) (fun c_2 => (absurd ((nx_le (show ((0 : Int32)) = nI 0 from rfl) rfl (by omega) (by omega)).mpr (by omega)) c_2))
  refine lv_iload_n hx hb dJ4_tableSizeFor_17 rfl (lv_at hl 0 rfl) ?_
  refine lv_ldc (v := 1073741824) hx hb hown (hts _ q632) dJ4_tableSizeFor_18 ?_
  refine lv_icmp_lt (tgt := 28) hx hb dJ4_tableSizeFor_20 (by decide) (fun _ => ?_) (fun c_3 => (absurd ((nx_lt rfl (show ((1073741824 : Int32)) = nI 1073741824 from rfl) (by omega) (by omega)).mpr (by omega)) c_3))
  refine lv_iload_n hx hb dJ4_tableSizeFor_28 rfl (lv_at hl 0 rfl) ?_
  refine lv_iconst (v := 1) hx hb dJ4_tableSizeFor_29 (by decide) ?_
  refine lv_iadd hx hb dJ4_tableSizeFor_30 ?_
  exact gh_reti hC hg hr hlk (⟨((nx_add rfl (show ((1 : Int32)) = nI 1 from rfl))).trans (congrArg nI (by omega)), hgg⟩) dJ4_tableSizeFor_31 (Nat.le_of_ble_eq_true rfl) (Nat.le_of_ble_eq_true rfl)
set_option maxHeartbeats 1000000 in
set_option maxRecDepth 100000 in
theorem j_J4_init (l : Launch) (V : gh_V) (g0 : gh_G) (m : Nat) (t9 : gh_T) (hm : g0 m = some (t9, oo 13 [.null, .null, .int 0, .int 0, .int 0, .float 0, .null, .null, .null, .null, .int 0, .int 0])) : MV l yJ4_init cJ4_init 1 ({ frames := 2, cells := 0, slots := 0, locals := 32 } : Room) V [.ref m] g0 (fun g1 => g1 m = some (t9, oo 13 [.null, .null, .int 0, .int 0, .int 0, .float 1061158912, .null, .null, .null, .null, .int 0, .int 0]) ∧ ∀ b, b ≠ m → g1 b = g0 b) := by
  refine MG.of RJ4 (by decide) rfl (Nat.le_of_ble_eq_true rfl) (fun pp ee s mm args below meth c ls hC hg hr hlk hnm hl => ?_)
  have hx := hC.1.1
  have hb := hC.1.2.1
  have hml := hC.1.2.2.1
  have hown := hC.1.2.2.2.1
  have hts := hC.1.2.2.2.2
  have hl : lv_has ls 1 [(0, .ref m)] := hl
  obtain ⟨g, hg, hgg⟩ : ∃ g, gh_W V (gh_A g0 s.heap.size) s g s.heap [] ∧ g = g0 := ⟨g0, hg, rfl⟩
  rw [← hgg] at hm
  have hfr : ∀ b, b ≠ m → g b = g0 b := fun b _ => by rw [hgg]
  refine lv_aload_n hx hb dJ4_init_0 rfl (lv_at hl 0 rfl) ?_
  refine gh_callv hg (gh_runI (As := []) (rest := []) hC hg (j_J3_init l V _ m) 0 (lw_meth q234) q108 q232 q233 rfl hd_J3_init.2 ⟨Nat.le_of_ble_eq_true rfl, Nat.le_of_ble_eq_true rfl⟩ rfl hl.1 rfl (Nat.le_of_ble_eq_true rfl) dJ4_init_1 ⟨Nat.le_of_ble_eq_true rfl, Nat.le_of_ble_eq_true rfl⟩) (fun g H locs hg hp => ?_)
  rw [hp] at hg
  refine lv_aload_n hx hb dJ4_init_4 rfl (lv_at hl 0 rfl) ?_
  refine lv_ldcf (v := 1061158912) hx hb hown (hts _ q236) dJ4_init_5 ?_
  refine gh_putF (v := .float 1061158912) hC hg hnm hm fJ4_81_13 rfl rfl (Nat.le_of_ble_eq_true rfl) dJ4_init_7 (fun g H locs hg hw hn => ?_)
  have hfr : ∀ b, b ≠ m → g b = g0 b := fun b h1 => (hn b h1).trans (hfr b h1)
  have hm : g m = some ((t9.1, t9.2.1, t9.2.2), oo 13 [.null, .null, .int 0, .int 0, .int 0, .float 1061158912, .null, .null, .null, .null, .int 0, .int 0]) := hw
  exact gh_retv hC hg hr hlk (⟨hm, hfr⟩) dJ4_init_10 (Nat.le_of_ble_eq_true rfl) (Nat.le_of_ble_eq_true rfl)
set_option maxHeartbeats 1000000 in
set_option maxRecDepth 100000 in
theorem j_J4_init_2 (l : Launch) (V : gh_V) (g0 : gh_G) (m : Nat) (t9 : gh_T) (c0 : Nat) (hc2 : 2 ≤ c0) (hc1 : c0 ≤ 128) (hm : g0 m = some (t9, oo 13 [.null, .null, .int 0, .int 0, .int 0, .float 0, .null, .null, .null, .null, .int 0, .int 0])) : MV l yJ4_init_2 cJ4_init_2 3 ({ frames := 2, cells := 0, slots := 0, locals := 42 } : Room) V [.ref m, .int (nI c0), .float 1061158912] g0 (fun g1 => g1 m = some (t9, oo 13 [.null, .null, .int 0, .int 0, .int (nI (tsf c0)), .float 1061158912, .null, .null, .null, .null, .int 0, .int 0]) ∧ ∀ b, b ≠ m → g1 b = g0 b) := by
  refine MG.of RJ4 (by decide) rfl (Nat.le_of_ble_eq_true rfl) (fun pp ee s mm args below meth c ls hC hg hr hlk hnm hl => ?_)
  have hx := hC.1.1
  have hb := hC.1.2.1
  have hml := hC.1.2.2.1
  have hown := hC.1.2.2.2.1
  have hts := hC.1.2.2.2.2
  have hl : lv_has ls 3 [(0, .ref m), (1, .int (nI c0)), (2, .float 1061158912)] := hl
  obtain ⟨g, hg, hgg⟩ : ∃ g, gh_W V (gh_A g0 s.heap.size) s g s.heap [] ∧ g = g0 := ⟨g0, hg, rfl⟩
  rw [← hgg] at hm
  have hfr : ∀ b, b ≠ m → g b = g0 b := fun b _ => by rw [hgg]
  refine lv_aload_n hx hb dJ4_init_2_0 rfl (lv_at hl 0 rfl) ?_
  refine gh_callv hg (gh_runI (As := []) (rest := []) hC hg (j_J3_init l V _ m) 0 (lw_meth q234) q108 q232 q233 rfl hd_J3_init.2 ⟨Nat.le_of_ble_eq_true rfl, Nat.le_of_ble_eq_true rfl⟩ rfl hl.1 rfl (Nat.le_of_ble_eq_true rfl) dJ4_init_2_1 ⟨Nat.le_of_ble_eq_true rfl, Nat.le_of_ble_eq_true rfl⟩) (fun g H locs hg hp => ?_)
  rw [hp] at hg
  refine lv_iload_n hx hb dJ4_init_2_4 rfl (lv_at hl 1 rfl) ?_
  refine lv_if_ge (tgt := 35) hx hb dJ4_init_2_5 (by decide) (fun _ => ?_) (fun c_1 => (absurd ((nx_le (show ((0 : Int32)) = nI 0 from rfl) rfl (by omega) (by omega)).mpr (by omega)) c_1))
  refine lv_iload_n hx hb dJ4_init_2_35 rfl (lv_at hl 1 rfl) ?_
  refine lv_ldc (v := 1073741824) hx hb hown (hts _ q632) dJ4_init_2_36 ?_
  refine lv_icmp_le (tgt := 44) hx hb dJ4_init_2_38 (by decide) (fun _ => ?_) (fun c_2 => (absurd ((nx_le rfl (show ((1073741824 : Int32)) = nI 1073741824 from rfl) (by omega) (by omega)).mpr (by omega)) c_2))
  refine lv_fload_n hx hb dJ4_init_2_44 rfl (lv_at hl 2 rfl) ?_
  refine lv_fconst0 hx hb dJ4_init_2_45 ?_
  refine lv_fcmp hx hb dJ4_init_2_46 ?_
  refine W.eq (g2 := F0 mm 47 ls [.int 1]) (by rw [nf75] <;> rfl) ?_
  refine lv_if_le (tgt := 57) hx hb dJ4_init_2_47 (by decide) (fun c_3 => (absurd c_3 (by decide))) (fun _ => ?_)
  refine lv_fload_n hx hb dJ4_init_2_50 rfl (lv_at hl 2 rfl) ?_
  refine gh_calli hg (gh_runS (As := [.float 1061158912]) (rest := []) hC hg (j_J24_isNaN l V _) 1 (lw_S q633 q634 q130 q635) hd_J24_isNaN.2 ⟨Nat.le_of_ble_eq_true rfl, Nat.le_of_ble_eq_true rfl⟩ rfl hl.1 rfl (Nat.le_of_ble_eq_true rfl) dJ4_init_2_51 ⟨Nat.le_of_ble_eq_true rfl, Nat.le_of_ble_eq_true rfl⟩) (fun r_4 g H locs hg hp => ?_)
  obtain ⟨hp, hq⟩ := hp
  replace hp : 0 = r_4 := hp.symm
  subst hp
  rw [hq] at hg
  refine lv_if_eq (tgt := 84) hx hb dJ4_init_2_54 (by decide) (fun _ => ?_) (fun c_5 => (absurd rfl c_5))
  refine lv_aload_n hx hb dJ4_init_2_84 rfl (lv_at hl 0 rfl) ?_
  refine lv_fload_n hx hb dJ4_init_2_85 rfl (lv_at hl 2 rfl) ?_
  refine gh_putF (v := .float 1061158912) hC hg hnm hm fJ4_81_13 rfl rfl (Nat.le_of_ble_eq_true rfl) dJ4_init_2_86 (fun g H locs hg hw hn => ?_)
  have hfr : ∀ b, b ≠ m → g b = g0 b := fun b h1 => (hn b h1).trans (hfr b h1)
  have hm : g m = some ((t9.1, t9.2.1, t9.2.2), oo 13 [.null, .null, .int 0, .int 0, .int 0, .float 1061158912, .null, .null, .null, .null, .int 0, .int 0]) := hw
  refine lv_aload_n hx hb dJ4_init_2_89 rfl (lv_at hl 0 rfl) ?_
  refine lv_iload_n hx hb dJ4_init_2_90 rfl (lv_at hl 1 rfl) ?_
  refine gh_calli hg (gh_runS (As := [.int (nI c0)]) (rest := [.ref m]) hC hg (j_J4_tableSizeFor l V _ c0 (by omega) (by omega)) 1 (lw_S q1136 q1137 q109 q1138) hd_J4_tableSizeFor.2 ⟨Nat.le_of_ble_eq_true rfl, Nat.le_of_ble_eq_true rfl⟩ rfl hl.1 rfl (Nat.le_of_ble_eq_true rfl) dJ4_init_2_91 ⟨Nat.le_of_ble_eq_true rfl, Nat.le_of_ble_eq_true rfl⟩) (fun r_6 g H locs hg hp => ?_)
  obtain ⟨hp, hq⟩ := hp
  replace hp : (nI (tsf c0)) = r_6 := hp.symm
  subst hp
  rw [hq] at hg
  refine gh_put (v := .int (nI (tsf c0))) hC hg hm fJ4_88_13 rfl rfl (Nat.le_of_ble_eq_true rfl) dJ4_init_2_94 (fun g H locs hg hw hn => ?_)
  have hfr : ∀ b, b ≠ m → g b = g0 b := fun b h1 => (hn b h1).trans (hfr b h1)
  have hm : g m = some ((t9.1, t9.2.1, t9.2.2), oo 13 [.null, .null, .int 0, .int 0, .int (nI (tsf c0)), .float 1061158912, .null, .null, .null, .null, .int 0, .int 0]) := hw
  exact gh_retv hC hg hr hlk (⟨hm, hfr⟩) dJ4_init_2_97 (Nat.le_of_ble_eq_true rfl) (Nat.le_of_ble_eq_true rfl)
set_option maxHeartbeats 1000000 in
set_option maxRecDepth 100000 in
theorem j_J5_init (l : Launch) (V : gh_V) (g0 : gh_G) (m : Nat) (t9 : gh_T) (hm : g0 m = some (t9, oo 13 [.null, .null, .int 0, .int 0, .int 0, .float 0, .null, .null, .null, .null, .int 0, .int 0])) : MV l yJ5_init cJ5_init 1 ({ frames := 3, cells := 0, slots := 0, locals := 52 } : Room) V [.ref m] g0 (fun g1 => g1 m = some (t9, oo 13 [.null, .null, .int 0, .int 0, .int 0, .float 1061158912, .null, .null, .null, .null, .int 0, .int 0]) ∧ ∀ b, b ≠ m → g1 b = g0 b) := by
  refine MG.of RJ5 (by decide) rfl (Nat.le_of_ble_eq_true rfl) (fun pp ee s mm args below meth c ls hC hg hr hlk hnm hl => ?_)
  have hx := hC.1.1
  have hb := hC.1.2.1
  have hml := hC.1.2.2.1
  have hown := hC.1.2.2.2.1
  have hts := hC.1.2.2.2.2
  have hl : lv_has ls 1 [(0, .ref m)] := hl
  obtain ⟨g, hg, hgg⟩ : ∃ g, gh_W V (gh_A g0 s.heap.size) s g s.heap [] ∧ g = g0 := ⟨g0, hg, rfl⟩
  rw [← hgg] at hm
  have hfr : ∀ b, b ≠ m → g b = g0 b := fun b _ => by rw [hgg]
  refine lv_aload_n hx hb dJ5_init_0 rfl (lv_at hl 0 rfl) ?_
  refine gh_callv hg (gh_runI (As := []) (rest := []) hC hg (j_J4_init l V _ m (t9.1, t9.2.1, t9.2.2) hm) 0 (lw_meth q231) q109 q229 q230 rfl hd_J4_init.2 ⟨Nat.le_of_ble_eq_true rfl, Nat.le_of_ble_eq_true rfl⟩ rfl hl.1 rfl (Nat.le_of_ble_eq_true rfl) dJ5_init_1 ⟨Nat.le_of_ble_eq_true rfl, Nat.le_of_ble_eq_true rfl⟩) (fun g H locs hg hp => ?_)
  obtain ⟨hnew9, hfr9⟩ := hp
  have hfr : ∀ b, b ≠ m → g b = g0 b := fun b h1 => (hfr9 b h1).trans (hfr b h1)
  have hm : g m = some ((t9.1, t9.2.1, t9.2.2), oo 13 [.null, .null, .int 0, .int 0, .int 0, .float 1061158912, .null, .null, .null, .null, .int 0, .int 0]) := hnew9
  refine lv_aload_n hx hb dJ5_init_4 rfl (lv_at hl 0 rfl) ?_
  refine lv_iconst (v := 0) hx hb dJ5_init_5 (by decide) ?_
  refine gh_put (v := .int 0) hC hg hm fJ5_1_13 rfl rfl (Nat.le_of_ble_eq_true rfl) dJ5_init_6 (fun g H locs hg hw hn => ?_)
  have hfr : ∀ b, b ≠ m → g b = g0 b := fun b h1 => (hn b h1).trans (hfr b h1)
  have hm : g m = some ((t9.1, t9.2.1, t9.2.2), oo 13 [.null, .null, .int 0, .int 0, .int 0, .float 1061158912, .null, .null, .null, .null, .int 0, .int 0]) := hw
  refine lv_aload_n hx hb dJ5_init_9 rfl (lv_at hl 0 rfl) ?_
  refine lv_iconst (v := 0) hx hb dJ5_init_10 (by decide) ?_
  refine gh_putF (v := .int 0) hC hg hnm hm fJ5_64_13 rfl rfl (Nat.le_of_ble_eq_true rfl) dJ5_init_11 (fun g H locs hg hw hn => ?_)
  have hfr : ∀ b, b ≠ m → g b = g0 b := fun b h1 => (hn b h1).trans (hfr b h1)
  have hm : g m = some ((t9.1, t9.2.1, t9.2.2), oo 13 [.null, .null, .int 0, .int 0, .int 0, .float 1061158912, .null, .null, .null, .null, .int 0, .int 0]) := hw
  exact gh_retv hC hg hr hlk (⟨hm, hfr⟩) dJ5_init_14 (Nat.le_of_ble_eq_true rfl) (Nat.le_of_ble_eq_true rfl)
set_option maxHeartbeats 1000000 in
set_option maxRecDepth 100000 in
theorem j_J5_init_2 (l : Launch) (V : gh_V) (g0 : gh_G) (m : Nat) (t9 : gh_T) (c0 : Nat) (hc2 : 2 ≤ c0) (hc1 : c0 ≤ 128) (hm : g0 m = some (t9, oo 13 [.null, .null, .int 0, .int 0, .int 0, .float 0, .null, .null, .null, .null, .int 0, .int 0])) : MV l yJ5_init_2 cJ5_init_2 3 ({ frames := 3, cells := 0, slots := 0, locals := 64 } : Room) V [.ref m, .int (nI c0), .float 1061158912] g0 (fun g1 => g1 m = some (t9, oo 13 [.null, .null, .int 0, .int 0, .int (nI (tsf c0)), .float 1061158912, .null, .null, .null, .null, .int 0, .int 0]) ∧ ∀ b, b ≠ m → g1 b = g0 b) := by
  refine MG.of RJ5 (by decide) rfl (Nat.le_of_ble_eq_true rfl) (fun pp ee s mm args below meth c ls hC hg hr hlk hnm hl => ?_)
  have hx := hC.1.1
  have hb := hC.1.2.1
  have hml := hC.1.2.2.1
  have hown := hC.1.2.2.2.1
  have hts := hC.1.2.2.2.2
  have hl : lv_has ls 3 [(0, .ref m), (1, .int (nI c0)), (2, .float 1061158912)] := hl
  obtain ⟨g, hg, hgg⟩ : ∃ g, gh_W V (gh_A g0 s.heap.size) s g s.heap [] ∧ g = g0 := ⟨g0, hg, rfl⟩
  rw [← hgg] at hm
  have hfr : ∀ b, b ≠ m → g b = g0 b := fun b _ => by rw [hgg]
  refine lv_aload_n hx hb dJ5_init_2_0 rfl (lv_at hl 0 rfl) ?_
  refine lv_iload_n hx hb dJ5_init_2_1 rfl (lv_at hl 1 rfl) ?_
  refine lv_fload_n hx hb dJ5_init_2_2 rfl (lv_at hl 2 rfl) ?_
  refine gh_callv hg (gh_runI (As := [.int (nI c0), .float 1061158912]) (rest := []) hC hg (j_J4_init_2 l V _ m (t9.1, t9.2.1, t9.2.2) c0 (by omega) (by omega) hm) 2 (lw_meth q311) q109 q309 q310 rfl hd_J4_init_2.2 ⟨Nat.le_of_ble_eq_true rfl, Nat.le_of_ble_eq_true rfl⟩ rfl hl.1 rfl (Nat.le_of_ble_eq_true rfl) dJ5_init_2_3 ⟨Nat.le_of_ble_eq_true rfl, Nat.le_of_ble_eq_true rfl⟩) (fun g H locs hg hp => ?_)
  obtain ⟨hnew9, hfr9⟩ := hp
  have hfr : ∀ b, b ≠ m → g b = g0 b := fun b h1 => (hfr9 b h1).trans (hfr b h1)
  have hm : g m = some ((t9.1, t9.2.1, t9.2.2), oo 13 [.null, .null, .int 0, .int 0, .int (nI (tsf c0)), .float 1061158912, .null, .null, .null, .null, .int 0, .int 0]) := hnew9
  refine lv_aload_n hx hb dJ5_init_2_6 rfl (lv_at hl 0 rfl) ?_
  refine lv_iconst (v := 0) hx hb dJ5_init_2_7 (by decide) ?_
  refine gh_put (v := .int 0) hC hg hm fJ5_1_13 rfl rfl (Nat.le_of_ble_eq_true rfl) dJ5_init_2_8 (fun g H locs hg hw hn => ?_)
  have hfr : ∀ b, b ≠ m → g b = g0 b := fun b h1 => (hn b h1).trans (hfr b h1)
  have hm : g m = some ((t9.1, t9.2.1, t9.2.2), oo 13 [.null, .null, .int 0, .int 0, .int (nI (tsf c0)), .float 1061158912, .null, .null, .null, .null, .int 0, .int 0]) := hw
  refine lv_aload_n hx hb dJ5_init_2_11 rfl (lv_at hl 0 rfl) ?_
  refine lv_iconst (v := 0) hx hb dJ5_init_2_12 (by decide) ?_
  refine gh_putF (v := .int 0) hC hg hnm hm fJ5_64_13 rfl rfl (Nat.le_of_ble_eq_true rfl) dJ5_init_2_13 (fun g H locs hg hw hn => ?_)
  have hfr : ∀ b, b ≠ m → g b = g0 b := fun b h1 => (hn b h1).trans (hfr b h1)
  have hm : g m = some ((t9.1, t9.2.1, t9.2.2), oo 13 [.null, .null, .int 0, .int 0, .int (nI (tsf c0)), .float 1061158912, .null, .null, .null, .null, .int 0, .int 0]) := hw
  exact gh_retv hC hg hr hlk (⟨hm, hfr⟩) dJ5_init_2_16 (Nat.le_of_ble_eq_true rfl) (Nat.le_of_ble_eq_true rfl)
set_option maxHeartbeats 1000000 in
set_option maxRecDepth 100000 in
theorem j_J7_init (l : Launch) (V : gh_V) (g0 : gh_G) (s9 o k : Nat) (hk : 10 ≤ k) (c0 : Nat) (hc2 : 2 ≤ c0) (hc1 : c0 ≤ 128) (hs : g0 s9 = some ((o, 8, k), oo 16 [.null])) : MV l yJ7_init cJ7_init 4 ({ frames := 4, cells := 1, slots := 12, locals := 86 } : Room) V [.ref s9, .int (nI c0), .float 1061158912, .int 1] g0 (fun g1 => ∃ m : Nat, g1 s9 = some ((o, 8, k), oo 16 [.ref m]) ∧ g1 m = some ((o, k, 0), oo 13 [.null, .null, .int 0, .int 0, .int (nI (tsf c0)), .float 1061158912, .null, .null, .null, .null, .int 0, .int 0]) ∧ gh_fs s9 o k g0 g1) := by
  refine MG.of RJ7 (by decide) rfl (Nat.le_of_ble_eq_true rfl) (fun pp ee s mm args below meth c ls hC hg hr hlk hnm hl => ?_)
  have hx := hC.1.1
  have hb := hC.1.2.1
  have hml := hC.1.2.2.1
  have hown := hC.1.2.2.2.1
  have hts := hC.1.2.2.2.2
  have hl : lv_has ls 4 [(0, .ref s9), (1, .int (nI c0)), (2, .float 1061158912), (3, .int 1)] := hl
  obtain ⟨g, hg, hgg⟩ : ∃ g, gh_W V (gh_A g0 s.heap.size) s g s.heap [] ∧ g = g0 := ⟨g0, hg, rfl⟩
  rw [← hgg] at hs
  have hF : gh_fs s9 o k g0 g := by rw [hgg]; exact gh_fs.rf
  have hk8 : k ≠ 8 := by omega
  refine lv_aload_n hx hb dJ7_init_0 rfl (lv_at hl 0 rfl) ?_
  refine gh_callv hg (gh_runI (As := []) (rest := []) hC hg (j_J6_init l V _ s9) 0 (lw_meth q303) q111 q301 q302 rfl hd_J6_init.2 ⟨Nat.le_of_ble_eq_true rfl, Nat.le_of_ble_eq_true rfl⟩ rfl hl.1 rfl (Nat.le_of_ble_eq_true rfl) dJ7_init_1 ⟨Nat.le_of_ble_eq_true rfl, Nat.le_of_ble_eq_true rfl⟩) (fun g H locs hg hp => ?_)
  rw [hp] at hg
  refine lv_aload_n hx hb dJ7_init_4 rfl (lv_at hl 0 rfl) ?_
  refine gh_new (ci := 13) (fs := [.null, .null, .int 0, .int 0, .int 0, .float 0, .null, .null, .null, .null, .int 0, .int 0]) hC hg (fun q9 => (o, k, 0)) rfl in_J5 tyJ5 tyJ5_ok q305 q225 q110 (by decide +kernel) (Nat.le_of_ble_eq_true rfl) (Nat.le_of_ble_eq_true rfl) dJ7_init_5 (fun q_1 g H hg h0 hw hn => ?_)
  have hs : g s9 = some ((o, 8, k), oo 16 [.null]) := (hn _ (gh_neN hs h0)).trans hs
  have hF : gh_fs s9 o k g0 g := hF.fk (gh_fk.rf.new h0 hn)
  have c_2 : g q_1 = some ((o, k, 0), oo 13 [.null, .null, .int 0, .int 0, .int 0, .float 0, .null, .null, .null, .null, .int 0, .int 0]) := hw
  refine lv_dup hx hb dJ7_init_8 rfl ?_
  refine lv_iload_n hx hb dJ7_init_9 rfl (lv_at hl 1 rfl) ?_
  refine lv_fload_n hx hb dJ7_init_10 rfl (lv_at hl 2 rfl) ?_
  refine gh_callv hg (gh_runI (As := [.int (nI c0), .float 1061158912]) (rest := [.ref q_1, .ref s9]) hC hg (j_J5_init_2 l V _ q_1 (o, k, 0) c0 (by omega) (by omega) c_2) 2 (lw_meth q308) q110 q306 q307 rfl hd_J5_init_2.2 ⟨Nat.le_of_ble_eq_true rfl, Nat.le_of_ble_eq_true rfl⟩ rfl hl.1 rfl (Nat.le_of_ble_eq_true rfl) dJ7_init_11 ⟨Nat.le_of_ble_eq_true rfl, Nat.le_of_ble_eq_true rfl⟩) (fun g H locs hg hp => ?_)
  obtain ⟨hnew9, hfr9⟩ := hp
  have hs : g s9 = some ((o, 8, k), oo 16 [.null]) := (hfr9 _ (gh_neC hs c_2 rfl)).trans hs
  have hF : gh_fs s9 o k g0 g := hF.fk (gh_fk.rf.set c_2 hfr9)
  have c_2 : g q_1 = some ((o, k, 0), oo 13 [.null, .null, .int 0, .int 0, .int (nI (tsf c0)), .float 1061158912, .null, .null, .null, .null, .int 0, .int 0]) := hnew9
  refine gh_put (v := .ref q_1) hC hg hs fJ7_10_16 rfl rfl (Nat.le_of_ble_eq_true rfl) dJ7_init_14 (fun g H locs hg hw hn => ?_)
  have c_2 : g q_1 = some ((o, k, 0), oo 13 [.null, .null, .int 0, .int 0, .int (nI (tsf c0)), .float 1061158912, .null, .null, .null, .null, .int 0, .int 0]) := (hn _ (gh_neC c_2 hs rfl)).trans c_2
  have hF : gh_fs s9 o k g0 g := hF.self hn
  have hs : g s9 = some ((o, 8, k), oo 16 [.ref q_1]) := hw
  exact gh_retv hC hg hr hlk (⟨q_1, hs, c_2, hF⟩) dJ7_init_17 (Nat.le_of_ble_eq_true rfl) (Nat.le_of_ble_eq_true rfl)
set_option maxHeartbeats 1000000 in
set_option maxRecDepth 100000 in
theorem j_J8_init (l : Launch) (V : gh_V) (g0 : gh_G) (s9 o k : Nat) (hs : g0 s9 = some ((o, 8, k), oo 16 [.null])) (hk : 10 ≤ k) : MV l yJ8_init cJ8_init 1 ({ frames := 5, cells := 1, slots := 12, locals := 109 } : Room) V [.ref s9] g0 (fun g1 => hs_P V o k g1 s9 [] ∧ gh_fs s9 o k g0 g1) := by
  refine MG.of RJ8 (by decide) rfl (Nat.le_of_ble_eq_true rfl) (fun pp ee s mm args below meth c ls hC hg hr hlk hnm hl => ?_)
  have hx := hC.1.1
  have hb := hC.1.2.1
  have hml := hC.1.2.2.1
  have hown := hC.1.2.2.2.1
  have hts := hC.1.2.2.2.2
  have hl : lv_has ls 1 [(0, .ref s9)] := hl
  obtain ⟨g, hg, hgg⟩ : ∃ g, gh_W V (gh_A g0 s.heap.size) s g s.heap [] ∧ g = g0 := ⟨g0, hg, rfl⟩
  rw [← hgg] at hs
  refine lv_aload_n hx hb dJ8_init_0 rfl (lv_at hl 0 rfl) ?_
  refine lv_bipush (v := 16) hx hb dJ8_init_1 (by decide) ?_
  refine lv_ldcf (v := 1061158912) hx hb hown (hts _ q297) dJ8_init_3 ?_
  refine lv_iconst (v := 1) hx hb dJ8_init_5 (by decide) ?_
  refine gh_callv hg (gh_runI (As := [.int 16, .float 1061158912, .int 1]) (rest := []) hC hg (j_J7_init l V _ s9 o k (by omega) 16 (by omega) (by omega) hs) 3 (lw_meth q300) q112 q298 q299 rfl hd_J7_init.2 ⟨Nat.le_of_ble_eq_true rfl, Nat.le_of_ble_eq_true rfl⟩ rfl hl.1 rfl (Nat.le_of_ble_eq_true rfl) dJ8_init_6 ⟨Nat.le_of_ble_eq_true rfl, Nat.le_of_ble_eq_true rfl⟩) (fun g H locs hg hp => ?_)
  obtain ⟨m, hs, hm, hF⟩ := hp
  rw [hgg] at hF
  exact gh_retv hC hg hr hlk (⟨hs_new hs hm hk (Or.inr (tsf_pw 16 (by omega) (by omega))), hF⟩) dJ8_init_9 (Nat.le_of_ble_eq_true rfl) (Nat.le_of_ble_eq_true rfl)
