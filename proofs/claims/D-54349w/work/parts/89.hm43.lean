/-! LAMBDAS: what a made class holds; the made method's run; calls of it; new lambda objects -/
/-- what the made class of the shape σ of the class 'own' looks like: its method's bytes and locals, the call's entry, the fields' entries -/
def lam_ok (own : String) (σ : Lambda.Shape) (data : Array UInt8) (maxL iM : Nat) (fs : List Nat) : Bool :=
  match σ.file own with
  | none => false
  | some D => match layoutMethods D, layoutFields D 0 with
    | some ms, some laid => match ms[1]? with
      | none => false
      | some fw => decide ((fw.code.map fun c => (c.code.data, c.maxLocals)) = some (data, maxL)) && decide ((fw.accessFlags, fw.sig.returnType) = (0x0001, some FieldType.boolean)) && decide (laid.2.1.toList = σ.captured) &&
        (match D.constantPool[iM]? with
          | some (.methodref ci nt) => decide (D.constantPool.className? ci = some σ.implClass) && decide (D.constantPool.nameAndType? nt = some (σ.implName, σ.implDesc.toString)) &&
            (match D.constantPool[ci]? with
              | some (.class_ n) => decide (D.constantPool.string? n = some σ.implClass) && decide (ci ≠ D.thisClass)
              | _ => false)
          | _ => false) &&
        fs.zipIdx.all fun q => match D.constantPool[q.1]? with
          | some (.fieldref _ nt) => (match D.constantPool.nameAndType? nt with
            | some (nm, _) => decide (laid.1.findIdx? (·.name == nm) = some q.2) && decide ((laid.1[q.2]?).map (fun f => (f.isStatic, f.slot)) = some (false, q.2))
            | none => false)
          | _ => false
    | _, _ => false
theorem lam_made {e : Setting} {vm : Vm} {d c : ClassId} {dk : Class} {own : String} {σ : Lambda.Shape} {data : Array UInt8} {maxL iM : Nat} {fs : List Nat} (hd : vm.classes[d]? = some dk) (hname : dk.name = own) (h : Lambda.isMade e vm d σ c = true)
    (hO : ∀ o ok, vm.findClass "java/lang/Object" = some o → vm.classes[o]? = some ok → ok.instanceTypes = #[]) (hk : lam_ok own σ data maxL iM fs = true) :
    ∃ (k tk : Class) (file : ClassFile) (ci nt : Nat) (methk : Method) (ck : Code) (toy : ClassId) (t : MethodId) (iface : ClassId) (found : MethodId),
      vm.classes[c]? = some k ∧ k.cf = some file ∧ file.constantPool[iM]? = some (.methodref ci nt) ∧ file.constantPool.nameAndType? nt = some (σ.implName, σ.implDesc.toString) ∧ k.kind = .ordinary ∧ k.name = own ++ "$$Lambda" ∧ k.instanceTypes.toList = σ.captured ∧
      vm.method? ⟨c, 1⟩ = some methk ∧ methk.code = some ck ∧ ck.code = ⟨data⟩ ∧ ck.maxLocals = maxL ∧ methk.locks = false ∧ methk.accessFlags = 0x0001 ∧ methk.sig.returnType = some .boolean ∧
      vm.findClass σ.implClass = some toy ∧ vm.classes[toy]? = some tk ∧ tk.isInterface = σ.implItf ∧ ((methodIn toy σ.implName σ.implDesc.toString tk.isInterface none).ask e vm).1 = .ok t ∧
      vm.methodReady c iM t ∧ vm.classReady c ci toy ∧ (∀ j idx, fs[j]? = some idx → ∃ f, vm.fieldReady c idx c f ∧ f.isStatic = false ∧ f.slot = j) ∧
      vm.findClass σ.iface = some iface ∧ ((methodIn iface σ.name σ.sam.toString true none).ask e vm).1 = .ok found ∧ selectMethod {} vm c found = .method ⟨c, 1⟩ := by
  obtain ⟨dk', k, ok, tk, file, cf, object, iface, toy, lay, methods, target, found, hd', hk', hfile, hcf, hobj, hif, hok, hlay, hms, ht, htk, hg, hfo, hrec, -, -, -, hitf, hpool, hmeth, hfields, htypes, hres, hsel⟩ := Lambda.isMade_spec h
  cases hd.symm.trans hd'
  have hO' := hO object ok hobj hok
  rw [hname] at hcf
  have hlay0 : layoutFields cf 0 = some lay := by rw [hO'] at hlay; exact hlay
  unfold lam_ok at hk
  rw [hcf] at hk
  simp only [hms, hlay0] at hk
  cases hfw : methods[1]? with
  | none => rw [hfw] at hk; cases hk
  | some fw =>
    rw [hfw] at hk
    simp only [Bool.and_eq_true, decide_eq_true_eq, Prod.mk.injEq] at hk
    obtain ⟨⟨⟨⟨hcode, hacc, hret⟩, hcap⟩, hM⟩, hF⟩ := hk
    obtain ⟨b, hb, hsame⟩ := hmeth 1 fw hfw
    obtain ⟨hn, -, hsig, hfl, x, y, hx, hy, -, hml, hcc, -⟩ := Lambda.sameMethod_spec hsame
    rw [hx] at hcode
    simp only [Option.map_some, Option.some.injEq, Prod.mk.injEq] at hcode
    cases hMe : cf.constantPool[iM]? with
    | none => rw [hMe] at hM; cases hM
    | some en =>
      rw [hMe] at hM
      cases en <;> simp only at hM <;> try cases hM
      rename_i ci nt
      simp only [Bool.and_eq_true, decide_eq_true_eq] at hM
      obtain ⟨⟨hcn, hnt⟩, hci⟩ := hM
      cases hCe : cf.constantPool[ci]? with
      | none => rw [hCe] at hci; cases hci
      | some en2 =>
        rw [hCe] at hci
        cases en2 <;> simp only at hci <;> try cases hci
        rename_i n
        simp only [Bool.and_eq_true, decide_eq_true_eq] at hci
        refine ⟨k, tk, file, ci, nt, b, y, toy, target, iface, found, hk', hfile, by rw [hpool.2.1]; exact hMe, by rw [hpool.2.1]; exact hnt, hrec.2.1, by rw [hrec.1, hname], by rw [htypes.1, hO']; simpa using hcap, by simp [Vm.method?, hk', hb], hy, ?_, by rw [hml]; exact hcode.2, ?_, by rw [hfl]; exact hacc, by rw [hsig]; exact hret, ht, htk, hitf, hg,
          ⟨k, hk', hres iM _ (Lambda.resolvedOf_method hMe hcn ht htk hnt hg)⟩, ⟨k, hk', hres ci _ (Lambda.resolvedOf_class hCe hci.2 hci.1 ht)⟩, fun j idx hj => ?_, hif, hfo, hsel⟩
        · rw [hcc]
          exact ByteArray.ext hcode.1
        · simp [Method.locks, Method.isSynchronized, hfl, hacc, hasFlag, Acc.synchronized]
        · rw [List.all_eq_true] at hF
          have hq := hF (idx, j) (by rw [List.mem_zipIdx_iff_getElem?]; exact hj)
          cases hE : cf.constantPool[idx]? with
          | none => simp only [hE] at hq; cases hq
          | some en3 =>
            simp only [hE] at hq
            cases en3 <;> simp only at hq <;> try cases hq
            rename_i c3 nt3
            cases hN : cf.constantPool.nameAndType? nt3 with
            | none => simp only [hN] at hq; cases hq
            | some w =>
              obtain ⟨nm, ds⟩ := w
              simp only [hN, Bool.and_eq_true, decide_eq_true_eq] at hq
              obtain ⟨f, hf, hp⟩ := Option.map_eq_some_iff.mp hq.2
              simp only [Prod.mk.injEq] at hp
              exact ⟨f, ⟨k, j, k, hk', hres idx _ (Lambda.resolvedOf_field hE hN hq.1), hk', hfields j _ hf⟩, hp.1, hp.2⟩
section LamRun
variable {p : Program} {l : Launch} {e : Env} {R : Room} {s : State} {m : MethodId} {args : Array Value} {below : List Frame} {meth : Method} {c : Code} {T : State} {locs : List Loc} {cells slots : Nat}
/-- one captured value is read -/
theorem lam_get (Y : Stand p l e R s m args below meth c T locs cells slots) (hexec : p.tables.exec = Jvm.exec) {q idx a : Nat} {lk : Array Slot} {f : Field} {cell : Cell} {v : Value} {st : List Value} (hl : lk[0]? = some (.val (.ref a)))
    (hd0 : decode c.code q = .ok (.aload_n 0, 1)) (hd1 : decode c.code (q + 1) = .ok (.getfield idx, 3)) (hf : T.vm.fieldReady m.cls idx m.cls f) (hfs : f.isStatic = false) (hcell : T.heap[a]? = some cell) (hk : cell.vm ≠ .unknown) (hv : cell.slots[f.slot]? = some v) {target : State}
    (h : Steps p.tables e below (T.setTop (F0 m (q + 4) lk (v :: st))) target) : Steps p.tables e below (T.setTop (F0 m q lk st)) target := by
  have hs := Y.here.top
  jvm_step Y.here [hexec, hd0, hl, Value.isRef]
  jvm_step Y.here [hexec, hd1, getfield.wp_ready (e := e) (s := T) (c := m.cls) (field := f) (a := a) (rest := st) (cell := cell) (v := v)
    (f := F0 m (q + 1) lk (.ref a :: st)) hs hf hfs rfl hcell hk hv]
  exact h
/-- the one argument is read -/
theorem lam_par (Y : Stand p l e R s m args below meth c T locs cells slots) (hexec : p.tables.exec = Jvm.exec) {q b : Nat} {lk : Array Slot} {st : List Value} (hl : lk[1]? = some (.val (.ref b)))
    (hd0 : decode c.code q = .ok (.aload_n 1, 1)) {target : State}
    (h : Steps p.tables e below (T.setTop (F0 m (q + 1) lk (.ref b :: st))) target) : Steps p.tables e below (T.setTop (F0 m q lk st)) target := by
  have hs := Y.here.top
  jvm_step Y.here [hexec, hd0, hl, Value.isRef]
  exact h
end LamRun
section LamCore
variable {p : Program} {l : Launch} {e : Env} {R : Room} {s : State} {m : MethodId} {args : Array Value} {below : List Frame} {meth : Method} {c : Code} {T : State} {locs : List Loc} {cells slots : Nat}
/-- the made method's run around the call of what it stands for -/
theorem lam_core (X : Stand p l e R s m args below meth c T locs cells slots) (hexec : p.tables.exec = Jvm.exec) {g : JFrame} (hg : g.method = m) (hsize : g.locals.size = c.maxLocals) {ig : Instr} {len : Nat} (hdg : decode c.code g.pc = .ok (ig, len))
    {mk : MethodId} {methk : Method} {ck : Code} (a : Array Value) (hmk : T.vm.method? mk = some methk) (hck : methk.code = some ck) (hlk : methk.locks = false) (hpk : T.plainMethod mk) (hretk : methk.sig.returnType = some .boolean)
    {lk : Array Slot} (hls : lk.size = ck.maxLocals) (hent : entryFrame mk a ck.maxLocals = F0 mk 0 lk []) {pcI : Nat} {iI : Instr} (hdI : decode ck.code pcI = .ok (iI, 3)) (hdR : decode ck.code (pcI + 3) = .ok (.ireturn, 1))
    {y : MethodName} {ws : List Cond} {rm : Room} {Pc : Array Value → State → Prop} {Qc : Array Value → State → Outcome → State → Prop} {mc ms maxL : Nat} {free : Addr → Prop} {bytes : ByteArray} {ret : Option FieldType}
    (hM : Met l y ws rm Pc Qc mc ms free) (hblind : FrameBlind Pc) (hrc : rm.cells = mc) (hrs : rm.slots = ms)
    (hws : ∀ w ∈ ws, ∀ (a' : Array Value) (U : State), T.WarmedH U.vm → w.before a' U = true) (hcode : Cond.code y bytes maxL ret ∈ ws) (hinit : ∀ (a' : Array Value) (U : State), T.WarmedH U.vm → (Cond.initialized y.cls).before a' U = true)
    (aT : Array Value) {tgt : MethodId} (hnamed : T.methodNamed? y = some tgt) (hPc : ∀ U : State, U.heap = T.heap → T.WarmedH U.vm → Pc aT U)
    (hb : ∀ st v t, Qc aT st (.returned v) t → ∃ r : Int32, v = some (.int r) ∧ narrow .boolean (.int r) = .int r)
    (hroom : rm.frames + 2 ≤ R.frames ∧ 2 * g.monitorRoom + (g.stack.map fun v => v.category).sum + (ck.maxLocals + 11) + (maxL + 11 + rm.locals) ≤ R.locals ∧ cells + mc ≤ R.cells ∧ slots + ms ≤ R.slots)
    (hpre : ∀ (U : State) (R' : Room), U.vm = T.vm → U.heap = T.heap → Stand p l e R' (T.calling g mk a) mk a (.java g :: below) methk ck U [] 0 0 →
      ∀ target, (∀ acts', Steps p.tables e (.java g :: below) (doInvoke e (U.setTop (F0 mk pcI lk [])) acts' tgt aT).1 target) → Steps p.tables e (.java g :: below) (U.setTop (F0 mk 0 lk [])) target) :
    ∃ (v : Option Value) (st₀ t T' : State) (L : List Loc), st₀.heap = T.heap ∧ Stand p l e R s m args below meth c T' (locs ++ L) (cells + mc) (slots + ms) ∧ (∀ q ∈ L, free q.base) ∧ T'.heap = t.heap ∧ T'.vm = t.vm ∧ Qc aT st₀ (.returned v) t ∧
      ∀ acts, Steps p.tables e below (doInvoke e (T.setTop g) acts mk a).1 (T'.setTop { g with pc := g.pc + len, stack := v.toList ++ g.stack }) := by
  obtain ⟨r1, r2, r3, r4⟩ := hroom
  obtain ⟨Y₀, hin⟩ := X.into hg hsize hdg a (R' := { frames := rm.frames + 1, locals := 0 + (maxL + 11) + rm.locals, cells := mc, slots := ms }) hmk hck hlk hpk (by show rm.frames + 1 + 1 ≤ _; omega) (by show _ + (0 + (maxL + 11) + rm.locals) ≤ _; omega) r3 r4
  rw [hent] at Y₀ hin
  generalize hU : (T.setTop g).pushFrame (.java (F0 mk 0 lk [])) = U at Y₀ hin
  have hvm : U.vm = T.vm := by rw [← hU]; rfl
  have hheap : U.heap = T.heap := by rw [← hU]; rfl
  have hK := back_of (p := p) (e := e) (below := .java g :: below) (s := T.calling g mk a) (sargs := a) (len := 3) (W := 0) (R := { frames := rm.frames + 1, locals := 0 + (maxL + 11) + rm.locals, cells := mc, slots := ms }) hM hblind hrc hrs (Nat.le_refl _) (Nat.le_refl _) hws hcode hinit
  obtain ⟨v, ⟨U2, l2, c2, s2⟩, Y₁, ⟨g', mk', t, L, e1, e2, hq, h1, hL, h2, h3⟩, st⟩ := hK mk methk ck ⟨U, [], 0, 0⟩ (F0 mk pcI lk []) iI tgt aT Y₀ rfl hls hdI (Nat.le_refl _) (by show U.methodNamed? y = _; rw [← hU]; exact hnamed)
    ⟨by show 0 + mc ≤ mc; omega, by show 0 + ms ≤ ms; omega, hPc U hheap (by rw [hvm]; exact State.WarmedH.refl T)⟩
  dsimp only [Pt.U, Pt.locs, Pt.cells, Pt.slots] at Y₁ e1 e2 hq h1 h2 h3 st
  obtain ⟨r, rfl, hnar⟩ := hb _ _ _ hq
  obtain ⟨fs, hleave, -, hended, hWe, hsame⟩ := Y₁.leave (v := some (.int r)) (fun h => by rw [hretk] at h; cases h) hlk
  obtain ⟨T', X', hW', -, ht⟩ := X.outOf hg hdg hended hWe hsame
  subst h1; subst h2; subst h3
  have hTh : T'.heap = U2.heap := (congrArg State.heap ht).symm
  have hTv : T'.vm = U2.vm := (congrArg State.vm ht).symm
  refine ⟨some (.int r), U.calling g' mk' aT, t, T', l2, hheap, by simpa using X', hL, hTh.trans e1, hTv.trans e2, hq, fun acts => ?_⟩
  rw [hin acts, ← ht]
  refine Steps.weaken (mid := [.java g]) ?_
  refine hpre U _ hvm hheap Y₀ _ (fun acts' => ?_)
  rw [doInvoke_state]
  refine st.trans ?_
  have hs : U2.topJava?.isSome := Y₁.here.top
  show Steps p.tables e (.java g :: below) (U2.setTop (F0 mk (pcI + 3) lk [.int r])) _
  jvm_step Y₁.here [hs, hexec, hdR, (show U2.vm.method? mk = some methk from Y₁.method'), hretk, hnar]
  intro acts''
  rw [hleave (F0 mk (pcI + 3) lk []) acts'' rfl rfl rfl]
  exact Steps.refl _
end LamCore
section LamSteps
variable {p : Program} {l : Launch} {e : Env} {R : Room} {s : State} {m : MethodId} {args : Array Value} {below : List Frame} {meth : Method} {c : Code} {T : State} {locs : List Loc} {cells slots : Nat}
/-- how the made method's bytes read: the fields, the argument, the call, the return -/
def lam_dec (code : ByteArray) (fs : List Nat) (par : Bool) (inv : Instr) : Bool :=
  (fs.zipIdx.all fun q => decide (decode code (4 * q.2) = .ok (.aload_n 0, 1)) && decide (decode code (4 * q.2 + 1) = .ok (.getfield q.1, 3))) && (!par || decide (decode code (4 * fs.length) = .ok (.aload_n 1, 1))) &&
  decide (decode code (4 * fs.length + par.toNat) = .ok (inv, 3)) && decide (decode code (4 * fs.length + par.toNat + 3) = .ok (.ireturn, 1))
theorem lam_dec.get {code : ByteArray} {fs : List Nat} {par : Bool} {inv : Instr} (h : lam_dec code fs par inv = true) {i idx : Nat} (hi : fs[i]? = some idx) : decode code (4 * i) = .ok (.aload_n 0, 1) ∧ decode code (4 * i + 1) = .ok (.getfield idx, 3) := by
  simp only [lam_dec, Bool.and_eq_true, List.all_eq_true] at h
  have := h.1.1.1 (idx, i) (by rw [List.mem_zipIdx_iff_getElem?]; exact hi)
  simpa using this
theorem lam_gets (Y : Stand p l e R s m args below meth c T locs cells slots) (hexec : p.tables.exec = Jvm.exec) {a : Nat} {lk : Array Slot} (hl : lk[0]? = some (.val (.ref a))) {fs : List Nat} {caps : List Value} (hlen : caps.length = fs.length) {par : Bool} {inv : Instr} (hd : lam_dec c.code fs par inv = true)
    (hf : ∀ j idx, fs[j]? = some idx → ∃ f, T.vm.fieldReady m.cls idx m.cls f ∧ f.isStatic = false ∧ f.slot = j) {cell : Cell} (hcell : T.heap[a]? = some cell) (hk : cell.vm ≠ .unknown) (hsl : cell.slots = caps.toArray) {target : State}
    (h : Steps p.tables e below (T.setTop (F0 m (4 * fs.length) lk caps.reverse)) target) : ∀ (d i : Nat), i + d = fs.length → Steps p.tables e below (T.setTop (F0 m (4 * i) lk (caps.take i).reverse)) target
  | 0, i, hi => by
    have hi : i = fs.length := by omega
    subst hi
    rw [List.take_of_length_le (by omega)]
    exact h
  | d + 1, i, hi => by
    have hlt : i < fs.length := by omega
    have hlc : i < caps.length := by omega
    have hfi : fs[i]? = some fs[i] := List.getElem?_eq_getElem hlt
    obtain ⟨h0, h1⟩ := lam_dec.get hd hfi
    obtain ⟨f, hr, hst, hslot⟩ := hf i _ hfi
    refine lam_get Y hexec hl h0 h1 hr hst hcell hk (v := caps[i]) (by rw [hsl, hslot, List.getElem?_toArray]; exact List.getElem?_eq_getElem hlc) ?_
    have := lam_gets Y hexec hl hlen hd hf hcell hk hsl h d (i + 1) (by omega)
    have e9 : (caps.take (i + 1)).reverse = caps[i] :: (caps.take i).reverse := by
      rw [List.take_succ_eq_append_getElem hlc, List.reverse_append]
      rfl
    rw [e9] at this
    exact this
theorem lam_invS (Y : Stand p l e R s m args below meth c T locs cells slots) (hexec : p.tables.exec = Jvm.exec) {q iM : Nat} {lk : Array Slot} (hd : decode c.code q = .ok (.invokestatic iM, 3)) {t : MethodId} {kt : Class} {metht : Method} (href : plainRef T e m.cls iM) (hready : T.vm.methodReady m.cls iM t)
    (hkt : T.vm.classes[t.cls]? = some kt) (hmt : T.vm.method? t = some metht) (hpoly : signaturePolymorphic kt metht = false) (hstatic : metht.isStatic = true) (hinit : kt.init = .initialized) (argsL : List Value) (hpar : argsL.length = metht.sig.parameters.length) {st : List Value} (hst : st = argsL.reverse) {target : State}
    (h : ∀ acts', Steps p.tables e below (doInvoke e (T.setTop (F0 m q lk [])) acts' t argsL.toArray).1 target) : Steps p.tables e below (T.setTop (F0 m q lk st)) target := by
  have hs := Y.here.top
  jvm_step Y.here [hexec, hd, invokestatic.wp_ready (e := e) (s := T) (m := t) (k := kt) (meth := metht) (args := argsL) (rest := [])
    (f := F0 m q lk st) hs href hready hkt hmt hpoly hstatic hinit hpar (by rw [hst]; simp)]
  intro acts'
  exact h acts'
theorem lam_invV (Y : Stand p l e R s m args below meth c T locs cells slots) (hexec : p.tables.exec = Jvm.exec) {q iM : Nat} {lk : Array Slot} (hd : decode c.code q = .ok (.invokevirtual iM, 3)) {t : MethodId} {kt : Class} {metht : Method} (hnamed : namesAClass T m.cls iM) (hready : T.vm.methodReady m.cls iM t)
    (hkt : T.vm.classes[t.cls]? = some kt) (hmt : T.vm.method? t = some metht) (hpoly : signaturePolymorphic kt metht = false) (hstatic : metht.isStatic = false) (hitf : kt.isInterface = false) (habs : metht.isAbstract = false) {b : Nat} {cellB : Cell} (hcell : T.heap[b]? = some cellB) (hobj : ∀ c, cellB.vm ≠ .statics c)
    (hsel : selectMethod e.platform T.vm cellB.cls t = .method t) (argsL : List Value) (hpar : argsL.length = metht.sig.parameters.length) {st : List Value} (hst : st = (Value.ref b :: argsL).reverse) {target : State}
    (h : ∀ acts', Steps p.tables e below (doInvoke e (T.setTop (F0 m q lk [])) acts' t (Value.ref b :: argsL).toArray).1 target) : Steps p.tables e below (T.setTop (F0 m q lk st)) target := by
  have hs := Y.here.top
  jvm_step Y.here [hexec, hd, invokevirtual.wp_ready (e := e) (s := T) (r := t) (m := t) (k := kt) (mk := kt) (rmeth := metht) (meth := metht) (a := b) (args := argsL) (rest := []) (cell := cellB)
    (f := F0 m q lk st) hs hnamed hready hkt hmt hpoly hstatic hpar (by rw [hst]; simp) hcell hobj hsel hmt habs hkt hitf]
  intro acts'
  exact h acts'
end LamSteps
section LamRow
variable {V : gh_V} {p : Program} {l : Launch} {e : Env} {R : Room} {s : State} {m : MethodId} {args : Array Value} {below : List Frame} {meth : Method} {c : Code} {H : Heap} {locs : List Loc} {cells slots : Nat} {Q : State → Prop} {cc : ByteArray} {nL : Nat} {own : String} {A : Nat → Prop} {g : gh_G} {pc : Nat} {ls : Array Slot} {rest st : List Value}
abbrev lam_x (σ : Lambda.Shape) : MethodName := ⟨σ.iface, σ.name, σ.sam.toString⟩
abbrev lam_ob (V : gh_V) (k : Nat) (caps : List Value) : gh_E := .inr { cls := V.2.1 (50 + k), slots := caps.toArray, vm := .none }
theorem lam_obj {args : Array Value} (hts : ∀ w ∈ lw_all, w.before args s = true) {U : State} (hW : s.WarmedH U.vm) : ∀ o ok, U.vm.findClass "java/lang/Object" = some o → U.vm.classes[o]? = some ok → ok.instanceTypes = #[] := by
  intro o ok h1 h2
  obtain ⟨c, k, hc, hk, -, -, -, hz⟩ := Cond.instantiable_spec (word_at (a' := #[]) hW (Or.inl rfl) (hts (Cond.instantiable "java/lang/Object" 0) (by decide +kernel)))
  cases h1.symm.trans hc
  cases h2.symm.trans hk
  exact Array.eq_empty_of_size_eq_zero hz
/-- the call that a made method makes, step by step (of either kind) -/
def lam_inv (p : Program) (l : Launch) (e : Env) (s : State) (H : Heap) (inv : Instr) (iM : Nat) (y : MethodName) (aT : List Value) : Prop :=
  ∀ (R' : Room) (s2 : State) (mk tgt : MethodId) (a2 : Array Value) (below2 : List Frame) (methk : Method) (ck : Code) (U : State) (q : Nat) (lk : Array Slot), Stand p l e R' s2 mk a2 below2 methk ck U [] 0 0 → s.WarmedH U.vm → U.heap = H →
    U.methodNamed? y = some tgt → plainRef U e mk.cls iM → namesAClass U mk.cls iM → U.vm.methodReady mk.cls iM tgt → decode ck.code q = .ok (inv, 3) →
    ∀ target, (∀ acts', Steps p.tables e below2 (doInvoke e (U.setTop (F0 mk q lk [])) acts' tgt aT.toArray).1 target) → Steps p.tables e below2 (U.setTop (F0 mk q lk aT.reverse)) target
theorem lam_invS_of (hx : p.tables.exec = Jvm.exec) {args : Array Value} (hts : ∀ w ∈ lw_all, w.before args s = true) {iM : Nat} {y : MethodName} {aT : List Value} {bytes : ByteArray} {maxL : Nat} {ret : Option FieldType} (hmh : y.cls ≠ "java/lang/invoke/MethodHandle" ∧ y.cls ≠ "java/lang/invoke/VarHandle")
    (hG : GoodIn lw_all [Cond.static y, Cond.initialized y.cls, Cond.code y bytes maxL ret]) (hn : (parseMethodDescriptor y.desc).map (fun d => d.parameters.length) = some aT.length) : lam_inv p l e s H (.invokestatic iM) iM y aT := by
  intro R' s2 mk tgt a2 below2 methk ck U q lk Y hW hH hnamed href _ hready hd target h
  have hw := pay_in hts hG
  obtain ⟨meth, cM, hmeth, -, -, -, -, -, -, hsig⟩ := Cond.code_spec hnamed (hw (Cond.code y bytes maxL ret) (by simp) #[] U hW)
  have hstatic : meth.isStatic = true := Cond.static_spec hnamed hmeth (hw (Cond.static y) (by simp) #[] U hW)
  obtain ⟨kP, hkP, hname⟩ := className_of_methodNamed hnamed
  have hinit : kP.init = .initialized := Cond.initialized_spec (findClass_of_methodNamed hnamed) hkP (hw (Cond.initialized y.cls) (by simp) #[] U hW)
  refine lam_invS Y hx hd href hready hkP hmeth (by simp [signaturePolymorphic, hname, hmh.1, hmh.2]) hstatic hinit aT ?_ rfl h
  rw [hsig] at hn
  exact (Option.some.inj hn).symm
theorem lam_invV_of (hx : p.tables.exec = Jvm.exec) (hpl : l.admits e) {args : Array Value} (hts : ∀ w ∈ lw_all, w.before args s = true) {iM : Nat} {y : MethodName} {aT : List Value} {b : Nat} {bytes : ByteArray} {maxL : Nat} {ret : Option FieldType} (hmh : y.cls ≠ "java/lang/invoke/MethodHandle" ∧ y.cls ≠ "java/lang/invoke/VarHandle")
    {C : String} (hb : ∃ cellB : Cell, H[b]? = some cellB ∧ cellB.vm.isStatics = false ∧ s.vm.findClass C = some cellB.cls)
    (hG : GoodIn lw_all [Cond.selects C y y, Cond.instanceMethod y, Cond.code y bytes maxL ret]) (hn : (parseMethodDescriptor y.desc).map (fun d => d.parameters.length) = some aT.length) : lam_inv p l e s H (.invokevirtual iM) iM y (.ref b :: aT) := by
  intro R' s2 mk tgt a2 below2 methk ck U q lk Y hW hH hnamed _ href hready hd target h
  have hw := pay_in hts hG
  obtain ⟨cellB, hcB, hoB, hclB⟩ := hb
  obtain ⟨meth, cM, hmeth, -, -, -, -, -, -, hsig⟩ := Cond.code_spec hnamed (hw (Cond.code y bytes maxL ret) (by simp) #[] U hW)
  obtain ⟨tg2, meth2, hn2, hm2, hst, habs⟩ := Cond.instanceMethod_spec (hw (Cond.instanceMethod y) (by simp) #[] U hW)
  cases hnamed.symm.trans hn2
  cases hmeth.symm.trans hm2
  obtain ⟨c2, r2, m2, q1, q2, q3, q4, kP, hkP, hkPi⟩ := Cond.selects_spec (hw (Cond.selects C y y) (by simp) #[] U hW)
  have hclU : U.vm.findClass C = some cellB.cls := by rw [hW.alike.findClass]; exact hclB
  cases hclU.symm.trans q1
  cases (State.methodFound?_of_named hnamed hmh).symm.trans q2
  cases hnamed.symm.trans q3
  obtain ⟨kP', hkP', hname⟩ := className_of_methodNamed hnamed
  cases hkP.symm.trans hkP'
  refine lam_invV Y hx hd href hready hkP hmeth (by simp [signaturePolymorphic, hname, hmh.1, hmh.2]) hst hkPi habs (by rw [hH]; exact hcB) (fun z h => by rw [h] at hoB; cases hoB) (by rw [Launch.admits_selectMethod hpl]; exact q4) aT ?_ rfl h
  rw [hsig] at hn
  exact (Option.some.inj hn).symm
theorem gh_lamRun (hC : gh_C V p s m args c cc nL own A) (hg : gh_W V A s g H locs) {k : Nat} {x : MethodName} {pc0 idx0 : Nat} {σ : Lambda.Shape} (hs : siteWords_1[k]? = some (.lambdaSite x pc0 idx0 σ)) {data : Array UInt8} {fs : List Nat} {iM : Nat} {par : Option Nat} {inv : Instr}
    (hok : lam_ok x.cls σ data (1 + par.toList.length) iM fs = true) (hdec : lam_dec ⟨data⟩ fs par.isSome inv = true) (hpl : plainName (x.cls ++ "$$Lambda") = true) (hitf : σ.implItf = false)
    {y : MethodName} {bytes : ByteArray} {maxL : Nat} {rm : Room} {caps : List Value} {post : Int32 → gh_G → Prop} (hM : MI l y bytes maxL (some .boolean) rm V (caps ++ (par.map Value.ref).toList) g post) (hbool : ∀ r u, post r u → r = 0 ∨ r = 1)
    (hy : σ.implClass = y.cls ∧ σ.implName = y.name ∧ σ.implDesc.toString = y.desc) (hmh : y.cls ≠ "java/lang/invoke/MethodHandle" ∧ y.cls ≠ "java/lang/invoke/VarHandle") (hG : GoodIn lw_all (Cond.initialized y.cls :: ws_ y bytes maxL (some .boolean)))
    {b : Nat} {t : gh_T} (hb : g b = some (t, lam_ob V k caps)) (hcl : caps.length = fs.length)
    {z9 : MethodName} (hz9 : lam_x σ = z9) (hx : z9 ∈ gh_ifs) {index count : Nat} (hlink : Cond.methodLink own index z9 ∈ lw_all) (hpn : (parseMethodDescriptor z9.desc).map (fun d => d.parameters.length) = some par.toList.length) (hmx : z9.cls ≠ "java/lang/invoke/MethodHandle" ∧ z9.cls ≠ "java/lang/invoke/VarHandle")
    (hR : rm.frames + 2 ≤ R.frames ∧ 8 + (1 + par.toList.length + 11) + (maxL + 11 + rm.locals) ≤ R.locals) (hls : ls.size = nL) (hst : st = (par.map Value.ref).toList.reverse ++ .ref b :: rest) (hW : (rest.map fun v => v.category).sum ≤ 8)
    (hdg : decode cc pc = .ok (.invokeinterface index count, 5)) (hf : cells + rm.cells ≤ R.cells ∧ slots + rm.slots ≤ R.slots)
    (hinv : l.admits e → lam_inv p l e s H inv iM y (caps ++ (par.map Value.ref).toList)) :
    va_Run5 p l e R s m args below meth c H locs cells slots rm.cells rm.slots (F0 m pc ls st) rest (va_Qi post (gh_B V g H.size) (gh_A g H.size) (caps ++ (par.map Value.ref).toList).toArray) (gh_A g H.size) := by
  intro T hT X
  subst hz9
  obtain ⟨hexec, hcc, hml, ho, hts⟩ := hC.1
  obtain ⟨mS, kc, cf, i0, p0, hmS, hkc, hcf, hsh, hfind, hmade, hcall⟩ := hC.2.2.1.2.2.2.2.2 k _ hs x pc0 idx0 σ rfl
  obtain ⟨kc2, hkc2, hnm⟩ := className_of_methodNamed hmS
  cases hkc.symm.trans hkc2
  obtain ⟨hd1, hd2⟩ := hC.2.2.1.2.1 _ hx
  obtain ⟨r0, r, hn, hrm, hstR, hsigR⟩ := Cond.declares_spec hd1
  obtain ⟨cL, kL, r1, hcL, hkL, hiL, hfoundL, hn1⟩ := Cond.interfaceMethod_spec hd2
  cases hn.symm.trans hn1
  have hr0cls : r0.cls = cL := Option.some.inj ((findClass_of_methodNamed hn).symm.trans hcL)
  obtain ⟨hnameR, hdescR⟩ := name_of_methodNamed hn hrm
  have hcell : T.heap[b]? = some { cls := V.2.1 (50 + k), slots := caps.toArray, vm := .none } := by rw [hT]; exact hg.1 b t _ hb
  obtain ⟨kk, tk, file, ci, nt, methk, ck, toy, tg, ifc, found, a1, a2, a3, a4, a5, a6, a7, a8, a9, a10, a11, a12, a13, a14, a15, a16, a17, a18, a19, a20, a21, a22, a23, a24⟩ := lam_made hkc hnm hmade (lam_obj hts (State.WarmedH.refl s)) hok
  obtain ⟨i2, hi2, hasg, hway⟩ := State.lambdaCallable_spec hcall
  have hfr : found = r0 := by
    simp only [State.methodFound?, hcL, hkL, Option.bind_eq_bind, Option.bind_some, hiL] at hfoundL
    cases hcL.symm.trans a22
    rw [a23] at hfoundL
    simpa [Except.toOption] using hfoundL
  subst hfr
  have hplen : (par.map Value.ref).toList.length = r.sig.parameters.length := by
    rw [hsigR] at hpn
    cases par <;> exact (Option.some.inj hpn).symm
  have hcat : ((par.map Value.ref).toList.length) = par.toList.length := by cases par <;> rfl
  subst hst
  obtain ⟨vm₁, X₁, hstep₁⟩ := X.invokeinterface hexec ho (hts _ hlink) hn hrm hstR (by rw [hr0cls]; exact hkL) hiL hmx (a := b) hcell (fun z h => by cases h) a1 (by rw [hr0cls]; cases hcL.symm.trans hi2; exact hasg) (by rw [Launch.admits_selectMethod X.admits]; exact a24) a8
    (by rw [hnameR, hdescR]; exact hway) (by rw [a13]; decide) (by simp [Method.isAbstract, a13, hasFlag, Acc.abstract]) (g := F0 m pc ls ((par.map Value.ref).toList.reverse ++ .ref b :: rest)) rfl (argsL := (par.map Value.ref).toList) (rest := rest) hplen rfl (by rw [hcc]; exact hdg)
  have hW1 : s.WarmedH vm₁ := X₁.warmed
  obtain ⟨kc', hkc', hkce⟩ := hW1.alike.2.2 _ _ hkc
  have hmade1 : Lambda.isMade { classPath := fun _ => none } vm₁ mS.cls σ (V.2.1 (50 + k)) = true := Lambda.isMade_warmer hW1 hmade
  obtain ⟨kk1, tk1, file1, ci1, nt1, methk1, ck1, toy1, tg1, ifc1, found1, b1, b2, b3, b4, b5, b6, b7, b8, b9, b10, b11, b12, b13, b14, b15, b16, b17, b18, b19, b20, b21, b22, b23, b24⟩ := lam_made hkc' (by rw [hkce]; exact hnm) hmade1 (lam_obj (U := T.setVm vm₁) hts hW1) hok
  obtain ⟨tgt, hnamed⟩ := Cond.code_named (hts _ (hG (Cond.code y bytes maxL (some .boolean)) (by simp)).1)
  have hnamed1 : (T.setVm vm₁).methodNamed? y = some tgt := X₁.named hnamed
  have htg : tg1 = tgt := by
    have := State.methodFound?_of_named hnamed1 hmh
    simp only [State.methodFound?, ← hy.1, ← hy.2.1, ← hy.2.2, (show (T.setVm vm₁).vm = vm₁ from rfl), b15, b16, Option.bind_eq_bind, Option.bind_some, b18] at this
    simpa [Except.toOption] using this
  subst htg
  have hpre := gh_preS hC hg (caps ++ (par.map Value.ref).toList)
  have hpay := pay_in hts hG
  obtain ⟨v, st₀, t1, T', L, z1, z2, z3, z4, z5, z6, z7⟩ := lam_core X₁ hexec (g := F0 m pc ls rest) rfl (hls.trans hml.symm) (by rw [hcc]; exact hdg) (mk := ⟨V.2.1 (50 + k), 1⟩) (Value.ref b :: (par.map Value.ref).toList).toArray b8 b9 b12
    (State.plainMethod.of_name (fun k9 hk9 => by cases (show vm₁.classes[V.2.1 (50 + k)]? = some k9 from hk9).symm.trans b1; rw [b6]; exact hpl)) b14
    (lk := (Slot.val (.ref b) :: (par.map fun q => Slot.val (.ref q)).toList).toArray) (by rw [b11]; cases par <;> rfl) (by rw [b11]; cases par <;> rfl) (pcI := 4 * fs.length + par.isSome.toNat) (iI := inv)
    (by rw [b10]; simp only [lam_dec, Bool.and_eq_true, decide_eq_true_eq] at hdec; exact hdec.1.2) (by rw [b10]; simp only [lam_dec, Bool.and_eq_true, decide_eq_true_eq] at hdec; exact hdec.2)
    (hM H.size) hpre.1 rfl rfl (fun w hw a' U hWU => hpay w (List.mem_cons_of_mem _ hw) a' U (State.WarmedH.trans hW1 hWU)) (List.mem_cons_self ..) (fun a' U hWU => hpay _ (List.mem_cons_self ..) a' U (State.WarmedH.trans hW1 hWU))
    (caps ++ (par.map Value.ref).toList).toArray hnamed1 (fun U hU hWU => hpre.2 U (hU.trans hT) (State.WarmedH.trans hW1 hWU))
    (fun st v t h => by
      obtain ⟨⟨r9, u, hv, hp, -⟩, -⟩ := h
      refine ⟨r9, Outcome.returned.inj hv, ?_⟩
      rcases hbool _ _ hp with rfl | rfl <;> rfl)
    ⟨hR.1, by rw [b11]; have := lv_room (m := m) (pc := pc) (ls := ls) (rest := rest) hW; have h8 := hR.2; have h7 : ((F0 m pc ls rest).stack.map fun v => v.category).sum = (rest.map fun v => v.category).sum := rfl; omega, hf.1, hf.2⟩
    (fun U R' hUv hUh Y target hh => by
      refine lam_gets (i := 0) (d := fs.length) Y hexec (a := b) (fs := fs) (caps := caps) (lk := (Slot.val (.ref b) :: (par.map fun q => Slot.val (.ref q)).toList).toArray) rfl hcl (par := par.isSome) (inv := inv) (by rw [b10]; exact hdec) ?_ (by rw [hUh]; exact hcell) (fun h => by cases h) rfl ?_ (by omega)
      · intro j idx hj
        rw [hUv]
        exact b21 j idx hj
      · have htoy : toy1 = tg1.cls := by
          have h9 := findClass_of_methodNamed hnamed1
          rw [← hy.1] at h9
          exact Option.some.inj (b15.symm.trans h9)
        obtain ⟨kP, hkP, hkPn⟩ := className_of_methodNamed hnamed1
        have htk : tk1 = kP := by
          rw [htoy] at b16
          exact Option.some.inj (b16.symm.trans hkP)
        have hU1 : U.vm.classes[V.2.1 (50 + k)]? = some kk1 := by rw [hUv]; exact b1
        have hplain : plainRef U e (V.2.1 (50 + k)) iM := by
          obtain ⟨bb, hask⟩ := memberRef_ask' (e := e) (index := iM) hU1 b2 (Or.inl b3) b4
          refine ⟨ci1, σ.implName, σ.implDesc.toString, bb, toy1, tk1, hask, by rw [hUv]; exact b20, by rw [hUv]; exact b16, ?_⟩
          rw [htk, Array.any_eq_false]
          intro i hi
          simp [signaturePolymorphic, hkPn, hmh.1, hmh.2]
        have hnames : namesAClass U (V.2.1 (50 + k)) iM :=
          ⟨kk1, file1, ci1, nt1, toy1, tk1, hU1, b2, b3, by rw [hUv]; exact b20, by rw [hUv]; exact b16, b17.trans hitf⟩
        have hgo : Steps p.tables e (.java (F0 m pc ls rest) :: below) (U.setTop (F0 ⟨V.2.1 (50 + k), 1⟩ (4 * fs.length + par.isSome.toNat) (Slot.val (.ref b) :: (par.map fun q => Slot.val (.ref q)).toList).toArray (caps ++ (par.map Value.ref).toList).reverse)) target :=
          hinv X.admits R' _ _ _ _ _ _ _ U _ _ Y (by rw [hUv]; exact hW1) (hUh.trans hT) (by have h9 := hnamed1; unfold State.methodNamed? at h9 ⊢; rw [hUv]; exact h9) hplain hnames (by rw [hUv]; exact b19) (by rw [b10]; simp only [lam_dec, Bool.and_eq_true, decide_eq_true_eq] at hdec; exact hdec.1.2) target hh
        cases par with
        | none => simpa using hgo
        | some q =>
          refine lam_par Y hexec (b := q) rfl (by rw [b10]; simp only [lam_dec, Bool.and_eq_true, decide_eq_true_eq] at hdec; simpa using hdec.1.1.2) ?_
          simpa [List.reverse_append] using hgo)
  refine ⟨v, st₀, t1, T', L, z1.trans hT, z2, z3, z4, z5, z6, fun target h => hstep₁ _ (fun acts => (z7 acts).trans h)⟩
end LamRow
theorem lam_words {l : Launch} {e : Env} (h : l.admits e) : e.platform.lambdaLinkWords = 3072 := by
  have := h.2.2.2.2.1
  rw [this]
theorem lam_arr {α : Type} (F : Nat → Nat → Nat → Option α) (K : Array Nat → Option α) (hK : ∀ x, K x = none) : ∀ (L : Array Nat) {z : α}, Lambda.shapeOf?.match_15 (fun _ => Option α) L F K = some z → ∃ a0 a1 a2, F a0 a1 a2 = some z
  | ⟨[]⟩, _, h => by rw [show Lambda.shapeOf?.match_15 (fun _ => Option α) ⟨[]⟩ F K = K ⟨[]⟩ from rfl, hK] at h; cases h
  | ⟨[a]⟩, _, h => by rw [show Lambda.shapeOf?.match_15 (fun _ => Option α) ⟨[a]⟩ F K = K ⟨[a]⟩ from rfl, hK] at h; cases h
  | ⟨[a, b]⟩, _, h => by rw [show Lambda.shapeOf?.match_15 (fun _ => Option α) ⟨[a, b]⟩ F K = K ⟨[a, b]⟩ from rfl, hK] at h; cases h
  | ⟨[a, b, c]⟩, _, h => ⟨a, b, c, h⟩
  | ⟨a :: b :: c :: d :: L⟩, _, h => by rw [show Lambda.shapeOf?.match_15 (fun _ => Option α) ⟨a :: b :: c :: d :: L⟩ F K = K ⟨a :: b :: c :: d :: L⟩ from rfl, hK] at h; cases h
theorem lam_site {cf : ClassFile} {index : Nat} {σ : Lambda.Shape} (h : Lambda.shapeOf? cf index = some σ) :
    ∃ b nt name desc sig, cf.constantPool[index]? = some (.invokeDynamic b nt) ∧ cf.constantPool.nameAndType? nt = some (name, desc) ∧ parseLongMethodDescriptor desc = some sig ∧ sig.parameters = σ.captured := by
  unfold Lambda.shapeOf? at h
  cases hidx : cf.constantPool[index]? with
  | none => rw [hidx] at h; cases h
  | some en =>
    rw [hidx] at h
    cases en <;> try (cases h; done)
    rename_i b nt
    obtain ⟨entries, -, h⟩ := Option.bind_eq_some_iff.mp h
    obtain ⟨bm, -, h⟩ := Option.bind_eq_some_iff.mp h
    cases h1 : cf.constantPool[bm.bootstrapMethodRef]? with
    | none => rw [h1] at h; cases h
    | some en1 =>
      rw [h1] at h
      cases en1 <;> try (cases h; done)
      rename_i kd r
      by_cases hk : kd = 6
      · subst hk
        obtain ⟨u1, -, h⟩ := Option.bind_eq_some_iff.mp h
        obtain ⟨a0, a1, a2, h⟩ := lam_arr _ _ (fun _ => rfl) _ h
        cases e0 : cf.constantPool[a0]? with
        | none => rw [e0] at h; cases h
        | some x0 =>
          rw [e0] at h
          cases x0 <;> try (cases h; done)
          cases e1 : cf.constantPool[a1]? with
          | none => rw [e1] at h; cases h
          | some x1 =>
            rw [e1] at h
            cases x1 <;> try (cases h; done)
            cases e2 : cf.constantPool[a2]? with
            | none => rw [e2] at h; cases h
            | some x2 =>
              rw [e2] at h
              cases x2 <;> try (cases h; done)
              obtain ⟨nd, hnd, h⟩ := Option.bind_eq_some_iff.mp h
              obtain ⟨site, hsite, h⟩ := Option.bind_eq_some_iff.mp h
              cases e3 : site.returnType with
              | none => rw [e3] at h; cases h
              | some x3 =>
                rw [e3] at h
                cases x3 <;> try (cases h; done)
                obtain ⟨y0, -, h⟩ := Option.bind_eq_some_iff.mp h
                obtain ⟨y1, -, h⟩ := Option.bind_eq_some_iff.mp h
                obtain ⟨y2, -, h⟩ := Option.bind_eq_some_iff.mp h
                obtain ⟨y3, -, h⟩ := Option.bind_eq_some_iff.mp h
                obtain ⟨y4, -, h⟩ := Option.bind_eq_some_iff.mp h
                obtain ⟨y5, -, h⟩ := Option.bind_eq_some_iff.mp h
                refine ⟨b, nt, nd.1, nd.2, site, rfl, hnd, parseLong_of_parse hsite, ?_⟩
                cases h
                rfl
      · exfalso
        rcases kd with _ | _ | _ | _ | _ | _ | _ | n
        all_goals first | exact hk rfl | (cases h; done)
/-- a start that knows the method's own name -/
theorem MG.ofN {l : Launch} {y : MethodName} {cc : ByteArray} {nL : Nat} {ret : Option FieldType} {rm : Room} {V : gh_V} {av : List Value} {g : gh_G} {Qp : gh_Q} (own : String) (hy : plainName y.cls = true) (ho : y.cls = own) (hn : (lg_sl av).length ≤ nL)
    (body : ∀ (p : Program) (e : Env) (s : State) (m : MethodId) (args : Array Value) (below : List Frame) (meth : Method) (c : Code) (ls : Array Slot),
      gh_C V p s m args c cc nL own (gh_A g s.heap.size) → gh_W V (gh_A g s.heap.size) s g s.heap [] → meth.sig.returnType = ret → meth.locks = false → s.methodNamed? y = some m → lv_has ls nL (lv_args 0 av) →
      W p l e rm s m args below meth c s.heap [] 0 0 (MQ below (Qp (gh_B V g s.heap.size) (gh_A g s.heap.size)) args s rm.cells rm.slots (gh_A g s.heap.size)) (F0 m 0 ls [])) : MG l y cc nL ret rm V av g Qp := by
  intro sz
  refine Met.ofW (cc := cc) (maxL := nL) (ret := ret) hy rfl ?_
  intro p e s m args below meth c s₁ B hml hv
  obtain ⟨rfl, hsz, hK, hZ, hP⟩ := hv
  subst hsz
  subst ho
  have hts := atoms_spec (ws := ws_ y cc nL ret) B.pre
  have hts : ∀ w ∈ lw_all, w.before _ s = true := fun w h => hts w (List.mem_cons_of_mem _ h)
  have hown : s.vm.findClass y.cls = some m.cls := findClass_of_methodNamed B.named
  rw [lg_entry_eq]
  exact body p e s m av.toArray below meth c _ ⟨⟨B.exec, B.bytes, hml, hown, hts⟩, hK, hZ⟩ ⟨hP, fun q hq => Or.inl hq, va_S.rf, fun q hq => Or.inr hq⟩ B.returns B.notSynchronized B.named (lv_entry av hn)
theorem lam_zip : ∀ {ts : List FieldType} {vs : List Value}, ts.length = vs.length → (∀ q ∈ ts.zip vs, narrow q.1 q.2 = q.2) → (ts.zip vs).map (fun (t, v) => narrow t v) = vs
  | [], [], _, _ => rfl
  | [], _ :: _, h, _ => by cases h
  | _ :: _, [], h, _ => by cases h
  | t :: ts, v :: vs, h, hn => by
    show narrow t v :: (ts.zip vs).map (fun (t, v) => narrow t v) = _
    rw [lam_zip (by simpa using h) (fun q hq => hn q (List.mem_cons_of_mem _ hq)), hn (t, v) (List.mem_cons_self ..)]
section LamNew
variable {V : gh_V} {p : Program} {l : Launch} {e : Env} {R : Room} {s : State} {m : MethodId} {args : Array Value} {below : List Frame} {meth : Method} {c : Code} {H : Heap} {locs : List Loc} {cells slots : Nat} {Q : State → Prop} {cc : ByteArray} {nL : Nat} {own : String} {A : Nat → Prop} {g : gh_G} {pc : Nat} {ls : Array Slot} {rest st : List Value}
/-- a new lambda object -/
theorem gh_lam (hC : gh_C V p s m args c cc nL own A) (hg : gh_W V A s g H locs) {k : Nat} {x : MethodName} (hnm : s.methodNamed? x = some m) {index : Nat} {σ : Lambda.Shape} (hs : siteWords_1[k]? = some (.lambdaSite x pc index σ)) (tg : Nat → gh_T)
    {data : Array UInt8} {maxK iM : Nat} {fs : List Nat} (hok : lam_ok x.cls σ data maxK iM fs = true) {vals : List Value} (hlen : σ.captured.length = vals.length) (hnar : ∀ q ∈ σ.captured.zip vals, narrow q.1 q.2 = q.2 ∧ fits q.1 q.2 = true)
    (hls : ls.size = nL) (hst : st = vals.reverse ++ rest) (hW : (st.map fun v => v.category).sum ≤ 8) (hroom : 8 + 3072 ≤ R.locals) (hcells : cells + 1 ≤ R.cells) (hslots : slots + vals.length ≤ R.slots) (hdg : decode cc pc = .ok (.invokedynamic index, 5))
    (kk : ∀ (q : Nat) (g1 : gh_G) (H1 : Heap), gh_W V A s g1 H1 locs → g q = none → g1 q = some (tg q, lam_ob V k vals) → (∀ b, b ≠ q → g1 b = g b) → W p l e R s m args below meth c H1 locs (cells + 1) (slots + vals.length) Q (F0 m (pc + 5) ls (.ref q :: rest))) : W p l e R s m args below meth c H locs cells slots Q (F0 m pc ls st) := by
  intro T hT X
  obtain ⟨hexec, hcc, hml, ho, hts⟩ := hC.1
  obtain ⟨mS, kc, cf, i0, p0, hmS, hkc, hcf, hsh, hfind, hmade, hcall⟩ := hC.2.2.1.2.2.2.2.2 k _ hs x pc index σ rfl
  cases hnm.symm.trans hmS
  obtain ⟨kc2, hkc2, hnm2⟩ := className_of_methodNamed hmS
  cases hkc.symm.trans hkc2
  obtain ⟨kk1, tk, file, ci, nt, methk, ck, toy, tg1, ifc, found, a1, a2, a3, a4, a5, a6, a7, -⟩ := lam_made hkc hnm2 hmade (lam_obj hts (State.WarmedH.refl s)) hok
  obtain ⟨b2, nt2, nm2, desc2, sig2, c1, c2, c3, c4⟩ := lam_site hsh
  have hz : ((kk1.instanceTypes.toList.zip vals).map fun (t, v) => narrow t v) = vals := by rw [a7]; exact lam_zip hlen (fun q hq => (hnar q hq).1)
  have hlw := lam_words X.admits
  have hgo := X.lambdaMakes hexec (g := F0 m pc ls st) rfl (hls.trans hml.symm) (index := index) (by rw [hcc]; exact hdg) hkc hfind hcf c1 c2 c3 (vals := vals) (rest := rest) (by rw [c4]; exact hlen.symm) hst a1
    (by rw [hlw]; have h1 := lv_room (m := m) (pc := pc) (ls := ls) (rest := st) hW; exact Nat.le_trans (Nat.add_le_add_right h1 _) hroom) hcells (by rw [hz]; exact hslots)
    (fun i v hv => by
      rw [hz, List.getElem?_toArray] at hv
      have hi : i < vals.length := (List.getElem?_eq_some_iff.mp hv).1
      have ht : σ.captured[i]? = some (σ.captured[i]'(by omega)) := List.getElem?_eq_getElem _
      have hq := (hnar (σ.captured[i]'(by omega), v) (List.mem_iff_getElem?.mpr ⟨i, by rw [List.getElem?_zip_eq_some]; exact ⟨ht, hv⟩⟩)).2
      have hty : s.slotType? (V.2.1 (50 + k)) .none i = some (σ.captured[i]'(by omega)) := by
        simp only [State.slotType?, a1, a5, Option.bind_eq_bind, Option.bind_some]
        rw [← Array.getElem?_toList, a7]
        exact ht
      simp only [State.fitsSlot, hty]
      exact hq)
  rw [hz] at hgo
  obtain ⟨X', hgo⟩ := hgo
  have hpush : (T.pushCell { cls := V.2.1 (50 + k), slots := vals.toArray, vm := .none }).heap = H.push { cls := V.2.1 (50 + k), slots := vals.toArray, vm := .none } := by rw [← hT]; rfl
  obtain ⟨w0, g1, w1, w2, w3⟩ := hg.new (tg H.size) (e1 := lam_ob V k vals) (H1 := H.push { cls := V.2.1 (50 + k), slots := vals.toArray, vm := .none }) (by show (H.push _)[H.size]? = _; simp) (by simp) (fun q hq => by rw [Array.getElem?_push, if_neg (by omega)])
  obtain ⟨t, ht, hQ⟩ := kk H.size g1 _ w1 w0 w2 w3 _ hpush (by simpa using X')
  exact ⟨t, hgo t (by rw [hT]; exact ht), hQ⟩
end LamNew
def lam_sh : Cond → Lambda.Shape
  | .lambdaSite _ _ _ σ => σ
  | _ => { iface := "", name := "", sam := ⟨[], none⟩, captured := [], kind := 0, implClass := "", implName := "", implDesc := ⟨[], none⟩, implItf := false, inst := ⟨[], none⟩ }
def lam_bA : Array UInt8 := #[0x2a, 0xb4, 0, 16, 0x2a, 0xb4, 0, 18, 0x2b, 0xb8, 0, 26, 0xac]
theorem lam_dA : lam_dec ⟨lam_bA⟩ [16, 18] true (.invokestatic 26) = true := by decide +kernel
def lam_bB : Array UInt8 := #[0x2a, 0xb4, 0, 15, 0x2b, 0xb8, 0, 23, 0xac]
theorem lam_dB : lam_dec ⟨lam_bB⟩ [15] true (.invokestatic 23) = true := by decide +kernel
def lam_bC : Array UInt8 := #[0x2a, 0xb4, 0, 15, 0xb8, 0, 23, 0xac]
theorem lam_dC : lam_dec ⟨lam_bC⟩ [15] false (.invokestatic 23) = true := by decide +kernel
def lam_bD : Array UInt8 := #[0x2a, 0xb4, 0, 15, 0xb6, 0, 22, 0xac]
theorem lam_dD : lam_dec ⟨lam_bD⟩ [15] false (.invokevirtual 22) = true := by decide +kernel
def lam_bE : Array UInt8 := #[0x2a, 0xb4, 0, 17, 0x2a, 0xb4, 0, 19, 0xb6, 0, 27, 0xac]
theorem lam_dE : lam_dec ⟨lam_bE⟩ [17, 19] false (.invokevirtual 27) = true := by decide +kernel
def lam_bF : Array UInt8 := #[0x2a, 0xb4, 0, 18, 0x2a, 0xb4, 0, 20, 0x2a, 0xb4, 0, 22, 0xb6, 0, 30, 0xac]
theorem lam_dF : lam_dec ⟨lam_bF⟩ [18, 20, 22] false (.invokevirtual 30) = true := by decide +kernel
theorem lam_k0 : lam_ok "AnnealingLehr$TextReader" (lam_sh siteWord_1_1) lam_bA 2 26 [16, 18] = true := by decide +kernel
theorem lam_k1 : lam_ok "AnnealingLehr$TextReader" (lam_sh siteWord_1_2) lam_bA 2 26 [16, 18] = true := by decide +kernel
theorem lam_k2 : lam_ok "AnnealingLehr$TextReader" (lam_sh siteWord_1_3) lam_bA 2 26 [16, 18] = true := by decide +kernel
theorem lam_k3 : lam_ok "AnnealingLehr$TextReader" (lam_sh siteWord_1_4) lam_bA 2 26 [16, 18] = true := by decide +kernel
theorem lam_k4 : lam_ok "AnnealingLehr$TextReader" (lam_sh siteWord_1_5) lam_bB 2 23 [15] = true := by decide +kernel
theorem lam_k5 : lam_ok "AnnealingLehr$State" (lam_sh siteWord_1_6) lam_bC 1 23 [15] = true := by decide +kernel
theorem lam_k6 : lam_ok "AnnealingLehr$State" (lam_sh siteWord_1_7) lam_bD 1 22 [15] = true := by decide +kernel
theorem lam_k7 : lam_ok "AnnealingLehr$State" (lam_sh siteWord_1_8) lam_bD 1 22 [15] = true := by decide +kernel
theorem lam_k8 : lam_ok "AnnealingLehr$TextReader" (lam_sh siteWord_1_9) lam_bA 2 26 [16, 18] = true := by decide +kernel
theorem lam_k9 : lam_ok "AnnealingLehr$State" (lam_sh siteWord_1_10) lam_bE 1 27 [17, 19] = true := by decide +kernel
theorem lam_k10 : lam_ok "AnnealingLehr$State" (lam_sh siteWord_1_11) lam_bE 1 27 [17, 19] = true := by decide +kernel
theorem lam_k11 : lam_ok "AnnealingLehr$State" (lam_sh siteWord_1_12) lam_bF 1 30 [18, 20, 22] = true := by decide +kernel
theorem lam_k12 : lam_ok "AnnealingLehr$TextReader" (lam_sh siteWord_1_13) lam_bB 2 23 [15] = true := by decide +kernel
theorem lw_3 {a b c : Cond} (ha : a ∈ lw_all) (hb : b ∈ lw_all) (hc : c ∈ lw_all) : GoodIn lw_all [a, b, c] := lw_good (by
  intro w hw
  simp only [List.mem_cons, List.not_mem_nil, or_false] at hw
  rcases hw with rfl | rfl | rfl
  · exact ha
  · exact hb
  · exact hc)
theorem lw_IC {a : Cond} {y : MethodName} {b : ByteArray} {L : Nat} {r : Option FieldType} (ha : a ∈ lw_all) (hc : Cond.code y b L r ∈ lw_all) : GoodIn lw_all (a :: ws_ y b L r) := lw_good (by
  intro w hw
  rcases List.mem_cons.mp hw with rfl | hw
  · exact ha
  · exact (lw_meth hc w hw).1)
theorem lam_n1 {t1 : FieldType} {v1 : Value} (h1 : narrow t1 v1 = v1 ∧ fits t1 v1 = true) : ∀ q ∈ [t1].zip [v1], narrow q.1 q.2 = q.2 ∧ fits q.1 q.2 = true := by
  intro q hq
  simp only [List.zip_cons_cons, List.zip_nil_left, List.mem_cons, List.not_mem_nil, or_false] at hq
  subst hq
  exact h1
theorem lam_n2 {t1 t2 : FieldType} {v1 v2 : Value} (h1 : narrow t1 v1 = v1 ∧ fits t1 v1 = true) (h2 : narrow t2 v2 = v2 ∧ fits t2 v2 = true) : ∀ q ∈ [t1, t2].zip [v1, v2], narrow q.1 q.2 = q.2 ∧ fits q.1 q.2 = true := by
  intro q hq
  simp only [List.zip_cons_cons, List.zip_nil_left, List.mem_cons, List.not_mem_nil, or_false] at hq
  rcases hq with rfl | rfl
  · exact h1
  · exact h2
theorem lam_n3 {t1 t2 t3 : FieldType} {v1 v2 v3 : Value} (h1 : narrow t1 v1 = v1 ∧ fits t1 v1 = true) (h2 : narrow t2 v2 = v2 ∧ fits t2 v2 = true) (h3 : narrow t3 v3 = v3 ∧ fits t3 v3 = true) : ∀ q ∈ [t1, t2, t3].zip [v1, v2, v3], narrow q.1 q.2 = q.2 ∧ fits q.1 q.2 = true := by
  intro q hq
  simp only [List.zip_cons_cons, List.zip_nil_left, List.mem_cons, List.not_mem_nil, or_false] at hq
  rcases hq with rfl | rfl | rfl
  · exact h1
  · exact h2
  · exact h3
