/-! MORE ROWS over the ghost heap: constants, classes asked, interfaces' calls, copies -/
theorem gh_nwm {w : Cond} (h : w ∈ lw_tbl) (hm : gh_mv w = true) : w ∈ gh_nw := List.mem_filter.mpr ⟨h, hm⟩
theorem gh_pos {x : Int32} {n : Nat} (h : x = nI n) (hn : n < 2 ^ 31) : ¬ x < 0 := by rw [h]; exact nI_pos hn
section GhMore
variable {V : gh_V} {p : Program} {l : Launch} {e : Env} {R : Room} {s : State} {m : MethodId} {args : Array Value} {below : List Frame} {meth : Method} {c : Code} {H : Heap} {locs : List Loc} {cells slots : Nat} {Q : State → Prop} {cc : ByteArray} {nL : Nat} {own : String} {A : Nat → Prop} {g : gh_G} {pc : Nat} {ls : Array Slot} {rest st : List Value}
theorem gh_getsI (hC : gh_C V p s m args c cc nL own A) (hg : gh_W V A s g H locs) {C n d ref : String} {v : Int32} {index : Nat} (hq : (C, n, d, v) ∈ gh_si) (hlink : Cond.fieldLink own index ref n d ∈ lw_all) (hsame : ∀ (args : Array Value) (s : State), (∀ w ∈ lw_all, w.before args s = true) → ∀ x, s.fieldFound? C n d = some x → s.fieldFound? ref n d = some x) (hdg : decode cc pc = .ok (.getstatic index, 3))
    (kk : W p l e R s m args below meth c H locs cells slots Q (F0 m (pc + 3) ls (.int v :: rest))) : W p l e R s m args below meth c H locs cells slots Q (F0 m pc ls rest) :=
  va_gets hC.1.1 hC.1.2.1 (hC.2.2.2.1 _ hq) hg.2.2.1 hC.1.2.2.2.1 (hC.1.2.2.2.2 _ hlink) (hsame _ _ hC.1.2.2.2.2) hdg kk
theorem gh_getsR (hC : gh_C V p s m args c cc nL own A) (hg : gh_W V A s g H locs) {C n d ref : String} {k : Nat} {index : Nat} (hq : (C, n, d, k) ∈ gh_sr) (hlink : Cond.fieldLink own index ref n d ∈ lw_all) (hsame : ∀ (args : Array Value) (s : State), (∀ w ∈ lw_all, w.before args s = true) → ∀ x, s.fieldFound? C n d = some x → s.fieldFound? ref n d = some x) (hdg : decode cc pc = .ok (.getstatic index, 3))
    (kk : W p l e R s m args below meth c H locs cells slots Q (F0 m (pc + 3) ls (.ref (V.2.2 k) :: rest))) : W p l e R s m args below meth c H locs cells slots Q (F0 m pc ls rest) :=
  va_gets hC.1.1 hC.1.2.1 (hC.2.2.2.2.1 _ hq) hg.2.2.1 hC.1.2.2.2.1 (hC.1.2.2.2.2 _ hlink) (hsame _ _ hC.1.2.2.2.2) hdg kk
theorem gh_castY (hC : gh_C V p s m args c cc nL own A) (hg : gh_W V A s g H locs) {C nm : String} {index a : Nat} {t : gh_T} {ci : Nat} {fs : List Value} (ha : g a = some (t, oo ci fs)) (hc : (CL[ci]?).map (fun q => q.1) = some C) (hlink : Cond.classLink own index nm ∈ lw_all) (hcast : Cond.castable C nm ∈ lw_tbl) (hdg : decode cc pc = .ok (.checkcast index, 3))
    (kk : W p l e R s m args below meth c H locs cells slots Q (F0 m (pc + 3) ls (.ref a :: rest))) : W p l e R s m args below meth c H locs cells slots Q (F0 m pc ls (.ref a :: rest)) :=
  va_castY hC.1.1 hC.1.2.1 hC.1.2.2.2.1 (hC.1.2.2.2.2 _ hlink) (hC.2.2.1.1 _ (gh_nwm hcast rfl)) (gh_recv hC hg ha hc) hdg kk
theorem gh_cat (hC : gh_C V p s m args c cc nL own A) {C : String} {ci : Nat} (hc : (CL[ci]?).map (fun q => q.1) = some C) : ∃ cC, ClassAt s C cC := by
  cases hq : CL[ci]? with
  | none => rw [hq] at hc; cases hc
  | some q =>
    rw [hq] at hc
    cases hc
    obtain ⟨-, hfc, kC, hkC, hkind⟩ := hC.2.1.1 ci q hq
    exact ⟨_, hfc, kC, hkC, hkind⟩
theorem gh_castS (hC : gh_C V p s m args c cc nL own A) (hg : gh_W V A s g H locs) {C : String} {index a : Nat} {t : gh_T} {ci : Nat} {fs : List Value} (ha : g a = some (t, oo ci fs)) (hc : (CL[ci]?).map (fun q => q.1) = some C) (hlink : Cond.classLink own index C ∈ lw_all) (hdg : decode cc pc = .ok (.checkcast index, 3))
    (kk : W p l e R s m args below meth c H locs cells slots Q (F0 m (pc + 3) ls (.ref a :: rest))) : W p l e R s m args below meth c H locs cells slots Q (F0 m pc ls (.ref a :: rest)) := by
  obtain ⟨cC, hat⟩ := gh_cat hC hc
  exact va_castS hC.1.1 hC.1.2.1 hC.1.2.2.2.1 (hC.1.2.2.2.2 _ hlink) hat (gh_recv hC hg ha hc) hdg kk
theorem gh_instY (hC : gh_C V p s m args c cc nL own A) (hg : gh_W V A s g H locs) {C nm : String} {index a : Nat} {t : gh_T} {ci : Nat} {fs : List Value} (ha : g a = some (t, oo ci fs)) (hc : (CL[ci]?).map (fun q => q.1) = some C) (hlink : Cond.classLink own index nm ∈ lw_all) (hcast : Cond.castable C nm ∈ lw_tbl) (hdg : decode cc pc = .ok (.instanceof index, 3))
    (kk : W p l e R s m args below meth c H locs cells slots Q (F0 m (pc + 3) ls (.int 1 :: rest))) : W p l e R s m args below meth c H locs cells slots Q (F0 m pc ls (.ref a :: rest)) :=
  va_instY hC.1.1 hC.1.2.1 hC.1.2.2.2.1 (hC.1.2.2.2.2 _ hlink) (hC.2.2.1.1 _ (gh_nwm hcast rfl)) (gh_recv hC hg ha hc) hdg kk
theorem gh_instS (hC : gh_C V p s m args c cc nL own A) (hg : gh_W V A s g H locs) {C : String} {index a : Nat} {t : gh_T} {ci : Nat} {fs : List Value} (ha : g a = some (t, oo ci fs)) (hc : (CL[ci]?).map (fun q => q.1) = some C) (hlink : Cond.classLink own index C ∈ lw_all) (hdg : decode cc pc = .ok (.instanceof index, 3))
    (kk : W p l e R s m args below meth c H locs cells slots Q (F0 m (pc + 3) ls (.int 1 :: rest))) : W p l e R s m args below meth c H locs cells slots Q (F0 m pc ls (.ref a :: rest)) := by
  obtain ⟨cC, hat⟩ := gh_cat hC hc
  exact va_instS hC.1.1 hC.1.2.1 hC.1.2.2.2.1 (hC.1.2.2.2.2 _ hlink) hat (gh_recv hC hg ha hc) hdg kk
theorem gh_instNo (hC : gh_C V p s m args c cc nL own A) (hg : gh_W V A s g H locs) {C nm : String} {index a : Nat} {t : gh_T} {ci : Nat} {fs : List Value} (ha : g a = some (t, oo ci fs)) (hc : (CL[ci]?).map (fun q => q.1) = some C) (hlink : Cond.classLink own index nm ∈ lw_all) (hno : (C, nm) ∈ gh_ncs) (hdg : decode cc pc = .ok (.instanceof index, 3))
    (kk : W p l e R s m args below meth c H locs cells slots Q (F0 m (pc + 3) ls (.int 0 :: rest))) : W p l e R s m args below meth c H locs cells slots Q (F0 m pc ls (.ref a :: rest)) :=
  va_instNo hC.1.1 hC.1.2.1 hC.1.2.2.2.1 (hC.1.2.2.2.2 _ hlink) (hC.2.2.1.2.2.1 _ hno) (gh_recv hC hg ha hc) hdg kk
/-- an interface's call -/
theorem gh_runF (hC : gh_C V p s m args c cc nL own A) (hg : gh_W V A s g H locs) {x y : MethodName} {bytes : ByteArray} {maxL : Nat} {ret : Option FieldType} {rm : Room} {b : Nat} {As : List Value} {Qp : gh_Q} (hM : MG l y bytes maxL ret rm V (.ref b :: As) g Qp) (n : Nat) {C : String} {index count : Nat} (hT : GoodIn lw_all (va_wsF own index C x y (ws_ y bytes maxL ret)))
    {t : gh_T} {ci : Nat} {fs : List Value} (hb : g b = some (t, oo ci fs)) (hc : (CL[ci]?).map (fun q => q.1) = some C)
    (hx : x ∈ gh_ifs) (hpub : Cond.publicMethod y ∈ lw_tbl) (hunh : Cond.unhidden C x.name x.desc ∈ lw_tbl) (hcast : Cond.castable C x.cls ∈ lw_tbl)
    (hd : x.cls ≠ "java/lang/invoke/MethodHandle" ∧ x.cls ≠ "java/lang/invoke/VarHandle" ∧ (parseMethodDescriptor x.desc).map (fun d => d.parameters.length) = some n) (hR : rm.frames + 1 ≤ R.frames ∧ 8 + (maxL + 11) + rm.locals ≤ R.locals)
    (hn : As.length = n) (hls : ls.size = nL) (hst : st = As.reverse ++ .ref b :: rest) (hW : (rest.map fun v => v.category).sum ≤ 8) (hdg : decode cc pc = .ok (.invokeinterface index count, 5)) (hf : cells + rm.cells ≤ R.cells ∧ slots + rm.slots ≤ R.slots) :
    va_Run5 p l e R s m args below meth c H locs cells slots rm.cells rm.slots (F0 m pc ls st) rest (Qp (gh_B V g H.size) (gh_A g H.size) (Value.ref b :: As).toArray) (gh_A g H.size) := by
  obtain ⟨cC, hat⟩ := gh_cat hC hc
  exact va_runF hat hC.1 (hM H.size) (va_cwF n hC.1.2.2.2.2 hT rfl rfl rfl (va_Fw.of (A := #[]) (hC.2.2.1.2.1 _ hx).1 (hC.2.2.1.2.1 _ hx).2 (hC.2.2.1.1 _ (gh_nwm hpub rfl)) (hC.2.2.1.1 _ (gh_nwm hunh rfl)) (hC.2.2.1.1 _ (gh_nwm hcast rfl))) hd hR) ⟨(gh_preS hC hg (.ref b :: As)).1, gh_recv hC hg hb hc, (gh_preS hC hg (.ref b :: As)).2⟩ rfl hn hls hst (lv_room hW) hdg hf
/-- a call to the class above -/
theorem gh_runSU (hC : gh_C V p s m args c cc nL own A) (hg : gh_W V A s g H locs) {y : MethodName} {bytes : ByteArray} {maxL : Nat} {ret : Option FieldType} {rm : Room} {b : Nat} {As : List Value} {Qp : gh_Q} (hM : MG l y bytes maxL ret rm V (.ref b :: As) g Qp) (n : Nat) {C : String} {index : Nat} (hT : GoodIn lw_all (va_wsSU own index y (ws_ y bytes maxL ret)))
    {t : gh_T} {ci : Nat} {fs : List Value} (hb : g b = some (t, oo ci fs)) (hc : (CL[ci]?).map (fun q => q.1) = some C)
    (hd : y.name ≠ "<init>" ∧ (parseMethodDescriptor y.desc).map (fun d => d.parameters.length) = some n) (hR : rm.frames + 1 ≤ R.frames ∧ 8 + (maxL + 11) + rm.locals ≤ R.locals)
    (hn : As.length = n) (hls : ls.size = nL) (hst : st = As.reverse ++ .ref b :: rest) (hW : (rest.map fun v => v.category).sum ≤ 8) (hdg : decode cc pc = .ok (.invokespecial index, 3)) (hf : cells + rm.cells ≤ R.cells ∧ slots + rm.slots ≤ R.slots) :
    va_Run p l e R s m args below meth c H locs cells slots rm.cells rm.slots (F0 m pc ls st) rest (Qp (gh_B V g H.size) (gh_A g H.size) (Value.ref b :: As).toArray) (gh_A g H.size) := by
  obtain ⟨cC, hat⟩ := gh_cat hC hc
  exact va_runSU hat hC.1 (hM H.size) (va_cwSU n hC.1.2.2.2.2 hT rfl rfl rfl hd hR) ⟨(gh_preS hC hg (.ref b :: As)).1, gh_recv hC hg hb hc, (gh_preS hC hg (.ref b :: As)).2⟩ rfl hn hls hst (lv_room hW) hdg hf
variable {mc ms : Nat} {a : Array Value}
theorem gh_callFi {post : Int32 → gh_G → Prop} (hg : gh_W V A s g H locs) (hr : va_Run5 p l e R s m args below meth c H locs cells slots mc ms (F0 m pc ls st) rest (va_Qi post (gh_B V g H.size) (gh_A g H.size) a) (gh_A g H.size))
    (kk : ∀ (r : Int32) (g1 : gh_G) (H1 : Heap) (locs1 : List Loc), gh_W V A s g1 H1 locs1 → post r g1 → W p l e R s m args below meth c H1 locs1 (cells + mc) (slots + ms) Q (F0 m (pc + 5) ls (.int r :: rest))) : W p l e R s m args below meth c H locs cells slots Q (F0 m pc ls st) :=
  va_callFi hr hg.2.2.1 (fun q _ h => hg.sub q h) (fun q h => hg.sub q h) (fun r u t H1 locs1 ht _ hp hB _ _ hS => kk r u H1 locs1 (gh_back hg ht hB hS) hp)
theorem gh_callFv {post : gh_G → Prop} (hg : gh_W V A s g H locs) (hr : va_Run5 p l e R s m args below meth c H locs cells slots mc ms (F0 m pc ls st) rest (va_Qv post (gh_B V g H.size) (gh_A g H.size) a) (gh_A g H.size))
    (kk : ∀ (g1 : gh_G) (H1 : Heap) (locs1 : List Loc), gh_W V A s g1 H1 locs1 → post g1 → W p l e R s m args below meth c H1 locs1 (cells + mc) (slots + ms) Q (F0 m (pc + 5) ls rest)) : W p l e R s m args below meth c H locs cells slots Q (F0 m pc ls st) :=
  va_callFv hr hg.2.2.1 (fun q _ h => hg.sub q h) (fun q h => hg.sub q h) (fun u t H1 locs1 ht _ hp hB _ _ hS => kk u H1 locs1 (gh_back hg ht hB hS) hp)
theorem gh_callFq {post : Option Nat → gh_G → Prop} (hg : gh_W V A s g H locs) (hr : va_Run5 p l e R s m args below meth c H locs cells slots mc ms (F0 m pc ls st) rest (va_Qq post (gh_B V g H.size) (gh_A g H.size) a) (gh_A g H.size))
    (kk : ∀ (r : Option Nat) (g1 : gh_G) (H1 : Heap) (locs1 : List Loc), gh_W V A s g1 H1 locs1 → post r g1 → W p l e R s m args below meth c H1 locs1 (cells + mc) (slots + ms) Q (F0 m (pc + 5) ls (va_rf r :: rest))) : W p l e R s m args below meth c H locs cells slots Q (F0 m pc ls st) :=
  va_callFq hr hg.2.2.1 (fun q _ h => hg.sub q h) (fun q h => hg.sub q h) (fun r u t H1 locs1 ht _ hp hB _ _ hS => kk r u H1 locs1 (gh_back hg ht hB hS) hp)
end GhMore
