/-! A TEXT: its characters; nest fields -/
section GhNest
variable {V : gh_V} {p : Program} {l : Launch} {e : Env} {R : Room} {s : State} {m : MethodId} {args : Array Value} {below : List Frame} {meth : Method} {c : Code} {H : Heap} {locs : List Loc} {cells slots : Nat} {Q : State → Prop} {cc : ByteArray} {nL : Nat} {own : String} {A : Nat → Prop} {g : gh_G} {pc : Nat} {ls : Array Slot} {rest st : List Value}
/-- a private field of a nest mate -/
theorem gh_getN (hC : gh_C V p s m args c cc nL own A) (hg : gh_W V A s g H locs) {a : Nat} {t : gh_T} {ci index : Nat} {fs : List Value} {C host : String} {T : u_T} {N : Nat} (ha : g a = some (t, oo ci fs)) (hc : CL[ci]? = some (C, T, N)) (hin : ∀ w ∈ u_ws C T N, w ∈ lw_all) (k : Nat) (hk : k < N) (hlink : Cond.fieldLinkNest own index C (T k).2.1 (T k).2.2.1 host ∈ lw_tbl) (hCT : (T k).1 = C) {v : Value} (hv : fs[k]? = some v) (hdg : decode cc pc = .ok (.getfield index, 3))
    (kk : W p l e R s m args below meth c H locs cells slots Q (F0 m (pc + 3) ls (v :: rest))) : W p l e R s m args below meth c H locs cells slots Q (F0 m pc ls (.ref a :: rest)) :=
  va_getN hC.1.1 hC.1.2.1 hC.1.2.2.2.2 hin hC.1.2.2.2.1 hC.2.1 (hg.P1 ha) 0 rfl hc k hk (va_Nw.use rfl (hC.2.2.1.1 _ (gh_nwm hlink rfl))) (fun x h => by rw [hCT] at h; exact h) hv hdg kk
end GhNest
/-- the characters as ints; the next one -/
def cB (bc : Nat → Nat) : Nat → Int32 := fun i => nI (bc i)
def nxC (bc : Nat → Nat) (n sp : Nat) : Int32 := if sp < n then cB bc sp else 32
theorem nx_is {bc : Nat → Nat} {n sp : Nat} {w : Int32} (hw : w ≠ 32) : nxC bc n sp = w ↔ isC (cB bc) n sp w w := by
  unfold nxC
  by_cases h : sp < n
  · rw [if_pos h]
    constructor
    · intro e; exact ⟨h, by show okR (cB bc sp) w w; rw [e]; exact ⟨Int32.lt_irrefl, Int32.lt_irrefl⟩⟩
    · intro e; exact Int32.le_antisymm (Int32.not_lt.mp e.2.2) (Int32.not_lt.mp e.2.1)
  · rw [if_neg h]
    exact ⟨fun e => absurd e.symm hw, fun e => absurd e.1 h⟩
theorem nx_dg {bc : Nat → Nat} {n sp : Nat} {lo hi : Int32} (hw : 32 < lo) : ¬ nxC bc n sp < lo ∧ nxC bc n sp ≤ hi ↔ isC (cB bc) n sp lo hi := by
  unfold nxC
  by_cases h : sp < n
  · rw [if_pos h]
    exact ⟨fun e => ⟨h, e.1, Int32.not_lt.mpr e.2⟩, fun e => ⟨e.2.1, Int32.not_lt.mp e.2.2⟩⟩
  · rw [if_neg h]
    exact ⟨fun e => absurd hw e.1, fun e => absurd e.1 h⟩
theorem dg_is {bc : Nat → Nat} {n sp lo hi : Nat} (h : 48 ≤ lo ∧ lo ≤ 57 ∧ hi ≤ 57) (hc : isC (cB bc) n sp (nI lo) (nI hi)) : nxC bc n sp - 48 = nI (dg (cB bc) sp) := by
  obtain ⟨a1, a2, a3⟩ := okR_cl (a := lo) (b := hi) rfl rfl (by omega) (by omega) hc.2
  unfold nxC dg
  rw [if_pos hc.1, show cB bc sp - 48 = nI ((cB bc sp).toNatClampNeg - 48) from nx_sub (b := 48) a3 rfl (by omega)]
theorem sb_C.keep {V : gh_V} {o k : Nat} {g g1 : gh_G} {q n : Nat} {b : Nat → Nat} {arr cap : Nat} {f : Nat → Int32} {ml : Int32} (h : sb_C V o k g q n b arr cap f ml) (hf : ∀ a t x, g a = some (t, x) → t.1 = o → t.2.1 = k → g1 a = some (t, x)) : sb_C V o k g1 q n b arr cap f ml :=
  ⟨hf _ _ _ h.1 rfl rfl, hf _ _ _ h.2.1 rfl rfl, h.2.2⟩
theorem nm_10 {bc : Nat → Nat} {n sp d : Nat} (hc : isC (cB bc) n sp 48 57) : 10 * nI d + nxC bc n sp - 48 = nI (10 * d + dg (cB bc) sp) := by
  obtain ⟨a1, a2, a3⟩ := okR_cl (a := 48) (b := 57) rfl rfl (by omega) (by omega) hc.2
  have h1 : nxC bc n sp - 48 = nI (dg (cB bc) sp) := by
    unfold nxC dg
    rw [if_pos hc.1, show cB bc sp - 48 = nI ((cB bc sp).toNatClampNeg - 48) from nx_sub (b := 48) a3 rfl (by omega)]
  rw [Int32.sub_eq_add_neg, Int32.add_assoc, ← Int32.sub_eq_add_neg, h1]
  exact nx_add (nx_mul (a := 10) rfl rfl) rfl
/-! what follows the letter of a part -/
def zE (b : Nat → Int32) (N j : Nat) (hi : Int32) : Bool × Nat := if isC b N j 48 55 then (if isC b N (j + 1) 61 61 then (if isC b N (j + 1 + 1) 48 hi then (true, j + 1 + 1 + 1) else (false, j + 1 + 1)) else (false, j + 1)) else (false, j)
def cE (b : Nat → Int32) (N j : Nat) : Bool × Nat := if isC b N j 48 49 then (if isC b N (j + 1) 58 58 then nuP b N (j + 1 + 1) 48 23 else (false, j + 1)) else (false, j)
theorem zE_zP {b : Nat → Int32} {N sp : Nat} {hi : Int32} : zP b N sp hi = zE b N (sp + 1) hi := rfl
theorem cE_cP {b : Nat → Int32} {N sp : Nat} : cP b N sp = cE b N (sp + 1) := rfl
set_option maxRecDepth 100000
theorem fX18_24_11 : gh_fd RX18 24 11 1 .boolean false := gh_fd.own (T := TX18) tyX18 rfl in_X18 tyX18_ok nmX18 (by decide) q1474 rfl rfl (fun h => by cases h)
theorem fX18_28_11 : gh_fd RX18 28 11 0 .int false := gh_fd.own (T := TX18) tyX18 rfl in_X18 tyX18_ok nmX18 (by decide) q1472 rfl rfl (fun h => by cases h)
theorem fX18_3_11 : gh_fd RX18 3 11 4 (.object "AnnealingLehr") true := gh_fd.own (T := TX18) tyX18 rfl in_X18 tyX18_ok nmX18 (by decide) q1477 rfl rfl (fun h => rfl)
theorem hd_J14_charAt : yJ14_charAt.cls = RJ14 ∧ yJ14_charAt.cls ≠ "java/lang/invoke/MethodHandle" ∧ yJ14_charAt.cls ≠ "java/lang/invoke/VarHandle" ∧ (parseMethodDescriptor yJ14_charAt.desc).map (fun d => d.parameters.length) = some 1 := by decide +kernel
theorem hd_J14_length : yJ14_length.cls = RJ14 ∧ yJ14_length.cls ≠ "java/lang/invoke/MethodHandle" ∧ yJ14_length.cls ≠ "java/lang/invoke/VarHandle" ∧ (parseMethodDescriptor yJ14_length.desc).map (fun d => d.parameters.length) = some 0 := by decide +kernel
theorem hd_X18_next : yX18_next.cls = RX18 ∧ yX18_next.cls ≠ "java/lang/invoke/MethodHandle" ∧ yX18_next.cls ≠ "java/lang/invoke/VarHandle" ∧ (parseMethodDescriptor yX18_next.desc).map (fun d => d.parameters.length) = some 0 := by decide +kernel
set_option maxHeartbeats 1000000 in
set_option maxRecDepth 100000 in
theorem j_X18_next (l : Launch) (V : gh_V) (g0 : gh_G) (L q n : Nat) (bc : Nat → Nat) (arr cap : Nat) (f0 : Nat → Int32) (ml : Int32) (hS0 : sb_C V L 2 g0 q n bc arr cap f0 ml) (u1 u2 u3 : Value) (hL0 : g0 L = some ((L, 0, 0), oo 1 [u1, u2, u3, .ref q])) (o wk many sp : Nat) (wr : Int32) (hsp : sp ≤ 61) (ho0 : g0 o = some ((L, 3, 0), oo 11 [.int (nI sp), .int wr, .ref wk, .int (nI many), .ref L])) : MI l yX18_next cX18_next 1 (some .char) ({ frames := 4, cells := 0, slots := 0, locals := 88 } : Room) V [.ref o] g0 (fun r g1 => r = nxC bc n sp ∧ g1 = g0) := by
  refine MG.of RX18 (by decide) rfl (Nat.le_of_ble_eq_true rfl) (fun pp ee s mm args below meth c ls hC hg hr hlk hnm hl => ?_)
  have hx := hC.1.1
  have hb := hC.1.2.1
  have hml := hC.1.2.2.1
  have hown := hC.1.2.2.2.1
  have hts := hC.1.2.2.2.2
  have hl : lv_has ls 1 [(0, .ref o)] := hl
  obtain ⟨g, hg, hgg⟩ : ∃ g, gh_W V (gh_A g0 s.heap.size) s g s.heap [] ∧ g = g0 := ⟨g0, hg, rfl⟩
  have hS := hS0
  have hL := hL0
  have ho := ho0
  rw [← hgg] at hS hL ho
  have hn60 := hS0.2.2.2.2.1
  have hbc := fun i hi => (hS0.2.2.2.2.2.2 i hi).2
  have hqq := hS.1
  refine lv_aload_n hx hb dX18_next_0 rfl (lv_at hl 0 rfl) ?_
  refine gh_get (v := .int (nI sp)) hC hg ho fX18_28_11 rfl dX18_next_1 ?_
  refine lv_aload_n hx hb dX18_next_4 rfl (lv_at hl 0 rfl) ?_
  refine gh_get (v := .ref L) hC hg ho fX18_3_11 rfl dX18_next_5 ?_
  refine gh_getN (v := .ref q) (T := TX1) (N := 4) hC hg hL rfl in_X1 3 (by decide) q1274 rfl rfl dX18_next_8 ?_
  refine gh_calli hg (gh_runV (As := []) (rest := [.int (nI sp)]) hC hg (j_J14_length l V _ L 2 q n bc arr cap f0 ml hS) 0 (lw_V q1501 q559 q4382 q119 q560) hqq rfl hd_J14_length ⟨Nat.le_of_ble_eq_true rfl, Nat.le_of_ble_eq_true rfl⟩ rfl hl.1 rfl (Nat.le_of_ble_eq_true rfl) dX18_next_11 ⟨Nat.le_of_ble_eq_true rfl, Nat.le_of_ble_eq_true rfl⟩) (fun r_1 g H locs hg hp => ?_)
  obtain ⟨hp, hq⟩ := hp
  replace hp : (nI n) = r_1 := hp.symm
  subst hp
  rw [hq] at hg
  refine lv_icmp_ge (tgt := 34) hx hb dX18_next_14 (by decide) (fun c_2 => ?_) (fun c_2 => ?_)
  · skip
    have c_2 : n ≤ sp := (nx_le rfl rfl (by omega) (by omega)).mp c_2
    have hnx : nxC bc n sp = 32 := if_neg (by omega)
    refine lv_bipush (v := 32) hx hb dX18_next_34 (by decide) ?_
    exact gh_retz rfl hC hg hr hlk (⟨hnx.symm, hgg⟩) dX18_next_36 (Nat.le_of_ble_eq_true rfl) (Nat.le_of_ble_eq_true rfl)
  have c_2 : ¬ n ≤ sp := fun h9 => c_2 ((nx_le rfl rfl (by omega) (by omega)).mpr h9)
  have hlt : sp < n := by omega
  have hnx : nxC bc n sp = nI (bc sp) := if_pos hlt
  refine lv_aload_n hx hb dX18_next_17 rfl (lv_at hl 0 rfl) ?_
  refine gh_get (v := .ref L) hC hg ho fX18_3_11 rfl dX18_next_18 ?_
  refine gh_getN (v := .ref q) (T := TX1) (N := 4) hC hg hL rfl in_X1 3 (by decide) q1274 rfl rfl dX18_next_21 ?_
  refine lv_aload_n hx hb dX18_next_24 rfl (lv_at hl 0 rfl) ?_
  refine gh_get (v := .int (nI sp)) hC hg ho fX18_28_11 rfl dX18_next_25 ?_
  refine gh_calli hg (gh_runV (As := [.int (nI sp)]) (rest := []) hC hg (j_J14_charAt l V _ L 2 q n bc arr cap f0 ml hS sp (by omega)) 1 (lw_V q1502 q922 q4384 q119 q924) hqq rfl hd_J14_charAt ⟨Nat.le_of_ble_eq_true rfl, Nat.le_of_ble_eq_true rfl⟩ rfl hl.1 rfl (Nat.le_of_ble_eq_true rfl) dX18_next_28 ⟨Nat.le_of_ble_eq_true rfl, Nat.le_of_ble_eq_true rfl⟩) (fun r_3 g H locs hg hp => ?_)
  obtain ⟨hp, hq⟩ := hp
  replace hp : (nI (bc sp)) = r_3 := hp.symm
  subst hp
  rw [hq] at hg
  refine lv_goto (tgt := 36) hx hb dX18_next_31 (by decide) ?_
  exact gh_retz ((sb_fit _ (hbc sp hlt)).2.2.2.2.2.1) hC hg hr hlk (⟨hnx.symm, hgg⟩) dX18_next_36 (Nat.le_of_ble_eq_true rfl) (Nat.le_of_ble_eq_true rfl)
set_option maxHeartbeats 1000000 in
set_option maxRecDepth 100000 in
theorem j_X18_sign0 (l : Launch) (V : gh_V) (g0 : gh_G) (L q n : Nat) (bc : Nat → Nat) (arr cap : Nat) (f0 : Nat → Int32) (ml : Int32) (hS0 : sb_C V L 2 g0 q n bc arr cap f0 ml) (u1 u2 u3 : Value) (hL0 : g0 L = some ((L, 0, 0), oo 1 [u1, u2, u3, .ref q])) (o wk many sp : Nat) (wr : Int32) (hsp : sp ≤ 61) (ho0 : g0 o = some ((L, 3, 0), oo 11 [.int (nI sp), .int wr, .ref wk, .int (nI many), .ref L])) (hwr : wr = 0) (w9 : Nat) (hne : nI w9 ≠ 32) : MV l yX18_sign cX18_sign 2 ({ frames := 5, cells := 0, slots := 0, locals := 108 } : Room) V [.ref o, .int (nI w9)] g0 (fun g1 => (isC (cB bc) n sp (nI w9) (nI w9) ∧ g1 o = some ((L, 3, 0), oo 11 [.int (nI (sp + 1)), .int 0, .ref wk, .int (nI many), .ref L]) ∧ ∀ b, b ≠ o → g1 b = g0 b) ∨ (¬ isC (cB bc) n sp (nI w9) (nI w9) ∧ g1 o = some ((L, 3, 0), oo 11 [.int (nI sp), .int 1, .ref wk, .int (nI many), .ref L]) ∧ ∀ b, b ≠ o → g1 b = g0 b)) := by
  refine MG.of RX18 (by decide) rfl (Nat.le_of_ble_eq_true rfl) (fun pp ee s mm args below meth c ls hC hg hr hlk hnm hl => ?_)
  have hx := hC.1.1
  have hb := hC.1.2.1
  have hml := hC.1.2.2.1
  have hown := hC.1.2.2.2.1
  have hts := hC.1.2.2.2.2
  have hl : lv_has ls 2 [(0, .ref o), (1, .int (nI w9))] := hl
  obtain ⟨g, hg, hgg⟩ : ∃ g, gh_W V (gh_A g0 s.heap.size) s g s.heap [] ∧ g = g0 := ⟨g0, hg, rfl⟩
  have hS := hS0
  have hL := hL0
  have ho := ho0
  rw [← hgg] at hS hL ho
  have hn60 := hS0.2.2.2.2.1
  have hbc := fun i hi => (hS0.2.2.2.2.2.2 i hi).2
  rw [hwr] at ho
  have hqq := hS.1
  have hfr : ∀ b, b ≠ o → g b = g0 b := fun b _ => by rw [hgg]
  refine lv_aload_n hx hb dX18_sign_0 rfl (lv_at hl 0 rfl) ?_
  refine lv_dup hx hb dX18_sign_1 rfl ?_
  refine gh_get (v := .int 0) hC hg ho fX18_24_11 rfl dX18_sign_2 ?_
  refine lv_aload_n hx hb dX18_sign_5 rfl (lv_at hl 0 rfl) ?_
  refine gh_calli hg (gh_runV (As := []) (rest := [.int 0, .ref o]) hC hg (j_X18_next l V _ L q n bc arr cap f0 ml hS u1 u2 u3 hL o wk many sp 0 (by omega) ho) 0 (lw_V q1497 q1499 qs18 q178 q1500) ho rfl hd_X18_next ⟨Nat.le_of_ble_eq_true rfl, Nat.le_of_ble_eq_true rfl⟩ rfl hl.1 rfl (Nat.le_of_ble_eq_true rfl) dX18_sign_6 ⟨Nat.le_of_ble_eq_true rfl, Nat.le_of_ble_eq_true rfl⟩) (fun r_1 g H locs hg hp => ?_)
  obtain ⟨hp, hq⟩ := hp
  replace hp : (nxC bc n sp) = r_1 := hp.symm
  subst hp
  rw [hq] at hg
  refine lv_iload_n hx hb dX18_sign_9 rfl (lv_at hl 1 rfl) ?_
  refine lv_icmp_eq (tgt := 17) hx hb dX18_sign_10 (by decide) (fun c_2 => ?_) (fun c_2 => ?_)
  · skip
    have hyes := (nx_is hne).mp c_2
    refine lv_iconst (v := 0) hx hb dX18_sign_17 (by decide) ?_
    refine lv_ior hx hb dX18_sign_18 ?_
    refine W.eq (g2 := F0 mm 19 ls [.int 0, .ref o]) (by rw [(show (0 ||| 0 : Int32) = 0 by decide)] <;> rfl) ?_
    refine gh_put (v := .int 0) hC hg ho fX18_24_11 rfl rfl (Nat.le_of_ble_eq_true rfl) dX18_sign_19 (fun g H locs hg hw hn => ?_)
    have hL : g L = some ((L, 0, 0), oo 1 [u1, u2, u3, .ref q]) := (hn _ (gh_neK hL ho rfl)).trans hL
    have hqq : g q = some ((L, 2, 0), oo 18 [.ref arr, .int 0, .int ml, .int (nI n)]) := (hn _ (gh_neK hqq ho rfl)).trans hqq
    have hS : sb_C V L 2 g q n bc arr cap f0 ml := sb_C.keep hS (fun a t x h1 h2 h3 => (hn a (fun e9 => by rw [e9, ho] at h1; cases h1; exact absurd (show 3 = 2 from h3) (by decide))).trans h1)
    have hfr : ∀ b, b ≠ o → g b = g0 b := fun b h1 => (hn b h1).trans (hfr b h1)
    have ho : g o = some ((L, 3, 0), oo 11 [.int (nI sp), .int 0, .ref wk, .int (nI many), .ref L]) := hw
    refine lv_aload_n hx hb dX18_sign_22 rfl (lv_at hl 0 rfl) ?_
    refine lv_dup hx hb dX18_sign_23 rfl ?_
    refine gh_get (v := .int (nI sp)) hC hg ho fX18_28_11 rfl dX18_sign_24 ?_
    refine lv_aload_n hx hb dX18_sign_27 rfl (lv_at hl 0 rfl) ?_
    refine gh_get (v := .int 0) hC hg ho fX18_24_11 rfl dX18_sign_28 ?_
    refine lv_if_eq (tgt := 38) hx hb dX18_sign_31 (by decide) (fun _ => ?_) (fun c_3 => (absurd rfl c_3))
    refine lv_iconst (v := 1) hx hb dX18_sign_38 (by decide) ?_
    refine lv_iadd hx hb dX18_sign_39 ?_
    refine W.eq (g2 := F0 mm 40 ls [.int (nI (sp + 1)), .ref o]) (by rw [(nI_1 sp)] <;> rfl) ?_
    refine gh_put (v := .int (nI (sp + 1))) hC hg ho fX18_28_11 rfl rfl (Nat.le_of_ble_eq_true rfl) dX18_sign_40 (fun g H locs hg hw hn => ?_)
    have hL : g L = some ((L, 0, 0), oo 1 [u1, u2, u3, .ref q]) := (hn _ (gh_neK hL ho rfl)).trans hL
    have hqq : g q = some ((L, 2, 0), oo 18 [.ref arr, .int 0, .int ml, .int (nI n)]) := (hn _ (gh_neK hqq ho rfl)).trans hqq
    have hS : sb_C V L 2 g q n bc arr cap f0 ml := sb_C.keep hS (fun a t x h1 h2 h3 => (hn a (fun e9 => by rw [e9, ho] at h1; cases h1; exact absurd (show 3 = 2 from h3) (by decide))).trans h1)
    have hfr : ∀ b, b ≠ o → g b = g0 b := fun b h1 => (hn b h1).trans (hfr b h1)
    have ho : g o = some ((L, 3, 0), oo 11 [.int (nI (sp + 1)), .int 0, .ref wk, .int (nI many), .ref L]) := hw
    exact gh_retv hC hg hr hlk (Or.inl ⟨hyes, ho, hfr⟩) dX18_sign_43 (Nat.le_of_ble_eq_true rfl) (Nat.le_of_ble_eq_true rfl)
  have hno := fun h9 => c_2 ((nx_is hne).mpr h9)
  refine lv_iconst (v := 1) hx hb dX18_sign_13 (by decide) ?_
  refine lv_goto (tgt := 18) hx hb dX18_sign_14 (by decide) ?_
  refine lv_ior hx hb dX18_sign_18 ?_
  refine W.eq (g2 := F0 mm 19 ls [.int 1, .ref o]) (by rw [(show (0 ||| 1 : Int32) = 1 by decide)] <;> rfl) ?_
  refine gh_put (v := .int 1) hC hg ho fX18_24_11 rfl rfl (Nat.le_of_ble_eq_true rfl) dX18_sign_19 (fun g H locs hg hw hn => ?_)
  have hL : g L = some ((L, 0, 0), oo 1 [u1, u2, u3, .ref q]) := (hn _ (gh_neK hL ho rfl)).trans hL
  have hqq : g q = some ((L, 2, 0), oo 18 [.ref arr, .int 0, .int ml, .int (nI n)]) := (hn _ (gh_neK hqq ho rfl)).trans hqq
  have hS : sb_C V L 2 g q n bc arr cap f0 ml := sb_C.keep hS (fun a t x h1 h2 h3 => (hn a (fun e9 => by rw [e9, ho] at h1; cases h1; exact absurd (show 3 = 2 from h3) (by decide))).trans h1)
  have hfr : ∀ b, b ≠ o → g b = g0 b := fun b h1 => (hn b h1).trans (hfr b h1)
  have ho : g o = some ((L, 3, 0), oo 11 [.int (nI sp), .int 1, .ref wk, .int (nI many), .ref L]) := hw
  refine lv_aload_n hx hb dX18_sign_22 rfl (lv_at hl 0 rfl) ?_
  refine lv_dup hx hb dX18_sign_23 rfl ?_
  refine gh_get (v := .int (nI sp)) hC hg ho fX18_28_11 rfl dX18_sign_24 ?_
  refine lv_aload_n hx hb dX18_sign_27 rfl (lv_at hl 0 rfl) ?_
  refine gh_get (v := .int 1) hC hg ho fX18_24_11 rfl dX18_sign_28 ?_
  refine lv_if_eq (tgt := 38) hx hb dX18_sign_31 (by decide) (fun c_4 => (absurd c_4 (by decide))) (fun _ => ?_)
  refine lv_iconst (v := 0) hx hb dX18_sign_34 (by decide) ?_
  refine lv_goto (tgt := 39) hx hb dX18_sign_35 (by decide) ?_
  refine lv_iadd hx hb dX18_sign_39 ?_
  refine W.eq (g2 := F0 mm 40 ls [.int (nI sp), .ref o]) (by rw [(show nI sp + 0 = nI sp from Int32.add_zero _)] <;> rfl) ?_
  refine gh_put (v := .int (nI sp)) hC hg ho fX18_28_11 rfl rfl (Nat.le_of_ble_eq_true rfl) dX18_sign_40 (fun g H locs hg hw hn => ?_)
  have hL : g L = some ((L, 0, 0), oo 1 [u1, u2, u3, .ref q]) := (hn _ (gh_neK hL ho rfl)).trans hL
  have hqq : g q = some ((L, 2, 0), oo 18 [.ref arr, .int 0, .int ml, .int (nI n)]) := (hn _ (gh_neK hqq ho rfl)).trans hqq
  have hS : sb_C V L 2 g q n bc arr cap f0 ml := sb_C.keep hS (fun a t x h1 h2 h3 => (hn a (fun e9 => by rw [e9, ho] at h1; cases h1; exact absurd (show 3 = 2 from h3) (by decide))).trans h1)
  have hfr : ∀ b, b ≠ o → g b = g0 b := fun b h1 => (hn b h1).trans (hfr b h1)
  have ho : g o = some ((L, 3, 0), oo 11 [.int (nI sp), .int 1, .ref wk, .int (nI many), .ref L]) := hw
  exact gh_retv hC hg hr hlk (Or.inr ⟨hno, ho, hfr⟩) dX18_sign_43 (Nat.le_of_ble_eq_true rfl) (Nat.le_of_ble_eq_true rfl)
set_option maxHeartbeats 1000000 in
set_option maxRecDepth 100000 in
theorem j_X18_signW (l : Launch) (V : gh_V) (g0 : gh_G) (L q n : Nat) (bc : Nat → Nat) (arr cap : Nat) (f0 : Nat → Int32) (ml : Int32) (hS0 : sb_C V L 2 g0 q n bc arr cap f0 ml) (u1 u2 u3 : Value) (hL0 : g0 L = some ((L, 0, 0), oo 1 [u1, u2, u3, .ref q])) (o wk many sp : Nat) (wr : Int32) (hsp : sp ≤ 61) (ho0 : g0 o = some ((L, 3, 0), oo 11 [.int (nI sp), .int wr, .ref wk, .int (nI many), .ref L])) (hwr : wr = 1) (w9 : Nat) : MV l yX18_sign cX18_sign 2 ({ frames := 5, cells := 0, slots := 0, locals := 108 } : Room) V [.ref o, .int (nI w9)] g0 (fun g1 => g1 o = some ((L, 3, 0), oo 11 [.int (nI sp), .int 1, .ref wk, .int (nI many), .ref L]) ∧ ∀ b, b ≠ o → g1 b = g0 b) := by
  refine MG.of RX18 (by decide) rfl (Nat.le_of_ble_eq_true rfl) (fun pp ee s mm args below meth c ls hC hg hr hlk hnm hl => ?_)
  have hx := hC.1.1
  have hb := hC.1.2.1
  have hml := hC.1.2.2.1
  have hown := hC.1.2.2.2.1
  have hts := hC.1.2.2.2.2
  have hl : lv_has ls 2 [(0, .ref o), (1, .int (nI w9))] := hl
  obtain ⟨g, hg, hgg⟩ : ∃ g, gh_W V (gh_A g0 s.heap.size) s g s.heap [] ∧ g = g0 := ⟨g0, hg, rfl⟩
  have hS := hS0
  have hL := hL0
  have ho := ho0
  rw [← hgg] at hS hL ho
  have hn60 := hS0.2.2.2.2.1
  have hbc := fun i hi => (hS0.2.2.2.2.2.2 i hi).2
  rw [hwr] at ho
  have hqq := hS.1
  have hfr : ∀ b, b ≠ o → g b = g0 b := fun b _ => by rw [hgg]
  refine lv_aload_n hx hb dX18_sign_0 rfl (lv_at hl 0 rfl) ?_
  refine lv_dup hx hb dX18_sign_1 rfl ?_
  refine gh_get (v := .int 1) hC hg ho fX18_24_11 rfl dX18_sign_2 ?_
  refine lv_aload_n hx hb dX18_sign_5 rfl (lv_at hl 0 rfl) ?_
  refine gh_calli hg (gh_runV (As := []) (rest := [.int 1, .ref o]) hC hg (j_X18_next l V _ L q n bc arr cap f0 ml hS u1 u2 u3 hL o wk many sp 1 (by omega) ho) 0 (lw_V q1497 q1499 qs18 q178 q1500) ho rfl hd_X18_next ⟨Nat.le_of_ble_eq_true rfl, Nat.le_of_ble_eq_true rfl⟩ rfl hl.1 rfl (Nat.le_of_ble_eq_true rfl) dX18_sign_6 ⟨Nat.le_of_ble_eq_true rfl, Nat.le_of_ble_eq_true rfl⟩) (fun r_1 g H locs hg hp => ?_)
  obtain ⟨hp, hq⟩ := hp
  replace hp : (nxC bc n sp) = r_1 := hp.symm
  subst hp
  rw [hq] at hg
  refine lv_iload_n hx hb dX18_sign_9 rfl (lv_at hl 1 rfl) ?_
  refine lv_icmp_eq (tgt := 17) hx hb dX18_sign_10 (by decide) (fun c_2 => ?_) (fun c_2 => ?_)
  · skip
    refine lv_iconst (v := 0) hx hb dX18_sign_17 (by decide) ?_
    refine lv_ior hx hb dX18_sign_18 ?_
    refine W.eq (g2 := F0 mm 19 ls [.int 1, .ref o]) (by rw [(show (1 ||| 0 : Int32) = 1 by decide)] <;> rfl) ?_
    refine gh_put (v := .int 1) hC hg ho fX18_24_11 rfl rfl (Nat.le_of_ble_eq_true rfl) dX18_sign_19 (fun g H locs hg hw hn => ?_)
    have hL : g L = some ((L, 0, 0), oo 1 [u1, u2, u3, .ref q]) := (hn _ (gh_neK hL ho rfl)).trans hL
    have hqq : g q = some ((L, 2, 0), oo 18 [.ref arr, .int 0, .int ml, .int (nI n)]) := (hn _ (gh_neK hqq ho rfl)).trans hqq
    have hS : sb_C V L 2 g q n bc arr cap f0 ml := sb_C.keep hS (fun a t x h1 h2 h3 => (hn a (fun e9 => by rw [e9, ho] at h1; cases h1; exact absurd (show 3 = 2 from h3) (by decide))).trans h1)
    have hfr : ∀ b, b ≠ o → g b = g0 b := fun b h1 => (hn b h1).trans (hfr b h1)
    have ho : g o = some ((L, 3, 0), oo 11 [.int (nI sp), .int 1, .ref wk, .int (nI many), .ref L]) := hw
    refine lv_aload_n hx hb dX18_sign_22 rfl (lv_at hl 0 rfl) ?_
    refine lv_dup hx hb dX18_sign_23 rfl ?_
    refine gh_get (v := .int (nI sp)) hC hg ho fX18_28_11 rfl dX18_sign_24 ?_
    refine lv_aload_n hx hb dX18_sign_27 rfl (lv_at hl 0 rfl) ?_
    refine gh_get (v := .int 1) hC hg ho fX18_24_11 rfl dX18_sign_28 ?_
    refine lv_if_eq (tgt := 38) hx hb dX18_sign_31 (by decide) (fun c_3 => (absurd c_3 (by decide))) (fun _ => ?_)
    refine lv_iconst (v := 0) hx hb dX18_sign_34 (by decide) ?_
    refine lv_goto (tgt := 39) hx hb dX18_sign_35 (by decide) ?_
    refine lv_iadd hx hb dX18_sign_39 ?_
    refine W.eq (g2 := F0 mm 40 ls [.int (nI sp), .ref o]) (by rw [(show nI sp + 0 = nI sp from Int32.add_zero _)] <;> rfl) ?_
    refine gh_put (v := .int (nI sp)) hC hg ho fX18_28_11 rfl rfl (Nat.le_of_ble_eq_true rfl) dX18_sign_40 (fun g H locs hg hw hn => ?_)
    have hL : g L = some ((L, 0, 0), oo 1 [u1, u2, u3, .ref q]) := (hn _ (gh_neK hL ho rfl)).trans hL
    have hqq : g q = some ((L, 2, 0), oo 18 [.ref arr, .int 0, .int ml, .int (nI n)]) := (hn _ (gh_neK hqq ho rfl)).trans hqq
    have hS : sb_C V L 2 g q n bc arr cap f0 ml := sb_C.keep hS (fun a t x h1 h2 h3 => (hn a (fun e9 => by rw [e9, ho] at h1; cases h1; exact absurd (show 3 = 2 from h3) (by decide))).trans h1)
    have hfr : ∀ b, b ≠ o → g b = g0 b := fun b h1 => (hn b h1).trans (hfr b h1)
    have ho : g o = some ((L, 3, 0), oo 11 [.int (nI sp), .int 1, .ref wk, .int (nI many), .ref L]) := hw
    exact gh_retv hC hg hr hlk (⟨ho, hfr⟩) dX18_sign_43 (Nat.le_of_ble_eq_true rfl) (Nat.le_of_ble_eq_true rfl)
  refine lv_iconst (v := 1) hx hb dX18_sign_13 (by decide) ?_
  refine lv_goto (tgt := 18) hx hb dX18_sign_14 (by decide) ?_
  refine lv_ior hx hb dX18_sign_18 ?_
  refine W.eq (g2 := F0 mm 19 ls [.int 1, .ref o]) (by rw [(show (1 ||| 1 : Int32) = 1 by decide)] <;> rfl) ?_
  refine gh_put (v := .int 1) hC hg ho fX18_24_11 rfl rfl (Nat.le_of_ble_eq_true rfl) dX18_sign_19 (fun g H locs hg hw hn => ?_)
  have hL : g L = some ((L, 0, 0), oo 1 [u1, u2, u3, .ref q]) := (hn _ (gh_neK hL ho rfl)).trans hL
  have hqq : g q = some ((L, 2, 0), oo 18 [.ref arr, .int 0, .int ml, .int (nI n)]) := (hn _ (gh_neK hqq ho rfl)).trans hqq
  have hS : sb_C V L 2 g q n bc arr cap f0 ml := sb_C.keep hS (fun a t x h1 h2 h3 => (hn a (fun e9 => by rw [e9, ho] at h1; cases h1; exact absurd (show 3 = 2 from h3) (by decide))).trans h1)
  have hfr : ∀ b, b ≠ o → g b = g0 b := fun b h1 => (hn b h1).trans (hfr b h1)
  have ho : g o = some ((L, 3, 0), oo 11 [.int (nI sp), .int 1, .ref wk, .int (nI many), .ref L]) := hw
  refine lv_aload_n hx hb dX18_sign_22 rfl (lv_at hl 0 rfl) ?_
  refine lv_dup hx hb dX18_sign_23 rfl ?_
  refine gh_get (v := .int (nI sp)) hC hg ho fX18_28_11 rfl dX18_sign_24 ?_
  refine lv_aload_n hx hb dX18_sign_27 rfl (lv_at hl 0 rfl) ?_
  refine gh_get (v := .int 1) hC hg ho fX18_24_11 rfl dX18_sign_28 ?_
  refine lv_if_eq (tgt := 38) hx hb dX18_sign_31 (by decide) (fun c_4 => (absurd c_4 (by decide))) (fun _ => ?_)
  refine lv_iconst (v := 0) hx hb dX18_sign_34 (by decide) ?_
  refine lv_goto (tgt := 39) hx hb dX18_sign_35 (by decide) ?_
  refine lv_iadd hx hb dX18_sign_39 ?_
  refine W.eq (g2 := F0 mm 40 ls [.int (nI sp), .ref o]) (by rw [(show nI sp + 0 = nI sp from Int32.add_zero _)] <;> rfl) ?_
  refine gh_put (v := .int (nI sp)) hC hg ho fX18_28_11 rfl rfl (Nat.le_of_ble_eq_true rfl) dX18_sign_40 (fun g H locs hg hw hn => ?_)
  have hL : g L = some ((L, 0, 0), oo 1 [u1, u2, u3, .ref q]) := (hn _ (gh_neK hL ho rfl)).trans hL
  have hqq : g q = some ((L, 2, 0), oo 18 [.ref arr, .int 0, .int ml, .int (nI n)]) := (hn _ (gh_neK hqq ho rfl)).trans hqq
  have hS : sb_C V L 2 g q n bc arr cap f0 ml := sb_C.keep hS (fun a t x h1 h2 h3 => (hn a (fun e9 => by rw [e9, ho] at h1; cases h1; exact absurd (show 3 = 2 from h3) (by decide))).trans h1)
  have hfr : ∀ b, b ≠ o → g b = g0 b := fun b h1 => (hn b h1).trans (hfr b h1)
  have ho : g o = some ((L, 3, 0), oo 11 [.int (nI sp), .int 1, .ref wk, .int (nI many), .ref L]) := hw
  exact gh_retv hC hg hr hlk (⟨ho, hfr⟩) dX18_sign_43 (Nat.le_of_ble_eq_true rfl) (Nat.le_of_ble_eq_true rfl)
set_option maxHeartbeats 1000000 in
set_option maxRecDepth 100000 in
theorem j_X18_digit0 (l : Launch) (V : gh_V) (g0 : gh_G) (L q n : Nat) (bc : Nat → Nat) (arr cap : Nat) (f0 : Nat → Int32) (ml : Int32) (hS0 : sb_C V L 2 g0 q n bc arr cap f0 ml) (u1 u2 u3 : Value) (hL0 : g0 L = some ((L, 0, 0), oo 1 [u1, u2, u3, .ref q])) (o wk many sp : Nat) (wr : Int32) (hsp : sp ≤ 61) (ho0 : g0 o = some ((L, 3, 0), oo 11 [.int (nI sp), .int wr, .ref wk, .int (nI many), .ref L])) (hwr : wr = 0) (lo hi : Nat) (hlo : 32 < nI lo) (hl48 : 48 ≤ lo ∧ lo ≤ 57 ∧ hi ≤ 57) : MI l yX18_digit cX18_digit 4 (some .int) ({ frames := 5, cells := 0, slots := 0, locals := 108 } : Room) V [.ref o, .int (nI lo), .int (nI hi)] g0 (fun r g1 => (isC (cB bc) n sp (nI lo) (nI hi) ∧ r = nI (dg (cB bc) sp) ∧ g1 o = some ((L, 3, 0), oo 11 [.int (nI (sp + 1)), .int 0, .ref wk, .int (nI many), .ref L]) ∧ ∀ b, b ≠ o → g1 b = g0 b) ∨ (¬ isC (cB bc) n sp (nI lo) (nI hi) ∧ g1 o = some ((L, 3, 0), oo 11 [.int (nI sp), .int 1, .ref wk, .int (nI many), .ref L]) ∧ ∀ b, b ≠ o → g1 b = g0 b)) := by
  refine MG.of RX18 (by decide) rfl (Nat.le_of_ble_eq_true rfl) (fun pp ee s mm args below meth c ls hC hg hr hlk hnm hl => ?_)
  have hx := hC.1.1
  have hb := hC.1.2.1
  have hml := hC.1.2.2.1
  have hown := hC.1.2.2.2.1
  have hts := hC.1.2.2.2.2
  have hl : lv_has ls 4 [(0, .ref o), (1, .int (nI lo)), (2, .int (nI hi))] := hl
  obtain ⟨g, hg, hgg⟩ : ∃ g, gh_W V (gh_A g0 s.heap.size) s g s.heap [] ∧ g = g0 := ⟨g0, hg, rfl⟩
  have hS := hS0
  have hL := hL0
  have ho := ho0
  rw [← hgg] at hS hL ho
  have hn60 := hS0.2.2.2.2.1
  have hbc := fun i hi => (hS0.2.2.2.2.2.2 i hi).2
  rw [hwr] at ho
  have hqq := hS.1
  have hfr : ∀ b, b ≠ o → g b = g0 b := fun b _ => by rw [hgg]
  refine lv_aload_n hx hb dX18_digit_0 rfl (lv_at hl 0 rfl) ?_
  refine gh_calli hg (gh_runV (As := []) (rest := []) hC hg (j_X18_next l V _ L q n bc arr cap f0 ml hS u1 u2 u3 hL o wk many sp 0 (by omega) ho) 0 (lw_V q1497 q1499 qs18 q178 q1500) ho rfl hd_X18_next ⟨Nat.le_of_ble_eq_true rfl, Nat.le_of_ble_eq_true rfl⟩ rfl hl.1 rfl (Nat.le_of_ble_eq_true rfl) dX18_digit_1 ⟨Nat.le_of_ble_eq_true rfl, Nat.le_of_ble_eq_true rfl⟩) (fun r_1 g H locs hg hp => ?_)
  obtain ⟨hp, hq⟩ := hp
  replace hp : (nxC bc n sp) = r_1 := hp.symm
  subst hp
  rw [hq] at hg
  refine lv_istore_n (lv' := [(3, .int (nxC bc n sp)), (0, .ref o), (1, .int (nI lo)), (2, .int (nI hi))]) hx hb dX18_digit_4 rfl hl (by decide) rfl (fun ls hl => ?_)
  refine lv_aload_n hx hb dX18_digit_5 rfl (lv_at hl 1 rfl) ?_
  refine lv_dup hx hb dX18_digit_6 rfl ?_
  refine gh_get (v := .int 0) hC hg ho fX18_24_11 rfl dX18_digit_7 ?_
  refine lv_iload_n hx hb dX18_digit_10 rfl (lv_at hl 0 rfl) ?_
  refine lv_iload_n hx hb dX18_digit_11 rfl (lv_at hl 2 rfl) ?_
  refine lv_icmp_lt (tgt := 20) hx hb dX18_digit_12 (by decide) (fun c_2 => ?_) (fun c_2 => ?_)
  · skip
    have hno : ¬ isC (cB bc) n sp (nI lo) (nI hi) := fun h9 => ((nx_dg hlo).mpr h9).1 c_2
    refine lv_iconst (v := 1) hx hb dX18_digit_20 (by decide) ?_
    refine lv_goto (tgt := 25) hx hb dX18_digit_21 (by decide) ?_
    refine lv_ior hx hb dX18_digit_25 ?_
    refine W.eq (g2 := F0 mm 26 ls [.int 1, .ref o]) (by rw [(show (0 ||| 1 : Int32) = 1 by decide)] <;> rfl) ?_
    refine gh_put (v := .int 1) hC hg ho fX18_24_11 rfl rfl (Nat.le_of_ble_eq_true rfl) dX18_digit_26 (fun g H locs hg hw hn => ?_)
    have hL : g L = some ((L, 0, 0), oo 1 [u1, u2, u3, .ref q]) := (hn _ (gh_neK hL ho rfl)).trans hL
    have hqq : g q = some ((L, 2, 0), oo 18 [.ref arr, .int 0, .int ml, .int (nI n)]) := (hn _ (gh_neK hqq ho rfl)).trans hqq
    have hS : sb_C V L 2 g q n bc arr cap f0 ml := sb_C.keep hS (fun a t x h1 h2 h3 => (hn a (fun e9 => by rw [e9, ho] at h1; cases h1; exact absurd (show 3 = 2 from h3) (by decide))).trans h1)
    have hfr : ∀ b, b ≠ o → g b = g0 b := fun b h1 => (hn b h1).trans (hfr b h1)
    have ho : g o = some ((L, 3, 0), oo 11 [.int (nI sp), .int 1, .ref wk, .int (nI many), .ref L]) := hw
    refine lv_aload_n hx hb dX18_digit_29 rfl (lv_at hl 1 rfl) ?_
    refine lv_dup hx hb dX18_digit_30 rfl ?_
    refine gh_get (v := .int (nI sp)) hC hg ho fX18_28_11 rfl dX18_digit_31 ?_
    refine lv_aload_n hx hb dX18_digit_34 rfl (lv_at hl 1 rfl) ?_
    refine gh_get (v := .int 1) hC hg ho fX18_24_11 rfl dX18_digit_35 ?_
    refine lv_if_eq (tgt := 45) hx hb dX18_digit_38 (by decide) (fun c_3 => (absurd c_3 (by decide))) (fun _ => ?_)
    refine lv_iconst (v := 0) hx hb dX18_digit_41 (by decide) ?_
    refine lv_goto (tgt := 46) hx hb dX18_digit_42 (by decide) ?_
    refine lv_iadd hx hb dX18_digit_46 ?_
    refine W.eq (g2 := F0 mm 47 ls [.int (nI sp), .ref o]) (by rw [(show nI sp + 0 = nI sp from Int32.add_zero _)] <;> rfl) ?_
    refine gh_put (v := .int (nI sp)) hC hg ho fX18_28_11 rfl rfl (Nat.le_of_ble_eq_true rfl) dX18_digit_47 (fun g H locs hg hw hn => ?_)
    have hL : g L = some ((L, 0, 0), oo 1 [u1, u2, u3, .ref q]) := (hn _ (gh_neK hL ho rfl)).trans hL
    have hqq : g q = some ((L, 2, 0), oo 18 [.ref arr, .int 0, .int ml, .int (nI n)]) := (hn _ (gh_neK hqq ho rfl)).trans hqq
    have hS : sb_C V L 2 g q n bc arr cap f0 ml := sb_C.keep hS (fun a t x h1 h2 h3 => (hn a (fun e9 => by rw [e9, ho] at h1; cases h1; exact absurd (show 3 = 2 from h3) (by decide))).trans h1)
    have hfr : ∀ b, b ≠ o → g b = g0 b := fun b h1 => (hn b h1).trans (hfr b h1)
    have ho : g o = some ((L, 3, 0), oo 11 [.int (nI sp), .int 1, .ref wk, .int (nI many), .ref L]) := hw
    refine lv_iload_n hx hb dX18_digit_50 rfl (lv_at hl 0 rfl) ?_
    refine lv_bipush (v := 48) hx hb dX18_digit_51 (by decide) ?_
    refine lv_isub hx hb dX18_digit_53 ?_
    exact gh_reti hC hg hr hlk (Or.inr ⟨hno, ho, hfr⟩) dX18_digit_54 (Nat.le_of_ble_eq_true rfl) (Nat.le_of_ble_eq_true rfl)
  refine lv_iload_n hx hb dX18_digit_15 rfl (lv_at hl 0 rfl) ?_
  refine lv_iload_n hx hb dX18_digit_16 rfl (lv_at hl 3 rfl) ?_
  refine lv_icmp_le (tgt := 24) hx hb dX18_digit_17 (by decide) (fun c_4 => ?_) (fun c_4 => ?_)
  · skip
    have hyes := (nx_dg hlo).mp ⟨c_2, c_4⟩
    refine lv_iconst (v := 0) hx hb dX18_digit_24 (by decide) ?_
    refine lv_ior hx hb dX18_digit_25 ?_
    refine W.eq (g2 := F0 mm 26 ls [.int 0, .ref o]) (by rw [(show (0 ||| 0 : Int32) = 0 by decide)] <;> rfl) ?_
    refine gh_put (v := .int 0) hC hg ho fX18_24_11 rfl rfl (Nat.le_of_ble_eq_true rfl) dX18_digit_26 (fun g H locs hg hw hn => ?_)
    have hL : g L = some ((L, 0, 0), oo 1 [u1, u2, u3, .ref q]) := (hn _ (gh_neK hL ho rfl)).trans hL
    have hqq : g q = some ((L, 2, 0), oo 18 [.ref arr, .int 0, .int ml, .int (nI n)]) := (hn _ (gh_neK hqq ho rfl)).trans hqq
    have hS : sb_C V L 2 g q n bc arr cap f0 ml := sb_C.keep hS (fun a t x h1 h2 h3 => (hn a (fun e9 => by rw [e9, ho] at h1; cases h1; exact absurd (show 3 = 2 from h3) (by decide))).trans h1)
    have hfr : ∀ b, b ≠ o → g b = g0 b := fun b h1 => (hn b h1).trans (hfr b h1)
    have ho : g o = some ((L, 3, 0), oo 11 [.int (nI sp), .int 0, .ref wk, .int (nI many), .ref L]) := hw
    refine lv_aload_n hx hb dX18_digit_29 rfl (lv_at hl 1 rfl) ?_
    refine lv_dup hx hb dX18_digit_30 rfl ?_
    refine gh_get (v := .int (nI sp)) hC hg ho fX18_28_11 rfl dX18_digit_31 ?_
    refine lv_aload_n hx hb dX18_digit_34 rfl (lv_at hl 1 rfl) ?_
    refine gh_get (v := .int 0) hC hg ho fX18_24_11 rfl dX18_digit_35 ?_
    refine lv_if_eq (tgt := 45) hx hb dX18_digit_38 (by decide) (fun _ => ?_) (fun c_5 => (absurd rfl c_5))
    refine lv_iconst (v := 1) hx hb dX18_digit_45 (by decide) ?_
    refine lv_iadd hx hb dX18_digit_46 ?_
    refine W.eq (g2 := F0 mm 47 ls [.int (nI (sp + 1)), .ref o]) (by rw [(nI_1 sp)] <;> rfl) ?_
    refine gh_put (v := .int (nI (sp + 1))) hC hg ho fX18_28_11 rfl rfl (Nat.le_of_ble_eq_true rfl) dX18_digit_47 (fun g H locs hg hw hn => ?_)
    have hL : g L = some ((L, 0, 0), oo 1 [u1, u2, u3, .ref q]) := (hn _ (gh_neK hL ho rfl)).trans hL
    have hqq : g q = some ((L, 2, 0), oo 18 [.ref arr, .int 0, .int ml, .int (nI n)]) := (hn _ (gh_neK hqq ho rfl)).trans hqq
    have hS : sb_C V L 2 g q n bc arr cap f0 ml := sb_C.keep hS (fun a t x h1 h2 h3 => (hn a (fun e9 => by rw [e9, ho] at h1; cases h1; exact absurd (show 3 = 2 from h3) (by decide))).trans h1)
    have hfr : ∀ b, b ≠ o → g b = g0 b := fun b h1 => (hn b h1).trans (hfr b h1)
    have ho : g o = some ((L, 3, 0), oo 11 [.int (nI (sp + 1)), .int 0, .ref wk, .int (nI many), .ref L]) := hw
    refine lv_iload_n hx hb dX18_digit_50 rfl (lv_at hl 0 rfl) ?_
    refine lv_bipush (v := 48) hx hb dX18_digit_51 (by decide) ?_
    refine lv_isub hx hb dX18_digit_53 ?_
    exact gh_reti hC hg hr hlk (Or.inl ⟨hyes, dg_is hl48 hyes, ho, hfr⟩) dX18_digit_54 (Nat.le_of_ble_eq_true rfl) (Nat.le_of_ble_eq_true rfl)
  have hno : ¬ isC (cB bc) n sp (nI lo) (nI hi) := fun h9 => c_4 ((nx_dg hlo).mpr h9).2
  refine lv_iconst (v := 1) hx hb dX18_digit_20 (by decide) ?_
  refine lv_goto (tgt := 25) hx hb dX18_digit_21 (by decide) ?_
  refine lv_ior hx hb dX18_digit_25 ?_
  refine W.eq (g2 := F0 mm 26 ls [.int 1, .ref o]) (by rw [(show (0 ||| 1 : Int32) = 1 by decide)] <;> rfl) ?_
  refine gh_put (v := .int 1) hC hg ho fX18_24_11 rfl rfl (Nat.le_of_ble_eq_true rfl) dX18_digit_26 (fun g H locs hg hw hn => ?_)
  have hL : g L = some ((L, 0, 0), oo 1 [u1, u2, u3, .ref q]) := (hn _ (gh_neK hL ho rfl)).trans hL
  have hqq : g q = some ((L, 2, 0), oo 18 [.ref arr, .int 0, .int ml, .int (nI n)]) := (hn _ (gh_neK hqq ho rfl)).trans hqq
  have hS : sb_C V L 2 g q n bc arr cap f0 ml := sb_C.keep hS (fun a t x h1 h2 h3 => (hn a (fun e9 => by rw [e9, ho] at h1; cases h1; exact absurd (show 3 = 2 from h3) (by decide))).trans h1)
  have hfr : ∀ b, b ≠ o → g b = g0 b := fun b h1 => (hn b h1).trans (hfr b h1)
  have ho : g o = some ((L, 3, 0), oo 11 [.int (nI sp), .int 1, .ref wk, .int (nI many), .ref L]) := hw
  refine lv_aload_n hx hb dX18_digit_29 rfl (lv_at hl 1 rfl) ?_
  refine lv_dup hx hb dX18_digit_30 rfl ?_
  refine gh_get (v := .int (nI sp)) hC hg ho fX18_28_11 rfl dX18_digit_31 ?_
  refine lv_aload_n hx hb dX18_digit_34 rfl (lv_at hl 1 rfl) ?_
  refine gh_get (v := .int 1) hC hg ho fX18_24_11 rfl dX18_digit_35 ?_
  refine lv_if_eq (tgt := 45) hx hb dX18_digit_38 (by decide) (fun c_6 => (absurd c_6 (by decide))) (fun _ => ?_)
  refine lv_iconst (v := 0) hx hb dX18_digit_41 (by decide) ?_
  refine lv_goto (tgt := 46) hx hb dX18_digit_42 (by decide) ?_
  refine lv_iadd hx hb dX18_digit_46 ?_
  refine W.eq (g2 := F0 mm 47 ls [.int (nI sp), .ref o]) (by rw [(show nI sp + 0 = nI sp from Int32.add_zero _)] <;> rfl) ?_
  refine gh_put (v := .int (nI sp)) hC hg ho fX18_28_11 rfl rfl (Nat.le_of_ble_eq_true rfl) dX18_digit_47 (fun g H locs hg hw hn => ?_)
  have hL : g L = some ((L, 0, 0), oo 1 [u1, u2, u3, .ref q]) := (hn _ (gh_neK hL ho rfl)).trans hL
  have hqq : g q = some ((L, 2, 0), oo 18 [.ref arr, .int 0, .int ml, .int (nI n)]) := (hn _ (gh_neK hqq ho rfl)).trans hqq
  have hS : sb_C V L 2 g q n bc arr cap f0 ml := sb_C.keep hS (fun a t x h1 h2 h3 => (hn a (fun e9 => by rw [e9, ho] at h1; cases h1; exact absurd (show 3 = 2 from h3) (by decide))).trans h1)
  have hfr : ∀ b, b ≠ o → g b = g0 b := fun b h1 => (hn b h1).trans (hfr b h1)
  have ho : g o = some ((L, 3, 0), oo 11 [.int (nI sp), .int 1, .ref wk, .int (nI many), .ref L]) := hw
  refine lv_iload_n hx hb dX18_digit_50 rfl (lv_at hl 0 rfl) ?_
  refine lv_bipush (v := 48) hx hb dX18_digit_51 (by decide) ?_
  refine lv_isub hx hb dX18_digit_53 ?_
  exact gh_reti hC hg hr hlk (Or.inr ⟨hno, ho, hfr⟩) dX18_digit_54 (Nat.le_of_ble_eq_true rfl) (Nat.le_of_ble_eq_true rfl)
set_option maxHeartbeats 1000000 in
set_option maxRecDepth 100000 in
theorem j_X18_digitW (l : Launch) (V : gh_V) (g0 : gh_G) (L q n : Nat) (bc : Nat → Nat) (arr cap : Nat) (f0 : Nat → Int32) (ml : Int32) (hS0 : sb_C V L 2 g0 q n bc arr cap f0 ml) (u1 u2 u3 : Value) (hL0 : g0 L = some ((L, 0, 0), oo 1 [u1, u2, u3, .ref q])) (o wk many sp : Nat) (wr : Int32) (hsp : sp ≤ 61) (ho0 : g0 o = some ((L, 3, 0), oo 11 [.int (nI sp), .int wr, .ref wk, .int (nI many), .ref L])) (hwr : wr = 1) (x y : Int32) : MI l yX18_digit cX18_digit 4 (some .int) ({ frames := 5, cells := 0, slots := 0, locals := 108 } : Room) V [.ref o, .int x, .int y] g0 (fun r g1 => g1 o = some ((L, 3, 0), oo 11 [.int (nI sp), .int 1, .ref wk, .int (nI many), .ref L]) ∧ ∀ b, b ≠ o → g1 b = g0 b) := by
  refine MG.of RX18 (by decide) rfl (Nat.le_of_ble_eq_true rfl) (fun pp ee s mm args below meth c ls hC hg hr hlk hnm hl => ?_)
  have hx := hC.1.1
  have hb := hC.1.2.1
  have hml := hC.1.2.2.1
  have hown := hC.1.2.2.2.1
  have hts := hC.1.2.2.2.2
  have hl : lv_has ls 4 [(0, .ref o), (1, .int x), (2, .int y)] := hl
  obtain ⟨g, hg, hgg⟩ : ∃ g, gh_W V (gh_A g0 s.heap.size) s g s.heap [] ∧ g = g0 := ⟨g0, hg, rfl⟩
  have hS := hS0
  have hL := hL0
  have ho := ho0
  rw [← hgg] at hS hL ho
  have hn60 := hS0.2.2.2.2.1
  have hbc := fun i hi => (hS0.2.2.2.2.2.2 i hi).2
  rw [hwr] at ho
  have hqq := hS.1
  have hfr : ∀ b, b ≠ o → g b = g0 b := fun b _ => by rw [hgg]
  refine lv_aload_n hx hb dX18_digit_0 rfl (lv_at hl 0 rfl) ?_
  refine gh_calli hg (gh_runV (As := []) (rest := []) hC hg (j_X18_next l V _ L q n bc arr cap f0 ml hS u1 u2 u3 hL o wk many sp 1 (by omega) ho) 0 (lw_V q1497 q1499 qs18 q178 q1500) ho rfl hd_X18_next ⟨Nat.le_of_ble_eq_true rfl, Nat.le_of_ble_eq_true rfl⟩ rfl hl.1 rfl (Nat.le_of_ble_eq_true rfl) dX18_digit_1 ⟨Nat.le_of_ble_eq_true rfl, Nat.le_of_ble_eq_true rfl⟩) (fun r_1 g H locs hg hp => ?_)
  obtain ⟨hp, hq⟩ := hp
  replace hp : (nxC bc n sp) = r_1 := hp.symm
  subst hp
  rw [hq] at hg
  refine lv_istore_n (lv' := [(3, .int (nxC bc n sp)), (0, .ref o), (1, .int x), (2, .int y)]) hx hb dX18_digit_4 rfl hl (by decide) rfl (fun ls hl => ?_)
  refine lv_aload_n hx hb dX18_digit_5 rfl (lv_at hl 1 rfl) ?_
  refine lv_dup hx hb dX18_digit_6 rfl ?_
  refine gh_get (v := .int 1) hC hg ho fX18_24_11 rfl dX18_digit_7 ?_
  refine lv_iload_n hx hb dX18_digit_10 rfl (lv_at hl 0 rfl) ?_
  refine lv_iload_n hx hb dX18_digit_11 rfl (lv_at hl 2 rfl) ?_
  refine lv_icmp_lt (tgt := 20) hx hb dX18_digit_12 (by decide) (fun c_2 => ?_) (fun c_2 => ?_)
  · skip
    refine lv_iconst (v := 1) hx hb dX18_digit_20 (by decide) ?_
    refine lv_goto (tgt := 25) hx hb dX18_digit_21 (by decide) ?_
    refine lv_ior hx hb dX18_digit_25 ?_
    refine W.eq (g2 := F0 mm 26 ls [.int 1, .ref o]) (by rw [(show (1 ||| 1 : Int32) = 1 by decide)] <;> rfl) ?_
    refine gh_put (v := .int 1) hC hg ho fX18_24_11 rfl rfl (Nat.le_of_ble_eq_true rfl) dX18_digit_26 (fun g H locs hg hw hn => ?_)
    have hL : g L = some ((L, 0, 0), oo 1 [u1, u2, u3, .ref q]) := (hn _ (gh_neK hL ho rfl)).trans hL
    have hqq : g q = some ((L, 2, 0), oo 18 [.ref arr, .int 0, .int ml, .int (nI n)]) := (hn _ (gh_neK hqq ho rfl)).trans hqq
    have hS : sb_C V L 2 g q n bc arr cap f0 ml := sb_C.keep hS (fun a t x h1 h2 h3 => (hn a (fun e9 => by rw [e9, ho] at h1; cases h1; exact absurd (show 3 = 2 from h3) (by decide))).trans h1)
    have hfr : ∀ b, b ≠ o → g b = g0 b := fun b h1 => (hn b h1).trans (hfr b h1)
    have ho : g o = some ((L, 3, 0), oo 11 [.int (nI sp), .int 1, .ref wk, .int (nI many), .ref L]) := hw
    refine lv_aload_n hx hb dX18_digit_29 rfl (lv_at hl 1 rfl) ?_
    refine lv_dup hx hb dX18_digit_30 rfl ?_
    refine gh_get (v := .int (nI sp)) hC hg ho fX18_28_11 rfl dX18_digit_31 ?_
    refine lv_aload_n hx hb dX18_digit_34 rfl (lv_at hl 1 rfl) ?_
    refine gh_get (v := .int 1) hC hg ho fX18_24_11 rfl dX18_digit_35 ?_
    refine lv_if_eq (tgt := 45) hx hb dX18_digit_38 (by decide) (fun c_3 => (absurd c_3 (by decide))) (fun _ => ?_)
    refine lv_iconst (v := 0) hx hb dX18_digit_41 (by decide) ?_
    refine lv_goto (tgt := 46) hx hb dX18_digit_42 (by decide) ?_
    refine lv_iadd hx hb dX18_digit_46 ?_
    refine W.eq (g2 := F0 mm 47 ls [.int (nI sp), .ref o]) (by rw [(show nI sp + 0 = nI sp from Int32.add_zero _)] <;> rfl) ?_
    refine gh_put (v := .int (nI sp)) hC hg ho fX18_28_11 rfl rfl (Nat.le_of_ble_eq_true rfl) dX18_digit_47 (fun g H locs hg hw hn => ?_)
    have hL : g L = some ((L, 0, 0), oo 1 [u1, u2, u3, .ref q]) := (hn _ (gh_neK hL ho rfl)).trans hL
    have hqq : g q = some ((L, 2, 0), oo 18 [.ref arr, .int 0, .int ml, .int (nI n)]) := (hn _ (gh_neK hqq ho rfl)).trans hqq
    have hS : sb_C V L 2 g q n bc arr cap f0 ml := sb_C.keep hS (fun a t x h1 h2 h3 => (hn a (fun e9 => by rw [e9, ho] at h1; cases h1; exact absurd (show 3 = 2 from h3) (by decide))).trans h1)
    have hfr : ∀ b, b ≠ o → g b = g0 b := fun b h1 => (hn b h1).trans (hfr b h1)
    have ho : g o = some ((L, 3, 0), oo 11 [.int (nI sp), .int 1, .ref wk, .int (nI many), .ref L]) := hw
    refine lv_iload_n hx hb dX18_digit_50 rfl (lv_at hl 0 rfl) ?_
    refine lv_bipush (v := 48) hx hb dX18_digit_51 (by decide) ?_
    refine lv_isub hx hb dX18_digit_53 ?_
    exact gh_reti hC hg hr hlk (⟨ho, hfr⟩) dX18_digit_54 (Nat.le_of_ble_eq_true rfl) (Nat.le_of_ble_eq_true rfl)
  refine lv_iload_n hx hb dX18_digit_15 rfl (lv_at hl 0 rfl) ?_
  refine lv_iload_n hx hb dX18_digit_16 rfl (lv_at hl 3 rfl) ?_
  refine lv_icmp_le (tgt := 24) hx hb dX18_digit_17 (by decide) (fun c_4 => ?_) (fun c_4 => ?_)
  · skip
    refine lv_iconst (v := 0) hx hb dX18_digit_24 (by decide) ?_
    refine lv_ior hx hb dX18_digit_25 ?_
    refine W.eq (g2 := F0 mm 26 ls [.int 1, .ref o]) (by rw [(show (1 ||| 0 : Int32) = 1 by decide)] <;> rfl) ?_
    refine gh_put (v := .int 1) hC hg ho fX18_24_11 rfl rfl (Nat.le_of_ble_eq_true rfl) dX18_digit_26 (fun g H locs hg hw hn => ?_)
    have hL : g L = some ((L, 0, 0), oo 1 [u1, u2, u3, .ref q]) := (hn _ (gh_neK hL ho rfl)).trans hL
    have hqq : g q = some ((L, 2, 0), oo 18 [.ref arr, .int 0, .int ml, .int (nI n)]) := (hn _ (gh_neK hqq ho rfl)).trans hqq
    have hS : sb_C V L 2 g q n bc arr cap f0 ml := sb_C.keep hS (fun a t x h1 h2 h3 => (hn a (fun e9 => by rw [e9, ho] at h1; cases h1; exact absurd (show 3 = 2 from h3) (by decide))).trans h1)
    have hfr : ∀ b, b ≠ o → g b = g0 b := fun b h1 => (hn b h1).trans (hfr b h1)
    have ho : g o = some ((L, 3, 0), oo 11 [.int (nI sp), .int 1, .ref wk, .int (nI many), .ref L]) := hw
    refine lv_aload_n hx hb dX18_digit_29 rfl (lv_at hl 1 rfl) ?_
    refine lv_dup hx hb dX18_digit_30 rfl ?_
    refine gh_get (v := .int (nI sp)) hC hg ho fX18_28_11 rfl dX18_digit_31 ?_
    refine lv_aload_n hx hb dX18_digit_34 rfl (lv_at hl 1 rfl) ?_
    refine gh_get (v := .int 1) hC hg ho fX18_24_11 rfl dX18_digit_35 ?_
    refine lv_if_eq (tgt := 45) hx hb dX18_digit_38 (by decide) (fun c_5 => (absurd c_5 (by decide))) (fun _ => ?_)
    refine lv_iconst (v := 0) hx hb dX18_digit_41 (by decide) ?_
    refine lv_goto (tgt := 46) hx hb dX18_digit_42 (by decide) ?_
    refine lv_iadd hx hb dX18_digit_46 ?_
    refine W.eq (g2 := F0 mm 47 ls [.int (nI sp), .ref o]) (by rw [(show nI sp + 0 = nI sp from Int32.add_zero _)] <;> rfl) ?_
    refine gh_put (v := .int (nI sp)) hC hg ho fX18_28_11 rfl rfl (Nat.le_of_ble_eq_true rfl) dX18_digit_47 (fun g H locs hg hw hn => ?_)
    have hL : g L = some ((L, 0, 0), oo 1 [u1, u2, u3, .ref q]) := (hn _ (gh_neK hL ho rfl)).trans hL
    have hqq : g q = some ((L, 2, 0), oo 18 [.ref arr, .int 0, .int ml, .int (nI n)]) := (hn _ (gh_neK hqq ho rfl)).trans hqq
    have hS : sb_C V L 2 g q n bc arr cap f0 ml := sb_C.keep hS (fun a t x h1 h2 h3 => (hn a (fun e9 => by rw [e9, ho] at h1; cases h1; exact absurd (show 3 = 2 from h3) (by decide))).trans h1)
    have hfr : ∀ b, b ≠ o → g b = g0 b := fun b h1 => (hn b h1).trans (hfr b h1)
    have ho : g o = some ((L, 3, 0), oo 11 [.int (nI sp), .int 1, .ref wk, .int (nI many), .ref L]) := hw
    refine lv_iload_n hx hb dX18_digit_50 rfl (lv_at hl 0 rfl) ?_
    refine lv_bipush (v := 48) hx hb dX18_digit_51 (by decide) ?_
    refine lv_isub hx hb dX18_digit_53 ?_
    exact gh_reti hC hg hr hlk (⟨ho, hfr⟩) dX18_digit_54 (Nat.le_of_ble_eq_true rfl) (Nat.le_of_ble_eq_true rfl)
  refine lv_iconst (v := 1) hx hb dX18_digit_20 (by decide) ?_
  refine lv_goto (tgt := 25) hx hb dX18_digit_21 (by decide) ?_
  refine lv_ior hx hb dX18_digit_25 ?_
  refine W.eq (g2 := F0 mm 26 ls [.int 1, .ref o]) (by rw [(show (1 ||| 1 : Int32) = 1 by decide)] <;> rfl) ?_
  refine gh_put (v := .int 1) hC hg ho fX18_24_11 rfl rfl (Nat.le_of_ble_eq_true rfl) dX18_digit_26 (fun g H locs hg hw hn => ?_)
  have hL : g L = some ((L, 0, 0), oo 1 [u1, u2, u3, .ref q]) := (hn _ (gh_neK hL ho rfl)).trans hL
  have hqq : g q = some ((L, 2, 0), oo 18 [.ref arr, .int 0, .int ml, .int (nI n)]) := (hn _ (gh_neK hqq ho rfl)).trans hqq
  have hS : sb_C V L 2 g q n bc arr cap f0 ml := sb_C.keep hS (fun a t x h1 h2 h3 => (hn a (fun e9 => by rw [e9, ho] at h1; cases h1; exact absurd (show 3 = 2 from h3) (by decide))).trans h1)
  have hfr : ∀ b, b ≠ o → g b = g0 b := fun b h1 => (hn b h1).trans (hfr b h1)
  have ho : g o = some ((L, 3, 0), oo 11 [.int (nI sp), .int 1, .ref wk, .int (nI many), .ref L]) := hw
  refine lv_aload_n hx hb dX18_digit_29 rfl (lv_at hl 1 rfl) ?_
  refine lv_dup hx hb dX18_digit_30 rfl ?_
  refine gh_get (v := .int (nI sp)) hC hg ho fX18_28_11 rfl dX18_digit_31 ?_
  refine lv_aload_n hx hb dX18_digit_34 rfl (lv_at hl 1 rfl) ?_
  refine gh_get (v := .int 1) hC hg ho fX18_24_11 rfl dX18_digit_35 ?_
  refine lv_if_eq (tgt := 45) hx hb dX18_digit_38 (by decide) (fun c_6 => (absurd c_6 (by decide))) (fun _ => ?_)
  refine lv_iconst (v := 0) hx hb dX18_digit_41 (by decide) ?_
  refine lv_goto (tgt := 46) hx hb dX18_digit_42 (by decide) ?_
  refine lv_iadd hx hb dX18_digit_46 ?_
  refine W.eq (g2 := F0 mm 47 ls [.int (nI sp), .ref o]) (by rw [(show nI sp + 0 = nI sp from Int32.add_zero _)] <;> rfl) ?_
  refine gh_put (v := .int (nI sp)) hC hg ho fX18_28_11 rfl rfl (Nat.le_of_ble_eq_true rfl) dX18_digit_47 (fun g H locs hg hw hn => ?_)
  have hL : g L = some ((L, 0, 0), oo 1 [u1, u2, u3, .ref q]) := (hn _ (gh_neK hL ho rfl)).trans hL
  have hqq : g q = some ((L, 2, 0), oo 18 [.ref arr, .int 0, .int ml, .int (nI n)]) := (hn _ (gh_neK hqq ho rfl)).trans hqq
  have hS : sb_C V L 2 g q n bc arr cap f0 ml := sb_C.keep hS (fun a t x h1 h2 h3 => (hn a (fun e9 => by rw [e9, ho] at h1; cases h1; exact absurd (show 3 = 2 from h3) (by decide))).trans h1)
  have hfr : ∀ b, b ≠ o → g b = g0 b := fun b h1 => (hn b h1).trans (hfr b h1)
  have ho : g o = some ((L, 3, 0), oo 11 [.int (nI sp), .int 1, .ref wk, .int (nI many), .ref L]) := hw
  refine lv_iload_n hx hb dX18_digit_50 rfl (lv_at hl 0 rfl) ?_
  refine lv_bipush (v := 48) hx hb dX18_digit_51 (by decide) ?_
  refine lv_isub hx hb dX18_digit_53 ?_
  exact gh_reti hC hg hr hlk (⟨ho, hfr⟩) dX18_digit_54 (Nat.le_of_ble_eq_true rfl) (Nat.le_of_ble_eq_true rfl)
