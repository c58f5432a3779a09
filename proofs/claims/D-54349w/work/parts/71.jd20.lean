section GhNest
variable {V : gh_V} {p : Program} {l : Launch} {e : Env} {R : Room} {s : State} {m : MethodId} {args : Array Value} {below : List Frame} {meth : Method} {c : Code} {H : Heap} {locs : List Loc} {cells slots : Nat} {Q : State → Prop} {cc : ByteArray} {nL : Nat} {own : String} {A : Nat → Prop} {g : gh_G} {pc : Nat} {ls : Array Slot} {rest st : List Value}
/-- a static method of a nest mate -/
theorem gh_runSN (hC : gh_C V p s m args c cc nL own A) (hg : gh_W V A s g H locs) {y : MethodName} {bytes : ByteArray} {maxL : Nat} {ret : Option FieldType} {rm : Room} {As : List Value} {Qp : gh_Q} (hM : MG l y bytes maxL ret rm V As g Qp) (n : Nat) {index : Nat} {host : String} (hlink : Cond.methodLinkNest own index y host ∈ lw_tbl) (hstat : Cond.static y ∈ lw_all) (hini : Cond.initialized y.cls ∈ lw_all) (hcode : Cond.code y bytes maxL ret ∈ lw_all)
    (hd : y.cls ≠ "java/lang/invoke/MethodHandle" ∧ y.cls ≠ "java/lang/invoke/VarHandle" ∧ (parseMethodDescriptor y.desc).map (fun d => d.parameters.length) = some n) (hR : rm.frames + 1 ≤ R.frames ∧ 8 + (maxL + 11) + rm.locals ≤ R.locals)
    (hn : As.length = n) (hls : ls.size = nL) (hst : st = As.reverse ++ rest) (hW : (rest.map fun v => v.category).sum ≤ 8) (hdg : decode cc pc = .ok (.invokestatic index, 3)) (hf : cells + rm.cells ≤ R.cells ∧ slots + rm.slots ≤ R.slots) :
    va_Run p l e R s m args below meth c H locs cells slots rm.cells rm.slots (F0 m pc ls st) rest (Qp (gh_B V g H.size) (gh_A g H.size) As.toArray) (gh_A g H.size) :=
  va_runSN hC.1 (hM H.size) ⟨va_cnB n hC.1.2.2.2.2 (lw_meth hcode) rfl rfl rfl (hC.2.2.1.1 _ (gh_nwm hlink rfl)) (hC.1.2.2.2.2 _ hini) hd hR, hC.1.2.2.2.2 _ hstat, trivial⟩ (gh_preS hC hg As) rfl hn hls hst (lv_room hW) hdg hf
/-- a cast of an array of numbers to its own class -/
theorem gh_castAi (hC : gh_C V p s m args c cc nL own A) (hg : gh_W V A s g H locs) {nm : String} {a : Nat} {t : gh_T} {n k : Nat} {f : Nat → Int32} {ty : FieldType} (ha : g a = some (t, ai V k n f)) {index : Nat} (ht : (gh_TY V)[k]? = some (V.2.1 k, ty)) (hnm : s.vm.findClass nm = some (V.2.1 k)) (hlink : Cond.classLink own index nm ∈ lw_all) (hdg : decode cc pc = .ok (.checkcast index, 3))
    (kk : W p l e R s m args below meth c H locs cells slots Q (F0 m (pc + 3) ls (.ref a :: rest))) : W p l e R s m args below meth c H locs cells slots Q (F0 m pc ls (.ref a :: rest)) :=
  va_castA hC.1.1 hC.1.2.1 hC.1.2.2.2.1 (hC.1.2.2.2.2 _ hlink) (hg.P1 ha) 0 rfl hnm hdg kk
end GhNest
/-! PIECES, LOTS, DEMANDS by themselves -/
def gtB (T wm wl : Int32) : Int32 := wm + sp_step (T - wm) (wl + 2)
def gtS (T wm : Int32) (st : UInt32) (i : Nat) (wl : Int32) : UInt32 :=
  if wm ≤ sp_high (nI i) then (if wm < sp_low (nI i) then st else
    if wm ≤ gtB T wm wl then FP.fdiv st FP.fconst2 else FP.fadd st (FP.fdiv (FP.i2f (wl * wl * (wm - gtB T wm wl))) (FP.i2f (sp_soft (nI i)))))
  else FP.fconst0
def fateP (wm : Int32) (st : UInt32) (i : Nat) : Int32 := if wm ≤ 150 then (if Op.cmpValue (FP.fcmp st (FP.fdiv (FP.i2f (sp_limit (nI i))) FP.fconst2)) .l ≤ 0 then 1 else 2) else 3
theorem stp_sgn {d b : Int32} (h : d / b = 0) : sgnI d = sp_step d b := by
  have e1 : sp_step d b = if d = 0 then d / b else if d < 0 then -1 else 1 := if_neg (fun e => e h)
  rw [e1]
  unfold sgnI
  by_cases h0 : d = 0
  · rw [if_pos h0, if_pos h0, h]
    subst h0
    decide
  · rw [if_neg h0, if_neg h0]
theorem fp_lim3 (i : Nat) (hi : i < 3) : vf_n32 (FP.fdiv (FP.i2f (sp_limit (nI i))) FP.fconst2) := by
  obtain rfl | rfl | rfl : i = 0 ∨ i = 1 ∨ i = 2 := by omega
  all_goals (unfold vf_n32; decide +kernel)
theorem nI_sub4 {a b c d e : Nat} (h : b + c + d + e ≤ a) (ha : a < 1000) : nI a - nI b - nI c - nI d - nI e = nI (a - b - c - d - e) := by
  have h1 := nx_sub (x := nI a) (y := nI b) rfl rfl (by omega)
  have h2 := nx_sub (x := nI a - nI b) (y := nI c) h1 rfl (by omega)
  have h3 := nx_sub (x := nI a - nI b - nI c) (y := nI d) h2 rfl (by omega)
  exact nx_sub h3 rfl (by omega)
/-! BOUNDS -/
def bd (x : Int32) (B : Int) : Prop := -B ≤ x.toInt ∧ x.toInt ≤ B
theorem i32_add {x y : Int32} (h1 : -2147483648 ≤ x.toInt + y.toInt) (h2 : x.toInt + y.toInt < 2147483648) : (x + y).toInt = x.toInt + y.toInt := by
  rw [Int32.toInt_add]; exact Int.bmod_eq_of_le (by omega) (by omega)
theorem i32_sub {x y : Int32} (h1 : -2147483648 ≤ x.toInt - y.toInt) (h2 : x.toInt - y.toInt < 2147483648) : (x - y).toInt = x.toInt - y.toInt := by
  rw [Int32.toInt_sub]; exact Int.bmod_eq_of_le (by omega) (by omega)
theorem i32_mul {x y : Int32} (h1 : -2147483648 ≤ x.toInt * y.toInt) (h2 : x.toInt * y.toInt < 2147483648) : (x * y).toInt = x.toInt * y.toInt := by
  rw [Int32.toInt_mul]; exact Int.bmod_eq_of_le (by omega) (by omega)
theorem i32_div {x y : Int32} (h : 0 < y.toInt) : (x / y).toInt = x.toInt.tdiv y.toInt := by
  rw [Int32.toInt_div]
  have h1 := Int32.toInt_lt x
  have h2 := Int32.le_toInt x
  have h3 : -2147483648 ≤ x.toInt.tdiv y.toInt ∧ x.toInt.tdiv y.toInt < 2147483648 := by
    rcases Int.le_total 0 x.toInt with h0 | h0
    · have a := Int.tdiv_nonneg h0 (Int.le_of_lt h)
      have b := Int.tdiv_le_self y.toInt h0
      omega
    · have a : (-x.toInt).tdiv y.toInt = -(x.toInt.tdiv y.toInt) := Int.neg_tdiv ..
      have b := Int.tdiv_nonneg (a := -x.toInt) (by omega) (Int.le_of_lt h)
      have c := Int.tdiv_le_self y.toInt (a := -x.toInt) (by omega)
      omega
  exact Int.bmod_eq_of_le (by omega) (by omega)
theorem tdiv_bd {x y : Int} (h : 0 < y) : (0 ≤ x → 0 ≤ x.tdiv y ∧ x.tdiv y ≤ x) ∧ (x ≤ 0 → x ≤ x.tdiv y ∧ x.tdiv y ≤ 0) := by
  refine ⟨fun h0 => ⟨Int.tdiv_nonneg h0 (Int.le_of_lt h), Int.tdiv_le_self y h0⟩, fun h0 => ?_⟩
  have a : (-x).tdiv y = -(x.tdiv y) := Int.neg_tdiv ..
  have b := Int.tdiv_nonneg (a := -x) (by omega) (Int.le_of_lt h)
  have c := Int.tdiv_le_self y (a := -x) (by omega)
  omega
theorem step_bd {d b : Int32} (hb : 0 < b.toInt) : (0 ≤ d.toInt → 0 ≤ (sp_step d b).toInt ∧ (sp_step d b).toInt ≤ d.toInt) ∧ (d.toInt ≤ 0 → d.toInt ≤ (sp_step d b).toInt ∧ (sp_step d b).toInt ≤ 0) := by
  have hd := i32_div (x := d) hb
  have ht := tdiv_bd (x := d.toInt) hb
  have hz : ∀ x : Int32, x = 0 ↔ x.toInt = 0 := fun x => by rw [← Int32.toInt_inj]; rfl
  unfold sp_step
  by_cases h1 : d / b = 0
  · rw [if_neg (fun e => e h1)]
    by_cases h2 : d = 0
    · rw [if_pos h2, h1]
      have e := (hz d).mp h2
      rw [e, show (0 : Int32).toInt = 0 from rfl]
      exact ⟨fun _ => ⟨Int.le_refl 0, Int.le_refl 0⟩, fun _ => ⟨Int.le_refl 0, Int.le_refl 0⟩⟩
    · rw [if_neg h2]
      have e : ¬ d.toInt = 0 := fun q => h2 ((hz d).mpr q)
      have en : (-1 : Int32).toInt = -1 := by decide
      have ep : (1 : Int32).toInt = 1 := by decide
      by_cases h3 : d < 0
      · rw [if_pos h3, en]
        have e3 : d.toInt < 0 := Int32.lt_iff_toInt_lt.mp h3
        omega
      · rw [if_neg h3, ep]
        have e3 : ¬ d.toInt < 0 := fun q => h3 (Int32.lt_iff_toInt_lt.mpr q)
        omega
  · rw [if_pos h1, hd]
    exact ht
theorem gt_go {T wm wl : Int32} {B : Int} {n : Nat} (hT : bd T B) (hw : bd wm B) (hB : B ≤ 1000000) (hn : n < 10) (hl : wl = nI n) : bd (wm + sp_step (T - wm) (wl + 2)) B := by
  have hb : (wl + 2).toInt = n + 2 := by
    rw [hl, show nI n + 2 = nI (n + 2) from nx_add rfl rfl, nI_toInt (by omega)]; omega
  have hs := step_bd (d := T - wm) (b := wl + 2) (by omega)
  unfold bd at *
  have hd := i32_sub (x := T) (y := wm) (by omega) (by omega)
  have ha := i32_add (x := wm) (y := sp_step (T - wm) (wl + 2)) (by omega) (by omega)
  omega
theorem gt_fall0 {x y : Int32} {B : Int} (hx : bd x B) (hy : bd y B) (hB : B ≤ 1000000) : x - y ≤ 0 ↔ x ≤ y := by
  unfold bd at *
  rw [Int32.le_iff_toInt_le, Int32.le_iff_toInt_le, i32_sub (by omega) (by omega)]
  have e0 : (0 : Int32).toInt = 0 := rfl
  omega
theorem gt_fall {T wm wl : Int32} {B : Int} {n : Nat} (hT : bd T B) (hw : bd wm B) (hB : B ≤ 1000000) (hn : n < 10) (hl : wl = nI n) : wm - gtB T wm wl ≤ 0 ↔ wm ≤ gtB T wm wl := gt_fall0 hw (gt_go hT hw hB hn hl) hB
theorem wl_ne {wl : Int32} {n : Nat} (hn : n < 10) (hl : wl = nI n) : wl + 2 ≠ 0 := by
  rw [hl, show nI n + 2 = nI (n + 2) from nx_add rfl rfl]
  intro h
  have h2 := congrArg Int32.toInt h
  rw [nI_toInt (by omega)] at h2
  have e0 : (0 : Int32).toInt = 0 := rfl
  omega
set_option maxRecDepth 100000
theorem hd_J23_signum : yJ23_signum.cls = RJ23 ∧ yJ23_signum.cls ≠ "java/lang/invoke/MethodHandle" ∧ yJ23_signum.cls ≠ "java/lang/invoke/VarHandle" ∧ (parseMethodDescriptor yJ23_signum.desc).map (fun d => d.parameters.length) = some 1 := by decide +kernel
set_option maxHeartbeats 1000000 in
set_option maxRecDepth 100000 in
theorem j_X13_of (l : Launch) (V : gh_V) (g0 : gh_G) (i : Nat) (hi4 : i < 4) : MR l yX13_of cX13_of 1 (some (.object "AnnealingLehr$Burner")) ({ frames := 0, cells := 0, slots := 0, locals := 0 } : Room) V [.int (nI i)] g0 (fun r g1 => r = some (V.2.2 (2 + i)) ∧ g1 = g0) := by
  refine MG.of RX13 (by decide) rfl (Nat.le_of_ble_eq_true rfl) (fun pp ee s mm args below meth c ls hC hg hr hlk hnm hl => ?_)
  have hx := hC.1.1
  have hb := hC.1.2.1
  have hml := hC.1.2.2.1
  have hown := hC.1.2.2.2.1
  have hts := hC.1.2.2.2.2
  have hl : lv_has ls 1 [(0, .int (nI i))] := hl
  obtain ⟨g, hg, hgg⟩ : ∃ g, gh_W V (gh_A g0 s.heap.size) s g s.heap [] ∧ g = g0 := ⟨g0, hg, rfl⟩
  have hi49 := hi4
  obtain rfl | rfl | rfl | rfl : i = 0 ∨ i = 1 ∨ i = 2 ∨ i = 3 := by omega
  · skip
    have hl : lv_has ls 1 [(0, .int 0)] := hl
    refine lv_iload_n hx hb dX13_of_0 rfl (lv_at hl 0 rfl) ?_
    refine lv_tableIn (off := 27) (tgt := 28) hx hb dX13_of_1 (by decide) (by decide) (by decide) (by decide) ?_
    refine gh_getsR (C := "AnnealingLehr$Burner") (n := "OFF") (d := "LAnnealingLehr$Burner;") (k := 2) hC hg (by decide +kernel) q2627 (fun _ _ _ _ h => h) dX13_of_28 ?_
    exact gh_retq (r := some (V.2.2 2)) (Or.inl ⟨_, rfl⟩) hC hg hr hlk (⟨rfl, hgg⟩) dX13_of_31 (Nat.le_of_ble_eq_true rfl) (Nat.le_of_ble_eq_true rfl)
  · skip
    have hl : lv_has ls 1 [(0, .int 1)] := hl
    refine lv_iload_n hx hb dX13_of_0 rfl (lv_at hl 0 rfl) ?_
    refine lv_tableIn (off := 31) (tgt := 32) hx hb dX13_of_1 (by decide) (by decide) (by decide) (by decide) ?_
    refine gh_getsR (C := "AnnealingLehr$Burner") (n := "LOW") (d := "LAnnealingLehr$Burner;") (k := 3) hC hg (by decide +kernel) q2629 (fun _ _ _ _ h => h) dX13_of_32 ?_
    exact gh_retq (r := some (V.2.2 3)) (Or.inl ⟨_, rfl⟩) hC hg hr hlk (⟨rfl, hgg⟩) dX13_of_35 (Nat.le_of_ble_eq_true rfl) (Nat.le_of_ble_eq_true rfl)
  · skip
    have hl : lv_has ls 1 [(0, .int 2)] := hl
    refine lv_iload_n hx hb dX13_of_0 rfl (lv_at hl 0 rfl) ?_
    refine lv_tableIn (off := 35) (tgt := 36) hx hb dX13_of_1 (by decide) (by decide) (by decide) (by decide) ?_
    refine gh_getsR (C := "AnnealingLehr$Burner") (n := "MIDDLE") (d := "LAnnealingLehr$Burner;") (k := 4) hC hg (by decide +kernel) q2631 (fun _ _ _ _ h => h) dX13_of_36 ?_
    exact gh_retq (r := some (V.2.2 4)) (Or.inl ⟨_, rfl⟩) hC hg hr hlk (⟨rfl, hgg⟩) dX13_of_39 (Nat.le_of_ble_eq_true rfl) (Nat.le_of_ble_eq_true rfl)
  · skip
    have hl : lv_has ls 1 [(0, .int 3)] := hl
    refine lv_iload_n hx hb dX13_of_0 rfl (lv_at hl 0 rfl) ?_
    refine lv_tableOut (tgt := 40) hx hb dX13_of_1 (Or.inr (by decide)) (by decide) ?_
    refine gh_getsR (C := "AnnealingLehr$Burner") (n := "HIGH") (d := "LAnnealingLehr$Burner;") (k := 5) hC hg (by decide +kernel) q2633 (fun _ _ _ _ h => h) dX13_of_40 ?_
    exact gh_retq (r := some (V.2.2 5)) (Or.inl ⟨_, rfl⟩) hC hg hr hlk (⟨rfl, hgg⟩) dX13_of_43 (Nat.le_of_ble_eq_true rfl) (Nat.le_of_ble_eq_true rfl)
set_option maxHeartbeats 1000000 in
set_option maxRecDepth 100000 in
theorem j_X13_with (l : Launch) (V : gh_V) (g0 : gh_G) (i u : Nat) (hi4 : i < 4) (hu : u < 1000) : MR l yX13_with cX13_with 3 (some (.object "AnnealingLehr$Burner")) ({ frames := 1, cells := 0, slots := 0, locals := 20 } : Room) V [.ref (V.2.2 (2 + i)), .int (nI u)] g0 (fun r g1 => r = some (V.2.2 (2 + bnU u i)) ∧ g1 = g0) := by
  refine MG.of RX13 (by decide) rfl (Nat.le_of_ble_eq_true rfl) (fun pp ee s mm args below meth c ls hC hg hr hlk hnm hl => ?_)
  have hx := hC.1.1
  have hb := hC.1.2.1
  have hml := hC.1.2.2.1
  have hown := hC.1.2.2.2.1
  have hts := hC.1.2.2.2.2
  have hl : lv_has ls 3 [(0, .ref (V.2.2 (2 + i))), (1, .int (nI u))] := hl
  obtain ⟨g, hg, hgg⟩ : ∃ g, gh_W V (gh_A g0 s.heap.size) s g s.heap [] ∧ g = g0 := ⟨g0, hg, rfl⟩
  have hbu := bnU_u u i
  refine lv_aload_n hx hb dX13_with_0 rfl (lv_at hl 0 rfl) ?_
  refine lv_astore_n (lv' := [(2, .ref (V.2.2 (2 + i))), (0, .ref (V.2.2 (2 + i))), (1, .int (nI u))]) hx hb dX13_with_1 rfl hl (by decide) rfl (fun ls hl => ?_)
  obtain ⟨gg, hgc⟩ : ∃ gg, gg = g := ⟨g, rfl⟩
  rw [← hgc] at hgg
  refine gh_while (α := Nat × Nat) (μ := fun q => q.1) (X := fun q9 g ls => ∃ b9 z9, q9 = (b9, z9) ∧ b9 ≤ i ∧ bnU u i ≤ b9 ∧ g = gg ∧ lv_has ls 3 [(1, .int (nI u)), (2, .ref (V.2.2 (2 + b9)))]) ?_ (i, 0) hg ⟨i, 0, rfl, (Nat.le_refl _), (bnU_le u i), hgc.symm, lv_sub hl [2, 0] rfl⟩
  intro q9 ih2 g H locs ls hg hX
  obtain ⟨b9, z9, rfl, hX2_0, hX2_1, hX2_2, hl⟩ := hX
  refine lv_aload_n hx hb dX13_with_2 rfl (lv_at hl 1 rfl) ?_
  refine gh_gasX13 (i := b9) (by omega) hC hg hl.1 (Nat.le_of_ble_eq_true rfl) dX13_with_3 ⟨Nat.le_of_ble_eq_true rfl, Nat.le_of_ble_eq_true rfl⟩ ⟨Nat.le_of_ble_eq_true rfl, Nat.le_of_ble_eq_true rfl⟩ (fun H locs hg => ?_)
  refine lv_iload_n hx hb dX13_with_6 rfl (lv_at hl 0 rfl) ?_
  refine lv_icmp_le (tgt := 18) hx hb dX13_with_7 (by decide) (fun c_1 => ?_) (fun c_1 => ?_)
  · skip
    have c_1 : (3 * b9) ≤ u := (nx_le rfl rfl (by omega) (by omega)).mp c_1
    refine lv_aload_n hx hb dX13_with_18 rfl (lv_at hl 1 rfl) ?_
    exact gh_retq (r := some (V.2.2 (2 + b9))) (Or.inl ⟨_, rfl⟩) hC hg hr hlk (⟨congrArg (fun z => some (V.2.2 (2 + z))) (bn_loop hX2_0 hX2_1 (by omega)), hX2_2.trans hgg⟩) dX13_with_19 (Nat.le_of_ble_eq_true rfl) (Nat.le_of_ble_eq_true rfl)
  have c_1 : ¬ (3 * b9) ≤ u := fun h9 => c_1 ((nx_le rfl rfl (by omega) (by omega)).mpr h9)
  obtain ⟨hd1, hd2⟩ := bn_down hX2_1 (by omega)
  refine lv_aload_n hx hb dX13_with_10 rfl (lv_at hl 1 rfl) ?_
  refine gh_lowerX13 (i := b9) (by omega) hC hg hl.1 (Nat.le_of_ble_eq_true rfl) dX13_with_11 ⟨Nat.le_of_ble_eq_true rfl, Nat.le_of_ble_eq_true rfl⟩ ⟨Nat.le_of_ble_eq_true rfl, Nat.le_of_ble_eq_true rfl⟩ (fun H locs hg => ?_)
  refine lv_astore_n (lv' := [(2, .ref (V.2.2 (2 + (b9 - 1)))), (1, .int (nI u))]) hx hb dX13_with_14 rfl hl (by decide) rfl (fun ls hl => ?_)
  refine lv_goto (tgt := 2) hx hb dX13_with_15 (by decide) ?_
  exact ih2 (b9 - 1, 0) (by show b9 - 1 < b9; omega) _ _ _ _ hg ⟨(b9 - 1), 0, rfl, (by omega), hd2, hX2_2, lv_sub hl [1, 0] rfl⟩
set_option maxHeartbeats 1000000 in
set_option maxRecDepth 100000 in
theorem j_J52_ordinal (l : Launch) (V : gh_V) (g0 : gh_G) (i : Nat) (hi4 : i < 4) : MI l yJ52_ordinal cJ52_ordinal 1 (some .int) ({ frames := 0, cells := 0, slots := 0, locals := 0 } : Room) V [.ref (V.2.2 (2 + i))] g0 (fun r g1 => r = nI i ∧ g1 = g0) := by
  refine MG.of RJ52 (by decide) rfl (Nat.le_of_ble_eq_true rfl) (fun pp ee s mm args below meth c ls hC hg hr hlk hnm hl => ?_)
  have hx := hC.1.1
  have hb := hC.1.2.1
  have hml := hC.1.2.2.1
  have hown := hC.1.2.2.2.1
  have hts := hC.1.2.2.2.2
  have hl : lv_has ls 1 [(0, .ref (V.2.2 (2 + i)))] := hl
  obtain ⟨g, hg, hgg⟩ : ∃ g, gh_W V (gh_A g0 s.heap.size) s g s.heap [] ∧ g = g0 := ⟨g0, hg, rfl⟩
  refine lv_aload_n hx hb dJ52_ordinal_0 rfl (lv_at hl 0 rfl) ?_
  refine gh_ordK (i := i) hC hg hi4 q4494 dJ52_ordinal_1 ?_
  exact gh_reti hC hg hr hlk (⟨rfl, hgg⟩) dJ52_ordinal_4 (Nat.le_of_ble_eq_true rfl) (Nat.le_of_ble_eq_true rfl)
set_option maxHeartbeats 1000000 in
set_option maxRecDepth 100000 in
theorem j_X1_step (l : Launch) (V : gh_V) (g0 : gh_G) (x b : Int32) (hne1 : b ≠ 0) : MI l yX1_step cX1_step 3 (some .int) ({ frames := 1, cells := 0, slots := 0, locals := 20 } : Room) V [.int x, .int b] g0 (fun r g1 => r = sp_step x b ∧ g1 = g0) := by
  refine MG.of RX1 (by decide) rfl (Nat.le_of_ble_eq_true rfl) (fun pp ee s mm args below meth c ls hC hg hr hlk hnm hl => ?_)
  have hx := hC.1.1
  have hb := hC.1.2.1
  have hml := hC.1.2.2.1
  have hown := hC.1.2.2.2.1
  have hts := hC.1.2.2.2.2
  have hl : lv_has ls 3 [(0, .int x), (1, .int b)] := hl
  obtain ⟨g, hg, hgg⟩ : ∃ g, gh_W V (gh_A g0 s.heap.size) s g s.heap [] ∧ g = g0 := ⟨g0, hg, rfl⟩
  refine lv_iload_n hx hb dX1_step_0 rfl (lv_at hl 0 rfl) ?_
  refine lv_iload_n hx hb dX1_step_1 rfl (lv_at hl 1 rfl) ?_
  refine lv_idiv hx hb dX1_step_2 hne1 ?_
  refine lv_istore_n (lv' := [(2, .int (x / b)), (0, .int x), (1, .int b)]) hx hb dX1_step_3 rfl hl (by decide) rfl (fun ls hl => ?_)
  refine lv_iload_n hx hb dX1_step_4 rfl (lv_at hl 0 rfl) ?_
  refine lv_if_eq (tgt := 12) hx hb dX1_step_5 (by decide) (fun c_1 => ?_) (fun c_1 => ?_)
  · skip
    refine lv_iload_n hx hb dX1_step_12 rfl (lv_at hl 1 rfl) ?_
    refine gh_calli hg (gh_runS (As := [.int x]) (rest := []) hC hg (j_J23_signum l V _ x) 1 (lw_S q2700 q2701 q129 q2702) hd_J23_signum.2 ⟨Nat.le_of_ble_eq_true rfl, Nat.le_of_ble_eq_true rfl⟩ rfl hl.1 rfl (Nat.le_of_ble_eq_true rfl) dX1_step_13 ⟨Nat.le_of_ble_eq_true rfl, Nat.le_of_ble_eq_true rfl⟩) (fun r_2 g H locs hg hp => ?_)
    obtain ⟨hp, hq⟩ := hp
    replace hp : (sgnI x) = r_2 := hp.symm
    subst hp
    rw [hq] at hg
    exact gh_reti hC hg hr hlk (⟨stp_sgn c_1, hgg⟩) dX1_step_16 (Nat.le_of_ble_eq_true rfl) (Nat.le_of_ble_eq_true rfl)
  refine lv_iload_n hx hb dX1_step_8 rfl (lv_at hl 0 rfl) ?_
  refine lv_goto (tgt := 16) hx hb dX1_step_9 (by decide) ?_
  exact gh_reti hC hg hr hlk (⟨(show x / b = sp_step x b from (if_pos c_1).symm), hgg⟩) dX1_step_16 (Nat.le_of_ble_eq_true rfl) (Nat.le_of_ble_eq_true rfl)
set_option maxHeartbeats 1000000 in
set_option maxRecDepth 100000 in
theorem j_X11_init (l : Launch) (V : gh_V) (g0 : gh_G) (x : Nat) (u v : Int32) (t9 : gh_T) (hx9 : g0 x = some (t9, oo 9 [.int 0, .int 0])) : MV l yX11_init cX11_init 3 ({ frames := 1, cells := 0, slots := 0, locals := 12 } : Room) V [.ref x, .int u, .int v] g0 (fun g1 => g1 x = some (t9, oo 9 [.int u, .int v]) ∧ ∀ b, b ≠ x → g1 b = g0 b) := by
  refine MG.of RX11 (by decide) rfl (Nat.le_of_ble_eq_true rfl) (fun pp ee s mm args below meth c ls hC hg hr hlk hnm hl => ?_)
  have hx := hC.1.1
  have hb := hC.1.2.1
  have hml := hC.1.2.2.1
  have hown := hC.1.2.2.2.1
  have hts := hC.1.2.2.2.2
  have hl : lv_has ls 3 [(0, .ref x), (1, .int u), (2, .int v)] := hl
  obtain ⟨g, hg, hgg⟩ : ∃ g, gh_W V (gh_A g0 s.heap.size) s g s.heap [] ∧ g = g0 := ⟨g0, hg, rfl⟩
  rw [← hgg] at hx9
  have hfr : ∀ b, b ≠ x → g b = g0 b := fun b _ => by rw [hgg]
  refine lv_aload_n hx hb dX11_init_0 rfl (lv_at hl 0 rfl) ?_
  refine W.objInit hx hb hown (hts _ q1651) (hts _ q185) (hts _ q186) rfl (by rw [hml]; exact hl.1) rfl dX11_init_1 (Nat.le_of_ble_eq_true rfl) (Nat.le_of_ble_eq_true rfl) ?_
  refine W.eq (g2 := F0 mm 4 ls []) rfl ?_
  refine lv_aload_n hx hb dX11_init_4 rfl (lv_at hl 0 rfl) ?_
  refine lv_iload_n hx hb dX11_init_5 rfl (lv_at hl 1 rfl) ?_
  refine gh_putF (v := .int u) hC hg hnm hx9 fX11_9_9 rfl rfl (Nat.le_of_ble_eq_true rfl) dX11_init_6 (fun g H locs hg hw hn => ?_)
  have hfr : ∀ b, b ≠ x → g b = g0 b := fun b h1 => (hn b h1).trans (hfr b h1)
  have hx9 : g x = some ((t9.1, t9.2.1, t9.2.2), oo 9 [.int u, .int 0]) := hw
  refine lv_aload_n hx hb dX11_init_9 rfl (lv_at hl 0 rfl) ?_
  refine lv_iload_n hx hb dX11_init_10 rfl (lv_at hl 2 rfl) ?_
  refine gh_putF (v := .int v) hC hg hnm hx9 fX11_15_9 rfl rfl (Nat.le_of_ble_eq_true rfl) dX11_init_11 (fun g H locs hg hw hn => ?_)
  have hfr : ∀ b, b ≠ x → g b = g0 b := fun b h1 => (hn b h1).trans (hfr b h1)
  have hx9 : g x = some ((t9.1, t9.2.1, t9.2.2), oo 9 [.int u, .int v]) := hw
  exact gh_retv hC hg hr hlk (⟨hx9, hfr⟩) dX11_init_14 (Nat.le_of_ble_eq_true rfl) (Nat.le_of_ble_eq_true rfl)
set_option maxHeartbeats 1000000 in
set_option maxRecDepth 100000 in
theorem j_X12_init (l : Launch) (V : gh_V) (g0 : gh_G) (x : Nat) (u v : Int32) (t9 : gh_T) (hx9 : g0 x = some (t9, oo 10 [.int 0, .int 0])) : MV l yX12_init cX12_init 3 ({ frames := 1, cells := 0, slots := 0, locals := 12 } : Room) V [.ref x, .int u, .int v] g0 (fun g1 => g1 x = some (t9, oo 10 [.int u, .int v]) ∧ ∀ b, b ≠ x → g1 b = g0 b) := by
  refine MG.of RX12 (by decide) rfl (Nat.le_of_ble_eq_true rfl) (fun pp ee s mm args below meth c ls hC hg hr hlk hnm hl => ?_)
  have hx := hC.1.1
  have hb := hC.1.2.1
  have hml := hC.1.2.2.1
  have hown := hC.1.2.2.2.1
  have hts := hC.1.2.2.2.2
  have hl : lv_has ls 3 [(0, .ref x), (1, .int u), (2, .int v)] := hl
  obtain ⟨g, hg, hgg⟩ : ∃ g, gh_W V (gh_A g0 s.heap.size) s g s.heap [] ∧ g = g0 := ⟨g0, hg, rfl⟩
  rw [← hgg] at hx9
  have hfr : ∀ b, b ≠ x → g b = g0 b := fun b _ => by rw [hgg]
  refine lv_aload_n hx hb dX12_init_0 rfl (lv_at hl 0 rfl) ?_
  refine W.objInit hx hb hown (hts _ q2342) (hts _ q185) (hts _ q186) rfl (by rw [hml]; exact hl.1) rfl dX12_init_1 (Nat.le_of_ble_eq_true rfl) (Nat.le_of_ble_eq_true rfl) ?_
  refine W.eq (g2 := F0 mm 4 ls []) rfl ?_
  refine lv_aload_n hx hb dX12_init_4 rfl (lv_at hl 0 rfl) ?_
  refine lv_iload_n hx hb dX12_init_5 rfl (lv_at hl 1 rfl) ?_
  refine gh_putF (v := .int u) hC hg hnm hx9 fX12_9_10 rfl rfl (Nat.le_of_ble_eq_true rfl) dX12_init_6 (fun g H locs hg hw hn => ?_)
  have hfr : ∀ b, b ≠ x → g b = g0 b := fun b h1 => (hn b h1).trans (hfr b h1)
  have hx9 : g x = some ((t9.1, t9.2.1, t9.2.2), oo 10 [.int u, .int 0]) := hw
  refine lv_aload_n hx hb dX12_init_9 rfl (lv_at hl 0 rfl) ?_
  refine lv_iload_n hx hb dX12_init_10 rfl (lv_at hl 2 rfl) ?_
  refine gh_putF (v := .int v) hC hg hnm hx9 fX12_15_10 rfl rfl (Nat.le_of_ble_eq_true rfl) dX12_init_11 (fun g H locs hg hw hn => ?_)
  have hfr : ∀ b, b ≠ x → g b = g0 b := fun b h1 => (hn b h1).trans (hfr b h1)
  have hx9 : g x = some ((t9.1, t9.2.1, t9.2.2), oo 10 [.int u, .int v]) := hw
  exact gh_retv hC hg hr hlk (⟨hx9, hfr⟩) dX12_init_14 (Nat.le_of_ble_eq_true rfl) (Nat.le_of_ble_eq_true rfl)
