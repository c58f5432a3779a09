theorem wf_n {s : Nat → Int32} {L D P : Nat} (h : tw_wf s L D P) : tw_wf s L (nD s) (nP s) := by rw [nD_of h, nP_of h]; exact h
section
variable {V : gh_V} {A9 : Nat → Prop} {s9 : State} {H : Heap} {locs : List Loc} {g0 g : gh_G} {o : Nat} {ad : Nat → Nat} {I : Nat → Int32} {A : Nat → Nat → Int32} {F : Nat → Nat → UInt32}
theorem tw_W.eqIAF {I' : Nat → Int32} {A' : Nat → Nat → Int32} {F' : Nat → Nat → UInt32} (h : tw_W V g0 g o ad I A F) (i : I = I') (e : A = A') (f : F = F') : tw_W V g0 g o ad I' A' F' := by subst i; subst e; subst f; exact h
theorem arrV_cong {cA : ClassId} {n : Nat} {f f' : Nat → Value} (h : ∀ j, j < n → f j = f' j) : arrV cA n f = arrV cA n f' := by
  show ({ cls := cA, slots := Array.ofFn (n := n) fun j => f j.val, vm := .none } : Cell) = { cls := cA, slots := Array.ofFn (n := n) fun j => f' j.val, vm := .none }
  congr 1
  apply Array.ext
  · simp
  · intro j h1 h2
    simp only [Array.getElem_ofFn]
    exact h j (by simpa using h1)
/-- a cell's content written otherwise -/
theorem gh_W.cong (h : gh_W V A9 s9 g H locs) {a : Nat} {t : gh_T} {e e' : gh_E} (ha : g a = some (t, e)) (he : gh_at V a e H → gh_at V a e' H) : ∃ g1 : gh_G, gh_W V A9 s9 g1 H locs ∧ g1 a = some (t, e') ∧ ∀ q, q ≠ a → g1 q = g q := by
  refine ⟨fun q => if q = a then some (t, e') else g q, ⟨fun b u x hb => ?_, fun q hq => ?_, h.2.2.1, h.2.2.2⟩, if_pos rfl, fun q hq => if_neg hq⟩
  · by_cases hba : b = a
    · subst hba
      have hb : (if b = b then some (t, e') else g b) = some (u, x) := hb
      rw [if_pos rfl] at hb
      cases hb
      exact he (h.1 b _ _ ha)
    · have hb : (if b = a then some (t, e') else g b) = some (u, x) := hb
      rw [if_neg hba] at hb
      exact h.1 b u x hb
  · by_cases hba : q = a
    · subst hba
      exact h.2.1 q (by rw [ha]; exact fun e => by cases e)
    · have hq : (if q = a then some (t, e') else g q) ≠ none := hq
      rw [if_neg hba] at hq
      exact h.2.1 q hq
theorem gh_W.congI (h : gh_W V A9 s9 g H locs) {a k n : Nat} {t : gh_T} {f f' : Nat → Int32} (ha : g a = some (t, ai V k n f)) (he : ∀ j, j < n → f j = f' j) : ∃ g1 : gh_G, gh_W V A9 s9 g1 H locs ∧ g1 a = some (t, ai V k n f') ∧ ∀ q, q ≠ a → g1 q = g q :=
  h.cong ha fun hh => by
    have hh : H[a]? = some (vp_cell _ _) := hh
    show H[a]? = some (vp_cell _ _)
    rw [hh, vp_cell_i, vp_cell_i]
    exact congrArg some (arrV_cong fun j hj => by rw [he j hj])
theorem gh_W.congF (h : gh_W V A9 s9 g H locs) {a k n : Nat} {t : gh_T} {f f' : Nat → UInt32} (ha : g a = some (t, af V k n f)) (he : ∀ j, j < n → f j = f' j) : ∃ g1 : gh_G, gh_W V A9 s9 g1 H locs ∧ g1 a = some (t, af V k n f') ∧ ∀ q, q ≠ a → g1 q = g q :=
  h.cong ha fun hh => by
    have hh : H[a]? = some (vp_cell _ _) := hh
    show H[a]? = some (vp_cell _ _)
    rw [hh, vp_cell_f, vp_cell_f]
    exact congrArg some (arrV_cong fun j hj => by rw [he j hj])
theorem tw_W.congA (hT : tw_W V g0 g o ad I A F) (hg : gh_W V A9 s9 g H locs) (j : Nat) (hj : j < 8) (f' : Nat → Int32) (he : ∀ i, i < tw_n j → A j i = f' i) : ∃ g1, gh_W V A9 s9 g1 H locs ∧ tw_W V g0 g1 o ad I (va_up A j f') F := by
  obtain ⟨g1, h1, h2, h3⟩ := hg.congI (hT.1.2.1 j hj) he
  exact ⟨g1, h1, hT.putA j hj h2 h3⟩
theorem tw_W.congF (hT : tw_W V g0 g o ad I A F) (hg : gh_W V A9 s9 g H locs) (j : Nat) (hj : j < 4) (f' : Nat → UInt32) (he : ∀ i, i < tw_nf j → F j i = f' i) : ∃ g1, gh_W V A9 s9 g1 H locs ∧ tw_W V g0 g1 o ad I A (va_up F j f') := by
  obtain ⟨g1, h1, h2, h3⟩ := hg.congF (hT.1.2.2 j hj) he
  exact ⟨g1, h1, hT.putF j hj h2 h3⟩
end
noncomputable def mot (s : Nat → Int32) (st : Nat → UInt32) (i k : Nat) : Nat → Nat → Nat
  | n, 0 => n
  | n, f + 1 => if lt (runs s st n).1 i (5 + k) = 0 then mot s st i k (n + 1) f else n
noncomputable def motN (s : Nat → Int32) (st : Nat → UInt32) (i k : Nat) : Int32 := if mot s st i k 0 241 ≤ 240 then nI (mot s st i k 0 241) else -1
noncomputable def safeB (s : Nat → Int32) (st : Nat → UInt32) (z b : Nat) : Bool := decide ((runsF (zs s z 0 (nI b)) st 60).2.2.2 = 0)
theorem cpn_cpn {α : Type} {f d e : Nat → α} {n j : Nat} (h : j < n) : cpn (cpn f d n) e n j = f j := by
  rw [cpn_lt h, cpn_lt h]
theorem wf_zs0 {s : Nat → Int32} {L D P z b : Nat} (h : tw_wf s L D P) (hz : z < 8) (hb : b ≤ 3) : tw_wf (zs s z 0 (nI b)) L D P := by
  obtain ⟨h1, h3, h5, h7, h8, h9, h10, h11, h12, h13⟩ := h
  have ne : ∀ j, j ≠ 3 + 5 * z → zs s z 0 (nI b) j = s j := fun j h => if_neg h
  refine ⟨⟨(ne _ (by omega)).trans h1.1, h1.2⟩, ⟨(ne _ (by omega)).trans h3.1, h3.2⟩, ⟨(ne _ (by omega)).trans h5.1, h5.2⟩, fun q hq hn => ?_, fun i hi => ?_, fun y hy => ?_, fun k hk => ?_, fun c hc => ?_, ?_, fun i hi => ?_⟩
  · have a0 : pl (zs s z 0 (nI b)) q 0 = pl s q 0 := ne _ (by omega)
    have a1 : pl (zs s z 0 (nI b)) q 1 = pl s q 1 := ne _ (by omega)
    rw [a0] at hn ⊢; rw [a1]; exact h7 q hq hn
  · have a : lt (zs s z 0 (nI b)) i 2 = lt s i 2 := ne _ (by omega)
    rw [a]; exact h8 i hi
  · by_cases hyz : y = z
    · subst hyz
      exact ⟨b, hb, if_pos rfl⟩
    · have a : zn (zs s z 0 (nI b)) y 0 = zn s y 0 := ne _ (by omega)
      rw [a]; exact h9 y hy
  · have a1 : pn (zs s z 0 (nI b)) k 1 = pn s k 1 := ne _ (by omega)
    have a2 : pn (zs s z 0 (nI b)) k 2 = pn s k 2 := ne _ (by omega)
    rw [a1, a2]; exact h10 k hk
  · have a : cl (zs s z 0 (nI b)) c 0 = cl s c 0 := ne _ (by omega)
    rw [a]; exact h11 c hc
  · rw [ne 1 (by omega)]; exact h12
  · have a : lt (zs s z 0 (nI b)) i 1 = lt s i 1 := ne _ (by omega)
    rw [a]; exact h13 i hi
set_option maxRecDepth 100000
theorem fX3_136_0 : gh_fd RX3 136 0 15 .int false := gh_fd.own (T := TX3) tyX3 rfl in_X3 tyX3_ok nmX3 (by decide) q3845 rfl rfl (fun h => by cases h)
theorem hd_X3_breaks : yX3_breaks.cls = RX3 ∧ yX3_breaks.cls ≠ "java/lang/invoke/MethodHandle" ∧ yX3_breaks.cls ≠ "java/lang/invoke/VarHandle" ∧ (parseMethodDescriptor yX3_breaks.desc).map (fun d => d.parameters.length) = some 0 := by decide +kernel
theorem hd_X3_carriesOut : yX3_carriesOut.cls = RX3 ∧ yX3_carriesOut.cls ≠ "java/lang/invoke/MethodHandle" ∧ yX3_carriesOut.cls ≠ "java/lang/invoke/VarHandle" ∧ (parseMethodDescriptor yX3_carriesOut.desc).map (fun d => d.parameters.length) = some 0 := by decide +kernel
theorem hd_X3_cleans : yX3_cleans.cls = RX3 ∧ yX3_cleans.cls ≠ "java/lang/invoke/MethodHandle" ∧ yX3_cleans.cls ≠ "java/lang/invoke/VarHandle" ∧ (parseMethodDescriptor yX3_cleans.desc).map (fun d => d.parameters.length) = some 0 := by decide +kernel
theorem hd_X3_cools : yX3_cools.cls = RX3 ∧ yX3_cools.cls ≠ "java/lang/invoke/MethodHandle" ∧ yX3_cools.cls ≠ "java/lang/invoke/VarHandle" ∧ (parseMethodDescriptor yX3_cools.desc).map (fun d => d.parameters.length) = some 0 := by decide +kernel
theorem hd_X3_heats : yX3_heats.cls = RX3 ∧ yX3_heats.cls ≠ "java/lang/invoke/MethodHandle" ∧ yX3_heats.cls ≠ "java/lang/invoke/VarHandle" ∧ (parseMethodDescriptor yX3_heats.desc).map (fun d => d.parameters.length) = some 0 := by decide +kernel
theorem hd_X3_minute : yX3_minute.cls = RX3 ∧ yX3_minute.cls ≠ "java/lang/invoke/MethodHandle" ∧ yX3_minute.cls ≠ "java/lang/invoke/VarHandle" ∧ (parseMethodDescriptor yX3_minute.desc).map (fun d => d.parameters.length) = some 0 := by decide +kernel
theorem hd_X3_moves : yX3_moves.cls = RX3 ∧ yX3_moves.cls ≠ "java/lang/invoke/MethodHandle" ∧ yX3_moves.cls ≠ "java/lang/invoke/VarHandle" ∧ (parseMethodDescriptor yX3_moves.desc).map (fun d => d.parameters.length) = some 0 := by decide +kernel
set_option maxHeartbeats 1000000 in
set_option maxRecDepth 100000 in
theorem t_minute (l : Launch) (V : gh_V) (o : Nat) (ad : Nat → Nat) (I : Nat → Int32) (A : Nat → Nat → Int32) (F : Nat → Nat → UInt32) (g0 : gh_G) (hP : tw_P V g0 o ad I A F) (L : Nat) (hE : tw_wf (A 0) L (nD (A 0)) (nP (A 0))) (hnn : nnS (F 0)) : MI l yX3_minute cX3_minute 2 (some .int) ({ frames := 5, cells := 0, slots := 0, locals := 119 } : Room) V [.ref o] g0 (fun r g1 => r = minN (A 0) (F 0) ∧ ∃ b5 b6, tw_W V g0 g1 o ad (va_up I 4 (I 4 + minBr (A 0) (F 0))) (va_up (va_up (va_up A 5 b5) 6 b6) 0 (minS (A 0) (F 0))) (va_up F 0 (minT (A 0) (F 0)))) := by
  refine MG.of RX3 (by decide) rfl (Nat.le_of_ble_eq_true rfl) (fun pp ee s mm args below meth c ls hC hg hr hlk hnm hl => ?_)
  have hx := hC.1.1
  have hb := hC.1.2.1
  have hml := hC.1.2.2.1
  have hown := hC.1.2.2.2.1
  have hts := hC.1.2.2.2.2
  have hl : lv_has ls 2 [(0, .ref o)] := hl
  have hT := hP.W
  refine lv_aload_n hx hb dX3_minute_0 rfl (lv_at hl 0 rfl) ?_
  refine gh_get (v := .ref (ad 0)) hC hg hT.1.1 fX3_7_0 rfl dX3_minute_1 ?_
  refine lv_iconst (v := 0) hx hb dX3_minute_4 (by decide) ?_
  refine lv_dup2_11 hx hb dX3_minute_5 rfl rfl ?_
  refine gh_iald (n := 578) (f := (A 0)) hC hg (hT.1.2.1 0 (by decide)) (show ((0 : Int32)) = nI 0 from rfl) (by omega) (by omega) dX3_minute_6 ?_
  refine lv_iconst (v := 1) hx hb dX3_minute_7 (by decide) ?_
  refine lv_iadd hx hb dX3_minute_8 ?_
  refine gh_iast (n := 578) (f := (A 0)) hC hg (hT.1.2.1 0 (by decide)) (show ((0 : Int32)) = nI 0 from rfl) (by omega) (by omega) dX3_minute_9 (fun g H locs hg hw hn => ?_)
  have hT : tw_W V g0 g o ad I (va_up A 0 (upd (A 0) 0 (((A 0) 0) + 1))) F := hT.putA 0 (by decide) hw hn
  refine lv_aload_n hx hb dX3_minute_10 rfl (lv_at hl 0 rfl) ?_
  have hw0 := wf_time hE
  have hT : tw_W V g0 g o ad I (va_up A 0 (time1 (A 0))) F := hT
  generalize hs0 : time1 (A 0) = s0 at hT hw0
  refine gh_callv hg (gh_runV (As := []) (rest := []) hC hg (t_carriesOut l V o ad I (va_up A 0 s0) F _ hT.1 L (nD (A 0)) (nP (A 0)) hw0) 0 (lw_V q4024 q4026 qs76 q138 q4027) hT.1.1 rfl hd_X3_carriesOut ⟨Nat.le_of_ble_eq_true rfl, Nat.le_of_ble_eq_true rfl⟩ rfl hl.1 rfl (Nat.le_of_ble_eq_true rfl) dX3_minute_11 ⟨Nat.le_of_ble_eq_true rfl, Nat.le_of_ble_eq_true rfl⟩) (fun g H locs hg hp => ?_)
  have hT : tw_W V g0 g o ad I (va_up (va_up A 0 s0) 0 (carryS s0 (nP (A 0)))) F := hT.call hp
  have hT : tw_W V g0 g o ad I (va_up A 0 (carryS s0 (nP (A 0)))) F := hT.eqA (bx_uu _ _ _ _)
  have hw1 := wf_carry hw0
  generalize hs1 : carryS s0 (nP (A 0)) = s1 at hT hw1
  refine lv_aload_n hx hb dX3_minute_14 rfl (lv_at hl 0 rfl) ?_
  refine gh_callv hg (gh_runV (As := []) (rest := []) hC hg (t_heats l V o ad I (va_up A 0 s1) F _ hT.1 L (nD (A 0)) _ hw1) 0 (lw_V q4028 q4030 qs77 q138 q4031) hT.1.1 rfl hd_X3_heats ⟨Nat.le_of_ble_eq_true rfl, Nat.le_of_ble_eq_true rfl⟩ rfl hl.1 rfl (Nat.le_of_ble_eq_true rfl) dX3_minute_15 ⟨Nat.le_of_ble_eq_true rfl, Nat.le_of_ble_eq_true rfl⟩) (fun g H locs hg hp => ?_)
  obtain ⟨b5, b6, hp⟩ := hp
  have hT : tw_W V g0 g o ad I (va_up (va_up (va_up A 5 b5) 6 b6) 0 (ht2 s1 8)) F := (hT.call hp).eqA (fam8 rfl rfl rfl rfl rfl rfl rfl rfl (fun _ => rfl))
  have hw2 := wf_ht hw1
  generalize hs2 : ht2 s1 8 = s2 at hT hw2
  refine lv_aload_n hx hb dX3_minute_18 rfl (lv_at hl 0 rfl) ?_
  refine gh_callv hg (gh_runV (As := []) (rest := []) hC hg (t_cools l V o ad I (va_up (va_up (va_up A 5 b5) 6 b6) 0 s2) F _ hT.1 L (nD (A 0)) _ hw2 hnn) 0 (lw_V q4042 q4044 qs79 q138 q4045) hT.1.1 rfl hd_X3_cools ⟨Nat.le_of_ble_eq_true rfl, Nat.le_of_ble_eq_true rfl⟩ rfl hl.1 rfl (Nat.le_of_ble_eq_true rfl) dX3_minute_19 ⟨Nat.le_of_ble_eq_true rfl, Nat.le_of_ble_eq_true rfl⟩) (fun g H locs hg hp => ?_)
  obtain ⟨b6, hp⟩ := hp
  have hT : tw_W V g0 g o ad I (va_up (va_up (va_up A 5 b5) 6 b6) 0 ((coolF s2 (F 0)).1)) (va_up F 0 ((coolF s2 (F 0)).2)) := (hT.call hp).eqAF (fam8 rfl rfl rfl rfl rfl rfl rfl rfl (fun _ => rfl)) (fam4 rfl rfl rfl rfl (fun _ => rfl))
  have hw3 := cool_wf hw2 hnn 24 (Nat.le_refl _)
  rw [← coolF_eq] at hw3
  generalize hs3 : coolF s2 (F 0) = x3 at hT hw3
  refine lv_aload_n hx hb dX3_minute_22 rfl (lv_at hl 0 rfl) ?_
  refine gh_calli hg (gh_runV (As := []) (rest := []) hC hg (t_breaks l V o ad I (va_up (va_up (va_up A 5 b5) 6 b6) 0 x3.1) (va_up F 0 x3.2) _ hT.1 L (nD (A 0)) _ hw3.1 hw3.2) 0 (lw_V q4059 q4061 qs81 q138 q4062) hT.1.1 rfl hd_X3_breaks ⟨Nat.le_of_ble_eq_true rfl, Nat.le_of_ble_eq_true rfl⟩ rfl hl.1 rfl (Nat.le_of_ble_eq_true rfl) dX3_minute_23 ⟨Nat.le_of_ble_eq_true rfl, Nat.le_of_ble_eq_true rfl⟩) (fun r_1 g H locs hg hp => ?_)
  obtain ⟨hp, hpT⟩ := hp
  replace hp : r_1 = (brkF x3.1 x3.2).2.2 := hp
  subst hp
  have hT : tw_W V g0 g o ad I (va_up (va_up (va_up (va_up A 5 b5) 6 b6) 0 x3.1) 0 ((brkF x3.1 x3.2).1)) (va_up (va_up F 0 x3.2) 0 ((brkF x3.1 x3.2).2.1)) := hT.call hpT
  have hT : tw_W V g0 g o ad I (va_up (va_up (va_up A 5 b5) 6 b6) 0 ((brkF x3.1 x3.2).1)) (va_up F 0 ((brkF x3.1 x3.2).2.1)) := hT.eqAF (bx_uu _ _ _ _) (bx_uu _ _ _ _)
  have hw4 := brk_wf hw3.1 hw3.2 24 (Nat.le_refl _)
  rw [← brkF_eq] at hw4
  generalize hs4 : brkF x3.1 x3.2 = x4 at hT hw4 ⊢
  refine lv_istore_n (lv' := [(1, .int x4.2.2), (0, .ref o)]) hx hb dX3_minute_26 rfl hl (by decide) rfl (fun ls hl => ?_)
  refine lv_aload_n hx hb dX3_minute_27 rfl (lv_at hl 1 rfl) ?_
  refine lv_dup hx hb dX3_minute_28 rfl ?_
  refine gh_get (v := .int (I 4)) hC hg hT.1.1 fX3_136_0 rfl dX3_minute_29 ?_
  refine lv_iload_n hx hb dX3_minute_32 rfl (lv_at hl 0 rfl) ?_
  refine lv_iadd hx hb dX3_minute_33 ?_
  refine gh_put (v := .int ((I 4) + x4.2.2)) hC hg hT.1.1 fX3_136_0 rfl rfl (Nat.le_of_ble_eq_true rfl) dX3_minute_34 (fun g H locs hg hw hn => ?_)
  have hT : tw_W V g0 g o ad (va_up I 4 ((I 4) + x4.2.2)) (va_up (va_up (va_up A 5 b5) 6 b6) 0 x4.1) (va_up F 0 x4.2.1) := hT.putI 4 ((I 4) + x4.2.2) hw hn
  refine lv_iload_n hx hb dX3_minute_37 rfl (lv_at hl 0 rfl) ?_
  refine lv_aload_n hx hb dX3_minute_38 rfl (lv_at hl 1 rfl) ?_
  refine gh_calli hg (gh_runV (As := []) (rest := [.int x4.2.2]) hC hg (t_moves l V o ad (va_up I 4 ((I 4) + x4.2.2)) (va_up (va_up (va_up A 5 b5) 6 b6) 0 x4.1) (va_up F 0 x4.2.1) _ hT.1 L (nD (A 0)) _ hw4.1 hw4.2) 0 (lw_V q4070 q4072 qs83 q138 q4073) hT.1.1 rfl hd_X3_moves ⟨Nat.le_of_ble_eq_true rfl, Nat.le_of_ble_eq_true rfl⟩ rfl hl.1 rfl (Nat.le_of_ble_eq_true rfl) dX3_minute_39 ⟨Nat.le_of_ble_eq_true rfl, Nat.le_of_ble_eq_true rfl⟩) (fun r_2 g H locs hg hp => ?_)
  obtain ⟨hp, hpT⟩ := hp
  replace hp : r_2 = (mvF x4.1 x4.2.1 (nD (A 0))).2.2 := hp
  subst hp
  have hT : tw_W V g0 g o ad (va_up I 4 ((I 4) + x4.2.2)) (va_up (va_up (va_up (va_up A 5 b5) 6 b6) 0 x4.1) 0 ((mvF x4.1 x4.2.1 (nD (A 0))).1)) (va_up (va_up F 0 x4.2.1) 0 ((mvF x4.1 x4.2.1 (nD (A 0))).2.1)) := hT.call hpT
  have hT : tw_W V g0 g o ad (va_up I 4 ((I 4) + x4.2.2)) (va_up (va_up (va_up A 5 b5) 6 b6) 0 ((mvF x4.1 x4.2.1 (nD (A 0))).1)) (va_up F 0 ((mvF x4.1 x4.2.1 (nD (A 0))).2.1)) := hT.eqAF (bx_uu _ _ _ _) (bx_uu _ _ _ _)
  have hw5 := mv_wf (D := nD (A 0)) hw4.1 hw4.2 24 (Nat.le_refl _)
  rw [← mvF_eq] at hw5
  generalize hs5 : mvF x4.1 x4.2.1 (nD (A 0)) = x5 at hT hw5 ⊢
  refine lv_iadd hx hb dX3_minute_42 ?_
  refine lv_istore_n (lv' := [(1, .int (x4.2.2 + x5.2.2)), (0, .ref o)]) hx hb dX3_minute_43 rfl hl (by decide) rfl (fun ls hl => ?_)
  refine lv_aload_n hx hb dX3_minute_44 rfl (lv_at hl 1 rfl) ?_
  refine gh_callv hg (gh_runV (As := []) (rest := []) hC hg (t_cleans l V o ad (va_up I 4 ((I 4) + x4.2.2)) (va_up (va_up (va_up A 5 b5) 6 b6) 0 x5.1) (va_up F 0 x5.2.1) _ hT.1 L (nD (A 0)) _ hw5.1) 0 (lw_V q4086 q4088 qs87 q138 q4089) hT.1.1 rfl hd_X3_cleans ⟨Nat.le_of_ble_eq_true rfl, Nat.le_of_ble_eq_true rfl⟩ rfl hl.1 rfl (Nat.le_of_ble_eq_true rfl) dX3_minute_45 ⟨Nat.le_of_ble_eq_true rfl, Nat.le_of_ble_eq_true rfl⟩) (fun g H locs hg hp => ?_)
  have hT : tw_W V g0 g o ad (va_up I 4 ((I 4) + x4.2.2)) (va_up (va_up (va_up (va_up A 5 b5) 6 b6) 0 x5.1) 0 (cln x5.1 2)) (va_up F 0 x5.2.1) := hT.call hp
  have hT : tw_W V g0 g o ad (va_up I 4 ((I 4) + x4.2.2)) (va_up (va_up (va_up A 5 b5) 6 b6) 0 (cln x5.1 2)) (va_up F 0 x5.2.1) := hT.eqA (bx_uu _ _ _ _)
  have e1 : minC (A 0) (F 0) = x4 := by unfold minC minB minA; rw [hs0, hs1, hs2, hs3, hs4]
  have e2 : minD (A 0) (F 0) = x5 := by unfold minD; rw [e1, hs5]
  have e3 : minS (A 0) (F 0) = cln x5.1 2 := by unfold minS; rw [e2]
  have e4 : minT (A 0) (F 0) = x5.2.1 := by unfold minT; rw [e2]
  have e5 : minN (A 0) (F 0) = x4.2.2 + x5.2.2 := by unfold minN; rw [e1, e2]
  have e6 : minBr (A 0) (F 0) = x4.2.2 := by unfold minBr; rw [e1]
  refine lv_iload_n hx hb dX3_minute_48 rfl (lv_at hl 0 rfl) ?_
  exact gh_reti hC hg hr hlk (by rw [e3, e4, e5, e6]; exact ⟨rfl, b5, b6, hT⟩) dX3_minute_49 (Nat.le_of_ble_eq_true rfl) (Nat.le_of_ble_eq_true rfl)
set_option maxHeartbeats 1000000 in
set_option maxRecDepth 100000 in
theorem t_passes (l : Launch) (V : gh_V) (o : Nat) (ad : Nat → Nat) (I : Nat → Int32) (A : Nat → Nat → Int32) (F : Nat → Nat → UInt32) (g0 : gh_G) (hP : tw_P V g0 o ad I A F) (x : Int32) (n L : Nat) (ex : x = nI n) (hE : tw_wf (A 0) L (nD (A 0)) (nP (A 0))) (hnn : nnS (F 0)) (hn31 : n < 2 ^ 31) : MI l yX3_passes cX3_passes 4 (some .int) ({ frames := 6, cells := 0, slots := 0, locals := 140 } : Room) V [.ref o, .int x] g0 (fun r g1 => r = (runsF (A 0) (F 0) n).2.2.1 ∧ ∃ b5 b6, tw_W V g0 g1 o ad (va_up I 4 (runsF (A 0) (F 0) n).2.2.2) (va_up (va_up (va_up A 5 b5) 6 b6) 0 (runsF (A 0) (F 0) n).1) (va_up F 0 (runsF (A 0) (F 0) n).2.1)) := by
  refine MG.of RX3 (by decide) rfl (Nat.le_of_ble_eq_true rfl) (fun pp ee s mm args below meth c ls hC hg hr hlk hnm hl => ?_)
  have hx := hC.1.1
  have hb := hC.1.2.1
  have hml := hC.1.2.2.1
  have hown := hC.1.2.2.2.1
  have hts := hC.1.2.2.2.2
  have hl : lv_has ls 4 [(0, .ref o), (1, .int x)] := hl
  have hT := hP.W
  refine lv_aload_n hx hb dX3_passes_0 rfl (lv_at hl 0 rfl) ?_
  refine lv_iconst (v := 0) hx hb dX3_passes_1 (by decide) ?_
  refine gh_put (v := .int 0) hC hg hT.1.1 fX3_136_0 rfl rfl (Nat.le_of_ble_eq_true rfl) dX3_passes_2 (fun g H locs hg hw hn => ?_)
  have hT : tw_W V g0 g o ad (va_up I 4 0) A F := hT.putI 4 0 hw hn
  refine lv_iconst (v := 0) hx hb dX3_passes_5 (by decide) ?_
  refine lv_istore_n (lv' := [(2, .int 0), (0, .ref o), (1, .int x)]) hx hb dX3_passes_6 rfl hl (by decide) rfl (fun ls hl => ?_)
  refine lv_iconst (v := 0) hx hb dX3_passes_7 (by decide) ?_
  refine lv_istore_n (lv' := [(3, .int 0), (2, .int 0), (0, .ref o), (1, .int x)]) hx hb dX3_passes_8 rfl hl (by decide) rfl (fun ls hl => ?_)
  refine gh_loop (N := n) (X := fun i_1 g ls => ∃ (b5 : Nat → Int32), ∃ (b6 : Nat → Int32), tw_W V g0 g o ad (va_up I 4 ((runs (A 0) (F 0) i_1).2.2.2)) (va_up (va_up (va_up A 5 b5) 6 b6) 0 ((runs (A 0) (F 0) i_1).1)) (va_up F 0 ((runs (A 0) (F 0) i_1).2.1)) ∧ lv_has ls 4 [(0, .ref o), (1, .int x), (2, .int ((runs (A 0) (F 0) i_1).2.2.1)), (3, .int (nI i_1))]) ?_ ?_ 0 (by omega) hg ⟨A 5, A 6, (hT.eqIAF (fam7 rfl rfl rfl rfl rfl rfl rfl (fun _ => rfl)) (fam8 rfl rfl rfl rfl rfl rfl rfl rfl (fun _ => rfl)) (fam4 rfl rfl rfl rfl (fun _ => rfl))), lv_sub hl [2, 3, 1, 0] rfl⟩
  · intro g H locs ls hg hX
    obtain ⟨b5, b6, hT, hl⟩ := hX
    refine lv_iload_n hx hb dX3_passes_9 rfl (lv_at hl 3 rfl) ?_
    refine lv_iload_n hx hb dX3_passes_10 rfl (lv_at hl 1 rfl) ?_
    refine lv_icmp_ge (tgt := 27) hx hb dX3_passes_11 (by decide) (fun _ => ?_) (fun c_2 => (absurd ((nx_le ex rfl (by omega) (by omega)).mpr (by omega)) c_2))
    refine lv_iload_n hx hb dX3_passes_27 rfl (lv_at hl 2 rfl) ?_
    exact gh_reti hC hg hr hlk (by rw [runsF_eq]; exact ⟨rfl, _, _, hT⟩) dX3_passes_28 (Nat.le_of_ble_eq_true rfl) (Nat.le_of_ble_eq_true rfl)
  · intro i_1 h_3 ih9 g H locs ls hg hX
    obtain ⟨b5, b6, hT, hl⟩ := hX
    refine lv_iload_n hx hb dX3_passes_9 rfl (lv_at hl 3 rfl) ?_
    obtain ⟨P9, hW9, hn9⟩ := runs_wf hE hnn i_1
    refine lv_iload_n hx hb dX3_passes_10 rfl (lv_at hl 1 rfl) ?_
    refine lv_icmp_ge (tgt := 27) hx hb dX3_passes_11 (by decide) (fun c_4 => (absurd ((nx_le ex rfl (by omega) (by omega)).mp c_4) (by omega))) (fun _ => ?_)
    refine lv_iload_n hx hb dX3_passes_14 rfl (lv_at hl 2 rfl) ?_
    refine lv_aload_n hx hb dX3_passes_15 rfl (lv_at hl 0 rfl) ?_
    refine gh_calli hg (gh_runV (As := []) (rest := [.int ((runs (A 0) (F 0) i_1).2.2.1)]) hC hg (t_minute l V o ad (va_up I 4 ((runs (A 0) (F 0) i_1).2.2.2)) (va_up (va_up (va_up A 5 b5) 6 b6) 0 ((runs (A 0) (F 0) i_1).1)) (va_up F 0 ((runs (A 0) (F 0) i_1).2.1)) _ hT.1 L (wf_n hW9) hn9) 0 (lw_V q4020 q4022 qs75 q138 q4023) hT.1.1 rfl hd_X3_minute ⟨Nat.le_of_ble_eq_true rfl, Nat.le_of_ble_eq_true rfl⟩ rfl hl.1 rfl (Nat.le_of_ble_eq_true rfl) dX3_passes_16 ⟨Nat.le_of_ble_eq_true rfl, Nat.le_of_ble_eq_true rfl⟩) (fun r_5 g H locs hg hp => ?_)
    obtain ⟨hp, b5, b6, hpT⟩ := hp
    replace hp : r_5 = minN ((runs (A 0) (F 0) i_1).1) ((runs (A 0) (F 0) i_1).2.1) := hp
    subst hp
    have hT : tw_W V g0 g o ad (va_up I 4 ((runs (A 0) (F 0) i_1).2.2.2 + minBr ((runs (A 0) (F 0) i_1).1) ((runs (A 0) (F 0) i_1).2.1))) (va_up (va_up (va_up A 5 b5) 6 b6) 0 (minS ((runs (A 0) (F 0) i_1).1) ((runs (A 0) (F 0) i_1).2.1))) (va_up F 0 (minT ((runs (A 0) (F 0) i_1).1) ((runs (A 0) (F 0) i_1).2.1))) := (hT.call hpT).eqIAF (fam7 rfl rfl rfl rfl rfl rfl rfl (fun _ => rfl)) (fam8 rfl rfl rfl rfl rfl rfl rfl rfl (fun _ => rfl)) (fam4 rfl rfl rfl rfl (fun _ => rfl))
    refine lv_iadd hx hb dX3_passes_19 ?_
    refine lv_istore_n (lv' := [(2, .int (((runs (A 0) (F 0) i_1).2.2.1) + (minN ((runs (A 0) (F 0) i_1).1) ((runs (A 0) (F 0) i_1).2.1)))), (0, .ref o), (1, .int x), (3, .int (nI i_1))]) hx hb dX3_passes_20 rfl hl (by decide) rfl (fun ls hl => ?_)
    refine lv_iinc (v := (nI (i_1 + 1))) (lv' := [(3, .int (nI (i_1 + 1))), (2, .int (((runs (A 0) (F 0) i_1).2.2.1) + (minN ((runs (A 0) (F 0) i_1).1) ((runs (A 0) (F 0) i_1).2.1)))), (0, .ref o), (1, .int x)]) hx hb dX3_passes_21 hl (k := 3) rfl (nx_iinc rfl) (by decide) rfl (fun ls hl => ?_)
    refine lv_goto (tgt := 9) hx hb dX3_passes_24 (by decide) ?_
    exact ih9 _ _ _ _ hg ⟨b5, b6, (hT.eqIAF (fam7 rfl rfl rfl rfl (show ((runs (A 0) (F 0) i_1).2.2.2 + minBr ((runs (A 0) (F 0) i_1).1) ((runs (A 0) (F 0) i_1).2.1)) = (runs (A 0) (F 0) (i_1 + 1)).2.2.2 from by rw [runs_s]) rfl rfl (fun _ => rfl)) (fam8 (show (minS ((runs (A 0) (F 0) i_1).1) ((runs (A 0) (F 0) i_1).2.1)) = (runs (A 0) (F 0) (i_1 + 1)).1 from by rw [runs_s]) rfl rfl rfl rfl rfl rfl rfl (fun _ => rfl)) (fam4 (show (minT ((runs (A 0) (F 0) i_1).1) ((runs (A 0) (F 0) i_1).2.1)) = (runs (A 0) (F 0) (i_1 + 1)).2.1 from by rw [runs_s]) rfl rfl rfl (fun _ => rfl))), (by rw [show (runs (A 0) (F 0) (i_1 + 1)).2.2.1 = (((runs (A 0) (F 0) i_1).2.2.1) + (minN ((runs (A 0) (F 0) i_1).1) ((runs (A 0) (F 0) i_1).2.1))) from by rw [runs_s]]; exact lv_sub hl [2, 3, 1, 0] rfl)⟩
