/-- grown: all that was is as it was -/
def gh_ge (g g1 : gh_G) : Prop := ∀ a x, g a = some x → g1 a = some x
theorem gh_ge.rf {g : gh_G} : gh_ge g g := fun _ _ h => h
theorem gh_ge.tr {g g1 g2 : gh_G} (h : gh_ge g g1) (h2 : gh_ge g1 g2) : gh_ge g g2 := fun a x q => h2 a x (h a x q)
theorem gh_ge.no {g g1 : gh_G} (h : gh_ge g g1) {a : Nat} (h0 : g1 a = none) : g a = none := by
  cases hq : g a with
  | none => rfl
  | some x => rw [h a x hq] at h0; cases h0
theorem gh_ge.new {g g1 g2 : gh_G} (h : gh_ge g g1) {a : Nat} (h0 : g1 a = none) (hn : ∀ q, q ≠ a → g2 q = g1 q) : gh_ge g g2 := fun b x q => by
  have h1 := h b x q
  rw [hn b (fun e => by rw [e, h0] at h1; cases h1)]; exact h1
theorem gh_ge.set {g g1 g2 : gh_G} (h : gh_ge g g1) {a : Nat} (h0 : g a = none) (hn : ∀ q, q ≠ a → g2 q = g1 q) : gh_ge g g2 := fun b x q => by
  rw [hn b (fun e => by rw [e, h0] at q; cases q)]; exact h b x q
theorem gh_ge.of {g g1 : gh_G} {a : Nat} (h0 : g a = none) (hn : ∀ q, q ≠ a → g1 q = g q) : gh_ge g g1 := gh_ge.rf.new h0 hn
theorem gh_ge.fo {g g1 : gh_G} {o : Nat} (h : gh_ge g g1) : gh_fo o g g1 := fun a t x q _ => h a _ q
theorem gh_ge.wa {V : gh_V} {g g1 : gh_G} {w i : Nat} {wl : Int32} (h : gh_ge g g1) (hw : wa_P V g w i wl) : wa_P V g1 w i wl := ⟨hw.1, h _ _ hw.2⟩
theorem gh_ge.ky {V : gh_V} {g g1 : gh_G} {ck x c : Nat} (h : gh_ge g g1) (hk : ky_P V g ck x c) : ky_P V g1 ck x c := by
  obtain ⟨u, w, h1, h2⟩ := hk
  exact ⟨u, w, h _ _ h1, h2⟩
theorem gh_neA {g : gh_G} {a b : Nat} {t u : gh_T} {i : Nat} {x : List Value} {y : ClassId × vp_A} (ha : g a = some (t, oo i x)) (hb : g b = some (u, .inl (.inl y))) : a ≠ b := fun e => by
  subst e
  rw [ha] at hb
  cases hb
set_option maxRecDepth 100000
theorem fX4_31_3 : gh_fd RX4 31 3 3 .int false := gh_fd.own (T := TX4) tyX4 rfl in_X4 tyX4_ok nmX4 (by decide) q1593 rfl rfl (fun h => by cases h)
theorem fX4_34_3 : gh_fd RX4 34 3 4 .int false := gh_fd.own (T := TX4) tyX4 rfl in_X4 tyX4_ok nmX4 (by decide) q1596 rfl rfl (fun h => by cases h)
theorem fX5_13_4 : gh_fd RX5 13 4 1 .int true := gh_fd.own (T := TX5) tyX5 rfl in_X5 tyX5_ok nmX5 (by decide) q2982 rfl rfl (fun h => rfl)
theorem fX5_16_4 : gh_fd RX5 16 4 4 .int false := gh_fd.own (T := TX5) tyX5 rfl in_X5 tyX5_ok nmX5 (by decide) q2986 rfl rfl (fun h => by cases h)
theorem fX5_19_4 : gh_fd RX5 19 4 2 .int true := gh_fd.own (T := TX5) tyX5 rfl in_X5 tyX5_ok nmX5 (by decide) q2983 rfl rfl (fun h => rfl)
theorem fX5_22_4 : gh_fd RX5 22 4 3 .int true := gh_fd.own (T := TX5) tyX5 rfl in_X5 tyX5_ok nmX5 (by decide) q2985 rfl rfl (fun h => rfl)
theorem fX5_28_4 : gh_fd RX5 28 4 5 .int false := gh_fd.own (T := TX5) tyX5 rfl in_X5 tyX5_ok nmX5 (by decide) q2988 rfl rfl (fun h => by cases h)
theorem fX5_7_4 : gh_fd RX5 7 4 0 .int true := gh_fd.own (T := TX5) tyX5 rfl in_X5 tyX5_ok nmX5 (by decide) q2981 rfl rfl (fun h => rfl)
theorem hd_X4_init : yX4_init.cls = RX4 ∧ yX4_init.cls ≠ "java/lang/invoke/MethodHandle" ∧ yX4_init.cls ≠ "java/lang/invoke/VarHandle" ∧ (parseMethodDescriptor yX4_init.desc).map (fun d => d.parameters.length) = some 2 := by decide +kernel
theorem hd_X5_init : yX5_init.cls = RX5 ∧ yX5_init.cls ≠ "java/lang/invoke/MethodHandle" ∧ yX5_init.cls ≠ "java/lang/invoke/VarHandle" ∧ (parseMethodDescriptor yX5_init.desc).map (fun d => d.parameters.length) = some 5 := by decide +kernel
theorem hd_X7_kind : yX7_kind.cls = RX7 ∧ yX7_kind.cls ≠ "java/lang/invoke/MethodHandle" ∧ yX7_kind.cls ≠ "java/lang/invoke/VarHandle" ∧ (parseMethodDescriptor yX7_kind.desc).map (fun d => d.parameters.length) = some 1 := by decide +kernel
set_option maxHeartbeats 1000000 in
set_option maxRecDepth 100000 in
theorem j_X4_copy (l : Launch) (V : gh_V) (g0 : gh_G) (q w pa : Nat) (ld sk ic : Int32) (fa : Nat → Int32) (t9 t5 : gh_T) (hq9 : g0 q = some (t9, oo 3 [.ref w, .ref pa, .int ld, .int sk, .int ic])) (ha9 : g0 pa = some (t5, ai V 0 5 fa)) (t8 t6 : gh_T) : MR l yX4_copy cX4_copy 2 (some (.object "AnnealingLehr$Lot")) ({ frames := 2, cells := 2, slots := 10, locals := 34 } : Room) V [.ref q] g0 (fun r g1 => ∃ q1 pa1 : Nat, r = some q1 ∧ g1 q1 = some (t8, oo 3 [.ref w, .ref pa1, .int ld, .int sk, .int ic]) ∧ g1 pa1 = some (t6, ai V 0 5 fa) ∧ g0 q1 = none ∧ g0 pa1 = none ∧ gh_ge g0 g1) := by
  refine MG.of RX4 (by decide) rfl (Nat.le_of_ble_eq_true rfl) (fun pp ee s mm args below meth c ls hC hg hr hlk hnm hl => ?_)
  have hx := hC.1.1
  have hb := hC.1.2.1
  have hml := hC.1.2.2.1
  have hown := hC.1.2.2.2.1
  have hts := hC.1.2.2.2.2
  have hl : lv_has ls 2 [(0, .ref q)] := hl
  obtain ⟨g, hg, hgg⟩ : ∃ g, gh_W V (gh_A g0 s.heap.size) s g s.heap [] ∧ g = g0 := ⟨g0, hg, rfl⟩
  have h0q := hq9
  have h0a := ha9
  rw [← hgg] at hq9 ha9
  have hge : gh_ge g0 g := by rw [hgg]; exact gh_ge.rf
  refine gh_new (ci := 3) (fs := [.null, .null, .int 0, .int 0, .int 0]) hC hg (fun q9 => (t8.1, t8.2.1, t8.2.2)) rfl in_X4 tyX4 tyX4_ok q2967 q1547 q157 (by decide +kernel) (Nat.le_of_ble_eq_true rfl) (Nat.le_of_ble_eq_true rfl) dX4_copy_0 (fun q_1 g H hg h0 hw hn => ?_)
  have hq9 : g q = some ((t9.1, t9.2.1, t9.2.2), oo 3 [.ref w, .ref pa, .int ld, .int sk, .int ic]) := (hn _ (gh_neN hq9 h0)).trans hq9
  have ha9 : g pa = some ((t5.1, t5.2.1, t5.2.2), ai V 0 5 fa) := (hn _ (gh_neN ha9 h0)).trans ha9
  have hz_q_1 : g0 q_1 = none := hge.no h0
  have hge : gh_ge g0 g := hge.new h0 hn
  have c_2 : g q_1 = some ((t8.1, t8.2.1, t8.2.2), oo 3 [.null, .null, .int 0, .int 0, .int 0]) := hw
  refine lv_dup hx hb dX4_copy_3 rfl ?_
  refine lv_aload_n hx hb dX4_copy_4 rfl (lv_at hl 0 rfl) ?_
  refine gh_get (v := .ref w) hC hg hq9 fX4_9_3 rfl dX4_copy_5 ?_
  refine lv_aload_n hx hb dX4_copy_8 rfl (lv_at hl 0 rfl) ?_
  refine gh_get (v := .ref pa) hC hg hq9 fX4_15_3 rfl dX4_copy_9 ?_
  refine gh_clone hC hg hl.1 (fun q9 => (t6.1, t6.2.1, t6.2.2)) ha9 rfl (hC.2.1.2 0 _ rfl).2 q2968 q2708 q427 q428 q2709 q2710 (fun _ _ => rfl) (Nat.le_of_ble_eq_true rfl) (Nat.le_of_ble_eq_true rfl) (Nat.le_of_ble_eq_true rfl) (Nat.le_of_ble_eq_true rfl) dX4_copy_12 (fun q_3 g H hg h0 hw hn => ?_)
  have hq9 : g q = some ((t9.1, t9.2.1, t9.2.2), oo 3 [.ref w, .ref pa, .int ld, .int sk, .int ic]) := (hn _ (gh_neN hq9 h0)).trans hq9
  have ha9 : g pa = some ((t5.1, t5.2.1, t5.2.2), ai V 0 5 fa) := (hn _ (gh_neN ha9 h0)).trans ha9
  have c_2 : g q_1 = some ((t8.1, t8.2.1, t8.2.2), oo 3 [.null, .null, .int 0, .int 0, .int 0]) := (hn _ (gh_neN c_2 h0)).trans c_2
  have hz_q_3 : g0 q_3 = none := hge.no h0
  have hge : gh_ge g0 g := hge.new h0 hn
  have c_4 : g q_3 = some ((t6.1, t6.2.1, t6.2.2), ai V 0 5 fa) := hw
  refine gh_castAi hC hg c_4 rfl (hC.2.1.2 0 _ rfl).2 q2969 dX4_copy_15 ?_
  refine gh_callv hg (gh_runI (As := [.ref w, .ref q_3]) (rest := [.ref q_1]) hC hg (j_X4_init l V _ q_1 w q_3 (t8.1, t8.2.1, t8.2.2) c_2) 2 (lw_meth q1583) q157 q2970 q1582 rfl hd_X4_init.2 ⟨Nat.le_of_ble_eq_true rfl, Nat.le_of_ble_eq_true rfl⟩ rfl hl.1 rfl (Nat.le_of_ble_eq_true rfl) dX4_copy_18 ⟨Nat.le_of_ble_eq_true rfl, Nat.le_of_ble_eq_true rfl⟩) (fun g H locs hg hp => ?_)
  obtain ⟨hnew9, hfr9⟩ := hp
  have hq9 : g q = some ((t9.1, t9.2.1, t9.2.2), oo 3 [.ref w, .ref pa, .int ld, .int sk, .int ic]) := (hfr9 _ (fun e9 => by have h9 := h0q; rw [e9, hz_q_1] at h9; cases h9)).trans hq9
  have ha9 : g pa = some ((t5.1, t5.2.1, t5.2.2), ai V 0 5 fa) := (hfr9 _ (fun e9 => by have h9 := h0a; rw [e9, hz_q_1] at h9; cases h9)).trans ha9
  have c_4 : g q_3 = some ((t6.1, t6.2.1, t6.2.2), ai V 0 5 fa) := (hfr9 _ (gh_neA c_2 c_4).symm).trans c_4
  have hge : gh_ge g0 g := hge.set hz_q_1 hfr9
  have c_2 : g q_1 = some ((t8.1, t8.2.1, t8.2.2), oo 3 [.ref w, .ref q_3, .int 0, .int 0, .int 0]) := hnew9
  refine lv_astore_n (lv' := [(1, .ref q_1), (0, .ref q)]) hx hb dX4_copy_21 rfl hl (by decide) rfl (fun ls hl => ?_)
  refine lv_aload_n hx hb dX4_copy_22 rfl (lv_at hl 0 rfl) ?_
  refine lv_aload_n hx hb dX4_copy_23 rfl (lv_at hl 1 rfl) ?_
  refine gh_get (v := .int ld) hC hg hq9 fX4_27_3 rfl dX4_copy_24 ?_
  refine gh_put (v := .int ld) hC hg c_2 fX4_27_3 rfl rfl (Nat.le_of_ble_eq_true rfl) dX4_copy_27 (fun g H locs hg hw hn => ?_)
  have hq9 : g q = some ((t9.1, t9.2.1, t9.2.2), oo 3 [.ref w, .ref pa, .int ld, .int sk, .int ic]) := (hn _ (fun e9 => by have h9 := h0q; rw [e9, hz_q_1] at h9; cases h9)).trans hq9
  have ha9 : g pa = some ((t5.1, t5.2.1, t5.2.2), ai V 0 5 fa) := (hn _ (fun e9 => by have h9 := h0a; rw [e9, hz_q_1] at h9; cases h9)).trans ha9
  have c_4 : g q_3 = some ((t6.1, t6.2.1, t6.2.2), ai V 0 5 fa) := (hn _ (gh_neA c_2 c_4).symm).trans c_4
  have hge : gh_ge g0 g := hge.set hz_q_1 hn
  have c_2 : g q_1 = some ((t8.1, t8.2.1, t8.2.2), oo 3 [.ref w, .ref q_3, .int ld, .int 0, .int 0]) := hw
  refine lv_aload_n hx hb dX4_copy_30 rfl (lv_at hl 0 rfl) ?_
  refine lv_aload_n hx hb dX4_copy_31 rfl (lv_at hl 1 rfl) ?_
  refine gh_get (v := .int sk) hC hg hq9 fX4_31_3 rfl dX4_copy_32 ?_
  refine gh_put (v := .int sk) hC hg c_2 fX4_31_3 rfl rfl (Nat.le_of_ble_eq_true rfl) dX4_copy_35 (fun g H locs hg hw hn => ?_)
  have hq9 : g q = some ((t9.1, t9.2.1, t9.2.2), oo 3 [.ref w, .ref pa, .int ld, .int sk, .int ic]) := (hn _ (fun e9 => by have h9 := h0q; rw [e9, hz_q_1] at h9; cases h9)).trans hq9
  have ha9 : g pa = some ((t5.1, t5.2.1, t5.2.2), ai V 0 5 fa) := (hn _ (fun e9 => by have h9 := h0a; rw [e9, hz_q_1] at h9; cases h9)).trans ha9
  have c_4 : g q_3 = some ((t6.1, t6.2.1, t6.2.2), ai V 0 5 fa) := (hn _ (gh_neA c_2 c_4).symm).trans c_4
  have hge : gh_ge g0 g := hge.set hz_q_1 hn
  have c_2 : g q_1 = some ((t8.1, t8.2.1, t8.2.2), oo 3 [.ref w, .ref q_3, .int ld, .int sk, .int 0]) := hw
  refine lv_aload_n hx hb dX4_copy_38 rfl (lv_at hl 0 rfl) ?_
  refine lv_aload_n hx hb dX4_copy_39 rfl (lv_at hl 1 rfl) ?_
  refine gh_get (v := .int ic) hC hg hq9 fX4_34_3 rfl dX4_copy_40 ?_
  refine gh_put (v := .int ic) hC hg c_2 fX4_34_3 rfl rfl (Nat.le_of_ble_eq_true rfl) dX4_copy_43 (fun g H locs hg hw hn => ?_)
  have hq9 : g q = some ((t9.1, t9.2.1, t9.2.2), oo 3 [.ref w, .ref pa, .int ld, .int sk, .int ic]) := (hn _ (fun e9 => by have h9 := h0q; rw [e9, hz_q_1] at h9; cases h9)).trans hq9
  have ha9 : g pa = some ((t5.1, t5.2.1, t5.2.2), ai V 0 5 fa) := (hn _ (fun e9 => by have h9 := h0a; rw [e9, hz_q_1] at h9; cases h9)).trans ha9
  have c_4 : g q_3 = some ((t6.1, t6.2.1, t6.2.2), ai V 0 5 fa) := (hn _ (gh_neA c_2 c_4).symm).trans c_4
  have hge : gh_ge g0 g := hge.set hz_q_1 hn
  have c_2 : g q_1 = some ((t8.1, t8.2.1, t8.2.2), oo 3 [.ref w, .ref q_3, .int ld, .int sk, .int ic]) := hw
  refine lv_aload_n hx hb dX4_copy_46 rfl (lv_at hl 0 rfl) ?_
  exact gh_retq (r := some q_1) (Or.inl ⟨_, rfl⟩) hC hg hr hlk (⟨q_1, q_3, rfl, c_2, c_4, hz_q_1, hz_q_3, hge⟩) dX4_copy_47 (Nat.le_of_ble_eq_true rfl) (Nat.le_of_ble_eq_true rfl)
set_option maxHeartbeats 1000000 in
set_option maxRecDepth 100000 in
theorem j_X5_init (l : Launch) (V : gh_V) (g0 : gh_G) (q : Nat) (kd wl wn du pr : Int32) (t9 : gh_T) (hq9 : g0 q = some (t9, oo 4 [.int 0, .int 0, .int 0, .int 0, .int 0, .int 0])) : MV l yX5_init cX5_init 6 ({ frames := 1, cells := 0, slots := 0, locals := 12 } : Room) V [.ref q, .int kd, .int wl, .int wn, .int du, .int pr] g0 (fun g1 => g1 q = some (t9, oo 4 [.int kd, .int wl, .int du, .int pr, .int wn, .int 0]) ∧ ∀ b, b ≠ q → g1 b = g0 b) := by
  refine MG.of RX5 (by decide) rfl (Nat.le_of_ble_eq_true rfl) (fun pp ee s mm args below meth c ls hC hg hr hlk hnm hl => ?_)
  have hx := hC.1.1
  have hb := hC.1.2.1
  have hml := hC.1.2.2.1
  have hown := hC.1.2.2.2.1
  have hts := hC.1.2.2.2.2
  have hl : lv_has ls 6 [(0, .ref q), (1, .int kd), (2, .int wl), (3, .int wn), (4, .int du), (5, .int pr)] := hl
  obtain ⟨g, hg, hgg⟩ : ∃ g, gh_W V (gh_A g0 s.heap.size) s g s.heap [] ∧ g = g0 := ⟨g0, hg, rfl⟩
  rw [← hgg] at hq9
  have hfr : ∀ b, b ≠ q → g b = g0 b := fun b _ => by rw [hgg]
  refine lv_aload_n hx hb dX5_init_0 rfl (lv_at hl 0 rfl) ?_
  refine W.objInit hx hb hown (hts _ q2980) (hts _ q185) (hts _ q186) rfl (by rw [hml]; exact hl.1) rfl dX5_init_1 (Nat.le_of_ble_eq_true rfl) (Nat.le_of_ble_eq_true rfl) ?_
  refine W.eq (g2 := F0 mm 4 ls []) rfl ?_
  refine lv_aload_n hx hb dX5_init_4 rfl (lv_at hl 0 rfl) ?_
  refine lv_iload_n hx hb dX5_init_5 rfl (lv_at hl 1 rfl) ?_
  refine gh_putF (v := .int kd) hC hg hnm hq9 fX5_7_4 rfl rfl (Nat.le_of_ble_eq_true rfl) dX5_init_6 (fun g H locs hg hw hn => ?_)
  have hfr : ∀ b, b ≠ q → g b = g0 b := fun b h1 => (hn b h1).trans (hfr b h1)
  have hq9 : g q = some ((t9.1, t9.2.1, t9.2.2), oo 4 [.int kd, .int 0, .int 0, .int 0, .int 0, .int 0]) := hw
  refine lv_aload_n hx hb dX5_init_9 rfl (lv_at hl 0 rfl) ?_
  refine lv_iload_n hx hb dX5_init_10 rfl (lv_at hl 2 rfl) ?_
  refine gh_putF (v := .int wl) hC hg hnm hq9 fX5_13_4 rfl rfl (Nat.le_of_ble_eq_true rfl) dX5_init_11 (fun g H locs hg hw hn => ?_)
  have hfr : ∀ b, b ≠ q → g b = g0 b := fun b h1 => (hn b h1).trans (hfr b h1)
  have hq9 : g q = some ((t9.1, t9.2.1, t9.2.2), oo 4 [.int kd, .int wl, .int 0, .int 0, .int 0, .int 0]) := hw
  refine lv_aload_n hx hb dX5_init_14 rfl (lv_at hl 0 rfl) ?_
  refine lv_iload_n hx hb dX5_init_15 rfl (lv_at hl 3 rfl) ?_
  refine gh_put (v := .int wn) hC hg hq9 fX5_16_4 rfl rfl (Nat.le_of_ble_eq_true rfl) dX5_init_16 (fun g H locs hg hw hn => ?_)
  have hfr : ∀ b, b ≠ q → g b = g0 b := fun b h1 => (hn b h1).trans (hfr b h1)
  have hq9 : g q = some ((t9.1, t9.2.1, t9.2.2), oo 4 [.int kd, .int wl, .int 0, .int 0, .int wn, .int 0]) := hw
  refine lv_aload_n hx hb dX5_init_19 rfl (lv_at hl 0 rfl) ?_
  refine lv_iload hx hb dX5_init_20 (lv_at hl 4 rfl) ?_
  refine gh_putF (v := .int du) hC hg hnm hq9 fX5_19_4 rfl rfl (Nat.le_of_ble_eq_true rfl) dX5_init_22 (fun g H locs hg hw hn => ?_)
  have hfr : ∀ b, b ≠ q → g b = g0 b := fun b h1 => (hn b h1).trans (hfr b h1)
  have hq9 : g q = some ((t9.1, t9.2.1, t9.2.2), oo 4 [.int kd, .int wl, .int du, .int 0, .int wn, .int 0]) := hw
  refine lv_aload_n hx hb dX5_init_25 rfl (lv_at hl 0 rfl) ?_
  refine lv_iload hx hb dX5_init_26 (lv_at hl 5 rfl) ?_
  refine gh_putF (v := .int pr) hC hg hnm hq9 fX5_22_4 rfl rfl (Nat.le_of_ble_eq_true rfl) dX5_init_28 (fun g H locs hg hw hn => ?_)
  have hfr : ∀ b, b ≠ q → g b = g0 b := fun b h1 => (hn b h1).trans (hfr b h1)
  have hq9 : g q = some ((t9.1, t9.2.1, t9.2.2), oo 4 [.int kd, .int wl, .int du, .int pr, .int wn, .int 0]) := hw
  exact gh_retv hC hg hr hlk (⟨hq9, hfr⟩) dX5_init_31 (Nat.le_of_ble_eq_true rfl) (Nat.le_of_ble_eq_true rfl)
set_option maxHeartbeats 1000000 in
set_option maxRecDepth 100000 in
theorem j_X5_copy (l : Launch) (V : gh_V) (g0 : gh_G) (q : Nat) (kd wl du pr wn pd : Int32) (t9 : gh_T) (hq9 : g0 q = some (t9, oo 4 [.int kd, .int wl, .int du, .int pr, .int wn, .int pd])) (t8 : gh_T) : MR l yX5_copy cX5_copy 2 (some (.object "AnnealingLehr$Demand")) ({ frames := 2, cells := 1, slots := 6, locals := 37 } : Room) V [.ref q] g0 (fun r g1 => ∃ q1 : Nat, r = some q1 ∧ g1 q1 = some (t8, oo 4 [.int kd, .int wl, .int du, .int pr, .int wn, .int pd]) ∧ g0 q1 = none ∧ gh_ge g0 g1) := by
  refine MG.of RX5 (by decide) rfl (Nat.le_of_ble_eq_true rfl) (fun pp ee s mm args below meth c ls hC hg hr hlk hnm hl => ?_)
  have hx := hC.1.1
  have hb := hC.1.2.1
  have hml := hC.1.2.2.1
  have hown := hC.1.2.2.2.1
  have hts := hC.1.2.2.2.2
  have hl : lv_has ls 2 [(0, .ref q)] := hl
  obtain ⟨g, hg, hgg⟩ : ∃ g, gh_W V (gh_A g0 s.heap.size) s g s.heap [] ∧ g = g0 := ⟨g0, hg, rfl⟩
  have h0q := hq9
  rw [← hgg] at hq9
  have hge : gh_ge g0 g := by rw [hgg]; exact gh_ge.rf
  refine gh_new (ci := 4) (fs := [.int 0, .int 0, .int 0, .int 0, .int 0, .int 0]) hC hg (fun q9 => (t8.1, t8.2.1, t8.2.2)) rfl in_X5 tyX5 tyX5_ok q2975 q2976 q158 (by decide +kernel) (Nat.le_of_ble_eq_true rfl) (Nat.le_of_ble_eq_true rfl) dX5_copy_0 (fun q_1 g H hg h0 hw hn => ?_)
  have hq9 : g q = some ((t9.1, t9.2.1, t9.2.2), oo 4 [.int kd, .int wl, .int du, .int pr, .int wn, .int pd]) := (hn _ (gh_neN hq9 h0)).trans hq9
  have hz_q_1 : g0 q_1 = none := hge.no h0
  have hge : gh_ge g0 g := hge.new h0 hn
  have c_2 : g q_1 = some ((t8.1, t8.2.1, t8.2.2), oo 4 [.int 0, .int 0, .int 0, .int 0, .int 0, .int 0]) := hw
  refine lv_dup hx hb dX5_copy_3 rfl ?_
  refine lv_aload_n hx hb dX5_copy_4 rfl (lv_at hl 0 rfl) ?_
  refine gh_get (v := .int kd) hC hg hq9 fX5_7_4 rfl dX5_copy_5 ?_
  refine lv_aload_n hx hb dX5_copy_8 rfl (lv_at hl 0 rfl) ?_
  refine gh_get (v := .int wl) hC hg hq9 fX5_13_4 rfl dX5_copy_9 ?_
  refine lv_aload_n hx hb dX5_copy_12 rfl (lv_at hl 0 rfl) ?_
  refine gh_get (v := .int wn) hC hg hq9 fX5_16_4 rfl dX5_copy_13 ?_
  refine lv_aload_n hx hb dX5_copy_16 rfl (lv_at hl 0 rfl) ?_
  refine gh_get (v := .int du) hC hg hq9 fX5_19_4 rfl dX5_copy_17 ?_
  refine lv_aload_n hx hb dX5_copy_20 rfl (lv_at hl 0 rfl) ?_
  refine gh_get (v := .int pr) hC hg hq9 fX5_22_4 rfl dX5_copy_21 ?_
  refine gh_callv hg (gh_runI (As := [.int kd, .int wl, .int wn, .int du, .int pr]) (rest := [.ref q_1]) hC hg (j_X5_init l V _ q_1 kd wl wn du pr (t8.1, t8.2.1, t8.2.2) c_2) 5 (lw_meth q2979) q158 q2977 q2978 rfl hd_X5_init.2 ⟨Nat.le_of_ble_eq_true rfl, Nat.le_of_ble_eq_true rfl⟩ rfl hl.1 rfl (Nat.le_of_ble_eq_true rfl) dX5_copy_24 ⟨Nat.le_of_ble_eq_true rfl, Nat.le_of_ble_eq_true rfl⟩) (fun g H locs hg hp => ?_)
  obtain ⟨hnew9, hfr9⟩ := hp
  have hq9 : g q = some ((t9.1, t9.2.1, t9.2.2), oo 4 [.int kd, .int wl, .int du, .int pr, .int wn, .int pd]) := (hfr9 _ (fun e9 => by have h9 := h0q; rw [e9, hz_q_1] at h9; cases h9)).trans hq9
  have hge : gh_ge g0 g := hge.set hz_q_1 hfr9
  have c_2 : g q_1 = some ((t8.1, t8.2.1, t8.2.2), oo 4 [.int kd, .int wl, .int du, .int pr, .int wn, .int 0]) := hnew9
  refine lv_astore_n (lv' := [(1, .ref q_1), (0, .ref q)]) hx hb dX5_copy_27 rfl hl (by decide) rfl (fun ls hl => ?_)
  refine lv_aload_n hx hb dX5_copy_28 rfl (lv_at hl 0 rfl) ?_
  refine lv_aload_n hx hb dX5_copy_29 rfl (lv_at hl 1 rfl) ?_
  refine gh_get (v := .int pd) hC hg hq9 fX5_28_4 rfl dX5_copy_30 ?_
  refine gh_put (v := .int pd) hC hg c_2 fX5_28_4 rfl rfl (Nat.le_of_ble_eq_true rfl) dX5_copy_33 (fun g H locs hg hw hn => ?_)
  have hq9 : g q = some ((t9.1, t9.2.1, t9.2.2), oo 4 [.int kd, .int wl, .int du, .int pr, .int wn, .int pd]) := (hn _ (fun e9 => by have h9 := h0q; rw [e9, hz_q_1] at h9; cases h9)).trans hq9
  have hge : gh_ge g0 g := hge.set hz_q_1 hn
  have c_2 : g q_1 = some ((t8.1, t8.2.1, t8.2.2), oo 4 [.int kd, .int wl, .int du, .int pr, .int wn, .int pd]) := hw
  refine lv_aload_n hx hb dX5_copy_36 rfl (lv_at hl 0 rfl) ?_
  exact gh_retq (r := some q_1) (Or.inl ⟨_, rfl⟩) hC hg hr hlk (⟨q_1, rfl, c_2, hz_q_1, hge⟩) dX5_copy_37 (Nat.le_of_ble_eq_true rfl) (Nat.le_of_ble_eq_true rfl)
set_option maxHeartbeats 1000000 in
set_option maxRecDepth 100000 in
theorem j_X5_wants (l : Launch) (V : gh_V) (g0 : gh_G) (q : Nat) (kd wl du pr wn pd : Int32) (t9 : gh_T) (hq9 : g0 q = some (t9, oo 4 [.int kd, .int wl, .int du, .int pr, .int wn, .int pd])) (w i : Nat) (wl2 : Int32) (hwa : wa_P V g0 w i wl2) : MI l yX5_wants cX5_wants 2 (some .boolean) ({ frames := 1, cells := 0, slots := 0, locals := 20 } : Room) V [.ref q, .ref w] g0 (fun r g1 => r = (if wn ≤ 0 then 0 else if kd = nI i then (if wl = wl2 then 1 else 0) else 0) ∧ g1 = g0) := by
  refine MG.of RX5 (by decide) rfl (Nat.le_of_ble_eq_true rfl) (fun pp ee s mm args below meth c ls hC hg hr hlk hnm hl => ?_)
  have hx := hC.1.1
  have hb := hC.1.2.1
  have hml := hC.1.2.2.1
  have hown := hC.1.2.2.2.1
  have hts := hC.1.2.2.2.2
  have hl : lv_has ls 2 [(0, .ref q), (1, .ref w)] := hl
  obtain ⟨g, hg, hgg⟩ : ∃ g, gh_W V (gh_A g0 s.heap.size) s g s.heap [] ∧ g = g0 := ⟨g0, hg, rfl⟩
  rw [← hgg] at hq9 hwa
  refine lv_aload_n hx hb dX5_wants_0 rfl (lv_at hl 0 rfl) ?_
  refine gh_get (v := .int wn) hC hg hq9 fX5_16_4 rfl dX5_wants_1 ?_
  refine lv_if_le (tgt := 35) hx hb dX5_wants_4 (by decide) (fun c_1 => ?_) (fun c_1 => ?_)
  · skip
    refine lv_iconst (v := 0) hx hb dX5_wants_35 (by decide) ?_
    exact gh_retz rfl hC hg hr hlk (⟨by rw [if_pos c_1], hgg⟩) dX5_wants_36 (Nat.le_of_ble_eq_true rfl) (Nat.le_of_ble_eq_true rfl)
  refine lv_aload_n hx hb dX5_wants_7 rfl (lv_at hl 0 rfl) ?_
  refine gh_get (v := .int kd) hC hg hq9 fX5_7_4 rfl dX5_wants_8 ?_
  refine lv_aload_n hx hb dX5_wants_11 rfl (lv_at hl 1 rfl) ?_
  refine gh_calli hg (gh_runS (As := [.ref w]) (rest := [.int kd]) hC hg (j_X7_kind l V _ w i wl2 hwa) 1 (lw_S q2820 q2821 q164 q2822) hd_X7_kind.2 ⟨Nat.le_of_ble_eq_true rfl, Nat.le_of_ble_eq_true rfl⟩ rfl hl.1 rfl (Nat.le_of_ble_eq_true rfl) dX5_wants_12 ⟨Nat.le_of_ble_eq_true rfl, Nat.le_of_ble_eq_true rfl⟩) (fun r_2 g H locs hg hp => ?_)
  obtain ⟨hp, hq⟩ := hp
  replace hp : (nI i) = r_2 := hp.symm
  subst hp
  rw [hq] at hg
  refine lv_icmp_ne (tgt := 35) hx hb dX5_wants_15 (by decide) (fun c_3 => ?_) (fun c_3 => ?_)
  · skip
    refine lv_iconst (v := 0) hx hb dX5_wants_35 (by decide) ?_
    exact gh_retz rfl hC hg hr hlk (⟨by rw [if_neg c_1]; rw [if_neg c_3], hgg⟩) dX5_wants_36 (Nat.le_of_ble_eq_true rfl) (Nat.le_of_ble_eq_true rfl)
  refine lv_aload_n hx hb dX5_wants_18 rfl (lv_at hl 0 rfl) ?_
  refine gh_get (v := .int wl) hC hg hq9 fX5_13_4 rfl dX5_wants_19 ?_
  refine lv_aload_n hx hb dX5_wants_22 rfl (lv_at hl 1 rfl) ?_
  refine gh_wallX5 hwa hC hg hl.1 (Nat.le_of_ble_eq_true rfl) dX5_wants_23 ⟨Nat.le_of_ble_eq_true rfl, Nat.le_of_ble_eq_true rfl⟩ ⟨Nat.le_of_ble_eq_true rfl, Nat.le_of_ble_eq_true rfl⟩ (fun H locs hg => ?_)
  refine lv_icmp_ne (tgt := 35) hx hb dX5_wants_28 (by decide) (fun c_4 => ?_) (fun c_4 => ?_)
  · skip
    refine lv_iconst (v := 0) hx hb dX5_wants_35 (by decide) ?_
    exact gh_retz rfl hC hg hr hlk (⟨by rw [if_neg c_1]; rw [if_pos c_3]; rw [if_neg c_4], hgg⟩) dX5_wants_36 (Nat.le_of_ble_eq_true rfl) (Nat.le_of_ble_eq_true rfl)
  refine lv_iconst (v := 1) hx hb dX5_wants_31 (by decide) ?_
  refine lv_goto (tgt := 36) hx hb dX5_wants_32 (by decide) ?_
  exact gh_retz rfl hC hg hr hlk (⟨by rw [if_neg c_1]; rw [if_pos c_3]; rw [if_pos c_4], hgg⟩) dX5_wants_36 (Nat.le_of_ble_eq_true rfl) (Nat.le_of_ble_eq_true rfl)
set_option maxHeartbeats 1000000 in
set_option maxRecDepth 100000 in
theorem j_X5_take (l : Launch) (V : gh_V) (g0 : gh_G) (q : Nat) (kd wl du pr wn pd : Int32) (t9 : gh_T) (hq9 : g0 q = some (t9, oo 4 [.int kd, .int wl, .int du, .int pr, .int wn, .int pd])) (tm : Int32) : MI l yX5_take cX5_take 3 (some .int) ({ frames := 0, cells := 0, slots := 0, locals := 0 } : Room) V [.ref q, .int tm] g0 (fun r g1 => r = (if tm ≤ du then pr else pr / 2) ∧ g1 q = some (t9, oo 4 [.int kd, .int wl, .int du, .int pr, .int (wn - 1), .int (pd + (if tm ≤ du then pr else pr / 2))]) ∧ ∀ b, b ≠ q → g1 b = g0 b) := by
  refine MG.of RX5 (by decide) rfl (Nat.le_of_ble_eq_true rfl) (fun pp ee s mm args below meth c ls hC hg hr hlk hnm hl => ?_)
  have hx := hC.1.1
  have hb := hC.1.2.1
  have hml := hC.1.2.2.1
  have hown := hC.1.2.2.2.1
  have hts := hC.1.2.2.2.2
  have hl : lv_has ls 3 [(0, .ref q), (1, .int tm)] := hl
  obtain ⟨g, hg, hgg⟩ : ∃ g, gh_W V (gh_A g0 s.heap.size) s g s.heap [] ∧ g = g0 := ⟨g0, hg, rfl⟩
  rw [← hgg] at hq9
  have hfr : ∀ b, b ≠ q → g b = g0 b := fun b _ => by rw [hgg]
  refine lv_iload_n hx hb dX5_take_0 rfl (lv_at hl 1 rfl) ?_
  refine lv_aload_n hx hb dX5_take_1 rfl (lv_at hl 0 rfl) ?_
  refine gh_get (v := .int du) hC hg hq9 fX5_19_4 rfl dX5_take_2 ?_
  refine lv_icmp_le (tgt := 17) hx hb dX5_take_5 (by decide) (fun c_1 => ?_) (fun c_1 => ?_)
  · skip
    refine lv_aload_n hx hb dX5_take_17 rfl (lv_at hl 0 rfl) ?_
    refine gh_get (v := .int pr) hC hg hq9 fX5_22_4 rfl dX5_take_18 ?_
    refine lv_istore_n (lv' := [(2, .int pr), (0, .ref q), (1, .int tm)]) hx hb dX5_take_21 rfl hl (by decide) rfl (fun ls hl => ?_)
    refine lv_aload_n hx hb dX5_take_22 rfl (lv_at hl 1 rfl) ?_
    refine lv_dup hx hb dX5_take_23 rfl ?_
    refine gh_get (v := .int wn) hC hg hq9 fX5_16_4 rfl dX5_take_24 ?_
    refine lv_iconst (v := 1) hx hb dX5_take_27 (by decide) ?_
    refine lv_isub hx hb dX5_take_28 ?_
    refine gh_put (v := .int (wn - 1)) hC hg hq9 fX5_16_4 rfl rfl (Nat.le_of_ble_eq_true rfl) dX5_take_29 (fun g H locs hg hw hn => ?_)
    have hfr : ∀ b, b ≠ q → g b = g0 b := fun b h1 => (hn b h1).trans (hfr b h1)
    have hq9 : g q = some ((t9.1, t9.2.1, t9.2.2), oo 4 [.int kd, .int wl, .int du, .int pr, .int (wn - 1), .int pd]) := hw
    refine lv_aload_n hx hb dX5_take_32 rfl (lv_at hl 1 rfl) ?_
    refine lv_dup hx hb dX5_take_33 rfl ?_
    refine gh_get (v := .int pd) hC hg hq9 fX5_28_4 rfl dX5_take_34 ?_
    refine lv_iload_n hx hb dX5_take_37 rfl (lv_at hl 0 rfl) ?_
    refine lv_iadd hx hb dX5_take_38 ?_
    refine gh_put (v := .int (pd + pr)) hC hg hq9 fX5_28_4 rfl rfl (Nat.le_of_ble_eq_true rfl) dX5_take_39 (fun g H locs hg hw hn => ?_)
    have hfr : ∀ b, b ≠ q → g b = g0 b := fun b h1 => (hn b h1).trans (hfr b h1)
    have hq9 : g q = some ((t9.1, t9.2.1, t9.2.2), oo 4 [.int kd, .int wl, .int du, .int pr, .int (wn - 1), .int (pd + pr)]) := hw
    refine lv_iload_n hx hb dX5_take_42 rfl (lv_at hl 0 rfl) ?_
    exact gh_reti hC hg hr hlk (⟨by rw [if_pos c_1], by rw [if_pos c_1]; exact hq9, hfr⟩) dX5_take_43 (Nat.le_of_ble_eq_true rfl) (Nat.le_of_ble_eq_true rfl)
  refine lv_aload_n hx hb dX5_take_8 rfl (lv_at hl 0 rfl) ?_
  refine gh_get (v := .int pr) hC hg hq9 fX5_22_4 rfl dX5_take_9 ?_
  refine lv_iconst (v := 2) hx hb dX5_take_12 (by decide) ?_
  refine lv_idiv hx hb dX5_take_13 (by decide) ?_
  refine lv_goto (tgt := 21) hx hb dX5_take_14 (by decide) ?_
  refine lv_istore_n (lv' := [(2, .int (pr / 2)), (0, .ref q), (1, .int tm)]) hx hb dX5_take_21 rfl hl (by decide) rfl (fun ls hl => ?_)
  refine lv_aload_n hx hb dX5_take_22 rfl (lv_at hl 1 rfl) ?_
  refine lv_dup hx hb dX5_take_23 rfl ?_
  refine gh_get (v := .int wn) hC hg hq9 fX5_16_4 rfl dX5_take_24 ?_
  refine lv_iconst (v := 1) hx hb dX5_take_27 (by decide) ?_
  refine lv_isub hx hb dX5_take_28 ?_
  refine gh_put (v := .int (wn - 1)) hC hg hq9 fX5_16_4 rfl rfl (Nat.le_of_ble_eq_true rfl) dX5_take_29 (fun g H locs hg hw hn => ?_)
  have hfr : ∀ b, b ≠ q → g b = g0 b := fun b h1 => (hn b h1).trans (hfr b h1)
  have hq9 : g q = some ((t9.1, t9.2.1, t9.2.2), oo 4 [.int kd, .int wl, .int du, .int pr, .int (wn - 1), .int pd]) := hw
  refine lv_aload_n hx hb dX5_take_32 rfl (lv_at hl 1 rfl) ?_
  refine lv_dup hx hb dX5_take_33 rfl ?_
  refine gh_get (v := .int pd) hC hg hq9 fX5_28_4 rfl dX5_take_34 ?_
  refine lv_iload_n hx hb dX5_take_37 rfl (lv_at hl 0 rfl) ?_
  refine lv_iadd hx hb dX5_take_38 ?_
  refine gh_put (v := .int (pd + (pr / 2))) hC hg hq9 fX5_28_4 rfl rfl (Nat.le_of_ble_eq_true rfl) dX5_take_39 (fun g H locs hg hw hn => ?_)
  have hfr : ∀ b, b ≠ q → g b = g0 b := fun b h1 => (hn b h1).trans (hfr b h1)
  have hq9 : g q = some ((t9.1, t9.2.1, t9.2.2), oo 4 [.int kd, .int wl, .int du, .int pr, .int (wn - 1), .int (pd + (pr / 2))]) := hw
  refine lv_iload_n hx hb dX5_take_42 rfl (lv_at hl 0 rfl) ?_
  exact gh_reti hC hg hr hlk (⟨by rw [if_neg c_1], by rw [if_neg c_1]; exact hq9, hfr⟩) dX5_take_43 (Nat.le_of_ble_eq_true rfl) (Nat.le_of_ble_eq_true rfl)
