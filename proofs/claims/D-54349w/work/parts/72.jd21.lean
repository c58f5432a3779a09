set_option maxRecDepth 100000
theorem fX4_15_3 : gh_fd RX4 15 3 1 (.array .int) true := gh_fd.own (T := TX4) tyX4 rfl in_X4 tyX4_ok nmX4 (by decide) q1588 rfl rfl (fun h => rfl)
theorem fX4_27_3 : gh_fd RX4 27 3 2 .int false := gh_fd.own (T := TX4) tyX4 rfl in_X4 tyX4_ok nmX4 (by decide) q1590 rfl rfl (fun h => by cases h)
theorem fX4_9_3 : gh_fd RX4 9 3 0 (.object "AnnealingLehr$Ware") true := gh_fd.own (T := TX4) tyX4 rfl in_X4 tyX4_ok nmX4 (by decide) q1585 rfl rfl (fun h => rfl)
theorem fX6_15_5 : gh_fd RX6 15 5 0 (.object "AnnealingLehr$PieceKey") true := gh_fd.own (T := TX6) tyX6 rfl in_X6 tyX6_ok nmX6 (by decide) q1666 rfl rfl (fun h => rfl)
theorem fX6_19_5 : gh_fd RX6 19 5 1 (.object "AnnealingLehr$Ware") true := gh_fd.own (T := TX6) tyX6 rfl in_X6 tyX6_ok nmX6 (by decide) q1669 rfl rfl (fun h => rfl)
theorem fX6_26_5 : gh_fd RX6 26 5 2 .int false := gh_fd.own (T := TX6) tyX6 rfl in_X6 tyX6_ok nmX6 (by decide) q1670 rfl rfl (fun h => by cases h)
theorem fX6_29_5 : gh_fd RX6 29 5 3 .int false := gh_fd.own (T := TX6) tyX6 rfl in_X6 tyX6_ok nmX6 (by decide) q1673 rfl rfl (fun h => by cases h)
theorem fX6_32_5 : gh_fd RX6 32 5 5 .float false := gh_fd.own (T := TX6) tyX6 rfl in_X6 tyX6_ok nmX6 (by decide) q1679 rfl rfl (fun h => by cases h)
theorem fX6_9_5 : gh_fd RX6 9 5 4 .int false := gh_fd.own (T := TX6) tyX6 rfl in_X6 tyX6_ok nmX6 (by decide) q1676 rfl rfl (fun h => by cases h)
theorem hd_X1_step : yX1_step.cls = RX1 ∧ yX1_step.cls ≠ "java/lang/invoke/MethodHandle" ∧ yX1_step.cls ≠ "java/lang/invoke/VarHandle" ∧ (parseMethodDescriptor yX1_step.desc).map (fun d => d.parameters.length) = some 2 := by decide +kernel
theorem hd_X4_onTheWay : yX4_onTheWay.cls = RX4 ∧ yX4_onTheWay.cls ≠ "java/lang/invoke/MethodHandle" ∧ yX4_onTheWay.cls ≠ "java/lang/invoke/VarHandle" ∧ (parseMethodDescriptor yX4_onTheWay.desc).map (fun d => d.parameters.length) = some 0 := by decide +kernel
theorem hd_X6_init : yX6_init.cls = RX6 ∧ yX6_init.cls ≠ "java/lang/invoke/MethodHandle" ∧ yX6_init.cls ≠ "java/lang/invoke/VarHandle" ∧ (parseMethodDescriptor yX6_init.desc).map (fun d => d.parameters.length) = some 2 := by decide +kernel
theorem hd_X7_highest : yX7_highest.cls = RX7 ∧ yX7_highest.cls ≠ "java/lang/invoke/MethodHandle" ∧ yX7_highest.cls ≠ "java/lang/invoke/VarHandle" ∧ (parseMethodDescriptor yX7_highest.desc).map (fun d => d.parameters.length) = some 1 := by decide +kernel
theorem hd_X7_limit : yX7_limit.cls = RX7 ∧ yX7_limit.cls ≠ "java/lang/invoke/MethodHandle" ∧ yX7_limit.cls ≠ "java/lang/invoke/VarHandle" ∧ (parseMethodDescriptor yX7_limit.desc).map (fun d => d.parameters.length) = some 1 := by decide +kernel
theorem hd_X7_lowest : yX7_lowest.cls = RX7 ∧ yX7_lowest.cls ≠ "java/lang/invoke/MethodHandle" ∧ yX7_lowest.cls ≠ "java/lang/invoke/VarHandle" ∧ (parseMethodDescriptor yX7_lowest.desc).map (fun d => d.parameters.length) = some 1 := by decide +kernel
theorem hd_X7_softness : yX7_softness.cls = RX7 ∧ yX7_softness.cls ≠ "java/lang/invoke/MethodHandle" ∧ yX7_softness.cls ≠ "java/lang/invoke/VarHandle" ∧ (parseMethodDescriptor yX7_softness.desc).map (fun d => d.parameters.length) = some 1 := by decide +kernel
set_option maxHeartbeats 1000000 in
set_option maxRecDepth 100000 in
theorem j_X6_init (l : Launch) (V : gh_V) (g0 : gh_G) (q kx w : Nat) (t9 : gh_T) (hq9 : g0 q = some (t9, oo 5 [.null, .null, .int 0, .int 0, .int 0, .float 0])) : MV l yX6_init cX6_init 3 ({ frames := 1, cells := 0, slots := 0, locals := 12 } : Room) V [.ref q, .ref kx, .ref w] g0 (fun g1 => g1 q = some (t9, oo 5 [.ref kx, .ref w, .int 0, .int 0, .int 600, .float 0]) ∧ ∀ b, b ≠ q → g1 b = g0 b) := by
  refine MG.of RX6 (by decide) rfl (Nat.le_of_ble_eq_true rfl) (fun pp ee s mm args below meth c ls hC hg hr hlk hnm hl => ?_)
  have hx := hC.1.1
  have hb := hC.1.2.1
  have hml := hC.1.2.2.1
  have hown := hC.1.2.2.2.1
  have hts := hC.1.2.2.2.2
  have hl : lv_has ls 3 [(0, .ref q), (1, .ref kx), (2, .ref w)] := hl
  obtain ⟨g, hg, hgg⟩ : ∃ g, gh_W V (gh_A g0 s.heap.size) s g s.heap [] ∧ g = g0 := ⟨g0, hg, rfl⟩
  rw [← hgg] at hq9
  have hfr : ∀ b, b ≠ q → g b = g0 b := fun b _ => by rw [hgg]
  refine lv_aload_n hx hb dX6_init_0 rfl (lv_at hl 0 rfl) ?_
  refine W.objInit hx hb hown (hts _ q1665) (hts _ q185) (hts _ q186) rfl (by rw [hml]; exact hl.1) rfl dX6_init_1 (Nat.le_of_ble_eq_true rfl) (Nat.le_of_ble_eq_true rfl) ?_
  refine W.eq (g2 := F0 mm 4 ls []) rfl ?_
  refine lv_aload_n hx hb dX6_init_4 rfl (lv_at hl 0 rfl) ?_
  refine lv_sipush (v := 600) hx hb dX6_init_5 (by decide) ?_
  refine gh_put (v := .int 600) hC hg hq9 fX6_9_5 rfl rfl (Nat.le_of_ble_eq_true rfl) dX6_init_8 (fun g H locs hg hw hn => ?_)
  have hfr : ∀ b, b ≠ q → g b = g0 b := fun b h1 => (hn b h1).trans (hfr b h1)
  have hq9 : g q = some ((t9.1, t9.2.1, t9.2.2), oo 5 [.null, .null, .int 0, .int 0, .int 600, .float 0]) := hw
  refine lv_aload_n hx hb dX6_init_11 rfl (lv_at hl 0 rfl) ?_
  refine lv_aload_n hx hb dX6_init_12 rfl (lv_at hl 1 rfl) ?_
  refine gh_putF (v := .ref kx) hC hg hnm hq9 fX6_15_5 rfl rfl (Nat.le_of_ble_eq_true rfl) dX6_init_13 (fun g H locs hg hw hn => ?_)
  have hfr : ∀ b, b ≠ q → g b = g0 b := fun b h1 => (hn b h1).trans (hfr b h1)
  have hq9 : g q = some ((t9.1, t9.2.1, t9.2.2), oo 5 [.ref kx, .null, .int 0, .int 0, .int 600, .float 0]) := hw
  refine lv_aload_n hx hb dX6_init_16 rfl (lv_at hl 0 rfl) ?_
  refine lv_aload_n hx hb dX6_init_17 rfl (lv_at hl 2 rfl) ?_
  refine gh_putF (v := .ref w) hC hg hnm hq9 fX6_19_5 rfl rfl (Nat.le_of_ble_eq_true rfl) dX6_init_18 (fun g H locs hg hw hn => ?_)
  have hfr : ∀ b, b ≠ q → g b = g0 b := fun b h1 => (hn b h1).trans (hfr b h1)
  have hq9 : g q = some ((t9.1, t9.2.1, t9.2.2), oo 5 [.ref kx, .ref w, .int 0, .int 0, .int 600, .float 0]) := hw
  exact gh_retv hC hg hr hlk (⟨hq9, hfr⟩) dX6_init_21 (Nat.le_of_ble_eq_true rfl) (Nat.le_of_ble_eq_true rfl)
set_option maxHeartbeats 1000000 in
set_option maxRecDepth 100000 in
theorem j_X6_copy (l : Launch) (V : gh_V) (g0 : gh_G) (q kx w : Nat) (p9 mi wm : Int32) (st : UInt32) (t9 t8 : gh_T) (hq9 : g0 q = some (t9, oo 5 [.ref kx, .ref w, .int p9, .int mi, .int wm, .float st])) : MR l yX6_copy cX6_copy 2 (some (.object "AnnealingLehr$Piece")) ({ frames := 2, cells := 1, slots := 6, locals := 34 } : Room) V [.ref q] g0 (fun r g1 => ∃ q1 : Nat, r = some q1 ∧ g1 q1 = some (t8, oo 5 [.ref kx, .ref w, .int p9, .int mi, .int wm, .float st]) ∧ g0 q1 = none ∧ ∀ b, b ≠ q1 → g1 b = g0 b) := by
  refine MG.of RX6 (by decide) rfl (Nat.le_of_ble_eq_true rfl) (fun pp ee s mm args below meth c ls hC hg hr hlk hnm hl => ?_)
  have hx := hC.1.1
  have hb := hC.1.2.1
  have hml := hC.1.2.2.1
  have hown := hC.1.2.2.2.1
  have hts := hC.1.2.2.2.2
  have hl : lv_has ls 2 [(0, .ref q)] := hl
  obtain ⟨g, hg, hgg⟩ : ∃ g, gh_W V (gh_A g0 s.heap.size) s g s.heap [] ∧ g = g0 := ⟨g0, hg, rfl⟩
  have h0q := hq9
  rw [← hgg] at hq9
  refine gh_new (ci := 5) (fs := [.null, .null, .int 0, .int 0, .int 0, .float 0]) hC hg (fun q9 => (t8.1, t8.2.1, t8.2.2)) rfl in_X6 tyX6 tyX6_ok q3115 q1645 q163 (by decide +kernel) (Nat.le_of_ble_eq_true rfl) (Nat.le_of_ble_eq_true rfl) dX6_copy_0 (fun q_1 g H hg h0 hw hn => ?_)
  have hq9 : g q = some ((t9.1, t9.2.1, t9.2.2), oo 5 [.ref kx, .ref w, .int p9, .int mi, .int wm, .float st]) := (hn _ (gh_neN hq9 h0)).trans hq9
  have c_2 : g q_1 = some ((t8.1, t8.2.1, t8.2.2), oo 5 [.null, .null, .int 0, .int 0, .int 0, .float 0]) := hw
  have h00 : g0 q_1 = none := by rw [← hgg]; exact h0
  have hfr : ∀ b, b ≠ q_1 → g b = g0 b := fun b h1 => (hn b h1).trans (by rw [hgg])
  refine lv_dup hx hb dX6_copy_3 rfl ?_
  refine lv_aload_n hx hb dX6_copy_4 rfl (lv_at hl 0 rfl) ?_
  refine gh_get (v := .ref kx) hC hg hq9 fX6_15_5 rfl dX6_copy_5 ?_
  refine lv_aload_n hx hb dX6_copy_8 rfl (lv_at hl 0 rfl) ?_
  refine gh_get (v := .ref w) hC hg hq9 fX6_19_5 rfl dX6_copy_9 ?_
  refine gh_callv hg (gh_runI (As := [.ref kx, .ref w]) (rest := [.ref q_1]) hC hg (j_X6_init l V _ q_1 kx w (t8.1, t8.2.1, t8.2.2) c_2) 2 (lw_meth q1664) q163 q3116 q1663 rfl hd_X6_init.2 ⟨Nat.le_of_ble_eq_true rfl, Nat.le_of_ble_eq_true rfl⟩ rfl hl.1 rfl (Nat.le_of_ble_eq_true rfl) dX6_copy_12 ⟨Nat.le_of_ble_eq_true rfl, Nat.le_of_ble_eq_true rfl⟩) (fun g H locs hg hp => ?_)
  obtain ⟨hnew9, hfr9⟩ := hp
  have hq9 : g q = some ((t9.1, t9.2.1, t9.2.2), oo 5 [.ref kx, .ref w, .int p9, .int mi, .int wm, .float st]) := (hfr9 _ (fun e9 => by have h9 := h0q; rw [e9, h00] at h9; cases h9)).trans hq9
  have hfr : ∀ b, b ≠ q_1 → g b = g0 b := fun b h1 => (hfr9 b h1).trans (hfr b h1)
  have c_2 : g q_1 = some ((t8.1, t8.2.1, t8.2.2), oo 5 [.ref kx, .ref w, .int 0, .int 0, .int 600, .float 0]) := hnew9
  refine lv_astore_n (lv' := [(1, .ref q_1), (0, .ref q)]) hx hb dX6_copy_15 rfl hl (by decide) rfl (fun ls hl => ?_)
  refine lv_aload_n hx hb dX6_copy_16 rfl (lv_at hl 0 rfl) ?_
  refine lv_aload_n hx hb dX6_copy_17 rfl (lv_at hl 1 rfl) ?_
  refine gh_get (v := .int p9) hC hg hq9 fX6_26_5 rfl dX6_copy_18 ?_
  refine gh_put (v := .int p9) hC hg c_2 fX6_26_5 rfl rfl (Nat.le_of_ble_eq_true rfl) dX6_copy_21 (fun g H locs hg hw hn => ?_)
  have hq9 : g q = some ((t9.1, t9.2.1, t9.2.2), oo 5 [.ref kx, .ref w, .int p9, .int mi, .int wm, .float st]) := (hn _ (fun e9 => by have h9 := h0q; rw [e9, h00] at h9; cases h9)).trans hq9
  have hfr : ∀ b, b ≠ q_1 → g b = g0 b := fun b h1 => (hn b h1).trans (hfr b h1)
  have c_2 : g q_1 = some ((t8.1, t8.2.1, t8.2.2), oo 5 [.ref kx, .ref w, .int p9, .int 0, .int 600, .float 0]) := hw
  refine lv_aload_n hx hb dX6_copy_24 rfl (lv_at hl 0 rfl) ?_
  refine lv_aload_n hx hb dX6_copy_25 rfl (lv_at hl 1 rfl) ?_
  refine gh_get (v := .int mi) hC hg hq9 fX6_29_5 rfl dX6_copy_26 ?_
  refine gh_put (v := .int mi) hC hg c_2 fX6_29_5 rfl rfl (Nat.le_of_ble_eq_true rfl) dX6_copy_29 (fun g H locs hg hw hn => ?_)
  have hq9 : g q = some ((t9.1, t9.2.1, t9.2.2), oo 5 [.ref kx, .ref w, .int p9, .int mi, .int wm, .float st]) := (hn _ (fun e9 => by have h9 := h0q; rw [e9, h00] at h9; cases h9)).trans hq9
  have hfr : ∀ b, b ≠ q_1 → g b = g0 b := fun b h1 => (hn b h1).trans (hfr b h1)
  have c_2 : g q_1 = some ((t8.1, t8.2.1, t8.2.2), oo 5 [.ref kx, .ref w, .int p9, .int mi, .int 600, .float 0]) := hw
  refine lv_aload_n hx hb dX6_copy_32 rfl (lv_at hl 0 rfl) ?_
  refine lv_aload_n hx hb dX6_copy_33 rfl (lv_at hl 1 rfl) ?_
  refine gh_get (v := .int wm) hC hg hq9 fX6_9_5 rfl dX6_copy_34 ?_
  refine gh_put (v := .int wm) hC hg c_2 fX6_9_5 rfl rfl (Nat.le_of_ble_eq_true rfl) dX6_copy_37 (fun g H locs hg hw hn => ?_)
  have hq9 : g q = some ((t9.1, t9.2.1, t9.2.2), oo 5 [.ref kx, .ref w, .int p9, .int mi, .int wm, .float st]) := (hn _ (fun e9 => by have h9 := h0q; rw [e9, h00] at h9; cases h9)).trans hq9
  have hfr : ∀ b, b ≠ q_1 → g b = g0 b := fun b h1 => (hn b h1).trans (hfr b h1)
  have c_2 : g q_1 = some ((t8.1, t8.2.1, t8.2.2), oo 5 [.ref kx, .ref w, .int p9, .int mi, .int wm, .float 0]) := hw
  refine lv_aload_n hx hb dX6_copy_40 rfl (lv_at hl 0 rfl) ?_
  refine lv_aload_n hx hb dX6_copy_41 rfl (lv_at hl 1 rfl) ?_
  refine gh_get (v := .float st) hC hg hq9 fX6_32_5 rfl dX6_copy_42 ?_
  refine gh_put (v := .float st) hC hg c_2 fX6_32_5 rfl rfl (Nat.le_of_ble_eq_true rfl) dX6_copy_45 (fun g H locs hg hw hn => ?_)
  have hq9 : g q = some ((t9.1, t9.2.1, t9.2.2), oo 5 [.ref kx, .ref w, .int p9, .int mi, .int wm, .float st]) := (hn _ (fun e9 => by have h9 := h0q; rw [e9, h00] at h9; cases h9)).trans hq9
  have hfr : ∀ b, b ≠ q_1 → g b = g0 b := fun b h1 => (hn b h1).trans (hfr b h1)
  have c_2 : g q_1 = some ((t8.1, t8.2.1, t8.2.2), oo 5 [.ref kx, .ref w, .int p9, .int mi, .int wm, .float st]) := hw
  refine lv_aload_n hx hb dX6_copy_48 rfl (lv_at hl 0 rfl) ?_
  exact gh_retq (r := some q_1) (Or.inl ⟨_, rfl⟩) hC hg hr hlk (⟨q_1, rfl, c_2, h00, hfr⟩) dX6_copy_49 (Nat.le_of_ble_eq_true rfl) (Nat.le_of_ble_eq_true rfl)
set_option maxHeartbeats 1000000 in
set_option maxRecDepth 100000 in
theorem j_X6_goTowards (l : Launch) (V : gh_V) (g0 : gh_G) (q kx w : Nat) (p9 mi wm : Int32) (st : UInt32) (t9 : gh_T) (i n9 : Nat) (T wl : Int32) (B : Int) (ht7 : ¬ (t9.1 = V.2.2 9 ∧ t9.2.1 = 2)) (hwa : wa_P V g0 w i wl) (hln : wl = nI n9) (hn9 : n9 < 10) (hT9 : bd T B) (hw9 : bd wm B) (hB9 : B ≤ 1000000) (hst : vf_n32 st) (hq9 : g0 q = some (t9, oo 5 [.ref kx, .ref w, .int p9, .int mi, .int wm, .float st])) : MV l yX6_goTowards cX6_goTowards 5 ({ frames := 2, cells := 0, slots := 0, locals := 42 } : Room) V [.ref q, .int T] g0 (fun g1 => g1 q = some (t9, oo 5 [.ref kx, .ref w, .int p9, .int mi, .int (gtB T wm wl), .float (gtS T wm st i wl)]) ∧ ∀ b, b ≠ q → g1 b = g0 b) := by
  refine MG.of RX6 (by decide) rfl (Nat.le_of_ble_eq_true rfl) (fun pp ee s mm args below meth c ls hC hg hr hlk hnm hl => ?_)
  have hx := hC.1.1
  have hb := hC.1.2.1
  have hml := hC.1.2.2.1
  have hown := hC.1.2.2.2.1
  have hts := hC.1.2.2.2.2
  have hl : lv_has ls 5 [(0, .ref q), (1, .int T)] := hl
  obtain ⟨g, hg, hgg⟩ : ∃ g, gh_W V (gh_A g0 s.heap.size) s g s.heap [] ∧ g = g0 := ⟨g0, hg, rfl⟩
  have hwl := wl_ne hn9 hln
  rw [← hgg] at hq9 hwa
  have hfr : ∀ b, b ≠ q → g b = g0 b := fun b _ => by rw [hgg]
  have hfl : ∀ x : Int32, wm - gtB T wm wl = x → True := fun _ _ => trivial
  refine lv_aload_n hx hb dX6_goTowards_0 rfl (lv_at hl 0 rfl) ?_
  refine gh_get (v := .int wm) hC hg hq9 fX6_9_5 rfl dX6_goTowards_1 ?_
  refine lv_istore_n (lv' := [(2, .int wm), (0, .ref q), (1, .int T)]) hx hb dX6_goTowards_4 rfl hl (by decide) rfl (fun ls hl => ?_)
  refine lv_aload_n hx hb dX6_goTowards_5 rfl (lv_at hl 1 rfl) ?_
  refine lv_dup hx hb dX6_goTowards_6 rfl ?_
  refine gh_get (v := .int wm) hC hg hq9 fX6_9_5 rfl dX6_goTowards_7 ?_
  refine lv_iload_n hx hb dX6_goTowards_10 rfl (lv_at hl 2 rfl) ?_
  refine lv_aload_n hx hb dX6_goTowards_11 rfl (lv_at hl 1 rfl) ?_
  refine gh_get (v := .int wm) hC hg hq9 fX6_9_5 rfl dX6_goTowards_12 ?_
  refine lv_isub hx hb dX6_goTowards_15 ?_
  refine lv_aload_n hx hb dX6_goTowards_16 rfl (lv_at hl 1 rfl) ?_
  refine gh_get (v := .ref w) hC hg hq9 fX6_19_5 rfl dX6_goTowards_17 ?_
  refine gh_wallX6 hwa hC hg hl.1 (Nat.le_of_ble_eq_true rfl) dX6_goTowards_20 ⟨Nat.le_of_ble_eq_true rfl, Nat.le_of_ble_eq_true rfl⟩ ⟨Nat.le_of_ble_eq_true rfl, Nat.le_of_ble_eq_true rfl⟩ (fun H locs hg => ?_)
  refine lv_iconst (v := 2) hx hb dX6_goTowards_25 (by decide) ?_
  refine lv_iadd hx hb dX6_goTowards_26 ?_
  refine gh_calli hg (gh_runSN (As := [.int (T - wm), .int (wl + 2)]) (rest := [.int wm, .ref q]) hC hg (j_X1_step l V _ (T - wm) (wl + 2) hwl) 2 q2741 q2698 q103 q2699 hd_X1_step.2 ⟨Nat.le_of_ble_eq_true rfl, Nat.le_of_ble_eq_true rfl⟩ rfl hl.1 rfl (Nat.le_of_ble_eq_true rfl) dX6_goTowards_27 ⟨Nat.le_of_ble_eq_true rfl, Nat.le_of_ble_eq_true rfl⟩) (fun r_1 g H locs hg hp => ?_)
  obtain ⟨hp, hq⟩ := hp
  replace hp : (sp_step (T - wm) (wl + 2)) = r_1 := hp.symm
  subst hp
  rw [hq] at hg
  refine lv_iadd hx hb dX6_goTowards_30 ?_
  refine W.eq (g2 := F0 mm 31 ls [.int (gtB T wm wl), .ref q]) rfl ?_
  refine gh_put (v := .int (gtB T wm wl)) hC hg hq9 fX6_9_5 rfl rfl (Nat.le_of_ble_eq_true rfl) dX6_goTowards_31 (fun g H locs hg hw hn => ?_)
  have hfr : ∀ b, b ≠ q → g b = g0 b := fun b h1 => (hn b h1).trans (hfr b h1)
  have hwa : wa_P V g w i wl := hwa.keep (fun a t x ha ht => (hn a (fun e9 => by rw [e9, hq9] at ha; cases ha; exact ht7 ht)).trans ha)
  have hq9 : g q = some ((t9.1, t9.2.1, t9.2.2), oo 5 [.ref kx, .ref w, .int p9, .int mi, .int (gtB T wm wl), .float st]) := hw
  refine lv_iload_n hx hb dX6_goTowards_34 rfl (lv_at hl 0 rfl) ?_
  refine lv_aload_n hx hb dX6_goTowards_35 rfl (lv_at hl 1 rfl) ?_
  refine gh_get (v := .ref w) hC hg hq9 fX6_19_5 rfl dX6_goTowards_36 ?_
  refine gh_calli hg (gh_runS (As := [.ref w]) (rest := [.int wm]) hC hg (j_X7_highest l V _ w i wl hwa) 1 (lw_S q2742 q2743 q164 q2744) hd_X7_highest.2 ⟨Nat.le_of_ble_eq_true rfl, Nat.le_of_ble_eq_true rfl⟩ rfl hl.1 rfl (Nat.le_of_ble_eq_true rfl) dX6_goTowards_39 ⟨Nat.le_of_ble_eq_true rfl, Nat.le_of_ble_eq_true rfl⟩) (fun r_2 g H locs hg hp => ?_)
  obtain ⟨hp, hq⟩ := hp
  replace hp : (sp_high (nI i)) = r_2 := hp.symm
  subst hp
  rw [hq] at hg
  refine lv_icmp_le (tgt := 53) hx hb dX6_goTowards_42 (by decide) (fun c_3 => ?_) (fun c_3 => ?_)
  · skip
    refine lv_iload_n hx hb dX6_goTowards_53 rfl (lv_at hl 0 rfl) ?_
    refine lv_aload_n hx hb dX6_goTowards_54 rfl (lv_at hl 1 rfl) ?_
    refine gh_get (v := .ref w) hC hg hq9 fX6_19_5 rfl dX6_goTowards_55 ?_
    refine gh_calli hg (gh_runS (As := [.ref w]) (rest := [.int wm]) hC hg (j_X7_lowest l V _ w i wl hwa) 1 (lw_S q2745 q2746 q164 q2747) hd_X7_lowest.2 ⟨Nat.le_of_ble_eq_true rfl, Nat.le_of_ble_eq_true rfl⟩ rfl hl.1 rfl (Nat.le_of_ble_eq_true rfl) dX6_goTowards_58 ⟨Nat.le_of_ble_eq_true rfl, Nat.le_of_ble_eq_true rfl⟩) (fun r_4 g H locs hg hp => ?_)
    obtain ⟨hp, hq⟩ := hp
    replace hp : (sp_low (nI i)) = r_4 := hp.symm
    subst hp
    rw [hq] at hg
    refine lv_icmp_lt (tgt := 131) hx hb dX6_goTowards_61 (by decide) (fun c_5 => ?_) (fun c_5 => ?_)
    · skip
      have h9 : gtS T wm st i wl = st := by unfold gtS; rw [if_pos c_3]; rw [if_pos c_5]
      exact gh_retv hC hg hr hlk (⟨by rw [h9]; exact hq9, hfr⟩) dX6_goTowards_131 (Nat.le_of_ble_eq_true rfl) (Nat.le_of_ble_eq_true rfl)
    refine lv_iload_n hx hb dX6_goTowards_64 rfl (lv_at hl 0 rfl) ?_
    refine lv_aload_n hx hb dX6_goTowards_65 rfl (lv_at hl 1 rfl) ?_
    refine gh_get (v := .int (gtB T wm wl)) hC hg hq9 fX6_9_5 rfl dX6_goTowards_66 ?_
    refine lv_isub hx hb dX6_goTowards_69 ?_
    refine lv_istore_n (lv' := [(3, .int (wm - (gtB T wm wl))), (2, .int wm), (0, .ref q), (1, .int T)]) hx hb dX6_goTowards_70 rfl hl (by decide) rfl (fun ls hl => ?_)
    refine lv_iload_n hx hb dX6_goTowards_71 rfl (lv_at hl 0 rfl) ?_
    refine lv_if_le (tgt := 121) hx hb dX6_goTowards_72 (by decide) (fun c_6 => ?_) (fun c_6 => ?_)
    · skip
      refine lv_aload_n hx hb dX6_goTowards_121 rfl (lv_at hl 2 rfl) ?_
      refine lv_dup hx hb dX6_goTowards_122 rfl ?_
      refine gh_get (v := .float st) hC hg hq9 fX6_32_5 rfl dX6_goTowards_123 ?_
      refine lv_fconst2 hx hb dX6_goTowards_126 ?_
      refine lv_fdiv hx hb dX6_goTowards_127 (fp_half hst) ?_
      refine gh_put (v := .float (FP.fdiv st FP.fconst2)) hC hg hq9 fX6_32_5 rfl rfl (Nat.le_of_ble_eq_true rfl) dX6_goTowards_128 (fun g H locs hg hw hn => ?_)
      have hfr : ∀ b, b ≠ q → g b = g0 b := fun b h1 => (hn b h1).trans (hfr b h1)
      have hwa : wa_P V g w i wl := hwa.keep (fun a t x ha ht => (hn a (fun e9 => by rw [e9, hq9] at ha; cases ha; exact ht7 ht)).trans ha)
      have hq9 : g q = some ((t9.1, t9.2.1, t9.2.2), oo 5 [.ref kx, .ref w, .int p9, .int mi, .int (gtB T wm wl), .float (FP.fdiv st FP.fconst2)]) := hw
      have h9 : gtS T wm st i wl = (FP.fdiv st FP.fconst2) := by unfold gtS; rw [if_pos c_3]; rw [if_neg c_5]; rw [if_pos ((gt_fall hT9 hw9 hB9 hn9 hln).mp c_6)]
      exact gh_retv hC hg hr hlk (⟨by rw [h9]; exact hq9, hfr⟩) dX6_goTowards_131 (Nat.le_of_ble_eq_true rfl) (Nat.le_of_ble_eq_true rfl)
    refine lv_aload_n hx hb dX6_goTowards_75 rfl (lv_at hl 2 rfl) ?_
    refine gh_get (v := .ref w) hC hg hq9 fX6_19_5 rfl dX6_goTowards_76 ?_
    refine gh_wallX6 hwa hC hg hl.1 (Nat.le_of_ble_eq_true rfl) dX6_goTowards_79 ⟨Nat.le_of_ble_eq_true rfl, Nat.le_of_ble_eq_true rfl⟩ ⟨Nat.le_of_ble_eq_true rfl, Nat.le_of_ble_eq_true rfl⟩ (fun H locs hg => ?_)
    refine lv_aload_n hx hb dX6_goTowards_84 rfl (lv_at hl 2 rfl) ?_
    refine gh_get (v := .ref w) hC hg hq9 fX6_19_5 rfl dX6_goTowards_85 ?_
    refine gh_wallX6 hwa hC hg hl.1 (Nat.le_of_ble_eq_true rfl) dX6_goTowards_88 ⟨Nat.le_of_ble_eq_true rfl, Nat.le_of_ble_eq_true rfl⟩ ⟨Nat.le_of_ble_eq_true rfl, Nat.le_of_ble_eq_true rfl⟩ (fun H locs hg => ?_)
    refine lv_imul hx hb dX6_goTowards_93 ?_
    refine lv_iload_n hx hb dX6_goTowards_94 rfl (lv_at hl 0 rfl) ?_
    refine lv_imul hx hb dX6_goTowards_95 ?_
    refine lv_istore (lv' := [(4, .int ((wl * wl) * (wm - (gtB T wm wl)))), (3, .int (wm - (gtB T wm wl))), (2, .int wm), (0, .ref q), (1, .int T)]) hx hb dX6_goTowards_96 hl (by decide) rfl (fun ls hl => ?_)
    refine lv_aload_n hx hb dX6_goTowards_98 rfl (lv_at hl 3 rfl) ?_
    refine lv_dup hx hb dX6_goTowards_99 rfl ?_
    refine gh_get (v := .float st) hC hg hq9 fX6_32_5 rfl dX6_goTowards_100 ?_
    refine lv_iload hx hb dX6_goTowards_103 (lv_at hl 0 rfl) ?_
    refine lv_i2f hx hb dX6_goTowards_105 ?_
    refine lv_aload_n hx hb dX6_goTowards_106 rfl (lv_at hl 3 rfl) ?_
    refine gh_get (v := .ref w) hC hg hq9 fX6_19_5 rfl dX6_goTowards_107 ?_
    refine gh_callf hg (gh_runS (As := [.ref w]) (rest := [.float (FP.i2f ((wl * wl) * (wm - (gtB T wm wl)))), .float st, .ref q]) hC hg (j_X7_softness l V _ w i wl hwa) 1 (lw_S q2748 q2749 q164 q2750) hd_X7_softness.2 ⟨Nat.le_of_ble_eq_true rfl, Nat.le_of_ble_eq_true rfl⟩ rfl hl.1 rfl (Nat.le_of_ble_eq_true rfl) dX6_goTowards_110 ⟨Nat.le_of_ble_eq_true rfl, Nat.le_of_ble_eq_true rfl⟩) (fun r_7 g H locs hg hp => ?_)
    obtain ⟨hp, hq⟩ := hp
    subst hp
    rw [hq] at hg
    refine lv_fdiv hx hb dX6_goTowards_113 (fp_div _ _ (sp_soft_in _)).1 ?_
    refine lv_fadd hx hb dX6_goTowards_114 (fp_add hst (fp_div _ _ (sp_soft_in _)).2) ?_
    refine gh_put (v := .float (FP.fadd st (FP.fdiv (FP.i2f ((wl * wl) * (wm - (gtB T wm wl)))) (FP.i2f (sp_soft (nI i)))))) hC hg hq9 fX6_32_5 rfl rfl (Nat.le_of_ble_eq_true rfl) dX6_goTowards_115 (fun g H locs hg hw hn => ?_)
    have hfr : ∀ b, b ≠ q → g b = g0 b := fun b h1 => (hn b h1).trans (hfr b h1)
    have hwa : wa_P V g w i wl := hwa.keep (fun a t x ha ht => (hn a (fun e9 => by rw [e9, hq9] at ha; cases ha; exact ht7 ht)).trans ha)
    have hq9 : g q = some ((t9.1, t9.2.1, t9.2.2), oo 5 [.ref kx, .ref w, .int p9, .int mi, .int (gtB T wm wl), .float (FP.fadd st (FP.fdiv (FP.i2f ((wl * wl) * (wm - (gtB T wm wl)))) (FP.i2f (sp_soft (nI i)))))]) := hw
    refine lv_goto (tgt := 131) hx hb dX6_goTowards_118 (by decide) ?_
    have h9 : gtS T wm st i wl = (FP.fadd st (FP.fdiv (FP.i2f ((wl * wl) * (wm - (gtB T wm wl)))) (FP.i2f (sp_soft (nI i))))) := by unfold gtS; rw [if_pos c_3]; rw [if_neg c_5]; rw [if_neg (fun h9 => c_6 ((gt_fall hT9 hw9 hB9 hn9 hln).mpr h9))]
    exact gh_retv hC hg hr hlk (⟨by rw [h9]; exact hq9, hfr⟩) dX6_goTowards_131 (Nat.le_of_ble_eq_true rfl) (Nat.le_of_ble_eq_true rfl)
  refine lv_aload_n hx hb dX6_goTowards_45 rfl (lv_at hl 1 rfl) ?_
  refine lv_fconst0 hx hb dX6_goTowards_46 ?_
  refine gh_put (v := .float FP.fconst0) hC hg hq9 fX6_32_5 rfl rfl (Nat.le_of_ble_eq_true rfl) dX6_goTowards_47 (fun g H locs hg hw hn => ?_)
  have hfr : ∀ b, b ≠ q → g b = g0 b := fun b h1 => (hn b h1).trans (hfr b h1)
  have hwa : wa_P V g w i wl := hwa.keep (fun a t x ha ht => (hn a (fun e9 => by rw [e9, hq9] at ha; cases ha; exact ht7 ht)).trans ha)
  have hq9 : g q = some ((t9.1, t9.2.1, t9.2.2), oo 5 [.ref kx, .ref w, .int p9, .int mi, .int (gtB T wm wl), .float FP.fconst0]) := hw
  refine lv_goto (tgt := 131) hx hb dX6_goTowards_50 (by decide) ?_
  have h9 : gtS T wm st i wl = FP.fconst0 := by unfold gtS; rw [if_neg c_3]
  exact gh_retv hC hg hr hlk (⟨by rw [h9]; exact hq9, hfr⟩) dX6_goTowards_131 (Nat.le_of_ble_eq_true rfl) (Nat.le_of_ble_eq_true rfl)
set_option maxHeartbeats 1000000 in
set_option maxRecDepth 100000 in
theorem j_X6_isTooStressed (l : Launch) (V : gh_V) (g0 : gh_G) (q kx w : Nat) (p9 mi wm : Int32) (st : UInt32) (t9 : gh_T) (i : Nat) (wl : Int32) (hwa : wa_P V g0 w i wl) (hq9 : g0 q = some (t9, oo 5 [.ref kx, .ref w, .int p9, .int mi, .int wm, .float st])) : MI l yX6_isTooStressed cX6_isTooStressed 1 (some .boolean) ({ frames := 1, cells := 0, slots := 0, locals := 20 } : Room) V [.ref q] g0 (fun r g1 => r = (if Op.cmpValue (FP.fcmp st (FP.i2f (sp_limit (nI i)))) .l ≤ 0 then 0 else 1) ∧ g1 = g0) := by
  refine MG.of RX6 (by decide) rfl (Nat.le_of_ble_eq_true rfl) (fun pp ee s mm args below meth c ls hC hg hr hlk hnm hl => ?_)
  have hx := hC.1.1
  have hb := hC.1.2.1
  have hml := hC.1.2.2.1
  have hown := hC.1.2.2.2.1
  have hts := hC.1.2.2.2.2
  have hl : lv_has ls 1 [(0, .ref q)] := hl
  obtain ⟨g, hg, hgg⟩ : ∃ g, gh_W V (gh_A g0 s.heap.size) s g s.heap [] ∧ g = g0 := ⟨g0, hg, rfl⟩
  rw [← hgg] at hq9 hwa
  refine lv_aload_n hx hb dX6_isTooStressed_0 rfl (lv_at hl 0 rfl) ?_
  refine gh_get (v := .float st) hC hg hq9 fX6_32_5 rfl dX6_isTooStressed_1 ?_
  refine lv_aload_n hx hb dX6_isTooStressed_4 rfl (lv_at hl 0 rfl) ?_
  refine gh_get (v := .ref w) hC hg hq9 fX6_19_5 rfl dX6_isTooStressed_5 ?_
  refine gh_callf hg (gh_runS (As := [.ref w]) (rest := [.float st]) hC hg (j_X7_limit l V _ w i wl hwa) 1 (lw_S q2767 q2768 q164 q2769) hd_X7_limit.2 ⟨Nat.le_of_ble_eq_true rfl, Nat.le_of_ble_eq_true rfl⟩ rfl hl.1 rfl (Nat.le_of_ble_eq_true rfl) dX6_isTooStressed_8 ⟨Nat.le_of_ble_eq_true rfl, Nat.le_of_ble_eq_true rfl⟩) (fun r_1 g H locs hg hp => ?_)
  obtain ⟨hp, hq⟩ := hp
  subst hp
  rw [hq] at hg
  refine lv_fcmp hx hb dX6_isTooStressed_11 ?_
  refine lv_if_le (tgt := 19) hx hb dX6_isTooStressed_12 (by decide) (fun c_2 => ?_) (fun c_2 => ?_)
  · skip
    refine lv_iconst (v := 0) hx hb dX6_isTooStressed_19 (by decide) ?_
    exact gh_retz rfl hC hg hr hlk (⟨(if_pos c_2).symm, hgg⟩) dX6_isTooStressed_20 (Nat.le_of_ble_eq_true rfl) (Nat.le_of_ble_eq_true rfl)
  refine lv_iconst (v := 1) hx hb dX6_isTooStressed_15 (by decide) ?_
  refine lv_goto (tgt := 20) hx hb dX6_isTooStressed_16 (by decide) ?_
  exact gh_retz rfl hC hg hr hlk (⟨(if_neg c_2).symm, hgg⟩) dX6_isTooStressed_20 (Nat.le_of_ble_eq_true rfl) (Nat.le_of_ble_eq_true rfl)
set_option maxHeartbeats 1000000 in
set_option maxRecDepth 100000 in
theorem j_X6_fate (l : Launch) (V : gh_V) (g0 : gh_G) (q kx w : Nat) (p9 mi wm : Int32) (st : UInt32) (t9 : gh_T) (i : Nat) (wl : Int32) (hwa : wa_P V g0 w i wl) (hq9 : g0 q = some (t9, oo 5 [.ref kx, .ref w, .int p9, .int mi, .int wm, .float st])) : MI l yX6_fate cX6_fate 1 (some .int) ({ frames := 1, cells := 0, slots := 0, locals := 20 } : Room) V [.ref q] g0 (fun r g1 => r = fateP wm st i ∧ g1 = g0) := by
  refine MG.of RX6 (by decide) rfl (Nat.le_of_ble_eq_true rfl) (fun pp ee s mm args below meth c ls hC hg hr hlk hnm hl => ?_)
  have hx := hC.1.1
  have hb := hC.1.2.1
  have hml := hC.1.2.2.1
  have hown := hC.1.2.2.2.1
  have hts := hC.1.2.2.2.2
  have hl : lv_has ls 1 [(0, .ref q)] := hl
  obtain ⟨g, hg, hgg⟩ : ∃ g, gh_W V (gh_A g0 s.heap.size) s g s.heap [] ∧ g = g0 := ⟨g0, hg, rfl⟩
  rw [← hgg] at hq9 hwa
  refine lv_aload_n hx hb dX6_fate_0 rfl (lv_at hl 0 rfl) ?_
  refine gh_get (v := .int wm) hC hg hq9 fX6_9_5 rfl dX6_fate_1 ?_
  refine lv_sipush (v := 150) hx hb dX6_fate_4 (by decide) ?_
  refine lv_icmp_le (tgt := 14) hx hb dX6_fate_7 (by decide) (fun c_1 => ?_) (fun c_1 => ?_)
  · skip
    refine lv_aload_n hx hb dX6_fate_14 rfl (lv_at hl 0 rfl) ?_
    refine gh_get (v := .float st) hC hg hq9 fX6_32_5 rfl dX6_fate_15 ?_
    refine lv_aload_n hx hb dX6_fate_18 rfl (lv_at hl 0 rfl) ?_
    refine gh_get (v := .ref w) hC hg hq9 fX6_19_5 rfl dX6_fate_19 ?_
    refine gh_callf hg (gh_runS (As := [.ref w]) (rest := [.float st]) hC hg (j_X7_limit l V _ w i wl hwa) 1 (lw_S q2767 q2768 q164 q2769) hd_X7_limit.2 ⟨Nat.le_of_ble_eq_true rfl, Nat.le_of_ble_eq_true rfl⟩ rfl hl.1 rfl (Nat.le_of_ble_eq_true rfl) dX6_fate_22 ⟨Nat.le_of_ble_eq_true rfl, Nat.le_of_ble_eq_true rfl⟩) (fun r_2 g H locs hg hp => ?_)
    obtain ⟨hp, hq⟩ := hp
    subst hp
    rw [hq] at hg
    refine lv_fconst2 hx hb dX6_fate_25 ?_
    refine lv_fdiv hx hb dX6_fate_26 (fp_lim3 i hwa.1) ?_
    refine lv_fcmp hx hb dX6_fate_27 ?_
    refine lv_if_le (tgt := 35) hx hb dX6_fate_28 (by decide) (fun c_3 => ?_) (fun c_3 => ?_)
    · skip
      refine lv_iconst (v := 1) hx hb dX6_fate_35 (by decide) ?_
      exact gh_reti hC hg hr hlk (⟨by unfold fateP; rw [if_pos c_1]; rw [if_pos c_3], hgg⟩) dX6_fate_36 (Nat.le_of_ble_eq_true rfl) (Nat.le_of_ble_eq_true rfl)
    refine lv_iconst (v := 2) hx hb dX6_fate_31 (by decide) ?_
    refine lv_goto (tgt := 36) hx hb dX6_fate_32 (by decide) ?_
    exact gh_reti hC hg hr hlk (⟨by unfold fateP; rw [if_pos c_1]; rw [if_neg c_3], hgg⟩) dX6_fate_36 (Nat.le_of_ble_eq_true rfl) (Nat.le_of_ble_eq_true rfl)
  refine lv_iconst (v := 3) hx hb dX6_fate_10 (by decide) ?_
  refine lv_goto (tgt := 36) hx hb dX6_fate_11 (by decide) ?_
  exact gh_reti hC hg hr hlk (⟨by unfold fateP; rw [if_neg c_1], hgg⟩) dX6_fate_36 (Nat.le_of_ble_eq_true rfl) (Nat.le_of_ble_eq_true rfl)
set_option maxHeartbeats 1000000 in
set_option maxRecDepth 100000 in
theorem j_X4_init (l : Launch) (V : gh_V) (g0 : gh_G) (q w pa : Nat) (t9 : gh_T) (hq9 : g0 q = some (t9, oo 3 [.null, .null, .int 0, .int 0, .int 0])) : MV l yX4_init cX4_init 3 ({ frames := 1, cells := 0, slots := 0, locals := 12 } : Room) V [.ref q, .ref w, .ref pa] g0 (fun g1 => g1 q = some (t9, oo 3 [.ref w, .ref pa, .int 0, .int 0, .int 0]) ∧ ∀ b, b ≠ q → g1 b = g0 b) := by
  refine MG.of RX4 (by decide) rfl (Nat.le_of_ble_eq_true rfl) (fun pp ee s mm args below meth c ls hC hg hr hlk hnm hl => ?_)
  have hx := hC.1.1
  have hb := hC.1.2.1
  have hml := hC.1.2.2.1
  have hown := hC.1.2.2.2.1
  have hts := hC.1.2.2.2.2
  have hl : lv_has ls 3 [(0, .ref q), (1, .ref w), (2, .ref pa)] := hl
  obtain ⟨g, hg, hgg⟩ : ∃ g, gh_W V (gh_A g0 s.heap.size) s g s.heap [] ∧ g = g0 := ⟨g0, hg, rfl⟩
  rw [← hgg] at hq9
  have hfr : ∀ b, b ≠ q → g b = g0 b := fun b _ => by rw [hgg]
  refine lv_aload_n hx hb dX4_init_0 rfl (lv_at hl 0 rfl) ?_
  refine W.objInit hx hb hown (hts _ q1584) (hts _ q185) (hts _ q186) rfl (by rw [hml]; exact hl.1) rfl dX4_init_1 (Nat.le_of_ble_eq_true rfl) (Nat.le_of_ble_eq_true rfl) ?_
  refine W.eq (g2 := F0 mm 4 ls []) rfl ?_
  refine lv_aload_n hx hb dX4_init_4 rfl (lv_at hl 0 rfl) ?_
  refine lv_aload_n hx hb dX4_init_5 rfl (lv_at hl 1 rfl) ?_
  refine gh_putF (v := .ref w) hC hg hnm hq9 fX4_9_3 rfl rfl (Nat.le_of_ble_eq_true rfl) dX4_init_6 (fun g H locs hg hw hn => ?_)
  have hfr : ∀ b, b ≠ q → g b = g0 b := fun b h1 => (hn b h1).trans (hfr b h1)
  have hq9 : g q = some ((t9.1, t9.2.1, t9.2.2), oo 3 [.ref w, .null, .int 0, .int 0, .int 0]) := hw
  refine lv_aload_n hx hb dX4_init_9 rfl (lv_at hl 0 rfl) ?_
  refine lv_aload_n hx hb dX4_init_10 rfl (lv_at hl 2 rfl) ?_
  refine gh_putF (v := .ref pa) hC hg hnm hq9 fX4_15_3 rfl rfl (Nat.le_of_ble_eq_true rfl) dX4_init_11 (fun g H locs hg hw hn => ?_)
  have hfr : ∀ b, b ≠ q → g b = g0 b := fun b h1 => (hn b h1).trans (hfr b h1)
  have hq9 : g q = some ((t9.1, t9.2.1, t9.2.2), oo 3 [.ref w, .ref pa, .int 0, .int 0, .int 0]) := hw
  exact gh_retv hC hg hr hlk (⟨hq9, hfr⟩) dX4_init_14 (Nat.le_of_ble_eq_true rfl) (Nat.le_of_ble_eq_true rfl)
set_option maxHeartbeats 1000000 in
set_option maxRecDepth 100000 in
theorem j_X4_onTheWay (l : Launch) (V : gh_V) (g0 : gh_G) (q w pa : Nat) (ld sk ic : Int32) (fa : Nat → Int32) (t9 t5 : gh_T) (hq9 : g0 q = some (t9, oo 3 [.ref w, .ref pa, .int ld, .int sk, .int ic])) (ha9 : g0 pa = some (t5, ai V 0 5 fa)) : MI l yX4_onTheWay cX4_onTheWay 1 (some .int) ({ frames := 0, cells := 0, slots := 0, locals := 0 } : Room) V [.ref q] g0 (fun r g1 => r = (ld - fa 1 - fa 2 - fa 3 - fa 4) ∧ g1 = g0) := by
  refine MG.of RX4 (by decide) rfl (Nat.le_of_ble_eq_true rfl) (fun pp ee s mm args below meth c ls hC hg hr hlk hnm hl => ?_)
  have hx := hC.1.1
  have hb := hC.1.2.1
  have hml := hC.1.2.2.1
  have hown := hC.1.2.2.2.1
  have hts := hC.1.2.2.2.2
  have hl : lv_has ls 1 [(0, .ref q)] := hl
  obtain ⟨g, hg, hgg⟩ : ∃ g, gh_W V (gh_A g0 s.heap.size) s g s.heap [] ∧ g = g0 := ⟨g0, hg, rfl⟩
  rw [← hgg] at hq9 ha9
  refine lv_aload_n hx hb dX4_onTheWay_0 rfl (lv_at hl 0 rfl) ?_
  refine gh_get (v := .int ld) hC hg hq9 fX4_27_3 rfl dX4_onTheWay_1 ?_
  refine lv_aload_n hx hb dX4_onTheWay_4 rfl (lv_at hl 0 rfl) ?_
  refine gh_get (v := .ref pa) hC hg hq9 fX4_15_3 rfl dX4_onTheWay_5 ?_
  refine lv_iconst (v := 1) hx hb dX4_onTheWay_8 (by decide) ?_
  refine gh_iald (n := 5) (f := fa) hC hg ha9 (show ((1 : Int32)) = nI 1 from rfl) (by omega) (by omega) dX4_onTheWay_9 ?_
  refine lv_isub hx hb dX4_onTheWay_10 ?_
  refine lv_aload_n hx hb dX4_onTheWay_11 rfl (lv_at hl 0 rfl) ?_
  refine gh_get (v := .ref pa) hC hg hq9 fX4_15_3 rfl dX4_onTheWay_12 ?_
  refine lv_iconst (v := 2) hx hb dX4_onTheWay_15 (by decide) ?_
  refine gh_iald (n := 5) (f := fa) hC hg ha9 (show ((2 : Int32)) = nI 2 from rfl) (by omega) (by omega) dX4_onTheWay_16 ?_
  refine lv_isub hx hb dX4_onTheWay_17 ?_
  refine lv_aload_n hx hb dX4_onTheWay_18 rfl (lv_at hl 0 rfl) ?_
  refine gh_get (v := .ref pa) hC hg hq9 fX4_15_3 rfl dX4_onTheWay_19 ?_
  refine lv_iconst (v := 3) hx hb dX4_onTheWay_22 (by decide) ?_
  refine gh_iald (n := 5) (f := fa) hC hg ha9 (show ((3 : Int32)) = nI 3 from rfl) (by omega) (by omega) dX4_onTheWay_23 ?_
  refine lv_isub hx hb dX4_onTheWay_24 ?_
  refine lv_aload_n hx hb dX4_onTheWay_25 rfl (lv_at hl 0 rfl) ?_
  refine gh_get (v := .ref pa) hC hg hq9 fX4_15_3 rfl dX4_onTheWay_26 ?_
  refine lv_iconst (v := 4) hx hb dX4_onTheWay_29 (by decide) ?_
  refine gh_iald (n := 5) (f := fa) hC hg ha9 (show ((4 : Int32)) = nI 4 from rfl) (by omega) (by omega) dX4_onTheWay_30 ?_
  refine lv_isub hx hb dX4_onTheWay_31 ?_
  exact gh_reti hC hg hr hlk (⟨rfl, hgg⟩) dX4_onTheWay_32 (Nat.le_of_ble_eq_true rfl) (Nat.le_of_ble_eq_true rfl)
set_option maxHeartbeats 1000000 in
set_option maxRecDepth 100000 in
theorem j_X4_piecesWith (l : Launch) (V : gh_V) (g0 : gh_G) (q w pa : Nat) (ld sk ic : Int32) (fa : Nat → Int32) (t9 t5 : gh_T) (hq9 : g0 q = some (t9, oo 3 [.ref w, .ref pa, .int ld, .int sk, .int ic])) (ha9 : g0 pa = some (t5, ai V 0 5 fa)) (f9 : Nat) (hf9 : f9 < 5) : MI l yX4_piecesWith cX4_piecesWith 2 (some .int) ({ frames := 1, cells := 0, slots := 0, locals := 20 } : Room) V [.ref q, .int (nI f9)] g0 (fun r g1 => r = (if f9 = 0 then (ld - fa 1 - fa 2 - fa 3 - fa 4) else fa f9) ∧ g1 = g0) := by
  refine MG.of RX4 (by decide) rfl (Nat.le_of_ble_eq_true rfl) (fun pp ee s mm args below meth c ls hC hg hr hlk hnm hl => ?_)
  have hx := hC.1.1
  have hb := hC.1.2.1
  have hml := hC.1.2.2.1
  have hown := hC.1.2.2.2.1
  have hts := hC.1.2.2.2.2
  have hl : lv_has ls 2 [(0, .ref q), (1, .int (nI f9))] := hl
  obtain ⟨g, hg, hgg⟩ : ∃ g, gh_W V (gh_A g0 s.heap.size) s g s.heap [] ∧ g = g0 := ⟨g0, hg, rfl⟩
  rw [← hgg] at hq9 ha9
  refine lv_iload_n hx hb dX4_piecesWith_0 rfl (lv_at hl 1 rfl) ?_
  refine lv_if_ne (tgt := 11) hx hb dX4_piecesWith_1 (by decide) (fun c_1 => ?_) (fun c_1 => ?_)
  · skip
    have c_1 : ¬ f9 = 0 := fun h9 => c_1 ((nx_eq rfl (show ((0 : Int32)) = nI 0 from rfl) (by omega) (by omega)).mpr h9)
    refine lv_aload_n hx hb dX4_piecesWith_11 rfl (lv_at hl 0 rfl) ?_
    refine gh_get (v := .ref pa) hC hg hq9 fX4_15_3 rfl dX4_piecesWith_12 ?_
    refine lv_iload_n hx hb dX4_piecesWith_15 rfl (lv_at hl 1 rfl) ?_
    refine gh_iald (n := 5) (f := fa) hC hg ha9 rfl (by omega) (by omega) dX4_piecesWith_16 ?_
    exact gh_reti hC hg hr hlk (⟨(if_neg (by omega)).symm, hgg⟩) dX4_piecesWith_17 (Nat.le_of_ble_eq_true rfl) (Nat.le_of_ble_eq_true rfl)
  have c_1 : f9 = 0 := (nx_eq rfl (show ((0 : Int32)) = nI 0 from rfl) (by omega) (by omega)).mp c_1
  refine lv_aload_n hx hb dX4_piecesWith_4 rfl (lv_at hl 0 rfl) ?_
  refine gh_calli hg (gh_runV (As := []) (rest := []) hC hg (j_X4_onTheWay l V _ q w pa ld sk ic fa (t9.1, t9.2.1, t9.2.2) (t5.1, t5.2.1, t5.2.2) hq9 ha9) 0 (lw_V q3602 q1376 q1377 q157 q1378) hq9 rfl hd_X4_onTheWay ⟨Nat.le_of_ble_eq_true rfl, Nat.le_of_ble_eq_true rfl⟩ rfl hl.1 rfl (Nat.le_of_ble_eq_true rfl) dX4_piecesWith_5 ⟨Nat.le_of_ble_eq_true rfl, Nat.le_of_ble_eq_true rfl⟩) (fun r_2 g H locs hg hp => ?_)
  obtain ⟨hp, hq⟩ := hp
  replace hp : (ld - fa 1 - fa 2 - fa 3 - fa 4) = r_2 := hp.symm
  subst hp
  rw [hq] at hg
  refine lv_goto (tgt := 17) hx hb dX4_piecesWith_8 (by decide) ?_
  exact gh_reti hC hg hr hlk (⟨(if_pos (by omega)).symm, hgg⟩) dX4_piecesWith_17 (Nat.le_of_ble_eq_true rfl) (Nat.le_of_ble_eq_true rfl)
