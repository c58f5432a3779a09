/-! WARES: the ware w of kind i (0 .. 2) and wall wl -/
def wa_P (V : gh_V) (g : gh_G) (w i : Nat) (wl : Int32) : Prop := i < 3 ∧ g w = some ((V.2.2 9, 2, 0), oo (6 + i) [.int wl])
theorem wa_P.keep {V : gh_V} {g g1 : gh_G} {w i : Nat} {wl : Int32} (h : wa_P V g w i wl) (hf : ∀ a t x, g a = some (t, x) → t.1 = V.2.2 9 ∧ t.2.1 = 2 → g1 a = some (t, x)) : wa_P V g1 w i wl := ⟨h.1, hf _ _ _ h.2 ⟨rfl, rfl⟩⟩
theorem bn_loop {u b c : Nat} (hc : c ≤ b) (h : bnU u b ≤ c) (h3 : 3 * c ≤ u) : c = bnU u b := by
  unfold bnU at h ⊢
  split at h
  · rw [if_pos (by omega)]; omega
  · rw [if_neg (by omega)]; omega
theorem bn_down {u b c : Nat} (h : bnU u b ≤ c) (h3 : ¬ 3 * c ≤ u) : 0 < c ∧ bnU u b ≤ c - 1 := by
  have := bnU_u u b
  omega
theorem fl_lim (i : Nat) (hi : i < 3) : FP.i2f (sp_limit (nI i)) = if i = 0 then 1106247680 else if i = 1 then 1101004800 else 1110704128 := by
  obtain rfl | rfl | rfl : i = 0 ∨ i = 1 ∨ i = 2 := by omega
  all_goals decide +kernel
theorem fl_soft (i : Nat) (hi : i < 3) : FP.i2f (sp_soft (nI i)) = if i = 0 then 1109393408 else if i = 1 then 1103626240 else 1114636288 := by
  obtain rfl | rfl | rfl : i = 0 ∨ i = 1 ∨ i = 2 := by omega
  all_goals decide +kernel
set_option maxRecDepth 100000
theorem fX10_7_8 : gh_fd RX10 7 8 0 .int true := gh_fd.own (T := TX10) tyX10 rfl in_X10 tyX10_ok nmX10 (by decide) q1577 rfl rfl (fun h => rfl)
theorem fX8_7_6 : gh_fd RX8 7 6 0 .int true := gh_fd.own (T := TX8) tyX8 rfl in_X8 tyX8_ok nmX8 (by decide) q1557 rfl rfl (fun h => rfl)
theorem fX9_7_7 : gh_fd RX9 7 7 0 .int true := gh_fd.own (T := TX9) tyX9 rfl in_X9 tyX9_ok nmX9 (by decide) q1567 rfl rfl (fun h => rfl)
theorem hd_X10_init : yX10_init.cls = RX10 ∧ yX10_init.cls ≠ "java/lang/invoke/MethodHandle" ∧ yX10_init.cls ≠ "java/lang/invoke/VarHandle" ∧ (parseMethodDescriptor yX10_init.desc).map (fun d => d.parameters.length) = some 1 := by decide +kernel
theorem hd_X8_init : yX8_init.cls = RX8 ∧ yX8_init.cls ≠ "java/lang/invoke/MethodHandle" ∧ yX8_init.cls ≠ "java/lang/invoke/VarHandle" ∧ (parseMethodDescriptor yX8_init.desc).map (fun d => d.parameters.length) = some 1 := by decide +kernel
theorem hd_X9_init : yX9_init.cls = RX9 ∧ yX9_init.cls ≠ "java/lang/invoke/MethodHandle" ∧ yX9_init.cls ≠ "java/lang/invoke/VarHandle" ∧ (parseMethodDescriptor yX9_init.desc).map (fun d => d.parameters.length) = some 1 := by decide +kernel
theorem hdF_AnnealingLehr_Burner_gas_0 : (⟨"AnnealingLehr$Burner", "gas", "()I"⟩ : MethodName).cls ≠ "java/lang/invoke/MethodHandle" ∧ (⟨"AnnealingLehr$Burner", "gas", "()I"⟩ : MethodName).cls ≠ "java/lang/invoke/VarHandle" ∧ (parseMethodDescriptor (⟨"AnnealingLehr$Burner", "gas", "()I"⟩ : MethodName).desc).map (fun d => d.parameters.length) = some 0 := by decide +kernel
theorem hdF_AnnealingLehr_Burner_lower_0 : (⟨"AnnealingLehr$Burner", "lower", "()LAnnealingLehr$Burner;"⟩ : MethodName).cls ≠ "java/lang/invoke/MethodHandle" ∧ (⟨"AnnealingLehr$Burner", "lower", "()LAnnealingLehr$Burner;"⟩ : MethodName).cls ≠ "java/lang/invoke/VarHandle" ∧ (parseMethodDescriptor (⟨"AnnealingLehr$Burner", "lower", "()LAnnealingLehr$Burner;"⟩ : MethodName).desc).map (fun d => d.parameters.length) = some 0 := by decide +kernel
theorem hdF_AnnealingLehr_Burner_target_0 : (⟨"AnnealingLehr$Burner", "target", "()I"⟩ : MethodName).cls ≠ "java/lang/invoke/MethodHandle" ∧ (⟨"AnnealingLehr$Burner", "target", "()I"⟩ : MethodName).cls ≠ "java/lang/invoke/VarHandle" ∧ (parseMethodDescriptor (⟨"AnnealingLehr$Burner", "target", "()I"⟩ : MethodName).desc).map (fun d => d.parameters.length) = some 0 := by decide +kernel
theorem hdF_AnnealingLehr_Ware_wall_0 : (⟨"AnnealingLehr$Ware", "wall", "()I"⟩ : MethodName).cls ≠ "java/lang/invoke/MethodHandle" ∧ (⟨"AnnealingLehr$Ware", "wall", "()I"⟩ : MethodName).cls ≠ "java/lang/invoke/VarHandle" ∧ (parseMethodDescriptor (⟨"AnnealingLehr$Ware", "wall", "()I"⟩ : MethodName).desc).map (fun d => d.parameters.length) = some 0 := by decide +kernel
set_option maxHeartbeats 1000000 in
set_option maxRecDepth 100000 in
theorem j_X8_init (l : Launch) (V : gh_V) (g0 : gh_G) (w9 : Nat) (wl : Int32) (t9 : gh_T) (hw9 : g0 w9 = some (t9, oo 6 [.int 0])) : MV l yX8_init cX8_init 2 ({ frames := 1, cells := 0, slots := 0, locals := 12 } : Room) V [.ref w9, .int wl] g0 (fun g1 => g1 w9 = some (t9, oo 6 [.int wl]) ∧ ∀ b, b ≠ w9 → g1 b = g0 b) := by
  refine MG.of RX8 (by decide) rfl (Nat.le_of_ble_eq_true rfl) (fun pp ee s mm args below meth c ls hC hg hr hlk hnm hl => ?_)
  have hx := hC.1.1
  have hb := hC.1.2.1
  have hml := hC.1.2.2.1
  have hown := hC.1.2.2.2.1
  have hts := hC.1.2.2.2.2
  have hl : lv_has ls 2 [(0, .ref w9), (1, .int wl)] := hl
  obtain ⟨g, hg, hgg⟩ : ∃ g, gh_W V (gh_A g0 s.heap.size) s g s.heap [] ∧ g = g0 := ⟨g0, hg, rfl⟩
  rw [← hgg] at hw9
  have hfr : ∀ b, b ≠ w9 → g b = g0 b := fun b _ => by rw [hgg]
  refine lv_aload_n hx hb dX8_init_0 rfl (lv_at hl 0 rfl) ?_
  refine W.objInit hx hb hown (hts _ q1556) (hts _ q185) (hts _ q186) rfl (by rw [hml]; exact hl.1) rfl dX8_init_1 (Nat.le_of_ble_eq_true rfl) (Nat.le_of_ble_eq_true rfl) ?_
  refine W.eq (g2 := F0 mm 4 ls []) rfl ?_
  refine lv_aload_n hx hb dX8_init_4 rfl (lv_at hl 0 rfl) ?_
  refine lv_iload_n hx hb dX8_init_5 rfl (lv_at hl 1 rfl) ?_
  refine gh_putF (v := .int wl) hC hg hnm hw9 fX8_7_6 rfl rfl (Nat.le_of_ble_eq_true rfl) dX8_init_6 (fun g H locs hg hw hn => ?_)
  have hfr : ∀ b, b ≠ w9 → g b = g0 b := fun b h1 => (hn b h1).trans (hfr b h1)
  have hw9 : g w9 = some ((t9.1, t9.2.1, t9.2.2), oo 6 [.int wl]) := hw
  exact gh_retv hC hg hr hlk (⟨hw9, hfr⟩) dX8_init_9 (Nat.le_of_ble_eq_true rfl) (Nat.le_of_ble_eq_true rfl)
set_option maxHeartbeats 1000000 in
set_option maxRecDepth 100000 in
theorem j_X8_wall (l : Launch) (V : gh_V) (g0 : gh_G) (w9 : Nat) (wl : Int32) (t9 : gh_T) (hw9 : g0 w9 = some (t9, oo 6 [.int wl])) : MI l yX8_wall cX8_wall 1 (some .int) ({ frames := 0, cells := 0, slots := 0, locals := 0 } : Room) V [.ref w9] g0 (fun r g1 => r = wl ∧ g1 = g0) := by
  refine MG.of RX8 (by decide) rfl (Nat.le_of_ble_eq_true rfl) (fun pp ee s mm args below meth c ls hC hg hr hlk hnm hl => ?_)
  have hx := hC.1.1
  have hb := hC.1.2.1
  have hml := hC.1.2.2.1
  have hown := hC.1.2.2.2.1
  have hts := hC.1.2.2.2.2
  have hl : lv_has ls 1 [(0, .ref w9)] := hl
  obtain ⟨g, hg, hgg⟩ : ∃ g, gh_W V (gh_A g0 s.heap.size) s g s.heap [] ∧ g = g0 := ⟨g0, hg, rfl⟩
  rw [← hgg] at hw9
  refine lv_aload_n hx hb dX8_wall_0 rfl (lv_at hl 0 rfl) ?_
  refine gh_get (v := .int wl) hC hg hw9 fX8_7_6 rfl dX8_wall_1 ?_
  exact gh_reti hC hg hr hlk (⟨rfl, hgg⟩) dX8_wall_4 (Nat.le_of_ble_eq_true rfl) (Nat.le_of_ble_eq_true rfl)
set_option maxHeartbeats 1000000 in
set_option maxRecDepth 100000 in
theorem j_X9_init (l : Launch) (V : gh_V) (g0 : gh_G) (w9 : Nat) (wl : Int32) (t9 : gh_T) (hw9 : g0 w9 = some (t9, oo 7 [.int 0])) : MV l yX9_init cX9_init 2 ({ frames := 1, cells := 0, slots := 0, locals := 12 } : Room) V [.ref w9, .int wl] g0 (fun g1 => g1 w9 = some (t9, oo 7 [.int wl]) ∧ ∀ b, b ≠ w9 → g1 b = g0 b) := by
  refine MG.of RX9 (by decide) rfl (Nat.le_of_ble_eq_true rfl) (fun pp ee s mm args below meth c ls hC hg hr hlk hnm hl => ?_)
  have hx := hC.1.1
  have hb := hC.1.2.1
  have hml := hC.1.2.2.1
  have hown := hC.1.2.2.2.1
  have hts := hC.1.2.2.2.2
  have hl : lv_has ls 2 [(0, .ref w9), (1, .int wl)] := hl
  obtain ⟨g, hg, hgg⟩ : ∃ g, gh_W V (gh_A g0 s.heap.size) s g s.heap [] ∧ g = g0 := ⟨g0, hg, rfl⟩
  rw [← hgg] at hw9
  have hfr : ∀ b, b ≠ w9 → g b = g0 b := fun b _ => by rw [hgg]
  refine lv_aload_n hx hb dX9_init_0 rfl (lv_at hl 0 rfl) ?_
  refine W.objInit hx hb hown (hts _ q1566) (hts _ q185) (hts _ q186) rfl (by rw [hml]; exact hl.1) rfl dX9_init_1 (Nat.le_of_ble_eq_true rfl) (Nat.le_of_ble_eq_true rfl) ?_
  refine W.eq (g2 := F0 mm 4 ls []) rfl ?_
  refine lv_aload_n hx hb dX9_init_4 rfl (lv_at hl 0 rfl) ?_
  refine lv_iload_n hx hb dX9_init_5 rfl (lv_at hl 1 rfl) ?_
  refine gh_putF (v := .int wl) hC hg hnm hw9 fX9_7_7 rfl rfl (Nat.le_of_ble_eq_true rfl) dX9_init_6 (fun g H locs hg hw hn => ?_)
  have hfr : ∀ b, b ≠ w9 → g b = g0 b := fun b h1 => (hn b h1).trans (hfr b h1)
  have hw9 : g w9 = some ((t9.1, t9.2.1, t9.2.2), oo 7 [.int wl]) := hw
  exact gh_retv hC hg hr hlk (⟨hw9, hfr⟩) dX9_init_9 (Nat.le_of_ble_eq_true rfl) (Nat.le_of_ble_eq_true rfl)
set_option maxHeartbeats 1000000 in
set_option maxRecDepth 100000 in
theorem j_X9_wall (l : Launch) (V : gh_V) (g0 : gh_G) (w9 : Nat) (wl : Int32) (t9 : gh_T) (hw9 : g0 w9 = some (t9, oo 7 [.int wl])) : MI l yX9_wall cX9_wall 1 (some .int) ({ frames := 0, cells := 0, slots := 0, locals := 0 } : Room) V [.ref w9] g0 (fun r g1 => r = wl ∧ g1 = g0) := by
  refine MG.of RX9 (by decide) rfl (Nat.le_of_ble_eq_true rfl) (fun pp ee s mm args below meth c ls hC hg hr hlk hnm hl => ?_)
  have hx := hC.1.1
  have hb := hC.1.2.1
  have hml := hC.1.2.2.1
  have hown := hC.1.2.2.2.1
  have hts := hC.1.2.2.2.2
  have hl : lv_has ls 1 [(0, .ref w9)] := hl
  obtain ⟨g, hg, hgg⟩ : ∃ g, gh_W V (gh_A g0 s.heap.size) s g s.heap [] ∧ g = g0 := ⟨g0, hg, rfl⟩
  rw [← hgg] at hw9
  refine lv_aload_n hx hb dX9_wall_0 rfl (lv_at hl 0 rfl) ?_
  refine gh_get (v := .int wl) hC hg hw9 fX9_7_7 rfl dX9_wall_1 ?_
  exact gh_reti hC hg hr hlk (⟨rfl, hgg⟩) dX9_wall_4 (Nat.le_of_ble_eq_true rfl) (Nat.le_of_ble_eq_true rfl)
set_option maxHeartbeats 1000000 in
set_option maxRecDepth 100000 in
theorem j_X10_init (l : Launch) (V : gh_V) (g0 : gh_G) (w9 : Nat) (wl : Int32) (t9 : gh_T) (hw9 : g0 w9 = some (t9, oo 8 [.int 0])) : MV l yX10_init cX10_init 2 ({ frames := 1, cells := 0, slots := 0, locals := 12 } : Room) V [.ref w9, .int wl] g0 (fun g1 => g1 w9 = some (t9, oo 8 [.int wl]) ∧ ∀ b, b ≠ w9 → g1 b = g0 b) := by
  refine MG.of RX10 (by decide) rfl (Nat.le_of_ble_eq_true rfl) (fun pp ee s mm args below meth c ls hC hg hr hlk hnm hl => ?_)
  have hx := hC.1.1
  have hb := hC.1.2.1
  have hml := hC.1.2.2.1
  have hown := hC.1.2.2.2.1
  have hts := hC.1.2.2.2.2
  have hl : lv_has ls 2 [(0, .ref w9), (1, .int wl)] := hl
  obtain ⟨g, hg, hgg⟩ : ∃ g, gh_W V (gh_A g0 s.heap.size) s g s.heap [] ∧ g = g0 := ⟨g0, hg, rfl⟩
  rw [← hgg] at hw9
  have hfr : ∀ b, b ≠ w9 → g b = g0 b := fun b _ => by rw [hgg]
  refine lv_aload_n hx hb dX10_init_0 rfl (lv_at hl 0 rfl) ?_
  refine W.objInit hx hb hown (hts _ q1576) (hts _ q185) (hts _ q186) rfl (by rw [hml]; exact hl.1) rfl dX10_init_1 (Nat.le_of_ble_eq_true rfl) (Nat.le_of_ble_eq_true rfl) ?_
  refine W.eq (g2 := F0 mm 4 ls []) rfl ?_
  refine lv_aload_n hx hb dX10_init_4 rfl (lv_at hl 0 rfl) ?_
  refine lv_iload_n hx hb dX10_init_5 rfl (lv_at hl 1 rfl) ?_
  refine gh_putF (v := .int wl) hC hg hnm hw9 fX10_7_8 rfl rfl (Nat.le_of_ble_eq_true rfl) dX10_init_6 (fun g H locs hg hw hn => ?_)
  have hfr : ∀ b, b ≠ w9 → g b = g0 b := fun b h1 => (hn b h1).trans (hfr b h1)
  have hw9 : g w9 = some ((t9.1, t9.2.1, t9.2.2), oo 8 [.int wl]) := hw
  exact gh_retv hC hg hr hlk (⟨hw9, hfr⟩) dX10_init_9 (Nat.le_of_ble_eq_true rfl) (Nat.le_of_ble_eq_true rfl)
set_option maxHeartbeats 1000000 in
set_option maxRecDepth 100000 in
theorem j_X10_wall (l : Launch) (V : gh_V) (g0 : gh_G) (w9 : Nat) (wl : Int32) (t9 : gh_T) (hw9 : g0 w9 = some (t9, oo 8 [.int wl])) : MI l yX10_wall cX10_wall 1 (some .int) ({ frames := 0, cells := 0, slots := 0, locals := 0 } : Room) V [.ref w9] g0 (fun r g1 => r = wl ∧ g1 = g0) := by
  refine MG.of RX10 (by decide) rfl (Nat.le_of_ble_eq_true rfl) (fun pp ee s mm args below meth c ls hC hg hr hlk hnm hl => ?_)
  have hx := hC.1.1
  have hb := hC.1.2.1
  have hml := hC.1.2.2.1
  have hown := hC.1.2.2.2.1
  have hts := hC.1.2.2.2.2
  have hl : lv_has ls 1 [(0, .ref w9)] := hl
  obtain ⟨g, hg, hgg⟩ : ∃ g, gh_W V (gh_A g0 s.heap.size) s g s.heap [] ∧ g = g0 := ⟨g0, hg, rfl⟩
  rw [← hgg] at hw9
  refine lv_aload_n hx hb dX10_wall_0 rfl (lv_at hl 0 rfl) ?_
  refine gh_get (v := .int wl) hC hg hw9 fX10_7_8 rfl dX10_wall_1 ?_
  exact gh_reti hC hg hr hlk (⟨rfl, hgg⟩) dX10_wall_4 (Nat.le_of_ble_eq_true rfl) (Nat.le_of_ble_eq_true rfl)
theorem gh_wallX1 {V : gh_V} {p : Program} {l : Launch} {e : Env} {R : Room} {s : State} {m : MethodId} {args : Array Value} {below : List Frame} {meth : Method} {c0 : Code} {H : Heap} {locs : List Loc} {cells slots : Nat} {Q : State → Prop} {cc : ByteArray} {nL : Nat} {A : Nat → Prop} {g : gh_G} {pc : Nat} {ls : Array Slot} {rest : List Value} {w i : Nat} {wl : Int32} (hwa : wa_P V g w i wl)
    (hC : gh_C V p s m args c0 cc nL RX1 A) (hg : gh_W V A s g H locs) (hl : ls.size = nL) (hW : (rest.map fun v => v.category).sum ≤ 8) (hdg : decode cc pc = .ok (.invokeinterface 268 1, 5)) (hR : 1 ≤ R.frames ∧ 20 ≤ R.locals) (hf : cells + 0 ≤ R.cells ∧ slots + 0 ≤ R.slots)
    (kk : ∀ (H1 : Heap) (locs1 : List Loc), gh_W V A s g H1 locs1 → W p l e R s m args below meth c0 H1 locs1 cells slots Q (F0 m (pc + 5) ls (.int wl :: rest))) : W p l e R s m args below meth c0 H locs cells slots Q (F0 m pc ls (.ref w :: rest)) := by
  have hts := hC.1.2.2.2.2
  obtain ⟨hi3, hw⟩ := hwa
  obtain rfl | rfl | rfl : i = 0 ∨ i = 1 ∨ i = 2 := by omega
  · refine gh_callFi hg (gh_runF (x := ⟨"AnnealingLehr$Ware", "wall", "()I"⟩) (C := "AnnealingLehr$Bottle") (As := []) (rest := rest) hC hg (j_X8_wall l V _ w wl _ hw) 0 (lw_F q3590 q2726 q2724 q165 q2728) hw rfl (by decide +kernel) q2727 q2725 q2723 hdF_AnnealingLehr_Ware_wall_0 ⟨Nat.le_trans (by decide) hR.1, Nat.le_trans (by decide) hR.2⟩ rfl hl rfl hW hdg hf) (fun r9 g1 H1 locs1 hg1 hp => ?_)
    obtain ⟨rfl, rfl⟩ := hp
    exact kk H1 locs1 hg1
  · refine gh_callFi hg (gh_runF (x := ⟨"AnnealingLehr$Ware", "wall", "()I"⟩) (C := "AnnealingLehr$Pane") (As := []) (rest := rest) hC hg (j_X9_wall l V _ w wl _ hw) 0 (lw_F q3590 q2738 q2736 q166 q2740) hw rfl (by decide +kernel) q2739 q2737 q2735 hdF_AnnealingLehr_Ware_wall_0 ⟨Nat.le_trans (by decide) hR.1, Nat.le_trans (by decide) hR.2⟩ rfl hl rfl hW hdg hf) (fun r9 g1 H1 locs1 hg1 hp => ?_)
    obtain ⟨rfl, rfl⟩ := hp
    exact kk H1 locs1 hg1
  · refine gh_callFi hg (gh_runF (x := ⟨"AnnealingLehr$Ware", "wall", "()I"⟩) (C := "AnnealingLehr$Bowl") (As := []) (rest := rest) hC hg (j_X10_wall l V _ w wl _ hw) 0 (lw_F q3590 q2732 q2730 q167 q2734) hw rfl (by decide +kernel) q2733 q2731 q2729 hdF_AnnealingLehr_Ware_wall_0 ⟨Nat.le_trans (by decide) hR.1, Nat.le_trans (by decide) hR.2⟩ rfl hl rfl hW hdg hf) (fun r9 g1 H1 locs1 hg1 hp => ?_)
    obtain ⟨rfl, rfl⟩ := hp
    exact kk H1 locs1 hg1
theorem gh_wallX5 {V : gh_V} {p : Program} {l : Launch} {e : Env} {R : Room} {s : State} {m : MethodId} {args : Array Value} {below : List Frame} {meth : Method} {c0 : Code} {H : Heap} {locs : List Loc} {cells slots : Nat} {Q : State → Prop} {cc : ByteArray} {nL : Nat} {A : Nat → Prop} {g : gh_G} {pc : Nat} {ls : Array Slot} {rest : List Value} {w i : Nat} {wl : Int32} (hwa : wa_P V g w i wl)
    (hC : gh_C V p s m args c0 cc nL RX5 A) (hg : gh_W V A s g H locs) (hl : ls.size = nL) (hW : (rest.map fun v => v.category).sum ≤ 8) (hdg : decode cc pc = .ok (.invokeinterface 36 1, 5)) (hR : 1 ≤ R.frames ∧ 20 ≤ R.locals) (hf : cells + 0 ≤ R.cells ∧ slots + 0 ≤ R.slots)
    (kk : ∀ (H1 : Heap) (locs1 : List Loc), gh_W V A s g H1 locs1 → W p l e R s m args below meth c0 H1 locs1 cells slots Q (F0 m (pc + 5) ls (.int wl :: rest))) : W p l e R s m args below meth c0 H locs cells slots Q (F0 m pc ls (.ref w :: rest)) := by
  have hts := hC.1.2.2.2.2
  obtain ⟨hi3, hw⟩ := hwa
  obtain rfl | rfl | rfl : i = 0 ∨ i = 1 ∨ i = 2 := by omega
  · refine gh_callFi hg (gh_runF (x := ⟨"AnnealingLehr$Ware", "wall", "()I"⟩) (C := "AnnealingLehr$Bottle") (As := []) (rest := rest) hC hg (j_X8_wall l V _ w wl _ hw) 0 (lw_F q2824 q2726 q2724 q165 q2728) hw rfl (by decide +kernel) q2727 q2725 q2723 hdF_AnnealingLehr_Ware_wall_0 ⟨Nat.le_trans (by decide) hR.1, Nat.le_trans (by decide) hR.2⟩ rfl hl rfl hW hdg hf) (fun r9 g1 H1 locs1 hg1 hp => ?_)
    obtain ⟨rfl, rfl⟩ := hp
    exact kk H1 locs1 hg1
  · refine gh_callFi hg (gh_runF (x := ⟨"AnnealingLehr$Ware", "wall", "()I"⟩) (C := "AnnealingLehr$Pane") (As := []) (rest := rest) hC hg (j_X9_wall l V _ w wl _ hw) 0 (lw_F q2824 q2738 q2736 q166 q2740) hw rfl (by decide +kernel) q2739 q2737 q2735 hdF_AnnealingLehr_Ware_wall_0 ⟨Nat.le_trans (by decide) hR.1, Nat.le_trans (by decide) hR.2⟩ rfl hl rfl hW hdg hf) (fun r9 g1 H1 locs1 hg1 hp => ?_)
    obtain ⟨rfl, rfl⟩ := hp
    exact kk H1 locs1 hg1
  · refine gh_callFi hg (gh_runF (x := ⟨"AnnealingLehr$Ware", "wall", "()I"⟩) (C := "AnnealingLehr$Bowl") (As := []) (rest := rest) hC hg (j_X10_wall l V _ w wl _ hw) 0 (lw_F q2824 q2732 q2730 q167 q2734) hw rfl (by decide +kernel) q2733 q2731 q2729 hdF_AnnealingLehr_Ware_wall_0 ⟨Nat.le_trans (by decide) hR.1, Nat.le_trans (by decide) hR.2⟩ rfl hl rfl hW hdg hf) (fun r9 g1 H1 locs1 hg1 hp => ?_)
    obtain ⟨rfl, rfl⟩ := hp
    exact kk H1 locs1 hg1
theorem gh_wallX6 {V : gh_V} {p : Program} {l : Launch} {e : Env} {R : Room} {s : State} {m : MethodId} {args : Array Value} {below : List Frame} {meth : Method} {c0 : Code} {H : Heap} {locs : List Loc} {cells slots : Nat} {Q : State → Prop} {cc : ByteArray} {nL : Nat} {A : Nat → Prop} {g : gh_G} {pc : Nat} {ls : Array Slot} {rest : List Value} {w i : Nat} {wl : Int32} (hwa : wa_P V g w i wl)
    (hC : gh_C V p s m args c0 cc nL RX6 A) (hg : gh_W V A s g H locs) (hl : ls.size = nL) (hW : (rest.map fun v => v.category).sum ≤ 8) (hdg : decode cc pc = .ok (.invokeinterface 36 1, 5)) (hR : 1 ≤ R.frames ∧ 20 ≤ R.locals) (hf : cells + 0 ≤ R.cells ∧ slots + 0 ≤ R.slots)
    (kk : ∀ (H1 : Heap) (locs1 : List Loc), gh_W V A s g H1 locs1 → W p l e R s m args below meth c0 H1 locs1 cells slots Q (F0 m (pc + 5) ls (.int wl :: rest))) : W p l e R s m args below meth c0 H locs cells slots Q (F0 m pc ls (.ref w :: rest)) := by
  have hts := hC.1.2.2.2.2
  obtain ⟨hi3, hw⟩ := hwa
  obtain rfl | rfl | rfl : i = 0 ∨ i = 1 ∨ i = 2 := by omega
  · refine gh_callFi hg (gh_runF (x := ⟨"AnnealingLehr$Ware", "wall", "()I"⟩) (C := "AnnealingLehr$Bottle") (As := []) (rest := rest) hC hg (j_X8_wall l V _ w wl _ hw) 0 (lw_F q2720 q2726 q2724 q165 q2728) hw rfl (by decide +kernel) q2727 q2725 q2723 hdF_AnnealingLehr_Ware_wall_0 ⟨Nat.le_trans (by decide) hR.1, Nat.le_trans (by decide) hR.2⟩ rfl hl rfl hW hdg hf) (fun r9 g1 H1 locs1 hg1 hp => ?_)
    obtain ⟨rfl, rfl⟩ := hp
    exact kk H1 locs1 hg1
  · refine gh_callFi hg (gh_runF (x := ⟨"AnnealingLehr$Ware", "wall", "()I"⟩) (C := "AnnealingLehr$Pane") (As := []) (rest := rest) hC hg (j_X9_wall l V _ w wl _ hw) 0 (lw_F q2720 q2738 q2736 q166 q2740) hw rfl (by decide +kernel) q2739 q2737 q2735 hdF_AnnealingLehr_Ware_wall_0 ⟨Nat.le_trans (by decide) hR.1, Nat.le_trans (by decide) hR.2⟩ rfl hl rfl hW hdg hf) (fun r9 g1 H1 locs1 hg1 hp => ?_)
    obtain ⟨rfl, rfl⟩ := hp
    exact kk H1 locs1 hg1
  · refine gh_callFi hg (gh_runF (x := ⟨"AnnealingLehr$Ware", "wall", "()I"⟩) (C := "AnnealingLehr$Bowl") (As := []) (rest := rest) hC hg (j_X10_wall l V _ w wl _ hw) 0 (lw_F q2720 q2732 q2730 q167 q2734) hw rfl (by decide +kernel) q2733 q2731 q2729 hdF_AnnealingLehr_Ware_wall_0 ⟨Nat.le_trans (by decide) hR.1, Nat.le_trans (by decide) hR.2⟩ rfl hl rfl hW hdg hf) (fun r9 g1 H1 locs1 hg1 hp => ?_)
    obtain ⟨rfl, rfl⟩ := hp
    exact kk H1 locs1 hg1
set_option maxHeartbeats 1000000 in
set_option maxRecDepth 100000 in
theorem j_X7_kind (l : Launch) (V : gh_V) (g0 : gh_G) (w i : Nat) (wl : Int32) (hwa : wa_P V g0 w i wl) : MI l yX7_kind cX7_kind 1 (some .int) ({ frames := 0, cells := 0, slots := 0, locals := 0 } : Room) V [.ref w] g0 (fun r g1 => r = nI i ∧ g1 = g0) := by
  refine MG.of RX7 (by decide) rfl (Nat.le_of_ble_eq_true rfl) (fun pp ee s mm args below meth c ls hC hg hr hlk hnm hl => ?_)
  have hx := hC.1.1
  have hb := hC.1.2.1
  have hml := hC.1.2.2.1
  have hown := hC.1.2.2.2.1
  have hts := hC.1.2.2.2.2
  have hl : lv_has ls 1 [(0, .ref w)] := hl
  obtain ⟨g, hg, hgg⟩ : ∃ g, gh_W V (gh_A g0 s.heap.size) s g s.heap [] ∧ g = g0 := ⟨g0, hg, rfl⟩
  rw [← hgg] at hwa
  obtain ⟨hi3, hw⟩ := hwa
  obtain rfl | rfl | rfl : i = 0 ∨ i = 1 ∨ i = 2 := by omega
  · skip
    refine lv_aload_n hx hb dX7_kind_0 rfl (lv_at hl 0 rfl) ?_
    refine gh_instS hC hg hw rfl q1551 dX7_kind_1 ?_
    refine lv_if_eq (tgt := 9) hx hb dX7_kind_4 (by decide) (fun c_1 => (absurd c_1 (by decide))) (fun _ => ?_)
    refine lv_iconst (v := 0) hx hb dX7_kind_7 (by decide) ?_
    exact gh_reti hC hg hr hlk (⟨by decide, hgg⟩) dX7_kind_8 (Nat.le_of_ble_eq_true rfl) (Nat.le_of_ble_eq_true rfl)
  · skip
    refine lv_aload_n hx hb dX7_kind_0 rfl (lv_at hl 0 rfl) ?_
    refine gh_instNo hC hg hw rfl q1551 (by decide +kernel) dX7_kind_1 ?_
    refine lv_if_eq (tgt := 9) hx hb dX7_kind_4 (by decide) (fun _ => ?_) (fun c_2 => (absurd rfl c_2))
    refine lv_aload_n hx hb dX7_kind_9 rfl (lv_at hl 0 rfl) ?_
    refine gh_instS hC hg hw rfl q1561 dX7_kind_10 ?_
    refine lv_if_eq (tgt := 20) hx hb dX7_kind_13 (by decide) (fun c_3 => (absurd c_3 (by decide))) (fun _ => ?_)
    refine lv_iconst (v := 1) hx hb dX7_kind_16 (by decide) ?_
    refine lv_goto (tgt := 21) hx hb dX7_kind_17 (by decide) ?_
    exact gh_reti hC hg hr hlk (⟨by decide, hgg⟩) dX7_kind_21 (Nat.le_of_ble_eq_true rfl) (Nat.le_of_ble_eq_true rfl)
  · skip
    refine lv_aload_n hx hb dX7_kind_0 rfl (lv_at hl 0 rfl) ?_
    refine gh_instNo hC hg hw rfl q1551 (by decide +kernel) dX7_kind_1 ?_
    refine lv_if_eq (tgt := 9) hx hb dX7_kind_4 (by decide) (fun _ => ?_) (fun c_4 => (absurd rfl c_4))
    refine lv_aload_n hx hb dX7_kind_9 rfl (lv_at hl 0 rfl) ?_
    refine gh_instNo hC hg hw rfl q1561 (by decide +kernel) dX7_kind_10 ?_
    refine lv_if_eq (tgt := 20) hx hb dX7_kind_13 (by decide) (fun _ => ?_) (fun c_5 => (absurd rfl c_5))
    refine lv_iconst (v := 2) hx hb dX7_kind_20 (by decide) ?_
    exact gh_reti hC hg hr hlk (⟨by decide, hgg⟩) dX7_kind_21 (Nat.le_of_ble_eq_true rfl) (Nat.le_of_ble_eq_true rfl)
set_option maxHeartbeats 1000000 in
set_option maxRecDepth 100000 in
theorem j_X7_lowest (l : Launch) (V : gh_V) (g0 : gh_G) (w i : Nat) (wl : Int32) (hwa : wa_P V g0 w i wl) : MI l yX7_lowest cX7_lowest 1 (some .int) ({ frames := 0, cells := 0, slots := 0, locals := 0 } : Room) V [.ref w] g0 (fun r g1 => r = sp_low (nI i) ∧ g1 = g0) := by
  refine MG.of RX7 (by decide) rfl (Nat.le_of_ble_eq_true rfl) (fun pp ee s mm args below meth c ls hC hg hr hlk hnm hl => ?_)
  have hx := hC.1.1
  have hb := hC.1.2.1
  have hml := hC.1.2.2.1
  have hown := hC.1.2.2.2.1
  have hts := hC.1.2.2.2.2
  have hl : lv_has ls 1 [(0, .ref w)] := hl
  obtain ⟨g, hg, hgg⟩ : ∃ g, gh_W V (gh_A g0 s.heap.size) s g s.heap [] ∧ g = g0 := ⟨g0, hg, rfl⟩
  rw [← hgg] at hwa
  obtain ⟨hi3, hw⟩ := hwa
  obtain rfl | rfl | rfl : i = 0 ∨ i = 1 ∨ i = 2 := by omega
  · skip
    refine lv_aload_n hx hb dX7_lowest_0 rfl (lv_at hl 0 rfl) ?_
    refine gh_instS hC hg hw rfl q1551 dX7_lowest_1 ?_
    refine lv_if_eq (tgt := 11) hx hb dX7_lowest_4 (by decide) (fun c_1 => (absurd c_1 (by decide))) (fun _ => ?_)
    refine lv_sipush (v := 450) hx hb dX7_lowest_7 (by decide) ?_
    exact gh_reti hC hg hr hlk (⟨by decide, hgg⟩) dX7_lowest_10 (Nat.le_of_ble_eq_true rfl) (Nat.le_of_ble_eq_true rfl)
  · skip
    refine lv_aload_n hx hb dX7_lowest_0 rfl (lv_at hl 0 rfl) ?_
    refine gh_instNo hC hg hw rfl q1551 (by decide +kernel) dX7_lowest_1 ?_
    refine lv_if_eq (tgt := 11) hx hb dX7_lowest_4 (by decide) (fun _ => ?_) (fun c_2 => (absurd rfl c_2))
    refine lv_aload_n hx hb dX7_lowest_11 rfl (lv_at hl 0 rfl) ?_
    refine gh_instS hC hg hw rfl q1561 dX7_lowest_12 ?_
    refine lv_if_eq (tgt := 24) hx hb dX7_lowest_15 (by decide) (fun c_3 => (absurd ((nx_eq (show ((1 : Int32)) = nI 1 from rfl) (show ((0 : Int32)) = nI 0 from rfl) (by omega) (by omega)).mp c_3) (by omega))) (fun _ => ?_)
    refine lv_sipush (v := 470) hx hb dX7_lowest_18 (by decide) ?_
    refine lv_goto (tgt := 27) hx hb dX7_lowest_21 (by decide) ?_
    exact gh_reti hC hg hr hlk (⟨by decide, hgg⟩) dX7_lowest_27 (Nat.le_of_ble_eq_true rfl) (Nat.le_of_ble_eq_true rfl)
  · skip
    refine lv_aload_n hx hb dX7_lowest_0 rfl (lv_at hl 0 rfl) ?_
    refine gh_instNo hC hg hw rfl q1551 (by decide +kernel) dX7_lowest_1 ?_
    refine lv_if_eq (tgt := 11) hx hb dX7_lowest_4 (by decide) (fun _ => ?_) (fun c_4 => (absurd rfl c_4))
    refine lv_aload_n hx hb dX7_lowest_11 rfl (lv_at hl 0 rfl) ?_
    refine gh_instNo hC hg hw rfl q1561 (by decide +kernel) dX7_lowest_12 ?_
    refine lv_if_eq (tgt := 24) hx hb dX7_lowest_15 (by decide) (fun _ => ?_) (fun c_5 => (absurd ((nx_eq (show ((0 : Int32)) = nI 0 from rfl) (show ((0 : Int32)) = nI 0 from rfl) (by omega) (by omega)).mpr (by omega)) c_5))
    refine lv_sipush (v := 430) hx hb dX7_lowest_24 (by decide) ?_
    exact gh_reti hC hg hr hlk (⟨by decide, hgg⟩) dX7_lowest_27 (Nat.le_of_ble_eq_true rfl) (Nat.le_of_ble_eq_true rfl)
set_option maxHeartbeats 1000000 in
set_option maxRecDepth 100000 in
theorem j_X7_highest (l : Launch) (V : gh_V) (g0 : gh_G) (w i : Nat) (wl : Int32) (hwa : wa_P V g0 w i wl) : MI l yX7_highest cX7_highest 1 (some .int) ({ frames := 0, cells := 0, slots := 0, locals := 0 } : Room) V [.ref w] g0 (fun r g1 => r = sp_high (nI i) ∧ g1 = g0) := by
  refine MG.of RX7 (by decide) rfl (Nat.le_of_ble_eq_true rfl) (fun pp ee s mm args below meth c ls hC hg hr hlk hnm hl => ?_)
  have hx := hC.1.1
  have hb := hC.1.2.1
  have hml := hC.1.2.2.1
  have hown := hC.1.2.2.2.1
  have hts := hC.1.2.2.2.2
  have hl : lv_has ls 1 [(0, .ref w)] := hl
  obtain ⟨g, hg, hgg⟩ : ∃ g, gh_W V (gh_A g0 s.heap.size) s g s.heap [] ∧ g = g0 := ⟨g0, hg, rfl⟩
  rw [← hgg] at hwa
  obtain ⟨hi3, hw⟩ := hwa
  obtain rfl | rfl | rfl : i = 0 ∨ i = 1 ∨ i = 2 := by omega
  · skip
    refine lv_aload_n hx hb dX7_highest_0 rfl (lv_at hl 0 rfl) ?_
    refine gh_instS hC hg hw rfl q1551 dX7_highest_1 ?_
    refine lv_if_eq (tgt := 11) hx hb dX7_highest_4 (by decide) (fun c_1 => (absurd c_1 (by decide))) (fun _ => ?_)
    refine lv_sipush (v := 550) hx hb dX7_highest_7 (by decide) ?_
    exact gh_reti hC hg hr hlk (⟨by decide, hgg⟩) dX7_highest_10 (Nat.le_of_ble_eq_true rfl) (Nat.le_of_ble_eq_true rfl)
  · skip
    refine lv_aload_n hx hb dX7_highest_0 rfl (lv_at hl 0 rfl) ?_
    refine gh_instNo hC hg hw rfl q1551 (by decide +kernel) dX7_highest_1 ?_
    refine lv_if_eq (tgt := 11) hx hb dX7_highest_4 (by decide) (fun _ => ?_) (fun c_2 => (absurd rfl c_2))
    refine lv_aload_n hx hb dX7_highest_11 rfl (lv_at hl 0 rfl) ?_
    refine gh_instS hC hg hw rfl q1561 dX7_highest_12 ?_
    refine lv_if_eq (tgt := 24) hx hb dX7_highest_15 (by decide) (fun c_3 => (absurd ((nx_eq (show ((1 : Int32)) = nI 1 from rfl) (show ((0 : Int32)) = nI 0 from rfl) (by omega) (by omega)).mp c_3) (by omega))) (fun _ => ?_)
    refine lv_sipush (v := 560) hx hb dX7_highest_18 (by decide) ?_
    refine lv_goto (tgt := 27) hx hb dX7_highest_21 (by decide) ?_
    exact gh_reti hC hg hr hlk (⟨by decide, hgg⟩) dX7_highest_27 (Nat.le_of_ble_eq_true rfl) (Nat.le_of_ble_eq_true rfl)
  · skip
    refine lv_aload_n hx hb dX7_highest_0 rfl (lv_at hl 0 rfl) ?_
    refine gh_instNo hC hg hw rfl q1551 (by decide +kernel) dX7_highest_1 ?_
    refine lv_if_eq (tgt := 11) hx hb dX7_highest_4 (by decide) (fun _ => ?_) (fun c_4 => (absurd rfl c_4))
    refine lv_aload_n hx hb dX7_highest_11 rfl (lv_at hl 0 rfl) ?_
    refine gh_instNo hC hg hw rfl q1561 (by decide +kernel) dX7_highest_12 ?_
    refine lv_if_eq (tgt := 24) hx hb dX7_highest_15 (by decide) (fun _ => ?_) (fun c_5 => (absurd ((nx_eq (show ((0 : Int32)) = nI 0 from rfl) (show ((0 : Int32)) = nI 0 from rfl) (by omega) (by omega)).mpr (by omega)) c_5))
    refine lv_sipush (v := 540) hx hb dX7_highest_24 (by decide) ?_
    exact gh_reti hC hg hr hlk (⟨by decide, hgg⟩) dX7_highest_27 (Nat.le_of_ble_eq_true rfl) (Nat.le_of_ble_eq_true rfl)
set_option maxHeartbeats 1000000 in
set_option maxRecDepth 100000 in
theorem j_X7_softness (l : Launch) (V : gh_V) (g0 : gh_G) (w i : Nat) (wl : Int32) (hwa : wa_P V g0 w i wl) : MF l yX7_softness cX7_softness 1 (some .float) ({ frames := 0, cells := 0, slots := 0, locals := 0 } : Room) V [.ref w] g0 (fun r g1 => r = FP.i2f (sp_soft (nI i)) ∧ g1 = g0) := by
  refine MG.of RX7 (by decide) rfl (Nat.le_of_ble_eq_true rfl) (fun pp ee s mm args below meth c ls hC hg hr hlk hnm hl => ?_)
  have hx := hC.1.1
  have hb := hC.1.2.1
  have hml := hC.1.2.2.1
  have hown := hC.1.2.2.2.1
  have hts := hC.1.2.2.2.2
  have hl : lv_has ls 1 [(0, .ref w)] := hl
  obtain ⟨g, hg, hgg⟩ : ∃ g, gh_W V (gh_A g0 s.heap.size) s g s.heap [] ∧ g = g0 := ⟨g0, hg, rfl⟩
  rw [← hgg] at hwa
  obtain ⟨hi3, hw⟩ := hwa
  obtain rfl | rfl | rfl : i = 0 ∨ i = 1 ∨ i = 2 := by omega
  · skip
    refine lv_aload_n hx hb dX7_softness_0 rfl (lv_at hl 0 rfl) ?_
    refine gh_instS hC hg hw rfl q1551 dX7_softness_1 ?_
    refine lv_if_eq (tgt := 10) hx hb dX7_softness_4 (by decide) (fun c_1 => (absurd c_1 (by decide))) (fun _ => ?_)
    refine lv_ldcf (v := 1109393408) hx hb hown (hts _ q2751) dX7_softness_7 ?_
    exact gh_retf hC hg hr hlk (⟨(by rw [fl_soft _ (by omega)]; rfl), hgg⟩) dX7_softness_9 (Nat.le_of_ble_eq_true rfl) (Nat.le_of_ble_eq_true rfl)
  · skip
    refine lv_aload_n hx hb dX7_softness_0 rfl (lv_at hl 0 rfl) ?_
    refine gh_instNo hC hg hw rfl q1551 (by decide +kernel) dX7_softness_1 ?_
    refine lv_if_eq (tgt := 10) hx hb dX7_softness_4 (by decide) (fun _ => ?_) (fun c_2 => (absurd rfl c_2))
    refine lv_aload_n hx hb dX7_softness_10 rfl (lv_at hl 0 rfl) ?_
    refine gh_instS hC hg hw rfl q1561 dX7_softness_11 ?_
    refine lv_if_eq (tgt := 22) hx hb dX7_softness_14 (by decide) (fun c_3 => (absurd ((nx_eq (show ((1 : Int32)) = nI 1 from rfl) (show ((0 : Int32)) = nI 0 from rfl) (by omega) (by omega)).mp c_3) (by omega))) (fun _ => ?_)
    refine lv_ldcf (v := 1103626240) hx hb hown (hts _ q2752) dX7_softness_17 ?_
    refine lv_goto (tgt := 24) hx hb dX7_softness_19 (by decide) ?_
    exact gh_retf hC hg hr hlk (⟨(by rw [fl_soft _ (by omega)]; rfl), hgg⟩) dX7_softness_24 (Nat.le_of_ble_eq_true rfl) (Nat.le_of_ble_eq_true rfl)
  · skip
    refine lv_aload_n hx hb dX7_softness_0 rfl (lv_at hl 0 rfl) ?_
    refine gh_instNo hC hg hw rfl q1551 (by decide +kernel) dX7_softness_1 ?_
    refine lv_if_eq (tgt := 10) hx hb dX7_softness_4 (by decide) (fun _ => ?_) (fun c_4 => (absurd rfl c_4))
    refine lv_aload_n hx hb dX7_softness_10 rfl (lv_at hl 0 rfl) ?_
    refine gh_instNo hC hg hw rfl q1561 (by decide +kernel) dX7_softness_11 ?_
    refine lv_if_eq (tgt := 22) hx hb dX7_softness_14 (by decide) (fun _ => ?_) (fun c_5 => (absurd ((nx_eq (show ((0 : Int32)) = nI 0 from rfl) (show ((0 : Int32)) = nI 0 from rfl) (by omega) (by omega)).mpr (by omega)) c_5))
    refine lv_ldcf (v := 1114636288) hx hb hown (hts _ q2753) dX7_softness_22 ?_
    exact gh_retf hC hg hr hlk (⟨(by rw [fl_soft _ (by omega)]; rfl), hgg⟩) dX7_softness_24 (Nat.le_of_ble_eq_true rfl) (Nat.le_of_ble_eq_true rfl)
set_option maxHeartbeats 1000000 in
set_option maxRecDepth 100000 in
theorem j_X7_limit (l : Launch) (V : gh_V) (g0 : gh_G) (w i : Nat) (wl : Int32) (hwa : wa_P V g0 w i wl) : MF l yX7_limit cX7_limit 1 (some .float) ({ frames := 0, cells := 0, slots := 0, locals := 0 } : Room) V [.ref w] g0 (fun r g1 => r = FP.i2f (sp_limit (nI i)) ∧ g1 = g0) := by
  refine MG.of RX7 (by decide) rfl (Nat.le_of_ble_eq_true rfl) (fun pp ee s mm args below meth c ls hC hg hr hlk hnm hl => ?_)
  have hx := hC.1.1
  have hb := hC.1.2.1
  have hml := hC.1.2.2.1
  have hown := hC.1.2.2.2.1
  have hts := hC.1.2.2.2.2
  have hl : lv_has ls 1 [(0, .ref w)] := hl
  obtain ⟨g, hg, hgg⟩ : ∃ g, gh_W V (gh_A g0 s.heap.size) s g s.heap [] ∧ g = g0 := ⟨g0, hg, rfl⟩
  rw [← hgg] at hwa
  obtain ⟨hi3, hw⟩ := hwa
  obtain rfl | rfl | rfl : i = 0 ∨ i = 1 ∨ i = 2 := by omega
  · skip
    refine lv_aload_n hx hb dX7_limit_0 rfl (lv_at hl 0 rfl) ?_
    refine gh_instS hC hg hw rfl q1551 dX7_limit_1 ?_
    refine lv_if_eq (tgt := 10) hx hb dX7_limit_4 (by decide) (fun c_1 => (absurd c_1 (by decide))) (fun _ => ?_)
    refine lv_ldcf (v := 1106247680) hx hb hown (hts _ q2770) dX7_limit_7 ?_
    exact gh_retf hC hg hr hlk (⟨(by rw [fl_lim _ (by omega)]; rfl), hgg⟩) dX7_limit_9 (Nat.le_of_ble_eq_true rfl) (Nat.le_of_ble_eq_true rfl)
  · skip
    refine lv_aload_n hx hb dX7_limit_0 rfl (lv_at hl 0 rfl) ?_
    refine gh_instNo hC hg hw rfl q1551 (by decide +kernel) dX7_limit_1 ?_
    refine lv_if_eq (tgt := 10) hx hb dX7_limit_4 (by decide) (fun _ => ?_) (fun c_2 => (absurd rfl c_2))
    refine lv_aload_n hx hb dX7_limit_10 rfl (lv_at hl 0 rfl) ?_
    refine gh_instS hC hg hw rfl q1561 dX7_limit_11 ?_
    refine lv_if_eq (tgt := 22) hx hb dX7_limit_14 (by decide) (fun c_3 => (absurd ((nx_eq (show ((1 : Int32)) = nI 1 from rfl) (show ((0 : Int32)) = nI 0 from rfl) (by omega) (by omega)).mp c_3) (by omega))) (fun _ => ?_)
    refine lv_ldcf (v := 1101004800) hx hb hown (hts _ q2771) dX7_limit_17 ?_
    refine lv_goto (tgt := 24) hx hb dX7_limit_19 (by decide) ?_
    exact gh_retf hC hg hr hlk (⟨(by rw [fl_lim _ (by omega)]; rfl), hgg⟩) dX7_limit_24 (Nat.le_of_ble_eq_true rfl) (Nat.le_of_ble_eq_true rfl)
  · skip
    refine lv_aload_n hx hb dX7_limit_0 rfl (lv_at hl 0 rfl) ?_
    refine gh_instNo hC hg hw rfl q1551 (by decide +kernel) dX7_limit_1 ?_
    refine lv_if_eq (tgt := 10) hx hb dX7_limit_4 (by decide) (fun _ => ?_) (fun c_4 => (absurd rfl c_4))
    refine lv_aload_n hx hb dX7_limit_10 rfl (lv_at hl 0 rfl) ?_
    refine gh_instNo hC hg hw rfl q1561 (by decide +kernel) dX7_limit_11 ?_
    refine lv_if_eq (tgt := 22) hx hb dX7_limit_14 (by decide) (fun _ => ?_) (fun c_5 => (absurd ((nx_eq (show ((0 : Int32)) = nI 0 from rfl) (show ((0 : Int32)) = nI 0 from rfl) (by omega) (by omega)).mpr (by omega)) c_5))
    refine lv_ldcf (v := 1110704128) hx hb hown (hts _ q2772) dX7_limit_22 ?_
    exact gh_retf hC hg hr hlk (⟨(by rw [fl_lim _ (by omega)]; rfl), hgg⟩) dX7_limit_24 (Nat.le_of_ble_eq_true rfl) (Nat.le_of_ble_eq_true rfl)
set_option maxHeartbeats 1000000 in
set_option maxRecDepth 100000 in
theorem j_X7_of (l : Launch) (V : gh_V) (g0 : gh_G) (i : Nat) (wl : Int32) (hi3 : i < 3) : MR l yX7_of cX7_of 2 (some (.object "AnnealingLehr$Ware")) ({ frames := 2, cells := 1, slots := 1, locals := 33 } : Room) V [.int (nI i), .int wl] g0 (fun r g1 => ∃ w : Nat, r = some w ∧ wa_P V g1 w i wl ∧ g0 w = none ∧ ∀ b, b ≠ w → g1 b = g0 b) := by
  refine MG.of RX7 (by decide) rfl (Nat.le_of_ble_eq_true rfl) (fun pp ee s mm args below meth c ls hC hg hr hlk hnm hl => ?_)
  have hx := hC.1.1
  have hb := hC.1.2.1
  have hml := hC.1.2.2.1
  have hown := hC.1.2.2.2.1
  have hts := hC.1.2.2.2.2
  have hl : lv_has ls 2 [(0, .int (nI i)), (1, .int wl)] := hl
  obtain ⟨g, hg, hgg⟩ : ∃ g, gh_W V (gh_A g0 s.heap.size) s g s.heap [] ∧ g = g0 := ⟨g0, hg, rfl⟩
  have hi39 := hi3
  obtain rfl | rfl | rfl : i = 0 ∨ i = 1 ∨ i = 2 := by omega
  · skip
    have hl : lv_has ls 2 [(0, .int 0), (1, .int wl)] := hl
    refine lv_iload_n hx hb dX7_of_0 rfl (lv_at hl 0 rfl) ?_
    refine lv_if_ne (tgt := 15) hx hb dX7_of_1 (by decide) (fun c_1 => (absurd rfl c_1)) (fun _ => ?_)
    refine gh_new (ci := 6) (fs := [.int 0]) hC hg (fun q9 => ((V.2.2 9), 2, 0)) rfl in_X8 tyX8 tyX8_ok q1551 q1552 q165 (by decide +kernel) (Nat.le_of_ble_eq_true rfl) (Nat.le_of_ble_eq_true rfl) dX7_of_4 (fun q_2 g H hg h0 hw hn => ?_)
    have c_3 : g q_2 = some (((V.2.2 9), 2, 0), oo 6 [.int 0]) := hw
    have h00 : g0 q_2 = none := by rw [← hgg]; exact h0
    have hfr : ∀ b, b ≠ q_2 → g b = g0 b := fun b h1 => (hn b h1).trans (by rw [hgg])
    refine lv_dup hx hb dX7_of_7 rfl ?_
    refine lv_iload_n hx hb dX7_of_8 rfl (lv_at hl 1 rfl) ?_
    refine gh_callv hg (gh_runI (As := [.int wl]) (rest := [.ref q_2]) hC hg (j_X8_init l V _ q_2 wl ((V.2.2 9), 2, 0) c_3) 1 (lw_meth q1555) q165 q1553 q1554 rfl hd_X8_init.2 ⟨Nat.le_of_ble_eq_true rfl, Nat.le_of_ble_eq_true rfl⟩ rfl hl.1 rfl (Nat.le_of_ble_eq_true rfl) dX7_of_9 ⟨Nat.le_of_ble_eq_true rfl, Nat.le_of_ble_eq_true rfl⟩) (fun g H locs hg hp => ?_)
    obtain ⟨hw9, hfr9⟩ := hp
    refine lv_goto (tgt := 39) hx hb dX7_of_12 (by decide) ?_
    exact gh_retq (r := some q_2) (Or.inl ⟨_, rfl⟩) hC hg hr hlk (⟨q_2, rfl, ⟨by omega, hw9⟩, h00, fun b h1 => (hfr9 b h1).trans (hfr b h1)⟩) dX7_of_39 (Nat.le_of_ble_eq_true rfl) (Nat.le_of_ble_eq_true rfl)
  · skip
    have hl : lv_has ls 2 [(0, .int 1), (1, .int wl)] := hl
    refine lv_iload_n hx hb dX7_of_0 rfl (lv_at hl 0 rfl) ?_
    refine lv_if_ne (tgt := 15) hx hb dX7_of_1 (by decide) (fun _ => ?_) (fun c_4 => (absurd c_4 (by decide)))
    refine lv_iload_n hx hb dX7_of_15 rfl (lv_at hl 0 rfl) ?_
    refine lv_iconst (v := 1) hx hb dX7_of_16 (by decide) ?_
    refine lv_icmp_ne (tgt := 31) hx hb dX7_of_17 (by decide) (fun c_5 => (absurd rfl c_5)) (fun _ => ?_)
    refine gh_new (ci := 7) (fs := [.int 0]) hC hg (fun q9 => ((V.2.2 9), 2, 0)) rfl in_X9 tyX9 tyX9_ok q1561 q1562 q166 (by decide +kernel) (Nat.le_of_ble_eq_true rfl) (Nat.le_of_ble_eq_true rfl) dX7_of_20 (fun q_6 g H hg h0 hw hn => ?_)
    have c_7 : g q_6 = some (((V.2.2 9), 2, 0), oo 7 [.int 0]) := hw
    have h00 : g0 q_6 = none := by rw [← hgg]; exact h0
    have hfr : ∀ b, b ≠ q_6 → g b = g0 b := fun b h1 => (hn b h1).trans (by rw [hgg])
    refine lv_dup hx hb dX7_of_23 rfl ?_
    refine lv_iload_n hx hb dX7_of_24 rfl (lv_at hl 1 rfl) ?_
    refine gh_callv hg (gh_runI (As := [.int wl]) (rest := [.ref q_6]) hC hg (j_X9_init l V _ q_6 wl ((V.2.2 9), 2, 0) c_7) 1 (lw_meth q1565) q166 q1563 q1564 rfl hd_X9_init.2 ⟨Nat.le_of_ble_eq_true rfl, Nat.le_of_ble_eq_true rfl⟩ rfl hl.1 rfl (Nat.le_of_ble_eq_true rfl) dX7_of_25 ⟨Nat.le_of_ble_eq_true rfl, Nat.le_of_ble_eq_true rfl⟩) (fun g H locs hg hp => ?_)
    obtain ⟨hw9, hfr9⟩ := hp
    refine lv_goto (tgt := 39) hx hb dX7_of_28 (by decide) ?_
    exact gh_retq (r := some q_6) (Or.inl ⟨_, rfl⟩) hC hg hr hlk (⟨q_6, rfl, ⟨by omega, hw9⟩, h00, fun b h1 => (hfr9 b h1).trans (hfr b h1)⟩) dX7_of_39 (Nat.le_of_ble_eq_true rfl) (Nat.le_of_ble_eq_true rfl)
  · skip
    have hl : lv_has ls 2 [(0, .int 2), (1, .int wl)] := hl
    refine lv_iload_n hx hb dX7_of_0 rfl (lv_at hl 0 rfl) ?_
    refine lv_if_ne (tgt := 15) hx hb dX7_of_1 (by decide) (fun _ => ?_) (fun c_8 => (absurd c_8 (by decide)))
    refine lv_iload_n hx hb dX7_of_15 rfl (lv_at hl 0 rfl) ?_
    refine lv_iconst (v := 1) hx hb dX7_of_16 (by decide) ?_
    refine lv_icmp_ne (tgt := 31) hx hb dX7_of_17 (by decide) (fun _ => ?_) (fun c_9 => (absurd c_9 (by decide)))
    refine gh_new (ci := 8) (fs := [.int 0]) hC hg (fun q9 => ((V.2.2 9), 2, 0)) rfl in_X10 tyX10 tyX10_ok q1571 q1572 q167 (by decide +kernel) (Nat.le_of_ble_eq_true rfl) (Nat.le_of_ble_eq_true rfl) dX7_of_31 (fun q_10 g H hg h0 hw hn => ?_)
    have c_11 : g q_10 = some (((V.2.2 9), 2, 0), oo 8 [.int 0]) := hw
    have h00 : g0 q_10 = none := by rw [← hgg]; exact h0
    have hfr : ∀ b, b ≠ q_10 → g b = g0 b := fun b h1 => (hn b h1).trans (by rw [hgg])
    refine lv_dup hx hb dX7_of_34 rfl ?_
    refine lv_iload_n hx hb dX7_of_35 rfl (lv_at hl 1 rfl) ?_
    refine gh_callv hg (gh_runI (As := [.int wl]) (rest := [.ref q_10]) hC hg (j_X10_init l V _ q_10 wl ((V.2.2 9), 2, 0) c_11) 1 (lw_meth q1575) q167 q1573 q1574 rfl hd_X10_init.2 ⟨Nat.le_of_ble_eq_true rfl, Nat.le_of_ble_eq_true rfl⟩ rfl hl.1 rfl (Nat.le_of_ble_eq_true rfl) dX7_of_36 ⟨Nat.le_of_ble_eq_true rfl, Nat.le_of_ble_eq_true rfl⟩) (fun g H locs hg hp => ?_)
    obtain ⟨hw9, hfr9⟩ := hp
    exact gh_retq (r := some q_10) (Or.inl ⟨_, rfl⟩) hC hg hr hlk (⟨q_10, rfl, ⟨by omega, hw9⟩, h00, fun b h1 => (hfr9 b h1).trans (hfr b h1)⟩) dX7_of_39 (Nat.le_of_ble_eq_true rfl) (Nat.le_of_ble_eq_true rfl)
set_option maxHeartbeats 1000000 in
set_option maxRecDepth 100000 in
theorem j_X14_gas (l : Launch) (V : gh_V) (g0 : gh_G)  : MI l yX14_gas cX14_gas 1 (some .int) ({ frames := 0, cells := 0, slots := 0, locals := 0 } : Room) V [.ref (V.2.2 2)] g0 (fun r g1 => r = 0 ∧ g1 = g0) := by
  refine MG.of RX14 (by decide) rfl (Nat.le_of_ble_eq_true rfl) (fun pp ee s mm args below meth c ls hC hg hr hlk hnm hl => ?_)
  have hx := hC.1.1
  have hb := hC.1.2.1
  have hml := hC.1.2.2.1
  have hown := hC.1.2.2.2.1
  have hts := hC.1.2.2.2.2
  have hl : lv_has ls 1 [(0, .ref (V.2.2 2))] := hl
  obtain ⟨g, hg, hgg⟩ : ∃ g, gh_W V (gh_A g0 s.heap.size) s g s.heap [] ∧ g = g0 := ⟨g0, hg, rfl⟩
  refine lv_iconst (v := 0) hx hb dX14_gas_0 (by decide) ?_
  exact gh_reti hC hg hr hlk (⟨rfl, hgg⟩) dX14_gas_1 (Nat.le_of_ble_eq_true rfl) (Nat.le_of_ble_eq_true rfl)
set_option maxHeartbeats 1000000 in
set_option maxRecDepth 100000 in
theorem j_X14_target (l : Launch) (V : gh_V) (g0 : gh_G)  : MI l yX14_target cX14_target 1 (some .int) ({ frames := 0, cells := 0, slots := 0, locals := 0 } : Room) V [.ref (V.2.2 2)] g0 (fun r g1 => r = 20 ∧ g1 = g0) := by
  refine MG.of RX14 (by decide) rfl (Nat.le_of_ble_eq_true rfl) (fun pp ee s mm args below meth c ls hC hg hr hlk hnm hl => ?_)
  have hx := hC.1.1
  have hb := hC.1.2.1
  have hml := hC.1.2.2.1
  have hown := hC.1.2.2.2.1
  have hts := hC.1.2.2.2.2
  have hl : lv_has ls 1 [(0, .ref (V.2.2 2))] := hl
  obtain ⟨g, hg, hgg⟩ : ∃ g, gh_W V (gh_A g0 s.heap.size) s g s.heap [] ∧ g = g0 := ⟨g0, hg, rfl⟩
  refine lv_bipush (v := 20) hx hb dX14_target_0 (by decide) ?_
  exact gh_reti hC hg hr hlk (⟨rfl, hgg⟩) dX14_target_2 (Nat.le_of_ble_eq_true rfl) (Nat.le_of_ble_eq_true rfl)
set_option maxHeartbeats 1000000 in
set_option maxRecDepth 100000 in
theorem j_X14_lower (l : Launch) (V : gh_V) (g0 : gh_G)  : MR l yX14_lower cX14_lower 1 (some (.object "AnnealingLehr$Burner")) ({ frames := 0, cells := 0, slots := 0, locals := 0 } : Room) V [.ref (V.2.2 2)] g0 (fun r g1 => r = some (V.2.2 2) ∧ g1 = g0) := by
  refine MG.of RX14 (by decide) rfl (Nat.le_of_ble_eq_true rfl) (fun pp ee s mm args below meth c ls hC hg hr hlk hnm hl => ?_)
  have hx := hC.1.1
  have hb := hC.1.2.1
  have hml := hC.1.2.2.1
  have hown := hC.1.2.2.2.1
  have hts := hC.1.2.2.2.2
  have hl : lv_has ls 1 [(0, .ref (V.2.2 2))] := hl
  obtain ⟨g, hg, hgg⟩ : ∃ g, gh_W V (gh_A g0 s.heap.size) s g s.heap [] ∧ g = g0 := ⟨g0, hg, rfl⟩
  refine gh_getsR (C := "AnnealingLehr$Burner") (n := "OFF") (d := "LAnnealingLehr$Burner;") (k := 2) hC hg (by decide +kernel) q2664 (fun _ _ h9 x9 hx9 => u_same (h9 _ q2665) x9 hx9) dX14_lower_0 ?_
  exact gh_retq (r := some (V.2.2 2)) (Or.inl ⟨_, rfl⟩) hC hg hr hlk (⟨rfl, hgg⟩) dX14_lower_3 (Nat.le_of_ble_eq_true rfl) (Nat.le_of_ble_eq_true rfl)
set_option maxHeartbeats 1000000 in
set_option maxRecDepth 100000 in
theorem j_X15_gas (l : Launch) (V : gh_V) (g0 : gh_G)  : MI l yX15_gas cX15_gas 1 (some .int) ({ frames := 0, cells := 0, slots := 0, locals := 0 } : Room) V [.ref (V.2.2 3)] g0 (fun r g1 => r = 3 ∧ g1 = g0) := by
  refine MG.of RX15 (by decide) rfl (Nat.le_of_ble_eq_true rfl) (fun pp ee s mm args below meth c ls hC hg hr hlk hnm hl => ?_)
  have hx := hC.1.1
  have hb := hC.1.2.1
  have hml := hC.1.2.2.1
  have hown := hC.1.2.2.2.1
  have hts := hC.1.2.2.2.2
  have hl : lv_has ls 1 [(0, .ref (V.2.2 3))] := hl
  obtain ⟨g, hg, hgg⟩ : ∃ g, gh_W V (gh_A g0 s.heap.size) s g s.heap [] ∧ g = g0 := ⟨g0, hg, rfl⟩
  refine lv_iconst (v := 3) hx hb dX15_gas_0 (by decide) ?_
  exact gh_reti hC hg hr hlk (⟨rfl, hgg⟩) dX15_gas_1 (Nat.le_of_ble_eq_true rfl) (Nat.le_of_ble_eq_true rfl)
set_option maxHeartbeats 1000000 in
set_option maxRecDepth 100000 in
theorem j_X15_target (l : Launch) (V : gh_V) (g0 : gh_G)  : MI l yX15_target cX15_target 1 (some .int) ({ frames := 0, cells := 0, slots := 0, locals := 0 } : Room) V [.ref (V.2.2 3)] g0 (fun r g1 => r = 250 ∧ g1 = g0) := by
  refine MG.of RX15 (by decide) rfl (Nat.le_of_ble_eq_true rfl) (fun pp ee s mm args below meth c ls hC hg hr hlk hnm hl => ?_)
  have hx := hC.1.1
  have hb := hC.1.2.1
  have hml := hC.1.2.2.1
  have hown := hC.1.2.2.2.1
  have hts := hC.1.2.2.2.2
  have hl : lv_has ls 1 [(0, .ref (V.2.2 3))] := hl
  obtain ⟨g, hg, hgg⟩ : ∃ g, gh_W V (gh_A g0 s.heap.size) s g s.heap [] ∧ g = g0 := ⟨g0, hg, rfl⟩
  refine lv_sipush (v := 250) hx hb dX15_target_0 (by decide) ?_
  exact gh_reti hC hg hr hlk (⟨rfl, hgg⟩) dX15_target_3 (Nat.le_of_ble_eq_true rfl) (Nat.le_of_ble_eq_true rfl)
set_option maxHeartbeats 1000000 in
set_option maxRecDepth 100000 in
theorem j_X15_lower (l : Launch) (V : gh_V) (g0 : gh_G)  : MR l yX15_lower cX15_lower 1 (some (.object "AnnealingLehr$Burner")) ({ frames := 0, cells := 0, slots := 0, locals := 0 } : Room) V [.ref (V.2.2 3)] g0 (fun r g1 => r = some (V.2.2 2) ∧ g1 = g0) := by
  refine MG.of RX15 (by decide) rfl (Nat.le_of_ble_eq_true rfl) (fun pp ee s mm args below meth c ls hC hg hr hlk hnm hl => ?_)
  have hx := hC.1.1
  have hb := hC.1.2.1
  have hml := hC.1.2.2.1
  have hown := hC.1.2.2.2.1
  have hts := hC.1.2.2.2.2
  have hl : lv_has ls 1 [(0, .ref (V.2.2 3))] := hl
  obtain ⟨g, hg, hgg⟩ : ∃ g, gh_W V (gh_A g0 s.heap.size) s g s.heap [] ∧ g = g0 := ⟨g0, hg, rfl⟩
  refine gh_getsR (C := "AnnealingLehr$Burner") (n := "OFF") (d := "LAnnealingLehr$Burner;") (k := 2) hC hg (by decide +kernel) q2669 (fun _ _ h9 x9 hx9 => u_same (h9 _ q2670) x9 hx9) dX15_lower_0 ?_
  exact gh_retq (r := some (V.2.2 2)) (Or.inl ⟨_, rfl⟩) hC hg hr hlk (⟨rfl, hgg⟩) dX15_lower_3 (Nat.le_of_ble_eq_true rfl) (Nat.le_of_ble_eq_true rfl)
set_option maxHeartbeats 1000000 in
set_option maxRecDepth 100000 in
theorem j_X16_gas (l : Launch) (V : gh_V) (g0 : gh_G)  : MI l yX16_gas cX16_gas 1 (some .int) ({ frames := 0, cells := 0, slots := 0, locals := 0 } : Room) V [.ref (V.2.2 4)] g0 (fun r g1 => r = 6 ∧ g1 = g0) := by
  refine MG.of RX16 (by decide) rfl (Nat.le_of_ble_eq_true rfl) (fun pp ee s mm args below meth c ls hC hg hr hlk hnm hl => ?_)
  have hx := hC.1.1
  have hb := hC.1.2.1
  have hml := hC.1.2.2.1
  have hown := hC.1.2.2.2.1
  have hts := hC.1.2.2.2.2
  have hl : lv_has ls 1 [(0, .ref (V.2.2 4))] := hl
  obtain ⟨g, hg, hgg⟩ : ∃ g, gh_W V (gh_A g0 s.heap.size) s g s.heap [] ∧ g = g0 := ⟨g0, hg, rfl⟩
  refine lv_bipush (v := 6) hx hb dX16_gas_0 (by decide) ?_
  exact gh_reti hC hg hr hlk (⟨rfl, hgg⟩) dX16_gas_2 (Nat.le_of_ble_eq_true rfl) (Nat.le_of_ble_eq_true rfl)
set_option maxHeartbeats 1000000 in
set_option maxRecDepth 100000 in
theorem j_X16_target (l : Launch) (V : gh_V) (g0 : gh_G)  : MI l yX16_target cX16_target 1 (some .int) ({ frames := 0, cells := 0, slots := 0, locals := 0 } : Room) V [.ref (V.2.2 4)] g0 (fun r g1 => r = 450 ∧ g1 = g0) := by
  refine MG.of RX16 (by decide) rfl (Nat.le_of_ble_eq_true rfl) (fun pp ee s mm args below meth c ls hC hg hr hlk hnm hl => ?_)
  have hx := hC.1.1
  have hb := hC.1.2.1
  have hml := hC.1.2.2.1
  have hown := hC.1.2.2.2.1
  have hts := hC.1.2.2.2.2
  have hl : lv_has ls 1 [(0, .ref (V.2.2 4))] := hl
  obtain ⟨g, hg, hgg⟩ : ∃ g, gh_W V (gh_A g0 s.heap.size) s g s.heap [] ∧ g = g0 := ⟨g0, hg, rfl⟩
  refine lv_sipush (v := 450) hx hb dX16_target_0 (by decide) ?_
  exact gh_reti hC hg hr hlk (⟨rfl, hgg⟩) dX16_target_3 (Nat.le_of_ble_eq_true rfl) (Nat.le_of_ble_eq_true rfl)
set_option maxHeartbeats 1000000 in
set_option maxRecDepth 100000 in
theorem j_X16_lower (l : Launch) (V : gh_V) (g0 : gh_G)  : MR l yX16_lower cX16_lower 1 (some (.object "AnnealingLehr$Burner")) ({ frames := 0, cells := 0, slots := 0, locals := 0 } : Room) V [.ref (V.2.2 4)] g0 (fun r g1 => r = some (V.2.2 3) ∧ g1 = g0) := by
  refine MG.of RX16 (by decide) rfl (Nat.le_of_ble_eq_true rfl) (fun pp ee s mm args below meth c ls hC hg hr hlk hnm hl => ?_)
  have hx := hC.1.1
  have hb := hC.1.2.1
  have hml := hC.1.2.2.1
  have hown := hC.1.2.2.2.1
  have hts := hC.1.2.2.2.2
  have hl : lv_has ls 1 [(0, .ref (V.2.2 4))] := hl
  obtain ⟨g, hg, hgg⟩ : ∃ g, gh_W V (gh_A g0 s.heap.size) s g s.heap [] ∧ g = g0 := ⟨g0, hg, rfl⟩
  refine gh_getsR (C := "AnnealingLehr$Burner") (n := "LOW") (d := "LAnnealingLehr$Burner;") (k := 3) hC hg (by decide +kernel) q2674 (fun _ _ h9 x9 hx9 => u_same (h9 _ q2675) x9 hx9) dX16_lower_0 ?_
  exact gh_retq (r := some (V.2.2 3)) (Or.inl ⟨_, rfl⟩) hC hg hr hlk (⟨rfl, hgg⟩) dX16_lower_3 (Nat.le_of_ble_eq_true rfl) (Nat.le_of_ble_eq_true rfl)
set_option maxHeartbeats 1000000 in
set_option maxRecDepth 100000 in
theorem j_X17_gas (l : Launch) (V : gh_V) (g0 : gh_G)  : MI l yX17_gas cX17_gas 1 (some .int) ({ frames := 0, cells := 0, slots := 0, locals := 0 } : Room) V [.ref (V.2.2 5)] g0 (fun r g1 => r = 9 ∧ g1 = g0) := by
  refine MG.of RX17 (by decide) rfl (Nat.le_of_ble_eq_true rfl) (fun pp ee s mm args below meth c ls hC hg hr hlk hnm hl => ?_)
  have hx := hC.1.1
  have hb := hC.1.2.1
  have hml := hC.1.2.2.1
  have hown := hC.1.2.2.2.1
  have hts := hC.1.2.2.2.2
  have hl : lv_has ls 1 [(0, .ref (V.2.2 5))] := hl
  obtain ⟨g, hg, hgg⟩ : ∃ g, gh_W V (gh_A g0 s.heap.size) s g s.heap [] ∧ g = g0 := ⟨g0, hg, rfl⟩
  refine lv_bipush (v := 9) hx hb dX17_gas_0 (by decide) ?_
  exact gh_reti hC hg hr hlk (⟨rfl, hgg⟩) dX17_gas_2 (Nat.le_of_ble_eq_true rfl) (Nat.le_of_ble_eq_true rfl)
set_option maxHeartbeats 1000000 in
set_option maxRecDepth 100000 in
theorem j_X17_target (l : Launch) (V : gh_V) (g0 : gh_G)  : MI l yX17_target cX17_target 1 (some .int) ({ frames := 0, cells := 0, slots := 0, locals := 0 } : Room) V [.ref (V.2.2 5)] g0 (fun r g1 => r = 580 ∧ g1 = g0) := by
  refine MG.of RX17 (by decide) rfl (Nat.le_of_ble_eq_true rfl) (fun pp ee s mm args below meth c ls hC hg hr hlk hnm hl => ?_)
  have hx := hC.1.1
  have hb := hC.1.2.1
  have hml := hC.1.2.2.1
  have hown := hC.1.2.2.2.1
  have hts := hC.1.2.2.2.2
  have hl : lv_has ls 1 [(0, .ref (V.2.2 5))] := hl
  obtain ⟨g, hg, hgg⟩ : ∃ g, gh_W V (gh_A g0 s.heap.size) s g s.heap [] ∧ g = g0 := ⟨g0, hg, rfl⟩
  refine lv_sipush (v := 580) hx hb dX17_target_0 (by decide) ?_
  exact gh_reti hC hg hr hlk (⟨rfl, hgg⟩) dX17_target_3 (Nat.le_of_ble_eq_true rfl) (Nat.le_of_ble_eq_true rfl)
set_option maxHeartbeats 1000000 in
set_option maxRecDepth 100000 in
theorem j_X17_lower (l : Launch) (V : gh_V) (g0 : gh_G)  : MR l yX17_lower cX17_lower 1 (some (.object "AnnealingLehr$Burner")) ({ frames := 0, cells := 0, slots := 0, locals := 0 } : Room) V [.ref (V.2.2 5)] g0 (fun r g1 => r = some (V.2.2 4) ∧ g1 = g0) := by
  refine MG.of RX17 (by decide) rfl (Nat.le_of_ble_eq_true rfl) (fun pp ee s mm args below meth c ls hC hg hr hlk hnm hl => ?_)
  have hx := hC.1.1
  have hb := hC.1.2.1
  have hml := hC.1.2.2.1
  have hown := hC.1.2.2.2.1
  have hts := hC.1.2.2.2.2
  have hl : lv_has ls 1 [(0, .ref (V.2.2 5))] := hl
  obtain ⟨g, hg, hgg⟩ : ∃ g, gh_W V (gh_A g0 s.heap.size) s g s.heap [] ∧ g = g0 := ⟨g0, hg, rfl⟩
  refine gh_getsR (C := "AnnealingLehr$Burner") (n := "MIDDLE") (d := "LAnnealingLehr$Burner;") (k := 4) hC hg (by decide +kernel) q2679 (fun _ _ h9 x9 hx9 => u_same (h9 _ q2680) x9 hx9) dX17_lower_0 ?_
  exact gh_retq (r := some (V.2.2 4)) (Or.inl ⟨_, rfl⟩) hC hg hr hlk (⟨rfl, hgg⟩) dX17_lower_3 (Nat.le_of_ble_eq_true rfl) (Nat.le_of_ble_eq_true rfl)
theorem gh_gasX13 {V : gh_V} {p : Program} {l : Launch} {e : Env} {R : Room} {s : State} {m : MethodId} {args : Array Value} {below : List Frame} {meth : Method} {c0 : Code} {H : Heap} {locs : List Loc} {cells slots : Nat} {Q : State → Prop} {cc : ByteArray} {nL : Nat} {A : Nat → Prop} {g : gh_G} {pc : Nat} {ls : Array Slot} {rest : List Value} {i : Nat} (hi4 : i < 4)
    (hC : gh_C V p s m args c0 cc nL RX13 A) (hg : gh_W V A s g H locs) (hl : ls.size = nL) (hW : (rest.map fun v => v.category).sum ≤ 8) (hdg : decode cc pc = .ok (.invokevirtual 35, 3)) (hR : 1 ≤ R.frames ∧ 20 ≤ R.locals) (hf : cells + 0 ≤ R.cells ∧ slots + 0 ≤ R.slots)
    (kk : ∀ (H1 : Heap) (locs1 : List Loc), gh_W V A s g H1 locs1 → W p l e R s m args below meth c0 H1 locs1 cells slots Q (F0 m (pc + 3) ls (.int (nI (3 * i)) :: rest))) : W p l e R s m args below meth c0 H locs cells slots Q (F0 m pc ls (.ref (V.2.2 (2 + i)) :: rest)) := by
  have hts := hC.1.2.2.2.2
  obtain rfl | rfl | rfl | rfl : i = 0 ∨ i = 1 ∨ i = 2 ∨ i = 3 := by omega
  · refine gh_calli hg (gh_runU (x := ⟨"AnnealingLehr$Burner", "gas", "()I"⟩) (C := "AnnealingLehr$Burner$1") (owner := "AnnealingLehr$Burner") (As := []) (rest := rest) hC hg (j_X14_gas l V _) 0 (va_cwA 0 hts (lw_U q2643 q2645 q2647 q2646 q173 q2648) rfl rfl rfl (hC.2.2.1.1 _ (gh_nwm q2644 rfl)) hdF_AnnealingLehr_Burner_gas_0 ⟨Nat.le_trans (by decide) hR.1, Nat.le_trans (by decide) hR.2⟩) (gh_recvK hC hg (by decide +kernel : ("AnnealingLehr$Burner$1", 2) ∈ gh_co)) rfl hl rfl hW hdg hf) (fun r9 g1 H1 locs1 hg1 hp => ?_)
    obtain ⟨rfl, rfl⟩ := hp
    exact kk H1 locs1 hg1
  · refine gh_calli hg (gh_runU (x := ⟨"AnnealingLehr$Burner", "gas", "()I"⟩) (C := "AnnealingLehr$Burner$2") (owner := "AnnealingLehr$Burner") (As := []) (rest := rest) hC hg (j_X15_gas l V _) 0 (va_cwA 0 hts (lw_U q2643 q2645 q2650 q2649 q174 q2651) rfl rfl rfl (hC.2.2.1.1 _ (gh_nwm q2644 rfl)) hdF_AnnealingLehr_Burner_gas_0 ⟨Nat.le_trans (by decide) hR.1, Nat.le_trans (by decide) hR.2⟩) (gh_recvK hC hg (by decide +kernel : ("AnnealingLehr$Burner$2", 3) ∈ gh_co)) rfl hl rfl hW hdg hf) (fun r9 g1 H1 locs1 hg1 hp => ?_)
    obtain ⟨rfl, rfl⟩ := hp
    exact kk H1 locs1 hg1
  · refine gh_calli hg (gh_runU (x := ⟨"AnnealingLehr$Burner", "gas", "()I"⟩) (C := "AnnealingLehr$Burner$3") (owner := "AnnealingLehr$Burner") (As := []) (rest := rest) hC hg (j_X16_gas l V _) 0 (va_cwA 0 hts (lw_U q2643 q2645 q2653 q2652 q175 q2654) rfl rfl rfl (hC.2.2.1.1 _ (gh_nwm q2644 rfl)) hdF_AnnealingLehr_Burner_gas_0 ⟨Nat.le_trans (by decide) hR.1, Nat.le_trans (by decide) hR.2⟩) (gh_recvK hC hg (by decide +kernel : ("AnnealingLehr$Burner$3", 4) ∈ gh_co)) rfl hl rfl hW hdg hf) (fun r9 g1 H1 locs1 hg1 hp => ?_)
    obtain ⟨rfl, rfl⟩ := hp
    exact kk H1 locs1 hg1
  · refine gh_calli hg (gh_runU (x := ⟨"AnnealingLehr$Burner", "gas", "()I"⟩) (C := "AnnealingLehr$Burner$4") (owner := "AnnealingLehr$Burner") (As := []) (rest := rest) hC hg (j_X17_gas l V _) 0 (va_cwA 0 hts (lw_U q2643 q2645 q2656 q2655 q176 q2657) rfl rfl rfl (hC.2.2.1.1 _ (gh_nwm q2644 rfl)) hdF_AnnealingLehr_Burner_gas_0 ⟨Nat.le_trans (by decide) hR.1, Nat.le_trans (by decide) hR.2⟩) (gh_recvK hC hg (by decide +kernel : ("AnnealingLehr$Burner$4", 5) ∈ gh_co)) rfl hl rfl hW hdg hf) (fun r9 g1 H1 locs1 hg1 hp => ?_)
    obtain ⟨rfl, rfl⟩ := hp
    exact kk H1 locs1 hg1
theorem gh_lowerX13 {V : gh_V} {p : Program} {l : Launch} {e : Env} {R : Room} {s : State} {m : MethodId} {args : Array Value} {below : List Frame} {meth : Method} {c0 : Code} {H : Heap} {locs : List Loc} {cells slots : Nat} {Q : State → Prop} {cc : ByteArray} {nL : Nat} {A : Nat → Prop} {g : gh_G} {pc : Nat} {ls : Array Slot} {rest : List Value} {i : Nat} (hi4 : i < 4)
    (hC : gh_C V p s m args c0 cc nL RX13 A) (hg : gh_W V A s g H locs) (hl : ls.size = nL) (hW : (rest.map fun v => v.category).sum ≤ 8) (hdg : decode cc pc = .ok (.invokevirtual 39, 3)) (hR : 1 ≤ R.frames ∧ 20 ≤ R.locals) (hf : cells + 0 ≤ R.cells ∧ slots + 0 ≤ R.slots)
    (kk : ∀ (H1 : Heap) (locs1 : List Loc), gh_W V A s g H1 locs1 → W p l e R s m args below meth c0 H1 locs1 cells slots Q (F0 m (pc + 3) ls (.ref (V.2.2 (2 + (i - 1))) :: rest))) : W p l e R s m args below meth c0 H locs cells slots Q (F0 m pc ls (.ref (V.2.2 (2 + i)) :: rest)) := by
  have hts := hC.1.2.2.2.2
  obtain rfl | rfl | rfl | rfl : i = 0 ∨ i = 1 ∨ i = 2 ∨ i = 3 := by omega
  · refine gh_callq hg (gh_runU (x := ⟨"AnnealingLehr$Burner", "lower", "()LAnnealingLehr$Burner;"⟩) (C := "AnnealingLehr$Burner$1") (owner := "AnnealingLehr$Burner") (As := []) (rest := rest) hC hg (j_X14_lower l V _) 0 (va_cwA 0 hts (lw_U q2658 q2660 q2662 q2661 q173 q2663) rfl rfl rfl (hC.2.2.1.1 _ (gh_nwm q2659 rfl)) hdF_AnnealingLehr_Burner_lower_0 ⟨Nat.le_trans (by decide) hR.1, Nat.le_trans (by decide) hR.2⟩) (gh_recvK hC hg (by decide +kernel : ("AnnealingLehr$Burner$1", 2) ∈ gh_co)) rfl hl rfl hW hdg hf) (fun r9 g1 H1 locs1 hg1 hp => ?_)
    obtain ⟨rfl, rfl⟩ := hp
    exact kk H1 locs1 hg1
  · refine gh_callq hg (gh_runU (x := ⟨"AnnealingLehr$Burner", "lower", "()LAnnealingLehr$Burner;"⟩) (C := "AnnealingLehr$Burner$2") (owner := "AnnealingLehr$Burner") (As := []) (rest := rest) hC hg (j_X15_lower l V _) 0 (va_cwA 0 hts (lw_U q2658 q2660 q2667 q2666 q174 q2668) rfl rfl rfl (hC.2.2.1.1 _ (gh_nwm q2659 rfl)) hdF_AnnealingLehr_Burner_lower_0 ⟨Nat.le_trans (by decide) hR.1, Nat.le_trans (by decide) hR.2⟩) (gh_recvK hC hg (by decide +kernel : ("AnnealingLehr$Burner$2", 3) ∈ gh_co)) rfl hl rfl hW hdg hf) (fun r9 g1 H1 locs1 hg1 hp => ?_)
    obtain ⟨rfl, rfl⟩ := hp
    exact kk H1 locs1 hg1
  · refine gh_callq hg (gh_runU (x := ⟨"AnnealingLehr$Burner", "lower", "()LAnnealingLehr$Burner;"⟩) (C := "AnnealingLehr$Burner$3") (owner := "AnnealingLehr$Burner") (As := []) (rest := rest) hC hg (j_X16_lower l V _) 0 (va_cwA 0 hts (lw_U q2658 q2660 q2672 q2671 q175 q2673) rfl rfl rfl (hC.2.2.1.1 _ (gh_nwm q2659 rfl)) hdF_AnnealingLehr_Burner_lower_0 ⟨Nat.le_trans (by decide) hR.1, Nat.le_trans (by decide) hR.2⟩) (gh_recvK hC hg (by decide +kernel : ("AnnealingLehr$Burner$3", 4) ∈ gh_co)) rfl hl rfl hW hdg hf) (fun r9 g1 H1 locs1 hg1 hp => ?_)
    obtain ⟨rfl, rfl⟩ := hp
    exact kk H1 locs1 hg1
  · refine gh_callq hg (gh_runU (x := ⟨"AnnealingLehr$Burner", "lower", "()LAnnealingLehr$Burner;"⟩) (C := "AnnealingLehr$Burner$4") (owner := "AnnealingLehr$Burner") (As := []) (rest := rest) hC hg (j_X17_lower l V _) 0 (va_cwA 0 hts (lw_U q2658 q2660 q2677 q2676 q176 q2678) rfl rfl rfl (hC.2.2.1.1 _ (gh_nwm q2659 rfl)) hdF_AnnealingLehr_Burner_lower_0 ⟨Nat.le_trans (by decide) hR.1, Nat.le_trans (by decide) hR.2⟩) (gh_recvK hC hg (by decide +kernel : ("AnnealingLehr$Burner$4", 5) ∈ gh_co)) rfl hl rfl hW hdg hf) (fun r9 g1 H1 locs1 hg1 hp => ?_)
    obtain ⟨rfl, rfl⟩ := hp
    exact kk H1 locs1 hg1
theorem gh_gasX2 {V : gh_V} {p : Program} {l : Launch} {e : Env} {R : Room} {s : State} {m : MethodId} {args : Array Value} {below : List Frame} {meth : Method} {c0 : Code} {H : Heap} {locs : List Loc} {cells slots : Nat} {Q : State → Prop} {cc : ByteArray} {nL : Nat} {A : Nat → Prop} {g : gh_G} {pc : Nat} {ls : Array Slot} {rest : List Value} {i : Nat} (hi4 : i < 4)
    (hC : gh_C V p s m args c0 cc nL RX2 A) (hg : gh_W V A s g H locs) (hl : ls.size = nL) (hW : (rest.map fun v => v.category).sum ≤ 8) (hdg : decode cc pc = .ok (.invokevirtual 304, 3)) (hR : 1 ≤ R.frames ∧ 20 ≤ R.locals) (hf : cells + 0 ≤ R.cells ∧ slots + 0 ≤ R.slots)
    (kk : ∀ (H1 : Heap) (locs1 : List Loc), gh_W V A s g H1 locs1 → W p l e R s m args below meth c0 H1 locs1 cells slots Q (F0 m (pc + 3) ls (.int (nI (3 * i)) :: rest))) : W p l e R s m args below meth c0 H locs cells slots Q (F0 m pc ls (.ref (V.2.2 (2 + i)) :: rest)) := by
  have hts := hC.1.2.2.2.2
  obtain rfl | rfl | rfl | rfl : i = 0 ∨ i = 1 ∨ i = 2 ∨ i = 3 := by omega
  · refine gh_calli hg (gh_runU (x := ⟨"AnnealingLehr$Burner", "gas", "()I"⟩) (C := "AnnealingLehr$Burner$1") (owner := "AnnealingLehr$Burner") (As := []) (rest := rest) hC hg (j_X14_gas l V _) 0 (va_cwA 0 hts (lw_U q2681 q2645 q2647 q2646 q173 q2648) rfl rfl rfl (hC.2.2.1.1 _ (gh_nwm q2644 rfl)) hdF_AnnealingLehr_Burner_gas_0 ⟨Nat.le_trans (by decide) hR.1, Nat.le_trans (by decide) hR.2⟩) (gh_recvK hC hg (by decide +kernel : ("AnnealingLehr$Burner$1", 2) ∈ gh_co)) rfl hl rfl hW hdg hf) (fun r9 g1 H1 locs1 hg1 hp => ?_)
    obtain ⟨rfl, rfl⟩ := hp
    exact kk H1 locs1 hg1
  · refine gh_calli hg (gh_runU (x := ⟨"AnnealingLehr$Burner", "gas", "()I"⟩) (C := "AnnealingLehr$Burner$2") (owner := "AnnealingLehr$Burner") (As := []) (rest := rest) hC hg (j_X15_gas l V _) 0 (va_cwA 0 hts (lw_U q2681 q2645 q2650 q2649 q174 q2651) rfl rfl rfl (hC.2.2.1.1 _ (gh_nwm q2644 rfl)) hdF_AnnealingLehr_Burner_gas_0 ⟨Nat.le_trans (by decide) hR.1, Nat.le_trans (by decide) hR.2⟩) (gh_recvK hC hg (by decide +kernel : ("AnnealingLehr$Burner$2", 3) ∈ gh_co)) rfl hl rfl hW hdg hf) (fun r9 g1 H1 locs1 hg1 hp => ?_)
    obtain ⟨rfl, rfl⟩ := hp
    exact kk H1 locs1 hg1
  · refine gh_calli hg (gh_runU (x := ⟨"AnnealingLehr$Burner", "gas", "()I"⟩) (C := "AnnealingLehr$Burner$3") (owner := "AnnealingLehr$Burner") (As := []) (rest := rest) hC hg (j_X16_gas l V _) 0 (va_cwA 0 hts (lw_U q2681 q2645 q2653 q2652 q175 q2654) rfl rfl rfl (hC.2.2.1.1 _ (gh_nwm q2644 rfl)) hdF_AnnealingLehr_Burner_gas_0 ⟨Nat.le_trans (by decide) hR.1, Nat.le_trans (by decide) hR.2⟩) (gh_recvK hC hg (by decide +kernel : ("AnnealingLehr$Burner$3", 4) ∈ gh_co)) rfl hl rfl hW hdg hf) (fun r9 g1 H1 locs1 hg1 hp => ?_)
    obtain ⟨rfl, rfl⟩ := hp
    exact kk H1 locs1 hg1
  · refine gh_calli hg (gh_runU (x := ⟨"AnnealingLehr$Burner", "gas", "()I"⟩) (C := "AnnealingLehr$Burner$4") (owner := "AnnealingLehr$Burner") (As := []) (rest := rest) hC hg (j_X17_gas l V _) 0 (va_cwA 0 hts (lw_U q2681 q2645 q2656 q2655 q176 q2657) rfl rfl rfl (hC.2.2.1.1 _ (gh_nwm q2644 rfl)) hdF_AnnealingLehr_Burner_gas_0 ⟨Nat.le_trans (by decide) hR.1, Nat.le_trans (by decide) hR.2⟩) (gh_recvK hC hg (by decide +kernel : ("AnnealingLehr$Burner$4", 5) ∈ gh_co)) rfl hl rfl hW hdg hf) (fun r9 g1 H1 locs1 hg1 hp => ?_)
    obtain ⟨rfl, rfl⟩ := hp
    exact kk H1 locs1 hg1
theorem gh_targetX2 {V : gh_V} {p : Program} {l : Launch} {e : Env} {R : Room} {s : State} {m : MethodId} {args : Array Value} {below : List Frame} {meth : Method} {c0 : Code} {H : Heap} {locs : List Loc} {cells slots : Nat} {Q : State → Prop} {cc : ByteArray} {nL : Nat} {A : Nat → Prop} {g : gh_G} {pc : Nat} {ls : Array Slot} {rest : List Value} {i : Nat} (hi4 : i < 4)
    (hC : gh_C V p s m args c0 cc nL RX2 A) (hg : gh_W V A s g H locs) (hl : ls.size = nL) (hW : (rest.map fun v => v.category).sum ≤ 8) (hdg : decode cc pc = .ok (.invokevirtual 306, 3)) (hR : 1 ≤ R.frames ∧ 20 ≤ R.locals) (hf : cells + 0 ≤ R.cells ∧ slots + 0 ≤ R.slots)
    (kk : ∀ (H1 : Heap) (locs1 : List Loc), gh_W V A s g H1 locs1 → W p l e R s m args below meth c0 H1 locs1 cells slots Q (F0 m (pc + 3) ls (.int (sp_target (nI i)) :: rest))) : W p l e R s m args below meth c0 H locs cells slots Q (F0 m pc ls (.ref (V.2.2 (2 + i)) :: rest)) := by
  have hts := hC.1.2.2.2.2
  obtain rfl | rfl | rfl | rfl : i = 0 ∨ i = 1 ∨ i = 2 ∨ i = 3 := by omega
  · refine gh_calli hg (gh_runU (x := ⟨"AnnealingLehr$Burner", "target", "()I"⟩) (C := "AnnealingLehr$Burner$1") (owner := "AnnealingLehr$Burner") (As := []) (rest := rest) hC hg (j_X14_target l V _) 0 (va_cwA 0 hts (lw_U q2682 q2684 q2686 q2685 q173 q2687) rfl rfl rfl (hC.2.2.1.1 _ (gh_nwm q2683 rfl)) hdF_AnnealingLehr_Burner_target_0 ⟨Nat.le_trans (by decide) hR.1, Nat.le_trans (by decide) hR.2⟩) (gh_recvK hC hg (by decide +kernel : ("AnnealingLehr$Burner$1", 2) ∈ gh_co)) rfl hl rfl hW hdg hf) (fun r9 g1 H1 locs1 hg1 hp => ?_)
    obtain ⟨rfl, rfl⟩ := hp
    exact kk H1 locs1 hg1
  · refine gh_calli hg (gh_runU (x := ⟨"AnnealingLehr$Burner", "target", "()I"⟩) (C := "AnnealingLehr$Burner$2") (owner := "AnnealingLehr$Burner") (As := []) (rest := rest) hC hg (j_X15_target l V _) 0 (va_cwA 0 hts (lw_U q2682 q2684 q2689 q2688 q174 q2690) rfl rfl rfl (hC.2.2.1.1 _ (gh_nwm q2683 rfl)) hdF_AnnealingLehr_Burner_target_0 ⟨Nat.le_trans (by decide) hR.1, Nat.le_trans (by decide) hR.2⟩) (gh_recvK hC hg (by decide +kernel : ("AnnealingLehr$Burner$2", 3) ∈ gh_co)) rfl hl rfl hW hdg hf) (fun r9 g1 H1 locs1 hg1 hp => ?_)
    obtain ⟨rfl, rfl⟩ := hp
    exact kk H1 locs1 hg1
  · refine gh_calli hg (gh_runU (x := ⟨"AnnealingLehr$Burner", "target", "()I"⟩) (C := "AnnealingLehr$Burner$3") (owner := "AnnealingLehr$Burner") (As := []) (rest := rest) hC hg (j_X16_target l V _) 0 (va_cwA 0 hts (lw_U q2682 q2684 q2692 q2691 q175 q2693) rfl rfl rfl (hC.2.2.1.1 _ (gh_nwm q2683 rfl)) hdF_AnnealingLehr_Burner_target_0 ⟨Nat.le_trans (by decide) hR.1, Nat.le_trans (by decide) hR.2⟩) (gh_recvK hC hg (by decide +kernel : ("AnnealingLehr$Burner$3", 4) ∈ gh_co)) rfl hl rfl hW hdg hf) (fun r9 g1 H1 locs1 hg1 hp => ?_)
    obtain ⟨rfl, rfl⟩ := hp
    exact kk H1 locs1 hg1
  · refine gh_calli hg (gh_runU (x := ⟨"AnnealingLehr$Burner", "target", "()I"⟩) (C := "AnnealingLehr$Burner$4") (owner := "AnnealingLehr$Burner") (As := []) (rest := rest) hC hg (j_X17_target l V _) 0 (va_cwA 0 hts (lw_U q2682 q2684 q2695 q2694 q176 q2696) rfl rfl rfl (hC.2.2.1.1 _ (gh_nwm q2683 rfl)) hdF_AnnealingLehr_Burner_target_0 ⟨Nat.le_trans (by decide) hR.1, Nat.le_trans (by decide) hR.2⟩) (gh_recvK hC hg (by decide +kernel : ("AnnealingLehr$Burner$4", 5) ∈ gh_co)) rfl hl rfl hW hdg hf) (fun r9 g1 H1 locs1 hg1 hp => ?_)
    obtain ⟨rfl, rfl⟩ := hp
    exact kk H1 locs1 hg1
