set_option maxRecDepth 100000
theorem fJ35_13_14 : gh_fd RJ35 13 14 1 (.object "java/lang/Object") true := gh_fd.own (T := TJ36) tyJ36 rfl in_J36 tyJ36_ok nmJ36 (by decide) q1857 rfl rfl (fun h => rfl)
theorem fJ35_13_15 : gh_fd RJ35 13 15 1 (.object "java/lang/Object") true := gh_fd.own (T := TJ39) tyJ39 rfl in_J39 tyJ39_ok nmJ39 (by decide) q1857 rfl rfl (fun h => rfl)
theorem fJ35_17_14 : gh_fd RJ35 17 14 2 (.object "java/lang/Object") false := gh_fd.own (T := TJ36) tyJ36 rfl in_J36 tyJ36_ok nmJ36 (by decide) q1864 rfl rfl (fun h => by cases h)
theorem fJ35_17_15 : gh_fd RJ35 17 15 2 (.object "java/lang/Object") false := gh_fd.own (T := TJ39) tyJ39 rfl in_J39 tyJ39_ok nmJ39 (by decide) q1864 rfl rfl (fun h => by cases h)
theorem fJ35_20_14 : gh_fd RJ35 20 14 3 (.object "java/util/HashMap$Node") false := gh_fd.own (T := TJ36) tyJ36 rfl in_J36 tyJ36_ok nmJ36 (by decide) q1870 rfl rfl (fun h => by cases h)
theorem fJ35_20_15 : gh_fd RJ35 20 15 3 (.object "java/util/HashMap$Node") false := gh_fd.own (T := TJ39) tyJ39 rfl in_J39 tyJ39_ok nmJ39 (by decide) q1870 rfl rfl (fun h => by cases h)
theorem fJ35_7_14 : gh_fd RJ35 7 14 0 .int true := gh_fd.own (T := TJ36) tyJ36 rfl in_J36 tyJ36_ok nmJ36 (by decide) q1851 rfl rfl (fun h => rfl)
theorem fJ35_7_15 : gh_fd RJ35 7 15 0 .int true := gh_fd.own (T := TJ39) tyJ39 rfl in_J39 tyJ39_ok nmJ39 (by decide) q1851 rfl rfl (fun h => rfl)
theorem fNJ35_13 {ci : Nat} (h : ci = 14 ∨ ci = 15) : gh_fd RJ35 13 ci 1 (.object "java/lang/Object") true := by
  rcases h with rfl | rfl
  · exact fJ35_13_14
  · exact fJ35_13_15
theorem fNJ35_17 {ci : Nat} (h : ci = 14 ∨ ci = 15) : gh_fd RJ35 17 ci 2 (.object "java/lang/Object") false := by
  rcases h with rfl | rfl
  · exact fJ35_17_14
  · exact fJ35_17_15
theorem fNJ35_20 {ci : Nat} (h : ci = 14 ∨ ci = 15) : gh_fd RJ35 20 ci 3 (.object "java/util/HashMap$Node") false := by
  rcases h with rfl | rfl
  · exact fJ35_20_14
  · exact fJ35_20_15
theorem fNJ35_7 {ci : Nat} (h : ci = 14 ∨ ci = 15) : gh_fd RJ35 7 ci 0 .int true := by
  rcases h with rfl | rfl
  · exact fJ35_7_14
  · exact fJ35_7_15
theorem hd_J35_init : yJ35_init.cls = RJ35 ∧ yJ35_init.cls ≠ "java/lang/invoke/MethodHandle" ∧ yJ35_init.cls ≠ "java/lang/invoke/VarHandle" ∧ (parseMethodDescriptor yJ35_init.desc).map (fun d => d.parameters.length) = some 4 := by decide +kernel
theorem hd_J36_init : yJ36_init.cls = RJ36 ∧ yJ36_init.cls ≠ "java/lang/invoke/MethodHandle" ∧ yJ36_init.cls ≠ "java/lang/invoke/VarHandle" ∧ (parseMethodDescriptor yJ36_init.desc).map (fun d => d.parameters.length) = some 4 := by decide +kernel
theorem hd_J5_linkNodeAtEnd : yJ5_linkNodeAtEnd.cls = RJ5 ∧ yJ5_linkNodeAtEnd.cls ≠ "java/lang/invoke/MethodHandle" ∧ yJ5_linkNodeAtEnd.cls ≠ "java/lang/invoke/VarHandle" ∧ (parseMethodDescriptor yJ5_linkNodeAtEnd.desc).map (fun d => d.parameters.length) = some 1 := by decide +kernel
set_option maxHeartbeats 1000000 in
set_option maxRecDepth 100000 in
theorem j_J35_init (l : Launch) (V : gh_V) (g0 : gh_G) (q cq ka vv : Nat) (t : gh_T) (hh : Int32) (ex : List Value) (hcq : cq = 14 ∨ cq = 15) (hq : g0 q = some (t, oo cq (.int 0 :: .null :: .null :: .null :: .null :: .null :: ex))) : MV l yJ35_init cJ35_init 5 ({ frames := 1, cells := 0, slots := 0, locals := 12 } : Room) V [.ref q, .int hh, .ref ka, .ref vv, .null] g0 (fun g1 => g1 q = some (t, oo cq (.int hh :: .ref ka :: .ref vv :: .null :: .null :: .null :: ex)) ∧ ∀ b, b ≠ q → g1 b = g0 b) := by
  refine MG.of RJ35 (by decide) rfl (Nat.le_of_ble_eq_true rfl) (fun pp ee s mm args below meth c ls hC hg hr hlk hnm hl => ?_)
  have hx := hC.1.1
  have hb := hC.1.2.1
  have hml := hC.1.2.2.1
  have hown := hC.1.2.2.2.1
  have hts := hC.1.2.2.2.2
  have hl : lv_has ls 5 [(0, .ref q), (1, .int hh), (2, .ref ka), (3, .ref vv), (4, .null)] := hl
  obtain ⟨g, hg, hgg⟩ : ∃ g, gh_W V (gh_A g0 s.heap.size) s g s.heap [] ∧ g = g0 := ⟨g0, hg, rfl⟩
  rw [← hgg] at hq
  have hfr : ∀ b, b ≠ q → g b = g0 b := fun b _ => by rw [hgg]
  refine lv_aload_n hx hb dJ35_init_0 rfl (lv_at hl 0 rfl) ?_
  refine W.objInit hx hb hown (hts _ q1846) (hts _ q185) (hts _ q186) rfl (by rw [hml]; exact hl.1) rfl dJ35_init_1 (Nat.le_of_ble_eq_true rfl) (Nat.le_of_ble_eq_true rfl) ?_
  refine W.eq (g2 := F0 mm 4 ls []) rfl ?_
  refine lv_aload_n hx hb dJ35_init_4 rfl (lv_at hl 0 rfl) ?_
  refine lv_iload_n hx hb dJ35_init_5 rfl (lv_at hl 1 rfl) ?_
  refine gh_putF (v := .int hh) hC hg hnm hq (fNJ35_7 hcq) rfl rfl (gh_len (by decide)) dJ35_init_6 (fun g H locs hg hw hn => ?_)
  have hfr : ∀ b, b ≠ q → g b = g0 b := fun b h1 => (hn b h1).trans (hfr b h1)
  have hq : g q = some ((t.1, t.2.1, t.2.2), oo cq (.int hh :: .null :: .null :: .null :: .null :: .null :: ex)) := hw
  refine lv_aload_n hx hb dJ35_init_9 rfl (lv_at hl 0 rfl) ?_
  refine lv_aload_n hx hb dJ35_init_10 rfl (lv_at hl 2 rfl) ?_
  refine gh_putF (v := .ref ka) hC hg hnm hq (fNJ35_13 hcq) rfl rfl (gh_len (by decide)) dJ35_init_11 (fun g H locs hg hw hn => ?_)
  have hfr : ∀ b, b ≠ q → g b = g0 b := fun b h1 => (hn b h1).trans (hfr b h1)
  have hq : g q = some ((t.1, t.2.1, t.2.2), oo cq (.int hh :: .ref ka :: .null :: .null :: .null :: .null :: ex)) := hw
  refine lv_aload_n hx hb dJ35_init_14 rfl (lv_at hl 0 rfl) ?_
  refine lv_aload_n hx hb dJ35_init_15 rfl (lv_at hl 3 rfl) ?_
  refine gh_put (v := .ref vv) hC hg hq (fNJ35_17 hcq) rfl rfl (gh_len (by decide)) dJ35_init_16 (fun g H locs hg hw hn => ?_)
  have hfr : ∀ b, b ≠ q → g b = g0 b := fun b h1 => (hn b h1).trans (hfr b h1)
  have hq : g q = some ((t.1, t.2.1, t.2.2), oo cq (.int hh :: .ref ka :: .ref vv :: .null :: .null :: .null :: ex)) := hw
  refine lv_aload_n hx hb dJ35_init_19 rfl (lv_at hl 0 rfl) ?_
  refine lv_aloadN hx hb dJ35_init_20 (lv_at hl 4 rfl) ?_
  refine gh_put (v := .null) hC hg hq (fNJ35_20 hcq) rfl rfl (gh_len (by decide)) dJ35_init_22 (fun g H locs hg hw hn => ?_)
  have hfr : ∀ b, b ≠ q → g b = g0 b := fun b h1 => (hn b h1).trans (hfr b h1)
  have hq : g q = some ((t.1, t.2.1, t.2.2), oo cq (.int hh :: .ref ka :: .ref vv :: .null :: .null :: .null :: ex)) := hw
  exact gh_retv hC hg hr hlk (⟨hq, hfr⟩) dJ35_init_25 (Nat.le_of_ble_eq_true rfl) (Nat.le_of_ble_eq_true rfl)
set_option maxHeartbeats 1000000 in
set_option maxRecDepth 100000 in
theorem j_J36_init (l : Launch) (V : gh_V) (g0 : gh_G) (q cq ka vv : Nat) (t : gh_T) (hh : Int32) (ex : List Value) (hcq : cq = 14 ∨ cq = 15) (hq : g0 q = some (t, oo cq (.int 0 :: .null :: .null :: .null :: .null :: .null :: ex))) : MV l yJ36_init cJ36_init 5 ({ frames := 2, cells := 0, slots := 0, locals := 36 } : Room) V [.ref q, .int hh, .ref ka, .ref vv, .null] g0 (fun g1 => g1 q = some (t, oo cq (.int hh :: .ref ka :: .ref vv :: .null :: .null :: .null :: ex)) ∧ ∀ b, b ≠ q → g1 b = g0 b) := by
  refine MG.of RJ36 (by decide) rfl (Nat.le_of_ble_eq_true rfl) (fun pp ee s mm args below meth c ls hC hg hr hlk hnm hl => ?_)
  have hx := hC.1.1
  have hb := hC.1.2.1
  have hml := hC.1.2.2.1
  have hown := hC.1.2.2.2.1
  have hts := hC.1.2.2.2.2
  have hl : lv_has ls 5 [(0, .ref q), (1, .int hh), (2, .ref ka), (3, .ref vv), (4, .null)] := hl
  obtain ⟨g, hg, hgg⟩ : ∃ g, gh_W V (gh_A g0 s.heap.size) s g s.heap [] ∧ g = g0 := ⟨g0, hg, rfl⟩
  rw [← hgg] at hq
  have hfr : ∀ b, b ≠ q → g b = g0 b := fun b _ => by rw [hgg]
  refine lv_aload_n hx hb dJ36_init_0 rfl (lv_at hl 0 rfl) ?_
  refine lv_iload_n hx hb dJ36_init_1 rfl (lv_at hl 1 rfl) ?_
  refine lv_aload_n hx hb dJ36_init_2 rfl (lv_at hl 2 rfl) ?_
  refine lv_aload_n hx hb dJ36_init_3 rfl (lv_at hl 3 rfl) ?_
  refine lv_aloadN hx hb dJ36_init_4 (lv_at hl 4 rfl) ?_
  refine gh_callv hg (gh_runI (As := [.int hh, .ref ka, .ref vv, .null]) (rest := []) hC hg (j_J35_init l V _ q cq ka vv t hh ex hcq hq) 4 (lw_meth q1845) q143 q1843 q1844 rfl hd_J35_init.2 ⟨Nat.le_of_ble_eq_true rfl, Nat.le_of_ble_eq_true rfl⟩ rfl hl.1 rfl (Nat.le_of_ble_eq_true rfl) dJ36_init_6 ⟨Nat.le_of_ble_eq_true rfl, Nat.le_of_ble_eq_true rfl⟩) (fun g H locs hg hp => ?_)
  obtain ⟨hq, hfr2⟩ := hp
  have hfr : ∀ b, b ≠ q → g b = g0 b := fun b h1 => (hfr2 b h1).trans (hfr b h1)
  exact gh_retv hC hg hr hlk (⟨hq, hfr⟩) dJ36_init_9 (Nat.le_of_ble_eq_true rfl) (Nat.le_of_ble_eq_true rfl)
set_option maxHeartbeats 1000000 in
set_option maxRecDepth 100000 in
theorem j_J5_newNode (l : Launch) (V : gh_V) (g0 : gh_G) (o k m ck ka vv c9 sz : Nat) (D : HD) (hI : hm_G V o k g0 m ck D sz none) (hn0 : D.n ≠ 0) (hky : ky_P V g0 ck ka c9) (hnew : ∀ a, a ∈ D.L → D.C a ≠ c9) (hlen : D.L.length < 240) (hmd : (∀ a, a ∈ D.L → D.ci a = 14) ∨ D.L.length < 16) : MR l yJ5_newNode cJ5_newNode 6 (some (.object "java/util/HashMap$Node")) ({ frames := 3, cells := 1, slots := 6, locals := 60 } : Room) V [.ref m, .int (nI (hm_sp c9)), .ref ka, .ref vv, .null] g0 (fun r g1 => ∃ q, r = some q ∧ g0 q = none ∧ hm_G V o k g1 m ck (hd_app D q c9 ka (some vv) none 14 []) sz (some q) ∧ gh_fk o k g0 g1) := by
  refine MG.of RJ5 (by decide) rfl (Nat.le_of_ble_eq_true rfl) (fun pp ee s mm args below meth c ls hC hg hr hlk hnm hl => ?_)
  have hx := hC.1.1
  have hb := hC.1.2.1
  have hml := hC.1.2.2.1
  have hown := hC.1.2.2.2.1
  have hts := hC.1.2.2.2.2
  have hl : lv_has ls 6 [(0, .ref m), (1, .int (nI (hm_sp c9))), (2, .ref ka), (3, .ref vv), (4, .null)] := hl
  obtain ⟨g, hg, hgg⟩ : ∃ g, gh_W V (gh_A g0 s.heap.size) s g s.heap [] ∧ g = g0 := ⟨g0, hg, rfl⟩
  have hm := hI.cm
  rw [← hgg] at hm
  have hN := hI.cn
  rw [← hgg] at hN
  refine gh_new (ci := 14) (fs := [.int 0, .null, .null, .null, .null, .null]) hC hg (fun q9 => (o, k, 2)) rfl in_J36 tyJ36 tyJ36_ok q1838 q1839 q144 (by decide +kernel) (Nat.le_of_ble_eq_true rfl) (Nat.le_of_ble_eq_true rfl) dJ5_newNode_0 (fun q_1 g H hg h0 hw hn => ?_)
  have hm : g m = some ((o, k, 0), oo 13 [va_rf (hm_tab D), va_rf D.es, .int (nI sz), .int D.mc, .int (nI D.th), .float 1061158912, va_rf D.ks, va_rf D.vs, va_rf (D.L.head?), va_rf (D.L.getLast?), .int 0, .int 0]) := (hn _ (gh_neN hm h0)).trans hm
  have c_2 : g q_1 = some ((o, k, 2), oo 14 [.int 0, .null, .null, .null, .null, .null]) := hw
  have hq00 : g0 q_1 = none := by rw [← hgg]; exact h0
  have hqL : q_1 ∉ D.L := fun e => by have h9 := hI.cn _ e; rw [hq00] at h9; cases h9
  have hqm : m ≠ q_1 := fun e => by have h9 := hI.cm; rw [e, hq00] at h9; cases h9
  have hfr : ∀ b, b ≠ q_1 → g b = g0 b := fun b h1 => (hn b h1).trans (by rw [hgg])
  refine lv_dup hx hb dJ5_newNode_3 rfl ?_
  refine lv_iload_n hx hb dJ5_newNode_4 rfl (lv_at hl 1 rfl) ?_
  refine lv_aload_n hx hb dJ5_newNode_5 rfl (lv_at hl 2 rfl) ?_
  refine lv_aload_n hx hb dJ5_newNode_6 rfl (lv_at hl 3 rfl) ?_
  refine lv_aloadN hx hb dJ5_newNode_7 (lv_at hl 4 rfl) ?_
  refine gh_callv hg (gh_runI (As := [.int (nI (hm_sp c9)), .ref ka, .ref vv, .null]) (rest := [.ref q_1]) hC hg (j_J36_init l V _ q_1 14 ka vv _ (nI (hm_sp c9)) [] (Or.inl rfl) c_2) 4 (lw_meth q1842) q144 q1840 q1841 rfl hd_J36_init.2 ⟨Nat.le_of_ble_eq_true rfl, Nat.le_of_ble_eq_true rfl⟩ rfl hl.1 rfl (Nat.le_of_ble_eq_true rfl) dJ5_newNode_9 ⟨Nat.le_of_ble_eq_true rfl, Nat.le_of_ble_eq_true rfl⟩) (fun g H locs hg hp => ?_)
  obtain ⟨hq, hfr2⟩ := hp
  have hfr : ∀ b, b ≠ q_1 → g b = g0 b := fun b h1 => (hfr2 b h1).trans (hfr b h1)
  have hm : g m = some ((o, k, 0), oo 13 [va_rf (hm_tab D), va_rf D.es, .int (nI sz), .int D.mc, .int (nI D.th), .float 1061158912, va_rf D.ks, va_rf D.vs, va_rf (D.L.head?), va_rf (D.L.getLast?), .int 0, .int 0]) := (hfr m hqm).trans hI.cm
  have hN : ∀ a, a ∈ D.L → g a = _ := fun a ha => (hfr a (hm_ne_last hqL ha)).trans (hI.cn a ha)
  refine lv_astore (lv' := [(5, .ref q_1), (0, .ref m), (1, .int (nI (hm_sp c9))), (2, .ref ka), (3, .ref vv), (4, .null)]) hx hb dJ5_newNode_12 hl (by decide) rfl (fun ls hl => ?_)
  refine lv_aload_n hx hb dJ5_newNode_14 rfl (lv_at hl 1 rfl) ?_
  refine lv_aload hx hb dJ5_newNode_15 (lv_at hl 0 rfl) ?_
  refine gh_callv hg (gh_runV (As := [.ref q_1]) (rest := []) hC hg (j_J5_linkNodeAtEnd l V _ o k m q_1 (hm_tab D) D.es D.ks D.vs (nI sz) D.mc (nI D.th) 1061158912 D.L D.ci D.K (fun a => nI (hm_sp (D.C a))) D.v D.nx D.ex 14 ka (nI (hm_sp c9)) (some vv) none [] hm hN hI.len.2 hI.nd hq (Or.inl rfl) hqL) 1 (lw_V q2155 q2157 qs28 q110 q2158) hm rfl hd_J5_linkNodeAtEnd ⟨Nat.le_of_ble_eq_true rfl, Nat.le_of_ble_eq_true rfl⟩ rfl hl.1 rfl (Nat.le_of_ble_eq_true rfl) dJ5_newNode_17 ⟨Nat.le_of_ble_eq_true rfl, Nat.le_of_ble_eq_true rfl⟩) (fun g H locs hg hp => ?_)
  obtain ⟨h1, h2, h3, h4⟩ := hp
  have hfr : ∀ b, b ≠ m → b ≠ q_1 → b ∉ D.L → g b = g0 b := fun b h5 h6 h7 => (h4 b h5 h6 h7).trans (hfr b h6)
  obtain ⟨hG, hF⟩ := hI.app (g1 := g) (q := q_1) (c := c9) (ka := ka) (v := some vv) (nx := none) (ci := 14) (ex := []) hq00 hn0 (Or.inl rfl) hky hnew h1 h2 h3 hfr hlen (hmd.imp (fun h => ⟨h, rfl⟩) id)
  refine lv_aload hx hb dJ5_newNode_20 (lv_at hl 0 rfl) ?_
  exact gh_retq (r := some q_1) (Or.inl ⟨_, rfl⟩) hC hg hr hlk (⟨q_1, rfl, hq00, hG, hF⟩) dJ5_newNode_22 (Nat.le_of_ble_eq_true rfl) (Nat.le_of_ble_eq_true rfl)
