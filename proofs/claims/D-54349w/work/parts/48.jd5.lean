set_option maxRecDepth 100000
theorem fJ5_107_14 : gh_fd RJ5 107 14 2 (.object "java/lang/Object") false := gh_fd.own (T := TJ36) tyJ36 rfl in_J36 tyJ36_ok nmJ36 (by decide) q1869 rfl rfl (fun h => by cases h)
theorem fJ5_107_15 : gh_fd RJ5 107 15 2 (.object "java/lang/Object") false := gh_fd.own (T := TJ39) tyJ39 rfl in_J39 tyJ39_ok nmJ39 (by decide) q1869 rfl rfl (fun h => by cases h)
theorem fJ5_11_13 : gh_fd RJ5 11 13 9 (.object "java/util/LinkedHashMap$Entry") false := gh_fd.own (T := TJ5) tyJ5 rfl in_J5 tyJ5_ok nmJ5 (by decide) q240 rfl rfl (fun h => by cases h)
theorem fJ5_14_14 : gh_fd RJ5 14 14 5 (.object "java/util/LinkedHashMap$Entry") false := gh_fd.own (T := TJ36) tyJ36 rfl in_J36 tyJ36_ok nmJ36 (by decide) q1849 rfl rfl (fun h => by cases h)
theorem fJ5_14_15 : gh_fd RJ5 14 15 5 (.object "java/util/LinkedHashMap$Entry") false := gh_fd.own (T := TJ39) tyJ39 rfl in_J39 tyJ39_ok nmJ39 (by decide) q1849 rfl rfl (fun h => by cases h)
theorem fJ5_19_14 : gh_fd RJ5 19 14 4 (.object "java/util/LinkedHashMap$Entry") false := gh_fd.own (T := TJ36) tyJ36 rfl in_J36 tyJ36_ok nmJ36 (by decide) q1847 rfl rfl (fun h => by cases h)
theorem fJ5_19_15 : gh_fd RJ5 19 15 4 (.object "java/util/LinkedHashMap$Entry") false := gh_fd.own (T := TJ39) tyJ39 rfl in_J39 tyJ39_ok nmJ39 (by decide) q1847 rfl rfl (fun h => by cases h)
theorem fJ5_1_13 : gh_fd RJ5 1 13 11 .int false := gh_fd.own (T := TJ5) tyJ5 rfl in_J5 tyJ5_ok nmJ5 (by decide) q242 rfl rfl (fun h => by cases h)
theorem fJ5_64_13 : gh_fd RJ5 64 13 10 .boolean true := gh_fd.own (T := TJ5) tyJ5 rfl in_J5 tyJ5_ok nmJ5 (by decide) q241 rfl rfl (fun h => rfl)
theorem fJ5_7_13 : gh_fd RJ5 7 13 8 (.object "java/util/LinkedHashMap$Entry") false := gh_fd.own (T := TJ5) tyJ5 rfl in_J5 tyJ5_ok nmJ5 (by decide) q237 rfl rfl (fun h => by cases h)
theorem fNJ5_107 {ci : Nat} (h : ci = 14 ∨ ci = 15) : gh_fd RJ5 107 ci 2 (.object "java/lang/Object") false := by
  rcases h with rfl | rfl
  · exact fJ5_107_14
  · exact fJ5_107_15
theorem fNJ5_14 {ci : Nat} (h : ci = 14 ∨ ci = 15) : gh_fd RJ5 14 ci 5 (.object "java/util/LinkedHashMap$Entry") false := by
  rcases h with rfl | rfl
  · exact fJ5_14_14
  · exact fJ5_14_15
theorem fNJ5_19 {ci : Nat} (h : ci = 14 ∨ ci = 15) : gh_fd RJ5 19 ci 4 (.object "java/util/LinkedHashMap$Entry") false := by
  rcases h with rfl | rfl
  · exact fJ5_19_14
  · exact fJ5_19_15
theorem hdF_HashMap_getNode_1 : (⟨"java/util/HashMap", "getNode", "(Ljava/lang/Object;)Ljava/util/HashMap$Node;"⟩ : MethodName).cls ≠ "java/lang/invoke/MethodHandle" ∧ (⟨"java/util/HashMap", "getNode", "(Ljava/lang/Object;)Ljava/util/HashMap$Node;"⟩ : MethodName).cls ≠ "java/lang/invoke/VarHandle" ∧ (parseMethodDescriptor (⟨"java/util/HashMap", "getNode", "(Ljava/lang/Object;)Ljava/util/HashMap$Node;"⟩ : MethodName).desc).map (fun d => d.parameters.length) = some 1 := by decide +kernel
set_option maxHeartbeats 1000000 in
set_option maxRecDepth 100000 in
theorem j_J4_containsKey (l : Launch) (V : gh_V) (g0 : gh_G) (hTG : tg_S l V) (o k m ck : Nat) (D : HD) (hI9 : hm_I V o k g0 m ck D) (x c9 : Nat) (hk9 : ky_P V g0 ck x c9) : MI l yJ4_containsKey cJ4_containsKey 2 (some .boolean) ({ frames := 10, cells := 0, slots := 0, locals := 349 } : Room) V [.ref m, .ref x] g0 (fun r g1 => ((r = 1 ∧ ∃ b, b ∈ D.L ∧ D.C b = c9) ∨ (r = 0 ∧ ∀ b, b ∈ D.L → D.C b ≠ c9)) ∧ g1 = g0) := by
  refine MG.of RJ4 (by decide) rfl (Nat.le_of_ble_eq_true rfl) (fun pp ee s mm args below meth c ls hC hg hr hlk hnm hl => ?_)
  have hx := hC.1.1
  have hb := hC.1.2.1
  have hml := hC.1.2.2.1
  have hown := hC.1.2.2.2.1
  have hts := hC.1.2.2.2.2
  have hl : lv_has ls 2 [(0, .ref m), (1, .ref x)] := hl
  obtain ⟨g, hg, hgg⟩ : ∃ g, gh_W V (gh_A g0 s.heap.size) s g s.heap [] ∧ g = g0 := ⟨g0, hg, rfl⟩
  have hI := hI9
  have hk90 := hk9
  rw [← hgg] at hI hk9
  refine lv_aload_n hx hb dJ4_containsKey_0 rfl (lv_at hl 0 rfl) ?_
  refine lv_aload_n hx hb dJ4_containsKey_1 rfl (lv_at hl 1 rfl) ?_
  refine gh_callq hg (gh_runU (x := ⟨"java/util/HashMap", "getNode", "(Ljava/lang/Object;)Ljava/util/HashMap$Node;"⟩) (C := "java/util/LinkedHashMap") (owner := "java/util/HashMap") (As := [.ref x]) (rest := []) hC hg (j_J4_getNode l V _ hTG o k m ck D hI x c9 hk9) 1 (va_cwU 1 hts (lw_U q3354 q3356 q3355 q3357 q109 q3358) rfl rfl rfl rfl hdF_HashMap_getNode_1 ⟨Nat.le_of_ble_eq_true rfl, Nat.le_of_ble_eq_true rfl⟩) (gh_recv (C := "java/util/LinkedHashMap") hC hg hI.cm rfl) rfl hl.1 rfl (Nat.le_of_ble_eq_true rfl) dJ4_containsKey_2 ⟨Nat.le_of_ble_eq_true rfl, Nat.le_of_ble_eq_true rfl⟩) (fun r_1 g H locs hg hp => ?_)
  obtain ⟨hfd, hq⟩ := hp
  rw [hq] at hg
  refine lv_ifnullQ (tgt := 12) hx hb dJ4_containsKey_5 (by decide) (fun hq_2 => ?_) (fun y_3 hq_2 => ?_)
  · skip
    have hno : ∀ b, b ∈ D.L → D.C b ≠ c9 := by
        rcases hfd with ⟨b, h7, h8, h9⟩ | h9
        · rw [hq_2] at h9; cases h9
        · exact h9.1
    refine lv_iconst (v := 0) hx hb dJ4_containsKey_12 (by decide) ?_
    exact gh_retz rfl hC hg hr hlk (⟨Or.inr ⟨rfl, hno⟩, hgg⟩) dJ4_containsKey_13 (Nat.le_of_ble_eq_true rfl) (Nat.le_of_ble_eq_true rfl)
  obtain ⟨hbm, hbc⟩ : y_3 ∈ D.L ∧ D.C y_3 = c9 := by
      rcases hfd with ⟨b, h7, h8, h9⟩ | h9
      · rw [hq_2] at h9; cases h9; exact ⟨h7, h8⟩
      · rw [hq_2] at h9; cases h9.2
  refine lv_iconst (v := 1) hx hb dJ4_containsKey_8 (by decide) ?_
  refine lv_goto (tgt := 13) hx hb dJ4_containsKey_9 (by decide) ?_
  exact gh_retz rfl hC hg hr hlk (⟨Or.inl ⟨rfl, y_3, hbm, hbc⟩, hgg⟩) dJ4_containsKey_13 (Nat.le_of_ble_eq_true rfl) (Nat.le_of_ble_eq_true rfl)
set_option maxHeartbeats 1000000 in
set_option maxRecDepth 100000 in
theorem j_J5_get (l : Launch) (V : gh_V) (g0 : gh_G) (hTG : tg_S l V) (o k m ck : Nat) (D : HD) (hI9 : hm_I V o k g0 m ck D) (x c9 : Nat) (hk9 : ky_P V g0 ck x c9) : MR l yJ5_get cJ5_get 3 (some (.object "java/lang/Object")) ({ frames := 10, cells := 0, slots := 0, locals := 349 } : Room) V [.ref m, .ref x] g0 (fun r g1 => ((∃ b, b ∈ D.L ∧ D.C b = c9 ∧ r = D.v b) ∨ ((∀ b, b ∈ D.L → D.C b ≠ c9) ∧ r = none)) ∧ g1 = g0) := by
  refine MG.of RJ5 (by decide) rfl (Nat.le_of_ble_eq_true rfl) (fun pp ee s mm args below meth c ls hC hg hr hlk hnm hl => ?_)
  have hx := hC.1.1
  have hb := hC.1.2.1
  have hml := hC.1.2.2.1
  have hown := hC.1.2.2.2.1
  have hts := hC.1.2.2.2.2
  have hl : lv_has ls 3 [(0, .ref m), (1, .ref x)] := hl
  obtain ⟨g, hg, hgg⟩ : ∃ g, gh_W V (gh_A g0 s.heap.size) s g s.heap [] ∧ g = g0 := ⟨g0, hg, rfl⟩
  have hI := hI9
  have hk90 := hk9
  rw [← hgg] at hI hk9
  refine lv_aload_n hx hb dJ5_get_0 rfl (lv_at hl 0 rfl) ?_
  refine lv_aload_n hx hb dJ5_get_1 rfl (lv_at hl 1 rfl) ?_
  refine gh_callq hg (gh_runU (x := ⟨"java/util/LinkedHashMap", "getNode", "(Ljava/lang/Object;)Ljava/util/HashMap$Node;"⟩) (C := "java/util/LinkedHashMap") (owner := "java/util/HashMap") (As := [.ref x]) (rest := []) hC hg (j_J4_getNode l V _ hTG o k m ck D hI x c9 hk9) 1 (va_cwU 1 hts (lw_U q3374 q3375 q3355 q3377 q109 q3358) rfl rfl rfl rfl hdF_HashMap_getNode_1 ⟨Nat.le_of_ble_eq_true rfl, Nat.le_of_ble_eq_true rfl⟩) (gh_recv (C := "java/util/LinkedHashMap") hC hg hI.cm rfl) rfl hl.1 rfl (Nat.le_of_ble_eq_true rfl) dJ5_get_2 ⟨Nat.le_of_ble_eq_true rfl, Nat.le_of_ble_eq_true rfl⟩) (fun r_1 g H locs hg hp => ?_)
  obtain ⟨hfd, hq⟩ := hp
  rw [hq] at hg
  refine lv_dup hx hb dJ5_get_5 (gh_cQ _) ?_
  refine lv_astore_nQ (lv' := [(2, va_rf r_1), (0, .ref m), (1, .ref x)]) hx hb dJ5_get_6 rfl hl (by decide) rfl (fun ls hl => ?_)
  refine lv_ifnonnullQ (tgt := 12) hx hb dJ5_get_7 (by decide) (fun y_3 hq_2 => ?_) (fun hq_2 => ?_)
  · skip
    rw [hq_2] at hl
    have hl : lv_has ls 3 [(2, .ref y_3), (0, .ref m), (1, .ref x)] := hl
    obtain ⟨hbm, hbc⟩ : y_3 ∈ D.L ∧ D.C y_3 = c9 := by
        rcases hfd with ⟨b, h7, h8, h9⟩ | h9
        · rw [hq_2] at h9; cases h9; exact ⟨h7, h8⟩
        · rw [hq_2] at h9; cases h9.2
    refine lv_aload_n hx hb dJ5_get_12 rfl (lv_at hl 1 rfl) ?_
    refine gh_get (v := .int 0) hC hg hI.cm fJ5_64_13 rfl dJ5_get_13 ?_
    refine lv_if_eq (tgt := 24) hx hb dJ5_get_16 (by decide) (fun _ => ?_) (fun c_4 => (absurd ((nx_eq (show ((0 : Int32)) = nI 0 from rfl) (show ((0 : Int32)) = nI 0 from rfl) (by omega) (by omega)).mpr (by omega)) c_4))
    refine lv_aload_n hx hb dJ5_get_24 rfl (lv_at hl 0 rfl) ?_
    refine gh_get (v := va_rf (D.v y_3)) hC hg (hI.cn y_3 hbm) (fNJ5_107 (hI.ci2 hbm)) rfl dJ5_get_25 ?_
    exact gh_retq (r := (D.v y_3)) (Or.inl ⟨_, rfl⟩) hC hg hr hlk (⟨Or.inl ⟨y_3, hbm, hbc, rfl⟩, hgg⟩) dJ5_get_28 (Nat.le_of_ble_eq_true rfl) (Nat.le_of_ble_eq_true rfl)
  rw [hq_2] at hl
  have hl : lv_has ls 3 [(2, .null), (0, .ref m), (1, .ref x)] := hl
  have hno : ∀ b, b ∈ D.L → D.C b ≠ c9 := by
      rcases hfd with ⟨b, h7, h8, h9⟩ | h9
      · rw [hq_2] at h9; cases h9
      · exact h9.1
  refine lv_null hx hb dJ5_get_10 ?_
  exact gh_retq (r := none) (Or.inl ⟨_, rfl⟩) hC hg hr hlk (⟨Or.inr ⟨hno, rfl⟩, hgg⟩) dJ5_get_11 (Nat.le_of_ble_eq_true rfl) (Nat.le_of_ble_eq_true rfl)
set_option maxHeartbeats 1000000 in
set_option maxRecDepth 100000 in
theorem j_J5_linkNodeAtEnd (l : Launch) (V : gh_V) (g0 : gh_G) (o k m q : Nat) (ta es ks vs : Option Nat) (s1 mc th : Int32) (lf : UInt32) (L : List Nat) (ci K : Nat → Nat) (h : Nat → Int32) (v nx : Nat → Option Nat) (ex : Nat → List Value) (cq kq : Nat) (hh : Int32) (vq xq : Option Nat) (eq9 : List Value) (hm : g0 m = some ((o, k, 0), oo 13 [va_rf ta, va_rf es, .int s1, .int mc, .int th, .float lf, va_rf ks, va_rf vs, va_rf L.head?, va_rf L.getLast?, .int 0, .int 0])) (hN : ∀ a, a ∈ L → g0 a = some ((o, k, 2), oo (ci a) (.int (h a) :: .ref (K a) :: va_rf (v a) :: va_rf (nx a) :: va_rf (pvL L a) :: va_rf (scL L a) :: ex a))) (hci : ∀ a, a ∈ L → ci a = 14 ∨ ci a = 15) (hnd : L.Nodup) (hq : g0 q = some ((o, k, 2), oo cq (.int hh :: .ref kq :: va_rf vq :: va_rf xq :: .null :: .null :: eq9))) (hcq : cq = 14 ∨ cq = 15) (hqL : q ∉ L) : MV l yJ5_linkNodeAtEnd cJ5_linkNodeAtEnd 3 ({ frames := 0, cells := 0, slots := 0, locals := 0 } : Room) V [.ref m, .ref q] g0 (fun g1 => (g1 m = some ((o, k, 0), oo 13 [va_rf ta, va_rf es, .int s1, .int mc, .int th, .float lf, va_rf ks, va_rf vs, va_rf (L ++ [q]).head?, .ref q, .int 0, .int 0])) ∧ (∀ a, a ∈ L → g1 a = some ((o, k, 2), oo (ci a) (.int (h a) :: .ref (K a) :: va_rf (v a) :: va_rf (nx a) :: va_rf (pvL (L ++ [q]) a) :: va_rf (scL (L ++ [q]) a) :: ex a))) ∧ g1 q = some ((o, k, 2), oo cq (.int hh :: .ref kq :: va_rf vq :: va_rf xq :: va_rf L.getLast? :: .null :: eq9)) ∧ ∀ b, b ≠ m → b ≠ q → b ∉ L → g1 b = g0 b) := by
  refine MG.of RJ5 (by decide) rfl (Nat.le_of_ble_eq_true rfl) (fun pp ee s mm args below meth c ls hC hg hr hlk hnm hl => ?_)
  have hx := hC.1.1
  have hb := hC.1.2.1
  have hml := hC.1.2.2.1
  have hown := hC.1.2.2.2.1
  have hts := hC.1.2.2.2.2
  have hl : lv_has ls 3 [(0, .ref m), (1, .ref q)] := hl
  obtain ⟨g, hg, hgg⟩ : ∃ g, gh_W V (gh_A g0 s.heap.size) s g s.heap [] ∧ g = g0 := ⟨g0, hg, rfl⟩
  rw [← hgg] at hm hN hq
  have hfr : ∀ b, b ≠ m → b ≠ q → b ∉ L → g b = g0 b := fun b _ _ _ => by rw [hgg]
  have hm8 := hm
  refine lv_aload_n hx hb dJ5_linkNodeAtEnd_0 rfl (lv_at hl 0 rfl) ?_
  refine gh_get (v := .int 0) hC hg hm fJ5_1_13 rfl dJ5_linkNodeAtEnd_1 ?_
  refine lv_iconst (v := 1) hx hb dJ5_linkNodeAtEnd_4 (by decide) ?_
  refine lv_icmp_ne (tgt := 43) hx hb dJ5_linkNodeAtEnd_5 (by decide) (fun _ => ?_) (fun c_1 => (absurd ((nx_eq (show ((0 : Int32)) = nI 0 from rfl) (show ((1 : Int32)) = nI 1 from rfl) (by omega) (by omega)).mp c_1) (by omega)))
  refine lv_aload_n hx hb dJ5_linkNodeAtEnd_43 rfl (lv_at hl 0 rfl) ?_
  refine gh_get (v := va_rf (L.getLast?)) hC hg hm fJ5_11_13 rfl dJ5_linkNodeAtEnd_44 ?_
  refine lv_astore_nQ (lv' := [(2, va_rf (L.getLast?)), (0, .ref m), (1, .ref q)]) hx hb dJ5_linkNodeAtEnd_47 rfl hl (by decide) rfl (fun ls hl => ?_)
  refine lv_aload_n hx hb dJ5_linkNodeAtEnd_48 rfl (lv_at hl 1 rfl) ?_
  refine lv_aload_n hx hb dJ5_linkNodeAtEnd_49 rfl (lv_at hl 2 rfl) ?_
  have hm8 := hm
  refine gh_put (v := .ref q) hC hg hm fJ5_11_13 rfl rfl (Nat.le_of_ble_eq_true rfl) dJ5_linkNodeAtEnd_50 (fun g H locs hg hw hn => ?_)
  have hq : g q = some ((o, k, 2), oo cq (.int hh :: .ref kq :: (va_rf vq) :: (va_rf xq) :: .null :: .null :: eq9)) := (hn _ (gh_neI hq hm rfl)).trans hq
  have hfr : ∀ b, b ≠ m → b ≠ q → b ∉ L → g b = g0 b := fun b h1 h2 h3 => (hn b h1).trans (hfr b h1 h2 h3)
  have hN : ∀ a, a ∈ L → g a = some ((o, k, 2), oo (ci a) (.int (h a) :: .ref (K a) :: va_rf (v a) :: va_rf (nx a) :: va_rf (pvL L a) :: va_rf (scL L a) :: ex a)) := fun a ha => (hn _ (gh_neI (hN a ha) hm8 rfl)).trans (hN a ha)
  have hm : g m = some ((o, k, 0), oo 13 [va_rf ta, va_rf es, .int s1, .int mc, .int th, .float lf, va_rf ks, va_rf vs, va_rf (L.head?), .ref q, .int 0, .int 0]) := hw
  refine lv_aload_nQ hx hb dJ5_linkNodeAtEnd_53 rfl (lv_at hl 0 rfl) ?_
  refine lv_ifnonnullQ (tgt := 65) hx hb dJ5_linkNodeAtEnd_54 (by decide) (fun y_3 hq_2 => ?_) (fun hq_2 => ?_)
  · skip
    rw [hq_2] at hl
    have hl : lv_has ls 3 [(2, .ref y_3), (0, .ref m), (1, .ref q)] := hl
    have htL : y_3 ∈ L := List.mem_of_getLast? hq_2
    have hqt : q ≠ y_3 := fun e => hqL (e ▸ htL)
    have hct := hN y_3 htL
    have hN2 : ∀ a, a ∈ L → a ≠ y_3 → g a = some ((o, k, 2), oo (ci a) (.int (h a) :: .ref (K a) :: va_rf (v a) :: va_rf (nx a) :: va_rf (pvL L a) :: va_rf (scL L a) :: ex a)) := fun a ha _ => hN a ha
    refine lv_aload_n hx hb dJ5_linkNodeAtEnd_65 rfl (lv_at hl 2 rfl) ?_
    refine lv_aload_n hx hb dJ5_linkNodeAtEnd_66 rfl (lv_at hl 0 rfl) ?_
    refine gh_put (v := .ref y_3) hC hg hq (fNJ5_19 hcq) rfl rfl (gh_len (by decide)) dJ5_linkNodeAtEnd_67 (fun g H locs hg hw hn => ?_)
    have hm : g m = some ((o, k, 0), oo 13 [va_rf ta, va_rf es, .int s1, .int mc, .int th, .float lf, va_rf ks, va_rf vs, va_rf (L.head?), .ref q, .int 0, .int 0]) := (hn _ (gh_neI hm hq rfl)).trans hm
    have hct : g y_3 = some ((o, k, 2), oo (ci y_3) (.int (h y_3) :: .ref (K y_3) :: (va_rf (v y_3)) :: (va_rf (nx y_3)) :: (va_rf (pvL L y_3)) :: (va_rf (scL L y_3)) :: ex y_3)) := (hn _ hqt.symm).trans hct
    have hfr : ∀ b, b ≠ m → b ≠ q → b ∉ L → g b = g0 b := fun b h1 h2 h3 => (hn b h2).trans (hfr b h1 h2 h3)
    have hN2 : ∀ a, a ∈ L → a ≠ y_3 → g a = some ((o, k, 2), oo (ci a) (.int (h a) :: .ref (K a) :: va_rf (v a) :: va_rf (nx a) :: va_rf (pvL L a) :: va_rf (scL L a) :: ex a)) := fun a ha ht => (hn _ (fun e => hqL (e ▸ ha))).trans (hN2 a ha ht)
    have hq : g q = some ((o, k, 2), oo cq (.int hh :: .ref kq :: (va_rf vq) :: (va_rf xq) :: .ref y_3 :: .null :: eq9)) := hw
    refine lv_aload_n hx hb dJ5_linkNodeAtEnd_70 rfl (lv_at hl 0 rfl) ?_
    refine lv_aload_n hx hb dJ5_linkNodeAtEnd_71 rfl (lv_at hl 2 rfl) ?_
    refine gh_put (v := .ref q) hC hg hct (fNJ5_14 (hci y_3 htL)) rfl rfl (gh_len (by decide)) dJ5_linkNodeAtEnd_72 (fun g H locs hg hw hn => ?_)
    have hm : g m = some ((o, k, 0), oo 13 [va_rf ta, va_rf es, .int s1, .int mc, .int th, .float lf, va_rf ks, va_rf vs, va_rf (L.head?), .ref q, .int 0, .int 0]) := (hn _ (gh_neI hm hct rfl)).trans hm
    have hq : g q = some ((o, k, 2), oo cq (.int hh :: .ref kq :: (va_rf vq) :: (va_rf xq) :: .ref y_3 :: .null :: eq9)) := (hn _ hqt).trans hq
    have hfr : ∀ b, b ≠ m → b ≠ q → b ∉ L → g b = g0 b := fun b h1 h2 h3 => (hn b (fun e => h3 (e ▸ htL))).trans (hfr b h1 h2 h3)
    have hN2 : ∀ a, a ∈ L → a ≠ y_3 → g a = some ((o, k, 2), oo (ci a) (.int (h a) :: .ref (K a) :: va_rf (v a) :: va_rf (nx a) :: va_rf (pvL L a) :: va_rf (scL L a) :: ex a)) := fun a ha ht => (hn _ ht).trans (hN2 a ha ht)
    have hct : g y_3 = some ((o, k, 2), oo (ci y_3) (.int (h y_3) :: .ref (K y_3) :: (va_rf (v y_3)) :: (va_rf (nx y_3)) :: (va_rf (pvL L y_3)) :: .ref q :: ex y_3)) := hw
    have hmq : (L ++ [q]).head? = L.head? := by cases L with | nil => cases htL | cons x l => rfl
    have hall : ∀ a, a ∈ L → g a = some ((o, k, 2), oo (ci a) (.int (h a) :: .ref (K a) :: va_rf (v a) :: va_rf (nx a) :: va_rf (pvL (L ++ [q]) a) :: va_rf (scL (L ++ [q]) a) :: ex a)) := by
      intro a ha
      have hne : a ≠ q := fun e => hqL (e ▸ ha)
      rw [pvL_app hne, scL_app ha hnd]
      by_cases e9 : a = y_3
      · rw [e9, if_pos hq_2]; exact hct
      · rw [if_neg (fun h8 => e9 (Option.some.inj (h8.symm.trans hq_2)))]; exact hN2 a ha e9
    exact gh_retv hC hg hr hlk (⟨by rw [hmq]; exact hm, hall, by rw [hq_2]; exact hq, hfr⟩) dJ5_linkNodeAtEnd_75 (Nat.le_of_ble_eq_true rfl) (Nat.le_of_ble_eq_true rfl)
  rw [hq_2] at hl
  have hl : lv_has ls 3 [(2, .null), (0, .ref m), (1, .ref q)] := hl
  have hL0 : L = [] := List.getLast?_eq_none_iff.mp hq_2
  refine lv_aload_n hx hb dJ5_linkNodeAtEnd_57 rfl (lv_at hl 1 rfl) ?_
  refine lv_aload_n hx hb dJ5_linkNodeAtEnd_58 rfl (lv_at hl 2 rfl) ?_
  have hm8 := hm
  refine gh_put (v := .ref q) hC hg hm fJ5_7_13 rfl rfl (Nat.le_of_ble_eq_true rfl) dJ5_linkNodeAtEnd_59 (fun g H locs hg hw hn => ?_)
  have hq : g q = some ((o, k, 2), oo cq (.int hh :: .ref kq :: (va_rf vq) :: (va_rf xq) :: .null :: .null :: eq9)) := (hn _ (gh_neI hq hm rfl)).trans hq
  have hfr : ∀ b, b ≠ m → b ≠ q → b ∉ L → g b = g0 b := fun b h1 h2 h3 => (hn b h1).trans (hfr b h1 h2 h3)
  have hN : ∀ a, a ∈ L → g a = some ((o, k, 2), oo (ci a) (.int (h a) :: .ref (K a) :: va_rf (v a) :: va_rf (nx a) :: va_rf (pvL L a) :: va_rf (scL L a) :: ex a)) := fun a ha => (hn _ (gh_neI (hN a ha) hm8 rfl)).trans (hN a ha)
  have hm : g m = some ((o, k, 0), oo 13 [va_rf ta, va_rf es, .int s1, .int mc, .int th, .float lf, va_rf ks, va_rf vs, .ref q, .ref q, .int 0, .int 0]) := hw
  refine lv_goto (tgt := 75) hx hb dJ5_linkNodeAtEnd_62 (by decide) ?_
  exact gh_retv hC hg hr hlk (⟨by rw [hL0]; exact hm, (fun a ha => by rw [hL0] at ha; cases ha), by rw [hq_2]; exact hq, hfr⟩) dJ5_linkNodeAtEnd_75 (Nat.le_of_ble_eq_true rfl) (Nat.le_of_ble_eq_true rfl)
