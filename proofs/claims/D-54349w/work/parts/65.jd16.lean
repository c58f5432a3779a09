theorem hs_D.fk2 {V : gh_V} {o1 k1 o k : Nat} {g g1 : gh_G} {s m : Nat} {D : HD} (h : hs_D V o1 k1 g s m D) (hne : ¬ (o1 = o ∧ k1 = k)) (hk : 10 ≤ k) (hf : gh_fk o k g g1) : hs_D V o1 k1 g1 s m D := ⟨hf _ _ _ h.1 (fun e => by have h9 : 8 = k := e.2; omega), h.2.fk2 hne hk hf⟩
theorem hs_D.ne9 {V : gh_V} {o k : Nat} {g g1 : gh_G} {it s m : Nat} {D : HD} {ci i : Nat} (h : it_P o k g1 it m D ci i) (h0 : g it = none) (hD : hs_D V o k g s m D) (hf : ∀ b, b ≠ it → g1 b = g b) : hs_D V o k g1 s m D :=
  hD.keep (hf s (fun e => by have h9 := hD.1; rw [e, h0] at h9; cases h9)) (fun a t x ha _ => by rw [hf a (fun e => by rw [e, h0] at ha; cases ha)]; exact ha)
theorem it_P.hs {V : gh_V} {o k : Nat} {g : gh_G} {it s m : Nat} {D : HD} {ci i : Nat} (h : it_P o k g it m D ci i) (hD : hs_D V o k g s m D) {g1 : gh_G} (hf : ∀ b, b ≠ it → g1 b = g b) : hs_D V o k g1 s m D := by
  refine ⟨?_, h.ne hD.2 hf⟩
  obtain ⟨cur, h⟩ := h
  have hk9 := hD.2.1.1.k10
  rw [hf s (fun e => by have h9 := hD.1; rw [e, h] at h9; have h8 : k = 8 := congrArg (fun z => z.1.2.1) (Option.some.inj h9); omega)]; exact hD.1
theorem st_M_take {V : gh_V} {S : List (Nat × Nat)} {i : Nat} : (st_M V S).take i = st_M V (S.take i) := by unfold st_M; rw [List.map_take]
theorem st_M_len {V : gh_V} {S : List (Nat × Nat)} : (st_M V S).length = S.length := List.length_map _
/-- a set of what a map holds -/
theorem st_step {V : gh_V} {D : HD} {S : List (Nat × Nat)} (hM : hm_M D = st_M V S) (hnd : D.L.Nodup) (hinj : ∀ a, a ∈ D.L → ∀ b, b ∈ D.L → D.C a = D.C b → a = b) {i : Nat} (hi : i < D.L.length) : st_add (S.take i) (D.C D.L[i]) (D.K D.L[i]) = S.take (i + 1) := by
  apply st_M_inj (V := V)
  have hv : D.v D.L[i] = some (V.2.2 1) := by
    have h1 : (D.C D.L[i], D.K D.L[i], D.v D.L[i]) ∈ st_M V S := by rw [← hM]; exact List.mem_map.mpr ⟨_, List.getElem_mem hi, rfl⟩
    obtain ⟨e, -, he⟩ := List.mem_map.mp h1
    exact (congrArg (fun z => z.2.2) he).symm
  rw [← st_put, ← st_M_take, ← st_M_take, ← hM, ← hv]
  exact lm_take hnd hinj hi
set_option maxRecDepth 100000
theorem hd_J4_calculateHashMapCapacity : yJ4_calculateHashMapCapacity.cls = RJ4 ∧ yJ4_calculateHashMapCapacity.cls ≠ "java/lang/invoke/MethodHandle" ∧ yJ4_calculateHashMapCapacity.cls ≠ "java/lang/invoke/VarHandle" ∧ (parseMethodDescriptor yJ4_calculateHashMapCapacity.desc).map (fun d => d.parameters.length) = some 1 := by decide +kernel
theorem hdF_AbstractCollection_addAll_1 : (⟨"java/util/AbstractCollection", "addAll", "(Ljava/util/Collection;)Z"⟩ : MethodName).cls ≠ "java/lang/invoke/MethodHandle" ∧ (⟨"java/util/AbstractCollection", "addAll", "(Ljava/util/Collection;)Z"⟩ : MethodName).cls ≠ "java/lang/invoke/VarHandle" ∧ (parseMethodDescriptor (⟨"java/util/AbstractCollection", "addAll", "(Ljava/util/Collection;)Z"⟩ : MethodName).desc).map (fun d => d.parameters.length) = some 1 := by decide +kernel
theorem hdF_AbstractCollection_add_1 : (⟨"java/util/AbstractCollection", "add", "(Ljava/lang/Object;)Z"⟩ : MethodName).cls ≠ "java/lang/invoke/MethodHandle" ∧ (⟨"java/util/AbstractCollection", "add", "(Ljava/lang/Object;)Z"⟩ : MethodName).cls ≠ "java/lang/invoke/VarHandle" ∧ (parseMethodDescriptor (⟨"java/util/AbstractCollection", "add", "(Ljava/lang/Object;)Z"⟩ : MethodName).desc).map (fun d => d.parameters.length) = some 1 := by decide +kernel
theorem hdF_Collection_iterator_0 : (⟨"java/util/Collection", "iterator", "()Ljava/util/Iterator;"⟩ : MethodName).cls ≠ "java/lang/invoke/MethodHandle" ∧ (⟨"java/util/Collection", "iterator", "()Ljava/util/Iterator;"⟩ : MethodName).cls ≠ "java/lang/invoke/VarHandle" ∧ (parseMethodDescriptor (⟨"java/util/Collection", "iterator", "()Ljava/util/Iterator;"⟩ : MethodName).desc).map (fun d => d.parameters.length) = some 0 := by decide +kernel
theorem hdF_Collection_size_0 : (⟨"java/util/Collection", "size", "()I"⟩ : MethodName).cls ≠ "java/lang/invoke/MethodHandle" ∧ (⟨"java/util/Collection", "size", "()I"⟩ : MethodName).cls ≠ "java/lang/invoke/VarHandle" ∧ (parseMethodDescriptor (⟨"java/util/Collection", "size", "()I"⟩ : MethodName).desc).map (fun d => d.parameters.length) = some 0 := by decide +kernel
theorem hdF_HashMap_containsKey_1 : (⟨"java/util/HashMap", "containsKey", "(Ljava/lang/Object;)Z"⟩ : MethodName).cls ≠ "java/lang/invoke/MethodHandle" ∧ (⟨"java/util/HashMap", "containsKey", "(Ljava/lang/Object;)Z"⟩ : MethodName).cls ≠ "java/lang/invoke/VarHandle" ∧ (parseMethodDescriptor (⟨"java/util/HashMap", "containsKey", "(Ljava/lang/Object;)Z"⟩ : MethodName).desc).map (fun d => d.parameters.length) = some 1 := by decide +kernel
theorem hdF_HashMap_keySet_0 : (⟨"java/util/HashMap", "keySet", "()Ljava/util/Set;"⟩ : MethodName).cls ≠ "java/lang/invoke/MethodHandle" ∧ (⟨"java/util/HashMap", "keySet", "()Ljava/util/Set;"⟩ : MethodName).cls ≠ "java/lang/invoke/VarHandle" ∧ (parseMethodDescriptor (⟨"java/util/HashMap", "keySet", "()Ljava/util/Set;"⟩ : MethodName).desc).map (fun d => d.parameters.length) = some 0 := by decide +kernel
theorem hdF_HashMap_putMapEntries_2 : (⟨"java/util/HashMap", "putMapEntries", "(Ljava/util/Map;Z)V"⟩ : MethodName).cls ≠ "java/lang/invoke/MethodHandle" ∧ (⟨"java/util/HashMap", "putMapEntries", "(Ljava/util/Map;Z)V"⟩ : MethodName).cls ≠ "java/lang/invoke/VarHandle" ∧ (parseMethodDescriptor (⟨"java/util/HashMap", "putMapEntries", "(Ljava/util/Map;Z)V"⟩ : MethodName).desc).map (fun d => d.parameters.length) = some 2 := by decide +kernel
theorem hdF_HashMap_put_2 : (⟨"java/util/HashMap", "put", "(Ljava/lang/Object;Ljava/lang/Object;)Ljava/lang/Object;"⟩ : MethodName).cls ≠ "java/lang/invoke/MethodHandle" ∧ (⟨"java/util/HashMap", "put", "(Ljava/lang/Object;Ljava/lang/Object;)Ljava/lang/Object;"⟩ : MethodName).cls ≠ "java/lang/invoke/VarHandle" ∧ (parseMethodDescriptor (⟨"java/util/HashMap", "put", "(Ljava/lang/Object;Ljava/lang/Object;)Ljava/lang/Object;"⟩ : MethodName).desc).map (fun d => d.parameters.length) = some 2 := by decide +kernel
theorem hdF_HashMap_size_0 : (⟨"java/util/HashMap", "size", "()I"⟩ : MethodName).cls ≠ "java/lang/invoke/MethodHandle" ∧ (⟨"java/util/HashMap", "size", "()I"⟩ : MethodName).cls ≠ "java/lang/invoke/VarHandle" ∧ (parseMethodDescriptor (⟨"java/util/HashMap", "size", "()I"⟩ : MethodName).desc).map (fun d => d.parameters.length) = some 0 := by decide +kernel
set_option maxHeartbeats 1000000 in
set_option maxRecDepth 100000 in
theorem j_J5_init_3 (l : Launch) (V : gh_V) (g0 : gh_G) (hTR : tr_S l V) (hCE : ce_S l) (o k m ck o1 k1 m1 : Nat) (D1 : HD) (hD1 : lm_D V o1 k1 g0 m1 ck D1) (hne : ¬ (o1 = o ∧ k1 = k)) (hk : 10 ≤ k) (hk1 : 10 ≤ k1) (hck : ck = 9 ∨ ck = 10) (hvals : ∀ e, e ∈ hm_M D1 → ∃ y, e.2.2 = some y) (h63 : (hm_M D1).length < 63) (h16 : ck = 10 → (hm_M D1).length ≤ 16) (hm : g0 m = some ((o, k, 0), oo 13 [.null, .null, .int 0, .int 0, .int 0, .float 0, .null, .null, .null, .null, .int 0, .int 0])) : MV l yJ5_init_3 cJ5_init_3 2 ({ frames := 11, cells := (2 + (hm_M D1).length * 20), slots := (7 + (hm_M D1).length * 200), locals := 1327 } : Room) V [.ref m, .ref m1] g0 (fun g1 => lm_P V o k g1 m ck (hm_M D1) ∧ (∃ D2 : HD, lm_D V o1 k1 g1 m1 ck D2 ∧ D2.2 = D1.2) ∧ gh_f2 o1 k1 o k g0 g1) := by
  refine MG.of RJ5 (by decide) rfl (Nat.le_of_ble_eq_true rfl) (fun pp ee s mm args below meth c ls hC hg hr hlk hnm hl => ?_)
  have hx := hC.1.1
  have hb := hC.1.2.1
  have hml := hC.1.2.2.1
  have hown := hC.1.2.2.2.1
  have hts := hC.1.2.2.2.2
  have hl : lv_has ls 2 [(0, .ref m), (1, .ref m1)] := hl
  obtain ⟨g, hg, hgg⟩ : ∃ g, gh_W V (gh_A g0 s.heap.size) s g s.heap [] ∧ g = g0 := ⟨g0, hg, rfl⟩
  rw [← hgg] at hm hD1
  have hF : gh_f2 o1 k1 o k g0 g := by rw [hgg]; exact gh_f2.rf
  have hm1 := hD1.1.1.cm
  have hm1 := (hD1).1.1.cm
  refine lv_aload_n hx hb dJ5_init_3_0 rfl (lv_at hl 0 rfl) ?_
  refine gh_callv hg (gh_runI (As := []) (rest := []) hC hg (j_J4_init l V _ m (o, k, 0) hm) 0 (lw_meth q231) q109 q229 q230 rfl hd_J4_init.2 ⟨(by first | exact Nat.le_of_ble_eq_true rfl | omega | (dsimp only; omega)), (by first | exact Nat.le_of_ble_eq_true rfl | omega | (dsimp only; omega))⟩ rfl hl.1 rfl ((by first | exact Nat.le_of_ble_eq_true rfl | omega | (dsimp only; omega))) dJ5_init_3_1 ⟨(by first | exact Nat.le_of_ble_eq_true rfl | omega | (dsimp only; omega)), (by first | exact Nat.le_of_ble_eq_true rfl | omega | (dsimp only; omega))⟩) (fun g H locs hg hp => ?_)
  obtain ⟨hnew9, hfr9⟩ := hp
  have hm1 : g m1 = some ((o1, k1, 0), oo 13 [va_rf (hm_tab D1), va_rf D1.es, .int (nI D1.L.length), .int D1.mc, .int (nI D1.th), .float 1061158912, va_rf D1.ks, va_rf D1.vs, va_rf (D1.L.head?), va_rf (D1.L.getLast?), .int 0, .int 0]) := (hfr9 _ (fun e9 => hne (by have h9 := hm1; rw [e9, hm] at h9; have h8 := congrArg Prod.fst (Option.some.inj h9); cases h8; exact ⟨rfl, rfl⟩))).trans hm1
  have hF : gh_f2 o1 k1 o k g0 g := hF.b (gh_fk.rf.set hm hfr9)
  have hD1 : lm_D V o1 k1 g m1 ck D1 := hD1.fk2 (hne) hk (gh_fk.rf.set hm hfr9)
  have hm : g m = some ((o, k, 0), oo 13 [.null, .null, .int 0, .int 0, .int 0, .float 1061158912, .null, .null, .null, .null, .int 0, .int 0]) := hnew9
  refine lv_aload_n hx hb dJ5_init_3_4 rfl (lv_at hl 0 rfl) ?_
  refine lv_iconst (v := 0) hx hb dJ5_init_3_5 (by decide) ?_
  refine gh_put (v := .int 0) hC hg hm fJ5_1_13 rfl rfl ((by first | exact Nat.le_of_ble_eq_true rfl | omega | (dsimp only; omega))) dJ5_init_3_6 (fun g H locs hg hw hn => ?_)
  have hm1 : g m1 = some ((o1, k1, 0), oo 13 [va_rf (hm_tab D1), va_rf D1.es, .int (nI D1.L.length), .int D1.mc, .int (nI D1.th), .float 1061158912, va_rf D1.ks, va_rf D1.vs, va_rf (D1.L.head?), va_rf (D1.L.getLast?), .int 0, .int 0]) := (hn _ (fun e9 => hne (by have h9 := hm1; rw [e9, hm] at h9; have h8 := congrArg Prod.fst (Option.some.inj h9); cases h8; exact ⟨rfl, rfl⟩))).trans hm1
  have hF : gh_f2 o1 k1 o k g0 g := hF.b (gh_fk.rf.set hm hn)
  have hD1 : lm_D V o1 k1 g m1 ck D1 := hD1.fk2 (hne) hk (gh_fk.rf.set hm hn)
  have hm : g m = some ((o, k, 0), oo 13 [.null, .null, .int 0, .int 0, .int 0, .float 1061158912, .null, .null, .null, .null, .int 0, .int 0]) := hw
  refine lv_aload_n hx hb dJ5_init_3_9 rfl (lv_at hl 0 rfl) ?_
  refine lv_iconst (v := 0) hx hb dJ5_init_3_10 (by decide) ?_
  refine gh_putF (v := .int 0) hC hg hnm hm fJ5_64_13 rfl rfl ((by first | exact Nat.le_of_ble_eq_true rfl | omega | (dsimp only; omega))) dJ5_init_3_11 (fun g H locs hg hw hn => ?_)
  have hm1 : g m1 = some ((o1, k1, 0), oo 13 [va_rf (hm_tab D1), va_rf D1.es, .int (nI D1.L.length), .int D1.mc, .int (nI D1.th), .float 1061158912, va_rf D1.ks, va_rf D1.vs, va_rf (D1.L.head?), va_rf (D1.L.getLast?), .int 0, .int 0]) := (hn _ (fun e9 => hne (by have h9 := hm1; rw [e9, hm] at h9; have h8 := congrArg Prod.fst (Option.some.inj h9); cases h8; exact ⟨rfl, rfl⟩))).trans hm1
  have hF : gh_f2 o1 k1 o k g0 g := hF.b (gh_fk.rf.set hm hn)
  have hD1 : lm_D V o1 k1 g m1 ck D1 := hD1.fk2 (hne) hk (gh_fk.rf.set hm hn)
  have hm : g m = some ((o, k, 0), oo 13 [.null, .null, .int 0, .int 0, .int 0, .float 1061158912, .null, .null, .null, .null, .int 0, .int 0]) := hw
  refine lv_aload_n hx hb dJ5_init_3_14 rfl (lv_at hl 0 rfl) ?_
  refine lv_aload_n hx hb dJ5_init_3_15 rfl (lv_at hl 1 rfl) ?_
  refine lv_iconst (v := 0) hx hb dJ5_init_3_16 (by decide) ?_
  refine gh_callv hg (gh_runU (x := ⟨"java/util/LinkedHashMap", "putMapEntries", "(Ljava/util/Map;Z)V"⟩) (C := "java/util/LinkedHashMap") (owner := "java/util/HashMap") (As := [.ref m1, .int 0]) (rest := []) hC hg (j_J4_putMapEntries l V _ hTR hCE o k m ck o1 k1 m1 0 D1 hD1 hne hk hk1 hck hvals h63 h16 hm) 2 (va_cwU 2 hts (lw_U q2868 q2869 q2872 q2871 q109 q2873) rfl rfl rfl rfl hdF_HashMap_putMapEntries_2 ⟨(by first | exact Nat.le_of_ble_eq_true rfl | omega | (dsimp only; omega)), (by first | exact Nat.le_of_ble_eq_true rfl | omega | (dsimp only; omega))⟩) (gh_recv (C := "java/util/LinkedHashMap") hC hg hm rfl) rfl hl.1 rfl ((by first | exact Nat.le_of_ble_eq_true rfl | omega | (dsimp only; omega))) dJ5_init_3_17 ⟨(by first | exact Nat.le_of_ble_eq_true rfl | omega | (dsimp only; omega)), (by first | exact Nat.le_of_ble_eq_true rfl | omega | (dsimp only; omega))⟩) (fun g H locs hg hp => ?_)
  obtain ⟨hP9, hS9, hF9⟩ := hp
  have hF := hF.tr hF9
  exact gh_retv hC hg hr hlk (⟨hP9, hS9, hF⟩) dJ5_init_3_20 ((by first | exact Nat.le_of_ble_eq_true rfl | omega | (dsimp only; omega))) ((by first | exact Nat.le_of_ble_eq_true rfl | omega | (dsimp only; omega)))
set_option maxHeartbeats 1000000 in
set_option maxRecDepth 100000 in
theorem j_J7_size (l : Launch) (V : gh_V) (g0 : gh_G) (o k s9 m : Nat) (D : HD) (hS : hs_D V o k g0 s9 m D) : MI l yJ7_size cJ7_size 1 (some .int) ({ frames := 1, cells := 0, slots := 0, locals := 20 } : Room) V [.ref s9] g0 (fun r g1 => r = nI (hm_M D).length ∧ g1 = g0) := by
  refine MG.of RJ7 (by decide) rfl (Nat.le_of_ble_eq_true rfl) (fun pp ee s mm args below meth c ls hC hg hr hlk hnm hl => ?_)
  have hx := hC.1.1
  have hb := hC.1.2.1
  have hml := hC.1.2.2.1
  have hown := hC.1.2.2.2.1
  have hts := hC.1.2.2.2.2
  have hl : lv_has ls 1 [(0, .ref s9)] := hl
  obtain ⟨g, hg, hgg⟩ : ∃ g, gh_W V (gh_A g0 s.heap.size) s g s.heap [] ∧ g = g0 := ⟨g0, hg, rfl⟩
  have hs := hS.1
  rw [← hgg] at hs
  have hD : lm_D V o k g m 9 D := by rw [hgg]; exact hS.2
  have hm := (hD).1.1.cm
  refine lv_aload_n hx hb dJ7_size_0 rfl (lv_at hl 0 rfl) ?_
  refine gh_get (v := .ref m) hC hg hs fJ7_10_16 rfl dJ7_size_1 ?_
  refine gh_calli hg (gh_runU (x := ⟨"java/util/HashMap", "size", "()I"⟩) (C := "java/util/LinkedHashMap") (owner := "java/util/HashMap") (As := []) (rest := []) hC hg (j_J4_size l V _ o k m 9 D hD) 0 (va_cwU 0 hts (lw_U q3154 q4388 q1308 q4389 q109 q1310) rfl rfl rfl rfl hdF_HashMap_size_0 ⟨Nat.le_of_ble_eq_true rfl, Nat.le_of_ble_eq_true rfl⟩) (gh_recv (C := "java/util/LinkedHashMap") hC hg hm rfl) rfl hl.1 rfl (Nat.le_of_ble_eq_true rfl) dJ7_size_4 ⟨Nat.le_of_ble_eq_true rfl, Nat.le_of_ble_eq_true rfl⟩) (fun r_1 g H locs hg hp => ?_)
  obtain ⟨hp, hq⟩ := hp
  replace hp : (nI (hm_M D).length) = r_1 := hp.symm
  subst hp
  rw [hq] at hg
  exact gh_reti hC hg hr hlk (⟨rfl, hgg⟩) dJ7_size_7 (Nat.le_of_ble_eq_true rfl) (Nat.le_of_ble_eq_true rfl)
set_option maxHeartbeats 1000000 in
set_option maxRecDepth 100000 in
theorem j_J7_contains (l : Launch) (V : gh_V) (g0 : gh_G) (hTR : tr_S l V) (o k s9 m : Nat) (D : HD) (hS : hs_D V o k g0 s9 m D) (x c9 : Nat) (hk9 : ky_P V g0 9 x c9) : MI l yJ7_contains cJ7_contains 2 (some .boolean) ({ frames := 11, cells := 0, slots := 0, locals := 370 } : Room) V [.ref s9, .ref x] g0 (fun r g1 => r = (if (hm_M D).any (fun e => e.1 == c9) then 1 else 0) ∧ g1 = g0) := by
  refine MG.of RJ7 (by decide) rfl (Nat.le_of_ble_eq_true rfl) (fun pp ee s mm args below meth c ls hC hg hr hlk hnm hl => ?_)
  have hx := hC.1.1
  have hb := hC.1.2.1
  have hml := hC.1.2.2.1
  have hown := hC.1.2.2.2.1
  have hts := hC.1.2.2.2.2
  have hl : lv_has ls 2 [(0, .ref s9), (1, .ref x)] := hl
  obtain ⟨g, hg, hgg⟩ : ∃ g, gh_W V (gh_A g0 s.heap.size) s g s.heap [] ∧ g = g0 := ⟨g0, hg, rfl⟩
  have hs := hS.1
  rw [← hgg] at hs
  have hD : lm_D V o k g m 9 D := by rw [hgg]; exact hS.2
  have hm := (hD).1.1.cm
  rw [← hgg] at hk9
  refine lv_aload_n hx hb dJ7_contains_0 rfl (lv_at hl 0 rfl) ?_
  refine gh_get (v := .ref m) hC hg hs fJ7_10_16 rfl dJ7_contains_1 ?_
  refine lv_aload_n hx hb dJ7_contains_4 rfl (lv_at hl 1 rfl) ?_
  refine gh_calli hg (gh_runU (x := ⟨"java/util/HashMap", "containsKey", "(Ljava/lang/Object;)Z"⟩) (C := "java/util/LinkedHashMap") (owner := "java/util/HashMap") (As := [.ref x]) (rest := []) hC hg (m_containsKey l V _ hTR o k m 9 D hD x c9 hk9) 1 (va_cwU 1 hts (lw_U q3669 q4399 q3351 q4400 q109 q3353) rfl rfl rfl rfl hdF_HashMap_containsKey_1 ⟨Nat.le_of_ble_eq_true rfl, Nat.le_of_ble_eq_true rfl⟩) (gh_recv (C := "java/util/LinkedHashMap") hC hg hm rfl) rfl hl.1 rfl (Nat.le_of_ble_eq_true rfl) dJ7_contains_5 ⟨Nat.le_of_ble_eq_true rfl, Nat.le_of_ble_eq_true rfl⟩) (fun r_1 g H locs hg hp => ?_)
  obtain ⟨hp, hq⟩ := hp
  replace hp : (if (hm_M D).any (fun e => e.1 == c9) then 1 else 0) = r_1 := hp.symm
  subst hp
  rw [hq] at hg
  exact gh_retz (by split <;> rfl) hC hg hr hlk (⟨rfl, hgg⟩) dJ7_contains_8 (Nat.le_of_ble_eq_true rfl) (Nat.le_of_ble_eq_true rfl)
set_option maxHeartbeats 1000000 in
set_option maxRecDepth 100000 in
theorem j_J7_add (l : Launch) (V : gh_V) (g0 : gh_G) (hTR : tr_S l V) (o k s9 m : Nat) (D : HD) (hS : hs_D V o k g0 s9 m D) (S : List (Nat × Nat)) (hMS : hm_M D = st_M V S) (x c9 : Nat) (hk9 : ky_P V g0 9 x c9) (h63 : (hm_M D).length < 63) : MI l yJ7_add cJ7_add 2 (some .boolean) ({ frames := 11, cells := 20, slots := 200, locals := 389 } : Room) V [.ref s9, .ref x] g0 (fun r g1 => hs_P V o k g1 s9 (st_add S c9 x) ∧ gh_fk o k g0 g1) := by
  refine MG.of RJ7 (by decide) rfl (Nat.le_of_ble_eq_true rfl) (fun pp ee s mm args below meth c ls hC hg hr hlk hnm hl => ?_)
  have hx := hC.1.1
  have hb := hC.1.2.1
  have hml := hC.1.2.2.1
  have hown := hC.1.2.2.2.1
  have hts := hC.1.2.2.2.2
  have hl : lv_has ls 2 [(0, .ref s9), (1, .ref x)] := hl
  obtain ⟨g, hg, hgg⟩ : ∃ g, gh_W V (gh_A g0 s.heap.size) s g s.heap [] ∧ g = g0 := ⟨g0, hg, rfl⟩
  have hs := hS.1
  rw [← hgg] at hs
  have hD : lm_D V o k g m 9 D := by rw [hgg]; exact hS.2
  have hm := (hD).1.1.cm
  rw [← hgg] at hk9
  have hk10 := hS.2.1.1.k10
  refine lv_aload_n hx hb dJ7_add_0 rfl (lv_at hl 0 rfl) ?_
  refine gh_get (v := .ref m) hC hg hs fJ7_10_16 rfl dJ7_add_1 ?_
  refine lv_aload_n hx hb dJ7_add_4 rfl (lv_at hl 1 rfl) ?_
  refine gh_getsR (C := "java/util/HashSet") (n := "PRESENT") (d := "Ljava/lang/Object;") (k := 1) hC hg (by decide +kernel) q2796 (fun _ _ _ _ h => h) dJ7_add_5 ?_
  refine gh_callq hg (gh_runU (x := ⟨"java/util/HashMap", "put", "(Ljava/lang/Object;Ljava/lang/Object;)Ljava/lang/Object;"⟩) (C := "java/util/LinkedHashMap") (owner := "java/util/HashMap") (As := [.ref x, .ref (V.2.2 1)]) (rest := []) hC hg (j_J4_put l V _ hTR o k m 9 x (V.2.2 1) c9 D hD hk9 (fun h9 => absurd h9 (by decide)) h63) 2 (va_cwU 2 hts (lw_U q2798 q4386 q1700 q4387 q109 q1702) rfl rfl rfl rfl hdF_HashMap_put_2 ⟨Nat.le_of_ble_eq_true rfl, Nat.le_of_ble_eq_true rfl⟩) (gh_recv (C := "java/util/LinkedHashMap") hC hg hm rfl) rfl hl.1 rfl (Nat.le_of_ble_eq_true rfl) dJ7_add_8 ⟨Nat.le_of_ble_eq_true rfl, Nat.le_of_ble_eq_true rfl⟩) (fun r_1 g H locs hg hp => ?_)
  obtain ⟨-, ⟨D3, hD3, hM3⟩, hF9⟩ := hp
  have hs9 := hF9 _ _ _ hs (fun e => by have h9 : 8 = k := e.2; omega)
  rw [hgg] at hF9
  refine lv_ifnonnullQ (tgt := 18) hx hb dJ7_add_11 (by decide) (fun y_3 hq_2 => ?_) (fun hq_2 => ?_)
  · skip
    refine lv_iconst (v := 0) hx hb dJ7_add_18 (by decide) ?_
    exact gh_retz rfl hC hg hr hlk (⟨⟨m, D3, ⟨hs9, hD3⟩, by rw [hM3, hMS, st_put]⟩, hF9⟩) dJ7_add_19 (Nat.le_of_ble_eq_true rfl) (Nat.le_of_ble_eq_true rfl)
  refine lv_iconst (v := 1) hx hb dJ7_add_14 (by decide) ?_
  refine lv_goto (tgt := 19) hx hb dJ7_add_15 (by decide) ?_
  exact gh_retz rfl hC hg hr hlk (⟨⟨m, D3, ⟨hs9, hD3⟩, by rw [hM3, hMS, st_put]⟩, hF9⟩) dJ7_add_19 (Nat.le_of_ble_eq_true rfl) (Nat.le_of_ble_eq_true rfl)
set_option maxHeartbeats 1000000 in
set_option maxRecDepth 100000 in
theorem j_J7_iterator (l : Launch) (V : gh_V) (g0 : gh_G) (o k s9 m : Nat) (D : HD) (hS : hs_D V o k g0 s9 m D) : MR l yJ7_iterator cJ7_iterator 1 (some (.object "java/util/Iterator")) ({ frames := 6, cells := 2, slots := 7, locals := 116 } : Room) V [.ref s9] g0 (fun r g1 => ∃ (it : Nat) (D2 : HD), r = some it ∧ hs_D V o k g1 s9 m D2 ∧ D2.2 = D.2 ∧ it_P o k g1 it m D2 19 0 ∧ gh_fk o k g0 g1) := by
  refine MG.of RJ7 (by decide) rfl (Nat.le_of_ble_eq_true rfl) (fun pp ee s mm args below meth c ls hC hg hr hlk hnm hl => ?_)
  have hx := hC.1.1
  have hb := hC.1.2.1
  have hml := hC.1.2.2.1
  have hown := hC.1.2.2.2.1
  have hts := hC.1.2.2.2.2
  have hl : lv_has ls 1 [(0, .ref s9)] := hl
  obtain ⟨g, hg, hgg⟩ : ∃ g, gh_W V (gh_A g0 s.heap.size) s g s.heap [] ∧ g = g0 := ⟨g0, hg, rfl⟩
  have hs := hS.1
  rw [← hgg] at hs
  have hD : lm_D V o k g m 9 D := by rw [hgg]; exact hS.2
  have hm := (hD).1.1.cm
  have hk10 := hS.2.1.1.k10
  refine lv_aload_n hx hb dJ7_iterator_0 rfl (lv_at hl 0 rfl) ?_
  refine gh_get (v := .ref m) hC hg hs fJ7_10_16 rfl dJ7_iterator_1 ?_
  refine gh_callq hg (gh_runU (x := ⟨"java/util/HashMap", "keySet", "()Ljava/util/Set;"⟩) (C := "java/util/LinkedHashMap") (owner := "java/util/HashMap") (As := []) (rest := []) hC hg (j_J5_keySet l V _ o k m 9 D hD) 0 (va_cwA 0 hts (lw_U q2506 q2508 q2395 q2509 q110 q2397) rfl rfl rfl (hC.2.2.1.1 _ (gh_nwm q2510 rfl)) hdF_HashMap_keySet_0 ⟨Nat.le_of_ble_eq_true rfl, Nat.le_of_ble_eq_true rfl⟩) (gh_recv (C := "java/util/LinkedHashMap") hC hg hm rfl) rfl hl.1 rfl (Nat.le_of_ble_eq_true rfl) dJ7_iterator_4 ⟨Nat.le_of_ble_eq_true rfl, Nat.le_of_ble_eq_true rfl⟩) (fun r_1 g H locs hg hp => ?_)
  obtain ⟨q9, D2, rfl, hD2, hM2, hq9, hF9⟩ := hp
  have hs := hF9 _ _ _ hs (fun e => by have h9 : 8 = k := e.2; omega)
  rw [hgg] at hF9
  refine W.eq (g2 := F0 mm 7 ls [.ref q9]) rfl ?_
  refine gh_callFq hg (gh_runF (x := ⟨"java/util/Set", "iterator", "()Ljava/util/Iterator;"⟩) (As := []) (rest := []) hC hg (j_J47_iterator l V _ o k m 9 q9 D2 hD2 hq9) 0 (lw_F q2512 q2485 q2483 q156 q2487) hq9 rfl (by decide +kernel) q2486 q2484 q2482 hdF_Set_iterator_0 ⟨Nat.le_of_ble_eq_true rfl, Nat.le_of_ble_eq_true rfl⟩ rfl hl.1 rfl (Nat.le_of_ble_eq_true rfl) dJ7_iterator_7 ⟨Nat.le_of_ble_eq_true rfl, Nat.le_of_ble_eq_true rfl⟩) (fun r_2 g H locs hg hp => ?_)
  obtain ⟨it, rfl, hit0, hit, hfr9⟩ := hp
  have hS2 : hs_D V o k g s9 m D2 := hs_D.ne9 hit hit0 ⟨hs, hD2⟩ hfr9
  have hF9 := hF9.tr (gh_fk.rf.new hit0 hfr9)
  refine W.eq (g2 := F0 mm 12 ls [.ref it]) rfl ?_
  exact gh_retq (r := some it) (Or.inl ⟨_, rfl⟩) hC hg hr hlk (⟨it, D2, rfl, hS2, hM2, hit, hF9⟩) dJ7_iterator_12 (Nat.le_of_ble_eq_true rfl) (Nat.le_of_ble_eq_true rfl)
set_option maxHeartbeats 1000000 in
set_option maxRecDepth 100000 in
theorem j_J0_addAll (l : Launch) (V : gh_V) (g0 : gh_G) (hTR : tr_S l V) (o k s9 o1 k1 s1 m1 : Nat) (D1 : HD) (S : List (Nat × Nat)) (hS : hs_D V o1 k1 g0 s1 m1 D1) (hMS : hm_M D1 = st_M V S) (hs0 : hs_P V o k g0 s9 []) (hne : ¬ (o1 = o ∧ k1 = k)) (h63 : S.length < 63) : MI l yJ0_addAll cJ0_addAll 5 (some .boolean) ({ frames := 12, cells := (2 + S.length * 20), slots := (7 + S.length * 200), locals := 410 } : Room) V [.ref s9, .ref s1] g0 (fun r g1 => hs_P V o k g1 s9 S ∧ hs_P V o1 k1 g1 s1 S ∧ gh_f2 o1 k1 o k g0 g1) := by
  refine MG.of RJ0 (by decide) rfl (Nat.le_of_ble_eq_true rfl) (fun pp ee s mm args below meth c ls hC hg hr hlk hnm hl => ?_)
  have hx := hC.1.1
  have hb := hC.1.2.1
  have hml := hC.1.2.2.1
  have hown := hC.1.2.2.2.1
  have hts := hC.1.2.2.2.2
  have hl : lv_has ls 5 [(0, .ref s9), (1, .ref s1)] := hl
  obtain ⟨g, hg, hgg⟩ : ∃ g, gh_W V (gh_A g0 s.heap.size) s g s.heap [] ∧ g = g0 := ⟨g0, hg, rfl⟩
  obtain ⟨m, D, hT, hM0⟩ := hs0
  rw [← hgg] at hT hS
  have hF : gh_f2 o1 k1 o k g0 g := by rw [hgg]; exact gh_f2.rf
  have hk1 := hS.2.1.1.k10
  have hk := hT.2.1.1.k10
  have hne2 : ¬ (o = o1 ∧ k = k1) := fun e => hne ⟨e.1.symm, e.2.symm⟩
  have hs1 := hS.1
  refine lv_iconst (v := 0) hx hb dJ0_addAll_0 (by decide) ?_
  refine lv_istore_n (lv' := [(2, .int 0), (0, .ref s9), (1, .ref s1)]) hx hb dJ0_addAll_1 rfl hl (by decide) rfl (fun ls hl => ?_)
  refine lv_aload_n hx hb dJ0_addAll_2 rfl (lv_at hl 2 rfl) ?_
  refine gh_callFq hg (gh_runF (x := ⟨"java/util/Collection", "iterator", "()Ljava/util/Iterator;"⟩) (As := []) (rest := []) hC hg (j_J7_iterator l V _ o1 k1 s1 m1 D1 hS) 0 (lw_F q3167 q2503 q3110 q112 q2505) hs1 rfl (by decide +kernel) q2504 q2502 q3109 hdF_Collection_iterator_0 ⟨(by first | exact Nat.le_of_ble_eq_true rfl | omega | (dsimp only; omega)), (by first | exact Nat.le_of_ble_eq_true rfl | omega | (dsimp only; omega))⟩ rfl hl.1 rfl ((by first | exact Nat.le_of_ble_eq_true rfl | omega | (dsimp only; omega))) dJ0_addAll_3 ⟨(by first | exact Nat.le_of_ble_eq_true rfl | omega | (dsimp only; omega)), (by first | exact Nat.le_of_ble_eq_true rfl | omega | (dsimp only; omega))⟩) (fun r_1 g H locs hg hp => ?_)
  obtain ⟨it, D2, rfl, hS2, hM2, hit, hF9⟩ := hp
  have hF := hF.a hF9
  have hT := hT.fk2 hne2 hk1 hF9
  have hMM : hm_M D2 = st_M V S := (hm_M_congr (congrArg (fun z => z.1) hM2)).trans hMS
  refine W.eq (g2 := F0 mm 8 ls [.ref it]) rfl ?_
  refine lv_astore_n (lv' := [(3, .ref it), (2, .int 0), (0, .ref s9), (1, .ref s1)]) hx hb dJ0_addAll_8 rfl hl (by decide) rfl (fun ls hl => ?_)
  have hLN : D2.L.length = S.length := by rw [← hm_M_len, hMM, st_M_len]
  refine gh_loopC (N := D2.L.length) 2 7 20 200 (X := fun i g ls => ∃ (mo : Int32), hs_P V o k g s9 (S.take i) ∧ hs_D V o1 k1 g s1 m1 D2 ∧ it_P o1 k1 g it m1 D2 19 i ∧ gh_f2 o1 k1 o k g0 g ∧ narrow FieldType.boolean (Value.int mo) = Value.int mo ∧ lv_has ls 5 [(0, .ref s9), (2, .int mo), (3, .ref it)]) ?_ ?_ (by first | exact (by first | exact Nat.le_of_ble_eq_true rfl | omega | (dsimp only; omega)) | omega | (dsimp only; omega)) (by first | exact (by first | exact Nat.le_of_ble_eq_true rfl | omega | (dsimp only; omega)) | omega | (dsimp only; omega)) hg ⟨0, (by rw [List.take_zero]; exact ⟨m, D, hT, hM0⟩), hS2, hit, hF, rfl, lv_sub hl [2, 1, 0] rfl⟩
  · intro g H locs ls hg hX
    obtain ⟨mo, hX0, hX1, hX2, hX3, hX4, hl⟩ := hX
    have hT9 := hX0
    have hS2 := hX1
    have hit := hX2
    have hF := hX3
    refine lv_aload_n hx hb dJ0_addAll_9 rfl (lv_at hl 2 rfl) ?_
    refine gh_callFi hg (gh_runF (x := ⟨"java/util/Iterator", "hasNext", "()Z"⟩) (As := []) (rest := []) hC hg (j_J43_hasNext_19 l V _ o1 k1 m1 it D2.L.length D2 hit) 0 (lw_F q3169 q2538 q2542 q152 q2540) hit.choose_spec rfl (by decide +kernel) q2539 q2543 q2541 hdF_Iterator_hasNext_0 ⟨(by first | exact Nat.le_of_ble_eq_true rfl | omega | (dsimp only; omega)), (by first | exact Nat.le_of_ble_eq_true rfl | omega | (dsimp only; omega))⟩ rfl hl.1 rfl ((by first | exact Nat.le_of_ble_eq_true rfl | omega | (dsimp only; omega))) dJ0_addAll_10 ⟨(by first | exact Nat.le_of_ble_eq_true rfl | omega | (dsimp only; omega)), (by first | exact Nat.le_of_ble_eq_true rfl | omega | (dsimp only; omega))⟩) (fun r_2 g H locs hg hp => ?_)
    obtain ⟨hp, hq⟩ := hp
    replace hp : (if D2.L.length < D2.L.length then 1 else 0) = r_2 := hp.symm
    subst hp
    rw [hq] at hg
    refine W.eq (g2 := F0 mm 15 ls [.int 0]) (by rw [if_neg (Nat.lt_irrefl _)] <;> rfl) ?_
    refine lv_if_eq (tgt := 40) hx hb dJ0_addAll_15 (by decide) (fun _ => ?_) (fun c_3 => (absurd rfl c_3))
    refine lv_iload_n hx hb dJ0_addAll_40 rfl (lv_at hl 1 rfl) ?_
    exact gh_retz hX4 hC hg hr hlk (⟨by rw [hLN, List.take_length] at hT9; exact hT9, ⟨m1, D2, hS2, hMM⟩, hF⟩) dJ0_addAll_41 ((by first | exact Nat.le_of_ble_eq_true rfl | omega | (dsimp only; omega))) ((by first | exact Nat.le_of_ble_eq_true rfl | omega | (dsimp only; omega)))
  · intro i hi ih9 g H locs ls hg hX
    obtain ⟨mo, hX0, hX1, hX2, hX3, hX4, hl⟩ := hX
    have hT9 := hX0
    have hS2 := hX1
    have hit := hX2
    have hF := hX3
    refine lv_aload_n hx hb dJ0_addAll_9 rfl (lv_at hl 2 rfl) ?_
    refine gh_callFi hg (gh_runF (x := ⟨"java/util/Iterator", "hasNext", "()Z"⟩) (As := []) (rest := []) hC hg (j_J43_hasNext_19 l V _ o1 k1 m1 it i D2 hit) 0 (lw_F q3169 q2538 q2542 q152 q2540) hit.choose_spec rfl (by decide +kernel) q2539 q2543 q2541 hdF_Iterator_hasNext_0 ⟨(by first | exact Nat.le_of_ble_eq_true rfl | omega | (dsimp only; omega)), (by first | exact Nat.le_of_ble_eq_true rfl | omega | (dsimp only; omega))⟩ rfl hl.1 rfl ((by first | exact Nat.le_of_ble_eq_true rfl | omega | (dsimp only; omega))) dJ0_addAll_10 ⟨(by first | exact Nat.le_of_ble_eq_true rfl | omega | (dsimp only; omega)), (by first | exact Nat.le_of_ble_eq_true rfl | omega | (dsimp only; omega))⟩) (fun r_4 g H locs hg hp => ?_)
    obtain ⟨hp, hq⟩ := hp
    replace hp : (if i < D2.L.length then 1 else 0) = r_4 := hp.symm
    subst hp
    rw [hq] at hg
    refine W.eq (g2 := F0 mm 15 ls [.int 1]) (by rw [if_pos hi] <;> rfl) ?_
    refine lv_if_eq (tgt := 40) hx hb dJ0_addAll_15 (by decide) (fun c_5 => (absurd c_5 (by decide))) (fun _ => ?_)
    refine lv_aload_n hx hb dJ0_addAll_18 rfl (lv_at hl 2 rfl) ?_
    refine gh_callFq hg (gh_runF (x := ⟨"java/util/Iterator", "next", "()Ljava/lang/Object;"⟩) (As := []) (rest := []) hC hg (j_J45_next l V _ o1 k1 m1 9 it i D2 hS2.2 hit hi) 0 (lw_F q3171 q2599 q2597 q154 q2601) hit.choose_spec rfl (by decide +kernel) q2600 q2598 q2541 hdF_Iterator_next_0 ⟨(by first | exact Nat.le_of_ble_eq_true rfl | omega | (dsimp only; omega)), (by first | exact Nat.le_of_ble_eq_true rfl | omega | (dsimp only; omega))⟩ rfl hl.1 rfl ((by first | exact Nat.le_of_ble_eq_true rfl | omega | (dsimp only; omega))) dJ0_addAll_19 ⟨(by first | exact Nat.le_of_ble_eq_true rfl | omega | (dsimp only; omega)), (by first | exact Nat.le_of_ble_eq_true rfl | omega | (dsimp only; omega))⟩) (fun r_6 g H locs hg hp => ?_)
    obtain ⟨hr, hit, hfr9⟩ := hp
    have hF9 : gh_fk o1 k1 _ g := hX2.fk hfr9
    have hF := hF.a hF9
    obtain ⟨m, D, hT, hM0⟩ := hT9
    have hT := hT.fk2 hne2 hk1 hF9
    have hS2 : hs_D V o1 k1 g s1 m1 D2 := hX2.hs hX1 hfr9
    have haL : D2.L[i] ∈ D2.L := List.getElem_mem hi
    have hky := hS2.2.1.1.ky _ haL
    have hst := hT.1
    subst hr
    refine W.eq (g2 := F0 mm 24 ls [.ref (D2.K D2.L[i])]) rfl ?_
    refine lv_astore (lv' := [(4, .ref (D2.K D2.L[i])), (0, .ref s9), (2, .int mo), (3, .ref it)]) hx hb dJ0_addAll_24 hl (by decide) rfl (fun ls hl => ?_)
    refine lv_aload_n hx hb dJ0_addAll_26 rfl (lv_at hl 1 rfl) ?_
    refine lv_aload hx hb dJ0_addAll_27 (lv_at hl 0 rfl) ?_
    refine gh_calli hg (gh_runU (x := ⟨"java/util/AbstractCollection", "add", "(Ljava/lang/Object;)Z"⟩) (C := "java/util/LinkedHashSet") (owner := "java/util/AbstractCollection") (As := [.ref (D2.K D2.L[i])]) (rest := []) hC hg (j_J7_add l V _ hTR o k s9 m D hT (S.take i) hM0 (D2.K D2.L[i]) (D2.C D2.L[i]) hky (by rw [hM0, st_M_len, List.length_take]; omega)) 1 (va_cwO 1 hts (lw_O q3172 q4390 q2784 q2793 q4397 q112 q2795) rfl rfl rfl q2786 hdF_AbstractCollection_add_1 ⟨(by first | exact Nat.le_of_ble_eq_true rfl | omega | (dsimp only; omega)), (by first | exact Nat.le_of_ble_eq_true rfl | omega | (dsimp only; omega))⟩) (gh_recv (C := "java/util/LinkedHashSet") hC hg hst rfl) rfl hl.1 rfl ((by first | exact Nat.le_of_ble_eq_true rfl | omega | (dsimp only; omega))) dJ0_addAll_29 ⟨(by first | exact Nat.le_of_ble_eq_true rfl | omega | (dsimp only; omega)), (by first | exact Nat.le_of_ble_eq_true rfl | omega | (dsimp only; omega))⟩) (fun r_7 g H locs hg hp => ?_)
    obtain ⟨hT9, hF9⟩ := hp
    have hF := hF.b hF9
    have hS2 := hS2.fk2 hne hk hF9
    have hit := hit.fk2 hne hF9
    rw [st_step hMM hS2.2.1.1.nd hS2.2.1.1.inj hi] at hT9
    refine lv_if_eq (tgt := 37) hx hb dJ0_addAll_32 (by decide) (fun c_8 => ?_) (fun c_8 => ?_)
    · skip
      refine lv_goto (tgt := 9) hx hb dJ0_addAll_37 (by decide) ?_
      exact W.widen (by first | exact (by first | exact Nat.le_of_ble_eq_true rfl | omega | (dsimp only; omega)) | omega | (dsimp only; omega)) (by first | exact (by first | exact Nat.le_of_ble_eq_true rfl | omega | (dsimp only; omega)) | omega | (dsimp only; omega)) (ih9 _ _ _ _ hg ⟨mo, hT9, hS2, hit, hF, hX4, lv_sub hl [1, 2, 3] rfl⟩)
    refine lv_iconst (v := 1) hx hb dJ0_addAll_35 (by decide) ?_
    refine lv_istore_n (lv' := [(2, .int 1), (4, .ref (D2.K D2.L[i])), (0, .ref s9), (3, .ref it)]) hx hb dJ0_addAll_36 rfl hl (by decide) rfl (fun ls hl => ?_)
    refine lv_goto (tgt := 9) hx hb dJ0_addAll_37 (by decide) ?_
    exact W.widen (by first | exact (by first | exact Nat.le_of_ble_eq_true rfl | omega | (dsimp only; omega)) | omega | (dsimp only; omega)) (by first | exact (by first | exact Nat.le_of_ble_eq_true rfl | omega | (dsimp only; omega)) | omega | (dsimp only; omega)) (ih9 _ _ _ _ hg ⟨1, hT9, hS2, hit, hF, rfl, lv_sub hl [2, 0, 3] rfl⟩)
set_option maxHeartbeats 1000000 in
set_option maxRecDepth 100000 in
theorem j_J8_init_2 (l : Launch) (V : gh_V) (g0 : gh_G) (hTR : tr_S l V) (hCE : ce_S l) (o k s9 o1 k1 s1 m1 : Nat) (D1 : HD) (S : List (Nat × Nat)) (hS : hs_D V o1 k1 g0 s1 m1 D1) (hMS : hm_M D1 = st_M V S) (hs : g0 s9 = some ((o, 8, k), oo 16 [.null])) (hne : ¬ (o1 = o ∧ k1 = k)) (hk : 10 ≤ k) (h63 : S.length < 63) : MV l yJ8_init_2 cJ8_init_2 2 ({ frames := 13, cells := (3 + S.length * 20), slots := (19 + S.length * 200), locals := 1320 } : Room) V [.ref s9, .ref s1] g0 (fun g1 => hs_P V o k g1 s9 S ∧ hs_P V o1 k1 g1 s1 S ∧ (∀ a t x, g0 a = some (t, x) → a ≠ s9 → ¬ (t.1 = o1 ∧ t.2.1 = k1) → ¬ (t.1 = o ∧ t.2.1 = k) → g1 a = some (t, x))) := by
  refine MG.of RJ8 (by decide) rfl (Nat.le_of_ble_eq_true rfl) (fun pp ee s mm args below meth c ls hC hg hr hlk hnm hl => ?_)
  have hx := hC.1.1
  have hb := hC.1.2.1
  have hml := hC.1.2.2.1
  have hown := hC.1.2.2.2.1
  have hts := hC.1.2.2.2.2
  have hl : lv_has ls 2 [(0, .ref s9), (1, .ref s1)] := hl
  obtain ⟨g, hg, hgg⟩ : ∃ g, gh_W V (gh_A g0 s.heap.size) s g s.heap [] ∧ g = g0 := ⟨g0, hg, rfl⟩
  rw [← hgg] at hs hS
  have hk1 := hS.2.1.1.k10
  have hs1 := hS.1
  have h91 : s1 ≠ s9 := fun e => by rw [e, hs] at hs1; have h9 := congrArg Prod.snd (Option.some.inj hs1); exact absurd h9 (by simp)
  have hLS : (hm_M D1).length = S.length := by rw [hMS, st_M_len]
  have hs0 := hs
  refine lv_aload_n hx hb dJ8_init_2_0 rfl (lv_at hl 0 rfl) ?_
  refine lv_aload_n hx hb dJ8_init_2_1 rfl (lv_at hl 1 rfl) ?_
  refine gh_callFi hg (gh_runF (x := ⟨"java/util/Collection", "size", "()I"⟩) (As := []) (rest := [.ref s9]) hC hg (j_J7_size l V _ o1 k1 s1 m1 D1 hS) 0 (lw_F q3122 q3151 q3149 q112 q3153) hs1 rfl (by decide +kernel) q3152 q3150 q3109 hdF_Collection_size_0 ⟨(by first | exact Nat.le_of_ble_eq_true rfl | omega | (dsimp only; omega)), (by first | exact Nat.le_of_ble_eq_true rfl | omega | (dsimp only; omega))⟩ rfl hl.1 rfl ((by first | exact Nat.le_of_ble_eq_true rfl | omega | (dsimp only; omega))) dJ8_init_2_2 ⟨(by first | exact Nat.le_of_ble_eq_true rfl | omega | (dsimp only; omega)), (by first | exact Nat.le_of_ble_eq_true rfl | omega | (dsimp only; omega))⟩) (fun r_1 g H locs hg hp => ?_)
  obtain ⟨hp, hq⟩ := hp
  replace hp : (nI (hm_M D1).length) = r_1 := hp.symm
  subst hp
  rw [hq] at hg
  refine W.eq (g2 := F0 mm 7 ls [.int (nI S.length), .ref s9]) (by rw [(congrArg nI hLS : _ = nI S.length)] <;> rfl) ?_
  refine lv_bipush (v := 12) hx hb dJ8_init_2_7 (by decide) ?_
  refine va_mmax hx hb (hml.trans hl.1.symm) hown (hts _ q3155) (hts _ q415) (hts _ q123) (hts _ q416) ((by first | exact Nat.le_of_ble_eq_true rfl | omega | (dsimp only; omega))) ((by first | exact Nat.le_of_ble_eq_true rfl | omega | (dsimp only; omega))) ((by first | exact Nat.le_of_ble_eq_true rfl | omega | (dsimp only; omega))) ((by first | exact Nat.le_of_ble_eq_true rfl | omega | (dsimp only; omega))) dJ8_init_2_9 ?_
  refine W.eq (g2 := F0 mm 12 ls [.int (nI (max S.length 12)), .ref s9]) (by rw [nx_max rfl (show ((12 : Int32)) = nI 12 from rfl) (by omega) (by omega)] <;> rfl) ?_
  refine gh_calli hg (gh_runS (As := [.int (nI (max S.length 12))]) (rest := [.ref s9]) hC hg (j_J4_calculateHashMapCapacity l V _ hCE (max S.length 12) (by omega) (by omega)) 1 (lw_S q3156 q3157 q109 q3158) hd_J4_calculateHashMapCapacity.2 ⟨(by first | exact Nat.le_of_ble_eq_true rfl | omega | (dsimp only; omega)), (by first | exact Nat.le_of_ble_eq_true rfl | omega | (dsimp only; omega))⟩ rfl hl.1 rfl ((by first | exact Nat.le_of_ble_eq_true rfl | omega | (dsimp only; omega))) dJ8_init_2_12 ⟨(by first | exact Nat.le_of_ble_eq_true rfl | omega | (dsimp only; omega)), (by first | exact Nat.le_of_ble_eq_true rfl | omega | (dsimp only; omega))⟩) (fun r_2 g H locs hg hp => ?_)
  obtain ⟨hp, hq⟩ := hp
  replace hp : (nI ((4 * (max S.length 12) + 2) / 3)) = r_2 := hp.symm
  subst hp
  rw [hq] at hg
  refine lv_ldcf (v := 1061158912) hx hb hown (hts _ q297) dJ8_init_2_15 ?_
  refine lv_iconst (v := 1) hx hb dJ8_init_2_17 (by decide) ?_
  refine gh_callv hg (gh_runI (As := [.int (nI ((4 * (max S.length 12) + 2) / 3)), .float 1061158912, .int 1]) (rest := []) hC hg (j_J7_init l V _ s9 o k (by omega) ((4 * (max S.length 12) + 2) / 3) (by omega) (by omega) hs) 3 (lw_meth q300) q112 q298 q299 rfl hd_J7_init.2 ⟨(by first | exact Nat.le_of_ble_eq_true rfl | omega | (dsimp only; omega)), (by first | exact Nat.le_of_ble_eq_true rfl | omega | (dsimp only; omega))⟩ rfl hl.1 rfl ((by first | exact Nat.le_of_ble_eq_true rfl | omega | (dsimp only; omega))) dJ8_init_2_18 ⟨(by first | exact Nat.le_of_ble_eq_true rfl | omega | (dsimp only; omega)), (by first | exact Nat.le_of_ble_eq_true rfl | omega | (dsimp only; omega))⟩) (fun g H locs hg hp => ?_)
  obtain ⟨m, hs, hm, hF9⟩ := hp
  rw [hgg] at hF9
  have hT := hs_new (V := V) hs hm hk (Or.inr (tsf_pw _ (by omega) (by omega)))
  have hkp : ∀ a t x, g0 a = some (t, x) → (t.1 = o1 ∧ t.2.1 = k1) ∨ t.2.1 = 1 ∧ t.1 = V.2.2 9 → g a = some (t, x) := fun a t x ha hc => hF9 a t x ha (fun e => by rw [e, ← hgg, hs0] at ha; cases ha; rcases hc with ⟨-, h9⟩ | ⟨h9, -⟩; have h9 : 8 = k1 := h9; omega; have h9 : (8 : Nat) = 1 := h9; omega) (fun e => by rcases hc with h9 | h9; exact hne ⟨h9.1.symm.trans e.1, h9.2.symm.trans e.2⟩; omega)
  have hS : hs_D V o1 k1 g s1 m1 D1 := by rw [hgg] at hS; exact hS.keep ((hF9 _ _ _ hS.1 h91 (fun e => by have h9 : 8 = k := e.2; omega)).trans hS.1.symm) hkp
  have hs9 := hs
  have hs1 := hS.1
  refine lv_aload_n hx hb dJ8_init_2_21 rfl (lv_at hl 0 rfl) ?_
  refine lv_aload_n hx hb dJ8_init_2_22 rfl (lv_at hl 1 rfl) ?_
  refine gh_calli hg (gh_runU (x := ⟨"java/util/LinkedHashSet", "addAll", "(Ljava/util/Collection;)Z"⟩) (C := "java/util/LinkedHashSet") (owner := "java/util/AbstractCollection") (As := [.ref s1]) (rest := []) hC hg (j_J0_addAll l V _ hTR o k s9 o1 k1 s1 m1 D1 S hS hMS hT hne h63) 1 (va_cwU 1 hts (lw_U q3160 q3161 q3164 q3163 q105 q3165) rfl rfl rfl rfl hdF_AbstractCollection_addAll_1 ⟨(by first | exact Nat.le_of_ble_eq_true rfl | omega | (dsimp only; omega)), (by first | exact Nat.le_of_ble_eq_true rfl | omega | (dsimp only; omega))⟩) (gh_recv (C := "java/util/LinkedHashSet") hC hg hs9 rfl) rfl hl.1 rfl ((by first | exact Nat.le_of_ble_eq_true rfl | omega | (dsimp only; omega))) dJ8_init_2_23 ⟨(by first | exact Nat.le_of_ble_eq_true rfl | omega | (dsimp only; omega)), (by first | exact Nat.le_of_ble_eq_true rfl | omega | (dsimp only; omega))⟩) (fun r_3 g H locs hg hp => ?_)
  obtain ⟨hA, hB, hF8⟩ := hp
  refine lv_pop hx hb dJ8_init_2_26 rfl ?_
  exact gh_retv hC hg hr hlk (⟨hA, hB, fun a t x ha n1 n2 n3 => hF8 a t x (hF9 a t x ha n1 n3) n2 n3⟩) dJ8_init_2_27 ((by first | exact Nat.le_of_ble_eq_true rfl | omega | (dsimp only; omega))) ((by first | exact Nat.le_of_ble_eq_true rfl | omega | (dsimp only; omega)))
