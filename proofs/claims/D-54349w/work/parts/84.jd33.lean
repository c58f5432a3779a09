/-! looks -/
def fo_N (s : Nat → Int32) (k n i : Nat) : Prop := ∀ j, j < i → lt s k (5 + n) ≠ nI (j + 1)
theorem fo_i {V : gh_V} {s : Nat → Int32} {k n i : Nat} {D : HD} {SS : List (Nat × Nat)} (hM : hm_M D = st_M V SS) (h : st_any SS (20 * k + n) = true ↔ k < nL s ∧ lt s k (5 + n) = nI (i + 1)) (hk : k < nL s) : ((if (hm_M D).any (fun e => e.1 == 20 * k + n) then (1 : Int32) else 0) = 0 → lt s k (5 + n) ≠ nI (i + 1)) ∧ (¬ (if (hm_M D).any (fun e => e.1 == 20 * k + n) then (1 : Int32) else 0) = 0 → lt s k (5 + n) = nI (i + 1)) := by
  rw [hM, st_any_M]
  by_cases c : st_any SS (20 * k + n) = true
  · rw [if_pos c]
    exact ⟨fun e => absurd e (by decide), fun _ => (h.mp c).2⟩
  · rw [if_neg c]
    exact ⟨fun _ e => c (h.mpr ⟨hk, e⟩), fun e => absurd rfl e⟩
theorem fo_s {s : Nat → Int32} {k n i : Nat} (h : fo_N s k n i) (h1 : lt s k (5 + n) ≠ nI (i + 1)) : fo_N s k n (i + 1) := fun j hj => by
  by_cases e : j = i
  · rw [e]; exact h1
  · exact h j (by omega)
theorem fo_4 {s : Nat → Int32} {k n : Nat} (h : fo_N s k n 4) (hf : ∃ f, f < 5 ∧ lt s k (5 + n) = nI f) : (0 : Int32) = lt s k (5 + n) := by
  obtain ⟨f, hf, e⟩ := hf
  by_cases c : f = 0
  · rw [e, c]; rfl
  · exact absurd e (by have := h (f - 1) (by omega); rwa [show f - 1 + 1 = f by omega] at this)
set_option maxRecDepth 100000
theorem hdF_Set_contains_1 : (⟨"java/util/Set", "contains", "(Ljava/lang/Object;)Z"⟩ : MethodName).cls ≠ "java/lang/invoke/MethodHandle" ∧ (⟨"java/util/Set", "contains", "(Ljava/lang/Object;)Z"⟩ : MethodName).cls ≠ "java/lang/invoke/VarHandle" ∧ (parseMethodDescriptor (⟨"java/util/Set", "contains", "(Ljava/lang/Object;)Z"⟩ : MethodName).desc).map (fun d => d.parameters.length) = some 1 := by decide +kernel
set_option maxHeartbeats 1000000 in
set_option maxRecDepth 100000 in
theorem j_X2_broken (l : Launch) (V : gh_V) (g0 : gh_G) (S : Nat) (ad : Nat → Nat) (I : Nat → Int32) (A : Nat → Nat → Int32) (P : Nat → Option Nat) (hT0 : st_C V g0 S ad I A P) (s : Nat → Int32) (hL0 : lo_P V g0 S (ad 9) s) (h12 : nL s ≤ 12) : MI l yX2_broken cX2_broken 3 (some .int) ({ frames := 3, cells := 0, slots := 0, locals := 64 } : Room) V [.ref S] g0 (fun r g1 => r = sm (fun k => fated s k 4) (nL s) ∧ g1 = g0) := by
  refine MG.of RX2 (by decide) rfl (Nat.le_of_ble_eq_true rfl) (fun pp ee s9 mm args below meth c ls hC hg hr hlk hnm hl => ?_)
  have hx := hC.1.1
  have hb := hC.1.2.1
  have hml := hC.1.2.2.1
  have hown := hC.1.2.2.2.1
  have hts := hC.1.2.2.2.2
  have hl : lv_has ls 3 [(0, .ref S)] := hl
  obtain ⟨g, hg, hgg⟩ : ∃ g, gh_W V (gh_A g0 s9.heap.size) s9 g s9.heap [] ∧ g = g0 := ⟨g0, hg, rfl⟩
  have hT := hT0
  rw [← hgg] at hT
  have hL := hL0
  rw [← hgg] at hL
  obtain ⟨es, la, lw, fa, hAL, hLo⟩ := hL
  obtain ⟨vs_hlc, hlc⟩ := hAL.c
  refine lv_iconst (v := 0) hx hb dX2_broken_0 (by decide) ?_
  refine lv_istore_n (lv' := [(1, .int 0), (0, .ref S)]) hx hb dX2_broken_1 rfl hl (by decide) rfl (fun ls hl => ?_)
  refine lv_iconst (v := 0) hx hb dX2_broken_2 (by decide) ?_
  refine lv_istore_n (lv' := [(2, .int 0), (1, .int 0), (0, .ref S)]) hx hb dX2_broken_3 rfl hl (by decide) rfl (fun ls hl => ?_)
  refine gh_loop (N := (nL s)) (X := fun i_1 g ls => (st_C V g S ad I A P) ∧ (al_P V S 12 g (ad 9) (nL s) es) ∧ (∀ k, k < nL s → lo1 V g S s k (es k) (la k) (lw k) (fa k)) ∧ (g (ad 9) = some ((S, 12, 0), oo 12 vs_hlc)) ∧ (g = g0) ∧ lv_has ls 3 [(0, .ref S), (1, .int (sm (fun k => fated s k 4) i_1)), (2, .int (nI i_1))]) ?_ ?_ 0 (by omega) hg ⟨hT, hAL, hLo, hlc, hgg, lv_sub hl [2, 1, 0] rfl⟩
  · intro g H locs ls hg hX
    obtain ⟨hT, hAL, hLo, hlc, hgg, hl⟩ := hX
    refine lv_iload_n hx hb dX2_broken_4 rfl (lv_at hl 2 rfl) ?_
    refine lv_aload_n hx hb dX2_broken_5 rfl (lv_at hl 0 rfl) ?_
    refine gh_get (v := .ref (ad 9)) hC hg hT.1 fX2_24_2 rfl dX2_broken_6 ?_
    refine gh_callFi hg (gh_runF (x := ⟨"java/util/List", "size", "()I"⟩) (As := []) (rest := [.int (nI (nL s))]) hC hg (j_J2_size l V _ (ad 9) S 12 (nL s) es hAL) 0 (lw_F q1359 q1321 q1319 q107 q1323) hlc rfl (by decide +kernel) q1322 q1320 q1148 hdF_List_size_0 ⟨Nat.le_of_ble_eq_true rfl, Nat.le_of_ble_eq_true rfl⟩ rfl hl.1 rfl (Nat.le_of_ble_eq_true rfl) dX2_broken_9 ⟨Nat.le_of_ble_eq_true rfl, Nat.le_of_ble_eq_true rfl⟩) (fun r_2 g H locs hg hp => ?_)
    obtain ⟨hp, hq⟩ := hp
    replace hp : (nI (nL s)) = r_2 := hp.symm
    subst hp
    rw [← hq] at hT hAL hLo hlc
    try rw [← hq] at hgg
    refine lv_icmp_ge (tgt := 44) hx hb dX2_broken_14 (by decide) (fun _ => ?_) (fun c_3 => (absurd ((nx_le rfl rfl (by omega) (by omega)).mpr (by omega)) c_3))
    refine lv_iload_n hx hb dX2_broken_44 rfl (lv_at hl 1 rfl) ?_
    exact gh_reti hC hg hr hlk (⟨rfl, hgg⟩) dX2_broken_45 (Nat.le_of_ble_eq_true rfl) (Nat.le_of_ble_eq_true rfl)
  · intro i_1 hi4 ih4 g H locs ls hg hX
    obtain ⟨hT, hAL, hLo, hlc, hgg, hl⟩ := hX
    refine lv_iload_n hx hb dX2_broken_4 rfl (lv_at hl 2 rfl) ?_
    refine lv_aload_n hx hb dX2_broken_5 rfl (lv_at hl 0 rfl) ?_
    refine gh_get (v := .ref (ad 9)) hC hg hT.1 fX2_24_2 rfl dX2_broken_6 ?_
    refine gh_callFi hg (gh_runF (x := ⟨"java/util/List", "size", "()I"⟩) (As := []) (rest := [.int (nI i_1)]) hC hg (j_J2_size l V _ (ad 9) S 12 (nL s) es hAL) 0 (lw_F q1359 q1321 q1319 q107 q1323) hlc rfl (by decide +kernel) q1322 q1320 q1148 hdF_List_size_0 ⟨Nat.le_of_ble_eq_true rfl, Nat.le_of_ble_eq_true rfl⟩ rfl hl.1 rfl (Nat.le_of_ble_eq_true rfl) dX2_broken_9 ⟨Nat.le_of_ble_eq_true rfl, Nat.le_of_ble_eq_true rfl⟩) (fun r_4 g H locs hg hp => ?_)
    obtain ⟨hp, hq⟩ := hp
    replace hp : (nI (nL s)) = r_4 := hp.symm
    subst hp
    rw [← hq] at hT hAL hLo hlc
    try rw [← hq] at hgg
    refine lv_icmp_ge (tgt := 44) hx hb dX2_broken_14 (by decide) (fun c_5 => (absurd ((nx_le rfl rfl (by omega) (by omega)).mp c_5) (by omega))) (fun _ => ?_)
    refine lv_iload_n hx hb dX2_broken_17 rfl (lv_at hl 1 rfl) ?_
    refine lv_aload_n hx hb dX2_broken_18 rfl (lv_at hl 0 rfl) ?_
    refine gh_get (v := .ref (ad 9)) hC hg hT.1 fX2_24_2 rfl dX2_broken_19 ?_
    refine lv_iload_n hx hb dX2_broken_22 rfl (lv_at hl 2 rfl) ?_
    refine gh_callFq hg (gh_runF (x := ⟨"java/util/List", "get", "(I)Ljava/lang/Object;"⟩) (As := [.int (nI i_1)]) (rest := [.int (sm (fun k => fated s k 4) i_1)]) hC hg (j_J2_get l V _ (ad 9) S 12 (nL s) es hAL (nI i_1) i_1 rfl (by omega)) 1 (lw_F q1361 q1338 q1336 q107 q1340) hlc rfl (by decide +kernel) q1339 q1337 q1148 hdF_List_get_1 ⟨Nat.le_of_ble_eq_true rfl, Nat.le_of_ble_eq_true rfl⟩ rfl hl.1 rfl (Nat.le_of_ble_eq_true rfl) dX2_broken_23 ⟨Nat.le_of_ble_eq_true rfl, Nat.le_of_ble_eq_true rfl⟩) (fun r_6 g H locs hg hp => ?_)
    obtain ⟨hp, hq⟩ := hp
    subst hp
    rw [← hq] at hT hAL hLo hlc
    try rw [← hq] at hgg
    refine W.eq (g2 := F0 mm 28 ls [.ref (es i_1), .int (sm (fun k => fated s k 4) i_1)]) rfl ?_
    obtain ⟨hlq, hla, hlw, hlf⟩ := hLo i_1 hi4
    refine gh_castS hC hg hlq rfl q1362 dX2_broken_28 ?_
    refine gh_getr (v := .ref (la i_1)) hC hg hlq rfX2_335_3 rfl dX2_broken_31 ?_
    refine lv_iconst (v := 4) hx hb dX2_broken_34 (by decide) ?_
    refine gh_iald (n := 5) (f := (fa i_1)) hC hg hla (show ((4 : Int32)) = nI 4 from rfl) (by omega) (by omega) dX2_broken_35 ?_
    refine W.eq (g2 := F0 mm 36 ls [.int (fated s i_1 4), .int (sm (fun k => fated s k 4) i_1)]) (by rw [(hlf 4 (by omega) (by omega))] <;> rfl) ?_
    refine lv_iadd hx hb dX2_broken_36 ?_
    refine lv_istore_n (lv' := [(1, .int ((sm (fun k => fated s k 4) i_1) + (fated s i_1 4))), (0, .ref S), (2, .int (nI i_1))]) hx hb dX2_broken_37 rfl hl (by decide) rfl (fun ls hl => ?_)
    refine lv_iinc (v := (nI (i_1 + 1))) (lv' := [(2, .int (nI (i_1 + 1))), (1, .int ((sm (fun k => fated s k 4) i_1) + (fated s i_1 4))), (0, .ref S)]) hx hb dX2_broken_38 hl (k := 2) rfl (nx_iinc rfl) (by decide) rfl (fun ls hl => ?_)
    refine lv_goto (tgt := 4) hx hb dX2_broken_41 (by decide) ?_
    exact ih4 _ _ _ _ hg ⟨hT, hAL, hLo, hlc, hgg, lv_sub hl [2, 1, 0] rfl⟩
set_option maxHeartbeats 1000000 in
set_option maxRecDepth 100000 in
theorem j_X2_income (l : Launch) (V : gh_V) (g0 : gh_G) (S : Nat) (ad : Nat → Nat) (I : Nat → Int32) (A : Nat → Nat → Int32) (P : Nat → Option Nat) (hT0 : st_C V g0 S ad I A P) (s : Nat → Int32) (hL0 : lo_P V g0 S (ad 9) s) (h12 : nL s ≤ 12) : MI l yX2_income cX2_income 3 (some .int) ({ frames := 3, cells := 0, slots := 0, locals := 64 } : Room) V [.ref S] g0 (fun r g1 => r = sm (fun k => lt s k 4) (nL s) ∧ g1 = g0) := by
  refine MG.of RX2 (by decide) rfl (Nat.le_of_ble_eq_true rfl) (fun pp ee s9 mm args below meth c ls hC hg hr hlk hnm hl => ?_)
  have hx := hC.1.1
  have hb := hC.1.2.1
  have hml := hC.1.2.2.1
  have hown := hC.1.2.2.2.1
  have hts := hC.1.2.2.2.2
  have hl : lv_has ls 3 [(0, .ref S)] := hl
  obtain ⟨g, hg, hgg⟩ : ∃ g, gh_W V (gh_A g0 s9.heap.size) s9 g s9.heap [] ∧ g = g0 := ⟨g0, hg, rfl⟩
  have hT := hT0
  rw [← hgg] at hT
  have hL := hL0
  rw [← hgg] at hL
  obtain ⟨es, la, lw, fa, hAL, hLo⟩ := hL
  obtain ⟨vs_hlc, hlc⟩ := hAL.c
  refine lv_iconst (v := 0) hx hb dX2_income_0 (by decide) ?_
  refine lv_istore_n (lv' := [(1, .int 0), (0, .ref S)]) hx hb dX2_income_1 rfl hl (by decide) rfl (fun ls hl => ?_)
  refine lv_iconst (v := 0) hx hb dX2_income_2 (by decide) ?_
  refine lv_istore_n (lv' := [(2, .int 0), (1, .int 0), (0, .ref S)]) hx hb dX2_income_3 rfl hl (by decide) rfl (fun ls hl => ?_)
  refine gh_loop (N := (nL s)) (X := fun i_1 g ls => (st_C V g S ad I A P) ∧ (al_P V S 12 g (ad 9) (nL s) es) ∧ (∀ k, k < nL s → lo1 V g S s k (es k) (la k) (lw k) (fa k)) ∧ (g (ad 9) = some ((S, 12, 0), oo 12 vs_hlc)) ∧ (g = g0) ∧ lv_has ls 3 [(0, .ref S), (1, .int (sm (fun k => lt s k 4) i_1)), (2, .int (nI i_1))]) ?_ ?_ 0 (by omega) hg ⟨hT, hAL, hLo, hlc, hgg, lv_sub hl [2, 1, 0] rfl⟩
  · intro g H locs ls hg hX
    obtain ⟨hT, hAL, hLo, hlc, hgg, hl⟩ := hX
    refine lv_iload_n hx hb dX2_income_4 rfl (lv_at hl 2 rfl) ?_
    refine lv_aload_n hx hb dX2_income_5 rfl (lv_at hl 0 rfl) ?_
    refine gh_get (v := .ref (ad 9)) hC hg hT.1 fX2_24_2 rfl dX2_income_6 ?_
    refine gh_callFi hg (gh_runF (x := ⟨"java/util/List", "size", "()I"⟩) (As := []) (rest := [.int (nI (nL s))]) hC hg (j_J2_size l V _ (ad 9) S 12 (nL s) es hAL) 0 (lw_F q1359 q1321 q1319 q107 q1323) hlc rfl (by decide +kernel) q1322 q1320 q1148 hdF_List_size_0 ⟨Nat.le_of_ble_eq_true rfl, Nat.le_of_ble_eq_true rfl⟩ rfl hl.1 rfl (Nat.le_of_ble_eq_true rfl) dX2_income_9 ⟨Nat.le_of_ble_eq_true rfl, Nat.le_of_ble_eq_true rfl⟩) (fun r_2 g H locs hg hp => ?_)
    obtain ⟨hp, hq⟩ := hp
    replace hp : (nI (nL s)) = r_2 := hp.symm
    subst hp
    rw [← hq] at hT hAL hLo hlc
    try rw [← hq] at hgg
    refine lv_icmp_ge (tgt := 42) hx hb dX2_income_14 (by decide) (fun _ => ?_) (fun c_3 => (absurd ((nx_le rfl rfl (by omega) (by omega)).mpr (by omega)) c_3))
    refine lv_iload_n hx hb dX2_income_42 rfl (lv_at hl 1 rfl) ?_
    exact gh_reti hC hg hr hlk (⟨rfl, hgg⟩) dX2_income_43 (Nat.le_of_ble_eq_true rfl) (Nat.le_of_ble_eq_true rfl)
  · intro i_1 hi4 ih4 g H locs ls hg hX
    obtain ⟨hT, hAL, hLo, hlc, hgg, hl⟩ := hX
    refine lv_iload_n hx hb dX2_income_4 rfl (lv_at hl 2 rfl) ?_
    refine lv_aload_n hx hb dX2_income_5 rfl (lv_at hl 0 rfl) ?_
    refine gh_get (v := .ref (ad 9)) hC hg hT.1 fX2_24_2 rfl dX2_income_6 ?_
    refine gh_callFi hg (gh_runF (x := ⟨"java/util/List", "size", "()I"⟩) (As := []) (rest := [.int (nI i_1)]) hC hg (j_J2_size l V _ (ad 9) S 12 (nL s) es hAL) 0 (lw_F q1359 q1321 q1319 q107 q1323) hlc rfl (by decide +kernel) q1322 q1320 q1148 hdF_List_size_0 ⟨Nat.le_of_ble_eq_true rfl, Nat.le_of_ble_eq_true rfl⟩ rfl hl.1 rfl (Nat.le_of_ble_eq_true rfl) dX2_income_9 ⟨Nat.le_of_ble_eq_true rfl, Nat.le_of_ble_eq_true rfl⟩) (fun r_4 g H locs hg hp => ?_)
    obtain ⟨hp, hq⟩ := hp
    replace hp : (nI (nL s)) = r_4 := hp.symm
    subst hp
    rw [← hq] at hT hAL hLo hlc
    try rw [← hq] at hgg
    refine lv_icmp_ge (tgt := 42) hx hb dX2_income_14 (by decide) (fun c_5 => (absurd ((nx_le rfl rfl (by omega) (by omega)).mp c_5) (by omega))) (fun _ => ?_)
    refine lv_iload_n hx hb dX2_income_17 rfl (lv_at hl 1 rfl) ?_
    refine lv_aload_n hx hb dX2_income_18 rfl (lv_at hl 0 rfl) ?_
    refine gh_get (v := .ref (ad 9)) hC hg hT.1 fX2_24_2 rfl dX2_income_19 ?_
    refine lv_iload_n hx hb dX2_income_22 rfl (lv_at hl 2 rfl) ?_
    refine gh_callFq hg (gh_runF (x := ⟨"java/util/List", "get", "(I)Ljava/lang/Object;"⟩) (As := [.int (nI i_1)]) (rest := [.int (sm (fun k => lt s k 4) i_1)]) hC hg (j_J2_get l V _ (ad 9) S 12 (nL s) es hAL (nI i_1) i_1 rfl (by omega)) 1 (lw_F q1361 q1338 q1336 q107 q1340) hlc rfl (by decide +kernel) q1339 q1337 q1148 hdF_List_get_1 ⟨Nat.le_of_ble_eq_true rfl, Nat.le_of_ble_eq_true rfl⟩ rfl hl.1 rfl (Nat.le_of_ble_eq_true rfl) dX2_income_23 ⟨Nat.le_of_ble_eq_true rfl, Nat.le_of_ble_eq_true rfl⟩) (fun r_6 g H locs hg hp => ?_)
    obtain ⟨hp, hq⟩ := hp
    subst hp
    rw [← hq] at hT hAL hLo hlc
    try rw [← hq] at hgg
    refine W.eq (g2 := F0 mm 28 ls [.ref (es i_1), .int (sm (fun k => lt s k 4) i_1)]) rfl ?_
    obtain ⟨hlq, hla, hlw, hlf⟩ := hLo i_1 hi4
    refine gh_castS hC hg hlq rfl q1362 dX2_income_28 ?_
    refine gh_get (v := .int (lt s i_1 4)) hC hg hlq fX2_221_3 rfl dX2_income_31 ?_
    refine lv_iadd hx hb dX2_income_34 ?_
    refine lv_istore_n (lv' := [(1, .int ((sm (fun k => lt s k 4) i_1) + (lt s i_1 4))), (0, .ref S), (2, .int (nI i_1))]) hx hb dX2_income_35 rfl hl (by decide) rfl (fun ls hl => ?_)
    refine lv_iinc (v := (nI (i_1 + 1))) (lv' := [(2, .int (nI (i_1 + 1))), (1, .int ((sm (fun k => lt s k 4) i_1) + (lt s i_1 4))), (0, .ref S)]) hx hb dX2_income_36 hl (k := 2) rfl (nx_iinc rfl) (by decide) rfl (fun ls hl => ?_)
    refine lv_goto (tgt := 4) hx hb dX2_income_39 (by decide) ?_
    exact ih4 _ _ _ _ hg ⟨hT, hAL, hLo, hlc, hgg, lv_sub hl [2, 1, 0] rfl⟩
set_option maxHeartbeats 1000000 in
set_option maxRecDepth 100000 in
theorem j_X2_piecesOnTheWay (l : Launch) (V : gh_V) (g0 : gh_G) (S : Nat) (ad : Nat → Nat) (I : Nat → Int32) (A : Nat → Nat → Int32) (P : Nat → Option Nat) (hT0 : st_C V g0 S ad I A P) (s : Nat → Int32) (hL0 : lo_P V g0 S (ad 9) s) (h12 : nL s ≤ 12) : MI l yX2_piecesOnTheWay cX2_piecesOnTheWay 3 (some .int) ({ frames := 3, cells := 0, slots := 0, locals := 64 } : Room) V [.ref S] g0 (fun r g1 => r = sm (fun k => (lt s k 2 - fated s k 1 - fated s k 2 - fated s k 3 - fated s k 4)) (nL s) ∧ g1 = g0) := by
  refine MG.of RX2 (by decide) rfl (Nat.le_of_ble_eq_true rfl) (fun pp ee s9 mm args below meth c ls hC hg hr hlk hnm hl => ?_)
  have hx := hC.1.1
  have hb := hC.1.2.1
  have hml := hC.1.2.2.1
  have hown := hC.1.2.2.2.1
  have hts := hC.1.2.2.2.2
  have hl : lv_has ls 3 [(0, .ref S)] := hl
  obtain ⟨g, hg, hgg⟩ : ∃ g, gh_W V (gh_A g0 s9.heap.size) s9 g s9.heap [] ∧ g = g0 := ⟨g0, hg, rfl⟩
  have hT := hT0
  rw [← hgg] at hT
  have hL := hL0
  rw [← hgg] at hL
  obtain ⟨es, la, lw, fa, hAL, hLo⟩ := hL
  obtain ⟨vs_hlc, hlc⟩ := hAL.c
  refine lv_iconst (v := 0) hx hb dX2_piecesOnTheWay_0 (by decide) ?_
  refine lv_istore_n (lv' := [(1, .int 0), (0, .ref S)]) hx hb dX2_piecesOnTheWay_1 rfl hl (by decide) rfl (fun ls hl => ?_)
  refine lv_iconst (v := 0) hx hb dX2_piecesOnTheWay_2 (by decide) ?_
  refine lv_istore_n (lv' := [(2, .int 0), (1, .int 0), (0, .ref S)]) hx hb dX2_piecesOnTheWay_3 rfl hl (by decide) rfl (fun ls hl => ?_)
  refine gh_loop (N := (nL s)) (X := fun i_1 g ls => (st_C V g S ad I A P) ∧ (al_P V S 12 g (ad 9) (nL s) es) ∧ (∀ k, k < nL s → lo1 V g S s k (es k) (la k) (lw k) (fa k)) ∧ (g (ad 9) = some ((S, 12, 0), oo 12 vs_hlc)) ∧ (g = g0) ∧ lv_has ls 3 [(0, .ref S), (1, .int (sm (fun k => (lt s k 2 - fated s k 1 - fated s k 2 - fated s k 3 - fated s k 4)) i_1)), (2, .int (nI i_1))]) ?_ ?_ 0 (by omega) hg ⟨hT, hAL, hLo, hlc, hgg, lv_sub hl [2, 1, 0] rfl⟩
  · intro g H locs ls hg hX
    obtain ⟨hT, hAL, hLo, hlc, hgg, hl⟩ := hX
    refine lv_iload_n hx hb dX2_piecesOnTheWay_4 rfl (lv_at hl 2 rfl) ?_
    refine lv_aload_n hx hb dX2_piecesOnTheWay_5 rfl (lv_at hl 0 rfl) ?_
    refine gh_get (v := .ref (ad 9)) hC hg hT.1 fX2_24_2 rfl dX2_piecesOnTheWay_6 ?_
    refine gh_callFi hg (gh_runF (x := ⟨"java/util/List", "size", "()I"⟩) (As := []) (rest := [.int (nI (nL s))]) hC hg (j_J2_size l V _ (ad 9) S 12 (nL s) es hAL) 0 (lw_F q1359 q1321 q1319 q107 q1323) hlc rfl (by decide +kernel) q1322 q1320 q1148 hdF_List_size_0 ⟨Nat.le_of_ble_eq_true rfl, Nat.le_of_ble_eq_true rfl⟩ rfl hl.1 rfl (Nat.le_of_ble_eq_true rfl) dX2_piecesOnTheWay_9 ⟨Nat.le_of_ble_eq_true rfl, Nat.le_of_ble_eq_true rfl⟩) (fun r_2 g H locs hg hp => ?_)
    obtain ⟨hp, hq⟩ := hp
    replace hp : (nI (nL s)) = r_2 := hp.symm
    subst hp
    rw [← hq] at hT hAL hLo hlc
    try rw [← hq] at hgg
    refine lv_icmp_ge (tgt := 42) hx hb dX2_piecesOnTheWay_14 (by decide) (fun _ => ?_) (fun c_3 => (absurd ((nx_le rfl rfl (by omega) (by omega)).mpr (by omega)) c_3))
    refine lv_iload_n hx hb dX2_piecesOnTheWay_42 rfl (lv_at hl 1 rfl) ?_
    exact gh_reti hC hg hr hlk (⟨rfl, hgg⟩) dX2_piecesOnTheWay_43 (Nat.le_of_ble_eq_true rfl) (Nat.le_of_ble_eq_true rfl)
  · intro i_1 hi4 ih4 g H locs ls hg hX
    obtain ⟨hT, hAL, hLo, hlc, hgg, hl⟩ := hX
    refine lv_iload_n hx hb dX2_piecesOnTheWay_4 rfl (lv_at hl 2 rfl) ?_
    refine lv_aload_n hx hb dX2_piecesOnTheWay_5 rfl (lv_at hl 0 rfl) ?_
    refine gh_get (v := .ref (ad 9)) hC hg hT.1 fX2_24_2 rfl dX2_piecesOnTheWay_6 ?_
    refine gh_callFi hg (gh_runF (x := ⟨"java/util/List", "size", "()I"⟩) (As := []) (rest := [.int (nI i_1)]) hC hg (j_J2_size l V _ (ad 9) S 12 (nL s) es hAL) 0 (lw_F q1359 q1321 q1319 q107 q1323) hlc rfl (by decide +kernel) q1322 q1320 q1148 hdF_List_size_0 ⟨Nat.le_of_ble_eq_true rfl, Nat.le_of_ble_eq_true rfl⟩ rfl hl.1 rfl (Nat.le_of_ble_eq_true rfl) dX2_piecesOnTheWay_9 ⟨Nat.le_of_ble_eq_true rfl, Nat.le_of_ble_eq_true rfl⟩) (fun r_4 g H locs hg hp => ?_)
    obtain ⟨hp, hq⟩ := hp
    replace hp : (nI (nL s)) = r_4 := hp.symm
    subst hp
    rw [← hq] at hT hAL hLo hlc
    try rw [← hq] at hgg
    refine lv_icmp_ge (tgt := 42) hx hb dX2_piecesOnTheWay_14 (by decide) (fun c_5 => (absurd ((nx_le rfl rfl (by omega) (by omega)).mp c_5) (by omega))) (fun _ => ?_)
    refine lv_iload_n hx hb dX2_piecesOnTheWay_17 rfl (lv_at hl 1 rfl) ?_
    refine lv_aload_n hx hb dX2_piecesOnTheWay_18 rfl (lv_at hl 0 rfl) ?_
    refine gh_get (v := .ref (ad 9)) hC hg hT.1 fX2_24_2 rfl dX2_piecesOnTheWay_19 ?_
    refine lv_iload_n hx hb dX2_piecesOnTheWay_22 rfl (lv_at hl 2 rfl) ?_
    refine gh_callFq hg (gh_runF (x := ⟨"java/util/List", "get", "(I)Ljava/lang/Object;"⟩) (As := [.int (nI i_1)]) (rest := [.int (sm (fun k => (lt s k 2 - fated s k 1 - fated s k 2 - fated s k 3 - fated s k 4)) i_1)]) hC hg (j_J2_get l V _ (ad 9) S 12 (nL s) es hAL (nI i_1) i_1 rfl (by omega)) 1 (lw_F q1361 q1338 q1336 q107 q1340) hlc rfl (by decide +kernel) q1339 q1337 q1148 hdF_List_get_1 ⟨Nat.le_of_ble_eq_true rfl, Nat.le_of_ble_eq_true rfl⟩ rfl hl.1 rfl (Nat.le_of_ble_eq_true rfl) dX2_piecesOnTheWay_23 ⟨Nat.le_of_ble_eq_true rfl, Nat.le_of_ble_eq_true rfl⟩) (fun r_6 g H locs hg hp => ?_)
    obtain ⟨hp, hq⟩ := hp
    subst hp
    rw [← hq] at hT hAL hLo hlc
    try rw [← hq] at hgg
    refine W.eq (g2 := F0 mm 28 ls [.ref (es i_1), .int (sm (fun k => (lt s k 2 - fated s k 1 - fated s k 2 - fated s k 3 - fated s k 4)) i_1)]) rfl ?_
    obtain ⟨hlq, hla, hlw, hlf⟩ := hLo i_1 hi4
    refine gh_castS hC hg hlq rfl q1362 dX2_piecesOnTheWay_28 ?_
    refine gh_calli hg (gh_runV (As := []) (rest := [.int (sm (fun k => (lt s k 2 - fated s k 1 - fated s k 2 - fated s k 3 - fated s k 4)) i_1)]) hC hg (j_X4_onTheWay l V _ (es i_1) (lw i_1) (la i_1) (lt s i_1 2) (lt s i_1 3) (lt s i_1 4) (fa i_1) (S, 4, i_1) (S, 5, i_1) hlq hla) 0 (lw_V q1375 q1376 q1377 q157 q1378) hlq rfl hd_X4_onTheWay ⟨Nat.le_of_ble_eq_true rfl, Nat.le_of_ble_eq_true rfl⟩ rfl hl.1 rfl (Nat.le_of_ble_eq_true rfl) dX2_piecesOnTheWay_31 ⟨Nat.le_of_ble_eq_true rfl, Nat.le_of_ble_eq_true rfl⟩) (fun r_7 g H locs hg hp => ?_)
    obtain ⟨hp, hq⟩ := hp
    replace hp : ((lt s i_1 2) - (fa i_1) 1 - (fa i_1) 2 - (fa i_1) 3 - (fa i_1) 4) = r_7 := hp.symm
    subst hp
    rw [← hq] at hT hAL hLo hlw hlc hlq hla
    try rw [← hq] at hgg
    refine W.eq (g2 := F0 mm 34 ls [.int (lt s i_1 2 - fated s i_1 1 - fated s i_1 2 - fated s i_1 3 - fated s i_1 4), .int (sm (fun k => (lt s k 2 - fated s k 1 - fated s k 2 - fated s k 3 - fated s k 4)) i_1)]) (by rw [(show lt s i_1 2 - fa i_1 1 - fa i_1 2 - fa i_1 3 - fa i_1 4 = lt s i_1 2 - fated s i_1 1 - fated s i_1 2 - fated s i_1 3 - fated s i_1 4 from by rw [hlf 1 (by omega) (by omega), hlf 2 (by omega) (by omega), hlf 3 (by omega) (by omega), hlf 4 (by omega) (by omega)]; rfl)] <;> rfl) ?_
    refine lv_iadd hx hb dX2_piecesOnTheWay_34 ?_
    refine lv_istore_n (lv' := [(1, .int ((sm (fun k => (lt s k 2 - fated s k 1 - fated s k 2 - fated s k 3 - fated s k 4)) i_1) + (lt s i_1 2 - fated s i_1 1 - fated s i_1 2 - fated s i_1 3 - fated s i_1 4))), (0, .ref S), (2, .int (nI i_1))]) hx hb dX2_piecesOnTheWay_35 rfl hl (by decide) rfl (fun ls hl => ?_)
    refine lv_iinc (v := (nI (i_1 + 1))) (lv' := [(2, .int (nI (i_1 + 1))), (1, .int ((sm (fun k => (lt s k 2 - fated s k 1 - fated s k 2 - fated s k 3 - fated s k 4)) i_1) + (lt s i_1 2 - fated s i_1 1 - fated s i_1 2 - fated s i_1 3 - fated s i_1 4))), (0, .ref S)]) hx hb dX2_piecesOnTheWay_36 hl (k := 2) rfl (nx_iinc rfl) (by decide) rfl (fun ls hl => ?_)
    refine lv_goto (tgt := 4) hx hb dX2_piecesOnTheWay_39 (by decide) ?_
    exact ih4 _ _ _ _ hg ⟨hT, hAL, hLo, hlc, hgg, lv_sub hl [2, 1, 0] rfl⟩
set_option maxHeartbeats 1000000 in
set_option maxRecDepth 100000 in
theorem j_X2_fateOf (l : Launch) (V : gh_V) (g0 : gh_G) (S : Nat) (ad : Nat → Nat) (I : Nat → Int32) (A : Nat → Nat → Int32) (P : Nat → Option Nat) (hT0 : st_C V g0 S ad I A P) (hTR : tr_S l V) (s : Nat → Int32) (n1 : Nat) (hG0 : go_P V g0 S (ad 12) s n1) (k n x9 : Nat) (hk : k < nL s) (h12 : nL s ≤ 12) (hn20 : n < 20) (hky0 : ky_P V g0 9 x9 (20 * k + n)) (hfo9 : ∃ f, f < 5 ∧ lt s k (5 + n) = nI f) : MI l yX2_fateOf cX2_fateOf 3 (some .int) ({ frames := 12, cells := 0, slots := 0, locals := 391 } : Room) V [.ref S, .ref x9] g0 (fun r g1 => r = lt s k (5 + n) ∧ g1 = g0) := by
  refine MG.of RX2 (by decide) rfl (Nat.le_of_ble_eq_true rfl) (fun pp ee s9 mm args below meth c ls hC hg hr hlk hnm hl => ?_)
  have hx := hC.1.1
  have hb := hC.1.2.1
  have hml := hC.1.2.2.1
  have hown := hC.1.2.2.2.1
  have hts := hC.1.2.2.2.2
  have hl : lv_has ls 3 [(0, .ref S), (1, .ref x9)] := hl
  obtain ⟨g, hg, hgg⟩ : ∃ g, gh_W V (gh_A g0 s9.heap.size) s9 g s9.heap [] ∧ g = g0 := ⟨g0, hg, rfl⟩
  have hT := hT0
  rw [← hgg] at hT
  have hky := hky0
  obtain ⟨gq, SS, hGl, hGs, hGn, hGa⟩ := hG0
  rw [← hgg] at hky hGl hGs
  obtain ⟨vs_hgc, hgc⟩ := hGl.c
  refine lv_iconst (v := 1) hx hb dX2_fateOf_0 (by decide) ?_
  refine lv_istore_n (lv' := [(2, .int 1), (0, .ref S), (1, .ref x9)]) hx hb dX2_fateOf_1 rfl hl (by decide) rfl (fun ls hl => ?_)
  refine gh_loop (N := 4) (X := fun i_1 g ls => (st_C V g S ad I A P) ∧ (ky_P V g 9 x9 (20 * k + n)) ∧ (al_P V S 14 g (ad 12) 4 gq) ∧ (∀ i, i < 4 → hs_P V S (20 + i) g (gq i) (SS i)) ∧ (g (ad 12) = some ((S, 14, 0), oo 12 vs_hgc)) ∧ (fo_N s k n i_1) ∧ (g = g0) ∧ lv_has ls 3 [(0, .ref S), (1, .ref x9), (2, .int (nI (i_1 + 1)))]) ?_ ?_ 0 (by omega) hg ⟨hT, hky, hGl, hGs, hgc, (fun _ h => absurd h (Nat.not_lt_zero _)), hgg, lv_sub hl [1, 2, 0] rfl⟩
  · intro g H locs ls hg hX
    obtain ⟨hT, hky, hGl, hGs, hgc, hno, hgg, hl⟩ := hX
    have hno := fo_4 hno hfo9
    refine lv_iload_n hx hb dX2_fateOf_2 rfl (lv_at hl 2 rfl) ?_
    refine lv_iconst (v := 4) hx hb dX2_fateOf_3 (by decide) ?_
    refine lv_icmp_gt (tgt := 39) hx hb dX2_fateOf_4 (by decide) (fun _ => ?_) (fun c_2 => (absurd ((nx_lt (show ((4 : Int32)) = nI 4 from rfl) rfl (by omega) (by omega)).mpr (by omega)) c_2))
    refine lv_iconst (v := 0) hx hb dX2_fateOf_39 (by decide) ?_
    exact gh_reti hC hg hr hlk (⟨hno, hgg⟩) dX2_fateOf_40 (Nat.le_of_ble_eq_true rfl) (Nat.le_of_ble_eq_true rfl)
  · intro i_1 hi2 ih2 g H locs ls hg hX
    obtain ⟨hT, hky, hGl, hGs, hgc, hno, hgg, hl⟩ := hX
    refine lv_iload_n hx hb dX2_fateOf_2 rfl (lv_at hl 2 rfl) ?_
    refine lv_iconst (v := 4) hx hb dX2_fateOf_3 (by decide) ?_
    refine lv_icmp_gt (tgt := 39) hx hb dX2_fateOf_4 (by decide) (fun c_3 => (absurd ((nx_lt (show ((4 : Int32)) = nI 4 from rfl) rfl (by omega) (by omega)).mp c_3) (by omega))) (fun _ => ?_)
    refine lv_aload_n hx hb dX2_fateOf_7 rfl (lv_at hl 0 rfl) ?_
    refine gh_get (v := .ref (ad 12)) hC hg hT.1 fX2_38_2 rfl dX2_fateOf_8 ?_
    refine lv_iload_n hx hb dX2_fateOf_11 rfl (lv_at hl 2 rfl) ?_
    refine lv_iconst (v := 1) hx hb dX2_fateOf_12 (by decide) ?_
    refine lv_isub hx hb dX2_fateOf_13 ?_
    refine W.eq (g2 := F0 mm 14 ls [.int (nI i_1), .ref (ad 12)]) (by rw [(show ((nI (i_1 + 1)) - 1) = nI i_1 from nx_sub (a := i_1 + 1) (b := 1) rfl rfl (by omega))] <;> rfl) ?_
    refine gh_callFq hg (gh_runF (x := ⟨"java/util/List", "get", "(I)Ljava/lang/Object;"⟩) (As := [.int (nI i_1)]) (rest := []) hC hg (j_J2_get l V _ (ad 12) S 14 4 gq hGl (nI i_1) i_1 rfl (by omega)) 1 (lw_F q1361 q1338 q1336 q107 q1340) hgc rfl (by decide +kernel) q1339 q1337 q1148 hdF_List_get_1 ⟨Nat.le_of_ble_eq_true rfl, Nat.le_of_ble_eq_true rfl⟩ rfl hl.1 rfl (Nat.le_of_ble_eq_true rfl) dX2_fateOf_14 ⟨Nat.le_of_ble_eq_true rfl, Nat.le_of_ble_eq_true rfl⟩) (fun r_4 g H locs hg hp => ?_)
    obtain ⟨hp, hq⟩ := hp
    subst hp
    rw [← hq] at hT hky hGl hGs hgc
    try rw [← hq] at hgg
    refine W.eq (g2 := F0 mm 19 ls [.ref (gq i_1)]) rfl ?_
    obtain ⟨mg, Dg, hSg, hMg⟩ := hGs i_1 (by omega)
    have hsc := hSg.1
    refine gh_castY hC hg hsc rfl q2777 q2500 dX2_fateOf_19 ?_
    refine lv_aload_n hx hb dX2_fateOf_22 rfl (lv_at hl 1 rfl) ?_
    refine gh_callFi hg (gh_runF (x := ⟨"java/util/Set", "contains", "(Ljava/lang/Object;)Z"⟩) (As := [.ref x9]) (rest := []) hC hg (j_J7_contains l V _ hTR S (20 + i_1) (gq i_1) mg Dg hSg x9 (20 * k + n) hky) 1 (lw_F q3621 q3666 q3664 q112 q3668) hsc rfl (by decide +kernel) q3667 q3665 q2500 hdF_Set_contains_1 ⟨Nat.le_of_ble_eq_true rfl, Nat.le_of_ble_eq_true rfl⟩ rfl hl.1 rfl (Nat.le_of_ble_eq_true rfl) dX2_fateOf_23 ⟨Nat.le_of_ble_eq_true rfl, Nat.le_of_ble_eq_true rfl⟩) (fun r_5 g H locs hg hp => ?_)
    obtain ⟨hp, hq⟩ := hp
    replace hp : (if (hm_M Dg).any (fun e => e.1 == (20 * k + n)) then 1 else 0) = r_5 := hp.symm
    subst hp
    rw [← hq] at hT hky hGl hGs hgc hsc
    try rw [← hq] at hgg
    have hgi := fo_i hMg (hGa i_1 k n (by omega) (by omega) hn20) hk
    refine lv_if_eq (tgt := 33) hx hb dX2_fateOf_28 (by decide) (fun c_6 => ?_) (fun c_6 => ?_)
    · skip
      have hno := fo_s hno (hgi.1 c_6)
      refine lv_iinc (v := (nI ((i_1 + 1) + 1))) (lv' := [(2, .int (nI ((i_1 + 1) + 1))), (0, .ref S), (1, .ref x9)]) hx hb dX2_fateOf_33 hl (k := 2) rfl (nx_iinc rfl) (by decide) rfl (fun ls hl => ?_)
      refine lv_goto (tgt := 2) hx hb dX2_fateOf_36 (by decide) ?_
      exact ih2 _ _ _ _ hg ⟨hT, hky, hGl, hGs, hgc, hno, hgg, lv_sub hl [1, 2, 0] rfl⟩
    refine lv_iload_n hx hb dX2_fateOf_31 rfl (lv_at hl 2 rfl) ?_
    exact gh_reti hC hg hr hlk (⟨(hgi.2 c_6).symm, hgg⟩) dX2_fateOf_32 (Nat.le_of_ble_eq_true rfl) (Nat.le_of_ble_eq_true rfl)
