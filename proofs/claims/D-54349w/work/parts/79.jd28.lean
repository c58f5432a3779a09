/-! PLANS -/
/-- the plans' numbers are in range, no two for the same time and zone -/
def jn (s : Nat → Int32) : Prop := nP s ≤ 16 ∧ (∀ i, i < nP s → ∃ t z b, t < 10000 ∧ z < 8 ∧ b < 4 ∧ pn s i 0 = nI t ∧ pn s i 1 = nI z ∧ pn s i 2 = nI b) ∧ ∀ i j, i < nP s → j < nP s → pcode s i = pcode s j → i = j
section Pl
variable {V : gh_V} {s : Nat → Int32} {M : List (Nat × Nat × Option Nat)} {c t z k : Nat}
theorem pcode_eq {i b : Nat} (ht : t < 10000) (hz : z < 8) (e0 : pn s i 0 = nI t) (e1 : pn s i 1 = nI z) : pcode s i = 8 * t + z := by
  unfold pcode
  rw [e0, e1, nI_clamp (by omega), nI_clamp (by omega)]
theorem isPl_code (hJ : jn s) {i : Nat} (hi : i < nP s) (ht : t < 10000) (hz : z < 8) : isPl s (nI t) (nI z) i = true ↔ pcode s i = 8 * t + z := by
  obtain ⟨t', z', b', h1, h2, h3, e0, e1, e2⟩ := hJ.2.1 i hi
  rw [pcode_eq (b := b') h1 h2 e0 e1]
  unfold isPl
  rw [decide_eq_true_iff, e0, e1]
  constructor
  · rintro ⟨a, b⟩
    rw [nI_inj (by omega) (by omega) a, nI_inj (by omega) (by omega) b]
  · intro h
    rw [show t' = t by omega, show z' = z by omega]
    exact ⟨rfl, rfl⟩
/-- a time and a zone: planned by the plan k alone, or not at all -/
theorem plan_dec (hJ : jn s) (ht : t < 10000) (hz : z < 8) : (∃ k, k < nP s ∧ pcode s k = 8 * t + z ∧ planAt s (nI t) (nI z) (nP s) = nI (530 + 3 * k) ∧ plannedN s (nI t) (nI z) (nP s) = pn s k 2) ∨ ((∀ k, k < nP s → pcode s k ≠ 8 * t + z) ∧ planAt s (nI t) (nI z) (nP s) = -1 ∧ plannedN s (nI t) (nI z) (nP s) = -1) := by
  rcases firstOf_two (isPl s (nI t) (nI z)) (fun k => nI (530 + 3 * k)) (fun k => pn s k 2) (nP s) 0 with ⟨h1, h2, h3⟩ | ⟨j, h1, h2, h3, h4, h5⟩
  · exact Or.inr ⟨fun k hk e => (by have h9 := (isPl_code hJ hk ht hz).mpr e; rw [h3 k (by omega) (by omega)] at h9; cases h9), h1, h2⟩
  · exact Or.inl ⟨j, by omega, (isPl_code hJ (by omega) ht hz).mp h3, h4, h5.1⟩
theorem pls_mem {n : Nat} {x : Nat × Option Nat} : x ∈ pls V s n ↔ ∃ i, i < n ∧ x = (pcode s i, some (pval V s i)) := by
  unfold pls
  rw [List.mem_map]
  constructor
  · rintro ⟨i, hi, rfl⟩
    exact ⟨i, by have := (List.mem_range'_1.mp hi).2; omega, rfl⟩
  · rintro ⟨i, hi, rfl⟩
    exact ⟨i, List.mem_range'_1.mpr ⟨by omega, by omega⟩, rfl⟩
theorem M_mem {n : Nat} (h : M.map (fun e => (e.1, e.2.2)) = pls V s n) {e : Nat × Nat × Option Nat} (he : e ∈ M) : ∃ i, i < n ∧ e.1 = pcode s i ∧ e.2.2 = some (pval V s i) := by
  have h1 : (e.1, e.2.2) ∈ pls V s n := by rw [← h]; exact List.mem_map.mpr ⟨e, he, rfl⟩
  obtain ⟨i, hi, h2⟩ := pls_mem.mp h1
  exact ⟨i, hi, congrArg Prod.fst h2, congrArg Prod.snd h2⟩
theorem M_get (hJ : jn s) (h : M.map (fun e => (e.1, e.2.2)) = pls V s (nP s)) (hk : k < nP s) : lm_get M (pcode s k) = some (pval V s k) ∧ M.any (fun e => e.1 == pcode s k) = true := by
  have h1 : (pcode s k, some (pval V s k)) ∈ M.map (fun e => (e.1, e.2.2)) := by rw [h]; exact pls_mem.mpr ⟨k, hk, rfl⟩
  obtain ⟨e, he, h2⟩ := List.mem_map.mp h1
  have h3 : e.1 = pcode s k := congrArg Prod.fst h2
  refine ⟨?_, List.any_eq_true.mpr ⟨e, he, by simp [h3]⟩⟩
  unfold lm_get
  cases hf : M.find? (fun e => e.1 == pcode s k) with
  | none => have := List.find?_eq_none.mp hf e he; simp [h3] at this
  | some e2 =>
    have h4 : e2.1 = pcode s k := by have := List.find?_some hf; simpa using this
    obtain ⟨i, hi, h5, h6⟩ := M_mem h (List.mem_of_find?_eq_some hf)
    have : i = k := hJ.2.2 i k hi hk (h5.symm.trans h4)
    subst this
    exact h6
theorem M_getN {n : Nat} (h : M.map (fun e => (e.1, e.2.2)) = pls V s n) (hc : ∀ k, k < n → pcode s k ≠ c) : lm_get M c = none ∧ M.any (fun e => e.1 == c) = false := by
  have h1 : ∀ e, e ∈ M → ¬ (e.1 == c) = true := fun e he h9 => by
    obtain ⟨i, hi, h5, -⟩ := M_mem h he
    exact hc i hi (h5.symm.trans (by simpa using h9))
  refine ⟨?_, ?_⟩
  · unfold lm_get
    rw [List.find?_eq_none.mpr h1]; rfl
  · rw [List.any_eq_false]; exact h1
theorem M_len {n : Nat} (h : M.map (fun e => (e.1, e.2.2)) = pls V s n) : M.length = n := by
  have := congrArg List.length h
  unfold pls at this
  simpa using this
theorem lm_put_map {v : Option Nat} {ka : Nat} : (lm_put M c ka v).map (fun e => (e.1, e.2.2)) = if M.any (fun e => e.1 == c) then (M.map (fun e => (e.1, e.2.2))).map (fun q => if q.1 = c then (q.1, v) else q) else M.map (fun e => (e.1, e.2.2)) ++ [(c, v)] := by
  unfold lm_put
  split
  · rw [List.map_map, List.map_map]
    apply List.map_congr_left
    intro e _
    show ((if e.1 = c then (e.1, e.2.1, v) else e).1, (if e.1 = c then (e.1, e.2.1, v) else e).2.2) = if e.1 = c then (e.1, v) else (e.1, e.2.2)
    split <;> rfl
  · rw [List.map_append]; rfl
theorem lm_del_map : (lm_del M c).map (fun e => (e.1, e.2.2)) = (M.map (fun e => (e.1, e.2.2))).filter (fun q => !(q.1 == c)) := by
  unfold lm_del
  rw [List.filter_map]
  rfl
theorem lm_get_del {c' : Nat} (hne : c ≠ c') : lm_get (lm_del M c') c = lm_get M c := by
  unfold lm_get lm_del
  congr 1
  rw [List.find?_filter]
  congr 1
  funext e
  by_cases h : e.1 = c
  · simp [h, hne]
  · simp [h]
end Pl
/-- nextPlan is the least time -/
theorem npF_min {s : Nat → Int32} (hJ : jn s) : ∀ n, n ≤ nP s → (n = 0 ∧ npF s n = -1) ∨ ∃ i, i < n ∧ npF s n = pn s i 0 ∧ ∀ j, j < n → (pn s i 0).toNatClampNeg ≤ (pn s j 0).toNatClampNeg
  | 0, _ => Or.inl ⟨rfl, rfl⟩
  | n + 1, hn => by
    refine Or.inr ?_
    obtain ⟨t, z, b, h1, -, -, e0, -, -⟩ := hJ.2.1 n (by omega)
    have hs : npF s (n + 1) = if npF s n = -1 then pn s n 0 else if pn s n 0 < npF s n then pn s n 0 else npF s n := rfl
    rcases npF_min hJ n (by omega) with ⟨h2, h3⟩ | ⟨i, hi, h2, h3⟩
    · subst h2
      exact ⟨0, by omega, by rw [hs, if_pos h3], fun j hj => by rw [show j = 0 by omega]; exact Nat.le_refl _⟩
    · obtain ⟨t', z', b', h1', -, -, e0', -, -⟩ := hJ.2.1 i (by omega)
      have hne : ¬ npF s n = -1 := by rw [h2, e0']; exact nI_ne_m1 (by omega)
      have hlt : pn s n 0 < npF s n ↔ t < t' := by rw [h2, e0, e0']; exact nx_lt rfl rfl (by omega) (by omega)
      by_cases c : t < t'
      · refine ⟨n, by omega, by rw [hs, if_neg hne, if_pos (hlt.mpr c)], fun j hj => ?_⟩
        by_cases e : j = n
        · rw [e]; exact Nat.le_refl _
        · have h4 := h3 j (by omega)
          rw [e0'] at h4
          rw [e0]
          rw [nI_clamp (by omega)] at h4 ⊢
          omega
      · refine ⟨i, by omega, by rw [hs, if_neg hne, if_neg (fun h => c (hlt.mp h)), h2], fun j hj => ?_⟩
        by_cases e : j = n
        · rw [e, e0, e0', nI_clamp (by omega), nI_clamp (by omega)]; omega
        · exact h3 j (by omega)
theorem ky_P.f10 {V : gh_V} {g : gh_G} {x k n : Nat} (h : ky_P V g 10 x (8 * k + n)) (hn : n < 8) : g x = some ((V.2.2 9, 1, 0), oo 10 [.int (nI k), .int (nI n)]) := by
  obtain ⟨u, w, h1, h2⟩ := h
  have : u = k ∧ w = n := by omega
  rw [h1, this.1, this.2]
theorem gh_fv.lmD {V : gh_V} {S k m ck : Nat} {ks : List Nat} {g g1 : gh_G} {D : HD} (h : gh_fv S ks g g1) (hk : k ∉ ks) (hk1 : 1 ∉ ks) (hw : lm_D V S k g m ck D) : lm_D V S k g1 m ck D :=
  hw.keep (fun a t x ha ht => h a t x ha (ht.elim (fun u => Or.inl u.1) (fun u => Or.inr (Or.inl u.1))) (fun e => ht.elim (fun u => hk (u.2 ▸ e.2)) (fun u => hk1 (u.1 ▸ e.2))))
theorem gh_fv.it {S k it m ci i : Nat} {ks : List Nat} {g g1 : gh_G} {D : HD} (h : gh_fv S ks g g1) (hk : k ∉ ks) (hw : it_P S k g it m D ci i) : it_P S k g1 it m D ci i := by
  obtain ⟨cur, hw⟩ := hw
  exact ⟨cur, h _ _ _ hw (Or.inl rfl) (fun e => hk e.2)⟩
section GhCastQ
variable {V : gh_V} {p : Program} {l : Launch} {e : Env} {R : Room} {s : State} {m : MethodId} {args : Array Value} {below : List Frame} {meth : Method} {c : Code} {H : Heap} {locs : List Loc} {cells slots : Nat} {Q : State → Prop} {cc : ByteArray} {nL : Nat} {own : String} {A : Nat → Prop} {g : gh_G} {pc : Nat} {ls : Array Slot} {rest : List Value}
/-- a cast of a reference that may be null to Integer -/
theorem gh_castIQ (hC : gh_C V p s m args c cc nL own A) (hg : gh_W V A s g H locs) {v : Option Nat} {index : Nat} (hv : v = none ∨ ∃ j, j < 256 ∧ v = some (V.2.2 (10 + j))) (hlink : Cond.classLink own index "java/lang/Integer" ∈ lw_all) (hdg : decode cc pc = .ok (.checkcast index, 3))
    (kk : W p l e R s m args below meth c H locs cells slots Q (F0 m (pc + 3) ls (va_rf v :: rest))) : W p l e R s m args below meth c H locs cells slots Q (F0 m pc ls (va_rf v :: rest)) := by
  rcases hv with rfl | ⟨j, hj, rfl⟩
  · exact lv_castN hC.1.1 hC.1.2.1 hdg kk
  · exact gh_castI hC hg hj hlink hdg kk
end GhCastQ
theorem st_C.eqI {V : gh_V} {g : gh_G} {S : Nat} {ad : Nat → Nat} {I I' : Nat → Int32} {A : Nat → Nat → Int32} {P : Nat → Option Nat} (h : st_C V g S ad I A P) (e : I = I') : st_C V g S ad I' A P := e ▸ h
theorem va_up3 (I : Nat → Int32) (a b : Int32) {k : Nat} : va_up (va_up I k a) k b = va_up I k b := by
  funext j
  unfold va_up
  split <;> rfl
theorem pls_at {V : gh_V} {s : Nat → Int32} {n i : Nat} {D : HD} (h : (hm_M D).map (fun e => (e.1, e.2.2)) = pls V s n) (hi : i < D.L.length) : D.C D.L[i] = pcode s i := by
  have h1 := congrArg (fun l => l[i]?) h
  have hn : D.L.length = n := by rw [← hm_M_len]; exact M_len h
  unfold pls hm_M at h1
  simp only [List.getElem?_map, List.getElem?_range' (show i < n by omega), List.getElem?_eq_getElem hi, Option.map_some] at h1
  have h2 := congrArg Prod.fst (Option.some.inj h1)
  simpa using h2
set_option maxRecDepth 100000
theorem fX2_41_2 : gh_fd RX2 41 2 17 .int false := gh_fd.own (T := TX2) tyX2 rfl in_X2 tyX2_ok nmX2 (by decide) q1212 rfl rfl (fun h => by cases h)
theorem fX2_70_2 : gh_fd RX2 70 2 16 (.object "java/util/Map") true := gh_fd.own (T := TX2) tyX2 rfl in_X2 tyX2_ok nmX2 (by decide) q1210 rfl rfl (fun h => rfl)
theorem rfX2_259_10 : gh_fdr RX2 259 10 0 := gh_fdr.own (T := TX12) rfl in_X12 (by decide) q2344
theorem hdF_Map_keySet_0 : (⟨"java/util/Map", "keySet", "()Ljava/util/Set;"⟩ : MethodName).cls ≠ "java/lang/invoke/MethodHandle" ∧ (⟨"java/util/Map", "keySet", "()Ljava/util/Set;"⟩ : MethodName).cls ≠ "java/lang/invoke/VarHandle" ∧ (parseMethodDescriptor (⟨"java/util/Map", "keySet", "()Ljava/util/Set;"⟩ : MethodName).desc).map (fun d => d.parameters.length) = some 0 := by decide +kernel
set_option maxHeartbeats 1000000 in
set_option maxRecDepth 100000 in
theorem j_X2_findNextPlan (l : Launch) (V : gh_V) (g0 : gh_G) (S : Nat) (ad : Nat → Nat) (I : Nat → Int32) (A : Nat → Nat → Int32) (P : Nat → Option Nat) (hT0 : st_C V g0 S ad I A P) (s : Nat → Int32) (M : List (Nat × Nat × Option Nat)) (hJn : jn s) (hM0 : lm_P V S 11 g0 (ad 13) 10 M) (hMp : M.map (fun e => (e.1, e.2.2)) = pls V s (nP s)) : MV l yX2_findNextPlan cX2_findNextPlan 3 ({ frames := 6, cells := 2, slots := 7, locals := 116 } : Room) V [.ref S] g0 (fun g1 => st_C V g1 S ad (va_up I 3 (npF s (nP s))) A P ∧ lm_P V S 11 g1 (ad 13) 10 M ∧ gh_fw S [0, 11] g0 g1) := by
  refine MG.of RX2 (by decide) rfl (Nat.le_of_ble_eq_true rfl) (fun pp ee s9 mm args below meth c ls hC hg hr hlk hnm hl => ?_)
  have hx := hC.1.1
  have hb := hC.1.2.1
  have hml := hC.1.2.2.1
  have hown := hC.1.2.2.2.1
  have hts := hC.1.2.2.2.2
  have hl : lv_has ls 3 [(0, .ref S)] := hl
  obtain ⟨g, hg, hgg⟩ : ∃ g, gh_W V (gh_A g0 s9.heap.size) s9 g s9.heap [] ∧ g = g0 := ⟨g0, hg, rfl⟩
  have hT := hT0
  rw [← hgg] at hT
  have hF : gh_fw S [0, 11] g0 g := by rw [hgg]; exact gh_fw.rf
  obtain ⟨D, hD, hMD⟩ := hM0
  rw [← hgg] at hD
  refine lv_aload_n hx hb dX2_findNextPlan_0 rfl (lv_at hl 0 rfl) ?_
  refine lv_iconst (v := (-1)) hx hb dX2_findNextPlan_1 (by decide) ?_
  refine gh_put (v := .int (-1)) hC hg hT.1 fX2_41_2 rfl rfl (Nat.le_of_ble_eq_true rfl) dX2_findNextPlan_2 (fun g H locs hg hw hn => ?_)
  have hf9 : gh_fv S [0] _ g := (gh_fw.st hT.1 hn).v
  have hF : gh_fw S [0, 11] g0 g := hF.set hT.1 (by decide) hn
  have hD : lm_D V S 11 g (ad 13) 10 D := hf9.lmD (by decide) (by decide) hD
  have hT : st_C V g S ad (va_up I 3 (-1)) A P := hT.setI 3 hw hn
  refine lv_aload_n hx hb dX2_findNextPlan_5 rfl (lv_at hl 0 rfl) ?_
  refine gh_get (v := .ref (ad 13)) hC hg hT.1 fX2_70_2 rfl dX2_findNextPlan_6 ?_
  have hm9 := (hD).1.1.cm
  refine gh_callFq hg (gh_runF (x := ⟨"java/util/Map", "keySet", "()Ljava/util/Set;"⟩) (As := []) (rest := []) hC hg (j_J5_keySet l V _ S 11 (ad 13) 10 D hD) 0 (lw_F q2390 q2395 q2393 q110 q2397) hm9 rfl (by decide +kernel) q2396 q2394 q1305 hdF_Map_keySet_0 ⟨Nat.le_of_ble_eq_true rfl, Nat.le_of_ble_eq_true rfl⟩ rfl hl.1 rfl (Nat.le_of_ble_eq_true rfl) dX2_findNextPlan_9 ⟨Nat.le_of_ble_eq_true rfl, Nat.le_of_ble_eq_true rfl⟩) (fun r_1 g H locs hg hp => ?_)
  obtain ⟨q9, D2, rfl, hD2, hM2, hqv, hF9⟩ := hp
  have hMM : hm_M D2 = M := (hm_M_congr (congrArg (fun z => z.1) hM2)).trans hMD
  have hfw9 : gh_fw S [11] _ g := gh_fw.fk hF9
  have hf9 := hfw9.v
  have hF : gh_fw S [0, 11] g0 g := hF.tr hfw9 (fun _ u => u) (by decide)
  have hT : st_C V g S ad (va_up I 3 (-1)) A P := hT.kp hf9 (by decide)
  refine W.eq (g2 := F0 mm 14 ls [.ref q9]) rfl ?_
  refine gh_callFq hg (gh_runF (x := ⟨"java/util/Set", "iterator", "()Ljava/util/Iterator;"⟩) (As := []) (rest := []) hC hg (j_J47_iterator l V _ S 11 (ad 13) 10 q9 D2 hD2 hqv) 0 (lw_F q2417 q2485 q2483 q156 q2487) hqv rfl (by decide +kernel) q2486 q2484 q2482 hdF_Set_iterator_0 ⟨Nat.le_of_ble_eq_true rfl, Nat.le_of_ble_eq_true rfl⟩ rfl hl.1 rfl (Nat.le_of_ble_eq_true rfl) dX2_findNextPlan_14 ⟨Nat.le_of_ble_eq_true rfl, Nat.le_of_ble_eq_true rfl⟩) (fun r_2 g H locs hg hp => ?_)
  obtain ⟨it, rfl, hit0, hit, hfr9⟩ := hp
  have hD2 : lm_D V S 11 g (ad 13) 10 D2 := hit.ne9 hit0 hD2 hfr9
  have hfw9 : gh_fw S [11] _ g := gh_fw.nw hit0 hfr9
  have hf9 := hfw9.v
  have hF : gh_fw S [0, 11] g0 g := hF.tr hfw9 (fun _ u => u) (by decide)
  have hT : st_C V g S ad (va_up I 3 (-1)) A P := hT.kp hf9 (by decide)
  refine W.eq (g2 := F0 mm 19 ls [.ref it]) rfl ?_
  refine lv_astore_n (lv' := [(1, .ref it), (0, .ref S)]) hx hb dX2_findNextPlan_19 rfl hl (by decide) rfl (fun ls hl => ?_)
  have hLN : D2.L.length = nP s := by rw [← hm_M_len, hMM]; exact M_len hMp
  refine gh_loop (N := D2.L.length) (X := fun i_3 g ls => (st_C V g S ad (va_up I 3 (npF s i_3)) A P) ∧ (gh_fw S [0, 11] g0 g) ∧ (lm_D V S 11 g (ad 13) 10 D2) ∧ (it_P S 11 g it (ad 13) D2 19 i_3) ∧ lv_has ls 3 [(0, .ref S), (1, .ref it)]) ?_ ?_ 0 (by omega) hg ⟨hT, hF, hD2, hit, lv_sub hl [1, 0] rfl⟩
  · intro g H locs ls hg hX
    obtain ⟨hT, hF, hD2, hit, hl⟩ := hX
    have hi : ¬ D2.L.length < D2.L.length := Nat.lt_irrefl _
    refine lv_aload_n hx hb dX2_findNextPlan_20 rfl (lv_at hl 1 rfl) ?_
    refine gh_callFi hg (gh_runF (x := ⟨"java/util/Iterator", "hasNext", "()Z"⟩) (As := []) (rest := []) hC hg (j_J43_hasNext_19 l V _ S 11 (ad 13) it D2.L.length D2 hit) 0 (lw_F q2514 q2538 q2542 q152 q2540) hit.choose_spec rfl (by decide +kernel) q2539 q2543 q2541 hdF_Iterator_hasNext_0 ⟨Nat.le_of_ble_eq_true rfl, Nat.le_of_ble_eq_true rfl⟩ rfl hl.1 rfl (Nat.le_of_ble_eq_true rfl) dX2_findNextPlan_21 ⟨Nat.le_of_ble_eq_true rfl, Nat.le_of_ble_eq_true rfl⟩) (fun r_4 g H locs hg hp => ?_)
    obtain ⟨hp, hq⟩ := hp
    replace hp : (if D2.L.length < D2.L.length then 1 else 0) = r_4 := hp.symm
    subst hp
    rw [← hq] at hT hF hD2 hit
    try rw [← hq] at hgg
    refine W.eq (g2 := F0 mm 26 ls [.int 0]) (by rw [if_neg (Nat.lt_irrefl _)] <;> rfl) ?_
    refine lv_if_eq (tgt := 76) hx hb dX2_findNextPlan_26 (by decide) (fun _ => ?_) (fun c_5 => (absurd rfl c_5))
    exact gh_retv hC hg hr hlk (⟨by rw [hLN] at hT; exact hT, ⟨D2, hD2, hMM⟩, hF⟩) dX2_findNextPlan_76 (Nat.le_of_ble_eq_true rfl) (Nat.le_of_ble_eq_true rfl)
  · intro i_3 hi20 ih20 g H locs ls hg hX
    obtain ⟨hT, hF, hD2, hit, hl⟩ := hX
    have hi := hi20
    refine lv_aload_n hx hb dX2_findNextPlan_20 rfl (lv_at hl 1 rfl) ?_
    refine gh_callFi hg (gh_runF (x := ⟨"java/util/Iterator", "hasNext", "()Z"⟩) (As := []) (rest := []) hC hg (j_J43_hasNext_19 l V _ S 11 (ad 13) it i_3 D2 hit) 0 (lw_F q2514 q2538 q2542 q152 q2540) hit.choose_spec rfl (by decide +kernel) q2539 q2543 q2541 hdF_Iterator_hasNext_0 ⟨Nat.le_of_ble_eq_true rfl, Nat.le_of_ble_eq_true rfl⟩ rfl hl.1 rfl (Nat.le_of_ble_eq_true rfl) dX2_findNextPlan_21 ⟨Nat.le_of_ble_eq_true rfl, Nat.le_of_ble_eq_true rfl⟩) (fun r_6 g H locs hg hp => ?_)
    obtain ⟨hp, hq⟩ := hp
    replace hp : (if i_3 < D2.L.length then 1 else 0) = r_6 := hp.symm
    subst hp
    rw [← hq] at hT hF hD2 hit
    try rw [← hq] at hgg
    refine W.eq (g2 := F0 mm 26 ls [.int 1]) (by rw [if_pos hi] <;> rfl) ?_
    refine lv_if_eq (tgt := 76) hx hb dX2_findNextPlan_26 (by decide) (fun c_7 => (absurd c_7 (by decide))) (fun _ => ?_)
    refine lv_aload_n hx hb dX2_findNextPlan_29 rfl (lv_at hl 1 rfl) ?_
    have hit0 := hit
    refine gh_callFq hg (gh_runF (x := ⟨"java/util/Iterator", "next", "()Ljava/lang/Object;"⟩) (As := []) (rest := []) hC hg (j_J45_next l V _ S 11 (ad 13) 10 it i_3 D2 hD2 hit hi) 0 (lw_F q2548 q2599 q2597 q154 q2601) hit.choose_spec rfl (by decide +kernel) q2600 q2598 q2541 hdF_Iterator_next_0 ⟨Nat.le_of_ble_eq_true rfl, Nat.le_of_ble_eq_true rfl⟩ rfl hl.1 rfl (Nat.le_of_ble_eq_true rfl) dX2_findNextPlan_30 ⟨Nat.le_of_ble_eq_true rfl, Nat.le_of_ble_eq_true rfl⟩) (fun r_8 g H locs hg hp => ?_)
    obtain ⟨hr9, hit, hfr9⟩ := hp
    have haL : D2.L[i_3] ∈ D2.L := List.getElem_mem hi
    have hD2 : lm_D V S 11 g (ad 13) 10 D2 := hit0.ne hD2 hfr9
    have hfw9 : gh_fw S [11] _ g := gh_fw.fk (hit0.fk hfr9)
    have hf9 := hfw9.v
    have hF : gh_fw S [0, 11] g0 g := hF.tr hfw9 (fun _ u => u) (by decide)
    have hT : st_C V g S ad (va_up I 3 (npF s i_3)) A P := hT.kp hf9 (by decide)
    have hin : i_3 < nP s := by omega
    obtain ⟨t9, z9, b9, ht9, hz9, hb9, e0, e1, e2⟩ := hJn.2.1 i_3 hin
    have hcd : D2.C D2.L[i_3] = 8 * t9 + z9 := by rw [← pcode_eq (b := b9) ht9 hz9 e0 e1]; exact pls_at (hMM ▸ hMp) hi
    have hky := hD2.1.1.ky _ haL
    rw [hcd] at hky
    have hkc := hky.f10 hz9
    rw [← e0, ← e1] at hkc
    subst hr9
    refine W.eq (g2 := F0 mm 35 ls [.ref (D2.K D2.L[i_3])]) rfl ?_
    refine gh_castS hC hg hkc rfl q2337 dX2_findNextPlan_35 ?_
    refine lv_astore_n (lv' := [(2, .ref (D2.K D2.L[i_3])), (0, .ref S), (1, .ref it)]) hx hb dX2_findNextPlan_38 rfl hl (by decide) rfl (fun ls hl => ?_)
    refine lv_aload_n hx hb dX2_findNextPlan_39 rfl (lv_at hl 1 rfl) ?_
    refine lv_aload_n hx hb dX2_findNextPlan_40 rfl (lv_at hl 1 rfl) ?_
    refine gh_get (v := .int (npF s i_3)) hC hg hT.1 fX2_41_2 rfl dX2_findNextPlan_41 ?_
    refine lv_iconst (v := (-1)) hx hb dX2_findNextPlan_44 (by decide) ?_
    refine lv_icmp_eq (tgt := 59) hx hb dX2_findNextPlan_45 (by decide) (fun c_9 => ?_) (fun c_9 => ?_)
    · skip
      refine lv_aload_n hx hb dX2_findNextPlan_59 rfl (lv_at hl 0 rfl) ?_
      refine gh_getr (v := .int (pn s i_3 0)) hC hg hkc rfX2_259_10 rfl dX2_findNextPlan_60 ?_
      refine lv_goto (tgt := 70) hx hb dX2_findNextPlan_63 (by decide) ?_
      refine W.eq (g2 := F0 mm 70 ls [.int (npF s (i_3 + 1)), .ref S]) (by rw [(show (pn s i_3 0) = npF s (i_3 + 1) from (if_pos c_9).symm)] <;> rfl) ?_
      refine gh_put (v := .int (npF s (i_3 + 1))) hC hg hT.1 fX2_41_2 rfl rfl (Nat.le_of_ble_eq_true rfl) dX2_findNextPlan_70 (fun g H locs hg hw hn => ?_)
      have hkc : g (D2.K D2.L[i_3]) = some (((V.2.2 9), 1, 0), oo 10 [.int (pn s i_3 0), .int (pn s i_3 1)]) := (hn _ (gh_neK hkc hT.1 rfl)).trans hkc
      have hf9 : gh_fv S [0] _ g := (gh_fw.st hT.1 hn).v
      have hF : gh_fw S [0, 11] g0 g := hF.set hT.1 (by decide) hn
      have hD2 : lm_D V S 11 g (ad 13) 10 D2 := hf9.lmD (by decide) (by decide) hD2
      have hit : it_P S 11 g it (ad 13) D2 19 (i_3 + 1) := hf9.it (by decide) hit
      have hT : st_C V g S ad (va_up (va_up I 3 (npF s i_3)) 3 (npF s (i_3 + 1))) A P := hT.setI 3 hw hn
      refine lv_goto (tgt := 20) hx hb dX2_findNextPlan_73 (by decide) ?_
      exact ih20 _ _ _ _ hg ⟨(hT.eqI (va_up3 _ _ _)), hF, hD2, hit, lv_sub hl [1, 2] rfl⟩
    refine lv_aload_n hx hb dX2_findNextPlan_48 rfl (lv_at hl 0 rfl) ?_
    refine gh_getr (v := .int (pn s i_3 0)) hC hg hkc rfX2_259_10 rfl dX2_findNextPlan_49 ?_
    refine lv_aload_n hx hb dX2_findNextPlan_52 rfl (lv_at hl 1 rfl) ?_
    refine gh_get (v := .int (npF s i_3)) hC hg hT.1 fX2_41_2 rfl dX2_findNextPlan_53 ?_
    refine lv_icmp_ge (tgt := 66) hx hb dX2_findNextPlan_56 (by decide) (fun c_10 => ?_) (fun c_10 => ?_)
    · skip
      refine lv_aload_n hx hb dX2_findNextPlan_66 rfl (lv_at hl 1 rfl) ?_
      refine gh_get (v := .int (npF s i_3)) hC hg hT.1 fX2_41_2 rfl dX2_findNextPlan_67 ?_
      refine W.eq (g2 := F0 mm 70 ls [.int (npF s (i_3 + 1)), .ref S]) (by rw [(show (npF s i_3) = npF s (i_3 + 1) from ((if_neg c_9).trans (if_neg (Int32.not_lt.mpr c_10))).symm)] <;> rfl) ?_
      refine gh_put (v := .int (npF s (i_3 + 1))) hC hg hT.1 fX2_41_2 rfl rfl (Nat.le_of_ble_eq_true rfl) dX2_findNextPlan_70 (fun g H locs hg hw hn => ?_)
      have hkc : g (D2.K D2.L[i_3]) = some (((V.2.2 9), 1, 0), oo 10 [.int (pn s i_3 0), .int (pn s i_3 1)]) := (hn _ (gh_neK hkc hT.1 rfl)).trans hkc
      have hf9 : gh_fv S [0] _ g := (gh_fw.st hT.1 hn).v
      have hF : gh_fw S [0, 11] g0 g := hF.set hT.1 (by decide) hn
      have hD2 : lm_D V S 11 g (ad 13) 10 D2 := hf9.lmD (by decide) (by decide) hD2
      have hit : it_P S 11 g it (ad 13) D2 19 (i_3 + 1) := hf9.it (by decide) hit
      have hT : st_C V g S ad (va_up (va_up I 3 (npF s i_3)) 3 (npF s (i_3 + 1))) A P := hT.setI 3 hw hn
      refine lv_goto (tgt := 20) hx hb dX2_findNextPlan_73 (by decide) ?_
      exact ih20 _ _ _ _ hg ⟨(hT.eqI (va_up3 _ _ _)), hF, hD2, hit, lv_sub hl [1, 2] rfl⟩
    refine lv_aload_n hx hb dX2_findNextPlan_59 rfl (lv_at hl 0 rfl) ?_
    refine gh_getr (v := .int (pn s i_3 0)) hC hg hkc rfX2_259_10 rfl dX2_findNextPlan_60 ?_
    refine lv_goto (tgt := 70) hx hb dX2_findNextPlan_63 (by decide) ?_
    refine W.eq (g2 := F0 mm 70 ls [.int (npF s (i_3 + 1)), .ref S]) (by rw [(show (pn s i_3 0) = npF s (i_3 + 1) from ((if_neg c_9).trans (if_pos (Int32.not_le.mp c_10))).symm)] <;> rfl) ?_
    refine gh_put (v := .int (npF s (i_3 + 1))) hC hg hT.1 fX2_41_2 rfl rfl (Nat.le_of_ble_eq_true rfl) dX2_findNextPlan_70 (fun g H locs hg hw hn => ?_)
    have hkc : g (D2.K D2.L[i_3]) = some (((V.2.2 9), 1, 0), oo 10 [.int (pn s i_3 0), .int (pn s i_3 1)]) := (hn _ (gh_neK hkc hT.1 rfl)).trans hkc
    have hf9 : gh_fv S [0] _ g := (gh_fw.st hT.1 hn).v
    have hF : gh_fw S [0, 11] g0 g := hF.set hT.1 (by decide) hn
    have hD2 : lm_D V S 11 g (ad 13) 10 D2 := hf9.lmD (by decide) (by decide) hD2
    have hit : it_P S 11 g it (ad 13) D2 19 (i_3 + 1) := hf9.it (by decide) hit
    have hT : st_C V g S ad (va_up (va_up I 3 (npF s i_3)) 3 (npF s (i_3 + 1))) A P := hT.setI 3 hw hn
    refine lv_goto (tgt := 20) hx hb dX2_findNextPlan_73 (by decide) ?_
    exact ih20 _ _ _ _ hg ⟨(hT.eqI (va_up3 _ _ _)), hF, hD2, hit, lv_sub hl [1, 2] rfl⟩
