/-! PLAN: the law of the list of plans -/
section PlS
variable {V : gh_V} {s : Nat → Int32} {M : List (Nat × Nat × Option Nat)} {c t z k n P : Nat} {x : Int32}
theorem rm_pn (hP : s 529 = nI P) (h16 : P ≤ 16) (hk : k < P) : nP (rmS s (530 + 3 * k) P) = P - 1 ∧ ∀ i j, i < P - 1 → j < 3 → pn (rmS s (530 + 3 * k) P) i j = pn s (if i < k then i else i + 1) j := by
  have hv : ∀ m, rmS s (530 + 3 * k) P m = if 530 + 3 * (P - 1) ≤ m ∧ m < 530 + 3 * (P - 1) + 3 then 0 else if 530 + 3 * k ≤ m ∧ m < 530 + 3 * k + (530 + 3 * (P - 1) - (530 + 3 * k)) then upd s 529 (s 529 - 1) (m + 3) else upd s 529 (s 529 - 1) m := fun _ => rfl
  refine ⟨?_, fun i j hi hj => ?_⟩
  · unfold nP
    rw [hv, if_neg (by omega), if_neg (by omega), upd, if_pos rfl, show s 529 - 1 = nI (P - 1) from nx_sub (b := 1) hP rfl (by omega), nI_clamp (by omega)]
  · unfold pn
    rw [hv, if_neg (by omega)]
    by_cases h : i < k
    · rw [if_neg (by omega), if_pos h, upd, if_neg (by omega)]
    · rw [if_pos (by omega), if_neg h, upd, if_neg (by omega)]
      congr 1
      omega
theorem put3_v {a : Nat} {u y w : Int32} (m : Nat) : put3 s a u y w m = if m = a + 2 then w else if m = a + 1 then y else if m = a then u else s m := rfl
theorem app_pn {u y w : Int32} (hP : s 529 = nI P) (h16 : P < 16) : nP (put3 (upd s 529 (s 529 + 1)) (530 + 3 * P) u y w) = P + 1 ∧ (∀ i j, i < P → j < 3 → pn (put3 (upd s 529 (s 529 + 1)) (530 + 3 * P) u y w) i j = pn s i j) ∧ pn (put3 (upd s 529 (s 529 + 1)) (530 + 3 * P) u y w) P 0 = u ∧ pn (put3 (upd s 529 (s 529 + 1)) (530 + 3 * P) u y w) P 1 = y ∧ pn (put3 (upd s 529 (s 529 + 1)) (530 + 3 * P) u y w) P 2 = w := by
  refine ⟨?_, fun i j hi hj => ?_, ?_, ?_, ?_⟩
  · unfold nP
    rw [put3_v, if_neg (by omega), if_neg (by omega), if_neg (by omega), upd, if_pos rfl, show s 529 + 1 = nI (P + 1) from nx_add (b := 1) hP rfl, nI_clamp (by omega)]
  · unfold pn
    rw [put3_v, if_neg (by omega), if_neg (by omega), if_neg (by omega), upd, if_neg (by omega)]
  · unfold pn
    rw [put3_v, if_neg (by omega), if_neg (by omega), if_pos (by omega)]
  · unfold pn
    rw [put3_v, if_neg (by omega), if_pos (by omega)]
  · unfold pn
    rw [put3_v, if_pos (by omega)]
theorem set_pn {u y w : Int32} (hP : s 529 = nI P) (h16 : P ≤ 16) : nP (put3 (upd s 529 (s 529 + 0)) (530 + 3 * k) u y w) = P ∧ (∀ i j, i ≠ k → j < 3 → pn (put3 (upd s 529 (s 529 + 0)) (530 + 3 * k) u y w) i j = pn s i j) ∧ pn (put3 (upd s 529 (s 529 + 0)) (530 + 3 * k) u y w) k 0 = u ∧ pn (put3 (upd s 529 (s 529 + 0)) (530 + 3 * k) u y w) k 1 = y ∧ pn (put3 (upd s 529 (s 529 + 0)) (530 + 3 * k) u y w) k 2 = w := by
  refine ⟨?_, fun i j hi hj => ?_, ?_, ?_, ?_⟩
  · unfold nP
    rw [put3_v, if_neg (by omega), if_neg (by omega), if_neg (by omega), upd, if_pos rfl, Int32.add_zero, hP, nI_clamp (by omega)]
  · unfold pn
    rw [put3_v, if_neg (by omega), if_neg (by omega), if_neg (by omega), upd, if_neg (by omega)]
  · unfold pn
    rw [put3_v, if_neg (by omega), if_neg (by omega), if_pos (by omega)]
  · unfold pn
    rw [put3_v, if_neg (by omega), if_pos (by omega)]
  · unfold pn
    rw [put3_v, if_pos (by omega)]
/-- the list of plans, by its entries -/
theorem pls_eq {s1 : Nat → Int32} (h : ∀ i, i < n → pn s1 i 0 = pn s i 0 ∧ pn s1 i 1 = pn s i 1 ∧ pn s1 i 2 = pn s i 2) : pls V s1 n = pls V s n := by
  unfold pls
  apply List.map_congr_left
  intro i hi
  obtain ⟨h0, h1, h2⟩ := h i (by have := (List.mem_range'_1.mp hi).2; omega)
  unfold pcode pval
  rw [h0, h1, h2]
theorem pls_app (n : Nat) : pls V s (n + 1) = pls V s n ++ [(pcode s n, some (pval V s n))] := by
  unfold pls
  rw [List.range'_1_concat, List.map_append, Nat.zero_add]; rfl
theorem pls_ge : ∀ n, (pls V s n).filter (fun q => !(q.1 == c)) = if ∃ k, k < n ∧ pcode s k = c then (pls V s n).filter (fun q => !(q.1 == c)) else pls V s n := fun n => by
  by_cases h : ∃ k, k < n ∧ pcode s k = c
  · rw [if_pos h]
  · rw [if_neg h, List.filter_eq_self]
    intro q hq
    obtain ⟨i, hi, rfl⟩ := pls_mem.mp hq
    have : pcode s i ≠ c := fun e => h ⟨i, hi, e⟩
    simpa using this
/-- taking out plan k -/
theorem pls_rm {s1 : Nat → Int32} (hk : k < n) (hd : ∀ i, i < n → pcode s i = pcode s k → i = k) (h : ∀ i j, i < n - 1 → j < 3 → pn s1 i j = pn s (if i < k then i else i + 1) j) : (pls V s n).filter (fun q => !(q.1 == pcode s k)) = pls V s1 (n - 1) := by
  have key : ∀ m, m ≤ n → (pls V s m).filter (fun q => !(q.1 == pcode s k)) = pls V s1 (if m ≤ k then m else m - 1) := by
    intro m
    induction m with
    | zero => intro _; rw [if_pos (by omega)]; rfl
    | succ m ih =>
      intro hm
      rw [pls_app, List.filter_append, ih (by omega)]
      by_cases e : m = k
      · subst e
        rw [if_pos (by omega), if_neg (by omega)]
        simp
      · have h1 : (pcode s m == pcode s k) = false := by
          rw [beq_eq_false_iff_ne]; exact fun u => e (hd m (by omega) u)
        rw [show List.filter (fun q => !(q.1 == pcode s k)) [(pcode s m, some (pval V s m))] = [(pcode s m, some (pval V s m))] by simp [h1]]
        by_cases c : m ≤ k
        · rw [if_pos c, if_pos (by omega), pls_app]
          congr 3
          · unfold pcode; rw [h m 0 (by omega) (by omega), h m 1 (by omega) (by omega), if_pos (by omega)]
          · unfold pval; rw [h m 2 (by omega) (by omega), if_pos (by omega)]
        · rw [if_neg c, if_neg (by omega)]
          obtain ⟨r, rfl⟩ : ∃ r, m = r + 1 := ⟨m - 1, by omega⟩
          rw [show r + 1 + 1 - 1 = r + 1 by omega, show r + 1 - 1 = r by omega, pls_app]
          congr 3
          · unfold pcode; rw [h r 0 (by omega) (by omega), h r 1 (by omega) (by omega), if_neg (by omega)]
          · unfold pval; rw [h r 2 (by omega) (by omega), if_neg (by omega)]
  rw [key n (Nat.le_refl _), if_neg (by omega)]
theorem pls_set {s1 : Nat → Int32} {v : Nat} (hk : k < n) (hd : ∀ i, i < n → pcode s i = pcode s k → i = k) (h : ∀ i j, i < n → i ≠ k → j < 3 → pn s1 i j = pn s i j) (hc : pcode s1 k = pcode s k) (hv : pval V s1 k = v) : (pls V s n).map (fun q => if q.1 = pcode s k then (q.1, some v) else q) = pls V s1 n := by
  unfold pls
  rw [List.map_map]
  apply List.map_congr_left
  intro i hi
  have hi : i < n := by have := (List.mem_range'_1.mp hi).2; omega
  show (if pcode s i = pcode s k then (pcode s i, some v) else (pcode s i, some (pval V s i))) = _
  by_cases e : i = k
  · subst e
    rw [if_pos rfl, hc, hv]
  · rw [if_neg (fun u => e (hd i hi u))]
    unfold pcode pval
    rw [h i 0 hi e (by omega), h i 1 hi e (by omega), h i 2 hi e (by omega)]
end PlS
/-- plan, as the map does it: taking out -/
theorem plan_del {V : gh_V} {s : Nat → Int32} {M : List (Nat × Nat × Option Nat)} {t z : Nat} (hJ : jn s) (hP : s 529 = nI (nP s)) (h : M.map (fun e => (e.1, e.2.2)) = pls V s (nP s)) (ht : t < 10000) (hz : z < 8) : (lm_del M (8 * t + z)).map (fun e => (e.1, e.2.2)) = pls V (planS s (nI t) (nI z) (-1) (nP s)) (nP (planS s (nI t) (nI z) (-1) (nP s))) ∧ jn (planS s (nI t) (nI z) (-1) (nP s)) := by
  rw [lm_del_map, h]
  unfold planS
  rw [if_pos rfl]
  rcases plan_dec hJ ht hz with ⟨k, hk, hc, ha, -⟩ | ⟨hn, ha, -⟩
  · have hne : ¬ nI (530 + 3 * k) = -1 := nI_ne_m1 (by have := hJ.1; omega)
    rw [ha, if_neg hne, nI_clamp (by have := hJ.1; omega)]
    obtain ⟨h1, h2⟩ := rm_pn hP hJ.1 hk
    rw [h1, ← hc]
    refine ⟨pls_rm hk (fun i hi e => hJ.2.2 i k hi hk e) h2, ?_⟩
    generalize rmS s (530 + 3 * k) (nP s) = s1 at h1 h2 ⊢
    have hpc : ∀ i, i < nP s - 1 → pcode s1 i = pcode s (if i < k then i else i + 1) := fun i hi => by unfold pcode; rw [h2 i 0 hi (by omega), h2 i 1 hi (by omega)]
    refine ⟨by rw [h1]; have := hJ.1; omega, fun i hi => ?_, fun i j hi hj e => ?_⟩
    · rw [h1] at hi
      rw [h2 i 0 hi (by omega), h2 i 1 hi (by omega), h2 i 2 hi (by omega)]
      exact hJ.2.1 _ (by split <;> omega)
    · rw [h1] at hi hj
      rw [hpc i hi, hpc j hj] at e
      have := hJ.2.2 _ _ (by split <;> omega) (by split <;> omega) e
      split at this <;> split at this <;> omega
  · rw [ha, if_pos rfl, pls_ge, if_neg (fun ⟨k, hk, e⟩ => hn k hk e)]
    exact ⟨rfl, hJ⟩
theorem plan_put {V : gh_V} {s : Nat → Int32} {M : List (Nat × Nat × Option Nat)} {t z b ka : Nat} (hJ : jn s) (hP : s 529 = nI (nP s)) (h : M.map (fun e => (e.1, e.2.2)) = pls V s (nP s)) (ht : t < 10000) (hz : z < 8) (hb : b < 4) (h16 : nP s < 16 ∨ ¬ planAt s (nI t) (nI z) (nP s) = -1) : (lm_put M (8 * t + z) ka (some (V.2.2 (10 + (b + 128))))).map (fun e => (e.1, e.2.2)) = pls V (planS s (nI t) (nI z) (nI b) (nP s)) (nP (planS s (nI t) (nI z) (nI b) (nP s))) ∧ jn (planS s (nI t) (nI z) (nI b) (nP s)) := by
  rw [lm_put_map, h]
  unfold planS
  rw [if_neg (nI_ne_m1 (show b < 2 ^ 31 by omega))]
  have hpv : ∀ s1 k, pn s1 k 2 = nI b → pval V s1 k = V.2.2 (10 + (b + 128)) := fun s1 k e => by unfold pval; rw [e, nI_clamp (by omega)]
  rcases plan_dec hJ ht hz with ⟨k, hk, hc, ha, -⟩ | ⟨hn, ha, -⟩
  · have hne : ¬ nI (530 + 3 * k) = -1 := nI_ne_m1 (by have := hJ.1; omega)
    rw [ha, if_neg hne, nI_clamp (by have := hJ.1; omega)]
    have hany := (M_get hJ h hk).2
    rw [hc] at hany
    rw [hany, if_pos rfl]
    obtain ⟨h1, h2, e0, e1, e2⟩ := set_pn (k := k) (u := nI t) (y := nI z) (w := nI b) hP hJ.1
    rw [h1, ← hc]
    generalize put3 (upd s 529 (s 529 + 0)) (530 + 3 * k) (nI t) (nI z) (nI b) = s1 at h1 h2 e0 e1 e2 ⊢
    have hcc : pcode s1 k = pcode s k := by rw [hc]; exact pcode_eq (b := b) ht hz e0 e1
    refine ⟨pls_set hk (fun i hi e => hJ.2.2 i k hi hk e) (fun i j _ hne hj => h2 i j hne hj) hcc (hpv s1 k e2), ?_⟩
    have hpc : ∀ i, i < nP s → pcode s1 i = pcode s i := fun i hi => by
      by_cases e : i = k
      · rw [e]; exact hcc
      · unfold pcode; rw [h2 i 0 e (by omega), h2 i 1 e (by omega)]
    refine ⟨by rw [h1]; exact hJ.1, fun i hi => ?_, fun i j hi hj e => ?_⟩
    · rw [h1] at hi
      by_cases e : i = k
      · rw [e]; exact ⟨t, z, b, ht, hz, hb, e0, e1, e2⟩
      · rw [h2 i 0 e (by omega), h2 i 1 e (by omega), h2 i 2 e (by omega)]; exact hJ.2.1 i hi
    · rw [h1] at hi hj
      rw [hpc i hi, hpc j hj] at e
      exact hJ.2.2 i j hi hj e
  · have hlt : nP s < 16 := by
      rcases h16 with h | h
      · exact h
      · exact absurd ha h
    rw [ha, if_pos rfl]
    have hany := (M_getN h hn).2
    rw [hany, if_neg (by decide)]
    obtain ⟨h1, h2, e0, e1, e2⟩ := app_pn (u := nI t) (y := nI z) (w := nI b) hP hlt
    rw [h1]
    generalize put3 (upd s 529 (s 529 + 1)) (530 + 3 * nP s) (nI t) (nI z) (nI b) = s1 at h1 h2 e0 e1 e2 ⊢
    have hcc : pcode s1 (nP s) = 8 * t + z := pcode_eq (b := b) ht hz e0 e1
    have hpc : ∀ i, i < nP s → pcode s1 i = pcode s i := fun i hi => by unfold pcode; rw [h2 i 0 hi (by omega), h2 i 1 hi (by omega)]
    refine ⟨?_, ⟨by rw [h1]; omega, fun i hi => ?_, fun i j hi hj e => ?_⟩⟩
    · rw [pls_app, pls_eq (fun i hi => ⟨h2 i 0 hi (by omega), h2 i 1 hi (by omega), h2 i 2 hi (by omega)⟩), hcc, hpv s1 (nP s) e2]
    · rw [h1] at hi
      by_cases e : i = nP s
      · rw [e]; exact ⟨t, z, b, ht, hz, hb, e0, e1, e2⟩
      · rw [h2 i 0 (by omega) (by omega), h2 i 1 (by omega) (by omega), h2 i 2 (by omega) (by omega)]; exact hJ.2.1 i (by omega)
    · rw [h1] at hi hj
      by_cases e1 : i = nP s
      · by_cases e2 : j = nP s
        · omega
        · rw [e1, hcc, hpc j (by omega)] at e; exact absurd e.symm (hn j (by omega))
      · by_cases e2 : j = nP s
        · rw [e2, hcc, hpc i (by omega)] at e; exact absurd e (hn i (by omega))
        · rw [hpc i (by omega), hpc j (by omega)] at e; exact hJ.2.2 i j (by omega) (by omega) e
def cpN (s : Nat → Int32) (t z : Nat) (x : Int32) : Int32 := if s 0 < nI t then (if x = -1 then 1 else if ¬ planAt s (nI t) (nI z) (nP s) = -1 then 1 else if nP s < 16 then 1 else 0) else 0
theorem pl_any {V : gh_V} {s : Nat → Int32} {M : List (Nat × Nat × Option Nat)} {t z : Nat} (hJ : jn s) (h : M.map (fun e => (e.1, e.2.2)) = pls V s (nP s)) (ht : t < 10000) (hz : z < 8) : ¬ planAt s (nI t) (nI z) (nP s) = -1 ↔ M.any (fun e => e.1 == 8 * t + z) = true := by
  rcases plan_dec hJ ht hz with ⟨k, hk, hc, ha, -⟩ | ⟨hn, ha, -⟩
  · rw [ha, ← hc, (M_get hJ h hk).2]
    exact ⟨fun _ => rfl, fun _ => nI_ne_m1 (by have := hJ.1; omega)⟩
  · rw [ha, (M_getN h hn).2]
    exact ⟨fun h9 => absurd rfl h9, fun h9 => absurd h9 (by decide)⟩
set_option maxRecDepth 100000
theorem hd_J23_intValue : yJ23_intValue.cls = RJ23 ∧ yJ23_intValue.cls ≠ "java/lang/invoke/MethodHandle" ∧ yJ23_intValue.cls ≠ "java/lang/invoke/VarHandle" ∧ (parseMethodDescriptor yJ23_intValue.desc).map (fun d => d.parameters.length) = some 0 := by decide +kernel
theorem hd_X12_init : yX12_init.cls = RX12 ∧ yX12_init.cls ≠ "java/lang/invoke/MethodHandle" ∧ yX12_init.cls ≠ "java/lang/invoke/VarHandle" ∧ (parseMethodDescriptor yX12_init.desc).map (fun d => d.parameters.length) = some 2 := by decide +kernel
theorem hdF_Map_get_1 : (⟨"java/util/Map", "get", "(Ljava/lang/Object;)Ljava/lang/Object;"⟩ : MethodName).cls ≠ "java/lang/invoke/MethodHandle" ∧ (⟨"java/util/Map", "get", "(Ljava/lang/Object;)Ljava/lang/Object;"⟩ : MethodName).cls ≠ "java/lang/invoke/VarHandle" ∧ (parseMethodDescriptor (⟨"java/util/Map", "get", "(Ljava/lang/Object;)Ljava/lang/Object;"⟩ : MethodName).desc).map (fun d => d.parameters.length) = some 1 := by decide +kernel
set_option maxHeartbeats 1000000 in
set_option maxRecDepth 100000 in
theorem j_X2_plannedFor (l : Launch) (V : gh_V) (g0 : gh_G) (S : Nat) (ad : Nat → Nat) (I : Nat → Int32) (A : Nat → Nat → Int32) (P : Nat → Option Nat) (hT0 : st_C V g0 S ad I A P) (hTR : tr_S l V) (s : Nat → Int32) (M : List (Nat × Nat × Option Nat)) (hJn : jn s) (hM0 : lm_P V S 11 g0 (ad 13) 10 M) (hMp : M.map (fun e => (e.1, e.2.2)) = pls V s (nP s)) (t9 z9 : Nat) (ht9 : t9 < 10000) (hz9 : z9 < 8) : MI l yX2_plannedFor cX2_plannedFor 4 (some .int) ({ frames := 11, cells := 1, slots := 2, locals := 371 } : Room) V [.ref S, .int (nI t9), .int (nI z9)] g0 (fun r g1 => r = plannedN s (nI t9) (nI z9) (nP s) ∧ st_C V g1 S ad I A P ∧ lm_P V S 11 g1 (ad 13) 10 M ∧ gh_fw S [] g0 g1) := by
  refine MG.of RX2 (by decide) rfl (Nat.le_of_ble_eq_true rfl) (fun pp ee s9 mm args below meth c ls hC hg hr hlk hnm hl => ?_)
  have hx := hC.1.1
  have hb := hC.1.2.1
  have hml := hC.1.2.2.1
  have hown := hC.1.2.2.2.1
  have hts := hC.1.2.2.2.2
  have hl : lv_has ls 4 [(0, .ref S), (1, .int (nI t9)), (2, .int (nI z9))] := hl
  obtain ⟨g, hg, hgg⟩ : ∃ g, gh_W V (gh_A g0 s9.heap.size) s9 g s9.heap [] ∧ g = g0 := ⟨g0, hg, rfl⟩
  have hT := hT0
  rw [← hgg] at hT
  have hF : gh_fw S [] g0 g := by rw [hgg]; exact gh_fw.rf
  have hM := hM0
  rw [← hgg] at hM
  refine lv_aload_n hx hb dX2_plannedFor_0 rfl (lv_at hl 0 rfl) ?_
  refine gh_get (v := .ref (ad 13)) hC hg hT.1 fX2_70_2 rfl dX2_plannedFor_1 ?_
  have hT_o := hT
  have hF_o := hF
  have hM_o := hM
  refine gh_new (ci := 10) (fs := [.int 0, .int 0]) hC hg (fun q9 => ((V.2.2 9), 1, 0)) rfl in_X12 tyX12 tyX12_ok q2337 q2338 q169 (by decide +kernel) (Nat.le_of_ble_eq_true rfl) (Nat.le_of_ble_eq_true rfl) dX2_plannedFor_4 (fun q_1 g H hg h0 hw hn => ?_)
  have hf9 : gh_fv S [] _ g := (gh_fw.nw h0 hn).v
  have hF : gh_fw S [] g0 g := hF.new h0 hn
  have hM : lm_P V S 11 g (ad 13) 10 M := hf9.lm (by decide) (by decide) hM
  have hT : st_C V g S ad I A P := hT.nw h0 hn
  have c_2 : g q_1 = some (((V.2.2 9), 1, 0), oo 10 [.int 0, .int 0]) := hw
  have h0k_q_1 := h0
  have hnk_q_1 := hn
  refine lv_dup hx hb dX2_plannedFor_7 rfl ?_
  refine lv_iload_n hx hb dX2_plannedFor_8 rfl (lv_at hl 1 rfl) ?_
  refine lv_iload_n hx hb dX2_plannedFor_9 rfl (lv_at hl 2 rfl) ?_
  refine gh_callv hg (gh_runI (As := [.int (nI t9), .int (nI z9)]) (rest := [.ref q_1, .ref (ad 13)]) hC hg (j_X12_init l V _ q_1 (nI t9) (nI z9) ((V.2.2 9), 1, 0) c_2) 2 (lw_meth q2341) q169 q2339 q2340 rfl hd_X12_init.2 ⟨Nat.le_of_ble_eq_true rfl, Nat.le_of_ble_eq_true rfl⟩ rfl hl.1 rfl (Nat.le_of_ble_eq_true rfl) dX2_plannedFor_10 ⟨Nat.le_of_ble_eq_true rfl, Nat.le_of_ble_eq_true rfl⟩) (fun g H locs hg hp => ?_)
  obtain ⟨hw, hn9⟩ := hp
  have hn : ∀ b, b ≠ q_1 → g b = _ := fun b hb => (hn9 b hb).trans (hnk_q_1 b hb)
  have h0 := h0k_q_1
  have hfw9 : gh_fw S [] _ g := gh_fw.nw h0 hn
  have hf9 := hfw9.v
  have hF : gh_fw S [] g0 g := hF_o.new h0 hn
  have hM : lm_P V S 11 g (ad 13) 10 M := hf9.lm (by decide) (by decide) hM_o
  have hT : st_C V g S ad I A P := hT_o.nw h0 hn
  have c_2 : g q_1 = some (((V.2.2 9), 1, 0), oo 10 [.int (nI t9), .int (nI z9)]) := hw
  have hky9 : ky_P V g 10 q_1 (8 * t9 + z9) := ⟨t9, z9, c_2, (Or.inr ⟨rfl, ht9, hz9, rfl⟩)⟩
  obtain ⟨D, hD, hMD⟩ := hM
  have hm9 := (hD).1.1.cm
  refine gh_callFq hg (gh_runF (x := ⟨"java/util/Map", "get", "(Ljava/lang/Object;)Ljava/lang/Object;"⟩) (As := [.ref q_1]) (rest := []) hC hg (m_get l V _ hTR S 11 (ad 13) 10 D hD q_1 (8 * t9 + z9) hky9) 1 (lw_F q3366 q3371 q3369 q110 q3373) hm9 rfl (by decide +kernel) q3372 q3370 q1305 hdF_Map_get_1 ⟨Nat.le_of_ble_eq_true rfl, Nat.le_of_ble_eq_true rfl⟩ rfl hl.1 rfl (Nat.le_of_ble_eq_true rfl) dX2_plannedFor_13 ⟨Nat.le_of_ble_eq_true rfl, Nat.le_of_ble_eq_true rfl⟩) (fun r_3 g H locs hg hp => ?_)
  obtain ⟨hp, hq⟩ := hp
  subst hp
  rw [← hq] at hT hF hky9 hD c_2 hm9
  try rw [← hq] at hgg
  refine W.eq (g2 := F0 mm 18 ls [va_rf (lm_get M (8 * t9 + z9))]) (by rw [hMD] <;> rfl) ?_
  obtain ⟨k9, hk9, hkc, hka, hkp⟩ | ⟨hkn, hka, hkp⟩ := plan_dec hJn ht9 hz9
  · skip
    obtain ⟨t0, z0, b9, -, -, hb9, -, -, e2⟩ := hJn.2.1 k9 hk9
    have hget := (M_get hJn hMp hk9).1
    rw [hkc, show pval V s k9 = V.2.2 (10 + (b9 + 128)) from by unfold pval; rw [e2, nI_clamp (by omega)]] at hget
    refine W.eq (g2 := F0 mm 18 ls [.ref (V.2.2 (10 + (b9 + 128)))]) (by rw [hget] <;> rfl) ?_
    refine gh_castI (j := b9 + 128) hC hg (by omega) q2383 dX2_plannedFor_18 ?_
    refine lv_astore_n (lv' := [(3, .ref (V.2.2 (10 + (b9 + 128)))), (0, .ref S), (1, .int (nI t9)), (2, .int (nI z9))]) hx hb dX2_plannedFor_21 rfl hl (by decide) rfl (fun ls hl => ?_)
    refine lv_aload_n hx hb dX2_plannedFor_22 rfl (lv_at hl 0 rfl) ?_
    refine lv_ifnonnull (tgt := 30) hx hb dX2_plannedFor_23 (by decide) ?_
    refine lv_aload_n hx hb dX2_plannedFor_30 rfl (lv_at hl 0 rfl) ?_
    refine gh_calli hg (gh_runVr (As := []) (rest := []) hC hg (j_J23_intValue l V _ b9 (by omega)) 0 (lw_V q2384 q2197 q2198 q129 q2199) (gh_Irec (j := b9 + 128) hC hg (by omega)) hd_J23_intValue ⟨Nat.le_of_ble_eq_true rfl, Nat.le_of_ble_eq_true rfl⟩ rfl hl.1 rfl (Nat.le_of_ble_eq_true rfl) dX2_plannedFor_31 ⟨Nat.le_of_ble_eq_true rfl, Nat.le_of_ble_eq_true rfl⟩) (fun r_4 g H locs hg hp => ?_)
    obtain ⟨hp, hq⟩ := hp
    replace hp : (nI b9) = r_4 := hp.symm
    subst hp
    rw [← hq] at hT hF hky9 hD c_2 hm9
    try rw [← hq] at hgg
    exact gh_reti hC hg hr hlk (⟨by rw [hkp, e2], hT, ⟨D, hD, hMD⟩, hF⟩) dX2_plannedFor_34 (Nat.le_of_ble_eq_true rfl) (Nat.le_of_ble_eq_true rfl)
  have hget := (M_getN hMp hkn).1
  refine W.eq (g2 := F0 mm 18 ls [.null]) (by rw [hget] <;> rfl) ?_
  refine lv_castN hx hb dX2_plannedFor_18 ?_
  refine lv_astore_nN (lv' := [(3, .null), (0, .ref S), (1, .int (nI t9)), (2, .int (nI z9))]) hx hb dX2_plannedFor_21 rfl hl (by decide) rfl (fun ls hl => ?_)
  refine lv_aload_nN hx hb dX2_plannedFor_22 rfl (lv_at hl 0 rfl) ?_
  refine lv_ifnonnullN hx hb dX2_plannedFor_23 ?_
  refine lv_iconst (v := (-1)) hx hb dX2_plannedFor_26 (by decide) ?_
  refine lv_goto (tgt := 34) hx hb dX2_plannedFor_27 (by decide) ?_
  exact gh_reti hC hg hr hlk (⟨hkp.symm, hT, ⟨D, hD, hMD⟩, hF⟩) dX2_plannedFor_34 (Nat.le_of_ble_eq_true rfl) (Nat.le_of_ble_eq_true rfl)
set_option maxRecDepth 100000
theorem hd_J23_valueOf : yJ23_valueOf.cls = RJ23 ∧ yJ23_valueOf.cls ≠ "java/lang/invoke/MethodHandle" ∧ yJ23_valueOf.cls ≠ "java/lang/invoke/VarHandle" ∧ (parseMethodDescriptor yJ23_valueOf.desc).map (fun d => d.parameters.length) = some 1 := by decide +kernel
theorem hd_X2_findNextPlan : yX2_findNextPlan.cls = RX2 ∧ yX2_findNextPlan.cls ≠ "java/lang/invoke/MethodHandle" ∧ yX2_findNextPlan.cls ≠ "java/lang/invoke/VarHandle" ∧ (parseMethodDescriptor yX2_findNextPlan.desc).map (fun d => d.parameters.length) = some 0 := by decide +kernel
theorem hdF_Map_containsKey_1 : (⟨"java/util/Map", "containsKey", "(Ljava/lang/Object;)Z"⟩ : MethodName).cls ≠ "java/lang/invoke/MethodHandle" ∧ (⟨"java/util/Map", "containsKey", "(Ljava/lang/Object;)Z"⟩ : MethodName).cls ≠ "java/lang/invoke/VarHandle" ∧ (parseMethodDescriptor (⟨"java/util/Map", "containsKey", "(Ljava/lang/Object;)Z"⟩ : MethodName).desc).map (fun d => d.parameters.length) = some 1 := by decide +kernel
theorem hdF_Map_put_2 : (⟨"java/util/Map", "put", "(Ljava/lang/Object;Ljava/lang/Object;)Ljava/lang/Object;"⟩ : MethodName).cls ≠ "java/lang/invoke/MethodHandle" ∧ (⟨"java/util/Map", "put", "(Ljava/lang/Object;Ljava/lang/Object;)Ljava/lang/Object;"⟩ : MethodName).cls ≠ "java/lang/invoke/VarHandle" ∧ (parseMethodDescriptor (⟨"java/util/Map", "put", "(Ljava/lang/Object;Ljava/lang/Object;)Ljava/lang/Object;"⟩ : MethodName).desc).map (fun d => d.parameters.length) = some 2 := by decide +kernel
set_option maxHeartbeats 1000000 in
set_option maxRecDepth 100000 in
theorem j_X2_canPlan (l : Launch) (V : gh_V) (g0 : gh_G) (S : Nat) (ad : Nat → Nat) (I : Nat → Int32) (A : Nat → Nat → Int32) (P : Nat → Option Nat) (hT0 : st_C V g0 S ad I A P) (hTR : tr_S l V) (s : Nat → Int32) (M : List (Nat × Nat × Option Nat)) (hJn : jn s) (hM0 : lm_P V S 11 g0 (ad 13) 10 M) (hMp : M.map (fun e => (e.1, e.2.2)) = pls V s (nP s)) (t9 z9 : Nat) (ht9 : t9 < 10000) (hz9 : z9 < 8) (x9 : Int32) (hI0 : I 0 = s 0) : MI l yX2_canPlan cX2_canPlan 4 (some .boolean) ({ frames := 11, cells := 1, slots := 2, locals := 370 } : Room) V [.ref S, .int (nI t9), .int (nI z9), .int x9] g0 (fun r g1 => r = cpN s t9 z9 x9 ∧ st_C V g1 S ad I A P ∧ lm_P V S 11 g1 (ad 13) 10 M ∧ gh_fw S [] g0 g1) := by
  refine MG.of RX2 (by decide) rfl (Nat.le_of_ble_eq_true rfl) (fun pp ee s9 mm args below meth c ls hC hg hr hlk hnm hl => ?_)
  have hx := hC.1.1
  have hb := hC.1.2.1
  have hml := hC.1.2.2.1
  have hown := hC.1.2.2.2.1
  have hts := hC.1.2.2.2.2
  have hl : lv_has ls 4 [(0, .ref S), (1, .int (nI t9)), (2, .int (nI z9)), (3, .int x9)] := hl
  obtain ⟨g, hg, hgg⟩ : ∃ g, gh_W V (gh_A g0 s9.heap.size) s9 g s9.heap [] ∧ g = g0 := ⟨g0, hg, rfl⟩
  have hT := hT0
  rw [← hgg] at hT
  have hF : gh_fw S [] g0 g := by rw [hgg]; exact gh_fw.rf
  have hM := hM0
  rw [← hgg] at hM
  refine lv_iload_n hx hb dX2_canPlan_0 rfl (lv_at hl 1 rfl) ?_
  refine lv_aload_n hx hb dX2_canPlan_1 rfl (lv_at hl 0 rfl) ?_
  refine gh_get (v := .int (I 0)) hC hg hT.1 fX2_82_2 rfl dX2_canPlan_2 ?_
  refine W.eq (g2 := F0 mm 5 ls [.int (s 0), .int (nI t9)]) (by rw [hI0] <;> rfl) ?_
  refine lv_icmp_le (tgt := 52) hx hb dX2_canPlan_5 (by decide) (fun c_1 => ?_) (fun c_1 => ?_)
  · skip
    refine lv_iconst (v := 0) hx hb dX2_canPlan_52 (by decide) ?_
    exact gh_retz rfl hC hg hr hlk (⟨by unfold cpN; rw [if_neg (Int32.not_lt.mpr c_1)], hT, hM, hF⟩) dX2_canPlan_53 (Nat.le_of_ble_eq_true rfl) (Nat.le_of_ble_eq_true rfl)
  refine lv_iload_n hx hb dX2_canPlan_8 rfl (lv_at hl 3 rfl) ?_
  refine lv_iconst (v := (-1)) hx hb dX2_canPlan_9 (by decide) ?_
  refine lv_icmp_eq (tgt := 48) hx hb dX2_canPlan_10 (by decide) (fun c_2 => ?_) (fun c_2 => ?_)
  · skip
    refine lv_iconst (v := 1) hx hb dX2_canPlan_48 (by decide) ?_
    refine lv_goto (tgt := 53) hx hb dX2_canPlan_49 (by decide) ?_
    exact gh_retz rfl hC hg hr hlk (⟨by unfold cpN; rw [if_pos (Int32.not_le.mp c_1)]; rw [if_pos c_2], hT, hM, hF⟩) dX2_canPlan_53 (Nat.le_of_ble_eq_true rfl) (Nat.le_of_ble_eq_true rfl)
  refine lv_aload_n hx hb dX2_canPlan_13 rfl (lv_at hl 0 rfl) ?_
  refine gh_get (v := .ref (ad 13)) hC hg hT.1 fX2_70_2 rfl dX2_canPlan_14 ?_
  have hT_o := hT
  have hF_o := hF
  have hM_o := hM
  refine gh_new (ci := 10) (fs := [.int 0, .int 0]) hC hg (fun q9 => ((V.2.2 9), 1, 0)) rfl in_X12 tyX12 tyX12_ok q2337 q2338 q169 (by decide +kernel) (Nat.le_of_ble_eq_true rfl) (Nat.le_of_ble_eq_true rfl) dX2_canPlan_17 (fun q_3 g H hg h0 hw hn => ?_)
  have hf9 : gh_fv S [] _ g := (gh_fw.nw h0 hn).v
  have hF : gh_fw S [] g0 g := hF.new h0 hn
  have hM : lm_P V S 11 g (ad 13) 10 M := hf9.lm (by decide) (by decide) hM
  have hT : st_C V g S ad I A P := hT.nw h0 hn
  have c_4 : g q_3 = some (((V.2.2 9), 1, 0), oo 10 [.int 0, .int 0]) := hw
  have h0k_q_3 := h0
  have hnk_q_3 := hn
  refine lv_dup hx hb dX2_canPlan_20 rfl ?_
  refine lv_iload_n hx hb dX2_canPlan_21 rfl (lv_at hl 1 rfl) ?_
  refine lv_iload_n hx hb dX2_canPlan_22 rfl (lv_at hl 2 rfl) ?_
  refine gh_callv hg (gh_runI (As := [.int (nI t9), .int (nI z9)]) (rest := [.ref q_3, .ref (ad 13)]) hC hg (j_X12_init l V _ q_3 (nI t9) (nI z9) ((V.2.2 9), 1, 0) c_4) 2 (lw_meth q2341) q169 q2339 q2340 rfl hd_X12_init.2 ⟨Nat.le_of_ble_eq_true rfl, Nat.le_of_ble_eq_true rfl⟩ rfl hl.1 rfl (Nat.le_of_ble_eq_true rfl) dX2_canPlan_23 ⟨Nat.le_of_ble_eq_true rfl, Nat.le_of_ble_eq_true rfl⟩) (fun g H locs hg hp => ?_)
  obtain ⟨hw, hn9⟩ := hp
  have hn : ∀ b, b ≠ q_3 → g b = _ := fun b hb => (hn9 b hb).trans (hnk_q_3 b hb)
  have h0 := h0k_q_3
  have hfw9 : gh_fw S [] _ g := gh_fw.nw h0 hn
  have hf9 := hfw9.v
  have hF : gh_fw S [] g0 g := hF_o.new h0 hn
  have hM : lm_P V S 11 g (ad 13) 10 M := hf9.lm (by decide) (by decide) hM_o
  have hT : st_C V g S ad I A P := hT_o.nw h0 hn
  have c_4 : g q_3 = some (((V.2.2 9), 1, 0), oo 10 [.int (nI t9), .int (nI z9)]) := hw
  have hky9 : ky_P V g 10 q_3 (8 * t9 + z9) := ⟨t9, z9, c_4, (Or.inr ⟨rfl, ht9, hz9, rfl⟩)⟩
  obtain ⟨D, hD, hMD⟩ := hM
  have hm9 := (hD).1.1.cm
  refine gh_callFi hg (gh_runF (x := ⟨"java/util/Map", "containsKey", "(Ljava/lang/Object;)Z"⟩) (As := [.ref q_3]) (rest := []) hC hg (m_containsKey l V _ hTR S 11 (ad 13) 10 D hD q_3 (8 * t9 + z9) hky9) 1 (lw_F q3346 q3351 q3349 q109 q3353) hm9 rfl (by decide +kernel) q3352 q3350 q1305 hdF_Map_containsKey_1 ⟨Nat.le_of_ble_eq_true rfl, Nat.le_of_ble_eq_true rfl⟩ rfl hl.1 rfl (Nat.le_of_ble_eq_true rfl) dX2_canPlan_26 ⟨Nat.le_of_ble_eq_true rfl, Nat.le_of_ble_eq_true rfl⟩) (fun r_5 g H locs hg hp => ?_)
  obtain ⟨hp, hq⟩ := hp
  replace hp : (if (hm_M D).any (fun e => e.1 == (8 * t9 + z9)) then 1 else 0) = r_5 := hp.symm
  subst hp
  rw [← hq] at hT hF hky9 hD c_4 hm9
  try rw [← hq] at hgg
  have hany : ¬ planAt s (nI t9) (nI z9) (nP s) = -1 ↔ (hm_M D).any (fun e => e.1 == (8 * t9 + z9)) = true := by rw [hMD]; exact pl_any hJn hMp ht9 hz9
  refine lv_if_ne (tgt := 48) hx hb dX2_canPlan_31 (by decide) (fun c_6 => ?_) (fun c_6 => ?_)
  · skip
    refine lv_iconst (v := 1) hx hb dX2_canPlan_48 (by decide) ?_
    refine lv_goto (tgt := 53) hx hb dX2_canPlan_49 (by decide) ?_
    exact gh_retz rfl hC hg hr hlk (⟨by unfold cpN; rw [if_pos (Int32.not_le.mp c_1)]; rw [if_neg c_2]; rw [if_pos (hany.mpr (by cases hx9 : (hm_M D).any (fun e => e.1 == (8 * t9 + z9)); rw [hx9] at c_6; exact absurd rfl c_6; rfl))], hT, ⟨D, hD, hMD⟩, hF⟩) dX2_canPlan_53 (Nat.le_of_ble_eq_true rfl) (Nat.le_of_ble_eq_true rfl)
  refine lv_aload_n hx hb dX2_canPlan_34 rfl (lv_at hl 0 rfl) ?_
  refine gh_get (v := .ref (ad 13)) hC hg hT.1 fX2_70_2 rfl dX2_canPlan_35 ?_
  refine gh_callFi hg (gh_runF (x := ⟨"java/util/Map", "size", "()I"⟩) (As := []) (rest := []) hC hg (j_J4_size l V _ S 11 (ad 13) 10 D hD) 0 (lw_F q3360 q1308 q1306 q109 q1310) hm9 rfl (by decide +kernel) q1309 q1307 q1305 hdF_Map_size_0 ⟨Nat.le_of_ble_eq_true rfl, Nat.le_of_ble_eq_true rfl⟩ rfl hl.1 rfl (Nat.le_of_ble_eq_true rfl) dX2_canPlan_38 ⟨Nat.le_of_ble_eq_true rfl, Nat.le_of_ble_eq_true rfl⟩) (fun r_7 g H locs hg hp => ?_)
  obtain ⟨hp, hq⟩ := hp
  replace hp : (nI (hm_M D).length) = r_7 := hp.symm
  subst hp
  rw [← hq] at hT hF hky9 hD c_4 hm9
  try rw [← hq] at hgg
  refine lv_bipush (v := 16) hx hb dX2_canPlan_43 (by decide) ?_
  have hlen : (hm_M D).length = nP s := by rw [hMD]; exact M_len hMp
  have h16 := hJn.1
  refine lv_icmp_ge (tgt := 52) hx hb dX2_canPlan_45 (by decide) (fun c_8 => ?_) (fun c_8 => ?_)
  · skip
    have c_8 : 16 ≤ (hm_M D).length := (nx_le (show ((16 : Int32)) = nI 16 from rfl) rfl (by omega) (by omega)).mp c_8
    refine lv_iconst (v := 0) hx hb dX2_canPlan_52 (by decide) ?_
    exact gh_retz rfl hC hg hr hlk (⟨by unfold cpN; rw [if_pos (Int32.not_le.mp c_1)]; rw [if_neg c_2]; rw [if_neg (fun h9 => absurd c_6 (by rw [if_pos (hany.mp h9)]; decide))]; rw [if_neg (by omega)], hT, ⟨D, hD, hMD⟩, hF⟩) dX2_canPlan_53 (Nat.le_of_ble_eq_true rfl) (Nat.le_of_ble_eq_true rfl)
  have c_8 : ¬ 16 ≤ (hm_M D).length := fun h9 => c_8 ((nx_le (show ((16 : Int32)) = nI 16 from rfl) rfl (by omega) (by omega)).mpr h9)
  refine lv_iconst (v := 1) hx hb dX2_canPlan_48 (by decide) ?_
  refine lv_goto (tgt := 53) hx hb dX2_canPlan_49 (by decide) ?_
  exact gh_retz rfl hC hg hr hlk (⟨by unfold cpN; rw [if_pos (Int32.not_le.mp c_1)]; rw [if_neg c_2]; rw [if_neg (fun h9 => absurd c_6 (by rw [if_pos (hany.mp h9)]; decide))]; rw [if_pos (by omega)], hT, ⟨D, hD, hMD⟩, hF⟩) dX2_canPlan_53 (Nat.le_of_ble_eq_true rfl) (Nat.le_of_ble_eq_true rfl)
set_option maxHeartbeats 1000000 in
set_option maxRecDepth 100000 in
theorem j_X2_planD (l : Launch) (V : gh_V) (g0 : gh_G) (S : Nat) (ad : Nat → Nat) (I : Nat → Int32) (A : Nat → Nat → Int32) (P : Nat → Option Nat) (hT0 : st_C V g0 S ad I A P) (hTR : tr_S l V) (s : Nat → Int32) (M : List (Nat × Nat × Option Nat)) (hJn : jn s) (hM0 : lm_P V S 11 g0 (ad 13) 10 M) (hMp : M.map (fun e => (e.1, e.2.2)) = pls V s (nP s)) (t9 z9 : Nat) (ht9 : t9 < 10000) (hz9 : z9 < 8) (hP529 : s 529 = nI (nP s)) : MV l yX2_plan cX2_plan 5 ({ frames := 11, cells := 39, slots := 209, locals := 395 } : Room) V [.ref S, .int (nI t9), .int (nI z9), .int (-1)] g0 (fun g1 => st_C V g1 S ad (va_up I 3 (npF (planS s (nI t9) (nI z9) (-1) (nP s)) (nP (planS s (nI t9) (nI z9) (-1) (nP s))))) A P ∧ pn_P V g1 S (ad 13) (npF (planS s (nI t9) (nI z9) (-1) (nP s)) (nP (planS s (nI t9) (nI z9) (-1) (nP s)))) (planS s (nI t9) (nI z9) (-1) (nP s)) ∧ gh_fw S [0, 11] g0 g1) := by
  refine MG.of RX2 (by decide) rfl (Nat.le_of_ble_eq_true rfl) (fun pp ee s9 mm args below meth c ls hC hg hr hlk hnm hl => ?_)
  have hx := hC.1.1
  have hb := hC.1.2.1
  have hml := hC.1.2.2.1
  have hown := hC.1.2.2.2.1
  have hts := hC.1.2.2.2.2
  have hl : lv_has ls 5 [(0, .ref S), (1, .int (nI t9)), (2, .int (nI z9)), (3, .int (-1))] := hl
  obtain ⟨g, hg, hgg⟩ : ∃ g, gh_W V (gh_A g0 s9.heap.size) s9 g s9.heap [] ∧ g = g0 := ⟨g0, hg, rfl⟩
  have hT := hT0
  rw [← hgg] at hT
  have hF : gh_fw S [0, 11] g0 g := by rw [hgg]; exact gh_fw.rf
  have hM := hM0
  rw [← hgg] at hM
  obtain ⟨hMp1, hJn1⟩ := plan_del hJn hP529 hMp ht9 hz9
  have hT_o := hT
  have hF_o := hF
  have hM_o := hM
  refine gh_new (ci := 10) (fs := [.int 0, .int 0]) hC hg (fun q9 => ((V.2.2 9), 1, 0)) rfl in_X12 tyX12 tyX12_ok q2337 q2338 q169 (by decide +kernel) (Nat.le_of_ble_eq_true rfl) (Nat.le_of_ble_eq_true rfl) dX2_plan_0 (fun q_1 g H hg h0 hw hn => ?_)
  have hf9 : gh_fv S [] _ g := (gh_fw.nw h0 hn).v
  have hF : gh_fw S [0, 11] g0 g := hF.new h0 hn
  have hM : lm_P V S 11 g (ad 13) 10 M := hf9.lm (by decide) (by decide) hM
  have hT : st_C V g S ad I A P := hT.nw h0 hn
  have c_2 : g q_1 = some (((V.2.2 9), 1, 0), oo 10 [.int 0, .int 0]) := hw
  have h0k_q_1 := h0
  have hnk_q_1 := hn
  refine lv_dup hx hb dX2_plan_3 rfl ?_
  refine lv_iload_n hx hb dX2_plan_4 rfl (lv_at hl 1 rfl) ?_
  refine lv_iload_n hx hb dX2_plan_5 rfl (lv_at hl 2 rfl) ?_
  refine gh_callv hg (gh_runI (As := [.int (nI t9), .int (nI z9)]) (rest := [.ref q_1]) hC hg (j_X12_init l V _ q_1 (nI t9) (nI z9) ((V.2.2 9), 1, 0) c_2) 2 (lw_meth q2341) q169 q2339 q2340 rfl hd_X12_init.2 ⟨Nat.le_of_ble_eq_true rfl, Nat.le_of_ble_eq_true rfl⟩ rfl hl.1 rfl (Nat.le_of_ble_eq_true rfl) dX2_plan_6 ⟨Nat.le_of_ble_eq_true rfl, Nat.le_of_ble_eq_true rfl⟩) (fun g H locs hg hp => ?_)
  obtain ⟨hw, hn9⟩ := hp
  have hn : ∀ b, b ≠ q_1 → g b = _ := fun b hb => (hn9 b hb).trans (hnk_q_1 b hb)
  have h0 := h0k_q_1
  have hfw9 : gh_fw S [] _ g := gh_fw.nw h0 hn
  have hf9 := hfw9.v
  have hF : gh_fw S [0, 11] g0 g := hF_o.new h0 hn
  have hM : lm_P V S 11 g (ad 13) 10 M := hf9.lm (by decide) (by decide) hM_o
  have hT : st_C V g S ad I A P := hT_o.nw h0 hn
  have c_2 : g q_1 = some (((V.2.2 9), 1, 0), oo 10 [.int (nI t9), .int (nI z9)]) := hw
  have hky9 : ky_P V g 10 q_1 (8 * t9 + z9) := ⟨t9, z9, c_2, (Or.inr ⟨rfl, ht9, hz9, rfl⟩)⟩
  refine lv_astore (lv' := [(4, .ref q_1), (0, .ref S), (1, .int (nI t9)), (2, .int (nI z9)), (3, .int (-1))]) hx hb dX2_plan_9 hl (by decide) rfl (fun ls hl => ?_)
  refine lv_iload_n hx hb dX2_plan_11 rfl (lv_at hl 4 rfl) ?_
  refine lv_iconst (v := (-1)) hx hb dX2_plan_12 (by decide) ?_
  refine lv_icmp_ne (tgt := 31) hx hb dX2_plan_13 (by decide) (fun c_3 => (absurd rfl c_3)) (fun _ => ?_)
  refine lv_aload_n hx hb dX2_plan_16 rfl (lv_at hl 1 rfl) ?_
  refine gh_get (v := .ref (ad 13)) hC hg hT.1 fX2_70_2 rfl dX2_plan_17 ?_
  refine lv_aload hx hb dX2_plan_20 (lv_at hl 0 rfl) ?_
  obtain ⟨D, hD, hMD⟩ := hM
  have hm9 := (hD).1.1.cm
  refine gh_callFq hg (gh_runF (x := ⟨"java/util/Map", "remove", "(Ljava/lang/Object;)Ljava/lang/Object;"⟩) (As := [.ref q_1]) (rest := []) hC hg (j_J4_remove l V _ hTR S 11 (ad 13) 10 q_1 (8 * t9 + z9) D hD hky9) 1 (lw_F q2352 q2357 q2355 q109 q2359) hm9 rfl (by decide +kernel) q2358 q2356 q1305 hdF_Map_remove_1 ⟨Nat.le_of_ble_eq_true rfl, Nat.le_of_ble_eq_true rfl⟩ rfl hl.1 rfl (Nat.le_of_ble_eq_true rfl) dX2_plan_22 ⟨Nat.le_of_ble_eq_true rfl, Nat.le_of_ble_eq_true rfl⟩) (fun r_4 g H locs hg hp => ?_)
  obtain ⟨-, hM1, hF9⟩ := hp
  rw [hMD] at hM1
  have hfw9 : gh_fw S [11] _ g := gh_fw.fk hF9
  have hf9 := hfw9.v
  have c_2 : g q_1 = some (((V.2.2 9), 1, 0), oo 10 [.int (nI t9), .int (nI z9)]) := hfw9 _ _ _ c_2 (fun h9 => absurd (show 1 ∈ [11] from h9.2) (by decide))
  have hF : gh_fw S [0, 11] g0 g := hF.tr hfw9 (fun _ u => u) (by decide)
  have hky9 : ky_P V g 10 q_1 (8 * t9 + z9) := hf9.ky (by decide) hky9
  have hT : st_C V g S ad I A P := hT.kp hf9 (by decide)
  refine lv_pop hx hb dX2_plan_27 (gh_cQ _) ?_
  refine lv_goto (tgt := 47) hx hb dX2_plan_28 (by decide) ?_
  refine lv_aload_n hx hb dX2_plan_47 rfl (lv_at hl 1 rfl) ?_
  refine gh_callv hg (gh_runV (As := []) (rest := []) hC hg (j_X2_findNextPlan l V _ S ad I A P hT (planS s (nI t9) (nI z9) (-1) (nP s)) _ hJn1 hM1 hMp1) 0 (lw_V q2385 q2387 qs35 q104 q2388) hT.1 rfl hd_X2_findNextPlan ⟨Nat.le_of_ble_eq_true rfl, Nat.le_of_ble_eq_true rfl⟩ rfl hl.1 rfl (Nat.le_of_ble_eq_true rfl) dX2_plan_48 ⟨Nat.le_of_ble_eq_true rfl, Nat.le_of_ble_eq_true rfl⟩) (fun g H locs hg hp => ?_)
  obtain ⟨hT, hM1, hF9⟩ := hp
  have hfw9 : gh_fw S [0, 11] _ g := hF9
  have hf9 := hfw9.v
  have c_2 : g q_1 = some (((V.2.2 9), 1, 0), oo 10 [.int (nI t9), .int (nI z9)]) := hfw9 _ _ _ c_2 (fun h9 => absurd (show 1 ∈ [0, 11] from h9.2) (by decide))
  have hF : gh_fw S [0, 11] g0 g := hF.tr hfw9 (fun _ u => u) (by decide)
  have hky9 : ky_P V g 10 q_1 (8 * t9 + z9) := hf9.ky (by decide) hky9
  have hT : st_C V g S ad (va_up I 3 (npF (planS s (nI t9) (nI z9) (-1) (nP s)) (nP (planS s (nI t9) (nI z9) (-1) (nP s))))) A P := hT
  exact gh_retv hC hg hr hlk (⟨hT, ⟨_, hM1, hMp1, rfl⟩, hF⟩) dX2_plan_51 (Nat.le_of_ble_eq_true rfl) (Nat.le_of_ble_eq_true rfl)
set_option maxHeartbeats 1000000 in
set_option maxRecDepth 100000 in
theorem j_X2_planP (l : Launch) (V : gh_V) (g0 : gh_G) (S : Nat) (ad : Nat → Nat) (I : Nat → Int32) (A : Nat → Nat → Int32) (P : Nat → Option Nat) (hT0 : st_C V g0 S ad I A P) (hTR : tr_S l V) (s : Nat → Int32) (M : List (Nat × Nat × Option Nat)) (hJn : jn s) (hM0 : lm_P V S 11 g0 (ad 13) 10 M) (hMp : M.map (fun e => (e.1, e.2.2)) = pls V s (nP s)) (t9 z9 : Nat) (ht9 : t9 < 10000) (hz9 : z9 < 8) (hP529 : s 529 = nI (nP s)) (b9 : Nat) (hb9 : b9 < 4) (h16 : nP s < 16 ∨ ¬ planAt s (nI t9) (nI z9) (nP s) = -1) : MV l yX2_plan cX2_plan 5 ({ frames := 11, cells := 39, slots := 209, locals := 389 } : Room) V [.ref S, .int (nI t9), .int (nI z9), .int (nI b9)] g0 (fun g1 => st_C V g1 S ad (va_up I 3 (npF (planS s (nI t9) (nI z9) (nI b9) (nP s)) (nP (planS s (nI t9) (nI z9) (nI b9) (nP s))))) A P ∧ pn_P V g1 S (ad 13) (npF (planS s (nI t9) (nI z9) (nI b9) (nP s)) (nP (planS s (nI t9) (nI z9) (nI b9) (nP s)))) (planS s (nI t9) (nI z9) (nI b9) (nP s)) ∧ gh_fw S [0, 11] g0 g1) := by
  refine MG.of RX2 (by decide) rfl (Nat.le_of_ble_eq_true rfl) (fun pp ee s9 mm args below meth c ls hC hg hr hlk hnm hl => ?_)
  have hx := hC.1.1
  have hb := hC.1.2.1
  have hml := hC.1.2.2.1
  have hown := hC.1.2.2.2.1
  have hts := hC.1.2.2.2.2
  have hl : lv_has ls 5 [(0, .ref S), (1, .int (nI t9)), (2, .int (nI z9)), (3, .int (nI b9))] := hl
  obtain ⟨g, hg, hgg⟩ : ∃ g, gh_W V (gh_A g0 s9.heap.size) s9 g s9.heap [] ∧ g = g0 := ⟨g0, hg, rfl⟩
  have hT := hT0
  rw [← hgg] at hT
  have hF : gh_fw S [0, 11] g0 g := by rw [hgg]; exact gh_fw.rf
  have hM := hM0
  rw [← hgg] at hM
  have hpp := fun ka => plan_put (ka := ka) hJn hP529 hMp ht9 hz9 hb9 h16
  have hT_o := hT
  have hF_o := hF
  have hM_o := hM
  refine gh_new (ci := 10) (fs := [.int 0, .int 0]) hC hg (fun q9 => ((V.2.2 9), 1, 0)) rfl in_X12 tyX12 tyX12_ok q2337 q2338 q169 (by decide +kernel) (Nat.le_of_ble_eq_true rfl) (Nat.le_of_ble_eq_true rfl) dX2_plan_0 (fun q_1 g H hg h0 hw hn => ?_)
  have hf9 : gh_fv S [] _ g := (gh_fw.nw h0 hn).v
  have hF : gh_fw S [0, 11] g0 g := hF.new h0 hn
  have hM : lm_P V S 11 g (ad 13) 10 M := hf9.lm (by decide) (by decide) hM
  have hT : st_C V g S ad I A P := hT.nw h0 hn
  have c_2 : g q_1 = some (((V.2.2 9), 1, 0), oo 10 [.int 0, .int 0]) := hw
  have h0k_q_1 := h0
  have hnk_q_1 := hn
  refine lv_dup hx hb dX2_plan_3 rfl ?_
  refine lv_iload_n hx hb dX2_plan_4 rfl (lv_at hl 1 rfl) ?_
  refine lv_iload_n hx hb dX2_plan_5 rfl (lv_at hl 2 rfl) ?_
  refine gh_callv hg (gh_runI (As := [.int (nI t9), .int (nI z9)]) (rest := [.ref q_1]) hC hg (j_X12_init l V _ q_1 (nI t9) (nI z9) ((V.2.2 9), 1, 0) c_2) 2 (lw_meth q2341) q169 q2339 q2340 rfl hd_X12_init.2 ⟨Nat.le_of_ble_eq_true rfl, Nat.le_of_ble_eq_true rfl⟩ rfl hl.1 rfl (Nat.le_of_ble_eq_true rfl) dX2_plan_6 ⟨Nat.le_of_ble_eq_true rfl, Nat.le_of_ble_eq_true rfl⟩) (fun g H locs hg hp => ?_)
  obtain ⟨hw, hn9⟩ := hp
  have hn : ∀ b, b ≠ q_1 → g b = _ := fun b hb => (hn9 b hb).trans (hnk_q_1 b hb)
  have h0 := h0k_q_1
  have hfw9 : gh_fw S [] _ g := gh_fw.nw h0 hn
  have hf9 := hfw9.v
  have hF : gh_fw S [0, 11] g0 g := hF_o.new h0 hn
  have hM : lm_P V S 11 g (ad 13) 10 M := hf9.lm (by decide) (by decide) hM_o
  have hT : st_C V g S ad I A P := hT_o.nw h0 hn
  have c_2 : g q_1 = some (((V.2.2 9), 1, 0), oo 10 [.int (nI t9), .int (nI z9)]) := hw
  have hky9 : ky_P V g 10 q_1 (8 * t9 + z9) := ⟨t9, z9, c_2, (Or.inr ⟨rfl, ht9, hz9, rfl⟩)⟩
  refine lv_astore (lv' := [(4, .ref q_1), (0, .ref S), (1, .int (nI t9)), (2, .int (nI z9)), (3, .int (nI b9))]) hx hb dX2_plan_9 hl (by decide) rfl (fun ls hl => ?_)
  refine lv_iload_n hx hb dX2_plan_11 rfl (lv_at hl 4 rfl) ?_
  refine lv_iconst (v := (-1)) hx hb dX2_plan_12 (by decide) ?_
  refine lv_icmp_ne (tgt := 31) hx hb dX2_plan_13 (by decide) (fun _ => ?_) (fun c_3 => (absurd c_3 (nI_ne_m1 (show b9 < 2 ^ 31 by omega))))
  refine lv_aload_n hx hb dX2_plan_31 rfl (lv_at hl 1 rfl) ?_
  refine gh_get (v := .ref (ad 13)) hC hg hT.1 fX2_70_2 rfl dX2_plan_32 ?_
  refine lv_aload hx hb dX2_plan_35 (lv_at hl 0 rfl) ?_
  refine lv_iload_n hx hb dX2_plan_37 rfl (lv_at hl 4 rfl) ?_
  refine gh_callq hg (gh_runS (As := [.int (nI b9)]) (rest := [.ref q_1, .ref (ad 13)]) hC hg (j_J23_valueOf l V _ b9 (by omega)) 1 (lw_S q3383 q3384 q129 q3385) hd_J23_valueOf.2 ⟨Nat.le_of_ble_eq_true rfl, Nat.le_of_ble_eq_true rfl⟩ rfl hl.1 rfl (Nat.le_of_ble_eq_true rfl) dX2_plan_38 ⟨Nat.le_of_ble_eq_true rfl, Nat.le_of_ble_eq_true rfl⟩) (fun r_4 g H locs hg hp => ?_)
  obtain ⟨hp, hq9⟩ := hp
  subst hp
  rw [← hq9] at hT hF hM hky9 c_2
  try rw [← hq9] at hgg
  refine W.eq (g2 := F0 mm 41 ls [.ref (V.2.2 (10 + (b9 + 128))), .ref q_1, .ref (ad 13)]) rfl ?_
  obtain ⟨D, hD, hMD⟩ := hM
  have hm9 := (hD).1.1.cm
  have hlen := M_len hMp
  refine gh_callFq hg (gh_runF (x := ⟨"java/util/Map", "put", "(Ljava/lang/Object;Ljava/lang/Object;)Ljava/lang/Object;"⟩) (As := [.ref q_1, .ref (V.2.2 (10 + (b9 + 128)))]) (rest := []) hC hg (j_J4_put l V _ hTR S 11 (ad 13) 10 q_1 (V.2.2 (10 + (b9 + 128))) (8 * t9 + z9) D hD hky9 (fun _ => by rw [hMD]; rcases h16 with h9 | h9; exact Or.inl (by omega); exact Or.inr ((pl_any hJn hMp ht9 hz9).mp h9)) (by rw [hMD]; have := hJn.1; omega)) 2 (lw_F q1695 q1700 q1698 q109 q1702) hm9 rfl (by decide +kernel) q1701 q1699 q1305 hdF_Map_put_2 ⟨Nat.le_of_ble_eq_true rfl, Nat.le_of_ble_eq_true rfl⟩ rfl hl.1 rfl (Nat.le_of_ble_eq_true rfl) dX2_plan_41 ⟨Nat.le_of_ble_eq_true rfl, Nat.le_of_ble_eq_true rfl⟩) (fun r_5 g H locs hg hp => ?_)
  obtain ⟨-, hM1, hF9⟩ := hp
  rw [hMD] at hM1
  have hfw9 : gh_fw S [11] _ g := gh_fw.fk hF9
  have hf9 := hfw9.v
  have c_2 : g q_1 = some (((V.2.2 9), 1, 0), oo 10 [.int (nI t9), .int (nI z9)]) := hfw9 _ _ _ c_2 (fun h9 => absurd (show 1 ∈ [11] from h9.2) (by decide))
  have hF : gh_fw S [0, 11] g0 g := hF.tr hfw9 (fun _ u => u) (by decide)
  have hky9 : ky_P V g 10 q_1 (8 * t9 + z9) := hf9.ky (by decide) hky9
  have hT : st_C V g S ad I A P := hT.kp hf9 (by decide)
  refine lv_pop hx hb dX2_plan_46 (gh_cQ _) ?_
  refine lv_aload_n hx hb dX2_plan_47 rfl (lv_at hl 1 rfl) ?_
  obtain ⟨hMp1, hJn1⟩ := hpp q_1
  refine gh_callv hg (gh_runV (As := []) (rest := []) hC hg (j_X2_findNextPlan l V _ S ad I A P hT (planS s (nI t9) (nI z9) (nI b9) (nP s)) _ hJn1 hM1 hMp1) 0 (lw_V q2385 q2387 qs35 q104 q2388) hT.1 rfl hd_X2_findNextPlan ⟨Nat.le_of_ble_eq_true rfl, Nat.le_of_ble_eq_true rfl⟩ rfl hl.1 rfl (Nat.le_of_ble_eq_true rfl) dX2_plan_48 ⟨Nat.le_of_ble_eq_true rfl, Nat.le_of_ble_eq_true rfl⟩) (fun g H locs hg hp => ?_)
  obtain ⟨hT, hM1, hF9⟩ := hp
  have hfw9 : gh_fw S [0, 11] _ g := hF9
  have hf9 := hfw9.v
  have c_2 : g q_1 = some (((V.2.2 9), 1, 0), oo 10 [.int (nI t9), .int (nI z9)]) := hfw9 _ _ _ c_2 (fun h9 => absurd (show 1 ∈ [0, 11] from h9.2) (by decide))
  have hF : gh_fw S [0, 11] g0 g := hF.tr hfw9 (fun _ u => u) (by decide)
  have hky9 : ky_P V g 10 q_1 (8 * t9 + z9) := hf9.ky (by decide) hky9
  have hT : st_C V g S ad (va_up I 3 (npF (planS s (nI t9) (nI z9) (nI b9) (nP s)) (nP (planS s (nI t9) (nI z9) (nI b9) (nP s))))) A P := hT
  exact gh_retv hC hg hr hlk (⟨hT, ⟨_, hM1, hMp1, rfl⟩, hF⟩) dX2_plan_51 (Nat.le_of_ble_eq_true rfl) (Nat.le_of_ble_eq_true rfl)
