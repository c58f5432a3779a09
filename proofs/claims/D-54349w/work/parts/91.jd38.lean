/-! FRAMES of methods that only make new cells -/
theorem gh_fw.non {S : Nat} {g0 g : gh_G} (h : gh_fw S [] g0 g) {q : Nat} (h0 : g q = none) : g0 q = none := by
  cases e : g0 q with
  | none => rfl
  | some x => rw [h q x.1 x.2 e (fun u => by cases u.2)] at h0; cases h0
theorem gh_fw.setn {S : Nat} {ks : List Nat} {g0 g g1 : gh_G} (h : gh_fw S ks g0 g) {a : Nat} (h00 : g0 a = none) (hn : ∀ q, q ≠ a → g1 q = g q) : gh_fw S ks g0 g1 := fun b t x hb n => by
  rw [hn b (fun e => by rw [e, h00] at hb; cases hb)]
  exact h b t x hb n
theorem bo_if {c : Prop} [Decidable c] {r : Int32} (h : r = if c then 1 else 0) : r = 0 ∨ r = 1 := by
  split at h
  · exact Or.inr h
  · exact Or.inl h
theorem bo_fi {c : Prop} [Decidable c] {r : Int32} (h : r = if c then 0 else 1) : r = 0 ∨ r = 1 := by
  split at h
  · exact Or.inl h
  · exact Or.inr h
/-- the number of the first of three answers that is not 0 -/
def fst3 (x0 x1 x2 : Int32) : Int32 := if x0 = 0 then if x1 = 0 then if x2 = 0 then 0 else 3 else 2 else 1
theorem fst3_0 {x0 x1 x2 : Int32} (h0 : x0 = 0) (h1 : x1 = 0) (h2 : x2 = 0) : fst3 x0 x1 x2 = 0 := by unfold fst3; rw [if_pos h0, if_pos h1, if_pos h2]
theorem fst3_1 {x0 x1 x2 : Int32} (h0 : ¬ x0 = 0) : fst3 x0 x1 x2 = 1 := if_neg h0
theorem fst3_2 {x0 x1 x2 : Int32} (h0 : x0 = 0) (h1 : ¬ x1 = 0) : fst3 x0 x1 x2 = 2 := by unfold fst3; rw [if_pos h0, if_neg h1]
theorem fst3_3 {x0 x1 x2 : Int32} (h0 : x0 = 0) (h1 : x1 = 0) (h2 : ¬ x2 = 0) : fst3 x0 x1 x2 = 3 := by unfold fst3; rw [if_pos h0, if_pos h1, if_neg h2]
theorem fst3_L {s : Nat → Int32} {k : Nat} {P0 : Option Nat} {a5 : Int32} (hP : P0 = none ↔ pl s 0 0 = -1) (h5 : a5 = pl s 0 4) (hb : a5 = 0 ∨ a5 = 1) : fst3 (if lt s k 2 = 20 then 1 else 0) (if P0 = none then 0 else 1) a5 = noLoad s k := by
  unfold noLoad
  by_cases h1 : lt s k 2 = 20
  · rw [if_pos h1, if_pos h1]; exact fst3_1 (by decide)
  · rw [if_neg h1, if_neg h1]
    by_cases h2 : pl s 0 0 = -1
    · rw [if_pos (hP.mpr h2), if_neg (fun h => h h2), ← h5]
      rcases hb with h | h <;> rw [h] <;> rfl
    · rw [if_neg (fun h => h2 (hP.mp h)), if_pos h2]; exact fst3_2 rfl (by decide)
theorem fst3_C {s : Nat → Int32} {c q : Nat} {a7 a5 b7 b6 : Int32} (h7 : a7 = cl s c 1) (h5 : a5 = pl s q 4) (k7 : b7 = cl s (1 - c) 1) (k6 : b6 = cl s (1 - c) 0) : fst3 (if ¬ a7 ≤ 0 then 1 else 0) (if a5 = 0 then 1 else 0) (if ¬ b7 ≤ 0 ∧ b6 = nI q then 1 else 0) = noCln s c q := by
  unfold noCln
  rw [h7, h5, k7, k6]
  by_cases h1 : ¬ cl s c 1 ≤ 0
  · rw [if_pos h1, if_pos h1]; exact fst3_1 (by decide)
  · rw [if_neg h1, if_neg h1]
    by_cases h2 : pl s q 4 = 0
    · rw [if_pos h2, if_pos h2]; exact fst3_2 rfl (by decide)
    · rw [if_neg h2, if_neg h2]
      by_cases h3 : ¬ cl s (1 - c) 1 ≤ 0 ∧ cl s (1 - c) 0 = nI q
      · rw [if_pos h3, if_pos h3]; rfl
      · rw [if_neg h3, if_neg h3]; rfl
set_option maxRecDepth 100000
theorem fX2_190_3 : gh_fd RX2 190 3 2 .int false := gh_fd.own (T := TX4) tyX4 rfl in_X4 tyX4_ok nmX4 (by decide) q1592 rfl rfl (fun h => by cases h)
set_option maxHeartbeats 1000000 in
set_option maxRecDepth 100000 in
theorem j_X2_lambda_whyNotLoading_0 (l : Launch) (V : gh_V) (g0 : gh_G) (x9 : Nat) (t9 : gh_T) (v1 v2 v4 v5 : Value) (c9 : Int32) (hx9 : g0 x9 = some (t9, oo 3 [v1, v2, .int c9, v4, v5])) : MI l yX2_lambda_whyNotLoading_0 cX2_lambda_whyNotLoading_0 1 (some .boolean) ({ frames := 0, cells := 0, slots := 0, locals := 0 } : Room) V [.ref x9] g0 (fun r g1 => r = (if c9 = 20 then 1 else 0) ∧ g1 = g0) := by
  refine MG.of RX2 (by decide) rfl (Nat.le_of_ble_eq_true rfl) (fun pp ee s mm args below meth c ls hC hg hr hlk hnm hl => ?_)
  have hx := hC.1.1
  have hb := hC.1.2.1
  have hml := hC.1.2.2.1
  have hown := hC.1.2.2.2.1
  have hts := hC.1.2.2.2.2
  have hl : lv_has ls 1 [(0, .ref x9)] := hl
  obtain ⟨g, hg, hgg⟩ : ∃ g, gh_W V (gh_A g0 s.heap.size) s g s.heap [] ∧ g = g0 := ⟨g0, hg, rfl⟩
  rw [← hgg] at hx9
  refine lv_aload_n hx hb dX2_lambda_whyNotLoading_0_0 rfl (lv_at hl 0 rfl) ?_
  refine gh_get (v := .int c9) hC hg hx9 fX2_190_3 rfl dX2_lambda_whyNotLoading_0_1 ?_
  refine lv_bipush (v := 20) hx hb dX2_lambda_whyNotLoading_0_4 (by decide) ?_
  refine lv_icmp_ne (tgt := 13) hx hb dX2_lambda_whyNotLoading_0_6 (by decide) (fun c_1 => ?_) (fun c_1 => ?_)
  · skip
    refine lv_iconst (v := 0) hx hb dX2_lambda_whyNotLoading_0_13 (by decide) ?_
    exact gh_retz rfl hC hg hr hlk (⟨(if_neg c_1).symm, hgg⟩) dX2_lambda_whyNotLoading_0_14 (Nat.le_of_ble_eq_true rfl) (Nat.le_of_ble_eq_true rfl)
  refine lv_iconst (v := 1) hx hb dX2_lambda_whyNotLoading_0_9 (by decide) ?_
  refine lv_goto (tgt := 14) hx hb dX2_lambda_whyNotLoading_0_10 (by decide) ?_
  exact gh_retz rfl hC hg hr hlk (⟨(if_pos c_1).symm, hgg⟩) dX2_lambda_whyNotLoading_0_14 (Nat.le_of_ble_eq_true rfl) (Nat.le_of_ble_eq_true rfl)
set_option maxHeartbeats 1000000 in
set_option maxRecDepth 100000 in
theorem j_X2_lambda_whyNotLoading_1 (l : Launch) (V : gh_V) (g0 : gh_G) (S : Nat) (ad : Nat → Nat) (I : Nat → Int32) (A : Nat → Nat → Int32) (P : Nat → Option Nat) (hT0 : st_C V g0 S ad I A P) : MI l yX2_lambda_whyNotLoading_1 cX2_lambda_whyNotLoading_1 1 (some .boolean) ({ frames := 0, cells := 0, slots := 0, locals := 0 } : Room) V [.ref S] g0 (fun r g1 => r = (if P 0 = none then 0 else 1) ∧ g1 = g0) := by
  refine MG.of RX2 (by decide) rfl (Nat.le_of_ble_eq_true rfl) (fun pp ee s9 mm args below meth c ls hC hg hr hlk hnm hl => ?_)
  have hx := hC.1.1
  have hb := hC.1.2.1
  have hml := hC.1.2.2.1
  have hown := hC.1.2.2.2.1
  have hts := hC.1.2.2.2.2
  have hl : lv_has ls 1 [(0, .ref S)] := hl
  obtain ⟨g, hg, hgg⟩ : ∃ g, gh_W V (gh_A g0 s9.heap.size) s9 g s9.heap [] ∧ g = g0 := ⟨g0, hg, rfl⟩
  have hT := hT0
  rw [← hgg] at hT
  refine lv_aload_n hx hb dX2_lambda_whyNotLoading_1_0 rfl (lv_at hl 0 rfl) ?_
  refine gh_get (v := .ref (ad 8)) hC hg hT.1 fX2_17_2 rfl dX2_lambda_whyNotLoading_1_1 ?_
  refine lv_iconst (v := 0) hx hb dX2_lambda_whyNotLoading_1_4 (by decide) ?_
  refine gh_qald (n := 24) (f := P) hC hg hT.2.2 rfl (show ((0 : Int32)) = nI 0 from rfl) (by omega) (by omega) dX2_lambda_whyNotLoading_1_5 ?_
  refine lv_ifnullQ (tgt := 13) hx hb dX2_lambda_whyNotLoading_1_6 (by decide) (fun hq_1 => ?_) (fun y_2 hq_1 => ?_)
  · skip
    refine lv_iconst (v := 0) hx hb dX2_lambda_whyNotLoading_1_13 (by decide) ?_
    exact gh_retz rfl hC hg hr hlk (⟨(if_pos hq_1).symm, hgg⟩) dX2_lambda_whyNotLoading_1_14 (Nat.le_of_ble_eq_true rfl) (Nat.le_of_ble_eq_true rfl)
  refine lv_iconst (v := 1) hx hb dX2_lambda_whyNotLoading_1_9 (by decide) ?_
  refine lv_goto (tgt := 14) hx hb dX2_lambda_whyNotLoading_1_10 (by decide) ?_
  exact gh_retz rfl hC hg hr hlk (⟨(if_neg (by rw [hq_1]; exact fun h => by cases h)).symm, hgg⟩) dX2_lambda_whyNotLoading_1_14 (Nat.le_of_ble_eq_true rfl) (Nat.le_of_ble_eq_true rfl)
set_option maxHeartbeats 1000000 in
set_option maxRecDepth 100000 in
theorem j_X2_lambda_whyNotLoading_2 (l : Launch) (V : gh_V) (g0 : gh_G) (S : Nat) (ad : Nat → Nat) (I : Nat → Int32) (A : Nat → Nat → Int32) (P : Nat → Option Nat) (hT0 : st_C V g0 S ad I A P) (hb9 : A 5 0 = 0 ∨ A 5 0 = 1) : MI l yX2_lambda_whyNotLoading_2 cX2_lambda_whyNotLoading_2 1 (some .boolean) ({ frames := 0, cells := 0, slots := 0, locals := 0 } : Room) V [.ref S] g0 (fun r g1 => r = A 5 0 ∧ g1 = g0) := by
  refine MG.of RX2 (by decide) rfl (Nat.le_of_ble_eq_true rfl) (fun pp ee s9 mm args below meth c ls hC hg hr hlk hnm hl => ?_)
  have hx := hC.1.1
  have hb := hC.1.2.1
  have hml := hC.1.2.2.1
  have hown := hC.1.2.2.2.1
  have hts := hC.1.2.2.2.2
  have hl : lv_has ls 1 [(0, .ref S)] := hl
  obtain ⟨g, hg, hgg⟩ : ∃ g, gh_W V (gh_A g0 s9.heap.size) s9 g s9.heap [] ∧ g = g0 := ⟨g0, hg, rfl⟩
  have hT := hT0
  rw [← hgg] at hT
  refine lv_aload_n hx hb dX2_lambda_whyNotLoading_2_0 rfl (lv_at hl 0 rfl) ?_
  refine gh_get (v := .ref (ad 5)) hC hg hT.1 fX2_60_2 rfl dX2_lambda_whyNotLoading_2_1 ?_
  refine lv_iconst (v := 0) hx hb dX2_lambda_whyNotLoading_2_4 (by decide) ?_
  refine gh_zald (n := 24) (f := (A 5)) hC hg hT.a5 (show ((0 : Int32)) = nI 0 from rfl) (by omega) (by omega) dX2_lambda_whyNotLoading_2_5 ?_
  exact gh_retz (by rcases hb9 with h | h <;> rw [h] <;> rfl) hC hg hr hlk (⟨rfl, hgg⟩) dX2_lambda_whyNotLoading_2_6 (Nat.le_of_ble_eq_true rfl) (Nat.le_of_ble_eq_true rfl)
set_option maxHeartbeats 1000000 in
set_option maxRecDepth 100000 in
theorem j_X2_lambda_whyNotCleaning_3 (l : Launch) (V : gh_V) (g0 : gh_G) (S : Nat) (ad : Nat → Nat) (I : Nat → Int32) (A : Nat → Nat → Int32) (P : Nat → Option Nat) (hT0 : st_C V g0 S ad I A P) (x : Int32) (c9 : Nat) (ex : x = nI c9) (hc2 : c9 < 2) : MI l yX2_lambda_whyNotCleaning_3 cX2_lambda_whyNotCleaning_3 2 (some .boolean) ({ frames := 0, cells := 0, slots := 0, locals := 0 } : Room) V [.ref S, .int x] g0 (fun r g1 => r = (if ¬ A 7 c9 ≤ 0 then 1 else 0) ∧ g1 = g0) := by
  refine MG.of RX2 (by decide) rfl (Nat.le_of_ble_eq_true rfl) (fun pp ee s9 mm args below meth c ls hC hg hr hlk hnm hl => ?_)
  have hx := hC.1.1
  have hb := hC.1.2.1
  have hml := hC.1.2.2.1
  have hown := hC.1.2.2.2.1
  have hts := hC.1.2.2.2.2
  have hl : lv_has ls 2 [(0, .ref S), (1, .int x)] := hl
  obtain ⟨g, hg, hgg⟩ : ∃ g, gh_W V (gh_A g0 s9.heap.size) s9 g s9.heap [] ∧ g = g0 := ⟨g0, hg, rfl⟩
  have hT := hT0
  rw [← hgg] at hT
  refine lv_aload_n hx hb dX2_lambda_whyNotCleaning_3_0 rfl (lv_at hl 0 rfl) ?_
  refine gh_get (v := .ref (ad 7)) hC hg hT.1 fX2_67_2 rfl dX2_lambda_whyNotCleaning_3_1 ?_
  refine lv_iload_n hx hb dX2_lambda_whyNotCleaning_3_4 rfl (lv_at hl 1 rfl) ?_
  refine gh_iald (n := 2) (f := (A 7)) hC hg hT.a7 ex (by omega) (by omega) dX2_lambda_whyNotCleaning_3_5 ?_
  refine lv_if_le (tgt := 13) hx hb dX2_lambda_whyNotCleaning_3_6 (by decide) (fun c_1 => ?_) (fun c_1 => ?_)
  · skip
    refine lv_iconst (v := 0) hx hb dX2_lambda_whyNotCleaning_3_13 (by decide) ?_
    exact gh_retz rfl hC hg hr hlk (⟨(if_neg (fun h => h c_1)).symm, hgg⟩) dX2_lambda_whyNotCleaning_3_14 (Nat.le_of_ble_eq_true rfl) (Nat.le_of_ble_eq_true rfl)
  refine lv_iconst (v := 1) hx hb dX2_lambda_whyNotCleaning_3_9 (by decide) ?_
  refine lv_goto (tgt := 14) hx hb dX2_lambda_whyNotCleaning_3_10 (by decide) ?_
  exact gh_retz rfl hC hg hr hlk (⟨(if_pos c_1).symm, hgg⟩) dX2_lambda_whyNotCleaning_3_14 (Nat.le_of_ble_eq_true rfl) (Nat.le_of_ble_eq_true rfl)
set_option maxHeartbeats 1000000 in
set_option maxRecDepth 100000 in
theorem j_X2_lambda_whyNotCleaning_4 (l : Launch) (V : gh_V) (g0 : gh_G) (S : Nat) (ad : Nat → Nat) (I : Nat → Int32) (A : Nat → Nat → Int32) (P : Nat → Option Nat) (hT0 : st_C V g0 S ad I A P) (x : Int32) (p9 : Nat) (ex : x = nI p9) (hp24 : p9 < 24) : MI l yX2_lambda_whyNotCleaning_4 cX2_lambda_whyNotCleaning_4 2 (some .boolean) ({ frames := 0, cells := 0, slots := 0, locals := 0 } : Room) V [.ref S, .int x] g0 (fun r g1 => r = (if A 5 p9 = 0 then 1 else 0) ∧ g1 = g0) := by
  refine MG.of RX2 (by decide) rfl (Nat.le_of_ble_eq_true rfl) (fun pp ee s9 mm args below meth c ls hC hg hr hlk hnm hl => ?_)
  have hx := hC.1.1
  have hb := hC.1.2.1
  have hml := hC.1.2.2.1
  have hown := hC.1.2.2.2.1
  have hts := hC.1.2.2.2.2
  have hl : lv_has ls 2 [(0, .ref S), (1, .int x)] := hl
  obtain ⟨g, hg, hgg⟩ : ∃ g, gh_W V (gh_A g0 s9.heap.size) s9 g s9.heap [] ∧ g = g0 := ⟨g0, hg, rfl⟩
  have hT := hT0
  rw [← hgg] at hT
  refine lv_aload_n hx hb dX2_lambda_whyNotCleaning_4_0 rfl (lv_at hl 0 rfl) ?_
  refine gh_get (v := .ref (ad 5)) hC hg hT.1 fX2_60_2 rfl dX2_lambda_whyNotCleaning_4_1 ?_
  refine lv_iload_n hx hb dX2_lambda_whyNotCleaning_4_4 rfl (lv_at hl 1 rfl) ?_
  refine gh_zald (n := 24) (f := (A 5)) hC hg hT.a5 ex (by omega) (by omega) dX2_lambda_whyNotCleaning_4_5 ?_
  refine lv_if_ne (tgt := 13) hx hb dX2_lambda_whyNotCleaning_4_6 (by decide) (fun c_1 => ?_) (fun c_1 => ?_)
  · skip
    refine lv_iconst (v := 0) hx hb dX2_lambda_whyNotCleaning_4_13 (by decide) ?_
    exact gh_retz rfl hC hg hr hlk (⟨(if_neg c_1).symm, hgg⟩) dX2_lambda_whyNotCleaning_4_14 (Nat.le_of_ble_eq_true rfl) (Nat.le_of_ble_eq_true rfl)
  refine lv_iconst (v := 1) hx hb dX2_lambda_whyNotCleaning_4_9 (by decide) ?_
  refine lv_goto (tgt := 14) hx hb dX2_lambda_whyNotCleaning_4_10 (by decide) ?_
  exact gh_retz rfl hC hg hr hlk (⟨(if_pos (c_1)).symm, hgg⟩) dX2_lambda_whyNotCleaning_4_14 (Nat.le_of_ble_eq_true rfl) (Nat.le_of_ble_eq_true rfl)
set_option maxHeartbeats 1000000 in
set_option maxRecDepth 100000 in
theorem j_X2_lambda_whyNotCleaning_5 (l : Launch) (V : gh_V) (g0 : gh_G) (S : Nat) (ad : Nat → Nat) (I : Nat → Int32) (A : Nat → Nat → Int32) (P : Nat → Option Nat) (hT0 : st_C V g0 S ad I A P) (x y : Int32) (c9 : Nat) (ex : x = nI c9) (hc2 : c9 < 2) : MI l yX2_lambda_whyNotCleaning_5 cX2_lambda_whyNotCleaning_5 3 (some .boolean) ({ frames := 0, cells := 0, slots := 0, locals := 0 } : Room) V [.ref S, .int x, .int y] g0 (fun r g1 => r = (if ¬ A 7 c9 ≤ 0 ∧ A 6 c9 = y then 1 else 0) ∧ g1 = g0) := by
  refine MG.of RX2 (by decide) rfl (Nat.le_of_ble_eq_true rfl) (fun pp ee s9 mm args below meth c ls hC hg hr hlk hnm hl => ?_)
  have hx := hC.1.1
  have hb := hC.1.2.1
  have hml := hC.1.2.2.1
  have hown := hC.1.2.2.2.1
  have hts := hC.1.2.2.2.2
  have hl : lv_has ls 3 [(0, .ref S), (1, .int x), (2, .int y)] := hl
  obtain ⟨g, hg, hgg⟩ : ∃ g, gh_W V (gh_A g0 s9.heap.size) s9 g s9.heap [] ∧ g = g0 := ⟨g0, hg, rfl⟩
  have hT := hT0
  rw [← hgg] at hT
  refine lv_aload_n hx hb dX2_lambda_whyNotCleaning_5_0 rfl (lv_at hl 0 rfl) ?_
  refine gh_get (v := .ref (ad 7)) hC hg hT.1 fX2_67_2 rfl dX2_lambda_whyNotCleaning_5_1 ?_
  refine lv_iload_n hx hb dX2_lambda_whyNotCleaning_5_4 rfl (lv_at hl 1 rfl) ?_
  refine gh_iald (n := 2) (f := (A 7)) hC hg hT.a7 ex (by omega) (by omega) dX2_lambda_whyNotCleaning_5_5 ?_
  refine lv_if_le (tgt := 23) hx hb dX2_lambda_whyNotCleaning_5_6 (by decide) (fun c_1 => ?_) (fun c_1 => ?_)
  · skip
    refine lv_iconst (v := 0) hx hb dX2_lambda_whyNotCleaning_5_23 (by decide) ?_
    exact gh_retz rfl hC hg hr hlk (⟨(if_neg (fun h => h.1 c_1)).symm, hgg⟩) dX2_lambda_whyNotCleaning_5_24 (Nat.le_of_ble_eq_true rfl) (Nat.le_of_ble_eq_true rfl)
  refine lv_aload_n hx hb dX2_lambda_whyNotCleaning_5_9 rfl (lv_at hl 0 rfl) ?_
  refine gh_get (v := .ref (ad 6)) hC hg hT.1 fX2_64_2 rfl dX2_lambda_whyNotCleaning_5_10 ?_
  refine lv_iload_n hx hb dX2_lambda_whyNotCleaning_5_13 rfl (lv_at hl 1 rfl) ?_
  refine gh_iald (n := 2) (f := (A 6)) hC hg hT.a6 ex (by omega) (by omega) dX2_lambda_whyNotCleaning_5_14 ?_
  refine lv_iload_n hx hb dX2_lambda_whyNotCleaning_5_15 rfl (lv_at hl 2 rfl) ?_
  refine lv_icmp_ne (tgt := 23) hx hb dX2_lambda_whyNotCleaning_5_16 (by decide) (fun c_2 => ?_) (fun c_2 => ?_)
  · skip
    refine lv_iconst (v := 0) hx hb dX2_lambda_whyNotCleaning_5_23 (by decide) ?_
    exact gh_retz rfl hC hg hr hlk (⟨(if_neg (fun h => c_2 h.2)).symm, hgg⟩) dX2_lambda_whyNotCleaning_5_24 (Nat.le_of_ble_eq_true rfl) (Nat.le_of_ble_eq_true rfl)
  refine lv_iconst (v := 1) hx hb dX2_lambda_whyNotCleaning_5_19 (by decide) ?_
  refine lv_goto (tgt := 24) hx hb dX2_lambda_whyNotCleaning_5_20 (by decide) ?_
  exact gh_retz rfl hC hg hr hlk (⟨(if_pos ⟨c_1, c_2⟩).symm, hgg⟩) dX2_lambda_whyNotCleaning_5_24 (Nat.le_of_ble_eq_true rfl) (Nat.le_of_ble_eq_true rfl)
set_option maxHeartbeats 1000000 in
set_option maxRecDepth 100000 in
theorem j_X1_first_L (l : Launch) (V : gh_V) (g0 : gh_G) (S : Nat) (ad : Nat → Nat) (I : Nat → Int32) (A : Nat → Nat → Int32) (P : Nat → Option Nat) (hT0 : st_C V g0 S ad I A P) (rs a0 a1 a2 : Nat) (tr t0 t1 t2 : gh_T) (f : Nat → Option Nat) (hrs : g0 rs = some (tr, aq V 8 3 f)) (hf0 : f 0 = some a0) (hf1 : f 1 = some a1) (hf2 : f 2 = some a2) (x : Nat) (tx : gh_T) (v1 v2 v4 v5 : Value) (c9 : Int32) (hx9 : g0 x = some (tx, oo 3 [v1, v2, .int c9, v4, v5])) (hb9 : A 5 0 = 0 ∨ A 5 0 = 1) (h0l : g0 a0 = some (t0, lam_ob V 5 [.ref x])) (h1l : g0 a1 = some (t1, lam_ob V 6 [.ref S])) (h2l : g0 a2 = some (t2, lam_ob V 7 [.ref S])) : MI l yX1_first cX1_first 2 (some .int) ({ frames := 2, cells := 0, slots := 0, locals := 32 } : Room) V [.ref rs] g0 (fun r g1 => r = fst3 (if c9 = 20 then 1 else 0) (if P 0 = none then 0 else 1) (A 5 0) ∧ g1 = g0) := by
  refine MG.of RX1 (by decide) rfl (Nat.le_of_ble_eq_true rfl) (fun pp ee s9 mm args below meth c ls hC hg hr hlk hnm hl => ?_)
  have hx := hC.1.1
  have hb := hC.1.2.1
  have hml := hC.1.2.2.1
  have hown := hC.1.2.2.2.1
  have hts := hC.1.2.2.2.2
  have hl : lv_has ls 2 [(0, .ref rs)] := hl
  obtain ⟨g, hg, hgg⟩ : ∃ g, gh_W V (gh_A g0 s9.heap.size) s9 g s9.heap [] ∧ g = g0 := ⟨g0, hg, rfl⟩
  have hT := hT0
  rw [← hgg] at hT
  rw [← hgg] at hrs h0l h1l h2l
  rw [← hgg] at hx9
  refine lv_iconst (v := 0) hx hb dX1_first_0 (by decide) ?_
  refine lv_istore_n (lv' := [(1, .int 0), (0, .ref rs)]) hx hb dX1_first_1 rfl hl (by decide) rfl (fun ls hl => ?_)
  refine lv_iload_n hx hb dX1_first_2 rfl (lv_at hl 0 rfl) ?_
  refine lv_aload_n hx hb dX1_first_3 rfl (lv_at hl 1 rfl) ?_
  refine gh_alen hC hg hrs rfl dX1_first_4 ?_
  refine lv_icmp_ge (tgt := 29) hx hb dX1_first_5 (by decide) (fun c_1 => (absurd ((nx_le rfl (show ((0 : Int32)) = nI 0 from rfl) (by omega) (by omega)).mp c_1) (by omega))) (fun _ => ?_)
  refine lv_aload_n hx hb dX1_first_8 rfl (lv_at hl 1 rfl) ?_
  refine lv_iload_n hx hb dX1_first_9 rfl (lv_at hl 0 rfl) ?_
  refine gh_qald (n := 3) (f := f) hC hg hrs rfl (show ((0 : Int32)) = nI 0 from rfl) (by omega) (by omega) dX1_first_10 ?_
  refine W.eq (g2 := F0 mm 11 ls [.ref a0]) (by rw [hf0] <;> rfl) ?_
  refine gh_callFi hg (gh_lc5 (rest := []) hC hg (j_X2_lambda_whyNotLoading_0 l V _ _ _ _ _ _ _ _ hx9) (fun r9 u9 h9 => bo_if h9.1) h0l q1642 ⟨Nat.le_of_ble_eq_true rfl, Nat.le_of_ble_eq_true rfl⟩ hl.1 rfl (Nat.le_of_ble_eq_true rfl) dX1_first_11 ⟨Nat.le_of_ble_eq_true rfl, Nat.le_of_ble_eq_true rfl⟩) (fun r_2 g H locs hg hp => ?_)
  obtain ⟨hp, hq⟩ := hp
  replace hp : (if c9 = 20 then 1 else 0) = r_2 := hp.symm
  subst hp
  rw [← hq] at hT hx9 hrs h0l h1l h2l
  try rw [← hq] at hgg
  refine lv_if_eq (tgt := 23) hx hb dX1_first_16 (by decide) (fun c_3 => ?_) (fun c_3 => ?_)
  · skip
    refine lv_iinc (v := (nI 1)) (lv' := [(1, .int (nI 1)), (0, .ref rs)]) hx hb dX1_first_23 hl (k := 0) rfl (nx_iinc (show ((0 : Int32)) = nI 0 from rfl)) (by decide) rfl (fun ls hl => ?_)
    refine lv_goto (tgt := 2) hx hb dX1_first_26 (by decide) ?_
    refine lv_iload_n hx hb dX1_first_2 rfl (lv_at hl 0 rfl) ?_
    refine lv_aload_n hx hb dX1_first_3 rfl (lv_at hl 1 rfl) ?_
    refine gh_alen hC hg hrs rfl dX1_first_4 ?_
    refine lv_icmp_ge (tgt := 29) hx hb dX1_first_5 (by decide) (fun c_4 => (absurd ((nx_le rfl rfl (by omega) (by omega)).mp c_4) (by omega))) (fun _ => ?_)
    refine lv_aload_n hx hb dX1_first_8 rfl (lv_at hl 1 rfl) ?_
    refine lv_iload_n hx hb dX1_first_9 rfl (lv_at hl 0 rfl) ?_
    refine gh_qald (n := 3) (f := f) hC hg hrs rfl rfl (by omega) (by omega) dX1_first_10 ?_
    refine W.eq (g2 := F0 mm 11 ls [.ref a1]) (by rw [hf1] <;> rfl) ?_
    refine gh_callFi hg (gh_lc6 (rest := []) hC hg hT.1 (j_X2_lambda_whyNotLoading_1 l V _ S ad I A P hT) (fun r9 u9 h9 => bo_fi h9.1) h1l q1642 ⟨Nat.le_of_ble_eq_true rfl, Nat.le_of_ble_eq_true rfl⟩ hl.1 rfl (Nat.le_of_ble_eq_true rfl) dX1_first_11 ⟨Nat.le_of_ble_eq_true rfl, Nat.le_of_ble_eq_true rfl⟩) (fun r_5 g H locs hg hp => ?_)
    obtain ⟨hp, hq⟩ := hp
    replace hp : (if P 0 = none then 0 else 1) = r_5 := hp.symm
    subst hp
    rw [← hq] at hT hx9 hrs h0l h1l h2l
    try rw [← hq] at hgg
    refine lv_if_eq (tgt := 23) hx hb dX1_first_16 (by decide) (fun c_6 => ?_) (fun c_6 => ?_)
    · skip
      refine lv_iinc (v := (nI 2)) (lv' := [(1, .int (nI 2)), (0, .ref rs)]) hx hb dX1_first_23 hl (k := 0) rfl (nx_iinc rfl) (by decide) rfl (fun ls hl => ?_)
      refine lv_goto (tgt := 2) hx hb dX1_first_26 (by decide) ?_
      refine lv_iload_n hx hb dX1_first_2 rfl (lv_at hl 0 rfl) ?_
      refine lv_aload_n hx hb dX1_first_3 rfl (lv_at hl 1 rfl) ?_
      refine gh_alen hC hg hrs rfl dX1_first_4 ?_
      refine lv_icmp_ge (tgt := 29) hx hb dX1_first_5 (by decide) (fun c_7 => (absurd ((nx_le rfl rfl (by omega) (by omega)).mp c_7) (by omega))) (fun _ => ?_)
      refine lv_aload_n hx hb dX1_first_8 rfl (lv_at hl 1 rfl) ?_
      refine lv_iload_n hx hb dX1_first_9 rfl (lv_at hl 0 rfl) ?_
      refine gh_qald (n := 3) (f := f) hC hg hrs rfl rfl (by omega) (by omega) dX1_first_10 ?_
      refine W.eq (g2 := F0 mm 11 ls [.ref a2]) (by rw [hf2] <;> rfl) ?_
      refine gh_callFi hg (gh_lc7 (rest := []) hC hg hT.1 (j_X2_lambda_whyNotLoading_2 l V _ S ad I A P hT hb9) (fun r9 u9 h9 => by rw [h9.1]; exact hb9) h2l q1642 ⟨Nat.le_of_ble_eq_true rfl, Nat.le_of_ble_eq_true rfl⟩ hl.1 rfl (Nat.le_of_ble_eq_true rfl) dX1_first_11 ⟨Nat.le_of_ble_eq_true rfl, Nat.le_of_ble_eq_true rfl⟩) (fun r_8 g H locs hg hp => ?_)
      obtain ⟨hp, hq⟩ := hp
      replace hp : (A 5 0) = r_8 := hp.symm
      subst hp
      rw [← hq] at hT hx9 hrs h0l h1l h2l
      try rw [← hq] at hgg
      refine lv_if_eq (tgt := 23) hx hb dX1_first_16 (by decide) (fun c_9 => ?_) (fun c_9 => ?_)
      · skip
        refine lv_iinc (v := (nI 3)) (lv' := [(1, .int (nI 3)), (0, .ref rs)]) hx hb dX1_first_23 hl (k := 0) rfl (nx_iinc rfl) (by decide) rfl (fun ls hl => ?_)
        refine lv_goto (tgt := 2) hx hb dX1_first_26 (by decide) ?_
        refine lv_iload_n hx hb dX1_first_2 rfl (lv_at hl 0 rfl) ?_
        refine lv_aload_n hx hb dX1_first_3 rfl (lv_at hl 1 rfl) ?_
        refine gh_alen hC hg hrs rfl dX1_first_4 ?_
        refine lv_icmp_ge (tgt := 29) hx hb dX1_first_5 (by decide) (fun _ => ?_) (fun c_10 => (absurd ((nx_le rfl rfl (by omega) (by omega)).mpr (by omega)) c_10))
        refine lv_iconst (v := 0) hx hb dX1_first_29 (by decide) ?_
        exact gh_reti hC hg hr hlk (⟨(Eq.trans (by decide) (fst3_0 c_3 c_6 c_9).symm), hgg⟩) dX1_first_30 (Nat.le_of_ble_eq_true rfl) (Nat.le_of_ble_eq_true rfl)
      refine lv_iload_n hx hb dX1_first_19 rfl (lv_at hl 0 rfl) ?_
      refine lv_iconst (v := 1) hx hb dX1_first_20 (by decide) ?_
      refine lv_iadd hx hb dX1_first_21 ?_
      exact gh_reti hC hg hr hlk (⟨(Eq.trans (by decide) (fst3_3 c_3 c_6 c_9).symm), hgg⟩) dX1_first_22 (Nat.le_of_ble_eq_true rfl) (Nat.le_of_ble_eq_true rfl)
    refine lv_iload_n hx hb dX1_first_19 rfl (lv_at hl 0 rfl) ?_
    refine lv_iconst (v := 1) hx hb dX1_first_20 (by decide) ?_
    refine lv_iadd hx hb dX1_first_21 ?_
    exact gh_reti hC hg hr hlk (⟨(Eq.trans (by decide) (fst3_2 c_3 c_6).symm), hgg⟩) dX1_first_22 (Nat.le_of_ble_eq_true rfl) (Nat.le_of_ble_eq_true rfl)
  refine lv_iload_n hx hb dX1_first_19 rfl (lv_at hl 0 rfl) ?_
  refine lv_iconst (v := 1) hx hb dX1_first_20 (by decide) ?_
  refine lv_iadd hx hb dX1_first_21 ?_
  exact gh_reti hC hg hr hlk (⟨(Eq.trans (by decide) (fst3_1 c_3).symm), hgg⟩) dX1_first_22 (Nat.le_of_ble_eq_true rfl) (Nat.le_of_ble_eq_true rfl)
set_option maxHeartbeats 1000000 in
set_option maxRecDepth 100000 in
theorem j_X1_first_C (l : Launch) (V : gh_V) (g0 : gh_G) (S : Nat) (ad : Nat → Nat) (I : Nat → Int32) (A : Nat → Nat → Int32) (P : Nat → Option Nat) (hT0 : st_C V g0 S ad I A P) (rs a0 a1 a2 : Nat) (tr t0 t1 t2 : gh_T) (f : Nat → Option Nat) (hrs : g0 rs = some (tr, aq V 8 3 f)) (hf0 : f 0 = some a0) (hf1 : f 1 = some a1) (hf2 : f 2 = some a2) (x y : Int32) (c9 o9 p9 : Nat) (ex : x = nI c9) (hc2 : c9 < 2) (y9 : Int32) (eo : y9 = nI o9) (ho2 : o9 < 2) (ep : y = nI p9) (hp24 : p9 < 24) (h0l : g0 a0 = some (t0, lam_ob V 9 [.ref S, .int x])) (h1l : g0 a1 = some (t1, lam_ob V 10 [.ref S, .int y])) (h2l : g0 a2 = some (t2, lam_ob V 11 [.ref S, .int y9, .int y])) : MI l yX1_first cX1_first 2 (some .int) ({ frames := 2, cells := 0, slots := 0, locals := 34 } : Room) V [.ref rs] g0 (fun r g1 => r = fst3 (if ¬ A 7 c9 ≤ 0 then 1 else 0) (if A 5 p9 = 0 then 1 else 0) (if ¬ A 7 o9 ≤ 0 ∧ A 6 o9 = y then 1 else 0) ∧ g1 = g0) := by
  refine MG.of RX1 (by decide) rfl (Nat.le_of_ble_eq_true rfl) (fun pp ee s9 mm args below meth c ls hC hg hr hlk hnm hl => ?_)
  have hx := hC.1.1
  have hb := hC.1.2.1
  have hml := hC.1.2.2.1
  have hown := hC.1.2.2.2.1
  have hts := hC.1.2.2.2.2
  have hl : lv_has ls 2 [(0, .ref rs)] := hl
  obtain ⟨g, hg, hgg⟩ : ∃ g, gh_W V (gh_A g0 s9.heap.size) s9 g s9.heap [] ∧ g = g0 := ⟨g0, hg, rfl⟩
  have hT := hT0
  rw [← hgg] at hT
  rw [← hgg] at hrs h0l h1l h2l
  refine lv_iconst (v := 0) hx hb dX1_first_0 (by decide) ?_
  refine lv_istore_n (lv' := [(1, .int 0), (0, .ref rs)]) hx hb dX1_first_1 rfl hl (by decide) rfl (fun ls hl => ?_)
  refine lv_iload_n hx hb dX1_first_2 rfl (lv_at hl 0 rfl) ?_
  refine lv_aload_n hx hb dX1_first_3 rfl (lv_at hl 1 rfl) ?_
  refine gh_alen hC hg hrs rfl dX1_first_4 ?_
  refine lv_icmp_ge (tgt := 29) hx hb dX1_first_5 (by decide) (fun c_1 => (absurd ((nx_le rfl (show ((0 : Int32)) = nI 0 from rfl) (by omega) (by omega)).mp c_1) (by omega))) (fun _ => ?_)
  refine lv_aload_n hx hb dX1_first_8 rfl (lv_at hl 1 rfl) ?_
  refine lv_iload_n hx hb dX1_first_9 rfl (lv_at hl 0 rfl) ?_
  refine gh_qald (n := 3) (f := f) hC hg hrs rfl (show ((0 : Int32)) = nI 0 from rfl) (by omega) (by omega) dX1_first_10 ?_
  refine W.eq (g2 := F0 mm 11 ls [.ref a0]) (by rw [hf0] <;> rfl) ?_
  refine gh_callFi hg (gh_lc9 (rest := []) hC hg hT.1 (j_X2_lambda_whyNotCleaning_3 l V _ S ad I A P hT x c9 ex (by omega)) (fun r9 u9 h9 => bo_if h9.1) h0l q1642 ⟨Nat.le_of_ble_eq_true rfl, Nat.le_of_ble_eq_true rfl⟩ hl.1 rfl (Nat.le_of_ble_eq_true rfl) dX1_first_11 ⟨Nat.le_of_ble_eq_true rfl, Nat.le_of_ble_eq_true rfl⟩) (fun r_2 g H locs hg hp => ?_)
  obtain ⟨hp, hq⟩ := hp
  replace hp : (if ¬ A 7 c9 ≤ 0 then 1 else 0) = r_2 := hp.symm
  subst hp
  rw [← hq] at hT hrs h0l h1l h2l
  try rw [← hq] at hgg
  refine lv_if_eq (tgt := 23) hx hb dX1_first_16 (by decide) (fun c_3 => ?_) (fun c_3 => ?_)
  · skip
    refine lv_iinc (v := (nI 1)) (lv' := [(1, .int (nI 1)), (0, .ref rs)]) hx hb dX1_first_23 hl (k := 0) rfl (nx_iinc (show ((0 : Int32)) = nI 0 from rfl)) (by decide) rfl (fun ls hl => ?_)
    refine lv_goto (tgt := 2) hx hb dX1_first_26 (by decide) ?_
    refine lv_iload_n hx hb dX1_first_2 rfl (lv_at hl 0 rfl) ?_
    refine lv_aload_n hx hb dX1_first_3 rfl (lv_at hl 1 rfl) ?_
    refine gh_alen hC hg hrs rfl dX1_first_4 ?_
    refine lv_icmp_ge (tgt := 29) hx hb dX1_first_5 (by decide) (fun c_4 => (absurd ((nx_le rfl rfl (by omega) (by omega)).mp c_4) (by omega))) (fun _ => ?_)
    refine lv_aload_n hx hb dX1_first_8 rfl (lv_at hl 1 rfl) ?_
    refine lv_iload_n hx hb dX1_first_9 rfl (lv_at hl 0 rfl) ?_
    refine gh_qald (n := 3) (f := f) hC hg hrs rfl rfl (by omega) (by omega) dX1_first_10 ?_
    refine W.eq (g2 := F0 mm 11 ls [.ref a1]) (by rw [hf1] <;> rfl) ?_
    refine gh_callFi hg (gh_lc10 (rest := []) hC hg hT.1 (j_X2_lambda_whyNotCleaning_4 l V _ S ad I A P hT y p9 ep (by omega)) (fun r9 u9 h9 => bo_if h9.1) h1l q1642 ⟨Nat.le_of_ble_eq_true rfl, Nat.le_of_ble_eq_true rfl⟩ hl.1 rfl (Nat.le_of_ble_eq_true rfl) dX1_first_11 ⟨Nat.le_of_ble_eq_true rfl, Nat.le_of_ble_eq_true rfl⟩) (fun r_5 g H locs hg hp => ?_)
    obtain ⟨hp, hq⟩ := hp
    replace hp : (if A 5 p9 = 0 then 1 else 0) = r_5 := hp.symm
    subst hp
    rw [← hq] at hT hrs h0l h1l h2l
    try rw [← hq] at hgg
    refine lv_if_eq (tgt := 23) hx hb dX1_first_16 (by decide) (fun c_6 => ?_) (fun c_6 => ?_)
    · skip
      refine lv_iinc (v := (nI 2)) (lv' := [(1, .int (nI 2)), (0, .ref rs)]) hx hb dX1_first_23 hl (k := 0) rfl (nx_iinc rfl) (by decide) rfl (fun ls hl => ?_)
      refine lv_goto (tgt := 2) hx hb dX1_first_26 (by decide) ?_
      refine lv_iload_n hx hb dX1_first_2 rfl (lv_at hl 0 rfl) ?_
      refine lv_aload_n hx hb dX1_first_3 rfl (lv_at hl 1 rfl) ?_
      refine gh_alen hC hg hrs rfl dX1_first_4 ?_
      refine lv_icmp_ge (tgt := 29) hx hb dX1_first_5 (by decide) (fun c_7 => (absurd ((nx_le rfl rfl (by omega) (by omega)).mp c_7) (by omega))) (fun _ => ?_)
      refine lv_aload_n hx hb dX1_first_8 rfl (lv_at hl 1 rfl) ?_
      refine lv_iload_n hx hb dX1_first_9 rfl (lv_at hl 0 rfl) ?_
      refine gh_qald (n := 3) (f := f) hC hg hrs rfl rfl (by omega) (by omega) dX1_first_10 ?_
      refine W.eq (g2 := F0 mm 11 ls [.ref a2]) (by rw [hf2] <;> rfl) ?_
      refine gh_callFi hg (gh_lc11 (rest := []) hC hg hT.1 (j_X2_lambda_whyNotCleaning_5 l V _ S ad I A P hT y9 y o9 eo (by omega)) (fun r9 u9 h9 => bo_if h9.1) h2l q1642 ⟨Nat.le_of_ble_eq_true rfl, Nat.le_of_ble_eq_true rfl⟩ hl.1 rfl (Nat.le_of_ble_eq_true rfl) dX1_first_11 ⟨Nat.le_of_ble_eq_true rfl, Nat.le_of_ble_eq_true rfl⟩) (fun r_8 g H locs hg hp => ?_)
      obtain ⟨hp, hq⟩ := hp
      replace hp : (if ¬ A 7 o9 ≤ 0 ∧ A 6 o9 = y then 1 else 0) = r_8 := hp.symm
      subst hp
      rw [← hq] at hT hrs h0l h1l h2l
      try rw [← hq] at hgg
      refine lv_if_eq (tgt := 23) hx hb dX1_first_16 (by decide) (fun c_9 => ?_) (fun c_9 => ?_)
      · skip
        refine lv_iinc (v := (nI 3)) (lv' := [(1, .int (nI 3)), (0, .ref rs)]) hx hb dX1_first_23 hl (k := 0) rfl (nx_iinc rfl) (by decide) rfl (fun ls hl => ?_)
        refine lv_goto (tgt := 2) hx hb dX1_first_26 (by decide) ?_
        refine lv_iload_n hx hb dX1_first_2 rfl (lv_at hl 0 rfl) ?_
        refine lv_aload_n hx hb dX1_first_3 rfl (lv_at hl 1 rfl) ?_
        refine gh_alen hC hg hrs rfl dX1_first_4 ?_
        refine lv_icmp_ge (tgt := 29) hx hb dX1_first_5 (by decide) (fun _ => ?_) (fun c_10 => (absurd ((nx_le rfl rfl (by omega) (by omega)).mpr (by omega)) c_10))
        refine lv_iconst (v := 0) hx hb dX1_first_29 (by decide) ?_
        exact gh_reti hC hg hr hlk (⟨(Eq.trans (by decide) (fst3_0 c_3 c_6 c_9).symm), hgg⟩) dX1_first_30 (Nat.le_of_ble_eq_true rfl) (Nat.le_of_ble_eq_true rfl)
      refine lv_iload_n hx hb dX1_first_19 rfl (lv_at hl 0 rfl) ?_
      refine lv_iconst (v := 1) hx hb dX1_first_20 (by decide) ?_
      refine lv_iadd hx hb dX1_first_21 ?_
      exact gh_reti hC hg hr hlk (⟨(Eq.trans (by decide) (fst3_3 c_3 c_6 c_9).symm), hgg⟩) dX1_first_22 (Nat.le_of_ble_eq_true rfl) (Nat.le_of_ble_eq_true rfl)
    refine lv_iload_n hx hb dX1_first_19 rfl (lv_at hl 0 rfl) ?_
    refine lv_iconst (v := 1) hx hb dX1_first_20 (by decide) ?_
    refine lv_iadd hx hb dX1_first_21 ?_
    exact gh_reti hC hg hr hlk (⟨(Eq.trans (by decide) (fst3_2 c_3 c_6).symm), hgg⟩) dX1_first_22 (Nat.le_of_ble_eq_true rfl) (Nat.le_of_ble_eq_true rfl)
  refine lv_iload_n hx hb dX1_first_19 rfl (lv_at hl 0 rfl) ?_
  refine lv_iconst (v := 1) hx hb dX1_first_20 (by decide) ?_
  refine lv_iadd hx hb dX1_first_21 ?_
  exact gh_reti hC hg hr hlk (⟨(Eq.trans (by decide) (fst3_1 c_3).symm), hgg⟩) dX1_first_22 (Nat.le_of_ble_eq_true rfl) (Nat.le_of_ble_eq_true rfl)
