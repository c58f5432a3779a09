abbrev okR (x lo hi : Int32) : Prop := ¬ x < lo ∧ ¬ hi < x
theorem okR_nat {x lo hi : Int32} {a b : Nat} (hlo : lo = nI a) (hhi : hi = nI b) (ha : a < 2 ^ 31) (hb : b < 2 ^ 31) (h : okR x lo hi) : ∃ n, a ≤ n ∧ n ≤ b ∧ x = nI n := by
  obtain ⟨h1, h2⟩ := h
  subst hlo; subst hhi
  have h0 : ¬ x < 0 := by
    intro h9
    apply h1
    rw [Int32.lt_iff_toInt_lt] at h9 ⊢
    rw [nI_toInt ha]
    have : (0 : Int32).toInt = 0 := rfl
    omega
  obtain ⟨j, hj, rfl⟩ := nI_of h0
  refine ⟨j, ?_, ?_, rfl⟩
  · exact Nat.not_lt.mp (fun h9 => h1 ((nI_ltI hj ha).mpr h9))
  · exact Nat.not_lt.mp (fun h9 => h2 ((nI_ltI hb hj).mpr h9))
theorem okR_of {x lo hi : Int32} {a b n : Nat} (hx : x = nI n) (hlo : lo = nI a) (hhi : hi = nI b) (h1 : a ≤ n) (h2 : n ≤ b) (hb : b < 2 ^ 31) : okR x lo hi := by
  subst hx; subst hlo; subst hhi
  exact ⟨nI_nlt h1 (by omega), nI_nlt h2 hb⟩
/-- places of s that hold indices are in range: L lots, D orders, P plans -/
def tw_wf (s : Nat → Int32) (L D P : Nat) : Prop :=
  (s 163 = nI L ∧ L ≤ 12) ∧ (s 464 = nI D ∧ D ≤ 10) ∧ (s 529 = nI P ∧ P ≤ 16) ∧
  (∀ q, q < 24 → ¬ pl s q 0 = -1 → ∃ i n, i < L ∧ n < 20 ∧ pl s q 0 = nI i ∧ pl s q 1 = nI n) ∧
  (∀ i, i < L → ∃ k, k ≤ 20 ∧ lt s i 2 = nI k) ∧
  (∀ z, z < 8 → ∃ b, b ≤ 3 ∧ zn s z 0 = nI b) ∧
  (∀ k, k < P → (∃ z, z < 8 ∧ pn s k 1 = nI z) ∧ ∃ b, b ≤ 3 ∧ pn s k 2 = nI b) ∧
  (∀ c, c < 2 → ∃ q, q < 24 ∧ cl s c 0 = nI q) ∧
  (∃ u, u ≤ 99 ∧ s 1 = nI u) ∧
  (∀ i, i < L → ∃ w, 1 ≤ w ∧ w ≤ 9 ∧ lt s i 1 = nI w)
theorem okR_cl {x lo hi : Int32} {a b : Nat} (hlo : lo = nI a) (hhi : hi = nI b) (ha : a < 2 ^ 31) (hb : b < 2 ^ 31) (h : okR x lo hi) : a ≤ x.toNatClampNeg ∧ x.toNatClampNeg ≤ b ∧ x = nI x.toNatClampNeg := by
  obtain ⟨n, h1, h2, rfl⟩ := okR_nat hlo hhi ha hb h
  rw [nI_clamp (by omega)]
  exact ⟨h1, h2, rfl⟩
/-- an index below L -/
abbrev okL (x : Int32) (L : Nat) : Prop := ¬ x < 0 ∧ ¬ nI L ≤ x
theorem okL_cl {x : Int32} {L : Nat} (hL : L < 2 ^ 31) (h : okL x L) : x.toNatClampNeg < L ∧ x = nI x.toNatClampNeg := by
  obtain ⟨j, hj, rfl⟩ := nI_of h.1
  rw [nI_clamp hj]
  exact ⟨Nat.not_le.mp (fun h9 => h.2 (nI_le h9 hj)), rfl⟩
theorem okL_of {x : Int32} {L n : Nat} (hx : x = nI n) (hn : n < L) (hL : L < 2 ^ 31) : okL x L := by
  subst hx
  exact ⟨nI_pos (by omega), nI_ge hn hL⟩
theorem okL_R {x a : Int32} {L : Nat} (ha : a = nI L) (hL : L < 2 ^ 31) : okR x 0 (a - 1) ↔ okL x L := by
  subst ha
  constructor
  · rintro ⟨h1, h2⟩
    refine ⟨h1, fun h9 => h2 ?_⟩
    obtain ⟨j, hj, rfl⟩ := nI_of h1
    have := (nI_leI hL hj).mp h9
    rw [Int32.lt_iff_toInt_lt, nI_toInt hj]
    cases L with
    | zero => 
      have : (nI 0 - 1).toInt = -1 := by decide
      omega
    | succ L =>
      rw [nI_pred, nI_toInt (by omega)]
      omega
  · rintro ⟨h1, h2⟩
    refine ⟨h1, fun h9 => h2 ?_⟩
    obtain ⟨j, hj, rfl⟩ := nI_of h1
    rw [Int32.lt_iff_toInt_lt, nI_toInt hj] at h9
    refine nI_le ?_ hj
    cases L with
    | zero => exact Nat.zero_le _
    | succ L =>
      rw [nI_pred, nI_toInt (by omega)] at h9
      omega
theorem okL_8 {x : Int32} : okR x 0 7 ↔ okL x 8 := okL_R (a := 8) rfl (by decide)
theorem okL_24 {x : Int32} : okR x 0 23 ↔ okL x 24 := okL_R (a := 24) rfl (by decide)
theorem okL_2 {x : Int32} : okR x 0 1 ↔ okL x 2 := okL_R (a := 2) rfl (by decide)
/-- what is thrown -/
def c1 (b : Prop) [Decidable b] : Int32 := if b then 0 else 1
def c2 (b d : Prop) [Decidable b] [Decidable d] : Int32 := if b then (if d then 0 else 2) else 1
def c3 (b d f : Prop) [Decidable b] [Decidable d] [Decidable f] : Int32 := if b then (if d then (if f then 0 else 3) else 2) else 1
set_option maxRecDepth 100000
theorem fX3_13_0 : gh_fd RX3 13 0 1 (.array .float) true := gh_fd.own (T := TX3) tyX3 rfl in_X3 tyX3_ok nmX3 (by decide) q3831 rfl rfl (fun h => rfl)
theorem fX3_29_0 : gh_fd RX3 29 0 8 (.array .int) true := gh_fd.own (T := TX3) tyX3 rfl in_X3 tyX3_ok nmX3 (by decide) q3838 rfl rfl (fun h => rfl)
theorem fX3_32_0 : gh_fd RX3 32 0 9 (.array .float) true := gh_fd.own (T := TX3) tyX3 rfl in_X3 tyX3_ok nmX3 (by decide) q3839 rfl rfl (fun h => rfl)
theorem fX3_54_0 : gh_fd RX3 54 0 12 .int false := gh_fd.own (T := TX3) tyX3 rfl in_X3 tyX3_ok nmX3 (by decide) q3842 rfl rfl (fun h => by cases h)
theorem hd_X3_at : yX3_at.cls = RX3 ∧ yX3_at.cls ≠ "java/lang/invoke/MethodHandle" ∧ yX3_at.cls ≠ "java/lang/invoke/VarHandle" ∧ (parseMethodDescriptor yX3_at.desc).map (fun d => d.parameters.length) = some 2 := by decide +kernel
theorem hd_X3_isPiece : yX3_isPiece.cls = RX3 ∧ yX3_isPiece.cls ≠ "java/lang/invoke/MethodHandle" ∧ yX3_isPiece.cls ≠ "java/lang/invoke/VarHandle" ∧ (parseMethodDescriptor yX3_isPiece.desc).map (fun d => d.parameters.length) = some 1 := by decide +kernel
theorem hd_X3_lot : yX3_lot.cls = RX3 ∧ yX3_lot.cls ≠ "java/lang/invoke/MethodHandle" ∧ yX3_lot.cls ≠ "java/lang/invoke/VarHandle" ∧ (parseMethodDescriptor yX3_lot.desc).map (fun d => d.parameters.length) = some 2 := by decide +kernel
set_option maxHeartbeats 1000000 in
set_option maxRecDepth 100000 in
theorem t_in (l : Launch) (V : gh_V) (g0 : gh_G) (x0 x1 x2 : Int32) : MI l yX3_in cX3_in 3 (some .boolean) ({ frames := 0, cells := 0, slots := 0, locals := 0 } : Room) V [.int x0, .int x1, .int x2] g0 (fun r g1 => r = (if okR x0 x1 x2 then 1 else 0) ∧ g1 = g0) := by
  refine MG.of RX3 (by decide) rfl (Nat.le_of_ble_eq_true rfl) (fun pp ee s mm args below meth c ls hC hg hr hlk hnm hl => ?_)
  have hx := hC.1.1
  have hb := hC.1.2.1
  have hml := hC.1.2.2.1
  have hown := hC.1.2.2.2.1
  have hts := hC.1.2.2.2.2
  have hl : lv_has ls 3 [(0, .int x0), (1, .int x1), (2, .int x2)] := hl
  refine lv_iload_n hx hb dX3_in_0 rfl (lv_at hl 0 rfl) ?_
  refine lv_iload_n hx hb dX3_in_1 rfl (lv_at hl 1 rfl) ?_
  refine lv_icmp_lt (tgt := 14) hx hb dX3_in_2 (by decide) (fun c_1 => ?_) (fun c_1 => ?_)
  · skip
    refine lv_iconst (v := 0) hx hb dX3_in_14 (by decide) ?_
    exact gh_retz rfl hC hg hr hlk (⟨(if_neg (fun h9 => h9.1 c_1)).symm, rfl⟩) dX3_in_15 (Nat.le_of_ble_eq_true rfl) (Nat.le_of_ble_eq_true rfl)
  refine lv_iload_n hx hb dX3_in_5 rfl (lv_at hl 0 rfl) ?_
  refine lv_iload_n hx hb dX3_in_6 rfl (lv_at hl 2 rfl) ?_
  refine lv_icmp_gt (tgt := 14) hx hb dX3_in_7 (by decide) (fun c_2 => ?_) (fun c_2 => ?_)
  · skip
    refine lv_iconst (v := 0) hx hb dX3_in_14 (by decide) ?_
    exact gh_retz rfl hC hg hr hlk (⟨(if_neg (fun h9 => h9.2 c_2)).symm, rfl⟩) dX3_in_15 (Nat.le_of_ble_eq_true rfl) (Nat.le_of_ble_eq_true rfl)
  refine lv_iconst (v := 1) hx hb dX3_in_10 (by decide) ?_
  refine lv_goto (tgt := 15) hx hb dX3_in_11 (by decide) ?_
  exact gh_retz rfl hC hg hr hlk (⟨(if_pos ⟨c_1, c_2⟩).symm, rfl⟩) dX3_in_15 (Nat.le_of_ble_eq_true rfl) (Nat.le_of_ble_eq_true rfl)
set_option maxHeartbeats 1000000 in
set_option maxRecDepth 100000 in
theorem t_thrown (l : Launch) (V : gh_V) (o : Nat) (ad : Nat → Nat) (I : Nat → Int32) (A : Nat → Nat → Int32) (F : Nat → Nat → UInt32) (g0 : gh_G) (hP : tw_P V g0 o ad I A F)  : MI l yX3_thrown cX3_thrown 1 (some .int) ({ frames := 0, cells := 0, slots := 0, locals := 0 } : Room) V [.ref o] g0 (fun r g1 => r = I 3 ∧ g1 = g0) := by
  refine MG.of RX3 (by decide) rfl (Nat.le_of_ble_eq_true rfl) (fun pp ee s mm args below meth c ls hC hg hr hlk hnm hl => ?_)
  have hx := hC.1.1
  have hb := hC.1.2.1
  have hml := hC.1.2.2.1
  have hown := hC.1.2.2.2.1
  have hts := hC.1.2.2.2.2
  have hl : lv_has ls 1 [(0, .ref o)] := hl
  have hT := hP.W
  refine lv_aload_n hx hb dX3_thrown_0 rfl (lv_at hl 0 rfl) ?_
  refine gh_get (v := .int (I 3)) hC hg hT.1.1 fX3_54_0 rfl dX3_thrown_1 ?_
  exact gh_reti hC hg hr hlk (⟨rfl, rfl⟩) dX3_thrown_4 (Nat.le_of_ble_eq_true rfl) (Nat.le_of_ble_eq_true rfl)
set_option maxHeartbeats 1000000 in
set_option maxRecDepth 100000 in
theorem t_throwing (l : Launch) (V : gh_V) (o : Nat) (ad : Nat → Nat) (I : Nat → Int32) (A : Nat → Nat → Int32) (F : Nat → Nat → UInt32) (g0 : gh_G) (hP : tw_P V g0 o ad I A F) (x : Int32) : MI l yX3_throwing cX3_throwing 2 (some .int) ({ frames := 0, cells := 0, slots := 0, locals := 0 } : Room) V [.ref o, .int x] g0 (fun r g1 => r = 0 ∧ tw_W V g0 g1 o ad (va_up I 3 x) A F) := by
  refine MG.of RX3 (by decide) rfl (Nat.le_of_ble_eq_true rfl) (fun pp ee s mm args below meth c ls hC hg hr hlk hnm hl => ?_)
  have hx := hC.1.1
  have hb := hC.1.2.1
  have hml := hC.1.2.2.1
  have hown := hC.1.2.2.2.1
  have hts := hC.1.2.2.2.2
  have hl : lv_has ls 2 [(0, .ref o), (1, .int x)] := hl
  have hT := hP.W
  refine lv_aload_n hx hb dX3_throwing_0 rfl (lv_at hl 0 rfl) ?_
  refine lv_iload_n hx hb dX3_throwing_1 rfl (lv_at hl 1 rfl) ?_
  refine gh_put (v := .int x) hC hg hT.1.1 fX3_54_0 rfl rfl (Nat.le_of_ble_eq_true rfl) dX3_throwing_2 (fun g H locs hg hw hn => ?_)
  have hT : tw_W V g0 g o ad (va_up I 3 x) A F := hT.putI 3 x hw hn
  refine lv_iconst (v := 0) hx hb dX3_throwing_5 (by decide) ?_
  exact gh_reti hC hg hr hlk (⟨rfl, hT⟩) dX3_throwing_6 (Nat.le_of_ble_eq_true rfl) (Nat.le_of_ble_eq_true rfl)
set_option maxHeartbeats 1000000 in
set_option maxRecDepth 100000 in
theorem t_isPiece (l : Launch) (V : gh_V) (o : Nat) (ad : Nat → Nat) (I : Nat → Int32) (A : Nat → Nat → Int32) (F : Nat → Nat → UInt32) (g0 : gh_G) (hP : tw_P V g0 o ad I A F) (x0 : Int32) (q : Nat) (hx0 : x0 = nI q) (bq : q < 24) : MI l yX3_isPiece cX3_isPiece 2 (some .boolean) ({ frames := 1, cells := 0, slots := 0, locals := 22 } : Room) V [.ref o, .int x0] g0 (fun r g1 => r = (if ¬ pl (A 0) q 0 = -1 then 1 else 0) ∧ g1 = g0) := by
  refine MG.of RX3 (by decide) rfl (Nat.le_of_ble_eq_true rfl) (fun pp ee s mm args below meth c ls hC hg hr hlk hnm hl => ?_)
  have hx := hC.1.1
  have hb := hC.1.2.1
  have hml := hC.1.2.2.1
  have hown := hC.1.2.2.2.1
  have hts := hC.1.2.2.2.2
  have hl : lv_has ls 2 [(0, .ref o), (1, .int x0)] := hl
  have hT := hP.W
  refine lv_aload_n hx hb dX3_isPiece_0 rfl (lv_at hl 0 rfl) ?_
  refine lv_iload_n hx hb dX3_isPiece_1 rfl (lv_at hl 1 rfl) ?_
  refine lv_iconst (v := 0) hx hb dX3_isPiece_2 (by decide) ?_
  refine gh_calli hg (gh_runV (As := [.int x0, .int 0]) (rest := []) hC hg (t_at l V o ad I A F _ hT.1 x0 0 q 0 hx0 (show ((0 : Int32)) = nI 0 from rfl) (by omega) (by omega)) 2 (lw_V q3964 q3966 qs65 q138 q3967) hT.1.1 rfl hd_X3_at ⟨Nat.le_of_ble_eq_true rfl, Nat.le_of_ble_eq_true rfl⟩ rfl hl.1 rfl (Nat.le_of_ble_eq_true rfl) dX3_isPiece_3 ⟨Nat.le_of_ble_eq_true rfl, Nat.le_of_ble_eq_true rfl⟩) (fun r_1 g H locs hg hp => ?_)
  obtain ⟨hp, hq⟩ := hp
  replace hp : r_1 = (pl (A 0) q 0) := hp
  subst hp
  rw [hq] at hg
  refine lv_iconst (v := (-1)) hx hb dX3_isPiece_6 (by decide) ?_
  refine lv_icmp_eq (tgt := 14) hx hb dX3_isPiece_7 (by decide) (fun c_2 => ?_) (fun c_2 => ?_)
  · skip
    refine lv_iconst (v := 0) hx hb dX3_isPiece_14 (by decide) ?_
    exact gh_retz rfl hC hg hr hlk (⟨by simp [c_2], rfl⟩) dX3_isPiece_15 (Nat.le_of_ble_eq_true rfl) (Nat.le_of_ble_eq_true rfl)
  refine lv_iconst (v := 1) hx hb dX3_isPiece_10 (by decide) ?_
  refine lv_goto (tgt := 15) hx hb dX3_isPiece_11 (by decide) ?_
  exact gh_retz rfl hC hg hr hlk (⟨by simp [c_2], rfl⟩) dX3_isPiece_15 (Nat.le_of_ble_eq_true rfl) (Nat.le_of_ble_eq_true rfl)
set_option maxHeartbeats 1000000 in
set_option maxRecDepth 100000 in
theorem t_isFree (l : Launch) (V : gh_V) (o : Nat) (ad : Nat → Nat) (I : Nat → Int32) (A : Nat → Nat → Int32) (F : Nat → Nat → UInt32) (g0 : gh_G) (hP : tw_P V g0 o ad I A F) (x0 : Int32) (q : Nat) (hx0 : x0 = nI q) (bq : q < 24) : MI l yX3_isFree cX3_isFree 2 (some .boolean) ({ frames := 2, cells := 0, slots := 0, locals := 43 } : Room) V [.ref o, .int x0] g0 (fun r g1 => r = (if pl (A 0) q 0 = -1 ∧ pl (A 0) q 4 = 0 then 1 else 0) ∧ g1 = g0) := by
  refine MG.of RX3 (by decide) rfl (Nat.le_of_ble_eq_true rfl) (fun pp ee s mm args below meth c ls hC hg hr hlk hnm hl => ?_)
  have hx := hC.1.1
  have hb := hC.1.2.1
  have hml := hC.1.2.2.1
  have hown := hC.1.2.2.2.1
  have hts := hC.1.2.2.2.2
  have hl : lv_has ls 2 [(0, .ref o), (1, .int x0)] := hl
  have hT := hP.W
  refine lv_aload_n hx hb dX3_isFree_0 rfl (lv_at hl 0 rfl) ?_
  refine lv_iload_n hx hb dX3_isFree_1 rfl (lv_at hl 1 rfl) ?_
  refine gh_calli hg (gh_runV (As := [.int x0]) (rest := []) hC hg (t_isPiece l V o ad I A F _ hT.1 x0 q hx0 (by omega)) 1 (lw_V q3960 q3962 qs64 q138 q3963) hT.1.1 rfl hd_X3_isPiece ⟨Nat.le_of_ble_eq_true rfl, Nat.le_of_ble_eq_true rfl⟩ rfl hl.1 rfl (Nat.le_of_ble_eq_true rfl) dX3_isFree_2 ⟨Nat.le_of_ble_eq_true rfl, Nat.le_of_ble_eq_true rfl⟩) (fun r_1 g H locs hg hp => ?_)
  replace hp : r_1 = (if ¬ pl (A 0) q 0 = -1 then 1 else 0) ∧ g = _ := hp
  by_cases pc_2 : ¬ pl (A 0) q 0 = -1
  · rw [if_pos pc_2] at hp
    obtain ⟨rfl, hq⟩ := hp
    rw [hq] at hg
    refine lv_if_ne (tgt := 21) hx hb dX3_isFree_5 (by decide) (fun _ => ?_) (fun c_3 => (absurd ((nx_eq (show ((1 : Int32)) = nI 1 from rfl) (show ((0 : Int32)) = nI 0 from rfl) (by omega) (by omega)).mp c_3) (by omega)))
    refine lv_iconst (v := 0) hx hb dX3_isFree_21 (by decide) ?_
    exact gh_retz rfl hC hg hr hlk (⟨by simp [pc_2], rfl⟩) dX3_isFree_22 (Nat.le_of_ble_eq_true rfl) (Nat.le_of_ble_eq_true rfl)
  rw [if_neg pc_2] at hp
  obtain ⟨rfl, hq⟩ := hp
  rw [hq] at hg
  refine lv_if_ne (tgt := 21) hx hb dX3_isFree_5 (by decide) (fun c_4 => (absurd ((nx_eq (show ((0 : Int32)) = nI 0 from rfl) (show ((0 : Int32)) = nI 0 from rfl) (by omega) (by omega)).mpr (by omega)) c_4)) (fun _ => ?_)
  refine lv_aload_n hx hb dX3_isFree_8 rfl (lv_at hl 0 rfl) ?_
  refine lv_iload_n hx hb dX3_isFree_9 rfl (lv_at hl 1 rfl) ?_
  refine lv_iconst (v := 4) hx hb dX3_isFree_10 (by decide) ?_
  refine gh_calli hg (gh_runV (As := [.int x0, .int 4]) (rest := []) hC hg (t_at l V o ad I A F _ hT.1 x0 4 q 4 hx0 (show ((4 : Int32)) = nI 4 from rfl) (by omega) (by omega)) 2 (lw_V q3964 q3966 qs65 q138 q3967) hT.1.1 rfl hd_X3_at ⟨Nat.le_of_ble_eq_true rfl, Nat.le_of_ble_eq_true rfl⟩ rfl hl.1 rfl (Nat.le_of_ble_eq_true rfl) dX3_isFree_11 ⟨Nat.le_of_ble_eq_true rfl, Nat.le_of_ble_eq_true rfl⟩) (fun r_5 g H locs hg hp => ?_)
  obtain ⟨hp, hq⟩ := hp
  replace hp : r_5 = (pl (A 0) q 4) := hp
  subst hp
  rw [hq] at hg
  refine lv_if_ne (tgt := 21) hx hb dX3_isFree_14 (by decide) (fun c_6 => ?_) (fun c_6 => ?_)
  · skip
    refine lv_iconst (v := 0) hx hb dX3_isFree_21 (by decide) ?_
    exact gh_retz rfl hC hg hr hlk (⟨by simp [pc_2, c_6], rfl⟩) dX3_isFree_22 (Nat.le_of_ble_eq_true rfl) (Nat.le_of_ble_eq_true rfl)
  refine lv_iconst (v := 1) hx hb dX3_isFree_17 (by decide) ?_
  refine lv_goto (tgt := 22) hx hb dX3_isFree_18 (by decide) ?_
  exact gh_retz rfl hC hg hr hlk (⟨by simp [pc_2, c_6], rfl⟩) dX3_isFree_22 (Nat.le_of_ble_eq_true rfl) (Nat.le_of_ble_eq_true rfl)
set_option maxHeartbeats 1000000 in
set_option maxRecDepth 100000 in
theorem t_kindAt (l : Launch) (V : gh_V) (o : Nat) (ad : Nat → Nat) (I : Nat → Int32) (A : Nat → Nat → Int32) (F : Nat → Nat → UInt32) (g0 : gh_G) (hP : tw_P V g0 o ad I A F) (x : Int32) (q i : Nat) (hx0 : x = nI q) (bq : q < 24) (hi : pl (A 0) q 0 = nI i) (bi : i < 12) : MI l yX3_kindAt cX3_kindAt 2 (some .int) ({ frames := 1, cells := 0, slots := 0, locals := 22 } : Room) V [.ref o, .int x] g0 (fun r g1 => r = lt (A 0) i 0 ∧ g1 = g0) := by
  refine MG.of RX3 (by decide) rfl (Nat.le_of_ble_eq_true rfl) (fun pp ee s mm args below meth c ls hC hg hr hlk hnm hl => ?_)
  have hx := hC.1.1
  have hb := hC.1.2.1
  have hml := hC.1.2.2.1
  have hown := hC.1.2.2.2.1
  have hts := hC.1.2.2.2.2
  have hl : lv_has ls 2 [(0, .ref o), (1, .int x)] := hl
  have hT := hP.W
  refine lv_aload_n hx hb dX3_kindAt_0 rfl (lv_at hl 0 rfl) ?_
  refine lv_aload_n hx hb dX3_kindAt_1 rfl (lv_at hl 0 rfl) ?_
  refine lv_iload_n hx hb dX3_kindAt_2 rfl (lv_at hl 1 rfl) ?_
  refine lv_iconst (v := 0) hx hb dX3_kindAt_3 (by decide) ?_
  refine gh_calli hg (gh_runV (As := [.int x, .int 0]) (rest := [.ref o]) hC hg (t_at l V o ad I A F _ hT.1 x 0 q 0 hx0 (show ((0 : Int32)) = nI 0 from rfl) (by omega) (by omega)) 2 (lw_V q3964 q3966 qs65 q138 q3967) hT.1.1 rfl hd_X3_at ⟨Nat.le_of_ble_eq_true rfl, Nat.le_of_ble_eq_true rfl⟩ rfl hl.1 rfl (Nat.le_of_ble_eq_true rfl) dX3_kindAt_4 ⟨Nat.le_of_ble_eq_true rfl, Nat.le_of_ble_eq_true rfl⟩) (fun r_1 g H locs hg hp => ?_)
  obtain ⟨hp, hq⟩ := hp
  replace hp : r_1 = (pl (A 0) q 0) := hp
  subst hp
  rw [hq] at hg
  refine lv_iconst (v := 0) hx hb dX3_kindAt_7 (by decide) ?_
  refine gh_calli hg (gh_runV (As := [.int (pl (A 0) q 0), .int 0]) (rest := []) hC hg (t_lot l V o ad I A F _ hT.1 (pl (A 0) q 0) 0 i 0 hi (show ((0 : Int32)) = nI 0 from rfl) (by omega) (by omega)) 2 (lw_V q3956 q3958 qs63 q138 q3959) hT.1.1 rfl hd_X3_lot ⟨Nat.le_of_ble_eq_true rfl, Nat.le_of_ble_eq_true rfl⟩ rfl hl.1 rfl (Nat.le_of_ble_eq_true rfl) dX3_kindAt_8 ⟨Nat.le_of_ble_eq_true rfl, Nat.le_of_ble_eq_true rfl⟩) (fun r_2 g H locs hg hp => ?_)
  obtain ⟨hp, hq⟩ := hp
  replace hp : r_2 = (lt (A 0) i 0) := hp
  subst hp
  rw [hq] at hg
  exact gh_reti hC hg hr hlk (⟨rfl, rfl⟩) dX3_kindAt_11 (Nat.le_of_ble_eq_true rfl) (Nat.le_of_ble_eq_true rfl)
set_option maxHeartbeats 1000000 in
set_option maxRecDepth 100000 in
theorem t_keepsAside (l : Launch) (V : gh_V) (o : Nat) (ad : Nat → Nat) (I : Nat → Int32) (A : Nat → Nat → Int32) (F : Nat → Nat → UInt32) (g0 : gh_G) (hP : tw_P V g0 o ad I A F)  : MV l yX3_keepsAside cX3_keepsAside 2 ({ frames := 0, cells := 0, slots := 0, locals := 0 } : Room) V [.ref o] g0 (fun g1 => tw_W V g0 g1 o ad I (va_up A 3 (cpn (A 0) (A 3) 578)) (va_up F 3 (cpn (F 0) (F 3) 24))) := by
  refine MG.of RX3 (by decide) rfl (Nat.le_of_ble_eq_true rfl) (fun pp ee s mm args below meth c ls hC hg hr hlk hnm hl => ?_)
  have hx := hC.1.1
  have hb := hC.1.2.1
  have hml := hC.1.2.2.1
  have hown := hC.1.2.2.2.1
  have hts := hC.1.2.2.2.2
  have hl : lv_has ls 2 [(0, .ref o)] := hl
  have hT := hP.W
  refine lv_iconst (v := 0) hx hb dX3_keepsAside_0 (by decide) ?_
  refine lv_istore_n (lv' := [(1, .int 0), (0, .ref o)]) hx hb dX3_keepsAside_1 rfl hl (by decide) rfl (fun ls hl => ?_)
  refine gh_loop (N := 578) (X := fun i_1 g ls => tw_W V g0 g o ad I (va_up A 3 (cpn (A 0) (A 3) i_1)) F ∧ lv_has ls 2 [(0, .ref o), (1, .int (nI i_1))]) ?_ ?_ 0 (by omega) hg ⟨(by rw [cpn_0, up_self]; exact hT), lv_sub hl [1, 0] rfl⟩
  · intro g H locs ls hg hX
    obtain ⟨hT, hl⟩ := hX
    refine lv_iload_n hx hb dX3_keepsAside_2 rfl (lv_at hl 1 rfl) ?_
    refine lv_sipush (v := 578) hx hb dX3_keepsAside_3 (by decide) ?_
    refine lv_icmp_ge (tgt := 27) hx hb dX3_keepsAside_6 (by decide) (fun _ => ?_) (fun c_2 => (absurd ((nx_le (show ((578 : Int32)) = nI 578 from rfl) rfl (by omega) (by omega)).mpr (by omega)) c_2))
    refine lv_iconst (v := 0) hx hb dX3_keepsAside_27 (by decide) ?_
    refine lv_istore_n (lv' := [(1, .int 0), (0, .ref o)]) hx hb dX3_keepsAside_28 rfl hl (by decide) rfl (fun ls hl => ?_)
    refine gh_loop (N := 24) (X := fun i_3 g ls => tw_W V g0 g o ad I (va_up A 3 (cpn (A 0) (A 3) 578)) (va_up F 3 (cpn (F 0) (F 3) i_3)) ∧ lv_has ls 2 [(0, .ref o), (1, .int (nI i_3))]) ?_ ?_ 0 (by omega) hg ⟨(by rw [cpn_0, up_self]; exact hT), lv_sub hl [1, 0] rfl⟩
    · intro g H locs ls hg hX
      obtain ⟨hT, hl⟩ := hX
      refine lv_iload_n hx hb dX3_keepsAside_29 rfl (lv_at hl 1 rfl) ?_
      refine lv_bipush (v := 24) hx hb dX3_keepsAside_30 (by decide) ?_
      refine lv_icmp_ge (tgt := 53) hx hb dX3_keepsAside_32 (by decide) (fun _ => ?_) (fun c_4 => (absurd ((nx_le (show ((24 : Int32)) = nI 24 from rfl) rfl (by omega) (by omega)).mpr (by omega)) c_4))
      exact gh_retv hC hg hr hlk hT dX3_keepsAside_53 (Nat.le_of_ble_eq_true rfl) (Nat.le_of_ble_eq_true rfl)
    · intro i_3 h_5 ih29 g H locs ls hg hX
      obtain ⟨hT, hl⟩ := hX
      refine lv_iload_n hx hb dX3_keepsAside_29 rfl (lv_at hl 1 rfl) ?_
      refine lv_bipush (v := 24) hx hb dX3_keepsAside_30 (by decide) ?_
      refine lv_icmp_ge (tgt := 53) hx hb dX3_keepsAside_32 (by decide) (fun c_6 => (absurd ((nx_le (show ((24 : Int32)) = nI 24 from rfl) rfl (by omega) (by omega)).mp c_6) (by omega))) (fun _ => ?_)
      refine lv_aload_n hx hb dX3_keepsAside_35 rfl (lv_at hl 0 rfl) ?_
      refine gh_get (v := .ref (ad 11)) hC hg hT.1.1 fX3_32_0 rfl dX3_keepsAside_36 ?_
      refine lv_iload_n hx hb dX3_keepsAside_39 rfl (lv_at hl 1 rfl) ?_
      refine lv_aload_n hx hb dX3_keepsAside_40 rfl (lv_at hl 0 rfl) ?_
      refine gh_get (v := .ref (ad 8)) hC hg hT.1.1 fX3_13_0 rfl dX3_keepsAside_41 ?_
      refine lv_iload_n hx hb dX3_keepsAside_44 rfl (lv_at hl 1 rfl) ?_
      refine gh_fald (n := 24) (f := (F 0)) hC hg (hT.1.2.2 0 (by decide)) rfl (by omega) (by omega) dX3_keepsAside_45 ?_
      refine gh_fast (n := 24) (f := (cpn (F 0) (F 3) i_3)) hC hg (hT.1.2.2 3 (by decide)) rfl (by omega) (by omega) dX3_keepsAside_46 (fun g H locs hg hw hn => ?_)
      have hT : tw_W V g0 g o ad I (va_up A 3 (cpn (A 0) (A 3) 578)) (va_up (va_up F 3 (cpn (F 0) (F 3) i_3)) 3 (va_up (cpn (F 0) (F 3) i_3) i_3 ((F 0) i_3))) := hT.putF 3 (by decide) hw hn
      refine lv_iinc (v := (nI (i_3 + 1))) (lv' := [(1, .int (nI (i_3 + 1))), (0, .ref o)]) hx hb dX3_keepsAside_47 hl (k := 1) rfl (nx_iinc rfl) (by decide) rfl (fun ls hl => ?_)
      refine lv_goto (tgt := 29) hx hb dX3_keepsAside_50 (by decide) ?_
      exact ih29 _ _ _ _ hg ⟨(by rw [up_up, cpn_sf] at hT; exact hT), lv_sub hl [1, 0] rfl⟩
  · intro i_1 h_7 ih2 g H locs ls hg hX
    obtain ⟨hT, hl⟩ := hX
    refine lv_iload_n hx hb dX3_keepsAside_2 rfl (lv_at hl 1 rfl) ?_
    refine lv_sipush (v := 578) hx hb dX3_keepsAside_3 (by decide) ?_
    refine lv_icmp_ge (tgt := 27) hx hb dX3_keepsAside_6 (by decide) (fun c_8 => (absurd ((nx_le (show ((578 : Int32)) = nI 578 from rfl) rfl (by omega) (by omega)).mp c_8) (by omega))) (fun _ => ?_)
    refine lv_aload_n hx hb dX3_keepsAside_9 rfl (lv_at hl 0 rfl) ?_
    refine gh_get (v := .ref (ad 3)) hC hg hT.1.1 fX3_29_0 rfl dX3_keepsAside_10 ?_
    refine lv_iload_n hx hb dX3_keepsAside_13 rfl (lv_at hl 1 rfl) ?_
    refine lv_aload_n hx hb dX3_keepsAside_14 rfl (lv_at hl 0 rfl) ?_
    refine gh_get (v := .ref (ad 0)) hC hg hT.1.1 fX3_7_0 rfl dX3_keepsAside_15 ?_
    refine lv_iload_n hx hb dX3_keepsAside_18 rfl (lv_at hl 1 rfl) ?_
    refine gh_iald (n := 578) (f := (A 0)) hC hg (hT.1.2.1 0 (by decide)) rfl (by omega) (by omega) dX3_keepsAside_19 ?_
    refine gh_iast (n := 578) (f := (cpn (A 0) (A 3) i_1)) hC hg (hT.1.2.1 3 (by decide)) rfl (by omega) (by omega) dX3_keepsAside_20 (fun g H locs hg hw hn => ?_)
    have hT : tw_W V g0 g o ad I (va_up (va_up A 3 (cpn (A 0) (A 3) i_1)) 3 (upd (cpn (A 0) (A 3) i_1) i_1 ((A 0) i_1))) F := hT.putA 3 (by decide) hw hn
    refine lv_iinc (v := (nI (i_1 + 1))) (lv' := [(1, .int (nI (i_1 + 1))), (0, .ref o)]) hx hb dX3_keepsAside_21 hl (k := 1) rfl (nx_iinc rfl) (by decide) rfl (fun ls hl => ?_)
    refine lv_goto (tgt := 2) hx hb dX3_keepsAside_24 (by decide) ?_
    exact ih2 _ _ _ _ hg ⟨(by rw [up_up, cpn_s] at hT; exact hT), lv_sub hl [1, 0] rfl⟩
set_option maxHeartbeats 1000000 in
set_option maxRecDepth 100000 in
theorem t_putsBack (l : Launch) (V : gh_V) (o : Nat) (ad : Nat → Nat) (I : Nat → Int32) (A : Nat → Nat → Int32) (F : Nat → Nat → UInt32) (g0 : gh_G) (hP : tw_P V g0 o ad I A F)  : MV l yX3_putsBack cX3_putsBack 2 ({ frames := 0, cells := 0, slots := 0, locals := 0 } : Room) V [.ref o] g0 (fun g1 => tw_W V g0 g1 o ad I (va_up A 0 (cpn (A 3) (A 0) 578)) (va_up F 0 (cpn (F 3) (F 0) 24))) := by
  refine MG.of RX3 (by decide) rfl (Nat.le_of_ble_eq_true rfl) (fun pp ee s mm args below meth c ls hC hg hr hlk hnm hl => ?_)
  have hx := hC.1.1
  have hb := hC.1.2.1
  have hml := hC.1.2.2.1
  have hown := hC.1.2.2.2.1
  have hts := hC.1.2.2.2.2
  have hl : lv_has ls 2 [(0, .ref o)] := hl
  have hT := hP.W
  refine lv_iconst (v := 0) hx hb dX3_putsBack_0 (by decide) ?_
  refine lv_istore_n (lv' := [(1, .int 0), (0, .ref o)]) hx hb dX3_putsBack_1 rfl hl (by decide) rfl (fun ls hl => ?_)
  refine gh_loop (N := 578) (X := fun i_1 g ls => tw_W V g0 g o ad I (va_up A 0 (cpn (A 3) (A 0) i_1)) F ∧ lv_has ls 2 [(0, .ref o), (1, .int (nI i_1))]) ?_ ?_ 0 (by omega) hg ⟨(by rw [cpn_0, up_self]; exact hT), lv_sub hl [1, 0] rfl⟩
  · intro g H locs ls hg hX
    obtain ⟨hT, hl⟩ := hX
    refine lv_iload_n hx hb dX3_putsBack_2 rfl (lv_at hl 1 rfl) ?_
    refine lv_sipush (v := 578) hx hb dX3_putsBack_3 (by decide) ?_
    refine lv_icmp_ge (tgt := 27) hx hb dX3_putsBack_6 (by decide) (fun _ => ?_) (fun c_2 => (absurd ((nx_le (show ((578 : Int32)) = nI 578 from rfl) rfl (by omega) (by omega)).mpr (by omega)) c_2))
    refine lv_iconst (v := 0) hx hb dX3_putsBack_27 (by decide) ?_
    refine lv_istore_n (lv' := [(1, .int 0), (0, .ref o)]) hx hb dX3_putsBack_28 rfl hl (by decide) rfl (fun ls hl => ?_)
    refine gh_loop (N := 24) (X := fun i_3 g ls => tw_W V g0 g o ad I (va_up A 0 (cpn (A 3) (A 0) 578)) (va_up F 0 (cpn (F 3) (F 0) i_3)) ∧ lv_has ls 2 [(0, .ref o), (1, .int (nI i_3))]) ?_ ?_ 0 (by omega) hg ⟨(by rw [cpn_0, up_self]; exact hT), lv_sub hl [1, 0] rfl⟩
    · intro g H locs ls hg hX
      obtain ⟨hT, hl⟩ := hX
      refine lv_iload_n hx hb dX3_putsBack_29 rfl (lv_at hl 1 rfl) ?_
      refine lv_bipush (v := 24) hx hb dX3_putsBack_30 (by decide) ?_
      refine lv_icmp_ge (tgt := 53) hx hb dX3_putsBack_32 (by decide) (fun _ => ?_) (fun c_4 => (absurd ((nx_le (show ((24 : Int32)) = nI 24 from rfl) rfl (by omega) (by omega)).mpr (by omega)) c_4))
      exact gh_retv hC hg hr hlk hT dX3_putsBack_53 (Nat.le_of_ble_eq_true rfl) (Nat.le_of_ble_eq_true rfl)
    · intro i_3 h_5 ih29 g H locs ls hg hX
      obtain ⟨hT, hl⟩ := hX
      refine lv_iload_n hx hb dX3_putsBack_29 rfl (lv_at hl 1 rfl) ?_
      refine lv_bipush (v := 24) hx hb dX3_putsBack_30 (by decide) ?_
      refine lv_icmp_ge (tgt := 53) hx hb dX3_putsBack_32 (by decide) (fun c_6 => (absurd ((nx_le (show ((24 : Int32)) = nI 24 from rfl) rfl (by omega) (by omega)).mp c_6) (by omega))) (fun _ => ?_)
      refine lv_aload_n hx hb dX3_putsBack_35 rfl (lv_at hl 0 rfl) ?_
      refine gh_get (v := .ref (ad 8)) hC hg hT.1.1 fX3_13_0 rfl dX3_putsBack_36 ?_
      refine lv_iload_n hx hb dX3_putsBack_39 rfl (lv_at hl 1 rfl) ?_
      refine lv_aload_n hx hb dX3_putsBack_40 rfl (lv_at hl 0 rfl) ?_
      refine gh_get (v := .ref (ad 11)) hC hg hT.1.1 fX3_32_0 rfl dX3_putsBack_41 ?_
      refine lv_iload_n hx hb dX3_putsBack_44 rfl (lv_at hl 1 rfl) ?_
      refine gh_fald (n := 24) (f := (F 3)) hC hg (hT.1.2.2 3 (by decide)) rfl (by omega) (by omega) dX3_putsBack_45 ?_
      refine gh_fast (n := 24) (f := (cpn (F 3) (F 0) i_3)) hC hg (hT.1.2.2 0 (by decide)) rfl (by omega) (by omega) dX3_putsBack_46 (fun g H locs hg hw hn => ?_)
      have hT : tw_W V g0 g o ad I (va_up A 0 (cpn (A 3) (A 0) 578)) (va_up (va_up F 0 (cpn (F 3) (F 0) i_3)) 0 (va_up (cpn (F 3) (F 0) i_3) i_3 ((F 3) i_3))) := hT.putF 0 (by decide) hw hn
      refine lv_iinc (v := (nI (i_3 + 1))) (lv' := [(1, .int (nI (i_3 + 1))), (0, .ref o)]) hx hb dX3_putsBack_47 hl (k := 1) rfl (nx_iinc rfl) (by decide) rfl (fun ls hl => ?_)
      refine lv_goto (tgt := 29) hx hb dX3_putsBack_50 (by decide) ?_
      exact ih29 _ _ _ _ hg ⟨(by rw [up_up, cpn_sf] at hT; exact hT), lv_sub hl [1, 0] rfl⟩
  · intro i_1 h_7 ih2 g H locs ls hg hX
    obtain ⟨hT, hl⟩ := hX
    refine lv_iload_n hx hb dX3_putsBack_2 rfl (lv_at hl 1 rfl) ?_
    refine lv_sipush (v := 578) hx hb dX3_putsBack_3 (by decide) ?_
    refine lv_icmp_ge (tgt := 27) hx hb dX3_putsBack_6 (by decide) (fun c_8 => (absurd ((nx_le (show ((578 : Int32)) = nI 578 from rfl) rfl (by omega) (by omega)).mp c_8) (by omega))) (fun _ => ?_)
    refine lv_aload_n hx hb dX3_putsBack_9 rfl (lv_at hl 0 rfl) ?_
    refine gh_get (v := .ref (ad 0)) hC hg hT.1.1 fX3_7_0 rfl dX3_putsBack_10 ?_
    refine lv_iload_n hx hb dX3_putsBack_13 rfl (lv_at hl 1 rfl) ?_
    refine lv_aload_n hx hb dX3_putsBack_14 rfl (lv_at hl 0 rfl) ?_
    refine gh_get (v := .ref (ad 3)) hC hg hT.1.1 fX3_29_0 rfl dX3_putsBack_15 ?_
    refine lv_iload_n hx hb dX3_putsBack_18 rfl (lv_at hl 1 rfl) ?_
    refine gh_iald (n := 578) (f := (A 3)) hC hg (hT.1.2.1 3 (by decide)) rfl (by omega) (by omega) dX3_putsBack_19 ?_
    refine gh_iast (n := 578) (f := (cpn (A 3) (A 0) i_1)) hC hg (hT.1.2.1 0 (by decide)) rfl (by omega) (by omega) dX3_putsBack_20 (fun g H locs hg hw hn => ?_)
    have hT : tw_W V g0 g o ad I (va_up (va_up A 0 (cpn (A 3) (A 0) i_1)) 0 (upd (cpn (A 3) (A 0) i_1) i_1 ((A 3) i_1))) F := hT.putA 0 (by decide) hw hn
    refine lv_iinc (v := (nI (i_1 + 1))) (lv' := [(1, .int (nI (i_1 + 1))), (0, .ref o)]) hx hb dX3_putsBack_21 hl (k := 1) rfl (nx_iinc rfl) (by decide) rfl (fun ls hl => ?_)
    refine lv_goto (tgt := 2) hx hb dX3_putsBack_24 (by decide) ?_
    exact ih2 _ _ _ _ hg ⟨(by rw [up_up, cpn_s] at hT; exact hT), lv_sub hl [1, 0] rfl⟩
