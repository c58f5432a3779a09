theorem nx_iincN {x : Int32} {a : Nat} (k : Nat) (h : x = nI a) : x + Int32.ofInt (k : Int) = nI (a + k) := by
  have e : Int32.ofInt (k : Int) = nI k := rfl
  rw [h, e, nI_add]
theorem firstOf_hit {f : Nat → Bool} {v : Nat → Int32} {i N : Nat} (h : f i = true) (hi : i < N) : firstOf f v i (N - i) = v i := by
  obtain ⟨n, hn⟩ : ∃ n, N - i = n + 1 := ⟨N - i - 1, by omega⟩
  rw [hn, firstOf, if_pos h]
theorem firstOf_miss {f : Nat → Bool} {v : Nat → Int32} {i N : Nat} (h : ¬ f i = true) (hi : i < N) : firstOf f v i (N - i) = firstOf f v (i + 1) (N - (i + 1)) := by
  obtain ⟨n, hn⟩ : ∃ n, N - i = n + 1 := ⟨N - i - 1, by omega⟩
  rw [hn, firstOf, if_neg h, show N - (i + 1) = n by omega]
theorem firstOf_end {f : Nat → Bool} {v : Nat → Int32} {N : Nat} : firstOf f v N (N - N) = -1 := by
  rw [Nat.sub_self]; rfl
def isAt (s : Nat → Int32) (x y : Int32) (q : Nat) : Bool := decide (pl s q 0 = x ∧ pl s q 1 = y)
def placedN (s : Nat → Int32) (x y : Int32) : Int32 := firstOf (isAt s x y) nI 0 24
def isPl (s : Nat → Int32) (x y : Int32) (k : Nat) : Bool := decide (pn s k 0 = x ∧ pn s k 1 = y)
def planAt (s : Nat → Int32) (x y : Int32) (P : Nat) : Int32 := firstOf (isPl s x y) (fun k => nI (530 + 3 * k)) 0 P
def ldN (s : Nat → Int32) (i : Nat) : Nat := (lt s i 2).toNatClampNeg
theorem firstOf_cases (f : Nat → Bool) (v : Nat → Int32) : ∀ n i, firstOf f v i n = -1 ∨ ∃ j, i ≤ j ∧ j < i + n ∧ f j = true ∧ firstOf f v i n = v j
  | 0, i => Or.inl rfl
  | n + 1, i => by
    by_cases h : f i = true
    · exact Or.inr ⟨i, Nat.le_refl _, by omega, h, by rw [firstOf, if_pos h]⟩
    · rw [firstOf, if_neg h]
      rcases firstOf_cases f v n (i + 1) with h1 | ⟨j, h1, h2, h3, h4⟩
      · exact Or.inl h1
      · exact Or.inr ⟨j, by omega, by omega, h3, h4⟩
theorem nI_ne_m1 {n : Nat} (h : n < 2 ^ 31) : ¬ nI n = -1 := by
  intro e
  have h1 := congrArg Int32.toInt e
  rw [nI_toInt h] at h1
  have h2 : (-1 : Int32).toInt = -1 := by decide
  omega
def mtg (s : Nat → Int32) (fr : Nat) : Nat → Nat → Int32 → Int32
  | _, 0, acc => acc
  | p, n + 1, acc => if zn s (p / 3) 2 = 0 then -1 else mtg s fr (p + 1) n (acc + (if 1 ≤ (if p = fr then zn s (p / 3) 2 - pl s p 3 else zn s (p / 3) 2) then (if p = fr then zn s (p / 3) 2 - pl s p 3 else zn s (p / 3) 2) else 1))
theorem mtg_0 {s : Nat → Int32} {fr i N : Nat} {acc : Int32} (hi : i < N) (h : zn s (i / 3) 2 = 0) : mtg s fr i (N - i) acc = -1 := by
  obtain ⟨n, hn⟩ : ∃ n, N - i = n + 1 := ⟨N - i - 1, by omega⟩
  rw [hn, mtg, if_pos h]
theorem mtg_s {s : Nat → Int32} {fr i N : Nat} {acc : Int32} (hi : i < N) (h : ¬ zn s (i / 3) 2 = 0) : mtg s fr i (N - i) acc = mtg s fr (i + 1) (N - (i + 1)) (acc + (if 1 ≤ (if i = fr then zn s (i / 3) 2 - pl s i 3 else zn s (i / 3) 2) then (if i = fr then zn s (i / 3) 2 - pl s i 3 else zn s (i / 3) 2) else 1)) := by
  obtain ⟨n, hn⟩ : ∃ n, N - i = n + 1 := ⟨N - i - 1, by omega⟩
  rw [hn, mtg, if_neg h, show N - (i + 1) = n by omega]
theorem mtg_e {s : Nat → Int32} {fr N : Nat} {acc : Int32} : mtg s fr N (N - N) acc = acc := by
  rw [Nat.sub_self]; rfl
def kindF (s : Nat → Int32) (k f : Int32) (i : Nat) : Int32 := if lt s i 0 = k then fated s i f else 0
def gst (s : Nat → Int32) (st : Nat → UInt32) : Nat → UInt32
  | 0 => FP.fconst0
  | q + 1 => if ¬ pl s q 0 = -1 then (if Op.cmpValue (FP.fcmp (st q) (gst s st q)) .l ≤ 0 then gst s st q else st q) else gst s st q
theorem c1_0 {b : Prop} [Decidable b] (h : c1 b = 0) : b := by
  unfold c1 at h
  by_cases k : b
  · exact k
  · rw [if_neg k] at h; exact absurd h (by decide)
theorem c2_0 {b d : Prop} [Decidable b] [Decidable d] (h : c2 b d = 0) : b ∧ d := by
  unfold c2 at h
  by_cases k : b
  · rw [if_pos k] at h
    by_cases k2 : d
    · exact ⟨k, k2⟩
    · rw [if_neg k2] at h; exact absurd h (by decide)
  · rw [if_neg k] at h; exact absurd h (by decide)
set_option maxRecDepth 100000
theorem hd_X3_hasPiece : yX3_hasPiece.cls = RX3 ∧ yX3_hasPiece.cls ≠ "java/lang/invoke/MethodHandle" ∧ yX3_hasPiece.cls ≠ "java/lang/invoke/VarHandle" ∧ (parseMethodDescriptor yX3_hasPiece.desc).map (fun d => d.parameters.length) = some 1 := by decide +kernel
theorem hd_X3_isThere : yX3_isThere.cls = RX3 ∧ yX3_isThere.cls ≠ "java/lang/invoke/MethodHandle" ∧ yX3_isThere.cls ≠ "java/lang/invoke/VarHandle" ∧ (parseMethodDescriptor yX3_isThere.desc).map (fun d => d.parameters.length) = some 2 := by decide +kernel
theorem hd_X3_placed : yX3_placed.cls = RX3 ∧ yX3_placed.cls ≠ "java/lang/invoke/MethodHandle" ∧ yX3_placed.cls ≠ "java/lang/invoke/VarHandle" ∧ (parseMethodDescriptor yX3_placed.desc).map (fun d => d.parameters.length) = some 2 := by decide +kernel
set_option maxHeartbeats 1000000 in
set_option maxRecDepth 100000 in
theorem t_hasPiece (l : Launch) (V : gh_V) (o : Nat) (ad : Nat → Nat) (I : Nat → Int32) (A : Nat → Nat → Int32) (F : Nat → Nat → UInt32) (g0 : gh_G) (hP : tw_P V g0 o ad I A F) (x : Int32) : MI l yX3_hasPiece cX3_hasPiece 2 (some .boolean) ({ frames := 2, cells := 0, slots := 0, locals := 43 } : Room) V [.ref o, .int x] g0 (fun r g1 => r = (if okL x 24 ∧ ¬ pl (A 0) x.toNatClampNeg 0 = -1 then 1 else 0) ∧ tw_W V g0 g1 o ad (va_up I 3 (c2 (okL x 24) (¬ pl (A 0) x.toNatClampNeg 0 = -1))) A F) := by
  refine MG.of RX3 (by decide) rfl (Nat.le_of_ble_eq_true rfl) (fun pp ee s mm args below meth c ls hC hg hr hlk hnm hl => ?_)
  have hx := hC.1.1
  have hb := hC.1.2.1
  have hml := hC.1.2.2.1
  have hown := hC.1.2.2.2.1
  have hts := hC.1.2.2.2.2
  have hl : lv_has ls 2 [(0, .ref o), (1, .int x)] := hl
  have hT := hP.W
  refine lv_aload_n hx hb dX3_hasPiece_0 rfl (lv_at hl 0 rfl) ?_
  refine lv_iload_n hx hb dX3_hasPiece_1 rfl (lv_at hl 1 rfl) ?_
  refine lv_iconst (v := 0) hx hb dX3_hasPiece_2 (by decide) ?_
  refine lv_bipush (v := 23) hx hb dX3_hasPiece_3 (by decide) ?_
  refine gh_calli hg (gh_runS (As := [.int x, .int 0, .int 23]) (rest := [.ref o]) hC hg (t_in l V _ x 0 23) 3 (lw_S q3905 q3906 q138 q3907) hd_X3_in.2 ⟨Nat.le_of_ble_eq_true rfl, Nat.le_of_ble_eq_true rfl⟩ rfl hl.1 rfl (Nat.le_of_ble_eq_true rfl) dX3_hasPiece_5 ⟨Nat.le_of_ble_eq_true rfl, Nat.le_of_ble_eq_true rfl⟩) (fun r_1 g H locs hg hp => ?_)
  replace hp : r_1 = (if okR x 0 23 then 1 else 0) ∧ g = _ := hp
  by_cases ok_2 : okR x 0 23
  · rw [if_pos ok_2] at hp
    obtain ⟨rfl, hq⟩ := hp
    rw [hq] at hg
    obtain ⟨h_3a, h_3b, h_3⟩ := okR_cl (show ((0 : Int32)) = nI 0 from rfl) (show ((23 : Int32)) = nI 23 from rfl) (by omega) (by omega) ok_2
    refine lv_if_ne (tgt := 15) hx hb dX3_hasPiece_8 (by decide) (fun _ => ?_) (fun c_4 => (absurd ((nx_eq (show ((1 : Int32)) = nI 1 from rfl) (show ((0 : Int32)) = nI 0 from rfl) (by omega) (by omega)).mp c_4) (by omega)))
    refine lv_aload_n hx hb dX3_hasPiece_15 rfl (lv_at hl 0 rfl) ?_
    refine lv_iload_n hx hb dX3_hasPiece_16 rfl (lv_at hl 1 rfl) ?_
    refine gh_calli hg (gh_runV (As := [.int x]) (rest := [.ref o]) hC hg (t_isPiece l V o ad I A F _ hT.1 x ((x).toNatClampNeg) h_3 (by omega)) 1 (lw_V q3960 q3962 qs64 q138 q3963) hT.1.1 rfl hd_X3_isPiece ⟨Nat.le_of_ble_eq_true rfl, Nat.le_of_ble_eq_true rfl⟩ rfl hl.1 rfl (Nat.le_of_ble_eq_true rfl) dX3_hasPiece_17 ⟨Nat.le_of_ble_eq_true rfl, Nat.le_of_ble_eq_true rfl⟩) (fun r_5 g H locs hg hp => ?_)
    replace hp : r_5 = (if ¬ pl (A 0) ((x).toNatClampNeg) 0 = -1 then 1 else 0) ∧ g = _ := hp
    by_cases pc_6 : ¬ pl (A 0) ((x).toNatClampNeg) 0 = -1
    · rw [if_pos pc_6] at hp
      obtain ⟨rfl, hq⟩ := hp
      rw [hq] at hg
      refine lv_if_eq (tgt := 27) hx hb dX3_hasPiece_20 (by decide) (fun c_7 => (absurd ((nx_eq (show ((1 : Int32)) = nI 1 from rfl) (show ((0 : Int32)) = nI 0 from rfl) (by omega) (by omega)).mp c_7) (by omega))) (fun _ => ?_)
      refine lv_iconst (v := 0) hx hb dX3_hasPiece_23 (by decide) ?_
      refine lv_goto (tgt := 28) hx hb dX3_hasPiece_24 (by decide) ?_
      refine gh_put (v := .int 0) hC hg hT.1.1 fX3_54_0 rfl rfl (Nat.le_of_ble_eq_true rfl) dX3_hasPiece_28 (fun g H locs hg hw hn => ?_)
      have hT : tw_W V g0 g o ad (va_up I 3 0) A F := hT.putI 3 0 hw hn
      refine lv_aload_n hx hb dX3_hasPiece_31 rfl (lv_at hl 0 rfl) ?_
      refine gh_get (v := .int 0) hC hg hT.1.1 fX3_54_0 rfl dX3_hasPiece_32 ?_
      refine lv_if_ne (tgt := 42) hx hb dX3_hasPiece_35 (by decide) (fun c_8 => (absurd ((nx_eq (show ((0 : Int32)) = nI 0 from rfl) (show ((0 : Int32)) = nI 0 from rfl) (by omega) (by omega)).mpr (by omega)) c_8)) (fun _ => ?_)
      refine lv_iconst (v := 1) hx hb dX3_hasPiece_38 (by decide) ?_
      refine lv_goto (tgt := 43) hx hb dX3_hasPiece_39 (by decide) ?_
      exact gh_retz rfl hC hg hr hlk (⟨(if_pos ⟨okL_24.mp ok_2, pc_6⟩).symm, by rw [show c2 (okL x 24) (¬ pl (A 0) x.toNatClampNeg 0 = -1) = 0 from by rw [c2, if_pos (okL_24.mp ok_2), if_pos pc_6]]; exact hT⟩) dX3_hasPiece_43 (Nat.le_of_ble_eq_true rfl) (Nat.le_of_ble_eq_true rfl)
    rw [if_neg pc_6] at hp
    obtain ⟨rfl, hq⟩ := hp
    rw [hq] at hg
    refine lv_if_eq (tgt := 27) hx hb dX3_hasPiece_20 (by decide) (fun _ => ?_) (fun c_9 => (absurd ((nx_eq (show ((0 : Int32)) = nI 0 from rfl) (show ((0 : Int32)) = nI 0 from rfl) (by omega) (by omega)).mpr (by omega)) c_9))
    refine lv_iconst (v := 2) hx hb dX3_hasPiece_27 (by decide) ?_
    refine gh_put (v := .int 2) hC hg hT.1.1 fX3_54_0 rfl rfl (Nat.le_of_ble_eq_true rfl) dX3_hasPiece_28 (fun g H locs hg hw hn => ?_)
    have hT : tw_W V g0 g o ad (va_up I 3 2) A F := hT.putI 3 2 hw hn
    refine lv_aload_n hx hb dX3_hasPiece_31 rfl (lv_at hl 0 rfl) ?_
    refine gh_get (v := .int 2) hC hg hT.1.1 fX3_54_0 rfl dX3_hasPiece_32 ?_
    refine lv_if_ne (tgt := 42) hx hb dX3_hasPiece_35 (by decide) (fun _ => ?_) (fun c_10 => (absurd ((nx_eq (show ((2 : Int32)) = nI 2 from rfl) (show ((0 : Int32)) = nI 0 from rfl) (by omega) (by omega)).mp c_10) (by omega)))
    refine lv_iconst (v := 0) hx hb dX3_hasPiece_42 (by decide) ?_
    exact gh_retz rfl hC hg hr hlk (⟨(if_neg (fun h9 => pc_6 h9.2)).symm, by rw [show c2 (okL x 24) (¬ pl (A 0) x.toNatClampNeg 0 = -1) = 2 from by rw [c2, if_pos (okL_24.mp ok_2), if_neg pc_6]]; exact hT⟩) dX3_hasPiece_43 (Nat.le_of_ble_eq_true rfl) (Nat.le_of_ble_eq_true rfl)
  rw [if_neg ok_2] at hp
  obtain ⟨rfl, hq⟩ := hp
  rw [hq] at hg
  refine lv_if_ne (tgt := 15) hx hb dX3_hasPiece_8 (by decide) (fun c_11 => (absurd ((nx_eq (show ((0 : Int32)) = nI 0 from rfl) (show ((0 : Int32)) = nI 0 from rfl) (by omega) (by omega)).mpr (by omega)) c_11)) (fun _ => ?_)
  refine lv_iconst (v := 1) hx hb dX3_hasPiece_11 (by decide) ?_
  refine lv_goto (tgt := 28) hx hb dX3_hasPiece_12 (by decide) ?_
  refine gh_put (v := .int 1) hC hg hT.1.1 fX3_54_0 rfl rfl (Nat.le_of_ble_eq_true rfl) dX3_hasPiece_28 (fun g H locs hg hw hn => ?_)
  have hT : tw_W V g0 g o ad (va_up I 3 1) A F := hT.putI 3 1 hw hn
  refine lv_aload_n hx hb dX3_hasPiece_31 rfl (lv_at hl 0 rfl) ?_
  refine gh_get (v := .int 1) hC hg hT.1.1 fX3_54_0 rfl dX3_hasPiece_32 ?_
  refine lv_if_ne (tgt := 42) hx hb dX3_hasPiece_35 (by decide) (fun _ => ?_) (fun c_12 => (absurd ((nx_eq (show ((1 : Int32)) = nI 1 from rfl) (show ((0 : Int32)) = nI 0 from rfl) (by omega) (by omega)).mp c_12) (by omega)))
  refine lv_iconst (v := 0) hx hb dX3_hasPiece_42 (by decide) ?_
  exact gh_retz rfl hC hg hr hlk (⟨(if_neg (fun h9 => ok_2 (okL_24.mpr h9.1))).symm, by rw [show c2 (okL x 24) (¬ pl (A 0) x.toNatClampNeg 0 = -1) = 1 from by rw [c2, if_neg (fun h9 => ok_2 (okL_24.mpr h9))]]; exact hT⟩) dX3_hasPiece_43 (Nat.le_of_ble_eq_true rfl) (Nat.le_of_ble_eq_true rfl)
set_option maxHeartbeats 1000000 in
set_option maxRecDepth 100000 in
theorem t_warmthAt (l : Launch) (V : gh_V) (o : Nat) (ad : Nat → Nat) (I : Nat → Int32) (A : Nat → Nat → Int32) (F : Nat → Nat → UInt32) (g0 : gh_G) (hP : tw_P V g0 o ad I A F) (x : Int32) : MI l yX3_warmthAt cX3_warmthAt 2 (some .int) ({ frames := 3, cells := 0, slots := 0, locals := 64 } : Room) V [.ref o, .int x] g0 (fun r g1 => (c2 (okL x 24) (¬ pl (A 0) x.toNatClampNeg 0 = -1) = 0 → r = pl (A 0) x.toNatClampNeg 2) ∧ tw_W V g0 g1 o ad (va_up I 3 (c2 (okL x 24) (¬ pl (A 0) x.toNatClampNeg 0 = -1))) A F) := by
  refine MG.of RX3 (by decide) rfl (Nat.le_of_ble_eq_true rfl) (fun pp ee s mm args below meth c ls hC hg hr hlk hnm hl => ?_)
  have hx := hC.1.1
  have hb := hC.1.2.1
  have hml := hC.1.2.2.1
  have hown := hC.1.2.2.2.1
  have hts := hC.1.2.2.2.2
  have hl : lv_has ls 2 [(0, .ref o), (1, .int x)] := hl
  have hT := hP.W
  refine lv_aload_n hx hb dX3_warmthAt_0 rfl (lv_at hl 0 rfl) ?_
  refine lv_iload_n hx hb dX3_warmthAt_1 rfl (lv_at hl 1 rfl) ?_
  refine gh_calli hg (gh_runV (As := [.int x]) (rest := []) hC hg (t_hasPiece l V o ad I A F _ hT.1 x) 1 (lw_V q4146 q4148 qs89 q138 q4149) hT.1.1 rfl hd_X3_hasPiece ⟨Nat.le_of_ble_eq_true rfl, Nat.le_of_ble_eq_true rfl⟩ rfl hl.1 rfl (Nat.le_of_ble_eq_true rfl) dX3_warmthAt_2 ⟨Nat.le_of_ble_eq_true rfl, Nat.le_of_ble_eq_true rfl⟩) (fun r_1 g H locs hg hp => ?_)
  obtain ⟨rfl, hp⟩ := hp
  have hT : tw_W V g0 g o ad (va_up I 3 (c2 (okL x 24) (¬ pl (A 0) x.toNatClampNeg 0 = -1))) A F := hT.call hp
  by_cases hp_2 : okL x 24 ∧ ¬ pl (A 0) x.toNatClampNeg 0 = -1
  · rw [if_pos hp_2]
    obtain ⟨h_3a, h_3⟩ := okL_cl (by omega) hp_2.1
    refine lv_if_eq (tgt := 17) hx hb dX3_warmthAt_5 (by decide) (fun c_4 => (absurd ((nx_eq (show ((1 : Int32)) = nI 1 from rfl) (show ((0 : Int32)) = nI 0 from rfl) (by omega) (by omega)).mp c_4) (by omega))) (fun _ => ?_)
    refine lv_aload_n hx hb dX3_warmthAt_8 rfl (lv_at hl 0 rfl) ?_
    refine lv_iload_n hx hb dX3_warmthAt_9 rfl (lv_at hl 1 rfl) ?_
    refine lv_iconst (v := 2) hx hb dX3_warmthAt_10 (by decide) ?_
    refine gh_calli hg (gh_runV (As := [.int x, .int 2]) (rest := []) hC hg (t_at l V o ad (va_up I 3 (c2 (okL x 24) (¬ pl (A 0) x.toNatClampNeg 0 = -1))) A F _ hT.1 x 2 ((x).toNatClampNeg) 2 h_3 (show ((2 : Int32)) = nI 2 from rfl) (by omega) (by omega)) 2 (lw_V q3964 q3966 qs65 q138 q3967) hT.1.1 rfl hd_X3_at ⟨Nat.le_of_ble_eq_true rfl, Nat.le_of_ble_eq_true rfl⟩ rfl hl.1 rfl (Nat.le_of_ble_eq_true rfl) dX3_warmthAt_11 ⟨Nat.le_of_ble_eq_true rfl, Nat.le_of_ble_eq_true rfl⟩) (fun r_5 g H locs hg hp => ?_)
    obtain ⟨hp, hq⟩ := hp
    replace hp : r_5 = (pl (A 0) ((x).toNatClampNeg) 2) := hp
    subst hp
    rw [hq] at hg
    refine lv_goto (tgt := 18) hx hb dX3_warmthAt_14 (by decide) ?_
    exact gh_reti hC hg hr hlk (⟨fun _ => rfl, hT⟩) dX3_warmthAt_18 (Nat.le_of_ble_eq_true rfl) (Nat.le_of_ble_eq_true rfl)
  rw [if_neg hp_2]
  refine lv_if_eq (tgt := 17) hx hb dX3_warmthAt_5 (by decide) (fun _ => ?_) (fun c_6 => (absurd ((nx_eq (show ((0 : Int32)) = nI 0 from rfl) (show ((0 : Int32)) = nI 0 from rfl) (by omega) (by omega)).mpr (by omega)) c_6))
  refine lv_iconst (v := 0) hx hb dX3_warmthAt_17 (by decide) ?_
  exact gh_reti hC hg hr hlk (⟨fun h9 => absurd (c2_0 h9) hp_2, hT⟩) dX3_warmthAt_18 (Nat.le_of_ble_eq_true rfl) (Nat.le_of_ble_eq_true rfl)
set_option maxHeartbeats 1000000 in
set_option maxRecDepth 100000 in
theorem t_minutesAt (l : Launch) (V : gh_V) (o : Nat) (ad : Nat → Nat) (I : Nat → Int32) (A : Nat → Nat → Int32) (F : Nat → Nat → UInt32) (g0 : gh_G) (hP : tw_P V g0 o ad I A F) (x : Int32) : MI l yX3_minutesAt cX3_minutesAt 2 (some .int) ({ frames := 3, cells := 0, slots := 0, locals := 64 } : Room) V [.ref o, .int x] g0 (fun r g1 => (c2 (okL x 24) (¬ pl (A 0) x.toNatClampNeg 0 = -1) = 0 → r = pl (A 0) x.toNatClampNeg 3) ∧ tw_W V g0 g1 o ad (va_up I 3 (c2 (okL x 24) (¬ pl (A 0) x.toNatClampNeg 0 = -1))) A F) := by
  refine MG.of RX3 (by decide) rfl (Nat.le_of_ble_eq_true rfl) (fun pp ee s mm args below meth c ls hC hg hr hlk hnm hl => ?_)
  have hx := hC.1.1
  have hb := hC.1.2.1
  have hml := hC.1.2.2.1
  have hown := hC.1.2.2.2.1
  have hts := hC.1.2.2.2.2
  have hl : lv_has ls 2 [(0, .ref o), (1, .int x)] := hl
  have hT := hP.W
  refine lv_aload_n hx hb dX3_minutesAt_0 rfl (lv_at hl 0 rfl) ?_
  refine lv_iload_n hx hb dX3_minutesAt_1 rfl (lv_at hl 1 rfl) ?_
  refine gh_calli hg (gh_runV (As := [.int x]) (rest := []) hC hg (t_hasPiece l V o ad I A F _ hT.1 x) 1 (lw_V q4146 q4148 qs89 q138 q4149) hT.1.1 rfl hd_X3_hasPiece ⟨Nat.le_of_ble_eq_true rfl, Nat.le_of_ble_eq_true rfl⟩ rfl hl.1 rfl (Nat.le_of_ble_eq_true rfl) dX3_minutesAt_2 ⟨Nat.le_of_ble_eq_true rfl, Nat.le_of_ble_eq_true rfl⟩) (fun r_1 g H locs hg hp => ?_)
  obtain ⟨rfl, hp⟩ := hp
  have hT : tw_W V g0 g o ad (va_up I 3 (c2 (okL x 24) (¬ pl (A 0) x.toNatClampNeg 0 = -1))) A F := hT.call hp
  by_cases hp_2 : okL x 24 ∧ ¬ pl (A 0) x.toNatClampNeg 0 = -1
  · rw [if_pos hp_2]
    obtain ⟨h_3a, h_3⟩ := okL_cl (by omega) hp_2.1
    refine lv_if_eq (tgt := 17) hx hb dX3_minutesAt_5 (by decide) (fun c_4 => (absurd ((nx_eq (show ((1 : Int32)) = nI 1 from rfl) (show ((0 : Int32)) = nI 0 from rfl) (by omega) (by omega)).mp c_4) (by omega))) (fun _ => ?_)
    refine lv_aload_n hx hb dX3_minutesAt_8 rfl (lv_at hl 0 rfl) ?_
    refine lv_iload_n hx hb dX3_minutesAt_9 rfl (lv_at hl 1 rfl) ?_
    refine lv_iconst (v := 3) hx hb dX3_minutesAt_10 (by decide) ?_
    refine gh_calli hg (gh_runV (As := [.int x, .int 3]) (rest := []) hC hg (t_at l V o ad (va_up I 3 (c2 (okL x 24) (¬ pl (A 0) x.toNatClampNeg 0 = -1))) A F _ hT.1 x 3 ((x).toNatClampNeg) 3 h_3 (show ((3 : Int32)) = nI 3 from rfl) (by omega) (by omega)) 2 (lw_V q3964 q3966 qs65 q138 q3967) hT.1.1 rfl hd_X3_at ⟨Nat.le_of_ble_eq_true rfl, Nat.le_of_ble_eq_true rfl⟩ rfl hl.1 rfl (Nat.le_of_ble_eq_true rfl) dX3_minutesAt_11 ⟨Nat.le_of_ble_eq_true rfl, Nat.le_of_ble_eq_true rfl⟩) (fun r_5 g H locs hg hp => ?_)
    obtain ⟨hp, hq⟩ := hp
    replace hp : r_5 = (pl (A 0) ((x).toNatClampNeg) 3) := hp
    subst hp
    rw [hq] at hg
    refine lv_goto (tgt := 18) hx hb dX3_minutesAt_14 (by decide) ?_
    exact gh_reti hC hg hr hlk (⟨fun _ => rfl, hT⟩) dX3_minutesAt_18 (Nat.le_of_ble_eq_true rfl) (Nat.le_of_ble_eq_true rfl)
  rw [if_neg hp_2]
  refine lv_if_eq (tgt := 17) hx hb dX3_minutesAt_5 (by decide) (fun _ => ?_) (fun c_6 => (absurd ((nx_eq (show ((0 : Int32)) = nI 0 from rfl) (show ((0 : Int32)) = nI 0 from rfl) (by omega) (by omega)).mpr (by omega)) c_6))
  refine lv_iconst (v := 0) hx hb dX3_minutesAt_17 (by decide) ?_
  exact gh_reti hC hg hr hlk (⟨fun h9 => absurd (c2_0 h9) hp_2, hT⟩) dX3_minutesAt_18 (Nat.le_of_ble_eq_true rfl) (Nat.le_of_ble_eq_true rfl)
set_option maxHeartbeats 1000000 in
set_option maxRecDepth 100000 in
theorem t_stressAt (l : Launch) (V : gh_V) (o : Nat) (ad : Nat → Nat) (I : Nat → Int32) (A : Nat → Nat → Int32) (F : Nat → Nat → UInt32) (g0 : gh_G) (hP : tw_P V g0 o ad I A F) (x : Int32) : MF l yX3_stressAt cX3_stressAt 2 (some .float) ({ frames := 3, cells := 0, slots := 0, locals := 64 } : Room) V [.ref o, .int x] g0 (fun r g1 => (c2 (okL x 24) (¬ pl (A 0) x.toNatClampNeg 0 = -1) = 0 → r = F 0 x.toNatClampNeg) ∧ tw_W V g0 g1 o ad (va_up I 3 (c2 (okL x 24) (¬ pl (A 0) x.toNatClampNeg 0 = -1))) A F) := by
  refine MG.of RX3 (by decide) rfl (Nat.le_of_ble_eq_true rfl) (fun pp ee s mm args below meth c ls hC hg hr hlk hnm hl => ?_)
  have hx := hC.1.1
  have hb := hC.1.2.1
  have hml := hC.1.2.2.1
  have hown := hC.1.2.2.2.1
  have hts := hC.1.2.2.2.2
  have hl : lv_has ls 2 [(0, .ref o), (1, .int x)] := hl
  have hT := hP.W
  refine lv_aload_n hx hb dX3_stressAt_0 rfl (lv_at hl 0 rfl) ?_
  refine lv_iload_n hx hb dX3_stressAt_1 rfl (lv_at hl 1 rfl) ?_
  refine gh_calli hg (gh_runV (As := [.int x]) (rest := []) hC hg (t_hasPiece l V o ad I A F _ hT.1 x) 1 (lw_V q4146 q4148 qs89 q138 q4149) hT.1.1 rfl hd_X3_hasPiece ⟨Nat.le_of_ble_eq_true rfl, Nat.le_of_ble_eq_true rfl⟩ rfl hl.1 rfl (Nat.le_of_ble_eq_true rfl) dX3_stressAt_2 ⟨Nat.le_of_ble_eq_true rfl, Nat.le_of_ble_eq_true rfl⟩) (fun r_1 g H locs hg hp => ?_)
  obtain ⟨rfl, hp⟩ := hp
  have hT : tw_W V g0 g o ad (va_up I 3 (c2 (okL x 24) (¬ pl (A 0) x.toNatClampNeg 0 = -1))) A F := hT.call hp
  by_cases hp_2 : okL x 24 ∧ ¬ pl (A 0) x.toNatClampNeg 0 = -1
  · rw [if_pos hp_2]
    obtain ⟨h_3a, h_3⟩ := okL_cl (by omega) hp_2.1
    refine lv_if_eq (tgt := 17) hx hb dX3_stressAt_5 (by decide) (fun c_4 => (absurd ((nx_eq (show ((1 : Int32)) = nI 1 from rfl) (show ((0 : Int32)) = nI 0 from rfl) (by omega) (by omega)).mp c_4) (by omega))) (fun _ => ?_)
    refine lv_aload_n hx hb dX3_stressAt_8 rfl (lv_at hl 0 rfl) ?_
    refine gh_get (v := .ref (ad 8)) hC hg hT.1.1 fX3_13_0 rfl dX3_stressAt_9 ?_
    refine lv_iload_n hx hb dX3_stressAt_12 rfl (lv_at hl 1 rfl) ?_
    refine gh_fald (n := 24) (f := (F 0)) hC hg (hT.1.2.2 0 (by decide)) h_3 (by omega) (by omega) dX3_stressAt_13 ?_
    refine lv_goto (tgt := 18) hx hb dX3_stressAt_14 (by decide) ?_
    exact gh_retf hC hg hr hlk (⟨fun _ => rfl, hT⟩) dX3_stressAt_18 (Nat.le_of_ble_eq_true rfl) (Nat.le_of_ble_eq_true rfl)
  rw [if_neg hp_2]
  refine lv_if_eq (tgt := 17) hx hb dX3_stressAt_5 (by decide) (fun _ => ?_) (fun c_5 => (absurd ((nx_eq (show ((0 : Int32)) = nI 0 from rfl) (show ((0 : Int32)) = nI 0 from rfl) (by omega) (by omega)).mpr (by omega)) c_5))
  refine lv_fconst0 hx hb dX3_stressAt_17 ?_
  exact gh_retf hC hg hr hlk (⟨fun h9 => absurd (c2_0 h9) hp_2, hT⟩) dX3_stressAt_18 (Nat.le_of_ble_eq_true rfl) (Nat.le_of_ble_eq_true rfl)
set_option maxHeartbeats 1000000 in
set_option maxRecDepth 100000 in
theorem t_hasShards (l : Launch) (V : gh_V) (o : Nat) (ad : Nat → Nat) (I : Nat → Int32) (A : Nat → Nat → Int32) (F : Nat → Nat → UInt32) (g0 : gh_G) (hP : tw_P V g0 o ad I A F) (x : Int32) : MI l yX3_hasShards cX3_hasShards 2 (some .boolean) ({ frames := 2, cells := 0, slots := 0, locals := 43 } : Room) V [.ref o, .int x] g0 (fun r g1 => (c1 (okL x 24) = 0 → r = (if pl (A 0) x.toNatClampNeg 4 = 1 then 1 else 0)) ∧ tw_W V g0 g1 o ad (va_up I 3 (c1 (okL x 24))) A F) := by
  refine MG.of RX3 (by decide) rfl (Nat.le_of_ble_eq_true rfl) (fun pp ee s mm args below meth c ls hC hg hr hlk hnm hl => ?_)
  have hx := hC.1.1
  have hb := hC.1.2.1
  have hml := hC.1.2.2.1
  have hown := hC.1.2.2.2.1
  have hts := hC.1.2.2.2.2
  have hl : lv_has ls 2 [(0, .ref o), (1, .int x)] := hl
  have hT := hP.W
  refine lv_aload_n hx hb dX3_hasShards_0 rfl (lv_at hl 0 rfl) ?_
  refine lv_iload_n hx hb dX3_hasShards_1 rfl (lv_at hl 1 rfl) ?_
  refine gh_calli hg (gh_runV (As := [.int x]) (rest := []) hC hg (t_isPlace l V o ad I A F _ hT.1 x) 1 (lw_V q4134 q4136 qs88 q138 q4137) hT.1.1 rfl hd_X3_isPlace ⟨Nat.le_of_ble_eq_true rfl, Nat.le_of_ble_eq_true rfl⟩ rfl hl.1 rfl (Nat.le_of_ble_eq_true rfl) dX3_hasShards_2 ⟨Nat.le_of_ble_eq_true rfl, Nat.le_of_ble_eq_true rfl⟩) (fun r_1 g H locs hg hp => ?_)
  replace hp : r_1 = (if okL x 24 then 1 else 0) ∧ tw_W V _ g o ad (va_up I 3 (if okL x 24 then 0 else 1)) A F := hp
  by_cases ok_2 : okL x 24
  · rw [if_pos ok_2, if_pos ok_2] at hp
    obtain ⟨rfl, hp⟩ := hp
    have hT : tw_W V g0 g o ad (va_up I 3 0) A F := hT.call hp
    obtain ⟨h_3a, h_3⟩ := okL_cl (by omega) ok_2
    refine lv_if_eq (tgt := 22) hx hb dX3_hasShards_5 (by decide) (fun c_4 => (absurd ((nx_eq (show ((1 : Int32)) = nI 1 from rfl) (show ((0 : Int32)) = nI 0 from rfl) (by omega) (by omega)).mp c_4) (by omega))) (fun _ => ?_)
    refine lv_aload_n hx hb dX3_hasShards_8 rfl (lv_at hl 0 rfl) ?_
    refine lv_iload_n hx hb dX3_hasShards_9 rfl (lv_at hl 1 rfl) ?_
    refine lv_iconst (v := 4) hx hb dX3_hasShards_10 (by decide) ?_
    refine gh_calli hg (gh_runV (As := [.int x, .int 4]) (rest := []) hC hg (t_at l V o ad (va_up I 3 0) A F _ hT.1 x 4 ((x).toNatClampNeg) 4 h_3 (show ((4 : Int32)) = nI 4 from rfl) (by omega) (by omega)) 2 (lw_V q3964 q3966 qs65 q138 q3967) hT.1.1 rfl hd_X3_at ⟨Nat.le_of_ble_eq_true rfl, Nat.le_of_ble_eq_true rfl⟩ rfl hl.1 rfl (Nat.le_of_ble_eq_true rfl) dX3_hasShards_11 ⟨Nat.le_of_ble_eq_true rfl, Nat.le_of_ble_eq_true rfl⟩) (fun r_5 g H locs hg hp => ?_)
    obtain ⟨hp, hq⟩ := hp
    replace hp : r_5 = (pl (A 0) ((x).toNatClampNeg) 4) := hp
    subst hp
    rw [hq] at hg
    refine lv_iconst (v := 1) hx hb dX3_hasShards_14 (by decide) ?_
    refine lv_icmp_ne (tgt := 22) hx hb dX3_hasShards_15 (by decide) (fun c_6 => ?_) (fun c_6 => ?_)
    · skip
      refine lv_iconst (v := 0) hx hb dX3_hasShards_22 (by decide) ?_
      have e9 : c1 (okL x 24) = 0 := by first | rfl | (simp only [c1, c2, c3, if_pos ok_2, if_neg c_6]; done) | simp [c1, c2, c3, ok_2, c_6]
      exact gh_retz rfl hC hg hr hlk (⟨fun h9 => by simp [c_6], by rw [e9]; exact hT⟩) dX3_hasShards_23 (Nat.le_of_ble_eq_true rfl) (Nat.le_of_ble_eq_true rfl)
    refine lv_iconst (v := 1) hx hb dX3_hasShards_18 (by decide) ?_
    refine lv_goto (tgt := 23) hx hb dX3_hasShards_19 (by decide) ?_
    have e9 : c1 (okL x 24) = 0 := by first | rfl | (simp only [c1, c2, c3, if_pos ok_2, if_pos c_6]; done) | simp [c1, c2, c3, ok_2, c_6]
    exact gh_retz rfl hC hg hr hlk (⟨fun h9 => by simp [c_6], by rw [e9]; exact hT⟩) dX3_hasShards_23 (Nat.le_of_ble_eq_true rfl) (Nat.le_of_ble_eq_true rfl)
  rw [if_neg ok_2, if_neg ok_2] at hp
  obtain ⟨rfl, hp⟩ := hp
  have hT : tw_W V g0 g o ad (va_up I 3 1) A F := hT.call hp
  refine lv_if_eq (tgt := 22) hx hb dX3_hasShards_5 (by decide) (fun _ => ?_) (fun c_7 => (absurd ((nx_eq (show ((0 : Int32)) = nI 0 from rfl) (show ((0 : Int32)) = nI 0 from rfl) (by omega) (by omega)).mpr (by omega)) c_7))
  refine lv_iconst (v := 0) hx hb dX3_hasShards_22 (by decide) ?_
  have e9 : c1 (okL x 24) = 1 := by first | rfl | (simp only [c1, c2, c3, if_neg ok_2]; done) | simp [c1, c2, c3, ok_2]
  exact gh_retz rfl hC hg hr hlk (⟨fun h9 => absurd (e9.symm.trans h9) (by decide), by rw [e9]; exact hT⟩) dX3_hasShards_23 (Nat.le_of_ble_eq_true rfl) (Nat.le_of_ble_eq_true rfl)
set_option maxHeartbeats 1000000 in
set_option maxRecDepth 100000 in
theorem t_isThere (l : Launch) (V : gh_V) (o : Nat) (ad : Nat → Nat) (I : Nat → Int32) (A : Nat → Nat → Int32) (F : Nat → Nat → UInt32) (g0 : gh_G) (hP : tw_P V g0 o ad I A F) (x y : Int32) (L D P : Nat) (hE : tw_wf (A 0) L D P) : MI l yX3_isThere cX3_isThere 3 (some .boolean) ({ frames := 2, cells := 0, slots := 0, locals := 43 } : Room) V [.ref o, .int x, .int y] g0 (fun r g1 => r = (if (okL x L ∧ okL y (ldN (A 0) x.toNatClampNeg)) then 1 else 0) ∧ tw_W V g0 g1 o ad (va_up I 3 (if (okL x L ∧ okL y (ldN (A 0) x.toNatClampNeg)) then 0 else 1)) A F) := by
  refine MG.of RX3 (by decide) rfl (Nat.le_of_ble_eq_true rfl) (fun pp ee s mm args below meth c ls hC hg hr hlk hnm hl => ?_)
  have hx := hC.1.1
  have hb := hC.1.2.1
  have hml := hC.1.2.2.1
  have hown := hC.1.2.2.2.1
  have hts := hC.1.2.2.2.2
  have hl : lv_has ls 3 [(0, .ref o), (1, .int x), (2, .int y)] := hl
  have hT := hP.W
  have hL := hE.1.1
  have hL12 := hE.1.2
  refine lv_aload_n hx hb dX3_isThere_0 rfl (lv_at hl 0 rfl) ?_
  refine lv_aload_n hx hb dX3_isThere_1 rfl (lv_at hl 0 rfl) ?_
  refine lv_iload_n hx hb dX3_isThere_2 rfl (lv_at hl 1 rfl) ?_
  refine gh_calli hg (gh_runV (As := [.int x]) (rest := [.ref o]) hC hg (t_isLot l V o ad I A F _ hT.1 x L (hL) hL12) 1 (lw_V q3948 q3950 qs61 q138 q3951) hT.1.1 rfl hd_X3_isLot ⟨Nat.le_of_ble_eq_true rfl, Nat.le_of_ble_eq_true rfl⟩ rfl hl.1 rfl (Nat.le_of_ble_eq_true rfl) dX3_isThere_3 ⟨Nat.le_of_ble_eq_true rfl, Nat.le_of_ble_eq_true rfl⟩) (fun r_1 g H locs hg hp => ?_)
  replace hp : r_1 = (if okL x L then 1 else 0) ∧ tw_W V _ g o ad (va_up I 3 (if okL x L then 0 else 1)) A F := hp
  by_cases ok_2 : okL x L
  · rw [if_pos ok_2, if_pos ok_2] at hp
    obtain ⟨rfl, hp⟩ := hp
    have hT : tw_W V g0 g o ad (va_up I 3 0) A F := hT.call hp
    obtain ⟨h_3a, h_3⟩ := okL_cl (by omega) ok_2
    refine lv_if_eq (tgt := 29) hx hb dX3_isThere_6 (by decide) (fun c_4 => (absurd ((nx_eq (show ((1 : Int32)) = nI 1 from rfl) (show ((0 : Int32)) = nI 0 from rfl) (by omega) (by omega)).mp c_4) (by omega))) (fun _ => ?_)
    refine lv_iload_n hx hb dX3_isThere_9 rfl (lv_at hl 2 rfl) ?_
    refine lv_iconst (v := 0) hx hb dX3_isThere_10 (by decide) ?_
    refine lv_aload_n hx hb dX3_isThere_11 rfl (lv_at hl 0 rfl) ?_
    refine lv_iload_n hx hb dX3_isThere_12 rfl (lv_at hl 1 rfl) ?_
    refine lv_iconst (v := 2) hx hb dX3_isThere_13 (by decide) ?_
    obtain ⟨K_5, hK_6b, hK_6⟩ := hE.2.2.2.2.1 x.toNatClampNeg (by omega)
    refine gh_calli hg (gh_runV (As := [.int x, .int 2]) (rest := [.int 0, .int y, .ref o]) hC hg (t_lot l V o ad (va_up I 3 0) A F _ hT.1 x 2 ((x).toNatClampNeg) 2 h_3 (show ((2 : Int32)) = nI 2 from rfl) (by omega) (by omega)) 2 (lw_V q3956 q3958 qs63 q138 q3959) hT.1.1 rfl hd_X3_lot ⟨Nat.le_of_ble_eq_true rfl, Nat.le_of_ble_eq_true rfl⟩ rfl hl.1 rfl (Nat.le_of_ble_eq_true rfl) dX3_isThere_14 ⟨Nat.le_of_ble_eq_true rfl, Nat.le_of_ble_eq_true rfl⟩) (fun r_7 g H locs hg hp => ?_)
    obtain ⟨hp, hq⟩ := hp
    replace hp : r_7 = (lt (A 0) ((x).toNatClampNeg) 2) := hp
    subst hp
    rw [hq] at hg
    refine lv_iconst (v := 1) hx hb dX3_isThere_17 (by decide) ?_
    refine lv_isub hx hb dX3_isThere_18 ?_
    refine gh_calli hg (gh_runS (As := [.int y, .int 0, .int ((lt (A 0) ((x).toNatClampNeg) 2) - 1)]) (rest := [.ref o]) hC hg (t_in l V _ y 0 ((lt (A 0) ((x).toNatClampNeg) 2) - 1)) 3 (lw_S q3905 q3906 q138 q3907) hd_X3_in.2 ⟨Nat.le_of_ble_eq_true rfl, Nat.le_of_ble_eq_true rfl⟩ rfl hl.1 rfl (Nat.le_of_ble_eq_true rfl) dX3_isThere_19 ⟨Nat.le_of_ble_eq_true rfl, Nat.le_of_ble_eq_true rfl⟩) (fun r_8 g H locs hg hp => ?_)
    replace hp : r_8 = (if okR y 0 ((lt (A 0) ((x).toNatClampNeg) 2) - 1) then 1 else 0) ∧ g = _ := hp
    by_cases ok_9 : okR y 0 ((lt (A 0) ((x).toNatClampNeg) 2) - 1)
    · rw [if_pos ok_9] at hp
      obtain ⟨rfl, hq⟩ := hp
      rw [hq] at hg
      refine lv_if_eq (tgt := 29) hx hb dX3_isThere_22 (by decide) (fun c_10 => (absurd ((nx_eq (show ((1 : Int32)) = nI 1 from rfl) (show ((0 : Int32)) = nI 0 from rfl) (by omega) (by omega)).mp c_10) (by omega))) (fun _ => ?_)
      refine lv_iconst (v := 0) hx hb dX3_isThere_25 (by decide) ?_
      refine lv_goto (tgt := 30) hx hb dX3_isThere_26 (by decide) ?_
      refine gh_put (v := .int 0) hC hg hT.1.1 fX3_54_0 rfl rfl (Nat.le_of_ble_eq_true rfl) dX3_isThere_30 (fun g H locs hg hw hn => ?_)
      have hT : tw_W V g0 g o ad (va_up (va_up I 3 0) 3 0) A F := hT.putI 3 0 hw hn
      refine lv_aload_n hx hb dX3_isThere_33 rfl (lv_at hl 0 rfl) ?_
      refine gh_get (v := .int 0) hC hg hT.1.1 fX3_54_0 rfl dX3_isThere_34 ?_
      refine lv_if_ne (tgt := 44) hx hb dX3_isThere_37 (by decide) (fun c_11 => (absurd ((nx_eq (show ((0 : Int32)) = nI 0 from rfl) (show ((0 : Int32)) = nI 0 from rfl) (by omega) (by omega)).mpr (by omega)) c_11)) (fun _ => ?_)
      refine lv_iconst (v := 1) hx hb dX3_isThere_40 (by decide) ?_
      refine lv_goto (tgt := 45) hx hb dX3_isThere_41 (by decide) ?_
      have e8 : ldN (A 0) x.toNatClampNeg = K_5 := cl_of hK_6 (by omega)
      have e9 : (okL x L ∧ okL y (ldN (A 0) x.toNatClampNeg)) := ⟨ok_2, by rw [e8]; exact (okL_R hK_6 (by omega)).mp ok_9⟩
      exact gh_retz rfl hC hg hr hlk (⟨(if_pos e9).symm, by rw [if_pos e9]; exact hT⟩) dX3_isThere_45 (Nat.le_of_ble_eq_true rfl) (Nat.le_of_ble_eq_true rfl)
    rw [if_neg ok_9] at hp
    obtain ⟨rfl, hq⟩ := hp
    rw [hq] at hg
    refine lv_if_eq (tgt := 29) hx hb dX3_isThere_22 (by decide) (fun _ => ?_) (fun c_12 => (absurd ((nx_eq (show ((0 : Int32)) = nI 0 from rfl) (show ((0 : Int32)) = nI 0 from rfl) (by omega) (by omega)).mpr (by omega)) c_12))
    refine lv_iconst (v := 1) hx hb dX3_isThere_29 (by decide) ?_
    refine gh_put (v := .int 1) hC hg hT.1.1 fX3_54_0 rfl rfl (Nat.le_of_ble_eq_true rfl) dX3_isThere_30 (fun g H locs hg hw hn => ?_)
    have hT : tw_W V g0 g o ad (va_up (va_up I 3 0) 3 1) A F := hT.putI 3 1 hw hn
    refine lv_aload_n hx hb dX3_isThere_33 rfl (lv_at hl 0 rfl) ?_
    refine gh_get (v := .int 1) hC hg hT.1.1 fX3_54_0 rfl dX3_isThere_34 ?_
    refine lv_if_ne (tgt := 44) hx hb dX3_isThere_37 (by decide) (fun _ => ?_) (fun c_13 => (absurd ((nx_eq (show ((1 : Int32)) = nI 1 from rfl) (show ((0 : Int32)) = nI 0 from rfl) (by omega) (by omega)).mp c_13) (by omega)))
    refine lv_iconst (v := 0) hx hb dX3_isThere_44 (by decide) ?_
    have e8 : ldN (A 0) x.toNatClampNeg = K_5 := cl_of hK_6 (by omega)
    have e9 : ¬ (okL x L ∧ okL y (ldN (A 0) x.toNatClampNeg)) := fun h9 => ok_9 ((okL_R hK_6 (by omega)).mpr (by rw [← e8]; exact h9.2))
    exact gh_retz rfl hC hg hr hlk (⟨(if_neg e9).symm, by rw [if_neg e9]; exact hT⟩) dX3_isThere_45 (Nat.le_of_ble_eq_true rfl) (Nat.le_of_ble_eq_true rfl)
  rw [if_neg ok_2, if_neg ok_2] at hp
  obtain ⟨rfl, hp⟩ := hp
  have hT : tw_W V g0 g o ad (va_up I 3 1) A F := hT.call hp
  refine lv_if_eq (tgt := 29) hx hb dX3_isThere_6 (by decide) (fun _ => ?_) (fun c_14 => (absurd ((nx_eq (show ((0 : Int32)) = nI 0 from rfl) (show ((0 : Int32)) = nI 0 from rfl) (by omega) (by omega)).mpr (by omega)) c_14))
  refine lv_iconst (v := 1) hx hb dX3_isThere_29 (by decide) ?_
  refine gh_put (v := .int 1) hC hg hT.1.1 fX3_54_0 rfl rfl (Nat.le_of_ble_eq_true rfl) dX3_isThere_30 (fun g H locs hg hw hn => ?_)
  have hT : tw_W V g0 g o ad (va_up (va_up I 3 1) 3 1) A F := hT.putI 3 1 hw hn
  refine lv_aload_n hx hb dX3_isThere_33 rfl (lv_at hl 0 rfl) ?_
  refine gh_get (v := .int 1) hC hg hT.1.1 fX3_54_0 rfl dX3_isThere_34 ?_
  refine lv_if_ne (tgt := 44) hx hb dX3_isThere_37 (by decide) (fun _ => ?_) (fun c_15 => (absurd ((nx_eq (show ((1 : Int32)) = nI 1 from rfl) (show ((0 : Int32)) = nI 0 from rfl) (by omega) (by omega)).mp c_15) (by omega)))
  refine lv_iconst (v := 0) hx hb dX3_isThere_44 (by decide) ?_
  have e9 : ¬ (okL x L ∧ okL y (ldN (A 0) x.toNatClampNeg)) := fun h9 => ok_2 h9.1
  exact gh_retz rfl hC hg hr hlk (⟨(if_neg e9).symm, by rw [if_neg e9]; exact hT⟩) dX3_isThere_45 (Nat.le_of_ble_eq_true rfl) (Nat.le_of_ble_eq_true rfl)
set_option maxHeartbeats 1000000 in
set_option maxRecDepth 100000 in
theorem t_fateOf (l : Launch) (V : gh_V) (o : Nat) (ad : Nat → Nat) (I : Nat → Int32) (A : Nat → Nat → Int32) (F : Nat → Nat → UInt32) (g0 : gh_G) (hP : tw_P V g0 o ad I A F) (x y : Int32) (L D P : Nat) (hE : tw_wf (A 0) L D P) : MI l yX3_fateOf cX3_fateOf 3 (some .int) ({ frames := 3, cells := 0, slots := 0, locals := 65 } : Room) V [.ref o, .int x, .int y] g0 (fun r g1 => (c1 (okL x L ∧ okL y (ldN (A 0) x.toNatClampNeg)) = 0 → r = lt (A 0) x.toNatClampNeg (5 + y.toNatClampNeg)) ∧ tw_W V g0 g1 o ad (va_up I 3 (c1 (okL x L ∧ okL y (ldN (A 0) x.toNatClampNeg)))) A F) := by
  refine MG.of RX3 (by decide) rfl (Nat.le_of_ble_eq_true rfl) (fun pp ee s mm args below meth c ls hC hg hr hlk hnm hl => ?_)
  have hx := hC.1.1
  have hb := hC.1.2.1
  have hml := hC.1.2.2.1
  have hown := hC.1.2.2.2.1
  have hts := hC.1.2.2.2.2
  have hl : lv_has ls 3 [(0, .ref o), (1, .int x), (2, .int y)] := hl
  have hT := hP.W
  have hL := hE.1.1
  have hL12 := hE.1.2
  refine lv_aload_n hx hb dX3_fateOf_0 rfl (lv_at hl 0 rfl) ?_
  refine lv_iload_n hx hb dX3_fateOf_1 rfl (lv_at hl 1 rfl) ?_
  refine lv_iload_n hx hb dX3_fateOf_2 rfl (lv_at hl 2 rfl) ?_
  refine gh_calli hg (gh_runV (As := [.int x, .int y]) (rest := []) hC hg (t_isThere l V o ad I A F _ hT.1 x y L D P hE) 2 (lw_V q4218 q4220 qs92 q138 q4221) hT.1.1 rfl hd_X3_isThere ⟨Nat.le_of_ble_eq_true rfl, Nat.le_of_ble_eq_true rfl⟩ rfl hl.1 rfl (Nat.le_of_ble_eq_true rfl) dX3_fateOf_3 ⟨Nat.le_of_ble_eq_true rfl, Nat.le_of_ble_eq_true rfl⟩) (fun r_1 g H locs hg hp => ?_)
  replace hp : r_1 = (if (okL x L ∧ okL y (ldN (A 0) x.toNatClampNeg)) then 1 else 0) ∧ tw_W V _ g o ad (va_up I 3 (if (okL x L ∧ okL y (ldN (A 0) x.toNatClampNeg)) then 0 else 1)) A F := hp
  by_cases ok_2 : (okL x L ∧ okL y (ldN (A 0) x.toNatClampNeg))
  · rw [if_pos ok_2, if_pos ok_2] at hp
    obtain ⟨rfl, hp⟩ := hp
    have hT : tw_W V g0 g o ad (va_up I 3 0) A F := hT.call hp
    obtain ⟨h_3a, h_3⟩ := okL_cl (by omega) ok_2.1
    obtain ⟨K_5, h_4c, h_4k⟩ := hE.2.2.2.2.1 (x).toNatClampNeg (by omega)
    have h_4e : ldN (A 0) (x).toNatClampNeg = K_5 := cl_of h_4k (by omega)
    obtain ⟨h_4a, h_4⟩ := okL_cl (by omega) ok_2.2
    rw [h_4e] at h_4a
    refine lv_if_eq (tgt := 20) hx hb dX3_fateOf_6 (by decide) (fun c_6 => (absurd ((nx_eq (show ((1 : Int32)) = nI 1 from rfl) (show ((0 : Int32)) = nI 0 from rfl) (by omega) (by omega)).mp c_6) (by omega))) (fun _ => ?_)
    refine lv_aload_n hx hb dX3_fateOf_9 rfl (lv_at hl 0 rfl) ?_
    refine lv_iload_n hx hb dX3_fateOf_10 rfl (lv_at hl 1 rfl) ?_
    refine lv_iconst (v := 5) hx hb dX3_fateOf_11 (by decide) ?_
    refine lv_iload_n hx hb dX3_fateOf_12 rfl (lv_at hl 2 rfl) ?_
    refine lv_iadd hx hb dX3_fateOf_13 ?_
    refine gh_calli hg (gh_runV (As := [.int x, .int (5 + y)]) (rest := []) hC hg (t_lot l V o ad (va_up I 3 0) A F _ hT.1 x (5 + y) ((x).toNatClampNeg) (5 + (y).toNatClampNeg) h_3 (nx_add (show ((5 : Int32)) = nI 5 from rfl) h_4) (by omega) (by omega)) 2 (lw_V q3956 q3958 qs63 q138 q3959) hT.1.1 rfl hd_X3_lot ⟨Nat.le_of_ble_eq_true rfl, Nat.le_of_ble_eq_true rfl⟩ rfl hl.1 rfl (Nat.le_of_ble_eq_true rfl) dX3_fateOf_14 ⟨Nat.le_of_ble_eq_true rfl, Nat.le_of_ble_eq_true rfl⟩) (fun r_7 g H locs hg hp => ?_)
    obtain ⟨hp, hq⟩ := hp
    replace hp : r_7 = (lt (A 0) ((x).toNatClampNeg) (5 + (y).toNatClampNeg)) := hp
    subst hp
    rw [hq] at hg
    refine lv_goto (tgt := 21) hx hb dX3_fateOf_17 (by decide) ?_
    have e9 : c1 (okL x L ∧ okL y (ldN (A 0) x.toNatClampNeg)) = 0 := by first | rfl | (simp only [c1, c2, c3, if_pos ok_2]; done) | simp [c1, c2, c3, ok_2]
    exact gh_reti hC hg hr hlk (⟨fun h9 => rfl, by rw [e9]; exact hT⟩) dX3_fateOf_21 (Nat.le_of_ble_eq_true rfl) (Nat.le_of_ble_eq_true rfl)
  rw [if_neg ok_2, if_neg ok_2] at hp
  obtain ⟨rfl, hp⟩ := hp
  have hT : tw_W V g0 g o ad (va_up I 3 1) A F := hT.call hp
  refine lv_if_eq (tgt := 20) hx hb dX3_fateOf_6 (by decide) (fun _ => ?_) (fun c_8 => (absurd ((nx_eq (show ((0 : Int32)) = nI 0 from rfl) (show ((0 : Int32)) = nI 0 from rfl) (by omega) (by omega)).mpr (by omega)) c_8))
  refine lv_iconst (v := 0) hx hb dX3_fateOf_20 (by decide) ?_
  have e9 : c1 (okL x L ∧ okL y (ldN (A 0) x.toNatClampNeg)) = 1 := by first | rfl | (simp only [c1, c2, c3, if_neg ok_2]; done) | simp [c1, c2, c3, ok_2]
  exact gh_reti hC hg hr hlk (⟨fun h9 => absurd (e9.symm.trans h9) (by decide), by rw [e9]; exact hT⟩) dX3_fateOf_21 (Nat.le_of_ble_eq_true rfl) (Nat.le_of_ble_eq_true rfl)
set_option maxHeartbeats 1000000 in
set_option maxRecDepth 100000 in
theorem t_placed (l : Launch) (V : gh_V) (o : Nat) (ad : Nat → Nat) (I : Nat → Int32) (A : Nat → Nat → Int32) (F : Nat → Nat → UInt32) (g0 : gh_G) (hP : tw_P V g0 o ad I A F) (x y : Int32) : MI l yX3_placed cX3_placed 4 (some .int) ({ frames := 1, cells := 0, slots := 0, locals := 22 } : Room) V [.ref o, .int x, .int y] g0 (fun r g1 => r = placedN (A 0) x y ∧ tw_W V g0 g1 o ad I A F) := by
  refine MG.of RX3 (by decide) rfl (Nat.le_of_ble_eq_true rfl) (fun pp ee s mm args below meth c ls hC hg hr hlk hnm hl => ?_)
  have hx := hC.1.1
  have hb := hC.1.2.1
  have hml := hC.1.2.2.1
  have hown := hC.1.2.2.2.1
  have hts := hC.1.2.2.2.2
  have hl : lv_has ls 4 [(0, .ref o), (1, .int x), (2, .int y)] := hl
  have hT := hP.W
  refine lv_iconst (v := 0) hx hb dX3_placed_0 (by decide) ?_
  refine lv_istore_n (lv' := [(3, .int 0), (0, .ref o), (1, .int x), (2, .int y)]) hx hb dX3_placed_1 rfl hl (by decide) rfl (fun ls hl => ?_)
  refine gh_loop (N := 24) (X := fun i_1 g ls => tw_W V g0 g o ad I A F ∧ firstOf (isAt (A 0) x y) nI 0 24 = firstOf (isAt (A 0) x y) nI i_1 (24 - i_1) ∧ lv_has ls 4 [(0, .ref o), (1, .int x), (2, .int y), (3, .int (nI i_1))]) ?_ ?_ 0 (by omega) hg ⟨hT, rfl, lv_sub hl [1, 2, 3, 0] rfl⟩
  · intro g H locs ls hg hX
    obtain ⟨hT, hE9, hl⟩ := hX
    refine lv_iload_n hx hb dX3_placed_2 rfl (lv_at hl 3 rfl) ?_
    refine lv_bipush (v := 24) hx hb dX3_placed_3 (by decide) ?_
    refine lv_icmp_ge (tgt := 36) hx hb dX3_placed_5 (by decide) (fun _ => ?_) (fun c_2 => (absurd ((nx_le (show ((24 : Int32)) = nI 24 from rfl) rfl (by omega) (by omega)).mpr (by omega)) c_2))
    refine lv_iconst (v := (-1)) hx hb dX3_placed_36 (by decide) ?_
    exact gh_reti hC hg hr hlk (⟨by rw [placedN, hE9, firstOf_end], hT⟩) dX3_placed_37 (Nat.le_of_ble_eq_true rfl) (Nat.le_of_ble_eq_true rfl)
  · intro i_1 h_3 ih2 g H locs ls hg hX
    obtain ⟨hT, hE9, hl⟩ := hX
    refine lv_iload_n hx hb dX3_placed_2 rfl (lv_at hl 3 rfl) ?_
    refine lv_bipush (v := 24) hx hb dX3_placed_3 (by decide) ?_
    refine lv_icmp_ge (tgt := 36) hx hb dX3_placed_5 (by decide) (fun c_4 => (absurd ((nx_le (show ((24 : Int32)) = nI 24 from rfl) rfl (by omega) (by omega)).mp c_4) (by omega))) (fun _ => ?_)
    refine lv_aload_n hx hb dX3_placed_8 rfl (lv_at hl 0 rfl) ?_
    refine lv_iload_n hx hb dX3_placed_9 rfl (lv_at hl 3 rfl) ?_
    refine lv_iconst (v := 0) hx hb dX3_placed_10 (by decide) ?_
    refine gh_calli hg (gh_runV (As := [.int (nI i_1), .int 0]) (rest := []) hC hg (t_at l V o ad I A F _ hT.1 (nI i_1) 0 i_1 0 rfl (show ((0 : Int32)) = nI 0 from rfl) (by omega) (by omega)) 2 (lw_V q3964 q3966 qs65 q138 q3967) hT.1.1 rfl hd_X3_at ⟨Nat.le_of_ble_eq_true rfl, Nat.le_of_ble_eq_true rfl⟩ rfl hl.1 rfl (Nat.le_of_ble_eq_true rfl) dX3_placed_11 ⟨Nat.le_of_ble_eq_true rfl, Nat.le_of_ble_eq_true rfl⟩) (fun r_5 g H locs hg hp => ?_)
    obtain ⟨hp, hq⟩ := hp
    replace hp : r_5 = (pl (A 0) i_1 0) := hp
    subst hp
    rw [hq] at hg
    refine lv_iload_n hx hb dX3_placed_14 rfl (lv_at hl 1 rfl) ?_
    refine lv_icmp_ne (tgt := 30) hx hb dX3_placed_15 (by decide) (fun c_6 => ?_) (fun c_6 => ?_)
    · skip
      refine lv_iinc (v := (nI (i_1 + 1))) (lv' := [(3, .int (nI (i_1 + 1))), (0, .ref o), (1, .int x), (2, .int y)]) hx hb dX3_placed_30 hl (k := 3) rfl (nx_iinc rfl) (by decide) rfl (fun ls hl => ?_)
      refine lv_goto (tgt := 2) hx hb dX3_placed_33 (by decide) ?_
      exact ih2 _ _ _ _ hg ⟨hT, (by rw [hE9, firstOf_miss (by simp [isAt, c_6]) h_3]), lv_sub hl [1, 2, 3, 0] rfl⟩
    refine lv_aload_n hx hb dX3_placed_18 rfl (lv_at hl 0 rfl) ?_
    refine lv_iload_n hx hb dX3_placed_19 rfl (lv_at hl 3 rfl) ?_
    refine lv_iconst (v := 1) hx hb dX3_placed_20 (by decide) ?_
    refine gh_calli hg (gh_runV (As := [.int (nI i_1), .int 1]) (rest := []) hC hg (t_at l V o ad I A F _ hT.1 (nI i_1) 1 i_1 1 rfl (show ((1 : Int32)) = nI 1 from rfl) (by omega) (by omega)) 2 (lw_V q3964 q3966 qs65 q138 q3967) hT.1.1 rfl hd_X3_at ⟨Nat.le_of_ble_eq_true rfl, Nat.le_of_ble_eq_true rfl⟩ rfl hl.1 rfl (Nat.le_of_ble_eq_true rfl) dX3_placed_21 ⟨Nat.le_of_ble_eq_true rfl, Nat.le_of_ble_eq_true rfl⟩) (fun r_7 g H locs hg hp => ?_)
    obtain ⟨hp, hq⟩ := hp
    replace hp : r_7 = (pl (A 0) i_1 1) := hp
    subst hp
    rw [hq] at hg
    refine lv_iload_n hx hb dX3_placed_24 rfl (lv_at hl 2 rfl) ?_
    refine lv_icmp_ne (tgt := 30) hx hb dX3_placed_25 (by decide) (fun c_8 => ?_) (fun c_8 => ?_)
    · skip
      refine lv_iinc (v := (nI (i_1 + 1))) (lv' := [(3, .int (nI (i_1 + 1))), (0, .ref o), (1, .int x), (2, .int y)]) hx hb dX3_placed_30 hl (k := 3) rfl (nx_iinc rfl) (by decide) rfl (fun ls hl => ?_)
      refine lv_goto (tgt := 2) hx hb dX3_placed_33 (by decide) ?_
      exact ih2 _ _ _ _ hg ⟨hT, (by rw [hE9, firstOf_miss (by simp [isAt, c_6, c_8]) h_3]), lv_sub hl [1, 2, 3, 0] rfl⟩
    refine lv_iload_n hx hb dX3_placed_28 rfl (lv_at hl 3 rfl) ?_
    exact gh_reti hC hg hr hlk (⟨by rw [placedN, hE9, firstOf_hit (by simp [isAt, c_6, c_8]) h_3], hT⟩) dX3_placed_29 (Nat.le_of_ble_eq_true rfl) (Nat.le_of_ble_eq_true rfl)
set_option maxHeartbeats 1000000 in
set_option maxRecDepth 100000 in
theorem t_placeOf (l : Launch) (V : gh_V) (o : Nat) (ad : Nat → Nat) (I : Nat → Int32) (A : Nat → Nat → Int32) (F : Nat → Nat → UInt32) (g0 : gh_G) (hP : tw_P V g0 o ad I A F) (x y : Int32) (L D P : Nat) (hE : tw_wf (A 0) L D P) : MI l yX3_placeOf cX3_placeOf 3 (some .int) ({ frames := 3, cells := 0, slots := 0, locals := 65 } : Room) V [.ref o, .int x, .int y] g0 (fun r g1 => (c1 (okL x L ∧ okL y (ldN (A 0) x.toNatClampNeg)) = 0 → r = placedN (A 0) x y) ∧ tw_W V g0 g1 o ad (va_up I 3 (c1 (okL x L ∧ okL y (ldN (A 0) x.toNatClampNeg)))) A F) := by
  refine MG.of RX3 (by decide) rfl (Nat.le_of_ble_eq_true rfl) (fun pp ee s mm args below meth c ls hC hg hr hlk hnm hl => ?_)
  have hx := hC.1.1
  have hb := hC.1.2.1
  have hml := hC.1.2.2.1
  have hown := hC.1.2.2.2.1
  have hts := hC.1.2.2.2.2
  have hl : lv_has ls 3 [(0, .ref o), (1, .int x), (2, .int y)] := hl
  have hT := hP.W
  have hL := hE.1.1
  have hL12 := hE.1.2
  refine lv_aload_n hx hb dX3_placeOf_0 rfl (lv_at hl 0 rfl) ?_
  refine lv_iload_n hx hb dX3_placeOf_1 rfl (lv_at hl 1 rfl) ?_
  refine lv_iload_n hx hb dX3_placeOf_2 rfl (lv_at hl 2 rfl) ?_
  refine gh_calli hg (gh_runV (As := [.int x, .int y]) (rest := []) hC hg (t_isThere l V o ad I A F _ hT.1 x y L D P hE) 2 (lw_V q4218 q4220 qs92 q138 q4221) hT.1.1 rfl hd_X3_isThere ⟨Nat.le_of_ble_eq_true rfl, Nat.le_of_ble_eq_true rfl⟩ rfl hl.1 rfl (Nat.le_of_ble_eq_true rfl) dX3_placeOf_3 ⟨Nat.le_of_ble_eq_true rfl, Nat.le_of_ble_eq_true rfl⟩) (fun r_1 g H locs hg hp => ?_)
  replace hp : r_1 = (if (okL x L ∧ okL y (ldN (A 0) x.toNatClampNeg)) then 1 else 0) ∧ tw_W V _ g o ad (va_up I 3 (if (okL x L ∧ okL y (ldN (A 0) x.toNatClampNeg)) then 0 else 1)) A F := hp
  by_cases ok_2 : (okL x L ∧ okL y (ldN (A 0) x.toNatClampNeg))
  · rw [if_pos ok_2, if_pos ok_2] at hp
    obtain ⟨rfl, hp⟩ := hp
    have hT : tw_W V g0 g o ad (va_up I 3 0) A F := hT.call hp
    obtain ⟨h_3a, h_3⟩ := okL_cl (by omega) ok_2.1
    obtain ⟨K_5, h_4c, h_4k⟩ := hE.2.2.2.2.1 (x).toNatClampNeg (by omega)
    have h_4e : ldN (A 0) (x).toNatClampNeg = K_5 := cl_of h_4k (by omega)
    obtain ⟨h_4a, h_4⟩ := okL_cl (by omega) ok_2.2
    rw [h_4e] at h_4a
    refine lv_if_eq (tgt := 18) hx hb dX3_placeOf_6 (by decide) (fun c_6 => (absurd ((nx_eq (show ((1 : Int32)) = nI 1 from rfl) (show ((0 : Int32)) = nI 0 from rfl) (by omega) (by omega)).mp c_6) (by omega))) (fun _ => ?_)
    refine lv_aload_n hx hb dX3_placeOf_9 rfl (lv_at hl 0 rfl) ?_
    refine lv_iload_n hx hb dX3_placeOf_10 rfl (lv_at hl 1 rfl) ?_
    refine lv_iload_n hx hb dX3_placeOf_11 rfl (lv_at hl 2 rfl) ?_
    refine gh_calli hg (gh_runV (As := [.int x, .int y]) (rest := []) hC hg (t_placed l V o ad (va_up I 3 0) A F _ hT.1 x y) 2 (lw_V q4226 q4228 qs93 q138 q4229) hT.1.1 rfl hd_X3_placed ⟨Nat.le_of_ble_eq_true rfl, Nat.le_of_ble_eq_true rfl⟩ rfl hl.1 rfl (Nat.le_of_ble_eq_true rfl) dX3_placeOf_12 ⟨Nat.le_of_ble_eq_true rfl, Nat.le_of_ble_eq_true rfl⟩) (fun r_7 g H locs hg hp => ?_)
    obtain ⟨hp, hpT⟩ := hp
    replace hp : r_7 = (placedN (A 0) x y) := hp
    subst hp
    have hT : tw_W V g0 g o ad (va_up I 3 0) A F := hT.call hpT
    refine lv_goto (tgt := 19) hx hb dX3_placeOf_15 (by decide) ?_
    have e9 : c1 (okL x L ∧ okL y (ldN (A 0) x.toNatClampNeg)) = 0 := by first | rfl | (simp only [c1, c2, c3, if_pos ok_2]; done) | simp [c1, c2, c3, ok_2]
    exact gh_reti hC hg hr hlk (⟨fun h9 => rfl, by rw [e9]; exact hT⟩) dX3_placeOf_19 (Nat.le_of_ble_eq_true rfl) (Nat.le_of_ble_eq_true rfl)
  rw [if_neg ok_2, if_neg ok_2] at hp
  obtain ⟨rfl, hp⟩ := hp
  have hT : tw_W V g0 g o ad (va_up I 3 1) A F := hT.call hp
  refine lv_if_eq (tgt := 18) hx hb dX3_placeOf_6 (by decide) (fun _ => ?_) (fun c_8 => (absurd ((nx_eq (show ((0 : Int32)) = nI 0 from rfl) (show ((0 : Int32)) = nI 0 from rfl) (by omega) (by omega)).mpr (by omega)) c_8))
  refine lv_iconst (v := 0) hx hb dX3_placeOf_18 (by decide) ?_
  have e9 : c1 (okL x L ∧ okL y (ldN (A 0) x.toNatClampNeg)) = 1 := by first | rfl | (simp only [c1, c2, c3, if_neg ok_2]; done) | simp [c1, c2, c3, ok_2]
  exact gh_reti hC hg hr hlk (⟨fun h9 => absurd (e9.symm.trans h9) (by decide), by rw [e9]; exact hT⟩) dX3_placeOf_19 (Nat.le_of_ble_eq_true rfl) (Nat.le_of_ble_eq_true rfl)
set_option maxHeartbeats 1000000 in
set_option maxRecDepth 100000 in
theorem t_planOf (l : Launch) (V : gh_V) (o : Nat) (ad : Nat → Nat) (I : Nat → Int32) (A : Nat → Nat → Int32) (F : Nat → Nat → UInt32) (g0 : gh_G) (hP : tw_P V g0 o ad I A F) (x y : Int32) (P : Nat) (hPn : A 0 529 = nI P) (hP16 : P ≤ 16) : MI l yX3_planOf cX3_planOf 4 (some .int) ({ frames := 0, cells := 0, slots := 0, locals := 0 } : Room) V [.ref o, .int x, .int y] g0 (fun r g1 => r = planAt (A 0) x y P ∧ tw_W V g0 g1 o ad I A F) := by
  refine MG.of RX3 (by decide) rfl (Nat.le_of_ble_eq_true rfl) (fun pp ee s mm args below meth c ls hC hg hr hlk hnm hl => ?_)
  have hx := hC.1.1
  have hb := hC.1.2.1
  have hml := hC.1.2.2.1
  have hown := hC.1.2.2.2.1
  have hts := hC.1.2.2.2.2
  have hl : lv_has ls 4 [(0, .ref o), (1, .int x), (2, .int y)] := hl
  have hT := hP.W
  refine lv_sipush (v := 530) hx hb dX3_planOf_0 (by decide) ?_
  refine lv_istore_n (lv' := [(3, .int 530), (0, .ref o), (1, .int x), (2, .int y)]) hx hb dX3_planOf_3 rfl hl (by decide) rfl (fun ls hl => ?_)
  refine gh_loop (N := P) (X := fun i_1 g ls => tw_W V g0 g o ad I A F ∧ firstOf (isPl (A 0) x y) (fun k => nI (530 + 3 * k)) 0 P = firstOf (isPl (A 0) x y) (fun k => nI (530 + 3 * k)) i_1 (P - i_1) ∧ lv_has ls 4 [(0, .ref o), (1, .int x), (2, .int y), (3, .int (nI (530 + 3 * i_1)))]) ?_ ?_ 0 (by omega) hg ⟨hT, rfl, lv_sub hl [1, 2, 3, 0] rfl⟩
  · intro g H locs ls hg hX
    obtain ⟨hT, hE9, hl⟩ := hX
    refine lv_iload_n hx hb dX3_planOf_4 rfl (lv_at hl 3 rfl) ?_
    refine lv_sipush (v := 530) hx hb dX3_planOf_5 (by decide) ?_
    refine lv_iconst (v := 3) hx hb dX3_planOf_8 (by decide) ?_
    refine lv_aload_n hx hb dX3_planOf_9 rfl (lv_at hl 0 rfl) ?_
    refine gh_get (v := .ref (ad 0)) hC hg hT.1.1 fX3_7_0 rfl dX3_planOf_10 ?_
    refine lv_sipush (v := 529) hx hb dX3_planOf_13 (by decide) ?_
    refine gh_iald (n := 578) (f := (A 0)) hC hg (hT.1.2.1 0 (by decide)) (show ((529 : Int32)) = nI 529 from rfl) (by omega) (by omega) dX3_planOf_16 ?_
    refine lv_imul hx hb dX3_planOf_17 ?_
    refine lv_iadd hx hb dX3_planOf_18 ?_
    refine lv_icmp_ge (tgt := 52) hx hb dX3_planOf_19 (by decide) (fun _ => ?_) (fun c_2 => (absurd ((nx_le (nx_add (show ((530 : Int32)) = nI 530 from rfl) (nx_mul (show ((3 : Int32)) = nI 3 from rfl) hPn)) rfl (by omega) (by omega)).mpr (by omega)) c_2))
    refine lv_iconst (v := (-1)) hx hb dX3_planOf_52 (by decide) ?_
    exact gh_reti hC hg hr hlk (⟨by rw [planAt, hE9, firstOf_end], hT⟩) dX3_planOf_53 (Nat.le_of_ble_eq_true rfl) (Nat.le_of_ble_eq_true rfl)
  · intro i_1 h_3 ih4 g H locs ls hg hX
    obtain ⟨hT, hE9, hl⟩ := hX
    refine lv_iload_n hx hb dX3_planOf_4 rfl (lv_at hl 3 rfl) ?_
    refine lv_sipush (v := 530) hx hb dX3_planOf_5 (by decide) ?_
    refine lv_iconst (v := 3) hx hb dX3_planOf_8 (by decide) ?_
    refine lv_aload_n hx hb dX3_planOf_9 rfl (lv_at hl 0 rfl) ?_
    refine gh_get (v := .ref (ad 0)) hC hg hT.1.1 fX3_7_0 rfl dX3_planOf_10 ?_
    refine lv_sipush (v := 529) hx hb dX3_planOf_13 (by decide) ?_
    refine gh_iald (n := 578) (f := (A 0)) hC hg (hT.1.2.1 0 (by decide)) (show ((529 : Int32)) = nI 529 from rfl) (by omega) (by omega) dX3_planOf_16 ?_
    refine lv_imul hx hb dX3_planOf_17 ?_
    refine lv_iadd hx hb dX3_planOf_18 ?_
    refine lv_icmp_ge (tgt := 52) hx hb dX3_planOf_19 (by decide) (fun c_4 => (absurd ((nx_le (nx_add (show ((530 : Int32)) = nI 530 from rfl) (nx_mul (show ((3 : Int32)) = nI 3 from rfl) hPn)) rfl (by omega) (by omega)).mp c_4) (by omega))) (fun _ => ?_)
    refine lv_aload_n hx hb dX3_planOf_22 rfl (lv_at hl 0 rfl) ?_
    refine gh_get (v := .ref (ad 0)) hC hg hT.1.1 fX3_7_0 rfl dX3_planOf_23 ?_
    refine lv_iload_n hx hb dX3_planOf_26 rfl (lv_at hl 3 rfl) ?_
    refine gh_iald (n := 578) (f := (A 0)) hC hg (hT.1.2.1 0 (by decide)) rfl (by omega) (by omega) dX3_planOf_27 ?_
    refine lv_iload_n hx hb dX3_planOf_28 rfl (lv_at hl 1 rfl) ?_
    refine lv_icmp_ne (tgt := 46) hx hb dX3_planOf_29 (by decide) (fun c_5 => ?_) (fun c_5 => ?_)
    · skip
      refine lv_iinc (v := (nI ((530 + 3 * i_1) + 3))) (lv' := [(3, .int (nI ((530 + 3 * i_1) + 3))), (0, .ref o), (1, .int x), (2, .int y)]) hx hb dX3_planOf_46 hl (k := 3) rfl (nx_iincN 3 rfl) (by decide) rfl (fun ls hl => ?_)
      refine lv_goto (tgt := 4) hx hb dX3_planOf_49 (by decide) ?_
      exact ih4 _ _ _ _ hg ⟨hT, (by rw [hE9, firstOf_miss (by simp [isPl, pn, c_5]) h_3]), lv_sub hl [1, 2, 3, 0] rfl⟩
    refine lv_aload_n hx hb dX3_planOf_32 rfl (lv_at hl 0 rfl) ?_
    refine gh_get (v := .ref (ad 0)) hC hg hT.1.1 fX3_7_0 rfl dX3_planOf_33 ?_
    refine lv_iload_n hx hb dX3_planOf_36 rfl (lv_at hl 3 rfl) ?_
    refine lv_iconst (v := 1) hx hb dX3_planOf_37 (by decide) ?_
    refine lv_iadd hx hb dX3_planOf_38 ?_
    refine gh_iald (n := 578) (f := (A 0)) hC hg (hT.1.2.1 0 (by decide)) (nx_add rfl (show ((1 : Int32)) = nI 1 from rfl)) (by omega) (by omega) dX3_planOf_39 ?_
    refine lv_iload_n hx hb dX3_planOf_40 rfl (lv_at hl 2 rfl) ?_
    refine lv_icmp_ne (tgt := 46) hx hb dX3_planOf_41 (by decide) (fun c_6 => ?_) (fun c_6 => ?_)
    · skip
      refine lv_iinc (v := (nI ((530 + 3 * i_1) + 3))) (lv' := [(3, .int (nI ((530 + 3 * i_1) + 3))), (0, .ref o), (1, .int x), (2, .int y)]) hx hb dX3_planOf_46 hl (k := 3) rfl (nx_iincN 3 rfl) (by decide) rfl (fun ls hl => ?_)
      refine lv_goto (tgt := 4) hx hb dX3_planOf_49 (by decide) ?_
      exact ih4 _ _ _ _ hg ⟨hT, (by rw [hE9, firstOf_miss (by simp [isPl, pn, c_5, c_6]) h_3]), lv_sub hl [1, 2, 3, 0] rfl⟩
    refine lv_iload_n hx hb dX3_planOf_44 rfl (lv_at hl 3 rfl) ?_
    exact gh_reti hC hg hr hlk (⟨by rw [planAt, hE9, firstOf_hit (by simp [isPl, pn, c_5, c_6]) h_3], hT⟩) dX3_planOf_45 (Nat.le_of_ble_eq_true rfl) (Nat.le_of_ble_eq_true rfl)
