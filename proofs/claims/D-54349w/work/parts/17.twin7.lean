theorem firstOf_two (f : Nat → Bool) (v w : Nat → Int32) : ∀ n i, (firstOf f v i n = -1 ∧ firstOf f w i n = -1 ∧ ∀ k, i ≤ k → k < i + n → f k = false) ∨ ∃ j, i ≤ j ∧ j < i + n ∧ f j = true ∧ firstOf f v i n = v j ∧ firstOf f w i n = w j ∧ ∀ k, i ≤ k → k < j → f k = false
  | 0, i => Or.inl ⟨rfl, rfl, fun k h1 h2 => absurd h2 (by omega)⟩
  | n + 1, i => by
    by_cases h : f i = true
    · exact Or.inr ⟨i, Nat.le_refl _, by omega, h, by rw [firstOf, if_pos h], by rw [firstOf, if_pos h], fun k h1 h2 => absurd h2 (by omega)⟩
    · rw [firstOf, firstOf, if_neg h, if_neg h]
      rcases firstOf_two f v w n (i + 1) with ⟨h1, h2, h3⟩ | ⟨j, h1, h2, h3, h4, h5, h6⟩
      · refine Or.inl ⟨h1, h2, fun k h4 h5 => ?_⟩
        by_cases hk : k = i
        · subst hk; simpa using h
        · exact h3 k (by omega) (by omega)
      · refine Or.inr ⟨j, by omega, by omega, h3, h4, h5, fun k h7 h8 => ?_⟩
        by_cases hk : k = i
        · subst hk; simpa using h
        · exact h6 k (by omega) h8
def plannedN (s : Nat → Int32) (x y : Int32) (P : Nat) : Int32 := firstOf (isPl s x y) (fun k => pn s k 2) 0 P
theorem planAt_two (s : Nat → Int32) (x y : Int32) (P : Nat) : (planAt s x y P = -1 ∧ plannedN s x y P = -1) ∨ ∃ j, j < P ∧ planAt s x y P = nI (530 + 3 * j) ∧ plannedN s x y P = pn s j 2 := by
  rcases firstOf_two (isPl s x y) (fun k => nI (530 + 3 * k)) (fun k => pn s k 2) P 0 with ⟨h1, h2, -⟩ | ⟨j, -, h2, -, h4, h5, -⟩
  · exact Or.inl ⟨h1, h2⟩
  · exact Or.inr ⟨j, by omega, h4, h5⟩
theorem placed_cases (s : Nat → Int32) (x y : Int32) : placedN s x y = -1 ∨ ∃ j, j < 24 ∧ placedN s x y = nI j := by
  rcases firstOf_cases (isAt s x y) nI 24 0 with h | ⟨j, -, h2, -, h4⟩
  · exact Or.inl h
  · exact Or.inr ⟨j, by omega, h4⟩
def cps {α : Type} (f : Nat → α) (off i : Nat) : Nat → α := fun j => if j < i then f (off + j) else f j
def cpt {α : Type} (src d : Nat → α) (off i : Nat) : Nat → α := fun j => if off ≤ j ∧ j < off + i then src (j - off) else d j
theorem cps_0 {α : Type} (f : Nat → α) (off : Nat) : cps f off 0 = f := rfl
theorem cpt_0 {α : Type} (f d : Nat → α) (off : Nat) : cpt f d off 0 = d := by
  funext j; unfold cpt; rw [if_neg (by omega)]
theorem cps_s {f : Nat → Int32} {off i : Nat} (h : 0 < off) : upd (cps f off i) i (cps f off i (off + i)) = cps f off (i + 1) := by
  funext j
  simp only [upd, cps]
  have h1 : ¬ off + i < i := by omega
  by_cases hj : j = i
  · subst hj; simp [h1]
  · have e : (j < i + 1) ↔ (j < i) := by omega
    simp [hj, e]
theorem cps_sf {f : Nat → UInt32} {off i : Nat} (h : 0 < off) : va_up (cps f off i) i (cps f off i (off + i)) = cps f off (i + 1) := by
  funext j
  simp only [va_up, cps]
  have h1 : ¬ off + i < i := by omega
  by_cases hj : j = i
  · subst hj; simp [h1]
  · have e : (j < i + 1) ↔ (j < i) := by omega
    simp [hj, e]
theorem cpt_s {f d : Nat → Int32} {off i : Nat} : upd (cpt f d off i) (off + i) (f i) = cpt f d off (i + 1) := by
  funext j
  simp only [upd, cpt]
  by_cases hj : j = off + i
  · subst hj; rw [if_pos rfl, if_pos (by omega), show off + i - off = i by omega]
  · have e : (off ≤ j ∧ j < off + (i + 1)) ↔ (off ≤ j ∧ j < off + i) := by omega
    simp [hj, e]
theorem cpt_sf {f d : Nat → UInt32} {off i : Nat} : va_up (cpt f d off i) (off + i) (f i) = cpt f d off (i + 1) := by
  funext j
  simp only [va_up, cpt]
  by_cases hj : j = off + i
  · subst hj; rw [if_pos rfl, if_pos (by omega), show off + i - off = i by omega]
  · have e : (off ≤ j ∧ j < off + (i + 1)) ↔ (off ≤ j ∧ j < off + i) := by omega
    simp [hj, e]
/-- the saved rows (each n long, K of them) after one more save of s -/
def svf {α : Type} (b s : Nat → α) (n K : Nat) : Nat → α := if K = 5 then cpt s (cps b n (n * 4)) (n * 4) n else cpt s b (n * K) n
def svK (K : Nat) : Nat := if K = 5 then 5 else K + 1
section
variable {V : gh_V} {g0 g : gh_G} {o : Nat} {ad : Nat → Nat} {I I' : Nat → Int32} {A A' : Nat → Nat → Int32} {F F' : Nat → Nat → UInt32}
theorem tw_W.eqA (h : tw_W V g0 g o ad I A F) (e : A = A') : tw_W V g0 g o ad I A' F := e ▸ h
theorem tw_W.eqF (h : tw_W V g0 g o ad I A F) (e : F = F') : tw_W V g0 g o ad I A F' := e ▸ h
theorem tw_W.eqI (h : tw_W V g0 g o ad I A F) (e : I = I') : tw_W V g0 g o ad I' A F := e ▸ h
end
set_option maxRecDepth 100000
theorem hd_X3_planOf : yX3_planOf.cls = RX3 ∧ yX3_planOf.cls ≠ "java/lang/invoke/MethodHandle" ∧ yX3_planOf.cls ≠ "java/lang/invoke/VarHandle" ∧ (parseMethodDescriptor yX3_planOf.desc).map (fun d => d.parameters.length) = some 2 := by decide +kernel
set_option maxHeartbeats 1000000 in
set_option maxRecDepth 100000 in
theorem t_plannedFor (l : Launch) (V : gh_V) (o : Nat) (ad : Nat → Nat) (I : Nat → Int32) (A : Nat → Nat → Int32) (F : Nat → Nat → UInt32) (g0 : gh_G) (hP : tw_P V g0 o ad I A F) (x y : Int32) (P : Nat) (hPn : A 0 529 = nI P) (hP16 : P ≤ 16) : MI l yX3_plannedFor cX3_plannedFor 4 (some .int) ({ frames := 2, cells := 0, slots := 0, locals := 43 } : Room) V [.ref o, .int x, .int y] g0 (fun r g1 => (c2 (okL y 8) (okR x 1 9999) = 0 → r = plannedN (A 0) x y P) ∧ tw_W V g0 g1 o ad (va_up I 3 (c2 (okL y 8) (okR x 1 9999))) A F) := by
  refine MG.of RX3 (by decide) rfl (Nat.le_of_ble_eq_true rfl) (fun pp ee s mm args below meth c ls hC hg hr hlk hnm hl => ?_)
  have hx := hC.1.1
  have hb := hC.1.2.1
  have hml := hC.1.2.2.1
  have hown := hC.1.2.2.2.1
  have hts := hC.1.2.2.2.2
  have hl : lv_has ls 4 [(0, .ref o), (1, .int x), (2, .int y)] := hl
  have hT := hP.W
  refine lv_aload_n hx hb dX3_plannedFor_0 rfl (lv_at hl 0 rfl) ?_
  refine lv_iload_n hx hb dX3_plannedFor_1 rfl (lv_at hl 2 rfl) ?_
  refine gh_calli hg (gh_runV (As := [.int y]) (rest := []) hC hg (t_isZone l V o ad I A F _ hT.1 y) 1 (lw_V q3901 q3903 qs55 q138 q3904) hT.1.1 rfl hd_X3_isZone ⟨Nat.le_of_ble_eq_true rfl, Nat.le_of_ble_eq_true rfl⟩ rfl hl.1 rfl (Nat.le_of_ble_eq_true rfl) dX3_plannedFor_2 ⟨Nat.le_of_ble_eq_true rfl, Nat.le_of_ble_eq_true rfl⟩) (fun r_1 g H locs hg hp => ?_)
  replace hp : r_1 = (if okL y 8 then 1 else 0) ∧ tw_W V _ g o ad (va_up I 3 (if okL y 8 then 0 else 1)) A F := hp
  by_cases ok_2 : okL y 8
  · rw [if_pos ok_2, if_pos ok_2] at hp
    obtain ⟨rfl, hp⟩ := hp
    have hT : tw_W V g0 g o ad (va_up I 3 0) A F := hT.call hp
    obtain ⟨h_3a, h_3⟩ := okL_cl (by omega) ok_2
    refine lv_if_ne (tgt := 10) hx hb dX3_plannedFor_5 (by decide) (fun _ => ?_) (fun c_4 => (absurd ((nx_eq (show ((1 : Int32)) = nI 1 from rfl) (show ((0 : Int32)) = nI 0 from rfl) (by omega) (by omega)).mp c_4) (by omega)))
    refine lv_iload_n hx hb dX3_plannedFor_10 rfl (lv_at hl 1 rfl) ?_
    refine lv_iconst (v := 1) hx hb dX3_plannedFor_11 (by decide) ?_
    refine lv_sipush (v := 9999) hx hb dX3_plannedFor_12 (by decide) ?_
    refine gh_calli hg (gh_runS (As := [.int x, .int 1, .int 9999]) (rest := []) hC hg (t_in l V _ x 1 9999) 3 (lw_S q3905 q3906 q138 q3907) hd_X3_in.2 ⟨Nat.le_of_ble_eq_true rfl, Nat.le_of_ble_eq_true rfl⟩ rfl hl.1 rfl (Nat.le_of_ble_eq_true rfl) dX3_plannedFor_15 ⟨Nat.le_of_ble_eq_true rfl, Nat.le_of_ble_eq_true rfl⟩) (fun r_5 g H locs hg hp => ?_)
    replace hp : r_5 = (if okR x 1 9999 then 1 else 0) ∧ g = _ := hp
    by_cases ok_6 : okR x 1 9999
    · rw [if_pos ok_6] at hp
      obtain ⟨rfl, hq⟩ := hp
      rw [hq] at hg
      obtain ⟨h_7a, h_7b, h_7⟩ := okR_cl (show ((1 : Int32)) = nI 1 from rfl) (show ((9999 : Int32)) = nI 9999 from rfl) (by omega) (by omega) ok_6
      refine lv_if_ne (tgt := 27) hx hb dX3_plannedFor_18 (by decide) (fun _ => ?_) (fun c_8 => (absurd ((nx_eq (show ((1 : Int32)) = nI 1 from rfl) (show ((0 : Int32)) = nI 0 from rfl) (by omega) (by omega)).mp c_8) (by omega)))
      refine lv_aload_n hx hb dX3_plannedFor_27 rfl (lv_at hl 0 rfl) ?_
      refine lv_iload_n hx hb dX3_plannedFor_28 rfl (lv_at hl 1 rfl) ?_
      refine lv_iload_n hx hb dX3_plannedFor_29 rfl (lv_at hl 2 rfl) ?_
      refine gh_calli hg (gh_runV (As := [.int x, .int y]) (rest := []) hC hg (t_planOf l V o ad (va_up I 3 0) A F _ hT.1 x y P hPn hP16) 2 (lw_V q4008 q4010 qs73 q138 q4011) hT.1.1 rfl hd_X3_planOf ⟨Nat.le_of_ble_eq_true rfl, Nat.le_of_ble_eq_true rfl⟩ rfl hl.1 rfl (Nat.le_of_ble_eq_true rfl) dX3_plannedFor_30 ⟨Nat.le_of_ble_eq_true rfl, Nat.le_of_ble_eq_true rfl⟩) (fun r_9 g H locs hg hp => ?_)
      obtain ⟨hp, hpT⟩ := hp
      replace hp : r_9 = (planAt (A 0) x y P) := hp
      subst hp
      have hT : tw_W V g0 g o ad (va_up I 3 0) A F := hT.call hpT
      rcases planAt_two (A 0) x y P with ⟨pl_10a, pl_10b⟩ | ⟨pl_10j, pl_10h, pl_10a, pl_10b⟩
      · skip
        refine W.eq (g2 := F0 mm 33 ls [.int (-1)]) (by rw [pl_10a] <;> rfl) ?_
        refine lv_istore_n (lv' := [(3, .int (-1)), (0, .ref o), (1, .int x), (2, .int y)]) hx hb dX3_plannedFor_33 rfl hl (by decide) rfl (fun ls hl => ?_)
        refine lv_iload_n hx hb dX3_plannedFor_34 rfl (lv_at hl 0 rfl) ?_
        refine lv_iconst (v := (-1)) hx hb dX3_plannedFor_35 (by decide) ?_
        refine lv_icmp_ne (tgt := 43) hx hb dX3_plannedFor_36 (by decide) (fun c_11 => (absurd rfl c_11)) (fun _ => ?_)
        refine lv_iconst (v := (-1)) hx hb dX3_plannedFor_39 (by decide) ?_
        refine lv_goto (tgt := 51) hx hb dX3_plannedFor_40 (by decide) ?_
        have e9 : c2 (okL y 8) (okR x 1 9999) = 0 := by first | rfl | (simp only [c1, c2, c3, if_pos ok_2, if_pos ok_6]; done) | simp [c1, c2, c3, ok_2, ok_6]
        exact gh_reti hC hg hr hlk (⟨fun h9 => by rw [pl_10b] <;> rfl, by rw [e9]; exact hT⟩) dX3_plannedFor_51 (Nat.le_of_ble_eq_true rfl) (Nat.le_of_ble_eq_true rfl)
      refine W.eq (g2 := F0 mm 33 ls [.int (nI (530 + 3 * pl_10j))]) (by rw [pl_10a] <;> rfl) ?_
      refine lv_istore_n (lv' := [(3, .int (nI (530 + 3 * pl_10j))), (0, .ref o), (1, .int x), (2, .int y)]) hx hb dX3_plannedFor_33 rfl hl (by decide) rfl (fun ls hl => ?_)
      refine lv_iload_n hx hb dX3_plannedFor_34 rfl (lv_at hl 0 rfl) ?_
      refine lv_iconst (v := (-1)) hx hb dX3_plannedFor_35 (by decide) ?_
      refine lv_icmp_ne (tgt := 43) hx hb dX3_plannedFor_36 (by decide) (fun _ => ?_) (fun c_12 => (absurd c_12 (nI_ne_m1 (by omega))))
      refine lv_aload_n hx hb dX3_plannedFor_43 rfl (lv_at hl 1 rfl) ?_
      refine gh_get (v := .ref (ad 0)) hC hg hT.1.1 fX3_7_0 rfl dX3_plannedFor_44 ?_
      refine lv_iload_n hx hb dX3_plannedFor_47 rfl (lv_at hl 0 rfl) ?_
      refine lv_iconst (v := 2) hx hb dX3_plannedFor_48 (by decide) ?_
      refine lv_iadd hx hb dX3_plannedFor_49 ?_
      refine gh_iald (n := 578) (f := (A 0)) hC hg (hT.1.2.1 0 (by decide)) (nx_add rfl (show ((2 : Int32)) = nI 2 from rfl)) (by omega) (by omega) dX3_plannedFor_50 ?_
      have e9 : c2 (okL y 8) (okR x 1 9999) = 0 := by first | rfl | (simp only [c1, c2, c3, if_pos ok_2, if_pos ok_6]; done) | simp [c1, c2, c3, ok_2, ok_6]
      exact gh_reti hC hg hr hlk (⟨fun h9 => by rw [pl_10b] <;> rfl, by rw [e9]; exact hT⟩) dX3_plannedFor_51 (Nat.le_of_ble_eq_true rfl) (Nat.le_of_ble_eq_true rfl)
    rw [if_neg ok_6] at hp
    obtain ⟨rfl, hq⟩ := hp
    rw [hq] at hg
    refine lv_if_ne (tgt := 27) hx hb dX3_plannedFor_18 (by decide) (fun c_13 => (absurd ((nx_eq (show ((0 : Int32)) = nI 0 from rfl) (show ((0 : Int32)) = nI 0 from rfl) (by omega) (by omega)).mpr (by omega)) c_13)) (fun _ => ?_)
    refine lv_aload_n hx hb dX3_plannedFor_21 rfl (lv_at hl 0 rfl) ?_
    refine lv_iconst (v := 2) hx hb dX3_plannedFor_22 (by decide) ?_
    refine gh_calli hg (gh_runV (As := [.int 2]) (rest := []) hC hg (t_throwing l V o ad (va_up I 3 0) A F _ hT.1 2) 1 (lw_V q3908 q3910 qs56 q138 q3911) hT.1.1 rfl hd_X3_throwing ⟨Nat.le_of_ble_eq_true rfl, Nat.le_of_ble_eq_true rfl⟩ rfl hl.1 rfl (Nat.le_of_ble_eq_true rfl) dX3_plannedFor_23 ⟨Nat.le_of_ble_eq_true rfl, Nat.le_of_ble_eq_true rfl⟩) (fun r_14 g H locs hg hp => ?_)
    obtain ⟨hp, hpT⟩ := hp
    replace hp : r_14 = 0 := hp
    subst hp
    have hT : tw_W V g0 g o ad (va_up (va_up I 3 0) 3 2) A F := hT.call hpT
    have e9 : c2 (okL y 8) (okR x 1 9999) = 2 := by first | rfl | (simp only [c1, c2, c3, if_pos ok_2, if_neg ok_6]; done) | simp [c1, c2, c3, ok_2, ok_6]
    exact gh_reti hC hg hr hlk (⟨fun h9 => absurd (e9.symm.trans h9) (by decide), by rw [e9]; exact hT⟩) dX3_plannedFor_26 (Nat.le_of_ble_eq_true rfl) (Nat.le_of_ble_eq_true rfl)
  rw [if_neg ok_2, if_neg ok_2] at hp
  obtain ⟨rfl, hp⟩ := hp
  have hT : tw_W V g0 g o ad (va_up I 3 1) A F := hT.call hp
  refine lv_if_ne (tgt := 10) hx hb dX3_plannedFor_5 (by decide) (fun c_15 => (absurd ((nx_eq (show ((0 : Int32)) = nI 0 from rfl) (show ((0 : Int32)) = nI 0 from rfl) (by omega) (by omega)).mpr (by omega)) c_15)) (fun _ => ?_)
  refine lv_iconst (v := 0) hx hb dX3_plannedFor_8 (by decide) ?_
  have e9 : c2 (okL y 8) (okR x 1 9999) = 1 := by first | rfl | (simp only [c1, c2, c3, if_neg ok_2]; done) | simp [c1, c2, c3, ok_2]
  exact gh_reti hC hg hr hlk (⟨fun h9 => absurd (e9.symm.trans h9) (by decide), by rw [e9]; exact hT⟩) dX3_plannedFor_9 (Nat.le_of_ble_eq_true rfl) (Nat.le_of_ble_eq_true rfl)
set_option maxHeartbeats 1000000 in
set_option maxRecDepth 100000 in
theorem t_wantedBy (l : Launch) (V : gh_V) (o : Nat) (ad : Nat → Nat) (I : Nat → Int32) (A : Nat → Nat → Int32) (F : Nat → Nat → UInt32) (g0 : gh_G) (hP : tw_P V g0 o ad I A F) (x : Int32) (D : Nat) (hD : A 0 464 = nI D) (hD10 : D ≤ 10) : MI l yX3_wantedBy cX3_wantedBy 2 (some .int) ({ frames := 1, cells := 0, slots := 0, locals := 22 } : Room) V [.ref o, .int x] g0 (fun r g1 => (c1 (okL x D) = 0 → r = od (A 0) x.toNatClampNeg 2) ∧ tw_W V g0 g1 o ad (va_up I 3 (c1 (okL x D))) A F) := by
  refine MG.of RX3 (by decide) rfl (Nat.le_of_ble_eq_true rfl) (fun pp ee s mm args below meth c ls hC hg hr hlk hnm hl => ?_)
  have hx := hC.1.1
  have hb := hC.1.2.1
  have hml := hC.1.2.2.1
  have hown := hC.1.2.2.2.1
  have hts := hC.1.2.2.2.2
  have hl : lv_has ls 2 [(0, .ref o), (1, .int x)] := hl
  have hT := hP.W
  refine lv_aload_n hx hb dX3_wantedBy_0 rfl (lv_at hl 0 rfl) ?_
  refine lv_iload_n hx hb dX3_wantedBy_1 rfl (lv_at hl 1 rfl) ?_
  refine lv_iconst (v := 0) hx hb dX3_wantedBy_2 (by decide) ?_
  refine lv_aload_n hx hb dX3_wantedBy_3 rfl (lv_at hl 0 rfl) ?_
  refine gh_get (v := .ref (ad 0)) hC hg hT.1.1 fX3_7_0 rfl dX3_wantedBy_4 ?_
  refine lv_sipush (v := 464) hx hb dX3_wantedBy_7 (by decide) ?_
  refine gh_iald (n := 578) (f := (A 0)) hC hg (hT.1.2.1 0 (by decide)) (show ((464 : Int32)) = nI 464 from rfl) (by omega) (by omega) dX3_wantedBy_10 ?_
  refine lv_iconst (v := 1) hx hb dX3_wantedBy_11 (by decide) ?_
  refine lv_isub hx hb dX3_wantedBy_12 ?_
  refine gh_calli hg (gh_runS (As := [.int x, .int 0, .int (((A 0) 464) - 1)]) (rest := [.ref o]) hC hg (t_in l V _ x 0 (((A 0) 464) - 1)) 3 (lw_S q3905 q3906 q138 q3907) hd_X3_in.2 ⟨Nat.le_of_ble_eq_true rfl, Nat.le_of_ble_eq_true rfl⟩ rfl hl.1 rfl (Nat.le_of_ble_eq_true rfl) dX3_wantedBy_13 ⟨Nat.le_of_ble_eq_true rfl, Nat.le_of_ble_eq_true rfl⟩) (fun r_1 g H locs hg hp => ?_)
  replace hp : r_1 = (if okR x 0 (((A 0) 464) - 1) then 1 else 0) ∧ g = _ := hp
  by_cases ok_2 : okR x 0 (((A 0) 464) - 1)
  · rw [if_pos ok_2] at hp
    obtain ⟨rfl, hq⟩ := hp
    rw [hq] at hg
    refine lv_if_eq (tgt := 23) hx hb dX3_wantedBy_16 (by decide) (fun c_3 => (absurd ((nx_eq (show ((1 : Int32)) = nI 1 from rfl) (show ((0 : Int32)) = nI 0 from rfl) (by omega) (by omega)).mp c_3) (by omega))) (fun _ => ?_)
    refine lv_iconst (v := 0) hx hb dX3_wantedBy_19 (by decide) ?_
    refine lv_goto (tgt := 24) hx hb dX3_wantedBy_20 (by decide) ?_
    refine gh_put (v := .int 0) hC hg hT.1.1 fX3_54_0 rfl rfl (Nat.le_of_ble_eq_true rfl) dX3_wantedBy_24 (fun g H locs hg hw hn => ?_)
    have hT : tw_W V g0 g o ad (va_up I 3 0) A F := hT.putI 3 0 hw hn
    refine lv_aload_n hx hb dX3_wantedBy_27 rfl (lv_at hl 0 rfl) ?_
    refine gh_get (v := .int 0) hC hg hT.1.1 fX3_54_0 rfl dX3_wantedBy_28 ?_
    refine lv_if_ne (tgt := 43) hx hb dX3_wantedBy_31 (by decide) (fun c_4 => (absurd ((nx_eq (show ((0 : Int32)) = nI 0 from rfl) (show ((0 : Int32)) = nI 0 from rfl) (by omega) (by omega)).mpr (by omega)) c_4)) (fun _ => ?_)
    refine lv_aload_n hx hb dX3_wantedBy_34 rfl (lv_at hl 0 rfl) ?_
    refine lv_iload_n hx hb dX3_wantedBy_35 rfl (lv_at hl 1 rfl) ?_
    refine lv_iconst (v := 2) hx hb dX3_wantedBy_36 (by decide) ?_
    obtain ⟨hxa, hxe⟩ := okL_cl (by omega) ((okL_R hD (by omega)).mp ok_2)
    refine gh_calli hg (gh_runV (As := [.int x, .int 2]) (rest := []) hC hg (t_order l V o ad (va_up I 3 0) A F _ hT.1 x 2 ((x).toNatClampNeg) 2 hxe (show ((2 : Int32)) = nI 2 from rfl) (by omega) (by omega)) 2 (lw_V q3996 q3998 qs71 q138 q3999) hT.1.1 rfl hd_X3_order ⟨Nat.le_of_ble_eq_true rfl, Nat.le_of_ble_eq_true rfl⟩ rfl hl.1 rfl (Nat.le_of_ble_eq_true rfl) dX3_wantedBy_37 ⟨Nat.le_of_ble_eq_true rfl, Nat.le_of_ble_eq_true rfl⟩) (fun r_5 g H locs hg hp => ?_)
    obtain ⟨hp, hq⟩ := hp
    replace hp : r_5 = (od (A 0) ((x).toNatClampNeg) 2) := hp
    subst hp
    rw [hq] at hg
    refine lv_goto (tgt := 44) hx hb dX3_wantedBy_40 (by decide) ?_
    have e9 : c1 (okL x D) = 0 := if_pos ((okL_R hD (by omega)).mp ok_2)
    exact gh_reti hC hg hr hlk (⟨fun h9 => rfl, by rw [e9]; exact hT⟩) dX3_wantedBy_44 (Nat.le_of_ble_eq_true rfl) (Nat.le_of_ble_eq_true rfl)
  rw [if_neg ok_2] at hp
  obtain ⟨rfl, hq⟩ := hp
  rw [hq] at hg
  refine lv_if_eq (tgt := 23) hx hb dX3_wantedBy_16 (by decide) (fun _ => ?_) (fun c_6 => (absurd ((nx_eq (show ((0 : Int32)) = nI 0 from rfl) (show ((0 : Int32)) = nI 0 from rfl) (by omega) (by omega)).mpr (by omega)) c_6))
  refine lv_iconst (v := 1) hx hb dX3_wantedBy_23 (by decide) ?_
  refine gh_put (v := .int 1) hC hg hT.1.1 fX3_54_0 rfl rfl (Nat.le_of_ble_eq_true rfl) dX3_wantedBy_24 (fun g H locs hg hw hn => ?_)
  have hT : tw_W V g0 g o ad (va_up I 3 1) A F := hT.putI 3 1 hw hn
  refine lv_aload_n hx hb dX3_wantedBy_27 rfl (lv_at hl 0 rfl) ?_
  refine gh_get (v := .int 1) hC hg hT.1.1 fX3_54_0 rfl dX3_wantedBy_28 ?_
  refine lv_if_ne (tgt := 43) hx hb dX3_wantedBy_31 (by decide) (fun _ => ?_) (fun c_7 => (absurd ((nx_eq (show ((1 : Int32)) = nI 1 from rfl) (show ((0 : Int32)) = nI 0 from rfl) (by omega) (by omega)).mp c_7) (by omega)))
  refine lv_iconst (v := 0) hx hb dX3_wantedBy_43 (by decide) ?_
  have e9 : c1 (okL x D) = 1 := if_neg (fun h9 => ok_2 ((okL_R hD (by omega)).mpr h9))
  exact gh_reti hC hg hr hlk (⟨fun h9 => absurd (e9.symm.trans h9) (by decide), by rw [e9]; exact hT⟩) dX3_wantedBy_44 (Nat.le_of_ble_eq_true rfl) (Nat.le_of_ble_eq_true rfl)
set_option maxHeartbeats 1000000 in
set_option maxRecDepth 100000 in
theorem t_minutesToGo (l : Launch) (V : gh_V) (o : Nat) (ad : Nat → Nat) (I : Nat → Int32) (A : Nat → Nat → Int32) (F : Nat → Nat → UInt32) (g0 : gh_G) (hP : tw_P V g0 o ad I A F) (x y : Int32) (L D P : Nat) (hE : tw_wf (A 0) L D P) : MI l yX3_minutesToGo cX3_minutesToGo 8 (some .int) ({ frames := 3, cells := 0, slots := 0, locals := 65 } : Room) V [.ref o, .int x, .int y] g0 (fun r g1 => (c1 (okL x L ∧ okL y (ldN (A 0) x.toNatClampNeg)) = 0 → r = (if placedN (A 0) x y = -1 then -1 else mtg (A 0) (placedN (A 0) x y).toNatClampNeg (placedN (A 0) x y).toNatClampNeg (24 - (placedN (A 0) x y).toNatClampNeg) 0)) ∧ tw_W V g0 g1 o ad (va_up I 3 (c1 (okL x L ∧ okL y (ldN (A 0) x.toNatClampNeg)))) A F) := by
  refine MG.of RX3 (by decide) rfl (Nat.le_of_ble_eq_true rfl) (fun pp ee s mm args below meth c ls hC hg hr hlk hnm hl => ?_)
  have hx := hC.1.1
  have hb := hC.1.2.1
  have hml := hC.1.2.2.1
  have hown := hC.1.2.2.2.1
  have hts := hC.1.2.2.2.2
  have hl : lv_has ls 8 [(0, .ref o), (1, .int x), (2, .int y)] := hl
  have hT := hP.W
  have hL := hE.1.1
  have hL12 := hE.1.2
  refine lv_aload_n hx hb dX3_minutesToGo_0 rfl (lv_at hl 0 rfl) ?_
  refine lv_iload_n hx hb dX3_minutesToGo_1 rfl (lv_at hl 1 rfl) ?_
  refine lv_iload_n hx hb dX3_minutesToGo_2 rfl (lv_at hl 2 rfl) ?_
  refine gh_calli hg (gh_runV (As := [.int x, .int y]) (rest := []) hC hg (t_isThere l V o ad I A F _ hT.1 x y L D P hE) 2 (lw_V q4218 q4220 qs92 q138 q4221) hT.1.1 rfl hd_X3_isThere ⟨Nat.le_of_ble_eq_true rfl, Nat.le_of_ble_eq_true rfl⟩ rfl hl.1 rfl (Nat.le_of_ble_eq_true rfl) dX3_minutesToGo_3 ⟨Nat.le_of_ble_eq_true rfl, Nat.le_of_ble_eq_true rfl⟩) (fun r_1 g H locs hg hp => ?_)
  replace hp : r_1 = (if (okL x L ∧ okL y (ldN (A 0) x.toNatClampNeg)) then 1 else 0) ∧ tw_W V _ g o ad (va_up I 3 (if (okL x L ∧ okL y (ldN (A 0) x.toNatClampNeg)) then 0 else 1)) A F := hp
  by_cases ok_2 : (okL x L ∧ okL y (ldN (A 0) x.toNatClampNeg))
  · rw [if_pos ok_2, if_pos ok_2] at hp
    obtain ⟨rfl, hp⟩ := hp
    have hT : tw_W V g0 g o ad (va_up I 3 0) A F := hT.call hp
    obtain ⟨h_3a, h_3⟩ := okL_cl (by omega) ok_2.1
    obtain ⟨K_5, h_4c, h_4k⟩ := hE.2.2.2.2.1 (x).toNatClampNeg (by omega)
    have h_4e : ldN (A 0) (x).toNatClampNeg = K_5 := cl_of h_4k (by omega)
    obtain ⟨h_4a, h_4⟩ := okL_cl (by omega) ok_2.2
    rw [h_4e] at h_4a
    refine lv_if_ne (tgt := 11) hx hb dX3_minutesToGo_6 (by decide) (fun _ => ?_) (fun c_6 => (absurd ((nx_eq (show ((1 : Int32)) = nI 1 from rfl) (show ((0 : Int32)) = nI 0 from rfl) (by omega) (by omega)).mp c_6) (by omega)))
    refine lv_aload_n hx hb dX3_minutesToGo_11 rfl (lv_at hl 0 rfl) ?_
    refine lv_iload_n hx hb dX3_minutesToGo_12 rfl (lv_at hl 1 rfl) ?_
    refine lv_iload_n hx hb dX3_minutesToGo_13 rfl (lv_at hl 2 rfl) ?_
    refine gh_calli hg (gh_runV (As := [.int x, .int y]) (rest := []) hC hg (t_placed l V o ad (va_up I 3 0) A F _ hT.1 x y) 2 (lw_V q4226 q4228 qs93 q138 q4229) hT.1.1 rfl hd_X3_placed ⟨Nat.le_of_ble_eq_true rfl, Nat.le_of_ble_eq_true rfl⟩ rfl hl.1 rfl (Nat.le_of_ble_eq_true rfl) dX3_minutesToGo_14 ⟨Nat.le_of_ble_eq_true rfl, Nat.le_of_ble_eq_true rfl⟩) (fun r_7 g H locs hg hp => ?_)
    obtain ⟨hp, hpT⟩ := hp
    replace hp : r_7 = (placedN (A 0) x y) := hp
    subst hp
    have hT : tw_W V g0 g o ad (va_up I 3 0) A F := hT.call hpT
    rcases placed_cases (A 0) x y with pl_8a | ⟨pl_8j, pl_8h, pl_8a⟩
    · skip
      refine W.eq (g2 := F0 mm 17 ls [.int (-1)]) (by rw [pl_8a] <;> rfl) ?_
      refine lv_istore_n (lv' := [(3, .int (-1)), (0, .ref o), (1, .int x), (2, .int y)]) hx hb dX3_minutesToGo_17 rfl hl (by decide) rfl (fun ls hl => ?_)
      refine lv_iload_n hx hb dX3_minutesToGo_18 rfl (lv_at hl 0 rfl) ?_
      refine lv_iconst (v := (-1)) hx hb dX3_minutesToGo_19 (by decide) ?_
      refine lv_icmp_ne (tgt := 25) hx hb dX3_minutesToGo_20 (by decide) (fun c_9 => (absurd rfl c_9)) (fun _ => ?_)
      refine lv_iconst (v := (-1)) hx hb dX3_minutesToGo_23 (by decide) ?_
      have e9 : c1 (okL x L ∧ okL y (ldN (A 0) x.toNatClampNeg)) = 0 := by first | rfl | (simp only [c1, c2, c3, if_pos ok_2]; done) | simp [c1, c2, c3, ok_2]
      exact gh_reti hC hg hr hlk (⟨fun h9 => by rw [pl_8a, if_pos rfl], by rw [e9]; exact hT⟩) dX3_minutesToGo_24 (Nat.le_of_ble_eq_true rfl) (Nat.le_of_ble_eq_true rfl)
    refine W.eq (g2 := F0 mm 17 ls [.int (nI pl_8j)]) (by rw [pl_8a] <;> rfl) ?_
    refine lv_istore_n (lv' := [(3, .int (nI pl_8j)), (0, .ref o), (1, .int x), (2, .int y)]) hx hb dX3_minutesToGo_17 rfl hl (by decide) rfl (fun ls hl => ?_)
    refine lv_iload_n hx hb dX3_minutesToGo_18 rfl (lv_at hl 0 rfl) ?_
    refine lv_iconst (v := (-1)) hx hb dX3_minutesToGo_19 (by decide) ?_
    refine lv_icmp_ne (tgt := 25) hx hb dX3_minutesToGo_20 (by decide) (fun _ => ?_) (fun c_10 => (absurd c_10 (nI_ne_m1 (by omega))))
    refine lv_iconst (v := 0) hx hb dX3_minutesToGo_25 (by decide) ?_
    refine lv_istore (lv' := [(4, .int 0), (3, .int (nI pl_8j)), (0, .ref o), (1, .int x), (2, .int y)]) hx hb dX3_minutesToGo_26 hl (by decide) rfl (fun ls hl => ?_)
    refine lv_iload_n hx hb dX3_minutesToGo_28 rfl (lv_at hl 1 rfl) ?_
    refine lv_istore (lv' := [(5, .int (nI pl_8j)), (4, .int 0), (3, .int (nI pl_8j)), (0, .ref o), (1, .int x), (2, .int y)]) hx hb dX3_minutesToGo_29 hl (by decide) rfl (fun ls hl => ?_)
    refine gh_loop (N := 24) (X := fun i_11 g ls => ∃ (acc : Int32), tw_W V g0 g o ad (va_up I 3 0) A F ∧ mtg (A 0) pl_8j pl_8j (24 - pl_8j) 0 = mtg (A 0) pl_8j i_11 (24 - i_11) acc ∧ lv_has ls 8 [(0, .ref o), (1, .int x), (2, .int y), (3, .int (nI pl_8j)), (4, .int acc), (5, .int (nI i_11))]) ?_ ?_ pl_8j (by omega) hg ⟨0, hT, rfl, lv_sub hl [3, 4, 5, 2, 1, 0] rfl⟩
    · intro g H locs ls hg hX
      obtain ⟨acc, hT, hE9, hl⟩ := hX
      refine lv_iload hx hb dX3_minutesToGo_31 (lv_at hl 5 rfl) ?_
      refine lv_bipush (v := 24) hx hb dX3_minutesToGo_33 (by decide) ?_
      refine lv_icmp_ge (tgt := 102) hx hb dX3_minutesToGo_35 (by decide) (fun _ => ?_) (fun c_12 => (absurd ((nx_le (show ((24 : Int32)) = nI 24 from rfl) rfl (by omega) (by omega)).mpr (by omega)) c_12))
      refine lv_iload hx hb dX3_minutesToGo_102 (lv_at hl 4 rfl) ?_
      have e9 : c1 (okL x L ∧ okL y (ldN (A 0) x.toNatClampNeg)) = 0 := by first | rfl | (simp only [c1, if_pos ok_2]; done) | simp [c1, ok_2]
      exact gh_reti hC hg hr hlk (⟨fun _ => by rw [pl_8a, if_neg (nI_ne_m1 (by omega)), nI_clamp (by omega), hE9, mtg_e], by rw [e9]; exact hT⟩) dX3_minutesToGo_104 (Nat.le_of_ble_eq_true rfl) (Nat.le_of_ble_eq_true rfl)
    · intro i_11 h_13 ih31 g H locs ls hg hX
      obtain ⟨acc, hT, hE9, hl⟩ := hX
      refine lv_iload hx hb dX3_minutesToGo_31 (lv_at hl 5 rfl) ?_
      refine lv_bipush (v := 24) hx hb dX3_minutesToGo_33 (by decide) ?_
      refine lv_icmp_ge (tgt := 102) hx hb dX3_minutesToGo_35 (by decide) (fun c_14 => (absurd ((nx_le (show ((24 : Int32)) = nI 24 from rfl) rfl (by omega) (by omega)).mp c_14) (by omega))) (fun _ => ?_)
      refine lv_aload_n hx hb dX3_minutesToGo_38 rfl (lv_at hl 0 rfl) ?_
      refine lv_iload hx hb dX3_minutesToGo_39 (lv_at hl 5 rfl) ?_
      refine lv_iconst (v := 3) hx hb dX3_minutesToGo_41 (by decide) ?_
      refine lv_idiv hx hb dX3_minutesToGo_42 (by decide) ?_
      refine lv_iconst (v := 2) hx hb dX3_minutesToGo_43 (by decide) ?_
      refine gh_calli hg (gh_runV (As := [.int ((nI i_11) / 3), .int 2]) (rest := []) hC hg (t_zone l V o ad (va_up I 3 0) A F _ hT.1 ((nI i_11) / 3) 2 (i_11 / 3) 2 (nx_div rfl (show ((3 : Int32)) = nI 3 from rfl) (by omega) (by omega) (by omega)) (show ((2 : Int32)) = nI 2 from rfl) (by omega) (by omega)) 2 (lw_V q3920 q3922 qs59 q138 q3923) hT.1.1 rfl hd_X3_zone ⟨Nat.le_of_ble_eq_true rfl, Nat.le_of_ble_eq_true rfl⟩ rfl hl.1 rfl (Nat.le_of_ble_eq_true rfl) dX3_minutesToGo_44 ⟨Nat.le_of_ble_eq_true rfl, Nat.le_of_ble_eq_true rfl⟩) (fun r_15 g H locs hg hp => ?_)
      obtain ⟨hp, hq⟩ := hp
      replace hp : r_15 = (zn (A 0) (i_11 / 3) 2) := hp
      subst hp
      rw [hq] at hg
      refine lv_istore (lv' := [(6, .int (zn (A 0) (i_11 / 3) 2)), (0, .ref o), (1, .int x), (2, .int y), (3, .int (nI pl_8j)), (4, .int acc), (5, .int (nI i_11))]) hx hb dX3_minutesToGo_47 hl (by decide) rfl (fun ls hl => ?_)
      refine lv_iload hx hb dX3_minutesToGo_49 (lv_at hl 6 rfl) ?_
      refine lv_iload_n hx hb dX3_minutesToGo_51 rfl (lv_at hl 4 rfl) ?_
      refine lv_icmp_ne (tgt := 68) hx hb dX3_minutesToGo_52 (by decide) (fun c_16 => ?_) (fun c_16 => ?_)
      · skip
        have c_16 : ¬ i_11 = pl_8j := fun h9 => c_16 ((nx_eq rfl rfl (by omega) (by omega)).mpr h9)
        refine lv_iload hx hb dX3_minutesToGo_68 (lv_at hl 0 rfl) ?_
        refine lv_istore (lv' := [(7, .int (zn (A 0) (i_11 / 3) 2)), (6, .int (zn (A 0) (i_11 / 3) 2)), (0, .ref o), (1, .int x), (2, .int y), (3, .int (nI pl_8j)), (4, .int acc), (5, .int (nI i_11))]) hx hb dX3_minutesToGo_70 hl (by decide) rfl (fun ls hl => ?_)
        refine lv_iload hx hb dX3_minutesToGo_72 (lv_at hl 1 rfl) ?_
        refine lv_if_ne (tgt := 79) hx hb dX3_minutesToGo_74 (by decide) (fun c_17 => ?_) (fun c_17 => ?_)
        · skip
          refine lv_iload hx hb dX3_minutesToGo_79 (lv_at hl 6 rfl) ?_
          refine lv_iload hx hb dX3_minutesToGo_81 (lv_at hl 0 rfl) ?_
          refine lv_iconst (v := 1) hx hb dX3_minutesToGo_83 (by decide) ?_
          refine lv_icmp_ge (tgt := 91) hx hb dX3_minutesToGo_84 (by decide) (fun c_18 => ?_) (fun c_18 => ?_)
          · skip
            refine lv_iload hx hb dX3_minutesToGo_91 (lv_at hl 0 rfl) ?_
            refine lv_iadd hx hb dX3_minutesToGo_93 ?_
            refine lv_istore (lv' := [(4, .int (acc + (zn (A 0) (i_11 / 3) 2))), (7, .int (zn (A 0) (i_11 / 3) 2)), (6, .int (zn (A 0) (i_11 / 3) 2)), (0, .ref o), (1, .int x), (2, .int y), (3, .int (nI pl_8j)), (5, .int (nI i_11))]) hx hb dX3_minutesToGo_94 hl (by decide) rfl (fun ls hl => ?_)
            refine lv_iinc (v := (nI (i_11 + 1))) (lv' := [(5, .int (nI (i_11 + 1))), (4, .int (acc + (zn (A 0) (i_11 / 3) 2))), (7, .int (zn (A 0) (i_11 / 3) 2)), (6, .int (zn (A 0) (i_11 / 3) 2)), (0, .ref o), (1, .int x), (2, .int y), (3, .int (nI pl_8j))]) hx hb dX3_minutesToGo_96 hl (k := 7) rfl (nx_iinc rfl) (by decide) rfl (fun ls hl => ?_)
            refine lv_goto (tgt := 31) hx hb dX3_minutesToGo_99 (by decide) ?_
            exact ih31 _ _ _ _ hg ⟨_, hT, (by rw [hE9, mtg_s h_13 c_17]; simp only [if_neg c_16, if_neg c_17, if_pos c_18]), lv_sub hl [4, 5, 6, 7, 1, 0] rfl⟩
          refine lv_iconst (v := 1) hx hb dX3_minutesToGo_87 (by decide) ?_
          refine lv_goto (tgt := 93) hx hb dX3_minutesToGo_88 (by decide) ?_
          refine lv_iadd hx hb dX3_minutesToGo_93 ?_
          refine lv_istore (lv' := [(4, .int (acc + 1)), (7, .int (zn (A 0) (i_11 / 3) 2)), (6, .int (zn (A 0) (i_11 / 3) 2)), (0, .ref o), (1, .int x), (2, .int y), (3, .int (nI pl_8j)), (5, .int (nI i_11))]) hx hb dX3_minutesToGo_94 hl (by decide) rfl (fun ls hl => ?_)
          refine lv_iinc (v := (nI (i_11 + 1))) (lv' := [(5, .int (nI (i_11 + 1))), (4, .int (acc + 1)), (7, .int (zn (A 0) (i_11 / 3) 2)), (6, .int (zn (A 0) (i_11 / 3) 2)), (0, .ref o), (1, .int x), (2, .int y), (3, .int (nI pl_8j))]) hx hb dX3_minutesToGo_96 hl (k := 7) rfl (nx_iinc rfl) (by decide) rfl (fun ls hl => ?_)
          refine lv_goto (tgt := 31) hx hb dX3_minutesToGo_99 (by decide) ?_
          exact ih31 _ _ _ _ hg ⟨_, hT, (by rw [hE9, mtg_s h_13 c_17]; simp only [if_neg c_16, if_neg c_17, if_neg c_18]), lv_sub hl [4, 5, 6, 7, 1, 0] rfl⟩
        refine lv_iconst (v := (-1)) hx hb dX3_minutesToGo_77 (by decide) ?_
        have e9 : c1 (okL x L ∧ okL y (ldN (A 0) x.toNatClampNeg)) = 0 := by first | rfl | (simp only [c1, if_pos ok_2]; done) | simp [c1, c_16, c_17]
        exact gh_reti hC hg hr hlk (⟨fun _ => by rw [pl_8a, if_neg (nI_ne_m1 (by omega)), nI_clamp (by omega), hE9, mtg_0 h_13 c_17], by rw [e9]; exact hT⟩) dX3_minutesToGo_78 (Nat.le_of_ble_eq_true rfl) (Nat.le_of_ble_eq_true rfl)
      have c_16 : i_11 = pl_8j := (nx_eq rfl rfl (by omega) (by omega)).mp c_16
      refine lv_iload hx hb dX3_minutesToGo_55 (lv_at hl 0 rfl) ?_
      refine lv_aload_n hx hb dX3_minutesToGo_57 rfl (lv_at hl 1 rfl) ?_
      refine lv_iload hx hb dX3_minutesToGo_58 (lv_at hl 6 rfl) ?_
      refine lv_iconst (v := 3) hx hb dX3_minutesToGo_60 (by decide) ?_
      refine gh_calli hg (gh_runV (As := [.int (nI i_11), .int 3]) (rest := [.int (zn (A 0) (i_11 / 3) 2)]) hC hg (t_at l V o ad (va_up I 3 0) A F _ hT.1 (nI i_11) 3 i_11 3 rfl (show ((3 : Int32)) = nI 3 from rfl) (by omega) (by omega)) 2 (lw_V q3964 q3966 qs65 q138 q3967) hT.1.1 rfl hd_X3_at ⟨Nat.le_of_ble_eq_true rfl, Nat.le_of_ble_eq_true rfl⟩ rfl hl.1 rfl (Nat.le_of_ble_eq_true rfl) dX3_minutesToGo_61 ⟨Nat.le_of_ble_eq_true rfl, Nat.le_of_ble_eq_true rfl⟩) (fun r_19 g H locs hg hp => ?_)
      obtain ⟨hp, hq⟩ := hp
      replace hp : r_19 = (pl (A 0) i_11 3) := hp
      subst hp
      rw [hq] at hg
      refine lv_isub hx hb dX3_minutesToGo_64 ?_
      refine lv_goto (tgt := 70) hx hb dX3_minutesToGo_65 (by decide) ?_
      refine lv_istore (lv' := [(7, .int ((zn (A 0) (i_11 / 3) 2) - (pl (A 0) i_11 3))), (6, .int (zn (A 0) (i_11 / 3) 2)), (0, .ref o), (1, .int x), (2, .int y), (3, .int (nI pl_8j)), (4, .int acc), (5, .int (nI i_11))]) hx hb dX3_minutesToGo_70 hl (by decide) rfl (fun ls hl => ?_)
      refine lv_iload hx hb dX3_minutesToGo_72 (lv_at hl 1 rfl) ?_
      refine lv_if_ne (tgt := 79) hx hb dX3_minutesToGo_74 (by decide) (fun c_20 => ?_) (fun c_20 => ?_)
      · skip
        refine lv_iload hx hb dX3_minutesToGo_79 (lv_at hl 6 rfl) ?_
        refine lv_iload hx hb dX3_minutesToGo_81 (lv_at hl 0 rfl) ?_
        refine lv_iconst (v := 1) hx hb dX3_minutesToGo_83 (by decide) ?_
        refine lv_icmp_ge (tgt := 91) hx hb dX3_minutesToGo_84 (by decide) (fun c_21 => ?_) (fun c_21 => ?_)
        · skip
          refine lv_iload hx hb dX3_minutesToGo_91 (lv_at hl 0 rfl) ?_
          refine lv_iadd hx hb dX3_minutesToGo_93 ?_
          refine lv_istore (lv' := [(4, .int (acc + ((zn (A 0) (i_11 / 3) 2) - (pl (A 0) i_11 3)))), (7, .int ((zn (A 0) (i_11 / 3) 2) - (pl (A 0) i_11 3))), (6, .int (zn (A 0) (i_11 / 3) 2)), (0, .ref o), (1, .int x), (2, .int y), (3, .int (nI pl_8j)), (5, .int (nI i_11))]) hx hb dX3_minutesToGo_94 hl (by decide) rfl (fun ls hl => ?_)
          refine lv_iinc (v := (nI (i_11 + 1))) (lv' := [(5, .int (nI (i_11 + 1))), (4, .int (acc + ((zn (A 0) (i_11 / 3) 2) - (pl (A 0) i_11 3)))), (7, .int ((zn (A 0) (i_11 / 3) 2) - (pl (A 0) i_11 3))), (6, .int (zn (A 0) (i_11 / 3) 2)), (0, .ref o), (1, .int x), (2, .int y), (3, .int (nI pl_8j))]) hx hb dX3_minutesToGo_96 hl (k := 7) rfl (nx_iinc rfl) (by decide) rfl (fun ls hl => ?_)
          refine lv_goto (tgt := 31) hx hb dX3_minutesToGo_99 (by decide) ?_
          exact ih31 _ _ _ _ hg ⟨_, hT, (by rw [hE9, mtg_s h_13 c_20]; simp only [if_pos c_16, if_neg c_20, if_pos c_21]), lv_sub hl [4, 5, 6, 7, 1, 0] rfl⟩
        refine lv_iconst (v := 1) hx hb dX3_minutesToGo_87 (by decide) ?_
        refine lv_goto (tgt := 93) hx hb dX3_minutesToGo_88 (by decide) ?_
        refine lv_iadd hx hb dX3_minutesToGo_93 ?_
        refine lv_istore (lv' := [(4, .int (acc + 1)), (7, .int ((zn (A 0) (i_11 / 3) 2) - (pl (A 0) i_11 3))), (6, .int (zn (A 0) (i_11 / 3) 2)), (0, .ref o), (1, .int x), (2, .int y), (3, .int (nI pl_8j)), (5, .int (nI i_11))]) hx hb dX3_minutesToGo_94 hl (by decide) rfl (fun ls hl => ?_)
        refine lv_iinc (v := (nI (i_11 + 1))) (lv' := [(5, .int (nI (i_11 + 1))), (4, .int (acc + 1)), (7, .int ((zn (A 0) (i_11 / 3) 2) - (pl (A 0) i_11 3))), (6, .int (zn (A 0) (i_11 / 3) 2)), (0, .ref o), (1, .int x), (2, .int y), (3, .int (nI pl_8j))]) hx hb dX3_minutesToGo_96 hl (k := 7) rfl (nx_iinc rfl) (by decide) rfl (fun ls hl => ?_)
        refine lv_goto (tgt := 31) hx hb dX3_minutesToGo_99 (by decide) ?_
        exact ih31 _ _ _ _ hg ⟨_, hT, (by rw [hE9, mtg_s h_13 c_20]; simp only [if_pos c_16, if_neg c_20, if_neg c_21]), lv_sub hl [4, 5, 6, 7, 1, 0] rfl⟩
      refine lv_iconst (v := (-1)) hx hb dX3_minutesToGo_77 (by decide) ?_
      have e9 : c1 (okL x L ∧ okL y (ldN (A 0) x.toNatClampNeg)) = 0 := by first | rfl | (simp only [c1, if_pos ok_2]; done) | simp [c1, c_16, c_20]
      exact gh_reti hC hg hr hlk (⟨fun _ => by rw [pl_8a, if_neg (nI_ne_m1 (by omega)), nI_clamp (by omega), hE9, mtg_0 h_13 c_20], by rw [e9]; exact hT⟩) dX3_minutesToGo_78 (Nat.le_of_ble_eq_true rfl) (Nat.le_of_ble_eq_true rfl)
  rw [if_neg ok_2, if_neg ok_2] at hp
  obtain ⟨rfl, hp⟩ := hp
  have hT : tw_W V g0 g o ad (va_up I 3 1) A F := hT.call hp
  refine lv_if_ne (tgt := 11) hx hb dX3_minutesToGo_6 (by decide) (fun c_22 => (absurd ((nx_eq (show ((0 : Int32)) = nI 0 from rfl) (show ((0 : Int32)) = nI 0 from rfl) (by omega) (by omega)).mpr (by omega)) c_22)) (fun _ => ?_)
  refine lv_iconst (v := 0) hx hb dX3_minutesToGo_9 (by decide) ?_
  have e9 : c1 (okL x L ∧ okL y (ldN (A 0) x.toNatClampNeg)) = 1 := by first | rfl | (simp only [c1, c2, c3, if_neg ok_2]; done) | simp [c1, c2, c3, ok_2]
  exact gh_reti hC hg hr hlk (⟨fun h9 => absurd (e9.symm.trans h9) (by decide), by rw [e9]; exact hT⟩) dX3_minutesToGo_10 (Nat.le_of_ble_eq_true rfl) (Nat.le_of_ble_eq_true rfl)
set_option maxHeartbeats 1000000 in
set_option maxRecDepth 100000 in
theorem t_piecesOfKind (l : Launch) (V : gh_V) (o : Nat) (ad : Nat → Nat) (I : Nat → Int32) (A : Nat → Nat → Int32) (F : Nat → Nat → UInt32) (g0 : gh_G) (hP : tw_P V g0 o ad I A F) (x y : Int32) (L D P : Nat) (hE : tw_wf (A 0) L D P) : MI l yX3_piecesOfKind cX3_piecesOfKind 5 (some .int) ({ frames := 2, cells := 0, slots := 0, locals := 46 } : Room) V [.ref o, .int x, .int y] g0 (fun r g1 => (c1 (okR x 0 2 ∧ okR y 0 4) = 0 → r = sm (kindF (A 0) x y) L) ∧ tw_W V g0 g1 o ad (va_up I 3 (c1 (okR x 0 2 ∧ okR y 0 4))) A F) := by
  refine MG.of RX3 (by decide) rfl (Nat.le_of_ble_eq_true rfl) (fun pp ee s mm args below meth c ls hC hg hr hlk hnm hl => ?_)
  have hx := hC.1.1
  have hb := hC.1.2.1
  have hml := hC.1.2.2.1
  have hown := hC.1.2.2.2.1
  have hts := hC.1.2.2.2.2
  have hl : lv_has ls 5 [(0, .ref o), (1, .int x), (2, .int y)] := hl
  have hT := hP.W
  have hL := hE.1.1
  have hL12 := hE.1.2
  refine lv_aload_n hx hb dX3_piecesOfKind_0 rfl (lv_at hl 0 rfl) ?_
  refine lv_iload_n hx hb dX3_piecesOfKind_1 rfl (lv_at hl 1 rfl) ?_
  refine lv_iconst (v := 0) hx hb dX3_piecesOfKind_2 (by decide) ?_
  refine lv_iconst (v := 2) hx hb dX3_piecesOfKind_3 (by decide) ?_
  refine gh_calli hg (gh_runS (As := [.int x, .int 0, .int 2]) (rest := [.ref o]) hC hg (t_in l V _ x 0 2) 3 (lw_S q3905 q3906 q138 q3907) hd_X3_in.2 ⟨Nat.le_of_ble_eq_true rfl, Nat.le_of_ble_eq_true rfl⟩ rfl hl.1 rfl (Nat.le_of_ble_eq_true rfl) dX3_piecesOfKind_4 ⟨Nat.le_of_ble_eq_true rfl, Nat.le_of_ble_eq_true rfl⟩) (fun r_1 g H locs hg hp => ?_)
  replace hp : r_1 = (if okR x 0 2 then 1 else 0) ∧ g = _ := hp
  by_cases ok_2 : okR x 0 2
  · rw [if_pos ok_2] at hp
    obtain ⟨rfl, hq⟩ := hp
    rw [hq] at hg
    obtain ⟨h_3a, h_3b, h_3⟩ := okR_cl (show ((0 : Int32)) = nI 0 from rfl) (show ((2 : Int32)) = nI 2 from rfl) (by omega) (by omega) ok_2
    refine lv_if_eq (tgt := 23) hx hb dX3_piecesOfKind_7 (by decide) (fun c_4 => (absurd ((nx_eq (show ((1 : Int32)) = nI 1 from rfl) (show ((0 : Int32)) = nI 0 from rfl) (by omega) (by omega)).mp c_4) (by omega))) (fun _ => ?_)
    refine lv_iload_n hx hb dX3_piecesOfKind_10 rfl (lv_at hl 2 rfl) ?_
    refine lv_iconst (v := 0) hx hb dX3_piecesOfKind_11 (by decide) ?_
    refine lv_iconst (v := 4) hx hb dX3_piecesOfKind_12 (by decide) ?_
    refine gh_calli hg (gh_runS (As := [.int y, .int 0, .int 4]) (rest := [.ref o]) hC hg (t_in l V _ y 0 4) 3 (lw_S q3905 q3906 q138 q3907) hd_X3_in.2 ⟨Nat.le_of_ble_eq_true rfl, Nat.le_of_ble_eq_true rfl⟩ rfl hl.1 rfl (Nat.le_of_ble_eq_true rfl) dX3_piecesOfKind_13 ⟨Nat.le_of_ble_eq_true rfl, Nat.le_of_ble_eq_true rfl⟩) (fun r_5 g H locs hg hp => ?_)
    replace hp : r_5 = (if okR y 0 4 then 1 else 0) ∧ g = _ := hp
    by_cases ok_6 : okR y 0 4
    · rw [if_pos ok_6] at hp
      obtain ⟨rfl, hq⟩ := hp
      rw [hq] at hg
      obtain ⟨h_7a, h_7b, h_7⟩ := okR_cl (show ((0 : Int32)) = nI 0 from rfl) (show ((4 : Int32)) = nI 4 from rfl) (by omega) (by omega) ok_6
      refine lv_if_eq (tgt := 23) hx hb dX3_piecesOfKind_16 (by decide) (fun c_8 => (absurd ((nx_eq (show ((1 : Int32)) = nI 1 from rfl) (show ((0 : Int32)) = nI 0 from rfl) (by omega) (by omega)).mp c_8) (by omega))) (fun _ => ?_)
      refine lv_iconst (v := 0) hx hb dX3_piecesOfKind_19 (by decide) ?_
      refine lv_goto (tgt := 24) hx hb dX3_piecesOfKind_20 (by decide) ?_
      refine gh_put (v := .int 0) hC hg hT.1.1 fX3_54_0 rfl rfl (Nat.le_of_ble_eq_true rfl) dX3_piecesOfKind_24 (fun g H locs hg hw hn => ?_)
      have hT : tw_W V g0 g o ad (va_up I 3 0) A F := hT.putI 3 0 hw hn
      refine lv_iconst (v := 0) hx hb dX3_piecesOfKind_27 (by decide) ?_
      refine lv_istore_n (lv' := [(3, .int 0), (0, .ref o), (1, .int x), (2, .int y)]) hx hb dX3_piecesOfKind_28 rfl hl (by decide) rfl (fun ls hl => ?_)
      refine lv_iconst (v := 0) hx hb dX3_piecesOfKind_29 (by decide) ?_
      refine lv_istore (lv' := [(4, .int 0), (3, .int 0), (0, .ref o), (1, .int x), (2, .int y)]) hx hb dX3_piecesOfKind_30 hl (by decide) rfl (fun ls hl => ?_)
      refine gh_loop (N := L) (X := fun i_9 g ls => tw_W V g0 g o ad (va_up I 3 0) A F ∧ lv_has ls 5 [(0, .ref o), (1, .int x), (2, .int y), (3, .int (sm (kindF (A 0) x y) i_9)), (4, .int (nI i_9))]) ?_ ?_ 0 (by omega) hg ⟨hT, lv_sub hl [2, 3, 4, 1, 0] rfl⟩
      · intro g H locs ls hg hX
        obtain ⟨hT, hl⟩ := hX
        refine lv_iload hx hb dX3_piecesOfKind_32 (lv_at hl 4 rfl) ?_
        refine lv_aload_n hx hb dX3_piecesOfKind_34 rfl (lv_at hl 0 rfl) ?_
        refine gh_get (v := .ref (ad 0)) hC hg hT.1.1 fX3_7_0 rfl dX3_piecesOfKind_35 ?_
        refine lv_sipush (v := 163) hx hb dX3_piecesOfKind_38 (by decide) ?_
        refine gh_iald (n := 578) (f := (A 0)) hC hg (hT.1.2.1 0 (by decide)) (show ((163 : Int32)) = nI 163 from rfl) (by omega) (by omega) dX3_piecesOfKind_41 ?_
        refine lv_icmp_ge (tgt := 83) hx hb dX3_piecesOfKind_42 (by decide) (fun _ => ?_) (fun c_10 => (absurd ((nx_le hL rfl (by omega) (by omega)).mpr (by omega)) c_10))
        refine lv_iload_n hx hb dX3_piecesOfKind_83 rfl (lv_at hl 3 rfl) ?_
        have e9 : c1 (okR x 0 2 ∧ okR y 0 4) = 0 := by first | rfl | (simp only [c1, if_pos ok_2, if_pos ok_6]; done) | simp [c1, ok_2, ok_6]
        exact gh_reti hC hg hr hlk (⟨fun h9 => rfl, by rw [e9]; exact hT⟩) dX3_piecesOfKind_84 (Nat.le_of_ble_eq_true rfl) (Nat.le_of_ble_eq_true rfl)
      · intro i_9 h_11 ih32 g H locs ls hg hX
        obtain ⟨hT, hl⟩ := hX
        refine lv_iload hx hb dX3_piecesOfKind_32 (lv_at hl 4 rfl) ?_
        refine lv_aload_n hx hb dX3_piecesOfKind_34 rfl (lv_at hl 0 rfl) ?_
        refine gh_get (v := .ref (ad 0)) hC hg hT.1.1 fX3_7_0 rfl dX3_piecesOfKind_35 ?_
        refine lv_sipush (v := 163) hx hb dX3_piecesOfKind_38 (by decide) ?_
        refine gh_iald (n := 578) (f := (A 0)) hC hg (hT.1.2.1 0 (by decide)) (show ((163 : Int32)) = nI 163 from rfl) (by omega) (by omega) dX3_piecesOfKind_41 ?_
        refine lv_icmp_ge (tgt := 83) hx hb dX3_piecesOfKind_42 (by decide) (fun c_12 => (absurd ((nx_le hL rfl (by omega) (by omega)).mp c_12) (by omega))) (fun _ => ?_)
        refine lv_aload_n hx hb dX3_piecesOfKind_45 rfl (lv_at hl 0 rfl) ?_
        refine gh_get (v := .int 0) hC hg hT.1.1 fX3_54_0 rfl dX3_piecesOfKind_46 ?_
        refine lv_if_ne (tgt := 83) hx hb dX3_piecesOfKind_49 (by decide) (fun c_13 => (absurd ((nx_eq (show ((0 : Int32)) = nI 0 from rfl) (show ((0 : Int32)) = nI 0 from rfl) (by omega) (by omega)).mpr (by omega)) c_13)) (fun _ => ?_)
        refine lv_iload_n hx hb dX3_piecesOfKind_52 rfl (lv_at hl 3 rfl) ?_
        refine lv_aload_n hx hb dX3_piecesOfKind_53 rfl (lv_at hl 0 rfl) ?_
        refine lv_iload hx hb dX3_piecesOfKind_54 (lv_at hl 4 rfl) ?_
        refine lv_iconst (v := 0) hx hb dX3_piecesOfKind_56 (by decide) ?_
        refine gh_calli hg (gh_runV (As := [.int (nI i_9), .int 0]) (rest := [.int (sm (kindF (A 0) x y) i_9)]) hC hg (t_lot l V o ad (va_up I 3 0) A F _ hT.1 (nI i_9) 0 i_9 0 rfl (show ((0 : Int32)) = nI 0 from rfl) (by omega) (by omega)) 2 (lw_V q3956 q3958 qs63 q138 q3959) hT.1.1 rfl hd_X3_lot ⟨Nat.le_of_ble_eq_true rfl, Nat.le_of_ble_eq_true rfl⟩ rfl hl.1 rfl (Nat.le_of_ble_eq_true rfl) dX3_piecesOfKind_57 ⟨Nat.le_of_ble_eq_true rfl, Nat.le_of_ble_eq_true rfl⟩) (fun r_14 g H locs hg hp => ?_)
        obtain ⟨hp, hq⟩ := hp
        replace hp : r_14 = (lt (A 0) i_9 0) := hp
        subst hp
        rw [hq] at hg
        refine lv_iload_n hx hb dX3_piecesOfKind_60 rfl (lv_at hl 1 rfl) ?_
        refine lv_icmp_ne (tgt := 74) hx hb dX3_piecesOfKind_61 (by decide) (fun c_15 => ?_) (fun c_15 => ?_)
        · skip
          refine lv_iconst (v := 0) hx hb dX3_piecesOfKind_74 (by decide) ?_
          refine lv_iadd hx hb dX3_piecesOfKind_75 ?_
          refine lv_istore_n (lv' := [(3, .int ((sm (kindF (A 0) x y) i_9) + 0)), (0, .ref o), (1, .int x), (2, .int y), (4, .int (nI i_9))]) hx hb dX3_piecesOfKind_76 rfl hl (by decide) rfl (fun ls hl => ?_)
          refine lv_iinc (v := (nI (i_9 + 1))) (lv' := [(4, .int (nI (i_9 + 1))), (3, .int ((sm (kindF (A 0) x y) i_9) + 0)), (0, .ref o), (1, .int x), (2, .int y)]) hx hb dX3_piecesOfKind_77 hl (k := 4) rfl (nx_iinc rfl) (by decide) rfl (fun ls hl => ?_)
          refine lv_goto (tgt := 32) hx hb dX3_piecesOfKind_80 (by decide) ?_
          exact ih32 _ _ _ _ hg ⟨hT, (by rw [show sm (kindF (A 0) x y) (i_9 + 1) = ((sm (kindF (A 0) x y) i_9) + 0) from by simp [sm, kindF, c_15]]; exact lv_sub hl [2, 3, 4, 1, 0] rfl)⟩
        refine lv_aload_n hx hb dX3_piecesOfKind_64 rfl (lv_at hl 0 rfl) ?_
        refine lv_iload hx hb dX3_piecesOfKind_65 (lv_at hl 4 rfl) ?_
        refine lv_iload_n hx hb dX3_piecesOfKind_67 rfl (lv_at hl 2 rfl) ?_
        obtain ⟨K_16, hK_17b, hK_17⟩ := hE.2.2.2.2.1 i_9 (by omega)
        refine gh_calli hg (gh_runV (As := [.int (nI i_9), .int y]) (rest := [.int (sm (kindF (A 0) x y) i_9)]) hC hg (t_fated l V o ad (va_up I 3 0) A F _ hT.1 (nI i_9) y i_9 K_16 rfl (by omega) hK_17 hK_17b) 2 (lw_V q4210 q4212 qs91 q138 q4213) hT.1.1 rfl hd_X3_fated ⟨Nat.le_of_ble_eq_true rfl, Nat.le_of_ble_eq_true rfl⟩ rfl hl.1 rfl (Nat.le_of_ble_eq_true rfl) dX3_piecesOfKind_68 ⟨Nat.le_of_ble_eq_true rfl, Nat.le_of_ble_eq_true rfl⟩) (fun r_18 g H locs hg hp => ?_)
        obtain ⟨hp, hpT⟩ := hp
        replace hp : r_18 = (fated (A 0) i_9 y) := hp
        subst hp
        have hT : tw_W V g0 g o ad (va_up I 3 0) A F := hT.call hpT
        refine lv_goto (tgt := 75) hx hb dX3_piecesOfKind_71 (by decide) ?_
        refine lv_iadd hx hb dX3_piecesOfKind_75 ?_
        refine lv_istore_n (lv' := [(3, .int ((sm (kindF (A 0) x y) i_9) + (fated (A 0) i_9 y))), (0, .ref o), (1, .int x), (2, .int y), (4, .int (nI i_9))]) hx hb dX3_piecesOfKind_76 rfl hl (by decide) rfl (fun ls hl => ?_)
        refine lv_iinc (v := (nI (i_9 + 1))) (lv' := [(4, .int (nI (i_9 + 1))), (3, .int ((sm (kindF (A 0) x y) i_9) + (fated (A 0) i_9 y))), (0, .ref o), (1, .int x), (2, .int y)]) hx hb dX3_piecesOfKind_77 hl (k := 4) rfl (nx_iinc rfl) (by decide) rfl (fun ls hl => ?_)
        refine lv_goto (tgt := 32) hx hb dX3_piecesOfKind_80 (by decide) ?_
        exact ih32 _ _ _ _ hg ⟨hT, (by rw [show sm (kindF (A 0) x y) (i_9 + 1) = ((sm (kindF (A 0) x y) i_9) + (fated (A 0) i_9 y)) from by simp [sm, kindF, c_15]]; exact lv_sub hl [2, 3, 4, 1, 0] rfl)⟩
    rw [if_neg ok_6] at hp
    obtain ⟨rfl, hq⟩ := hp
    rw [hq] at hg
    refine lv_if_eq (tgt := 23) hx hb dX3_piecesOfKind_16 (by decide) (fun _ => ?_) (fun c_19 => (absurd ((nx_eq (show ((0 : Int32)) = nI 0 from rfl) (show ((0 : Int32)) = nI 0 from rfl) (by omega) (by omega)).mpr (by omega)) c_19))
    refine lv_iconst (v := 1) hx hb dX3_piecesOfKind_23 (by decide) ?_
    refine gh_put (v := .int 1) hC hg hT.1.1 fX3_54_0 rfl rfl (Nat.le_of_ble_eq_true rfl) dX3_piecesOfKind_24 (fun g H locs hg hw hn => ?_)
    have hT : tw_W V g0 g o ad (va_up I 3 1) A F := hT.putI 3 1 hw hn
    refine lv_iconst (v := 0) hx hb dX3_piecesOfKind_27 (by decide) ?_
    refine lv_istore_n (lv' := [(3, .int 0), (0, .ref o), (1, .int x), (2, .int y)]) hx hb dX3_piecesOfKind_28 rfl hl (by decide) rfl (fun ls hl => ?_)
    refine lv_iconst (v := 0) hx hb dX3_piecesOfKind_29 (by decide) ?_
    refine lv_istore (lv' := [(4, .int 0), (3, .int 0), (0, .ref o), (1, .int x), (2, .int y)]) hx hb dX3_piecesOfKind_30 hl (by decide) rfl (fun ls hl => ?_)
    refine lv_iload hx hb dX3_piecesOfKind_32 (lv_at hl 0 rfl) ?_
    refine lv_aload_n hx hb dX3_piecesOfKind_34 rfl (lv_at hl 2 rfl) ?_
    refine gh_get (v := .ref (ad 0)) hC hg hT.1.1 fX3_7_0 rfl dX3_piecesOfKind_35 ?_
    refine lv_sipush (v := 163) hx hb dX3_piecesOfKind_38 (by decide) ?_
    refine gh_iald (n := 578) (f := (A 0)) hC hg (hT.1.2.1 0 (by decide)) (show ((163 : Int32)) = nI 163 from rfl) (by omega) (by omega) dX3_piecesOfKind_41 ?_
    refine lv_icmp_ge (tgt := 83) hx hb dX3_piecesOfKind_42 (by decide) (fun c_20 => ?_) (fun c_20 => ?_)
    · skip
      have c_20 : L ≤ 0 := (nx_le hL (show ((0 : Int32)) = nI 0 from rfl) (by omega) (by omega)).mp c_20
      refine lv_iload_n hx hb dX3_piecesOfKind_83 rfl (lv_at hl 1 rfl) ?_
      have e9 : c1 (okR x 0 2 ∧ okR y 0 4) = 1 := by first | rfl | (simp only [c1, if_pos ok_2, if_neg ok_6, if_pos c_20]; done) | simp [c1, ok_2, ok_6, c_20]
      exact gh_reti hC hg hr hlk (⟨fun h9 => absurd (e9.symm.trans h9) (by decide), by rw [e9]; exact hT⟩) dX3_piecesOfKind_84 (Nat.le_of_ble_eq_true rfl) (Nat.le_of_ble_eq_true rfl)
    have c_20 : ¬ L ≤ 0 := fun h9 => c_20 ((nx_le hL (show ((0 : Int32)) = nI 0 from rfl) (by omega) (by omega)).mpr h9)
    refine lv_aload_n hx hb dX3_piecesOfKind_45 rfl (lv_at hl 2 rfl) ?_
    refine gh_get (v := .int 1) hC hg hT.1.1 fX3_54_0 rfl dX3_piecesOfKind_46 ?_
    refine lv_if_ne (tgt := 83) hx hb dX3_piecesOfKind_49 (by decide) (fun _ => ?_) (fun c_21 => (absurd ((nx_eq (show ((1 : Int32)) = nI 1 from rfl) (show ((0 : Int32)) = nI 0 from rfl) (by omega) (by omega)).mp c_21) (by omega)))
    refine lv_iload_n hx hb dX3_piecesOfKind_83 rfl (lv_at hl 1 rfl) ?_
    have e9 : c1 (okR x 0 2 ∧ okR y 0 4) = 1 := by first | rfl | (simp only [c1, if_pos ok_2, if_neg ok_6, if_neg c_20]; done) | simp [c1, ok_2, ok_6, c_20]
    exact gh_reti hC hg hr hlk (⟨fun h9 => absurd (e9.symm.trans h9) (by decide), by rw [e9]; exact hT⟩) dX3_piecesOfKind_84 (Nat.le_of_ble_eq_true rfl) (Nat.le_of_ble_eq_true rfl)
  rw [if_neg ok_2] at hp
  obtain ⟨rfl, hq⟩ := hp
  rw [hq] at hg
  refine lv_if_eq (tgt := 23) hx hb dX3_piecesOfKind_7 (by decide) (fun _ => ?_) (fun c_22 => (absurd ((nx_eq (show ((0 : Int32)) = nI 0 from rfl) (show ((0 : Int32)) = nI 0 from rfl) (by omega) (by omega)).mpr (by omega)) c_22))
  refine lv_iconst (v := 1) hx hb dX3_piecesOfKind_23 (by decide) ?_
  refine gh_put (v := .int 1) hC hg hT.1.1 fX3_54_0 rfl rfl (Nat.le_of_ble_eq_true rfl) dX3_piecesOfKind_24 (fun g H locs hg hw hn => ?_)
  have hT : tw_W V g0 g o ad (va_up I 3 1) A F := hT.putI 3 1 hw hn
  refine lv_iconst (v := 0) hx hb dX3_piecesOfKind_27 (by decide) ?_
  refine lv_istore_n (lv' := [(3, .int 0), (0, .ref o), (1, .int x), (2, .int y)]) hx hb dX3_piecesOfKind_28 rfl hl (by decide) rfl (fun ls hl => ?_)
  refine lv_iconst (v := 0) hx hb dX3_piecesOfKind_29 (by decide) ?_
  refine lv_istore (lv' := [(4, .int 0), (3, .int 0), (0, .ref o), (1, .int x), (2, .int y)]) hx hb dX3_piecesOfKind_30 hl (by decide) rfl (fun ls hl => ?_)
  refine lv_iload hx hb dX3_piecesOfKind_32 (lv_at hl 0 rfl) ?_
  refine lv_aload_n hx hb dX3_piecesOfKind_34 rfl (lv_at hl 2 rfl) ?_
  refine gh_get (v := .ref (ad 0)) hC hg hT.1.1 fX3_7_0 rfl dX3_piecesOfKind_35 ?_
  refine lv_sipush (v := 163) hx hb dX3_piecesOfKind_38 (by decide) ?_
  refine gh_iald (n := 578) (f := (A 0)) hC hg (hT.1.2.1 0 (by decide)) (show ((163 : Int32)) = nI 163 from rfl) (by omega) (by omega) dX3_piecesOfKind_41 ?_
  refine lv_icmp_ge (tgt := 83) hx hb dX3_piecesOfKind_42 (by decide) (fun c_23 => ?_) (fun c_23 => ?_)
  · skip
    have c_23 : L ≤ 0 := (nx_le hL (show ((0 : Int32)) = nI 0 from rfl) (by omega) (by omega)).mp c_23
    refine lv_iload_n hx hb dX3_piecesOfKind_83 rfl (lv_at hl 1 rfl) ?_
    have e9 : c1 (okR x 0 2 ∧ okR y 0 4) = 1 := by first | rfl | (simp only [c1, if_neg ok_2, if_pos c_23]; done) | simp [c1, ok_2, c_23]
    exact gh_reti hC hg hr hlk (⟨fun h9 => absurd (e9.symm.trans h9) (by decide), by rw [e9]; exact hT⟩) dX3_piecesOfKind_84 (Nat.le_of_ble_eq_true rfl) (Nat.le_of_ble_eq_true rfl)
  have c_23 : ¬ L ≤ 0 := fun h9 => c_23 ((nx_le hL (show ((0 : Int32)) = nI 0 from rfl) (by omega) (by omega)).mpr h9)
  refine lv_aload_n hx hb dX3_piecesOfKind_45 rfl (lv_at hl 2 rfl) ?_
  refine gh_get (v := .int 1) hC hg hT.1.1 fX3_54_0 rfl dX3_piecesOfKind_46 ?_
  refine lv_if_ne (tgt := 83) hx hb dX3_piecesOfKind_49 (by decide) (fun _ => ?_) (fun c_24 => (absurd ((nx_eq (show ((1 : Int32)) = nI 1 from rfl) (show ((0 : Int32)) = nI 0 from rfl) (by omega) (by omega)).mp c_24) (by omega)))
  refine lv_iload_n hx hb dX3_piecesOfKind_83 rfl (lv_at hl 1 rfl) ?_
  have e9 : c1 (okR x 0 2 ∧ okR y 0 4) = 1 := by first | rfl | (simp only [c1, if_neg ok_2, if_neg c_23]; done) | simp [c1, ok_2, c_23]
  exact gh_reti hC hg hr hlk (⟨fun h9 => absurd (e9.symm.trans h9) (by decide), by rw [e9]; exact hT⟩) dX3_piecesOfKind_84 (Nat.le_of_ble_eq_true rfl) (Nat.le_of_ble_eq_true rfl)
set_option maxHeartbeats 1000000 in
set_option maxRecDepth 100000 in
theorem t_greatestStress (l : Launch) (V : gh_V) (o : Nat) (ad : Nat → Nat) (I : Nat → Int32) (A : Nat → Nat → Int32) (F : Nat → Nat → UInt32) (g0 : gh_G) (hP : tw_P V g0 o ad I A F)  : MF l yX3_greatestStress cX3_greatestStress 3 (some .float) ({ frames := 2, cells := 0, slots := 0, locals := 43 } : Room) V [.ref o] g0 (fun r g1 => r = gst (A 0) (F 0) 24 ∧ tw_W V g0 g1 o ad (va_up I 3 0) A F) := by
  refine MG.of RX3 (by decide) rfl (Nat.le_of_ble_eq_true rfl) (fun pp ee s mm args below meth c ls hC hg hr hlk hnm hl => ?_)
  have hx := hC.1.1
  have hb := hC.1.2.1
  have hml := hC.1.2.2.1
  have hown := hC.1.2.2.2.1
  have hts := hC.1.2.2.2.2
  have hl : lv_has ls 3 [(0, .ref o)] := hl
  have hT := hP.W
  refine lv_aload_n hx hb dX3_greatestStress_0 rfl (lv_at hl 0 rfl) ?_
  refine lv_iconst (v := 0) hx hb dX3_greatestStress_1 (by decide) ?_
  refine gh_put (v := .int 0) hC hg hT.1.1 fX3_54_0 rfl rfl (Nat.le_of_ble_eq_true rfl) dX3_greatestStress_2 (fun g H locs hg hw hn => ?_)
  have hT : tw_W V g0 g o ad (va_up I 3 0) A F := hT.putI 3 0 hw hn
  refine lv_fconst0 hx hb dX3_greatestStress_5 ?_
  refine lv_fstore_n (lv' := [(1, .float FP.fconst0), (0, .ref o)]) hx hb dX3_greatestStress_6 rfl hl (by decide) rfl (fun ls hl => ?_)
  refine lv_iconst (v := 0) hx hb dX3_greatestStress_7 (by decide) ?_
  refine lv_istore_n (lv' := [(2, .int 0), (1, .float FP.fconst0), (0, .ref o)]) hx hb dX3_greatestStress_8 rfl hl (by decide) rfl (fun ls hl => ?_)
  refine gh_loop (N := 24) (X := fun i_1 g ls => tw_W V g0 g o ad (va_up I 3 0) A F ∧ lv_has ls 3 [(0, .ref o), (1, .float (gst (A 0) (F 0) i_1)), (2, .int (nI i_1))]) ?_ ?_ 0 (by omega) hg ⟨hT, lv_sub hl [2, 1, 0] rfl⟩
  · intro g H locs ls hg hX
    obtain ⟨hT, hl⟩ := hX
    refine lv_iload_n hx hb dX3_greatestStress_9 rfl (lv_at hl 2 rfl) ?_
    refine lv_bipush (v := 24) hx hb dX3_greatestStress_10 (by decide) ?_
    refine lv_icmp_ge (tgt := 51) hx hb dX3_greatestStress_12 (by decide) (fun _ => ?_) (fun c_2 => (absurd ((nx_le (show ((24 : Int32)) = nI 24 from rfl) rfl (by omega) (by omega)).mpr (by omega)) c_2))
    refine lv_fload_n hx hb dX3_greatestStress_51 rfl (lv_at hl 1 rfl) ?_
    exact gh_retf hC hg hr hlk (⟨rfl, hT⟩) dX3_greatestStress_52 (Nat.le_of_ble_eq_true rfl) (Nat.le_of_ble_eq_true rfl)
  · intro i_1 h_3 ih9 g H locs ls hg hX
    obtain ⟨hT, hl⟩ := hX
    refine lv_iload_n hx hb dX3_greatestStress_9 rfl (lv_at hl 2 rfl) ?_
    refine lv_bipush (v := 24) hx hb dX3_greatestStress_10 (by decide) ?_
    refine lv_icmp_ge (tgt := 51) hx hb dX3_greatestStress_12 (by decide) (fun c_4 => (absurd ((nx_le (show ((24 : Int32)) = nI 24 from rfl) rfl (by omega) (by omega)).mp c_4) (by omega))) (fun _ => ?_)
    refine lv_aload_n hx hb dX3_greatestStress_15 rfl (lv_at hl 0 rfl) ?_
    refine lv_iload_n hx hb dX3_greatestStress_16 rfl (lv_at hl 2 rfl) ?_
    refine gh_calli hg (gh_runV (As := [.int (nI i_1)]) (rest := []) hC hg (t_isPiece l V o ad (va_up I 3 0) A F _ hT.1 (nI i_1) i_1 rfl (by omega)) 1 (lw_V q3960 q3962 qs64 q138 q3963) hT.1.1 rfl hd_X3_isPiece ⟨Nat.le_of_ble_eq_true rfl, Nat.le_of_ble_eq_true rfl⟩ rfl hl.1 rfl (Nat.le_of_ble_eq_true rfl) dX3_greatestStress_17 ⟨Nat.le_of_ble_eq_true rfl, Nat.le_of_ble_eq_true rfl⟩) (fun r_5 g H locs hg hp => ?_)
    replace hp : r_5 = (if ¬ pl (A 0) i_1 0 = -1 then 1 else 0) ∧ g = _ := hp
    by_cases pc_6 : ¬ pl (A 0) i_1 0 = -1
    · rw [if_pos pc_6] at hp
      obtain ⟨rfl, hq⟩ := hp
      rw [hq] at hg
      refine lv_if_eq (tgt := 43) hx hb dX3_greatestStress_20 (by decide) (fun c_7 => (absurd ((nx_eq (show ((1 : Int32)) = nI 1 from rfl) (show ((0 : Int32)) = nI 0 from rfl) (by omega) (by omega)).mp c_7) (by omega))) (fun _ => ?_)
      refine lv_aload_n hx hb dX3_greatestStress_23 rfl (lv_at hl 0 rfl) ?_
      refine gh_get (v := .ref (ad 8)) hC hg hT.1.1 fX3_13_0 rfl dX3_greatestStress_24 ?_
      refine lv_iload_n hx hb dX3_greatestStress_27 rfl (lv_at hl 2 rfl) ?_
      refine gh_fald (n := 24) (f := (F 0)) hC hg (hT.1.2.2 0 (by decide)) rfl (by omega) (by omega) dX3_greatestStress_28 ?_
      refine lv_fload_n hx hb dX3_greatestStress_29 rfl (lv_at hl 1 rfl) ?_
      refine lv_fcmp hx hb dX3_greatestStress_30 ?_
      refine lv_if_le (tgt := 43) hx hb dX3_greatestStress_31 (by decide) (fun c_8 => ?_) (fun c_8 => ?_)
      · skip
        refine lv_fload_n hx hb dX3_greatestStress_43 rfl (lv_at hl 1 rfl) ?_
        refine lv_fstore_n (lv' := [(1, .float (gst (A 0) (F 0) i_1)), (0, .ref o), (2, .int (nI i_1))]) hx hb dX3_greatestStress_44 rfl hl (by decide) rfl (fun ls hl => ?_)
        refine lv_iinc (v := (nI (i_1 + 1))) (lv' := [(2, .int (nI (i_1 + 1))), (1, .float (gst (A 0) (F 0) i_1)), (0, .ref o)]) hx hb dX3_greatestStress_45 hl (k := 2) rfl (nx_iinc rfl) (by decide) rfl (fun ls hl => ?_)
        refine lv_goto (tgt := 9) hx hb dX3_greatestStress_48 (by decide) ?_
        exact ih9 _ _ _ _ hg ⟨hT, (by rw [show gst (A 0) (F 0) (i_1 + 1) = (gst (A 0) (F 0) i_1) from by simp [gst, pc_6, c_8]]; exact lv_sub hl [2, 1, 0] rfl)⟩
      refine lv_aload_n hx hb dX3_greatestStress_34 rfl (lv_at hl 0 rfl) ?_
      refine gh_get (v := .ref (ad 8)) hC hg hT.1.1 fX3_13_0 rfl dX3_greatestStress_35 ?_
      refine lv_iload_n hx hb dX3_greatestStress_38 rfl (lv_at hl 2 rfl) ?_
      refine gh_fald (n := 24) (f := (F 0)) hC hg (hT.1.2.2 0 (by decide)) rfl (by omega) (by omega) dX3_greatestStress_39 ?_
      refine lv_goto (tgt := 44) hx hb dX3_greatestStress_40 (by decide) ?_
      refine lv_fstore_n (lv' := [(1, .float ((F 0) i_1)), (0, .ref o), (2, .int (nI i_1))]) hx hb dX3_greatestStress_44 rfl hl (by decide) rfl (fun ls hl => ?_)
      refine lv_iinc (v := (nI (i_1 + 1))) (lv' := [(2, .int (nI (i_1 + 1))), (1, .float ((F 0) i_1)), (0, .ref o)]) hx hb dX3_greatestStress_45 hl (k := 2) rfl (nx_iinc rfl) (by decide) rfl (fun ls hl => ?_)
      refine lv_goto (tgt := 9) hx hb dX3_greatestStress_48 (by decide) ?_
      exact ih9 _ _ _ _ hg ⟨hT, (by rw [show gst (A 0) (F 0) (i_1 + 1) = ((F 0) i_1) from by simp [gst, pc_6, c_8]]; exact lv_sub hl [2, 1, 0] rfl)⟩
    rw [if_neg pc_6] at hp
    obtain ⟨rfl, hq⟩ := hp
    rw [hq] at hg
    refine lv_if_eq (tgt := 43) hx hb dX3_greatestStress_20 (by decide) (fun _ => ?_) (fun c_9 => (absurd ((nx_eq (show ((0 : Int32)) = nI 0 from rfl) (show ((0 : Int32)) = nI 0 from rfl) (by omega) (by omega)).mpr (by omega)) c_9))
    refine lv_fload_n hx hb dX3_greatestStress_43 rfl (lv_at hl 1 rfl) ?_
    refine lv_fstore_n (lv' := [(1, .float (gst (A 0) (F 0) i_1)), (0, .ref o), (2, .int (nI i_1))]) hx hb dX3_greatestStress_44 rfl hl (by decide) rfl (fun ls hl => ?_)
    refine lv_iinc (v := (nI (i_1 + 1))) (lv' := [(2, .int (nI (i_1 + 1))), (1, .float (gst (A 0) (F 0) i_1)), (0, .ref o)]) hx hb dX3_greatestStress_45 hl (k := 2) rfl (nx_iinc rfl) (by decide) rfl (fun ls hl => ?_)
    refine lv_goto (tgt := 9) hx hb dX3_greatestStress_48 (by decide) ?_
    exact ih9 _ _ _ _ hg ⟨hT, (by rw [show gst (A 0) (F 0) (i_1 + 1) = (gst (A 0) (F 0) i_1) from by simp [gst, pc_6]]; exact lv_sub hl [2, 1, 0] rfl)⟩
