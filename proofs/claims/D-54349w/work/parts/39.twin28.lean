/-- all stresses are finite and not below 0 -/
def finS (st : Nat → UInt32) : Prop := ∀ q, q < 24 → (st q).toNat < 2139095040
set_option maxRecDepth 100000
theorem hd_X3_bitsOf : yX3_bitsOf.cls = RX3 ∧ yX3_bitsOf.cls ≠ "java/lang/invoke/MethodHandle" ∧ yX3_bitsOf.cls ≠ "java/lang/invoke/VarHandle" ∧ (parseMethodDescriptor yX3_bitsOf.desc).map (fun d => d.parameters.length) = some 1 := by decide +kernel
set_option maxHeartbeats 1000000 in
set_option maxRecDepth 100000 in
theorem t_stressBitsAt (l : Launch) (V : gh_V) (o : Nat) (ad : Nat → Nat) (I : Nat → Int32) (A : Nat → Nat → Int32) (F : Nat → Nat → UInt32) (g0 : gh_G) (hP : tw_P V g0 o ad I A F) (x : Int32) (hfn : finS (F 0)) : MI l yX3_stressBitsAt cX3_stressBitsAt 2 (some .int) ({ frames := 3, cells := 0, slots := 0, locals := 64 } : Room) V [.ref o, .int x] g0 (fun r g1 => (c2 (okL x 24) (¬ pl (A 0) x.toNatClampNeg 0 = -1) = 0 → r = nI (F 0 x.toNatClampNeg).toNat) ∧ tw_W V g0 g1 o ad (va_up I 3 (c2 (okL x 24) (¬ pl (A 0) x.toNatClampNeg 0 = -1))) A F) := by
  refine MG.of RX3 (by decide) rfl (Nat.le_of_ble_eq_true rfl) (fun pp ee s mm args below meth c ls hC hg hr hlk hnm hl => ?_)
  have hx := hC.1.1
  have hb := hC.1.2.1
  have hml := hC.1.2.2.1
  have hown := hC.1.2.2.2.1
  have hts := hC.1.2.2.2.2
  have hl : lv_has ls 2 [(0, .ref o), (1, .int x)] := hl
  have hT := hP.W
  refine lv_aload_n hx hb dX3_stressBitsAt_0 rfl (lv_at hl 0 rfl) ?_
  refine lv_iload_n hx hb dX3_stressBitsAt_1 rfl (lv_at hl 1 rfl) ?_
  refine gh_calli hg (gh_runV (As := [.int x]) (rest := []) hC hg (t_hasPiece l V o ad I A F _ hT.1 x) 1 (lw_V q4146 q4148 qs89 q138 q4149) hT.1.1 rfl hd_X3_hasPiece ⟨Nat.le_of_ble_eq_true rfl, Nat.le_of_ble_eq_true rfl⟩ rfl hl.1 rfl (Nat.le_of_ble_eq_true rfl) dX3_stressBitsAt_2 ⟨Nat.le_of_ble_eq_true rfl, Nat.le_of_ble_eq_true rfl⟩) (fun r_1 g H locs hg hp => ?_)
  obtain ⟨rfl, hp⟩ := hp
  have hT : tw_W V g0 g o ad (va_up I 3 (c2 (okL x 24) (¬ pl (A 0) x.toNatClampNeg 0 = -1))) A F := hT.call hp
  by_cases hp_2 : okL x 24 ∧ ¬ pl (A 0) x.toNatClampNeg 0 = -1
  · rw [if_pos hp_2]
    obtain ⟨h_3a, h_3⟩ := okL_cl (by omega) hp_2.1
    refine lv_if_eq (tgt := 20) hx hb dX3_stressBitsAt_5 (by decide) (fun c_4 => (absurd ((nx_eq (show ((1 : Int32)) = nI 1 from rfl) (show ((0 : Int32)) = nI 0 from rfl) (by omega) (by omega)).mp c_4) (by omega))) (fun _ => ?_)
    refine lv_aload_n hx hb dX3_stressBitsAt_8 rfl (lv_at hl 0 rfl) ?_
    refine gh_get (v := .ref (ad 8)) hC hg hT.1.1 fX3_13_0 rfl dX3_stressBitsAt_9 ?_
    refine lv_iload_n hx hb dX3_stressBitsAt_12 rfl (lv_at hl 1 rfl) ?_
    refine gh_fald (n := 24) (f := (F 0)) hC hg (hT.1.2.2 0 (by decide)) h_3 (by omega) (by omega) dX3_stressBitsAt_13 ?_
    refine gh_calli hg (gh_runS (As := [.float ((F 0) ((x).toNatClampNeg))]) (rest := []) hC hg (t_bitsOf l V _ ((F 0) ((x).toNatClampNeg)) (hfn _ (by omega))) 1 (lw_S q4158 q4159 q138 q4160) hd_X3_bitsOf.2 ⟨Nat.le_of_ble_eq_true rfl, Nat.le_of_ble_eq_true rfl⟩ rfl hl.1 rfl (Nat.le_of_ble_eq_true rfl) dX3_stressBitsAt_14 ⟨Nat.le_of_ble_eq_true rfl, Nat.le_of_ble_eq_true rfl⟩) (fun r_5 g H locs hg hp => ?_)
    obtain ⟨hp, hq⟩ := hp
    replace hp : r_5 = (nI ((F 0) ((x).toNatClampNeg)).toNat) := hp
    subst hp
    rw [hq] at hg
    refine lv_goto (tgt := 21) hx hb dX3_stressBitsAt_17 (by decide) ?_
    exact gh_reti hC hg hr hlk (⟨fun _ => rfl, hT⟩) dX3_stressBitsAt_21 (Nat.le_of_ble_eq_true rfl) (Nat.le_of_ble_eq_true rfl)
  rw [if_neg hp_2]
  refine lv_if_eq (tgt := 20) hx hb dX3_stressBitsAt_5 (by decide) (fun _ => ?_) (fun c_6 => (absurd ((nx_eq (show ((0 : Int32)) = nI 0 from rfl) (show ((0 : Int32)) = nI 0 from rfl) (by omega) (by omega)).mpr (by omega)) c_6))
  refine lv_iconst (v := 0) hx hb dX3_stressBitsAt_20 (by decide) ?_
  exact gh_reti hC hg hr hlk (⟨fun h9 => absurd (c2_0 h9) hp_2, hT⟩) dX3_stressBitsAt_21 (Nat.le_of_ble_eq_true rfl) (Nat.le_of_ble_eq_true rfl)
