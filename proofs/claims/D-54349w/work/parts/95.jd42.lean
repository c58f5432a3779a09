set_option maxRecDepth 100000
theorem hd_X18_digit : yX18_digit.cls = RX18 ∧ yX18_digit.cls ≠ "java/lang/invoke/MethodHandle" ∧ yX18_digit.cls ≠ "java/lang/invoke/VarHandle" ∧ (parseMethodDescriptor yX18_digit.desc).map (fun d => d.parameters.length) = some 2 := by decide +kernel
set_option maxHeartbeats 1000000 in
set_option maxRecDepth 100000 in
theorem j_X18_number11 (l : Launch) (V : gh_V) (g0 : gh_G) (L q n : Nat) (bc : Nat → Nat) (arr cap : Nat) (f0 : Nat → Int32) (ml : Int32) (hS0 : sb_C V L 2 g0 q n bc arr cap f0 ml) (u1 u2 u3 : Value) (hL0 : g0 L = some ((L, 0, 0), oo 1 [u1, u2, u3, .ref q])) (o wk many sp : Nat) (wr : Int32) (hsp : sp ≤ 61) (ho0 : g0 o = some ((L, 3, 0), oo 11 [.int (nI sp), .int wr, .ref wk, .int (nI many), .ref L])) (hwr : wr = 0) : MI l yX18_number cX18_number 4 (some .int) ({ frames := 6, cells := 0, slots := 0, locals := 131 } : Room) V [.ref o, .int 0, .int 11] g0 (fun r g1 => (isC (cB bc) n sp 48 57 ∧ r = nI (nmV (cB bc) n sp 11) ∧ g1 o = some ((L, 3, 0), oo 11 [.int (nI (nmP (cB bc) n sp 11)), .int 0, .ref wk, .int (nI many), .ref L]) ∧ ∀ b, b ≠ o → g1 b = g0 b) ∨ (¬ isC (cB bc) n sp 48 57 ∧ g1 o = some ((L, 3, 0), oo 11 [.int (nI sp), .int 1, .ref wk, .int (nI many), .ref L]) ∧ ∀ b, b ≠ o → g1 b = g0 b)) := by
  refine MG.of RX18 (by decide) rfl (Nat.le_of_ble_eq_true rfl) (fun pp ee s mm args below meth c ls hC hg hr hlk hnm hl => ?_)
  have hx := hC.1.1
  have hb := hC.1.2.1
  have hml := hC.1.2.2.1
  have hown := hC.1.2.2.2.1
  have hts := hC.1.2.2.2.2
  have hl : lv_has ls 4 [(0, .ref o), (1, .int 0), (2, .int 11)] := hl
  obtain ⟨g, hg, hgg⟩ : ∃ g, gh_W V (gh_A g0 s.heap.size) s g s.heap [] ∧ g = g0 := ⟨g0, hg, rfl⟩
  have hS := hS0
  have hL := hL0
  have ho := ho0
  rw [← hgg] at hS hL ho
  have hn60 := hS0.2.2.2.2.1
  have hbc := fun i hi => (hS0.2.2.2.2.2.2 i hi).2
  rw [hwr] at ho
  have hqq := hS.1
  have hfr : ∀ b, b ≠ o → g b = g0 b := fun b _ => by rw [hgg]
  have hlo9 : (32 : Int32) < nI 48 := by decide
  refine lv_aload_n hx hb dX18_number_0 rfl (lv_at hl 0 rfl) ?_
  refine lv_bipush (v := 48) hx hb dX18_number_1 (by decide) ?_
  refine lv_iload_n hx hb dX18_number_3 rfl (lv_at hl 1 rfl) ?_
  refine lv_iadd hx hb dX18_number_4 ?_
  refine lv_i2c (v := (nI 48)) hx hb dX18_number_5 (show (((48 + 0) : Int32).toUInt32 % 65536).toInt32 = nI 48 by decide) ?_
  refine lv_bipush (v := 57) hx hb dX18_number_6 (by decide) ?_
  refine gh_calli hg (gh_runV (As := [.int (nI 48), .int 57]) (rest := []) hC hg (j_X18_digit0 l V _ L q n bc arr cap f0 ml hS u1 u2 u3 hL o wk many sp 0 (by omega) ho rfl 48 57 (by decide) (by decide)) 2 (lw_V q1507 q1509 qs20 q178 q1510) ho rfl hd_X18_digit ⟨Nat.le_of_ble_eq_true rfl, Nat.le_of_ble_eq_true rfl⟩ rfl hl.1 rfl (Nat.le_of_ble_eq_true rfl) dX18_number_8 ⟨Nat.le_of_ble_eq_true rfl, Nat.le_of_ble_eq_true rfl⟩) (fun r_1 g H locs hg hp => ?_)
  rcases hp with ⟨sg_2, hr9, hp⟩ | ⟨sg_2, hp⟩
  · skip
    subst hr9
    have sg_2 : isC (cB bc) n sp 48 57 := sg_2
    obtain ⟨hw, hn⟩ := hp
    have hL : g L = some ((L, 0, 0), oo 1 [u1, u2, u3, .ref q]) := (hn _ (gh_neK hL ho rfl)).trans hL
    have hqq : g q = some ((L, 2, 0), oo 18 [.ref arr, .int 0, .int ml, .int (nI n)]) := (hn _ (gh_neK hqq ho rfl)).trans hqq
    have hS : sb_C V L 2 g q n bc arr cap f0 ml := sb_C.keep hS (fun a t x h1 h2 h3 => (hn a (fun e9 => by rw [e9, ho] at h1; cases h1; exact absurd (show 3 = 2 from h3) (by decide))).trans h1)
    have hfr : ∀ b, b ≠ o → g b = g0 b := fun b h1 => (hn b h1).trans (hfr b h1)
    have ho : g o = some ((L, 3, 0), oo 11 [.int (nI (sp + 1)), .int 0, .ref wk, .int (nI many), .ref L]) := hw
    obtain ⟨q1, q2, q3⟩ := okR_cl (a := 48) (b := 57) rfl rfl (by omega) (by omega) sg_2.2
    have hd9 : dg (cB bc) sp ≤ 9 := by unfold dg; omega
    refine lv_istore_n (lv' := [(3, .int (nI (dg (cB bc) sp))), (0, .ref o), (1, .int 0), (2, .int 11)]) hx hb dX18_number_11 rfl hl (by decide) rfl (fun ls hl => ?_)
    refine lv_aload_n hx hb dX18_number_12 rfl (lv_at hl 1 rfl) ?_
    refine gh_get (v := .int 0) hC hg ho fX18_24_11 rfl dX18_number_13 ?_
    refine lv_if_ne (tgt := 71) hx hb dX18_number_16 (by decide) (fun c_3 => (absurd rfl c_3)) (fun _ => ?_)
    refine lv_iload_n hx hb dX18_number_19 rfl (lv_at hl 0 rfl) ?_
    refine lv_if_le (tgt := 71) hx hb dX18_number_20 (by decide) (fun c_4 => ?_) (fun c_4 => ?_)
    · skip
      have c_4 : (dg (cB bc) sp) ≤ 0 := (nx_le rfl (show ((0 : Int32)) = nI 0 from rfl) (by omega) (by omega)).mp c_4
      have h2 : ¬ isTwo (cB bc) n sp 11 := by intro h9; have := h9.1; omega
      have hv1 : nmV (cB bc) n sp 11 = dg (cB bc) sp := if_neg h2
      have hv2 : nmP (cB bc) n sp 11 = sp + 1 := if_neg h2
      refine lv_iload_n hx hb dX18_number_71 rfl (lv_at hl 0 rfl) ?_
      exact gh_reti hC hg hr hlk (Or.inl ⟨sg_2, congrArg nI hv1.symm, by rw [hv2]; exact ho, hfr⟩) dX18_number_72 (Nat.le_of_ble_eq_true rfl) (Nat.le_of_ble_eq_true rfl)
    have c_4 : ¬ (dg (cB bc) sp) ≤ 0 := fun h9 => c_4 ((nx_le rfl (show ((0 : Int32)) = nI 0 from rfl) (by omega) (by omega)).mpr h9)
    have h0d : 0 < dg (cB bc) sp := by omega
    refine lv_aload_n hx hb dX18_number_23 rfl (lv_at hl 1 rfl) ?_
    refine gh_calli hg (gh_runV (As := []) (rest := []) hC hg (j_X18_next l V _ L q n bc arr cap f0 ml hS u1 u2 u3 hL o wk many (sp + 1) 0 (by omega) ho) 0 (lw_V q1497 q1499 qs18 q178 q1500) ho rfl hd_X18_next ⟨Nat.le_of_ble_eq_true rfl, Nat.le_of_ble_eq_true rfl⟩ rfl hl.1 rfl (Nat.le_of_ble_eq_true rfl) dX18_number_24 ⟨Nat.le_of_ble_eq_true rfl, Nat.le_of_ble_eq_true rfl⟩) (fun r_5 g H locs hg hp => ?_)
    obtain ⟨hp, hq⟩ := hp
    replace hp : (nxC bc n (sp + 1)) = r_5 := hp.symm
    subst hp
    rw [hq] at hg
    refine lv_bipush (v := 48) hx hb dX18_number_27 (by decide) ?_
    refine lv_icmp_lt (tgt := 71) hx hb dX18_number_29 (by decide) (fun c_6 => ?_) (fun c_6 => ?_)
    · skip
      have h2 : ¬ isTwo (cB bc) n sp 11 := by intro h9; exact ((nx_dg (hi := 57) (show (32 : Int32) < 48 by decide)).mpr ⟨h9.2.1, h9.2.2.1⟩).1 c_6
      have hv1 : nmV (cB bc) n sp 11 = dg (cB bc) sp := if_neg h2
      have hv2 : nmP (cB bc) n sp 11 = sp + 1 := if_neg h2
      refine lv_iload_n hx hb dX18_number_71 rfl (lv_at hl 0 rfl) ?_
      exact gh_reti hC hg hr hlk (Or.inl ⟨sg_2, congrArg nI hv1.symm, by rw [hv2]; exact ho, hfr⟩) dX18_number_72 (Nat.le_of_ble_eq_true rfl) (Nat.le_of_ble_eq_true rfl)
    refine lv_aload_n hx hb dX18_number_32 rfl (lv_at hl 1 rfl) ?_
    refine gh_calli hg (gh_runV (As := []) (rest := []) hC hg (j_X18_next l V _ L q n bc arr cap f0 ml hS u1 u2 u3 hL o wk many (sp + 1) 0 (by omega) ho) 0 (lw_V q1497 q1499 qs18 q178 q1500) ho rfl hd_X18_next ⟨Nat.le_of_ble_eq_true rfl, Nat.le_of_ble_eq_true rfl⟩ rfl hl.1 rfl (Nat.le_of_ble_eq_true rfl) dX18_number_33 ⟨Nat.le_of_ble_eq_true rfl, Nat.le_of_ble_eq_true rfl⟩) (fun r_7 g H locs hg hp => ?_)
    obtain ⟨hp, hq⟩ := hp
    replace hp : (nxC bc n (sp + 1)) = r_7 := hp.symm
    subst hp
    rw [hq] at hg
    refine lv_bipush (v := 57) hx hb dX18_number_36 (by decide) ?_
    refine lv_icmp_gt (tgt := 71) hx hb dX18_number_38 (by decide) (fun c_8 => ?_) (fun c_8 => ?_)
    · skip
      have h2 : ¬ isTwo (cB bc) n sp 11 := by intro h9; exact absurd ((nx_dg (show (32 : Int32) < 48 by decide)).mpr (show isC (cB bc) n (sp + 1) 48 57 from ⟨h9.2.1, h9.2.2.1⟩)).2 (Int32.not_le.mpr c_8)
      have hv1 : nmV (cB bc) n sp 11 = dg (cB bc) sp := if_neg h2
      have hv2 : nmP (cB bc) n sp 11 = sp + 1 := if_neg h2
      refine lv_iload_n hx hb dX18_number_71 rfl (lv_at hl 0 rfl) ?_
      exact gh_reti hC hg hr hlk (Or.inl ⟨sg_2, congrArg nI hv1.symm, by rw [hv2]; exact ho, hfr⟩) dX18_number_72 (Nat.le_of_ble_eq_true rfl) (Nat.le_of_ble_eq_true rfl)
    have hy2 := (nx_dg (hi := 57) (show (32 : Int32) < 48 by decide)).mp ⟨c_6, Int32.not_lt.mp c_8⟩
    obtain ⟨p1, p2, p3⟩ := okR_cl (a := 48) (b := 57) rfl rfl (by omega) (by omega) hy2.2
    have he9 : dg (cB bc) (sp + 1) ≤ 9 := by unfold dg; omega
    refine lv_bipush (v := 10) hx hb dX18_number_41 (by decide) ?_
    refine lv_iload_n hx hb dX18_number_43 rfl (lv_at hl 0 rfl) ?_
    refine lv_imul hx hb dX18_number_44 ?_
    refine lv_aload_n hx hb dX18_number_45 rfl (lv_at hl 1 rfl) ?_
    refine gh_calli hg (gh_runV (As := []) (rest := [.int (10 * (nI (dg (cB bc) sp)))]) hC hg (j_X18_next l V _ L q n bc arr cap f0 ml hS u1 u2 u3 hL o wk many (sp + 1) 0 (by omega) ho) 0 (lw_V q1497 q1499 qs18 q178 q1500) ho rfl hd_X18_next ⟨Nat.le_of_ble_eq_true rfl, Nat.le_of_ble_eq_true rfl⟩ rfl hl.1 rfl (Nat.le_of_ble_eq_true rfl) dX18_number_46 ⟨Nat.le_of_ble_eq_true rfl, Nat.le_of_ble_eq_true rfl⟩) (fun r_9 g H locs hg hp => ?_)
    obtain ⟨hp, hq⟩ := hp
    replace hp : (nxC bc n (sp + 1)) = r_9 := hp.symm
    subst hp
    rw [hq] at hg
    refine lv_iadd hx hb dX18_number_49 ?_
    refine lv_bipush (v := 48) hx hb dX18_number_50 (by decide) ?_
    refine lv_isub hx hb dX18_number_52 ?_
    refine W.eq (g2 := F0 mm 53 ls [.int (nI (10 * dg (cB bc) sp + dg (cB bc) (sp + 1)))]) (by rw [(nm_10 hy2)] <;> rfl) ?_
    refine lv_iload_n hx hb dX18_number_53 rfl (lv_at hl 3 rfl) ?_
    refine lv_icmp_gt (tgt := 71) hx hb dX18_number_54 (by decide) (fun c_10 => ?_) (fun c_10 => ?_)
    · skip
      have c_10 : 11 < (10 * dg (cB bc) sp + dg (cB bc) (sp + 1)) := (nx_lt (show ((11 : Int32)) = nI 11 from rfl) rfl (by omega) (by omega)).mp c_10
      have h2 : ¬ isTwo (cB bc) n sp 11 := by intro h9; have := h9.2.2.2; omega
      have hv1 : nmV (cB bc) n sp 11 = dg (cB bc) sp := if_neg h2
      have hv2 : nmP (cB bc) n sp 11 = sp + 1 := if_neg h2
      refine lv_iload_n hx hb dX18_number_71 rfl (lv_at hl 0 rfl) ?_
      exact gh_reti hC hg hr hlk (Or.inl ⟨sg_2, congrArg nI hv1.symm, by rw [hv2]; exact ho, hfr⟩) dX18_number_72 (Nat.le_of_ble_eq_true rfl) (Nat.le_of_ble_eq_true rfl)
    have c_10 : ¬ 11 < (10 * dg (cB bc) sp + dg (cB bc) (sp + 1)) := fun h9 => c_10 ((nx_lt (show ((11 : Int32)) = nI 11 from rfl) rfl (by omega) (by omega)).mpr h9)
    have h2 : isTwo (cB bc) n sp 11 := ⟨h0d, hy2.1, hy2.2, by omega⟩
    have hv1 : nmV (cB bc) n sp 11 = 10 * dg (cB bc) sp + dg (cB bc) (sp + 1) := if_pos h2
    have hv2 : nmP (cB bc) n sp 11 = sp + 2 := if_pos h2
    refine lv_bipush (v := 10) hx hb dX18_number_57 (by decide) ?_
    refine lv_iload_n hx hb dX18_number_59 rfl (lv_at hl 0 rfl) ?_
    refine lv_imul hx hb dX18_number_60 ?_
    refine lv_aload_n hx hb dX18_number_61 rfl (lv_at hl 1 rfl) ?_
    refine lv_bipush (v := 48) hx hb dX18_number_62 (by decide) ?_
    refine lv_bipush (v := 57) hx hb dX18_number_64 (by decide) ?_
    refine gh_calli hg (gh_runV (As := [.int 48, .int 57]) (rest := [.int (10 * (nI (dg (cB bc) sp)))]) hC hg (j_X18_digit0 l V _ L q n bc arr cap f0 ml hS u1 u2 u3 hL o wk many (sp + 1) 0 (by omega) ho rfl 48 57 (by decide) (by decide)) 2 (lw_V q1507 q1509 qs20 q178 q1510) ho rfl hd_X18_digit ⟨Nat.le_of_ble_eq_true rfl, Nat.le_of_ble_eq_true rfl⟩ rfl hl.1 rfl (Nat.le_of_ble_eq_true rfl) dX18_number_66 ⟨Nat.le_of_ble_eq_true rfl, Nat.le_of_ble_eq_true rfl⟩) (fun r_11 g H locs hg hp => ?_)
    rcases hp with ⟨sg_12, hr9, hp⟩ | ⟨sg_12, hp⟩
    · skip
      subst hr9
      have sg_12 : isC (cB bc) n (sp + 1) 48 57 := sg_12
      obtain ⟨hw, hn⟩ := hp
      have hL : g L = some ((L, 0, 0), oo 1 [u1, u2, u3, .ref q]) := (hn _ (gh_neK hL ho rfl)).trans hL
      have hqq : g q = some ((L, 2, 0), oo 18 [.ref arr, .int 0, .int ml, .int (nI n)]) := (hn _ (gh_neK hqq ho rfl)).trans hqq
      have hS : sb_C V L 2 g q n bc arr cap f0 ml := sb_C.keep hS (fun a t x h1 h2 h3 => (hn a (fun e9 => by rw [e9, ho] at h1; cases h1; exact absurd (show 3 = 2 from h3) (by decide))).trans h1)
      have hfr : ∀ b, b ≠ o → g b = g0 b := fun b h1 => (hn b h1).trans (hfr b h1)
      have ho : g o = some ((L, 3, 0), oo 11 [.int (nI ((sp + 1) + 1)), .int 0, .ref wk, .int (nI many), .ref L]) := hw
      refine lv_iadd hx hb dX18_number_69 ?_
      refine lv_istore_n (lv' := [(3, .int ((10 * (nI (dg (cB bc) sp))) + (nI (dg (cB bc) (sp + 1))))), (0, .ref o), (1, .int 0), (2, .int 11)]) hx hb dX18_number_70 rfl hl (by decide) rfl (fun ls hl => ?_)
      refine lv_iload_n hx hb dX18_number_71 rfl (lv_at hl 0 rfl) ?_
      exact gh_reti hC hg hr hlk (Or.inl ⟨sg_2, (nx_add (nx_mul (show ((10 : Int32)) = nI 10 from rfl) rfl) rfl).trans (congrArg nI hv1.symm), by rw [hv2]; exact ho, hfr⟩) dX18_number_72 (Nat.le_of_ble_eq_true rfl) (Nat.le_of_ble_eq_true rfl)
    have sg_12 : ¬ isC (cB bc) n (sp + 1) 48 57 := sg_12
    obtain ⟨hw, hn⟩ := hp
    have hL : g L = some ((L, 0, 0), oo 1 [u1, u2, u3, .ref q]) := (hn _ (gh_neK hL ho rfl)).trans hL
    have hqq : g q = some ((L, 2, 0), oo 18 [.ref arr, .int 0, .int ml, .int (nI n)]) := (hn _ (gh_neK hqq ho rfl)).trans hqq
    have hS : sb_C V L 2 g q n bc arr cap f0 ml := sb_C.keep hS (fun a t x h1 h2 h3 => (hn a (fun e9 => by rw [e9, ho] at h1; cases h1; exact absurd (show 3 = 2 from h3) (by decide))).trans h1)
    have hfr : ∀ b, b ≠ o → g b = g0 b := fun b h1 => (hn b h1).trans (hfr b h1)
    have ho : g o = some ((L, 3, 0), oo 11 [.int (nI (sp + 1)), .int 1, .ref wk, .int (nI many), .ref L]) := hw
    exact absurd hy2 sg_12
  have sg_2 : ¬ isC (cB bc) n sp 48 57 := sg_2
  obtain ⟨hw, hn⟩ := hp
  have hL : g L = some ((L, 0, 0), oo 1 [u1, u2, u3, .ref q]) := (hn _ (gh_neK hL ho rfl)).trans hL
  have hqq : g q = some ((L, 2, 0), oo 18 [.ref arr, .int 0, .int ml, .int (nI n)]) := (hn _ (gh_neK hqq ho rfl)).trans hqq
  have hS : sb_C V L 2 g q n bc arr cap f0 ml := sb_C.keep hS (fun a t x h1 h2 h3 => (hn a (fun e9 => by rw [e9, ho] at h1; cases h1; exact absurd (show 3 = 2 from h3) (by decide))).trans h1)
  have hfr : ∀ b, b ≠ o → g b = g0 b := fun b h1 => (hn b h1).trans (hfr b h1)
  have ho : g o = some ((L, 3, 0), oo 11 [.int (nI sp), .int 1, .ref wk, .int (nI many), .ref L]) := hw
  refine lv_istore_n (lv' := [(3, .int r_1), (0, .ref o), (1, .int 0), (2, .int 11)]) hx hb dX18_number_11 rfl hl (by decide) rfl (fun ls hl => ?_)
  refine lv_aload_n hx hb dX18_number_12 rfl (lv_at hl 1 rfl) ?_
  refine gh_get (v := .int 1) hC hg ho fX18_24_11 rfl dX18_number_13 ?_
  refine lv_if_ne (tgt := 71) hx hb dX18_number_16 (by decide) (fun _ => ?_) (fun c_13 => (absurd c_13 (by decide)))
  refine lv_iload_n hx hb dX18_number_71 rfl (lv_at hl 0 rfl) ?_
  exact gh_reti hC hg hr hlk (Or.inr ⟨sg_2, ho, hfr⟩) dX18_number_72 (Nat.le_of_ble_eq_true rfl) (Nat.le_of_ble_eq_true rfl)
set_option maxHeartbeats 1000000 in
set_option maxRecDepth 100000 in
theorem j_X18_number23 (l : Launch) (V : gh_V) (g0 : gh_G) (L q n : Nat) (bc : Nat → Nat) (arr cap : Nat) (f0 : Nat → Int32) (ml : Int32) (hS0 : sb_C V L 2 g0 q n bc arr cap f0 ml) (u1 u2 u3 : Value) (hL0 : g0 L = some ((L, 0, 0), oo 1 [u1, u2, u3, .ref q])) (o wk many sp : Nat) (wr : Int32) (hsp : sp ≤ 61) (ho0 : g0 o = some ((L, 3, 0), oo 11 [.int (nI sp), .int wr, .ref wk, .int (nI many), .ref L])) (hwr : wr = 0) : MI l yX18_number cX18_number 4 (some .int) ({ frames := 6, cells := 0, slots := 0, locals := 131 } : Room) V [.ref o, .int 0, .int 23] g0 (fun r g1 => (isC (cB bc) n sp 48 57 ∧ r = nI (nmV (cB bc) n sp 23) ∧ g1 o = some ((L, 3, 0), oo 11 [.int (nI (nmP (cB bc) n sp 23)), .int 0, .ref wk, .int (nI many), .ref L]) ∧ ∀ b, b ≠ o → g1 b = g0 b) ∨ (¬ isC (cB bc) n sp 48 57 ∧ g1 o = some ((L, 3, 0), oo 11 [.int (nI sp), .int 1, .ref wk, .int (nI many), .ref L]) ∧ ∀ b, b ≠ o → g1 b = g0 b)) := by
  refine MG.of RX18 (by decide) rfl (Nat.le_of_ble_eq_true rfl) (fun pp ee s mm args below meth c ls hC hg hr hlk hnm hl => ?_)
  have hx := hC.1.1
  have hb := hC.1.2.1
  have hml := hC.1.2.2.1
  have hown := hC.1.2.2.2.1
  have hts := hC.1.2.2.2.2
  have hl : lv_has ls 4 [(0, .ref o), (1, .int 0), (2, .int 23)] := hl
  obtain ⟨g, hg, hgg⟩ : ∃ g, gh_W V (gh_A g0 s.heap.size) s g s.heap [] ∧ g = g0 := ⟨g0, hg, rfl⟩
  have hS := hS0
  have hL := hL0
  have ho := ho0
  rw [← hgg] at hS hL ho
  have hn60 := hS0.2.2.2.2.1
  have hbc := fun i hi => (hS0.2.2.2.2.2.2 i hi).2
  rw [hwr] at ho
  have hqq := hS.1
  have hfr : ∀ b, b ≠ o → g b = g0 b := fun b _ => by rw [hgg]
  have hlo9 : (32 : Int32) < nI 48 := by decide
  refine lv_aload_n hx hb dX18_number_0 rfl (lv_at hl 0 rfl) ?_
  refine lv_bipush (v := 48) hx hb dX18_number_1 (by decide) ?_
  refine lv_iload_n hx hb dX18_number_3 rfl (lv_at hl 1 rfl) ?_
  refine lv_iadd hx hb dX18_number_4 ?_
  refine lv_i2c (v := (nI 48)) hx hb dX18_number_5 (show (((48 + 0) : Int32).toUInt32 % 65536).toInt32 = nI 48 by decide) ?_
  refine lv_bipush (v := 57) hx hb dX18_number_6 (by decide) ?_
  refine gh_calli hg (gh_runV (As := [.int (nI 48), .int 57]) (rest := []) hC hg (j_X18_digit0 l V _ L q n bc arr cap f0 ml hS u1 u2 u3 hL o wk many sp 0 (by omega) ho rfl 48 57 (by decide) (by decide)) 2 (lw_V q1507 q1509 qs20 q178 q1510) ho rfl hd_X18_digit ⟨Nat.le_of_ble_eq_true rfl, Nat.le_of_ble_eq_true rfl⟩ rfl hl.1 rfl (Nat.le_of_ble_eq_true rfl) dX18_number_8 ⟨Nat.le_of_ble_eq_true rfl, Nat.le_of_ble_eq_true rfl⟩) (fun r_1 g H locs hg hp => ?_)
  rcases hp with ⟨sg_2, hr9, hp⟩ | ⟨sg_2, hp⟩
  · skip
    subst hr9
    have sg_2 : isC (cB bc) n sp 48 57 := sg_2
    obtain ⟨hw, hn⟩ := hp
    have hL : g L = some ((L, 0, 0), oo 1 [u1, u2, u3, .ref q]) := (hn _ (gh_neK hL ho rfl)).trans hL
    have hqq : g q = some ((L, 2, 0), oo 18 [.ref arr, .int 0, .int ml, .int (nI n)]) := (hn _ (gh_neK hqq ho rfl)).trans hqq
    have hS : sb_C V L 2 g q n bc arr cap f0 ml := sb_C.keep hS (fun a t x h1 h2 h3 => (hn a (fun e9 => by rw [e9, ho] at h1; cases h1; exact absurd (show 3 = 2 from h3) (by decide))).trans h1)
    have hfr : ∀ b, b ≠ o → g b = g0 b := fun b h1 => (hn b h1).trans (hfr b h1)
    have ho : g o = some ((L, 3, 0), oo 11 [.int (nI (sp + 1)), .int 0, .ref wk, .int (nI many), .ref L]) := hw
    obtain ⟨q1, q2, q3⟩ := okR_cl (a := 48) (b := 57) rfl rfl (by omega) (by omega) sg_2.2
    have hd9 : dg (cB bc) sp ≤ 9 := by unfold dg; omega
    refine lv_istore_n (lv' := [(3, .int (nI (dg (cB bc) sp))), (0, .ref o), (1, .int 0), (2, .int 23)]) hx hb dX18_number_11 rfl hl (by decide) rfl (fun ls hl => ?_)
    refine lv_aload_n hx hb dX18_number_12 rfl (lv_at hl 1 rfl) ?_
    refine gh_get (v := .int 0) hC hg ho fX18_24_11 rfl dX18_number_13 ?_
    refine lv_if_ne (tgt := 71) hx hb dX18_number_16 (by decide) (fun c_3 => (absurd rfl c_3)) (fun _ => ?_)
    refine lv_iload_n hx hb dX18_number_19 rfl (lv_at hl 0 rfl) ?_
    refine lv_if_le (tgt := 71) hx hb dX18_number_20 (by decide) (fun c_4 => ?_) (fun c_4 => ?_)
    · skip
      have c_4 : (dg (cB bc) sp) ≤ 0 := (nx_le rfl (show ((0 : Int32)) = nI 0 from rfl) (by omega) (by omega)).mp c_4
      have h2 : ¬ isTwo (cB bc) n sp 23 := by intro h9; have := h9.1; omega
      have hv1 : nmV (cB bc) n sp 23 = dg (cB bc) sp := if_neg h2
      have hv2 : nmP (cB bc) n sp 23 = sp + 1 := if_neg h2
      refine lv_iload_n hx hb dX18_number_71 rfl (lv_at hl 0 rfl) ?_
      exact gh_reti hC hg hr hlk (Or.inl ⟨sg_2, congrArg nI hv1.symm, by rw [hv2]; exact ho, hfr⟩) dX18_number_72 (Nat.le_of_ble_eq_true rfl) (Nat.le_of_ble_eq_true rfl)
    have c_4 : ¬ (dg (cB bc) sp) ≤ 0 := fun h9 => c_4 ((nx_le rfl (show ((0 : Int32)) = nI 0 from rfl) (by omega) (by omega)).mpr h9)
    have h0d : 0 < dg (cB bc) sp := by omega
    refine lv_aload_n hx hb dX18_number_23 rfl (lv_at hl 1 rfl) ?_
    refine gh_calli hg (gh_runV (As := []) (rest := []) hC hg (j_X18_next l V _ L q n bc arr cap f0 ml hS u1 u2 u3 hL o wk many (sp + 1) 0 (by omega) ho) 0 (lw_V q1497 q1499 qs18 q178 q1500) ho rfl hd_X18_next ⟨Nat.le_of_ble_eq_true rfl, Nat.le_of_ble_eq_true rfl⟩ rfl hl.1 rfl (Nat.le_of_ble_eq_true rfl) dX18_number_24 ⟨Nat.le_of_ble_eq_true rfl, Nat.le_of_ble_eq_true rfl⟩) (fun r_5 g H locs hg hp => ?_)
    obtain ⟨hp, hq⟩ := hp
    replace hp : (nxC bc n (sp + 1)) = r_5 := hp.symm
    subst hp
    rw [hq] at hg
    refine lv_bipush (v := 48) hx hb dX18_number_27 (by decide) ?_
    refine lv_icmp_lt (tgt := 71) hx hb dX18_number_29 (by decide) (fun c_6 => ?_) (fun c_6 => ?_)
    · skip
      have h2 : ¬ isTwo (cB bc) n sp 23 := by intro h9; exact ((nx_dg (hi := 57) (show (32 : Int32) < 48 by decide)).mpr ⟨h9.2.1, h9.2.2.1⟩).1 c_6
      have hv1 : nmV (cB bc) n sp 23 = dg (cB bc) sp := if_neg h2
      have hv2 : nmP (cB bc) n sp 23 = sp + 1 := if_neg h2
      refine lv_iload_n hx hb dX18_number_71 rfl (lv_at hl 0 rfl) ?_
      exact gh_reti hC hg hr hlk (Or.inl ⟨sg_2, congrArg nI hv1.symm, by rw [hv2]; exact ho, hfr⟩) dX18_number_72 (Nat.le_of_ble_eq_true rfl) (Nat.le_of_ble_eq_true rfl)
    refine lv_aload_n hx hb dX18_number_32 rfl (lv_at hl 1 rfl) ?_
    refine gh_calli hg (gh_runV (As := []) (rest := []) hC hg (j_X18_next l V _ L q n bc arr cap f0 ml hS u1 u2 u3 hL o wk many (sp + 1) 0 (by omega) ho) 0 (lw_V q1497 q1499 qs18 q178 q1500) ho rfl hd_X18_next ⟨Nat.le_of_ble_eq_true rfl, Nat.le_of_ble_eq_true rfl⟩ rfl hl.1 rfl (Nat.le_of_ble_eq_true rfl) dX18_number_33 ⟨Nat.le_of_ble_eq_true rfl, Nat.le_of_ble_eq_true rfl⟩) (fun r_7 g H locs hg hp => ?_)
    obtain ⟨hp, hq⟩ := hp
    replace hp : (nxC bc n (sp + 1)) = r_7 := hp.symm
    subst hp
    rw [hq] at hg
    refine lv_bipush (v := 57) hx hb dX18_number_36 (by decide) ?_
    refine lv_icmp_gt (tgt := 71) hx hb dX18_number_38 (by decide) (fun c_8 => ?_) (fun c_8 => ?_)
    · skip
      have h2 : ¬ isTwo (cB bc) n sp 23 := by intro h9; exact absurd ((nx_dg (show (32 : Int32) < 48 by decide)).mpr (show isC (cB bc) n (sp + 1) 48 57 from ⟨h9.2.1, h9.2.2.1⟩)).2 (Int32.not_le.mpr c_8)
      have hv1 : nmV (cB bc) n sp 23 = dg (cB bc) sp := if_neg h2
      have hv2 : nmP (cB bc) n sp 23 = sp + 1 := if_neg h2
      refine lv_iload_n hx hb dX18_number_71 rfl (lv_at hl 0 rfl) ?_
      exact gh_reti hC hg hr hlk (Or.inl ⟨sg_2, congrArg nI hv1.symm, by rw [hv2]; exact ho, hfr⟩) dX18_number_72 (Nat.le_of_ble_eq_true rfl) (Nat.le_of_ble_eq_true rfl)
    have hy2 := (nx_dg (hi := 57) (show (32 : Int32) < 48 by decide)).mp ⟨c_6, Int32.not_lt.mp c_8⟩
    obtain ⟨p1, p2, p3⟩ := okR_cl (a := 48) (b := 57) rfl rfl (by omega) (by omega) hy2.2
    have he9 : dg (cB bc) (sp + 1) ≤ 9 := by unfold dg; omega
    refine lv_bipush (v := 10) hx hb dX18_number_41 (by decide) ?_
    refine lv_iload_n hx hb dX18_number_43 rfl (lv_at hl 0 rfl) ?_
    refine lv_imul hx hb dX18_number_44 ?_
    refine lv_aload_n hx hb dX18_number_45 rfl (lv_at hl 1 rfl) ?_
    refine gh_calli hg (gh_runV (As := []) (rest := [.int (10 * (nI (dg (cB bc) sp)))]) hC hg (j_X18_next l V _ L q n bc arr cap f0 ml hS u1 u2 u3 hL o wk many (sp + 1) 0 (by omega) ho) 0 (lw_V q1497 q1499 qs18 q178 q1500) ho rfl hd_X18_next ⟨Nat.le_of_ble_eq_true rfl, Nat.le_of_ble_eq_true rfl⟩ rfl hl.1 rfl (Nat.le_of_ble_eq_true rfl) dX18_number_46 ⟨Nat.le_of_ble_eq_true rfl, Nat.le_of_ble_eq_true rfl⟩) (fun r_9 g H locs hg hp => ?_)
    obtain ⟨hp, hq⟩ := hp
    replace hp : (nxC bc n (sp + 1)) = r_9 := hp.symm
    subst hp
    rw [hq] at hg
    refine lv_iadd hx hb dX18_number_49 ?_
    refine lv_bipush (v := 48) hx hb dX18_number_50 (by decide) ?_
    refine lv_isub hx hb dX18_number_52 ?_
    refine W.eq (g2 := F0 mm 53 ls [.int (nI (10 * dg (cB bc) sp + dg (cB bc) (sp + 1)))]) (by rw [(nm_10 hy2)] <;> rfl) ?_
    refine lv_iload_n hx hb dX18_number_53 rfl (lv_at hl 3 rfl) ?_
    refine lv_icmp_gt (tgt := 71) hx hb dX18_number_54 (by decide) (fun c_10 => ?_) (fun c_10 => ?_)
    · skip
      have c_10 : 23 < (10 * dg (cB bc) sp + dg (cB bc) (sp + 1)) := (nx_lt (show ((23 : Int32)) = nI 23 from rfl) rfl (by omega) (by omega)).mp c_10
      have h2 : ¬ isTwo (cB bc) n sp 23 := by intro h9; have := h9.2.2.2; omega
      have hv1 : nmV (cB bc) n sp 23 = dg (cB bc) sp := if_neg h2
      have hv2 : nmP (cB bc) n sp 23 = sp + 1 := if_neg h2
      refine lv_iload_n hx hb dX18_number_71 rfl (lv_at hl 0 rfl) ?_
      exact gh_reti hC hg hr hlk (Or.inl ⟨sg_2, congrArg nI hv1.symm, by rw [hv2]; exact ho, hfr⟩) dX18_number_72 (Nat.le_of_ble_eq_true rfl) (Nat.le_of_ble_eq_true rfl)
    have c_10 : ¬ 23 < (10 * dg (cB bc) sp + dg (cB bc) (sp + 1)) := fun h9 => c_10 ((nx_lt (show ((23 : Int32)) = nI 23 from rfl) rfl (by omega) (by omega)).mpr h9)
    have h2 : isTwo (cB bc) n sp 23 := ⟨h0d, hy2.1, hy2.2, by omega⟩
    have hv1 : nmV (cB bc) n sp 23 = 10 * dg (cB bc) sp + dg (cB bc) (sp + 1) := if_pos h2
    have hv2 : nmP (cB bc) n sp 23 = sp + 2 := if_pos h2
    refine lv_bipush (v := 10) hx hb dX18_number_57 (by decide) ?_
    refine lv_iload_n hx hb dX18_number_59 rfl (lv_at hl 0 rfl) ?_
    refine lv_imul hx hb dX18_number_60 ?_
    refine lv_aload_n hx hb dX18_number_61 rfl (lv_at hl 1 rfl) ?_
    refine lv_bipush (v := 48) hx hb dX18_number_62 (by decide) ?_
    refine lv_bipush (v := 57) hx hb dX18_number_64 (by decide) ?_
    refine gh_calli hg (gh_runV (As := [.int 48, .int 57]) (rest := [.int (10 * (nI (dg (cB bc) sp)))]) hC hg (j_X18_digit0 l V _ L q n bc arr cap f0 ml hS u1 u2 u3 hL o wk many (sp + 1) 0 (by omega) ho rfl 48 57 (by decide) (by decide)) 2 (lw_V q1507 q1509 qs20 q178 q1510) ho rfl hd_X18_digit ⟨Nat.le_of_ble_eq_true rfl, Nat.le_of_ble_eq_true rfl⟩ rfl hl.1 rfl (Nat.le_of_ble_eq_true rfl) dX18_number_66 ⟨Nat.le_of_ble_eq_true rfl, Nat.le_of_ble_eq_true rfl⟩) (fun r_11 g H locs hg hp => ?_)
    rcases hp with ⟨sg_12, hr9, hp⟩ | ⟨sg_12, hp⟩
    · skip
      subst hr9
      have sg_12 : isC (cB bc) n (sp + 1) 48 57 := sg_12
      obtain ⟨hw, hn⟩ := hp
      have hL : g L = some ((L, 0, 0), oo 1 [u1, u2, u3, .ref q]) := (hn _ (gh_neK hL ho rfl)).trans hL
      have hqq : g q = some ((L, 2, 0), oo 18 [.ref arr, .int 0, .int ml, .int (nI n)]) := (hn _ (gh_neK hqq ho rfl)).trans hqq
      have hS : sb_C V L 2 g q n bc arr cap f0 ml := sb_C.keep hS (fun a t x h1 h2 h3 => (hn a (fun e9 => by rw [e9, ho] at h1; cases h1; exact absurd (show 3 = 2 from h3) (by decide))).trans h1)
      have hfr : ∀ b, b ≠ o → g b = g0 b := fun b h1 => (hn b h1).trans (hfr b h1)
      have ho : g o = some ((L, 3, 0), oo 11 [.int (nI ((sp + 1) + 1)), .int 0, .ref wk, .int (nI many), .ref L]) := hw
      refine lv_iadd hx hb dX18_number_69 ?_
      refine lv_istore_n (lv' := [(3, .int ((10 * (nI (dg (cB bc) sp))) + (nI (dg (cB bc) (sp + 1))))), (0, .ref o), (1, .int 0), (2, .int 23)]) hx hb dX18_number_70 rfl hl (by decide) rfl (fun ls hl => ?_)
      refine lv_iload_n hx hb dX18_number_71 rfl (lv_at hl 0 rfl) ?_
      exact gh_reti hC hg hr hlk (Or.inl ⟨sg_2, (nx_add (nx_mul (show ((10 : Int32)) = nI 10 from rfl) rfl) rfl).trans (congrArg nI hv1.symm), by rw [hv2]; exact ho, hfr⟩) dX18_number_72 (Nat.le_of_ble_eq_true rfl) (Nat.le_of_ble_eq_true rfl)
    have sg_12 : ¬ isC (cB bc) n (sp + 1) 48 57 := sg_12
    obtain ⟨hw, hn⟩ := hp
    have hL : g L = some ((L, 0, 0), oo 1 [u1, u2, u3, .ref q]) := (hn _ (gh_neK hL ho rfl)).trans hL
    have hqq : g q = some ((L, 2, 0), oo 18 [.ref arr, .int 0, .int ml, .int (nI n)]) := (hn _ (gh_neK hqq ho rfl)).trans hqq
    have hS : sb_C V L 2 g q n bc arr cap f0 ml := sb_C.keep hS (fun a t x h1 h2 h3 => (hn a (fun e9 => by rw [e9, ho] at h1; cases h1; exact absurd (show 3 = 2 from h3) (by decide))).trans h1)
    have hfr : ∀ b, b ≠ o → g b = g0 b := fun b h1 => (hn b h1).trans (hfr b h1)
    have ho : g o = some ((L, 3, 0), oo 11 [.int (nI (sp + 1)), .int 1, .ref wk, .int (nI many), .ref L]) := hw
    exact absurd hy2 sg_12
  have sg_2 : ¬ isC (cB bc) n sp 48 57 := sg_2
  obtain ⟨hw, hn⟩ := hp
  have hL : g L = some ((L, 0, 0), oo 1 [u1, u2, u3, .ref q]) := (hn _ (gh_neK hL ho rfl)).trans hL
  have hqq : g q = some ((L, 2, 0), oo 18 [.ref arr, .int 0, .int ml, .int (nI n)]) := (hn _ (gh_neK hqq ho rfl)).trans hqq
  have hS : sb_C V L 2 g q n bc arr cap f0 ml := sb_C.keep hS (fun a t x h1 h2 h3 => (hn a (fun e9 => by rw [e9, ho] at h1; cases h1; exact absurd (show 3 = 2 from h3) (by decide))).trans h1)
  have hfr : ∀ b, b ≠ o → g b = g0 b := fun b h1 => (hn b h1).trans (hfr b h1)
  have ho : g o = some ((L, 3, 0), oo 11 [.int (nI sp), .int 1, .ref wk, .int (nI many), .ref L]) := hw
  refine lv_istore_n (lv' := [(3, .int r_1), (0, .ref o), (1, .int 0), (2, .int 23)]) hx hb dX18_number_11 rfl hl (by decide) rfl (fun ls hl => ?_)
  refine lv_aload_n hx hb dX18_number_12 rfl (lv_at hl 1 rfl) ?_
  refine gh_get (v := .int 1) hC hg ho fX18_24_11 rfl dX18_number_13 ?_
  refine lv_if_ne (tgt := 71) hx hb dX18_number_16 (by decide) (fun _ => ?_) (fun c_13 => (absurd c_13 (by decide)))
  refine lv_iload_n hx hb dX18_number_71 rfl (lv_at hl 0 rfl) ?_
  exact gh_reti hC hg hr hlk (Or.inr ⟨sg_2, ho, hfr⟩) dX18_number_72 (Nat.le_of_ble_eq_true rfl) (Nat.le_of_ble_eq_true rfl)
set_option maxHeartbeats 1000000 in
set_option maxRecDepth 100000 in
theorem j_X18_number60 (l : Launch) (V : gh_V) (g0 : gh_G) (L q n : Nat) (bc : Nat → Nat) (arr cap : Nat) (f0 : Nat → Int32) (ml : Int32) (hS0 : sb_C V L 2 g0 q n bc arr cap f0 ml) (u1 u2 u3 : Value) (hL0 : g0 L = some ((L, 0, 0), oo 1 [u1, u2, u3, .ref q])) (o wk many sp : Nat) (wr : Int32) (hsp : sp ≤ 61) (ho0 : g0 o = some ((L, 3, 0), oo 11 [.int (nI sp), .int wr, .ref wk, .int (nI many), .ref L])) (hwr : wr = 0) : MI l yX18_number cX18_number 4 (some .int) ({ frames := 6, cells := 0, slots := 0, locals := 131 } : Room) V [.ref o, .int 1, .int 60] g0 (fun r g1 => (isC (cB bc) n sp 49 57 ∧ r = nI (nmV (cB bc) n sp 60) ∧ g1 o = some ((L, 3, 0), oo 11 [.int (nI (nmP (cB bc) n sp 60)), .int 0, .ref wk, .int (nI many), .ref L]) ∧ ∀ b, b ≠ o → g1 b = g0 b) ∨ (¬ isC (cB bc) n sp 49 57 ∧ g1 o = some ((L, 3, 0), oo 11 [.int (nI sp), .int 1, .ref wk, .int (nI many), .ref L]) ∧ ∀ b, b ≠ o → g1 b = g0 b)) := by
  refine MG.of RX18 (by decide) rfl (Nat.le_of_ble_eq_true rfl) (fun pp ee s mm args below meth c ls hC hg hr hlk hnm hl => ?_)
  have hx := hC.1.1
  have hb := hC.1.2.1
  have hml := hC.1.2.2.1
  have hown := hC.1.2.2.2.1
  have hts := hC.1.2.2.2.2
  have hl : lv_has ls 4 [(0, .ref o), (1, .int 1), (2, .int 60)] := hl
  obtain ⟨g, hg, hgg⟩ : ∃ g, gh_W V (gh_A g0 s.heap.size) s g s.heap [] ∧ g = g0 := ⟨g0, hg, rfl⟩
  have hS := hS0
  have hL := hL0
  have ho := ho0
  rw [← hgg] at hS hL ho
  have hn60 := hS0.2.2.2.2.1
  have hbc := fun i hi => (hS0.2.2.2.2.2.2 i hi).2
  rw [hwr] at ho
  have hqq := hS.1
  have hfr : ∀ b, b ≠ o → g b = g0 b := fun b _ => by rw [hgg]
  have hlo9 : (32 : Int32) < nI 49 := by decide
  refine lv_aload_n hx hb dX18_number_0 rfl (lv_at hl 0 rfl) ?_
  refine lv_bipush (v := 48) hx hb dX18_number_1 (by decide) ?_
  refine lv_iload_n hx hb dX18_number_3 rfl (lv_at hl 1 rfl) ?_
  refine lv_iadd hx hb dX18_number_4 ?_
  refine lv_i2c (v := (nI 49)) hx hb dX18_number_5 (show (((48 + 1) : Int32).toUInt32 % 65536).toInt32 = nI 49 by decide) ?_
  refine lv_bipush (v := 57) hx hb dX18_number_6 (by decide) ?_
  refine gh_calli hg (gh_runV (As := [.int (nI 49), .int 57]) (rest := []) hC hg (j_X18_digit0 l V _ L q n bc arr cap f0 ml hS u1 u2 u3 hL o wk many sp 0 (by omega) ho rfl 49 57 (by decide) (by decide)) 2 (lw_V q1507 q1509 qs20 q178 q1510) ho rfl hd_X18_digit ⟨Nat.le_of_ble_eq_true rfl, Nat.le_of_ble_eq_true rfl⟩ rfl hl.1 rfl (Nat.le_of_ble_eq_true rfl) dX18_number_8 ⟨Nat.le_of_ble_eq_true rfl, Nat.le_of_ble_eq_true rfl⟩) (fun r_1 g H locs hg hp => ?_)
  rcases hp with ⟨sg_2, hr9, hp⟩ | ⟨sg_2, hp⟩
  · skip
    subst hr9
    have sg_2 : isC (cB bc) n sp 49 57 := sg_2
    obtain ⟨hw, hn⟩ := hp
    have hL : g L = some ((L, 0, 0), oo 1 [u1, u2, u3, .ref q]) := (hn _ (gh_neK hL ho rfl)).trans hL
    have hqq : g q = some ((L, 2, 0), oo 18 [.ref arr, .int 0, .int ml, .int (nI n)]) := (hn _ (gh_neK hqq ho rfl)).trans hqq
    have hS : sb_C V L 2 g q n bc arr cap f0 ml := sb_C.keep hS (fun a t x h1 h2 h3 => (hn a (fun e9 => by rw [e9, ho] at h1; cases h1; exact absurd (show 3 = 2 from h3) (by decide))).trans h1)
    have hfr : ∀ b, b ≠ o → g b = g0 b := fun b h1 => (hn b h1).trans (hfr b h1)
    have ho : g o = some ((L, 3, 0), oo 11 [.int (nI (sp + 1)), .int 0, .ref wk, .int (nI many), .ref L]) := hw
    obtain ⟨q1, q2, q3⟩ := okR_cl (a := 49) (b := 57) rfl rfl (by omega) (by omega) sg_2.2
    have hd9 : dg (cB bc) sp ≤ 9 := by unfold dg; omega
    refine lv_istore_n (lv' := [(3, .int (nI (dg (cB bc) sp))), (0, .ref o), (1, .int 1), (2, .int 60)]) hx hb dX18_number_11 rfl hl (by decide) rfl (fun ls hl => ?_)
    refine lv_aload_n hx hb dX18_number_12 rfl (lv_at hl 1 rfl) ?_
    refine gh_get (v := .int 0) hC hg ho fX18_24_11 rfl dX18_number_13 ?_
    refine lv_if_ne (tgt := 71) hx hb dX18_number_16 (by decide) (fun c_3 => (absurd rfl c_3)) (fun _ => ?_)
    refine lv_iload_n hx hb dX18_number_19 rfl (lv_at hl 0 rfl) ?_
    refine lv_if_le (tgt := 71) hx hb dX18_number_20 (by decide) (fun c_4 => ?_) (fun c_4 => ?_)
    · skip
      have c_4 : (dg (cB bc) sp) ≤ 0 := (nx_le rfl (show ((0 : Int32)) = nI 0 from rfl) (by omega) (by omega)).mp c_4
      have h2 : ¬ isTwo (cB bc) n sp 60 := by intro h9; have := h9.1; omega
      have hv1 : nmV (cB bc) n sp 60 = dg (cB bc) sp := if_neg h2
      have hv2 : nmP (cB bc) n sp 60 = sp + 1 := if_neg h2
      refine lv_iload_n hx hb dX18_number_71 rfl (lv_at hl 0 rfl) ?_
      exact gh_reti hC hg hr hlk (Or.inl ⟨sg_2, congrArg nI hv1.symm, by rw [hv2]; exact ho, hfr⟩) dX18_number_72 (Nat.le_of_ble_eq_true rfl) (Nat.le_of_ble_eq_true rfl)
    have c_4 : ¬ (dg (cB bc) sp) ≤ 0 := fun h9 => c_4 ((nx_le rfl (show ((0 : Int32)) = nI 0 from rfl) (by omega) (by omega)).mpr h9)
    have h0d : 0 < dg (cB bc) sp := by omega
    refine lv_aload_n hx hb dX18_number_23 rfl (lv_at hl 1 rfl) ?_
    refine gh_calli hg (gh_runV (As := []) (rest := []) hC hg (j_X18_next l V _ L q n bc arr cap f0 ml hS u1 u2 u3 hL o wk many (sp + 1) 0 (by omega) ho) 0 (lw_V q1497 q1499 qs18 q178 q1500) ho rfl hd_X18_next ⟨Nat.le_of_ble_eq_true rfl, Nat.le_of_ble_eq_true rfl⟩ rfl hl.1 rfl (Nat.le_of_ble_eq_true rfl) dX18_number_24 ⟨Nat.le_of_ble_eq_true rfl, Nat.le_of_ble_eq_true rfl⟩) (fun r_5 g H locs hg hp => ?_)
    obtain ⟨hp, hq⟩ := hp
    replace hp : (nxC bc n (sp + 1)) = r_5 := hp.symm
    subst hp
    rw [hq] at hg
    refine lv_bipush (v := 48) hx hb dX18_number_27 (by decide) ?_
    refine lv_icmp_lt (tgt := 71) hx hb dX18_number_29 (by decide) (fun c_6 => ?_) (fun c_6 => ?_)
    · skip
      have h2 : ¬ isTwo (cB bc) n sp 60 := by intro h9; exact ((nx_dg (hi := 57) (show (32 : Int32) < 48 by decide)).mpr ⟨h9.2.1, h9.2.2.1⟩).1 c_6
      have hv1 : nmV (cB bc) n sp 60 = dg (cB bc) sp := if_neg h2
      have hv2 : nmP (cB bc) n sp 60 = sp + 1 := if_neg h2
      refine lv_iload_n hx hb dX18_number_71 rfl (lv_at hl 0 rfl) ?_
      exact gh_reti hC hg hr hlk (Or.inl ⟨sg_2, congrArg nI hv1.symm, by rw [hv2]; exact ho, hfr⟩) dX18_number_72 (Nat.le_of_ble_eq_true rfl) (Nat.le_of_ble_eq_true rfl)
    refine lv_aload_n hx hb dX18_number_32 rfl (lv_at hl 1 rfl) ?_
    refine gh_calli hg (gh_runV (As := []) (rest := []) hC hg (j_X18_next l V _ L q n bc arr cap f0 ml hS u1 u2 u3 hL o wk many (sp + 1) 0 (by omega) ho) 0 (lw_V q1497 q1499 qs18 q178 q1500) ho rfl hd_X18_next ⟨Nat.le_of_ble_eq_true rfl, Nat.le_of_ble_eq_true rfl⟩ rfl hl.1 rfl (Nat.le_of_ble_eq_true rfl) dX18_number_33 ⟨Nat.le_of_ble_eq_true rfl, Nat.le_of_ble_eq_true rfl⟩) (fun r_7 g H locs hg hp => ?_)
    obtain ⟨hp, hq⟩ := hp
    replace hp : (nxC bc n (sp + 1)) = r_7 := hp.symm
    subst hp
    rw [hq] at hg
    refine lv_bipush (v := 57) hx hb dX18_number_36 (by decide) ?_
    refine lv_icmp_gt (tgt := 71) hx hb dX18_number_38 (by decide) (fun c_8 => ?_) (fun c_8 => ?_)
    · skip
      have h2 : ¬ isTwo (cB bc) n sp 60 := by intro h9; exact absurd ((nx_dg (show (32 : Int32) < 48 by decide)).mpr (show isC (cB bc) n (sp + 1) 48 57 from ⟨h9.2.1, h9.2.2.1⟩)).2 (Int32.not_le.mpr c_8)
      have hv1 : nmV (cB bc) n sp 60 = dg (cB bc) sp := if_neg h2
      have hv2 : nmP (cB bc) n sp 60 = sp + 1 := if_neg h2
      refine lv_iload_n hx hb dX18_number_71 rfl (lv_at hl 0 rfl) ?_
      exact gh_reti hC hg hr hlk (Or.inl ⟨sg_2, congrArg nI hv1.symm, by rw [hv2]; exact ho, hfr⟩) dX18_number_72 (Nat.le_of_ble_eq_true rfl) (Nat.le_of_ble_eq_true rfl)
    have hy2 := (nx_dg (hi := 57) (show (32 : Int32) < 48 by decide)).mp ⟨c_6, Int32.not_lt.mp c_8⟩
    obtain ⟨p1, p2, p3⟩ := okR_cl (a := 48) (b := 57) rfl rfl (by omega) (by omega) hy2.2
    have he9 : dg (cB bc) (sp + 1) ≤ 9 := by unfold dg; omega
    refine lv_bipush (v := 10) hx hb dX18_number_41 (by decide) ?_
    refine lv_iload_n hx hb dX18_number_43 rfl (lv_at hl 0 rfl) ?_
    refine lv_imul hx hb dX18_number_44 ?_
    refine lv_aload_n hx hb dX18_number_45 rfl (lv_at hl 1 rfl) ?_
    refine gh_calli hg (gh_runV (As := []) (rest := [.int (10 * (nI (dg (cB bc) sp)))]) hC hg (j_X18_next l V _ L q n bc arr cap f0 ml hS u1 u2 u3 hL o wk many (sp + 1) 0 (by omega) ho) 0 (lw_V q1497 q1499 qs18 q178 q1500) ho rfl hd_X18_next ⟨Nat.le_of_ble_eq_true rfl, Nat.le_of_ble_eq_true rfl⟩ rfl hl.1 rfl (Nat.le_of_ble_eq_true rfl) dX18_number_46 ⟨Nat.le_of_ble_eq_true rfl, Nat.le_of_ble_eq_true rfl⟩) (fun r_9 g H locs hg hp => ?_)
    obtain ⟨hp, hq⟩ := hp
    replace hp : (nxC bc n (sp + 1)) = r_9 := hp.symm
    subst hp
    rw [hq] at hg
    refine lv_iadd hx hb dX18_number_49 ?_
    refine lv_bipush (v := 48) hx hb dX18_number_50 (by decide) ?_
    refine lv_isub hx hb dX18_number_52 ?_
    refine W.eq (g2 := F0 mm 53 ls [.int (nI (10 * dg (cB bc) sp + dg (cB bc) (sp + 1)))]) (by rw [(nm_10 hy2)] <;> rfl) ?_
    refine lv_iload_n hx hb dX18_number_53 rfl (lv_at hl 3 rfl) ?_
    refine lv_icmp_gt (tgt := 71) hx hb dX18_number_54 (by decide) (fun c_10 => ?_) (fun c_10 => ?_)
    · skip
      have c_10 : 60 < (10 * dg (cB bc) sp + dg (cB bc) (sp + 1)) := (nx_lt (show ((60 : Int32)) = nI 60 from rfl) rfl (by omega) (by omega)).mp c_10
      have h2 : ¬ isTwo (cB bc) n sp 60 := by intro h9; have := h9.2.2.2; omega
      have hv1 : nmV (cB bc) n sp 60 = dg (cB bc) sp := if_neg h2
      have hv2 : nmP (cB bc) n sp 60 = sp + 1 := if_neg h2
      refine lv_iload_n hx hb dX18_number_71 rfl (lv_at hl 0 rfl) ?_
      exact gh_reti hC hg hr hlk (Or.inl ⟨sg_2, congrArg nI hv1.symm, by rw [hv2]; exact ho, hfr⟩) dX18_number_72 (Nat.le_of_ble_eq_true rfl) (Nat.le_of_ble_eq_true rfl)
    have c_10 : ¬ 60 < (10 * dg (cB bc) sp + dg (cB bc) (sp + 1)) := fun h9 => c_10 ((nx_lt (show ((60 : Int32)) = nI 60 from rfl) rfl (by omega) (by omega)).mpr h9)
    have h2 : isTwo (cB bc) n sp 60 := ⟨h0d, hy2.1, hy2.2, by omega⟩
    have hv1 : nmV (cB bc) n sp 60 = 10 * dg (cB bc) sp + dg (cB bc) (sp + 1) := if_pos h2
    have hv2 : nmP (cB bc) n sp 60 = sp + 2 := if_pos h2
    refine lv_bipush (v := 10) hx hb dX18_number_57 (by decide) ?_
    refine lv_iload_n hx hb dX18_number_59 rfl (lv_at hl 0 rfl) ?_
    refine lv_imul hx hb dX18_number_60 ?_
    refine lv_aload_n hx hb dX18_number_61 rfl (lv_at hl 1 rfl) ?_
    refine lv_bipush (v := 48) hx hb dX18_number_62 (by decide) ?_
    refine lv_bipush (v := 57) hx hb dX18_number_64 (by decide) ?_
    refine gh_calli hg (gh_runV (As := [.int 48, .int 57]) (rest := [.int (10 * (nI (dg (cB bc) sp)))]) hC hg (j_X18_digit0 l V _ L q n bc arr cap f0 ml hS u1 u2 u3 hL o wk many (sp + 1) 0 (by omega) ho rfl 48 57 (by decide) (by decide)) 2 (lw_V q1507 q1509 qs20 q178 q1510) ho rfl hd_X18_digit ⟨Nat.le_of_ble_eq_true rfl, Nat.le_of_ble_eq_true rfl⟩ rfl hl.1 rfl (Nat.le_of_ble_eq_true rfl) dX18_number_66 ⟨Nat.le_of_ble_eq_true rfl, Nat.le_of_ble_eq_true rfl⟩) (fun r_11 g H locs hg hp => ?_)
    rcases hp with ⟨sg_12, hr9, hp⟩ | ⟨sg_12, hp⟩
    · skip
      subst hr9
      have sg_12 : isC (cB bc) n (sp + 1) 48 57 := sg_12
      obtain ⟨hw, hn⟩ := hp
      have hL : g L = some ((L, 0, 0), oo 1 [u1, u2, u3, .ref q]) := (hn _ (gh_neK hL ho rfl)).trans hL
      have hqq : g q = some ((L, 2, 0), oo 18 [.ref arr, .int 0, .int ml, .int (nI n)]) := (hn _ (gh_neK hqq ho rfl)).trans hqq
      have hS : sb_C V L 2 g q n bc arr cap f0 ml := sb_C.keep hS (fun a t x h1 h2 h3 => (hn a (fun e9 => by rw [e9, ho] at h1; cases h1; exact absurd (show 3 = 2 from h3) (by decide))).trans h1)
      have hfr : ∀ b, b ≠ o → g b = g0 b := fun b h1 => (hn b h1).trans (hfr b h1)
      have ho : g o = some ((L, 3, 0), oo 11 [.int (nI ((sp + 1) + 1)), .int 0, .ref wk, .int (nI many), .ref L]) := hw
      refine lv_iadd hx hb dX18_number_69 ?_
      refine lv_istore_n (lv' := [(3, .int ((10 * (nI (dg (cB bc) sp))) + (nI (dg (cB bc) (sp + 1))))), (0, .ref o), (1, .int 1), (2, .int 60)]) hx hb dX18_number_70 rfl hl (by decide) rfl (fun ls hl => ?_)
      refine lv_iload_n hx hb dX18_number_71 rfl (lv_at hl 0 rfl) ?_
      exact gh_reti hC hg hr hlk (Or.inl ⟨sg_2, (nx_add (nx_mul (show ((10 : Int32)) = nI 10 from rfl) rfl) rfl).trans (congrArg nI hv1.symm), by rw [hv2]; exact ho, hfr⟩) dX18_number_72 (Nat.le_of_ble_eq_true rfl) (Nat.le_of_ble_eq_true rfl)
    have sg_12 : ¬ isC (cB bc) n (sp + 1) 48 57 := sg_12
    obtain ⟨hw, hn⟩ := hp
    have hL : g L = some ((L, 0, 0), oo 1 [u1, u2, u3, .ref q]) := (hn _ (gh_neK hL ho rfl)).trans hL
    have hqq : g q = some ((L, 2, 0), oo 18 [.ref arr, .int 0, .int ml, .int (nI n)]) := (hn _ (gh_neK hqq ho rfl)).trans hqq
    have hS : sb_C V L 2 g q n bc arr cap f0 ml := sb_C.keep hS (fun a t x h1 h2 h3 => (hn a (fun e9 => by rw [e9, ho] at h1; cases h1; exact absurd (show 3 = 2 from h3) (by decide))).trans h1)
    have hfr : ∀ b, b ≠ o → g b = g0 b := fun b h1 => (hn b h1).trans (hfr b h1)
    have ho : g o = some ((L, 3, 0), oo 11 [.int (nI (sp + 1)), .int 1, .ref wk, .int (nI many), .ref L]) := hw
    exact absurd hy2 sg_12
  have sg_2 : ¬ isC (cB bc) n sp 49 57 := sg_2
  obtain ⟨hw, hn⟩ := hp
  have hL : g L = some ((L, 0, 0), oo 1 [u1, u2, u3, .ref q]) := (hn _ (gh_neK hL ho rfl)).trans hL
  have hqq : g q = some ((L, 2, 0), oo 18 [.ref arr, .int 0, .int ml, .int (nI n)]) := (hn _ (gh_neK hqq ho rfl)).trans hqq
  have hS : sb_C V L 2 g q n bc arr cap f0 ml := sb_C.keep hS (fun a t x h1 h2 h3 => (hn a (fun e9 => by rw [e9, ho] at h1; cases h1; exact absurd (show 3 = 2 from h3) (by decide))).trans h1)
  have hfr : ∀ b, b ≠ o → g b = g0 b := fun b h1 => (hn b h1).trans (hfr b h1)
  have ho : g o = some ((L, 3, 0), oo 11 [.int (nI sp), .int 1, .ref wk, .int (nI many), .ref L]) := hw
  refine lv_istore_n (lv' := [(3, .int r_1), (0, .ref o), (1, .int 1), (2, .int 60)]) hx hb dX18_number_11 rfl hl (by decide) rfl (fun ls hl => ?_)
  refine lv_aload_n hx hb dX18_number_12 rfl (lv_at hl 1 rfl) ?_
  refine gh_get (v := .int 1) hC hg ho fX18_24_11 rfl dX18_number_13 ?_
  refine lv_if_ne (tgt := 71) hx hb dX18_number_16 (by decide) (fun _ => ?_) (fun c_13 => (absurd c_13 (by decide)))
  refine lv_iload_n hx hb dX18_number_71 rfl (lv_at hl 0 rfl) ?_
  exact gh_reti hC hg hr hlk (Or.inr ⟨sg_2, ho, hfr⟩) dX18_number_72 (Nat.le_of_ble_eq_true rfl) (Nat.le_of_ble_eq_true rfl)
set_option maxHeartbeats 1000000 in
set_option maxRecDepth 100000 in
theorem j_X18_numberW (l : Launch) (V : gh_V) (g0 : gh_G) (L q n : Nat) (bc : Nat → Nat) (arr cap : Nat) (f0 : Nat → Int32) (ml : Int32) (hS0 : sb_C V L 2 g0 q n bc arr cap f0 ml) (u1 u2 u3 : Value) (hL0 : g0 L = some ((L, 0, 0), oo 1 [u1, u2, u3, .ref q])) (o wk many sp : Nat) (wr : Int32) (hsp : sp ≤ 61) (ho0 : g0 o = some ((L, 3, 0), oo 11 [.int (nI sp), .int wr, .ref wk, .int (nI many), .ref L])) (hwr : wr = 1) (x y : Int32) : MI l yX18_number cX18_number 4 (some .int) ({ frames := 6, cells := 0, slots := 0, locals := 131 } : Room) V [.ref o, .int x, .int y] g0 (fun r g1 => g1 o = some ((L, 3, 0), oo 11 [.int (nI sp), .int 1, .ref wk, .int (nI many), .ref L]) ∧ ∀ b, b ≠ o → g1 b = g0 b) := by
  refine MG.of RX18 (by decide) rfl (Nat.le_of_ble_eq_true rfl) (fun pp ee s mm args below meth c ls hC hg hr hlk hnm hl => ?_)
  have hx := hC.1.1
  have hb := hC.1.2.1
  have hml := hC.1.2.2.1
  have hown := hC.1.2.2.2.1
  have hts := hC.1.2.2.2.2
  have hl : lv_has ls 4 [(0, .ref o), (1, .int x), (2, .int y)] := hl
  obtain ⟨g, hg, hgg⟩ : ∃ g, gh_W V (gh_A g0 s.heap.size) s g s.heap [] ∧ g = g0 := ⟨g0, hg, rfl⟩
  have hS := hS0
  have hL := hL0
  have ho := ho0
  rw [← hgg] at hS hL ho
  have hn60 := hS0.2.2.2.2.1
  have hbc := fun i hi => (hS0.2.2.2.2.2.2 i hi).2
  rw [hwr] at ho
  have hqq := hS.1
  have hfr : ∀ b, b ≠ o → g b = g0 b := fun b _ => by rw [hgg]
  refine lv_aload_n hx hb dX18_number_0 rfl (lv_at hl 0 rfl) ?_
  refine lv_bipush (v := 48) hx hb dX18_number_1 (by decide) ?_
  refine lv_iload_n hx hb dX18_number_3 rfl (lv_at hl 1 rfl) ?_
  refine lv_iadd hx hb dX18_number_4 ?_
  refine lv_i2c (v := (((48 + x)).toUInt32 % 65536).toInt32) hx hb dX18_number_5 rfl ?_
  refine lv_bipush (v := 57) hx hb dX18_number_6 (by decide) ?_
  refine gh_calli hg (gh_runV (As := [.int ((((48 + x)).toUInt32 % 65536).toInt32), .int 57]) (rest := []) hC hg (j_X18_digitW l V _ L q n bc arr cap f0 ml hS u1 u2 u3 hL o wk many sp 1 (by omega) ho rfl ((((48 + x)).toUInt32 % 65536).toInt32) 57) 2 (lw_V q1507 q1509 qs20 q178 q1510) ho rfl hd_X18_digit ⟨Nat.le_of_ble_eq_true rfl, Nat.le_of_ble_eq_true rfl⟩ rfl hl.1 rfl (Nat.le_of_ble_eq_true rfl) dX18_number_8 ⟨Nat.le_of_ble_eq_true rfl, Nat.le_of_ble_eq_true rfl⟩) (fun r_1 g H locs hg hp => ?_)
  obtain ⟨hw, hn⟩ := hp
  have hL : g L = some ((L, 0, 0), oo 1 [u1, u2, u3, .ref q]) := (hn _ (gh_neK hL ho rfl)).trans hL
  have hqq : g q = some ((L, 2, 0), oo 18 [.ref arr, .int 0, .int ml, .int (nI n)]) := (hn _ (gh_neK hqq ho rfl)).trans hqq
  have hS : sb_C V L 2 g q n bc arr cap f0 ml := sb_C.keep hS (fun a t x h1 h2 h3 => (hn a (fun e9 => by rw [e9, ho] at h1; cases h1; exact absurd (show 3 = 2 from h3) (by decide))).trans h1)
  have hfr : ∀ b, b ≠ o → g b = g0 b := fun b h1 => (hn b h1).trans (hfr b h1)
  have ho : g o = some ((L, 3, 0), oo 11 [.int (nI sp), .int 1, .ref wk, .int (nI many), .ref L]) := hw
  refine lv_istore_n (lv' := [(3, .int r_1), (0, .ref o), (1, .int x), (2, .int y)]) hx hb dX18_number_11 rfl hl (by decide) rfl (fun ls hl => ?_)
  refine lv_aload_n hx hb dX18_number_12 rfl (lv_at hl 1 rfl) ?_
  refine gh_get (v := .int 1) hC hg ho fX18_24_11 rfl dX18_number_13 ?_
  refine lv_if_ne (tgt := 71) hx hb dX18_number_16 (by decide) (fun _ => ?_) (fun c_2 => (absurd c_2 (by decide)))
  refine lv_iload_n hx hb dX18_number_71 rfl (lv_at hl 0 rfl) ?_
  exact gh_reti hC hg hr hlk (⟨ho, hfr⟩) dX18_number_72 (Nat.le_of_ble_eq_true rfl) (Nat.le_of_ble_eq_true rfl)
