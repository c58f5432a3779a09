set_option maxRecDepth 100000
theorem hd_X18_sign : yX18_sign.cls = RX18 ∧ yX18_sign.cls ≠ "java/lang/invoke/MethodHandle" ∧ yX18_sign.cls ≠ "java/lang/invoke/VarHandle" ∧ (parseMethodDescriptor yX18_sign.desc).map (fun d => d.parameters.length) = some 1 := by decide +kernel
set_option maxHeartbeats 1000000 in
set_option maxRecDepth 100000 in
theorem j_X18_opening (l : Launch) (V : gh_V) (g0 : gh_G) (L o : Nat) (x y : Int32) : MR l yX18_opening cX18_opening 3 (some (.object "AnnealingLehr$Work")) ({ frames := 0, cells := 1, slots := 2, locals := 3080 } : Room) V [.ref o, .int x, .int y] g0 (fun r g1 => ∃ qw : Nat, r = some qw ∧ g1 qw = some ((L, 3, 2), lam_ob V 3 [.int x, .int y]) ∧ g0 qw = none ∧ ∀ b, b ≠ qw → g1 b = g0 b) := by
  refine MG.ofN RX18 (by decide) rfl (Nat.le_of_ble_eq_true rfl) (fun pp ee s mm args below meth c ls hC hg hr hlk hnm hl => ?_)
  have hx := hC.1.1
  have hb := hC.1.2.1
  have hml := hC.1.2.2.1
  have hown := hC.1.2.2.2.1
  have hts := hC.1.2.2.2.2
  have hl : lv_has ls 3 [(0, .ref o), (1, .int x), (2, .int y)] := hl
  obtain ⟨g, hg, hgg⟩ : ∃ g, gh_W V (gh_A g0 s.heap.size) s g s.heap [] ∧ g = g0 := ⟨g0, hg, rfl⟩
  refine lv_iload_n hx hb dX18_opening_0 rfl (lv_at hl 1 rfl) ?_
  refine lv_iload_n hx hb dX18_opening_1 rfl (lv_at hl 2 rfl) ?_
  refine gh_ln3 (rest := []) hC hg hnm (fun q9 => (L, 3, 2)) hl.1 rfl (Nat.le_of_ble_eq_true rfl) (Nat.le_of_ble_eq_true rfl) (Nat.le_of_ble_eq_true rfl) (Nat.le_of_ble_eq_true rfl) dX18_opening_2 (fun q_1 g H hg h0 hw hn => ?_)
  have c_2 : g q_1 = some ((L, 3, 2), lam_ob V 3 [.int x, .int y]) := hw
  have h00 : g0 q_1 = none := by rw [← hgg]; exact h0
  have hfq : ∀ b, b ≠ q_1 → g b = g0 b := fun b h1 => (hn b h1).trans (by rw [hgg])
  exact gh_retq (r := some q_1) (Or.inl ⟨_, rfl⟩) hC hg hr hlk (⟨q_1, rfl, c_2, h00, hfq⟩) dX18_opening_7 (Nat.le_of_ble_eq_true rfl) (Nat.le_of_ble_eq_true rfl)
set_option maxHeartbeats 1000000 in
set_option maxRecDepth 100000 in
theorem j_X18_loading (l : Launch) (V : gh_V) (g0 : gh_G) (L o : Nat) (x : Int32) : MR l yX18_loading cX18_loading 2 (some (.object "AnnealingLehr$Work")) ({ frames := 0, cells := 1, slots := 1, locals := 3080 } : Room) V [.ref o, .int x] g0 (fun r g1 => ∃ qw : Nat, r = some qw ∧ g1 qw = some ((L, 3, 2), lam_ob V 4 [.int x]) ∧ g0 qw = none ∧ ∀ b, b ≠ qw → g1 b = g0 b) := by
  refine MG.ofN RX18 (by decide) rfl (Nat.le_of_ble_eq_true rfl) (fun pp ee s mm args below meth c ls hC hg hr hlk hnm hl => ?_)
  have hx := hC.1.1
  have hb := hC.1.2.1
  have hml := hC.1.2.2.1
  have hown := hC.1.2.2.2.1
  have hts := hC.1.2.2.2.2
  have hl : lv_has ls 2 [(0, .ref o), (1, .int x)] := hl
  obtain ⟨g, hg, hgg⟩ : ∃ g, gh_W V (gh_A g0 s.heap.size) s g s.heap [] ∧ g = g0 := ⟨g0, hg, rfl⟩
  refine lv_iload_n hx hb dX18_loading_0 rfl (lv_at hl 1 rfl) ?_
  refine gh_ln4 (rest := []) hC hg hnm (fun q9 => (L, 3, 2)) hl.1 rfl (Nat.le_of_ble_eq_true rfl) (Nat.le_of_ble_eq_true rfl) (Nat.le_of_ble_eq_true rfl) (Nat.le_of_ble_eq_true rfl) dX18_loading_1 (fun q_1 g H hg h0 hw hn => ?_)
  have c_2 : g q_1 = some ((L, 3, 2), lam_ob V 4 [.int x]) := hw
  have h00 : g0 q_1 = none := by rw [← hgg]; exact h0
  have hfq : ∀ b, b ≠ q_1 → g b = g0 b := fun b h1 => (hn b h1).trans (by rw [hgg])
  exact gh_retq (r := some q_1) (Or.inl ⟨_, rfl⟩) hC hg hr hlk (⟨q_1, rfl, c_2, h00, hfq⟩) dX18_loading_6 (Nat.le_of_ble_eq_true rfl) (Nat.le_of_ble_eq_true rfl)
set_option maxHeartbeats 1000000 in
set_option maxRecDepth 100000 in
theorem j_X18_passing (l : Launch) (V : gh_V) (g0 : gh_G) (L o : Nat) (x : Int32) : MR l yX18_passing cX18_passing 2 (some (.object "AnnealingLehr$Work")) ({ frames := 0, cells := 1, slots := 1, locals := 3080 } : Room) V [.ref o, .int x] g0 (fun r g1 => ∃ qw : Nat, r = some qw ∧ g1 qw = some ((L, 3, 2), lam_ob V 12 [.int x]) ∧ g0 qw = none ∧ ∀ b, b ≠ qw → g1 b = g0 b) := by
  refine MG.ofN RX18 (by decide) rfl (Nat.le_of_ble_eq_true rfl) (fun pp ee s mm args below meth c ls hC hg hr hlk hnm hl => ?_)
  have hx := hC.1.1
  have hb := hC.1.2.1
  have hml := hC.1.2.2.1
  have hown := hC.1.2.2.2.1
  have hts := hC.1.2.2.2.2
  have hl : lv_has ls 2 [(0, .ref o), (1, .int x)] := hl
  obtain ⟨g, hg, hgg⟩ : ∃ g, gh_W V (gh_A g0 s.heap.size) s g s.heap [] ∧ g = g0 := ⟨g0, hg, rfl⟩
  refine lv_iload_n hx hb dX18_passing_0 rfl (lv_at hl 1 rfl) ?_
  refine gh_ln12 (rest := []) hC hg hnm (fun q9 => (L, 3, 2)) hl.1 rfl (Nat.le_of_ble_eq_true rfl) (Nat.le_of_ble_eq_true rfl) (Nat.le_of_ble_eq_true rfl) (Nat.le_of_ble_eq_true rfl) dX18_passing_1 (fun q_1 g H hg h0 hw hn => ?_)
  have c_2 : g q_1 = some ((L, 3, 2), lam_ob V 12 [.int x]) := hw
  have h00 : g0 q_1 = none := by rw [← hgg]; exact h0
  have hfq : ∀ b, b ≠ q_1 → g b = g0 b := fun b h1 => (hn b h1).trans (by rw [hgg])
  exact gh_retq (r := some q_1) (Or.inl ⟨_, rfl⟩) hC hg hr hlk (⟨q_1, rfl, c_2, h00, hfq⟩) dX18_passing_6 (Nat.le_of_ble_eq_true rfl) (Nat.le_of_ble_eq_true rfl)
set_option maxHeartbeats 1000000 in
set_option maxRecDepth 100000 in
theorem j_X18_ofZone98 (l : Launch) (V : gh_V) (g0 : gh_G) (L q n : Nat) (bc : Nat → Nat) (arr cap : Nat) (f0 : Nat → Int32) (ml : Int32) (hS0 : sb_C V L 2 g0 q n bc arr cap f0 ml) (u1 u2 u3 : Value) (hL0 : g0 L = some ((L, 0, 0), oo 1 [u1, u2, u3, .ref q])) (o wk many sp : Nat) (wr : Int32) (hsp : sp ≤ 61) (ho0 : g0 o = some ((L, 3, 0), oo 11 [.int (nI sp), .int wr, .ref wk, .int (nI many), .ref L])) (hwr : wr = 0) : MR l yX18_ofZone cX18_ofZone 4 (some (.object "AnnealingLehr$Work")) ({ frames := 6, cells := 1, slots := 2, locals := 3080 } : Room) V [.ref o, .int 98] g0 (fun r g1 => ∃ (qw : Nat) (u v : Int32), r = some qw ∧ g1 qw = some ((L, 3, 2), lam_ob V 0 [.int u, .int v]) ∧ g0 qw = none ∧ g1 o = some ((L, 3, 0), oo 11 [.int (nI ((zE (cB bc) n sp 51).2)), .int (if (zE (cB bc) n sp 51).1 = true then 0 else 1), .ref wk, .int (nI many), .ref L]) ∧ ((zE (cB bc) n sp 51).1 = true → u = nI (dg (cB bc) sp) ∧ v = nI (dg (cB bc) (sp + 1 + 1))) ∧ ∀ b, b ≠ o → b ≠ qw → g1 b = g0 b) := by
  refine MG.ofN RX18 (by decide) rfl (Nat.le_of_ble_eq_true rfl) (fun pp ee s mm args below meth c ls hC hg hr hlk hnm hl => ?_)
  have hx := hC.1.1
  have hb := hC.1.2.1
  have hml := hC.1.2.2.1
  have hown := hC.1.2.2.2.1
  have hts := hC.1.2.2.2.2
  have hl : lv_has ls 4 [(0, .ref o), (1, .int 98)] := hl
  obtain ⟨g, hg, hgg⟩ : ∃ g, gh_W V (gh_A g0 s.heap.size) s g s.heap [] ∧ g = g0 := ⟨g0, hg, rfl⟩
  have hS := hS0
  have hL := hL0
  have ho := ho0
  rw [← hgg] at hS hL ho
  have hn60 := hS0.2.2.2.2.1
  have hbc := fun i hi => (hS0.2.2.2.2.2.2 i hi).2
  rw [hwr] at ho
  have hqq := hS.1
  have hfr : ∀ b, b ≠ o → g b = g0 b := fun b _ => by rw [hgg]
  refine lv_aload_n hx hb dX18_ofZone_0 rfl (lv_at hl 0 rfl) ?_
  refine lv_bipush (v := 48) hx hb dX18_ofZone_1 (by decide) ?_
  refine lv_bipush (v := 55) hx hb dX18_ofZone_3 (by decide) ?_
  refine gh_calli hg (gh_runV (As := [.int 48, .int 55]) (rest := []) hC hg (j_X18_digit0 l V _ L q n bc arr cap f0 ml hS u1 u2 u3 hL o wk many sp 0 (by omega) ho rfl 48 55 (by decide) (by decide)) 2 (lw_V q1507 q1509 qs20 q178 q1510) ho rfl hd_X18_digit ⟨Nat.le_of_ble_eq_true rfl, Nat.le_of_ble_eq_true rfl⟩ rfl hl.1 rfl (Nat.le_of_ble_eq_true rfl) dX18_ofZone_5 ⟨Nat.le_of_ble_eq_true rfl, Nat.le_of_ble_eq_true rfl⟩) (fun r_1 g H locs hg hp => ?_)
  rcases hp with ⟨sg_2, hr9, hp⟩ | ⟨sg_2, hp⟩
  · skip
    subst hr9
    have sg_2 : isC (cB bc) n sp 48 55 := sg_2
    obtain ⟨hw, hn⟩ := hp
    have hL : g L = some ((L, 0, 0), oo 1 [u1, u2, u3, .ref q]) := (hn _ (gh_neK hL ho rfl)).trans hL
    have hqq : g q = some ((L, 2, 0), oo 18 [.ref arr, .int 0, .int ml, .int (nI n)]) := (hn _ (gh_neK hqq ho rfl)).trans hqq
    have hS : sb_C V L 2 g q n bc arr cap f0 ml := sb_C.keep hS (fun a t x h1 h2 h3 => (hn a (fun e9 => by rw [e9, ho] at h1; cases h1; exact absurd (show 3 = 2 from h3) (by decide))).trans h1)
    have hfr : ∀ b, b ≠ o → g b = g0 b := fun b h1 => (hn b h1).trans (hfr b h1)
    have ho : g o = some ((L, 3, 0), oo 11 [.int (nI (sp + 1)), .int 0, .ref wk, .int (nI many), .ref L]) := hw
    have sg_2l := sg_2.1
    refine lv_istore_n (lv' := [(2, .int (nI (dg (cB bc) sp))), (0, .ref o), (1, .int 98)]) hx hb dX18_ofZone_8 rfl hl (by decide) rfl (fun ls hl => ?_)
    refine lv_aload_n hx hb dX18_ofZone_9 rfl (lv_at hl 1 rfl) ?_
    refine lv_bipush (v := 61) hx hb dX18_ofZone_10 (by decide) ?_
    refine gh_callv hg (gh_runV (As := [.int 61]) (rest := []) hC hg (j_X18_sign0 l V _ L q n bc arr cap f0 ml hS u1 u2 u3 hL o wk many (sp + 1) 0 (by omega) ho rfl 61 (by decide)) 1 (lw_V q1511 q1513 qs21 q178 q1514) ho rfl hd_X18_sign ⟨Nat.le_of_ble_eq_true rfl, Nat.le_of_ble_eq_true rfl⟩ rfl hl.1 rfl (Nat.le_of_ble_eq_true rfl) dX18_ofZone_12 ⟨Nat.le_of_ble_eq_true rfl, Nat.le_of_ble_eq_true rfl⟩) (fun g H locs hg hp => ?_)
    rcases hp with ⟨sg_3, hp⟩ | ⟨sg_3, hp⟩
    · skip
      have sg_3 : isC (cB bc) n (sp + 1) 61 61 := sg_3
      obtain ⟨hw, hn⟩ := hp
      have hL : g L = some ((L, 0, 0), oo 1 [u1, u2, u3, .ref q]) := (hn _ (gh_neK hL ho rfl)).trans hL
      have hqq : g q = some ((L, 2, 0), oo 18 [.ref arr, .int 0, .int ml, .int (nI n)]) := (hn _ (gh_neK hqq ho rfl)).trans hqq
      have hS : sb_C V L 2 g q n bc arr cap f0 ml := sb_C.keep hS (fun a t x h1 h2 h3 => (hn a (fun e9 => by rw [e9, ho] at h1; cases h1; exact absurd (show 3 = 2 from h3) (by decide))).trans h1)
      have hfr : ∀ b, b ≠ o → g b = g0 b := fun b h1 => (hn b h1).trans (hfr b h1)
      have ho : g o = some ((L, 3, 0), oo 11 [.int (nI ((sp + 1) + 1)), .int 0, .ref wk, .int (nI many), .ref L]) := hw
      have sg_3l := sg_3.1
      refine lv_aload_n hx hb dX18_ofZone_15 rfl (lv_at hl 1 rfl) ?_
      refine lv_bipush (v := 48) hx hb dX18_ofZone_16 (by decide) ?_
      refine lv_iload_n hx hb dX18_ofZone_18 rfl (lv_at hl 2 rfl) ?_
      refine lv_bipush (v := 114) hx hb dX18_ofZone_19 (by decide) ?_
      refine lv_icmp_ne (tgt := 29) hx hb dX18_ofZone_21 (by decide) (fun _ => ?_) (fun c_4 => (absurd c_4 (by decide)))
      refine lv_bipush (v := 51) hx hb dX18_ofZone_29 (by decide) ?_
      refine gh_calli hg (gh_runV (As := [.int 48, .int 51]) (rest := []) hC hg (j_X18_digit0 l V _ L q n bc arr cap f0 ml hS u1 u2 u3 hL o wk many ((sp + 1) + 1) 0 (by omega) ho rfl 48 51 (by decide) (by decide)) 2 (lw_V q1507 q1509 qs20 q178 q1510) ho rfl hd_X18_digit ⟨Nat.le_of_ble_eq_true rfl, Nat.le_of_ble_eq_true rfl⟩ rfl hl.1 rfl (Nat.le_of_ble_eq_true rfl) dX18_ofZone_31 ⟨Nat.le_of_ble_eq_true rfl, Nat.le_of_ble_eq_true rfl⟩) (fun r_5 g H locs hg hp => ?_)
      rcases hp with ⟨sg_6, hr9, hp⟩ | ⟨sg_6, hp⟩
      · skip
        subst hr9
        have sg_6 : isC (cB bc) n ((sp + 1) + 1) 48 51 := sg_6
        obtain ⟨hw, hn⟩ := hp
        have hL : g L = some ((L, 0, 0), oo 1 [u1, u2, u3, .ref q]) := (hn _ (gh_neK hL ho rfl)).trans hL
        have hqq : g q = some ((L, 2, 0), oo 18 [.ref arr, .int 0, .int ml, .int (nI n)]) := (hn _ (gh_neK hqq ho rfl)).trans hqq
        have hS : sb_C V L 2 g q n bc arr cap f0 ml := sb_C.keep hS (fun a t x h1 h2 h3 => (hn a (fun e9 => by rw [e9, ho] at h1; cases h1; exact absurd (show 3 = 2 from h3) (by decide))).trans h1)
        have hfr : ∀ b, b ≠ o → g b = g0 b := fun b h1 => (hn b h1).trans (hfr b h1)
        have ho : g o = some ((L, 3, 0), oo 11 [.int (nI (((sp + 1) + 1) + 1)), .int 0, .ref wk, .int (nI many), .ref L]) := hw
        have sg_6l := sg_6.1
        refine lv_istore_n (lv' := [(3, .int (nI (dg (cB bc) ((sp + 1) + 1)))), (2, .int (nI (dg (cB bc) sp))), (0, .ref o), (1, .int 98)]) hx hb dX18_ofZone_34 rfl hl (by decide) rfl (fun ls hl => ?_)
        refine lv_iload_n hx hb dX18_ofZone_35 rfl (lv_at hl 3 rfl) ?_
        refine lv_bipush (v := 98) hx hb dX18_ofZone_36 (by decide) ?_
        refine lv_icmp_ne (tgt := 49) hx hb dX18_ofZone_38 (by decide) (fun c_7 => (absurd rfl c_7)) (fun _ => ?_)
        refine lv_iload_n hx hb dX18_ofZone_41 rfl (lv_at hl 1 rfl) ?_
        refine lv_iload_n hx hb dX18_ofZone_42 rfl (lv_at hl 0 rfl) ?_
        have ho_o := ho
        refine gh_ln0 (rest := []) hC hg hnm (fun q9 => (L, 3, 2)) hl.1 rfl (Nat.le_of_ble_eq_true rfl) (Nat.le_of_ble_eq_true rfl) (Nat.le_of_ble_eq_true rfl) (Nat.le_of_ble_eq_true rfl) dX18_ofZone_43 (fun q_8 g H hg h0 hw hn => ?_)
        have hL : g L = some ((L, 0, 0), oo 1 [u1, u2, u3, .ref q]) := (hn _ (gh_neN hL h0)).trans hL
        have ho : g o = some ((L, 3, 0), oo 11 [.int (nI (((sp + 1) + 1) + 1)), .int 0, .ref wk, .int (nI many), .ref L]) := (hn _ (gh_neN ho h0)).trans ho
        have hqq : g q = some ((L, 2, 0), oo 18 [.ref arr, .int 0, .int ml, .int (nI n)]) := (hn _ (gh_neN hqq h0)).trans hqq
        have hS : sb_C V L 2 g q n bc arr cap f0 ml := sb_C.keep hS (fun a t x h1 h2 h3 => (hn a (fun e9 => by rw [e9, h0] at h1; cases h1)).trans h1)
        have c_9 : g q_8 = some ((L, 3, 2), lam_ob V 0 [.int (nI (dg (cB bc) sp)), .int (nI (dg (cB bc) ((sp + 1) + 1)))]) := hw
        have h00 : g0 q_8 = none := (hfr _ (fun e9 => by rw [e9, ho_o] at h0; cases h0)).symm.trans h0
        have hfq : ∀ b, b ≠ o → b ≠ q_8 → g b = g0 b := fun b h1 h2 => (hn b h2).trans (hfr b h1)
        have hz : (zE (cB bc) n sp 51) = (true, sp + 1 + 1 + 1) := by unfold zE; rw [if_pos sg_2, if_pos sg_3, if_pos sg_6]
        exact gh_retq (r := some q_8) (Or.inl ⟨_, rfl⟩) hC hg hr hlk (⟨q_8, _, _, rfl, c_9, h00, by rw [hz]; exact ho, (fun _ => ⟨rfl, rfl⟩), hfq⟩) dX18_ofZone_48 (Nat.le_of_ble_eq_true rfl) (Nat.le_of_ble_eq_true rfl)
      have sg_6 : ¬ isC (cB bc) n ((sp + 1) + 1) 48 51 := sg_6
      obtain ⟨hw, hn⟩ := hp
      have hL : g L = some ((L, 0, 0), oo 1 [u1, u2, u3, .ref q]) := (hn _ (gh_neK hL ho rfl)).trans hL
      have hqq : g q = some ((L, 2, 0), oo 18 [.ref arr, .int 0, .int ml, .int (nI n)]) := (hn _ (gh_neK hqq ho rfl)).trans hqq
      have hS : sb_C V L 2 g q n bc arr cap f0 ml := sb_C.keep hS (fun a t x h1 h2 h3 => (hn a (fun e9 => by rw [e9, ho] at h1; cases h1; exact absurd (show 3 = 2 from h3) (by decide))).trans h1)
      have hfr : ∀ b, b ≠ o → g b = g0 b := fun b h1 => (hn b h1).trans (hfr b h1)
      have ho : g o = some ((L, 3, 0), oo 11 [.int (nI ((sp + 1) + 1)), .int 1, .ref wk, .int (nI many), .ref L]) := hw
      refine lv_istore_n (lv' := [(3, .int r_5), (2, .int (nI (dg (cB bc) sp))), (0, .ref o), (1, .int 98)]) hx hb dX18_ofZone_34 rfl hl (by decide) rfl (fun ls hl => ?_)
      refine lv_iload_n hx hb dX18_ofZone_35 rfl (lv_at hl 3 rfl) ?_
      refine lv_bipush (v := 98) hx hb dX18_ofZone_36 (by decide) ?_
      refine lv_icmp_ne (tgt := 49) hx hb dX18_ofZone_38 (by decide) (fun c_10 => (absurd rfl c_10)) (fun _ => ?_)
      refine lv_iload_n hx hb dX18_ofZone_41 rfl (lv_at hl 1 rfl) ?_
      refine lv_iload_n hx hb dX18_ofZone_42 rfl (lv_at hl 0 rfl) ?_
      have ho_o := ho
      refine gh_ln0 (rest := []) hC hg hnm (fun q9 => (L, 3, 2)) hl.1 rfl (Nat.le_of_ble_eq_true rfl) (Nat.le_of_ble_eq_true rfl) (Nat.le_of_ble_eq_true rfl) (Nat.le_of_ble_eq_true rfl) dX18_ofZone_43 (fun q_11 g H hg h0 hw hn => ?_)
      have hL : g L = some ((L, 0, 0), oo 1 [u1, u2, u3, .ref q]) := (hn _ (gh_neN hL h0)).trans hL
      have ho : g o = some ((L, 3, 0), oo 11 [.int (nI ((sp + 1) + 1)), .int 1, .ref wk, .int (nI many), .ref L]) := (hn _ (gh_neN ho h0)).trans ho
      have hqq : g q = some ((L, 2, 0), oo 18 [.ref arr, .int 0, .int ml, .int (nI n)]) := (hn _ (gh_neN hqq h0)).trans hqq
      have hS : sb_C V L 2 g q n bc arr cap f0 ml := sb_C.keep hS (fun a t x h1 h2 h3 => (hn a (fun e9 => by rw [e9, h0] at h1; cases h1)).trans h1)
      have c_12 : g q_11 = some ((L, 3, 2), lam_ob V 0 [.int (nI (dg (cB bc) sp)), .int r_5]) := hw
      have h00 : g0 q_11 = none := (hfr _ (fun e9 => by rw [e9, ho_o] at h0; cases h0)).symm.trans h0
      have hfq : ∀ b, b ≠ o → b ≠ q_11 → g b = g0 b := fun b h1 h2 => (hn b h2).trans (hfr b h1)
      have hz : (zE (cB bc) n sp 51) = (false, sp + 1 + 1) := by unfold zE; rw [if_pos sg_2, if_pos sg_3, if_neg sg_6]
      exact gh_retq (r := some q_11) (Or.inl ⟨_, rfl⟩) hC hg hr hlk (⟨q_11, _, _, rfl, c_12, h00, by rw [hz]; exact ho, (fun h9 => by rw [hz] at h9; cases h9), hfq⟩) dX18_ofZone_48 (Nat.le_of_ble_eq_true rfl) (Nat.le_of_ble_eq_true rfl)
    have sg_3 : ¬ isC (cB bc) n (sp + 1) 61 61 := sg_3
    obtain ⟨hw, hn⟩ := hp
    have hL : g L = some ((L, 0, 0), oo 1 [u1, u2, u3, .ref q]) := (hn _ (gh_neK hL ho rfl)).trans hL
    have hqq : g q = some ((L, 2, 0), oo 18 [.ref arr, .int 0, .int ml, .int (nI n)]) := (hn _ (gh_neK hqq ho rfl)).trans hqq
    have hS : sb_C V L 2 g q n bc arr cap f0 ml := sb_C.keep hS (fun a t x h1 h2 h3 => (hn a (fun e9 => by rw [e9, ho] at h1; cases h1; exact absurd (show 3 = 2 from h3) (by decide))).trans h1)
    have hfr : ∀ b, b ≠ o → g b = g0 b := fun b h1 => (hn b h1).trans (hfr b h1)
    have ho : g o = some ((L, 3, 0), oo 11 [.int (nI (sp + 1)), .int 1, .ref wk, .int (nI many), .ref L]) := hw
    refine lv_aload_n hx hb dX18_ofZone_15 rfl (lv_at hl 1 rfl) ?_
    refine lv_bipush (v := 48) hx hb dX18_ofZone_16 (by decide) ?_
    refine lv_iload_n hx hb dX18_ofZone_18 rfl (lv_at hl 2 rfl) ?_
    refine lv_bipush (v := 114) hx hb dX18_ofZone_19 (by decide) ?_
    refine lv_icmp_ne (tgt := 29) hx hb dX18_ofZone_21 (by decide) (fun _ => ?_) (fun c_13 => (absurd c_13 (by decide)))
    refine lv_bipush (v := 51) hx hb dX18_ofZone_29 (by decide) ?_
    refine gh_calli hg (gh_runV (As := [.int 48, .int 51]) (rest := []) hC hg (j_X18_digitW l V _ L q n bc arr cap f0 ml hS u1 u2 u3 hL o wk many (sp + 1) 1 (by omega) ho rfl 48 51) 2 (lw_V q1507 q1509 qs20 q178 q1510) ho rfl hd_X18_digit ⟨Nat.le_of_ble_eq_true rfl, Nat.le_of_ble_eq_true rfl⟩ rfl hl.1 rfl (Nat.le_of_ble_eq_true rfl) dX18_ofZone_31 ⟨Nat.le_of_ble_eq_true rfl, Nat.le_of_ble_eq_true rfl⟩) (fun r_14 g H locs hg hp => ?_)
    obtain ⟨hw, hn⟩ := hp
    have hL : g L = some ((L, 0, 0), oo 1 [u1, u2, u3, .ref q]) := (hn _ (gh_neK hL ho rfl)).trans hL
    have hqq : g q = some ((L, 2, 0), oo 18 [.ref arr, .int 0, .int ml, .int (nI n)]) := (hn _ (gh_neK hqq ho rfl)).trans hqq
    have hS : sb_C V L 2 g q n bc arr cap f0 ml := sb_C.keep hS (fun a t x h1 h2 h3 => (hn a (fun e9 => by rw [e9, ho] at h1; cases h1; exact absurd (show 3 = 2 from h3) (by decide))).trans h1)
    have hfr : ∀ b, b ≠ o → g b = g0 b := fun b h1 => (hn b h1).trans (hfr b h1)
    have ho : g o = some ((L, 3, 0), oo 11 [.int (nI (sp + 1)), .int 1, .ref wk, .int (nI many), .ref L]) := hw
    refine lv_istore_n (lv' := [(3, .int r_14), (2, .int (nI (dg (cB bc) sp))), (0, .ref o), (1, .int 98)]) hx hb dX18_ofZone_34 rfl hl (by decide) rfl (fun ls hl => ?_)
    refine lv_iload_n hx hb dX18_ofZone_35 rfl (lv_at hl 3 rfl) ?_
    refine lv_bipush (v := 98) hx hb dX18_ofZone_36 (by decide) ?_
    refine lv_icmp_ne (tgt := 49) hx hb dX18_ofZone_38 (by decide) (fun c_15 => (absurd rfl c_15)) (fun _ => ?_)
    refine lv_iload_n hx hb dX18_ofZone_41 rfl (lv_at hl 1 rfl) ?_
    refine lv_iload_n hx hb dX18_ofZone_42 rfl (lv_at hl 0 rfl) ?_
    have ho_o := ho
    refine gh_ln0 (rest := []) hC hg hnm (fun q9 => (L, 3, 2)) hl.1 rfl (Nat.le_of_ble_eq_true rfl) (Nat.le_of_ble_eq_true rfl) (Nat.le_of_ble_eq_true rfl) (Nat.le_of_ble_eq_true rfl) dX18_ofZone_43 (fun q_16 g H hg h0 hw hn => ?_)
    have hL : g L = some ((L, 0, 0), oo 1 [u1, u2, u3, .ref q]) := (hn _ (gh_neN hL h0)).trans hL
    have ho : g o = some ((L, 3, 0), oo 11 [.int (nI (sp + 1)), .int 1, .ref wk, .int (nI many), .ref L]) := (hn _ (gh_neN ho h0)).trans ho
    have hqq : g q = some ((L, 2, 0), oo 18 [.ref arr, .int 0, .int ml, .int (nI n)]) := (hn _ (gh_neN hqq h0)).trans hqq
    have hS : sb_C V L 2 g q n bc arr cap f0 ml := sb_C.keep hS (fun a t x h1 h2 h3 => (hn a (fun e9 => by rw [e9, h0] at h1; cases h1)).trans h1)
    have c_17 : g q_16 = some ((L, 3, 2), lam_ob V 0 [.int (nI (dg (cB bc) sp)), .int r_14]) := hw
    have h00 : g0 q_16 = none := (hfr _ (fun e9 => by rw [e9, ho_o] at h0; cases h0)).symm.trans h0
    have hfq : ∀ b, b ≠ o → b ≠ q_16 → g b = g0 b := fun b h1 h2 => (hn b h2).trans (hfr b h1)
    have hz : (zE (cB bc) n sp 51) = (false, sp + 1) := by unfold zE; rw [if_pos sg_2, if_neg sg_3]
    exact gh_retq (r := some q_16) (Or.inl ⟨_, rfl⟩) hC hg hr hlk (⟨q_16, _, _, rfl, c_17, h00, by rw [hz]; exact ho, (fun h9 => by rw [hz] at h9; cases h9), hfq⟩) dX18_ofZone_48 (Nat.le_of_ble_eq_true rfl) (Nat.le_of_ble_eq_true rfl)
  have sg_2 : ¬ isC (cB bc) n sp 48 55 := sg_2
  obtain ⟨hw, hn⟩ := hp
  have hL : g L = some ((L, 0, 0), oo 1 [u1, u2, u3, .ref q]) := (hn _ (gh_neK hL ho rfl)).trans hL
  have hqq : g q = some ((L, 2, 0), oo 18 [.ref arr, .int 0, .int ml, .int (nI n)]) := (hn _ (gh_neK hqq ho rfl)).trans hqq
  have hS : sb_C V L 2 g q n bc arr cap f0 ml := sb_C.keep hS (fun a t x h1 h2 h3 => (hn a (fun e9 => by rw [e9, ho] at h1; cases h1; exact absurd (show 3 = 2 from h3) (by decide))).trans h1)
  have hfr : ∀ b, b ≠ o → g b = g0 b := fun b h1 => (hn b h1).trans (hfr b h1)
  have ho : g o = some ((L, 3, 0), oo 11 [.int (nI sp), .int 1, .ref wk, .int (nI many), .ref L]) := hw
  refine lv_istore_n (lv' := [(2, .int r_1), (0, .ref o), (1, .int 98)]) hx hb dX18_ofZone_8 rfl hl (by decide) rfl (fun ls hl => ?_)
  refine lv_aload_n hx hb dX18_ofZone_9 rfl (lv_at hl 1 rfl) ?_
  refine lv_bipush (v := 61) hx hb dX18_ofZone_10 (by decide) ?_
  refine gh_callv hg (gh_runV (As := [.int 61]) (rest := []) hC hg (j_X18_signW l V _ L q n bc arr cap f0 ml hS u1 u2 u3 hL o wk many sp 1 (by omega) ho rfl 61) 1 (lw_V q1511 q1513 qs21 q178 q1514) ho rfl hd_X18_sign ⟨Nat.le_of_ble_eq_true rfl, Nat.le_of_ble_eq_true rfl⟩ rfl hl.1 rfl (Nat.le_of_ble_eq_true rfl) dX18_ofZone_12 ⟨Nat.le_of_ble_eq_true rfl, Nat.le_of_ble_eq_true rfl⟩) (fun g H locs hg hp => ?_)
  obtain ⟨hw, hn⟩ := hp
  have hL : g L = some ((L, 0, 0), oo 1 [u1, u2, u3, .ref q]) := (hn _ (gh_neK hL ho rfl)).trans hL
  have hqq : g q = some ((L, 2, 0), oo 18 [.ref arr, .int 0, .int ml, .int (nI n)]) := (hn _ (gh_neK hqq ho rfl)).trans hqq
  have hS : sb_C V L 2 g q n bc arr cap f0 ml := sb_C.keep hS (fun a t x h1 h2 h3 => (hn a (fun e9 => by rw [e9, ho] at h1; cases h1; exact absurd (show 3 = 2 from h3) (by decide))).trans h1)
  have hfr : ∀ b, b ≠ o → g b = g0 b := fun b h1 => (hn b h1).trans (hfr b h1)
  have ho : g o = some ((L, 3, 0), oo 11 [.int (nI sp), .int 1, .ref wk, .int (nI many), .ref L]) := hw
  refine lv_aload_n hx hb dX18_ofZone_15 rfl (lv_at hl 1 rfl) ?_
  refine lv_bipush (v := 48) hx hb dX18_ofZone_16 (by decide) ?_
  refine lv_iload_n hx hb dX18_ofZone_18 rfl (lv_at hl 2 rfl) ?_
  refine lv_bipush (v := 114) hx hb dX18_ofZone_19 (by decide) ?_
  refine lv_icmp_ne (tgt := 29) hx hb dX18_ofZone_21 (by decide) (fun _ => ?_) (fun c_18 => (absurd c_18 (by decide)))
  refine lv_bipush (v := 51) hx hb dX18_ofZone_29 (by decide) ?_
  refine gh_calli hg (gh_runV (As := [.int 48, .int 51]) (rest := []) hC hg (j_X18_digitW l V _ L q n bc arr cap f0 ml hS u1 u2 u3 hL o wk many sp 1 (by omega) ho rfl 48 51) 2 (lw_V q1507 q1509 qs20 q178 q1510) ho rfl hd_X18_digit ⟨Nat.le_of_ble_eq_true rfl, Nat.le_of_ble_eq_true rfl⟩ rfl hl.1 rfl (Nat.le_of_ble_eq_true rfl) dX18_ofZone_31 ⟨Nat.le_of_ble_eq_true rfl, Nat.le_of_ble_eq_true rfl⟩) (fun r_19 g H locs hg hp => ?_)
  obtain ⟨hw, hn⟩ := hp
  have hL : g L = some ((L, 0, 0), oo 1 [u1, u2, u3, .ref q]) := (hn _ (gh_neK hL ho rfl)).trans hL
  have hqq : g q = some ((L, 2, 0), oo 18 [.ref arr, .int 0, .int ml, .int (nI n)]) := (hn _ (gh_neK hqq ho rfl)).trans hqq
  have hS : sb_C V L 2 g q n bc arr cap f0 ml := sb_C.keep hS (fun a t x h1 h2 h3 => (hn a (fun e9 => by rw [e9, ho] at h1; cases h1; exact absurd (show 3 = 2 from h3) (by decide))).trans h1)
  have hfr : ∀ b, b ≠ o → g b = g0 b := fun b h1 => (hn b h1).trans (hfr b h1)
  have ho : g o = some ((L, 3, 0), oo 11 [.int (nI sp), .int 1, .ref wk, .int (nI many), .ref L]) := hw
  refine lv_istore_n (lv' := [(3, .int r_19), (2, .int r_1), (0, .ref o), (1, .int 98)]) hx hb dX18_ofZone_34 rfl hl (by decide) rfl (fun ls hl => ?_)
  refine lv_iload_n hx hb dX18_ofZone_35 rfl (lv_at hl 3 rfl) ?_
  refine lv_bipush (v := 98) hx hb dX18_ofZone_36 (by decide) ?_
  refine lv_icmp_ne (tgt := 49) hx hb dX18_ofZone_38 (by decide) (fun c_20 => (absurd rfl c_20)) (fun _ => ?_)
  refine lv_iload_n hx hb dX18_ofZone_41 rfl (lv_at hl 1 rfl) ?_
  refine lv_iload_n hx hb dX18_ofZone_42 rfl (lv_at hl 0 rfl) ?_
  have ho_o := ho
  refine gh_ln0 (rest := []) hC hg hnm (fun q9 => (L, 3, 2)) hl.1 rfl (Nat.le_of_ble_eq_true rfl) (Nat.le_of_ble_eq_true rfl) (Nat.le_of_ble_eq_true rfl) (Nat.le_of_ble_eq_true rfl) dX18_ofZone_43 (fun q_21 g H hg h0 hw hn => ?_)
  have hL : g L = some ((L, 0, 0), oo 1 [u1, u2, u3, .ref q]) := (hn _ (gh_neN hL h0)).trans hL
  have ho : g o = some ((L, 3, 0), oo 11 [.int (nI sp), .int 1, .ref wk, .int (nI many), .ref L]) := (hn _ (gh_neN ho h0)).trans ho
  have hqq : g q = some ((L, 2, 0), oo 18 [.ref arr, .int 0, .int ml, .int (nI n)]) := (hn _ (gh_neN hqq h0)).trans hqq
  have hS : sb_C V L 2 g q n bc arr cap f0 ml := sb_C.keep hS (fun a t x h1 h2 h3 => (hn a (fun e9 => by rw [e9, h0] at h1; cases h1)).trans h1)
  have c_22 : g q_21 = some ((L, 3, 2), lam_ob V 0 [.int r_1, .int r_19]) := hw
  have h00 : g0 q_21 = none := (hfr _ (fun e9 => by rw [e9, ho_o] at h0; cases h0)).symm.trans h0
  have hfq : ∀ b, b ≠ o → b ≠ q_21 → g b = g0 b := fun b h1 h2 => (hn b h2).trans (hfr b h1)
  have hz : (zE (cB bc) n sp 51) = (false, sp) := by unfold zE; rw [if_neg sg_2]
  exact gh_retq (r := some q_21) (Or.inl ⟨_, rfl⟩) hC hg hr hlk (⟨q_21, _, _, rfl, c_22, h00, by rw [hz]; exact ho, (fun h9 => by rw [hz] at h9; cases h9), hfq⟩) dX18_ofZone_48 (Nat.le_of_ble_eq_true rfl) (Nat.le_of_ble_eq_true rfl)
set_option maxHeartbeats 1000000 in
set_option maxRecDepth 100000 in
theorem j_X18_ofZone102 (l : Launch) (V : gh_V) (g0 : gh_G) (L q n : Nat) (bc : Nat → Nat) (arr cap : Nat) (f0 : Nat → Int32) (ml : Int32) (hS0 : sb_C V L 2 g0 q n bc arr cap f0 ml) (u1 u2 u3 : Value) (hL0 : g0 L = some ((L, 0, 0), oo 1 [u1, u2, u3, .ref q])) (o wk many sp : Nat) (wr : Int32) (hsp : sp ≤ 61) (ho0 : g0 o = some ((L, 3, 0), oo 11 [.int (nI sp), .int wr, .ref wk, .int (nI many), .ref L])) (hwr : wr = 0) : MR l yX18_ofZone cX18_ofZone 4 (some (.object "AnnealingLehr$Work")) ({ frames := 6, cells := 1, slots := 2, locals := 3080 } : Room) V [.ref o, .int 102] g0 (fun r g1 => ∃ (qw : Nat) (u v : Int32), r = some qw ∧ g1 qw = some ((L, 3, 2), lam_ob V 1 [.int u, .int v]) ∧ g0 qw = none ∧ g1 o = some ((L, 3, 0), oo 11 [.int (nI ((zE (cB bc) n sp 51).2)), .int (if (zE (cB bc) n sp 51).1 = true then 0 else 1), .ref wk, .int (nI many), .ref L]) ∧ ((zE (cB bc) n sp 51).1 = true → u = nI (dg (cB bc) sp) ∧ v = nI (dg (cB bc) (sp + 1 + 1))) ∧ ∀ b, b ≠ o → b ≠ qw → g1 b = g0 b) := by
  refine MG.ofN RX18 (by decide) rfl (Nat.le_of_ble_eq_true rfl) (fun pp ee s mm args below meth c ls hC hg hr hlk hnm hl => ?_)
  have hx := hC.1.1
  have hb := hC.1.2.1
  have hml := hC.1.2.2.1
  have hown := hC.1.2.2.2.1
  have hts := hC.1.2.2.2.2
  have hl : lv_has ls 4 [(0, .ref o), (1, .int 102)] := hl
  obtain ⟨g, hg, hgg⟩ : ∃ g, gh_W V (gh_A g0 s.heap.size) s g s.heap [] ∧ g = g0 := ⟨g0, hg, rfl⟩
  have hS := hS0
  have hL := hL0
  have ho := ho0
  rw [← hgg] at hS hL ho
  have hn60 := hS0.2.2.2.2.1
  have hbc := fun i hi => (hS0.2.2.2.2.2.2 i hi).2
  rw [hwr] at ho
  have hqq := hS.1
  have hfr : ∀ b, b ≠ o → g b = g0 b := fun b _ => by rw [hgg]
  refine lv_aload_n hx hb dX18_ofZone_0 rfl (lv_at hl 0 rfl) ?_
  refine lv_bipush (v := 48) hx hb dX18_ofZone_1 (by decide) ?_
  refine lv_bipush (v := 55) hx hb dX18_ofZone_3 (by decide) ?_
  refine gh_calli hg (gh_runV (As := [.int 48, .int 55]) (rest := []) hC hg (j_X18_digit0 l V _ L q n bc arr cap f0 ml hS u1 u2 u3 hL o wk many sp 0 (by omega) ho rfl 48 55 (by decide) (by decide)) 2 (lw_V q1507 q1509 qs20 q178 q1510) ho rfl hd_X18_digit ⟨Nat.le_of_ble_eq_true rfl, Nat.le_of_ble_eq_true rfl⟩ rfl hl.1 rfl (Nat.le_of_ble_eq_true rfl) dX18_ofZone_5 ⟨Nat.le_of_ble_eq_true rfl, Nat.le_of_ble_eq_true rfl⟩) (fun r_1 g H locs hg hp => ?_)
  rcases hp with ⟨sg_2, hr9, hp⟩ | ⟨sg_2, hp⟩
  · skip
    subst hr9
    have sg_2 : isC (cB bc) n sp 48 55 := sg_2
    obtain ⟨hw, hn⟩ := hp
    have hL : g L = some ((L, 0, 0), oo 1 [u1, u2, u3, .ref q]) := (hn _ (gh_neK hL ho rfl)).trans hL
    have hqq : g q = some ((L, 2, 0), oo 18 [.ref arr, .int 0, .int ml, .int (nI n)]) := (hn _ (gh_neK hqq ho rfl)).trans hqq
    have hS : sb_C V L 2 g q n bc arr cap f0 ml := sb_C.keep hS (fun a t x h1 h2 h3 => (hn a (fun e9 => by rw [e9, ho] at h1; cases h1; exact absurd (show 3 = 2 from h3) (by decide))).trans h1)
    have hfr : ∀ b, b ≠ o → g b = g0 b := fun b h1 => (hn b h1).trans (hfr b h1)
    have ho : g o = some ((L, 3, 0), oo 11 [.int (nI (sp + 1)), .int 0, .ref wk, .int (nI many), .ref L]) := hw
    have sg_2l := sg_2.1
    refine lv_istore_n (lv' := [(2, .int (nI (dg (cB bc) sp))), (0, .ref o), (1, .int 102)]) hx hb dX18_ofZone_8 rfl hl (by decide) rfl (fun ls hl => ?_)
    refine lv_aload_n hx hb dX18_ofZone_9 rfl (lv_at hl 1 rfl) ?_
    refine lv_bipush (v := 61) hx hb dX18_ofZone_10 (by decide) ?_
    refine gh_callv hg (gh_runV (As := [.int 61]) (rest := []) hC hg (j_X18_sign0 l V _ L q n bc arr cap f0 ml hS u1 u2 u3 hL o wk many (sp + 1) 0 (by omega) ho rfl 61 (by decide)) 1 (lw_V q1511 q1513 qs21 q178 q1514) ho rfl hd_X18_sign ⟨Nat.le_of_ble_eq_true rfl, Nat.le_of_ble_eq_true rfl⟩ rfl hl.1 rfl (Nat.le_of_ble_eq_true rfl) dX18_ofZone_12 ⟨Nat.le_of_ble_eq_true rfl, Nat.le_of_ble_eq_true rfl⟩) (fun g H locs hg hp => ?_)
    rcases hp with ⟨sg_3, hp⟩ | ⟨sg_3, hp⟩
    · skip
      have sg_3 : isC (cB bc) n (sp + 1) 61 61 := sg_3
      obtain ⟨hw, hn⟩ := hp
      have hL : g L = some ((L, 0, 0), oo 1 [u1, u2, u3, .ref q]) := (hn _ (gh_neK hL ho rfl)).trans hL
      have hqq : g q = some ((L, 2, 0), oo 18 [.ref arr, .int 0, .int ml, .int (nI n)]) := (hn _ (gh_neK hqq ho rfl)).trans hqq
      have hS : sb_C V L 2 g q n bc arr cap f0 ml := sb_C.keep hS (fun a t x h1 h2 h3 => (hn a (fun e9 => by rw [e9, ho] at h1; cases h1; exact absurd (show 3 = 2 from h3) (by decide))).trans h1)
      have hfr : ∀ b, b ≠ o → g b = g0 b := fun b h1 => (hn b h1).trans (hfr b h1)
      have ho : g o = some ((L, 3, 0), oo 11 [.int (nI ((sp + 1) + 1)), .int 0, .ref wk, .int (nI many), .ref L]) := hw
      have sg_3l := sg_3.1
      refine lv_aload_n hx hb dX18_ofZone_15 rfl (lv_at hl 1 rfl) ?_
      refine lv_bipush (v := 48) hx hb dX18_ofZone_16 (by decide) ?_
      refine lv_iload_n hx hb dX18_ofZone_18 rfl (lv_at hl 2 rfl) ?_
      refine lv_bipush (v := 114) hx hb dX18_ofZone_19 (by decide) ?_
      refine lv_icmp_ne (tgt := 29) hx hb dX18_ofZone_21 (by decide) (fun _ => ?_) (fun c_4 => (absurd c_4 (by decide)))
      refine lv_bipush (v := 51) hx hb dX18_ofZone_29 (by decide) ?_
      refine gh_calli hg (gh_runV (As := [.int 48, .int 51]) (rest := []) hC hg (j_X18_digit0 l V _ L q n bc arr cap f0 ml hS u1 u2 u3 hL o wk many ((sp + 1) + 1) 0 (by omega) ho rfl 48 51 (by decide) (by decide)) 2 (lw_V q1507 q1509 qs20 q178 q1510) ho rfl hd_X18_digit ⟨Nat.le_of_ble_eq_true rfl, Nat.le_of_ble_eq_true rfl⟩ rfl hl.1 rfl (Nat.le_of_ble_eq_true rfl) dX18_ofZone_31 ⟨Nat.le_of_ble_eq_true rfl, Nat.le_of_ble_eq_true rfl⟩) (fun r_5 g H locs hg hp => ?_)
      rcases hp with ⟨sg_6, hr9, hp⟩ | ⟨sg_6, hp⟩
      · skip
        subst hr9
        have sg_6 : isC (cB bc) n ((sp + 1) + 1) 48 51 := sg_6
        obtain ⟨hw, hn⟩ := hp
        have hL : g L = some ((L, 0, 0), oo 1 [u1, u2, u3, .ref q]) := (hn _ (gh_neK hL ho rfl)).trans hL
        have hqq : g q = some ((L, 2, 0), oo 18 [.ref arr, .int 0, .int ml, .int (nI n)]) := (hn _ (gh_neK hqq ho rfl)).trans hqq
        have hS : sb_C V L 2 g q n bc arr cap f0 ml := sb_C.keep hS (fun a t x h1 h2 h3 => (hn a (fun e9 => by rw [e9, ho] at h1; cases h1; exact absurd (show 3 = 2 from h3) (by decide))).trans h1)
        have hfr : ∀ b, b ≠ o → g b = g0 b := fun b h1 => (hn b h1).trans (hfr b h1)
        have ho : g o = some ((L, 3, 0), oo 11 [.int (nI (((sp + 1) + 1) + 1)), .int 0, .ref wk, .int (nI many), .ref L]) := hw
        have sg_6l := sg_6.1
        refine lv_istore_n (lv' := [(3, .int (nI (dg (cB bc) ((sp + 1) + 1)))), (2, .int (nI (dg (cB bc) sp))), (0, .ref o), (1, .int 102)]) hx hb dX18_ofZone_34 rfl hl (by decide) rfl (fun ls hl => ?_)
        refine lv_iload_n hx hb dX18_ofZone_35 rfl (lv_at hl 3 rfl) ?_
        refine lv_bipush (v := 98) hx hb dX18_ofZone_36 (by decide) ?_
        refine lv_icmp_ne (tgt := 49) hx hb dX18_ofZone_38 (by decide) (fun _ => ?_) (fun c_7 => (absurd c_7 (by decide)))
        refine lv_iload_n hx hb dX18_ofZone_49 rfl (lv_at hl 3 rfl) ?_
        refine lv_bipush (v := 102) hx hb dX18_ofZone_50 (by decide) ?_
        refine lv_icmp_ne (tgt := 63) hx hb dX18_ofZone_52 (by decide) (fun c_8 => (absurd rfl c_8)) (fun _ => ?_)
        refine lv_iload_n hx hb dX18_ofZone_55 rfl (lv_at hl 1 rfl) ?_
        refine lv_iload_n hx hb dX18_ofZone_56 rfl (lv_at hl 0 rfl) ?_
        have ho_o := ho
        refine gh_ln1 (rest := []) hC hg hnm (fun q9 => (L, 3, 2)) hl.1 rfl (Nat.le_of_ble_eq_true rfl) (Nat.le_of_ble_eq_true rfl) (Nat.le_of_ble_eq_true rfl) (Nat.le_of_ble_eq_true rfl) dX18_ofZone_57 (fun q_9 g H hg h0 hw hn => ?_)
        have hL : g L = some ((L, 0, 0), oo 1 [u1, u2, u3, .ref q]) := (hn _ (gh_neN hL h0)).trans hL
        have ho : g o = some ((L, 3, 0), oo 11 [.int (nI (((sp + 1) + 1) + 1)), .int 0, .ref wk, .int (nI many), .ref L]) := (hn _ (gh_neN ho h0)).trans ho
        have hqq : g q = some ((L, 2, 0), oo 18 [.ref arr, .int 0, .int ml, .int (nI n)]) := (hn _ (gh_neN hqq h0)).trans hqq
        have hS : sb_C V L 2 g q n bc arr cap f0 ml := sb_C.keep hS (fun a t x h1 h2 h3 => (hn a (fun e9 => by rw [e9, h0] at h1; cases h1)).trans h1)
        have c_10 : g q_9 = some ((L, 3, 2), lam_ob V 1 [.int (nI (dg (cB bc) sp)), .int (nI (dg (cB bc) ((sp + 1) + 1)))]) := hw
        have h00 : g0 q_9 = none := (hfr _ (fun e9 => by rw [e9, ho_o] at h0; cases h0)).symm.trans h0
        have hfq : ∀ b, b ≠ o → b ≠ q_9 → g b = g0 b := fun b h1 h2 => (hn b h2).trans (hfr b h1)
        have hz : (zE (cB bc) n sp 51) = (true, sp + 1 + 1 + 1) := by unfold zE; rw [if_pos sg_2, if_pos sg_3, if_pos sg_6]
        exact gh_retq (r := some q_9) (Or.inl ⟨_, rfl⟩) hC hg hr hlk (⟨q_9, _, _, rfl, c_10, h00, by rw [hz]; exact ho, (fun _ => ⟨rfl, rfl⟩), hfq⟩) dX18_ofZone_62 (Nat.le_of_ble_eq_true rfl) (Nat.le_of_ble_eq_true rfl)
      have sg_6 : ¬ isC (cB bc) n ((sp + 1) + 1) 48 51 := sg_6
      obtain ⟨hw, hn⟩ := hp
      have hL : g L = some ((L, 0, 0), oo 1 [u1, u2, u3, .ref q]) := (hn _ (gh_neK hL ho rfl)).trans hL
      have hqq : g q = some ((L, 2, 0), oo 18 [.ref arr, .int 0, .int ml, .int (nI n)]) := (hn _ (gh_neK hqq ho rfl)).trans hqq
      have hS : sb_C V L 2 g q n bc arr cap f0 ml := sb_C.keep hS (fun a t x h1 h2 h3 => (hn a (fun e9 => by rw [e9, ho] at h1; cases h1; exact absurd (show 3 = 2 from h3) (by decide))).trans h1)
      have hfr : ∀ b, b ≠ o → g b = g0 b := fun b h1 => (hn b h1).trans (hfr b h1)
      have ho : g o = some ((L, 3, 0), oo 11 [.int (nI ((sp + 1) + 1)), .int 1, .ref wk, .int (nI many), .ref L]) := hw
      refine lv_istore_n (lv' := [(3, .int r_5), (2, .int (nI (dg (cB bc) sp))), (0, .ref o), (1, .int 102)]) hx hb dX18_ofZone_34 rfl hl (by decide) rfl (fun ls hl => ?_)
      refine lv_iload_n hx hb dX18_ofZone_35 rfl (lv_at hl 3 rfl) ?_
      refine lv_bipush (v := 98) hx hb dX18_ofZone_36 (by decide) ?_
      refine lv_icmp_ne (tgt := 49) hx hb dX18_ofZone_38 (by decide) (fun _ => ?_) (fun c_11 => (absurd c_11 (by decide)))
      refine lv_iload_n hx hb dX18_ofZone_49 rfl (lv_at hl 3 rfl) ?_
      refine lv_bipush (v := 102) hx hb dX18_ofZone_50 (by decide) ?_
      refine lv_icmp_ne (tgt := 63) hx hb dX18_ofZone_52 (by decide) (fun c_12 => (absurd rfl c_12)) (fun _ => ?_)
      refine lv_iload_n hx hb dX18_ofZone_55 rfl (lv_at hl 1 rfl) ?_
      refine lv_iload_n hx hb dX18_ofZone_56 rfl (lv_at hl 0 rfl) ?_
      have ho_o := ho
      refine gh_ln1 (rest := []) hC hg hnm (fun q9 => (L, 3, 2)) hl.1 rfl (Nat.le_of_ble_eq_true rfl) (Nat.le_of_ble_eq_true rfl) (Nat.le_of_ble_eq_true rfl) (Nat.le_of_ble_eq_true rfl) dX18_ofZone_57 (fun q_13 g H hg h0 hw hn => ?_)
      have hL : g L = some ((L, 0, 0), oo 1 [u1, u2, u3, .ref q]) := (hn _ (gh_neN hL h0)).trans hL
      have ho : g o = some ((L, 3, 0), oo 11 [.int (nI ((sp + 1) + 1)), .int 1, .ref wk, .int (nI many), .ref L]) := (hn _ (gh_neN ho h0)).trans ho
      have hqq : g q = some ((L, 2, 0), oo 18 [.ref arr, .int 0, .int ml, .int (nI n)]) := (hn _ (gh_neN hqq h0)).trans hqq
      have hS : sb_C V L 2 g q n bc arr cap f0 ml := sb_C.keep hS (fun a t x h1 h2 h3 => (hn a (fun e9 => by rw [e9, h0] at h1; cases h1)).trans h1)
      have c_14 : g q_13 = some ((L, 3, 2), lam_ob V 1 [.int (nI (dg (cB bc) sp)), .int r_5]) := hw
      have h00 : g0 q_13 = none := (hfr _ (fun e9 => by rw [e9, ho_o] at h0; cases h0)).symm.trans h0
      have hfq : ∀ b, b ≠ o → b ≠ q_13 → g b = g0 b := fun b h1 h2 => (hn b h2).trans (hfr b h1)
      have hz : (zE (cB bc) n sp 51) = (false, sp + 1 + 1) := by unfold zE; rw [if_pos sg_2, if_pos sg_3, if_neg sg_6]
      exact gh_retq (r := some q_13) (Or.inl ⟨_, rfl⟩) hC hg hr hlk (⟨q_13, _, _, rfl, c_14, h00, by rw [hz]; exact ho, (fun h9 => by rw [hz] at h9; cases h9), hfq⟩) dX18_ofZone_62 (Nat.le_of_ble_eq_true rfl) (Nat.le_of_ble_eq_true rfl)
    have sg_3 : ¬ isC (cB bc) n (sp + 1) 61 61 := sg_3
    obtain ⟨hw, hn⟩ := hp
    have hL : g L = some ((L, 0, 0), oo 1 [u1, u2, u3, .ref q]) := (hn _ (gh_neK hL ho rfl)).trans hL
    have hqq : g q = some ((L, 2, 0), oo 18 [.ref arr, .int 0, .int ml, .int (nI n)]) := (hn _ (gh_neK hqq ho rfl)).trans hqq
    have hS : sb_C V L 2 g q n bc arr cap f0 ml := sb_C.keep hS (fun a t x h1 h2 h3 => (hn a (fun e9 => by rw [e9, ho] at h1; cases h1; exact absurd (show 3 = 2 from h3) (by decide))).trans h1)
    have hfr : ∀ b, b ≠ o → g b = g0 b := fun b h1 => (hn b h1).trans (hfr b h1)
    have ho : g o = some ((L, 3, 0), oo 11 [.int (nI (sp + 1)), .int 1, .ref wk, .int (nI many), .ref L]) := hw
    refine lv_aload_n hx hb dX18_ofZone_15 rfl (lv_at hl 1 rfl) ?_
    refine lv_bipush (v := 48) hx hb dX18_ofZone_16 (by decide) ?_
    refine lv_iload_n hx hb dX18_ofZone_18 rfl (lv_at hl 2 rfl) ?_
    refine lv_bipush (v := 114) hx hb dX18_ofZone_19 (by decide) ?_
    refine lv_icmp_ne (tgt := 29) hx hb dX18_ofZone_21 (by decide) (fun _ => ?_) (fun c_15 => (absurd c_15 (by decide)))
    refine lv_bipush (v := 51) hx hb dX18_ofZone_29 (by decide) ?_
    refine gh_calli hg (gh_runV (As := [.int 48, .int 51]) (rest := []) hC hg (j_X18_digitW l V _ L q n bc arr cap f0 ml hS u1 u2 u3 hL o wk many (sp + 1) 1 (by omega) ho rfl 48 51) 2 (lw_V q1507 q1509 qs20 q178 q1510) ho rfl hd_X18_digit ⟨Nat.le_of_ble_eq_true rfl, Nat.le_of_ble_eq_true rfl⟩ rfl hl.1 rfl (Nat.le_of_ble_eq_true rfl) dX18_ofZone_31 ⟨Nat.le_of_ble_eq_true rfl, Nat.le_of_ble_eq_true rfl⟩) (fun r_16 g H locs hg hp => ?_)
    obtain ⟨hw, hn⟩ := hp
    have hL : g L = some ((L, 0, 0), oo 1 [u1, u2, u3, .ref q]) := (hn _ (gh_neK hL ho rfl)).trans hL
    have hqq : g q = some ((L, 2, 0), oo 18 [.ref arr, .int 0, .int ml, .int (nI n)]) := (hn _ (gh_neK hqq ho rfl)).trans hqq
    have hS : sb_C V L 2 g q n bc arr cap f0 ml := sb_C.keep hS (fun a t x h1 h2 h3 => (hn a (fun e9 => by rw [e9, ho] at h1; cases h1; exact absurd (show 3 = 2 from h3) (by decide))).trans h1)
    have hfr : ∀ b, b ≠ o → g b = g0 b := fun b h1 => (hn b h1).trans (hfr b h1)
    have ho : g o = some ((L, 3, 0), oo 11 [.int (nI (sp + 1)), .int 1, .ref wk, .int (nI many), .ref L]) := hw
    refine lv_istore_n (lv' := [(3, .int r_16), (2, .int (nI (dg (cB bc) sp))), (0, .ref o), (1, .int 102)]) hx hb dX18_ofZone_34 rfl hl (by decide) rfl (fun ls hl => ?_)
    refine lv_iload_n hx hb dX18_ofZone_35 rfl (lv_at hl 3 rfl) ?_
    refine lv_bipush (v := 98) hx hb dX18_ofZone_36 (by decide) ?_
    refine lv_icmp_ne (tgt := 49) hx hb dX18_ofZone_38 (by decide) (fun _ => ?_) (fun c_17 => (absurd c_17 (by decide)))
    refine lv_iload_n hx hb dX18_ofZone_49 rfl (lv_at hl 3 rfl) ?_
    refine lv_bipush (v := 102) hx hb dX18_ofZone_50 (by decide) ?_
    refine lv_icmp_ne (tgt := 63) hx hb dX18_ofZone_52 (by decide) (fun c_18 => (absurd rfl c_18)) (fun _ => ?_)
    refine lv_iload_n hx hb dX18_ofZone_55 rfl (lv_at hl 1 rfl) ?_
    refine lv_iload_n hx hb dX18_ofZone_56 rfl (lv_at hl 0 rfl) ?_
    have ho_o := ho
    refine gh_ln1 (rest := []) hC hg hnm (fun q9 => (L, 3, 2)) hl.1 rfl (Nat.le_of_ble_eq_true rfl) (Nat.le_of_ble_eq_true rfl) (Nat.le_of_ble_eq_true rfl) (Nat.le_of_ble_eq_true rfl) dX18_ofZone_57 (fun q_19 g H hg h0 hw hn => ?_)
    have hL : g L = some ((L, 0, 0), oo 1 [u1, u2, u3, .ref q]) := (hn _ (gh_neN hL h0)).trans hL
    have ho : g o = some ((L, 3, 0), oo 11 [.int (nI (sp + 1)), .int 1, .ref wk, .int (nI many), .ref L]) := (hn _ (gh_neN ho h0)).trans ho
    have hqq : g q = some ((L, 2, 0), oo 18 [.ref arr, .int 0, .int ml, .int (nI n)]) := (hn _ (gh_neN hqq h0)).trans hqq
    have hS : sb_C V L 2 g q n bc arr cap f0 ml := sb_C.keep hS (fun a t x h1 h2 h3 => (hn a (fun e9 => by rw [e9, h0] at h1; cases h1)).trans h1)
    have c_20 : g q_19 = some ((L, 3, 2), lam_ob V 1 [.int (nI (dg (cB bc) sp)), .int r_16]) := hw
    have h00 : g0 q_19 = none := (hfr _ (fun e9 => by rw [e9, ho_o] at h0; cases h0)).symm.trans h0
    have hfq : ∀ b, b ≠ o → b ≠ q_19 → g b = g0 b := fun b h1 h2 => (hn b h2).trans (hfr b h1)
    have hz : (zE (cB bc) n sp 51) = (false, sp + 1) := by unfold zE; rw [if_pos sg_2, if_neg sg_3]
    exact gh_retq (r := some q_19) (Or.inl ⟨_, rfl⟩) hC hg hr hlk (⟨q_19, _, _, rfl, c_20, h00, by rw [hz]; exact ho, (fun h9 => by rw [hz] at h9; cases h9), hfq⟩) dX18_ofZone_62 (Nat.le_of_ble_eq_true rfl) (Nat.le_of_ble_eq_true rfl)
  have sg_2 : ¬ isC (cB bc) n sp 48 55 := sg_2
  obtain ⟨hw, hn⟩ := hp
  have hL : g L = some ((L, 0, 0), oo 1 [u1, u2, u3, .ref q]) := (hn _ (gh_neK hL ho rfl)).trans hL
  have hqq : g q = some ((L, 2, 0), oo 18 [.ref arr, .int 0, .int ml, .int (nI n)]) := (hn _ (gh_neK hqq ho rfl)).trans hqq
  have hS : sb_C V L 2 g q n bc arr cap f0 ml := sb_C.keep hS (fun a t x h1 h2 h3 => (hn a (fun e9 => by rw [e9, ho] at h1; cases h1; exact absurd (show 3 = 2 from h3) (by decide))).trans h1)
  have hfr : ∀ b, b ≠ o → g b = g0 b := fun b h1 => (hn b h1).trans (hfr b h1)
  have ho : g o = some ((L, 3, 0), oo 11 [.int (nI sp), .int 1, .ref wk, .int (nI many), .ref L]) := hw
  refine lv_istore_n (lv' := [(2, .int r_1), (0, .ref o), (1, .int 102)]) hx hb dX18_ofZone_8 rfl hl (by decide) rfl (fun ls hl => ?_)
  refine lv_aload_n hx hb dX18_ofZone_9 rfl (lv_at hl 1 rfl) ?_
  refine lv_bipush (v := 61) hx hb dX18_ofZone_10 (by decide) ?_
  refine gh_callv hg (gh_runV (As := [.int 61]) (rest := []) hC hg (j_X18_signW l V _ L q n bc arr cap f0 ml hS u1 u2 u3 hL o wk many sp 1 (by omega) ho rfl 61) 1 (lw_V q1511 q1513 qs21 q178 q1514) ho rfl hd_X18_sign ⟨Nat.le_of_ble_eq_true rfl, Nat.le_of_ble_eq_true rfl⟩ rfl hl.1 rfl (Nat.le_of_ble_eq_true rfl) dX18_ofZone_12 ⟨Nat.le_of_ble_eq_true rfl, Nat.le_of_ble_eq_true rfl⟩) (fun g H locs hg hp => ?_)
  obtain ⟨hw, hn⟩ := hp
  have hL : g L = some ((L, 0, 0), oo 1 [u1, u2, u3, .ref q]) := (hn _ (gh_neK hL ho rfl)).trans hL
  have hqq : g q = some ((L, 2, 0), oo 18 [.ref arr, .int 0, .int ml, .int (nI n)]) := (hn _ (gh_neK hqq ho rfl)).trans hqq
  have hS : sb_C V L 2 g q n bc arr cap f0 ml := sb_C.keep hS (fun a t x h1 h2 h3 => (hn a (fun e9 => by rw [e9, ho] at h1; cases h1; exact absurd (show 3 = 2 from h3) (by decide))).trans h1)
  have hfr : ∀ b, b ≠ o → g b = g0 b := fun b h1 => (hn b h1).trans (hfr b h1)
  have ho : g o = some ((L, 3, 0), oo 11 [.int (nI sp), .int 1, .ref wk, .int (nI many), .ref L]) := hw
  refine lv_aload_n hx hb dX18_ofZone_15 rfl (lv_at hl 1 rfl) ?_
  refine lv_bipush (v := 48) hx hb dX18_ofZone_16 (by decide) ?_
  refine lv_iload_n hx hb dX18_ofZone_18 rfl (lv_at hl 2 rfl) ?_
  refine lv_bipush (v := 114) hx hb dX18_ofZone_19 (by decide) ?_
  refine lv_icmp_ne (tgt := 29) hx hb dX18_ofZone_21 (by decide) (fun _ => ?_) (fun c_21 => (absurd c_21 (by decide)))
  refine lv_bipush (v := 51) hx hb dX18_ofZone_29 (by decide) ?_
  refine gh_calli hg (gh_runV (As := [.int 48, .int 51]) (rest := []) hC hg (j_X18_digitW l V _ L q n bc arr cap f0 ml hS u1 u2 u3 hL o wk many sp 1 (by omega) ho rfl 48 51) 2 (lw_V q1507 q1509 qs20 q178 q1510) ho rfl hd_X18_digit ⟨Nat.le_of_ble_eq_true rfl, Nat.le_of_ble_eq_true rfl⟩ rfl hl.1 rfl (Nat.le_of_ble_eq_true rfl) dX18_ofZone_31 ⟨Nat.le_of_ble_eq_true rfl, Nat.le_of_ble_eq_true rfl⟩) (fun r_22 g H locs hg hp => ?_)
  obtain ⟨hw, hn⟩ := hp
  have hL : g L = some ((L, 0, 0), oo 1 [u1, u2, u3, .ref q]) := (hn _ (gh_neK hL ho rfl)).trans hL
  have hqq : g q = some ((L, 2, 0), oo 18 [.ref arr, .int 0, .int ml, .int (nI n)]) := (hn _ (gh_neK hqq ho rfl)).trans hqq
  have hS : sb_C V L 2 g q n bc arr cap f0 ml := sb_C.keep hS (fun a t x h1 h2 h3 => (hn a (fun e9 => by rw [e9, ho] at h1; cases h1; exact absurd (show 3 = 2 from h3) (by decide))).trans h1)
  have hfr : ∀ b, b ≠ o → g b = g0 b := fun b h1 => (hn b h1).trans (hfr b h1)
  have ho : g o = some ((L, 3, 0), oo 11 [.int (nI sp), .int 1, .ref wk, .int (nI many), .ref L]) := hw
  refine lv_istore_n (lv' := [(3, .int r_22), (2, .int r_1), (0, .ref o), (1, .int 102)]) hx hb dX18_ofZone_34 rfl hl (by decide) rfl (fun ls hl => ?_)
  refine lv_iload_n hx hb dX18_ofZone_35 rfl (lv_at hl 3 rfl) ?_
  refine lv_bipush (v := 98) hx hb dX18_ofZone_36 (by decide) ?_
  refine lv_icmp_ne (tgt := 49) hx hb dX18_ofZone_38 (by decide) (fun _ => ?_) (fun c_23 => (absurd c_23 (by decide)))
  refine lv_iload_n hx hb dX18_ofZone_49 rfl (lv_at hl 3 rfl) ?_
  refine lv_bipush (v := 102) hx hb dX18_ofZone_50 (by decide) ?_
  refine lv_icmp_ne (tgt := 63) hx hb dX18_ofZone_52 (by decide) (fun c_24 => (absurd rfl c_24)) (fun _ => ?_)
  refine lv_iload_n hx hb dX18_ofZone_55 rfl (lv_at hl 1 rfl) ?_
  refine lv_iload_n hx hb dX18_ofZone_56 rfl (lv_at hl 0 rfl) ?_
  have ho_o := ho
  refine gh_ln1 (rest := []) hC hg hnm (fun q9 => (L, 3, 2)) hl.1 rfl (Nat.le_of_ble_eq_true rfl) (Nat.le_of_ble_eq_true rfl) (Nat.le_of_ble_eq_true rfl) (Nat.le_of_ble_eq_true rfl) dX18_ofZone_57 (fun q_25 g H hg h0 hw hn => ?_)
  have hL : g L = some ((L, 0, 0), oo 1 [u1, u2, u3, .ref q]) := (hn _ (gh_neN hL h0)).trans hL
  have ho : g o = some ((L, 3, 0), oo 11 [.int (nI sp), .int 1, .ref wk, .int (nI many), .ref L]) := (hn _ (gh_neN ho h0)).trans ho
  have hqq : g q = some ((L, 2, 0), oo 18 [.ref arr, .int 0, .int ml, .int (nI n)]) := (hn _ (gh_neN hqq h0)).trans hqq
  have hS : sb_C V L 2 g q n bc arr cap f0 ml := sb_C.keep hS (fun a t x h1 h2 h3 => (hn a (fun e9 => by rw [e9, h0] at h1; cases h1)).trans h1)
  have c_26 : g q_25 = some ((L, 3, 2), lam_ob V 1 [.int r_1, .int r_22]) := hw
  have h00 : g0 q_25 = none := (hfr _ (fun e9 => by rw [e9, ho_o] at h0; cases h0)).symm.trans h0
  have hfq : ∀ b, b ≠ o → b ≠ q_25 → g b = g0 b := fun b h1 h2 => (hn b h2).trans (hfr b h1)
  have hz : (zE (cB bc) n sp 51) = (false, sp) := by unfold zE; rw [if_neg sg_2]
  exact gh_retq (r := some q_25) (Or.inl ⟨_, rfl⟩) hC hg hr hlk (⟨q_25, _, _, rfl, c_26, h00, by rw [hz]; exact ho, (fun h9 => by rw [hz] at h9; cases h9), hfq⟩) dX18_ofZone_62 (Nat.le_of_ble_eq_true rfl) (Nat.le_of_ble_eq_true rfl)
set_option maxHeartbeats 1000000 in
set_option maxRecDepth 100000 in
theorem j_X18_ofZone114 (l : Launch) (V : gh_V) (g0 : gh_G) (L q n : Nat) (bc : Nat → Nat) (arr cap : Nat) (f0 : Nat → Int32) (ml : Int32) (hS0 : sb_C V L 2 g0 q n bc arr cap f0 ml) (u1 u2 u3 : Value) (hL0 : g0 L = some ((L, 0, 0), oo 1 [u1, u2, u3, .ref q])) (o wk many sp : Nat) (wr : Int32) (hsp : sp ≤ 61) (ho0 : g0 o = some ((L, 3, 0), oo 11 [.int (nI sp), .int wr, .ref wk, .int (nI many), .ref L])) (hwr : wr = 0) : MR l yX18_ofZone cX18_ofZone 4 (some (.object "AnnealingLehr$Work")) ({ frames := 6, cells := 1, slots := 2, locals := 3080 } : Room) V [.ref o, .int 114] g0 (fun r g1 => ∃ (qw : Nat) (u v : Int32), r = some qw ∧ g1 qw = some ((L, 3, 2), lam_ob V 2 [.int u, .int v]) ∧ g0 qw = none ∧ g1 o = some ((L, 3, 0), oo 11 [.int (nI ((zE (cB bc) n sp 57).2)), .int (if (zE (cB bc) n sp 57).1 = true then 0 else 1), .ref wk, .int (nI many), .ref L]) ∧ ((zE (cB bc) n sp 57).1 = true → u = nI (dg (cB bc) sp) ∧ v = nI (dg (cB bc) (sp + 1 + 1))) ∧ ∀ b, b ≠ o → b ≠ qw → g1 b = g0 b) := by
  refine MG.ofN RX18 (by decide) rfl (Nat.le_of_ble_eq_true rfl) (fun pp ee s mm args below meth c ls hC hg hr hlk hnm hl => ?_)
  have hx := hC.1.1
  have hb := hC.1.2.1
  have hml := hC.1.2.2.1
  have hown := hC.1.2.2.2.1
  have hts := hC.1.2.2.2.2
  have hl : lv_has ls 4 [(0, .ref o), (1, .int 114)] := hl
  obtain ⟨g, hg, hgg⟩ : ∃ g, gh_W V (gh_A g0 s.heap.size) s g s.heap [] ∧ g = g0 := ⟨g0, hg, rfl⟩
  have hS := hS0
  have hL := hL0
  have ho := ho0
  rw [← hgg] at hS hL ho
  have hn60 := hS0.2.2.2.2.1
  have hbc := fun i hi => (hS0.2.2.2.2.2.2 i hi).2
  rw [hwr] at ho
  have hqq := hS.1
  have hfr : ∀ b, b ≠ o → g b = g0 b := fun b _ => by rw [hgg]
  refine lv_aload_n hx hb dX18_ofZone_0 rfl (lv_at hl 0 rfl) ?_
  refine lv_bipush (v := 48) hx hb dX18_ofZone_1 (by decide) ?_
  refine lv_bipush (v := 55) hx hb dX18_ofZone_3 (by decide) ?_
  refine gh_calli hg (gh_runV (As := [.int 48, .int 55]) (rest := []) hC hg (j_X18_digit0 l V _ L q n bc arr cap f0 ml hS u1 u2 u3 hL o wk many sp 0 (by omega) ho rfl 48 55 (by decide) (by decide)) 2 (lw_V q1507 q1509 qs20 q178 q1510) ho rfl hd_X18_digit ⟨Nat.le_of_ble_eq_true rfl, Nat.le_of_ble_eq_true rfl⟩ rfl hl.1 rfl (Nat.le_of_ble_eq_true rfl) dX18_ofZone_5 ⟨Nat.le_of_ble_eq_true rfl, Nat.le_of_ble_eq_true rfl⟩) (fun r_1 g H locs hg hp => ?_)
  rcases hp with ⟨sg_2, hr9, hp⟩ | ⟨sg_2, hp⟩
  · skip
    subst hr9
    have sg_2 : isC (cB bc) n sp 48 55 := sg_2
    obtain ⟨hw, hn⟩ := hp
    have hL : g L = some ((L, 0, 0), oo 1 [u1, u2, u3, .ref q]) := (hn _ (gh_neK hL ho rfl)).trans hL
    have hqq : g q = some ((L, 2, 0), oo 18 [.ref arr, .int 0, .int ml, .int (nI n)]) := (hn _ (gh_neK hqq ho rfl)).trans hqq
    have hS : sb_C V L 2 g q n bc arr cap f0 ml := sb_C.keep hS (fun a t x h1 h2 h3 => (hn a (fun e9 => by rw [e9, ho] at h1; cases h1; exact absurd (show 3 = 2 from h3) (by decide))).trans h1)
    have hfr : ∀ b, b ≠ o → g b = g0 b := fun b h1 => (hn b h1).trans (hfr b h1)
    have ho : g o = some ((L, 3, 0), oo 11 [.int (nI (sp + 1)), .int 0, .ref wk, .int (nI many), .ref L]) := hw
    have sg_2l := sg_2.1
    refine lv_istore_n (lv' := [(2, .int (nI (dg (cB bc) sp))), (0, .ref o), (1, .int 114)]) hx hb dX18_ofZone_8 rfl hl (by decide) rfl (fun ls hl => ?_)
    refine lv_aload_n hx hb dX18_ofZone_9 rfl (lv_at hl 1 rfl) ?_
    refine lv_bipush (v := 61) hx hb dX18_ofZone_10 (by decide) ?_
    refine gh_callv hg (gh_runV (As := [.int 61]) (rest := []) hC hg (j_X18_sign0 l V _ L q n bc arr cap f0 ml hS u1 u2 u3 hL o wk many (sp + 1) 0 (by omega) ho rfl 61 (by decide)) 1 (lw_V q1511 q1513 qs21 q178 q1514) ho rfl hd_X18_sign ⟨Nat.le_of_ble_eq_true rfl, Nat.le_of_ble_eq_true rfl⟩ rfl hl.1 rfl (Nat.le_of_ble_eq_true rfl) dX18_ofZone_12 ⟨Nat.le_of_ble_eq_true rfl, Nat.le_of_ble_eq_true rfl⟩) (fun g H locs hg hp => ?_)
    rcases hp with ⟨sg_3, hp⟩ | ⟨sg_3, hp⟩
    · skip
      have sg_3 : isC (cB bc) n (sp + 1) 61 61 := sg_3
      obtain ⟨hw, hn⟩ := hp
      have hL : g L = some ((L, 0, 0), oo 1 [u1, u2, u3, .ref q]) := (hn _ (gh_neK hL ho rfl)).trans hL
      have hqq : g q = some ((L, 2, 0), oo 18 [.ref arr, .int 0, .int ml, .int (nI n)]) := (hn _ (gh_neK hqq ho rfl)).trans hqq
      have hS : sb_C V L 2 g q n bc arr cap f0 ml := sb_C.keep hS (fun a t x h1 h2 h3 => (hn a (fun e9 => by rw [e9, ho] at h1; cases h1; exact absurd (show 3 = 2 from h3) (by decide))).trans h1)
      have hfr : ∀ b, b ≠ o → g b = g0 b := fun b h1 => (hn b h1).trans (hfr b h1)
      have ho : g o = some ((L, 3, 0), oo 11 [.int (nI ((sp + 1) + 1)), .int 0, .ref wk, .int (nI many), .ref L]) := hw
      have sg_3l := sg_3.1
      refine lv_aload_n hx hb dX18_ofZone_15 rfl (lv_at hl 1 rfl) ?_
      refine lv_bipush (v := 48) hx hb dX18_ofZone_16 (by decide) ?_
      refine lv_iload_n hx hb dX18_ofZone_18 rfl (lv_at hl 2 rfl) ?_
      refine lv_bipush (v := 114) hx hb dX18_ofZone_19 (by decide) ?_
      refine lv_icmp_ne (tgt := 29) hx hb dX18_ofZone_21 (by decide) (fun c_4 => (absurd rfl c_4)) (fun _ => ?_)
      refine lv_bipush (v := 57) hx hb dX18_ofZone_24 (by decide) ?_
      refine lv_goto (tgt := 31) hx hb dX18_ofZone_26 (by decide) ?_
      refine gh_calli hg (gh_runV (As := [.int 48, .int 57]) (rest := []) hC hg (j_X18_digit0 l V _ L q n bc arr cap f0 ml hS u1 u2 u3 hL o wk many ((sp + 1) + 1) 0 (by omega) ho rfl 48 57 (by decide) (by decide)) 2 (lw_V q1507 q1509 qs20 q178 q1510) ho rfl hd_X18_digit ⟨Nat.le_of_ble_eq_true rfl, Nat.le_of_ble_eq_true rfl⟩ rfl hl.1 rfl (Nat.le_of_ble_eq_true rfl) dX18_ofZone_31 ⟨Nat.le_of_ble_eq_true rfl, Nat.le_of_ble_eq_true rfl⟩) (fun r_5 g H locs hg hp => ?_)
      rcases hp with ⟨sg_6, hr9, hp⟩ | ⟨sg_6, hp⟩
      · skip
        subst hr9
        have sg_6 : isC (cB bc) n ((sp + 1) + 1) 48 57 := sg_6
        obtain ⟨hw, hn⟩ := hp
        have hL : g L = some ((L, 0, 0), oo 1 [u1, u2, u3, .ref q]) := (hn _ (gh_neK hL ho rfl)).trans hL
        have hqq : g q = some ((L, 2, 0), oo 18 [.ref arr, .int 0, .int ml, .int (nI n)]) := (hn _ (gh_neK hqq ho rfl)).trans hqq
        have hS : sb_C V L 2 g q n bc arr cap f0 ml := sb_C.keep hS (fun a t x h1 h2 h3 => (hn a (fun e9 => by rw [e9, ho] at h1; cases h1; exact absurd (show 3 = 2 from h3) (by decide))).trans h1)
        have hfr : ∀ b, b ≠ o → g b = g0 b := fun b h1 => (hn b h1).trans (hfr b h1)
        have ho : g o = some ((L, 3, 0), oo 11 [.int (nI (((sp + 1) + 1) + 1)), .int 0, .ref wk, .int (nI many), .ref L]) := hw
        have sg_6l := sg_6.1
        refine lv_istore_n (lv' := [(3, .int (nI (dg (cB bc) ((sp + 1) + 1)))), (2, .int (nI (dg (cB bc) sp))), (0, .ref o), (1, .int 114)]) hx hb dX18_ofZone_34 rfl hl (by decide) rfl (fun ls hl => ?_)
        refine lv_iload_n hx hb dX18_ofZone_35 rfl (lv_at hl 3 rfl) ?_
        refine lv_bipush (v := 98) hx hb dX18_ofZone_36 (by decide) ?_
        refine lv_icmp_ne (tgt := 49) hx hb dX18_ofZone_38 (by decide) (fun _ => ?_) (fun c_7 => (absurd c_7 (by decide)))
        refine lv_iload_n hx hb dX18_ofZone_49 rfl (lv_at hl 3 rfl) ?_
        refine lv_bipush (v := 102) hx hb dX18_ofZone_50 (by decide) ?_
        refine lv_icmp_ne (tgt := 63) hx hb dX18_ofZone_52 (by decide) (fun _ => ?_) (fun c_8 => (absurd c_8 (by decide)))
        refine lv_iload_n hx hb dX18_ofZone_63 rfl (lv_at hl 1 rfl) ?_
        refine lv_iload_n hx hb dX18_ofZone_64 rfl (lv_at hl 0 rfl) ?_
        have ho_o := ho
        refine gh_ln2 (rest := []) hC hg hnm (fun q9 => (L, 3, 2)) hl.1 rfl (Nat.le_of_ble_eq_true rfl) (Nat.le_of_ble_eq_true rfl) (Nat.le_of_ble_eq_true rfl) (Nat.le_of_ble_eq_true rfl) dX18_ofZone_65 (fun q_9 g H hg h0 hw hn => ?_)
        have hL : g L = some ((L, 0, 0), oo 1 [u1, u2, u3, .ref q]) := (hn _ (gh_neN hL h0)).trans hL
        have ho : g o = some ((L, 3, 0), oo 11 [.int (nI (((sp + 1) + 1) + 1)), .int 0, .ref wk, .int (nI many), .ref L]) := (hn _ (gh_neN ho h0)).trans ho
        have hqq : g q = some ((L, 2, 0), oo 18 [.ref arr, .int 0, .int ml, .int (nI n)]) := (hn _ (gh_neN hqq h0)).trans hqq
        have hS : sb_C V L 2 g q n bc arr cap f0 ml := sb_C.keep hS (fun a t x h1 h2 h3 => (hn a (fun e9 => by rw [e9, h0] at h1; cases h1)).trans h1)
        have c_10 : g q_9 = some ((L, 3, 2), lam_ob V 2 [.int (nI (dg (cB bc) sp)), .int (nI (dg (cB bc) ((sp + 1) + 1)))]) := hw
        have h00 : g0 q_9 = none := (hfr _ (fun e9 => by rw [e9, ho_o] at h0; cases h0)).symm.trans h0
        have hfq : ∀ b, b ≠ o → b ≠ q_9 → g b = g0 b := fun b h1 h2 => (hn b h2).trans (hfr b h1)
        have hz : (zE (cB bc) n sp 57) = (true, sp + 1 + 1 + 1) := by unfold zE; rw [if_pos sg_2, if_pos sg_3, if_pos sg_6]
        exact gh_retq (r := some q_9) (Or.inl ⟨_, rfl⟩) hC hg hr hlk (⟨q_9, _, _, rfl, c_10, h00, by rw [hz]; exact ho, (fun _ => ⟨rfl, rfl⟩), hfq⟩) dX18_ofZone_70 (Nat.le_of_ble_eq_true rfl) (Nat.le_of_ble_eq_true rfl)
      have sg_6 : ¬ isC (cB bc) n ((sp + 1) + 1) 48 57 := sg_6
      obtain ⟨hw, hn⟩ := hp
      have hL : g L = some ((L, 0, 0), oo 1 [u1, u2, u3, .ref q]) := (hn _ (gh_neK hL ho rfl)).trans hL
      have hqq : g q = some ((L, 2, 0), oo 18 [.ref arr, .int 0, .int ml, .int (nI n)]) := (hn _ (gh_neK hqq ho rfl)).trans hqq
      have hS : sb_C V L 2 g q n bc arr cap f0 ml := sb_C.keep hS (fun a t x h1 h2 h3 => (hn a (fun e9 => by rw [e9, ho] at h1; cases h1; exact absurd (show 3 = 2 from h3) (by decide))).trans h1)
      have hfr : ∀ b, b ≠ o → g b = g0 b := fun b h1 => (hn b h1).trans (hfr b h1)
      have ho : g o = some ((L, 3, 0), oo 11 [.int (nI ((sp + 1) + 1)), .int 1, .ref wk, .int (nI many), .ref L]) := hw
      refine lv_istore_n (lv' := [(3, .int r_5), (2, .int (nI (dg (cB bc) sp))), (0, .ref o), (1, .int 114)]) hx hb dX18_ofZone_34 rfl hl (by decide) rfl (fun ls hl => ?_)
      refine lv_iload_n hx hb dX18_ofZone_35 rfl (lv_at hl 3 rfl) ?_
      refine lv_bipush (v := 98) hx hb dX18_ofZone_36 (by decide) ?_
      refine lv_icmp_ne (tgt := 49) hx hb dX18_ofZone_38 (by decide) (fun _ => ?_) (fun c_11 => (absurd c_11 (by decide)))
      refine lv_iload_n hx hb dX18_ofZone_49 rfl (lv_at hl 3 rfl) ?_
      refine lv_bipush (v := 102) hx hb dX18_ofZone_50 (by decide) ?_
      refine lv_icmp_ne (tgt := 63) hx hb dX18_ofZone_52 (by decide) (fun _ => ?_) (fun c_12 => (absurd c_12 (by decide)))
      refine lv_iload_n hx hb dX18_ofZone_63 rfl (lv_at hl 1 rfl) ?_
      refine lv_iload_n hx hb dX18_ofZone_64 rfl (lv_at hl 0 rfl) ?_
      have ho_o := ho
      refine gh_ln2 (rest := []) hC hg hnm (fun q9 => (L, 3, 2)) hl.1 rfl (Nat.le_of_ble_eq_true rfl) (Nat.le_of_ble_eq_true rfl) (Nat.le_of_ble_eq_true rfl) (Nat.le_of_ble_eq_true rfl) dX18_ofZone_65 (fun q_13 g H hg h0 hw hn => ?_)
      have hL : g L = some ((L, 0, 0), oo 1 [u1, u2, u3, .ref q]) := (hn _ (gh_neN hL h0)).trans hL
      have ho : g o = some ((L, 3, 0), oo 11 [.int (nI ((sp + 1) + 1)), .int 1, .ref wk, .int (nI many), .ref L]) := (hn _ (gh_neN ho h0)).trans ho
      have hqq : g q = some ((L, 2, 0), oo 18 [.ref arr, .int 0, .int ml, .int (nI n)]) := (hn _ (gh_neN hqq h0)).trans hqq
      have hS : sb_C V L 2 g q n bc arr cap f0 ml := sb_C.keep hS (fun a t x h1 h2 h3 => (hn a (fun e9 => by rw [e9, h0] at h1; cases h1)).trans h1)
      have c_14 : g q_13 = some ((L, 3, 2), lam_ob V 2 [.int (nI (dg (cB bc) sp)), .int r_5]) := hw
      have h00 : g0 q_13 = none := (hfr _ (fun e9 => by rw [e9, ho_o] at h0; cases h0)).symm.trans h0
      have hfq : ∀ b, b ≠ o → b ≠ q_13 → g b = g0 b := fun b h1 h2 => (hn b h2).trans (hfr b h1)
      have hz : (zE (cB bc) n sp 57) = (false, sp + 1 + 1) := by unfold zE; rw [if_pos sg_2, if_pos sg_3, if_neg sg_6]
      exact gh_retq (r := some q_13) (Or.inl ⟨_, rfl⟩) hC hg hr hlk (⟨q_13, _, _, rfl, c_14, h00, by rw [hz]; exact ho, (fun h9 => by rw [hz] at h9; cases h9), hfq⟩) dX18_ofZone_70 (Nat.le_of_ble_eq_true rfl) (Nat.le_of_ble_eq_true rfl)
    have sg_3 : ¬ isC (cB bc) n (sp + 1) 61 61 := sg_3
    obtain ⟨hw, hn⟩ := hp
    have hL : g L = some ((L, 0, 0), oo 1 [u1, u2, u3, .ref q]) := (hn _ (gh_neK hL ho rfl)).trans hL
    have hqq : g q = some ((L, 2, 0), oo 18 [.ref arr, .int 0, .int ml, .int (nI n)]) := (hn _ (gh_neK hqq ho rfl)).trans hqq
    have hS : sb_C V L 2 g q n bc arr cap f0 ml := sb_C.keep hS (fun a t x h1 h2 h3 => (hn a (fun e9 => by rw [e9, ho] at h1; cases h1; exact absurd (show 3 = 2 from h3) (by decide))).trans h1)
    have hfr : ∀ b, b ≠ o → g b = g0 b := fun b h1 => (hn b h1).trans (hfr b h1)
    have ho : g o = some ((L, 3, 0), oo 11 [.int (nI (sp + 1)), .int 1, .ref wk, .int (nI many), .ref L]) := hw
    refine lv_aload_n hx hb dX18_ofZone_15 rfl (lv_at hl 1 rfl) ?_
    refine lv_bipush (v := 48) hx hb dX18_ofZone_16 (by decide) ?_
    refine lv_iload_n hx hb dX18_ofZone_18 rfl (lv_at hl 2 rfl) ?_
    refine lv_bipush (v := 114) hx hb dX18_ofZone_19 (by decide) ?_
    refine lv_icmp_ne (tgt := 29) hx hb dX18_ofZone_21 (by decide) (fun c_15 => (absurd rfl c_15)) (fun _ => ?_)
    refine lv_bipush (v := 57) hx hb dX18_ofZone_24 (by decide) ?_
    refine lv_goto (tgt := 31) hx hb dX18_ofZone_26 (by decide) ?_
    refine gh_calli hg (gh_runV (As := [.int 48, .int 57]) (rest := []) hC hg (j_X18_digitW l V _ L q n bc arr cap f0 ml hS u1 u2 u3 hL o wk many (sp + 1) 1 (by omega) ho rfl 48 57) 2 (lw_V q1507 q1509 qs20 q178 q1510) ho rfl hd_X18_digit ⟨Nat.le_of_ble_eq_true rfl, Nat.le_of_ble_eq_true rfl⟩ rfl hl.1 rfl (Nat.le_of_ble_eq_true rfl) dX18_ofZone_31 ⟨Nat.le_of_ble_eq_true rfl, Nat.le_of_ble_eq_true rfl⟩) (fun r_16 g H locs hg hp => ?_)
    obtain ⟨hw, hn⟩ := hp
    have hL : g L = some ((L, 0, 0), oo 1 [u1, u2, u3, .ref q]) := (hn _ (gh_neK hL ho rfl)).trans hL
    have hqq : g q = some ((L, 2, 0), oo 18 [.ref arr, .int 0, .int ml, .int (nI n)]) := (hn _ (gh_neK hqq ho rfl)).trans hqq
    have hS : sb_C V L 2 g q n bc arr cap f0 ml := sb_C.keep hS (fun a t x h1 h2 h3 => (hn a (fun e9 => by rw [e9, ho] at h1; cases h1; exact absurd (show 3 = 2 from h3) (by decide))).trans h1)
    have hfr : ∀ b, b ≠ o → g b = g0 b := fun b h1 => (hn b h1).trans (hfr b h1)
    have ho : g o = some ((L, 3, 0), oo 11 [.int (nI (sp + 1)), .int 1, .ref wk, .int (nI many), .ref L]) := hw
    refine lv_istore_n (lv' := [(3, .int r_16), (2, .int (nI (dg (cB bc) sp))), (0, .ref o), (1, .int 114)]) hx hb dX18_ofZone_34 rfl hl (by decide) rfl (fun ls hl => ?_)
    refine lv_iload_n hx hb dX18_ofZone_35 rfl (lv_at hl 3 rfl) ?_
    refine lv_bipush (v := 98) hx hb dX18_ofZone_36 (by decide) ?_
    refine lv_icmp_ne (tgt := 49) hx hb dX18_ofZone_38 (by decide) (fun _ => ?_) (fun c_17 => (absurd c_17 (by decide)))
    refine lv_iload_n hx hb dX18_ofZone_49 rfl (lv_at hl 3 rfl) ?_
    refine lv_bipush (v := 102) hx hb dX18_ofZone_50 (by decide) ?_
    refine lv_icmp_ne (tgt := 63) hx hb dX18_ofZone_52 (by decide) (fun _ => ?_) (fun c_18 => (absurd c_18 (by decide)))
    refine lv_iload_n hx hb dX18_ofZone_63 rfl (lv_at hl 1 rfl) ?_
    refine lv_iload_n hx hb dX18_ofZone_64 rfl (lv_at hl 0 rfl) ?_
    have ho_o := ho
    refine gh_ln2 (rest := []) hC hg hnm (fun q9 => (L, 3, 2)) hl.1 rfl (Nat.le_of_ble_eq_true rfl) (Nat.le_of_ble_eq_true rfl) (Nat.le_of_ble_eq_true rfl) (Nat.le_of_ble_eq_true rfl) dX18_ofZone_65 (fun q_19 g H hg h0 hw hn => ?_)
    have hL : g L = some ((L, 0, 0), oo 1 [u1, u2, u3, .ref q]) := (hn _ (gh_neN hL h0)).trans hL
    have ho : g o = some ((L, 3, 0), oo 11 [.int (nI (sp + 1)), .int 1, .ref wk, .int (nI many), .ref L]) := (hn _ (gh_neN ho h0)).trans ho
    have hqq : g q = some ((L, 2, 0), oo 18 [.ref arr, .int 0, .int ml, .int (nI n)]) := (hn _ (gh_neN hqq h0)).trans hqq
    have hS : sb_C V L 2 g q n bc arr cap f0 ml := sb_C.keep hS (fun a t x h1 h2 h3 => (hn a (fun e9 => by rw [e9, h0] at h1; cases h1)).trans h1)
    have c_20 : g q_19 = some ((L, 3, 2), lam_ob V 2 [.int (nI (dg (cB bc) sp)), .int r_16]) := hw
    have h00 : g0 q_19 = none := (hfr _ (fun e9 => by rw [e9, ho_o] at h0; cases h0)).symm.trans h0
    have hfq : ∀ b, b ≠ o → b ≠ q_19 → g b = g0 b := fun b h1 h2 => (hn b h2).trans (hfr b h1)
    have hz : (zE (cB bc) n sp 57) = (false, sp + 1) := by unfold zE; rw [if_pos sg_2, if_neg sg_3]
    exact gh_retq (r := some q_19) (Or.inl ⟨_, rfl⟩) hC hg hr hlk (⟨q_19, _, _, rfl, c_20, h00, by rw [hz]; exact ho, (fun h9 => by rw [hz] at h9; cases h9), hfq⟩) dX18_ofZone_70 (Nat.le_of_ble_eq_true rfl) (Nat.le_of_ble_eq_true rfl)
  have sg_2 : ¬ isC (cB bc) n sp 48 55 := sg_2
  obtain ⟨hw, hn⟩ := hp
  have hL : g L = some ((L, 0, 0), oo 1 [u1, u2, u3, .ref q]) := (hn _ (gh_neK hL ho rfl)).trans hL
  have hqq : g q = some ((L, 2, 0), oo 18 [.ref arr, .int 0, .int ml, .int (nI n)]) := (hn _ (gh_neK hqq ho rfl)).trans hqq
  have hS : sb_C V L 2 g q n bc arr cap f0 ml := sb_C.keep hS (fun a t x h1 h2 h3 => (hn a (fun e9 => by rw [e9, ho] at h1; cases h1; exact absurd (show 3 = 2 from h3) (by decide))).trans h1)
  have hfr : ∀ b, b ≠ o → g b = g0 b := fun b h1 => (hn b h1).trans (hfr b h1)
  have ho : g o = some ((L, 3, 0), oo 11 [.int (nI sp), .int 1, .ref wk, .int (nI many), .ref L]) := hw
  refine lv_istore_n (lv' := [(2, .int r_1), (0, .ref o), (1, .int 114)]) hx hb dX18_ofZone_8 rfl hl (by decide) rfl (fun ls hl => ?_)
  refine lv_aload_n hx hb dX18_ofZone_9 rfl (lv_at hl 1 rfl) ?_
  refine lv_bipush (v := 61) hx hb dX18_ofZone_10 (by decide) ?_
  refine gh_callv hg (gh_runV (As := [.int 61]) (rest := []) hC hg (j_X18_signW l V _ L q n bc arr cap f0 ml hS u1 u2 u3 hL o wk many sp 1 (by omega) ho rfl 61) 1 (lw_V q1511 q1513 qs21 q178 q1514) ho rfl hd_X18_sign ⟨Nat.le_of_ble_eq_true rfl, Nat.le_of_ble_eq_true rfl⟩ rfl hl.1 rfl (Nat.le_of_ble_eq_true rfl) dX18_ofZone_12 ⟨Nat.le_of_ble_eq_true rfl, Nat.le_of_ble_eq_true rfl⟩) (fun g H locs hg hp => ?_)
  obtain ⟨hw, hn⟩ := hp
  have hL : g L = some ((L, 0, 0), oo 1 [u1, u2, u3, .ref q]) := (hn _ (gh_neK hL ho rfl)).trans hL
  have hqq : g q = some ((L, 2, 0), oo 18 [.ref arr, .int 0, .int ml, .int (nI n)]) := (hn _ (gh_neK hqq ho rfl)).trans hqq
  have hS : sb_C V L 2 g q n bc arr cap f0 ml := sb_C.keep hS (fun a t x h1 h2 h3 => (hn a (fun e9 => by rw [e9, ho] at h1; cases h1; exact absurd (show 3 = 2 from h3) (by decide))).trans h1)
  have hfr : ∀ b, b ≠ o → g b = g0 b := fun b h1 => (hn b h1).trans (hfr b h1)
  have ho : g o = some ((L, 3, 0), oo 11 [.int (nI sp), .int 1, .ref wk, .int (nI many), .ref L]) := hw
  refine lv_aload_n hx hb dX18_ofZone_15 rfl (lv_at hl 1 rfl) ?_
  refine lv_bipush (v := 48) hx hb dX18_ofZone_16 (by decide) ?_
  refine lv_iload_n hx hb dX18_ofZone_18 rfl (lv_at hl 2 rfl) ?_
  refine lv_bipush (v := 114) hx hb dX18_ofZone_19 (by decide) ?_
  refine lv_icmp_ne (tgt := 29) hx hb dX18_ofZone_21 (by decide) (fun c_21 => (absurd rfl c_21)) (fun _ => ?_)
  refine lv_bipush (v := 57) hx hb dX18_ofZone_24 (by decide) ?_
  refine lv_goto (tgt := 31) hx hb dX18_ofZone_26 (by decide) ?_
  refine gh_calli hg (gh_runV (As := [.int 48, .int 57]) (rest := []) hC hg (j_X18_digitW l V _ L q n bc arr cap f0 ml hS u1 u2 u3 hL o wk many sp 1 (by omega) ho rfl 48 57) 2 (lw_V q1507 q1509 qs20 q178 q1510) ho rfl hd_X18_digit ⟨Nat.le_of_ble_eq_true rfl, Nat.le_of_ble_eq_true rfl⟩ rfl hl.1 rfl (Nat.le_of_ble_eq_true rfl) dX18_ofZone_31 ⟨Nat.le_of_ble_eq_true rfl, Nat.le_of_ble_eq_true rfl⟩) (fun r_22 g H locs hg hp => ?_)
  obtain ⟨hw, hn⟩ := hp
  have hL : g L = some ((L, 0, 0), oo 1 [u1, u2, u3, .ref q]) := (hn _ (gh_neK hL ho rfl)).trans hL
  have hqq : g q = some ((L, 2, 0), oo 18 [.ref arr, .int 0, .int ml, .int (nI n)]) := (hn _ (gh_neK hqq ho rfl)).trans hqq
  have hS : sb_C V L 2 g q n bc arr cap f0 ml := sb_C.keep hS (fun a t x h1 h2 h3 => (hn a (fun e9 => by rw [e9, ho] at h1; cases h1; exact absurd (show 3 = 2 from h3) (by decide))).trans h1)
  have hfr : ∀ b, b ≠ o → g b = g0 b := fun b h1 => (hn b h1).trans (hfr b h1)
  have ho : g o = some ((L, 3, 0), oo 11 [.int (nI sp), .int 1, .ref wk, .int (nI many), .ref L]) := hw
  refine lv_istore_n (lv' := [(3, .int r_22), (2, .int r_1), (0, .ref o), (1, .int 114)]) hx hb dX18_ofZone_34 rfl hl (by decide) rfl (fun ls hl => ?_)
  refine lv_iload_n hx hb dX18_ofZone_35 rfl (lv_at hl 3 rfl) ?_
  refine lv_bipush (v := 98) hx hb dX18_ofZone_36 (by decide) ?_
  refine lv_icmp_ne (tgt := 49) hx hb dX18_ofZone_38 (by decide) (fun _ => ?_) (fun c_23 => (absurd c_23 (by decide)))
  refine lv_iload_n hx hb dX18_ofZone_49 rfl (lv_at hl 3 rfl) ?_
  refine lv_bipush (v := 102) hx hb dX18_ofZone_50 (by decide) ?_
  refine lv_icmp_ne (tgt := 63) hx hb dX18_ofZone_52 (by decide) (fun _ => ?_) (fun c_24 => (absurd c_24 (by decide)))
  refine lv_iload_n hx hb dX18_ofZone_63 rfl (lv_at hl 1 rfl) ?_
  refine lv_iload_n hx hb dX18_ofZone_64 rfl (lv_at hl 0 rfl) ?_
  have ho_o := ho
  refine gh_ln2 (rest := []) hC hg hnm (fun q9 => (L, 3, 2)) hl.1 rfl (Nat.le_of_ble_eq_true rfl) (Nat.le_of_ble_eq_true rfl) (Nat.le_of_ble_eq_true rfl) (Nat.le_of_ble_eq_true rfl) dX18_ofZone_65 (fun q_25 g H hg h0 hw hn => ?_)
  have hL : g L = some ((L, 0, 0), oo 1 [u1, u2, u3, .ref q]) := (hn _ (gh_neN hL h0)).trans hL
  have ho : g o = some ((L, 3, 0), oo 11 [.int (nI sp), .int 1, .ref wk, .int (nI many), .ref L]) := (hn _ (gh_neN ho h0)).trans ho
  have hqq : g q = some ((L, 2, 0), oo 18 [.ref arr, .int 0, .int ml, .int (nI n)]) := (hn _ (gh_neN hqq h0)).trans hqq
  have hS : sb_C V L 2 g q n bc arr cap f0 ml := sb_C.keep hS (fun a t x h1 h2 h3 => (hn a (fun e9 => by rw [e9, h0] at h1; cases h1)).trans h1)
  have c_26 : g q_25 = some ((L, 3, 2), lam_ob V 2 [.int r_1, .int r_22]) := hw
  have h00 : g0 q_25 = none := (hfr _ (fun e9 => by rw [e9, ho_o] at h0; cases h0)).symm.trans h0
  have hfq : ∀ b, b ≠ o → b ≠ q_25 → g b = g0 b := fun b h1 h2 => (hn b h2).trans (hfr b h1)
  have hz : (zE (cB bc) n sp 57) = (false, sp) := by unfold zE; rw [if_neg sg_2]
  exact gh_retq (r := some q_25) (Or.inl ⟨_, rfl⟩) hC hg hr hlk (⟨q_25, _, _, rfl, c_26, h00, by rw [hz]; exact ho, (fun h9 => by rw [hz] at h9; cases h9), hfq⟩) dX18_ofZone_70 (Nat.le_of_ble_eq_true rfl) (Nat.le_of_ble_eq_true rfl)
