set_option maxRecDepth 100000
theorem hd_X18_part : yX18_part.cls = RX18 ∧ yX18_part.cls ≠ "java/lang/invoke/MethodHandle" ∧ yX18_part.cls ≠ "java/lang/invoke/VarHandle" ∧ (parseMethodDescriptor yX18_part.desc).map (fun d => d.parameters.length) = some 0 := by decide +kernel
set_option maxHeartbeats 1000000 in
set_option maxRecDepth 100000 in
theorem j_X18_readAll (l : Launch) (V : gh_V) (g0 : gh_G) (L q n : Nat) (bc : Nat → Nat) (arr cap : Nat) (f0 : Nat → Int32) (ml : Int32) (hS0 : sb_C V L 2 g0 q n bc arr cap f0 ml) (u1 u2 u3 : Value) (hL0 : g0 L = some ((L, 0, 0), oo 1 [u1, u2, u3, .ref q])) (o wk : Nat) (f : Nat → Option Nat) (ho0 : g0 o = some ((L, 3, 0), oo 11 [.int (nI 0), .int 0, .ref wk, .int (nI 0), .ref L])) (hk0 : g0 wk = some ((L, 3, 1), aq V 7 60 f)) : MI l yX18_readAll cX18_readAll 1 (some .boolean) ({ frames := 9, cells := 33, slots := 66, locals := 3125 } : Room) V [.ref o] g0 (fun r g1 => r = (if (txE (cB bc) n 61 0).1 = true then 1 else 0) ∧ ∃ (k : Nat) (fi : Nat → Option Nat), g1 o = some ((L, 3, 0), oo 11 [.int (nI ((txE (cB bc) n 61 0).2)), .int (if (txE (cB bc) n 61 0).1 = true then 0 else 1), .ref wk, .int (nI k), .ref L]) ∧ g1 wk = some ((L, 3, 1), aq V 7 60 fi) ∧ ((txE (cB bc) n 61 0).1 = true → ∃ i : Nat, k = i + 1 ∧ rd_I V g1 L (cB bc) n i fi ∧ ¬ (ptE (cB bc) n (pz (cB bc) n i)).2 < n) ∧ ∀ b x, g0 b = some x → b ≠ o → b ≠ wk → g1 b = some x) := by
  refine MG.of RX18 (by decide) rfl (Nat.le_of_ble_eq_true rfl) (fun pp ee s mm args below meth c ls hC hg hr hlk hnm hl => ?_)
  have hx := hC.1.1
  have hb := hC.1.2.1
  have hml := hC.1.2.2.1
  have hown := hC.1.2.2.2.1
  have hts := hC.1.2.2.2.2
  have hl : lv_has ls 1 [(0, .ref o)] := hl
  obtain ⟨g, hg, hgg⟩ : ∃ g, gh_W V (gh_A g0 s.heap.size) s g s.heap [] ∧ g = g0 := ⟨g0, hg, rfl⟩
  have hsp9 : (0 : Nat) ≤ 61 := Nat.zero_le _
  have hS := hS0
  have hL := hL0
  have ho := ho0
  have hk := hk0
  rw [← hgg] at hS hL ho hk
  have hn60 := hS0.2.2.2.2.1
  have hqq := hS.1
  have hex : ∀ b x, g0 b = some x → b ≠ o → b ≠ wk → g b = some x := fun b x h _ _ => by rw [hgg]; exact h
  refine lv_aload_n hx hb dX18_readAll_0 rfl (lv_at hl 0 rfl) ?_
  refine gh_callv hg (gh_runV (As := []) (rest := []) hC hg (j_X18_part0 l V _ L q n bc arr cap f0 ml hS u1 u2 u3 hL o wk 0 0 0 (by omega) ho rfl f hk (by omega)) 0 (lw_V q1493 q1495 qs17 q178 q1496) ho rfl hd_X18_part ⟨(by first | omega | (dsimp only; omega) | exact Nat.le_of_ble_eq_true rfl), (by first | omega | (dsimp only; omega) | exact Nat.le_of_ble_eq_true rfl)⟩ rfl hl.1 rfl ((by first | omega | (dsimp only; omega) | exact Nat.le_of_ble_eq_true rfl)) dX18_readAll_1 ⟨(by first | omega | (dsimp only; omega) | exact Nat.le_of_ble_eq_true rfl), (by first | omega | (dsimp only; omega) | exact Nat.le_of_ble_eq_true rfl)⟩) (fun g H locs hg hp => ?_)
  obtain ⟨qw, ho9, hk9, hl9, hfx9⟩ := hp
  have hS : sb_C V L 2 g q n bc arr cap f0 ml := sb_C.keep hS (fun a t x h1 h2 h3 => hfx9 a _ h1 (fun e9 => by rw [e9, ho] at h1; cases h1; exact absurd (show 3 = 2 from h3) (by decide)) (fun e9 => by rw [e9, hk] at h1; cases h1; exact absurd (show 3 = 2 from h3) (by decide)))
  have hex : ∀ b x, g0 b = some x → b ≠ o → b ≠ wk → g b = some x := fun b x h1 h2 h3 => hfx9 b x (hex b x h1 h2 h3) h2 h3
  have hL : g L = some ((L, 0, 0), oo 1 [u1, u2, u3, .ref q]) := hfx9 _ _ hL (gh_neK hL ho rfl) (gh_neK hL hk rfl)
  have hqq : g q = some ((L, 2, 0), oo 18 [.ref arr, .int 0, .int ml, .int (nI n)]) := hfx9 _ _ hqq (gh_neK hqq ho rfl) (gh_neK hqq hk rfl)
  have ho9 : g o = some ((L, 3, 0), oo 11 [.int (nI (ptE (cB bc) n 0).2), .int (if (ptE (cB bc) n 0).1 = true then 0 else 1), .ref wk, .int (nI (if (ptE (cB bc) n 0).1 = true then 0 + 1 else 0)), .ref L]) := ho9
  have hk9 : g wk = some ((L, 3, 1), aq V 7 60 (if (ptE (cB bc) n 0).1 = true then va_up f 0 (some qw) else f)) := hk9
  by_cases hE9 : (ptE (cB bc) n 0).1 = true
  · skip
    rw [if_pos hE9, if_pos hE9] at ho9
    rw [if_pos hE9] at hk9
    have ho : g o = some ((L, 3, 0), oo 11 [.int (nI ((ptE (cB bc) n 0).2)), .int 0, .ref wk, .int (nI (0 + 1)), .ref L]) := ho9
    have hk : g wk = some ((L, 3, 1), aq V 7 60 (va_up f 0 (some qw))) := hk9
    have hri : rd_I V g L (cB bc) n 0 (va_up f 0 (some qw)) := rd_0 hE9 (hl9 hE9).1
    refine gh_loopF (N := 31) (lo := 0) (fun i_1 => i_1 + 1) (fun i_1 => 2 * (i_1 + 1)) (X := fun i_1 g ls => (g L = some ((L, 0, 0), oo 1 [u1, u2, u3, .ref q])) ∧ (g q = some ((L, 2, 0), oo 18 [.ref arr, .int 0, .int ml, .int (nI n)])) ∧ (sb_C V L 2 g q n bc arr cap f0 ml) ∧ (∀ b x, g0 b = some x → b ≠ o → b ≠ wk → g b = some x) ∧ (g o = some ((L, 3, 0), oo 11 [.int (nI (ptE (cB bc) n (pz (cB bc) n i_1)).2), .int 0, .ref wk, .int (nI (i_1 + 1)), .ref L])) ∧ (∃ fi, g wk = some ((L, 3, 1), aq V 7 60 fi) ∧ rd_I V g L (cB bc) n i_1 fi) ∧ lv_has ls 1 [(0, .ref o)]) ?_ ?_ (by omega) (by first | omega | (dsimp only; omega) | exact (by first | omega | (dsimp only; omega) | exact Nat.le_of_ble_eq_true rfl)) (by first | omega | (dsimp only; omega) | exact (by first | omega | (dsimp only; omega) | exact Nat.le_of_ble_eq_true rfl)) hg ⟨hL, hqq, hS, hex, ho, ⟨_, hk, hri⟩, lv_sub hl [0] rfl⟩
    · intro g H locs ls hg hX
      obtain ⟨hL, hqq, hS, hex, ho, hwr, hl⟩ := hX
      obtain ⟨fi, hk, hri⟩ := hwr
      have h9 := (rd_le hri).1
      omega
    · intro i_1 hi4 ih4 g H locs ls hg hX
      obtain ⟨hL, hqq, hS, hex, ho, hwr, hl⟩ := hX
      obtain ⟨fi, hk, hri⟩ := hwr
      obtain ⟨hb1, hb2, hb3⟩ := rd_le hri
      refine lv_aload_n hx hb dX18_readAll_4 rfl (lv_at hl 0 rfl) ?_
      refine gh_get (v := .int 0) hC hg ho fX18_24_11 rfl dX18_readAll_5 ?_
      refine lv_if_ne (tgt := 41) hx hb dX18_readAll_8 (by decide) (fun c_2 => (absurd rfl c_2)) (fun _ => ?_)
      refine lv_aload_n hx hb dX18_readAll_11 rfl (lv_at hl 0 rfl) ?_
      refine gh_get (v := .int (nI ((ptE (cB bc) n (pz (cB bc) n i_1)).2))) hC hg ho fX18_28_11 rfl dX18_readAll_12 ?_
      refine lv_aload_n hx hb dX18_readAll_15 rfl (lv_at hl 0 rfl) ?_
      refine gh_get (v := .ref L) hC hg ho fX18_3_11 rfl dX18_readAll_16 ?_
      refine gh_getN (v := .ref q) (T := TX1) (N := 4) hC hg hL rfl in_X1 3 (by decide) q1274 rfl rfl dX18_readAll_19 ?_
      refine gh_calli hg (gh_runV (As := []) (rest := [.int (nI ((ptE (cB bc) n (pz (cB bc) n i_1)).2))]) hC hg (j_J14_length l V _ L 2 q n bc arr cap f0 ml hS) 0 (lw_V q1501 q559 q4382 q119 q560) hqq rfl hd_J14_length ⟨(by first | omega | (dsimp only; omega) | exact Nat.le_of_ble_eq_true rfl), (by first | omega | (dsimp only; omega) | exact Nat.le_of_ble_eq_true rfl)⟩ rfl hl.1 rfl ((by first | omega | (dsimp only; omega) | exact Nat.le_of_ble_eq_true rfl)) dX18_readAll_22 ⟨(by first | omega | (dsimp only; omega) | exact Nat.le_of_ble_eq_true rfl), (by first | omega | (dsimp only; omega) | exact Nat.le_of_ble_eq_true rfl)⟩) (fun r_3 g H locs hg hp => ?_)
      obtain ⟨hp, hq⟩ := hp
      replace hp : (nI n) = r_3 := hp.symm
      subst hp
      rw [hq] at hg
      refine lv_icmp_ge (tgt := 41) hx hb dX18_readAll_25 (by decide) (fun c_4 => ?_) (fun c_4 => ?_)
      · skip
        have c_4 : n ≤ (ptE (cB bc) n (pz (cB bc) n i_1)).2 := (nx_le rfl rfl (by omega) (by omega)).mp c_4
        have hT : (txE (cB bc) n 61 0) = (true, (ptE (cB bc) n (pz (cB bc) n i_1)).2) := rd_end hri hn60 (by omega)
        refine lv_aload_n hx hb dX18_readAll_41 rfl (lv_at hl 0 rfl) ?_
        refine gh_get (v := .int 0) hC hg ho fX18_24_11 rfl dX18_readAll_42 ?_
        refine lv_if_ne (tgt := 52) hx hb dX18_readAll_45 (by decide) (fun c_5 => (absurd rfl c_5)) (fun _ => ?_)
        refine lv_iconst (v := 1) hx hb dX18_readAll_48 (by decide) ?_
        refine lv_goto (tgt := 53) hx hb dX18_readAll_49 (by decide) ?_
        exact gh_retz rfl hC hg hr hlk (⟨by rw [hT]; rfl, (i_1 + 1), fi, by rw [hT]; exact ho, hk, fun _ => ⟨i_1, rfl, hri, (by omega)⟩, hex⟩) dX18_readAll_53 ((by first | omega | (dsimp only; omega) | exact Nat.le_of_ble_eq_true rfl)) ((by first | omega | (dsimp only; omega) | exact Nat.le_of_ble_eq_true rfl))
      have c_4 : ¬ n ≤ (ptE (cB bc) n (pz (cB bc) n i_1)).2 := fun h9 => c_4 ((nx_le rfl rfl (by omega) (by omega)).mpr h9)
      have hlt9 : (ptE (cB bc) n (pz (cB bc) n i_1)).2 < n := by omega
      refine lv_aload_n hx hb dX18_readAll_28 rfl (lv_at hl 0 rfl) ?_
      refine lv_bipush (v := 59) hx hb dX18_readAll_29 (by decide) ?_
      refine gh_callv hg (gh_runV (As := [.int 59]) (rest := []) hC hg (j_X18_sign0 l V _ L q n bc arr cap f0 ml hS u1 u2 u3 hL o wk (i_1 + 1) ((ptE (cB bc) n (pz (cB bc) n i_1)).2) 0 (by omega) ho rfl 59 (by decide)) 1 (lw_V q1511 q1513 qs21 q178 q1514) ho rfl hd_X18_sign ⟨(by first | omega | (dsimp only; omega) | exact Nat.le_of_ble_eq_true rfl), (by first | omega | (dsimp only; omega) | exact Nat.le_of_ble_eq_true rfl)⟩ rfl hl.1 rfl ((by first | omega | (dsimp only; omega) | exact Nat.le_of_ble_eq_true rfl)) dX18_readAll_31 ⟨(by first | omega | (dsimp only; omega) | exact Nat.le_of_ble_eq_true rfl), (by first | omega | (dsimp only; omega) | exact Nat.le_of_ble_eq_true rfl)⟩) (fun g H locs hg hp => ?_)
      rcases hp with ⟨sg_6, hp⟩ | ⟨sg_6, hp⟩
      · skip
        have sg_6 : isC (cB bc) n ((ptE (cB bc) n (pz (cB bc) n i_1)).2) 59 59 := sg_6
        obtain ⟨hw, hn⟩ := hp
        have hL : g L = some ((L, 0, 0), oo 1 [u1, u2, u3, .ref q]) := (hn _ (gh_neK hL ho rfl)).trans hL
        have hqq : g q = some ((L, 2, 0), oo 18 [.ref arr, .int 0, .int ml, .int (nI n)]) := (hn _ (gh_neK hqq ho rfl)).trans hqq
        have hk : g wk = some ((L, 3, 1), aq V 7 60 fi) := (hn _ (gh_neI hk ho rfl)).trans hk
        have hS : sb_C V L 2 g q n bc arr cap f0 ml := sb_C.keep hS (fun a t x h1 h2 h3 => (hn a (fun e9 => by rw [e9, ho] at h1; cases h1; exact absurd (show 3 = 2 from h3) (by decide))).trans h1)
        have hex : ∀ b x, g0 b = some x → b ≠ o → b ≠ wk → g b = some x := fun b x h1 h2 h3 => (hn b h2).trans (hex b x h1 h2 h3)
        have hri : rd_I V g L (cB bc) n i_1 fi := hri.kp (fun q x h => (hn q (fun e9 => by rw [e9, ho] at h; cases h)).trans h)
        have ho : g o = some ((L, 3, 0), oo 11 [.int (nI ((ptE (cB bc) n (pz (cB bc) n i_1)).2 + 1)), .int 0, .ref wk, .int (nI (i_1 + 1)), .ref L]) := hw
        refine lv_aload_n hx hb dX18_readAll_34 rfl (lv_at hl 0 rfl) ?_
        refine gh_callv hg (gh_runV (As := []) (rest := []) hC hg (j_X18_part0 l V _ L q n bc arr cap f0 ml hS u1 u2 u3 hL o wk (i_1 + 1) ((ptE (cB bc) n (pz (cB bc) n i_1)).2 + 1) 0 (by omega) ho rfl fi hk (by omega)) 0 (lw_V q1493 q1495 qs17 q178 q1496) ho rfl hd_X18_part ⟨(by first | omega | (dsimp only; omega) | exact Nat.le_of_ble_eq_true rfl), (by first | omega | (dsimp only; omega) | exact Nat.le_of_ble_eq_true rfl)⟩ rfl hl.1 rfl ((by first | omega | (dsimp only; omega) | exact Nat.le_of_ble_eq_true rfl)) dX18_readAll_35 ⟨(by first | omega | (dsimp only; omega) | exact Nat.le_of_ble_eq_true rfl), (by first | omega | (dsimp only; omega) | exact Nat.le_of_ble_eq_true rfl)⟩) (fun g H locs hg hp => ?_)
        obtain ⟨qw, ho9, hk9, hl9, hfx9⟩ := hp
        have hS : sb_C V L 2 g q n bc arr cap f0 ml := sb_C.keep hS (fun a t x h1 h2 h3 => hfx9 a _ h1 (fun e9 => by rw [e9, ho] at h1; cases h1; exact absurd (show 3 = 2 from h3) (by decide)) (fun e9 => by rw [e9, hk] at h1; cases h1; exact absurd (show 3 = 2 from h3) (by decide)))
        have hex : ∀ b x, g0 b = some x → b ≠ o → b ≠ wk → g b = some x := fun b x h1 h2 h3 => hfx9 b x (hex b x h1 h2 h3) h2 h3
        have hri : rd_I V g L (cB bc) n i_1 fi := hri.kp (fun q x h => hfx9 q _ h (fun e9 => by rw [e9, ho] at h; cases h) (fun e9 => by rw [e9, hk] at h; cases h))
        have hL : g L = some ((L, 0, 0), oo 1 [u1, u2, u3, .ref q]) := hfx9 _ _ hL (gh_neK hL ho rfl) (gh_neK hL hk rfl)
        have hqq : g q = some ((L, 2, 0), oo 18 [.ref arr, .int 0, .int ml, .int (nI n)]) := hfx9 _ _ hqq (gh_neK hqq ho rfl) (gh_neK hqq hk rfl)
        have ho9 : g o = some ((L, 3, 0), oo 11 [.int (nI (ptE (cB bc) n (pz (cB bc) n (i_1 + 1))).2), .int (if (ptE (cB bc) n (pz (cB bc) n (i_1 + 1))).1 = true then 0 else 1), .ref wk, .int (nI (if (ptE (cB bc) n (pz (cB bc) n (i_1 + 1))).1 = true then (i_1 + 1) + 1 else (i_1 + 1))), .ref L]) := ho9
        have hk9 : g wk = some ((L, 3, 1), aq V 7 60 (if (ptE (cB bc) n (pz (cB bc) n (i_1 + 1))).1 = true then va_up fi (i_1 + 1) (some qw) else fi)) := hk9
        by_cases hE9 : (ptE (cB bc) n (pz (cB bc) n (i_1 + 1))).1 = true
        · skip
          rw [if_pos hE9, if_pos hE9] at ho9
          rw [if_pos hE9] at hk9
          have ho : g o = some ((L, 3, 0), oo 11 [.int (nI ((ptE (cB bc) n (pz (cB bc) n (i_1 + 1))).2)), .int 0, .ref wk, .int (nI ((i_1 + 1) + 1)), .ref L]) := ho9
          have hk : g wk = some ((L, 3, 1), aq V 7 60 (va_up fi (i_1 + 1) (some qw))) := hk9
          have hri : rd_I V g L (cB bc) n (i_1 + 1) (va_up fi (i_1 + 1) (some qw)) := rd_s hri hlt9 sg_6 hE9 (hl9 hE9).1
          refine lv_goto (tgt := 4) hx hb dX18_readAll_38 (by decide) ?_
          exact W.widen (by first | omega | (dsimp only; omega) | exact (by first | omega | (dsimp only; omega) | exact Nat.le_of_ble_eq_true rfl)) (by first | omega | (dsimp only; omega) | exact (by first | omega | (dsimp only; omega) | exact Nat.le_of_ble_eq_true rfl)) (ih4 _ _ _ _ hg ⟨hL, hqq, hS, hex, ho, ⟨_, hk, hri⟩, lv_sub hl [0] rfl⟩)
        · skip
          rw [if_neg hE9, if_neg hE9] at ho9
          rw [if_neg hE9] at hk9
          have ho : g o = some ((L, 3, 0), oo 11 [.int (nI ((ptE (cB bc) n (pz (cB bc) n (i_1 + 1))).2)), .int 1, .ref wk, .int (nI (i_1 + 1)), .ref L]) := ho9
          have hk : g wk = some ((L, 3, 1), aq V 7 60 fi) := hk9
          have hT : (txE (cB bc) n 61 0) = (false, (ptE (cB bc) n (pz (cB bc) n (i_1 + 1))).2) := rd_bad hri hn60 hlt9 sg_6 hE9
          refine lv_goto (tgt := 4) hx hb dX18_readAll_38 (by decide) ?_
          refine lv_aload_n hx hb dX18_readAll_4 rfl (lv_at hl 0 rfl) ?_
          refine gh_get (v := .int 1) hC hg ho fX18_24_11 rfl dX18_readAll_5 ?_
          refine lv_if_ne (tgt := 41) hx hb dX18_readAll_8 (by decide) (fun _ => ?_) (fun c_7 => (absurd c_7 (by decide)))
          refine lv_aload_n hx hb dX18_readAll_41 rfl (lv_at hl 0 rfl) ?_
          refine gh_get (v := .int 1) hC hg ho fX18_24_11 rfl dX18_readAll_42 ?_
          refine lv_if_ne (tgt := 52) hx hb dX18_readAll_45 (by decide) (fun _ => ?_) (fun c_8 => (absurd c_8 (by decide)))
          refine lv_iconst (v := 0) hx hb dX18_readAll_52 (by decide) ?_
          exact gh_retz rfl hC hg hr hlk (⟨by rw [hT]; rfl, (i_1 + 1), fi, by rw [hT]; exact ho, hk, (fun h9 => by rw [hT] at h9; cases h9), hex⟩) dX18_readAll_53 ((by first | omega | (dsimp only; omega) | exact Nat.le_of_ble_eq_true rfl)) ((by first | omega | (dsimp only; omega) | exact Nat.le_of_ble_eq_true rfl))
      have sg_6 : ¬ isC (cB bc) n ((ptE (cB bc) n (pz (cB bc) n i_1)).2) 59 59 := sg_6
      obtain ⟨hw, hn⟩ := hp
      have hL : g L = some ((L, 0, 0), oo 1 [u1, u2, u3, .ref q]) := (hn _ (gh_neK hL ho rfl)).trans hL
      have hqq : g q = some ((L, 2, 0), oo 18 [.ref arr, .int 0, .int ml, .int (nI n)]) := (hn _ (gh_neK hqq ho rfl)).trans hqq
      have hk : g wk = some ((L, 3, 1), aq V 7 60 fi) := (hn _ (gh_neI hk ho rfl)).trans hk
      have hS : sb_C V L 2 g q n bc arr cap f0 ml := sb_C.keep hS (fun a t x h1 h2 h3 => (hn a (fun e9 => by rw [e9, ho] at h1; cases h1; exact absurd (show 3 = 2 from h3) (by decide))).trans h1)
      have hex : ∀ b x, g0 b = some x → b ≠ o → b ≠ wk → g b = some x := fun b x h1 h2 h3 => (hn b h2).trans (hex b x h1 h2 h3)
      have hri : rd_I V g L (cB bc) n i_1 fi := hri.kp (fun q x h => (hn q (fun e9 => by rw [e9, ho] at h; cases h)).trans h)
      have ho : g o = some ((L, 3, 0), oo 11 [.int (nI ((ptE (cB bc) n (pz (cB bc) n i_1)).2)), .int 1, .ref wk, .int (nI (i_1 + 1)), .ref L]) := hw
      have hT : (txE (cB bc) n 61 0) = (false, (ptE (cB bc) n (pz (cB bc) n i_1)).2) := rd_sep hri hn60 hlt9 sg_6
      refine lv_aload_n hx hb dX18_readAll_34 rfl (lv_at hl 0 rfl) ?_
      refine gh_callv hg (gh_runV (As := []) (rest := []) hC hg (j_X18_partW l V _ L q n bc arr cap f0 ml hS u1 u2 u3 hL o wk (i_1 + 1) ((ptE (cB bc) n (pz (cB bc) n i_1)).2) 1 (by omega) ho rfl) 0 (lw_V q1493 q1495 qs17 q178 q1496) ho rfl hd_X18_part ⟨(by first | omega | (dsimp only; omega) | exact Nat.le_of_ble_eq_true rfl), (by first | omega | (dsimp only; omega) | exact Nat.le_of_ble_eq_true rfl)⟩ rfl hl.1 rfl ((by first | omega | (dsimp only; omega) | exact Nat.le_of_ble_eq_true rfl)) dX18_readAll_35 ⟨(by first | omega | (dsimp only; omega) | exact Nat.le_of_ble_eq_true rfl), (by first | omega | (dsimp only; omega) | exact Nat.le_of_ble_eq_true rfl)⟩) (fun g H locs hg hp => ?_)
      rw [← hp] at hS hex hri hL ho hqq hk
      refine lv_goto (tgt := 4) hx hb dX18_readAll_38 (by decide) ?_
      refine lv_aload_n hx hb dX18_readAll_4 rfl (lv_at hl 0 rfl) ?_
      refine gh_get (v := .int 1) hC hg ho fX18_24_11 rfl dX18_readAll_5 ?_
      refine lv_if_ne (tgt := 41) hx hb dX18_readAll_8 (by decide) (fun _ => ?_) (fun c_9 => (absurd c_9 (by decide)))
      refine lv_aload_n hx hb dX18_readAll_41 rfl (lv_at hl 0 rfl) ?_
      refine gh_get (v := .int 1) hC hg ho fX18_24_11 rfl dX18_readAll_42 ?_
      refine lv_if_ne (tgt := 52) hx hb dX18_readAll_45 (by decide) (fun _ => ?_) (fun c_10 => (absurd c_10 (by decide)))
      refine lv_iconst (v := 0) hx hb dX18_readAll_52 (by decide) ?_
      exact gh_retz rfl hC hg hr hlk (⟨by rw [hT]; rfl, (i_1 + 1), fi, by rw [hT]; exact ho, hk, (fun h9 => by rw [hT] at h9; cases h9), hex⟩) dX18_readAll_53 ((by first | omega | (dsimp only; omega) | exact Nat.le_of_ble_eq_true rfl)) ((by first | omega | (dsimp only; omega) | exact Nat.le_of_ble_eq_true rfl))
  · skip
    rw [if_neg hE9, if_neg hE9] at ho9
    rw [if_neg hE9] at hk9
    have ho : g o = some ((L, 3, 0), oo 11 [.int (nI ((ptE (cB bc) n 0).2)), .int 1, .ref wk, .int (nI 0), .ref L]) := ho9
    have hk : g wk = some ((L, 3, 1), aq V 7 60 f) := hk9
    have hT : (txE (cB bc) n 61 0) = (false, (ptE (cB bc) n 0).2) := tx_bad0 hE9
    refine lv_aload_n hx hb dX18_readAll_4 rfl (lv_at hl 0 rfl) ?_
    refine gh_get (v := .int 1) hC hg ho fX18_24_11 rfl dX18_readAll_5 ?_
    refine lv_if_ne (tgt := 41) hx hb dX18_readAll_8 (by decide) (fun _ => ?_) (fun c_11 => (absurd c_11 (by decide)))
    refine lv_aload_n hx hb dX18_readAll_41 rfl (lv_at hl 0 rfl) ?_
    refine gh_get (v := .int 1) hC hg ho fX18_24_11 rfl dX18_readAll_42 ?_
    refine lv_if_ne (tgt := 52) hx hb dX18_readAll_45 (by decide) (fun _ => ?_) (fun c_12 => (absurd c_12 (by decide)))
    refine lv_iconst (v := 0) hx hb dX18_readAll_52 (by decide) ?_
    exact gh_retz rfl hC hg hr hlk (⟨by rw [hT]; rfl, 0, f, by rw [hT]; exact ho, hk, (fun h9 => by rw [hT] at h9; cases h9), hex⟩) dX18_readAll_53 ((by first | omega | (dsimp only; omega) | exact Nat.le_of_ble_eq_true rfl)) ((by first | omega | (dsimp only; omega) | exact Nat.le_of_ble_eq_true rfl))
