/-! PARTS of a text -/
/-- the work of a part: its letter and numbers -/
def wob (V : gh_V) (c : Int32) (i j : Nat) : gh_E := if c = 98 then lam_ob V 0 [.int (nI i), .int (nI j)] else if c = 102 then lam_ob V 1 [.int (nI i), .int (nI j)] else if c = 114 then lam_ob V 2 [.int (nI i), .int (nI j)] else if c = 111 then lam_ob V 3 [.int (nI i), .int (nI j)] else if c = 108 then lam_ob V 4 [.int (nI i)] else if c = 99 then lam_ob V 8 [.int (nI i), .int (nI j)] else lam_ob V 12 [.int (nI i)]
theorem wob_98 {V : gh_V} {i j : Nat} : wob V 98 i j = lam_ob V 0 [.int (nI i), .int (nI j)] := rfl
theorem wob_102 {V : gh_V} {i j : Nat} : wob V 102 i j = lam_ob V 1 [.int (nI i), .int (nI j)] := rfl
theorem wob_114 {V : gh_V} {i j : Nat} : wob V 114 i j = lam_ob V 2 [.int (nI i), .int (nI j)] := rfl
theorem wob_111 {V : gh_V} {i j : Nat} : wob V 111 i j = lam_ob V 3 [.int (nI i), .int (nI j)] := rfl
theorem wob_108 {V : gh_V} {i j : Nat} : wob V 108 i j = lam_ob V 4 [.int (nI i)] := rfl
theorem wob_99 {V : gh_V} {i j : Nat} : wob V 99 i j = lam_ob V 8 [.int (nI i), .int (nI j)] := rfl
theorem wob_109 {V : gh_V} {i j : Nat} : wob V 109 i j = lam_ob V 12 [.int (nI i)] := rfl
theorem nx_let {bc : Nat → Nat} {n sp : Nat} {x : Int32} (h : nxC bc n sp = x) (hx : x ≠ 32) : sp < n ∧ cB bc sp = x := by
  unfold nxC at h
  by_cases hs : sp < n
  · rw [if_pos hs] at h; exact ⟨hs, h⟩
  · rw [if_neg hs] at h; exact absurd h.symm hx
section Pt
variable {b : Nat → Int32} {N sp : Nat}
theorem pt_98 (h : sp < N ∧ b sp = 98) : ptE b N sp = zE b N (sp + 1) 51 ∧ ptO b N sp = dg b (sp + 1) ∧ ptT b N sp = dg b (sp + 1 + 1 + 1) := by
  unfold ptE ptO ptT
  rw [if_neg (fun u => u h.1), h.2]
  exact ⟨rfl, rfl, rfl⟩
theorem pt_102 (h : sp < N ∧ b sp = 102) : ptE b N sp = zE b N (sp + 1) 51 ∧ ptO b N sp = dg b (sp + 1) ∧ ptT b N sp = dg b (sp + 1 + 1 + 1) := by
  unfold ptE ptO ptT
  rw [if_neg (fun u => u h.1), h.2]
  exact ⟨rfl, rfl, rfl⟩
theorem pt_114 (h : sp < N ∧ b sp = 114) : ptE b N sp = zE b N (sp + 1) 57 ∧ ptO b N sp = dg b (sp + 1) ∧ ptT b N sp = dg b (sp + 1 + 1 + 1) := by
  unfold ptE ptO ptT
  rw [if_neg (fun u => u h.1), h.2]
  exact ⟨rfl, rfl, rfl⟩
theorem pt_111 (h : sp < N ∧ b sp = 111) : ptE b N sp = oP b N sp ∧ ptO b N sp = dg b (sp + 1) ∧ ptT b N sp = dg b (sp + 1 + 1) := by
  unfold ptE ptO ptT
  rw [if_neg (fun u => u h.1), h.2]
  exact ⟨rfl, rfl, rfl⟩
theorem pt_108 (h : sp < N ∧ b sp = 108) : ptE b N sp = nuP b N (sp + 1) 48 11 ∧ ptO b N sp = nmV b N (sp + 1) 11 ∧ ptT b N sp = 0 := by
  unfold ptE ptO ptT
  rw [if_neg (fun u => u h.1), h.2]
  exact ⟨rfl, rfl, rfl⟩
theorem pt_99 (h : sp < N ∧ b sp = 99) : ptE b N sp = cE b N (sp + 1) ∧ ptO b N sp = dg b (sp + 1) ∧ ptT b N sp = nmV b N (sp + 1 + 1 + 1) 23 := by
  unfold ptE ptO ptT
  rw [if_neg (fun u => u h.1), h.2]
  exact ⟨rfl, rfl, rfl⟩
theorem pt_109 (h : sp < N ∧ b sp = 109) : ptE b N sp = nuP b N (sp + 1) 49 60 ∧ ptO b N sp = nmV b N (sp + 1) 60 ∧ ptT b N sp = 0 := by
  unfold ptE ptO ptT
  rw [if_neg (fun u => u h.1), h.2]
  exact ⟨rfl, rfl, rfl⟩
theorem pt_other {bc : Nat → Nat} {n : Nat} {x : Int32} (h : nxC bc n sp = x) (h1 : x ≠ 98) (h2 : x ≠ 102) (h3 : x ≠ 114) (h4 : x ≠ 111) (h5 : x ≠ 108) (h6 : x ≠ 99) (h7 : x ≠ 109) : ptE (cB bc) n sp = (false, sp) := by
  unfold ptE
  by_cases hs : sp < n
  · have e : cB bc sp = x := by unfold nxC at h; rw [if_pos hs] at h; exact h
    rw [if_neg (fun u => u hs), e, if_neg h1, if_neg h2, if_neg h3, if_neg h4, if_neg h5, if_neg h6, if_neg h7]
  · rw [if_pos hs]
end Pt
theorem w_none2 {g0 g : gh_G} {o wk q : Nat} {to tk : gh_T} {eo ek eo1 ek1 : gh_E} {to1 tk1 : gh_T} (hex : ∀ b x, g0 b = some x → b ≠ o → b ≠ wk → g b = some x) (ho0 : g0 o = some (to, eo)) (hk0 : g0 wk = some (tk, ek)) (ho : g o = some (to1, eo1)) (hk : g wk = some (tk1, ek1)) (h : g q = none) : g0 q = none := by
  cases e : g0 q with
  | none => rfl
  | some x =>
    have h1 : q ≠ o := fun e9 => by rw [e9, ho] at h; cases h
    have h2 : q ≠ wk := fun e9 => by rw [e9, hk] at h; cases h
    rw [hex q x e h1 h2] at h
    cases h
set_option maxRecDepth 100000
theorem hd_X18_number : yX18_number.cls = RX18 ∧ yX18_number.cls ≠ "java/lang/invoke/MethodHandle" ∧ yX18_number.cls ≠ "java/lang/invoke/VarHandle" ∧ (parseMethodDescriptor yX18_number.desc).map (fun d => d.parameters.length) = some 2 := by decide +kernel
set_option maxHeartbeats 1000000 in
set_option maxRecDepth 100000 in
theorem j_X18_cleaning (l : Launch) (V : gh_V) (g0 : gh_G) (L q n : Nat) (bc : Nat → Nat) (arr cap : Nat) (f0 : Nat → Int32) (ml : Int32) (hS0 : sb_C V L 2 g0 q n bc arr cap f0 ml) (u1 u2 u3 : Value) (hL0 : g0 L = some ((L, 0, 0), oo 1 [u1, u2, u3, .ref q])) (o wk many sp : Nat) (wr : Int32) (hsp : sp ≤ 61) (ho0 : g0 o = some ((L, 3, 0), oo 11 [.int (nI sp), .int wr, .ref wk, .int (nI many), .ref L])) (hwr : wr = 0) : MR l yX18_cleaning cX18_cleaning 3 (some (.object "AnnealingLehr$Work")) ({ frames := 7, cells := 1, slots := 2, locals := 3080 } : Room) V [.ref o] g0 (fun r g1 => ∃ (qw : Nat) (u v : Int32), r = some qw ∧ g1 qw = some ((L, 3, 2), lam_ob V 8 [.int u, .int v]) ∧ g0 qw = none ∧ g1 o = some ((L, 3, 0), oo 11 [.int (nI ((cE (cB bc) n sp).2)), .int (if (cE (cB bc) n sp).1 = true then 0 else 1), .ref wk, .int (nI many), .ref L]) ∧ ((cE (cB bc) n sp).1 = true → u = nI (dg (cB bc) sp) ∧ v = nI (nmV (cB bc) n (sp + 1 + 1) 23)) ∧ ∀ b, b ≠ o → b ≠ qw → g1 b = g0 b) := by
  refine MG.ofN RX18 (by decide) rfl (Nat.le_of_ble_eq_true rfl) (fun pp ee s mm args below meth c ls hC hg hr hlk hnm hl => ?_)
  have hx := hC.1.1
  have hb := hC.1.2.1
  have hml := hC.1.2.2.1
  have hown := hC.1.2.2.2.1
  have hts := hC.1.2.2.2.2
  have hl : lv_has ls 3 [(0, .ref o)] := hl
  obtain ⟨g, hg, hgg⟩ : ∃ g, gh_W V (gh_A g0 s.heap.size) s g s.heap [] ∧ g = g0 := ⟨g0, hg, rfl⟩
  have hS := hS0
  have hL := hL0
  have ho := ho0
  rw [← hgg] at hS hL ho
  have hn60 := hS0.2.2.2.2.1
  have hbc := fun i hi => (hS0.2.2.2.2.2.2 i hi).2
  rw [hwr] at ho
  have hqq := hS.1
  have hfr : ∀ b, b ≠ o → g b = g0 b := fun b _ => by rw [hgg]
  refine lv_aload_n hx hb dX18_cleaning_0 rfl (lv_at hl 0 rfl) ?_
  refine lv_bipush (v := 48) hx hb dX18_cleaning_1 (by decide) ?_
  refine lv_bipush (v := 49) hx hb dX18_cleaning_3 (by decide) ?_
  refine gh_calli hg (gh_runV (As := [.int 48, .int 49]) (rest := []) hC hg (j_X18_digit0 l V _ L q n bc arr cap f0 ml hS u1 u2 u3 hL o wk many sp 0 (by omega) ho rfl 48 49 (by decide) (by decide)) 2 (lw_V q1507 q1509 qs20 q178 q1510) ho rfl hd_X18_digit ⟨Nat.le_of_ble_eq_true rfl, Nat.le_of_ble_eq_true rfl⟩ rfl hl.1 rfl (Nat.le_of_ble_eq_true rfl) dX18_cleaning_5 ⟨Nat.le_of_ble_eq_true rfl, Nat.le_of_ble_eq_true rfl⟩) (fun r_1 g H locs hg hp => ?_)
  rcases hp with ⟨sg_2, hr9, hp⟩ | ⟨sg_2, hp⟩
  · skip
    subst hr9
    have sg_2 : isC (cB bc) n sp 48 49 := sg_2
    obtain ⟨hw, hn⟩ := hp
    have hL : g L = some ((L, 0, 0), oo 1 [u1, u2, u3, .ref q]) := (hn _ (gh_neK hL ho rfl)).trans hL
    have hqq : g q = some ((L, 2, 0), oo 18 [.ref arr, .int 0, .int ml, .int (nI n)]) := (hn _ (gh_neK hqq ho rfl)).trans hqq
    have hS : sb_C V L 2 g q n bc arr cap f0 ml := sb_C.keep hS (fun a t x h1 h2 h3 => (hn a (fun e9 => by rw [e9, ho] at h1; cases h1; exact absurd (show 3 = 2 from h3) (by decide))).trans h1)
    have hfr : ∀ b, b ≠ o → g b = g0 b := fun b h1 => (hn b h1).trans (hfr b h1)
    have ho : g o = some ((L, 3, 0), oo 11 [.int (nI (sp + 1)), .int 0, .ref wk, .int (nI many), .ref L]) := hw
    have sg_2l := sg_2.1
    refine lv_istore_n (lv' := [(1, .int (nI (dg (cB bc) sp))), (0, .ref o)]) hx hb dX18_cleaning_8 rfl hl (by decide) rfl (fun ls hl => ?_)
    refine lv_aload_n hx hb dX18_cleaning_9 rfl (lv_at hl 1 rfl) ?_
    refine lv_bipush (v := 58) hx hb dX18_cleaning_10 (by decide) ?_
    refine gh_callv hg (gh_runV (As := [.int 58]) (rest := []) hC hg (j_X18_sign0 l V _ L q n bc arr cap f0 ml hS u1 u2 u3 hL o wk many (sp + 1) 0 (by omega) ho rfl 58 (by decide)) 1 (lw_V q1511 q1513 qs21 q178 q1514) ho rfl hd_X18_sign ⟨Nat.le_of_ble_eq_true rfl, Nat.le_of_ble_eq_true rfl⟩ rfl hl.1 rfl (Nat.le_of_ble_eq_true rfl) dX18_cleaning_12 ⟨Nat.le_of_ble_eq_true rfl, Nat.le_of_ble_eq_true rfl⟩) (fun g H locs hg hp => ?_)
    rcases hp with ⟨sg_3, hp⟩ | ⟨sg_3, hp⟩
    · skip
      have sg_3 : isC (cB bc) n (sp + 1) 58 58 := sg_3
      obtain ⟨hw, hn⟩ := hp
      have hL : g L = some ((L, 0, 0), oo 1 [u1, u2, u3, .ref q]) := (hn _ (gh_neK hL ho rfl)).trans hL
      have hqq : g q = some ((L, 2, 0), oo 18 [.ref arr, .int 0, .int ml, .int (nI n)]) := (hn _ (gh_neK hqq ho rfl)).trans hqq
      have hS : sb_C V L 2 g q n bc arr cap f0 ml := sb_C.keep hS (fun a t x h1 h2 h3 => (hn a (fun e9 => by rw [e9, ho] at h1; cases h1; exact absurd (show 3 = 2 from h3) (by decide))).trans h1)
      have hfr : ∀ b, b ≠ o → g b = g0 b := fun b h1 => (hn b h1).trans (hfr b h1)
      have ho : g o = some ((L, 3, 0), oo 11 [.int (nI ((sp + 1) + 1)), .int 0, .ref wk, .int (nI many), .ref L]) := hw
      have sg_3l := sg_3.1
      refine lv_aload_n hx hb dX18_cleaning_15 rfl (lv_at hl 1 rfl) ?_
      refine lv_iconst (v := 0) hx hb dX18_cleaning_16 (by decide) ?_
      refine lv_bipush (v := 23) hx hb dX18_cleaning_17 (by decide) ?_
      refine gh_calli hg (gh_runV (As := [.int 0, .int 23]) (rest := []) hC hg (j_X18_number23 l V _ L q n bc arr cap f0 ml hS u1 u2 u3 hL o wk many ((sp + 1) + 1) 0 (by omega) ho rfl) 2 (lw_V q1610 q1612 qs23 q178 q1613) ho rfl hd_X18_number ⟨Nat.le_of_ble_eq_true rfl, Nat.le_of_ble_eq_true rfl⟩ rfl hl.1 rfl (Nat.le_of_ble_eq_true rfl) dX18_cleaning_19 ⟨Nat.le_of_ble_eq_true rfl, Nat.le_of_ble_eq_true rfl⟩) (fun r_4 g H locs hg hp => ?_)
      rcases hp with ⟨sg_5, hr9, hp⟩ | ⟨sg_5, hp⟩
      · skip
        subst hr9
        obtain ⟨hw, hn⟩ := hp
        have hL : g L = some ((L, 0, 0), oo 1 [u1, u2, u3, .ref q]) := (hn _ (gh_neK hL ho rfl)).trans hL
        have hqq : g q = some ((L, 2, 0), oo 18 [.ref arr, .int 0, .int ml, .int (nI n)]) := (hn _ (gh_neK hqq ho rfl)).trans hqq
        have hS : sb_C V L 2 g q n bc arr cap f0 ml := sb_C.keep hS (fun a t x h1 h2 h3 => (hn a (fun e9 => by rw [e9, ho] at h1; cases h1; exact absurd (show 3 = 2 from h3) (by decide))).trans h1)
        have hfr : ∀ b, b ≠ o → g b = g0 b := fun b h1 => (hn b h1).trans (hfr b h1)
        have ho : g o = some ((L, 3, 0), oo 11 [.int (nI (nmP (cB bc) n ((sp + 1) + 1) 23)), .int 0, .ref wk, .int (nI many), .ref L]) := hw
        refine lv_istore_n (lv' := [(2, .int (nI (nmV (cB bc) n ((sp + 1) + 1) 23))), (1, .int (nI (dg (cB bc) sp))), (0, .ref o)]) hx hb dX18_cleaning_22 rfl hl (by decide) rfl (fun ls hl => ?_)
        refine lv_iload_n hx hb dX18_cleaning_23 rfl (lv_at hl 1 rfl) ?_
        refine lv_iload_n hx hb dX18_cleaning_24 rfl (lv_at hl 0 rfl) ?_
        have ho_o := ho
        refine gh_ln8 (rest := []) hC hg hnm (fun q9 => (L, 3, 2)) hl.1 rfl (Nat.le_of_ble_eq_true rfl) (Nat.le_of_ble_eq_true rfl) (Nat.le_of_ble_eq_true rfl) (Nat.le_of_ble_eq_true rfl) dX18_cleaning_25 (fun q_6 g H hg h0 hw hn => ?_)
        have hL : g L = some ((L, 0, 0), oo 1 [u1, u2, u3, .ref q]) := (hn _ (gh_neN hL h0)).trans hL
        have ho : g o = some ((L, 3, 0), oo 11 [.int (nI (nmP (cB bc) n ((sp + 1) + 1) 23)), .int 0, .ref wk, .int (nI many), .ref L]) := (hn _ (gh_neN ho h0)).trans ho
        have hqq : g q = some ((L, 2, 0), oo 18 [.ref arr, .int 0, .int ml, .int (nI n)]) := (hn _ (gh_neN hqq h0)).trans hqq
        have hS : sb_C V L 2 g q n bc arr cap f0 ml := sb_C.keep hS (fun a t x h1 h2 h3 => (hn a (fun e9 => by rw [e9, h0] at h1; cases h1)).trans h1)
        have c_7 : g q_6 = some ((L, 3, 2), lam_ob V 8 [.int (nI (dg (cB bc) sp)), .int (nI (nmV (cB bc) n ((sp + 1) + 1) 23))]) := hw
        have h00 : g0 q_6 = none := (hfr _ (fun e9 => by rw [e9, ho_o] at h0; cases h0)).symm.trans h0
        have hfq : ∀ b, b ≠ o → b ≠ q_6 → g b = g0 b := fun b h1 h2 => (hn b h2).trans (hfr b h1)
        have hz : (cE (cB bc) n sp) = (true, nmP (cB bc) n (sp + 1 + 1) 23) := by unfold cE; rw [if_pos sg_2, if_pos sg_3]; unfold nuP; rw [if_pos sg_5]
        exact gh_retq (r := some q_6) (Or.inl ⟨_, rfl⟩) hC hg hr hlk (⟨q_6, _, _, rfl, c_7, h00, by rw [hz]; exact ho, (fun _ => ⟨rfl, rfl⟩), hfq⟩) dX18_cleaning_30 (Nat.le_of_ble_eq_true rfl) (Nat.le_of_ble_eq_true rfl)
      obtain ⟨hw, hn⟩ := hp
      have hL : g L = some ((L, 0, 0), oo 1 [u1, u2, u3, .ref q]) := (hn _ (gh_neK hL ho rfl)).trans hL
      have hqq : g q = some ((L, 2, 0), oo 18 [.ref arr, .int 0, .int ml, .int (nI n)]) := (hn _ (gh_neK hqq ho rfl)).trans hqq
      have hS : sb_C V L 2 g q n bc arr cap f0 ml := sb_C.keep hS (fun a t x h1 h2 h3 => (hn a (fun e9 => by rw [e9, ho] at h1; cases h1; exact absurd (show 3 = 2 from h3) (by decide))).trans h1)
      have hfr : ∀ b, b ≠ o → g b = g0 b := fun b h1 => (hn b h1).trans (hfr b h1)
      have ho : g o = some ((L, 3, 0), oo 11 [.int (nI ((sp + 1) + 1)), .int 1, .ref wk, .int (nI many), .ref L]) := hw
      refine lv_istore_n (lv' := [(2, .int r_4), (1, .int (nI (dg (cB bc) sp))), (0, .ref o)]) hx hb dX18_cleaning_22 rfl hl (by decide) rfl (fun ls hl => ?_)
      refine lv_iload_n hx hb dX18_cleaning_23 rfl (lv_at hl 1 rfl) ?_
      refine lv_iload_n hx hb dX18_cleaning_24 rfl (lv_at hl 0 rfl) ?_
      have ho_o := ho
      refine gh_ln8 (rest := []) hC hg hnm (fun q9 => (L, 3, 2)) hl.1 rfl (Nat.le_of_ble_eq_true rfl) (Nat.le_of_ble_eq_true rfl) (Nat.le_of_ble_eq_true rfl) (Nat.le_of_ble_eq_true rfl) dX18_cleaning_25 (fun q_8 g H hg h0 hw hn => ?_)
      have hL : g L = some ((L, 0, 0), oo 1 [u1, u2, u3, .ref q]) := (hn _ (gh_neN hL h0)).trans hL
      have ho : g o = some ((L, 3, 0), oo 11 [.int (nI ((sp + 1) + 1)), .int 1, .ref wk, .int (nI many), .ref L]) := (hn _ (gh_neN ho h0)).trans ho
      have hqq : g q = some ((L, 2, 0), oo 18 [.ref arr, .int 0, .int ml, .int (nI n)]) := (hn _ (gh_neN hqq h0)).trans hqq
      have hS : sb_C V L 2 g q n bc arr cap f0 ml := sb_C.keep hS (fun a t x h1 h2 h3 => (hn a (fun e9 => by rw [e9, h0] at h1; cases h1)).trans h1)
      have c_9 : g q_8 = some ((L, 3, 2), lam_ob V 8 [.int (nI (dg (cB bc) sp)), .int r_4]) := hw
      have h00 : g0 q_8 = none := (hfr _ (fun e9 => by rw [e9, ho_o] at h0; cases h0)).symm.trans h0
      have hfq : ∀ b, b ≠ o → b ≠ q_8 → g b = g0 b := fun b h1 h2 => (hn b h2).trans (hfr b h1)
      have hz : (cE (cB bc) n sp) = (false, sp + 1 + 1) := by unfold cE; rw [if_pos sg_2, if_pos sg_3]; unfold nuP; rw [if_neg sg_5]
      exact gh_retq (r := some q_8) (Or.inl ⟨_, rfl⟩) hC hg hr hlk (⟨q_8, _, _, rfl, c_9, h00, by rw [hz]; exact ho, (fun h9 => by rw [hz] at h9; cases h9), hfq⟩) dX18_cleaning_30 (Nat.le_of_ble_eq_true rfl) (Nat.le_of_ble_eq_true rfl)
    have sg_3 : ¬ isC (cB bc) n (sp + 1) 58 58 := sg_3
    obtain ⟨hw, hn⟩ := hp
    have hL : g L = some ((L, 0, 0), oo 1 [u1, u2, u3, .ref q]) := (hn _ (gh_neK hL ho rfl)).trans hL
    have hqq : g q = some ((L, 2, 0), oo 18 [.ref arr, .int 0, .int ml, .int (nI n)]) := (hn _ (gh_neK hqq ho rfl)).trans hqq
    have hS : sb_C V L 2 g q n bc arr cap f0 ml := sb_C.keep hS (fun a t x h1 h2 h3 => (hn a (fun e9 => by rw [e9, ho] at h1; cases h1; exact absurd (show 3 = 2 from h3) (by decide))).trans h1)
    have hfr : ∀ b, b ≠ o → g b = g0 b := fun b h1 => (hn b h1).trans (hfr b h1)
    have ho : g o = some ((L, 3, 0), oo 11 [.int (nI (sp + 1)), .int 1, .ref wk, .int (nI many), .ref L]) := hw
    refine lv_aload_n hx hb dX18_cleaning_15 rfl (lv_at hl 1 rfl) ?_
    refine lv_iconst (v := 0) hx hb dX18_cleaning_16 (by decide) ?_
    refine lv_bipush (v := 23) hx hb dX18_cleaning_17 (by decide) ?_
    refine gh_calli hg (gh_runV (As := [.int 0, .int 23]) (rest := []) hC hg (j_X18_numberW l V _ L q n bc arr cap f0 ml hS u1 u2 u3 hL o wk many (sp + 1) 1 (by omega) ho rfl 0 23) 2 (lw_V q1610 q1612 qs23 q178 q1613) ho rfl hd_X18_number ⟨Nat.le_of_ble_eq_true rfl, Nat.le_of_ble_eq_true rfl⟩ rfl hl.1 rfl (Nat.le_of_ble_eq_true rfl) dX18_cleaning_19 ⟨Nat.le_of_ble_eq_true rfl, Nat.le_of_ble_eq_true rfl⟩) (fun r_10 g H locs hg hp => ?_)
    obtain ⟨hw, hn⟩ := hp
    have hL : g L = some ((L, 0, 0), oo 1 [u1, u2, u3, .ref q]) := (hn _ (gh_neK hL ho rfl)).trans hL
    have hqq : g q = some ((L, 2, 0), oo 18 [.ref arr, .int 0, .int ml, .int (nI n)]) := (hn _ (gh_neK hqq ho rfl)).trans hqq
    have hS : sb_C V L 2 g q n bc arr cap f0 ml := sb_C.keep hS (fun a t x h1 h2 h3 => (hn a (fun e9 => by rw [e9, ho] at h1; cases h1; exact absurd (show 3 = 2 from h3) (by decide))).trans h1)
    have hfr : ∀ b, b ≠ o → g b = g0 b := fun b h1 => (hn b h1).trans (hfr b h1)
    have ho : g o = some ((L, 3, 0), oo 11 [.int (nI (sp + 1)), .int 1, .ref wk, .int (nI many), .ref L]) := hw
    refine lv_istore_n (lv' := [(2, .int r_10), (1, .int (nI (dg (cB bc) sp))), (0, .ref o)]) hx hb dX18_cleaning_22 rfl hl (by decide) rfl (fun ls hl => ?_)
    refine lv_iload_n hx hb dX18_cleaning_23 rfl (lv_at hl 1 rfl) ?_
    refine lv_iload_n hx hb dX18_cleaning_24 rfl (lv_at hl 0 rfl) ?_
    have ho_o := ho
    refine gh_ln8 (rest := []) hC hg hnm (fun q9 => (L, 3, 2)) hl.1 rfl (Nat.le_of_ble_eq_true rfl) (Nat.le_of_ble_eq_true rfl) (Nat.le_of_ble_eq_true rfl) (Nat.le_of_ble_eq_true rfl) dX18_cleaning_25 (fun q_11 g H hg h0 hw hn => ?_)
    have hL : g L = some ((L, 0, 0), oo 1 [u1, u2, u3, .ref q]) := (hn _ (gh_neN hL h0)).trans hL
    have ho : g o = some ((L, 3, 0), oo 11 [.int (nI (sp + 1)), .int 1, .ref wk, .int (nI many), .ref L]) := (hn _ (gh_neN ho h0)).trans ho
    have hqq : g q = some ((L, 2, 0), oo 18 [.ref arr, .int 0, .int ml, .int (nI n)]) := (hn _ (gh_neN hqq h0)).trans hqq
    have hS : sb_C V L 2 g q n bc arr cap f0 ml := sb_C.keep hS (fun a t x h1 h2 h3 => (hn a (fun e9 => by rw [e9, h0] at h1; cases h1)).trans h1)
    have c_12 : g q_11 = some ((L, 3, 2), lam_ob V 8 [.int (nI (dg (cB bc) sp)), .int r_10]) := hw
    have h00 : g0 q_11 = none := (hfr _ (fun e9 => by rw [e9, ho_o] at h0; cases h0)).symm.trans h0
    have hfq : ∀ b, b ≠ o → b ≠ q_11 → g b = g0 b := fun b h1 h2 => (hn b h2).trans (hfr b h1)
    have hz : (cE (cB bc) n sp) = (false, sp + 1) := by unfold cE; rw [if_pos sg_2, if_neg sg_3]
    exact gh_retq (r := some q_11) (Or.inl ⟨_, rfl⟩) hC hg hr hlk (⟨q_11, _, _, rfl, c_12, h00, by rw [hz]; exact ho, (fun h9 => by rw [hz] at h9; cases h9), hfq⟩) dX18_cleaning_30 (Nat.le_of_ble_eq_true rfl) (Nat.le_of_ble_eq_true rfl)
  have sg_2 : ¬ isC (cB bc) n sp 48 49 := sg_2
  obtain ⟨hw, hn⟩ := hp
  have hL : g L = some ((L, 0, 0), oo 1 [u1, u2, u3, .ref q]) := (hn _ (gh_neK hL ho rfl)).trans hL
  have hqq : g q = some ((L, 2, 0), oo 18 [.ref arr, .int 0, .int ml, .int (nI n)]) := (hn _ (gh_neK hqq ho rfl)).trans hqq
  have hS : sb_C V L 2 g q n bc arr cap f0 ml := sb_C.keep hS (fun a t x h1 h2 h3 => (hn a (fun e9 => by rw [e9, ho] at h1; cases h1; exact absurd (show 3 = 2 from h3) (by decide))).trans h1)
  have hfr : ∀ b, b ≠ o → g b = g0 b := fun b h1 => (hn b h1).trans (hfr b h1)
  have ho : g o = some ((L, 3, 0), oo 11 [.int (nI sp), .int 1, .ref wk, .int (nI many), .ref L]) := hw
  refine lv_istore_n (lv' := [(1, .int r_1), (0, .ref o)]) hx hb dX18_cleaning_8 rfl hl (by decide) rfl (fun ls hl => ?_)
  refine lv_aload_n hx hb dX18_cleaning_9 rfl (lv_at hl 1 rfl) ?_
  refine lv_bipush (v := 58) hx hb dX18_cleaning_10 (by decide) ?_
  refine gh_callv hg (gh_runV (As := [.int 58]) (rest := []) hC hg (j_X18_signW l V _ L q n bc arr cap f0 ml hS u1 u2 u3 hL o wk many sp 1 (by omega) ho rfl 58) 1 (lw_V q1511 q1513 qs21 q178 q1514) ho rfl hd_X18_sign ⟨Nat.le_of_ble_eq_true rfl, Nat.le_of_ble_eq_true rfl⟩ rfl hl.1 rfl (Nat.le_of_ble_eq_true rfl) dX18_cleaning_12 ⟨Nat.le_of_ble_eq_true rfl, Nat.le_of_ble_eq_true rfl⟩) (fun g H locs hg hp => ?_)
  obtain ⟨hw, hn⟩ := hp
  have hL : g L = some ((L, 0, 0), oo 1 [u1, u2, u3, .ref q]) := (hn _ (gh_neK hL ho rfl)).trans hL
  have hqq : g q = some ((L, 2, 0), oo 18 [.ref arr, .int 0, .int ml, .int (nI n)]) := (hn _ (gh_neK hqq ho rfl)).trans hqq
  have hS : sb_C V L 2 g q n bc arr cap f0 ml := sb_C.keep hS (fun a t x h1 h2 h3 => (hn a (fun e9 => by rw [e9, ho] at h1; cases h1; exact absurd (show 3 = 2 from h3) (by decide))).trans h1)
  have hfr : ∀ b, b ≠ o → g b = g0 b := fun b h1 => (hn b h1).trans (hfr b h1)
  have ho : g o = some ((L, 3, 0), oo 11 [.int (nI sp), .int 1, .ref wk, .int (nI many), .ref L]) := hw
  refine lv_aload_n hx hb dX18_cleaning_15 rfl (lv_at hl 1 rfl) ?_
  refine lv_iconst (v := 0) hx hb dX18_cleaning_16 (by decide) ?_
  refine lv_bipush (v := 23) hx hb dX18_cleaning_17 (by decide) ?_
  refine gh_calli hg (gh_runV (As := [.int 0, .int 23]) (rest := []) hC hg (j_X18_numberW l V _ L q n bc arr cap f0 ml hS u1 u2 u3 hL o wk many sp 1 (by omega) ho rfl 0 23) 2 (lw_V q1610 q1612 qs23 q178 q1613) ho rfl hd_X18_number ⟨Nat.le_of_ble_eq_true rfl, Nat.le_of_ble_eq_true rfl⟩ rfl hl.1 rfl (Nat.le_of_ble_eq_true rfl) dX18_cleaning_19 ⟨Nat.le_of_ble_eq_true rfl, Nat.le_of_ble_eq_true rfl⟩) (fun r_13 g H locs hg hp => ?_)
  obtain ⟨hw, hn⟩ := hp
  have hL : g L = some ((L, 0, 0), oo 1 [u1, u2, u3, .ref q]) := (hn _ (gh_neK hL ho rfl)).trans hL
  have hqq : g q = some ((L, 2, 0), oo 18 [.ref arr, .int 0, .int ml, .int (nI n)]) := (hn _ (gh_neK hqq ho rfl)).trans hqq
  have hS : sb_C V L 2 g q n bc arr cap f0 ml := sb_C.keep hS (fun a t x h1 h2 h3 => (hn a (fun e9 => by rw [e9, ho] at h1; cases h1; exact absurd (show 3 = 2 from h3) (by decide))).trans h1)
  have hfr : ∀ b, b ≠ o → g b = g0 b := fun b h1 => (hn b h1).trans (hfr b h1)
  have ho : g o = some ((L, 3, 0), oo 11 [.int (nI sp), .int 1, .ref wk, .int (nI many), .ref L]) := hw
  refine lv_istore_n (lv' := [(2, .int r_13), (1, .int r_1), (0, .ref o)]) hx hb dX18_cleaning_22 rfl hl (by decide) rfl (fun ls hl => ?_)
  refine lv_iload_n hx hb dX18_cleaning_23 rfl (lv_at hl 1 rfl) ?_
  refine lv_iload_n hx hb dX18_cleaning_24 rfl (lv_at hl 0 rfl) ?_
  have ho_o := ho
  refine gh_ln8 (rest := []) hC hg hnm (fun q9 => (L, 3, 2)) hl.1 rfl (Nat.le_of_ble_eq_true rfl) (Nat.le_of_ble_eq_true rfl) (Nat.le_of_ble_eq_true rfl) (Nat.le_of_ble_eq_true rfl) dX18_cleaning_25 (fun q_14 g H hg h0 hw hn => ?_)
  have hL : g L = some ((L, 0, 0), oo 1 [u1, u2, u3, .ref q]) := (hn _ (gh_neN hL h0)).trans hL
  have ho : g o = some ((L, 3, 0), oo 11 [.int (nI sp), .int 1, .ref wk, .int (nI many), .ref L]) := (hn _ (gh_neN ho h0)).trans ho
  have hqq : g q = some ((L, 2, 0), oo 18 [.ref arr, .int 0, .int ml, .int (nI n)]) := (hn _ (gh_neN hqq h0)).trans hqq
  have hS : sb_C V L 2 g q n bc arr cap f0 ml := sb_C.keep hS (fun a t x h1 h2 h3 => (hn a (fun e9 => by rw [e9, h0] at h1; cases h1)).trans h1)
  have c_15 : g q_14 = some ((L, 3, 2), lam_ob V 8 [.int r_1, .int r_13]) := hw
  have h00 : g0 q_14 = none := (hfr _ (fun e9 => by rw [e9, ho_o] at h0; cases h0)).symm.trans h0
  have hfq : ∀ b, b ≠ o → b ≠ q_14 → g b = g0 b := fun b h1 h2 => (hn b h2).trans (hfr b h1)
  have hz : (cE (cB bc) n sp) = (false, sp) := by unfold cE; rw [if_neg sg_2]
  exact gh_retq (r := some q_14) (Or.inl ⟨_, rfl⟩) hC hg hr hlk (⟨q_14, _, _, rfl, c_15, h00, by rw [hz]; exact ho, (fun h9 => by rw [hz] at h9; cases h9), hfq⟩) dX18_cleaning_30 (Nat.le_of_ble_eq_true rfl) (Nat.le_of_ble_eq_true rfl)
