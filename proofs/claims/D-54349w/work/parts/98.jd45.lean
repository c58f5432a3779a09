set_option maxRecDepth 100000
theorem fX18_17_11 : gh_fd RX18 17 11 2 (.array (.object "AnnealingLehr$Work")) true := gh_fd.own (T := TX18) tyX18 rfl in_X18 tyX18_ok nmX18 (by decide) q1475 rfl rfl (fun h => rfl)
theorem fX18_81_11 : gh_fd RX18 81 11 3 .int false := gh_fd.own (T := TX18) tyX18 rfl in_X18 tyX18_ok nmX18 (by decide) q1476 rfl rfl (fun h => by cases h)
theorem hd_X18_cleaning : yX18_cleaning.cls = RX18 ∧ yX18_cleaning.cls ≠ "java/lang/invoke/MethodHandle" ∧ yX18_cleaning.cls ≠ "java/lang/invoke/VarHandle" ∧ (parseMethodDescriptor yX18_cleaning.desc).map (fun d => d.parameters.length) = some 0 := by decide +kernel
theorem hd_X18_loading : yX18_loading.cls = RX18 ∧ yX18_loading.cls ≠ "java/lang/invoke/MethodHandle" ∧ yX18_loading.cls ≠ "java/lang/invoke/VarHandle" ∧ (parseMethodDescriptor yX18_loading.desc).map (fun d => d.parameters.length) = some 1 := by decide +kernel
theorem hd_X18_ofZone : yX18_ofZone.cls = RX18 ∧ yX18_ofZone.cls ≠ "java/lang/invoke/MethodHandle" ∧ yX18_ofZone.cls ≠ "java/lang/invoke/VarHandle" ∧ (parseMethodDescriptor yX18_ofZone.desc).map (fun d => d.parameters.length) = some 1 := by decide +kernel
theorem hd_X18_opening : yX18_opening.cls = RX18 ∧ yX18_opening.cls ≠ "java/lang/invoke/MethodHandle" ∧ yX18_opening.cls ≠ "java/lang/invoke/VarHandle" ∧ (parseMethodDescriptor yX18_opening.desc).map (fun d => d.parameters.length) = some 2 := by decide +kernel
theorem hd_X18_passing : yX18_passing.cls = RX18 ∧ yX18_passing.cls ≠ "java/lang/invoke/MethodHandle" ∧ yX18_passing.cls ≠ "java/lang/invoke/VarHandle" ∧ (parseMethodDescriptor yX18_passing.desc).map (fun d => d.parameters.length) = some 1 := by decide +kernel
set_option maxHeartbeats 1000000 in
set_option maxRecDepth 100000 in
theorem j_X18_part98 (l : Launch) (V : gh_V) (g0 : gh_G) (L q n : Nat) (bc : Nat → Nat) (arr cap : Nat) (f0 : Nat → Int32) (ml : Int32) (hS0 : sb_C V L 2 g0 q n bc arr cap f0 ml) (u1 u2 u3 : Value) (hL0 : g0 L = some ((L, 0, 0), oo 1 [u1, u2, u3, .ref q])) (o wk many sp : Nat) (wr : Int32) (hsp : sp ≤ 61) (ho0 : g0 o = some ((L, 3, 0), oo 11 [.int (nI sp), .int wr, .ref wk, .int (nI many), .ref L])) (hwr : wr = 0) (f : Nat → Option Nat) (hk0 : g0 wk = some ((L, 3, 1), aq V 7 60 f)) (hm60 : many < 60) (hlet : nxC bc n sp = 98) : MV l yX18_part cX18_part 3 ({ frames := 8, cells := 1, slots := 2, locals := 3103 } : Room) V [.ref o] g0 (fun g1 => ∃ qw : Nat, g1 o = some ((L, 3, 0), oo 11 [.int (nI ((ptE (cB bc) n sp).2)), .int (if (ptE (cB bc) n sp).1 = true then 0 else 1), .ref wk, .int (nI (if (ptE (cB bc) n sp).1 = true then many + 1 else many)), .ref L]) ∧ g1 wk = some ((L, 3, 1), aq V 7 60 (if (ptE (cB bc) n sp).1 = true then va_up f many (some qw) else f)) ∧ ((ptE (cB bc) n sp).1 = true → g1 qw = some ((L, 3, 2), wob V (cB bc sp) (ptO (cB bc) n sp) (ptT (cB bc) n sp)) ∧ g0 qw = none) ∧ ∀ b x, g0 b = some x → b ≠ o → b ≠ wk → g1 b = some x) := by
  refine MG.of RX18 (by decide) rfl (Nat.le_of_ble_eq_true rfl) (fun pp ee s mm args below meth c ls hC hg hr hlk hnm hl => ?_)
  have hx := hC.1.1
  have hb := hC.1.2.1
  have hml := hC.1.2.2.1
  have hown := hC.1.2.2.2.1
  have hts := hC.1.2.2.2.2
  have hl : lv_has ls 3 [(0, .ref o)] := hl
  obtain ⟨g, hg, hgg⟩ : ∃ g, gh_W V (gh_A g0 s.heap.size) s g s.heap [] ∧ g = g0 := ⟨g0, hg, rfl⟩
  have hS := hS0
  have hL := hL0
  have ho := ho0
  rw [← hgg] at hS hL ho
  have hn60 := hS0.2.2.2.2.1
  have hbc := fun i hi => (hS0.2.2.2.2.2.2 i hi).2
  rw [hwr] at ho
  have hqq := hS.1
  have hk := hk0
  rw [← hgg] at hk
  have hex : ∀ b x, g0 b = some x → b ≠ o → b ≠ wk → g b = some x := fun b x h _ _ => by rw [hgg]; exact h
  obtain ⟨hl1, hl2⟩ := nx_let hlet (by decide)
  obtain ⟨hpE, hpO, hpT⟩ := pt_98 ⟨hl1, hl2⟩
  refine lv_aload_n hx hb dX18_part_0 rfl (lv_at hl 0 rfl) ?_
  refine gh_get (v := .int 0) hC hg ho fX18_24_11 rfl dX18_part_1 ?_
  refine lv_if_eq (tgt := 8) hx hb dX18_part_4 (by decide) (fun _ => ?_) (fun c_1 => (absurd ((nx_eq (show ((0 : Int32)) = nI 0 from rfl) (show ((0 : Int32)) = nI 0 from rfl) (by omega) (by omega)).mpr (by omega)) c_1))
  refine lv_aload_n hx hb dX18_part_8 rfl (lv_at hl 0 rfl) ?_
  refine gh_calli hg (gh_runV (As := []) (rest := []) hC hg (j_X18_next l V _ L q n bc arr cap f0 ml hS u1 u2 u3 hL o wk many sp 0 (by omega) ho) 0 (lw_V q1497 q1499 qs18 q178 q1500) ho rfl hd_X18_next ⟨Nat.le_of_ble_eq_true rfl, Nat.le_of_ble_eq_true rfl⟩ rfl hl.1 rfl (Nat.le_of_ble_eq_true rfl) dX18_part_9 ⟨Nat.le_of_ble_eq_true rfl, Nat.le_of_ble_eq_true rfl⟩) (fun r_2 g H locs hg hp => ?_)
  obtain ⟨hp, hq⟩ := hp
  replace hp : (nxC bc n sp) = r_2 := hp.symm
  subst hp
  rw [hq] at hg
  refine W.eq (g2 := F0 mm 12 ls [.int 98]) (by rw [hlet] <;> rfl) ?_
  refine lv_istore_n (lv' := [(1, .int 98), (0, .ref o)]) hx hb dX18_part_12 rfl hl (by decide) rfl (fun ls hl => ?_)
  refine lv_null hx hb dX18_part_13 ?_
  refine lv_astore_nN (lv' := [(2, .null), (1, .int 98), (0, .ref o)]) hx hb dX18_part_14 rfl hl (by decide) rfl (fun ls hl => ?_)
  refine lv_iload_n hx hb dX18_part_15 rfl (lv_at hl 1 rfl) ?_
  refine lv_tableIn (off := 84) (tgt := 100) hx hb dX18_part_16 (by decide) (by decide) (by decide) (by decide) ?_
  refine lv_aload_n hx hb dX18_part_100 rfl (lv_at hl 2 rfl) ?_
  refine lv_dup hx hb dX18_part_101 rfl ?_
  refine gh_get (v := .int (nI sp)) hC hg ho fX18_28_11 rfl dX18_part_102 ?_
  refine lv_iconst (v := 1) hx hb dX18_part_105 (by decide) ?_
  refine lv_iadd hx hb dX18_part_106 ?_
  refine W.eq (g2 := F0 mm 107 ls [.int (nI (sp + 1)), .ref o]) (by rw [(nI_1 sp)] <;> rfl) ?_
  refine gh_put (v := .int (nI (sp + 1))) hC hg ho fX18_28_11 rfl rfl (Nat.le_of_ble_eq_true rfl) dX18_part_107 (fun g H locs hg hw hn => ?_)
  have hL : g L = some ((L, 0, 0), oo 1 [u1, u2, u3, .ref q]) := (hn _ (gh_neK hL ho rfl)).trans hL
  have hqq : g q = some ((L, 2, 0), oo 18 [.ref arr, .int 0, .int ml, .int (nI n)]) := (hn _ (gh_neK hqq ho rfl)).trans hqq
  have hk : g wk = some ((L, 3, 1), aq V 7 60 f) := (hn _ (gh_neI hk ho rfl)).trans hk
  have hS : sb_C V L 2 g q n bc arr cap f0 ml := sb_C.keep hS (fun a t x h1 h2 h3 => (hn a (fun e9 => by rw [e9, ho] at h1; cases h1; exact absurd (show 3 = 2 from h3) (by decide))).trans h1)
  have hex : ∀ b x, g0 b = some x → b ≠ o → b ≠ wk → g b = some x := fun b x h1 h2 h3 => (hn b h2).trans (hex b x h1 h2 h3)
  have ho : g o = some ((L, 3, 0), oo 11 [.int (nI (sp + 1)), .int 0, .ref wk, .int (nI many), .ref L]) := hw
  refine lv_aload_n hx hb dX18_part_110 rfl (lv_at hl 2 rfl) ?_
  refine lv_iload_n hx hb dX18_part_111 rfl (lv_at hl 1 rfl) ?_
  refine gh_callq hg (gh_runV (As := [.int 98]) (rest := []) hC hg (j_X18_ofZone98 l V _ L q n bc arr cap f0 ml hS u1 u2 u3 hL o wk many (sp + 1) 0 (by omega) ho rfl) 1 (lw_V q1503 q1505 qs19 q178 q1506) ho rfl hd_X18_ofZone ⟨Nat.le_of_ble_eq_true rfl, Nat.le_of_ble_eq_true rfl⟩ rfl hl.1 rfl (Nat.le_of_ble_eq_true rfl) dX18_part_112 ⟨Nat.le_of_ble_eq_true rfl, Nat.le_of_ble_eq_true rfl⟩) (fun r_3 g H locs hg hp => ?_)
  obtain ⟨qw_4, u9, v9, rfl, hl9, h09, ho9, huv, hfq9⟩ := hp
  have h00_qw_4 : g0 qw_4 = none := w_none2 hex ho0 hk0 ho hk h09
  have hS : sb_C V L 2 g q n bc arr cap f0 ml := sb_C.keep hS (fun a t x h1 h2 h3 => (hfq9 a (fun e9 => by rw [e9, ho] at h1; cases h1; exact absurd (show 3 = 2 from h3) (by decide)) (fun e9 => by rw [e9, h09] at h1; cases h1)).trans h1)
  have hex : ∀ b x, g0 b = some x → b ≠ o → b ≠ wk → g b = some x := fun b x h1 h2 h3 => (hfq9 b h2 (fun e9 => by have h8 := hex b x h1 h2 h3; rw [e9, h09] at h8; cases h8)).trans (hex b x h1 h2 h3)
  have hL : g L = some ((L, 0, 0), oo 1 [u1, u2, u3, .ref q]) := (hfq9 _ (gh_neK hL ho rfl) (gh_neN hL h09)).trans hL
  have hqq : g q = some ((L, 2, 0), oo 18 [.ref arr, .int 0, .int ml, .int (nI n)]) := (hfq9 _ (gh_neK hqq ho rfl) (gh_neN hqq h09)).trans hqq
  have hk : g wk = some ((L, 3, 1), aq V 7 60 f) := (hfq9 _ (gh_neI hk ho rfl) (gh_neN hk h09)).trans hk
  by_cases hE9 : (zE (cB bc) n (sp + 1) 51).1 = true
  · skip
    rw [if_pos hE9] at ho9
    have ho : g o = some ((L, 3, 0), oo 11 [.int (nI ((zE (cB bc) n (sp + 1) 51).2)), .int 0, .ref wk, .int (nI many), .ref L]) := ho9
    obtain ⟨rfl, rfl⟩ := huv hE9
    have c_5 : g qw_4 = some ((L, 3, 2), lam_ob V 0 [.int (nI (dg (cB bc) (sp + 1))), .int (nI (dg (cB bc) (sp + 1 + 1 + 1)))]) := hl9
    refine W.eq (g2 := F0 mm 115 ls [.ref qw_4]) rfl ?_
    refine lv_astore_n (lv' := [(2, .ref qw_4), (1, .int 98), (0, .ref o)]) hx hb dX18_part_115 rfl hl (by decide) rfl (fun ls hl => ?_)
    refine lv_goto (tgt := 226) hx hb dX18_part_116 (by decide) ?_
    refine lv_aload_n hx hb dX18_part_226 rfl (lv_at hl 2 rfl) ?_
    refine gh_get (v := .int 0) hC hg ho fX18_24_11 rfl dX18_part_227 ?_
    have hz : (ptE (cB bc) n sp) = (true, (zE (cB bc) n (sp + 1) 51).2) := by rw [hpE]; exact Prod.ext hE9 rfl
    have hE1 : (ptE (cB bc) n sp).1 = true := by rw [hz]
    refine lv_if_ne (tgt := 253) hx hb dX18_part_230 (by decide) (fun c_6 => (absurd rfl c_6)) (fun _ => ?_)
    refine lv_aload_n hx hb dX18_part_233 rfl (lv_at hl 2 rfl) ?_
    refine gh_get (v := .ref wk) hC hg ho fX18_17_11 rfl dX18_part_234 ?_
    refine lv_aload_n hx hb dX18_part_237 rfl (lv_at hl 2 rfl) ?_
    refine gh_get (v := .int (nI many)) hC hg ho fX18_81_11 rfl dX18_part_238 ?_
    refine lv_aload_n hx hb dX18_part_241 rfl (lv_at hl 0 rfl) ?_
    refine gh_qastL (n := 60) (f := f) hC hg hk rfl c_5 lam_w0 lam_k0 rfl rfl (by omega) (by omega) dX18_part_242 (fun g H locs hg hw hn => ?_)
    have hL : g L = some ((L, 0, 0), oo 1 [u1, u2, u3, .ref q]) := (hn _ (gh_neK hL hk rfl)).trans hL
    have ho : g o = some ((L, 3, 0), oo 11 [.int (nI ((zE (cB bc) n (sp + 1) 51).2)), .int 0, .ref wk, .int (nI many), .ref L]) := (hn _ (gh_neI ho hk rfl)).trans ho
    have hqq : g q = some ((L, 2, 0), oo 18 [.ref arr, .int 0, .int ml, .int (nI n)]) := (hn _ (gh_neK hqq hk rfl)).trans hqq
    have c_5 : g qw_4 = some ((L, 3, 2), lam_ob V 0 [.int (nI (dg (cB bc) (sp + 1))), .int (nI (dg (cB bc) (sp + 1 + 1 + 1)))]) := (hn _ (gh_neI c_5 hk rfl)).trans c_5
    have hS : sb_C V L 2 g q n bc arr cap f0 ml := sb_C.keep hS (fun a t x h1 h2 h3 => (hn a (fun e9 => by rw [e9, hk] at h1; cases h1; exact absurd (show 3 = 2 from h3) (by decide))).trans h1)
    have hex : ∀ b x, g0 b = some x → b ≠ o → b ≠ wk → g b = some x := fun b x h1 h2 h3 => (hn b h3).trans (hex b x h1 h2 h3)
    have hk : g wk = some ((L, 3, 1), aq V 7 60 (va_up f many (some qw_4))) := hw
    refine lv_aload_n hx hb dX18_part_243 rfl (lv_at hl 2 rfl) ?_
    refine lv_dup hx hb dX18_part_244 rfl ?_
    refine gh_get (v := .int (nI many)) hC hg ho fX18_81_11 rfl dX18_part_245 ?_
    refine lv_iconst (v := 1) hx hb dX18_part_248 (by decide) ?_
    refine lv_iadd hx hb dX18_part_249 ?_
    refine W.eq (g2 := F0 mm 250 ls [.int (nI (many + 1)), .ref o]) (by rw [(nI_1 many)] <;> rfl) ?_
    refine gh_put (v := .int (nI (many + 1))) hC hg ho fX18_81_11 rfl rfl (Nat.le_of_ble_eq_true rfl) dX18_part_250 (fun g H locs hg hw hn => ?_)
    have hL : g L = some ((L, 0, 0), oo 1 [u1, u2, u3, .ref q]) := (hn _ (gh_neK hL ho rfl)).trans hL
    have hqq : g q = some ((L, 2, 0), oo 18 [.ref arr, .int 0, .int ml, .int (nI n)]) := (hn _ (gh_neK hqq ho rfl)).trans hqq
    have hk : g wk = some ((L, 3, 1), aq V 7 60 (va_up f many (some qw_4))) := (hn _ (gh_neI hk ho rfl)).trans hk
    have c_5 : g qw_4 = some ((L, 3, 2), lam_ob V 0 [.int (nI (dg (cB bc) (sp + 1))), .int (nI (dg (cB bc) (sp + 1 + 1 + 1)))]) := (hn _ (gh_neI c_5 ho rfl)).trans c_5
    have hS : sb_C V L 2 g q n bc arr cap f0 ml := sb_C.keep hS (fun a t x h1 h2 h3 => (hn a (fun e9 => by rw [e9, ho] at h1; cases h1; exact absurd (show 3 = 2 from h3) (by decide))).trans h1)
    have hex : ∀ b x, g0 b = some x → b ≠ o → b ≠ wk → g b = some x := fun b x h1 h2 h3 => (hn b h2).trans (hex b x h1 h2 h3)
    have ho : g o = some ((L, 3, 0), oo 11 [.int (nI ((zE (cB bc) n (sp + 1) 51).2)), .int 0, .ref wk, .int (nI (many + 1)), .ref L]) := hw
    exact gh_retv hC hg hr hlk (⟨qw_4, by rw [if_pos hE1, if_pos hE1, hz]; exact ho, by rw [if_pos hE1]; exact hk, fun _ => ⟨by rw [hl2, hpO, hpT]; exact c_5, h00_qw_4⟩, hex⟩) dX18_part_253 (Nat.le_of_ble_eq_true rfl) (Nat.le_of_ble_eq_true rfl)
  · skip
    rw [if_neg hE9] at ho9
    have ho : g o = some ((L, 3, 0), oo 11 [.int (nI ((zE (cB bc) n (sp + 1) 51).2)), .int 1, .ref wk, .int (nI many), .ref L]) := ho9
    have c_7 : g qw_4 = some ((L, 3, 2), lam_ob V 0 [.int u9, .int v9]) := hl9
    refine W.eq (g2 := F0 mm 115 ls [.ref qw_4]) rfl ?_
    refine lv_astore_n (lv' := [(2, .ref qw_4), (1, .int 98), (0, .ref o)]) hx hb dX18_part_115 rfl hl (by decide) rfl (fun ls hl => ?_)
    refine lv_goto (tgt := 226) hx hb dX18_part_116 (by decide) ?_
    refine lv_aload_n hx hb dX18_part_226 rfl (lv_at hl 2 rfl) ?_
    refine gh_get (v := .int 1) hC hg ho fX18_24_11 rfl dX18_part_227 ?_
    have hz : (ptE (cB bc) n sp) = (false, (zE (cB bc) n (sp + 1) 51).2) := by rw [hpE]; exact Prod.ext (Bool.eq_false_iff.mpr hE9) rfl
    have hE1 : ¬ (ptE (cB bc) n sp).1 = true := by rw [hz]; exact Bool.false_ne_true
    refine lv_if_ne (tgt := 253) hx hb dX18_part_230 (by decide) (fun _ => ?_) (fun c_8 => (absurd c_8 (by decide)))
    exact gh_retv hC hg hr hlk (⟨qw_4, by rw [if_neg hE1, if_neg hE1, hz]; exact ho, by rw [if_neg hE1]; exact hk, fun h9 => absurd h9 hE1, hex⟩) dX18_part_253 (Nat.le_of_ble_eq_true rfl) (Nat.le_of_ble_eq_true rfl)
set_option maxHeartbeats 1000000 in
set_option maxRecDepth 100000 in
theorem j_X18_part102 (l : Launch) (V : gh_V) (g0 : gh_G) (L q n : Nat) (bc : Nat → Nat) (arr cap : Nat) (f0 : Nat → Int32) (ml : Int32) (hS0 : sb_C V L 2 g0 q n bc arr cap f0 ml) (u1 u2 u3 : Value) (hL0 : g0 L = some ((L, 0, 0), oo 1 [u1, u2, u3, .ref q])) (o wk many sp : Nat) (wr : Int32) (hsp : sp ≤ 61) (ho0 : g0 o = some ((L, 3, 0), oo 11 [.int (nI sp), .int wr, .ref wk, .int (nI many), .ref L])) (hwr : wr = 0) (f : Nat → Option Nat) (hk0 : g0 wk = some ((L, 3, 1), aq V 7 60 f)) (hm60 : many < 60) (hlet : nxC bc n sp = 102) : MV l yX18_part cX18_part 3 ({ frames := 8, cells := 1, slots := 2, locals := 3103 } : Room) V [.ref o] g0 (fun g1 => ∃ qw : Nat, g1 o = some ((L, 3, 0), oo 11 [.int (nI ((ptE (cB bc) n sp).2)), .int (if (ptE (cB bc) n sp).1 = true then 0 else 1), .ref wk, .int (nI (if (ptE (cB bc) n sp).1 = true then many + 1 else many)), .ref L]) ∧ g1 wk = some ((L, 3, 1), aq V 7 60 (if (ptE (cB bc) n sp).1 = true then va_up f many (some qw) else f)) ∧ ((ptE (cB bc) n sp).1 = true → g1 qw = some ((L, 3, 2), wob V (cB bc sp) (ptO (cB bc) n sp) (ptT (cB bc) n sp)) ∧ g0 qw = none) ∧ ∀ b x, g0 b = some x → b ≠ o → b ≠ wk → g1 b = some x) := by
  refine MG.of RX18 (by decide) rfl (Nat.le_of_ble_eq_true rfl) (fun pp ee s mm args below meth c ls hC hg hr hlk hnm hl => ?_)
  have hx := hC.1.1
  have hb := hC.1.2.1
  have hml := hC.1.2.2.1
  have hown := hC.1.2.2.2.1
  have hts := hC.1.2.2.2.2
  have hl : lv_has ls 3 [(0, .ref o)] := hl
  obtain ⟨g, hg, hgg⟩ : ∃ g, gh_W V (gh_A g0 s.heap.size) s g s.heap [] ∧ g = g0 := ⟨g0, hg, rfl⟩
  have hS := hS0
  have hL := hL0
  have ho := ho0
  rw [← hgg] at hS hL ho
  have hn60 := hS0.2.2.2.2.1
  have hbc := fun i hi => (hS0.2.2.2.2.2.2 i hi).2
  rw [hwr] at ho
  have hqq := hS.1
  have hk := hk0
  rw [← hgg] at hk
  have hex : ∀ b x, g0 b = some x → b ≠ o → b ≠ wk → g b = some x := fun b x h _ _ => by rw [hgg]; exact h
  obtain ⟨hl1, hl2⟩ := nx_let hlet (by decide)
  obtain ⟨hpE, hpO, hpT⟩ := pt_102 ⟨hl1, hl2⟩
  refine lv_aload_n hx hb dX18_part_0 rfl (lv_at hl 0 rfl) ?_
  refine gh_get (v := .int 0) hC hg ho fX18_24_11 rfl dX18_part_1 ?_
  refine lv_if_eq (tgt := 8) hx hb dX18_part_4 (by decide) (fun _ => ?_) (fun c_1 => (absurd ((nx_eq (show ((0 : Int32)) = nI 0 from rfl) (show ((0 : Int32)) = nI 0 from rfl) (by omega) (by omega)).mpr (by omega)) c_1))
  refine lv_aload_n hx hb dX18_part_8 rfl (lv_at hl 0 rfl) ?_
  refine gh_calli hg (gh_runV (As := []) (rest := []) hC hg (j_X18_next l V _ L q n bc arr cap f0 ml hS u1 u2 u3 hL o wk many sp 0 (by omega) ho) 0 (lw_V q1497 q1499 qs18 q178 q1500) ho rfl hd_X18_next ⟨Nat.le_of_ble_eq_true rfl, Nat.le_of_ble_eq_true rfl⟩ rfl hl.1 rfl (Nat.le_of_ble_eq_true rfl) dX18_part_9 ⟨Nat.le_of_ble_eq_true rfl, Nat.le_of_ble_eq_true rfl⟩) (fun r_2 g H locs hg hp => ?_)
  obtain ⟨hp, hq⟩ := hp
  replace hp : (nxC bc n sp) = r_2 := hp.symm
  subst hp
  rw [hq] at hg
  refine W.eq (g2 := F0 mm 12 ls [.int 102]) (by rw [hlet] <;> rfl) ?_
  refine lv_istore_n (lv' := [(1, .int 102), (0, .ref o)]) hx hb dX18_part_12 rfl hl (by decide) rfl (fun ls hl => ?_)
  refine lv_null hx hb dX18_part_13 ?_
  refine lv_astore_nN (lv' := [(2, .null), (1, .int 102), (0, .ref o)]) hx hb dX18_part_14 rfl hl (by decide) rfl (fun ls hl => ?_)
  refine lv_iload_n hx hb dX18_part_15 rfl (lv_at hl 1 rfl) ?_
  refine lv_tableIn (off := 84) (tgt := 100) hx hb dX18_part_16 (by decide) (by decide) (by decide) (by decide) ?_
  refine lv_aload_n hx hb dX18_part_100 rfl (lv_at hl 2 rfl) ?_
  refine lv_dup hx hb dX18_part_101 rfl ?_
  refine gh_get (v := .int (nI sp)) hC hg ho fX18_28_11 rfl dX18_part_102 ?_
  refine lv_iconst (v := 1) hx hb dX18_part_105 (by decide) ?_
  refine lv_iadd hx hb dX18_part_106 ?_
  refine W.eq (g2 := F0 mm 107 ls [.int (nI (sp + 1)), .ref o]) (by rw [(nI_1 sp)] <;> rfl) ?_
  refine gh_put (v := .int (nI (sp + 1))) hC hg ho fX18_28_11 rfl rfl (Nat.le_of_ble_eq_true rfl) dX18_part_107 (fun g H locs hg hw hn => ?_)
  have hL : g L = some ((L, 0, 0), oo 1 [u1, u2, u3, .ref q]) := (hn _ (gh_neK hL ho rfl)).trans hL
  have hqq : g q = some ((L, 2, 0), oo 18 [.ref arr, .int 0, .int ml, .int (nI n)]) := (hn _ (gh_neK hqq ho rfl)).trans hqq
  have hk : g wk = some ((L, 3, 1), aq V 7 60 f) := (hn _ (gh_neI hk ho rfl)).trans hk
  have hS : sb_C V L 2 g q n bc arr cap f0 ml := sb_C.keep hS (fun a t x h1 h2 h3 => (hn a (fun e9 => by rw [e9, ho] at h1; cases h1; exact absurd (show 3 = 2 from h3) (by decide))).trans h1)
  have hex : ∀ b x, g0 b = some x → b ≠ o → b ≠ wk → g b = some x := fun b x h1 h2 h3 => (hn b h2).trans (hex b x h1 h2 h3)
  have ho : g o = some ((L, 3, 0), oo 11 [.int (nI (sp + 1)), .int 0, .ref wk, .int (nI many), .ref L]) := hw
  refine lv_aload_n hx hb dX18_part_110 rfl (lv_at hl 2 rfl) ?_
  refine lv_iload_n hx hb dX18_part_111 rfl (lv_at hl 1 rfl) ?_
  refine gh_callq hg (gh_runV (As := [.int 102]) (rest := []) hC hg (j_X18_ofZone102 l V _ L q n bc arr cap f0 ml hS u1 u2 u3 hL o wk many (sp + 1) 0 (by omega) ho rfl) 1 (lw_V q1503 q1505 qs19 q178 q1506) ho rfl hd_X18_ofZone ⟨Nat.le_of_ble_eq_true rfl, Nat.le_of_ble_eq_true rfl⟩ rfl hl.1 rfl (Nat.le_of_ble_eq_true rfl) dX18_part_112 ⟨Nat.le_of_ble_eq_true rfl, Nat.le_of_ble_eq_true rfl⟩) (fun r_3 g H locs hg hp => ?_)
  obtain ⟨qw_4, u9, v9, rfl, hl9, h09, ho9, huv, hfq9⟩ := hp
  have h00_qw_4 : g0 qw_4 = none := w_none2 hex ho0 hk0 ho hk h09
  have hS : sb_C V L 2 g q n bc arr cap f0 ml := sb_C.keep hS (fun a t x h1 h2 h3 => (hfq9 a (fun e9 => by rw [e9, ho] at h1; cases h1; exact absurd (show 3 = 2 from h3) (by decide)) (fun e9 => by rw [e9, h09] at h1; cases h1)).trans h1)
  have hex : ∀ b x, g0 b = some x → b ≠ o → b ≠ wk → g b = some x := fun b x h1 h2 h3 => (hfq9 b h2 (fun e9 => by have h8 := hex b x h1 h2 h3; rw [e9, h09] at h8; cases h8)).trans (hex b x h1 h2 h3)
  have hL : g L = some ((L, 0, 0), oo 1 [u1, u2, u3, .ref q]) := (hfq9 _ (gh_neK hL ho rfl) (gh_neN hL h09)).trans hL
  have hqq : g q = some ((L, 2, 0), oo 18 [.ref arr, .int 0, .int ml, .int (nI n)]) := (hfq9 _ (gh_neK hqq ho rfl) (gh_neN hqq h09)).trans hqq
  have hk : g wk = some ((L, 3, 1), aq V 7 60 f) := (hfq9 _ (gh_neI hk ho rfl) (gh_neN hk h09)).trans hk
  by_cases hE9 : (zE (cB bc) n (sp + 1) 51).1 = true
  · skip
    rw [if_pos hE9] at ho9
    have ho : g o = some ((L, 3, 0), oo 11 [.int (nI ((zE (cB bc) n (sp + 1) 51).2)), .int 0, .ref wk, .int (nI many), .ref L]) := ho9
    obtain ⟨rfl, rfl⟩ := huv hE9
    have c_5 : g qw_4 = some ((L, 3, 2), lam_ob V 1 [.int (nI (dg (cB bc) (sp + 1))), .int (nI (dg (cB bc) (sp + 1 + 1 + 1)))]) := hl9
    refine W.eq (g2 := F0 mm 115 ls [.ref qw_4]) rfl ?_
    refine lv_astore_n (lv' := [(2, .ref qw_4), (1, .int 102), (0, .ref o)]) hx hb dX18_part_115 rfl hl (by decide) rfl (fun ls hl => ?_)
    refine lv_goto (tgt := 226) hx hb dX18_part_116 (by decide) ?_
    refine lv_aload_n hx hb dX18_part_226 rfl (lv_at hl 2 rfl) ?_
    refine gh_get (v := .int 0) hC hg ho fX18_24_11 rfl dX18_part_227 ?_
    have hz : (ptE (cB bc) n sp) = (true, (zE (cB bc) n (sp + 1) 51).2) := by rw [hpE]; exact Prod.ext hE9 rfl
    have hE1 : (ptE (cB bc) n sp).1 = true := by rw [hz]
    refine lv_if_ne (tgt := 253) hx hb dX18_part_230 (by decide) (fun c_6 => (absurd rfl c_6)) (fun _ => ?_)
    refine lv_aload_n hx hb dX18_part_233 rfl (lv_at hl 2 rfl) ?_
    refine gh_get (v := .ref wk) hC hg ho fX18_17_11 rfl dX18_part_234 ?_
    refine lv_aload_n hx hb dX18_part_237 rfl (lv_at hl 2 rfl) ?_
    refine gh_get (v := .int (nI many)) hC hg ho fX18_81_11 rfl dX18_part_238 ?_
    refine lv_aload_n hx hb dX18_part_241 rfl (lv_at hl 0 rfl) ?_
    refine gh_qastL (n := 60) (f := f) hC hg hk rfl c_5 lam_w1 lam_k1 rfl rfl (by omega) (by omega) dX18_part_242 (fun g H locs hg hw hn => ?_)
    have hL : g L = some ((L, 0, 0), oo 1 [u1, u2, u3, .ref q]) := (hn _ (gh_neK hL hk rfl)).trans hL
    have ho : g o = some ((L, 3, 0), oo 11 [.int (nI ((zE (cB bc) n (sp + 1) 51).2)), .int 0, .ref wk, .int (nI many), .ref L]) := (hn _ (gh_neI ho hk rfl)).trans ho
    have hqq : g q = some ((L, 2, 0), oo 18 [.ref arr, .int 0, .int ml, .int (nI n)]) := (hn _ (gh_neK hqq hk rfl)).trans hqq
    have c_5 : g qw_4 = some ((L, 3, 2), lam_ob V 1 [.int (nI (dg (cB bc) (sp + 1))), .int (nI (dg (cB bc) (sp + 1 + 1 + 1)))]) := (hn _ (gh_neI c_5 hk rfl)).trans c_5
    have hS : sb_C V L 2 g q n bc arr cap f0 ml := sb_C.keep hS (fun a t x h1 h2 h3 => (hn a (fun e9 => by rw [e9, hk] at h1; cases h1; exact absurd (show 3 = 2 from h3) (by decide))).trans h1)
    have hex : ∀ b x, g0 b = some x → b ≠ o → b ≠ wk → g b = some x := fun b x h1 h2 h3 => (hn b h3).trans (hex b x h1 h2 h3)
    have hk : g wk = some ((L, 3, 1), aq V 7 60 (va_up f many (some qw_4))) := hw
    refine lv_aload_n hx hb dX18_part_243 rfl (lv_at hl 2 rfl) ?_
    refine lv_dup hx hb dX18_part_244 rfl ?_
    refine gh_get (v := .int (nI many)) hC hg ho fX18_81_11 rfl dX18_part_245 ?_
    refine lv_iconst (v := 1) hx hb dX18_part_248 (by decide) ?_
    refine lv_iadd hx hb dX18_part_249 ?_
    refine W.eq (g2 := F0 mm 250 ls [.int (nI (many + 1)), .ref o]) (by rw [(nI_1 many)] <;> rfl) ?_
    refine gh_put (v := .int (nI (many + 1))) hC hg ho fX18_81_11 rfl rfl (Nat.le_of_ble_eq_true rfl) dX18_part_250 (fun g H locs hg hw hn => ?_)
    have hL : g L = some ((L, 0, 0), oo 1 [u1, u2, u3, .ref q]) := (hn _ (gh_neK hL ho rfl)).trans hL
    have hqq : g q = some ((L, 2, 0), oo 18 [.ref arr, .int 0, .int ml, .int (nI n)]) := (hn _ (gh_neK hqq ho rfl)).trans hqq
    have hk : g wk = some ((L, 3, 1), aq V 7 60 (va_up f many (some qw_4))) := (hn _ (gh_neI hk ho rfl)).trans hk
    have c_5 : g qw_4 = some ((L, 3, 2), lam_ob V 1 [.int (nI (dg (cB bc) (sp + 1))), .int (nI (dg (cB bc) (sp + 1 + 1 + 1)))]) := (hn _ (gh_neI c_5 ho rfl)).trans c_5
    have hS : sb_C V L 2 g q n bc arr cap f0 ml := sb_C.keep hS (fun a t x h1 h2 h3 => (hn a (fun e9 => by rw [e9, ho] at h1; cases h1; exact absurd (show 3 = 2 from h3) (by decide))).trans h1)
    have hex : ∀ b x, g0 b = some x → b ≠ o → b ≠ wk → g b = some x := fun b x h1 h2 h3 => (hn b h2).trans (hex b x h1 h2 h3)
    have ho : g o = some ((L, 3, 0), oo 11 [.int (nI ((zE (cB bc) n (sp + 1) 51).2)), .int 0, .ref wk, .int (nI (many + 1)), .ref L]) := hw
    exact gh_retv hC hg hr hlk (⟨qw_4, by rw [if_pos hE1, if_pos hE1, hz]; exact ho, by rw [if_pos hE1]; exact hk, fun _ => ⟨by rw [hl2, hpO, hpT]; exact c_5, h00_qw_4⟩, hex⟩) dX18_part_253 (Nat.le_of_ble_eq_true rfl) (Nat.le_of_ble_eq_true rfl)
  · skip
    rw [if_neg hE9] at ho9
    have ho : g o = some ((L, 3, 0), oo 11 [.int (nI ((zE (cB bc) n (sp + 1) 51).2)), .int 1, .ref wk, .int (nI many), .ref L]) := ho9
    have c_7 : g qw_4 = some ((L, 3, 2), lam_ob V 1 [.int u9, .int v9]) := hl9
    refine W.eq (g2 := F0 mm 115 ls [.ref qw_4]) rfl ?_
    refine lv_astore_n (lv' := [(2, .ref qw_4), (1, .int 102), (0, .ref o)]) hx hb dX18_part_115 rfl hl (by decide) rfl (fun ls hl => ?_)
    refine lv_goto (tgt := 226) hx hb dX18_part_116 (by decide) ?_
    refine lv_aload_n hx hb dX18_part_226 rfl (lv_at hl 2 rfl) ?_
    refine gh_get (v := .int 1) hC hg ho fX18_24_11 rfl dX18_part_227 ?_
    have hz : (ptE (cB bc) n sp) = (false, (zE (cB bc) n (sp + 1) 51).2) := by rw [hpE]; exact Prod.ext (Bool.eq_false_iff.mpr hE9) rfl
    have hE1 : ¬ (ptE (cB bc) n sp).1 = true := by rw [hz]; exact Bool.false_ne_true
    refine lv_if_ne (tgt := 253) hx hb dX18_part_230 (by decide) (fun _ => ?_) (fun c_8 => (absurd c_8 (by decide)))
    exact gh_retv hC hg hr hlk (⟨qw_4, by rw [if_neg hE1, if_neg hE1, hz]; exact ho, by rw [if_neg hE1]; exact hk, fun h9 => absurd h9 hE1, hex⟩) dX18_part_253 (Nat.le_of_ble_eq_true rfl) (Nat.le_of_ble_eq_true rfl)
set_option maxHeartbeats 1000000 in
set_option maxRecDepth 100000 in
theorem j_X18_part114 (l : Launch) (V : gh_V) (g0 : gh_G) (L q n : Nat) (bc : Nat → Nat) (arr cap : Nat) (f0 : Nat → Int32) (ml : Int32) (hS0 : sb_C V L 2 g0 q n bc arr cap f0 ml) (u1 u2 u3 : Value) (hL0 : g0 L = some ((L, 0, 0), oo 1 [u1, u2, u3, .ref q])) (o wk many sp : Nat) (wr : Int32) (hsp : sp ≤ 61) (ho0 : g0 o = some ((L, 3, 0), oo 11 [.int (nI sp), .int wr, .ref wk, .int (nI many), .ref L])) (hwr : wr = 0) (f : Nat → Option Nat) (hk0 : g0 wk = some ((L, 3, 1), aq V 7 60 f)) (hm60 : many < 60) (hlet : nxC bc n sp = 114) : MV l yX18_part cX18_part 3 ({ frames := 8, cells := 1, slots := 2, locals := 3103 } : Room) V [.ref o] g0 (fun g1 => ∃ qw : Nat, g1 o = some ((L, 3, 0), oo 11 [.int (nI ((ptE (cB bc) n sp).2)), .int (if (ptE (cB bc) n sp).1 = true then 0 else 1), .ref wk, .int (nI (if (ptE (cB bc) n sp).1 = true then many + 1 else many)), .ref L]) ∧ g1 wk = some ((L, 3, 1), aq V 7 60 (if (ptE (cB bc) n sp).1 = true then va_up f many (some qw) else f)) ∧ ((ptE (cB bc) n sp).1 = true → g1 qw = some ((L, 3, 2), wob V (cB bc sp) (ptO (cB bc) n sp) (ptT (cB bc) n sp)) ∧ g0 qw = none) ∧ ∀ b x, g0 b = some x → b ≠ o → b ≠ wk → g1 b = some x) := by
  refine MG.of RX18 (by decide) rfl (Nat.le_of_ble_eq_true rfl) (fun pp ee s mm args below meth c ls hC hg hr hlk hnm hl => ?_)
  have hx := hC.1.1
  have hb := hC.1.2.1
  have hml := hC.1.2.2.1
  have hown := hC.1.2.2.2.1
  have hts := hC.1.2.2.2.2
  have hl : lv_has ls 3 [(0, .ref o)] := hl
  obtain ⟨g, hg, hgg⟩ : ∃ g, gh_W V (gh_A g0 s.heap.size) s g s.heap [] ∧ g = g0 := ⟨g0, hg, rfl⟩
  have hS := hS0
  have hL := hL0
  have ho := ho0
  rw [← hgg] at hS hL ho
  have hn60 := hS0.2.2.2.2.1
  have hbc := fun i hi => (hS0.2.2.2.2.2.2 i hi).2
  rw [hwr] at ho
  have hqq := hS.1
  have hk := hk0
  rw [← hgg] at hk
  have hex : ∀ b x, g0 b = some x → b ≠ o → b ≠ wk → g b = some x := fun b x h _ _ => by rw [hgg]; exact h
  obtain ⟨hl1, hl2⟩ := nx_let hlet (by decide)
  obtain ⟨hpE, hpO, hpT⟩ := pt_114 ⟨hl1, hl2⟩
  refine lv_aload_n hx hb dX18_part_0 rfl (lv_at hl 0 rfl) ?_
  refine gh_get (v := .int 0) hC hg ho fX18_24_11 rfl dX18_part_1 ?_
  refine lv_if_eq (tgt := 8) hx hb dX18_part_4 (by decide) (fun _ => ?_) (fun c_1 => (absurd ((nx_eq (show ((0 : Int32)) = nI 0 from rfl) (show ((0 : Int32)) = nI 0 from rfl) (by omega) (by omega)).mpr (by omega)) c_1))
  refine lv_aload_n hx hb dX18_part_8 rfl (lv_at hl 0 rfl) ?_
  refine gh_calli hg (gh_runV (As := []) (rest := []) hC hg (j_X18_next l V _ L q n bc arr cap f0 ml hS u1 u2 u3 hL o wk many sp 0 (by omega) ho) 0 (lw_V q1497 q1499 qs18 q178 q1500) ho rfl hd_X18_next ⟨Nat.le_of_ble_eq_true rfl, Nat.le_of_ble_eq_true rfl⟩ rfl hl.1 rfl (Nat.le_of_ble_eq_true rfl) dX18_part_9 ⟨Nat.le_of_ble_eq_true rfl, Nat.le_of_ble_eq_true rfl⟩) (fun r_2 g H locs hg hp => ?_)
  obtain ⟨hp, hq⟩ := hp
  replace hp : (nxC bc n sp) = r_2 := hp.symm
  subst hp
  rw [hq] at hg
  refine W.eq (g2 := F0 mm 12 ls [.int 114]) (by rw [hlet] <;> rfl) ?_
  refine lv_istore_n (lv' := [(1, .int 114), (0, .ref o)]) hx hb dX18_part_12 rfl hl (by decide) rfl (fun ls hl => ?_)
  refine lv_null hx hb dX18_part_13 ?_
  refine lv_astore_nN (lv' := [(2, .null), (1, .int 114), (0, .ref o)]) hx hb dX18_part_14 rfl hl (by decide) rfl (fun ls hl => ?_)
  refine lv_iload_n hx hb dX18_part_15 rfl (lv_at hl 1 rfl) ?_
  refine lv_tableIn (off := 84) (tgt := 100) hx hb dX18_part_16 (by decide) (by decide) (by decide) (by decide) ?_
  refine lv_aload_n hx hb dX18_part_100 rfl (lv_at hl 2 rfl) ?_
  refine lv_dup hx hb dX18_part_101 rfl ?_
  refine gh_get (v := .int (nI sp)) hC hg ho fX18_28_11 rfl dX18_part_102 ?_
  refine lv_iconst (v := 1) hx hb dX18_part_105 (by decide) ?_
  refine lv_iadd hx hb dX18_part_106 ?_
  refine W.eq (g2 := F0 mm 107 ls [.int (nI (sp + 1)), .ref o]) (by rw [(nI_1 sp)] <;> rfl) ?_
  refine gh_put (v := .int (nI (sp + 1))) hC hg ho fX18_28_11 rfl rfl (Nat.le_of_ble_eq_true rfl) dX18_part_107 (fun g H locs hg hw hn => ?_)
  have hL : g L = some ((L, 0, 0), oo 1 [u1, u2, u3, .ref q]) := (hn _ (gh_neK hL ho rfl)).trans hL
  have hqq : g q = some ((L, 2, 0), oo 18 [.ref arr, .int 0, .int ml, .int (nI n)]) := (hn _ (gh_neK hqq ho rfl)).trans hqq
  have hk : g wk = some ((L, 3, 1), aq V 7 60 f) := (hn _ (gh_neI hk ho rfl)).trans hk
  have hS : sb_C V L 2 g q n bc arr cap f0 ml := sb_C.keep hS (fun a t x h1 h2 h3 => (hn a (fun e9 => by rw [e9, ho] at h1; cases h1; exact absurd (show 3 = 2 from h3) (by decide))).trans h1)
  have hex : ∀ b x, g0 b = some x → b ≠ o → b ≠ wk → g b = some x := fun b x h1 h2 h3 => (hn b h2).trans (hex b x h1 h2 h3)
  have ho : g o = some ((L, 3, 0), oo 11 [.int (nI (sp + 1)), .int 0, .ref wk, .int (nI many), .ref L]) := hw
  refine lv_aload_n hx hb dX18_part_110 rfl (lv_at hl 2 rfl) ?_
  refine lv_iload_n hx hb dX18_part_111 rfl (lv_at hl 1 rfl) ?_
  refine gh_callq hg (gh_runV (As := [.int 114]) (rest := []) hC hg (j_X18_ofZone114 l V _ L q n bc arr cap f0 ml hS u1 u2 u3 hL o wk many (sp + 1) 0 (by omega) ho rfl) 1 (lw_V q1503 q1505 qs19 q178 q1506) ho rfl hd_X18_ofZone ⟨Nat.le_of_ble_eq_true rfl, Nat.le_of_ble_eq_true rfl⟩ rfl hl.1 rfl (Nat.le_of_ble_eq_true rfl) dX18_part_112 ⟨Nat.le_of_ble_eq_true rfl, Nat.le_of_ble_eq_true rfl⟩) (fun r_3 g H locs hg hp => ?_)
  obtain ⟨qw_4, u9, v9, rfl, hl9, h09, ho9, huv, hfq9⟩ := hp
  have h00_qw_4 : g0 qw_4 = none := w_none2 hex ho0 hk0 ho hk h09
  have hS : sb_C V L 2 g q n bc arr cap f0 ml := sb_C.keep hS (fun a t x h1 h2 h3 => (hfq9 a (fun e9 => by rw [e9, ho] at h1; cases h1; exact absurd (show 3 = 2 from h3) (by decide)) (fun e9 => by rw [e9, h09] at h1; cases h1)).trans h1)
  have hex : ∀ b x, g0 b = some x → b ≠ o → b ≠ wk → g b = some x := fun b x h1 h2 h3 => (hfq9 b h2 (fun e9 => by have h8 := hex b x h1 h2 h3; rw [e9, h09] at h8; cases h8)).trans (hex b x h1 h2 h3)
  have hL : g L = some ((L, 0, 0), oo 1 [u1, u2, u3, .ref q]) := (hfq9 _ (gh_neK hL ho rfl) (gh_neN hL h09)).trans hL
  have hqq : g q = some ((L, 2, 0), oo 18 [.ref arr, .int 0, .int ml, .int (nI n)]) := (hfq9 _ (gh_neK hqq ho rfl) (gh_neN hqq h09)).trans hqq
  have hk : g wk = some ((L, 3, 1), aq V 7 60 f) := (hfq9 _ (gh_neI hk ho rfl) (gh_neN hk h09)).trans hk
  by_cases hE9 : (zE (cB bc) n (sp + 1) 57).1 = true
  · skip
    rw [if_pos hE9] at ho9
    have ho : g o = some ((L, 3, 0), oo 11 [.int (nI ((zE (cB bc) n (sp + 1) 57).2)), .int 0, .ref wk, .int (nI many), .ref L]) := ho9
    obtain ⟨rfl, rfl⟩ := huv hE9
    have c_5 : g qw_4 = some ((L, 3, 2), lam_ob V 2 [.int (nI (dg (cB bc) (sp + 1))), .int (nI (dg (cB bc) (sp + 1 + 1 + 1)))]) := hl9
    refine W.eq (g2 := F0 mm 115 ls [.ref qw_4]) rfl ?_
    refine lv_astore_n (lv' := [(2, .ref qw_4), (1, .int 114), (0, .ref o)]) hx hb dX18_part_115 rfl hl (by decide) rfl (fun ls hl => ?_)
    refine lv_goto (tgt := 226) hx hb dX18_part_116 (by decide) ?_
    refine lv_aload_n hx hb dX18_part_226 rfl (lv_at hl 2 rfl) ?_
    refine gh_get (v := .int 0) hC hg ho fX18_24_11 rfl dX18_part_227 ?_
    have hz : (ptE (cB bc) n sp) = (true, (zE (cB bc) n (sp + 1) 57).2) := by rw [hpE]; exact Prod.ext hE9 rfl
    have hE1 : (ptE (cB bc) n sp).1 = true := by rw [hz]
    refine lv_if_ne (tgt := 253) hx hb dX18_part_230 (by decide) (fun c_6 => (absurd rfl c_6)) (fun _ => ?_)
    refine lv_aload_n hx hb dX18_part_233 rfl (lv_at hl 2 rfl) ?_
    refine gh_get (v := .ref wk) hC hg ho fX18_17_11 rfl dX18_part_234 ?_
    refine lv_aload_n hx hb dX18_part_237 rfl (lv_at hl 2 rfl) ?_
    refine gh_get (v := .int (nI many)) hC hg ho fX18_81_11 rfl dX18_part_238 ?_
    refine lv_aload_n hx hb dX18_part_241 rfl (lv_at hl 0 rfl) ?_
    refine gh_qastL (n := 60) (f := f) hC hg hk rfl c_5 lam_w2 lam_k2 rfl rfl (by omega) (by omega) dX18_part_242 (fun g H locs hg hw hn => ?_)
    have hL : g L = some ((L, 0, 0), oo 1 [u1, u2, u3, .ref q]) := (hn _ (gh_neK hL hk rfl)).trans hL
    have ho : g o = some ((L, 3, 0), oo 11 [.int (nI ((zE (cB bc) n (sp + 1) 57).2)), .int 0, .ref wk, .int (nI many), .ref L]) := (hn _ (gh_neI ho hk rfl)).trans ho
    have hqq : g q = some ((L, 2, 0), oo 18 [.ref arr, .int 0, .int ml, .int (nI n)]) := (hn _ (gh_neK hqq hk rfl)).trans hqq
    have c_5 : g qw_4 = some ((L, 3, 2), lam_ob V 2 [.int (nI (dg (cB bc) (sp + 1))), .int (nI (dg (cB bc) (sp + 1 + 1 + 1)))]) := (hn _ (gh_neI c_5 hk rfl)).trans c_5
    have hS : sb_C V L 2 g q n bc arr cap f0 ml := sb_C.keep hS (fun a t x h1 h2 h3 => (hn a (fun e9 => by rw [e9, hk] at h1; cases h1; exact absurd (show 3 = 2 from h3) (by decide))).trans h1)
    have hex : ∀ b x, g0 b = some x → b ≠ o → b ≠ wk → g b = some x := fun b x h1 h2 h3 => (hn b h3).trans (hex b x h1 h2 h3)
    have hk : g wk = some ((L, 3, 1), aq V 7 60 (va_up f many (some qw_4))) := hw
    refine lv_aload_n hx hb dX18_part_243 rfl (lv_at hl 2 rfl) ?_
    refine lv_dup hx hb dX18_part_244 rfl ?_
    refine gh_get (v := .int (nI many)) hC hg ho fX18_81_11 rfl dX18_part_245 ?_
    refine lv_iconst (v := 1) hx hb dX18_part_248 (by decide) ?_
    refine lv_iadd hx hb dX18_part_249 ?_
    refine W.eq (g2 := F0 mm 250 ls [.int (nI (many + 1)), .ref o]) (by rw [(nI_1 many)] <;> rfl) ?_
    refine gh_put (v := .int (nI (many + 1))) hC hg ho fX18_81_11 rfl rfl (Nat.le_of_ble_eq_true rfl) dX18_part_250 (fun g H locs hg hw hn => ?_)
    have hL : g L = some ((L, 0, 0), oo 1 [u1, u2, u3, .ref q]) := (hn _ (gh_neK hL ho rfl)).trans hL
    have hqq : g q = some ((L, 2, 0), oo 18 [.ref arr, .int 0, .int ml, .int (nI n)]) := (hn _ (gh_neK hqq ho rfl)).trans hqq
    have hk : g wk = some ((L, 3, 1), aq V 7 60 (va_up f many (some qw_4))) := (hn _ (gh_neI hk ho rfl)).trans hk
    have c_5 : g qw_4 = some ((L, 3, 2), lam_ob V 2 [.int (nI (dg (cB bc) (sp + 1))), .int (nI (dg (cB bc) (sp + 1 + 1 + 1)))]) := (hn _ (gh_neI c_5 ho rfl)).trans c_5
    have hS : sb_C V L 2 g q n bc arr cap f0 ml := sb_C.keep hS (fun a t x h1 h2 h3 => (hn a (fun e9 => by rw [e9, ho] at h1; cases h1; exact absurd (show 3 = 2 from h3) (by decide))).trans h1)
    have hex : ∀ b x, g0 b = some x → b ≠ o → b ≠ wk → g b = some x := fun b x h1 h2 h3 => (hn b h2).trans (hex b x h1 h2 h3)
    have ho : g o = some ((L, 3, 0), oo 11 [.int (nI ((zE (cB bc) n (sp + 1) 57).2)), .int 0, .ref wk, .int (nI (many + 1)), .ref L]) := hw
    exact gh_retv hC hg hr hlk (⟨qw_4, by rw [if_pos hE1, if_pos hE1, hz]; exact ho, by rw [if_pos hE1]; exact hk, fun _ => ⟨by rw [hl2, hpO, hpT]; exact c_5, h00_qw_4⟩, hex⟩) dX18_part_253 (Nat.le_of_ble_eq_true rfl) (Nat.le_of_ble_eq_true rfl)
  · skip
    rw [if_neg hE9] at ho9
    have ho : g o = some ((L, 3, 0), oo 11 [.int (nI ((zE (cB bc) n (sp + 1) 57).2)), .int 1, .ref wk, .int (nI many), .ref L]) := ho9
    have c_7 : g qw_4 = some ((L, 3, 2), lam_ob V 2 [.int u9, .int v9]) := hl9
    refine W.eq (g2 := F0 mm 115 ls [.ref qw_4]) rfl ?_
    refine lv_astore_n (lv' := [(2, .ref qw_4), (1, .int 114), (0, .ref o)]) hx hb dX18_part_115 rfl hl (by decide) rfl (fun ls hl => ?_)
    refine lv_goto (tgt := 226) hx hb dX18_part_116 (by decide) ?_
    refine lv_aload_n hx hb dX18_part_226 rfl (lv_at hl 2 rfl) ?_
    refine gh_get (v := .int 1) hC hg ho fX18_24_11 rfl dX18_part_227 ?_
    have hz : (ptE (cB bc) n sp) = (false, (zE (cB bc) n (sp + 1) 57).2) := by rw [hpE]; exact Prod.ext (Bool.eq_false_iff.mpr hE9) rfl
    have hE1 : ¬ (ptE (cB bc) n sp).1 = true := by rw [hz]; exact Bool.false_ne_true
    refine lv_if_ne (tgt := 253) hx hb dX18_part_230 (by decide) (fun _ => ?_) (fun c_8 => (absurd c_8 (by decide)))
    exact gh_retv hC hg hr hlk (⟨qw_4, by rw [if_neg hE1, if_neg hE1, hz]; exact ho, by rw [if_neg hE1]; exact hk, fun h9 => absurd h9 hE1, hex⟩) dX18_part_253 (Nat.le_of_ble_eq_true rfl) (Nat.le_of_ble_eq_true rfl)
set_option maxHeartbeats 1000000 in
set_option maxRecDepth 100000 in
theorem j_X18_part99 (l : Launch) (V : gh_V) (g0 : gh_G) (L q n : Nat) (bc : Nat → Nat) (arr cap : Nat) (f0 : Nat → Int32) (ml : Int32) (hS0 : sb_C V L 2 g0 q n bc arr cap f0 ml) (u1 u2 u3 : Value) (hL0 : g0 L = some ((L, 0, 0), oo 1 [u1, u2, u3, .ref q])) (o wk many sp : Nat) (wr : Int32) (hsp : sp ≤ 61) (ho0 : g0 o = some ((L, 3, 0), oo 11 [.int (nI sp), .int wr, .ref wk, .int (nI many), .ref L])) (hwr : wr = 0) (f : Nat → Option Nat) (hk0 : g0 wk = some ((L, 3, 1), aq V 7 60 f)) (hm60 : many < 60) (hlet : nxC bc n sp = 99) : MV l yX18_part cX18_part 3 ({ frames := 8, cells := 1, slots := 2, locals := 3103 } : Room) V [.ref o] g0 (fun g1 => ∃ qw : Nat, g1 o = some ((L, 3, 0), oo 11 [.int (nI ((ptE (cB bc) n sp).2)), .int (if (ptE (cB bc) n sp).1 = true then 0 else 1), .ref wk, .int (nI (if (ptE (cB bc) n sp).1 = true then many + 1 else many)), .ref L]) ∧ g1 wk = some ((L, 3, 1), aq V 7 60 (if (ptE (cB bc) n sp).1 = true then va_up f many (some qw) else f)) ∧ ((ptE (cB bc) n sp).1 = true → g1 qw = some ((L, 3, 2), wob V (cB bc sp) (ptO (cB bc) n sp) (ptT (cB bc) n sp)) ∧ g0 qw = none) ∧ ∀ b x, g0 b = some x → b ≠ o → b ≠ wk → g1 b = some x) := by
  refine MG.of RX18 (by decide) rfl (Nat.le_of_ble_eq_true rfl) (fun pp ee s mm args below meth c ls hC hg hr hlk hnm hl => ?_)
  have hx := hC.1.1
  have hb := hC.1.2.1
  have hml := hC.1.2.2.1
  have hown := hC.1.2.2.2.1
  have hts := hC.1.2.2.2.2
  have hl : lv_has ls 3 [(0, .ref o)] := hl
  obtain ⟨g, hg, hgg⟩ : ∃ g, gh_W V (gh_A g0 s.heap.size) s g s.heap [] ∧ g = g0 := ⟨g0, hg, rfl⟩
  have hS := hS0
  have hL := hL0
  have ho := ho0
  rw [← hgg] at hS hL ho
  have hn60 := hS0.2.2.2.2.1
  have hbc := fun i hi => (hS0.2.2.2.2.2.2 i hi).2
  rw [hwr] at ho
  have hqq := hS.1
  have hk := hk0
  rw [← hgg] at hk
  have hex : ∀ b x, g0 b = some x → b ≠ o → b ≠ wk → g b = some x := fun b x h _ _ => by rw [hgg]; exact h
  obtain ⟨hl1, hl2⟩ := nx_let hlet (by decide)
  obtain ⟨hpE, hpO, hpT⟩ := pt_99 ⟨hl1, hl2⟩
  refine lv_aload_n hx hb dX18_part_0 rfl (lv_at hl 0 rfl) ?_
  refine gh_get (v := .int 0) hC hg ho fX18_24_11 rfl dX18_part_1 ?_
  refine lv_if_eq (tgt := 8) hx hb dX18_part_4 (by decide) (fun _ => ?_) (fun c_1 => (absurd ((nx_eq (show ((0 : Int32)) = nI 0 from rfl) (show ((0 : Int32)) = nI 0 from rfl) (by omega) (by omega)).mpr (by omega)) c_1))
  refine lv_aload_n hx hb dX18_part_8 rfl (lv_at hl 0 rfl) ?_
  refine gh_calli hg (gh_runV (As := []) (rest := []) hC hg (j_X18_next l V _ L q n bc arr cap f0 ml hS u1 u2 u3 hL o wk many sp 0 (by omega) ho) 0 (lw_V q1497 q1499 qs18 q178 q1500) ho rfl hd_X18_next ⟨Nat.le_of_ble_eq_true rfl, Nat.le_of_ble_eq_true rfl⟩ rfl hl.1 rfl (Nat.le_of_ble_eq_true rfl) dX18_part_9 ⟨Nat.le_of_ble_eq_true rfl, Nat.le_of_ble_eq_true rfl⟩) (fun r_2 g H locs hg hp => ?_)
  obtain ⟨hp, hq⟩ := hp
  replace hp : (nxC bc n sp) = r_2 := hp.symm
  subst hp
  rw [hq] at hg
  refine W.eq (g2 := F0 mm 12 ls [.int 99]) (by rw [hlet] <;> rfl) ?_
  refine lv_istore_n (lv' := [(1, .int 99), (0, .ref o)]) hx hb dX18_part_12 rfl hl (by decide) rfl (fun ls hl => ?_)
  refine lv_null hx hb dX18_part_13 ?_
  refine lv_astore_nN (lv' := [(2, .null), (1, .int 99), (0, .ref o)]) hx hb dX18_part_14 rfl hl (by decide) rfl (fun ls hl => ?_)
  refine lv_iload_n hx hb dX18_part_15 rfl (lv_at hl 1 rfl) ?_
  refine lv_tableIn (off := 162) (tgt := 178) hx hb dX18_part_16 (by decide) (by decide) (by decide) (by decide) ?_
  refine lv_aload_n hx hb dX18_part_178 rfl (lv_at hl 2 rfl) ?_
  refine lv_dup hx hb dX18_part_179 rfl ?_
  refine gh_get (v := .int (nI sp)) hC hg ho fX18_28_11 rfl dX18_part_180 ?_
  refine lv_iconst (v := 1) hx hb dX18_part_183 (by decide) ?_
  refine lv_iadd hx hb dX18_part_184 ?_
  refine W.eq (g2 := F0 mm 185 ls [.int (nI (sp + 1)), .ref o]) (by rw [(nI_1 sp)] <;> rfl) ?_
  refine gh_put (v := .int (nI (sp + 1))) hC hg ho fX18_28_11 rfl rfl (Nat.le_of_ble_eq_true rfl) dX18_part_185 (fun g H locs hg hw hn => ?_)
  have hL : g L = some ((L, 0, 0), oo 1 [u1, u2, u3, .ref q]) := (hn _ (gh_neK hL ho rfl)).trans hL
  have hqq : g q = some ((L, 2, 0), oo 18 [.ref arr, .int 0, .int ml, .int (nI n)]) := (hn _ (gh_neK hqq ho rfl)).trans hqq
  have hk : g wk = some ((L, 3, 1), aq V 7 60 f) := (hn _ (gh_neI hk ho rfl)).trans hk
  have hS : sb_C V L 2 g q n bc arr cap f0 ml := sb_C.keep hS (fun a t x h1 h2 h3 => (hn a (fun e9 => by rw [e9, ho] at h1; cases h1; exact absurd (show 3 = 2 from h3) (by decide))).trans h1)
  have hex : ∀ b x, g0 b = some x → b ≠ o → b ≠ wk → g b = some x := fun b x h1 h2 h3 => (hn b h2).trans (hex b x h1 h2 h3)
  have ho : g o = some ((L, 3, 0), oo 11 [.int (nI (sp + 1)), .int 0, .ref wk, .int (nI many), .ref L]) := hw
  refine lv_aload_n hx hb dX18_part_188 rfl (lv_at hl 2 rfl) ?_
  refine gh_callq hg (gh_runV (As := []) (rest := []) hC hg (j_X18_cleaning l V _ L q n bc arr cap f0 ml hS u1 u2 u3 hL o wk many (sp + 1) 0 (by omega) ho rfl) 0 (lw_V q2292 q2294 qs29 q178 q2295) ho rfl hd_X18_cleaning ⟨Nat.le_of_ble_eq_true rfl, Nat.le_of_ble_eq_true rfl⟩ rfl hl.1 rfl (Nat.le_of_ble_eq_true rfl) dX18_part_189 ⟨Nat.le_of_ble_eq_true rfl, Nat.le_of_ble_eq_true rfl⟩) (fun r_3 g H locs hg hp => ?_)
  obtain ⟨qw_4, u9, v9, rfl, hl9, h09, ho9, huv, hfq9⟩ := hp
  have h00_qw_4 : g0 qw_4 = none := w_none2 hex ho0 hk0 ho hk h09
  have hS : sb_C V L 2 g q n bc arr cap f0 ml := sb_C.keep hS (fun a t x h1 h2 h3 => (hfq9 a (fun e9 => by rw [e9, ho] at h1; cases h1; exact absurd (show 3 = 2 from h3) (by decide)) (fun e9 => by rw [e9, h09] at h1; cases h1)).trans h1)
  have hex : ∀ b x, g0 b = some x → b ≠ o → b ≠ wk → g b = some x := fun b x h1 h2 h3 => (hfq9 b h2 (fun e9 => by have h8 := hex b x h1 h2 h3; rw [e9, h09] at h8; cases h8)).trans (hex b x h1 h2 h3)
  have hL : g L = some ((L, 0, 0), oo 1 [u1, u2, u3, .ref q]) := (hfq9 _ (gh_neK hL ho rfl) (gh_neN hL h09)).trans hL
  have hqq : g q = some ((L, 2, 0), oo 18 [.ref arr, .int 0, .int ml, .int (nI n)]) := (hfq9 _ (gh_neK hqq ho rfl) (gh_neN hqq h09)).trans hqq
  have hk : g wk = some ((L, 3, 1), aq V 7 60 f) := (hfq9 _ (gh_neI hk ho rfl) (gh_neN hk h09)).trans hk
  by_cases hE9 : (cE (cB bc) n (sp + 1)).1 = true
  · skip
    rw [if_pos hE9] at ho9
    have ho : g o = some ((L, 3, 0), oo 11 [.int (nI ((cE (cB bc) n (sp + 1)).2)), .int 0, .ref wk, .int (nI many), .ref L]) := ho9
    obtain ⟨rfl, rfl⟩ := huv hE9
    have c_5 : g qw_4 = some ((L, 3, 2), lam_ob V 8 [.int (nI (dg (cB bc) (sp + 1))), .int (nI (nmV (cB bc) n (sp + 1 + 1 + 1) 23))]) := hl9
    refine W.eq (g2 := F0 mm 192 ls [.ref qw_4]) rfl ?_
    refine lv_astore_n (lv' := [(2, .ref qw_4), (1, .int 99), (0, .ref o)]) hx hb dX18_part_192 rfl hl (by decide) rfl (fun ls hl => ?_)
    refine lv_goto (tgt := 226) hx hb dX18_part_193 (by decide) ?_
    refine lv_aload_n hx hb dX18_part_226 rfl (lv_at hl 2 rfl) ?_
    refine gh_get (v := .int 0) hC hg ho fX18_24_11 rfl dX18_part_227 ?_
    have hz : (ptE (cB bc) n sp) = (true, (cE (cB bc) n (sp + 1)).2) := by rw [hpE]; exact Prod.ext hE9 rfl
    have hE1 : (ptE (cB bc) n sp).1 = true := by rw [hz]
    refine lv_if_ne (tgt := 253) hx hb dX18_part_230 (by decide) (fun c_6 => (absurd rfl c_6)) (fun _ => ?_)
    refine lv_aload_n hx hb dX18_part_233 rfl (lv_at hl 2 rfl) ?_
    refine gh_get (v := .ref wk) hC hg ho fX18_17_11 rfl dX18_part_234 ?_
    refine lv_aload_n hx hb dX18_part_237 rfl (lv_at hl 2 rfl) ?_
    refine gh_get (v := .int (nI many)) hC hg ho fX18_81_11 rfl dX18_part_238 ?_
    refine lv_aload_n hx hb dX18_part_241 rfl (lv_at hl 0 rfl) ?_
    refine gh_qastL (n := 60) (f := f) hC hg hk rfl c_5 lam_w8 lam_k8 rfl rfl (by omega) (by omega) dX18_part_242 (fun g H locs hg hw hn => ?_)
    have hL : g L = some ((L, 0, 0), oo 1 [u1, u2, u3, .ref q]) := (hn _ (gh_neK hL hk rfl)).trans hL
    have ho : g o = some ((L, 3, 0), oo 11 [.int (nI ((cE (cB bc) n (sp + 1)).2)), .int 0, .ref wk, .int (nI many), .ref L]) := (hn _ (gh_neI ho hk rfl)).trans ho
    have hqq : g q = some ((L, 2, 0), oo 18 [.ref arr, .int 0, .int ml, .int (nI n)]) := (hn _ (gh_neK hqq hk rfl)).trans hqq
    have c_5 : g qw_4 = some ((L, 3, 2), lam_ob V 8 [.int (nI (dg (cB bc) (sp + 1))), .int (nI (nmV (cB bc) n (sp + 1 + 1 + 1) 23))]) := (hn _ (gh_neI c_5 hk rfl)).trans c_5
    have hS : sb_C V L 2 g q n bc arr cap f0 ml := sb_C.keep hS (fun a t x h1 h2 h3 => (hn a (fun e9 => by rw [e9, hk] at h1; cases h1; exact absurd (show 3 = 2 from h3) (by decide))).trans h1)
    have hex : ∀ b x, g0 b = some x → b ≠ o → b ≠ wk → g b = some x := fun b x h1 h2 h3 => (hn b h3).trans (hex b x h1 h2 h3)
    have hk : g wk = some ((L, 3, 1), aq V 7 60 (va_up f many (some qw_4))) := hw
    refine lv_aload_n hx hb dX18_part_243 rfl (lv_at hl 2 rfl) ?_
    refine lv_dup hx hb dX18_part_244 rfl ?_
    refine gh_get (v := .int (nI many)) hC hg ho fX18_81_11 rfl dX18_part_245 ?_
    refine lv_iconst (v := 1) hx hb dX18_part_248 (by decide) ?_
    refine lv_iadd hx hb dX18_part_249 ?_
    refine W.eq (g2 := F0 mm 250 ls [.int (nI (many + 1)), .ref o]) (by rw [(nI_1 many)] <;> rfl) ?_
    refine gh_put (v := .int (nI (many + 1))) hC hg ho fX18_81_11 rfl rfl (Nat.le_of_ble_eq_true rfl) dX18_part_250 (fun g H locs hg hw hn => ?_)
    have hL : g L = some ((L, 0, 0), oo 1 [u1, u2, u3, .ref q]) := (hn _ (gh_neK hL ho rfl)).trans hL
    have hqq : g q = some ((L, 2, 0), oo 18 [.ref arr, .int 0, .int ml, .int (nI n)]) := (hn _ (gh_neK hqq ho rfl)).trans hqq
    have hk : g wk = some ((L, 3, 1), aq V 7 60 (va_up f many (some qw_4))) := (hn _ (gh_neI hk ho rfl)).trans hk
    have c_5 : g qw_4 = some ((L, 3, 2), lam_ob V 8 [.int (nI (dg (cB bc) (sp + 1))), .int (nI (nmV (cB bc) n (sp + 1 + 1 + 1) 23))]) := (hn _ (gh_neI c_5 ho rfl)).trans c_5
    have hS : sb_C V L 2 g q n bc arr cap f0 ml := sb_C.keep hS (fun a t x h1 h2 h3 => (hn a (fun e9 => by rw [e9, ho] at h1; cases h1; exact absurd (show 3 = 2 from h3) (by decide))).trans h1)
    have hex : ∀ b x, g0 b = some x → b ≠ o → b ≠ wk → g b = some x := fun b x h1 h2 h3 => (hn b h2).trans (hex b x h1 h2 h3)
    have ho : g o = some ((L, 3, 0), oo 11 [.int (nI ((cE (cB bc) n (sp + 1)).2)), .int 0, .ref wk, .int (nI (many + 1)), .ref L]) := hw
    exact gh_retv hC hg hr hlk (⟨qw_4, by rw [if_pos hE1, if_pos hE1, hz]; exact ho, by rw [if_pos hE1]; exact hk, fun _ => ⟨by rw [hl2, hpO, hpT]; exact c_5, h00_qw_4⟩, hex⟩) dX18_part_253 (Nat.le_of_ble_eq_true rfl) (Nat.le_of_ble_eq_true rfl)
  · skip
    rw [if_neg hE9] at ho9
    have ho : g o = some ((L, 3, 0), oo 11 [.int (nI ((cE (cB bc) n (sp + 1)).2)), .int 1, .ref wk, .int (nI many), .ref L]) := ho9
    have c_7 : g qw_4 = some ((L, 3, 2), lam_ob V 8 [.int u9, .int v9]) := hl9
    refine W.eq (g2 := F0 mm 192 ls [.ref qw_4]) rfl ?_
    refine lv_astore_n (lv' := [(2, .ref qw_4), (1, .int 99), (0, .ref o)]) hx hb dX18_part_192 rfl hl (by decide) rfl (fun ls hl => ?_)
    refine lv_goto (tgt := 226) hx hb dX18_part_193 (by decide) ?_
    refine lv_aload_n hx hb dX18_part_226 rfl (lv_at hl 2 rfl) ?_
    refine gh_get (v := .int 1) hC hg ho fX18_24_11 rfl dX18_part_227 ?_
    have hz : (ptE (cB bc) n sp) = (false, (cE (cB bc) n (sp + 1)).2) := by rw [hpE]; exact Prod.ext (Bool.eq_false_iff.mpr hE9) rfl
    have hE1 : ¬ (ptE (cB bc) n sp).1 = true := by rw [hz]; exact Bool.false_ne_true
    refine lv_if_ne (tgt := 253) hx hb dX18_part_230 (by decide) (fun _ => ?_) (fun c_8 => (absurd c_8 (by decide)))
    exact gh_retv hC hg hr hlk (⟨qw_4, by rw [if_neg hE1, if_neg hE1, hz]; exact ho, by rw [if_neg hE1]; exact hk, fun h9 => absurd h9 hE1, hex⟩) dX18_part_253 (Nat.le_of_ble_eq_true rfl) (Nat.le_of_ble_eq_true rfl)
set_option maxHeartbeats 1000000 in
set_option maxRecDepth 100000 in
theorem j_X18_part111 (l : Launch) (V : gh_V) (g0 : gh_G) (L q n : Nat) (bc : Nat → Nat) (arr cap : Nat) (f0 : Nat → Int32) (ml : Int32) (hS0 : sb_C V L 2 g0 q n bc arr cap f0 ml) (u1 u2 u3 : Value) (hL0 : g0 L = some ((L, 0, 0), oo 1 [u1, u2, u3, .ref q])) (o wk many sp : Nat) (wr : Int32) (hsp : sp ≤ 61) (ho0 : g0 o = some ((L, 3, 0), oo 11 [.int (nI sp), .int wr, .ref wk, .int (nI many), .ref L])) (hwr : wr = 0) (f : Nat → Option Nat) (hk0 : g0 wk = some ((L, 3, 1), aq V 7 60 f)) (hm60 : many < 60) (hlet : nxC bc n sp = 111) : MV l yX18_part cX18_part 3 ({ frames := 8, cells := 1, slots := 2, locals := 3103 } : Room) V [.ref o] g0 (fun g1 => ∃ qw : Nat, g1 o = some ((L, 3, 0), oo 11 [.int (nI ((ptE (cB bc) n sp).2)), .int (if (ptE (cB bc) n sp).1 = true then 0 else 1), .ref wk, .int (nI (if (ptE (cB bc) n sp).1 = true then many + 1 else many)), .ref L]) ∧ g1 wk = some ((L, 3, 1), aq V 7 60 (if (ptE (cB bc) n sp).1 = true then va_up f many (some qw) else f)) ∧ ((ptE (cB bc) n sp).1 = true → g1 qw = some ((L, 3, 2), wob V (cB bc sp) (ptO (cB bc) n sp) (ptT (cB bc) n sp)) ∧ g0 qw = none) ∧ ∀ b x, g0 b = some x → b ≠ o → b ≠ wk → g1 b = some x) := by
  refine MG.of RX18 (by decide) rfl (Nat.le_of_ble_eq_true rfl) (fun pp ee s mm args below meth c ls hC hg hr hlk hnm hl => ?_)
  have hx := hC.1.1
  have hb := hC.1.2.1
  have hml := hC.1.2.2.1
  have hown := hC.1.2.2.2.1
  have hts := hC.1.2.2.2.2
  have hl : lv_has ls 3 [(0, .ref o)] := hl
  obtain ⟨g, hg, hgg⟩ : ∃ g, gh_W V (gh_A g0 s.heap.size) s g s.heap [] ∧ g = g0 := ⟨g0, hg, rfl⟩
  have hS := hS0
  have hL := hL0
  have ho := ho0
  rw [← hgg] at hS hL ho
  have hn60 := hS0.2.2.2.2.1
  have hbc := fun i hi => (hS0.2.2.2.2.2.2 i hi).2
  rw [hwr] at ho
  have hqq := hS.1
  have hk := hk0
  rw [← hgg] at hk
  have hex : ∀ b x, g0 b = some x → b ≠ o → b ≠ wk → g b = some x := fun b x h _ _ => by rw [hgg]; exact h
  obtain ⟨hl1, hl2⟩ := nx_let hlet (by decide)
  obtain ⟨hpE, hpO, hpT⟩ := pt_111 ⟨hl1, hl2⟩
  refine lv_aload_n hx hb dX18_part_0 rfl (lv_at hl 0 rfl) ?_
  refine gh_get (v := .int 0) hC hg ho fX18_24_11 rfl dX18_part_1 ?_
  refine lv_if_eq (tgt := 8) hx hb dX18_part_4 (by decide) (fun _ => ?_) (fun c_1 => (absurd ((nx_eq (show ((0 : Int32)) = nI 0 from rfl) (show ((0 : Int32)) = nI 0 from rfl) (by omega) (by omega)).mpr (by omega)) c_1))
  refine lv_aload_n hx hb dX18_part_8 rfl (lv_at hl 0 rfl) ?_
  refine gh_calli hg (gh_runV (As := []) (rest := []) hC hg (j_X18_next l V _ L q n bc arr cap f0 ml hS u1 u2 u3 hL o wk many sp 0 (by omega) ho) 0 (lw_V q1497 q1499 qs18 q178 q1500) ho rfl hd_X18_next ⟨Nat.le_of_ble_eq_true rfl, Nat.le_of_ble_eq_true rfl⟩ rfl hl.1 rfl (Nat.le_of_ble_eq_true rfl) dX18_part_9 ⟨Nat.le_of_ble_eq_true rfl, Nat.le_of_ble_eq_true rfl⟩) (fun r_2 g H locs hg hp => ?_)
  obtain ⟨hp, hq⟩ := hp
  replace hp : (nxC bc n sp) = r_2 := hp.symm
  subst hp
  rw [hq] at hg
  refine W.eq (g2 := F0 mm 12 ls [.int 111]) (by rw [hlet] <;> rfl) ?_
  refine lv_istore_n (lv' := [(1, .int 111), (0, .ref o)]) hx hb dX18_part_12 rfl hl (by decide) rfl (fun ls hl => ?_)
  refine lv_null hx hb dX18_part_13 ?_
  refine lv_astore_nN (lv' := [(2, .null), (1, .int 111), (0, .ref o)]) hx hb dX18_part_14 rfl hl (by decide) rfl (fun ls hl => ?_)
  refine lv_iload_n hx hb dX18_part_15 rfl (lv_at hl 1 rfl) ?_
  refine lv_tableIn (off := 103) (tgt := 119) hx hb dX18_part_16 (by decide) (by decide) (by decide) (by decide) ?_
  refine lv_aload_n hx hb dX18_part_119 rfl (lv_at hl 2 rfl) ?_
  refine lv_dup hx hb dX18_part_120 rfl ?_
  refine gh_get (v := .int (nI sp)) hC hg ho fX18_28_11 rfl dX18_part_121 ?_
  refine lv_iconst (v := 1) hx hb dX18_part_124 (by decide) ?_
  refine lv_iadd hx hb dX18_part_125 ?_
  refine W.eq (g2 := F0 mm 126 ls [.int (nI (sp + 1)), .ref o]) (by rw [(nI_1 sp)] <;> rfl) ?_
  refine gh_put (v := .int (nI (sp + 1))) hC hg ho fX18_28_11 rfl rfl (Nat.le_of_ble_eq_true rfl) dX18_part_126 (fun g H locs hg hw hn => ?_)
  have hL : g L = some ((L, 0, 0), oo 1 [u1, u2, u3, .ref q]) := (hn _ (gh_neK hL ho rfl)).trans hL
  have hqq : g q = some ((L, 2, 0), oo 18 [.ref arr, .int 0, .int ml, .int (nI n)]) := (hn _ (gh_neK hqq ho rfl)).trans hqq
  have hk : g wk = some ((L, 3, 1), aq V 7 60 f) := (hn _ (gh_neI hk ho rfl)).trans hk
  have hS : sb_C V L 2 g q n bc arr cap f0 ml := sb_C.keep hS (fun a t x h1 h2 h3 => (hn a (fun e9 => by rw [e9, ho] at h1; cases h1; exact absurd (show 3 = 2 from h3) (by decide))).trans h1)
  have hex : ∀ b x, g0 b = some x → b ≠ o → b ≠ wk → g b = some x := fun b x h1 h2 h3 => (hn b h2).trans (hex b x h1 h2 h3)
  have ho : g o = some ((L, 3, 0), oo 11 [.int (nI (sp + 1)), .int 0, .ref wk, .int (nI many), .ref L]) := hw
  refine lv_aload_n hx hb dX18_part_129 rfl (lv_at hl 2 rfl) ?_
  refine lv_aload_n hx hb dX18_part_130 rfl (lv_at hl 2 rfl) ?_
  refine lv_bipush (v := 48) hx hb dX18_part_131 (by decide) ?_
  refine lv_bipush (v := 50) hx hb dX18_part_133 (by decide) ?_
  refine gh_calli hg (gh_runV (As := [.int 48, .int 50]) (rest := [.ref o]) hC hg (j_X18_digit0 l V _ L q n bc arr cap f0 ml hS u1 u2 u3 hL o wk many (sp + 1) 0 (by omega) ho rfl 48 50 (by decide) (by decide)) 2 (lw_V q1507 q1509 qs20 q178 q1510) ho rfl hd_X18_digit ⟨Nat.le_of_ble_eq_true rfl, Nat.le_of_ble_eq_true rfl⟩ rfl hl.1 rfl (Nat.le_of_ble_eq_true rfl) dX18_part_135 ⟨Nat.le_of_ble_eq_true rfl, Nat.le_of_ble_eq_true rfl⟩) (fun r_3 g H locs hg hp => ?_)
  rcases hp with ⟨sg_4, hr9, hp⟩ | ⟨sg_4, hp⟩
  · skip
    subst hr9
    have sg_4 : isC (cB bc) n (sp + 1) 48 50 := sg_4
    obtain ⟨hw, hn⟩ := hp
    have hL : g L = some ((L, 0, 0), oo 1 [u1, u2, u3, .ref q]) := (hn _ (gh_neK hL ho rfl)).trans hL
    have hqq : g q = some ((L, 2, 0), oo 18 [.ref arr, .int 0, .int ml, .int (nI n)]) := (hn _ (gh_neK hqq ho rfl)).trans hqq
    have hk : g wk = some ((L, 3, 1), aq V 7 60 f) := (hn _ (gh_neI hk ho rfl)).trans hk
    have hS : sb_C V L 2 g q n bc arr cap f0 ml := sb_C.keep hS (fun a t x h1 h2 h3 => (hn a (fun e9 => by rw [e9, ho] at h1; cases h1; exact absurd (show 3 = 2 from h3) (by decide))).trans h1)
    have hex : ∀ b x, g0 b = some x → b ≠ o → b ≠ wk → g b = some x := fun b x h1 h2 h3 => (hn b h2).trans (hex b x h1 h2 h3)
    have ho : g o = some ((L, 3, 0), oo 11 [.int (nI ((sp + 1) + 1)), .int 0, .ref wk, .int (nI many), .ref L]) := hw
    have sg_4l := sg_4.1
    refine lv_aload_n hx hb dX18_part_138 rfl (lv_at hl 2 rfl) ?_
    refine lv_bipush (v := 49) hx hb dX18_part_139 (by decide) ?_
    refine lv_bipush (v := 57) hx hb dX18_part_141 (by decide) ?_
    refine gh_calli hg (gh_runV (As := [.int 49, .int 57]) (rest := [.int (nI (dg (cB bc) (sp + 1))), .ref o]) hC hg (j_X18_digit0 l V _ L q n bc arr cap f0 ml hS u1 u2 u3 hL o wk many ((sp + 1) + 1) 0 (by omega) ho rfl 49 57 (by decide) (by decide)) 2 (lw_V q1507 q1509 qs20 q178 q1510) ho rfl hd_X18_digit ⟨Nat.le_of_ble_eq_true rfl, Nat.le_of_ble_eq_true rfl⟩ rfl hl.1 rfl (Nat.le_of_ble_eq_true rfl) dX18_part_143 ⟨Nat.le_of_ble_eq_true rfl, Nat.le_of_ble_eq_true rfl⟩) (fun r_5 g H locs hg hp => ?_)
    rcases hp with ⟨sg_6, hr9, hp⟩ | ⟨sg_6, hp⟩
    · skip
      subst hr9
      have sg_6 : isC (cB bc) n ((sp + 1) + 1) 49 57 := sg_6
      obtain ⟨hw, hn⟩ := hp
      have hL : g L = some ((L, 0, 0), oo 1 [u1, u2, u3, .ref q]) := (hn _ (gh_neK hL ho rfl)).trans hL
      have hqq : g q = some ((L, 2, 0), oo 18 [.ref arr, .int 0, .int ml, .int (nI n)]) := (hn _ (gh_neK hqq ho rfl)).trans hqq
      have hk : g wk = some ((L, 3, 1), aq V 7 60 f) := (hn _ (gh_neI hk ho rfl)).trans hk
      have hS : sb_C V L 2 g q n bc arr cap f0 ml := sb_C.keep hS (fun a t x h1 h2 h3 => (hn a (fun e9 => by rw [e9, ho] at h1; cases h1; exact absurd (show 3 = 2 from h3) (by decide))).trans h1)
      have hex : ∀ b x, g0 b = some x → b ≠ o → b ≠ wk → g b = some x := fun b x h1 h2 h3 => (hn b h2).trans (hex b x h1 h2 h3)
      have ho : g o = some ((L, 3, 0), oo 11 [.int (nI (((sp + 1) + 1) + 1)), .int 0, .ref wk, .int (nI many), .ref L]) := hw
      have sg_6l := sg_6.1
      refine gh_callq hg (gh_runV (As := [.int (nI (dg (cB bc) (sp + 1))), .int (nI (dg (cB bc) ((sp + 1) + 1)))]) (rest := []) hC hg (j_X18_opening l V _ L o (nI (dg (cB bc) (sp + 1))) (nI (dg (cB bc) ((sp + 1) + 1)))) 2 (lw_V q1533 q1535 qs22 q178 q1536) ho rfl hd_X18_opening ⟨Nat.le_of_ble_eq_true rfl, Nat.le_of_ble_eq_true rfl⟩ rfl hl.1 rfl (Nat.le_of_ble_eq_true rfl) dX18_part_146 ⟨Nat.le_of_ble_eq_true rfl, Nat.le_of_ble_eq_true rfl⟩) (fun r_7 g H locs hg hp => ?_)
      obtain ⟨qw_8, rfl, hl9, h09, hn9⟩ := hp
      have h00_qw_8 : g0 qw_8 = none := w_none2 hex ho0 hk0 ho hk h09
      have h0 := h09
      have hn := hn9
      have hL : g L = some ((L, 0, 0), oo 1 [u1, u2, u3, .ref q]) := (hn _ (gh_neN hL h0)).trans hL
      have ho : g o = some ((L, 3, 0), oo 11 [.int (nI (((sp + 1) + 1) + 1)), .int 0, .ref wk, .int (nI many), .ref L]) := (hn _ (gh_neN ho h0)).trans ho
      have hqq : g q = some ((L, 2, 0), oo 18 [.ref arr, .int 0, .int ml, .int (nI n)]) := (hn _ (gh_neN hqq h0)).trans hqq
      have hk : g wk = some ((L, 3, 1), aq V 7 60 f) := (hn _ (gh_neN hk h0)).trans hk
      have hS : sb_C V L 2 g q n bc arr cap f0 ml := sb_C.keep hS (fun a t x h1 h2 h3 => (hn a (fun e9 => by rw [e9, h0] at h1; cases h1)).trans h1)
      have hex : ∀ b x, g0 b = some x → b ≠ o → b ≠ wk → g b = some x := fun b x h1 h2 h3 => (hn b (fun e9 => by have h8 := hex b x h1 h2 h3; rw [e9, h0] at h8; cases h8)).trans (hex b x h1 h2 h3)
      have c_9 : g qw_8 = some ((L, 3, 2), lam_ob V 3 [.int (nI (dg (cB bc) (sp + 1))), .int (nI (dg (cB bc) ((sp + 1) + 1)))]) := hl9
      refine W.eq (g2 := F0 mm 149 ls [.ref qw_8]) rfl ?_
      refine lv_astore_n (lv' := [(2, .ref qw_8), (1, .int 111), (0, .ref o)]) hx hb dX18_part_149 rfl hl (by decide) rfl (fun ls hl => ?_)
      refine lv_goto (tgt := 226) hx hb dX18_part_150 (by decide) ?_
      refine lv_aload_n hx hb dX18_part_226 rfl (lv_at hl 2 rfl) ?_
      refine gh_get (v := .int 0) hC hg ho fX18_24_11 rfl dX18_part_227 ?_
      have hz : (ptE (cB bc) n sp) = (true, sp + 1 + 1 + 1) := by rw [hpE]; unfold oP; rw [if_pos sg_4, if_pos sg_6]
      have hE1 : (ptE (cB bc) n sp).1 = true := by rw [hz]
      refine lv_if_ne (tgt := 253) hx hb dX18_part_230 (by decide) (fun c_10 => (absurd rfl c_10)) (fun _ => ?_)
      refine lv_aload_n hx hb dX18_part_233 rfl (lv_at hl 2 rfl) ?_
      refine gh_get (v := .ref wk) hC hg ho fX18_17_11 rfl dX18_part_234 ?_
      refine lv_aload_n hx hb dX18_part_237 rfl (lv_at hl 2 rfl) ?_
      refine gh_get (v := .int (nI many)) hC hg ho fX18_81_11 rfl dX18_part_238 ?_
      refine lv_aload_n hx hb dX18_part_241 rfl (lv_at hl 0 rfl) ?_
      refine gh_qastL (n := 60) (f := f) hC hg hk rfl c_9 lam_w3 lam_k3 rfl rfl (by omega) (by omega) dX18_part_242 (fun g H locs hg hw hn => ?_)
      have hL : g L = some ((L, 0, 0), oo 1 [u1, u2, u3, .ref q]) := (hn _ (gh_neK hL hk rfl)).trans hL
      have ho : g o = some ((L, 3, 0), oo 11 [.int (nI (((sp + 1) + 1) + 1)), .int 0, .ref wk, .int (nI many), .ref L]) := (hn _ (gh_neI ho hk rfl)).trans ho
      have hqq : g q = some ((L, 2, 0), oo 18 [.ref arr, .int 0, .int ml, .int (nI n)]) := (hn _ (gh_neK hqq hk rfl)).trans hqq
      have c_9 : g qw_8 = some ((L, 3, 2), lam_ob V 3 [.int (nI (dg (cB bc) (sp + 1))), .int (nI (dg (cB bc) ((sp + 1) + 1)))]) := (hn _ (gh_neI c_9 hk rfl)).trans c_9
      have hS : sb_C V L 2 g q n bc arr cap f0 ml := sb_C.keep hS (fun a t x h1 h2 h3 => (hn a (fun e9 => by rw [e9, hk] at h1; cases h1; exact absurd (show 3 = 2 from h3) (by decide))).trans h1)
      have hex : ∀ b x, g0 b = some x → b ≠ o → b ≠ wk → g b = some x := fun b x h1 h2 h3 => (hn b h3).trans (hex b x h1 h2 h3)
      have hk : g wk = some ((L, 3, 1), aq V 7 60 (va_up f many (some qw_8))) := hw
      refine lv_aload_n hx hb dX18_part_243 rfl (lv_at hl 2 rfl) ?_
      refine lv_dup hx hb dX18_part_244 rfl ?_
      refine gh_get (v := .int (nI many)) hC hg ho fX18_81_11 rfl dX18_part_245 ?_
      refine lv_iconst (v := 1) hx hb dX18_part_248 (by decide) ?_
      refine lv_iadd hx hb dX18_part_249 ?_
      refine W.eq (g2 := F0 mm 250 ls [.int (nI (many + 1)), .ref o]) (by rw [(nI_1 many)] <;> rfl) ?_
      refine gh_put (v := .int (nI (many + 1))) hC hg ho fX18_81_11 rfl rfl (Nat.le_of_ble_eq_true rfl) dX18_part_250 (fun g H locs hg hw hn => ?_)
      have hL : g L = some ((L, 0, 0), oo 1 [u1, u2, u3, .ref q]) := (hn _ (gh_neK hL ho rfl)).trans hL
      have hqq : g q = some ((L, 2, 0), oo 18 [.ref arr, .int 0, .int ml, .int (nI n)]) := (hn _ (gh_neK hqq ho rfl)).trans hqq
      have hk : g wk = some ((L, 3, 1), aq V 7 60 (va_up f many (some qw_8))) := (hn _ (gh_neI hk ho rfl)).trans hk
      have c_9 : g qw_8 = some ((L, 3, 2), lam_ob V 3 [.int (nI (dg (cB bc) (sp + 1))), .int (nI (dg (cB bc) ((sp + 1) + 1)))]) := (hn _ (gh_neI c_9 ho rfl)).trans c_9
      have hS : sb_C V L 2 g q n bc arr cap f0 ml := sb_C.keep hS (fun a t x h1 h2 h3 => (hn a (fun e9 => by rw [e9, ho] at h1; cases h1; exact absurd (show 3 = 2 from h3) (by decide))).trans h1)
      have hex : ∀ b x, g0 b = some x → b ≠ o → b ≠ wk → g b = some x := fun b x h1 h2 h3 => (hn b h2).trans (hex b x h1 h2 h3)
      have ho : g o = some ((L, 3, 0), oo 11 [.int (nI (((sp + 1) + 1) + 1)), .int 0, .ref wk, .int (nI (many + 1)), .ref L]) := hw
      exact gh_retv hC hg hr hlk (⟨qw_8, by rw [if_pos hE1, if_pos hE1, hz]; exact ho, by rw [if_pos hE1]; exact hk, fun _ => ⟨by rw [hl2, hpO, hpT]; exact c_9, h00_qw_8⟩, hex⟩) dX18_part_253 (Nat.le_of_ble_eq_true rfl) (Nat.le_of_ble_eq_true rfl)
    have sg_6 : ¬ isC (cB bc) n ((sp + 1) + 1) 49 57 := sg_6
    obtain ⟨hw, hn⟩ := hp
    have hL : g L = some ((L, 0, 0), oo 1 [u1, u2, u3, .ref q]) := (hn _ (gh_neK hL ho rfl)).trans hL
    have hqq : g q = some ((L, 2, 0), oo 18 [.ref arr, .int 0, .int ml, .int (nI n)]) := (hn _ (gh_neK hqq ho rfl)).trans hqq
    have hk : g wk = some ((L, 3, 1), aq V 7 60 f) := (hn _ (gh_neI hk ho rfl)).trans hk
    have hS : sb_C V L 2 g q n bc arr cap f0 ml := sb_C.keep hS (fun a t x h1 h2 h3 => (hn a (fun e9 => by rw [e9, ho] at h1; cases h1; exact absurd (show 3 = 2 from h3) (by decide))).trans h1)
    have hex : ∀ b x, g0 b = some x → b ≠ o → b ≠ wk → g b = some x := fun b x h1 h2 h3 => (hn b h2).trans (hex b x h1 h2 h3)
    have ho : g o = some ((L, 3, 0), oo 11 [.int (nI ((sp + 1) + 1)), .int 1, .ref wk, .int (nI many), .ref L]) := hw
    refine gh_callq hg (gh_runV (As := [.int (nI (dg (cB bc) (sp + 1))), .int r_5]) (rest := []) hC hg (j_X18_opening l V _ L o (nI (dg (cB bc) (sp + 1))) r_5) 2 (lw_V q1533 q1535 qs22 q178 q1536) ho rfl hd_X18_opening ⟨Nat.le_of_ble_eq_true rfl, Nat.le_of_ble_eq_true rfl⟩ rfl hl.1 rfl (Nat.le_of_ble_eq_true rfl) dX18_part_146 ⟨Nat.le_of_ble_eq_true rfl, Nat.le_of_ble_eq_true rfl⟩) (fun r_11 g H locs hg hp => ?_)
    obtain ⟨qw_12, rfl, hl9, h09, hn9⟩ := hp
    have h00_qw_12 : g0 qw_12 = none := w_none2 hex ho0 hk0 ho hk h09
    have h0 := h09
    have hn := hn9
    have hL : g L = some ((L, 0, 0), oo 1 [u1, u2, u3, .ref q]) := (hn _ (gh_neN hL h0)).trans hL
    have ho : g o = some ((L, 3, 0), oo 11 [.int (nI ((sp + 1) + 1)), .int 1, .ref wk, .int (nI many), .ref L]) := (hn _ (gh_neN ho h0)).trans ho
    have hqq : g q = some ((L, 2, 0), oo 18 [.ref arr, .int 0, .int ml, .int (nI n)]) := (hn _ (gh_neN hqq h0)).trans hqq
    have hk : g wk = some ((L, 3, 1), aq V 7 60 f) := (hn _ (gh_neN hk h0)).trans hk
    have hS : sb_C V L 2 g q n bc arr cap f0 ml := sb_C.keep hS (fun a t x h1 h2 h3 => (hn a (fun e9 => by rw [e9, h0] at h1; cases h1)).trans h1)
    have hex : ∀ b x, g0 b = some x → b ≠ o → b ≠ wk → g b = some x := fun b x h1 h2 h3 => (hn b (fun e9 => by have h8 := hex b x h1 h2 h3; rw [e9, h0] at h8; cases h8)).trans (hex b x h1 h2 h3)
    have c_13 : g qw_12 = some ((L, 3, 2), lam_ob V 3 [.int (nI (dg (cB bc) (sp + 1))), .int r_5]) := hl9
    refine W.eq (g2 := F0 mm 149 ls [.ref qw_12]) rfl ?_
    refine lv_astore_n (lv' := [(2, .ref qw_12), (1, .int 111), (0, .ref o)]) hx hb dX18_part_149 rfl hl (by decide) rfl (fun ls hl => ?_)
    refine lv_goto (tgt := 226) hx hb dX18_part_150 (by decide) ?_
    refine lv_aload_n hx hb dX18_part_226 rfl (lv_at hl 2 rfl) ?_
    refine gh_get (v := .int 1) hC hg ho fX18_24_11 rfl dX18_part_227 ?_
    have hz : (ptE (cB bc) n sp) = (false, sp + 1 + 1) := by rw [hpE]; unfold oP; rw [if_pos sg_4, if_neg sg_6]
    have hE1 : ¬ (ptE (cB bc) n sp).1 = true := by rw [hz]; exact Bool.false_ne_true
    refine lv_if_ne (tgt := 253) hx hb dX18_part_230 (by decide) (fun _ => ?_) (fun c_14 => (absurd c_14 (by decide)))
    exact gh_retv hC hg hr hlk (⟨qw_12, by rw [if_neg hE1, if_neg hE1, hz]; exact ho, by rw [if_neg hE1]; exact hk, fun h9 => absurd h9 hE1, hex⟩) dX18_part_253 (Nat.le_of_ble_eq_true rfl) (Nat.le_of_ble_eq_true rfl)
  have sg_4 : ¬ isC (cB bc) n (sp + 1) 48 50 := sg_4
  obtain ⟨hw, hn⟩ := hp
  have hL : g L = some ((L, 0, 0), oo 1 [u1, u2, u3, .ref q]) := (hn _ (gh_neK hL ho rfl)).trans hL
  have hqq : g q = some ((L, 2, 0), oo 18 [.ref arr, .int 0, .int ml, .int (nI n)]) := (hn _ (gh_neK hqq ho rfl)).trans hqq
  have hk : g wk = some ((L, 3, 1), aq V 7 60 f) := (hn _ (gh_neI hk ho rfl)).trans hk
  have hS : sb_C V L 2 g q n bc arr cap f0 ml := sb_C.keep hS (fun a t x h1 h2 h3 => (hn a (fun e9 => by rw [e9, ho] at h1; cases h1; exact absurd (show 3 = 2 from h3) (by decide))).trans h1)
  have hex : ∀ b x, g0 b = some x → b ≠ o → b ≠ wk → g b = some x := fun b x h1 h2 h3 => (hn b h2).trans (hex b x h1 h2 h3)
  have ho : g o = some ((L, 3, 0), oo 11 [.int (nI (sp + 1)), .int 1, .ref wk, .int (nI many), .ref L]) := hw
  refine lv_aload_n hx hb dX18_part_138 rfl (lv_at hl 2 rfl) ?_
  refine lv_bipush (v := 49) hx hb dX18_part_139 (by decide) ?_
  refine lv_bipush (v := 57) hx hb dX18_part_141 (by decide) ?_
  refine gh_calli hg (gh_runV (As := [.int 49, .int 57]) (rest := [.int r_3, .ref o]) hC hg (j_X18_digitW l V _ L q n bc arr cap f0 ml hS u1 u2 u3 hL o wk many (sp + 1) 1 (by omega) ho rfl 49 57) 2 (lw_V q1507 q1509 qs20 q178 q1510) ho rfl hd_X18_digit ⟨Nat.le_of_ble_eq_true rfl, Nat.le_of_ble_eq_true rfl⟩ rfl hl.1 rfl (Nat.le_of_ble_eq_true rfl) dX18_part_143 ⟨Nat.le_of_ble_eq_true rfl, Nat.le_of_ble_eq_true rfl⟩) (fun r_15 g H locs hg hp => ?_)
  obtain ⟨hw, hn⟩ := hp
  have hL : g L = some ((L, 0, 0), oo 1 [u1, u2, u3, .ref q]) := (hn _ (gh_neK hL ho rfl)).trans hL
  have hqq : g q = some ((L, 2, 0), oo 18 [.ref arr, .int 0, .int ml, .int (nI n)]) := (hn _ (gh_neK hqq ho rfl)).trans hqq
  have hk : g wk = some ((L, 3, 1), aq V 7 60 f) := (hn _ (gh_neI hk ho rfl)).trans hk
  have hS : sb_C V L 2 g q n bc arr cap f0 ml := sb_C.keep hS (fun a t x h1 h2 h3 => (hn a (fun e9 => by rw [e9, ho] at h1; cases h1; exact absurd (show 3 = 2 from h3) (by decide))).trans h1)
  have hex : ∀ b x, g0 b = some x → b ≠ o → b ≠ wk → g b = some x := fun b x h1 h2 h3 => (hn b h2).trans (hex b x h1 h2 h3)
  have ho : g o = some ((L, 3, 0), oo 11 [.int (nI (sp + 1)), .int 1, .ref wk, .int (nI many), .ref L]) := hw
  refine gh_callq hg (gh_runV (As := [.int r_3, .int r_15]) (rest := []) hC hg (j_X18_opening l V _ L o r_3 r_15) 2 (lw_V q1533 q1535 qs22 q178 q1536) ho rfl hd_X18_opening ⟨Nat.le_of_ble_eq_true rfl, Nat.le_of_ble_eq_true rfl⟩ rfl hl.1 rfl (Nat.le_of_ble_eq_true rfl) dX18_part_146 ⟨Nat.le_of_ble_eq_true rfl, Nat.le_of_ble_eq_true rfl⟩) (fun r_16 g H locs hg hp => ?_)
  obtain ⟨qw_17, rfl, hl9, h09, hn9⟩ := hp
  have h00_qw_17 : g0 qw_17 = none := w_none2 hex ho0 hk0 ho hk h09
  have h0 := h09
  have hn := hn9
  have hL : g L = some ((L, 0, 0), oo 1 [u1, u2, u3, .ref q]) := (hn _ (gh_neN hL h0)).trans hL
  have ho : g o = some ((L, 3, 0), oo 11 [.int (nI (sp + 1)), .int 1, .ref wk, .int (nI many), .ref L]) := (hn _ (gh_neN ho h0)).trans ho
  have hqq : g q = some ((L, 2, 0), oo 18 [.ref arr, .int 0, .int ml, .int (nI n)]) := (hn _ (gh_neN hqq h0)).trans hqq
  have hk : g wk = some ((L, 3, 1), aq V 7 60 f) := (hn _ (gh_neN hk h0)).trans hk
  have hS : sb_C V L 2 g q n bc arr cap f0 ml := sb_C.keep hS (fun a t x h1 h2 h3 => (hn a (fun e9 => by rw [e9, h0] at h1; cases h1)).trans h1)
  have hex : ∀ b x, g0 b = some x → b ≠ o → b ≠ wk → g b = some x := fun b x h1 h2 h3 => (hn b (fun e9 => by have h8 := hex b x h1 h2 h3; rw [e9, h0] at h8; cases h8)).trans (hex b x h1 h2 h3)
  have c_18 : g qw_17 = some ((L, 3, 2), lam_ob V 3 [.int r_3, .int r_15]) := hl9
  refine W.eq (g2 := F0 mm 149 ls [.ref qw_17]) rfl ?_
  refine lv_astore_n (lv' := [(2, .ref qw_17), (1, .int 111), (0, .ref o)]) hx hb dX18_part_149 rfl hl (by decide) rfl (fun ls hl => ?_)
  refine lv_goto (tgt := 226) hx hb dX18_part_150 (by decide) ?_
  refine lv_aload_n hx hb dX18_part_226 rfl (lv_at hl 2 rfl) ?_
  refine gh_get (v := .int 1) hC hg ho fX18_24_11 rfl dX18_part_227 ?_
  have hz : (ptE (cB bc) n sp) = (false, sp + 1) := by rw [hpE]; unfold oP; rw [if_neg sg_4]
  have hE1 : ¬ (ptE (cB bc) n sp).1 = true := by rw [hz]; exact Bool.false_ne_true
  refine lv_if_ne (tgt := 253) hx hb dX18_part_230 (by decide) (fun _ => ?_) (fun c_19 => (absurd c_19 (by decide)))
  exact gh_retv hC hg hr hlk (⟨qw_17, by rw [if_neg hE1, if_neg hE1, hz]; exact ho, by rw [if_neg hE1]; exact hk, fun h9 => absurd h9 hE1, hex⟩) dX18_part_253 (Nat.le_of_ble_eq_true rfl) (Nat.le_of_ble_eq_true rfl)
set_option maxHeartbeats 1000000 in
set_option maxRecDepth 100000 in
theorem j_X18_part108 (l : Launch) (V : gh_V) (g0 : gh_G) (L q n : Nat) (bc : Nat → Nat) (arr cap : Nat) (f0 : Nat → Int32) (ml : Int32) (hS0 : sb_C V L 2 g0 q n bc arr cap f0 ml) (u1 u2 u3 : Value) (hL0 : g0 L = some ((L, 0, 0), oo 1 [u1, u2, u3, .ref q])) (o wk many sp : Nat) (wr : Int32) (hsp : sp ≤ 61) (ho0 : g0 o = some ((L, 3, 0), oo 11 [.int (nI sp), .int wr, .ref wk, .int (nI many), .ref L])) (hwr : wr = 0) (f : Nat → Option Nat) (hk0 : g0 wk = some ((L, 3, 1), aq V 7 60 f)) (hm60 : many < 60) (hlet : nxC bc n sp = 108) : MV l yX18_part cX18_part 3 ({ frames := 8, cells := 1, slots := 2, locals := 3103 } : Room) V [.ref o] g0 (fun g1 => ∃ qw : Nat, g1 o = some ((L, 3, 0), oo 11 [.int (nI ((ptE (cB bc) n sp).2)), .int (if (ptE (cB bc) n sp).1 = true then 0 else 1), .ref wk, .int (nI (if (ptE (cB bc) n sp).1 = true then many + 1 else many)), .ref L]) ∧ g1 wk = some ((L, 3, 1), aq V 7 60 (if (ptE (cB bc) n sp).1 = true then va_up f many (some qw) else f)) ∧ ((ptE (cB bc) n sp).1 = true → g1 qw = some ((L, 3, 2), wob V (cB bc sp) (ptO (cB bc) n sp) (ptT (cB bc) n sp)) ∧ g0 qw = none) ∧ ∀ b x, g0 b = some x → b ≠ o → b ≠ wk → g1 b = some x) := by
  refine MG.of RX18 (by decide) rfl (Nat.le_of_ble_eq_true rfl) (fun pp ee s mm args below meth c ls hC hg hr hlk hnm hl => ?_)
  have hx := hC.1.1
  have hb := hC.1.2.1
  have hml := hC.1.2.2.1
  have hown := hC.1.2.2.2.1
  have hts := hC.1.2.2.2.2
  have hl : lv_has ls 3 [(0, .ref o)] := hl
  obtain ⟨g, hg, hgg⟩ : ∃ g, gh_W V (gh_A g0 s.heap.size) s g s.heap [] ∧ g = g0 := ⟨g0, hg, rfl⟩
  have hS := hS0
  have hL := hL0
  have ho := ho0
  rw [← hgg] at hS hL ho
  have hn60 := hS0.2.2.2.2.1
  have hbc := fun i hi => (hS0.2.2.2.2.2.2 i hi).2
  rw [hwr] at ho
  have hqq := hS.1
  have hk := hk0
  rw [← hgg] at hk
  have hex : ∀ b x, g0 b = some x → b ≠ o → b ≠ wk → g b = some x := fun b x h _ _ => by rw [hgg]; exact h
  obtain ⟨hl1, hl2⟩ := nx_let hlet (by decide)
  obtain ⟨hpE, hpO, hpT⟩ := pt_108 ⟨hl1, hl2⟩
  refine lv_aload_n hx hb dX18_part_0 rfl (lv_at hl 0 rfl) ?_
  refine gh_get (v := .int 0) hC hg ho fX18_24_11 rfl dX18_part_1 ?_
  refine lv_if_eq (tgt := 8) hx hb dX18_part_4 (by decide) (fun _ => ?_) (fun c_1 => (absurd ((nx_eq (show ((0 : Int32)) = nI 0 from rfl) (show ((0 : Int32)) = nI 0 from rfl) (by omega) (by omega)).mpr (by omega)) c_1))
  refine lv_aload_n hx hb dX18_part_8 rfl (lv_at hl 0 rfl) ?_
  refine gh_calli hg (gh_runV (As := []) (rest := []) hC hg (j_X18_next l V _ L q n bc arr cap f0 ml hS u1 u2 u3 hL o wk many sp 0 (by omega) ho) 0 (lw_V q1497 q1499 qs18 q178 q1500) ho rfl hd_X18_next ⟨Nat.le_of_ble_eq_true rfl, Nat.le_of_ble_eq_true rfl⟩ rfl hl.1 rfl (Nat.le_of_ble_eq_true rfl) dX18_part_9 ⟨Nat.le_of_ble_eq_true rfl, Nat.le_of_ble_eq_true rfl⟩) (fun r_2 g H locs hg hp => ?_)
  obtain ⟨hp, hq⟩ := hp
  replace hp : (nxC bc n sp) = r_2 := hp.symm
  subst hp
  rw [hq] at hg
  refine W.eq (g2 := F0 mm 12 ls [.int 108]) (by rw [hlet] <;> rfl) ?_
  refine lv_istore_n (lv' := [(1, .int 108), (0, .ref o)]) hx hb dX18_part_12 rfl hl (by decide) rfl (fun ls hl => ?_)
  refine lv_null hx hb dX18_part_13 ?_
  refine lv_astore_nN (lv' := [(2, .null), (1, .int 108), (0, .ref o)]) hx hb dX18_part_14 rfl hl (by decide) rfl (fun ls hl => ?_)
  refine lv_iload_n hx hb dX18_part_15 rfl (lv_at hl 1 rfl) ?_
  refine lv_tableIn (off := 137) (tgt := 153) hx hb dX18_part_16 (by decide) (by decide) (by decide) (by decide) ?_
  refine lv_aload_n hx hb dX18_part_153 rfl (lv_at hl 2 rfl) ?_
  refine lv_dup hx hb dX18_part_154 rfl ?_
  refine gh_get (v := .int (nI sp)) hC hg ho fX18_28_11 rfl dX18_part_155 ?_
  refine lv_iconst (v := 1) hx hb dX18_part_158 (by decide) ?_
  refine lv_iadd hx hb dX18_part_159 ?_
  refine W.eq (g2 := F0 mm 160 ls [.int (nI (sp + 1)), .ref o]) (by rw [(nI_1 sp)] <;> rfl) ?_
  refine gh_put (v := .int (nI (sp + 1))) hC hg ho fX18_28_11 rfl rfl (Nat.le_of_ble_eq_true rfl) dX18_part_160 (fun g H locs hg hw hn => ?_)
  have hL : g L = some ((L, 0, 0), oo 1 [u1, u2, u3, .ref q]) := (hn _ (gh_neK hL ho rfl)).trans hL
  have hqq : g q = some ((L, 2, 0), oo 18 [.ref arr, .int 0, .int ml, .int (nI n)]) := (hn _ (gh_neK hqq ho rfl)).trans hqq
  have hk : g wk = some ((L, 3, 1), aq V 7 60 f) := (hn _ (gh_neI hk ho rfl)).trans hk
  have hS : sb_C V L 2 g q n bc arr cap f0 ml := sb_C.keep hS (fun a t x h1 h2 h3 => (hn a (fun e9 => by rw [e9, ho] at h1; cases h1; exact absurd (show 3 = 2 from h3) (by decide))).trans h1)
  have hex : ∀ b x, g0 b = some x → b ≠ o → b ≠ wk → g b = some x := fun b x h1 h2 h3 => (hn b h2).trans (hex b x h1 h2 h3)
  have ho : g o = some ((L, 3, 0), oo 11 [.int (nI (sp + 1)), .int 0, .ref wk, .int (nI many), .ref L]) := hw
  refine lv_aload_n hx hb dX18_part_163 rfl (lv_at hl 2 rfl) ?_
  refine lv_aload_n hx hb dX18_part_164 rfl (lv_at hl 2 rfl) ?_
  refine lv_iconst (v := 0) hx hb dX18_part_165 (by decide) ?_
  refine lv_bipush (v := 11) hx hb dX18_part_166 (by decide) ?_
  refine gh_calli hg (gh_runV (As := [.int 0, .int 11]) (rest := [.ref o]) hC hg (j_X18_number11 l V _ L q n bc arr cap f0 ml hS u1 u2 u3 hL o wk many (sp + 1) 0 (by omega) ho rfl) 2 (lw_V q1610 q1612 qs23 q178 q1613) ho rfl hd_X18_number ⟨Nat.le_of_ble_eq_true rfl, Nat.le_of_ble_eq_true rfl⟩ rfl hl.1 rfl (Nat.le_of_ble_eq_true rfl) dX18_part_168 ⟨Nat.le_of_ble_eq_true rfl, Nat.le_of_ble_eq_true rfl⟩) (fun r_3 g H locs hg hp => ?_)
  rcases hp with ⟨sg_4, hr9, hp⟩ | ⟨sg_4, hp⟩
  · skip
    subst hr9
    obtain ⟨hw, hn⟩ := hp
    have hL : g L = some ((L, 0, 0), oo 1 [u1, u2, u3, .ref q]) := (hn _ (gh_neK hL ho rfl)).trans hL
    have hqq : g q = some ((L, 2, 0), oo 18 [.ref arr, .int 0, .int ml, .int (nI n)]) := (hn _ (gh_neK hqq ho rfl)).trans hqq
    have hk : g wk = some ((L, 3, 1), aq V 7 60 f) := (hn _ (gh_neI hk ho rfl)).trans hk
    have hS : sb_C V L 2 g q n bc arr cap f0 ml := sb_C.keep hS (fun a t x h1 h2 h3 => (hn a (fun e9 => by rw [e9, ho] at h1; cases h1; exact absurd (show 3 = 2 from h3) (by decide))).trans h1)
    have hex : ∀ b x, g0 b = some x → b ≠ o → b ≠ wk → g b = some x := fun b x h1 h2 h3 => (hn b h2).trans (hex b x h1 h2 h3)
    have ho : g o = some ((L, 3, 0), oo 11 [.int (nI (nmP (cB bc) n (sp + 1) 11)), .int 0, .ref wk, .int (nI many), .ref L]) := hw
    refine gh_callq hg (gh_runV (As := [.int (nI (nmV (cB bc) n (sp + 1) 11))]) (rest := []) hC hg (j_X18_loading l V _ L o (nI (nmV (cB bc) n (sp + 1) 11))) 1 (lw_V q1614 q1616 qs24 q178 q1617) ho rfl hd_X18_loading ⟨Nat.le_of_ble_eq_true rfl, Nat.le_of_ble_eq_true rfl⟩ rfl hl.1 rfl (Nat.le_of_ble_eq_true rfl) dX18_part_171 ⟨Nat.le_of_ble_eq_true rfl, Nat.le_of_ble_eq_true rfl⟩) (fun r_5 g H locs hg hp => ?_)
    obtain ⟨qw_6, rfl, hl9, h09, hn9⟩ := hp
    have h00_qw_6 : g0 qw_6 = none := w_none2 hex ho0 hk0 ho hk h09
    have h0 := h09
    have hn := hn9
    have hL : g L = some ((L, 0, 0), oo 1 [u1, u2, u3, .ref q]) := (hn _ (gh_neN hL h0)).trans hL
    have ho : g o = some ((L, 3, 0), oo 11 [.int (nI (nmP (cB bc) n (sp + 1) 11)), .int 0, .ref wk, .int (nI many), .ref L]) := (hn _ (gh_neN ho h0)).trans ho
    have hqq : g q = some ((L, 2, 0), oo 18 [.ref arr, .int 0, .int ml, .int (nI n)]) := (hn _ (gh_neN hqq h0)).trans hqq
    have hk : g wk = some ((L, 3, 1), aq V 7 60 f) := (hn _ (gh_neN hk h0)).trans hk
    have hS : sb_C V L 2 g q n bc arr cap f0 ml := sb_C.keep hS (fun a t x h1 h2 h3 => (hn a (fun e9 => by rw [e9, h0] at h1; cases h1)).trans h1)
    have hex : ∀ b x, g0 b = some x → b ≠ o → b ≠ wk → g b = some x := fun b x h1 h2 h3 => (hn b (fun e9 => by have h8 := hex b x h1 h2 h3; rw [e9, h0] at h8; cases h8)).trans (hex b x h1 h2 h3)
    have c_7 : g qw_6 = some ((L, 3, 2), lam_ob V 4 [.int (nI (nmV (cB bc) n (sp + 1) 11))]) := hl9
    refine W.eq (g2 := F0 mm 174 ls [.ref qw_6]) rfl ?_
    refine lv_astore_n (lv' := [(2, .ref qw_6), (1, .int 108), (0, .ref o)]) hx hb dX18_part_174 rfl hl (by decide) rfl (fun ls hl => ?_)
    refine lv_goto (tgt := 226) hx hb dX18_part_175 (by decide) ?_
    refine lv_aload_n hx hb dX18_part_226 rfl (lv_at hl 2 rfl) ?_
    refine gh_get (v := .int 0) hC hg ho fX18_24_11 rfl dX18_part_227 ?_
    have hz : (ptE (cB bc) n sp) = (true, nmP (cB bc) n (sp + 1) 11) := by rw [hpE]; unfold nuP; rw [if_pos sg_4]
    have hE1 : (ptE (cB bc) n sp).1 = true := by rw [hz]
    refine lv_if_ne (tgt := 253) hx hb dX18_part_230 (by decide) (fun c_8 => (absurd rfl c_8)) (fun _ => ?_)
    refine lv_aload_n hx hb dX18_part_233 rfl (lv_at hl 2 rfl) ?_
    refine gh_get (v := .ref wk) hC hg ho fX18_17_11 rfl dX18_part_234 ?_
    refine lv_aload_n hx hb dX18_part_237 rfl (lv_at hl 2 rfl) ?_
    refine gh_get (v := .int (nI many)) hC hg ho fX18_81_11 rfl dX18_part_238 ?_
    refine lv_aload_n hx hb dX18_part_241 rfl (lv_at hl 0 rfl) ?_
    refine gh_qastL (n := 60) (f := f) hC hg hk rfl c_7 lam_w4 lam_k4 rfl rfl (by omega) (by omega) dX18_part_242 (fun g H locs hg hw hn => ?_)
    have hL : g L = some ((L, 0, 0), oo 1 [u1, u2, u3, .ref q]) := (hn _ (gh_neK hL hk rfl)).trans hL
    have ho : g o = some ((L, 3, 0), oo 11 [.int (nI (nmP (cB bc) n (sp + 1) 11)), .int 0, .ref wk, .int (nI many), .ref L]) := (hn _ (gh_neI ho hk rfl)).trans ho
    have hqq : g q = some ((L, 2, 0), oo 18 [.ref arr, .int 0, .int ml, .int (nI n)]) := (hn _ (gh_neK hqq hk rfl)).trans hqq
    have c_7 : g qw_6 = some ((L, 3, 2), lam_ob V 4 [.int (nI (nmV (cB bc) n (sp + 1) 11))]) := (hn _ (gh_neI c_7 hk rfl)).trans c_7
    have hS : sb_C V L 2 g q n bc arr cap f0 ml := sb_C.keep hS (fun a t x h1 h2 h3 => (hn a (fun e9 => by rw [e9, hk] at h1; cases h1; exact absurd (show 3 = 2 from h3) (by decide))).trans h1)
    have hex : ∀ b x, g0 b = some x → b ≠ o → b ≠ wk → g b = some x := fun b x h1 h2 h3 => (hn b h3).trans (hex b x h1 h2 h3)
    have hk : g wk = some ((L, 3, 1), aq V 7 60 (va_up f many (some qw_6))) := hw
    refine lv_aload_n hx hb dX18_part_243 rfl (lv_at hl 2 rfl) ?_
    refine lv_dup hx hb dX18_part_244 rfl ?_
    refine gh_get (v := .int (nI many)) hC hg ho fX18_81_11 rfl dX18_part_245 ?_
    refine lv_iconst (v := 1) hx hb dX18_part_248 (by decide) ?_
    refine lv_iadd hx hb dX18_part_249 ?_
    refine W.eq (g2 := F0 mm 250 ls [.int (nI (many + 1)), .ref o]) (by rw [(nI_1 many)] <;> rfl) ?_
    refine gh_put (v := .int (nI (many + 1))) hC hg ho fX18_81_11 rfl rfl (Nat.le_of_ble_eq_true rfl) dX18_part_250 (fun g H locs hg hw hn => ?_)
    have hL : g L = some ((L, 0, 0), oo 1 [u1, u2, u3, .ref q]) := (hn _ (gh_neK hL ho rfl)).trans hL
    have hqq : g q = some ((L, 2, 0), oo 18 [.ref arr, .int 0, .int ml, .int (nI n)]) := (hn _ (gh_neK hqq ho rfl)).trans hqq
    have hk : g wk = some ((L, 3, 1), aq V 7 60 (va_up f many (some qw_6))) := (hn _ (gh_neI hk ho rfl)).trans hk
    have c_7 : g qw_6 = some ((L, 3, 2), lam_ob V 4 [.int (nI (nmV (cB bc) n (sp + 1) 11))]) := (hn _ (gh_neI c_7 ho rfl)).trans c_7
    have hS : sb_C V L 2 g q n bc arr cap f0 ml := sb_C.keep hS (fun a t x h1 h2 h3 => (hn a (fun e9 => by rw [e9, ho] at h1; cases h1; exact absurd (show 3 = 2 from h3) (by decide))).trans h1)
    have hex : ∀ b x, g0 b = some x → b ≠ o → b ≠ wk → g b = some x := fun b x h1 h2 h3 => (hn b h2).trans (hex b x h1 h2 h3)
    have ho : g o = some ((L, 3, 0), oo 11 [.int (nI (nmP (cB bc) n (sp + 1) 11)), .int 0, .ref wk, .int (nI (many + 1)), .ref L]) := hw
    exact gh_retv hC hg hr hlk (⟨qw_6, by rw [if_pos hE1, if_pos hE1, hz]; exact ho, by rw [if_pos hE1]; exact hk, fun _ => ⟨by rw [hl2, hpO, hpT]; exact c_7, h00_qw_6⟩, hex⟩) dX18_part_253 (Nat.le_of_ble_eq_true rfl) (Nat.le_of_ble_eq_true rfl)
  obtain ⟨hw, hn⟩ := hp
  have hL : g L = some ((L, 0, 0), oo 1 [u1, u2, u3, .ref q]) := (hn _ (gh_neK hL ho rfl)).trans hL
  have hqq : g q = some ((L, 2, 0), oo 18 [.ref arr, .int 0, .int ml, .int (nI n)]) := (hn _ (gh_neK hqq ho rfl)).trans hqq
  have hk : g wk = some ((L, 3, 1), aq V 7 60 f) := (hn _ (gh_neI hk ho rfl)).trans hk
  have hS : sb_C V L 2 g q n bc arr cap f0 ml := sb_C.keep hS (fun a t x h1 h2 h3 => (hn a (fun e9 => by rw [e9, ho] at h1; cases h1; exact absurd (show 3 = 2 from h3) (by decide))).trans h1)
  have hex : ∀ b x, g0 b = some x → b ≠ o → b ≠ wk → g b = some x := fun b x h1 h2 h3 => (hn b h2).trans (hex b x h1 h2 h3)
  have ho : g o = some ((L, 3, 0), oo 11 [.int (nI (sp + 1)), .int 1, .ref wk, .int (nI many), .ref L]) := hw
  refine gh_callq hg (gh_runV (As := [.int r_3]) (rest := []) hC hg (j_X18_loading l V _ L o r_3) 1 (lw_V q1614 q1616 qs24 q178 q1617) ho rfl hd_X18_loading ⟨Nat.le_of_ble_eq_true rfl, Nat.le_of_ble_eq_true rfl⟩ rfl hl.1 rfl (Nat.le_of_ble_eq_true rfl) dX18_part_171 ⟨Nat.le_of_ble_eq_true rfl, Nat.le_of_ble_eq_true rfl⟩) (fun r_9 g H locs hg hp => ?_)
  obtain ⟨qw_10, rfl, hl9, h09, hn9⟩ := hp
  have h00_qw_10 : g0 qw_10 = none := w_none2 hex ho0 hk0 ho hk h09
  have h0 := h09
  have hn := hn9
  have hL : g L = some ((L, 0, 0), oo 1 [u1, u2, u3, .ref q]) := (hn _ (gh_neN hL h0)).trans hL
  have ho : g o = some ((L, 3, 0), oo 11 [.int (nI (sp + 1)), .int 1, .ref wk, .int (nI many), .ref L]) := (hn _ (gh_neN ho h0)).trans ho
  have hqq : g q = some ((L, 2, 0), oo 18 [.ref arr, .int 0, .int ml, .int (nI n)]) := (hn _ (gh_neN hqq h0)).trans hqq
  have hk : g wk = some ((L, 3, 1), aq V 7 60 f) := (hn _ (gh_neN hk h0)).trans hk
  have hS : sb_C V L 2 g q n bc arr cap f0 ml := sb_C.keep hS (fun a t x h1 h2 h3 => (hn a (fun e9 => by rw [e9, h0] at h1; cases h1)).trans h1)
  have hex : ∀ b x, g0 b = some x → b ≠ o → b ≠ wk → g b = some x := fun b x h1 h2 h3 => (hn b (fun e9 => by have h8 := hex b x h1 h2 h3; rw [e9, h0] at h8; cases h8)).trans (hex b x h1 h2 h3)
  have c_11 : g qw_10 = some ((L, 3, 2), lam_ob V 4 [.int r_3]) := hl9
  refine W.eq (g2 := F0 mm 174 ls [.ref qw_10]) rfl ?_
  refine lv_astore_n (lv' := [(2, .ref qw_10), (1, .int 108), (0, .ref o)]) hx hb dX18_part_174 rfl hl (by decide) rfl (fun ls hl => ?_)
  refine lv_goto (tgt := 226) hx hb dX18_part_175 (by decide) ?_
  refine lv_aload_n hx hb dX18_part_226 rfl (lv_at hl 2 rfl) ?_
  refine gh_get (v := .int 1) hC hg ho fX18_24_11 rfl dX18_part_227 ?_
  have hz : (ptE (cB bc) n sp) = (false, sp + 1) := by rw [hpE]; unfold nuP; rw [if_neg sg_4]
  have hE1 : ¬ (ptE (cB bc) n sp).1 = true := by rw [hz]; exact Bool.false_ne_true
  refine lv_if_ne (tgt := 253) hx hb dX18_part_230 (by decide) (fun _ => ?_) (fun c_12 => (absurd c_12 (by decide)))
  exact gh_retv hC hg hr hlk (⟨qw_10, by rw [if_neg hE1, if_neg hE1, hz]; exact ho, by rw [if_neg hE1]; exact hk, fun h9 => absurd h9 hE1, hex⟩) dX18_part_253 (Nat.le_of_ble_eq_true rfl) (Nat.le_of_ble_eq_true rfl)
set_option maxHeartbeats 1000000 in
set_option maxRecDepth 100000 in
theorem j_X18_part109 (l : Launch) (V : gh_V) (g0 : gh_G) (L q n : Nat) (bc : Nat → Nat) (arr cap : Nat) (f0 : Nat → Int32) (ml : Int32) (hS0 : sb_C V L 2 g0 q n bc arr cap f0 ml) (u1 u2 u3 : Value) (hL0 : g0 L = some ((L, 0, 0), oo 1 [u1, u2, u3, .ref q])) (o wk many sp : Nat) (wr : Int32) (hsp : sp ≤ 61) (ho0 : g0 o = some ((L, 3, 0), oo 11 [.int (nI sp), .int wr, .ref wk, .int (nI many), .ref L])) (hwr : wr = 0) (f : Nat → Option Nat) (hk0 : g0 wk = some ((L, 3, 1), aq V 7 60 f)) (hm60 : many < 60) (hlet : nxC bc n sp = 109) : MV l yX18_part cX18_part 3 ({ frames := 8, cells := 1, slots := 2, locals := 3103 } : Room) V [.ref o] g0 (fun g1 => ∃ qw : Nat, g1 o = some ((L, 3, 0), oo 11 [.int (nI ((ptE (cB bc) n sp).2)), .int (if (ptE (cB bc) n sp).1 = true then 0 else 1), .ref wk, .int (nI (if (ptE (cB bc) n sp).1 = true then many + 1 else many)), .ref L]) ∧ g1 wk = some ((L, 3, 1), aq V 7 60 (if (ptE (cB bc) n sp).1 = true then va_up f many (some qw) else f)) ∧ ((ptE (cB bc) n sp).1 = true → g1 qw = some ((L, 3, 2), wob V (cB bc sp) (ptO (cB bc) n sp) (ptT (cB bc) n sp)) ∧ g0 qw = none) ∧ ∀ b x, g0 b = some x → b ≠ o → b ≠ wk → g1 b = some x) := by
  refine MG.of RX18 (by decide) rfl (Nat.le_of_ble_eq_true rfl) (fun pp ee s mm args below meth c ls hC hg hr hlk hnm hl => ?_)
  have hx := hC.1.1
  have hb := hC.1.2.1
  have hml := hC.1.2.2.1
  have hown := hC.1.2.2.2.1
  have hts := hC.1.2.2.2.2
  have hl : lv_has ls 3 [(0, .ref o)] := hl
  obtain ⟨g, hg, hgg⟩ : ∃ g, gh_W V (gh_A g0 s.heap.size) s g s.heap [] ∧ g = g0 := ⟨g0, hg, rfl⟩
  have hS := hS0
  have hL := hL0
  have ho := ho0
  rw [← hgg] at hS hL ho
  have hn60 := hS0.2.2.2.2.1
  have hbc := fun i hi => (hS0.2.2.2.2.2.2 i hi).2
  rw [hwr] at ho
  have hqq := hS.1
  have hk := hk0
  rw [← hgg] at hk
  have hex : ∀ b x, g0 b = some x → b ≠ o → b ≠ wk → g b = some x := fun b x h _ _ => by rw [hgg]; exact h
  obtain ⟨hl1, hl2⟩ := nx_let hlet (by decide)
  obtain ⟨hpE, hpO, hpT⟩ := pt_109 ⟨hl1, hl2⟩
  refine lv_aload_n hx hb dX18_part_0 rfl (lv_at hl 0 rfl) ?_
  refine gh_get (v := .int 0) hC hg ho fX18_24_11 rfl dX18_part_1 ?_
  refine lv_if_eq (tgt := 8) hx hb dX18_part_4 (by decide) (fun _ => ?_) (fun c_1 => (absurd ((nx_eq (show ((0 : Int32)) = nI 0 from rfl) (show ((0 : Int32)) = nI 0 from rfl) (by omega) (by omega)).mpr (by omega)) c_1))
  refine lv_aload_n hx hb dX18_part_8 rfl (lv_at hl 0 rfl) ?_
  refine gh_calli hg (gh_runV (As := []) (rest := []) hC hg (j_X18_next l V _ L q n bc arr cap f0 ml hS u1 u2 u3 hL o wk many sp 0 (by omega) ho) 0 (lw_V q1497 q1499 qs18 q178 q1500) ho rfl hd_X18_next ⟨Nat.le_of_ble_eq_true rfl, Nat.le_of_ble_eq_true rfl⟩ rfl hl.1 rfl (Nat.le_of_ble_eq_true rfl) dX18_part_9 ⟨Nat.le_of_ble_eq_true rfl, Nat.le_of_ble_eq_true rfl⟩) (fun r_2 g H locs hg hp => ?_)
  obtain ⟨hp, hq⟩ := hp
  replace hp : (nxC bc n sp) = r_2 := hp.symm
  subst hp
  rw [hq] at hg
  refine W.eq (g2 := F0 mm 12 ls [.int 109]) (by rw [hlet] <;> rfl) ?_
  refine lv_istore_n (lv' := [(1, .int 109), (0, .ref o)]) hx hb dX18_part_12 rfl hl (by decide) rfl (fun ls hl => ?_)
  refine lv_null hx hb dX18_part_13 ?_
  refine lv_astore_nN (lv' := [(2, .null), (1, .int 109), (0, .ref o)]) hx hb dX18_part_14 rfl hl (by decide) rfl (fun ls hl => ?_)
  refine lv_iload_n hx hb dX18_part_15 rfl (lv_at hl 1 rfl) ?_
  refine lv_tableIn (off := 180) (tgt := 196) hx hb dX18_part_16 (by decide) (by decide) (by decide) (by decide) ?_
  refine lv_aload_n hx hb dX18_part_196 rfl (lv_at hl 2 rfl) ?_
  refine lv_dup hx hb dX18_part_197 rfl ?_
  refine gh_get (v := .int (nI sp)) hC hg ho fX18_28_11 rfl dX18_part_198 ?_
  refine lv_iconst (v := 1) hx hb dX18_part_201 (by decide) ?_
  refine lv_iadd hx hb dX18_part_202 ?_
  refine W.eq (g2 := F0 mm 203 ls [.int (nI (sp + 1)), .ref o]) (by rw [(nI_1 sp)] <;> rfl) ?_
  refine gh_put (v := .int (nI (sp + 1))) hC hg ho fX18_28_11 rfl rfl (Nat.le_of_ble_eq_true rfl) dX18_part_203 (fun g H locs hg hw hn => ?_)
  have hL : g L = some ((L, 0, 0), oo 1 [u1, u2, u3, .ref q]) := (hn _ (gh_neK hL ho rfl)).trans hL
  have hqq : g q = some ((L, 2, 0), oo 18 [.ref arr, .int 0, .int ml, .int (nI n)]) := (hn _ (gh_neK hqq ho rfl)).trans hqq
  have hk : g wk = some ((L, 3, 1), aq V 7 60 f) := (hn _ (gh_neI hk ho rfl)).trans hk
  have hS : sb_C V L 2 g q n bc arr cap f0 ml := sb_C.keep hS (fun a t x h1 h2 h3 => (hn a (fun e9 => by rw [e9, ho] at h1; cases h1; exact absurd (show 3 = 2 from h3) (by decide))).trans h1)
  have hex : ∀ b x, g0 b = some x → b ≠ o → b ≠ wk → g b = some x := fun b x h1 h2 h3 => (hn b h2).trans (hex b x h1 h2 h3)
  have ho : g o = some ((L, 3, 0), oo 11 [.int (nI (sp + 1)), .int 0, .ref wk, .int (nI many), .ref L]) := hw
  refine lv_aload_n hx hb dX18_part_206 rfl (lv_at hl 2 rfl) ?_
  refine lv_aload_n hx hb dX18_part_207 rfl (lv_at hl 2 rfl) ?_
  refine lv_iconst (v := 1) hx hb dX18_part_208 (by decide) ?_
  refine lv_bipush (v := 60) hx hb dX18_part_209 (by decide) ?_
  refine gh_calli hg (gh_runV (As := [.int 1, .int 60]) (rest := [.ref o]) hC hg (j_X18_number60 l V _ L q n bc arr cap f0 ml hS u1 u2 u3 hL o wk many (sp + 1) 0 (by omega) ho rfl) 2 (lw_V q1610 q1612 qs23 q178 q1613) ho rfl hd_X18_number ⟨Nat.le_of_ble_eq_true rfl, Nat.le_of_ble_eq_true rfl⟩ rfl hl.1 rfl (Nat.le_of_ble_eq_true rfl) dX18_part_211 ⟨Nat.le_of_ble_eq_true rfl, Nat.le_of_ble_eq_true rfl⟩) (fun r_3 g H locs hg hp => ?_)
  rcases hp with ⟨sg_4, hr9, hp⟩ | ⟨sg_4, hp⟩
  · skip
    subst hr9
    obtain ⟨hw, hn⟩ := hp
    have hL : g L = some ((L, 0, 0), oo 1 [u1, u2, u3, .ref q]) := (hn _ (gh_neK hL ho rfl)).trans hL
    have hqq : g q = some ((L, 2, 0), oo 18 [.ref arr, .int 0, .int ml, .int (nI n)]) := (hn _ (gh_neK hqq ho rfl)).trans hqq
    have hk : g wk = some ((L, 3, 1), aq V 7 60 f) := (hn _ (gh_neI hk ho rfl)).trans hk
    have hS : sb_C V L 2 g q n bc arr cap f0 ml := sb_C.keep hS (fun a t x h1 h2 h3 => (hn a (fun e9 => by rw [e9, ho] at h1; cases h1; exact absurd (show 3 = 2 from h3) (by decide))).trans h1)
    have hex : ∀ b x, g0 b = some x → b ≠ o → b ≠ wk → g b = some x := fun b x h1 h2 h3 => (hn b h2).trans (hex b x h1 h2 h3)
    have ho : g o = some ((L, 3, 0), oo 11 [.int (nI (nmP (cB bc) n (sp + 1) 60)), .int 0, .ref wk, .int (nI many), .ref L]) := hw
    refine gh_callq hg (gh_runV (As := [.int (nI (nmV (cB bc) n (sp + 1) 60))]) (rest := []) hC hg (j_X18_passing l V _ L o (nI (nmV (cB bc) n (sp + 1) 60))) 1 (lw_V q2315 q2317 qs33 q178 q2318) ho rfl hd_X18_passing ⟨Nat.le_of_ble_eq_true rfl, Nat.le_of_ble_eq_true rfl⟩ rfl hl.1 rfl (Nat.le_of_ble_eq_true rfl) dX18_part_214 ⟨Nat.le_of_ble_eq_true rfl, Nat.le_of_ble_eq_true rfl⟩) (fun r_5 g H locs hg hp => ?_)
    obtain ⟨qw_6, rfl, hl9, h09, hn9⟩ := hp
    have h00_qw_6 : g0 qw_6 = none := w_none2 hex ho0 hk0 ho hk h09
    have h0 := h09
    have hn := hn9
    have hL : g L = some ((L, 0, 0), oo 1 [u1, u2, u3, .ref q]) := (hn _ (gh_neN hL h0)).trans hL
    have ho : g o = some ((L, 3, 0), oo 11 [.int (nI (nmP (cB bc) n (sp + 1) 60)), .int 0, .ref wk, .int (nI many), .ref L]) := (hn _ (gh_neN ho h0)).trans ho
    have hqq : g q = some ((L, 2, 0), oo 18 [.ref arr, .int 0, .int ml, .int (nI n)]) := (hn _ (gh_neN hqq h0)).trans hqq
    have hk : g wk = some ((L, 3, 1), aq V 7 60 f) := (hn _ (gh_neN hk h0)).trans hk
    have hS : sb_C V L 2 g q n bc arr cap f0 ml := sb_C.keep hS (fun a t x h1 h2 h3 => (hn a (fun e9 => by rw [e9, h0] at h1; cases h1)).trans h1)
    have hex : ∀ b x, g0 b = some x → b ≠ o → b ≠ wk → g b = some x := fun b x h1 h2 h3 => (hn b (fun e9 => by have h8 := hex b x h1 h2 h3; rw [e9, h0] at h8; cases h8)).trans (hex b x h1 h2 h3)
    have c_7 : g qw_6 = some ((L, 3, 2), lam_ob V 12 [.int (nI (nmV (cB bc) n (sp + 1) 60))]) := hl9
    refine W.eq (g2 := F0 mm 217 ls [.ref qw_6]) rfl ?_
    refine lv_astore_n (lv' := [(2, .ref qw_6), (1, .int 109), (0, .ref o)]) hx hb dX18_part_217 rfl hl (by decide) rfl (fun ls hl => ?_)
    refine lv_goto (tgt := 226) hx hb dX18_part_218 (by decide) ?_
    refine lv_aload_n hx hb dX18_part_226 rfl (lv_at hl 2 rfl) ?_
    refine gh_get (v := .int 0) hC hg ho fX18_24_11 rfl dX18_part_227 ?_
    have hz : (ptE (cB bc) n sp) = (true, nmP (cB bc) n (sp + 1) 60) := by rw [hpE]; unfold nuP; rw [if_pos sg_4]
    have hE1 : (ptE (cB bc) n sp).1 = true := by rw [hz]
    refine lv_if_ne (tgt := 253) hx hb dX18_part_230 (by decide) (fun c_8 => (absurd rfl c_8)) (fun _ => ?_)
    refine lv_aload_n hx hb dX18_part_233 rfl (lv_at hl 2 rfl) ?_
    refine gh_get (v := .ref wk) hC hg ho fX18_17_11 rfl dX18_part_234 ?_
    refine lv_aload_n hx hb dX18_part_237 rfl (lv_at hl 2 rfl) ?_
    refine gh_get (v := .int (nI many)) hC hg ho fX18_81_11 rfl dX18_part_238 ?_
    refine lv_aload_n hx hb dX18_part_241 rfl (lv_at hl 0 rfl) ?_
    refine gh_qastL (n := 60) (f := f) hC hg hk rfl c_7 lam_w12 lam_k12 rfl rfl (by omega) (by omega) dX18_part_242 (fun g H locs hg hw hn => ?_)
    have hL : g L = some ((L, 0, 0), oo 1 [u1, u2, u3, .ref q]) := (hn _ (gh_neK hL hk rfl)).trans hL
    have ho : g o = some ((L, 3, 0), oo 11 [.int (nI (nmP (cB bc) n (sp + 1) 60)), .int 0, .ref wk, .int (nI many), .ref L]) := (hn _ (gh_neI ho hk rfl)).trans ho
    have hqq : g q = some ((L, 2, 0), oo 18 [.ref arr, .int 0, .int ml, .int (nI n)]) := (hn _ (gh_neK hqq hk rfl)).trans hqq
    have c_7 : g qw_6 = some ((L, 3, 2), lam_ob V 12 [.int (nI (nmV (cB bc) n (sp + 1) 60))]) := (hn _ (gh_neI c_7 hk rfl)).trans c_7
    have hS : sb_C V L 2 g q n bc arr cap f0 ml := sb_C.keep hS (fun a t x h1 h2 h3 => (hn a (fun e9 => by rw [e9, hk] at h1; cases h1; exact absurd (show 3 = 2 from h3) (by decide))).trans h1)
    have hex : ∀ b x, g0 b = some x → b ≠ o → b ≠ wk → g b = some x := fun b x h1 h2 h3 => (hn b h3).trans (hex b x h1 h2 h3)
    have hk : g wk = some ((L, 3, 1), aq V 7 60 (va_up f many (some qw_6))) := hw
    refine lv_aload_n hx hb dX18_part_243 rfl (lv_at hl 2 rfl) ?_
    refine lv_dup hx hb dX18_part_244 rfl ?_
    refine gh_get (v := .int (nI many)) hC hg ho fX18_81_11 rfl dX18_part_245 ?_
    refine lv_iconst (v := 1) hx hb dX18_part_248 (by decide) ?_
    refine lv_iadd hx hb dX18_part_249 ?_
    refine W.eq (g2 := F0 mm 250 ls [.int (nI (many + 1)), .ref o]) (by rw [(nI_1 many)] <;> rfl) ?_
    refine gh_put (v := .int (nI (many + 1))) hC hg ho fX18_81_11 rfl rfl (Nat.le_of_ble_eq_true rfl) dX18_part_250 (fun g H locs hg hw hn => ?_)
    have hL : g L = some ((L, 0, 0), oo 1 [u1, u2, u3, .ref q]) := (hn _ (gh_neK hL ho rfl)).trans hL
    have hqq : g q = some ((L, 2, 0), oo 18 [.ref arr, .int 0, .int ml, .int (nI n)]) := (hn _ (gh_neK hqq ho rfl)).trans hqq
    have hk : g wk = some ((L, 3, 1), aq V 7 60 (va_up f many (some qw_6))) := (hn _ (gh_neI hk ho rfl)).trans hk
    have c_7 : g qw_6 = some ((L, 3, 2), lam_ob V 12 [.int (nI (nmV (cB bc) n (sp + 1) 60))]) := (hn _ (gh_neI c_7 ho rfl)).trans c_7
    have hS : sb_C V L 2 g q n bc arr cap f0 ml := sb_C.keep hS (fun a t x h1 h2 h3 => (hn a (fun e9 => by rw [e9, ho] at h1; cases h1; exact absurd (show 3 = 2 from h3) (by decide))).trans h1)
    have hex : ∀ b x, g0 b = some x → b ≠ o → b ≠ wk → g b = some x := fun b x h1 h2 h3 => (hn b h2).trans (hex b x h1 h2 h3)
    have ho : g o = some ((L, 3, 0), oo 11 [.int (nI (nmP (cB bc) n (sp + 1) 60)), .int 0, .ref wk, .int (nI (many + 1)), .ref L]) := hw
    exact gh_retv hC hg hr hlk (⟨qw_6, by rw [if_pos hE1, if_pos hE1, hz]; exact ho, by rw [if_pos hE1]; exact hk, fun _ => ⟨by rw [hl2, hpO, hpT]; exact c_7, h00_qw_6⟩, hex⟩) dX18_part_253 (Nat.le_of_ble_eq_true rfl) (Nat.le_of_ble_eq_true rfl)
  obtain ⟨hw, hn⟩ := hp
  have hL : g L = some ((L, 0, 0), oo 1 [u1, u2, u3, .ref q]) := (hn _ (gh_neK hL ho rfl)).trans hL
  have hqq : g q = some ((L, 2, 0), oo 18 [.ref arr, .int 0, .int ml, .int (nI n)]) := (hn _ (gh_neK hqq ho rfl)).trans hqq
  have hk : g wk = some ((L, 3, 1), aq V 7 60 f) := (hn _ (gh_neI hk ho rfl)).trans hk
  have hS : sb_C V L 2 g q n bc arr cap f0 ml := sb_C.keep hS (fun a t x h1 h2 h3 => (hn a (fun e9 => by rw [e9, ho] at h1; cases h1; exact absurd (show 3 = 2 from h3) (by decide))).trans h1)
  have hex : ∀ b x, g0 b = some x → b ≠ o → b ≠ wk → g b = some x := fun b x h1 h2 h3 => (hn b h2).trans (hex b x h1 h2 h3)
  have ho : g o = some ((L, 3, 0), oo 11 [.int (nI (sp + 1)), .int 1, .ref wk, .int (nI many), .ref L]) := hw
  refine gh_callq hg (gh_runV (As := [.int r_3]) (rest := []) hC hg (j_X18_passing l V _ L o r_3) 1 (lw_V q2315 q2317 qs33 q178 q2318) ho rfl hd_X18_passing ⟨Nat.le_of_ble_eq_true rfl, Nat.le_of_ble_eq_true rfl⟩ rfl hl.1 rfl (Nat.le_of_ble_eq_true rfl) dX18_part_214 ⟨Nat.le_of_ble_eq_true rfl, Nat.le_of_ble_eq_true rfl⟩) (fun r_9 g H locs hg hp => ?_)
  obtain ⟨qw_10, rfl, hl9, h09, hn9⟩ := hp
  have h00_qw_10 : g0 qw_10 = none := w_none2 hex ho0 hk0 ho hk h09
  have h0 := h09
  have hn := hn9
  have hL : g L = some ((L, 0, 0), oo 1 [u1, u2, u3, .ref q]) := (hn _ (gh_neN hL h0)).trans hL
  have ho : g o = some ((L, 3, 0), oo 11 [.int (nI (sp + 1)), .int 1, .ref wk, .int (nI many), .ref L]) := (hn _ (gh_neN ho h0)).trans ho
  have hqq : g q = some ((L, 2, 0), oo 18 [.ref arr, .int 0, .int ml, .int (nI n)]) := (hn _ (gh_neN hqq h0)).trans hqq
  have hk : g wk = some ((L, 3, 1), aq V 7 60 f) := (hn _ (gh_neN hk h0)).trans hk
  have hS : sb_C V L 2 g q n bc arr cap f0 ml := sb_C.keep hS (fun a t x h1 h2 h3 => (hn a (fun e9 => by rw [e9, h0] at h1; cases h1)).trans h1)
  have hex : ∀ b x, g0 b = some x → b ≠ o → b ≠ wk → g b = some x := fun b x h1 h2 h3 => (hn b (fun e9 => by have h8 := hex b x h1 h2 h3; rw [e9, h0] at h8; cases h8)).trans (hex b x h1 h2 h3)
  have c_11 : g qw_10 = some ((L, 3, 2), lam_ob V 12 [.int r_3]) := hl9
  refine W.eq (g2 := F0 mm 217 ls [.ref qw_10]) rfl ?_
  refine lv_astore_n (lv' := [(2, .ref qw_10), (1, .int 109), (0, .ref o)]) hx hb dX18_part_217 rfl hl (by decide) rfl (fun ls hl => ?_)
  refine lv_goto (tgt := 226) hx hb dX18_part_218 (by decide) ?_
  refine lv_aload_n hx hb dX18_part_226 rfl (lv_at hl 2 rfl) ?_
  refine gh_get (v := .int 1) hC hg ho fX18_24_11 rfl dX18_part_227 ?_
  have hz : (ptE (cB bc) n sp) = (false, sp + 1) := by rw [hpE]; unfold nuP; rw [if_neg sg_4]
  have hE1 : ¬ (ptE (cB bc) n sp).1 = true := by rw [hz]; exact Bool.false_ne_true
  refine lv_if_ne (tgt := 253) hx hb dX18_part_230 (by decide) (fun _ => ?_) (fun c_12 => (absurd c_12 (by decide)))
  exact gh_retv hC hg hr hlk (⟨qw_10, by rw [if_neg hE1, if_neg hE1, hz]; exact ho, by rw [if_neg hE1]; exact hk, fun h9 => absurd h9 hE1, hex⟩) dX18_part_253 (Nat.le_of_ble_eq_true rfl) (Nat.le_of_ble_eq_true rfl)
