/-! LOADING and SENDING -/
theorem far_dec : ∀ p, p < 24 → ∀ q, q < 24 → (if nI p - nI q < 0 then -(nI p - nI q) else nI p - nI q) = (if nI p ≤ nI q then nI q - nI p else nI p - nI q) := by decide +kernel
theorem far_eq {s : Nat → Int32} {c p q : Nat} (hp : p < 24) (hq : q < 24) (h : cl s c 0 = nI q) : (if nI p - cl s c 0 < 0 then -(nI p - cl s c 0) else nI p - cl s c 0) = farN s c (nI p) := by
  unfold farN
  rw [h]
  exact far_dec p hp q hq
theorem sendsS_v {s : Nat → Int32} {c : Nat} {y : Int32} (j : Nat) : sendsS s c y j = if j = 525 + 2 * c + 1 then 3 + farN s c y / 2 else if j = 525 + 2 * c + 0 then y else s j := rfl
theorem sendsS_o {s : Nat → Int32} {c : Nat} {y : Int32} (hc : c < 2) {j : Nat} (h : j < 525 ∨ 529 ≤ j) : sendsS s c y j = s j := by
  rw [sendsS_v, if_neg (by omega), if_neg (by omega)]
theorem sn_V {s : Nat → Int32} {I : Nat → Int32} {A : Nat → Nat → Int32} {c : Nat} {y : Int32} (h : st_V s I A) (hc : c < 2) : st_V (sendsS s c y) I (va_up (va_up A 7 (va_up (A 7) c (3 + farN s c y / 2))) 6 (va_up (A 6) c y)) := by
  obtain ⟨h0, h1, h2, hz, hp, hcl⟩ := h
  have hne : ∀ j, j < 525 → sendsS s c y j = s j := fun j hj => sendsS_o hc (Or.inl hj)
  have hA : ∀ j, j ≠ 6 → j ≠ 7 → (va_up (va_up A 7 (va_up (A 7) c (3 + farN s c y / 2))) 6 (va_up (A 6) c y)) j = A j := fun j a b => by
    simp only [va_up, if_neg a, if_neg b]
  have h6 : (va_up (va_up A 7 (va_up (A 7) c (3 + farN s c y / 2))) 6 (va_up (A 6) c y)) 6 = va_up (A 6) c y := if_pos rfl
  have h7 : (va_up (va_up A 7 (va_up (A 7) c (3 + farN s c y / 2))) 6 (va_up (A 6) c y)) 7 = va_up (A 7) c (3 + farN s c y / 2) := by simp [va_up]
  refine ⟨by rw [hne _ (by omega)]; exact h0, by rw [hne _ (by omega)]; exact h1, by rw [hne _ (by omega)]; exact h2, fun z hz8 => ?_, fun p hp24 => ?_, fun k hk => ?_⟩
  · obtain ⟨a0, a1, a2, a3, a4⟩ := hz z hz8
    unfold zn
    rw [hA 0 (by decide) (by decide), hA 1 (by decide) (by decide), hA 2 (by decide) (by decide), hA 3 (by decide) (by decide), hA 4 (by decide) (by decide), hne _ (by omega), hne _ (by omega), hne _ (by omega), hne _ (by omega), hne _ (by omega)]
    exact ⟨a0, a1, a2, a3, a4⟩
  · rw [hA 5 (by decide) (by decide)]
    unfold pl
    rw [hne _ (by omega)]
    exact hp p hp24
  · obtain ⟨b6, b7⟩ := hcl k hk
    rw [h6, h7]
    unfold cl
    rw [sendsS_v, sendsS_v]
    by_cases e : k = c
    · subst e
      exact ⟨by rw [if_neg (by omega), if_pos rfl]; exact if_pos rfl, by rw [if_pos rfl]; exact if_pos rfl⟩
    · exact ⟨by rw [if_neg (by omega), if_neg (by omega)]; show va_up (A 6) c y k = _; rw [show va_up (A 6) c y k = A 6 k from if_neg e]; exact b6, by rw [if_neg (by omega), if_neg (by omega)]; show va_up (A 7) c _ k = _; rw [show va_up (A 7) c (3 + farN s c y / 2) k = A 7 k from if_neg e]; exact b7⟩
theorem loadsS_v {s : Nat → Int32} {k : Nat} {x : Int32} (j : Nat) : loadsS s k x j = if j = 46 then 0 else if j = 45 then 600 else if j = 44 then lt s k 2 else if j = 43 then x else if j = 164 + 25 * k + 2 then lt s k 2 + 1 else s j := rfl
section Ld
variable {V : gh_V} {g : gh_G} {S l k q n0 n1 : Nat} {s : Nat → Int32} {F : Nat → UInt32} {x : Int32} {P : Nat → Option Nat} {kx pw : Nat → Nat}
theorem ld_o {j : Nat} (h : (j < 43 ∨ 46 < j) ∧ j ≠ 164 + 25 * k + 2) : loadsS s k x j = s j := by
  rw [loadsS_v, if_neg (by omega), if_neg (by omega), if_neg (by omega), if_neg (by omega), if_neg (by omega)]
theorem ld_pl {p i : Nat} (h : p ≠ 0 ∨ i = 4) (hp : p < 24) (hi : i < 5) : pl (loadsS s k x) p i = pl s p i := ld_o (by omega)
theorem ld_lt {j i : Nat} (h : ¬ (j = k ∧ i = 2)) (hi : i < 25) : lt (loadsS s k x) j i = lt s j i := ld_o (by omega)
theorem ld_lt2 : lt (loadsS s k x) k 2 = lt s k 2 + 1 := by
  unfold lt
  rw [loadsS_v, if_neg (by omega), if_neg (by omega), if_neg (by omega), if_neg (by omega), if_pos rfl]; rfl
theorem ld_L : nL (loadsS s k x) = nL s := nL_cg (ld_o (by omega))
theorem ld_V {I : Nat → Int32} {A : Nat → Nat → Int32} (h : st_V s I A) (hk : k < 12) : st_V (loadsS s k x) I A := h.cg (fun j hj => ld_o (by omega)) (fun p hp => ld_pl (Or.inr rfl) hp (by omega)) (fun j a b => ld_o (by omega))
theorem ld_p0 : pl (loadsS s k x) 0 0 = x ∧ pl (loadsS s k x) 0 1 = lt s k 2 ∧ pl (loadsS s k x) 0 2 = 600 ∧ pl (loadsS s k x) 0 3 = 0 := ⟨rfl, rfl, rfl, rfl⟩
theorem ld_lo {es la lw : Nat → Nat} {fa : Nat → Nat → Int32} (hk : k < nL s) (h20 : ∀ j, j < nL s → ldN s j ≤ 20) (hn : lt s k 2 = nI (ldN s k)) (h19 : ldN s k < 20) (hz : lt s k (5 + ldN s k) = 0) (hA : al_P V S 12 g l (nL s) es) (hx : ∀ j, j < nL s → j ≠ k → lo1 V g S s j (es j) (la j) (lw j) (fa j))
    (hq : g (es k) = some ((S, 4, k), oo 3 [.ref (lw k), .ref (la k), .int (lt s k 2 + 1), .int (lt s k 3), .int (lt s k 4)])) (hl : g (la k) = some ((S, 5, k), ai V 0 5 (fa k))) (hw : wa_P V g (lw k) (kd s k) (lt s k 1)) (hf : ∀ f, 1 ≤ f → f < 5 → fa k f = fated s k (nI f)) : lo_P V g S l (loadsS s k x) := by
  refine ⟨es, la, lw, fa, by rw [ld_L]; exact hA, fun j hj => ?_⟩
  rw [ld_L] at hj
  by_cases e : j = k
  · subst e
    unfold lo1 kd
    rw [ld_lt2, ld_lt (i := 3) (by omega) (by omega), ld_lt (i := 4) (by omega) (by omega), ld_lt (i := 0) (by omega) (by omega), ld_lt (i := 1) (by omega) (by omega)]
    refine ⟨hq, hl, hw, fun f a b => ?_⟩
    rw [hf f a b]
    unfold fated
    have e1 : (lt s j 2 + 1).toNatClampNeg = ldN s j + 1 := by rw [show lt s j 2 + 1 = nI (ldN s j + 1) from nx_add (b := 1) hn rfl, nI_clamp (by omega)]
    rw [ld_lt2, e1]
    have e2 : ∀ n, n < 20 → fatedN (loadsS s j x) j (nI f) n = fatedN s j (nI f) n := fun n hn9 => by unfold fatedN; rw [ld_lt (by omega) (by omega)]
    have e3 : ∀ n, n ≤ 20 → sm (fatedN (loadsS s j x) j (nI f)) n = sm (fatedN s j (nI f)) n := by
      intro n
      induction n with
      | zero => intro _; rfl
      | succ n ih => intro h9; show sm _ n + fatedN _ _ _ n = sm _ n + fatedN _ _ _ n; rw [ih (by omega), e2 n (by omega)]
    show _ = sm _ (ldN s j) + fatedN _ _ _ (ldN s j)
    rw [e3 _ (by omega), e2 _ h19]
    have e4 : fatedN s j (nI f) (ldN s j) = 0 := by
      unfold fatedN
      rw [hz, if_neg (fun h9 => by have := nI_inj (a := 0) (b := f) (by omega) (by omega) h9; omega)]
    rw [e4, Int32.add_zero]; rfl
  · exact (hx j hj e).cg (h20 j hj) (fun i hi => ld_lt (by omega) hi)
theorem ld_pk (p : Nat) (hp : p < 24) (h0 : p ≠ 0) : pk (loadsS s k x) p = pk s p := by unfold pk; rw [ld_pl (Or.inl h0) hp (by omega)]
theorem ld_cd (p : Nat) (hp : p < 24) (h0 : p ≠ 0) : cd (loadsS s k x) p = cd s p := by unfold cd; rw [ld_pk p hp h0, ld_pl (Or.inl h0) hp (by omega)]
theorem ld_pk0 (hk : k < 12) : pk (loadsS s k (nI k)) 0 = k := by unfold pk; rw [ld_p0.1, nI_clamp (by omega)]
theorem ld_cd0 (hk : k < 12) : cd (loadsS s k (nI k)) 0 = 20 * k + ldN s k := by unfold cd; rw [ld_pk0 hk, ld_p0.2.1]; rfl
theorem ld_oc0 (hk : k < 12) : oc (loadsS s k (nI k)) 0 := by
  show ¬ pl _ 0 0 = -1
  rw [ld_p0.1]
  exact nI_ne_m1 (by omega)
theorem ld_oc (p : Nat) (hp : p < 24) (h0 : p ≠ 0) : oc (loadsS s k x) p ↔ oc s p := by unfold oc; rw [ld_pl (Or.inl h0) hp (by omega)]
theorem ld_pc {key w : Nat} (h : pc_P V g S P kx pw s F) (hJ : jp s) (hk : k < nL s) (hq : g q = some ((S, 7, 20 * k + ldN s k), oo 5 [.ref key, .ref w, .int 0, .int 0, .int 600, .float 0])) (hky : ky_P V g 9 key (20 * k + ldN s k)) (hw : wa_P V g w (kd s k) (lt s k 1)) :
    pc_P V g S (va_up P 0 (some q)) (va_up kx 0 key) (va_up pw 0 w) (loadsS s k (nI k)) (va_up F 0 FP.fconst0) := fun p hp => by
  have h12 := hJ.2.2.1
  by_cases e : p = 0
  · subst e
    refine ⟨fun h9 => absurd h9 (ld_oc0 (by omega)), fun _ => ⟨q, if_pos rfl, ?_⟩⟩
    unfold pc1 kd
    rw [ld_cd0 (by omega), ld_pk0 (by omega), ld_p0.2.2.1, ld_p0.2.2.2, ld_lt (by omega) (by omega), ld_lt (by omega) (by omega)]
    exact ⟨hq, hky, hw⟩
  · have eP : va_up P 0 (some q) p = P p := if_neg e
    have ek : va_up kx 0 key p = kx p := if_neg e
    have ew : va_up pw 0 w p = pw p := if_neg e
    have eF : va_up F 0 FP.fconst0 p = F p := if_neg e
    rw [eP, ek, ew]
    refine ⟨fun h9 => (h p hp).1 ((ld_pl (Or.inl e) hp (by omega)).symm.trans h9), fun h9 => ?_⟩
    obtain ⟨q1, h1, h2⟩ := (h p hp).2 ((ld_oc p hp e).mp h9)
    refine ⟨q1, h1, ?_⟩
    unfold pc1 kd at h2 ⊢
    rw [ld_cd p hp e, ld_pk p hp e, ld_pl (Or.inl e) hp (by omega), ld_pl (Or.inl e) hp (by omega), eF, ld_lt (by omega) (by omega), ld_lt (by omega) (by omega)]
    exact h2
theorem ld_fresh (hJ : jp s) (hk : k < nL s) (h19 : ldN s k < 20) : ∀ p, p < 24 → oc s p → cd s p ≠ 20 * k + ldN s k := fun p hp ho => by
  obtain ⟨a1, a2, -⟩ := hJ.1 p hp ho
  have b1 := hJ.2.2.2 _ a1
  rw [cd_eq]
  intro e9
  have e8 : pk s p = k := by omega
  rw [e8] at a2 e9
  omega
/-- a cell of a piece that stands nowhere is written -/
theorem pc_P.own {g1 : gh_G} {a n : Nat} {x : gh_E} (h : pc_P V g S P kx pw s F) (ha : g a = some ((S, 7, n), x)) (hd : ∀ p, p < 24 → oc s p → cd s p ≠ n) (hn : ∀ q, q ≠ a → g1 q = g q) : pc_P V g1 S P kx pw s F := fun p hp => by
  refine ⟨(h p hp).1, fun ho => ?_⟩
  obtain ⟨q1, h1, h2, h3, h4⟩ := (h p hp).2 ho
  refine ⟨q1, h1, ?_, ?_, ?_⟩
  · rw [hn _ (fun e => by rw [e, ha] at h2; exact hd p hp ho (congrArg (fun y => y.2.2) (congrArg Prod.fst (Option.some.inj h2))).symm)]
    exact h2
  · exact h3.keep (fun t y hb ht => by rw [hn _ (fun e => by rw [e, ha] at hb; cases hb; exact absurd (show (7 : Nat) = 1 from ht) (by decide))]; exact hb)
  · exact h4.keep (fun b t y hb ht => by rw [hn _ (fun e => by rw [e, ha] at hb; cases hb; exact absurd (show (7 : Nat) = 2 from ht.2) (by decide))]; exact hb)
theorem ld_ot {M : List (Nat × Nat × Option Nat)} {key m : Nat} (hJ : jp s) (hk : k < nL s) (h19 : ldN s k < 20) (h0 : pl s 0 0 = -1) (h1 : lm_P V S 10 g m 9 (lm_put M (20 * k + ldN s k) key (some q))) (hl : M.length = n0) (h2 : ∀ p, p < 24 → oc s p → (cd s p, kx p, P p) ∈ M) (h3 : ∀ e, e ∈ M → ∃ p, p < 24 ∧ oc s p ∧ e = (cd s p, kx p, P p)) :
    ot_P V g S m (va_up P 0 (some q)) (va_up kx 0 key) (loadsS s k (nI k)) (n0 + 1) := by
  have h12 := hJ.2.2.1
  have hno : M.any (fun e => e.1 == 20 * k + ldN s k) = false := by
    rw [List.any_eq_false]
    intro e he
    obtain ⟨p, hp, ho, rfl⟩ := h3 e he
    have := ld_fresh hJ hk h19 p hp ho
    simpa using this
  rw [show lm_put M (20 * k + ldN s k) key (some q) = M ++ [(20 * k + ldN s k, key, some q)] from by unfold lm_put; rw [hno]; rfl] at h1
  refine ⟨_, h1, by rw [List.length_append, hl]; rfl, fun p hp ho => ?_, fun e he => ?_⟩
  · by_cases c : p = 0
    · subst c
      rw [ld_cd0 (by omega)]
      exact List.mem_append_right _ (List.mem_singleton.mpr rfl)
    · rw [ld_cd p hp c, show va_up P 0 (some q) p = P p from if_neg c, show va_up kx 0 key p = kx p from if_neg c]
      exact List.mem_append_left _ (h2 p hp ((ld_oc p hp c).mp ho))
  · rcases List.mem_append.mp he with he | he
    · obtain ⟨p, hp, ho, rfl⟩ := h3 e he
      have c : p ≠ 0 := fun c => ho (by rw [c]; exact h0)
      exact ⟨p, hp, (ld_oc p hp c).mpr ho, by rw [ld_cd p hp c, show va_up P 0 (some q) p = P p from if_neg c, show va_up kx 0 key p = kx p from if_neg c]⟩
    · rw [List.mem_singleton.mp he]
      exact ⟨0, by omega, ld_oc0 (by omega), by rw [ld_cd0 (by omega)]; rfl⟩
theorem ld_go (h : go_P V g S l s n1) (h12 : nL s ≤ 12) : go_P V g S l (loadsS s k x) n1 := h.cg h12 ld_L (fun j n hj hn => ld_lt (by omega) (by omega))
end Ld
theorem ld_can {s : Nat → Int32} {k : Nat} (h : noLoad s k = 0) : ¬ lt s k 2 = 20 ∧ pl s 0 0 = -1 ∧ ¬ pl s 0 4 = 1 := by
  unfold noLoad at h
  by_cases h1 : lt s k 2 = 20
  · rw [if_pos h1] at h; exact absurd h (by decide)
  · rw [if_neg h1] at h
    by_cases h2 : pl s 0 0 = -1
    · rw [if_neg (fun u => u h2)] at h
      by_cases h3 : pl s 0 4 = 1
      · rw [if_pos h3] at h; exact absurd h (by decide)
      · exact ⟨h1, h2, h3⟩
    · rw [if_pos h2] at h; exact absurd h (by decide)
theorem ld_19 {s : Nat → Int32} {k : Nat} (h : lt s k 2 = nI (ldN s k)) (h20 : ldN s k ≤ 20) (hn : ¬ lt s k 2 = 20) : ldN s k < 20 := by
  rcases Nat.lt_or_ge (ldN s k) 20 with c | c
  · exact c
  · rw [h, show ldN s k = 20 by omega] at hn; exact absurd rfl hn
set_option maxRecDepth 100000
theorem hd_X11_init : yX11_init.cls = RX11 ∧ yX11_init.cls ≠ "java/lang/invoke/MethodHandle" ∧ yX11_init.cls ≠ "java/lang/invoke/VarHandle" ∧ (parseMethodDescriptor yX11_init.desc).map (fun d => d.parameters.length) = some 2 := by decide +kernel
theorem hd_X2_whyNotCleaning : yX2_whyNotCleaning.cls = RX2 ∧ yX2_whyNotCleaning.cls ≠ "java/lang/invoke/MethodHandle" ∧ yX2_whyNotCleaning.cls ≠ "java/lang/invoke/VarHandle" ∧ (parseMethodDescriptor yX2_whyNotCleaning.desc).map (fun d => d.parameters.length) = some 2 := by decide +kernel
theorem hd_X2_whyNotLoading : yX2_whyNotLoading.cls = RX2 ∧ yX2_whyNotLoading.cls ≠ "java/lang/invoke/MethodHandle" ∧ yX2_whyNotLoading.cls ≠ "java/lang/invoke/VarHandle" ∧ (parseMethodDescriptor yX2_whyNotLoading.desc).map (fun d => d.parameters.length) = some 1 := by decide +kernel
set_option maxHeartbeats 1000000 in
set_option maxRecDepth 100000 in
theorem j_X2_sendCleaner (l : Launch) (V : gh_V) (g0 : gh_G) (S N : Nat) (s : Nat → Int32) (F : Nat → UInt32) (hR : cw_R V g0 S s F N) (hJ : jp s) (h12 : nL s ≤ 12) (h20 : ∀ k, k < nL s → ldN s k ≤ 20) (h10 : nD s ≤ 10) (c9 p9 q9 : Nat) (hq9 : cl s c9 0 = nI q9) (hq24 : q9 < 24) (hc2 : c9 < 2) (hp24 : p9 < 24) : MI l yX2_sendCleaner cX2_sendCleaner 5 (some .boolean) ({ frames := 4, cells := 4, slots := 10, locals := 3104 } : Room) V [.ref S, .int (nI c9), .int (nI p9)] g0 (fun r g1 => (noCln s c9 p9 = 0 → r = 1 ∧ cw_R V g1 S (sendsS s c9 (nI p9)) F N) ∧ (¬ noCln s c9 p9 = 0 → r = 0 ∧ cw_R V g1 S s F N) ∧ gh_fw S [0] g0 g1) := by
  refine MG.of RX2 (by decide) rfl (Nat.le_of_ble_eq_true rfl) (fun pp ee s9 mm args below meth c ls hC hg hr hlk hnm hl => ?_)
  have hx := hC.1.1
  have hb := hC.1.2.1
  have hml := hC.1.2.2.1
  have hown := hC.1.2.2.2.1
  have hts := hC.1.2.2.2.2
  have hl : lv_has ls 5 [(0, .ref S), (1, .int (nI c9)), (2, .int (nI p9))] := hl
  obtain ⟨g, hg, hgg⟩ : ∃ g, gh_W V (gh_A g0 s9.heap.size) s9 g s9.heap [] ∧ g = g0 := ⟨g0, hg, rfl⟩
  have hR9 := hR
  obtain ⟨ad, I, A, P, kx, pw, n0, n1, hT, hV, hL, hD, hPc, hO, hG, hPl, hN⟩ := hR
  rw [← hgg] at hT hL hD hPc hO hG hPl
  have hF : gh_fw S [0] g0 g := by rw [hgg]; exact gh_fw.rf
  obtain ⟨h6c, h7c⟩ := hV.2.2.2.2.2 c9 hc2
  refine lv_aload_n hx hb dX2_sendCleaner_0 rfl (lv_at hl 0 rfl) ?_
  refine lv_iload_n hx hb dX2_sendCleaner_1 rfl (lv_at hl 1 rfl) ?_
  refine lv_iload_n hx hb dX2_sendCleaner_2 rfl (lv_at hl 2 rfl) ?_
  refine gh_calli hg (gh_runV (As := [.int (nI c9), .int (nI p9)]) (rest := []) hC hg (j_X2_whyNotCleaning l V _ S N s F (by rw [hgg]; exact hR9) c9 p9 hc2 hp24) 2 (lw_V q2302 q2303 q2304 q104 q2305) hT.1 rfl hd_X2_whyNotCleaning ⟨Nat.le_of_ble_eq_true rfl, Nat.le_of_ble_eq_true rfl⟩ rfl hl.1 rfl (Nat.le_of_ble_eq_true rfl) dX2_sendCleaner_3 ⟨Nat.le_of_ble_eq_true rfl, Nat.le_of_ble_eq_true rfl⟩) (fun r_1 g H locs hg hp => ?_)
  obtain ⟨hp, hfr9⟩ := hp
  subst hp
  have hfw9 : gh_fw S [] _ g := hfr9
  have hf9 := hfw9.v
  have hL : lo_P V g S (ad 9) s := hL.kp hf9 (by decide)
  have hD : de_P V g S (ad 10) s := hD.kp hf9 (by decide)
  have hPc : pc_P V g S P kx pw s F := hPc.kp hf9 (by decide)
  have hO : ot_P V g S (ad 11) P kx s n0 := hO.kp hf9 (by decide)
  have hG : go_P V g S (ad 12) s n1 := hG.kp hf9 (by decide)
  have hPl : pn_P V g S (ad 13) (I 3) s := hPl.kp hf9 (by decide)
  have hF : gh_fw S [0] g0 g := hF.tr hfw9 (fun _ u => u) (by decide)
  have hT : st_C V g S ad I A P := hT.kp hf9 (by decide)
  refine lv_if_ne (tgt := 13) hx hb dX2_sendCleaner_6 (by decide) (fun c_2 => ?_) (fun c_2 => ?_)
  · skip
    refine lv_iconst (v := 0) hx hb dX2_sendCleaner_13 (by decide) ?_
    refine lv_istore_n (lv' := [(3, .int 0), (0, .ref S), (1, .int (nI c9)), (2, .int (nI p9))]) hx hb dX2_sendCleaner_14 rfl hl (by decide) rfl (fun ls hl => ?_)
    refine lv_iload_n hx hb dX2_sendCleaner_15 rfl (lv_at hl 0 rfl) ?_
    refine lv_if_eq (tgt := 59) hx hb dX2_sendCleaner_16 (by decide) (fun _ => ?_) (fun c_3 => (absurd rfl c_3))
    refine lv_iload_n hx hb dX2_sendCleaner_59 rfl (lv_at hl 0 rfl) ?_
    exact gh_retz rfl hC hg hr hlk (⟨fun h9 => absurd h9 c_2, fun _ => ⟨rfl, ⟨ad, I, A, P, _, _, _, _, hT, hV, hL, hD, hPc, hO, hG, hPl, hN⟩⟩, hF⟩) dX2_sendCleaner_60 (Nat.le_of_ble_eq_true rfl) (Nat.le_of_ble_eq_true rfl)
  refine lv_iconst (v := 1) hx hb dX2_sendCleaner_9 (by decide) ?_
  refine lv_goto (tgt := 14) hx hb dX2_sendCleaner_10 (by decide) ?_
  refine lv_istore_n (lv' := [(3, .int 1), (0, .ref S), (1, .int (nI c9)), (2, .int (nI p9))]) hx hb dX2_sendCleaner_14 rfl hl (by decide) rfl (fun ls hl => ?_)
  refine lv_iload_n hx hb dX2_sendCleaner_15 rfl (lv_at hl 0 rfl) ?_
  refine lv_if_eq (tgt := 59) hx hb dX2_sendCleaner_16 (by decide) (fun c_4 => (absurd c_4 (by decide))) (fun _ => ?_)
  refine lv_iload_n hx hb dX2_sendCleaner_19 rfl (lv_at hl 3 rfl) ?_
  refine lv_aload_n hx hb dX2_sendCleaner_20 rfl (lv_at hl 1 rfl) ?_
  refine gh_get (v := .ref (ad 6)) hC hg hT.1 fX2_64_2 rfl dX2_sendCleaner_21 ?_
  refine lv_iload_n hx hb dX2_sendCleaner_24 rfl (lv_at hl 2 rfl) ?_
  refine gh_iald (n := 2) (f := (A 6)) hC hg hT.a6 rfl (by omega) (by omega) dX2_sendCleaner_25 ?_
  refine W.eq (g2 := F0 mm 26 ls [.int (cl s c9 0), .int (nI p9)]) (by rw [h6c] <;> rfl) ?_
  refine lv_isub hx hb dX2_sendCleaner_26 ?_
  refine lv_istore (lv' := [(4, .int ((nI p9) - (cl s c9 0))), (3, .int 1), (0, .ref S), (1, .int (nI c9)), (2, .int (nI p9))]) hx hb dX2_sendCleaner_27 hl (by decide) rfl (fun ls hl => ?_)
  refine lv_aload_n hx hb dX2_sendCleaner_29 rfl (lv_at hl 2 rfl) ?_
  refine gh_get (v := .ref (ad 7)) hC hg hT.1 fX2_67_2 rfl dX2_sendCleaner_30 ?_
  refine lv_iload_n hx hb dX2_sendCleaner_33 rfl (lv_at hl 3 rfl) ?_
  refine lv_iconst (v := 3) hx hb dX2_sendCleaner_34 (by decide) ?_
  refine lv_iload hx hb dX2_sendCleaner_35 (lv_at hl 0 rfl) ?_
  refine lv_if_ge (tgt := 46) hx hb dX2_sendCleaner_37 (by decide) (fun c_5 => ?_) (fun c_5 => ?_)
  · skip
    refine lv_iload hx hb dX2_sendCleaner_46 (lv_at hl 0 rfl) ?_
    refine lv_iconst (v := 2) hx hb dX2_sendCleaner_48 (by decide) ?_
    refine lv_idiv hx hb dX2_sendCleaner_49 (by decide) ?_
    have hfar : (((nI p9) - (cl s c9 0)) / 2) = farN s c9 (nI p9) / 2 := by rw [← far_eq hp24 hq24 hq9, if_neg (Int32.not_lt.mpr c_5)]
    refine W.eq (g2 := F0 mm 50 ls [.int (farN s c9 (nI p9) / 2), .int 3, .int (nI c9), .ref (ad 7)]) (by rw [hfar] <;> rfl) ?_
    refine lv_iadd hx hb dX2_sendCleaner_50 ?_
    refine gh_iast (n := 2) (f := (A 7)) hC hg hT.a7 rfl (by omega) (by omega) dX2_sendCleaner_51 (fun g H locs hg hw hn => ?_)
    have hf9 : gh_fv S [0] _ g := (gh_fw.st hT.a7 hn).v
    have hL : lo_P V g S (ad 9) s := hL.kp hf9 (by decide)
    have hD : de_P V g S (ad 10) s := hD.kp hf9 (by decide)
    have hPc : pc_P V g S P kx pw s F := hPc.kp hf9 (by decide)
    have hO : ot_P V g S (ad 11) P kx s n0 := hO.kp hf9 (by decide)
    have hG : go_P V g S (ad 12) s n1 := hG.kp hf9 (by decide)
    have hPl : pn_P V g S (ad 13) (I 3) s := hPl.kp hf9 (by decide)
    have hF : gh_fw S [0] g0 g := hF.set hT.a7 (by decide) hn
    have hT : st_C V g S ad I (va_up A 7 (upd (A 7) c9 (3 + (farN s c9 (nI p9) / 2)))) P := hT.setA 7 (by decide) hw hn
    refine lv_aload_n hx hb dX2_sendCleaner_52 rfl (lv_at hl 2 rfl) ?_
    refine gh_get (v := .ref (ad 6)) hC hg hT.1 fX2_64_2 rfl dX2_sendCleaner_53 ?_
    refine lv_iload_n hx hb dX2_sendCleaner_56 rfl (lv_at hl 3 rfl) ?_
    refine lv_iload_n hx hb dX2_sendCleaner_57 rfl (lv_at hl 4 rfl) ?_
    refine gh_iast (n := 2) (f := (A 6)) hC hg hT.a6 rfl (by omega) (by omega) dX2_sendCleaner_58 (fun g H locs hg hw hn => ?_)
    have hf9 : gh_fv S [0] _ g := (gh_fw.st hT.a6 hn).v
    have hL : lo_P V g S (ad 9) s := hL.kp hf9 (by decide)
    have hD : de_P V g S (ad 10) s := hD.kp hf9 (by decide)
    have hPc : pc_P V g S P kx pw s F := hPc.kp hf9 (by decide)
    have hO : ot_P V g S (ad 11) P kx s n0 := hO.kp hf9 (by decide)
    have hG : go_P V g S (ad 12) s n1 := hG.kp hf9 (by decide)
    have hPl : pn_P V g S (ad 13) (I 3) s := hPl.kp hf9 (by decide)
    have hF : gh_fw S [0] g0 g := hF.set hT.a6 (by decide) hn
    have hT : st_C V g S ad I (va_up (va_up A 7 (upd (A 7) c9 (3 + (farN s c9 (nI p9) / 2)))) 6 (upd (A 6) c9 (nI p9))) P := hT.setA 6 (by decide) hw hn
    refine lv_iload_n hx hb dX2_sendCleaner_59 rfl (lv_at hl 1 rfl) ?_
    exact gh_retz rfl hC hg hr hlk (⟨fun _ => ⟨rfl, ⟨ad, I, (va_up (va_up A 7 (upd (A 7) c9 (3 + (farN s c9 (nI p9) / 2)))) 6 (upd (A 6) c9 (nI p9))), P, _, _, _, _, hT, (sn_V hV hc2), (hL.cg h12 h20 (fun j a b => sendsS_o hc2 (by omega))), (hD.cg h10 (fun j a b => sendsS_o hc2 (by omega))), (hPc.cg (fun _ _ => rfl) (fun p i hp hi => sendsS_o hc2 (by omega)) (fun p i hp ho hi => sendsS_o hc2 (by have := (hJ.1 p hp ho).1; omega))), (hO.cg (fun p i hp hi => sendsS_o hc2 (by omega))), (hG.cg h12 (nL_cg (sendsS_o hc2 (by omega))) (fun k n hk hn => sendsS_o hc2 (by omega))), (hPl.cg (fun j h => sendsS_o hc2 (by omega))), hN⟩⟩, fun h9 => absurd c_2 h9, hF⟩) dX2_sendCleaner_60 (Nat.le_of_ble_eq_true rfl) (Nat.le_of_ble_eq_true rfl)
  refine lv_iload hx hb dX2_sendCleaner_40 (lv_at hl 0 rfl) ?_
  refine lv_ineg hx hb dX2_sendCleaner_42 ?_
  refine lv_goto (tgt := 48) hx hb dX2_sendCleaner_43 (by decide) ?_
  refine lv_iconst (v := 2) hx hb dX2_sendCleaner_48 (by decide) ?_
  refine lv_idiv hx hb dX2_sendCleaner_49 (by decide) ?_
  have hfar : ((-((nI p9) - (cl s c9 0))) / 2) = farN s c9 (nI p9) / 2 := by rw [← far_eq hp24 hq24 hq9, if_pos (Int32.not_le.mp c_5)]
  refine W.eq (g2 := F0 mm 50 ls [.int (farN s c9 (nI p9) / 2), .int 3, .int (nI c9), .ref (ad 7)]) (by rw [hfar] <;> rfl) ?_
  refine lv_iadd hx hb dX2_sendCleaner_50 ?_
  refine gh_iast (n := 2) (f := (A 7)) hC hg hT.a7 rfl (by omega) (by omega) dX2_sendCleaner_51 (fun g H locs hg hw hn => ?_)
  have hf9 : gh_fv S [0] _ g := (gh_fw.st hT.a7 hn).v
  have hL : lo_P V g S (ad 9) s := hL.kp hf9 (by decide)
  have hD : de_P V g S (ad 10) s := hD.kp hf9 (by decide)
  have hPc : pc_P V g S P kx pw s F := hPc.kp hf9 (by decide)
  have hO : ot_P V g S (ad 11) P kx s n0 := hO.kp hf9 (by decide)
  have hG : go_P V g S (ad 12) s n1 := hG.kp hf9 (by decide)
  have hPl : pn_P V g S (ad 13) (I 3) s := hPl.kp hf9 (by decide)
  have hF : gh_fw S [0] g0 g := hF.set hT.a7 (by decide) hn
  have hT : st_C V g S ad I (va_up A 7 (upd (A 7) c9 (3 + (farN s c9 (nI p9) / 2)))) P := hT.setA 7 (by decide) hw hn
  refine lv_aload_n hx hb dX2_sendCleaner_52 rfl (lv_at hl 2 rfl) ?_
  refine gh_get (v := .ref (ad 6)) hC hg hT.1 fX2_64_2 rfl dX2_sendCleaner_53 ?_
  refine lv_iload_n hx hb dX2_sendCleaner_56 rfl (lv_at hl 3 rfl) ?_
  refine lv_iload_n hx hb dX2_sendCleaner_57 rfl (lv_at hl 4 rfl) ?_
  refine gh_iast (n := 2) (f := (A 6)) hC hg hT.a6 rfl (by omega) (by omega) dX2_sendCleaner_58 (fun g H locs hg hw hn => ?_)
  have hf9 : gh_fv S [0] _ g := (gh_fw.st hT.a6 hn).v
  have hL : lo_P V g S (ad 9) s := hL.kp hf9 (by decide)
  have hD : de_P V g S (ad 10) s := hD.kp hf9 (by decide)
  have hPc : pc_P V g S P kx pw s F := hPc.kp hf9 (by decide)
  have hO : ot_P V g S (ad 11) P kx s n0 := hO.kp hf9 (by decide)
  have hG : go_P V g S (ad 12) s n1 := hG.kp hf9 (by decide)
  have hPl : pn_P V g S (ad 13) (I 3) s := hPl.kp hf9 (by decide)
  have hF : gh_fw S [0] g0 g := hF.set hT.a6 (by decide) hn
  have hT : st_C V g S ad I (va_up (va_up A 7 (upd (A 7) c9 (3 + (farN s c9 (nI p9) / 2)))) 6 (upd (A 6) c9 (nI p9))) P := hT.setA 6 (by decide) hw hn
  refine lv_iload_n hx hb dX2_sendCleaner_59 rfl (lv_at hl 1 rfl) ?_
  exact gh_retz rfl hC hg hr hlk (⟨fun _ => ⟨rfl, ⟨ad, I, (va_up (va_up A 7 (upd (A 7) c9 (3 + (farN s c9 (nI p9) / 2)))) 6 (upd (A 6) c9 (nI p9))), P, _, _, _, _, hT, (sn_V hV hc2), (hL.cg h12 h20 (fun j a b => sendsS_o hc2 (by omega))), (hD.cg h10 (fun j a b => sendsS_o hc2 (by omega))), (hPc.cg (fun _ _ => rfl) (fun p i hp hi => sendsS_o hc2 (by omega)) (fun p i hp ho hi => sendsS_o hc2 (by have := (hJ.1 p hp ho).1; omega))), (hO.cg (fun p i hp hi => sendsS_o hc2 (by omega))), (hG.cg h12 (nL_cg (sendsS_o hc2 (by omega))) (fun k n hk hn => sendsS_o hc2 (by omega))), (hPl.cg (fun j h => sendsS_o hc2 (by omega))), hN⟩⟩, fun h9 => absurd c_2 h9, hF⟩) dX2_sendCleaner_60 (Nat.le_of_ble_eq_true rfl) (Nat.le_of_ble_eq_true rfl)
set_option maxHeartbeats 1000000 in
set_option maxRecDepth 100000 in
theorem j_X2_load (l : Launch) (V : gh_V) (g0 : gh_G) (S N : Nat) (s : Nat → Int32) (F : Nat → UInt32) (hR : cw_R V g0 S s F N) (hTR : tr_S l V) (hJ : jp s) (hjs : js s) (h10 : nD s ≤ 10) (hN63 : N < 63) (hln : ∀ k, k < nL s → lt s k 2 = nI (ldN s k)) (k : Nat) (hk31 : k < 2 ^ 31) (hjl : k < nL s → lt s k (5 + ldN s k) = 0) : MI l yX2_load cX2_load 5 (some .boolean) ({ frames := 11, cells := 26, slots := 214, locals := 3103 } : Room) V [.ref S, .int (nI k)] g0 (fun r g1 => (k < nL s ∧ noLoad s k = 0 → r = 1 ∧ cw_R V g1 S (loadsS s k (nI k)) (va_up F 0 FP.fconst0) (N + 1)) ∧ (¬ (k < nL s ∧ noLoad s k = 0) → r = 0 ∧ cw_R V g1 S s F N) ∧ gh_fw S [0, 4, 7, 10] g0 g1) := by
  refine MG.of RX2 (by decide) rfl (Nat.le_of_ble_eq_true rfl) (fun pp ee s9 mm args below meth c ls hC hg hr hlk hnm hl => ?_)
  have hx := hC.1.1
  have hb := hC.1.2.1
  have hml := hC.1.2.2.1
  have hown := hC.1.2.2.2.1
  have hts := hC.1.2.2.2.2
  have hl : lv_has ls 5 [(0, .ref S), (1, .int (nI k))] := hl
  obtain ⟨g, hg, hgg⟩ : ∃ g, gh_W V (gh_A g0 s9.heap.size) s9 g s9.heap [] ∧ g = g0 := ⟨g0, hg, rfl⟩
  have hR9 := hR
  obtain ⟨ad, I, A, P, kx, pw, n0, n1, hT, hV, hL, hD, hPc, hO, hG, hPl, hN⟩ := hR
  rw [← hgg] at hT hL hD hPc hO hG hPl
  have hF : gh_fw S [0, 4, 7, 10] g0 g := by rw [hgg]; exact gh_fw.rf
  have h12 := hJ.2.2.1
  have h20 := hJ.2.2.2
  obtain ⟨es, la, lw, fa, hAL, hLo⟩ := hL
  obtain ⟨vs_hlc, hlc⟩ := hAL.c
  refine lv_iload_n hx hb dX2_load_0 rfl (lv_at hl 1 rfl) ?_
  refine lv_aload_n hx hb dX2_load_1 rfl (lv_at hl 0 rfl) ?_
  refine gh_get (v := .ref (ad 9)) hC hg hT.1 fX2_24_2 rfl dX2_load_2 ?_
  refine gh_callFi hg (gh_runF (x := ⟨"java/util/List", "size", "()I"⟩) (As := []) (rest := [.int (nI k)]) hC hg (j_J2_size l V _ (ad 9) S 12 (nL s) es hAL) 0 (lw_F q1359 q1321 q1319 q107 q1323) hlc rfl (by decide +kernel) q1322 q1320 q1148 hdF_List_size_0 ⟨Nat.le_of_ble_eq_true rfl, Nat.le_of_ble_eq_true rfl⟩ rfl hl.1 rfl (Nat.le_of_ble_eq_true rfl) dX2_load_5 ⟨Nat.le_of_ble_eq_true rfl, Nat.le_of_ble_eq_true rfl⟩) (fun r_1 g H locs hg hp => ?_)
  obtain ⟨hp, hq⟩ := hp
  replace hp : (nI (nL s)) = r_1 := hp.symm
  subst hp
  rw [← hq] at hT hD hPc hO hG hPl hF hAL hLo hlc
  try rw [← hq] at hgg
  refine lv_icmp_ge (tgt := 25) hx hb dX2_load_10 (by decide) (fun c_2 => ?_) (fun c_2 => ?_)
  · skip
    have c_2 : (nL s) ≤ k := (nx_le rfl rfl (by omega) (by omega)).mp c_2
    refine lv_iconst (v := 0) hx hb dX2_load_25 (by decide) ?_
    refine lv_istore_n (lv' := [(2, .int 0), (0, .ref S), (1, .int (nI k))]) hx hb dX2_load_26 rfl hl (by decide) rfl (fun ls hl => ?_)
    refine lv_iload_n hx hb dX2_load_27 rfl (lv_at hl 0 rfl) ?_
    refine lv_if_eq (tgt := 105) hx hb dX2_load_28 (by decide) (fun _ => ?_) (fun c_3 => (absurd rfl c_3))
    refine lv_iload_n hx hb dX2_load_105 rfl (lv_at hl 0 rfl) ?_
    exact gh_retz rfl hC hg hr hlk (⟨fun h9 => absurd h9.1 (by omega), fun _ => ⟨rfl, ⟨ad, I, A, P, _, _, _, _, hT, hV, ⟨es, la, lw, fa, hAL, hLo⟩, hD, hPc, hO, hG, hPl, hN⟩⟩, hF⟩) dX2_load_106 (Nat.le_of_ble_eq_true rfl) (Nat.le_of_ble_eq_true rfl)
  have c_2 : ¬ (nL s) ≤ k := fun h9 => c_2 ((nx_le rfl rfl (by omega) (by omega)).mpr h9)
  have hkL : k < nL s := by omega
  refine lv_aload_n hx hb dX2_load_13 rfl (lv_at hl 0 rfl) ?_
  refine lv_iload_n hx hb dX2_load_14 rfl (lv_at hl 1 rfl) ?_
  refine gh_calli hg (gh_runV (As := [.int (nI k)]) (rest := []) hC hg (j_X2_whyNotLoading l V _ S N s F (by rw [hgg]; exact hR9) k hkL h12 hjs) 1 (lw_V q1624 q1625 q1626 q104 q1627) hT.1 rfl hd_X2_whyNotLoading ⟨Nat.le_of_ble_eq_true rfl, Nat.le_of_ble_eq_true rfl⟩ rfl hl.1 rfl (Nat.le_of_ble_eq_true rfl) dX2_load_15 ⟨Nat.le_of_ble_eq_true rfl, Nat.le_of_ble_eq_true rfl⟩) (fun r_4 g H locs hg hp => ?_)
  obtain ⟨hp, hfr9⟩ := hp
  subst hp
  have hfw9 : gh_fw S [] _ g := hfr9
  have hf9 := hfw9.v
  have hlc : g (ad 9) = some ((S, 12, 0), oo 12 vs_hlc) := hfw9 _ _ _ hlc (fun h9 => absurd (show 12 ∈ [] from h9.2) (by decide))
  have hD : de_P V g S (ad 10) s := hD.kp hf9 (by decide)
  have hPc : pc_P V g S P kx pw s F := hPc.kp hf9 (by decide)
  have hO : ot_P V g S (ad 11) P kx s n0 := hO.kp hf9 (by decide)
  have hG : go_P V g S (ad 12) s n1 := hG.kp hf9 (by decide)
  have hPl : pn_P V g S (ad 13) (I 3) s := hPl.kp hf9 (by decide)
  have hF : gh_fw S [0, 4, 7, 10] g0 g := hF.tr hfw9 (fun _ u => u) (by decide)
  have hAL : al_P V S 12 g (ad 9) (nL s) es := hf9.al (by decide) hAL
  have hLo : ∀ k, k < nL s → lo1 V g S s k (es k) (la k) (lw k) (fa k) := fun k hk => (hLo k hk).kp hf9 (by decide)
  have hT : st_C V g S ad I A P := hT.kp hf9 (by decide)
  refine lv_if_ne (tgt := 25) hx hb dX2_load_18 (by decide) (fun c_5 => ?_) (fun c_5 => ?_)
  · skip
    refine lv_iconst (v := 0) hx hb dX2_load_25 (by decide) ?_
    refine lv_istore_n (lv' := [(2, .int 0), (0, .ref S), (1, .int (nI k))]) hx hb dX2_load_26 rfl hl (by decide) rfl (fun ls hl => ?_)
    refine lv_iload_n hx hb dX2_load_27 rfl (lv_at hl 0 rfl) ?_
    refine lv_if_eq (tgt := 105) hx hb dX2_load_28 (by decide) (fun _ => ?_) (fun c_6 => (absurd rfl c_6))
    refine lv_iload_n hx hb dX2_load_105 rfl (lv_at hl 0 rfl) ?_
    exact gh_retz rfl hC hg hr hlk (⟨fun h9 => absurd h9.2 c_5, fun _ => ⟨rfl, ⟨ad, I, A, P, _, _, _, _, hT, hV, ⟨es, la, lw, fa, hAL, hLo⟩, hD, hPc, hO, hG, hPl, hN⟩⟩, hF⟩) dX2_load_106 (Nat.le_of_ble_eq_true rfl) (Nat.le_of_ble_eq_true rfl)
  obtain ⟨hn20, hp0, -⟩ := ld_can c_5
  have hnn := hln k hkL
  have h20k := h20 k hkL
  have h19 : ldN s k < 20 := ld_19 hnn h20k hn20
  have hfr9 := ld_fresh hJ hkL h19
  refine lv_iconst (v := 1) hx hb dX2_load_21 (by decide) ?_
  refine lv_goto (tgt := 26) hx hb dX2_load_22 (by decide) ?_
  refine lv_istore_n (lv' := [(2, .int 1), (0, .ref S), (1, .int (nI k))]) hx hb dX2_load_26 rfl hl (by decide) rfl (fun ls hl => ?_)
  refine lv_iload_n hx hb dX2_load_27 rfl (lv_at hl 0 rfl) ?_
  refine lv_if_eq (tgt := 105) hx hb dX2_load_28 (by decide) (fun c_7 => (absurd c_7 (by decide))) (fun _ => ?_)
  refine lv_aload_n hx hb dX2_load_31 rfl (lv_at hl 1 rfl) ?_
  refine gh_get (v := .ref (ad 9)) hC hg hT.1 fX2_24_2 rfl dX2_load_32 ?_
  refine lv_iload_n hx hb dX2_load_35 rfl (lv_at hl 2 rfl) ?_
  obtain ⟨hlq, hla, hlw, hlf⟩ := hLo k hkL
  have hLx : ∀ j, j < nL s → j ≠ k → lo1 V g S s j (es j) (la j) (lw j) (fa j) := fun j h _ => hLo j h
  refine gh_callFq hg (gh_runF (x := ⟨"java/util/List", "get", "(I)Ljava/lang/Object;"⟩) (As := [.int (nI k)]) (rest := []) hC hg (j_J2_get l V _ (ad 9) S 12 (nL s) es hAL (nI k) k rfl (by omega)) 1 (lw_F q1361 q1338 q1336 q107 q1340) hlc rfl (by decide +kernel) q1339 q1337 q1148 hdF_List_get_1 ⟨Nat.le_of_ble_eq_true rfl, Nat.le_of_ble_eq_true rfl⟩ rfl hl.1 rfl (Nat.le_of_ble_eq_true rfl) dX2_load_36 ⟨Nat.le_of_ble_eq_true rfl, Nat.le_of_ble_eq_true rfl⟩) (fun r_8 g H locs hg hp => ?_)
  obtain ⟨hp, hq⟩ := hp
  subst hp
  rw [← hq] at hT hD hPc hO hG hPl hF hAL hlw hLx hlc hlq hla
  try rw [← hq] at hgg
  refine W.eq (g2 := F0 mm 41 ls [.ref (es k)]) rfl ?_
  refine gh_castS hC hg hlq rfl q1362 dX2_load_41 ?_
  refine lv_astore_n (lv' := [(3, .ref (es k)), (2, .int 1), (0, .ref S), (1, .int (nI k))]) hx hb dX2_load_44 rfl hl (by decide) rfl (fun ls hl => ?_)
  refine gh_new (ci := 5) (fs := [.null, .null, .int 0, .int 0, .int 0, .float 0]) hC hg (fun q9 => (S, 7, (20 * k + ldN s k))) rfl in_X6 tyX6 tyX6_ok q193 q1645 q163 (by decide +kernel) (Nat.le_of_ble_eq_true rfl) (Nat.le_of_ble_eq_true rfl) dX2_load_45 (fun q_9 g H hg h0 hw hn => ?_)
  have hlc : g (ad 9) = some ((S, 12, 0), oo 12 vs_hlc) := (hn _ (gh_neN hlc h0)).trans hlc
  have hlq : g (es k) = some ((S, 4, k), oo 3 [.ref (lw k), .ref (la k), .int (lt s k 2), .int (lt s k 3), .int (lt s k 4)]) := (hn _ (gh_neN hlq h0)).trans hlq
  have hla : g (la k) = some ((S, 5, k), ai V 0 5 (fa k)) := (hn _ (gh_neN hla h0)).trans hla
  have hf9 : gh_fv S [] _ g := (gh_fw.nw h0 hn).v
  have hD : de_P V g S (ad 10) s := hD.kp hf9 (by decide)
  have hPc : pc_P V g S P kx pw s F := hPc.kp hf9 (by decide)
  have hO : ot_P V g S (ad 11) P kx s n0 := hO.kp hf9 (by decide)
  have hG : go_P V g S (ad 12) s n1 := hG.kp hf9 (by decide)
  have hPl : pn_P V g S (ad 13) (I 3) s := hPl.kp hf9 (by decide)
  have hF : gh_fw S [0, 4, 7, 10] g0 g := hF.new h0 hn
  have hAL : al_P V S 12 g (ad 9) (nL s) es := hf9.al (by decide) hAL
  have hlw : wa_P V g (lw k) (kd s k) (lt s k 1) := hf9.wa (by decide) hlw
  have hLx : ∀ j, j < nL s → j ≠ k → lo1 V g S s j (es j) (la j) (lw j) (fa j) := fun j h1 h2 => (hLx j h1 h2).kp hf9 (by decide)
  have hT : st_C V g S ad I A P := hT.nw h0 hn
  have c_10 : g q_9 = some ((S, 7, (20 * k + ldN s k)), oo 5 [.null, .null, .int 0, .int 0, .int 0, .float 0]) := hw
  refine lv_dup hx hb dX2_load_48 rfl ?_
  have hT_o := hT
  have hD_o := hD
  have hPc_o := hPc
  have hO_o := hO
  have hG_o := hG
  have hPl_o := hPl
  have hF_o := hF
  have hAL_o := hAL
  have hlw_o := hlw
  have hLx_o := hLx
  have hlc_o := hlc
  have hlq_o := hlq
  have hla_o := hla
  have c_10_o := c_10
  refine gh_new (ci := 9) (fs := [.int 0, .int 0]) hC hg (fun q9 => ((V.2.2 9), 1, 0)) rfl in_X11 tyX11 tyX11_ok q1646 q1647 q168 (by decide +kernel) (Nat.le_of_ble_eq_true rfl) (Nat.le_of_ble_eq_true rfl) dX2_load_49 (fun q_11 g H hg h0 hw hn => ?_)
  have hlc : g (ad 9) = some ((S, 12, 0), oo 12 vs_hlc) := (hn _ (gh_neN hlc h0)).trans hlc
  have hlq : g (es k) = some ((S, 4, k), oo 3 [.ref (lw k), .ref (la k), .int (lt s k 2), .int (lt s k 3), .int (lt s k 4)]) := (hn _ (gh_neN hlq h0)).trans hlq
  have hla : g (la k) = some ((S, 5, k), ai V 0 5 (fa k)) := (hn _ (gh_neN hla h0)).trans hla
  have c_10 : g q_9 = some ((S, 7, (20 * k + ldN s k)), oo 5 [.null, .null, .int 0, .int 0, .int 0, .float 0]) := (hn _ (gh_neN c_10 h0)).trans c_10
  have hf9 : gh_fv S [] _ g := (gh_fw.nw h0 hn).v
  have hD : de_P V g S (ad 10) s := hD.kp hf9 (by decide)
  have hPc : pc_P V g S P kx pw s F := hPc.kp hf9 (by decide)
  have hO : ot_P V g S (ad 11) P kx s n0 := hO.kp hf9 (by decide)
  have hG : go_P V g S (ad 12) s n1 := hG.kp hf9 (by decide)
  have hPl : pn_P V g S (ad 13) (I 3) s := hPl.kp hf9 (by decide)
  have hF : gh_fw S [0, 4, 7, 10] g0 g := hF.new h0 hn
  have hAL : al_P V S 12 g (ad 9) (nL s) es := hf9.al (by decide) hAL
  have hlw : wa_P V g (lw k) (kd s k) (lt s k 1) := hf9.wa (by decide) hlw
  have hLx : ∀ j, j < nL s → j ≠ k → lo1 V g S s j (es j) (la j) (lw j) (fa j) := fun j h1 h2 => (hLx j h1 h2).kp hf9 (by decide)
  have hT : st_C V g S ad I A P := hT.nw h0 hn
  have c_12 : g q_11 = some (((V.2.2 9), 1, 0), oo 9 [.int 0, .int 0]) := hw
  have h0k_q_11 := h0
  have hnk_q_11 := hn
  refine lv_dup hx hb dX2_load_52 rfl ?_
  refine lv_iload_n hx hb dX2_load_53 rfl (lv_at hl 3 rfl) ?_
  refine lv_aload_n hx hb dX2_load_54 rfl (lv_at hl 0 rfl) ?_
  refine gh_get (v := .int (lt s k 2)) hC hg hlq fX2_190_3 rfl dX2_load_55 ?_
  refine W.eq (g2 := F0 mm 58 ls [.int (nI (ldN s k)), .int (nI k), .ref q_11, .ref q_11, .ref q_9, .ref q_9]) (by rw [hnn] <;> rfl) ?_
  refine gh_callv hg (gh_runI (As := [.int (nI k), .int (nI (ldN s k))]) (rest := [.ref q_11, .ref q_9, .ref q_9]) hC hg (j_X11_init l V _ q_11 (nI k) (nI (ldN s k)) ((V.2.2 9), 1, 0) c_12) 2 (lw_meth q1650) q168 q1648 q1649 rfl hd_X11_init.2 ⟨Nat.le_of_ble_eq_true rfl, Nat.le_of_ble_eq_true rfl⟩ rfl hl.1 rfl (Nat.le_of_ble_eq_true rfl) dX2_load_58 ⟨Nat.le_of_ble_eq_true rfl, Nat.le_of_ble_eq_true rfl⟩) (fun g H locs hg hp => ?_)
  obtain ⟨hw, hn9⟩ := hp
  have hn : ∀ b, b ≠ q_11 → g b = _ := fun b hb => (hn9 b hb).trans (hnk_q_11 b hb)
  have h0 := h0k_q_11
  have hfw9 : gh_fw S [] _ g := gh_fw.nw h0 hn
  have hf9 := hfw9.v
  have hlc : g (ad 9) = some ((S, 12, 0), oo 12 vs_hlc) := (hn _ (gh_neN hlc_o h0)).trans hlc_o
  have hlq : g (es k) = some ((S, 4, k), oo 3 [.ref (lw k), .ref (la k), .int (lt s k 2), .int (lt s k 3), .int (lt s k 4)]) := (hn _ (gh_neN hlq_o h0)).trans hlq_o
  have hla : g (la k) = some ((S, 5, k), ai V 0 5 (fa k)) := (hn _ (gh_neN hla_o h0)).trans hla_o
  have c_10 : g q_9 = some ((S, 7, (20 * k + ldN s k)), oo 5 [.null, .null, .int 0, .int 0, .int 0, .float 0]) := (hn _ (gh_neN c_10_o h0)).trans c_10_o
  have hD : de_P V g S (ad 10) s := hD_o.kp hf9 (by decide)
  have hPc : pc_P V g S P kx pw s F := hPc_o.kp hf9 (by decide)
  have hO : ot_P V g S (ad 11) P kx s n0 := hO_o.kp hf9 (by decide)
  have hG : go_P V g S (ad 12) s n1 := hG_o.kp hf9 (by decide)
  have hPl : pn_P V g S (ad 13) (I 3) s := hPl_o.kp hf9 (by decide)
  have hF : gh_fw S [0, 4, 7, 10] g0 g := hF_o.new h0 hn
  have hAL : al_P V S 12 g (ad 9) (nL s) es := hf9.al (by decide) hAL_o
  have hlw : wa_P V g (lw k) (kd s k) (lt s k 1) := hf9.wa (by decide) hlw_o
  have hLx : ∀ j, j < nL s → j ≠ k → lo1 V g S s j (es j) (la j) (lw j) (fa j) := fun j h1 h2 => (hLx_o j h1 h2).kp hf9 (by decide)
  have hT : st_C V g S ad I A P := hT_o.nw h0 hn
  have c_12 : g q_11 = some (((V.2.2 9), 1, 0), oo 9 [.int (nI k), .int (nI (ldN s k))]) := hw
  have hky9 : ky_P V g 9 q_11 (20 * k + ldN s k) := ⟨k, (ldN s k), c_12, (Or.inl ⟨rfl, (by omega), h19, rfl⟩)⟩
  refine lv_aload_n hx hb dX2_load_61 rfl (lv_at hl 0 rfl) ?_
  refine gh_getr (v := .ref (lw k)) hC hg hlq rfX2_196_3 rfl dX2_load_62 ?_
  refine gh_callv hg (gh_runI (As := [.ref q_11, .ref (lw k)]) (rest := [.ref q_9]) hC hg (j_X6_init l V _ q_9 q_11 (lw k) (S, 7, (20 * k + ldN s k)) c_10) 2 (lw_meth q1664) q163 q1662 q1663 rfl hd_X6_init.2 ⟨Nat.le_of_ble_eq_true rfl, Nat.le_of_ble_eq_true rfl⟩ rfl hl.1 rfl (Nat.le_of_ble_eq_true rfl) dX2_load_65 ⟨Nat.le_of_ble_eq_true rfl, Nat.le_of_ble_eq_true rfl⟩) (fun g H locs hg hp => ?_)
  obtain ⟨hw, hn⟩ := hp
  have hlc : g (ad 9) = some ((S, 12, 0), oo 12 vs_hlc) := (hn _ (gh_neK hlc c_10 rfl)).trans hlc
  have hlq : g (es k) = some ((S, 4, k), oo 3 [.ref (lw k), .ref (la k), .int (lt s k 2), .int (lt s k 3), .int (lt s k 4)]) := (hn _ (gh_neK hlq c_10 rfl)).trans hlq
  have hla : g (la k) = some ((S, 5, k), ai V 0 5 (fa k)) := (hn _ (gh_neK hla c_10 rfl)).trans hla
  have c_12 : g q_11 = some (((V.2.2 9), 1, 0), oo 9 [.int (nI k), .int (nI (ldN s k))]) := (hn _ (gh_neK c_12 c_10 rfl)).trans c_12
  have hf9 : gh_fv S [7] _ g := (gh_fw.st c_10 hn).v
  have hD : de_P V g S (ad 10) s := hD.kp hf9 (by decide)
  have hPc : pc_P V g S P kx pw s F := hPc.own c_10 hfr9 hn
  have hO : ot_P V g S (ad 11) P kx s n0 := hO.kp hf9 (by decide)
  have hG : go_P V g S (ad 12) s n1 := hG.kp hf9 (by decide)
  have hPl : pn_P V g S (ad 13) (I 3) s := hPl.kp hf9 (by decide)
  have hF : gh_fw S [0, 4, 7, 10] g0 g := hF.set c_10 (by decide) hn
  have hAL : al_P V S 12 g (ad 9) (nL s) es := hf9.al (by decide) hAL
  have hlw : wa_P V g (lw k) (kd s k) (lt s k 1) := hf9.wa (by decide) hlw
  have hLx : ∀ j, j < nL s → j ≠ k → lo1 V g S s j (es j) (la j) (lw j) (fa j) := fun j h1 h2 => (hLx j h1 h2).kp hf9 (by decide)
  have hky9 : ky_P V g 9 q_11 (20 * k + ldN s k) := hf9.ky (by decide) hky9
  have hT : st_C V g S ad I A P := hT.ne c_10 (fun h9 => absurd (show 7 = 0 from h9.2) (by decide)) hn
  have c_10 : g q_9 = some ((S, 7, (20 * k + ldN s k)), oo 5 [.ref q_11, .ref (lw k), .int 0, .int 0, .int 600, .float 0]) := hw
  refine lv_astore (lv' := [(4, .ref q_9), (3, .ref (es k)), (2, .int 1), (0, .ref S), (1, .int (nI k))]) hx hb dX2_load_68 hl (by decide) rfl (fun ls hl => ?_)
  refine lv_aload_n hx hb dX2_load_70 rfl (lv_at hl 1 rfl) ?_
  refine lv_dup hx hb dX2_load_71 rfl ?_
  refine gh_get (v := .int (lt s k 2)) hC hg hlq fX2_190_3 rfl dX2_load_72 ?_
  refine lv_iconst (v := 1) hx hb dX2_load_75 (by decide) ?_
  refine lv_iadd hx hb dX2_load_76 ?_
  refine gh_put (v := .int ((lt s k 2) + 1)) hC hg hlq fX2_190_3 rfl rfl (Nat.le_of_ble_eq_true rfl) dX2_load_77 (fun g H locs hg hw hn => ?_)
  have hlc : g (ad 9) = some ((S, 12, 0), oo 12 vs_hlc) := (hn _ (gh_neK hlc hlq rfl)).trans hlc
  have hla : g (la k) = some ((S, 5, k), ai V 0 5 (fa k)) := (hn _ (gh_neK hla hlq rfl)).trans hla
  have c_10 : g q_9 = some ((S, 7, (20 * k + ldN s k)), oo 5 [.ref q_11, .ref (lw k), .int 0, .int 0, .int 600, .float 0]) := (hn _ (gh_neK c_10 hlq rfl)).trans c_10
  have c_12 : g q_11 = some (((V.2.2 9), 1, 0), oo 9 [.int (nI k), .int (nI (ldN s k))]) := (hn _ (gh_neK c_12 hlq rfl)).trans c_12
  have hf9 : gh_fv S [4] _ g := (gh_fw.st hlq hn).v
  have hD : de_P V g S (ad 10) s := hD.kp hf9 (by decide)
  have hPc : pc_P V g S P kx pw s F := hPc.kp hf9 (by decide)
  have hO : ot_P V g S (ad 11) P kx s n0 := hO.kp hf9 (by decide)
  have hG : go_P V g S (ad 12) s n1 := hG.kp hf9 (by decide)
  have hPl : pn_P V g S (ad 13) (I 3) s := hPl.kp hf9 (by decide)
  have hF : gh_fw S [0, 4, 7, 10] g0 g := hF.set hlq (by decide) hn
  have hAL : al_P V S 12 g (ad 9) (nL s) es := hf9.al (by decide) hAL
  have hlw : wa_P V g (lw k) (kd s k) (lt s k 1) := hf9.wa (by decide) hlw
  have hLx : ∀ j, j < nL s → j ≠ k → lo1 V g S s j (es j) (la j) (lw j) (fa j) := fun j h1 h2 => (hLx j h1 h2).ow hlq h2 (by decide) hn
  have hky9 : ky_P V g 9 q_11 (20 * k + ldN s k) := hf9.ky (by decide) hky9
  have hT : st_C V g S ad I A P := hT.ne hlq (fun h9 => absurd (show 4 = 0 from h9.2) (by decide)) hn
  have hlq : g (es k) = some ((S, 4, k), oo 3 [.ref (lw k), .ref (la k), .int ((lt s k 2) + 1), .int (lt s k 3), .int (lt s k 4)]) := hw
  refine lv_aload_n hx hb dX2_load_80 rfl (lv_at hl 3 rfl) ?_
  refine gh_get (v := .ref (ad 8)) hC hg hT.1 fX2_17_2 rfl dX2_load_81 ?_
  refine lv_iconst (v := 0) hx hb dX2_load_84 (by decide) ?_
  refine lv_aload hx hb dX2_load_85 (lv_at hl 0 rfl) ?_
  refine gh_qast (n := 24) (f := P) hC hg hT.2.2 rfl c_10 rfl (show ((0 : Int32)) = nI 0 from rfl) (by omega) (by omega) dX2_load_87 (fun g H locs hg hw hn => ?_)
  have hlc : g (ad 9) = some ((S, 12, 0), oo 12 vs_hlc) := (hn _ (gh_neK hlc hT.2.2 rfl)).trans hlc
  have hlq : g (es k) = some ((S, 4, k), oo 3 [.ref (lw k), .ref (la k), .int ((lt s k 2) + 1), .int (lt s k 3), .int (lt s k 4)]) := (hn _ (gh_neK hlq hT.2.2 rfl)).trans hlq
  have hla : g (la k) = some ((S, 5, k), ai V 0 5 (fa k)) := (hn _ (gh_neK hla hT.2.2 rfl)).trans hla
  have c_10 : g q_9 = some ((S, 7, (20 * k + ldN s k)), oo 5 [.ref q_11, .ref (lw k), .int 0, .int 0, .int 600, .float 0]) := (hn _ (gh_neK c_10 hT.2.2 rfl)).trans c_10
  have c_12 : g q_11 = some (((V.2.2 9), 1, 0), oo 9 [.int (nI k), .int (nI (ldN s k))]) := (hn _ (gh_neK c_12 hT.2.2 rfl)).trans c_12
  have hf9 : gh_fv S [0] _ g := (gh_fw.st hT.2.2 hn).v
  have hD : de_P V g S (ad 10) s := hD.kp hf9 (by decide)
  have hPc : pc_P V g S P kx pw s F := hPc.kp hf9 (by decide)
  have hO : ot_P V g S (ad 11) P kx s n0 := hO.kp hf9 (by decide)
  have hG : go_P V g S (ad 12) s n1 := hG.kp hf9 (by decide)
  have hPl : pn_P V g S (ad 13) (I 3) s := hPl.kp hf9 (by decide)
  have hF : gh_fw S [0, 4, 7, 10] g0 g := hF.set hT.2.2 (by decide) hn
  have hAL : al_P V S 12 g (ad 9) (nL s) es := hf9.al (by decide) hAL
  have hlw : wa_P V g (lw k) (kd s k) (lt s k 1) := hf9.wa (by decide) hlw
  have hLx : ∀ j, j < nL s → j ≠ k → lo1 V g S s j (es j) (la j) (lw j) (fa j) := fun j h1 h2 => (hLx j h1 h2).kp hf9 (by decide)
  have hky9 : ky_P V g 9 q_11 (20 * k + ldN s k) := hf9.ky (by decide) hky9
  have hT : st_C V g S ad I A (va_up P 0 (some q_9)) := hT.setP hw hn
  refine lv_aload_n hx hb dX2_load_88 rfl (lv_at hl 3 rfl) ?_
  refine gh_get (v := .ref (ad 11)) hC hg hT.1 fX2_34_2 rfl dX2_load_89 ?_
  refine lv_aload hx hb dX2_load_92 (lv_at hl 0 rfl) ?_
  refine gh_getr (v := .ref q_11) hC hg c_10 rfX2_141_5 rfl dX2_load_94 ?_
  refine lv_aload hx hb dX2_load_97 (lv_at hl 0 rfl) ?_
  obtain ⟨M, ⟨Dm, hDm, hMm⟩, hMl, hM1, hM2⟩ := hO
  have hm9 := (hDm).1.1.cm
  refine gh_callFq hg (gh_runF (x := ⟨"java/util/Map", "put", "(Ljava/lang/Object;Ljava/lang/Object;)Ljava/lang/Object;"⟩) (As := [.ref q_11, .ref q_9]) (rest := []) hC hg (j_J4_put l V _ hTR S 10 (ad 11) 9 q_11 q_9 (20 * k + ldN s k) Dm hDm hky9 (fun h9 => absurd h9 (by decide)) (by rw [hMm, hMl]; omega)) 2 (lw_F q1695 q1700 q1698 q109 q1702) hm9 rfl (by decide +kernel) q1701 q1699 q1305 hdF_Map_put_2 ⟨Nat.le_of_ble_eq_true rfl, Nat.le_of_ble_eq_true rfl⟩ rfl hl.1 rfl (Nat.le_of_ble_eq_true rfl) dX2_load_99 ⟨Nat.le_of_ble_eq_true rfl, Nat.le_of_ble_eq_true rfl⟩) (fun r_13 g H locs hg hp => ?_)
  obtain ⟨-, hO1, hF9⟩ := hp
  rw [hMm] at hO1
  have hfw9 : gh_fw S [10] _ g := gh_fw.fk hF9
  have hf9 := hfw9.v
  have hlc : g (ad 9) = some ((S, 12, 0), oo 12 vs_hlc) := hfw9 _ _ _ hlc (fun h9 => absurd (show 12 ∈ [10] from h9.2) (by decide))
  have hlq : g (es k) = some ((S, 4, k), oo 3 [.ref (lw k), .ref (la k), .int ((lt s k 2) + 1), .int (lt s k 3), .int (lt s k 4)]) := hfw9 _ _ _ hlq (fun h9 => absurd (show 4 ∈ [10] from h9.2) (by decide))
  have hla : g (la k) = some ((S, 5, k), ai V 0 5 (fa k)) := hfw9 _ _ _ hla (fun h9 => absurd (show 5 ∈ [10] from h9.2) (by decide))
  have c_10 : g q_9 = some ((S, 7, (20 * k + ldN s k)), oo 5 [.ref q_11, .ref (lw k), .int 0, .int 0, .int 600, .float 0]) := hfw9 _ _ _ c_10 (fun h9 => absurd (show 7 ∈ [10] from h9.2) (by decide))
  have c_12 : g q_11 = some (((V.2.2 9), 1, 0), oo 9 [.int (nI k), .int (nI (ldN s k))]) := hfw9 _ _ _ c_12 (fun h9 => absurd (show 1 ∈ [10] from h9.2) (by decide))
  have hD : de_P V g S (ad 10) s := hD.kp hf9 (by decide)
  have hPc : pc_P V g S P kx pw s F := hPc.kp hf9 (by decide)
  have hG : go_P V g S (ad 12) s n1 := hG.kp hf9 (by decide)
  have hPl : pn_P V g S (ad 13) (I 3) s := hPl.kp hf9 (by decide)
  have hF : gh_fw S [0, 4, 7, 10] g0 g := hF.tr hfw9 (fun _ u => u) (by decide)
  have hAL : al_P V S 12 g (ad 9) (nL s) es := hf9.al (by decide) hAL
  have hlw : wa_P V g (lw k) (kd s k) (lt s k 1) := hf9.wa (by decide) hlw
  have hLx : ∀ j, j < nL s → j ≠ k → lo1 V g S s j (es j) (la j) (lw j) (fa j) := fun j h1 h2 => (hLx j h1 h2).kp hf9 (by decide)
  have hky9 : ky_P V g 9 q_11 (20 * k + ldN s k) := hf9.ky (by decide) hky9
  have hT : st_C V g S ad I A (va_up P 0 (some q_9)) := hT.kp hf9 (by decide)
  refine lv_pop hx hb dX2_load_104 (gh_cQ _) ?_
  refine lv_iload_n hx hb dX2_load_105 rfl (lv_at hl 2 rfl) ?_
  exact gh_retz rfl hC hg hr hlk (⟨fun _ => ⟨rfl, ⟨ad, I, A, (va_up P 0 (some q_9)), _, _, _, _, hT, (ld_V hV (by omega)), (ld_lo hkL h20 hnn h19 (hjl hkL) hAL hLx hlq hla hlw hlf), (hD.cg h10 (fun j a b => ld_o (by omega))), (ld_pc hPc hJ hkL c_10 hky9 hlw), (ld_ot hJ hkL h19 hp0 hO1 hMl hM1 hM2), (ld_go hG h12), (hPl.cg (fun j h => ld_o (by omega))), (by omega)⟩⟩, fun h9 => absurd ⟨hkL, c_5⟩ h9, hF⟩) dX2_load_106 (Nat.le_of_ble_eq_true rfl) (Nat.le_of_ble_eq_true rfl)
