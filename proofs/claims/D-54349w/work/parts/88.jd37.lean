/-! TAKE ORDER -/
def ag9 (s0 : Nat → Int32) (d : Nat) (s : Nat → Int32) : Prop := ∀ j, j ≠ 465 + 6 * d + 2 → j ≠ 465 + 6 * d + 5 → (∀ k, k < 12 → j ≠ 164 + 25 * k + 3 ∧ j ≠ 164 + 25 * k + 4) → s j = s0 j
section Tk
variable {s s0 : Nat → Int32} {d k n : Nat} {x y : Int32}
theorem ag9.o (h : ag9 s0 d s) {j : Nat} (hj : j < 164 ∨ j = 464 ∨ 525 ≤ j) (hd : d < 10) : s j = s0 j := h j (by omega) (by omega) (fun k hk => by omega)
theorem ag9.lt (h : ag9 s0 d s) {i : Nat} (hk : k < 12) (hi : i < 25) (h3 : i ≠ 3) (h4 : i ≠ 4) (hd : d < 10) : lt s k i = lt s0 k i := h _ (by omega) (by omega) (fun k hk => by omega)
theorem ag9.od (h : ag9 s0 d s) {e i : Nat} (he : e < 10) (hi : i < 6) (hn : ¬ (e = d ∧ (i = 2 ∨ i = 5))) : od s e i = od s0 e i := h _ (by omega) (by omega) (fun k hk => by omega)
theorem ag9.nL (h : ag9 s0 d s) (hd : d < 10) : nL s = CAnnealingLehrLaw_law_r3166_64f5e3.nL s0 := nL_cg (h.o (by omega) hd)
theorem ag9_st (h : ag9 s0 d s) (hk : k < 12) (hd : d < 10) : ag9 s0 d (dlv (lts s k 3 (lt s k 3 + (-1))) k d) := fun j h1 h2 h3 => by
  have := h3 k hk
  rw [dlv_ne this.2 h2 h1, lts_ne this.1]
  exact h j h1 h2 h3
theorem wt_no {ki : Int32} {wn : Int32} (hk : lt s k 0 = ki) (h : (if wn ≤ 0 then (0 : Int32) else if x = ki then (if y = lt s k 1 then 1 else 0) else 0) = 0) (hw : od s d 2 = wn) : ¬ tkC s k d x y := fun ⟨h1, h2, h3, h4⟩ => by
  rw [if_neg (by rw [← hw]; exact h4), if_pos (h1.symm.trans hk), if_pos h2.symm] at h
  exact absurd h (by decide)
theorem wt_yes {ki : Int32} {wn : Int32} (hk : lt s k 0 = ki) (h : ¬ (if wn ≤ 0 then (0 : Int32) else if x = ki then (if y = lt s k 1 then 1 else 0) else 0) = 0) (hw : od s d 2 = wn) (h3 : ¬ lt s k 3 ≤ 0) : tkC s k d x y := by
  by_cases c : wn ≤ 0
  · rw [if_pos c] at h; exact absurd rfl h
  · rw [if_neg c] at h
    by_cases c2 : x = ki
    · rw [if_pos c2] at h
      by_cases c3 : y = lt s k 1
      · exact ⟨hk.trans c2.symm, c3.symm, h3, by rw [hw]; exact c⟩
      · rw [if_neg c3] at h; exact absurd rfl h
    · rw [if_neg c2] at h; exact absurd rfl h
theorem sc_3 (hk : k < 12) (hd : d < 10) : lt (dlv (lts s k 3 (lt s k 3 + (-1))) k d) k 3 = lt s k 3 - 1 := by
  rw [dlv_lt hk hd hk (by omega) (by omega), lts_eq, Int32.sub_eq_add_neg]
theorem sc_4 (hk : k < 12) (hd : d < 10) : lt (dlv (lts s k 3 (lt s k 3 + (-1))) k d) k 4 = lt s k 4 + coinsN s d := by
  rw [dlv_4 hk hd, lts_at (by omega)]
  congr 1
  unfold coinsN
  rw [show lts s k 3 (lt s k 3 + (-1)) 0 = s 0 from lts_ne (by omega), show od (lts s k 3 (lt s k 3 + (-1))) d 3 = od s d 3 from lts_ne (by omega), show od (lts s k 3 (lt s k 3 + (-1))) d 4 = od s d 4 from lts_ne (by omega)]
theorem sc_lt (hk : k < 12) (hd : d < 10) {j i : Nat} (hj : j < 12) (hi : i < 25) (hn : ¬ (j = k ∧ (i = 3 ∨ i = 4))) : lt (dlv (lts s k 3 (lt s k 3 + (-1))) k d) j i = lt s j i := by
  rw [dlv_lt hk hd hj hi (by omega)]
  exact lts_ne (by omega)
theorem sc_w (hk : k < 12) : od (dlv (lts s k 3 (lt s k 3 + (-1))) k d) d 2 = od s d 2 - 1 := by
  rw [dlv_w hk]
  congr 1
  exact lts_ne (by omega)
theorem sc_p (hk : k < 12) (hd : d < 10) : od (dlv (lts s k 3 (lt s k 3 + (-1))) k d) d 5 = od s d 5 + coinsN s d := by
  rw [dlv_5 hk]
  congr 1
  · exact lts_ne (by omega)
  · unfold coinsN
    rw [show lts s k 3 (lt s k 3 + (-1)) 0 = s 0 from lts_ne (by omega), show od (lts s k 3 (lt s k 3 + (-1))) d 3 = od s d 3 from lts_ne (by omega), show od (lts s k 3 (lt s k 3 + (-1))) d 4 = od s d 4 from lts_ne (by omega)]
theorem newOrd_v {D : Nat} {x y u v w : Int32} (j : Nat) : newOrd s D x y u v w j = if j = 465 + 6 * D + 5 then 0 else if j = 465 + 6 * D + 4 then w else if j = 465 + 6 * D + 3 then v else if j = 465 + 6 * D + 2 then u else if j = 465 + 6 * D + 1 then y else if j = 465 + 6 * D + 0 then x else if j = 464 then s 464 + 1 else s j := rfl
theorem newOrd_o {D : Nat} {x y u v w : Int32} {j : Nat} (h : j < 464 ∨ (464 < j ∧ j < 465 + 6 * D) ∨ 465 + 6 * D + 6 ≤ j) : newOrd s D x y u v w j = s j := by
  rw [newOrd_v, if_neg (by omega), if_neg (by omega), if_neg (by omega), if_neg (by omega), if_neg (by omega), if_neg (by omega), if_neg (by omega)]
theorem newOrd_n {D : Nat} {x y u v w : Int32} (h : s 464 = nI D) (hD : D < 10) : nD (newOrd s D x y u v w) = D + 1 := by
  show (newOrd s D x y u v w 464).toNatClampNeg = _
  rw [newOrd_v, if_neg (by omega), if_neg (by omega), if_neg (by omega), if_neg (by omega), if_neg (by omega), if_neg (by omega), if_pos rfl, show s 464 + 1 = nI (D + 1) from nx_add (b := 1) h rfl, nI_clamp (by omega)]
theorem newOrd_d {D : Nat} {x y u v w : Int32} : od (newOrd s D x y u v w) D 0 = x ∧ od (newOrd s D x y u v w) D 1 = y ∧ od (newOrd s D x y u v w) D 2 = u ∧ od (newOrd s D x y u v w) D 3 = v ∧ od (newOrd s D x y u v w) D 4 = w ∧ od (newOrd s D x y u v w) D 5 = 0 := by
  unfold od
  refine ⟨?_, ?_, ?_, ?_, ?_, ?_⟩
  · rw [newOrd_v, if_neg (by omega), if_neg (by omega), if_neg (by omega), if_neg (by omega), if_neg (by omega), if_pos rfl]
  · rw [newOrd_v, if_neg (by omega), if_neg (by omega), if_neg (by omega), if_neg (by omega), if_pos rfl]
  · rw [newOrd_v, if_neg (by omega), if_neg (by omega), if_neg (by omega), if_pos rfl]
  · rw [newOrd_v, if_neg (by omega), if_neg (by omega), if_pos rfl]
  · rw [newOrd_v, if_neg (by omega), if_pos rfl]
  · rw [newOrd_v, if_pos rfl]
end Tk
theorem od_5 (s : Nat → Int32) (d j : Nat) : od s d j = s (465 + 6 * d + j) := rfl
section TkR
variable {V : gh_V} {g : gh_G} {S l m N n0 n1 D q : Nat} {s s1 s0 : Nat → Int32} {F : Nat → UInt32} {P : Nat → Option Nat} {kx pw : Nat → Nat} {nx : Int32}
/-- the parts that an order leaves alone -/
theorem tk_V {I : Nat → Int32} {A : Nat → Nat → Int32} (h : ∀ j, (j < 163 ∨ 525 ≤ j) → s1 j = s j) (hV : st_V s I A) : st_V s1 I A := hV.cg (fun j hj => h j (by omega)) (fun p hp => h _ (by omega)) (fun j a _ => h j (by omega))
theorem tk_de {ds : Nat → Nat} {x y u v w : Int32} (hD : D < 10) (hn : s 464 = nI D) (hs : s0 = newOrd s D x y u v w) (ha : ag9 s0 D s1) (hA : al_P V S 13 g l (D + 1) (upd9 ds D q)) (hx : ∀ j, j < D → de1 g S s j (ds j)) (hq : g q = some ((S, 6, D), oo 4 [.int x, .int y, .int v, .int w, .int (od s1 D 2), .int (od s1 D 5)])) : de_P V g S l s1 := by
  have e1 : nD s1 = D + 1 := by rw [nD_cg (ha.o (by omega) hD), hs, newOrd_n hn hD]
  obtain ⟨d0, d1, d2, d3, d4, d5⟩ := newOrd_d (s := s) (D := D) (x := x) (y := y) (u := u) (v := v) (w := w)
  rw [← hs] at d0 d1 d2 d3 d4 d5
  refine ⟨upd9 ds D q, by rw [e1]; exact hA, fun j hj => ?_⟩
  rw [e1] at hj
  by_cases e : j = D
  · rw [e, upd9_self]
    unfold de1
    rw [ha.od hD (by omega) (by omega), ha.od hD (by omega) (by omega), ha.od hD (by omega) (by omega), ha.od hD (by omega) (by omega), d0, d1, d3, d4]
    exact hq
  · rw [upd9_ne _ e]
    have hod : ∀ i, i < 6 → od s1 j i = od s j i := fun i hi => by
      rw [ha.od (by omega) hi (by omega), hs]
      exact newOrd_o (by omega)
    unfold de1
    rw [hod 0 (by omega), hod 1 (by omega), hod 2 (by omega), hod 3 (by omega), hod 4 (by omega), hod 5 (by omega)]
    exact hx j (by omega)
end TkR
set_option maxRecDepth 100000

set_option maxHeartbeats 1000000 in
set_option maxRecDepth 100000 in
theorem j_X2_takeOrder (l : Launch) (V : gh_V) (g0 : gh_G) (S N : Nat) (s : Nat → Int32) (F : Nat → UInt32) (hR : cw_R V g0 S s F N) (L D Pn : Nat) (hE : tw_wf s L D Pn) (hJ : jp s) (hK : jk s) (hD10 : nD s < 10) (dq9 k9 x9 u9 : Nat) (v9 z9 : Int32) (hu20 : u9 ≤ 20) (hq90 : g0 dq9 = some ((S, 6, nD s), oo 4 [.int (nI k9), .int (nI x9), .int v9, .int z9, .int (nI u9), .int 0])) : MV l yX2_takeOrder cX2_takeOrder 4 ({ frames := 7, cells := 1, slots := 15, locals := 161 } : Room) V [.ref S, .ref dq9] g0 (fun g1 => cw_R V g1 S (tk (newOrd s (nD s) (nI k9) (nI x9) (nI u9) v9 z9) (nD s) (nI k9) (nI x9) (nL s)) F N ∧ gh_fS S g0 g1) := by
  refine MG.of RX2 (by decide) rfl (Nat.le_of_ble_eq_true rfl) (fun pp ee s9 mm args below meth c ls hC hg hr hlk hnm hl => ?_)
  have hx := hC.1.1
  have hb := hC.1.2.1
  have hml := hC.1.2.2.1
  have hown := hC.1.2.2.2.1
  have hts := hC.1.2.2.2.2
  have hl : lv_has ls 4 [(0, .ref S), (1, .ref dq9)] := hl
  obtain ⟨g, hg, hgg⟩ : ∃ g, gh_W V (gh_A g0 s9.heap.size) s9 g s9.heap [] ∧ g = g0 := ⟨g0, hg, rfl⟩
  obtain ⟨ad, I, A, P, kx, pw, n0, n1, hT, hV, hL, hD, hPc, hO, hG, hPl, hN⟩ := hR
  rw [← hgg] at hT hL hD hPc hO hG hPl
  have hF : gh_fS S g0 g := by rw [hgg]; exact gh_fS.rf
  have h12 := hJ.2.2.1
  have hDe : nD s = D := nD_of hE
  rw [hDe] at hD10
  have hn464 : s 464 = nI D := hE.2.1.1
  have hq9 := hq90
  rw [← hgg, hDe] at hq9
  obtain ⟨ds, hDl, hDf⟩ := hD
  obtain ⟨vs_hdc, hdc⟩ := hDl.c
  rw [hDe] at hDl hDf
  obtain ⟨s0, hs0⟩ : ∃ z, z = newOrd s D (nI k9) (nI x9) (nI u9) v9 z9 := ⟨_, rfl⟩
  obtain ⟨d0, d1, d2, d3, d4, d5⟩ := newOrd_d (s := s) (D := D) (x := nI k9) (y := nI x9) (u := nI u9) (v := v9) (w := z9)
  rw [← hs0] at d0 d1 d2 d3 d4 d5
  have hq9 : g dq9 = some ((S, 6, D), oo 4 [.int (nI k9), .int (nI x9), .int v9, .int z9, .int (od s0 D 2), .int (od s0 D 5)]) := by rw [d2, d5]; exact hq9
  refine lv_aload_n hx hb dX2_takeOrder_0 rfl (lv_at hl 0 rfl) ?_
  refine gh_get (v := .ref (ad 10)) hC hg hT.1 fX2_28_2 rfl dX2_takeOrder_1 ?_
  refine lv_aload_n hx hb dX2_takeOrder_4 rfl (lv_at hl 1 rfl) ?_
  refine gh_callFi hg (gh_runF (x := ⟨"java/util/List", "add", "(Ljava/lang/Object;)Z"⟩) (As := [.ref dq9]) (rest := []) hC hg (j_J2_add l V _ (ad 10) S 13 D 4 dq9 ds (C := "AnnealingLehr$Demand") rfl q4455 (fun i hi => ⟨_, _, (hDf i hi)⟩) (fun i hi t e h => by rw [(hDf i hi)] at h; cases h; exact fun u => absurd (show 6 = 13 from u.2) (by decide)) ⟨_, _, hq9, fun u => absurd (show 6 = 13 from u.2) (by decide)⟩ hDl (by omega)) 1 (lw_F q1145 q1151 q1149 q107 q1153) hdc rfl (by decide +kernel) q1152 q1150 q1148 hdF_List_add_1 ⟨Nat.le_of_ble_eq_true rfl, Nat.le_of_ble_eq_true rfl⟩ rfl hl.1 rfl (Nat.le_of_ble_eq_true rfl) dX2_takeOrder_5 ⟨Nat.le_of_ble_eq_true rfl, Nat.le_of_ble_eq_true rfl⟩) (fun r_1 g H locs hg hp => ?_)
  obtain ⟨-, hDl2, hF9⟩ := hp
  have hfw9 : gh_fw S [13] _ g := gh_fw.fk hF9
  have hf9 := hfw9.v
  have hq9 : g dq9 = some ((S, 6, D), oo 4 [.int (nI k9), .int (nI x9), .int v9, .int z9, .int (od s0 D 2), .int (od s0 D 5)]) := hfw9 _ _ _ hq9 (fun h9 => absurd (show 6 ∈ [13] from h9.2) (by decide))
  have hL : lo_P V g S (ad 9) s := hL.kp hf9 (by decide)
  have hPc : pc_P V g S P kx pw s F := hPc.kp hf9 (by decide)
  have hO : ot_P V g S (ad 11) P kx s n0 := hO.kp hf9 (by decide)
  have hG : go_P V g S (ad 12) s n1 := hG.kp hf9 (by decide)
  have hPl : pn_P V g S (ad 13) (I 3) s := hPl.kp hf9 (by decide)
  have hF : gh_fS S g0 g := hF.tr (hfw9.fS (by decide))
  have hDf : ∀ d, d < D → de1 g S s d (ds d) := fun d hd => (hDf d hd).kp hf9 (by decide)
  have hT : st_C V g S ad I A P := hT.kp hf9 (by decide)
  refine lv_pop hx hb dX2_takeOrder_10 rfl ?_
  refine lv_iconst (v := 0) hx hb dX2_takeOrder_11 (by decide) ?_
  refine lv_istore_n (lv' := [(2, .int 0), (0, .ref S), (1, .ref dq9)]) hx hb dX2_takeOrder_12 rfl hl (by decide) rfl (fun ls hl => ?_)
  obtain ⟨es, la, lw, fa, hAL, hLo⟩ := hL
  obtain ⟨vs_hlc, hlc⟩ := hAL.c
  have hLo : ∀ k, k < nL s → lo1 V g S s0 k (es k) (la k) (lw k) (fa k) := fun k hk => (hLo k hk).cg (hJ.2.2.2 k hk) (fun j hj => by rw [hs0]; exact newOrd_o (by omega))
  refine gh_loop (N := (nL s)) (X := fun i_2 g ls => (st_C V g S ad I A P) ∧ (pc_P V g S P kx pw s F) ∧ (ot_P V g S (ad 11) P kx s n0) ∧ (go_P V g S (ad 12) s n1) ∧ (pn_P V g S (ad 13) (I 3) s) ∧ (gh_fS S g0 g) ∧ (∀ d, d < D → de1 g S s d (ds d)) ∧ (al_P V S 13 g (ad 10) (D + 1) (upd9 ds D dq9)) ∧ (al_P V S 12 g (ad 9) (nL s) es) ∧ (g (ad 9) = some ((S, 12, 0), oo 12 vs_hlc)) ∧ (∀ k, k < nL s → lo1 V g S (tk s0 D (nI k9) (nI x9) i_2) k (es k) (la k) (lw k) (fa k)) ∧ (g dq9 = some ((S, 6, D), oo 4 [.int (nI k9), .int (nI x9), .int v9, .int z9, .int (od (tk s0 D (nI k9) (nI x9) i_2) D 2), .int (od (tk s0 D (nI k9) (nI x9) i_2) D 5)])) ∧ (ag9 s0 D (tk s0 D (nI k9) (nI x9) i_2)) ∧ (∃ n, n ≤ 20 ∧ od (tk s0 D (nI k9) (nI x9) i_2) D 2 = nI n) ∧ lv_has ls 4 [(0, .ref S), (1, .ref dq9), (2, .int (nI i_2))]) ?_ ?_ 0 (by omega) hg ⟨hT, hPc, hO, hG, hPl, hF, hDf, hDl2, hAL, hlc, hLo, hq9, (fun _ _ _ _ => rfl), ⟨u9, by omega, d2⟩, lv_sub hl [1, 2, 0] rfl⟩
  · intro g H locs ls hg hX
    obtain ⟨hT, hPc, hO, hG, hPl, hF, hDf, hDl2, hAL, hlc, hLo, hq9, hag, hwn, hl⟩ := hX
    refine lv_iload_n hx hb dX2_takeOrder_13 rfl (lv_at hl 2 rfl) ?_
    refine lv_aload_n hx hb dX2_takeOrder_14 rfl (lv_at hl 0 rfl) ?_
    refine gh_get (v := .ref (ad 9)) hC hg hT.1 fX2_24_2 rfl dX2_takeOrder_15 ?_
    refine gh_callFi hg (gh_runF (x := ⟨"java/util/List", "size", "()I"⟩) (As := []) (rest := [.int (nI (nL s))]) hC hg (j_J2_size l V _ (ad 9) S 12 (nL s) es hAL) 0 (lw_F q1359 q1321 q1319 q107 q1323) hlc rfl (by decide +kernel) q1322 q1320 q1148 hdF_List_size_0 ⟨Nat.le_of_ble_eq_true rfl, Nat.le_of_ble_eq_true rfl⟩ rfl hl.1 rfl (Nat.le_of_ble_eq_true rfl) dX2_takeOrder_18 ⟨Nat.le_of_ble_eq_true rfl, Nat.le_of_ble_eq_true rfl⟩) (fun r_3 g H locs hg hp => ?_)
    obtain ⟨hp, hq⟩ := hp
    replace hp : (nI (nL s)) = r_3 := hp.symm
    subst hp
    rw [← hq] at hT hPc hO hG hPl hF hDf hDl2 hAL hLo hlc hq9
    try rw [← hq] at hgg
    refine lv_icmp_ge (tgt := 94) hx hb dX2_takeOrder_23 (by decide) (fun _ => ?_) (fun c_4 => (absurd ((nx_le rfl rfl (by omega) (by omega)).mpr (by omega)) c_4))
    obtain ⟨s1, hs1⟩ : ∃ z, z = (tk s0 D (nI k9) (nI x9) (nL s)) := ⟨_, rfl⟩
    rw [← hs1] at hLo hq9 hag hwn
    have hL1 : nL s1 = nL s := by rw [hag.nL hD10, hs0]; exact nL_cg (newOrd_o (by omega))
    have hag1 : ∀ j, (j < 164 ∨ 525 ≤ j) → s1 j = s j := fun j hj => by rw [hag.o (by omega) hD10, hs0]; exact newOrd_o (by omega)
    have hlt1 : ∀ k i, k < 12 → i < 25 → i ≠ 3 → i ≠ 4 → lt s1 k i = lt s k i := fun k i a b c d => by rw [hag.lt a b c d hD10, hs0]; exact newOrd_o (by omega)
    exact gh_retv hC hg hr hlk (⟨by rw [hDe, ← hs0, ← hs1]; exact ⟨ad, I, A, P, _, _, _, _, hT, (tk_V (fun j hj => hag1 j (by omega)) hV), ⟨es, la, lw, fa, by rw [hL1]; exact hAL, by rw [hL1]; exact hLo⟩, (tk_de hD10 hn464 hs0 hag hDl2 hDf hq9), (hPc.cg (fun _ _ => rfl) (fun p i hp hi => hag1 _ (by omega)) (fun p i hp ho hi => hlt1 _ _ (by have := (hJ.1 p hp ho).1; omega) (by omega) (by omega) (by omega))), (hO.cg (fun p i hp hi => hag1 _ (by omega))), (hG.cg h12 hL1 (fun k n hk hn => hlt1 _ _ (by omega) (by omega) (by omega) (by omega))), (hPl.cg (fun j h => hag1 j (by omega))), hN⟩, hF⟩) dX2_takeOrder_94 (Nat.le_of_ble_eq_true rfl) (Nat.le_of_ble_eq_true rfl)
  · intro i_2 hi13 ih13 g H locs ls hg hX
    obtain ⟨hT, hPc, hO, hG, hPl, hF, hDf, hDl2, hAL, hlc, hLo, hq9, hag, hwn, hl⟩ := hX
    refine lv_iload_n hx hb dX2_takeOrder_13 rfl (lv_at hl 2 rfl) ?_
    refine lv_aload_n hx hb dX2_takeOrder_14 rfl (lv_at hl 0 rfl) ?_
    refine gh_get (v := .ref (ad 9)) hC hg hT.1 fX2_24_2 rfl dX2_takeOrder_15 ?_
    refine gh_callFi hg (gh_runF (x := ⟨"java/util/List", "size", "()I"⟩) (As := []) (rest := [.int (nI i_2)]) hC hg (j_J2_size l V _ (ad 9) S 12 (nL s) es hAL) 0 (lw_F q1359 q1321 q1319 q107 q1323) hlc rfl (by decide +kernel) q1322 q1320 q1148 hdF_List_size_0 ⟨Nat.le_of_ble_eq_true rfl, Nat.le_of_ble_eq_true rfl⟩ rfl hl.1 rfl (Nat.le_of_ble_eq_true rfl) dX2_takeOrder_18 ⟨Nat.le_of_ble_eq_true rfl, Nat.le_of_ble_eq_true rfl⟩) (fun r_5 g H locs hg hp => ?_)
    obtain ⟨hp, hq⟩ := hp
    replace hp : (nI (nL s)) = r_5 := hp.symm
    subst hp
    rw [← hq] at hT hPc hO hG hPl hF hDf hDl2 hAL hLo hlc hq9
    try rw [← hq] at hgg
    refine lv_icmp_ge (tgt := 94) hx hb dX2_takeOrder_23 (by decide) (fun c_6 => (absurd ((nx_le rfl rfl (by omega) (by omega)).mp c_6) (by omega))) (fun _ => ?_)
    refine lv_aload_n hx hb dX2_takeOrder_26 rfl (lv_at hl 0 rfl) ?_
    refine gh_get (v := .ref (ad 9)) hC hg hT.1 fX2_24_2 rfl dX2_takeOrder_27 ?_
    refine lv_iload_n hx hb dX2_takeOrder_30 rfl (lv_at hl 2 rfl) ?_
    refine gh_callFq hg (gh_runF (x := ⟨"java/util/List", "get", "(I)Ljava/lang/Object;"⟩) (As := [.int (nI i_2)]) (rest := []) hC hg (j_J2_get l V _ (ad 9) S 12 (nL s) es hAL (nI i_2) i_2 rfl (by omega)) 1 (lw_F q1361 q1338 q1336 q107 q1340) hlc rfl (by decide +kernel) q1339 q1337 q1148 hdF_List_get_1 ⟨Nat.le_of_ble_eq_true rfl, Nat.le_of_ble_eq_true rfl⟩ rfl hl.1 rfl (Nat.le_of_ble_eq_true rfl) dX2_takeOrder_31 ⟨Nat.le_of_ble_eq_true rfl, Nat.le_of_ble_eq_true rfl⟩) (fun r_7 g H locs hg hp => ?_)
    obtain ⟨hp, hq⟩ := hp
    subst hp
    rw [← hq] at hT hPc hO hG hPl hF hDf hDl2 hAL hLo hlc hq9
    try rw [← hq] at hgg
    refine W.eq (g2 := F0 mm 36 ls [.ref (es i_2)]) rfl ?_
    have hlq0 := (hLo i_2 hi13).1
    refine gh_castS hC hg hlq0 rfl q1362 dX2_takeOrder_36 ?_
    refine lv_astore_n (lv' := [(3, .ref (es i_2)), (0, .ref S), (1, .ref dq9), (2, .int (nI i_2))]) hx hb dX2_takeOrder_39 rfl hl (by decide) rfl (fun ls hl => ?_)
    obtain ⟨nw, hnw, hwe⟩ := hwn
    refine gh_while (α := (Nat → Int32) × Nat) (μ := fun q => q.2) (X := fun q9 g ls => ∃ sc n, q9 = (sc, n) ∧ (st_C V g S ad I A P) ∧ (pc_P V g S P kx pw s F) ∧ (ot_P V g S (ad 11) P kx s n0) ∧ (go_P V g S (ad 12) s n1) ∧ (pn_P V g S (ad 13) (I 3) s) ∧ (gh_fS S g0 g) ∧ (∀ d, d < D → de1 g S s d (ds d)) ∧ (al_P V S 13 g (ad 10) (D + 1) (upd9 ds D dq9)) ∧ (al_P V S 12 g (ad 9) (nL s) es) ∧ (g (ad 9) = some ((S, 12, 0), oo 12 vs_hlc)) ∧ (∀ k, k < nL s → lo1 V g S sc k (es k) (la k) (lw k) (fa k)) ∧ g dq9 = some ((S, 6, D), oo 4 [.int (nI k9), .int (nI x9), .int v9, .int z9, .int (od sc D 2), .int (od sc D 5)]) ∧ ag9 s0 D sc ∧ od sc D 2 = nI n ∧ n ≤ 20 ∧ tkI i_2 D (nI k9) (nI x9) n sc = (tk s0 D (nI k9) (nI x9) (i_2 + 1)) ∧ lv_has ls 4 [(0, .ref S), (1, .ref dq9), (2, .int (nI i_2)), (3, .ref (es i_2))]) ?_ ((tk s0 D (nI k9) (nI x9) i_2), nw) hg ⟨(tk s0 D (nI k9) (nI x9) i_2), nw, rfl, hT, hPc, hO, hG, hPl, hF, hDf, hDl2, hAL, hlc, hLo, hq9, hag, hwe, hnw, (by rw [tk, hwe, nI_clamp (by omega)]), lv_sub hl [1, 2, 3, 0] rfl⟩
    intro q9 ih40 g H locs ls hg hX
    obtain ⟨sc, n, rfl, hX40_0, hX40_1, hX40_2, hX40_3, hX40_4, hX40_5, hX40_6, hX40_7, hX40_8, hX40_9, hX40_10, hX40_11, hX40_12, hX40_13, hX40_14, hX40_15, hl⟩ := hX
    have hT := hX40_0
    have hPc := hX40_1
    have hO := hX40_2
    have hG := hX40_3
    have hPl := hX40_4
    have hF := hX40_5
    have hDf := hX40_6
    have hDl2 := hX40_7
    have hAL := hX40_8
    have hlc := hX40_9
    have hLo := hX40_10
    have hq9 := hX40_11
    have hag := hX40_12
    have hwe := hX40_13
    have hnn := hX40_14
    have htk := hX40_15
    have hk12 : i_2 < 12 := by omega
    obtain ⟨hlq, hla, hlw, hlf⟩ := hLo i_2 hi13
    have hLx : ∀ j, j < nL s → j ≠ i_2 → lo1 V g S sc j (es j) (la j) (lw j) (fa j) := fun j h _ => hLo j h
    have hkd : lt sc i_2 0 = nI (kd sc i_2) := by have e9 : lt sc i_2 0 = lt s i_2 0 := by { rw [hag.lt hk12 (by omega) (by omega) (by omega) hD10, hs0]; exact newOrd_o (by omega) }; unfold kd; rw [e9]; exact hK _ hi13
    refine lv_aload_n hx hb dX2_takeOrder_40 rfl (lv_at hl 3 rfl) ?_
    refine gh_get (v := .int (lt sc i_2 3)) hC hg hlq fX2_214_3 rfl dX2_takeOrder_41 ?_
    refine lv_if_le (tgt := 88) hx hb dX2_takeOrder_44 (by decide) (fun c_8 => ?_) (fun c_8 => ?_)
    · skip
      have e8 : sc = (tk s0 D (nI k9) (nI x9) (i_2 + 1)) := (tkI_stop n (fun h9 => h9.2.2.1 c_8)).symm.trans htk
      have hLo : ∀ k, k < nL s → lo1 V g S sc k (es k) (la k) (lw k) (fa k) := fun j hj => by by_cases e : j = i_2; (rw [e]; exact ⟨hlq, hla, hlw, hlf⟩); exact hLx j hj e
      rw [e8] at hLo hq9 hag hwe
      refine lv_iinc (v := (nI (i_2 + 1))) (lv' := [(2, .int (nI (i_2 + 1))), (0, .ref S), (1, .ref dq9), (3, .ref (es i_2))]) hx hb dX2_takeOrder_88 hl (k := 2) rfl (nx_iinc rfl) (by decide) rfl (fun ls hl => ?_)
      refine lv_goto (tgt := 13) hx hb dX2_takeOrder_91 (by decide) ?_
      exact ih13 _ _ _ _ hg ⟨hT, hPc, hO, hG, hPl, hF, hDf, hDl2, hAL, hlc, hLo, hq9, hag, ⟨n, hnn, hwe⟩, lv_sub hl [1, 2, 0] rfl⟩
    refine lv_aload_n hx hb dX2_takeOrder_47 rfl (lv_at hl 1 rfl) ?_
    refine lv_aload_n hx hb dX2_takeOrder_48 rfl (lv_at hl 3 rfl) ?_
    refine gh_getr (v := .ref (lw i_2)) hC hg hlq rfX2_196_3 rfl dX2_takeOrder_49 ?_
    refine gh_calli hg (gh_runV (As := [.ref (lw i_2)]) (rest := []) hC hg (j_X5_wants l V _ dq9 (nI k9) (nI x9) v9 z9 (od sc D 2) (od sc D 5) (S, 6, D) hq9 (lw i_2) (kd sc i_2) (lt sc i_2 1) hlw) 1 (lw_V q2816 q2817 q2818 q158 q2819) hq9 rfl hd_X5_wants ⟨Nat.le_of_ble_eq_true rfl, Nat.le_of_ble_eq_true rfl⟩ rfl hl.1 rfl (Nat.le_of_ble_eq_true rfl) dX2_takeOrder_52 ⟨Nat.le_of_ble_eq_true rfl, Nat.le_of_ble_eq_true rfl⟩) (fun r_9 g H locs hg hp => ?_)
    obtain ⟨hp, hq⟩ := hp
    replace hp : (if (od sc D 2) ≤ 0 then 0 else if (nI k9) = nI (kd sc i_2) then (if (nI x9) = (lt sc i_2 1) then 1 else 0) else 0) = r_9 := hp.symm
    subst hp
    rw [← hq] at hT hPc hO hG hPl hF hDf hDl2 hAL hlw hLx hlc hq9 hlq hla
    try rw [← hq] at hgg
    refine lv_if_eq (tgt := 88) hx hb dX2_takeOrder_55 (by decide) (fun c_10 => ?_) (fun c_10 => ?_)
    · skip
      have e8 : sc = (tk s0 D (nI k9) (nI x9) (i_2 + 1)) := (tkI_stop n (wt_no hkd c_10 rfl)).symm.trans htk
      have hLo : ∀ k, k < nL s → lo1 V g S sc k (es k) (la k) (lw k) (fa k) := fun j hj => by by_cases e : j = i_2; (rw [e]; exact ⟨hlq, hla, hlw, hlf⟩); exact hLx j hj e
      rw [e8] at hLo hq9 hag hwe
      refine lv_iinc (v := (nI (i_2 + 1))) (lv' := [(2, .int (nI (i_2 + 1))), (0, .ref S), (1, .ref dq9), (3, .ref (es i_2))]) hx hb dX2_takeOrder_88 hl (k := 2) rfl (nx_iinc rfl) (by decide) rfl (fun ls hl => ?_)
      refine lv_goto (tgt := 13) hx hb dX2_takeOrder_91 (by decide) ?_
      exact ih13 _ _ _ _ hg ⟨hT, hPc, hO, hG, hPl, hF, hDf, hDl2, hAL, hlc, hLo, hq9, hag, ⟨n, hnn, hwe⟩, lv_sub hl [1, 2, 0] rfl⟩
    have htc := wt_yes hkd c_10 rfl c_8
    refine lv_aload_n hx hb dX2_takeOrder_58 rfl (lv_at hl 3 rfl) ?_
    refine lv_dup hx hb dX2_takeOrder_59 rfl ?_
    refine gh_get (v := .int (lt sc i_2 3)) hC hg hlq fX2_214_3 rfl dX2_takeOrder_60 ?_
    refine lv_iconst (v := 1) hx hb dX2_takeOrder_63 (by decide) ?_
    refine lv_isub hx hb dX2_takeOrder_64 ?_
    refine gh_put (v := .int ((lt sc i_2 3) - 1)) hC hg hlq fX2_214_3 rfl rfl (Nat.le_of_ble_eq_true rfl) dX2_takeOrder_65 (fun g H locs hg hw hn => ?_)
    have hlc : g (ad 9) = some ((S, 12, 0), oo 12 vs_hlc) := (hn _ (gh_neK hlc hlq rfl)).trans hlc
    have hq9 : g dq9 = some ((S, 6, D), oo 4 [.int (nI k9), .int (nI x9), .int v9, .int z9, .int (od sc D 2), .int (od sc D 5)]) := (hn _ (gh_neK hq9 hlq rfl)).trans hq9
    have hla : g (la i_2) = some ((S, 5, i_2), ai V 0 5 (fa i_2)) := (hn _ (gh_neK hla hlq rfl)).trans hla
    have hf9 : gh_fv S [4] _ g := (gh_fw.st hlq hn).v
    have hPc : pc_P V g S P kx pw s F := hPc.kp hf9 (by decide)
    have hO : ot_P V g S (ad 11) P kx s n0 := hO.kp hf9 (by decide)
    have hG : go_P V g S (ad 12) s n1 := hG.kp hf9 (by decide)
    have hPl : pn_P V g S (ad 13) (I 3) s := hPl.kp hf9 (by decide)
    have hF : gh_fS S g0 g := hF.set hlq (by decide) hn
    have hDf : ∀ d, d < D → de1 g S s d (ds d) := fun d hd => (hDf d hd).kp hf9 (by decide)
    have hDl2 : al_P V S 13 g (ad 10) (D + 1) (upd9 ds D dq9) := hf9.al (by decide) hDl2
    have hAL : al_P V S 12 g (ad 9) (nL s) es := hf9.al (by decide) hAL
    have hlw : wa_P V g (lw i_2) (kd sc i_2) (lt sc i_2 1) := hf9.wa (by decide) hlw
    have hLx : ∀ j, j < nL s → j ≠ i_2 → lo1 V g S sc j (es j) (la j) (lw j) (fa j) := fun j h1 h2 => (hLx j h1 h2).ow hlq h2 (by decide) hn
    have hT : st_C V g S ad I A P := hT.ne hlq (fun h9 => absurd (show 4 = 0 from h9.2) (by decide)) hn
    have hlq : g (es i_2) = some ((S, 4, i_2), oo 3 [.ref (lw i_2), .ref (la i_2), .int (lt sc i_2 2), .int ((lt sc i_2 3) - 1), .int (lt sc i_2 4)]) := hw
    refine lv_aload_n hx hb dX2_takeOrder_68 rfl (lv_at hl 3 rfl) ?_
    refine lv_dup hx hb dX2_takeOrder_69 rfl ?_
    refine gh_get (v := .int (lt sc i_2 4)) hC hg hlq fX2_221_3 rfl dX2_takeOrder_70 ?_
    refine lv_aload_n hx hb dX2_takeOrder_73 rfl (lv_at hl 1 rfl) ?_
    refine lv_aload_n hx hb dX2_takeOrder_74 rfl (lv_at hl 0 rfl) ?_
    refine gh_get (v := .int (I 0)) hC hg hT.1 fX2_82_2 rfl dX2_takeOrder_75 ?_
    refine W.eq (g2 := F0 mm 78 ls [.int (sc 0), .ref dq9, .int (lt sc i_2 4), .ref (es i_2)]) (by rw [(hV.1.trans (show s 0 = sc 0 from by rw [hag.o (by omega) hD10, hs0]; exact (newOrd_o (by omega)).symm))] <;> rfl) ?_
    refine gh_calli hg (gh_runV (As := [.int (sc 0)]) (rest := [.int (lt sc i_2 4), .ref (es i_2)]) hC hg (j_X5_take l V _ dq9 (nI k9) (nI x9) v9 z9 (od sc D 2) (od sc D 5) (S, 6, D) hq9 (sc 0)) 1 (lw_V q2825 q2826 q2827 q158 q2828) hq9 rfl hd_X5_take ⟨Nat.le_of_ble_eq_true rfl, Nat.le_of_ble_eq_true rfl⟩ rfl hl.1 rfl (Nat.le_of_ble_eq_true rfl) dX2_takeOrder_78 ⟨Nat.le_of_ble_eq_true rfl, Nat.le_of_ble_eq_true rfl⟩) (fun r_11 g H locs hg hp => ?_)
    obtain ⟨hp, hnew9, hn⟩ := hp
    subst hp
    have hw := hnew9
    have hlc : g (ad 9) = some ((S, 12, 0), oo 12 vs_hlc) := (hn _ (gh_neK hlc hq9 rfl)).trans hlc
    have hlq : g (es i_2) = some ((S, 4, i_2), oo 3 [.ref (lw i_2), .ref (la i_2), .int (lt sc i_2 2), .int ((lt sc i_2 3) - 1), .int (lt sc i_2 4)]) := (hn _ (gh_neK hlq hq9 rfl)).trans hlq
    have hla : g (la i_2) = some ((S, 5, i_2), ai V 0 5 (fa i_2)) := (hn _ (gh_neK hla hq9 rfl)).trans hla
    have hf9 : gh_fv S [6] _ g := (gh_fw.st hq9 hn).v
    have hPc : pc_P V g S P kx pw s F := hPc.kp hf9 (by decide)
    have hO : ot_P V g S (ad 11) P kx s n0 := hO.kp hf9 (by decide)
    have hG : go_P V g S (ad 12) s n1 := hG.kp hf9 (by decide)
    have hPl : pn_P V g S (ad 13) (I 3) s := hPl.kp hf9 (by decide)
    have hF : gh_fS S g0 g := hF.set hq9 (by decide) hn
    have hDf : ∀ d, d < D → de1 g S s d (ds d) := fun d hd => (hDf d hd).ow hq9 (by omega) hn
    have hDl2 : al_P V S 13 g (ad 10) (D + 1) (upd9 ds D dq9) := hf9.al (by decide) hDl2
    have hAL : al_P V S 12 g (ad 9) (nL s) es := hf9.al (by decide) hAL
    have hlw : wa_P V g (lw i_2) (kd sc i_2) (lt sc i_2 1) := hf9.wa (by decide) hlw
    have hLx : ∀ j, j < nL s → j ≠ i_2 → lo1 V g S sc j (es j) (la j) (lw j) (fa j) := fun j h1 h2 => (hLx j h1 h2).kp hf9 (by decide)
    have hT : st_C V g S ad I A P := hT.ne hq9 (fun h9 => absurd (show 6 = 0 from h9.2) (by decide)) hn
    have hq9 : g dq9 = some ((S, 6, D), oo 4 [.int (nI k9), .int (nI x9), .int v9, .int z9, .int ((od sc D 2) - 1), .int ((od sc D 5) + (if (sc 0) ≤ v9 then z9 else z9 / 2))]) := hw
    refine lv_iadd hx hb dX2_takeOrder_81 ?_
    refine gh_put (v := .int ((lt sc i_2 4) + (if (sc 0) ≤ v9 then z9 else z9 / 2))) hC hg hlq fX2_221_3 rfl rfl (Nat.le_of_ble_eq_true rfl) dX2_takeOrder_82 (fun g H locs hg hw hn => ?_)
    have hlc : g (ad 9) = some ((S, 12, 0), oo 12 vs_hlc) := (hn _ (gh_neK hlc hlq rfl)).trans hlc
    have hq9 : g dq9 = some ((S, 6, D), oo 4 [.int (nI k9), .int (nI x9), .int v9, .int z9, .int ((od sc D 2) - 1), .int ((od sc D 5) + (if (sc 0) ≤ v9 then z9 else z9 / 2))]) := (hn _ (gh_neK hq9 hlq rfl)).trans hq9
    have hla : g (la i_2) = some ((S, 5, i_2), ai V 0 5 (fa i_2)) := (hn _ (gh_neK hla hlq rfl)).trans hla
    have hf9 : gh_fv S [4] _ g := (gh_fw.st hlq hn).v
    have hPc : pc_P V g S P kx pw s F := hPc.kp hf9 (by decide)
    have hO : ot_P V g S (ad 11) P kx s n0 := hO.kp hf9 (by decide)
    have hG : go_P V g S (ad 12) s n1 := hG.kp hf9 (by decide)
    have hPl : pn_P V g S (ad 13) (I 3) s := hPl.kp hf9 (by decide)
    have hF : gh_fS S g0 g := hF.set hlq (by decide) hn
    have hDf : ∀ d, d < D → de1 g S s d (ds d) := fun d hd => (hDf d hd).kp hf9 (by decide)
    have hDl2 : al_P V S 13 g (ad 10) (D + 1) (upd9 ds D dq9) := hf9.al (by decide) hDl2
    have hAL : al_P V S 12 g (ad 9) (nL s) es := hf9.al (by decide) hAL
    have hlw : wa_P V g (lw i_2) (kd sc i_2) (lt sc i_2 1) := hf9.wa (by decide) hlw
    have hLx : ∀ j, j < nL s → j ≠ i_2 → lo1 V g S sc j (es j) (la j) (lw j) (fa j) := fun j h1 h2 => (hLx j h1 h2).ow hlq h2 (by decide) hn
    have hT : st_C V g S ad I A P := hT.ne hlq (fun h9 => absurd (show 4 = 0 from h9.2) (by decide)) hn
    have hlq : g (es i_2) = some ((S, 4, i_2), oo 3 [.ref (lw i_2), .ref (la i_2), .int (lt sc i_2 2), .int ((lt sc i_2 3) - 1), .int ((lt sc i_2 4) + (if (sc 0) ≤ v9 then z9 else z9 / 2))]) := hw
    refine lv_goto (tgt := 40) hx hb dX2_takeOrder_85 (by decide) ?_
    have hn0 := wants_pos hwe htc.2.2.2
    have hcn : coinsN sc D = (if sc 0 ≤ v9 then z9 else z9 / 2) := by unfold coinsN; rw [hag.od hD10 (i := 3) (by omega) (by omega), hag.od hD10 (i := 4) (by omega) (by omega), d3, d4]
    have hsc3 := sc_3 (s := sc) (d := D) hk12 hD10
    have hsc4 := sc_4 (s := sc) (d := D) hk12 hD10
    have hscw := sc_w (s := sc) (d := D) hk12
    have hscp := sc_p (s := sc) (d := D) hk12 hD10
    have hsco := @sc_lt sc D i_2 hk12 hD10
    have hags := ag9_st hag hk12 hD10
    have htk2 := (tkI_go hn0 htc).symm.trans htk
    rw [hcn] at hsc4 hscp
    obtain ⟨sd, hsd⟩ : ∃ z, z = dlv (lts sc i_2 3 (lt sc i_2 3 + (-1))) i_2 D := ⟨_, rfl⟩
    rw [← hsd] at hsc3 hsc4 hscw hscp hsco hags htk2
    have hLsc : nL sc = nL s := by rw [hag.nL hD10, hs0]; exact nL_cg (newOrd_o (by omega))
    have h20c : ∀ j, j < nL sc → ldN sc j ≤ 20 := fun j hj => by have e9 : lt sc j 2 = lt s j 2 := by { rw [hag.lt (by omega) (by omega) (by omega) (by omega) hD10, hs0]; exact newOrd_o (by omega) }; unfold ldN; rw [e9]; exact hJ.2.2.2 j (by omega)
    have hLsd : nL sd = nL sc := by rw [hLsc, hags.nL hD10, hs0]; exact nL_cg (newOrd_o (by omega))
    have hLo2 := lo_fld (s1 := sd) h20c (by omega) hLsd (fun j hj hne => hLx j (by omega) hne) (fun j i hj hi hne => hsco (by omega) hi hne) (by rw [hsc3, hsc4]; exact hlq) hla hlw hlf
    rw [hLsd, hLsc] at hLo2
    exact ih40 (sd, n - 1) (by show n - 1 < n; omega) _ _ _ _ hg ⟨sd, (n - 1), rfl, hT, hPc, hO, hG, hPl, hF, hDf, hDl2, hAL, hlc, hLo2, (by rw [hscw, hscp]; exact hq9), hags, (by rw [hscw]; exact nx_sub (b := 1) hwe rfl (by omega)), (by omega), htk2, lv_sub hl [0, 1, 2, 3] rfl⟩
