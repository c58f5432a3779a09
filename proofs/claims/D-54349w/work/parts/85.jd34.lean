/-- shards are there or not; no piece on shards -/
def js (s : Nat → Int32) : Prop := (∀ p, p < 24 → pl s p 4 = 0 ∨ pl s p 4 = 1) ∧ ∀ p, p < 24 → oc s p → pl s p 4 = 0
def mRest (s : Nat → Int32) (fr i : Nat) : Int32 := if i = fr then zn s (i / 3) 2 - pl s i 3 else zn s (i / 3) 2
def mAcc (s : Nat → Int32) (fr : Nat) : Nat → Int32
  | 0 => 0
  | k + 1 => mAcc s fr k + (if 1 ≤ mRest s fr (fr + k) then mRest s fr (fr + k) else 1)
theorem mtg_n {s : Nat → Int32} {fr k : Nat} (hk : fr + k < 24) (h : ¬ zn s ((fr + k) / 3) 2 = 0) (hm : mtg s fr (fr + k) (24 - (fr + k)) (mAcc s fr k) = mtg s fr fr (24 - fr) 0) : mtg s fr (fr + (k + 1)) (24 - (fr + (k + 1))) (mAcc s fr (k + 1)) = mtg s fr fr (24 - fr) 0 := by
  rw [← hm, mtg_s hk h]; rfl
section Wy
variable {s : Nat → Int32} {p : Nat} {nx : Int32}
theorem wy_1 (h : pl s p 0 = -1) : why1 s p nx = 1 := if_pos h
theorem wy_2 (h : oc s p) (h2 : zn s (p / 3) 2 = 0) : why1 s p nx = 2 := (if_neg h).trans (if_pos h2)
theorem wy_3 (h : oc s p) (h2 : ¬ zn s (p / 3) 2 = 0) (h3 : ¬ zn s (p / 3) 2 ≤ pl s p 3 + 1) : why1 s p nx = 3 := (if_neg h).trans ((if_neg h2).trans (if_pos h3))
theorem wy_l (h : oc s p) (h2 : ¬ zn s (p / 3) 2 = 0) (h3 : zn s (p / 3) 2 ≤ pl s p 3 + 1) (h4 : p + 1 = 24) : why1 s p nx = 0 := (if_neg h).trans ((if_neg h2).trans ((if_neg (fun u => u h3)).trans (if_pos h4)))
theorem whyP_v (hp : p < 24) : ∃ nx, whyP s p = why1 s p nx := by
  unfold whyP
  generalize hm : 23 - p = m
  cases m with
  | zero => rw [show p = 23 by omega]; exact ⟨0, rfl⟩
  | succ m => rw [show p = 23 - (m + 1) by omega]; exact ⟨_, rfl⟩
theorem whyP_1 (hp : p < 24) (h : pl s p 0 = -1) : whyP s p = 1 := by
  obtain ⟨nx, e⟩ := whyP_v (s := s) hp
  rw [e]; exact wy_1 h
theorem whyP_o (hp : p < 24) (h : oc s p) : whyP s p = 0 ∨ 1 < whyP s p := by
  obtain ⟨nx, e⟩ := whyP_v (s := s) hp
  rw [e]
  unfold why1
  rw [if_neg h]
  repeat' split
  all_goals first | exact Or.inl rfl | (exact Or.inr (by decide))
theorem wy_m (h : oc s p) (h2 : ¬ zn s (p / 3) 2 = 0) (h3 : zn s (p / 3) 2 ≤ pl s p 3 + 1) (h4 : ¬ p + 1 = 24) : why1 s p nx = if pl s (p + 1) 0 = -1 then (if pl s (p + 1) 4 = 1 then 5 else 0) else if nx = 0 then 0 else 4 := (if_neg h).trans ((if_neg h2).trans ((if_neg (fun u => u h3)).trans (if_neg h4)))
theorem wy_4 (h : oc s p) (h2 : ¬ zn s (p / 3) 2 = 0) (h3 : zn s (p / 3) 2 ≤ pl s p 3 + 1) (h4 : p < 23) (h5 : 1 < whyP s (p + 1)) : why1 s p (whyP s (p + 1)) = 4 := by
  rw [wy_m h h2 h3 (by omega)]
  have h6 : oc s (p + 1) := fun u => by rw [whyP_1 (by omega) u] at h5; exact absurd h5 (by decide)
  rw [if_neg h6, if_neg (fun u => by rw [u] at h5; exact absurd h5 (by decide))]
theorem wy_5 (hj : js s) (h : oc s p) (h2 : ¬ zn s (p / 3) 2 = 0) (h3 : zn s (p / 3) 2 ≤ pl s p 3 + 1) (h4 : p < 23) (h5 : ¬ pl s (p + 1) 4 = 0) : why1 s p nx = 5 := by
  rw [wy_m h h2 h3 (by omega)]
  have h6 : pl s (p + 1) 0 = -1 := Decidable.byContradiction (fun u => h5 (hj.2 (p + 1) (by omega) u))
  rw [if_pos h6, if_pos ((hj.1 (p + 1) (by omega)).resolve_left h5)]
theorem wy_0 (h : oc s p) (h2 : ¬ zn s (p / 3) 2 = 0) (h3 : zn s (p / 3) 2 ≤ pl s p 3 + 1) (h4 : p < 23) (h5 : ¬ 1 < whyP s (p + 1)) (h6 : pl s (p + 1) 4 = 0) : why1 s p (whyP s (p + 1)) = 0 := by
  rw [wy_m h h2 h3 (by omega)]
  by_cases c : pl s (p + 1) 0 = -1
  · rw [if_pos c, h6, if_neg (by decide)]
  · rw [if_neg c, if_pos ((whyP_o (by omega) c).resolve_right h5)]
theorem wyA_z {a : Nat → Int32} {i : Nat} (hi : i < 24) (ha : a (24 - i - 1) = 0) (hv : why1 s (24 - i - 1) (wyA s a i (24 - i - 1 + 1)) = 0) : wyA s a i = wyA s a (i + 1) := by
  rw [← wyA_s hi hv]
  funext j
  unfold upd
  by_cases e : j = 24 - i - 1
  · rw [if_pos e, e]
    unfold wyA
    rw [if_neg (by omega)]; exact ha
  · rw [if_neg e]
theorem wyA_n {a : Nat → Int32} {i : Nat} (hi : i < 24) (h0 : 0 < i) : wyA s a i (24 - i - 1 + 1) = whyP s (24 - i - 1 + 1) := if_pos ⟨by omega, by omega⟩
end Wy
theorem hup_all (s : Nat → Int32) : ∀ n x, x + n = 23 → x ≤ hup s x n ∧ hup s x n ≤ 23 ∧ (∀ i, x ≤ i → i < hup s x n → whyP s i = 4) ∧ ¬ whyP s (hup s x n) = 4
  | 0, x, h => by
    show x ≤ x ∧ x ≤ 23 ∧ (∀ i, x ≤ i → i < x → whyP s i = 4) ∧ ¬ whyP s x = 4
    refine ⟨Nat.le_refl _, by omega, fun i a b => by omega, ?_⟩
    rw [show x = 23 by omega]; exact whyP_23 s
  | n + 1, x, h => by
    obtain ⟨h1, h2, h3, h4⟩ := hup_all s n (x + 1) (by omega)
    show x ≤ (if whyP s x = 4 then hup s (x + 1) n else x) ∧ (if whyP s x = 4 then hup s (x + 1) n else x) ≤ 23 ∧ (∀ i, x ≤ i → i < (if whyP s x = 4 then hup s (x + 1) n else x) → whyP s i = 4) ∧ ¬ whyP s (if whyP s x = 4 then hup s (x + 1) n else x) = 4
    by_cases c : whyP s x = 4
    · rw [if_pos c]
      refine ⟨by omega, h2, fun i a b => ?_, h4⟩
      by_cases e : i = x
      · rw [e]; exact c
      · exact h3 i (by omega) b
    · rw [if_neg c]
      exact ⟨Nat.le_refl _, by omega, fun i a b => by omega, c⟩
set_option maxRecDepth 100000
theorem hd_X2_whyNotMoving : yX2_whyNotMoving.cls = RX2 ∧ yX2_whyNotMoving.cls ≠ "java/lang/invoke/MethodHandle" ∧ yX2_whyNotMoving.cls ≠ "java/lang/invoke/VarHandle" ∧ (parseMethodDescriptor yX2_whyNotMoving.desc).map (fun d => d.parameters.length) = some 0 := by decide +kernel
set_option maxHeartbeats 1000000 in
set_option maxRecDepth 100000 in
theorem j_X2_minutesToGo (l : Launch) (V : gh_V) (g0 : gh_G) (S : Nat) (ad : Nat → Nat) (I : Nat → Int32) (A : Nat → Nat → Int32) (P : Nat → Option Nat) (hT0 : st_C V g0 S ad I A P) (s : Nat → Int32) (hV : st_V s I A) (q9 p9 : Nat) (v1 v2 v3 v4 : Value) (t9 : gh_T) (hp24 : p9 < 24) (hqc : g0 q9 = some (t9, oo 5 [v1, v2, .int (nI p9), .int (pl s p9 3), v3, v4])) : MI l yX2_minutesToGo cX2_minutesToGo 6 (some .int) ({ frames := 1, cells := 0, slots := 0, locals := 20 } : Room) V [.ref S, .ref q9] g0 (fun r g1 => r = mtg s p9 p9 (24 - p9) 0 ∧ g1 = g0) := by
  refine MG.of RX2 (by decide) rfl (Nat.le_of_ble_eq_true rfl) (fun pp ee s9 mm args below meth c ls hC hg hr hlk hnm hl => ?_)
  have hx := hC.1.1
  have hb := hC.1.2.1
  have hml := hC.1.2.2.1
  have hown := hC.1.2.2.2.1
  have hts := hC.1.2.2.2.2
  have hl : lv_has ls 6 [(0, .ref S), (1, .ref q9)] := hl
  obtain ⟨g, hg, hgg⟩ : ∃ g, gh_W V (gh_A g0 s9.heap.size) s9 g s9.heap [] ∧ g = g0 := ⟨g0, hg, rfl⟩
  have hT := hT0
  rw [← hgg] at hT
  rw [← hgg] at hqc
  refine lv_iconst (v := 0) hx hb dX2_minutesToGo_0 (by decide) ?_
  refine lv_istore_n (lv' := [(2, .int 0), (0, .ref S), (1, .ref q9)]) hx hb dX2_minutesToGo_1 rfl hl (by decide) rfl (fun ls hl => ?_)
  refine lv_aload_n hx hb dX2_minutesToGo_2 rfl (lv_at hl 2 rfl) ?_
  refine gh_get (v := .int (nI p9)) hC hg hqc fX2_149_5 rfl dX2_minutesToGo_3 ?_
  refine lv_istore_n (lv' := [(3, .int (nI p9)), (2, .int 0), (0, .ref S), (1, .ref q9)]) hx hb dX2_minutesToGo_6 rfl hl (by decide) rfl (fun ls hl => ?_)
  refine gh_loop (N := (24 - p9)) (X := fun i_1 g ls => (st_C V g S ad I A P) ∧ (g q9 = some ((t9.1, t9.2.1, t9.2.2), oo 5 [v1, v2, .int (nI p9), .int (pl s p9 3), v3, v4])) ∧ (mtg s p9 (p9 + i_1) (24 - (p9 + i_1)) (mAcc s p9 i_1) = mtg s p9 p9 (24 - p9) 0) ∧ (g = g0) ∧ lv_has ls 6 [(0, .ref S), (1, .ref q9), (2, .int (mAcc s p9 i_1)), (3, .int (nI (p9 + i_1)))]) ?_ ?_ 0 (by omega) hg ⟨hT, hqc, rfl, hgg, lv_sub hl [2, 3, 1, 0] rfl⟩
  · intro g H locs ls hg hX
    obtain ⟨hT, hqc, hm9, hgg, hl⟩ := hX
    refine lv_iload_n hx hb dX2_minutesToGo_7 rfl (lv_at hl 3 rfl) ?_
    refine lv_bipush (v := 24) hx hb dX2_minutesToGo_8 (by decide) ?_
    refine lv_icmp_ge (tgt := 74) hx hb dX2_minutesToGo_10 (by decide) (fun _ => ?_) (fun c_2 => (absurd ((nx_le (show ((24 : Int32)) = nI 24 from rfl) rfl (by omega) (by omega)).mpr (by omega)) c_2))
    refine lv_iload_n hx hb dX2_minutesToGo_74 rfl (lv_at hl 2 rfl) ?_
    exact gh_reti hC hg hr hlk (⟨by rw [← hm9, show p9 + (24 - p9) = 24 by omega, Nat.sub_self]; rfl, hgg⟩) dX2_minutesToGo_75 (Nat.le_of_ble_eq_true rfl) (Nat.le_of_ble_eq_true rfl)
  · intro i_1 hi7 ih7 g H locs ls hg hX
    obtain ⟨hT, hqc, hm9, hgg, hl⟩ := hX
    have hi24 : p9 + i_1 < 24 := by omega
    refine lv_iload_n hx hb dX2_minutesToGo_7 rfl (lv_at hl 3 rfl) ?_
    refine lv_bipush (v := 24) hx hb dX2_minutesToGo_8 (by decide) ?_
    refine lv_icmp_ge (tgt := 74) hx hb dX2_minutesToGo_10 (by decide) (fun c_3 => (absurd ((nx_le (show ((24 : Int32)) = nI 24 from rfl) rfl (by omega) (by omega)).mp c_3) (by omega))) (fun _ => ?_)
    refine lv_aload_n hx hb dX2_minutesToGo_13 rfl (lv_at hl 0 rfl) ?_
    refine gh_get (v := .ref (ad 2)) hC hg hT.1 fX2_51_2 rfl dX2_minutesToGo_14 ?_
    refine lv_iload_n hx hb dX2_minutesToGo_17 rfl (lv_at hl 3 rfl) ?_
    refine gh_calli hg (gh_runS (As := [.int (nI (p9 + i_1))]) (rest := [.ref (ad 2)]) hC hg (j_X2_zoneOf l V _ (p9 + i_1) (by omega)) 1 (lw_S q2712 q2713 q104 q2714) hd_X2_zoneOf.2 ⟨Nat.le_of_ble_eq_true rfl, Nat.le_of_ble_eq_true rfl⟩ rfl hl.1 rfl (Nat.le_of_ble_eq_true rfl) dX2_minutesToGo_18 ⟨Nat.le_of_ble_eq_true rfl, Nat.le_of_ble_eq_true rfl⟩) (fun r_4 g H locs hg hp => ?_)
    obtain ⟨hp, hq⟩ := hp
    replace hp : (nI ((p9 + i_1) / 3)) = r_4 := hp.symm
    subst hp
    rw [← hq] at hT hqc
    try rw [← hq] at hgg
    refine gh_iald (n := 8) (f := (A 2)) hC hg hT.a2 rfl (by omega) (by omega) dX2_minutesToGo_21 ?_
    refine W.eq (g2 := F0 mm 22 ls [.int (zn s ((p9 + i_1) / 3) 2)]) (by rw [(hV.2.2.2.1 _ (by omega)).2.2.1] <;> rfl) ?_
    refine lv_istore (lv' := [(4, .int (zn s ((p9 + i_1) / 3) 2)), (0, .ref S), (1, .ref q9), (2, .int (mAcc s p9 i_1)), (3, .int (nI (p9 + i_1)))]) hx hb dX2_minutesToGo_22 hl (by decide) rfl (fun ls hl => ?_)
    refine lv_iload hx hb dX2_minutesToGo_24 (lv_at hl 0 rfl) ?_
    refine lv_if_ne (tgt := 31) hx hb dX2_minutesToGo_26 (by decide) (fun c_5 => ?_) (fun c_5 => ?_)
    · skip
      refine lv_iload_n hx hb dX2_minutesToGo_31 rfl (lv_at hl 4 rfl) ?_
      refine lv_aload_n hx hb dX2_minutesToGo_32 rfl (lv_at hl 2 rfl) ?_
      refine gh_get (v := .int (nI p9)) hC hg hqc fX2_149_5 rfl dX2_minutesToGo_33 ?_
      refine lv_icmp_ne (tgt := 49) hx hb dX2_minutesToGo_36 (by decide) (fun c_6 => ?_) (fun c_6 => ?_)
      · skip
        have c_6 : ¬ (p9 + i_1) = p9 := fun h9 => c_6 ((nx_eq rfl rfl (by omega) (by omega)).mpr h9)
        have hrs : mRest s p9 (p9 + i_1) = zn s ((p9 + i_1) / 3) 2 := if_neg (by omega)
        refine lv_iload hx hb dX2_minutesToGo_49 (lv_at hl 0 rfl) ?_
        refine W.eq (g2 := F0 mm 51 ls [.int (mRest s p9 (p9 + i_1))]) (by rw [hrs.symm] <;> rfl) ?_
        refine lv_istore (lv' := [(5, .int (mRest s p9 (p9 + i_1))), (4, .int (zn s ((p9 + i_1) / 3) 2)), (0, .ref S), (1, .ref q9), (2, .int (mAcc s p9 i_1)), (3, .int (nI (p9 + i_1)))]) hx hb dX2_minutesToGo_51 hl (by decide) rfl (fun ls hl => ?_)
        refine lv_iload_n hx hb dX2_minutesToGo_53 rfl (lv_at hl 4 rfl) ?_
        refine lv_iload hx hb dX2_minutesToGo_54 (lv_at hl 0 rfl) ?_
        refine lv_iconst (v := 1) hx hb dX2_minutesToGo_56 (by decide) ?_
        refine lv_icmp_ge (tgt := 64) hx hb dX2_minutesToGo_57 (by decide) (fun c_7 => ?_) (fun c_7 => ?_)
        · skip
          have hac : mAcc s p9 (i_1 + 1) = mAcc s p9 i_1 + mRest s p9 (p9 + i_1) := by show _ + (if _ then _ else _) = _; rw [if_pos c_7]
          refine lv_iload hx hb dX2_minutesToGo_64 (lv_at hl 0 rfl) ?_
          refine lv_iadd hx hb dX2_minutesToGo_66 ?_
          refine lv_istore_n (lv' := [(2, .int ((mAcc s p9 i_1) + (mRest s p9 (p9 + i_1)))), (5, .int (mRest s p9 (p9 + i_1))), (4, .int (zn s ((p9 + i_1) / 3) 2)), (0, .ref S), (1, .ref q9), (3, .int (nI (p9 + i_1)))]) hx hb dX2_minutesToGo_67 rfl hl (by decide) rfl (fun ls hl => ?_)
          refine lv_iinc (v := (nI ((p9 + i_1) + 1))) (lv' := [(3, .int (nI ((p9 + i_1) + 1))), (2, .int ((mAcc s p9 i_1) + (mRest s p9 (p9 + i_1)))), (5, .int (mRest s p9 (p9 + i_1))), (4, .int (zn s ((p9 + i_1) / 3) 2)), (0, .ref S), (1, .ref q9)]) hx hb dX2_minutesToGo_68 hl (k := 5) rfl (nx_iinc rfl) (by decide) rfl (fun ls hl => ?_)
          refine lv_goto (tgt := 7) hx hb dX2_minutesToGo_71 (by decide) ?_
          exact ih7 _ _ _ _ hg ⟨hT, hqc, (mtg_n hi24 c_5 hm9), hgg, (by rw [hac]; exact lv_sub hl [4, 5, 1, 0] rfl)⟩
        have hac : mAcc s p9 (i_1 + 1) = mAcc s p9 i_1 + 1 := by show _ + (if _ then _ else _) = _; rw [if_neg c_7]
        refine lv_iconst (v := 1) hx hb dX2_minutesToGo_60 (by decide) ?_
        refine lv_goto (tgt := 66) hx hb dX2_minutesToGo_61 (by decide) ?_
        refine lv_iadd hx hb dX2_minutesToGo_66 ?_
        refine lv_istore_n (lv' := [(2, .int ((mAcc s p9 i_1) + 1)), (5, .int (mRest s p9 (p9 + i_1))), (4, .int (zn s ((p9 + i_1) / 3) 2)), (0, .ref S), (1, .ref q9), (3, .int (nI (p9 + i_1)))]) hx hb dX2_minutesToGo_67 rfl hl (by decide) rfl (fun ls hl => ?_)
        refine lv_iinc (v := (nI ((p9 + i_1) + 1))) (lv' := [(3, .int (nI ((p9 + i_1) + 1))), (2, .int ((mAcc s p9 i_1) + 1)), (5, .int (mRest s p9 (p9 + i_1))), (4, .int (zn s ((p9 + i_1) / 3) 2)), (0, .ref S), (1, .ref q9)]) hx hb dX2_minutesToGo_68 hl (k := 5) rfl (nx_iinc rfl) (by decide) rfl (fun ls hl => ?_)
        refine lv_goto (tgt := 7) hx hb dX2_minutesToGo_71 (by decide) ?_
        exact ih7 _ _ _ _ hg ⟨hT, hqc, (mtg_n hi24 c_5 hm9), hgg, (by rw [hac]; exact lv_sub hl [4, 5, 1, 0] rfl)⟩
      have c_6 : (p9 + i_1) = p9 := (nx_eq rfl rfl (by omega) (by omega)).mp c_6
      have hrs : mRest s p9 (p9 + i_1) = zn s ((p9 + i_1) / 3) 2 - pl s p9 3 := by rw [show pl s p9 3 = pl s (p9 + i_1) 3 from congrArg (fun z => pl s z 3) (by omega)]; exact if_pos (by omega)
      refine lv_iload hx hb dX2_minutesToGo_39 (lv_at hl 0 rfl) ?_
      refine lv_aload_n hx hb dX2_minutesToGo_41 rfl (lv_at hl 2 rfl) ?_
      refine gh_get (v := .int (pl s p9 3)) hC hg hqc fX2_338_5 rfl dX2_minutesToGo_42 ?_
      refine lv_isub hx hb dX2_minutesToGo_45 ?_
      refine lv_goto (tgt := 51) hx hb dX2_minutesToGo_46 (by decide) ?_
      refine W.eq (g2 := F0 mm 51 ls [.int (mRest s p9 (p9 + i_1))]) (by rw [hrs.symm] <;> rfl) ?_
      refine lv_istore (lv' := [(5, .int (mRest s p9 (p9 + i_1))), (4, .int (zn s ((p9 + i_1) / 3) 2)), (0, .ref S), (1, .ref q9), (2, .int (mAcc s p9 i_1)), (3, .int (nI (p9 + i_1)))]) hx hb dX2_minutesToGo_51 hl (by decide) rfl (fun ls hl => ?_)
      refine lv_iload_n hx hb dX2_minutesToGo_53 rfl (lv_at hl 4 rfl) ?_
      refine lv_iload hx hb dX2_minutesToGo_54 (lv_at hl 0 rfl) ?_
      refine lv_iconst (v := 1) hx hb dX2_minutesToGo_56 (by decide) ?_
      refine lv_icmp_ge (tgt := 64) hx hb dX2_minutesToGo_57 (by decide) (fun c_8 => ?_) (fun c_8 => ?_)
      · skip
        have hac : mAcc s p9 (i_1 + 1) = mAcc s p9 i_1 + mRest s p9 (p9 + i_1) := by show _ + (if _ then _ else _) = _; rw [if_pos c_8]
        refine lv_iload hx hb dX2_minutesToGo_64 (lv_at hl 0 rfl) ?_
        refine lv_iadd hx hb dX2_minutesToGo_66 ?_
        refine lv_istore_n (lv' := [(2, .int ((mAcc s p9 i_1) + (mRest s p9 (p9 + i_1)))), (5, .int (mRest s p9 (p9 + i_1))), (4, .int (zn s ((p9 + i_1) / 3) 2)), (0, .ref S), (1, .ref q9), (3, .int (nI (p9 + i_1)))]) hx hb dX2_minutesToGo_67 rfl hl (by decide) rfl (fun ls hl => ?_)
        refine lv_iinc (v := (nI ((p9 + i_1) + 1))) (lv' := [(3, .int (nI ((p9 + i_1) + 1))), (2, .int ((mAcc s p9 i_1) + (mRest s p9 (p9 + i_1)))), (5, .int (mRest s p9 (p9 + i_1))), (4, .int (zn s ((p9 + i_1) / 3) 2)), (0, .ref S), (1, .ref q9)]) hx hb dX2_minutesToGo_68 hl (k := 5) rfl (nx_iinc rfl) (by decide) rfl (fun ls hl => ?_)
        refine lv_goto (tgt := 7) hx hb dX2_minutesToGo_71 (by decide) ?_
        exact ih7 _ _ _ _ hg ⟨hT, hqc, (mtg_n hi24 c_5 hm9), hgg, (by rw [hac]; exact lv_sub hl [4, 5, 1, 0] rfl)⟩
      have hac : mAcc s p9 (i_1 + 1) = mAcc s p9 i_1 + 1 := by show _ + (if _ then _ else _) = _; rw [if_neg c_8]
      refine lv_iconst (v := 1) hx hb dX2_minutesToGo_60 (by decide) ?_
      refine lv_goto (tgt := 66) hx hb dX2_minutesToGo_61 (by decide) ?_
      refine lv_iadd hx hb dX2_minutesToGo_66 ?_
      refine lv_istore_n (lv' := [(2, .int ((mAcc s p9 i_1) + 1)), (5, .int (mRest s p9 (p9 + i_1))), (4, .int (zn s ((p9 + i_1) / 3) 2)), (0, .ref S), (1, .ref q9), (3, .int (nI (p9 + i_1)))]) hx hb dX2_minutesToGo_67 rfl hl (by decide) rfl (fun ls hl => ?_)
      refine lv_iinc (v := (nI ((p9 + i_1) + 1))) (lv' := [(3, .int (nI ((p9 + i_1) + 1))), (2, .int ((mAcc s p9 i_1) + 1)), (5, .int (mRest s p9 (p9 + i_1))), (4, .int (zn s ((p9 + i_1) / 3) 2)), (0, .ref S), (1, .ref q9)]) hx hb dX2_minutesToGo_68 hl (k := 5) rfl (nx_iinc rfl) (by decide) rfl (fun ls hl => ?_)
      refine lv_goto (tgt := 7) hx hb dX2_minutesToGo_71 (by decide) ?_
      exact ih7 _ _ _ _ hg ⟨hT, hqc, (mtg_n hi24 c_5 hm9), hgg, (by rw [hac]; exact lv_sub hl [4, 5, 1, 0] rfl)⟩
    refine lv_iconst (v := (-1)) hx hb dX2_minutesToGo_29 (by decide) ?_
    exact gh_reti hC hg hr hlk (⟨by rw [← hm9]; exact (mtg_0 hi24 c_5).symm, hgg⟩) dX2_minutesToGo_30 (Nat.le_of_ble_eq_true rfl) (Nat.le_of_ble_eq_true rfl)
set_option maxHeartbeats 1000000 in
set_option maxRecDepth 100000 in
theorem j_X2_whyNotMoving (l : Launch) (V : gh_V) (g0 : gh_G) (S : Nat) (ad : Nat → Nat) (I : Nat → Int32) (A : Nat → Nat → Int32) (P : Nat → Option Nat) (hT0 : st_C V g0 S ad I A P) (s : Nat → Int32) (hV : st_V s I A) (F : Nat → UInt32) (kx pw : Nat → Nat) (hPc0 : pc_P V g0 S P kx pw s F) (hjs : js s) : MR l yX2_whyNotMoving cX2_whyNotMoving 5 (some (.array .int)) ({ frames := 1, cells := 1, slots := 24, locals := 20 } : Room) V [.ref S] g0 (fun r g1 => ∃ q : Nat, r = some q ∧ g1 q = some ((S, 3, 2), ai V 0 24 (wyA s (fun _ => 0) 24)) ∧ g0 q = none ∧ ∀ b, b ≠ q → g1 b = g0 b) := by
  refine MG.of RX2 (by decide) rfl (Nat.le_of_ble_eq_true rfl) (fun pp ee s9 mm args below meth c ls hC hg hr hlk hnm hl => ?_)
  have hx := hC.1.1
  have hb := hC.1.2.1
  have hml := hC.1.2.2.1
  have hown := hC.1.2.2.2.1
  have hts := hC.1.2.2.2.2
  have hl : lv_has ls 5 [(0, .ref S)] := hl
  obtain ⟨g, hg, hgg⟩ : ∃ g, gh_W V (gh_A g0 s9.heap.size) s9 g s9.heap [] ∧ g = g0 := ⟨g0, hg, rfl⟩
  have hT := hT0
  rw [← hgg] at hT
  have hPc := hPc0
  rw [← hgg] at hPc
  refine lv_bipush (v := 24) hx hb dX2_whyNotMoving_0 (by decide) ?_
  refine gh_newaI hC hg (fun q9 => (S, 3, 2)) q388 (show ((24 : Int32)) = nI 24 from rfl) (by omega) (Nat.le_of_ble_eq_true rfl) (Nat.le_of_ble_eq_true rfl) dX2_whyNotMoving_2 (fun q_1 g H hg h0 hw hn => ?_)
  have hf9 : gh_fv S [] _ g := (gh_fw.nw h0 hn).v
  have hPc : pc_P V g S P kx pw s F := hPc.kp hf9 (by decide)
  have hT : st_C V g S ad I A P := hT.nw h0 hn
  have c_2 : g q_1 = some ((S, 3, 2), ai V 0 24 (fun _ => 0)) := hw
  have h00 : g0 q_1 = none := by rw [← hgg]; exact h0
  have hfr : ∀ b, b ≠ q_1 → g b = g0 b := fun b h1 => (hn b h1).trans (by rw [hgg])
  refine lv_astore_n (lv' := [(1, .ref q_1), (0, .ref S)]) hx hb dX2_whyNotMoving_4 rfl hl (by decide) rfl (fun ls hl => ?_)
  refine lv_bipush (v := 23) hx hb dX2_whyNotMoving_5 (by decide) ?_
  refine lv_istore_n (lv' := [(2, .int 23), (1, .ref q_1), (0, .ref S)]) hx hb dX2_whyNotMoving_7 rfl hl (by decide) rfl (fun ls hl => ?_)
  obtain ⟨N9, hN9⟩ : ∃ n : Nat, n = 24 := ⟨24, rfl⟩
  have hl : lv_has ls 5 [(0, .ref S), (1, .ref q_1), (2, .int (23 - nI 0))] := by rw [show (23 - nI 0 : Int32) = 23 from rfl]; exact lv_sub hl [2, 1, 0] rfl
  refine gh_loop (N := N9) (X := fun i_3 g ls => (st_C V g S ad I A P) ∧ (pc_P V g S P kx pw s F) ∧ (∀ b, b ≠ q_1 → g b = g0 b) ∧ (g q_1 = some ((S, 3, 2), ai V 0 24 (wyA s (fun _ => 0) i_3))) ∧ lv_has ls 5 [(0, .ref S), (1, .ref q_1), (2, .int (23 - nI i_3))]) ?_ ?_ 0 (by omega) hg ⟨hT, hPc, hfr, (by rw [wyA_0]; exact c_2), lv_sub hl [0, 1, 2] rfl⟩
  · intro g H locs ls hg hX
    obtain ⟨hT, hPc, hfr, hqa, hl⟩ := hX
    refine lv_iload_n hx hb dX2_whyNotMoving_8 rfl (lv_at hl 2 rfl) ?_
    refine lv_if_lt (tgt := 120) hx hb dX2_whyNotMoving_9 (by decide) (fun _ => ?_) (fun c_4 => (absurd (show (23 : Int32) - nI N9 < 0 by rw [hN9]; decide) c_4))
    refine lv_aload_n hx hb dX2_whyNotMoving_120 rfl (lv_at hl 1 rfl) ?_
    exact gh_retq (r := some q_1) (Or.inr ⟨_, rfl⟩) hC hg hr hlk (⟨q_1, rfl, by rw [hN9] at hqa; exact hqa, h00, hfr⟩) dX2_whyNotMoving_121 (Nat.le_of_ble_eq_true rfl) (Nat.le_of_ble_eq_true rfl)
  · intro i_3 hi8 ih8 g H locs ls hg hX
    obtain ⟨hT, hPc, hfr, hqa, hl⟩ := hX
    have hi24 : i_3 < 24 := by omega
    obtain ⟨p9, hp9⟩ : ∃ p, p = (24 - i_3 - 1) := ⟨_, rfl⟩
    have hp24 : p9 < 24 := by omega
    have hpn : (23 : Int32) - nI i_3 = nI p9 := by rw [hp9]; exact mv_at hi24
    refine lv_iload_n hx hb dX2_whyNotMoving_8 rfl (lv_at hl 2 rfl) ?_
    refine lv_if_lt (tgt := 120) hx hb dX2_whyNotMoving_9 (by decide) (fun c_5 => (absurd c_5 (mv_ge (show i_3 < 24 by omega)))) (fun _ => ?_)
    refine lv_aload_n hx hb dX2_whyNotMoving_12 rfl (lv_at hl 0 rfl) ?_
    refine gh_get (v := .ref (ad 8)) hC hg hT.1 fX2_17_2 rfl dX2_whyNotMoving_13 ?_
    refine lv_iload_n hx hb dX2_whyNotMoving_16 rfl (lv_at hl 2 rfl) ?_
    refine gh_qald (n := 24) (f := P) hC hg hT.2.2 rfl hpn (by omega) (by omega) dX2_whyNotMoving_17 ?_
    refine lv_astore_nQ (lv' := [(3, va_rf (P p9)), (0, .ref S), (1, .ref q_1), (2, .int (23 - nI i_3))]) hx hb dX2_whyNotMoving_18 rfl hl (by decide) rfl (fun ls hl => ?_)
    refine lv_aload_n hx hb dX2_whyNotMoving_19 rfl (lv_at hl 1 rfl) ?_
    refine gh_get (v := .ref (ad 2)) hC hg hT.1 fX2_51_2 rfl dX2_whyNotMoving_20 ?_
    refine lv_iload_n hx hb dX2_whyNotMoving_23 rfl (lv_at hl 3 rfl) ?_
    refine W.eq (g2 := F0 mm 24 ls [.int (nI p9), .ref (ad 2)]) (by rw [hpn] <;> rfl) ?_
    refine gh_calli hg (gh_runS (As := [.int (nI p9)]) (rest := [.ref (ad 2)]) hC hg (j_X2_zoneOf l V _ p9 (by omega)) 1 (lw_S q2712 q2713 q104 q2714) hd_X2_zoneOf.2 ⟨Nat.le_of_ble_eq_true rfl, Nat.le_of_ble_eq_true rfl⟩ rfl hl.1 rfl (Nat.le_of_ble_eq_true rfl) dX2_whyNotMoving_24 ⟨Nat.le_of_ble_eq_true rfl, Nat.le_of_ble_eq_true rfl⟩) (fun r_6 g H locs hg hp => ?_)
    obtain ⟨hp, hq⟩ := hp
    replace hp : (nI (p9 / 3)) = r_6 := hp.symm
    subst hp
    rw [← hq] at hT hPc hfr hqa
    try rw [← hq] at hgg
    refine gh_iald (n := 8) (f := (A 2)) hC hg hT.a2 rfl (by omega) (by omega) dX2_whyNotMoving_27 ?_
    refine W.eq (g2 := F0 mm 28 ls [.int (zn s (p9 / 3) 2)]) (by rw [(hV.2.2.2.1 _ (by omega)).2.2.1] <;> rfl) ?_
    refine lv_istore (lv' := [(4, .int (zn s (p9 / 3) 2)), (3, va_rf (P p9)), (0, .ref S), (1, .ref q_1), (2, .int (23 - nI i_3))]) hx hb dX2_whyNotMoving_28 hl (by decide) (by simp [gh_cQ]) (fun ls hl => ?_)
    refine lv_aload_nQ hx hb dX2_whyNotMoving_30 rfl (lv_at hl 1 rfl) ?_
    refine lv_ifnonnullQ (tgt := 41) hx hb dX2_whyNotMoving_31 (by decide) (fun y_8 hq_7 => ?_) (fun hq_7 => ?_)
    · skip
      rw [hq_7] at hl
      have hl : lv_has ls 5 [(4, .int (zn s (p9 / 3) 2)), (3, .ref y_8), (0, .ref S), (1, .ref q_1), (2, .int (23 - nI i_3))] := hl
      have ho9 : oc s p9 := fun h9 => by have h8 := (hPc p9 hp24).1 h9; rw [h8] at hq_7; cases hq_7
      obtain ⟨q9, hPq, hqc, hky, hwa⟩ := (hPc p9 hp24).2 ho9
      obtain rfl : q9 = y_8 := Option.some.inj (hPq.symm.trans hq_7)
      refine lv_iload hx hb dX2_whyNotMoving_41 (lv_at hl 0 rfl) ?_
      refine lv_if_ne (tgt := 53) hx hb dX2_whyNotMoving_43 (by decide) (fun c_9 => ?_) (fun c_9 => ?_)
      · skip
        refine lv_aload_n hx hb dX2_whyNotMoving_53 rfl (lv_at hl 1 rfl) ?_
        refine gh_get (v := .int (pl s p9 3)) hC hg hqc fX2_338_5 rfl dX2_whyNotMoving_54 ?_
        refine lv_iconst (v := 1) hx hb dX2_whyNotMoving_57 (by decide) ?_
        refine lv_iadd hx hb dX2_whyNotMoving_58 ?_
        refine lv_iload hx hb dX2_whyNotMoving_59 (lv_at hl 0 rfl) ?_
        refine lv_icmp_ge (tgt := 71) hx hb dX2_whyNotMoving_61 (by decide) (fun c_10 => ?_) (fun c_10 => ?_)
        · skip
          refine lv_iload_n hx hb dX2_whyNotMoving_71 rfl (lv_at hl 4 rfl) ?_
          refine lv_bipush (v := 23) hx hb dX2_whyNotMoving_72 (by decide) ?_
          refine lv_icmp_ge (tgt := 93) hx hb dX2_whyNotMoving_74 (by decide) (fun c_11 => ?_) (fun c_11 => ?_)
          · skip
            have c_11 : 23 ≤ p9 := (nx_le (show ((23 : Int32)) = nI 23 from rfl) hpn (by omega) (by omega)).mp c_11
            refine lv_iload_n hx hb dX2_whyNotMoving_93 rfl (lv_at hl 4 rfl) ?_
            refine lv_bipush (v := 23) hx hb dX2_whyNotMoving_94 (by decide) ?_
            refine lv_icmp_ge (tgt := 114) hx hb dX2_whyNotMoving_96 (by decide) (fun _ => ?_) (fun c_12 => (absurd ((nx_le (show ((23 : Int32)) = nI 23 from rfl) hpn (by omega) (by omega)).mpr (by omega)) c_12))
            refine lv_iinc (v := (23 - nI (i_3 + 1))) (lv' := [(2, .int (23 - nI (i_3 + 1))), (4, .int (zn s (p9 / 3) 2)), (3, .ref q9), (0, .ref S), (1, .ref q_1)]) hx hb dX2_whyNotMoving_114 hl (k := 4) rfl (mv_dec i_3) (by decide) rfl (fun ls hl => ?_)
            refine lv_goto (tgt := 8) hx hb dX2_whyNotMoving_117 (by decide) ?_
            have hv9 : why1 s (24 - i_3 - 1) (wyA s (fun _ => 0) i_3 ((24 - i_3 - 1) + 1)) = 0 := by rw [← hp9]; exact wy_l ho9 c_9 c_10 (by omega)
            exact ih8 _ _ _ _ hg ⟨hT, hPc, hfr, (by rw [← wyA_z hi24 rfl hv9]; exact hqa), lv_sub hl [3, 4, 0] rfl⟩
          have c_11 : ¬ 23 ≤ p9 := fun h9 => c_11 ((nx_le (show ((23 : Int32)) = nI 23 from rfl) hpn (by omega) (by omega)).mpr h9)
          have hp23 : p9 < 23 := by omega
          have hi0 : 0 < i_3 := by omega
          have hnx := wyA_n (s := s) (a := (fun _ => 0)) hi24 hi0
          rw [← hp9] at hnx
          refine lv_aload_n hx hb dX2_whyNotMoving_77 rfl (lv_at hl 3 rfl) ?_
          refine lv_iload_n hx hb dX2_whyNotMoving_78 rfl (lv_at hl 4 rfl) ?_
          refine lv_iconst (v := 1) hx hb dX2_whyNotMoving_79 (by decide) ?_
          refine lv_iadd hx hb dX2_whyNotMoving_80 ?_
          refine gh_iald (n := 24) (f := (wyA s (fun _ => 0) i_3)) hC hg hqa (nx_add hpn (show ((1 : Int32)) = nI 1 from rfl)) (by omega) (by omega) dX2_whyNotMoving_81 ?_
          refine W.eq (g2 := F0 mm 82 ls [.int (whyP s (p9 + 1))]) (by rw [hnx] <;> rfl) ?_
          refine lv_iconst (v := 1) hx hb dX2_whyNotMoving_82 (by decide) ?_
          refine lv_icmp_le (tgt := 93) hx hb dX2_whyNotMoving_83 (by decide) (fun c_13 => ?_) (fun c_13 => ?_)
          · skip
            refine lv_iload_n hx hb dX2_whyNotMoving_93 rfl (lv_at hl 4 rfl) ?_
            refine lv_bipush (v := 23) hx hb dX2_whyNotMoving_94 (by decide) ?_
            refine lv_icmp_ge (tgt := 114) hx hb dX2_whyNotMoving_96 (by decide) (fun c_14 => (absurd ((nx_le (show ((23 : Int32)) = nI 23 from rfl) hpn (by omega) (by omega)).mp c_14) (by omega))) (fun _ => ?_)
            refine lv_aload_n hx hb dX2_whyNotMoving_99 rfl (lv_at hl 2 rfl) ?_
            refine gh_get (v := .ref (ad 5)) hC hg hT.1 fX2_60_2 rfl dX2_whyNotMoving_100 ?_
            refine lv_iload_n hx hb dX2_whyNotMoving_103 rfl (lv_at hl 4 rfl) ?_
            refine lv_iconst (v := 1) hx hb dX2_whyNotMoving_104 (by decide) ?_
            refine lv_iadd hx hb dX2_whyNotMoving_105 ?_
            refine gh_zald (n := 24) (f := (A 5)) hC hg hT.a5 (nx_add hpn (show ((1 : Int32)) = nI 1 from rfl)) (by omega) (by omega) dX2_whyNotMoving_106 ?_
            refine W.eq (g2 := F0 mm 107 ls [.int (pl s (p9 + 1) 4)]) (by rw [(hV.2.2.2.2.1 _ (by omega))] <;> rfl) ?_
            refine lv_if_eq (tgt := 114) hx hb dX2_whyNotMoving_107 (by decide) (fun c_15 => ?_) (fun c_15 => ?_)
            · skip
              refine lv_iinc (v := (23 - nI (i_3 + 1))) (lv' := [(2, .int (23 - nI (i_3 + 1))), (4, .int (zn s (p9 / 3) 2)), (3, .ref q9), (0, .ref S), (1, .ref q_1)]) hx hb dX2_whyNotMoving_114 hl (k := 4) rfl (mv_dec i_3) (by decide) rfl (fun ls hl => ?_)
              refine lv_goto (tgt := 8) hx hb dX2_whyNotMoving_117 (by decide) ?_
              have hv9 : why1 s (24 - i_3 - 1) (wyA s (fun _ => 0) i_3 ((24 - i_3 - 1) + 1)) = 0 := by rw [← hp9]; exact (by rw [hnx]; exact wy_0 ho9 c_9 c_10 hp23 (Int32.not_lt.mpr c_13) c_15)
              exact ih8 _ _ _ _ hg ⟨hT, hPc, hfr, (by rw [← wyA_z hi24 rfl hv9]; exact hqa), lv_sub hl [3, 4, 0] rfl⟩
            refine lv_aload_n hx hb dX2_whyNotMoving_110 rfl (lv_at hl 3 rfl) ?_
            refine lv_iload_n hx hb dX2_whyNotMoving_111 rfl (lv_at hl 4 rfl) ?_
            refine lv_iconst (v := 5) hx hb dX2_whyNotMoving_112 (by decide) ?_
            refine gh_iast (n := 24) (f := (wyA s (fun _ => 0) i_3)) hC hg hqa hpn (by omega) (by omega) dX2_whyNotMoving_113 (fun g H locs hg hw hn => ?_)
            have hqc : g q9 = some ((S, 7, (cd s p9)), oo 5 [.ref (kx p9), .ref (pw p9), .int (nI p9), .int (pl s p9 3), .int (pl s p9 2), .float (F p9)]) := (hn _ (gh_neK hqc hqa rfl)).trans hqc
            have hf9 : gh_fv S [3] _ g := (gh_fw.st hqa hn).v
            have hPc : pc_P V g S P kx pw s F := hPc.kp hf9 (by decide)
            have hfr : ∀ b, b ≠ q_1 → g b = g0 b := fun b h1 => (hn b h1).trans (hfr b h1)
            have hT : st_C V g S ad I A P := hT.ne hqa (fun h9 => absurd (show 3 = 0 from h9.2) (by decide)) hn
            have hqa : g q_1 = some ((S, 3, 2), ai V 0 24 (upd (wyA s (fun _ => 0) i_3) p9 5)) := hw
            refine lv_iinc (v := (23 - nI (i_3 + 1))) (lv' := [(2, .int (23 - nI (i_3 + 1))), (4, .int (zn s (p9 / 3) 2)), (3, .ref q9), (0, .ref S), (1, .ref q_1)]) hx hb dX2_whyNotMoving_114 hl (k := 4) rfl (mv_dec i_3) (by decide) rfl (fun ls hl => ?_)
            refine lv_goto (tgt := 8) hx hb dX2_whyNotMoving_117 (by decide) ?_
            have hv9 : why1 s (24 - i_3 - 1) (wyA s (fun _ => 0) i_3 ((24 - i_3 - 1) + 1)) = 5 := by rw [← hp9]; exact wy_5 hjs ho9 c_9 c_10 hp23 c_15
            exact ih8 _ _ _ _ hg ⟨hT, hPc, hfr, (by rw [← wyA_s hi24 hv9, ← hp9]; exact hqa), lv_sub hl [3, 4, 0] rfl⟩
          refine lv_aload_n hx hb dX2_whyNotMoving_86 rfl (lv_at hl 3 rfl) ?_
          refine lv_iload_n hx hb dX2_whyNotMoving_87 rfl (lv_at hl 4 rfl) ?_
          refine lv_iconst (v := 4) hx hb dX2_whyNotMoving_88 (by decide) ?_
          refine gh_iast (n := 24) (f := (wyA s (fun _ => 0) i_3)) hC hg hqa hpn (by omega) (by omega) dX2_whyNotMoving_89 (fun g H locs hg hw hn => ?_)
          have hqc : g q9 = some ((S, 7, (cd s p9)), oo 5 [.ref (kx p9), .ref (pw p9), .int (nI p9), .int (pl s p9 3), .int (pl s p9 2), .float (F p9)]) := (hn _ (gh_neK hqc hqa rfl)).trans hqc
          have hf9 : gh_fv S [3] _ g := (gh_fw.st hqa hn).v
          have hPc : pc_P V g S P kx pw s F := hPc.kp hf9 (by decide)
          have hfr : ∀ b, b ≠ q_1 → g b = g0 b := fun b h1 => (hn b h1).trans (hfr b h1)
          have hT : st_C V g S ad I A P := hT.ne hqa (fun h9 => absurd (show 3 = 0 from h9.2) (by decide)) hn
          have hqa : g q_1 = some ((S, 3, 2), ai V 0 24 (upd (wyA s (fun _ => 0) i_3) p9 4)) := hw
          refine lv_goto (tgt := 114) hx hb dX2_whyNotMoving_90 (by decide) ?_
          refine lv_iinc (v := (23 - nI (i_3 + 1))) (lv' := [(2, .int (23 - nI (i_3 + 1))), (4, .int (zn s (p9 / 3) 2)), (3, .ref q9), (0, .ref S), (1, .ref q_1)]) hx hb dX2_whyNotMoving_114 hl (k := 4) rfl (mv_dec i_3) (by decide) rfl (fun ls hl => ?_)
          refine lv_goto (tgt := 8) hx hb dX2_whyNotMoving_117 (by decide) ?_
          have hv9 : why1 s (24 - i_3 - 1) (wyA s (fun _ => 0) i_3 ((24 - i_3 - 1) + 1)) = 4 := by rw [← hp9]; exact (by rw [hnx]; exact wy_4 ho9 c_9 c_10 hp23 (Int32.not_le.mp c_13))
          exact ih8 _ _ _ _ hg ⟨hT, hPc, hfr, (by rw [← wyA_s hi24 hv9, ← hp9]; exact hqa), lv_sub hl [3, 4, 0] rfl⟩
        refine lv_aload_n hx hb dX2_whyNotMoving_64 rfl (lv_at hl 3 rfl) ?_
        refine lv_iload_n hx hb dX2_whyNotMoving_65 rfl (lv_at hl 4 rfl) ?_
        refine lv_iconst (v := 3) hx hb dX2_whyNotMoving_66 (by decide) ?_
        refine gh_iast (n := 24) (f := (wyA s (fun _ => 0) i_3)) hC hg hqa hpn (by omega) (by omega) dX2_whyNotMoving_67 (fun g H locs hg hw hn => ?_)
        have hqc : g q9 = some ((S, 7, (cd s p9)), oo 5 [.ref (kx p9), .ref (pw p9), .int (nI p9), .int (pl s p9 3), .int (pl s p9 2), .float (F p9)]) := (hn _ (gh_neK hqc hqa rfl)).trans hqc
        have hf9 : gh_fv S [3] _ g := (gh_fw.st hqa hn).v
        have hPc : pc_P V g S P kx pw s F := hPc.kp hf9 (by decide)
        have hfr : ∀ b, b ≠ q_1 → g b = g0 b := fun b h1 => (hn b h1).trans (hfr b h1)
        have hT : st_C V g S ad I A P := hT.ne hqa (fun h9 => absurd (show 3 = 0 from h9.2) (by decide)) hn
        have hqa : g q_1 = some ((S, 3, 2), ai V 0 24 (upd (wyA s (fun _ => 0) i_3) p9 3)) := hw
        refine lv_goto (tgt := 114) hx hb dX2_whyNotMoving_68 (by decide) ?_
        refine lv_iinc (v := (23 - nI (i_3 + 1))) (lv' := [(2, .int (23 - nI (i_3 + 1))), (4, .int (zn s (p9 / 3) 2)), (3, .ref q9), (0, .ref S), (1, .ref q_1)]) hx hb dX2_whyNotMoving_114 hl (k := 4) rfl (mv_dec i_3) (by decide) rfl (fun ls hl => ?_)
        refine lv_goto (tgt := 8) hx hb dX2_whyNotMoving_117 (by decide) ?_
        have hv9 : why1 s (24 - i_3 - 1) (wyA s (fun _ => 0) i_3 ((24 - i_3 - 1) + 1)) = 3 := by rw [← hp9]; exact wy_3 ho9 c_9 c_10
        exact ih8 _ _ _ _ hg ⟨hT, hPc, hfr, (by rw [← wyA_s hi24 hv9, ← hp9]; exact hqa), lv_sub hl [3, 4, 0] rfl⟩
      refine lv_aload_n hx hb dX2_whyNotMoving_46 rfl (lv_at hl 3 rfl) ?_
      refine lv_iload_n hx hb dX2_whyNotMoving_47 rfl (lv_at hl 4 rfl) ?_
      refine lv_iconst (v := 2) hx hb dX2_whyNotMoving_48 (by decide) ?_
      refine gh_iast (n := 24) (f := (wyA s (fun _ => 0) i_3)) hC hg hqa hpn (by omega) (by omega) dX2_whyNotMoving_49 (fun g H locs hg hw hn => ?_)
      have hqc : g q9 = some ((S, 7, (cd s p9)), oo 5 [.ref (kx p9), .ref (pw p9), .int (nI p9), .int (pl s p9 3), .int (pl s p9 2), .float (F p9)]) := (hn _ (gh_neK hqc hqa rfl)).trans hqc
      have hf9 : gh_fv S [3] _ g := (gh_fw.st hqa hn).v
      have hPc : pc_P V g S P kx pw s F := hPc.kp hf9 (by decide)
      have hfr : ∀ b, b ≠ q_1 → g b = g0 b := fun b h1 => (hn b h1).trans (hfr b h1)
      have hT : st_C V g S ad I A P := hT.ne hqa (fun h9 => absurd (show 3 = 0 from h9.2) (by decide)) hn
      have hqa : g q_1 = some ((S, 3, 2), ai V 0 24 (upd (wyA s (fun _ => 0) i_3) p9 2)) := hw
      refine lv_goto (tgt := 114) hx hb dX2_whyNotMoving_50 (by decide) ?_
      refine lv_iinc (v := (23 - nI (i_3 + 1))) (lv' := [(2, .int (23 - nI (i_3 + 1))), (4, .int (zn s (p9 / 3) 2)), (3, .ref q9), (0, .ref S), (1, .ref q_1)]) hx hb dX2_whyNotMoving_114 hl (k := 4) rfl (mv_dec i_3) (by decide) rfl (fun ls hl => ?_)
      refine lv_goto (tgt := 8) hx hb dX2_whyNotMoving_117 (by decide) ?_
      have hv9 : why1 s (24 - i_3 - 1) (wyA s (fun _ => 0) i_3 ((24 - i_3 - 1) + 1)) = 2 := by rw [← hp9]; exact wy_2 ho9 c_9
      exact ih8 _ _ _ _ hg ⟨hT, hPc, hfr, (by rw [← wyA_s hi24 hv9, ← hp9]; exact hqa), lv_sub hl [3, 4, 0] rfl⟩
    rw [hq_7] at hl
    have hl : lv_has ls 5 [(4, .int (zn s (p9 / 3) 2)), (3, .null), (0, .ref S), (1, .ref q_1), (2, .int (23 - nI i_3))] := hl
    have hno := (pc_free hPc hp24).mp hq_7
    refine lv_aload_n hx hb dX2_whyNotMoving_34 rfl (lv_at hl 3 rfl) ?_
    refine lv_iload_n hx hb dX2_whyNotMoving_35 rfl (lv_at hl 4 rfl) ?_
    refine lv_iconst (v := 1) hx hb dX2_whyNotMoving_36 (by decide) ?_
    refine gh_iast (n := 24) (f := (wyA s (fun _ => 0) i_3)) hC hg hqa hpn (by omega) (by omega) dX2_whyNotMoving_37 (fun g H locs hg hw hn => ?_)
    have hf9 : gh_fv S [3] _ g := (gh_fw.st hqa hn).v
    have hPc : pc_P V g S P kx pw s F := hPc.kp hf9 (by decide)
    have hfr : ∀ b, b ≠ q_1 → g b = g0 b := fun b h1 => (hn b h1).trans (hfr b h1)
    have hT : st_C V g S ad I A P := hT.ne hqa (fun h9 => absurd (show 3 = 0 from h9.2) (by decide)) hn
    have hqa : g q_1 = some ((S, 3, 2), ai V 0 24 (upd (wyA s (fun _ => 0) i_3) p9 1)) := hw
    refine lv_goto (tgt := 114) hx hb dX2_whyNotMoving_38 (by decide) ?_
    refine lv_iinc (v := (23 - nI (i_3 + 1))) (lv' := [(2, .int (23 - nI (i_3 + 1))), (4, .int (zn s (p9 / 3) 2)), (3, .null), (0, .ref S), (1, .ref q_1)]) hx hb dX2_whyNotMoving_114 hl (k := 4) rfl (mv_dec i_3) (by decide) rfl (fun ls hl => ?_)
    refine lv_goto (tgt := 8) hx hb dX2_whyNotMoving_117 (by decide) ?_
    have hv9 : why1 s (24 - i_3 - 1) (wyA s (fun _ => 0) i_3 ((24 - i_3 - 1) + 1)) = 1 := by rw [← hp9]; exact wy_1 hno
    exact ih8 _ _ _ _ hg ⟨hT, hPc, hfr, (by rw [← wyA_s hi24 hv9, ← hp9]; exact hqa), lv_sub hl [3, 4, 0] rfl⟩
set_option maxHeartbeats 1000000 in
set_option maxRecDepth 100000 in
theorem j_X2_heldUpBy (l : Launch) (V : gh_V) (g0 : gh_G) (S : Nat) (ad : Nat → Nat) (I : Nat → Int32) (A : Nat → Nat → Int32) (P : Nat → Option Nat) (hT0 : st_C V g0 S ad I A P) (s : Nat → Int32) (hV : st_V s I A) (F : Nat → UInt32) (kx pw : Nat → Nat) (hPc0 : pc_P V g0 S P kx pw s F) (hjs : js s) (x9 : Nat) (hx24 : x9 < 24) : MI l yX2_heldUpBy cX2_heldUpBy 4 (some .int) ({ frames := 2, cells := 1, slots := 24, locals := 44 } : Room) V [.ref S, .int (nI x9)] g0 (fun r g1 => r = hupN s x9 ∧ gh_ge g0 g1) := by
  refine MG.of RX2 (by decide) rfl (Nat.le_of_ble_eq_true rfl) (fun pp ee s9 mm args below meth c ls hC hg hr hlk hnm hl => ?_)
  have hx := hC.1.1
  have hb := hC.1.2.1
  have hml := hC.1.2.2.1
  have hown := hC.1.2.2.2.1
  have hts := hC.1.2.2.2.2
  have hl : lv_has ls 4 [(0, .ref S), (1, .int (nI x9))] := hl
  obtain ⟨g, hg, hgg⟩ : ∃ g, gh_W V (gh_A g0 s9.heap.size) s9 g s9.heap [] ∧ g = g0 := ⟨g0, hg, rfl⟩
  have hT := hT0
  rw [← hgg] at hT
  obtain ⟨hu1, hu2, hu3, hu4⟩ := hup_all s (23 - x9) x9 (by omega)
  obtain ⟨H9, hH9⟩ : ∃ h, h = hup s x9 (23 - x9) := ⟨_, rfl⟩
  rw [← hH9] at hu1 hu2 hu3 hu4
  refine lv_aload_n hx hb dX2_heldUpBy_0 rfl (lv_at hl 0 rfl) ?_
  refine gh_callq hg (gh_runV (As := []) (rest := []) hC hg (j_X2_whyNotMoving l V _ S ad I A P hT s hV F kx pw (by rw [hgg]; exact hPc0) hjs) 0 (lw_V q3548 q3534 q3535 q104 q3536) hT.1 rfl hd_X2_whyNotMoving ⟨Nat.le_of_ble_eq_true rfl, Nat.le_of_ble_eq_true rfl⟩ rfl hl.1 rfl (Nat.le_of_ble_eq_true rfl) dX2_heldUpBy_1 ⟨Nat.le_of_ble_eq_true rfl, Nat.le_of_ble_eq_true rfl⟩) (fun r_1 g H locs hg hp => ?_)
  obtain ⟨q9, rfl, hqa, hq0, hfr⟩ := hp
  have hF : gh_ge g0 g := by rw [hgg] at hq0 hfr; exact gh_ge.of hq0 hfr
  refine W.eq (g2 := F0 mm 4 ls [.ref q9]) rfl ?_
  have hT : st_C V g S ad I A P := hT.nw hq0 hfr
  refine lv_astore_n (lv' := [(2, .ref q9), (0, .ref S), (1, .int (nI x9))]) hx hb dX2_heldUpBy_4 rfl hl (by decide) rfl (fun ls hl => ?_)
  refine lv_aload_n hx hb dX2_heldUpBy_5 rfl (lv_at hl 0 rfl) ?_
  refine lv_iload_n hx hb dX2_heldUpBy_6 rfl (lv_at hl 2 rfl) ?_
  refine gh_iald (n := 24) (f := (wyA s (fun _ => 0) 24)) hC hg hqa rfl (by omega) (by omega) dX2_heldUpBy_7 ?_
  refine W.eq (g2 := F0 mm 8 ls [.int (whyP s x9)]) (by rw [wyA_24 (by omega)] <;> rfl) ?_
  refine lv_iconst (v := 2) hx hb dX2_heldUpBy_8 (by decide) ?_
  refine lv_icmp_ge (tgt := 14) hx hb dX2_heldUpBy_9 (by decide) (fun c_2 => ?_) (fun c_2 => ?_)
  · skip
    refine lv_iload_n hx hb dX2_heldUpBy_14 rfl (lv_at hl 2 rfl) ?_
    refine lv_istore_n (lv' := [(3, .int (nI x9)), (2, .ref q9), (0, .ref S), (1, .int (nI x9))]) hx hb dX2_heldUpBy_15 rfl hl (by decide) rfl (fun ls hl => ?_)
    refine gh_loop (N := H9) (X := fun i_3 g ls => (st_C V g S ad I A P) ∧ (gh_ge g0 g) ∧ (g q9 = some ((S, 3, 2), ai V 0 24 (wyA s (fun _ => 0) 24))) ∧ (x9 ≤ i_3) ∧ lv_has ls 4 [(0, .ref S), (2, .ref q9), (3, .int (nI i_3))]) ?_ ?_ x9 (by omega) hg ⟨hT, hF, hqa, (Nat.le_refl _), lv_sub hl [2, 1, 0] rfl⟩
    · intro g H locs ls hg hX
      obtain ⟨hT, hF, hqa, hlo9, hl⟩ := hX
      refine lv_aload_n hx hb dX2_heldUpBy_16 rfl (lv_at hl 1 rfl) ?_
      refine lv_iload_n hx hb dX2_heldUpBy_17 rfl (lv_at hl 2 rfl) ?_
      refine gh_iald (n := 24) (f := (wyA s (fun _ => 0) 24)) hC hg hqa rfl (by omega) (by omega) dX2_heldUpBy_18 ?_
      refine W.eq (g2 := F0 mm 19 ls [.int (whyP s H9)]) (by rw [wyA_24 (by omega)] <;> rfl) ?_
      refine lv_iconst (v := 4) hx hb dX2_heldUpBy_19 (by decide) ?_
      refine lv_icmp_ne (tgt := 29) hx hb dX2_heldUpBy_20 (by decide) (fun _ => ?_) (fun c_4 => (absurd c_4 hu4))
      refine lv_aload_n hx hb dX2_heldUpBy_29 rfl (lv_at hl 1 rfl) ?_
      refine lv_iload_n hx hb dX2_heldUpBy_30 rfl (lv_at hl 2 rfl) ?_
      refine gh_iald (n := 24) (f := (wyA s (fun _ => 0) 24)) hC hg hqa rfl (by omega) (by omega) dX2_heldUpBy_31 ?_
      refine W.eq (g2 := F0 mm 32 ls [.int (whyP s H9)]) (by rw [wyA_24 (by omega)] <;> rfl) ?_
      refine lv_iconst (v := 5) hx hb dX2_heldUpBy_32 (by decide) ?_
      refine lv_icmp_ne (tgt := 42) hx hb dX2_heldUpBy_33 (by decide) (fun c_5 => ?_) (fun c_5 => ?_)
      · skip
        refine lv_iload_n hx hb dX2_heldUpBy_42 rfl (lv_at hl 2 rfl) ?_
        exact gh_reti hC hg hr hlk (⟨by unfold hupN; rw [if_neg (fun u => u c_2), ← hH9, if_neg c_5], hF⟩) dX2_heldUpBy_43 (Nat.le_of_ble_eq_true rfl) (Nat.le_of_ble_eq_true rfl)
      refine lv_iload_n hx hb dX2_heldUpBy_36 rfl (lv_at hl 2 rfl) ?_
      refine lv_iconst (v := 1) hx hb dX2_heldUpBy_37 (by decide) ?_
      refine lv_iadd hx hb dX2_heldUpBy_38 ?_
      refine lv_goto (tgt := 43) hx hb dX2_heldUpBy_39 (by decide) ?_
      exact gh_reti hC hg hr hlk (⟨by unfold hupN; rw [if_neg (fun u => u c_2), ← hH9, if_pos c_5], hF⟩) dX2_heldUpBy_43 (Nat.le_of_ble_eq_true rfl) (Nat.le_of_ble_eq_true rfl)
    · intro i_3 hi16 ih16 g H locs ls hg hX
      obtain ⟨hT, hF, hqa, hlo9, hl⟩ := hX
      refine lv_aload_n hx hb dX2_heldUpBy_16 rfl (lv_at hl 1 rfl) ?_
      refine lv_iload_n hx hb dX2_heldUpBy_17 rfl (lv_at hl 2 rfl) ?_
      refine gh_iald (n := 24) (f := (wyA s (fun _ => 0) 24)) hC hg hqa rfl (by omega) (by omega) dX2_heldUpBy_18 ?_
      refine W.eq (g2 := F0 mm 19 ls [.int (whyP s i_3)]) (by rw [wyA_24 (by omega)] <;> rfl) ?_
      refine lv_iconst (v := 4) hx hb dX2_heldUpBy_19 (by decide) ?_
      refine lv_icmp_ne (tgt := 29) hx hb dX2_heldUpBy_20 (by decide) (fun c_6 => (absurd (hu3 i_3 hlo9 hi16) c_6)) (fun _ => ?_)
      refine lv_iinc (v := (nI (i_3 + 1))) (lv' := [(3, .int (nI (i_3 + 1))), (0, .ref S), (2, .ref q9)]) hx hb dX2_heldUpBy_23 hl (k := 2) rfl (nx_iinc rfl) (by decide) rfl (fun ls hl => ?_)
      refine lv_goto (tgt := 16) hx hb dX2_heldUpBy_26 (by decide) ?_
      exact ih16 _ _ _ _ hg ⟨hT, hF, hqa, (by omega), lv_sub hl [1, 2, 0] rfl⟩
  refine lv_iconst (v := (-1)) hx hb dX2_heldUpBy_12 (by decide) ?_
  exact gh_reti hC hg hr hlk (⟨by unfold hupN; rw [if_pos c_2], hF⟩) dX2_heldUpBy_13 (Nat.le_of_ble_eq_true rfl) (Nat.le_of_ble_eq_true rfl)
