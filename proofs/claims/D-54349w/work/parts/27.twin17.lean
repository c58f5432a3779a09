theorem firstOf_s {f : Nat → Bool} {v : Nat → Int32} {i n : Nat} (h : f i = false) : firstOf f v i (n + 1) = firstOf f v (i + 1) n := by
  rw [firstOf, if_neg (by rw [h]; decide)]
theorem firstOf_y {f : Nat → Bool} {v : Nat → Int32} {i n : Nat} (h : f i = true) : firstOf f v i (n + 1) = v i := by
  rw [firstOf, if_pos h]
set_option maxRecDepth 100000

set_option maxHeartbeats 1000000 in
set_option maxRecDepth 100000 in
theorem t_minutesOnTheWay (l : Launch) (V : gh_V) (o : Nat) (ad : Nat → Nat) (I : Nat → Int32) (A : Nat → Nat → Int32) (F : Nat → Nat → UInt32) (g0 : gh_G) (hP : tw_P V g0 o ad I A F) (x y : Int32) (L D P : Nat) (hE : tw_wf (A 0) L D P) (hnn : nnS (F 0)) : MI l yX3_minutesOnTheWay cX3_minutesOnTheWay 5 (some .int) ({ frames := 6, cells := 0, slots := 0, locals := 140 } : Room) V [.ref o, .int x, .int y] g0 (fun r g1 => (c1 (okL x L ∧ okL y (ldN (A 0) x.toNatClampNeg)) = 0 → r = motF (A 0) (F 0) x.toNatClampNeg y.toNatClampNeg) ∧ tw_H V g0 g1 o ad (va_up I 3 (c1 (okL x L ∧ okL y (ldN (A 0) x.toNatClampNeg)))) A F) := by
  refine MG.of RX3 (by decide) rfl (Nat.le_of_ble_eq_true rfl) (fun pp ee s mm args below meth c ls hC hg hr hlk hnm hl => ?_)
  have hx := hC.1.1
  have hb := hC.1.2.1
  have hml := hC.1.2.2.1
  have hown := hC.1.2.2.2.1
  have hts := hC.1.2.2.2.2
  have hl : lv_has ls 5 [(0, .ref o), (1, .int x), (2, .int y)] := hl
  have hT := hP.W
  have hL12 := hE.1.2
  obtain ⟨N9, hN9⟩ : ∃ N, N = 241 := ⟨241, rfl⟩
  refine lv_aload_n hx hb dX3_minutesOnTheWay_0 rfl (lv_at hl 0 rfl) ?_
  refine lv_iload_n hx hb dX3_minutesOnTheWay_1 rfl (lv_at hl 1 rfl) ?_
  refine lv_iload_n hx hb dX3_minutesOnTheWay_2 rfl (lv_at hl 2 rfl) ?_
  refine gh_calli hg (gh_runV (As := [.int x, .int y]) (rest := []) hC hg (t_isThere l V o ad I A F _ hT.1 x y L D P hE) 2 (lw_V q4218 q4220 qs92 q138 q4221) hT.1.1 rfl hd_X3_isThere ⟨Nat.le_of_ble_eq_true rfl, Nat.le_of_ble_eq_true rfl⟩ rfl hl.1 rfl (Nat.le_of_ble_eq_true rfl) dX3_minutesOnTheWay_3 ⟨Nat.le_of_ble_eq_true rfl, Nat.le_of_ble_eq_true rfl⟩) (fun r_1 g H locs hg hp => ?_)
  replace hp : r_1 = (if (okL x L ∧ okL y (ldN (A 0) x.toNatClampNeg)) then 1 else 0) ∧ tw_W V _ g o ad (va_up I 3 (if (okL x L ∧ okL y (ldN (A 0) x.toNatClampNeg)) then 0 else 1)) A F := hp
  by_cases ok_2 : (okL x L ∧ okL y (ldN (A 0) x.toNatClampNeg))
  · rw [if_pos ok_2, if_pos ok_2] at hp
    obtain ⟨rfl, hp⟩ := hp
    have hT : tw_W V g0 g o ad (va_up I 3 0) A F := hT.call hp
    obtain ⟨h_3a, h_3⟩ := okL_cl (by omega) ok_2.1
    obtain ⟨K_5, h_4c, h_4k⟩ := hE.2.2.2.2.1 (x).toNatClampNeg (by omega)
    have h_4e : ldN (A 0) (x).toNatClampNeg = K_5 := cl_of h_4k (by omega)
    obtain ⟨h_4a, h_4⟩ := okL_cl (by omega) ok_2.2
    rw [h_4e] at h_4a
    refine lv_if_ne (tgt := 11) hx hb dX3_minutesOnTheWay_6 (by decide) (fun _ => ?_) (fun c_6 => (absurd ((nx_eq (show ((1 : Int32)) = nI 1 from rfl) (show ((0 : Int32)) = nI 0 from rfl) (by omega) (by omega)).mp c_6) (by omega)))
    have tH1 := ok_2.1
    have tH2 := ok_2.2
    refine lv_aload_n hx hb dX3_minutesOnTheWay_11 rfl (lv_at hl 0 rfl) ?_
    refine gh_callv hg (gh_runV (As := []) (rest := []) hC hg (t_keepsAside l V o ad (va_up I 3 0) A F _ hT.1) 0 (lw_V q4286 q4288 qs95 q138 q4289) hT.1.1 rfl hd_X3_keepsAside ⟨Nat.le_of_ble_eq_true rfl, Nat.le_of_ble_eq_true rfl⟩ rfl hl.1 rfl (Nat.le_of_ble_eq_true rfl) dX3_minutesOnTheWay_12 ⟨Nat.le_of_ble_eq_true rfl, Nat.le_of_ble_eq_true rfl⟩) (fun g H locs hg hp => ?_)
    have hT : tw_W V g0 g o ad (va_up I 3 0) (va_up A 3 (cpn (A 0) (A 3) 578)) (va_up F 3 (cpn (F 0) (F 3) 24)) := hT.call hp
    refine lv_iconst (v := 0) hx hb dX3_minutesOnTheWay_15 (by decide) ?_
    refine lv_istore_n (lv' := [(3, .int 0), (0, .ref o), (1, .int x), (2, .int y)]) hx hb dX3_minutesOnTheWay_16 rfl hl (by decide) rfl (fun ls hl => ?_)
    generalize ha3 : (cpn (A 0) (A 3) 578) = a3 at hT ⊢
    generalize hf3 : (cpn (F 0) (F 3) 24) = f3 at hT ⊢
    refine gh_loop (N := N9) (X := fun i_7 g ls => ∃ (b5 : Nat → Int32), ∃ (b6 : Nat → Int32), ∃ (i4 : Int32), tw_W V g0 g o ad (va_up (va_up I 3 0) 4 i4) (va_up (va_up (va_up (va_up A 3 a3) 5 b5) 6 b6) 0 ((runs (A 0) (F 0) i_7).1)) (va_up (va_up F 3 f3) 0 ((runs (A 0) (F 0) i_7).2.1)) ∧ mot (A 0) (F 0) ((x).toNatClampNeg) ((y).toNatClampNeg) 0 N9 = mot (A 0) (F 0) ((x).toNatClampNeg) ((y).toNatClampNeg) i_7 (N9 - i_7) ∧ lv_has ls 5 [(0, .ref o), (1, .int x), (2, .int y), (3, .int (nI i_7))]) ?_ ?_ 0 (by omega) hg ⟨A 5, A 6, I 4, (hT.eqIAF (fam7 rfl rfl rfl rfl rfl rfl rfl (fun _ => rfl)) (fam8 rfl rfl rfl rfl rfl rfl rfl rfl (fun _ => rfl)) (fam4 rfl rfl rfl rfl (fun _ => rfl))), rfl, lv_sub hl [1, 2, 3, 0] rfl⟩
    · intro g H locs ls hg hX
      obtain ⟨b5, b6, i4, hT, hE9, hl⟩ := hX
      have hm9 : mot (A 0) (F 0) ((x).toNatClampNeg) ((y).toNatClampNeg) 0 N9 = N9 := hE9.trans (by rw [Nat.sub_self]; rfl)
      refine lv_iload_n hx hb dX3_minutesOnTheWay_17 rfl (lv_at hl 3 rfl) ?_
      refine lv_sipush (v := 240) hx hb dX3_minutesOnTheWay_18 (by decide) ?_
      refine lv_icmp_gt (tgt := 47) hx hb dX3_minutesOnTheWay_21 (by decide) (fun _ => ?_) (fun c_8 => (absurd (by rw [hN9]; decide) c_8))
      refine lv_aload_n hx hb dX3_minutesOnTheWay_47 rfl (lv_at hl 0 rfl) ?_
      refine gh_callv hg (gh_runV (As := []) (rest := []) hC hg (t_putsBack l V o ad (va_up (va_up I 3 0) 4 i4) (va_up (va_up (va_up (va_up A 3 a3) 5 b5) 6 b6) 0 ((runs (A 0) (F 0) N9).1)) (va_up (va_up F 3 f3) 0 ((runs (A 0) (F 0) N9).2.1)) _ hT.1) 0 (lw_V q4290 q4292 qs96 q138 q4293) hT.1.1 rfl hd_X3_putsBack ⟨Nat.le_of_ble_eq_true rfl, Nat.le_of_ble_eq_true rfl⟩ rfl hl.1 rfl (Nat.le_of_ble_eq_true rfl) dX3_minutesOnTheWay_48 ⟨Nat.le_of_ble_eq_true rfl, Nat.le_of_ble_eq_true rfl⟩) (fun g H locs hg hp => ?_)
      have hT : tw_W V g0 g o ad (va_up (va_up I 3 0) 4 i4) (va_up (va_up (va_up (va_up (va_up A 3 a3) 5 b5) 6 b6) 0 ((runs (A 0) (F 0) N9).1)) 0 (cpn a3 ((runs (A 0) (F 0) N9).1) 578)) (va_up (va_up (va_up F 3 f3) 0 ((runs (A 0) (F 0) N9).2.1)) 0 (cpn f3 ((runs (A 0) (F 0) N9).2.1) 24)) := hT.call hp
      subst ha3
      subst hf3
      obtain ⟨g, hg, hT⟩ := hT.congA hg 0 (by decide) (A 0) (fun i hi => cpn_cpn hi)
      obtain ⟨g, hg, hT⟩ := hT.congF hg 0 (by decide) (F 0) (fun i hi => cpn_cpn hi)
      refine lv_iload_n hx hb dX3_minutesOnTheWay_51 rfl (lv_at hl 3 rfl) ?_
      refine lv_sipush (v := 240) hx hb dX3_minutesOnTheWay_52 (by decide) ?_
      refine lv_icmp_le (tgt := 62) hx hb dX3_minutesOnTheWay_55 (by decide) (fun c_9 => (absurd c_9 (by rw [hN9]; decide))) (fun _ => ?_)
      refine lv_iconst (v := (-1)) hx hb dX3_minutesOnTheWay_58 (by decide) ?_
      refine lv_goto (tgt := 63) hx hb dX3_minutesOnTheWay_59 (by decide) ?_
      have e9 : c1 (okL x L ∧ okL y (ldN (A 0) x.toNatClampNeg)) = 0 := if_pos ⟨tH1, tH2⟩
      exact gh_reti hC hg hr hlk (⟨fun h9 => (by rw [motF_eq _ _ _ _ hN9]; unfold motX; rw [hm9, if_neg (Nat.lt_irrefl _)]), by rw [e9]; exact hT.H ⟨rfl, rfl, rfl, rfl⟩ ⟨rfl, rfl, rfl, rfl⟩ ⟨rfl, rfl, rfl⟩⟩) dX3_minutesOnTheWay_63 (Nat.le_of_ble_eq_true rfl) (Nat.le_of_ble_eq_true rfl)
    · intro i_7 h_10 ih17 g H locs ls hg hX
      obtain ⟨b5, b6, i4, hT, hE9, hl⟩ := hX
      refine lv_iload_n hx hb dX3_minutesOnTheWay_17 rfl (lv_at hl 3 rfl) ?_
      have h241 : i_7 < 241 := by omega
      obtain ⟨P9, hW9, hn9⟩ := runs_wf hE hnn i_7
      refine lv_sipush (v := 240) hx hb dX3_minutesOnTheWay_18 (by decide) ?_
      refine lv_icmp_gt (tgt := 47) hx hb dX3_minutesOnTheWay_21 (by decide) (fun c_11 => (absurd ((nx_lt (show ((240 : Int32)) = nI 240 from rfl) rfl (by omega) (by omega)).mp c_11) (by omega))) (fun _ => ?_)
      refine lv_aload_n hx hb dX3_minutesOnTheWay_24 rfl (lv_at hl 0 rfl) ?_
      refine lv_iload_n hx hb dX3_minutesOnTheWay_25 rfl (lv_at hl 1 rfl) ?_
      refine lv_iconst (v := 5) hx hb dX3_minutesOnTheWay_26 (by decide) ?_
      refine lv_iload_n hx hb dX3_minutesOnTheWay_27 rfl (lv_at hl 2 rfl) ?_
      refine lv_iadd hx hb dX3_minutesOnTheWay_28 ?_
      refine gh_calli hg (gh_runV (As := [.int x, .int (5 + y)]) (rest := []) hC hg (t_lot l V o ad (va_up (va_up I 3 0) 4 i4) (va_up (va_up (va_up (va_up A 3 a3) 5 b5) 6 b6) 0 ((runs (A 0) (F 0) i_7).1)) (va_up (va_up F 3 f3) 0 ((runs (A 0) (F 0) i_7).2.1)) _ hT.1 x (5 + y) ((x).toNatClampNeg) (5 + (y).toNatClampNeg) h_3 (nx_add (show ((5 : Int32)) = nI 5 from rfl) h_4) (by omega) (by omega)) 2 (lw_V q3956 q3958 qs63 q138 q3959) hT.1.1 rfl hd_X3_lot ⟨Nat.le_of_ble_eq_true rfl, Nat.le_of_ble_eq_true rfl⟩ rfl hl.1 rfl (Nat.le_of_ble_eq_true rfl) dX3_minutesOnTheWay_29 ⟨Nat.le_of_ble_eq_true rfl, Nat.le_of_ble_eq_true rfl⟩) (fun r_12 g H locs hg hp => ?_)
      obtain ⟨hp, hq⟩ := hp
      replace hp : r_12 = (lt ((runs (A 0) (F 0) i_7).1) ((x).toNatClampNeg) (5 + (y).toNatClampNeg)) := hp
      subst hp
      rw [hq] at hg
      refine lv_if_ne (tgt := 47) hx hb dX3_minutesOnTheWay_32 (by decide) (fun c_13 => ?_) (fun c_13 => ?_)
      · skip
        have hm9 : mot (A 0) (F 0) ((x).toNatClampNeg) ((y).toNatClampNeg) 0 N9 = i_7 := hE9.trans ((mot_s (by omega)).trans (if_neg c_13))
        refine lv_aload_n hx hb dX3_minutesOnTheWay_47 rfl (lv_at hl 0 rfl) ?_
        refine gh_callv hg (gh_runV (As := []) (rest := []) hC hg (t_putsBack l V o ad (va_up (va_up I 3 0) 4 i4) (va_up (va_up (va_up (va_up A 3 a3) 5 b5) 6 b6) 0 ((runs (A 0) (F 0) i_7).1)) (va_up (va_up F 3 f3) 0 ((runs (A 0) (F 0) i_7).2.1)) _ hT.1) 0 (lw_V q4290 q4292 qs96 q138 q4293) hT.1.1 rfl hd_X3_putsBack ⟨Nat.le_of_ble_eq_true rfl, Nat.le_of_ble_eq_true rfl⟩ rfl hl.1 rfl (Nat.le_of_ble_eq_true rfl) dX3_minutesOnTheWay_48 ⟨Nat.le_of_ble_eq_true rfl, Nat.le_of_ble_eq_true rfl⟩) (fun g H locs hg hp => ?_)
        have hT : tw_W V g0 g o ad (va_up (va_up I 3 0) 4 i4) (va_up (va_up (va_up (va_up (va_up A 3 a3) 5 b5) 6 b6) 0 ((runs (A 0) (F 0) i_7).1)) 0 (cpn a3 ((runs (A 0) (F 0) i_7).1) 578)) (va_up (va_up (va_up F 3 f3) 0 ((runs (A 0) (F 0) i_7).2.1)) 0 (cpn f3 ((runs (A 0) (F 0) i_7).2.1) 24)) := hT.call hp
        subst ha3
        subst hf3
        obtain ⟨g, hg, hT⟩ := hT.congA hg 0 (by decide) (A 0) (fun i hi => cpn_cpn hi)
        obtain ⟨g, hg, hT⟩ := hT.congF hg 0 (by decide) (F 0) (fun i hi => cpn_cpn hi)
        refine lv_iload_n hx hb dX3_minutesOnTheWay_51 rfl (lv_at hl 3 rfl) ?_
        refine lv_sipush (v := 240) hx hb dX3_minutesOnTheWay_52 (by decide) ?_
        refine lv_icmp_le (tgt := 62) hx hb dX3_minutesOnTheWay_55 (by decide) (fun _ => ?_) (fun c_14 => (absurd ((nx_le rfl (show ((240 : Int32)) = nI 240 from rfl) (by omega) (by omega)).mpr (by omega)) c_14))
        refine lv_iload_n hx hb dX3_minutesOnTheWay_62 rfl (lv_at hl 3 rfl) ?_
        have e9 : c1 (okL x L ∧ okL y (ldN (A 0) x.toNatClampNeg)) = 0 := if_pos ⟨tH1, tH2⟩
        exact gh_reti hC hg hr hlk (⟨fun h9 => (by rw [motF_eq _ _ _ _ hN9]; unfold motX; rw [hm9, if_pos (by omega)]), by rw [e9]; exact hT.H ⟨rfl, rfl, rfl, rfl⟩ ⟨rfl, rfl, rfl, rfl⟩ ⟨rfl, rfl, rfl⟩⟩) dX3_minutesOnTheWay_63 (Nat.le_of_ble_eq_true rfl) (Nat.le_of_ble_eq_true rfl)
      refine lv_aload_n hx hb dX3_minutesOnTheWay_35 rfl (lv_at hl 0 rfl) ?_
      refine gh_calli hg (gh_runV (As := []) (rest := []) hC hg (t_minute l V o ad (va_up (va_up I 3 0) 4 i4) (va_up (va_up (va_up (va_up A 3 a3) 5 b5) 6 b6) 0 ((runs (A 0) (F 0) i_7).1)) (va_up (va_up F 3 f3) 0 ((runs (A 0) (F 0) i_7).2.1)) _ hT.1 L (wf_n hW9) hn9) 0 (lw_V q4020 q4022 qs75 q138 q4023) hT.1.1 rfl hd_X3_minute ⟨Nat.le_of_ble_eq_true rfl, Nat.le_of_ble_eq_true rfl⟩ rfl hl.1 rfl (Nat.le_of_ble_eq_true rfl) dX3_minutesOnTheWay_36 ⟨Nat.le_of_ble_eq_true rfl, Nat.le_of_ble_eq_true rfl⟩) (fun r_15 g H locs hg hp => ?_)
      obtain ⟨hp, b5, b6, hpT⟩ := hp
      replace hp : r_15 = minN ((runs (A 0) (F 0) i_7).1) ((runs (A 0) (F 0) i_7).2.1) := hp
      subst hp
      have hT : tw_W V g0 g o ad (va_up (va_up I 3 0) 4 (i4 + minBr ((runs (A 0) (F 0) i_7).1) ((runs (A 0) (F 0) i_7).2.1))) (va_up (va_up (va_up (va_up A 3 a3) 5 b5) 6 b6) 0 (minS ((runs (A 0) (F 0) i_7).1) ((runs (A 0) (F 0) i_7).2.1))) (va_up (va_up F 3 f3) 0 (minT ((runs (A 0) (F 0) i_7).1) ((runs (A 0) (F 0) i_7).2.1))) := (hT.call hpT).eqIAF (fam7 rfl rfl rfl rfl rfl rfl rfl (fun _ => rfl)) (fam8 rfl rfl rfl rfl rfl rfl rfl rfl (fun _ => rfl)) (fam4 rfl rfl rfl rfl (fun _ => rfl))
      refine lv_istore (lv' := [(4, .int (minN ((runs (A 0) (F 0) i_7).1) ((runs (A 0) (F 0) i_7).2.1))), (0, .ref o), (1, .int x), (2, .int y), (3, .int (nI i_7))]) hx hb dX3_minutesOnTheWay_39 hl (by decide) rfl (fun ls hl => ?_)
      refine lv_iinc (v := (nI (i_7 + 1))) (lv' := [(3, .int (nI (i_7 + 1))), (4, .int (minN ((runs (A 0) (F 0) i_7).1) ((runs (A 0) (F 0) i_7).2.1))), (0, .ref o), (1, .int x), (2, .int y)]) hx hb dX3_minutesOnTheWay_41 hl (k := 4) rfl (nx_iinc rfl) (by decide) rfl (fun ls hl => ?_)
      refine lv_goto (tgt := 17) hx hb dX3_minutesOnTheWay_44 (by decide) ?_
      exact ih17 _ _ _ _ hg ⟨b5, b6, (i4 + minBr ((runs (A 0) (F 0) i_7).1) ((runs (A 0) (F 0) i_7).2.1)), (hT.eqIAF (fam7 rfl rfl rfl rfl rfl rfl rfl (fun _ => rfl)) (fam8 (show (minS ((runs (A 0) (F 0) i_7).1) ((runs (A 0) (F 0) i_7).2.1)) = (runs (A 0) (F 0) (i_7 + 1)).1 from by rw [runs_s]) rfl rfl rfl rfl rfl rfl rfl (fun _ => rfl)) (fam4 (show (minT ((runs (A 0) (F 0) i_7).1) ((runs (A 0) (F 0) i_7).2.1)) = (runs (A 0) (F 0) (i_7 + 1)).2.1 from by rw [runs_s]) rfl rfl rfl (fun _ => rfl))), (hE9.trans ((mot_s (by omega)).trans (if_pos c_13))), lv_sub hl [2, 3, 4, 0] rfl⟩
  rw [if_neg ok_2, if_neg ok_2] at hp
  obtain ⟨rfl, hp⟩ := hp
  have hT : tw_W V g0 g o ad (va_up I 3 1) A F := hT.call hp
  refine lv_if_ne (tgt := 11) hx hb dX3_minutesOnTheWay_6 (by decide) (fun c_16 => (absurd ((nx_eq (show ((0 : Int32)) = nI 0 from rfl) (show ((0 : Int32)) = nI 0 from rfl) (by omega) (by omega)).mpr (by omega)) c_16)) (fun _ => ?_)
  refine lv_iconst (v := 0) hx hb dX3_minutesOnTheWay_9 (by decide) ?_
  exact gh_reti hC hg hr hlk (⟨fun h9 => absurd ((if_neg ok_2 : c1 (okL x L ∧ okL y (ldN (A 0) x.toNatClampNeg)) = 1).symm.trans h9) (by decide), by rw [show c1 (okL x L ∧ okL y (ldN (A 0) x.toNatClampNeg)) = 1 from if_neg ok_2]; exact hT.H ⟨rfl, rfl, rfl, rfl⟩ ⟨rfl, rfl, rfl, rfl⟩ ⟨rfl, rfl, rfl⟩⟩) dX3_minutesOnTheWay_10 (Nat.le_of_ble_eq_true rfl) (Nat.le_of_ble_eq_true rfl)
set_option maxHeartbeats 1000000 in
set_option maxRecDepth 100000 in
theorem t_lowestSafeBurner (l : Launch) (V : gh_V) (o : Nat) (ad : Nat → Nat) (I : Nat → Int32) (A : Nat → Nat → Int32) (F : Nat → Nat → UInt32) (g0 : gh_G) (hP : tw_P V g0 o ad I A F) (x : Int32) (L D P : Nat) (hE : tw_wf (A 0) L D P) (hnn : nnS (F 0)) : MI l yX3_lowestSafeBurner cX3_lowestSafeBurner 4 (some .int) ({ frames := 7, cells := 0, slots := 0, locals := 163 } : Room) V [.ref o, .int x] g0 (fun r g1 => (c1 (okL x 8) = 0 → r = firstOf (safeB (A 0) (F 0) x.toNatClampNeg) nI 0 4) ∧ tw_H V g0 g1 o ad (va_up I 3 (c1 (okL x 8))) A F) := by
  refine MG.of RX3 (by decide) rfl (Nat.le_of_ble_eq_true rfl) (fun pp ee s mm args below meth c ls hC hg hr hlk hnm hl => ?_)
  have hx := hC.1.1
  have hb := hC.1.2.1
  have hml := hC.1.2.2.1
  have hown := hC.1.2.2.2.1
  have hts := hC.1.2.2.2.2
  have hl : lv_has ls 4 [(0, .ref o), (1, .int x)] := hl
  have hT := hP.W
  refine lv_aload_n hx hb dX3_lowestSafeBurner_0 rfl (lv_at hl 0 rfl) ?_
  refine lv_iload_n hx hb dX3_lowestSafeBurner_1 rfl (lv_at hl 1 rfl) ?_
  refine gh_calli hg (gh_runV (As := [.int x]) (rest := []) hC hg (t_isZone l V o ad I A F _ hT.1 x) 1 (lw_V q3901 q3903 qs55 q138 q3904) hT.1.1 rfl hd_X3_isZone ⟨Nat.le_of_ble_eq_true rfl, Nat.le_of_ble_eq_true rfl⟩ rfl hl.1 rfl (Nat.le_of_ble_eq_true rfl) dX3_lowestSafeBurner_2 ⟨Nat.le_of_ble_eq_true rfl, Nat.le_of_ble_eq_true rfl⟩) (fun r_1 g H locs hg hp => ?_)
  replace hp : r_1 = (if okL x 8 then 1 else 0) ∧ tw_W V _ g o ad (va_up I 3 (if okL x 8 then 0 else 1)) A F := hp
  by_cases ok_2 : okL x 8
  · rw [if_pos ok_2, if_pos ok_2] at hp
    obtain ⟨rfl, hp⟩ := hp
    have hT : tw_W V g0 g o ad (va_up I 3 0) A F := hT.call hp
    obtain ⟨h_3a, h_3⟩ := okL_cl (by omega) ok_2
    refine lv_if_ne (tgt := 10) hx hb dX3_lowestSafeBurner_5 (by decide) (fun _ => ?_) (fun c_4 => (absurd ((nx_eq (show ((1 : Int32)) = nI 1 from rfl) (show ((0 : Int32)) = nI 0 from rfl) (by omega) (by omega)).mp c_4) (by omega)))
    refine lv_iconst (v := 0) hx hb dX3_lowestSafeBurner_10 (by decide) ?_
    refine lv_istore_n (lv' := [(2, .int 0), (0, .ref o), (1, .int x)]) hx hb dX3_lowestSafeBurner_11 rfl hl (by decide) rfl (fun ls hl => ?_)
    have hx8 : (x).toNatClampNeg < 8 := by omega
    refine gh_loop (N := 4) (X := fun i_5 g ls => ∃ (a3 : Nat → Int32), ∃ (e5 : Nat → Int32), ∃ (e6 : Nat → Int32), ∃ (f3 : Nat → UInt32), ∃ (i4 : Int32), tw_W V g0 g o ad (va_up (va_up I 3 0) 4 i4) (va_up (va_up (va_up A 3 a3) 5 e5) 6 e6) (va_up F 3 f3) ∧ firstOf (safeB (A 0) (F 0) ((x).toNatClampNeg)) nI 0 4 = firstOf (safeB (A 0) (F 0) ((x).toNatClampNeg)) nI i_5 (4 - i_5) ∧ lv_has ls 4 [(0, .ref o), (1, .int x), (2, .int (nI i_5))]) ?_ ?_ 0 (by omega) hg ⟨A 3, A 5, A 6, F 3, I 4, (hT.eqIAF (fam7 rfl rfl rfl rfl rfl rfl rfl (fun _ => rfl)) (fam8 rfl rfl rfl rfl rfl rfl rfl rfl (fun _ => rfl)) (fam4 rfl rfl rfl rfl (fun _ => rfl))), rfl, lv_sub hl [1, 2, 0] rfl⟩
    · intro g H locs ls hg hX
      obtain ⟨a3, e5, e6, f3, i4, hT, hE9, hl⟩ := hX
      refine lv_iload_n hx hb dX3_lowestSafeBurner_12 rfl (lv_at hl 2 rfl) ?_
      refine lv_iconst (v := 4) hx hb dX3_lowestSafeBurner_13 (by decide) ?_
      refine lv_icmp_ge (tgt := 54) hx hb dX3_lowestSafeBurner_14 (by decide) (fun _ => ?_) (fun c_6 => (absurd ((nx_le (show ((4 : Int32)) = nI 4 from rfl) rfl (by omega) (by omega)).mpr (by omega)) c_6))
      refine lv_iconst (v := (-1)) hx hb dX3_lowestSafeBurner_54 (by decide) ?_
      have e9 : c1 (okL x 8) = 0 := if_pos ok_2
      exact gh_reti hC hg hr hlk (⟨fun h9 => hE9.symm, by rw [e9]; exact hT.H ⟨rfl, rfl, rfl, rfl⟩ ⟨rfl, rfl, rfl, rfl⟩ ⟨rfl, rfl, rfl⟩⟩) dX3_lowestSafeBurner_55 (Nat.le_of_ble_eq_true rfl) (Nat.le_of_ble_eq_true rfl)
    · intro i_5 h_7 ih12 g H locs ls hg hX
      obtain ⟨a3, e5, e6, f3, i4, hT, hE9, hl⟩ := hX
      refine lv_iload_n hx hb dX3_lowestSafeBurner_12 rfl (lv_at hl 2 rfl) ?_
      have hWz := wf_zs0 hE hx8 (show i_5 ≤ 3 by omega)
      refine lv_iconst (v := 4) hx hb dX3_lowestSafeBurner_13 (by decide) ?_
      refine lv_icmp_ge (tgt := 54) hx hb dX3_lowestSafeBurner_14 (by decide) (fun c_8 => (absurd ((nx_le (show ((4 : Int32)) = nI 4 from rfl) rfl (by omega) (by omega)).mp c_8) (by omega))) (fun _ => ?_)
      refine lv_aload_n hx hb dX3_lowestSafeBurner_17 rfl (lv_at hl 0 rfl) ?_
      refine gh_callv hg (gh_runV (As := []) (rest := []) hC hg (t_keepsAside l V o ad (va_up (va_up I 3 0) 4 i4) (va_up (va_up (va_up A 3 a3) 5 e5) 6 e6) (va_up F 3 f3) _ hT.1) 0 (lw_V q4286 q4288 qs95 q138 q4289) hT.1.1 rfl hd_X3_keepsAside ⟨Nat.le_of_ble_eq_true rfl, Nat.le_of_ble_eq_true rfl⟩ rfl hl.1 rfl (Nat.le_of_ble_eq_true rfl) dX3_lowestSafeBurner_18 ⟨Nat.le_of_ble_eq_true rfl, Nat.le_of_ble_eq_true rfl⟩) (fun g H locs hg hp => ?_)
      have hT : tw_W V g0 g o ad (va_up (va_up I 3 0) 4 i4) (va_up (va_up (va_up (va_up A 3 a3) 5 e5) 6 e6) 3 (cpn (A 0) a3 578)) (va_up (va_up F 3 f3) 3 (cpn (F 0) f3 24)) := hT.call hp
      refine lv_aload_n hx hb dX3_lowestSafeBurner_21 rfl (lv_at hl 0 rfl) ?_
      refine lv_iload_n hx hb dX3_lowestSafeBurner_22 rfl (lv_at hl 1 rfl) ?_
      refine lv_iconst (v := 0) hx hb dX3_lowestSafeBurner_23 (by decide) ?_
      refine lv_iload_n hx hb dX3_lowestSafeBurner_24 rfl (lv_at hl 2 rfl) ?_
      refine gh_callv hg (gh_runV (As := [.int x, .int 0, .int (nI i_5)]) (rest := []) hC hg (t_putZone l V o ad (va_up (va_up I 3 0) 4 i4) (va_up (va_up (va_up (va_up A 3 a3) 5 e5) 6 e6) 3 (cpn (A 0) a3 578)) (va_up (va_up F 3 f3) 3 (cpn (F 0) f3 24)) _ hT.1 x 0 (nI i_5) ((x).toNatClampNeg) 0 h_3 (show ((0 : Int32)) = nI 0 from rfl) (by omega) (by omega)) 3 (lw_V q3822 q3824 qs52 q138 q3825) hT.1.1 rfl hd_X3_putZone ⟨Nat.le_of_ble_eq_true rfl, Nat.le_of_ble_eq_true rfl⟩ rfl hl.1 rfl (Nat.le_of_ble_eq_true rfl) dX3_lowestSafeBurner_25 ⟨Nat.le_of_ble_eq_true rfl, Nat.le_of_ble_eq_true rfl⟩) (fun g H locs hg hp => ?_)
      have hT : tw_W V g0 g o ad (va_up (va_up I 3 0) 4 i4) (va_up (va_up (va_up (va_up (va_up A 3 a3) 5 e5) 6 e6) 3 (cpn (A 0) a3 578)) 0 (zs (A 0) ((x).toNatClampNeg) 0 (nI i_5))) (va_up (va_up F 3 f3) 3 (cpn (F 0) f3 24)) := hT.call hp
      refine lv_aload_n hx hb dX3_lowestSafeBurner_28 rfl (lv_at hl 0 rfl) ?_
      refine lv_bipush (v := 60) hx hb dX3_lowestSafeBurner_29 (by decide) ?_
      refine gh_calli hg (gh_runV (As := [.int 60]) (rest := []) hC hg (t_passes l V o ad (va_up (va_up I 3 0) 4 i4) (va_up (va_up (va_up (va_up (va_up A 3 a3) 5 e5) 6 e6) 3 (cpn (A 0) a3 578)) 0 (zs (A 0) ((x).toNatClampNeg) 0 (nI i_5))) (va_up (va_up F 3 f3) 3 (cpn (F 0) f3 24)) _ hT.1 60 60 L (show ((60 : Int32)) = nI 60 from rfl) (wf_n hWz) hnn (by omega)) 1 (lw_V q4016 q4018 qs74 q138 q4019) hT.1.1 rfl hd_X3_passes ⟨Nat.le_of_ble_eq_true rfl, Nat.le_of_ble_eq_true rfl⟩ rfl hl.1 rfl (Nat.le_of_ble_eq_true rfl) dX3_lowestSafeBurner_31 ⟨Nat.le_of_ble_eq_true rfl, Nat.le_of_ble_eq_true rfl⟩) (fun r_9 g H locs hg hp => ?_)
      obtain ⟨hp, b5, b6, hpT⟩ := hp
      replace hp : r_9 = (runsF (zs (A 0) ((x).toNatClampNeg) 0 (nI i_5)) (F 0) 60).2.2.1 := hp
      subst hp
      have hT : tw_W V g0 g o ad (va_up (va_up (va_up I 3 0) 4 i4) 4 ((runsF (zs (A 0) ((x).toNatClampNeg) 0 (nI i_5)) (F 0) 60).2.2.2)) (va_up (va_up (va_up (va_up (va_up (va_up (va_up (va_up A 3 a3) 5 e5) 6 e6) 3 (cpn (A 0) a3 578)) 0 (zs (A 0) ((x).toNatClampNeg) 0 (nI i_5))) 5 b5) 6 b6) 0 ((runsF (zs (A 0) ((x).toNatClampNeg) 0 (nI i_5)) (F 0) 60).1)) (va_up (va_up (va_up F 3 f3) 3 (cpn (F 0) f3 24)) 0 ((runsF (zs (A 0) ((x).toNatClampNeg) 0 (nI i_5)) (F 0) 60).2.1)) := hT.call hpT
      refine lv_istore_n (lv' := [(3, .int ((runsF (zs (A 0) ((x).toNatClampNeg) 0 (nI i_5)) (F 0) 60).2.2.1)), (0, .ref o), (1, .int x), (2, .int (nI i_5))]) hx hb dX3_lowestSafeBurner_34 rfl hl (by decide) rfl (fun ls hl => ?_)
      refine lv_aload_n hx hb dX3_lowestSafeBurner_35 rfl (lv_at hl 1 rfl) ?_
      refine gh_callv hg (gh_runV (As := []) (rest := []) hC hg (t_putsBack l V o ad (va_up (va_up (va_up I 3 0) 4 i4) 4 ((runsF (zs (A 0) ((x).toNatClampNeg) 0 (nI i_5)) (F 0) 60).2.2.2)) (va_up (va_up (va_up (va_up (va_up (va_up (va_up (va_up A 3 a3) 5 e5) 6 e6) 3 (cpn (A 0) a3 578)) 0 (zs (A 0) ((x).toNatClampNeg) 0 (nI i_5))) 5 b5) 6 b6) 0 ((runsF (zs (A 0) ((x).toNatClampNeg) 0 (nI i_5)) (F 0) 60).1)) (va_up (va_up (va_up F 3 f3) 3 (cpn (F 0) f3 24)) 0 ((runsF (zs (A 0) ((x).toNatClampNeg) 0 (nI i_5)) (F 0) 60).2.1)) _ hT.1) 0 (lw_V q4290 q4292 qs96 q138 q4293) hT.1.1 rfl hd_X3_putsBack ⟨Nat.le_of_ble_eq_true rfl, Nat.le_of_ble_eq_true rfl⟩ rfl hl.1 rfl (Nat.le_of_ble_eq_true rfl) dX3_lowestSafeBurner_36 ⟨Nat.le_of_ble_eq_true rfl, Nat.le_of_ble_eq_true rfl⟩) (fun g H locs hg hp => ?_)
      have hT : tw_W V g0 g o ad (va_up (va_up (va_up I 3 0) 4 i4) 4 ((runsF (zs (A 0) ((x).toNatClampNeg) 0 (nI i_5)) (F 0) 60).2.2.2)) (va_up (va_up (va_up (va_up (va_up (va_up (va_up (va_up (va_up A 3 a3) 5 e5) 6 e6) 3 (cpn (A 0) a3 578)) 0 (zs (A 0) ((x).toNatClampNeg) 0 (nI i_5))) 5 b5) 6 b6) 0 ((runsF (zs (A 0) ((x).toNatClampNeg) 0 (nI i_5)) (F 0) 60).1)) 0 (cpn (cpn (A 0) a3 578) ((runsF (zs (A 0) ((x).toNatClampNeg) 0 (nI i_5)) (F 0) 60).1) 578)) (va_up (va_up (va_up (va_up F 3 f3) 3 (cpn (F 0) f3 24)) 0 ((runsF (zs (A 0) ((x).toNatClampNeg) 0 (nI i_5)) (F 0) 60).2.1)) 0 (cpn (cpn (F 0) f3 24) ((runsF (zs (A 0) ((x).toNatClampNeg) 0 (nI i_5)) (F 0) 60).2.1) 24)) := hT.call hp
      obtain ⟨g, hg, hT⟩ := hT.congA hg 0 (by decide) (A 0) (fun i hi => cpn_cpn hi)
      obtain ⟨g, hg, hT⟩ := hT.congF hg 0 (by decide) (F 0) (fun i hi => cpn_cpn hi)
      refine lv_aload_n hx hb dX3_lowestSafeBurner_39 rfl (lv_at hl 1 rfl) ?_
      refine gh_get (v := .int ((runsF (zs (A 0) ((x).toNatClampNeg) 0 (nI i_5)) (F 0) 60).2.2.2)) hC hg hT.1.1 fX3_136_0 rfl dX3_lowestSafeBurner_40 ?_
      refine lv_if_ne (tgt := 48) hx hb dX3_lowestSafeBurner_43 (by decide) (fun c_10 => ?_) (fun c_10 => ?_)
      · skip
        refine lv_iinc (v := (nI (i_5 + 1))) (lv' := [(2, .int (nI (i_5 + 1))), (3, .int ((runsF (zs (A 0) ((x).toNatClampNeg) 0 (nI i_5)) (F 0) 60).2.2.1)), (0, .ref o), (1, .int x)]) hx hb dX3_lowestSafeBurner_48 hl (k := 3) rfl (nx_iinc rfl) (by decide) rfl (fun ls hl => ?_)
        refine lv_goto (tgt := 12) hx hb dX3_lowestSafeBurner_51 (by decide) ?_
        exact ih12 _ _ _ _ hg ⟨(cpn (A 0) a3 578), b5, b6, (cpn (F 0) f3 24), (runsF (zs (A 0) ((x).toNatClampNeg) 0 (nI i_5)) (F 0) 60).2.2.2, (hT.eqIAF (fam7 rfl rfl rfl rfl rfl rfl rfl (fun _ => rfl)) (fam8 rfl rfl rfl rfl rfl rfl rfl rfl (fun _ => rfl)) (fam4 rfl rfl rfl rfl (fun _ => rfl))), (hE9.trans (by rw [show 4 - i_5 = (4 - (i_5 + 1)) + 1 by omega]; exact firstOf_s (decide_eq_false c_10))), lv_sub hl [2, 3, 0] rfl⟩
      refine lv_iload_n hx hb dX3_lowestSafeBurner_46 rfl (lv_at hl 3 rfl) ?_
      have e9 : c1 (okL x 8) = 0 := if_pos ok_2
      exact gh_reti hC hg hr hlk (⟨fun h9 => (hE9.trans (by rw [show 4 - i_5 = (4 - (i_5 + 1)) + 1 by omega]; exact firstOf_y (decide_eq_true c_10))).symm, by rw [e9]; exact hT.H ⟨rfl, rfl, rfl, rfl⟩ ⟨rfl, rfl, rfl, rfl⟩ ⟨rfl, rfl, rfl⟩⟩) dX3_lowestSafeBurner_47 (Nat.le_of_ble_eq_true rfl) (Nat.le_of_ble_eq_true rfl)
  rw [if_neg ok_2, if_neg ok_2] at hp
  obtain ⟨rfl, hp⟩ := hp
  have hT : tw_W V g0 g o ad (va_up I 3 1) A F := hT.call hp
  refine lv_if_ne (tgt := 10) hx hb dX3_lowestSafeBurner_5 (by decide) (fun c_11 => (absurd ((nx_eq (show ((0 : Int32)) = nI 0 from rfl) (show ((0 : Int32)) = nI 0 from rfl) (by omega) (by omega)).mpr (by omega)) c_11)) (fun _ => ?_)
  refine lv_iconst (v := 0) hx hb dX3_lowestSafeBurner_8 (by decide) ?_
  exact gh_reti hC hg hr hlk (⟨fun h9 => absurd ((if_neg ok_2 : c1 (okL x 8) = 1).symm.trans h9) (by decide), by rw [show c1 (okL x 8) = 1 from if_neg ok_2]; exact hT.H ⟨rfl, rfl, rfl, rfl⟩ ⟨rfl, rfl, rfl, rfl⟩ ⟨rfl, rfl, rfl⟩⟩) dX3_lowestSafeBurner_9 (Nat.le_of_ble_eq_true rfl) (Nat.le_of_ble_eq_true rfl)
