section
variable {b : Nat → Int32} {N : Nat}
theorem txE_ok {f sp : Nat} (hf : 0 < f) (h : (txE b N f sp).1 = true) : (ptE b N sp).1 = true ∧ ((ptE b N sp).2 < N → isC b N (ptE b N sp).2 59 59 ∧ (txE b N (f - 1) ((ptE b N sp).2 + 1)).1 = true) := by
  rw [txE_s hf] at h
  by_cases h1 : (ptE b N sp).1 = true
  · rw [if_pos h1] at h
    refine ⟨h1, fun h2 => ?_⟩
    rw [if_pos h2] at h
    by_cases h3 : isC b N (ptE b N sp).2 59 59
    · rw [if_pos h3] at h
      exact ⟨h3, h⟩
    · rw [if_neg h3] at h; exact absurd h Bool.false_ne_true
  · rw [if_neg h1] at h; exact absurd h Bool.false_ne_true
theorem txR_s {f sp : Nat} {s : Nat → Int32} {st : Nat → UInt32} (hf : 0 < f) : txR b N f sp s st = if canB s (b sp) (ptO b N sp) (ptT b N sp) = true then (if (ptE b N sp).2 < N then ((txR b N (f - 1) ((ptE b N sp).2 + 1) (didS s st (b sp) (ptO b N sp) (ptT b N sp)).1 (didS s st (b sp) (ptO b N sp) (ptT b N sp)).2).1 + 1, (txR b N (f - 1) ((ptE b N sp).2 + 1) (didS s st (b sp) (ptO b N sp) (ptT b N sp)).1 (didS s st (b sp) (ptO b N sp) (ptT b N sp)).2).2) else (1, didS s st (b sp) (ptO b N sp) (ptT b N sp))) else (0, s, st) := by
  obtain ⟨k, rfl⟩ : ∃ k, f = k + 1 := ⟨f - 1, by omega⟩
  rfl
end
def addN {α : Type} (n : Nat) (x : Nat × α) : Nat × α := (n + x.1, x.2)
theorem addN_0 {α : Type} (x : Nat × α) : addN 0 x = x := by unfold addN; rw [Nat.zero_add]
theorem addN_s {α : Type} (n : Nat) (x : Nat × α) : addN n (x.1 + 1, x.2) = addN (n + 1) x := by
  unfold addN
  show (n + (x.1 + 1), x.2) = (n + 1 + x.1, x.2)
  rw [show n + (x.1 + 1) = n + 1 + x.1 by omega]
set_option maxRecDepth 100000

set_option maxHeartbeats 1000000 in
set_option maxRecDepth 100000 in
theorem t_go1 (l : Launch) (V : gh_V) (o : Nat) (ad : Nat → Nat) (I : Nat → Int32) (A : Nat → Nat → Int32) (F : Nat → Nat → UInt32) (g0 : gh_G) (hP : tw_P V g0 o ad I A F) (N : Nat) (L D P : Nat) (hN : I 2 = nI N) (hN60 : N ≤ 60) (hE : tw_wf (A 0) L D P) (hnn : nnS (F 0)) (hv0 : (txE (A 4) N 61 0).1 = true) : MI l yX3_go cX3_go 5 (some .int) ({ frames := 9, cells := 0, slots := 0, locals := 215 } : Room) V [.ref o, .int 1] g0 (fun r g1 => r = nI (txR (A 4) N 61 0 (A 0) (F 0)).1 ∧ ∃ i4 i5 b5 b6, tw_W V g0 g1 o ad (va_up (va_up (va_up I 6 0) 5 i5) 4 i4) (va_up (va_up (va_up A 5 b5) 6 b6) 0 (txR (A 4) N 61 0 (A 0) (F 0)).2.1) (va_up F 0 (txR (A 4) N 61 0 (A 0) (F 0)).2.2)) := by
  refine MG.of RX3 (by decide) rfl (Nat.le_of_ble_eq_true rfl) (fun pp ee s mm args below meth c ls hC hg hr hlk hnm hl => ?_)
  have hx := hC.1.1
  have hb := hC.1.2.1
  have hml := hC.1.2.2.1
  have hown := hC.1.2.2.2.1
  have hts := hC.1.2.2.2.2
  have hl : lv_has ls 5 [(0, .ref o), (1, .int 1)] := hl
  have hT := hP.W
  refine lv_aload_n hx hb dX3_go_0 rfl (lv_at hl 0 rfl) ?_
  refine lv_iconst (v := 0) hx hb dX3_go_1 (by decide) ?_
  refine gh_put (v := .int 0) hC hg hT.1.1 fX3_233_0 rfl rfl (Nat.le_of_ble_eq_true rfl) dX3_go_2 (fun g H locs hg hw hn => ?_)
  have hT : tw_W V g0 g o ad (va_up I 5 0) A F := hT.putI 5 0 hw hn
  refine lv_aload_n hx hb dX3_go_5 rfl (lv_at hl 0 rfl) ?_
  refine lv_iconst (v := 0) hx hb dX3_go_6 (by decide) ?_
  refine gh_put (v := .int 0) hC hg hT.1.1 fX3_236_0 rfl rfl (Nat.le_of_ble_eq_true rfl) dX3_go_7 (fun g H locs hg hw hn => ?_)
  have hT : tw_W V g0 g o ad (va_up (va_up I 5 0) 6 0) A F := hT.putI 6 0 hw hn
  refine lv_iconst (v := 0) hx hb dX3_go_10 (by decide) ?_
  refine lv_istore_n (lv' := [(2, .int 0), (0, .ref o), (1, .int 1)]) hx hb dX3_go_11 rfl hl (by decide) rfl (fun ls hl => ?_)
  refine lv_iconst (v := 1) hx hb dX3_go_12 (by decide) ?_
  refine lv_istore_n (lv' := [(3, .int 1), (2, .int 0), (0, .ref o), (1, .int 1)]) hx hb dX3_go_13 rfl hl (by decide) rfl (fun ls hl => ?_)
  refine gh_while (μ := fun b : Nat => 61 - b) (X := fun b g ls => ∃ (f9 n9 : Nat) (s9 : Nat → Int32) (t9 : Nat → UInt32) (L9 P9 : Nat) (i4 : Int32) (b5 b6 : Nat → Int32), tw_W V g0 g o ad (va_up (va_up (va_up I 6 0) 5 (nI b)) 4 i4) (va_up (va_up (va_up A 5 b5) 6 b6) 0 s9) (va_up F 0 t9) ∧ (b ≤ N ∧ 61 - b ≤ f9 ∧ (txE (A 4) N f9 b).1 = true ∧ tw_wf s9 L9 D P9 ∧ nnS t9 ∧ (txR (A 4) N 61 0 (A 0) (F 0)) = addN n9 (txR (A 4) N f9 b s9 t9)) ∧ lv_has ls 5 [(0, .ref o), (1, .int 1), (2, .int (nI n9)), (3, .int 1)]) ?_ 0 hg ⟨61, 0, A 0, F 0, L, P, I 4, A 5, A 6, hT.eqIAF (fam7 rfl rfl rfl rfl rfl rfl rfl (fun _ => rfl)) (fam8 rfl rfl rfl rfl rfl rfl rfl rfl (fun _ => rfl)) (fam4 rfl rfl rfl rfl (fun _ => rfl)), ⟨by omega, by omega, hv0, hE, hnn, (addN_0 _).symm⟩, lv_sub hl [2, 3, 1, 0] rfl⟩
  intro b ih14 g H locs ls hg hX
  obtain ⟨f9, n9, s9, t9, L9, P9, j4, c5, c6, hT, ⟨hb1, hb2, hv9, hW9, hn9, hE9⟩, hl⟩ := hX
  have hv := (txE_ok (by omega) hv9).1
  refine lv_iload_n hx hb dX3_go_14 rfl (lv_at hl 3 rfl) ?_
  refine lv_if_eq (tgt := 85) hx hb dX3_go_15 (by decide) (fun c_1 => (absurd ((nx_eq (show ((1 : Int32)) = nI 1 from rfl) (show ((0 : Int32)) = nI 0 from rfl) (by omega) (by omega)).mp c_1) (by omega))) (fun _ => ?_)
  refine lv_aload_n hx hb dX3_go_18 rfl (lv_at hl 0 rfl) ?_
  refine lv_iload_n hx hb dX3_go_19 rfl (lv_at hl 1 rfl) ?_
  refine gh_calli hg (gh_runV (As := [.int 1]) (rest := []) hC hg (t_part1 l V o ad (va_up (va_up (va_up I 6 0) 5 (nI b)) 4 j4) (va_up (va_up (va_up A 5 c5) 6 c6) 0 s9) (va_up F 0 t9) _ hT.1 b N L9 D P9 rfl (show ((0 : Int32)) = nI 0 from rfl) hN hN60 (by omega) hW9 hn9 hv) 1 (lw_V q4326 q4328 qs98 q138 q4329) hT.1.1 rfl hd_X3_part ⟨Nat.le_of_ble_eq_true rfl, Nat.le_of_ble_eq_true rfl⟩ rfl hl.1 rfl (Nat.le_of_ble_eq_true rfl) dX3_go_20 ⟨Nat.le_of_ble_eq_true rfl, Nat.le_of_ble_eq_true rfl⟩) (fun r_2 g H locs hg hp => ?_)
  by_cases cb_3 : canB s9 (A 4 b) (ptO (A 4) N b) (ptT (A 4) N b) = true
  · obtain ⟨hpr, i4, b5, b6, hpT⟩ := hp.1 cb_3
    replace hpr : r_2 = 1 := hpr
    subst hpr
    have hpl := ptE_le hv
    obtain ⟨L8, P8, hW8, hn8⟩ := wf_pt hW9 hn9 hv cb_3
    have hT : tw_W V g0 g o ad (va_up (va_up (va_up (va_up (va_up (va_up I 6 0) 5 (nI b)) 4 j4) 6 0) 5 (nI (ptE (A 4) N b).2)) 4 i4) (va_up (va_up (va_up (va_up (va_up (va_up A 5 c5) 6 c6) 0 s9) 5 b5) 6 b6) 0 ((didS s9 t9 (A 4 b) (ptO (A 4) N b) (ptT (A 4) N b)).1)) (va_up (va_up F 0 t9) 0 ((didS s9 t9 (A 4 b) (ptO (A 4) N b) (ptT (A 4) N b)).2)) := hT.call hpT
    refine lv_if_ne (tgt := 28) hx hb dX3_go_23 (by decide) (fun _ => ?_) (fun c_4 => (absurd ((nx_eq (show ((1 : Int32)) = nI 1 from rfl) (show ((0 : Int32)) = nI 0 from rfl) (by omega) (by omega)).mp c_4) (by omega)))
    refine lv_iinc (v := (nI (n9 + 1))) (lv' := [(2, .int (nI (n9 + 1))), (0, .ref o), (1, .int 1), (3, .int 1)]) hx hb dX3_go_28 hl (k := 2) rfl (nx_iinc rfl) (by decide) rfl (fun ls hl => ?_)
    refine lv_aload_n hx hb dX3_go_31 rfl (lv_at hl 1 rfl) ?_
    refine gh_get (v := .int 0) hC hg hT.1.1 fX3_236_0 rfl dX3_go_32 ?_
    refine lv_if_ne (tgt := 53) hx hb dX3_go_35 (by decide) (fun c_5 => (absurd ((nx_eq (show ((0 : Int32)) = nI 0 from rfl) (show ((0 : Int32)) = nI 0 from rfl) (by omega) (by omega)).mpr (by omega)) c_5)) (fun _ => ?_)
    refine lv_aload_n hx hb dX3_go_38 rfl (lv_at hl 1 rfl) ?_
    refine gh_get (v := .int (nI (ptE (A 4) N b).2)) hC hg hT.1.1 fX3_233_0 rfl dX3_go_39 ?_
    refine lv_aload_n hx hb dX3_go_42 rfl (lv_at hl 1 rfl) ?_
    refine gh_get (v := .int (I 2)) hC hg hT.1.1 fX3_230_0 rfl dX3_go_43 ?_
    refine lv_icmp_ge (tgt := 53) hx hb dX3_go_46 (by decide) (fun c_6 => ?_) (fun c_6 => ?_)
    · skip
      have c_6 : N ≤ (ptE (A 4) N b).2 := (nx_le hN rfl (by omega) (by omega)).mp c_6
      refine lv_iconst (v := 0) hx hb dX3_go_53 (by decide) ?_
      refine lv_istore_n (lv' := [(3, .int 0), (2, .int (nI (n9 + 1))), (0, .ref o), (1, .int 1)]) hx hb dX3_go_54 rfl hl (by decide) rfl (fun ls hl => ?_)
      refine lv_iload_n hx hb dX3_go_55 rfl (lv_at hl 0 rfl) ?_
      refine lv_if_eq (tgt := 14) hx hb dX3_go_56 (by decide) (fun _ => ?_) (fun c_7 => (absurd ((nx_eq (show ((0 : Int32)) = nI 0 from rfl) (show ((0 : Int32)) = nI 0 from rfl) (by omega) (by omega)).mpr (by omega)) c_7))
      refine lv_iload_n hx hb dX3_go_14 rfl (lv_at hl 0 rfl) ?_
      refine lv_if_eq (tgt := 85) hx hb dX3_go_15 (by decide) (fun _ => ?_) (fun c_8 => (absurd ((nx_eq (show ((0 : Int32)) = nI 0 from rfl) (show ((0 : Int32)) = nI 0 from rfl) (by omega) (by omega)).mpr (by omega)) c_8))
      refine lv_iload_n hx hb dX3_go_85 rfl (lv_at hl 1 rfl) ?_
      have hE8 : (txR (A 4) N 61 0 (A 0) (F 0)) = (n9 + 1, (didS s9 t9 (A 4 b) (ptO (A 4) N b) (ptT (A 4) N b))) := hE9.trans (congrArg (addN n9) ((txR_s (by omega)).trans ((if_pos cb_3).trans (if_neg (by omega)))))
      exact gh_reti hC hg hr hlk (by rw [hE8]; exact ⟨rfl, i4, _, b5, b6, hT.eqIAF (fam7 rfl rfl rfl rfl rfl rfl rfl (fun _ => rfl)) (fam8 rfl rfl rfl rfl rfl rfl rfl rfl (fun _ => rfl)) (fam4 rfl rfl rfl rfl (fun _ => rfl))⟩) dX3_go_86 (Nat.le_of_ble_eq_true rfl) (Nat.le_of_ble_eq_true rfl)
    have c_6 : ¬ N ≤ (ptE (A 4) N b).2 := fun h9 => c_6 ((nx_le hN rfl (by omega) (by omega)).mpr h9)
    refine lv_iconst (v := 1) hx hb dX3_go_49 (by decide) ?_
    refine lv_goto (tgt := 54) hx hb dX3_go_50 (by decide) ?_
    refine lv_istore_n (lv' := [(3, .int 1), (2, .int (nI (n9 + 1))), (0, .ref o), (1, .int 1)]) hx hb dX3_go_54 rfl hl (by decide) rfl (fun ls hl => ?_)
    refine lv_iload_n hx hb dX3_go_55 rfl (lv_at hl 0 rfl) ?_
    refine lv_if_eq (tgt := 14) hx hb dX3_go_56 (by decide) (fun c_9 => (absurd ((nx_eq (show ((1 : Int32)) = nI 1 from rfl) (show ((0 : Int32)) = nI 0 from rfl) (by omega) (by omega)).mp c_9) (by omega))) (fun _ => ?_)
    refine lv_aload_n hx hb dX3_go_59 rfl (lv_at hl 2 rfl) ?_
    refine lv_bipush (v := 59) hx hb dX3_go_60 (by decide) ?_
    refine lv_bipush (v := 59) hx hb dX3_go_62 (by decide) ?_
    refine gh_calli hg (gh_runV (As := [.int 59, .int 59]) (rest := []) hC hg (t_sign0 l V o ad (va_up (va_up (va_up (va_up (va_up (va_up I 6 0) 5 (nI b)) 4 j4) 6 0) 5 (nI (ptE (A 4) N b).2)) 4 i4) (va_up (va_up (va_up (va_up (va_up (va_up A 5 c5) 6 c6) 0 s9) 5 b5) 6 b6) 0 ((didS s9 t9 (A 4 b) (ptO (A 4) N b) (ptT (A 4) N b)).1)) (va_up (va_up F 0 t9) 0 ((didS s9 t9 (A 4 b) (ptO (A 4) N b) (ptT (A 4) N b)).2)) _ hT.1 59 59 ((ptE (A 4) N b).2) N rfl (show ((0 : Int32)) = nI 0 from rfl) hN hN60 (by omega) (by decide)) 2 (lw_V q4330 q4332 qs99 q138 q4333) hT.1.1 rfl hd_X3_sign ⟨Nat.le_of_ble_eq_true rfl, Nat.le_of_ble_eq_true rfl⟩ rfl hl.1 rfl (Nat.le_of_ble_eq_true rfl) dX3_go_64 ⟨Nat.le_of_ble_eq_true rfl, Nat.le_of_ble_eq_true rfl⟩) (fun r_10 g H locs hg hp => ?_)
    rcases hp with ⟨sg_11, hpr, hpT⟩ | ⟨sg_11, hpT⟩
    · replace hpr : r_10 = (A 4) ((ptE (A 4) N b).2) := hpr
      subst hpr
      have hT : tw_W V g0 g o ad (va_up (va_up (va_up (va_up (va_up (va_up (va_up (va_up I 6 0) 5 (nI b)) 4 j4) 6 0) 5 (nI (ptE (A 4) N b).2)) 4 i4) 6 0) 5 (nI ((ptE (A 4) N b).2 + 1))) (va_up (va_up (va_up (va_up (va_up (va_up A 5 c5) 6 c6) 0 s9) 5 b5) 6 b6) 0 ((didS s9 t9 (A 4 b) (ptO (A 4) N b) (ptT (A 4) N b)).1)) (va_up (va_up F 0 t9) 0 ((didS s9 t9 (A 4 b) (ptO (A 4) N b) (ptT (A 4) N b)).2)) := hT.call hpT
      have sg_11l := sg_11.1
      obtain ⟨h_12a, h_12b, h_12⟩ := okR_cl (show ((59 : Int32)) = nI 59 from rfl) (show ((59 : Int32)) = nI 59 from rfl) (by omega) (by omega) sg_11.2
      refine lv_istore (lv' := [(4, .int ((A 4) ((ptE (A 4) N b).2))), (3, .int 1), (2, .int (nI (n9 + 1))), (0, .ref o), (1, .int 1)]) hx hb dX3_go_67 hl (by decide) rfl (fun ls hl => ?_)
      refine lv_aload_n hx hb dX3_go_69 rfl (lv_at hl 3 rfl) ?_
      refine gh_get (v := .int 0) hC hg hT.1.1 fX3_236_0 rfl dX3_go_70 ?_
      refine lv_if_ne (tgt := 80) hx hb dX3_go_73 (by decide) (fun c_13 => (absurd ((nx_eq (show ((0 : Int32)) = nI 0 from rfl) (show ((0 : Int32)) = nI 0 from rfl) (by omega) (by omega)).mpr (by omega)) c_13)) (fun _ => ?_)
      refine lv_iconst (v := 1) hx hb dX3_go_76 (by decide) ?_
      refine lv_goto (tgt := 81) hx hb dX3_go_77 (by decide) ?_
      refine lv_istore_n (lv' := [(3, .int 1), (4, .int ((A 4) ((ptE (A 4) N b).2))), (2, .int (nI (n9 + 1))), (0, .ref o), (1, .int 1)]) hx hb dX3_go_81 rfl hl (by decide) rfl (fun ls hl => ?_)
      refine lv_goto (tgt := 14) hx hb dX3_go_82 (by decide) ?_
      have hE8 := hE9.trans (congrArg (addN n9) ((txR_s (by omega)).trans ((if_pos cb_3).trans (if_pos sg_11.1))))
      exact ih14 ((ptE (A 4) N b).2 + 1) (by show 61 - ((ptE (A 4) N b).2 + 1) < 61 - b; omega) _ _ _ _ hg ⟨f9 - 1, n9 + 1, _, _, L8, P8, i4, b5, b6, hT.eqIAF (fam7 rfl rfl rfl rfl rfl rfl rfl (fun _ => rfl)) (fam8 rfl rfl rfl rfl rfl rfl rfl rfl (fun _ => rfl)) (fam4 rfl rfl rfl rfl (fun _ => rfl)), ⟨by omega, by omega, ((txE_ok (by omega) hv9).2 sg_11.1).2, hW8, hn8, hE8.trans (addN_s _ _)⟩, lv_sub hl [3, 4, 2, 0] rfl⟩
    exact absurd ((txE_ok (by omega) hv9).2 (by omega)).1 sg_11
  obtain ⟨hpr, hpT⟩ := hp.2 (Bool.eq_false_iff.mpr cb_3)
  replace hpr : r_2 = 0 := hpr
  subst hpr
  have hT : tw_W V g0 g o ad (va_up (va_up (va_up (va_up (va_up I 6 0) 5 (nI b)) 4 j4) 6 0) 5 (nI (ptE (A 4) N b).2)) (va_up (va_up (va_up A 5 c5) 6 c6) 0 s9) (va_up F 0 t9) := hT.call hpT
  refine lv_if_ne (tgt := 28) hx hb dX3_go_23 (by decide) (fun c_14 => (absurd ((nx_eq (show ((0 : Int32)) = nI 0 from rfl) (show ((0 : Int32)) = nI 0 from rfl) (by omega) (by omega)).mpr (by omega)) c_14)) (fun _ => ?_)
  refine lv_iload_n hx hb dX3_go_26 rfl (lv_at hl 2 rfl) ?_
  have hE8 : (txR (A 4) N 61 0 (A 0) (F 0)) = (n9, s9, t9) := hE9.trans (congrArg (addN n9) ((txR_s (by omega)).trans (if_neg cb_3)))
  exact gh_reti hC hg hr hlk (by rw [hE8]; exact ⟨rfl, j4, _, c5, c6, hT.eqIAF (fam7 rfl rfl rfl rfl rfl rfl rfl (fun _ => rfl)) (fam8 rfl rfl rfl rfl rfl rfl rfl rfl (fun _ => rfl)) (fam4 rfl rfl rfl rfl (fun _ => rfl))⟩) dX3_go_27 (Nat.le_of_ble_eq_true rfl) (Nat.le_of_ble_eq_true rfl)
set_option maxHeartbeats 1000000 in
set_option maxRecDepth 100000 in
theorem t_runText (l : Launch) (V : gh_V) (o : Nat) (ad : Nat → Nat) (I : Nat → Int32) (A : Nat → Nat → Int32) (F : Nat → Nat → UInt32) (g0 : gh_G) (hP : tw_P V g0 o ad I A F) (N : Nat) (K : Nat) (L D P : Nat) (hN : I 2 = nI N) (hN60 : N ≤ 60) (hKn : I 0 = nI K) (hK5 : K ≤ 5) (hE : tw_wf (A 0) L D P) (hnn : nnS (F 0)) : MI l yX3_runText cX3_runText 2 (some .int) ({ frames := 10, cells := 0, slots := 0, locals := 239 } : Room) V [.ref o] g0 (fun r g1 => (c1 ((txE (A 4) N 61 0).1 = true) = 0 → r = nI (txR (A 4) N 61 0 (A 0) (F 0)).1 ∧ tw_H V g0 g1 o ad (svI (va_up I 3 0) K) (va_up (svA A K) 0 (txR (A 4) N 61 0 (A 0) (F 0)).2.1) (va_up (svF F K) 0 (txR (A 4) N 61 0 (A 0) (F 0)).2.2)) ∧ (¬ c1 ((txE (A 4) N 61 0).1 = true) = 0 → tw_H V g0 g1 o ad (va_up I 3 (c1 ((txE (A 4) N 61 0).1 = true))) A F)) := by
  refine MG.of RX3 (by decide) rfl (Nat.le_of_ble_eq_true rfl) (fun pp ee s mm args below meth c ls hC hg hr hlk hnm hl => ?_)
  have hx := hC.1.1
  have hb := hC.1.2.1
  have hml := hC.1.2.2.1
  have hown := hC.1.2.2.2.1
  have hts := hC.1.2.2.2.2
  have hl : lv_has ls 2 [(0, .ref o)] := hl
  have hT := hP.W
  refine lv_aload_n hx hb dX3_runText_0 rfl (lv_at hl 0 rfl) ?_
  refine lv_iconst (v := 0) hx hb dX3_runText_1 (by decide) ?_
  refine gh_put (v := .int 0) hC hg hT.1.1 fX3_54_0 rfl rfl (Nat.le_of_ble_eq_true rfl) dX3_runText_2 (fun g H locs hg hw hn => ?_)
  have hT : tw_W V g0 g o ad (va_up I 3 0) A F := hT.putI 3 0 hw hn
  refine lv_aload_n hx hb dX3_runText_5 rfl (lv_at hl 0 rfl) ?_
  refine lv_iconst (v := 0) hx hb dX3_runText_6 (by decide) ?_
  refine gh_calli hg (gh_runV (As := [.int 0]) (rest := []) hC hg (t_go0 l V o ad (va_up I 3 0) A F _ hT.1 N hN hN60) 1 (lw_V q4322 q4324 qs97 q138 q4325) hT.1.1 rfl hd_X3_go ⟨Nat.le_of_ble_eq_true rfl, Nat.le_of_ble_eq_true rfl⟩ rfl hl.1 rfl (Nat.le_of_ble_eq_true rfl) dX3_runText_7 ⟨Nat.le_of_ble_eq_true rfl, Nat.le_of_ble_eq_true rfl⟩) (fun r_1 g H locs hg hp => ?_)
  by_cases hok_2 : (txE (A 4) N 61 0).1 = true
  · rw [if_pos hok_2] at hp
    have hT : tw_W V g0 g o ad (va_up (va_up (va_up I 3 0) 6 0) 5 (nI (txE (A 4) N 61 0).2)) A F := hT.call hp
    refine lv_istore_n (lv' := [(1, .int r_1), (0, .ref o)]) hx hb dX3_runText_10 rfl hl (by decide) rfl (fun ls hl => ?_)
    refine lv_aload_n hx hb dX3_runText_11 rfl (lv_at hl 1 rfl) ?_
    refine gh_get (v := .int 0) hC hg hT.1.1 fX3_236_0 rfl dX3_runText_12 ?_
    refine lv_if_eq (tgt := 24) hx hb dX3_runText_15 (by decide) (fun _ => ?_) (fun c_3 => (absurd ((nx_eq (show ((0 : Int32)) = nI 0 from rfl) (show ((0 : Int32)) = nI 0 from rfl) (by omega) (by omega)).mpr (by omega)) c_3))
    refine lv_aload_n hx hb dX3_runText_24 rfl (lv_at hl 1 rfl) ?_
    refine gh_callv hg (gh_runV (As := []) (rest := []) hC hg (t_save l V o ad (va_up (va_up (va_up I 3 0) 6 0) 5 (nI (txE (A 4) N 61 0).2)) A F _ hT.1 K hKn hK5) 0 (lw_V q3912 q3914 qs57 q138 q3915) hT.1.1 rfl hd_X3_save ⟨Nat.le_of_ble_eq_true rfl, Nat.le_of_ble_eq_true rfl⟩ rfl hl.1 rfl (Nat.le_of_ble_eq_true rfl) dX3_runText_25 ⟨Nat.le_of_ble_eq_true rfl, Nat.le_of_ble_eq_true rfl⟩) (fun g H locs hg hp => ?_)
    have hT : tw_W V g0 g o ad (svI (va_up (va_up (va_up I 3 0) 6 0) 5 (nI (txE (A 4) N 61 0).2)) K) (svA A K) (svF F K) := hT.call hp
    refine lv_aload_n hx hb dX3_runText_28 rfl (lv_at hl 1 rfl) ?_
    refine lv_iconst (v := 1) hx hb dX3_runText_29 (by decide) ?_
    refine gh_calli hg (gh_runV (As := [.int 1]) (rest := []) hC hg (t_go1 l V o ad (svI (va_up (va_up (va_up I 3 0) 6 0) 5 (nI (txE (A 4) N 61 0).2)) K) (svA A K) (svF F K) _ hT.1 N L D P hN hN60 hE hnn hok_2) 1 (lw_V q4322 q4324 qs97 q138 q4325) hT.1.1 rfl hd_X3_go ⟨Nat.le_of_ble_eq_true rfl, Nat.le_of_ble_eq_true rfl⟩ rfl hl.1 rfl (Nat.le_of_ble_eq_true rfl) dX3_runText_30 ⟨Nat.le_of_ble_eq_true rfl, Nat.le_of_ble_eq_true rfl⟩) (fun r_4 g H locs hg hp => ?_)
    obtain ⟨hpr, i4, i5, b5, b6, hpT⟩ := hp
    replace hpr : r_4 = nI (txR (A 4) N 61 0 (A 0) (F 0)).1 := hpr
    subst hpr
    have hT : tw_W V g0 g o ad (va_up (va_up (va_up (svI (va_up (va_up (va_up I 3 0) 6 0) 5 (nI (txE (A 4) N 61 0).2)) K) 6 0) 5 i5) 4 i4) (va_up (va_up (va_up (svA A K) 5 b5) 6 b6) 0 ((txR (A 4) N 61 0 (A 0) (F 0)).2.1)) (va_up (svF F K) 0 ((txR (A 4) N 61 0 (A 0) (F 0)).2.2)) := hT.call hpT
    exact gh_reti hC hg hr hlk (⟨fun _ => ⟨rfl, hT.H ⟨rfl, rfl, rfl, rfl⟩ ⟨rfl, rfl, rfl, rfl⟩ ⟨rfl, rfl, rfl⟩⟩, fun h9 => absurd (if_pos hok_2) h9⟩) dX3_runText_33 (Nat.le_of_ble_eq_true rfl) (Nat.le_of_ble_eq_true rfl)
  rw [if_neg hok_2] at hp
  have hT : tw_W V g0 g o ad (va_up (va_up (va_up I 3 0) 6 1) 5 (nI (txE (A 4) N 61 0).2)) A F := hT.call hp
  refine lv_istore_n (lv' := [(1, .int r_1), (0, .ref o)]) hx hb dX3_runText_10 rfl hl (by decide) rfl (fun ls hl => ?_)
  refine lv_aload_n hx hb dX3_runText_11 rfl (lv_at hl 1 rfl) ?_
  refine gh_get (v := .int 1) hC hg hT.1.1 fX3_236_0 rfl dX3_runText_12 ?_
  refine lv_if_eq (tgt := 24) hx hb dX3_runText_15 (by decide) (fun c_5 => (absurd ((nx_eq (show ((1 : Int32)) = nI 1 from rfl) (show ((0 : Int32)) = nI 0 from rfl) (by omega) (by omega)).mp c_5) (by omega))) (fun _ => ?_)
  refine lv_aload_n hx hb dX3_runText_18 rfl (lv_at hl 1 rfl) ?_
  refine lv_iconst (v := 1) hx hb dX3_runText_19 (by decide) ?_
  refine gh_calli hg (gh_runV (As := [.int 1]) (rest := []) hC hg (t_throwing l V o ad (va_up (va_up (va_up I 3 0) 6 1) 5 (nI (txE (A 4) N 61 0).2)) A F _ hT.1 1) 1 (lw_V q3908 q3910 qs56 q138 q3911) hT.1.1 rfl hd_X3_throwing ⟨Nat.le_of_ble_eq_true rfl, Nat.le_of_ble_eq_true rfl⟩ rfl hl.1 rfl (Nat.le_of_ble_eq_true rfl) dX3_runText_20 ⟨Nat.le_of_ble_eq_true rfl, Nat.le_of_ble_eq_true rfl⟩) (fun r_6 g H locs hg hp => ?_)
  obtain ⟨hp, hpT⟩ := hp
  replace hp : r_6 = 0 := hp
  subst hp
  have hT : tw_W V g0 g o ad (va_up (va_up (va_up (va_up I 3 0) 6 1) 5 (nI (txE (A 4) N 61 0).2)) 3 1) A F := hT.call hpT
  exact gh_reti hC hg hr hlk (⟨fun h9 => absurd ((if_neg hok_2 : c1 ((txE (A 4) N 61 0).1 = true) = 1).symm.trans h9) (by decide), fun _ => by rw [show c1 ((txE (A 4) N 61 0).1 = true) = 1 from if_neg hok_2]; exact hT.H ⟨rfl, rfl, rfl, rfl⟩ ⟨rfl, rfl, rfl, rfl⟩ ⟨rfl, rfl, rfl⟩⟩) dX3_runText_23 (Nat.le_of_ble_eq_true rfl) (Nat.le_of_ble_eq_true rfl)
