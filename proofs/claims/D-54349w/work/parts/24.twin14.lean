/-! a minute -/
def time1 (s : Nat → Int32) : Nat → Int32 := upd s 0 (s 0 + 1)
def nP (s : Nat → Int32) : Nat := (s 529).toNatClampNeg
def nD (s : Nat → Int32) : Nat := (s 464).toNatClampNeg
/-- carried out and heated -/
def minA (s : Nat → Int32) : Nat → Int32 := ht2 (carryS (time1 s) (nP s)) 8
noncomputable def minB (s : Nat → Int32) (st : Nat → UInt32) : (Nat → Int32) × (Nat → UInt32) := coolF (minA s) st
noncomputable def minC (s : Nat → Int32) (st : Nat → UInt32) : (Nat → Int32) × (Nat → UInt32) × Int32 := brkF (minB s st).1 (minB s st).2
noncomputable def minD (s : Nat → Int32) (st : Nat → UInt32) : (Nat → Int32) × (Nat → UInt32) × Int32 := mvF (minC s st).1 (minC s st).2.1 (nD s)
noncomputable def minS (s : Nat → Int32) (st : Nat → UInt32) : Nat → Int32 := cln (minD s st).1 2
noncomputable def minT (s : Nat → Int32) (st : Nat → UInt32) : Nat → UInt32 := (minD s st).2.1
/-- how many broke; how many left -/
noncomputable def minBr (s : Nat → Int32) (st : Nat → UInt32) : Int32 := (minC s st).2.2
noncomputable def minN (s : Nat → Int32) (st : Nat → UInt32) : Int32 := (minC s st).2.2 + (minD s st).2.2
theorem nP_of {s : Nat → Int32} {L D P : Nat} (h : tw_wf s L D P) : nP s = P := cl_of h.2.2.1.1 (by have := h.2.2.1.2; omega)
theorem nD_of {s : Nat → Int32} {L D P : Nat} (h : tw_wf s L D P) : nD s = D := cl_of h.2.1.1 (by have := h.2.1.2; omega)
theorem wf_time {s : Nat → Int32} {L D P : Nat} (h : tw_wf s L D P) : tw_wf (time1 s) L D P := wf_upd h nJ_0 _
def minP (s : Nat → Int32) : Nat := (co (time1 s) (nP s)).2
theorem wf_minA {s : Nat → Int32} {L D P : Nat} (h : tw_wf s L D P) : tw_wf (minA s) L D (minP s) := by
  unfold minA minP
  rw [nP_of h]
  exact wf_ht (wf_carry (wf_time h))
theorem wf_minB {s : Nat → Int32} {st : Nat → UInt32} {L D P : Nat} (h : tw_wf s L D P) (hn : nnS st) : tw_wf (minB s st).1 L D (minP s) ∧ nnS (minB s st).2 := by
  unfold minB
  rw [coolF_eq]
  exact cool_wf (wf_minA h) hn 24 (Nat.le_refl _)
theorem wf_minC {s : Nat → Int32} {st : Nat → UInt32} {L D P : Nat} (h : tw_wf s L D P) (hn : nnS st) : tw_wf (minC s st).1 L D (minP s) ∧ nnS (minC s st).2.1 := by
  unfold minC
  rw [brkF_eq]
  exact brk_wf (wf_minB h hn).1 (wf_minB h hn).2 24 (Nat.le_refl _)
theorem wf_minD {s : Nat → Int32} {st : Nat → UInt32} {L D P : Nat} (h : tw_wf s L D P) (hn : nnS st) : tw_wf (minD s st).1 L D (minP s) ∧ nnS (minD s st).2.1 := by
  unfold minD
  rw [nD_of h, mvF_eq]
  exact mv_wf (wf_minC h hn).1 (wf_minC h hn).2 24 (Nat.le_refl _)
theorem wf_min {s : Nat → Int32} {st : Nat → UInt32} {L D P : Nat} (h : tw_wf s L D P) (hn : nnS st) : tw_wf (minS s st) L D (minP s) ∧ nnS (minT s st) := by
  unfold minS minT
  exact ⟨wf_cln (wf_minD h hn).1 2 (Nat.le_refl _), (wf_minD h hn).2⟩
/-- the twin's arrays behind a minute (the two rows of help among them) -/
noncomputable def minAA (A : Nat → Nat → Int32) (st : Nat → UInt32) : Nat → Nat → Int32 := va_up (clA (htA (va_up A 0 (carryS (time1 (A 0)) (nP (A 0))))) st) 0 (minS (A 0) st)
/-- n minutes: places, stresses, how many left, how many broke -/
noncomputable def runs (s : Nat → Int32) (st : Nat → UInt32) : Nat → (Nat → Int32) × (Nat → UInt32) × Int32 × Int32
  | 0 => (s, st, 0, 0)
  | n + 1 => (minS (runs s st n).1 (runs s st n).2.1, minT (runs s st n).1 (runs s st n).2.1, (runs s st n).2.2.1 + minN (runs s st n).1 (runs s st n).2.1, (runs s st n).2.2.2 + minBr (runs s st n).1 (runs s st n).2.1)
theorem runs_s (s : Nat → Int32) (st : Nat → UInt32) (n : Nat) : runs s st (n + 1) = (minS (runs s st n).1 (runs s st n).2.1, minT (runs s st n).1 (runs s st n).2.1, (runs s st n).2.2.1 + minN (runs s st n).1 (runs s st n).2.1, (runs s st n).2.2.2 + minBr (runs s st n).1 (runs s st n).2.1) := rfl
theorem runs_wf {s : Nat → Int32} {st : Nat → UInt32} {L D P : Nat} (h : tw_wf s L D P) (hn : nnS st) : ∀ n, ∃ P', tw_wf (runs s st n).1 L D P' ∧ nnS (runs s st n).2.1
  | 0 => ⟨P, h, hn⟩
  | n + 1 => by
    obtain ⟨P', h1, h2⟩ := runs_wf h hn n
    have h3 := wf_min h1 h2
    rw [runs_s]
    generalize minS (runs s st n).1 (runs s st n).2.1 = a at h3 ⊢
    generalize minT (runs s st n).1 (runs s st n).2.1 = b at h3 ⊢
    generalize minN (runs s st n).1 (runs s st n).2.1 = c
    generalize minBr (runs s st n).1 (runs s st n).2.1 = d
    exact ⟨_, h3⟩
noncomputable def runsF (s : Nat → Int32) (st : Nat → UInt32) (n : Nat) : (Nat → Int32) × (Nat → UInt32) × Int32 × Int32 := frz (runs s st n)
theorem runsF_eq (s : Nat → Int32) (st : Nat → UInt32) (n : Nat) : runsF s st n = runs s st n := frz_eq _
section
variable {V : gh_V} {g0 g : gh_G} {o : Nat} {ad : Nat → Nat} {I I' : Nat → Int32} {A A' : Nat → Nat → Int32} {F F' : Nat → Nat → UInt32}
/-- the twin's world but for its help: the rows 5, 6, 7 (burning, warm, why), 3 (aside), the numbers 4, 5, 6 (broken, spot, isWrong) are any -/
def tw_H (V : gh_V) (g0 g : gh_G) (o : Nat) (ad : Nat → Nat) (I : Nat → Int32) (A : Nat → Nat → Int32) (F : Nat → Nat → UInt32) : Prop :=
  ∃ I' A' F', tw_W V g0 g o ad I' A' F' ∧ (∀ j, j < 4 → I' j = I j) ∧ (A' 0 = A 0 ∧ A' 1 = A 1 ∧ A' 2 = A 2 ∧ A' 4 = A 4) ∧ (∀ j, j < 3 → F' j = F j)
end
set_option maxRecDepth 100000
theorem hd_X3_comesOut : yX3_comesOut.cls = RX3 ∧ yX3_comesOut.cls ≠ "java/lang/invoke/MethodHandle" ∧ yX3_comesOut.cls ≠ "java/lang/invoke/VarHandle" ∧ (parseMethodDescriptor yX3_comesOut.desc).map (fun d => d.parameters.length) = some 0 := by decide +kernel
theorem hd_X3_isFree : yX3_isFree.cls = RX3 ∧ yX3_isFree.cls ≠ "java/lang/invoke/MethodHandle" ∧ yX3_isFree.cls ≠ "java/lang/invoke/VarHandle" ∧ (parseMethodDescriptor yX3_isFree.desc).map (fun d => d.parameters.length) = some 1 := by decide +kernel
set_option maxHeartbeats 1000000 in
set_option maxRecDepth 100000 in
theorem t_moves (l : Launch) (V : gh_V) (o : Nat) (ad : Nat → Nat) (I : Nat → Int32) (A : Nat → Nat → Int32) (F : Nat → Nat → UInt32) (g0 : gh_G) (hP : tw_P V g0 o ad I A F) (L D P : Nat) (hE : tw_wf (A 0) L D P) (hnn : nnS (F 0)) : MI l yX3_moves cX3_moves 6 (some .int) ({ frames := 4, cells := 0, slots := 0, locals := 94 } : Room) V [.ref o] g0 (fun r g1 => r = (mvF (A 0) (F 0) D).2.2 ∧ tw_W V g0 g1 o ad I (va_up A 0 (mvF (A 0) (F 0) D).1) (va_up F 0 (mvF (A 0) (F 0) D).2.1)) := by
  refine MG.of RX3 (by decide) rfl (Nat.le_of_ble_eq_true rfl) (fun pp ee s mm args below meth c ls hC hg hr hlk hnm hl => ?_)
  have hx := hC.1.1
  have hb := hC.1.2.1
  have hml := hC.1.2.2.1
  have hown := hC.1.2.2.2.1
  have hts := hC.1.2.2.2.2
  have hl : lv_has ls 6 [(0, .ref o)] := hl
  have hT := hP.W
  refine lv_iconst (v := 0) hx hb dX3_moves_0 (by decide) ?_
  refine lv_istore_n (lv' := [(1, .int 0), (0, .ref o)]) hx hb dX3_moves_1 rfl hl (by decide) rfl (fun ls hl => ?_)
  refine lv_bipush (v := 23) hx hb dX3_moves_2 (by decide) ?_
  refine lv_istore_n (lv' := [(2, .int 23), (1, .int 0), (0, .ref o)]) hx hb dX3_moves_4 rfl hl (by decide) rfl (fun ls hl => ?_)
  obtain ⟨N9, hN9⟩ : ∃ N, N = 24 := ⟨24, rfl⟩
  refine gh_loop (N := N9) (X := fun i_1 g ls => tw_W V g0 g o ad I (va_up A 0 ((mv (A 0) (F 0) D i_1).1)) (va_up F 0 ((mv (A 0) (F 0) D i_1).2.1)) ∧ lv_has ls 6 [(0, .ref o), (1, .int ((mv (A 0) (F 0) D i_1).2.2)), (2, .int (nI (24 - i_1) - 1))]) ?_ ?_ 0 (by omega) hg ⟨(hT.eqAF (fam8 rfl rfl rfl rfl rfl rfl rfl rfl (fun _ => rfl)) (fam4 rfl rfl rfl rfl (fun _ => rfl))), lv_sub hl [2, 1, 0] rfl⟩
  · intro g H locs ls hg hX
    obtain ⟨hT, hl⟩ := hX
    refine lv_iload_n hx hb dX3_moves_5 rfl (lv_at hl 2 rfl) ?_
    refine lv_if_lt (tgt := 186) hx hb dX3_moves_6 (by decide) (fun _ => ?_) (fun c_2 => (absurd (by rw [hN9]; decide) c_2))
    refine lv_iload_n hx hb dX3_moves_186 rfl (lv_at hl 1 rfl) ?_
    exact gh_reti hC hg hr hlk (⟨congrArg (fun x => x.2.2) (mvF_N hN9 _ _ _), (hT.eqAF (fam8 (congrArg Prod.fst (mvF_N hN9 _ _ _)) rfl rfl rfl rfl rfl rfl rfl (fun _ => rfl)) (fam4 (congrArg (fun x => x.2.1) (mvF_N hN9 _ _ _)) rfl rfl rfl (fun _ => rfl)))⟩) dX3_moves_187 (Nat.le_of_ble_eq_true rfl) (Nat.le_of_ble_eq_true rfl)
  · intro i_1 h_3 ih5 g H locs ls hg hX
    obtain ⟨hT, hl⟩ := hX
    refine lv_iload_n hx hb dX3_moves_5 rfl (lv_at hl 2 rfl) ?_
    have hi24 : i_1 < 24 := by omega
    have hW := mv_wf (D := D) hE hnn i_1 (by omega)
    have ht9 := wf_tick hW.1 (p := (24 - i_1 - 1)) (by omega)
    refine lv_if_lt (tgt := 186) hx hb dX3_moves_6 (by decide) (fun c_4 => (absurd c_4 (by rw [dn_nat (by omega)]; exact nI_pos (by omega)))) (fun _ => ?_)
    refine lv_aload_n hx hb dX3_moves_9 rfl (lv_at hl 0 rfl) ?_
    refine lv_iload_n hx hb dX3_moves_10 rfl (lv_at hl 2 rfl) ?_
    refine gh_calli hg (gh_runV (As := [.int (nI (24 - i_1) - 1)]) (rest := []) hC hg (t_isPiece l V o ad I (va_up A 0 ((mv (A 0) (F 0) D i_1).1)) (va_up F 0 ((mv (A 0) (F 0) D i_1).2.1)) _ hT.1 (nI (24 - i_1) - 1) (24 - i_1 - 1) (dn_nat (by omega)) (by omega)) 1 (lw_V q3960 q3962 qs64 q138 q3963) hT.1.1 rfl hd_X3_isPiece ⟨Nat.le_of_ble_eq_true rfl, Nat.le_of_ble_eq_true rfl⟩ rfl hl.1 rfl (Nat.le_of_ble_eq_true rfl) dX3_moves_11 ⟨Nat.le_of_ble_eq_true rfl, Nat.le_of_ble_eq_true rfl⟩) (fun r_5 g H locs hg hp => ?_)
    replace hp : r_5 = (if ¬ pl ((mv (A 0) (F 0) D i_1).1) (24 - i_1 - 1) 0 = -1 then 1 else 0) ∧ g = _ := hp
    by_cases pc_6 : ¬ pl ((mv (A 0) (F 0) D i_1).1) (24 - i_1 - 1) 0 = -1
    · rw [if_pos pc_6] at hp
      obtain ⟨rfl, hq⟩ := hp
      rw [hq] at hg
      refine lv_if_eq (tgt := 180) hx hb dX3_moves_14 (by decide) (fun c_7 => (absurd ((nx_eq (show ((1 : Int32)) = nI 1 from rfl) (show ((0 : Int32)) = nI 0 from rfl) (by omega) (by omega)).mp c_7) (by omega))) (fun _ => ?_)
      refine lv_aload_n hx hb dX3_moves_17 rfl (lv_at hl 0 rfl) ?_
      refine lv_iload_n hx hb dX3_moves_18 rfl (lv_at hl 2 rfl) ?_
      refine lv_iconst (v := 3) hx hb dX3_moves_19 (by decide) ?_
      refine lv_aload_n hx hb dX3_moves_20 rfl (lv_at hl 0 rfl) ?_
      refine lv_iload_n hx hb dX3_moves_21 rfl (lv_at hl 2 rfl) ?_
      refine lv_iconst (v := 3) hx hb dX3_moves_22 (by decide) ?_
      refine gh_calli hg (gh_runV (As := [.int (nI (24 - i_1) - 1), .int 3]) (rest := [.int 3, .int (nI (24 - i_1) - 1), .ref o]) hC hg (t_at l V o ad I (va_up A 0 ((mv (A 0) (F 0) D i_1).1)) (va_up F 0 ((mv (A 0) (F 0) D i_1).2.1)) _ hT.1 (nI (24 - i_1) - 1) 3 (24 - i_1 - 1) 3 (dn_nat (by omega)) (show ((3 : Int32)) = nI 3 from rfl) (by omega) (by omega)) 2 (lw_V q3964 q3966 qs65 q138 q3967) hT.1.1 rfl hd_X3_at ⟨Nat.le_of_ble_eq_true rfl, Nat.le_of_ble_eq_true rfl⟩ rfl hl.1 rfl (Nat.le_of_ble_eq_true rfl) dX3_moves_23 ⟨Nat.le_of_ble_eq_true rfl, Nat.le_of_ble_eq_true rfl⟩) (fun r_8 g H locs hg hp => ?_)
      obtain ⟨hp, hq⟩ := hp
      replace hp : r_8 = (pl ((mv (A 0) (F 0) D i_1).1) (24 - i_1 - 1) 3) := hp
      subst hp
      rw [hq] at hg
      refine lv_iconst (v := 1) hx hb dX3_moves_26 (by decide) ?_
      refine lv_iadd hx hb dX3_moves_27 ?_
      refine gh_callv hg (gh_runV (As := [.int (nI (24 - i_1) - 1), .int 3, .int ((pl ((mv (A 0) (F 0) D i_1).1) (24 - i_1 - 1) 3) + 1)]) (rest := []) hC hg (t_putPlace l V o ad I (va_up A 0 ((mv (A 0) (F 0) D i_1).1)) (va_up F 0 ((mv (A 0) (F 0) D i_1).2.1)) _ hT.1 (nI (24 - i_1) - 1) 3 ((pl ((mv (A 0) (F 0) D i_1).1) (24 - i_1 - 1) 3) + 1) (24 - i_1 - 1) 3 (dn_nat (by omega)) (show ((3 : Int32)) = nI 3 from rfl) (by omega) (by omega)) 3 (lw_V q3826 q3828 qs53 q138 q3829) hT.1.1 rfl hd_X3_putPlace ⟨Nat.le_of_ble_eq_true rfl, Nat.le_of_ble_eq_true rfl⟩ rfl hl.1 rfl (Nat.le_of_ble_eq_true rfl) dX3_moves_28 ⟨Nat.le_of_ble_eq_true rfl, Nat.le_of_ble_eq_true rfl⟩) (fun g H locs hg hp => ?_)
      have hT : tw_W V g0 g o ad I (va_up (va_up A 0 ((mv (A 0) (F 0) D i_1).1)) 0 (ps ((mv (A 0) (F 0) D i_1).1) (24 - i_1 - 1) 3 ((pl ((mv (A 0) (F 0) D i_1).1) (24 - i_1 - 1) 3) + 1))) (va_up F 0 ((mv (A 0) (F 0) D i_1).2.1)) := hT.call hp
      have hT := hT.eqA (A' := va_up A 0 (tick (mv (A 0) (F 0) D i_1).1 (24 - i_1 - 1))) (fam8 rfl rfl rfl rfl rfl rfl rfl rfl (fun _ => rfl))
      refine lv_aload_n hx hb dX3_moves_31 rfl (lv_at hl 0 rfl) ?_
      refine lv_iload_n hx hb dX3_moves_32 rfl (lv_at hl 2 rfl) ?_
      refine lv_iconst (v := 3) hx hb dX3_moves_33 (by decide) ?_
      refine lv_idiv hx hb dX3_moves_34 (by decide) ?_
      refine lv_iconst (v := 2) hx hb dX3_moves_35 (by decide) ?_
      refine gh_calli hg (gh_runV (As := [.int ((nI (24 - i_1) - 1) / 3), .int 2]) (rest := []) hC hg (t_zone l V o ad I (va_up A 0 (tick (mv (A 0) (F 0) D i_1).1 (24 - i_1 - 1))) (va_up F 0 ((mv (A 0) (F 0) D i_1).2.1)) _ hT.1 ((nI (24 - i_1) - 1) / 3) 2 ((24 - i_1 - 1) / 3) 2 (nx_div (dn_nat (by omega)) (show ((3 : Int32)) = nI 3 from rfl) (by omega) (by omega) (by omega)) (show ((2 : Int32)) = nI 2 from rfl) (by omega) (by omega)) 2 (lw_V q3920 q3922 qs59 q138 q3923) hT.1.1 rfl hd_X3_zone ⟨Nat.le_of_ble_eq_true rfl, Nat.le_of_ble_eq_true rfl⟩ rfl hl.1 rfl (Nat.le_of_ble_eq_true rfl) dX3_moves_36 ⟨Nat.le_of_ble_eq_true rfl, Nat.le_of_ble_eq_true rfl⟩) (fun r_9 g H locs hg hp => ?_)
      obtain ⟨hp, hq⟩ := hp
      replace hp : r_9 = (zn (tick (mv (A 0) (F 0) D i_1).1 (24 - i_1 - 1)) ((24 - i_1 - 1) / 3) 2) := hp
      subst hp
      rw [hq] at hg
      refine lv_istore_n (lv' := [(3, .int (zn (tick (mv (A 0) (F 0) D i_1).1 (24 - i_1 - 1)) ((24 - i_1 - 1) / 3) 2)), (0, .ref o), (1, .int ((mv (A 0) (F 0) D i_1).2.2)), (2, .int (nI (24 - i_1) - 1))]) hx hb dX3_moves_39 rfl hl (by decide) rfl (fun ls hl => ?_)
      refine lv_iload_n hx hb dX3_moves_40 rfl (lv_at hl 0 rfl) ?_
      refine lv_if_le (tgt := 58) hx hb dX3_moves_41 (by decide) (fun c_10 => ?_) (fun c_10 => ?_)
      · skip
        refine lv_iconst (v := 0) hx hb dX3_moves_58 (by decide) ?_
        refine lv_istore (lv' := [(4, .int 0), (3, .int (zn (tick (mv (A 0) (F 0) D i_1).1 (24 - i_1 - 1)) ((24 - i_1 - 1) / 3) 2)), (0, .ref o), (1, .int ((mv (A 0) (F 0) D i_1).2.2)), (2, .int (nI (24 - i_1) - 1))]) hx hb dX3_moves_59 hl (by decide) rfl (fun ls hl => ?_)
        refine lv_iload hx hb dX3_moves_61 (lv_at hl 0 rfl) ?_
        refine lv_if_eq (tgt := 82) hx hb dX3_moves_63 (by decide) (fun _ => ?_) (fun c_11 => (absurd ((nx_eq (show ((0 : Int32)) = nI 0 from rfl) (show ((0 : Int32)) = nI 0 from rfl) (by omega) (by omega)).mpr (by omega)) c_11))
        refine lv_iload hx hb dX3_moves_82 (lv_at hl 0 rfl) ?_
        refine lv_if_eq (tgt := 180) hx hb dX3_moves_84 (by decide) (fun _ => ?_) (fun c_12 => (absurd ((nx_eq (show ((0 : Int32)) = nI 0 from rfl) (show ((0 : Int32)) = nI 0 from rfl) (by omega) (by omega)).mpr (by omega)) c_12))
        refine lv_iinc (v := (nI (24 - (i_1 + 1)) - 1)) (lv' := [(2, .int (nI (24 - (i_1 + 1)) - 1)), (4, .int 0), (3, .int (zn (tick (mv (A 0) (F 0) D i_1).1 (24 - i_1 - 1)) ((24 - i_1 - 1) / 3) 2)), (0, .ref o), (1, .int ((mv (A 0) (F 0) D i_1).2.2))]) hx hb dX3_moves_180 hl (k := 4) rfl (dn_step hi24) (by decide) rfl (fun ls hl => ?_)
        refine lv_goto (tgt := 5) hx hb dX3_moves_183 (by decide) ?_
        exact ih5 _ _ _ _ hg ⟨(hT.eqAF (fam8 (show (tick (mv (A 0) (F 0) D i_1).1 (24 - i_1 - 1)) = (mv (A 0) (F 0) D (i_1 + 1)).1 from by rw [mv_s]; unfold mv1; simp only [if_neg pc_6, if_pos c_10] <;> rfl) rfl rfl rfl rfl rfl rfl rfl (fun _ => rfl)) (fam4 (show (mv (A 0) (F 0) D i_1).2.1 = (mv (A 0) (F 0) D (i_1 + 1)).2.1 from by rw [mv_s]; unfold mv1; simp only [if_neg pc_6, if_pos c_10] <;> rfl) rfl rfl rfl (fun _ => rfl))), (by rw [show (mv (A 0) (F 0) D (i_1 + 1)).2.2 = (mv (A 0) (F 0) D i_1).2.2 from by rw [mv_s]; unfold mv1; simp only [if_neg pc_6, if_pos c_10]]; exact lv_sub hl [3, 4, 0] rfl)⟩
      refine lv_aload_n hx hb dX3_moves_44 rfl (lv_at hl 1 rfl) ?_
      refine lv_iload_n hx hb dX3_moves_45 rfl (lv_at hl 3 rfl) ?_
      refine lv_iconst (v := 3) hx hb dX3_moves_46 (by decide) ?_
      refine gh_calli hg (gh_runV (As := [.int (nI (24 - i_1) - 1), .int 3]) (rest := []) hC hg (t_at l V o ad I (va_up A 0 (tick (mv (A 0) (F 0) D i_1).1 (24 - i_1 - 1))) (va_up F 0 ((mv (A 0) (F 0) D i_1).2.1)) _ hT.1 (nI (24 - i_1) - 1) 3 (24 - i_1 - 1) 3 (dn_nat (by omega)) (show ((3 : Int32)) = nI 3 from rfl) (by omega) (by omega)) 2 (lw_V q3964 q3966 qs65 q138 q3967) hT.1.1 rfl hd_X3_at ⟨Nat.le_of_ble_eq_true rfl, Nat.le_of_ble_eq_true rfl⟩ rfl hl.1 rfl (Nat.le_of_ble_eq_true rfl) dX3_moves_47 ⟨Nat.le_of_ble_eq_true rfl, Nat.le_of_ble_eq_true rfl⟩) (fun r_13 g H locs hg hp => ?_)
      obtain ⟨hp, hq⟩ := hp
      replace hp : r_13 = (pl (tick (mv (A 0) (F 0) D i_1).1 (24 - i_1 - 1)) (24 - i_1 - 1) 3) := hp
      subst hp
      rw [hq] at hg
      refine lv_iload_n hx hb dX3_moves_50 rfl (lv_at hl 0 rfl) ?_
      refine lv_icmp_lt (tgt := 58) hx hb dX3_moves_51 (by decide) (fun c_14 => ?_) (fun c_14 => ?_)
      · skip
        refine lv_iconst (v := 0) hx hb dX3_moves_58 (by decide) ?_
        refine lv_istore (lv' := [(4, .int 0), (3, .int (zn (tick (mv (A 0) (F 0) D i_1).1 (24 - i_1 - 1)) ((24 - i_1 - 1) / 3) 2)), (0, .ref o), (1, .int ((mv (A 0) (F 0) D i_1).2.2)), (2, .int (nI (24 - i_1) - 1))]) hx hb dX3_moves_59 hl (by decide) rfl (fun ls hl => ?_)
        refine lv_iload hx hb dX3_moves_61 (lv_at hl 0 rfl) ?_
        refine lv_if_eq (tgt := 82) hx hb dX3_moves_63 (by decide) (fun _ => ?_) (fun c_15 => (absurd ((nx_eq (show ((0 : Int32)) = nI 0 from rfl) (show ((0 : Int32)) = nI 0 from rfl) (by omega) (by omega)).mpr (by omega)) c_15))
        refine lv_iload hx hb dX3_moves_82 (lv_at hl 0 rfl) ?_
        refine lv_if_eq (tgt := 180) hx hb dX3_moves_84 (by decide) (fun _ => ?_) (fun c_16 => (absurd ((nx_eq (show ((0 : Int32)) = nI 0 from rfl) (show ((0 : Int32)) = nI 0 from rfl) (by omega) (by omega)).mpr (by omega)) c_16))
        refine lv_iinc (v := (nI (24 - (i_1 + 1)) - 1)) (lv' := [(2, .int (nI (24 - (i_1 + 1)) - 1)), (4, .int 0), (3, .int (zn (tick (mv (A 0) (F 0) D i_1).1 (24 - i_1 - 1)) ((24 - i_1 - 1) / 3) 2)), (0, .ref o), (1, .int ((mv (A 0) (F 0) D i_1).2.2))]) hx hb dX3_moves_180 hl (k := 4) rfl (dn_step hi24) (by decide) rfl (fun ls hl => ?_)
        refine lv_goto (tgt := 5) hx hb dX3_moves_183 (by decide) ?_
        exact ih5 _ _ _ _ hg ⟨(hT.eqAF (fam8 (show (tick (mv (A 0) (F 0) D i_1).1 (24 - i_1 - 1)) = (mv (A 0) (F 0) D (i_1 + 1)).1 from by rw [mv_s]; unfold mv1; simp only [if_neg pc_6, if_neg c_10, if_pos c_14] <;> rfl) rfl rfl rfl rfl rfl rfl rfl (fun _ => rfl)) (fam4 (show (mv (A 0) (F 0) D i_1).2.1 = (mv (A 0) (F 0) D (i_1 + 1)).2.1 from by rw [mv_s]; unfold mv1; simp only [if_neg pc_6, if_neg c_10, if_pos c_14] <;> rfl) rfl rfl rfl (fun _ => rfl))), (by rw [show (mv (A 0) (F 0) D (i_1 + 1)).2.2 = (mv (A 0) (F 0) D i_1).2.2 from by rw [mv_s]; unfold mv1; simp only [if_neg pc_6, if_neg c_10, if_pos c_14]]; exact lv_sub hl [3, 4, 0] rfl)⟩
      refine lv_iconst (v := 1) hx hb dX3_moves_54 (by decide) ?_
      refine lv_goto (tgt := 59) hx hb dX3_moves_55 (by decide) ?_
      refine lv_istore (lv' := [(4, .int 1), (3, .int (zn (tick (mv (A 0) (F 0) D i_1).1 (24 - i_1 - 1)) ((24 - i_1 - 1) / 3) 2)), (0, .ref o), (1, .int ((mv (A 0) (F 0) D i_1).2.2)), (2, .int (nI (24 - i_1) - 1))]) hx hb dX3_moves_59 hl (by decide) rfl (fun ls hl => ?_)
      refine lv_iload hx hb dX3_moves_61 (lv_at hl 0 rfl) ?_
      refine lv_if_eq (tgt := 82) hx hb dX3_moves_63 (by decide) (fun c_17 => (absurd ((nx_eq (show ((1 : Int32)) = nI 1 from rfl) (show ((0 : Int32)) = nI 0 from rfl) (by omega) (by omega)).mp c_17) (by omega))) (fun _ => ?_)
      refine lv_iload_n hx hb dX3_moves_66 rfl (lv_at hl 4 rfl) ?_
      refine lv_bipush (v := 23) hx hb dX3_moves_67 (by decide) ?_
      refine lv_icmp_ne (tgt := 82) hx hb dX3_moves_69 (by decide) (fun c_18 => ?_) (fun c_18 => ?_)
      · skip
        have c_18 : ¬ (24 - i_1 - 1) = 23 := fun h9 => c_18 ((nx_eq (dn_nat (by omega)) (show ((23 : Int32)) = nI 23 from rfl) (by omega) (by omega)).mpr h9)
        refine lv_iload hx hb dX3_moves_82 (lv_at hl 0 rfl) ?_
        refine lv_if_eq (tgt := 180) hx hb dX3_moves_84 (by decide) (fun c_19 => (absurd ((nx_eq (show ((1 : Int32)) = nI 1 from rfl) (show ((0 : Int32)) = nI 0 from rfl) (by omega) (by omega)).mp c_19) (by omega))) (fun _ => ?_)
        refine lv_aload_n hx hb dX3_moves_87 rfl (lv_at hl 2 rfl) ?_
        refine lv_iload_n hx hb dX3_moves_88 rfl (lv_at hl 4 rfl) ?_
        refine lv_iconst (v := 1) hx hb dX3_moves_89 (by decide) ?_
        refine lv_iadd hx hb dX3_moves_90 ?_
        refine gh_calli hg (gh_runV (As := [.int ((nI (24 - i_1) - 1) + 1)]) (rest := []) hC hg (t_isFree l V o ad I (va_up A 0 (tick (mv (A 0) (F 0) D i_1).1 (24 - i_1 - 1))) (va_up F 0 ((mv (A 0) (F 0) D i_1).2.1)) _ hT.1 ((nI (24 - i_1) - 1) + 1) ((24 - i_1 - 1) + 1) (nx_add (dn_nat (by omega)) (show ((1 : Int32)) = nI 1 from rfl)) (by omega)) 1 (lw_V q4082 q4084 qs86 q138 q4085) hT.1.1 rfl hd_X3_isFree ⟨Nat.le_of_ble_eq_true rfl, Nat.le_of_ble_eq_true rfl⟩ rfl hl.1 rfl (Nat.le_of_ble_eq_true rfl) dX3_moves_91 ⟨Nat.le_of_ble_eq_true rfl, Nat.le_of_ble_eq_true rfl⟩) (fun r_20 g H locs hg hp => ?_)
        replace hp : r_20 = (if pl (tick (mv (A 0) (F 0) D i_1).1 (24 - i_1 - 1)) ((24 - i_1 - 1) + 1) 0 = -1 ∧ pl (tick (mv (A 0) (F 0) D i_1).1 (24 - i_1 - 1)) ((24 - i_1 - 1) + 1) 4 = 0 then 1 else 0) ∧ g = _ := hp
        by_cases pc_21 : pl (tick (mv (A 0) (F 0) D i_1).1 (24 - i_1 - 1)) ((24 - i_1 - 1) + 1) 0 = -1 ∧ pl (tick (mv (A 0) (F 0) D i_1).1 (24 - i_1 - 1)) ((24 - i_1 - 1) + 1) 4 = 0
        · rw [if_pos pc_21] at hp
          obtain ⟨rfl, hq⟩ := hp
          rw [hq] at hg
          refine lv_if_eq (tgt := 180) hx hb dX3_moves_94 (by decide) (fun c_22 => (absurd ((nx_eq (show ((1 : Int32)) = nI 1 from rfl) (show ((0 : Int32)) = nI 0 from rfl) (by omega) (by omega)).mp c_22) (by omega))) (fun _ => ?_)
          refine lv_iconst (v := 0) hx hb dX3_moves_97 (by decide) ?_
          refine lv_istore (lv' := [(5, .int 0), (4, .int 1), (3, .int (zn (tick (mv (A 0) (F 0) D i_1).1 (24 - i_1 - 1)) ((24 - i_1 - 1) / 3) 2)), (0, .ref o), (1, .int ((mv (A 0) (F 0) D i_1).2.2)), (2, .int (nI (24 - i_1) - 1))]) hx hb dX3_moves_98 hl (by decide) rfl (fun ls hl => ?_)
          refine gh_loop (N := 3) (X := fun i_23 g ls => tw_W V g0 g o ad I (va_up A 0 (shS (tick (mv (A 0) (F 0) D i_1).1 (24 - i_1 - 1)) (24 - i_1 - 1) i_23)) (va_up F 0 ((mv (A 0) (F 0) D i_1).2.1)) ∧ lv_has ls 6 [(0, .ref o), (1, .int ((mv (A 0) (F 0) D i_1).2.2)), (2, .int (nI (24 - i_1) - 1)), (3, .int (zn (tick (mv (A 0) (F 0) D i_1).1 (24 - i_1 - 1)) ((24 - i_1 - 1) / 3) 2)), (4, .int 1), (5, .int (nI i_23))]) ?_ ?_ 0 (by omega) hg ⟨hT, lv_sub hl [3, 4, 5, 2, 1, 0] rfl⟩
          · intro g H locs ls hg hX
            obtain ⟨hT, hl⟩ := hX
            refine lv_iload hx hb dX3_moves_100 (lv_at hl 5 rfl) ?_
            refine lv_iconst (v := 2) hx hb dX3_moves_102 (by decide) ?_
            refine lv_icmp_gt (tgt := 136) hx hb dX3_moves_103 (by decide) (fun _ => ?_) (fun c_24 => (absurd ((nx_lt (show ((2 : Int32)) = nI 2 from rfl) rfl (by omega) (by omega)).mpr (by omega)) c_24))
            refine lv_aload_n hx hb dX3_moves_136 rfl (lv_at hl 0 rfl) ?_
            refine lv_iload_n hx hb dX3_moves_137 rfl (lv_at hl 2 rfl) ?_
            refine lv_iconst (v := 1) hx hb dX3_moves_138 (by decide) ?_
            refine lv_iadd hx hb dX3_moves_139 ?_
            refine lv_iconst (v := 3) hx hb dX3_moves_140 (by decide) ?_
            refine lv_iconst (v := 0) hx hb dX3_moves_141 (by decide) ?_
            refine gh_callv hg (gh_runV (As := [.int ((nI (24 - i_1) - 1) + 1), .int 3, .int 0]) (rest := []) hC hg (t_putPlace l V o ad I (va_up A 0 (shS (tick (mv (A 0) (F 0) D i_1).1 (24 - i_1 - 1)) (24 - i_1 - 1) 3)) (va_up F 0 ((mv (A 0) (F 0) D i_1).2.1)) _ hT.1 ((nI (24 - i_1) - 1) + 1) 3 0 ((24 - i_1 - 1) + 1) 3 (nx_add (dn_nat (by omega)) (show ((1 : Int32)) = nI 1 from rfl)) (show ((3 : Int32)) = nI 3 from rfl) (by omega) (by omega)) 3 (lw_V q3826 q3828 qs53 q138 q3829) hT.1.1 rfl hd_X3_putPlace ⟨Nat.le_of_ble_eq_true rfl, Nat.le_of_ble_eq_true rfl⟩ rfl hl.1 rfl (Nat.le_of_ble_eq_true rfl) dX3_moves_142 ⟨Nat.le_of_ble_eq_true rfl, Nat.le_of_ble_eq_true rfl⟩) (fun g H locs hg hp => ?_)
            have hT : tw_W V g0 g o ad I (va_up (va_up A 0 (shS (tick (mv (A 0) (F 0) D i_1).1 (24 - i_1 - 1)) (24 - i_1 - 1) 3)) 0 (ps (shS (tick (mv (A 0) (F 0) D i_1).1 (24 - i_1 - 1)) (24 - i_1 - 1) 3) ((24 - i_1 - 1) + 1) 3 0)) (va_up F 0 ((mv (A 0) (F 0) D i_1).2.1)) := hT.call hp
            refine lv_aload_n hx hb dX3_moves_145 rfl (lv_at hl 0 rfl) ?_
            refine lv_iload_n hx hb dX3_moves_146 rfl (lv_at hl 2 rfl) ?_
            refine lv_iconst (v := 3) hx hb dX3_moves_147 (by decide) ?_
            refine lv_iconst (v := 0) hx hb dX3_moves_148 (by decide) ?_
            refine gh_callv hg (gh_runV (As := [.int (nI (24 - i_1) - 1), .int 3, .int 0]) (rest := []) hC hg (t_putPlace l V o ad I (va_up (va_up A 0 (shS (tick (mv (A 0) (F 0) D i_1).1 (24 - i_1 - 1)) (24 - i_1 - 1) 3)) 0 (ps (shS (tick (mv (A 0) (F 0) D i_1).1 (24 - i_1 - 1)) (24 - i_1 - 1) 3) ((24 - i_1 - 1) + 1) 3 0)) (va_up F 0 ((mv (A 0) (F 0) D i_1).2.1)) _ hT.1 (nI (24 - i_1) - 1) 3 0 (24 - i_1 - 1) 3 (dn_nat (by omega)) (show ((3 : Int32)) = nI 3 from rfl) (by omega) (by omega)) 3 (lw_V q3826 q3828 qs53 q138 q3829) hT.1.1 rfl hd_X3_putPlace ⟨Nat.le_of_ble_eq_true rfl, Nat.le_of_ble_eq_true rfl⟩ rfl hl.1 rfl (Nat.le_of_ble_eq_true rfl) dX3_moves_149 ⟨Nat.le_of_ble_eq_true rfl, Nat.le_of_ble_eq_true rfl⟩) (fun g H locs hg hp => ?_)
            have hT : tw_W V g0 g o ad I (va_up (va_up (va_up A 0 (shS (tick (mv (A 0) (F 0) D i_1).1 (24 - i_1 - 1)) (24 - i_1 - 1) 3)) 0 (ps (shS (tick (mv (A 0) (F 0) D i_1).1 (24 - i_1 - 1)) (24 - i_1 - 1) 3) ((24 - i_1 - 1) + 1) 3 0)) 0 (ps (ps (shS (tick (mv (A 0) (F 0) D i_1).1 (24 - i_1 - 1)) (24 - i_1 - 1) 3) ((24 - i_1 - 1) + 1) 3 0) (24 - i_1 - 1) 3 0)) (va_up F 0 ((mv (A 0) (F 0) D i_1).2.1)) := hT.call hp
            refine lv_aload_n hx hb dX3_moves_152 rfl (lv_at hl 0 rfl) ?_
            refine lv_iload_n hx hb dX3_moves_153 rfl (lv_at hl 2 rfl) ?_
            refine lv_iconst (v := 0) hx hb dX3_moves_154 (by decide) ?_
            refine lv_iconst (v := (-1)) hx hb dX3_moves_155 (by decide) ?_
            refine gh_callv hg (gh_runV (As := [.int (nI (24 - i_1) - 1), .int 0, .int (-1)]) (rest := []) hC hg (t_putPlace l V o ad I (va_up (va_up (va_up A 0 (shS (tick (mv (A 0) (F 0) D i_1).1 (24 - i_1 - 1)) (24 - i_1 - 1) 3)) 0 (ps (shS (tick (mv (A 0) (F 0) D i_1).1 (24 - i_1 - 1)) (24 - i_1 - 1) 3) ((24 - i_1 - 1) + 1) 3 0)) 0 (ps (ps (shS (tick (mv (A 0) (F 0) D i_1).1 (24 - i_1 - 1)) (24 - i_1 - 1) 3) ((24 - i_1 - 1) + 1) 3 0) (24 - i_1 - 1) 3 0)) (va_up F 0 ((mv (A 0) (F 0) D i_1).2.1)) _ hT.1 (nI (24 - i_1) - 1) 0 (-1) (24 - i_1 - 1) 0 (dn_nat (by omega)) (show ((0 : Int32)) = nI 0 from rfl) (by omega) (by omega)) 3 (lw_V q3826 q3828 qs53 q138 q3829) hT.1.1 rfl hd_X3_putPlace ⟨Nat.le_of_ble_eq_true rfl, Nat.le_of_ble_eq_true rfl⟩ rfl hl.1 rfl (Nat.le_of_ble_eq_true rfl) dX3_moves_156 ⟨Nat.le_of_ble_eq_true rfl, Nat.le_of_ble_eq_true rfl⟩) (fun g H locs hg hp => ?_)
            have hT : tw_W V g0 g o ad I (va_up (va_up (va_up (va_up A 0 (shS (tick (mv (A 0) (F 0) D i_1).1 (24 - i_1 - 1)) (24 - i_1 - 1) 3)) 0 (ps (shS (tick (mv (A 0) (F 0) D i_1).1 (24 - i_1 - 1)) (24 - i_1 - 1) 3) ((24 - i_1 - 1) + 1) 3 0)) 0 (ps (ps (shS (tick (mv (A 0) (F 0) D i_1).1 (24 - i_1 - 1)) (24 - i_1 - 1) 3) ((24 - i_1 - 1) + 1) 3 0) (24 - i_1 - 1) 3 0)) 0 (ps (ps (ps (shS (tick (mv (A 0) (F 0) D i_1).1 (24 - i_1 - 1)) (24 - i_1 - 1) 3) ((24 - i_1 - 1) + 1) 3 0) (24 - i_1 - 1) 3 0) (24 - i_1 - 1) 0 (-1))) (va_up F 0 ((mv (A 0) (F 0) D i_1).2.1)) := hT.call hp
            refine lv_aload_n hx hb dX3_moves_159 rfl (lv_at hl 0 rfl) ?_
            refine gh_get (v := .ref (ad 8)) hC hg hT.1.1 fX3_13_0 rfl dX3_moves_160 ?_
            refine lv_iload_n hx hb dX3_moves_163 rfl (lv_at hl 2 rfl) ?_
            refine lv_iconst (v := 1) hx hb dX3_moves_164 (by decide) ?_
            refine lv_iadd hx hb dX3_moves_165 ?_
            refine lv_aload_n hx hb dX3_moves_166 rfl (lv_at hl 0 rfl) ?_
            refine gh_get (v := .ref (ad 8)) hC hg hT.1.1 fX3_13_0 rfl dX3_moves_167 ?_
            refine lv_iload_n hx hb dX3_moves_170 rfl (lv_at hl 2 rfl) ?_
            refine gh_fald (n := 24) (f := ((mv (A 0) (F 0) D i_1).2.1)) hC hg (hT.1.2.2 0 (by decide)) (dn_nat (by omega)) (by omega) (by omega) dX3_moves_171 ?_
            refine gh_fast (n := 24) (f := ((mv (A 0) (F 0) D i_1).2.1)) hC hg (hT.1.2.2 0 (by decide)) (nx_add (dn_nat (by omega)) (show ((1 : Int32)) = nI 1 from rfl)) (by omega) (by omega) dX3_moves_172 (fun g H locs hg hw hn => ?_)
            have hT : tw_W V g0 g o ad I (va_up (va_up (va_up (va_up A 0 (shS (tick (mv (A 0) (F 0) D i_1).1 (24 - i_1 - 1)) (24 - i_1 - 1) 3)) 0 (ps (shS (tick (mv (A 0) (F 0) D i_1).1 (24 - i_1 - 1)) (24 - i_1 - 1) 3) ((24 - i_1 - 1) + 1) 3 0)) 0 (ps (ps (shS (tick (mv (A 0) (F 0) D i_1).1 (24 - i_1 - 1)) (24 - i_1 - 1) 3) ((24 - i_1 - 1) + 1) 3 0) (24 - i_1 - 1) 3 0)) 0 (ps (ps (ps (shS (tick (mv (A 0) (F 0) D i_1).1 (24 - i_1 - 1)) (24 - i_1 - 1) 3) ((24 - i_1 - 1) + 1) 3 0) (24 - i_1 - 1) 3 0) (24 - i_1 - 1) 0 (-1))) (va_up (va_up F 0 ((mv (A 0) (F 0) D i_1).2.1)) 0 (va_up ((mv (A 0) (F 0) D i_1).2.1) ((24 - i_1 - 1) + 1) (((mv (A 0) (F 0) D i_1).2.1) (24 - i_1 - 1)))) := hT.putF 0 (by decide) hw hn
            refine lv_aload_n hx hb dX3_moves_173 rfl (lv_at hl 0 rfl) ?_
            refine gh_get (v := .ref (ad 8)) hC hg hT.1.1 fX3_13_0 rfl dX3_moves_174 ?_
            refine lv_iload_n hx hb dX3_moves_177 rfl (lv_at hl 2 rfl) ?_
            refine lv_fconst0 hx hb dX3_moves_178 ?_
            refine gh_fast (n := 24) (f := (va_up ((mv (A 0) (F 0) D i_1).2.1) ((24 - i_1 - 1) + 1) (((mv (A 0) (F 0) D i_1).2.1) (24 - i_1 - 1)))) hC hg (hT.1.2.2 0 (by decide)) (dn_nat (by omega)) (by omega) (by omega) dX3_moves_179 (fun g H locs hg hw hn => ?_)
            have hT : tw_W V g0 g o ad I (va_up (va_up (va_up (va_up A 0 (shS (tick (mv (A 0) (F 0) D i_1).1 (24 - i_1 - 1)) (24 - i_1 - 1) 3)) 0 (ps (shS (tick (mv (A 0) (F 0) D i_1).1 (24 - i_1 - 1)) (24 - i_1 - 1) 3) ((24 - i_1 - 1) + 1) 3 0)) 0 (ps (ps (shS (tick (mv (A 0) (F 0) D i_1).1 (24 - i_1 - 1)) (24 - i_1 - 1) 3) ((24 - i_1 - 1) + 1) 3 0) (24 - i_1 - 1) 3 0)) 0 (ps (ps (ps (shS (tick (mv (A 0) (F 0) D i_1).1 (24 - i_1 - 1)) (24 - i_1 - 1) 3) ((24 - i_1 - 1) + 1) 3 0) (24 - i_1 - 1) 3 0) (24 - i_1 - 1) 0 (-1))) (va_up (va_up (va_up F 0 ((mv (A 0) (F 0) D i_1).2.1)) 0 (va_up ((mv (A 0) (F 0) D i_1).2.1) ((24 - i_1 - 1) + 1) (((mv (A 0) (F 0) D i_1).2.1) (24 - i_1 - 1)))) 0 (va_up (va_up ((mv (A 0) (F 0) D i_1).2.1) ((24 - i_1 - 1) + 1) (((mv (A 0) (F 0) D i_1).2.1) (24 - i_1 - 1))) (24 - i_1 - 1) FP.fconst0)) := hT.putF 0 (by decide) hw hn
            refine lv_iinc (v := (nI (24 - (i_1 + 1)) - 1)) (lv' := [(2, .int (nI (24 - (i_1 + 1)) - 1)), (0, .ref o), (1, .int ((mv (A 0) (F 0) D i_1).2.2)), (3, .int (zn (tick (mv (A 0) (F 0) D i_1).1 (24 - i_1 - 1)) ((24 - i_1 - 1) / 3) 2)), (4, .int 1), (5, .int (nI 3))]) hx hb dX3_moves_180 hl (k := 2) rfl (dn_step hi24) (by decide) rfl (fun ls hl => ?_)
            refine lv_goto (tgt := 5) hx hb dX3_moves_183 (by decide) ?_
            exact ih5 _ _ _ _ hg ⟨(hT.eqAF (fam8 (show (ps (ps (ps (shS (tick (mv (A 0) (F 0) D i_1).1 (24 - i_1 - 1)) (24 - i_1 - 1) 3) ((24 - i_1 - 1) + 1) 3 0) (24 - i_1 - 1) 3 0) (24 - i_1 - 1) 0 (-1)) = (mv (A 0) (F 0) D (i_1 + 1)).1 from by rw [mv_s]; unfold mv1; simp only [if_neg pc_6, if_neg c_10, if_neg c_14, if_neg c_18, if_pos pc_21] <;> rfl) rfl rfl rfl rfl rfl rfl rfl (fun _ => rfl)) (fam4 (show (va_up (va_up ((mv (A 0) (F 0) D i_1).2.1) ((24 - i_1 - 1) + 1) (((mv (A 0) (F 0) D i_1).2.1) (24 - i_1 - 1))) (24 - i_1 - 1) FP.fconst0) = (mv (A 0) (F 0) D (i_1 + 1)).2.1 from by rw [mv_s]; unfold mv1; simp only [if_neg pc_6, if_neg c_10, if_neg c_14, if_neg c_18, if_pos pc_21] <;> rfl) rfl rfl rfl (fun _ => rfl))), (by rw [show (mv (A 0) (F 0) D (i_1 + 1)).2.2 = (mv (A 0) (F 0) D i_1).2.2 from by rw [mv_s]; unfold mv1; simp only [if_neg pc_6, if_neg c_10, if_neg c_14, if_neg c_18, if_pos pc_21]]; exact lv_sub hl [1, 2, 0] rfl)⟩
          · intro i_23 h_25 ih100 g H locs ls hg hX
            obtain ⟨hT, hl⟩ := hX
            refine lv_iload hx hb dX3_moves_100 (lv_at hl 5 rfl) ?_
            refine lv_iconst (v := 2) hx hb dX3_moves_102 (by decide) ?_
            refine lv_icmp_gt (tgt := 136) hx hb dX3_moves_103 (by decide) (fun c_26 => (absurd ((nx_lt (show ((2 : Int32)) = nI 2 from rfl) rfl (by omega) (by omega)).mp c_26) (by omega))) (fun _ => ?_)
            refine lv_aload_n hx hb dX3_moves_106 rfl (lv_at hl 0 rfl) ?_
            refine lv_iload_n hx hb dX3_moves_107 rfl (lv_at hl 2 rfl) ?_
            refine lv_iconst (v := 1) hx hb dX3_moves_108 (by decide) ?_
            refine lv_iadd hx hb dX3_moves_109 ?_
            refine lv_iload hx hb dX3_moves_110 (lv_at hl 5 rfl) ?_
            refine lv_aload_n hx hb dX3_moves_112 rfl (lv_at hl 0 rfl) ?_
            refine lv_iload_n hx hb dX3_moves_113 rfl (lv_at hl 2 rfl) ?_
            refine lv_iload hx hb dX3_moves_114 (lv_at hl 5 rfl) ?_
            refine gh_calli hg (gh_runV (As := [.int (nI (24 - i_1) - 1), .int (nI i_23)]) (rest := [.int (nI i_23), .int ((nI (24 - i_1) - 1) + 1), .ref o]) hC hg (t_at l V o ad I (va_up A 0 (shS (tick (mv (A 0) (F 0) D i_1).1 (24 - i_1 - 1)) (24 - i_1 - 1) i_23)) (va_up F 0 ((mv (A 0) (F 0) D i_1).2.1)) _ hT.1 (nI (24 - i_1) - 1) (nI i_23) (24 - i_1 - 1) i_23 (dn_nat (by omega)) rfl (by omega) (by omega)) 2 (lw_V q3964 q3966 qs65 q138 q3967) hT.1.1 rfl hd_X3_at ⟨Nat.le_of_ble_eq_true rfl, Nat.le_of_ble_eq_true rfl⟩ rfl hl.1 rfl (Nat.le_of_ble_eq_true rfl) dX3_moves_116 ⟨Nat.le_of_ble_eq_true rfl, Nat.le_of_ble_eq_true rfl⟩) (fun r_27 g H locs hg hp => ?_)
            obtain ⟨hp, hq⟩ := hp
            replace hp : r_27 = (pl (shS (tick (mv (A 0) (F 0) D i_1).1 (24 - i_1 - 1)) (24 - i_1 - 1) i_23) (24 - i_1 - 1) i_23) := hp
            subst hp
            rw [hq] at hg
            refine gh_callv hg (gh_runV (As := [.int ((nI (24 - i_1) - 1) + 1), .int (nI i_23), .int (pl (shS (tick (mv (A 0) (F 0) D i_1).1 (24 - i_1 - 1)) (24 - i_1 - 1) i_23) (24 - i_1 - 1) i_23)]) (rest := []) hC hg (t_putPlace l V o ad I (va_up A 0 (shS (tick (mv (A 0) (F 0) D i_1).1 (24 - i_1 - 1)) (24 - i_1 - 1) i_23)) (va_up F 0 ((mv (A 0) (F 0) D i_1).2.1)) _ hT.1 ((nI (24 - i_1) - 1) + 1) (nI i_23) (pl (shS (tick (mv (A 0) (F 0) D i_1).1 (24 - i_1 - 1)) (24 - i_1 - 1) i_23) (24 - i_1 - 1) i_23) ((24 - i_1 - 1) + 1) i_23 (nx_add (dn_nat (by omega)) (show ((1 : Int32)) = nI 1 from rfl)) rfl (by omega) (by omega)) 3 (lw_V q3826 q3828 qs53 q138 q3829) hT.1.1 rfl hd_X3_putPlace ⟨Nat.le_of_ble_eq_true rfl, Nat.le_of_ble_eq_true rfl⟩ rfl hl.1 rfl (Nat.le_of_ble_eq_true rfl) dX3_moves_119 ⟨Nat.le_of_ble_eq_true rfl, Nat.le_of_ble_eq_true rfl⟩) (fun g H locs hg hp => ?_)
            have hT : tw_W V g0 g o ad I (va_up (va_up A 0 (shS (tick (mv (A 0) (F 0) D i_1).1 (24 - i_1 - 1)) (24 - i_1 - 1) i_23)) 0 (ps (shS (tick (mv (A 0) (F 0) D i_1).1 (24 - i_1 - 1)) (24 - i_1 - 1) i_23) ((24 - i_1 - 1) + 1) i_23 (pl (shS (tick (mv (A 0) (F 0) D i_1).1 (24 - i_1 - 1)) (24 - i_1 - 1) i_23) (24 - i_1 - 1) i_23))) (va_up F 0 ((mv (A 0) (F 0) D i_1).2.1)) := hT.call hp
            refine lv_aload_n hx hb dX3_moves_122 rfl (lv_at hl 0 rfl) ?_
            refine lv_iload_n hx hb dX3_moves_123 rfl (lv_at hl 2 rfl) ?_
            refine lv_iload hx hb dX3_moves_124 (lv_at hl 5 rfl) ?_
            refine lv_iconst (v := 0) hx hb dX3_moves_126 (by decide) ?_
            refine gh_callv hg (gh_runV (As := [.int (nI (24 - i_1) - 1), .int (nI i_23), .int 0]) (rest := []) hC hg (t_putPlace l V o ad I (va_up (va_up A 0 (shS (tick (mv (A 0) (F 0) D i_1).1 (24 - i_1 - 1)) (24 - i_1 - 1) i_23)) 0 (ps (shS (tick (mv (A 0) (F 0) D i_1).1 (24 - i_1 - 1)) (24 - i_1 - 1) i_23) ((24 - i_1 - 1) + 1) i_23 (pl (shS (tick (mv (A 0) (F 0) D i_1).1 (24 - i_1 - 1)) (24 - i_1 - 1) i_23) (24 - i_1 - 1) i_23))) (va_up F 0 ((mv (A 0) (F 0) D i_1).2.1)) _ hT.1 (nI (24 - i_1) - 1) (nI i_23) 0 (24 - i_1 - 1) i_23 (dn_nat (by omega)) rfl (by omega) (by omega)) 3 (lw_V q3826 q3828 qs53 q138 q3829) hT.1.1 rfl hd_X3_putPlace ⟨Nat.le_of_ble_eq_true rfl, Nat.le_of_ble_eq_true rfl⟩ rfl hl.1 rfl (Nat.le_of_ble_eq_true rfl) dX3_moves_127 ⟨Nat.le_of_ble_eq_true rfl, Nat.le_of_ble_eq_true rfl⟩) (fun g H locs hg hp => ?_)
            have hT : tw_W V g0 g o ad I (va_up (va_up (va_up A 0 (shS (tick (mv (A 0) (F 0) D i_1).1 (24 - i_1 - 1)) (24 - i_1 - 1) i_23)) 0 (ps (shS (tick (mv (A 0) (F 0) D i_1).1 (24 - i_1 - 1)) (24 - i_1 - 1) i_23) ((24 - i_1 - 1) + 1) i_23 (pl (shS (tick (mv (A 0) (F 0) D i_1).1 (24 - i_1 - 1)) (24 - i_1 - 1) i_23) (24 - i_1 - 1) i_23))) 0 (ps (ps (shS (tick (mv (A 0) (F 0) D i_1).1 (24 - i_1 - 1)) (24 - i_1 - 1) i_23) ((24 - i_1 - 1) + 1) i_23 (pl (shS (tick (mv (A 0) (F 0) D i_1).1 (24 - i_1 - 1)) (24 - i_1 - 1) i_23) (24 - i_1 - 1) i_23)) (24 - i_1 - 1) i_23 0)) (va_up F 0 ((mv (A 0) (F 0) D i_1).2.1)) := hT.call hp
            refine lv_iinc (v := (nI (i_23 + 1))) (lv' := [(5, .int (nI (i_23 + 1))), (0, .ref o), (1, .int ((mv (A 0) (F 0) D i_1).2.2)), (2, .int (nI (24 - i_1) - 1)), (3, .int (zn (tick (mv (A 0) (F 0) D i_1).1 (24 - i_1 - 1)) ((24 - i_1 - 1) / 3) 2)), (4, .int 1)]) hx hb dX3_moves_130 hl (k := 5) rfl (nx_iinc rfl) (by decide) rfl (fun ls hl => ?_)
            refine lv_goto (tgt := 100) hx hb dX3_moves_133 (by decide) ?_
            exact ih100 _ _ _ _ hg ⟨(hT.eqA (fam8 rfl rfl rfl rfl rfl rfl rfl rfl (fun _ => rfl))), lv_sub hl [1, 2, 3, 4, 5, 0] rfl⟩
        rw [if_neg pc_21] at hp
        obtain ⟨rfl, hq⟩ := hp
        rw [hq] at hg
        refine lv_if_eq (tgt := 180) hx hb dX3_moves_94 (by decide) (fun _ => ?_) (fun c_28 => (absurd ((nx_eq (show ((0 : Int32)) = nI 0 from rfl) (show ((0 : Int32)) = nI 0 from rfl) (by omega) (by omega)).mpr (by omega)) c_28))
        refine lv_iinc (v := (nI (24 - (i_1 + 1)) - 1)) (lv' := [(2, .int (nI (24 - (i_1 + 1)) - 1)), (4, .int 1), (3, .int (zn (tick (mv (A 0) (F 0) D i_1).1 (24 - i_1 - 1)) ((24 - i_1 - 1) / 3) 2)), (0, .ref o), (1, .int ((mv (A 0) (F 0) D i_1).2.2))]) hx hb dX3_moves_180 hl (k := 4) rfl (dn_step hi24) (by decide) rfl (fun ls hl => ?_)
        refine lv_goto (tgt := 5) hx hb dX3_moves_183 (by decide) ?_
        exact ih5 _ _ _ _ hg ⟨(hT.eqAF (fam8 (show (tick (mv (A 0) (F 0) D i_1).1 (24 - i_1 - 1)) = (mv (A 0) (F 0) D (i_1 + 1)).1 from by rw [mv_s]; unfold mv1; simp only [if_neg pc_6, if_neg c_10, if_neg c_14, if_neg c_18, if_neg pc_21] <;> rfl) rfl rfl rfl rfl rfl rfl rfl (fun _ => rfl)) (fam4 (show (mv (A 0) (F 0) D i_1).2.1 = (mv (A 0) (F 0) D (i_1 + 1)).2.1 from by rw [mv_s]; unfold mv1; simp only [if_neg pc_6, if_neg c_10, if_neg c_14, if_neg c_18, if_neg pc_21] <;> rfl) rfl rfl rfl (fun _ => rfl))), (by rw [show (mv (A 0) (F 0) D (i_1 + 1)).2.2 = (mv (A 0) (F 0) D i_1).2.2 from by rw [mv_s]; unfold mv1; simp only [if_neg pc_6, if_neg c_10, if_neg c_14, if_neg c_18, if_neg pc_21]]; exact lv_sub hl [3, 4, 0] rfl)⟩
      have c_18 : (24 - i_1 - 1) = 23 := (nx_eq (dn_nat (by omega)) (show ((23 : Int32)) = nI 23 from rfl) (by omega) (by omega)).mp c_18
      have hn9 : ¬ pl (tick (mv (A 0) (F 0) D i_1).1 (24 - i_1 - 1)) 23 0 = -1 := by have e9 : (24 - i_1 - 1) = 23 := (by omega); rw [← e9, tick_p0]; exact pc_6
      refine lv_aload_n hx hb dX3_moves_72 rfl (lv_at hl 2 rfl) ?_
      refine gh_callv hg (gh_runV (As := []) (rest := []) hC hg (t_comesOut l V o ad I (va_up A 0 (tick (mv (A 0) (F 0) D i_1).1 (24 - i_1 - 1))) (va_up F 0 ((mv (A 0) (F 0) D i_1).2.1)) _ hT.1 L D P ht9 hn9) 0 (lw_V q4074 q4076 qs84 q138 q4077) hT.1.1 rfl hd_X3_comesOut ⟨Nat.le_of_ble_eq_true rfl, Nat.le_of_ble_eq_true rfl⟩ rfl hl.1 rfl (Nat.le_of_ble_eq_true rfl) dX3_moves_73 ⟨Nat.le_of_ble_eq_true rfl, Nat.le_of_ble_eq_true rfl⟩) (fun g H locs hg hp => ?_)
      have hT : tw_W V g0 g o ad I (va_up (va_up A 0 (tick (mv (A 0) (F 0) D i_1).1 (24 - i_1 - 1))) 0 (coutS (tick (mv (A 0) (F 0) D i_1).1 (24 - i_1 - 1)) ((mv (A 0) (F 0) D i_1).2.1) D)) (va_up (va_up F 0 ((mv (A 0) (F 0) D i_1).2.1)) 0 (va_up ((mv (A 0) (F 0) D i_1).2.1) 23 FP.fconst0)) := hT.call hp
      refine lv_iinc (v := ((mv (A 0) (F 0) D i_1).2.2 + 1)) (lv' := [(1, .int ((mv (A 0) (F 0) D i_1).2.2 + 1)), (4, .int 1), (3, .int (zn (tick (mv (A 0) (F 0) D i_1).1 (24 - i_1 - 1)) ((24 - i_1 - 1) / 3) 2)), (0, .ref o), (2, .int (nI (24 - i_1) - 1))]) hx hb dX3_moves_76 hl (k := 3) rfl rfl (by decide) rfl (fun ls hl => ?_)
      refine lv_goto (tgt := 180) hx hb dX3_moves_79 (by decide) ?_
      refine lv_iinc (v := (nI (24 - (i_1 + 1)) - 1)) (lv' := [(2, .int (nI (24 - (i_1 + 1)) - 1)), (1, .int ((mv (A 0) (F 0) D i_1).2.2 + 1)), (4, .int 1), (3, .int (zn (tick (mv (A 0) (F 0) D i_1).1 (24 - i_1 - 1)) ((24 - i_1 - 1) / 3) 2)), (0, .ref o)]) hx hb dX3_moves_180 hl (k := 4) rfl (dn_step hi24) (by decide) rfl (fun ls hl => ?_)
      refine lv_goto (tgt := 5) hx hb dX3_moves_183 (by decide) ?_
      exact ih5 _ _ _ _ hg ⟨(hT.eqAF (fam8 (show (coutS (tick (mv (A 0) (F 0) D i_1).1 (24 - i_1 - 1)) ((mv (A 0) (F 0) D i_1).2.1) D) = (mv (A 0) (F 0) D (i_1 + 1)).1 from by rw [mv_s]; unfold mv1; simp only [if_neg pc_6, if_neg c_10, if_neg c_14, if_pos c_18] <;> rfl) rfl rfl rfl rfl rfl rfl rfl (fun _ => rfl)) (fam4 (show (va_up ((mv (A 0) (F 0) D i_1).2.1) 23 FP.fconst0) = (mv (A 0) (F 0) D (i_1 + 1)).2.1 from by rw [mv_s]; unfold mv1; simp only [if_neg pc_6, if_neg c_10, if_neg c_14, if_pos c_18] <;> rfl) rfl rfl rfl (fun _ => rfl))), (by rw [show (mv (A 0) (F 0) D (i_1 + 1)).2.2 = ((mv (A 0) (F 0) D i_1).2.2 + 1) from by rw [mv_s]; unfold mv1; simp only [if_neg pc_6, if_neg c_10, if_neg c_14, if_pos c_18]]; exact lv_sub hl [4, 1, 0] rfl)⟩
    rw [if_neg pc_6] at hp
    obtain ⟨rfl, hq⟩ := hp
    rw [hq] at hg
    have pc_6 := Decidable.not_not.mp pc_6
    refine lv_if_eq (tgt := 180) hx hb dX3_moves_14 (by decide) (fun _ => ?_) (fun c_29 => (absurd ((nx_eq (show ((0 : Int32)) = nI 0 from rfl) (show ((0 : Int32)) = nI 0 from rfl) (by omega) (by omega)).mpr (by omega)) c_29))
    refine lv_iinc (v := (nI (24 - (i_1 + 1)) - 1)) (lv' := [(2, .int (nI (24 - (i_1 + 1)) - 1)), (0, .ref o), (1, .int ((mv (A 0) (F 0) D i_1).2.2))]) hx hb dX3_moves_180 hl (k := 2) rfl (dn_step hi24) (by decide) rfl (fun ls hl => ?_)
    refine lv_goto (tgt := 5) hx hb dX3_moves_183 (by decide) ?_
    exact ih5 _ _ _ _ hg ⟨(hT.eqAF (fam8 (show (mv (A 0) (F 0) D i_1).1 = (mv (A 0) (F 0) D (i_1 + 1)).1 from by rw [mv_s]; unfold mv1; simp only [if_pos pc_6] <;> rfl) rfl rfl rfl rfl rfl rfl rfl (fun _ => rfl)) (fam4 (show (mv (A 0) (F 0) D i_1).2.1 = (mv (A 0) (F 0) D (i_1 + 1)).2.1 from by rw [mv_s]; unfold mv1; simp only [if_pos pc_6] <;> rfl) rfl rfl rfl (fun _ => rfl))), (by rw [show (mv (A 0) (F 0) D (i_1 + 1)).2.2 = (mv (A 0) (F 0) D i_1).2.2 from by rw [mv_s]; unfold mv1; simp only [if_pos pc_6]]; exact lv_sub hl [1, 2, 0] rfl)⟩
set_option maxHeartbeats 1000000 in
set_option maxRecDepth 100000 in
theorem t_cleans (l : Launch) (V : gh_V) (o : Nat) (ad : Nat → Nat) (I : Nat → Int32) (A : Nat → Nat → Int32) (F : Nat → Nat → UInt32) (g0 : gh_G) (hP : tw_P V g0 o ad I A F) (L D P : Nat) (hE : tw_wf (A 0) L D P) : MV l yX3_cleans cX3_cleans 3 ({ frames := 1, cells := 0, slots := 0, locals := 23 } : Room) V [.ref o] g0 (fun g1 => tw_W V g0 g1 o ad I (va_up A 0 (cln (A 0) 2)) F) := by
  refine MG.of RX3 (by decide) rfl (Nat.le_of_ble_eq_true rfl) (fun pp ee s mm args below meth c ls hC hg hr hlk hnm hl => ?_)
  have hx := hC.1.1
  have hb := hC.1.2.1
  have hml := hC.1.2.2.1
  have hown := hC.1.2.2.2.1
  have hts := hC.1.2.2.2.2
  have hl : lv_has ls 3 [(0, .ref o)] := hl
  have hT := hP.W
  refine lv_iconst (v := 0) hx hb dX3_cleans_0 (by decide) ?_
  refine lv_istore_n (lv' := [(1, .int 0), (0, .ref o)]) hx hb dX3_cleans_1 rfl hl (by decide) rfl (fun ls hl => ?_)
  refine gh_loop (N := 2) (X := fun i_1 g ls => tw_W V g0 g o ad I (va_up A 0 (cln (A 0) i_1)) F ∧ lv_has ls 3 [(0, .ref o), (1, .int (nI i_1))]) ?_ ?_ 0 (by omega) hg ⟨(hT.eqA (fam8 rfl rfl rfl rfl rfl rfl rfl rfl (fun _ => rfl))), lv_sub hl [1, 0] rfl⟩
  · intro g H locs ls hg hX
    obtain ⟨hT, hl⟩ := hX
    refine lv_iload_n hx hb dX3_cleans_2 rfl (lv_at hl 1 rfl) ?_
    refine lv_iconst (v := 2) hx hb dX3_cleans_3 (by decide) ?_
    refine lv_icmp_ge (tgt := 67) hx hb dX3_cleans_4 (by decide) (fun _ => ?_) (fun c_2 => (absurd ((nx_le (show ((2 : Int32)) = nI 2 from rfl) rfl (by omega) (by omega)).mpr (by omega)) c_2))
    exact gh_retv hC hg hr hlk hT dX3_cleans_67 (Nat.le_of_ble_eq_true rfl) (Nat.le_of_ble_eq_true rfl)
  · intro i_1 h_3 ih2 g H locs ls hg hX
    obtain ⟨hT, hl⟩ := hX
    refine lv_iload_n hx hb dX3_cleans_2 rfl (lv_at hl 1 rfl) ?_
    have hW := wf_cln hE i_1 (by omega)
    have hq9 := wf_cl hW h_3
    refine lv_iconst (v := 2) hx hb dX3_cleans_3 (by decide) ?_
    refine lv_icmp_ge (tgt := 67) hx hb dX3_cleans_4 (by decide) (fun c_4 => (absurd ((nx_le (show ((2 : Int32)) = nI 2 from rfl) rfl (by omega) (by omega)).mp c_4) (by omega))) (fun _ => ?_)
    refine lv_sipush (v := 525) hx hb dX3_cleans_7 (by decide) ?_
    refine lv_iconst (v := 2) hx hb dX3_cleans_10 (by decide) ?_
    refine lv_iload_n hx hb dX3_cleans_11 rfl (lv_at hl 1 rfl) ?_
    refine lv_imul hx hb dX3_cleans_12 ?_
    refine lv_iadd hx hb dX3_cleans_13 ?_
    refine lv_istore_n (lv' := [(2, .int (525 + (2 * (nI i_1)))), (0, .ref o), (1, .int (nI i_1))]) hx hb dX3_cleans_14 rfl hl (by decide) rfl (fun ls hl => ?_)
    refine lv_aload_n hx hb dX3_cleans_15 rfl (lv_at hl 1 rfl) ?_
    refine gh_get (v := .ref (ad 0)) hC hg hT.1.1 fX3_7_0 rfl dX3_cleans_16 ?_
    refine lv_iload_n hx hb dX3_cleans_19 rfl (lv_at hl 0 rfl) ?_
    refine lv_iconst (v := 1) hx hb dX3_cleans_20 (by decide) ?_
    refine lv_iadd hx hb dX3_cleans_21 ?_
    refine gh_iald (n := 578) (f := (cln (A 0) i_1)) hC hg (hT.1.2.1 0 (by decide)) (nx_add (nx_add (show ((525 : Int32)) = nI 525 from rfl) (nx_mul (show ((2 : Int32)) = nI 2 from rfl) rfl)) (show ((1 : Int32)) = nI 1 from rfl)) (by omega) (by omega) dX3_cleans_22 ?_
    refine lv_if_le (tgt := 61) hx hb dX3_cleans_23 (by decide) (fun c_5 => ?_) (fun c_5 => ?_)
    · skip
      refine lv_iinc (v := (nI (i_1 + 1))) (lv' := [(1, .int (nI (i_1 + 1))), (2, .int (525 + (2 * (nI i_1)))), (0, .ref o)]) hx hb dX3_cleans_61 hl (k := 2) rfl (nx_iinc rfl) (by decide) rfl (fun ls hl => ?_)
      refine lv_goto (tgt := 2) hx hb dX3_cleans_64 (by decide) ?_
      exact ih2 _ _ _ _ hg ⟨(hT.eqA (fam8 (show (cln (A 0) i_1) = cln (A 0) (i_1 + 1) from by rw [cln_s]; unfold cln1; simp only [if_pos c_5]) rfl rfl rfl rfl rfl rfl rfl (fun _ => rfl))), lv_sub hl [2, 0] rfl⟩
    refine lv_aload_n hx hb dX3_cleans_26 rfl (lv_at hl 1 rfl) ?_
    refine gh_get (v := .ref (ad 0)) hC hg hT.1.1 fX3_7_0 rfl dX3_cleans_27 ?_
    refine lv_iload_n hx hb dX3_cleans_30 rfl (lv_at hl 0 rfl) ?_
    refine lv_iconst (v := 1) hx hb dX3_cleans_31 (by decide) ?_
    refine lv_iadd hx hb dX3_cleans_32 ?_
    refine lv_dup2_11 hx hb dX3_cleans_33 rfl rfl ?_
    refine gh_iald (n := 578) (f := (cln (A 0) i_1)) hC hg (hT.1.2.1 0 (by decide)) (nx_add (nx_add (show ((525 : Int32)) = nI 525 from rfl) (nx_mul (show ((2 : Int32)) = nI 2 from rfl) rfl)) (show ((1 : Int32)) = nI 1 from rfl)) (by omega) (by omega) dX3_cleans_34 ?_
    refine lv_iconst (v := 1) hx hb dX3_cleans_35 (by decide) ?_
    refine lv_isub hx hb dX3_cleans_36 ?_
    refine gh_iast (n := 578) (f := (cln (A 0) i_1)) hC hg (hT.1.2.1 0 (by decide)) (nx_add (nx_add (show ((525 : Int32)) = nI 525 from rfl) (nx_mul (show ((2 : Int32)) = nI 2 from rfl) rfl)) (show ((1 : Int32)) = nI 1 from rfl)) (by omega) (by omega) dX3_cleans_37 (fun g H locs hg hw hn => ?_)
    have hT : tw_W V g0 g o ad I (va_up (va_up A 0 (cln (A 0) i_1)) 0 (upd (cln (A 0) i_1) ((525 + (2 * i_1)) + 1) (((cln (A 0) i_1) ((525 + (2 * i_1)) + 1)) - 1))) F := hT.putA 0 (by decide) hw hn
    refine lv_aload_n hx hb dX3_cleans_38 rfl (lv_at hl 1 rfl) ?_
    refine gh_get (v := .ref (ad 0)) hC hg hT.1.1 fX3_7_0 rfl dX3_cleans_39 ?_
    refine lv_iload_n hx hb dX3_cleans_42 rfl (lv_at hl 0 rfl) ?_
    refine lv_iconst (v := 1) hx hb dX3_cleans_43 (by decide) ?_
    refine lv_iadd hx hb dX3_cleans_44 ?_
    refine gh_iald (n := 578) (f := (upd (cln (A 0) i_1) ((525 + (2 * i_1)) + 1) (((cln (A 0) i_1) ((525 + (2 * i_1)) + 1)) - 1))) hC hg (hT.1.2.1 0 (by decide)) (nx_add (nx_add (show ((525 : Int32)) = nI 525 from rfl) (nx_mul (show ((2 : Int32)) = nI 2 from rfl) rfl)) (show ((1 : Int32)) = nI 1 from rfl)) (by omega) (by omega) dX3_cleans_45 ?_
    refine W.eq (g2 := F0 mm 46 ls [.int ((cln (A 0) i_1) ((525 + (2 * i_1)) + 1) - 1)]) (by rw [(show ((upd (cln (A 0) i_1) ((525 + (2 * i_1)) + 1) (((cln (A 0) i_1) ((525 + (2 * i_1)) + 1)) - 1)) ((525 + (2 * i_1)) + 1)) = ((cln (A 0) i_1) ((525 + (2 * i_1)) + 1) - 1) from upd_self _ _ _)] <;> rfl) ?_
    refine lv_if_ne (tgt := 61) hx hb dX3_cleans_46 (by decide) (fun c_6 => ?_) (fun c_6 => ?_)
    · skip
      refine lv_iinc (v := (nI (i_1 + 1))) (lv' := [(1, .int (nI (i_1 + 1))), (2, .int (525 + (2 * (nI i_1)))), (0, .ref o)]) hx hb dX3_cleans_61 hl (k := 2) rfl (nx_iinc rfl) (by decide) rfl (fun ls hl => ?_)
      refine lv_goto (tgt := 2) hx hb dX3_cleans_64 (by decide) ?_
      exact ih2 _ _ _ _ hg ⟨(hT.eqA (fam8 (show (upd (cln (A 0) i_1) ((525 + (2 * i_1)) + 1) (((cln (A 0) i_1) ((525 + (2 * i_1)) + 1)) - 1)) = cln (A 0) (i_1 + 1) from by rw [cln_s]; unfold cln1; simp only [if_neg c_5, if_neg c_6]) rfl rfl rfl rfl rfl rfl rfl (fun _ => rfl))), lv_sub hl [2, 0] rfl⟩
    refine lv_aload_n hx hb dX3_cleans_49 rfl (lv_at hl 1 rfl) ?_
    refine lv_aload_n hx hb dX3_cleans_50 rfl (lv_at hl 1 rfl) ?_
    refine gh_get (v := .ref (ad 0)) hC hg hT.1.1 fX3_7_0 rfl dX3_cleans_51 ?_
    refine lv_iload_n hx hb dX3_cleans_54 rfl (lv_at hl 0 rfl) ?_
    refine gh_iald (n := 578) (f := (upd (cln (A 0) i_1) ((525 + (2 * i_1)) + 1) (((cln (A 0) i_1) ((525 + (2 * i_1)) + 1)) - 1))) hC hg (hT.1.2.1 0 (by decide)) (nx_add (show ((525 : Int32)) = nI 525 from rfl) (nx_mul (show ((2 : Int32)) = nI 2 from rfl) rfl)) (by omega) (by omega) dX3_cleans_55 ?_
    refine W.eq (g2 := F0 mm 56 ls [.int ((cln (A 0) i_1) (525 + (2 * i_1))), .ref o]) (by rw [(show ((upd (cln (A 0) i_1) ((525 + (2 * i_1)) + 1) (((cln (A 0) i_1) ((525 + (2 * i_1)) + 1)) - 1)) (525 + (2 * i_1))) = ((cln (A 0) i_1) (525 + (2 * i_1))) from if_neg (by omega))] <;> rfl) ?_
    have hq8 : ((cln (A 0) i_1) (525 + (2 * i_1))).toNatClampNeg < 24 := hq9.2
    refine lv_iconst (v := 4) hx hb dX3_cleans_56 (by decide) ?_
    refine lv_iconst (v := 0) hx hb dX3_cleans_57 (by decide) ?_
    refine gh_callv hg (gh_runV (As := [.int ((cln (A 0) i_1) (525 + (2 * i_1))), .int 4, .int 0]) (rest := []) hC hg (t_putPlace l V o ad I (va_up (va_up A 0 (cln (A 0) i_1)) 0 (upd (cln (A 0) i_1) ((525 + (2 * i_1)) + 1) (((cln (A 0) i_1) ((525 + (2 * i_1)) + 1)) - 1))) F _ hT.1 ((cln (A 0) i_1) (525 + (2 * i_1))) 4 0 (((cln (A 0) i_1) (525 + (2 * i_1))).toNatClampNeg) 4 hq9.1 (show ((4 : Int32)) = nI 4 from rfl) (by omega) (by omega)) 3 (lw_V q3826 q3828 qs53 q138 q3829) hT.1.1 rfl hd_X3_putPlace ⟨Nat.le_of_ble_eq_true rfl, Nat.le_of_ble_eq_true rfl⟩ rfl hl.1 rfl (Nat.le_of_ble_eq_true rfl) dX3_cleans_58 ⟨Nat.le_of_ble_eq_true rfl, Nat.le_of_ble_eq_true rfl⟩) (fun g H locs hg hp => ?_)
    have hT : tw_W V g0 g o ad I (va_up (va_up (va_up A 0 (cln (A 0) i_1)) 0 (upd (cln (A 0) i_1) ((525 + (2 * i_1)) + 1) (((cln (A 0) i_1) ((525 + (2 * i_1)) + 1)) - 1))) 0 (ps (upd (cln (A 0) i_1) ((525 + (2 * i_1)) + 1) (((cln (A 0) i_1) ((525 + (2 * i_1)) + 1)) - 1)) (((cln (A 0) i_1) (525 + (2 * i_1))).toNatClampNeg) 4 0)) F := hT.call hp
    refine lv_iinc (v := (nI (i_1 + 1))) (lv' := [(1, .int (nI (i_1 + 1))), (2, .int (525 + (2 * (nI i_1)))), (0, .ref o)]) hx hb dX3_cleans_61 hl (k := 2) rfl (nx_iinc rfl) (by decide) rfl (fun ls hl => ?_)
    refine lv_goto (tgt := 2) hx hb dX3_cleans_64 (by decide) ?_
    exact ih2 _ _ _ _ hg ⟨(hT.eqA (fam8 (show (ps (upd (cln (A 0) i_1) ((525 + (2 * i_1)) + 1) (((cln (A 0) i_1) ((525 + (2 * i_1)) + 1)) - 1)) (((cln (A 0) i_1) (525 + (2 * i_1))).toNatClampNeg) 4 0) = cln (A 0) (i_1 + 1) from by rw [cln_s]; unfold cln1; simp only [if_neg c_5, if_pos c_6]) rfl rfl rfl rfl rfl rfl rfl (fun _ => rfl))), lv_sub hl [2, 0] rfl⟩
