theorem upd_self (f : Nat → Int32) (k : Nat) (v : Int32) : upd f k v k = v := if_pos rfl
theorem upd_upd (f : Nat → Int32) (k : Nat) (v w : Int32) : upd (upd f k v) k w = upd f k w := by
  funext j; simp only [upd]; split <;> rfl
theorem upd_dec (f : Nat → Int32) (k b : Nat) (h : 0 < b) : upd (upd f k (nI b)) k (upd f k (nI b) k - 1) = upd f k (nI (b - 1)) := by
  rw [upd_upd, upd_self]
  exact congrArg (upd f k) (nx_sub rfl (rfl : (1 : Int32) = nI 1) h)
theorem cpn_lt {α : Type} {f d : Nat → α} {n j : Nat} (h : j < n) : cpn f d n j = f j := if_pos h
theorem fam8 {A B : Nat → Nat → Int32} (h0 : A 0 = B 0) (h1 : A 1 = B 1) (h2 : A 2 = B 2) (h3 : A 3 = B 3) (h4 : A 4 = B 4) (h5 : A 5 = B 5) (h6 : A 6 = B 6) (h7 : A 7 = B 7) (h : ∀ j, A (j + 8) = B (j + 8)) : A = B := by
  funext j
  match j with
  | 0 => exact h0
  | 1 => exact h1
  | 2 => exact h2
  | 3 => exact h3
  | 4 => exact h4
  | 5 => exact h5
  | 6 => exact h6
  | 7 => exact h7
  | j + 8 => exact h j
theorem fam7 {A B : Nat → Int32} (h0 : A 0 = B 0) (h1 : A 1 = B 1) (h2 : A 2 = B 2) (h3 : A 3 = B 3) (h4 : A 4 = B 4) (h5 : A 5 = B 5) (h6 : A 6 = B 6) (h : ∀ j, A (j + 7) = B (j + 7)) : A = B := by
  funext j
  match j with
  | 0 => exact h0
  | 1 => exact h1
  | 2 => exact h2
  | 3 => exact h3
  | 4 => exact h4
  | 5 => exact h5
  | 6 => exact h6
  | j + 7 => exact h j
theorem fam4 {A B : Nat → Nat → UInt32} (h0 : A 0 = B 0) (h1 : A 1 = B 1) (h2 : A 2 = B 2) (h3 : A 3 = B 3) (h : ∀ j, A (j + 4) = B (j + 4)) : A = B := by
  funext j
  match j with
  | 0 => exact h0
  | 1 => exact h1
  | 2 => exact h2
  | 3 => exact h3
  | j + 4 => exact h j
/-! burners: what is left before zone z, the setting with which it burns -/
def bz (s : Nat → Int32) (z : Nat) : Nat := (zn s z 0).toNatClampNeg
def bnU (u b : Nat) : Nat := if u / 3 < b then u / 3 else b
def lf (s : Nat → Int32) : Nat → Nat
  | 0 => (s 1).toNatClampNeg
  | z + 1 => lf s z - 3 * bnU (lf s z) (bz s z)
def bn (s : Nat → Int32) (z : Nat) : Nat := bnU (lf s z) (bz s z)
theorem bnU_le (u b : Nat) : bnU u b ≤ b := by unfold bnU; split <;> omega
theorem bnU_u (u b : Nat) : 3 * bnU u b ≤ u := by unfold bnU; split <;> omega
theorem bnU_max {u b x : Nat} (h1 : 3 * x ≤ u) (h2 : x ≤ b) : x ≤ bnU u b := by unfold bnU; split <;> omega
theorem lf_le (s : Nat → Int32) (hu : (s 1).toNatClampNeg ≤ 99) : ∀ z, lf s z ≤ 99
  | 0 => hu
  | z + 1 => by
    have := lf_le s hu z
    show lf s z - _ ≤ 99
    omega
theorem wf_bz {s : Nat → Int32} {L D P : Nat} (h : tw_wf s L D P) {z : Nat} (hz : z < 8) : zn s z 0 = nI (bz s z) ∧ bz s z ≤ 3 := by
  obtain ⟨b, hb, e⟩ := h.2.2.2.2.2.1 z hz
  unfold bz
  rw [e, nI_clamp (by omega)]
  exact ⟨rfl, hb⟩
theorem wf_u {s : Nat → Int32} {L D P : Nat} (h : tw_wf s L D P) : s 1 = nI (lf s 0) ∧ lf s 0 ≤ 99 := by
  obtain ⟨u, hu, e⟩ := h.2.2.2.2.2.2.2.2.1
  show s 1 = nI (s 1).toNatClampNeg ∧ (s 1).toNatClampNeg ≤ 99
  rw [e, nI_clamp (by omega)]
  exact ⟨rfl, hu⟩
/-! heats -/
def gsum (s : Nat → Int32) (k : Nat) : Int32 := sm (fun z => 3 * nI (bn s z)) k
def ht1 (s : Nat → Int32) (k : Nat) : Nat → Int32 := fun j => if j = 2 then s 2 + gsum s k else if 3 ≤ j ∧ j < 3 + 5 * k ∧ (j - 3) % 5 = 4 then s j + 3 * nI (bn s ((j - 3) / 5)) else s j
def wm (s : Nat → Int32) (z : Nat) : Int32 :=
  zn s z 3 + sp_step (sp_target (nI (bn s z)) - zn s z 3) 8 - zn s z 1 * (zn s z 3 + sp_step (sp_target (nI (bn s z)) - zn s z 3) 8 - 20) / 50
def exz (s : Nat → Int32) (z : Nat) : Int32 := wm s z - (if 7 ≤ z then 0 else (wm s z - wm s (z + 1)) / 16) + (if z ≤ 0 then 0 else (wm s (z - 1) - wm s z) / 16)
def ht2 (s : Nat → Int32) (k : Nat) : Nat → Int32 := fun j => if 3 ≤ j ∧ j < 3 + 5 * k ∧ (j - 3) % 5 = 3 then exz s ((j - 3) / 5) else ht1 s 8 j
theorem ht1_0 (s : Nat → Int32) : ht1 s 0 = s := by
  funext j
  unfold ht1
  by_cases h : j = 2
  · subst h; rw [if_pos rfl, gsum, sm]; simp
  · rw [if_neg h, if_neg (by omega)]
theorem ht1_s (s : Nat → Int32) (z : Nat) : upd (zs (ht1 s z) z 4 (zn s z 4 + 3 * nI (bn s z))) 2 ((zs (ht1 s z) z 4 (zn s z 4 + 3 * nI (bn s z))) 2 + 3 * nI (bn s z)) = ht1 s (z + 1) := by
  funext j
  by_cases h2 : j = 2
  · subst h2
    simp only [upd, zs, ht1, if_true]
    rw [if_neg (by omega)]
    show s 2 + gsum s z + _ = s 2 + (gsum s z + _)
    rw [Int32.add_assoc]
  · simp only [upd, zs, ht1, if_neg h2]
    by_cases hj : j = 3 + 5 * z + 4
    · subst hj
      rw [if_pos rfl, if_pos (by omega), show (3 + 5 * z + 4 - 3) / 5 = z by omega]
      rfl
    · rw [if_neg hj]
      by_cases hc : 3 ≤ j ∧ j < 3 + 5 * z ∧ (j - 3) % 5 = 4
      · rw [if_pos hc, if_pos (by omega)]
      · rw [if_neg hc, if_neg (by omega)]
theorem ht1_zn {s : Nat → Int32} {k z q : Nat} (hk : q < 4) : zn (ht1 s k) z q = zn s z q := by
  unfold zn ht1
  rw [if_neg (by omega), if_neg (by omega)]
theorem ht1_z4 {s : Nat → Int32} {k z : Nat} (hz : k ≤ z) : zn (ht1 s k) z 4 = zn s z 4 := by
  unfold zn ht1
  rw [if_neg (by omega), if_neg (by omega)]
theorem ht1_up {s : Nat → Int32} {k z q : Nat} {v w : Int32} (hk : q < 4) : zn (upd (zs (ht1 s k) z 4 v) 2 w) z q = zn s z q := by
  show upd (zs (ht1 s k) z 4 v) 2 w (3 + 5 * z + q) = _
  simp only [upd, zs]
  rw [if_neg (by omega), if_neg (by omega)]
  exact ht1_zn hk
theorem ht2_0 (s : Nat → Int32) : ht2 s 0 = ht1 s 8 := by
  funext j; unfold ht2; rw [if_neg (by omega)]
theorem ht2_s (s : Nat → Int32) (z : Nat) : zs (ht2 s z) z 3 (exz s z) = ht2 s (z + 1) := by
  funext j
  simp only [zs, upd, ht2]
  by_cases hj : j = 3 + 5 * z + 3
  · subst hj
    rw [if_pos rfl, if_pos (by omega), show (3 + 5 * z + 3 - 3) / 5 = z by omega]
  · rw [if_neg hj]
    by_cases hc : 3 ≤ j ∧ j < 3 + 5 * z ∧ (j - 3) % 5 = 3
    · rw [if_pos hc, if_pos (by omega)]
    · rw [if_neg hc, if_neg (by omega)]
/-- the twin's arrays behind heats -/
def htA (A : Nat → Nat → Int32) : Nat → Nat → Int32 := va_up (va_up (va_up A 5 (cpn (fun j => nI (bn (A 0) j)) (A 5) 8)) 6 (cpn (wm (A 0)) (A 6) 8)) 0 (ht2 (A 0) 8)
set_option maxRecDepth 100000
theorem fX3_38_0 : gh_fd RX3 38 0 13 (.array .int) true := gh_fd.own (T := TX3) tyX3 rfl in_X3 tyX3_ok nmX3 (by decide) q3843 rfl rfl (fun h => rfl)
theorem fX3_41_0 : gh_fd RX3 41 0 14 (.array .int) true := gh_fd.own (T := TX3) tyX3 rfl in_X3 tyX3_ok nmX3 (by decide) q3844 rfl rfl (fun h => rfl)
theorem hd_X3_burns : yX3_burns.cls = RX3 ∧ yX3_burns.cls ≠ "java/lang/invoke/MethodHandle" ∧ yX3_burns.cls ≠ "java/lang/invoke/VarHandle" ∧ (parseMethodDescriptor yX3_burns.desc).map (fun d => d.parameters.length) = some 0 := by decide +kernel
theorem hd_X3_step : yX3_step.cls = RX3 ∧ yX3_step.cls ≠ "java/lang/invoke/MethodHandle" ∧ yX3_step.cls ≠ "java/lang/invoke/VarHandle" ∧ (parseMethodDescriptor yX3_step.desc).map (fun d => d.parameters.length) = some 2 := by decide +kernel
theorem hd_X3_target : yX3_target.cls = RX3 ∧ yX3_target.cls ≠ "java/lang/invoke/MethodHandle" ∧ yX3_target.cls ≠ "java/lang/invoke/VarHandle" ∧ (parseMethodDescriptor yX3_target.desc).map (fun d => d.parameters.length) = some 1 := by decide +kernel
set_option maxHeartbeats 1000000 in
set_option maxRecDepth 100000 in
theorem t_burns (l : Launch) (V : gh_V) (o : Nat) (ad : Nat → Nat) (I : Nat → Int32) (A : Nat → Nat → Int32) (F : Nat → Nat → UInt32) (g0 : gh_G) (hP : tw_P V g0 o ad I A F) (L D P : Nat) (hE : tw_wf (A 0) L D P) : MV l yX3_burns cX3_burns 3 ({ frames := 1, cells := 0, slots := 0, locals := 22 } : Room) V [.ref o] g0 (fun g1 => tw_W V g0 g1 o ad I (va_up A 5 (cpn (fun j => nI (bn (A 0) j)) (A 5) 8)) F) := by
  refine MG.of RX3 (by decide) rfl (Nat.le_of_ble_eq_true rfl) (fun pp ee s mm args below meth c ls hC hg hr hlk hnm hl => ?_)
  have hx := hC.1.1
  have hb := hC.1.2.1
  have hml := hC.1.2.2.1
  have hown := hC.1.2.2.2.1
  have hts := hC.1.2.2.2.2
  have hl : lv_has ls 3 [(0, .ref o)] := hl
  have hT := hP.W
  have hu := wf_u hE
  refine lv_aload_n hx hb dX3_burns_0 rfl (lv_at hl 0 rfl) ?_
  refine gh_get (v := .ref (ad 0)) hC hg hT.1.1 fX3_7_0 rfl dX3_burns_1 ?_
  refine lv_iconst (v := 1) hx hb dX3_burns_4 (by decide) ?_
  refine gh_iald (n := 578) (f := (A 0)) hC hg (hT.1.2.1 0 (by decide)) (show ((1 : Int32)) = nI 1 from rfl) (by omega) (by omega) dX3_burns_5 ?_
  refine W.eq (g2 := F0 mm 6 ls [.int (nI (lf (A 0) 0))]) (by rw [hu.1] <;> rfl) ?_
  refine lv_istore_n (lv' := [(1, .int (nI (lf (A 0) 0))), (0, .ref o)]) hx hb dX3_burns_6 rfl hl (by decide) rfl (fun ls hl => ?_)
  refine lv_iconst (v := 0) hx hb dX3_burns_7 (by decide) ?_
  refine lv_istore_n (lv' := [(2, .int 0), (1, .int (nI (lf (A 0) 0))), (0, .ref o)]) hx hb dX3_burns_8 rfl hl (by decide) rfl (fun ls hl => ?_)
  refine gh_loop (N := 8) (X := fun i_1 g ls => tw_W V g0 g o ad I (va_up A 5 (cpn (fun j => nI (bn (A 0) j)) (A 5) i_1)) F ∧ lv_has ls 3 [(0, .ref o), (1, .int (nI (lf (A 0) i_1))), (2, .int (nI i_1))]) ?_ ?_ 0 (by omega) hg ⟨(hT.eqA (by rw [cpn_0, up_self])), lv_sub hl [2, 1, 0] rfl⟩
  · intro g H locs ls hg hX
    obtain ⟨hT, hl⟩ := hX
    refine lv_iload_n hx hb dX3_burns_9 rfl (lv_at hl 2 rfl) ?_
    refine lv_bipush (v := 8) hx hb dX3_burns_10 (by decide) ?_
    refine lv_icmp_ge (tgt := 69) hx hb dX3_burns_12 (by decide) (fun _ => ?_) (fun c_2 => (absurd ((nx_le (show ((8 : Int32)) = nI 8 from rfl) rfl (by omega) (by omega)).mpr (by omega)) c_2))
    exact gh_retv hC hg hr hlk hT dX3_burns_69 (Nat.le_of_ble_eq_true rfl) (Nat.le_of_ble_eq_true rfl)
  · intro i_1 h_3 ih9 g H locs ls hg hX
    obtain ⟨hT, hl⟩ := hX
    refine lv_iload_n hx hb dX3_burns_9 rfl (lv_at hl 2 rfl) ?_
    have hz := wf_bz hE h_3
    have hl9 := lf_le (A 0) (by have := hu.2; exact this) i_1
    refine lv_bipush (v := 8) hx hb dX3_burns_10 (by decide) ?_
    refine lv_icmp_ge (tgt := 69) hx hb dX3_burns_12 (by decide) (fun c_4 => (absurd ((nx_le (show ((8 : Int32)) = nI 8 from rfl) rfl (by omega) (by omega)).mp c_4) (by omega))) (fun _ => ?_)
    refine lv_aload_n hx hb dX3_burns_15 rfl (lv_at hl 0 rfl) ?_
    refine gh_get (v := .ref (ad 5)) hC hg hT.1.1 fX3_38_0 rfl dX3_burns_16 ?_
    refine lv_iload_n hx hb dX3_burns_19 rfl (lv_at hl 2 rfl) ?_
    refine lv_aload_n hx hb dX3_burns_20 rfl (lv_at hl 0 rfl) ?_
    refine lv_iload_n hx hb dX3_burns_21 rfl (lv_at hl 2 rfl) ?_
    refine lv_iconst (v := 0) hx hb dX3_burns_22 (by decide) ?_
    refine gh_calli hg (gh_runV (As := [.int (nI i_1), .int 0]) (rest := [.int (nI i_1), .ref (ad 5)]) hC hg (t_zone l V o ad I (va_up A 5 (cpn (fun j => nI (bn (A 0) j)) (A 5) i_1)) F _ hT.1 (nI i_1) 0 i_1 0 rfl (show ((0 : Int32)) = nI 0 from rfl) (by omega) (by omega)) 2 (lw_V q3920 q3922 qs59 q138 q3923) hT.1.1 rfl hd_X3_zone ⟨Nat.le_of_ble_eq_true rfl, Nat.le_of_ble_eq_true rfl⟩ rfl hl.1 rfl (Nat.le_of_ble_eq_true rfl) dX3_burns_23 ⟨Nat.le_of_ble_eq_true rfl, Nat.le_of_ble_eq_true rfl⟩) (fun r_5 g H locs hg hp => ?_)
    obtain ⟨hp, hq⟩ := hp
    replace hp : r_5 = (zn (A 0) i_1 0) := hp
    subst hp
    rw [hq] at hg
    refine gh_iast (n := 8) (f := (cpn (fun j => nI (bn (A 0) j)) (A 5) i_1)) hC hg (hT.1.2.1 5 (by decide)) rfl (by omega) (by omega) dX3_burns_26 (fun g H locs hg hw hn => ?_)
    have hT : tw_W V g0 g o ad I (va_up (va_up A 5 (cpn (fun j => nI (bn (A 0) j)) (A 5) i_1)) 5 (upd (cpn (fun j => nI (bn (A 0) j)) (A 5) i_1) i_1 (zn (A 0) i_1 0))) F := hT.putA 5 (by decide) hw hn
    refine gh_while (μ := fun b : Nat => b) (X := fun b g ls => tw_W V g0 g o ad I (va_up A 5 (upd (cpn (fun j => nI (bn (A 0) j)) (A 5) i_1) i_1 (nI b))) F ∧ (b ≤ bz (A 0) i_1 ∧ bn (A 0) i_1 ≤ b) ∧ lv_has ls 3 [(0, .ref o), (1, .int (nI (lf (A 0) i_1))), (2, .int (nI i_1))]) ?_ (bz (A 0) i_1) hg ⟨hT.eqA (by first | (rw [← hz.1]; first | rfl | (simp only [bx_uu]; done) | (simp only [bx_uu]; rfl))), ⟨Nat.le_refl _, bnU_le _ _⟩, lv_sub hl [0, 1, 2] rfl⟩
    intro b ih27 g H locs ls hg hX
    obtain ⟨hT, ⟨hb1, hb2⟩, hl⟩ := hX
    refine lv_iconst (v := 3) hx hb dX3_burns_27 (by decide) ?_
    refine lv_aload_n hx hb dX3_burns_28 rfl (lv_at hl 0 rfl) ?_
    refine gh_get (v := .ref (ad 5)) hC hg hT.1.1 fX3_38_0 rfl dX3_burns_29 ?_
    refine lv_iload_n hx hb dX3_burns_32 rfl (lv_at hl 2 rfl) ?_
    refine gh_iald (n := 8) (f := (upd (cpn (fun j => nI (bn (A 0) j)) (A 5) i_1) i_1 (nI b))) hC hg (hT.1.2.1 5 (by decide)) rfl (by omega) (by omega) dX3_burns_33 ?_
    refine lv_imul hx hb dX3_burns_34 ?_
    refine lv_iload_n hx hb dX3_burns_35 rfl (lv_at hl 1 rfl) ?_
    refine lv_icmp_le (tgt := 52) hx hb dX3_burns_36 (by decide) (fun c_6 => ?_) (fun c_6 => ?_)
    · skip
      have c_6 : (3 * b) ≤ (lf (A 0) i_1) := (nx_le (nx_mul (show ((3 : Int32)) = nI 3 from rfl) (upd_self _ _ _)) rfl (by omega) (by omega)).mp c_6
      have hb8 : b = bn (A 0) i_1 := by have h9 : b ≤ bn (A 0) i_1 := bnU_max (by omega) hb1; omega
      refine lv_iload_n hx hb dX3_burns_52 rfl (lv_at hl 1 rfl) ?_
      refine lv_iconst (v := 3) hx hb dX3_burns_53 (by decide) ?_
      refine lv_aload_n hx hb dX3_burns_54 rfl (lv_at hl 0 rfl) ?_
      refine gh_get (v := .ref (ad 5)) hC hg hT.1.1 fX3_38_0 rfl dX3_burns_55 ?_
      refine lv_iload_n hx hb dX3_burns_58 rfl (lv_at hl 2 rfl) ?_
      refine gh_iald (n := 8) (f := (upd (cpn (fun j => nI (bn (A 0) j)) (A 5) i_1) i_1 (nI b))) hC hg (hT.1.2.1 5 (by decide)) rfl (by omega) (by omega) dX3_burns_59 ?_
      refine lv_imul hx hb dX3_burns_60 ?_
      refine lv_isub hx hb dX3_burns_61 ?_
      refine lv_istore_n (lv' := [(1, .int ((nI (lf (A 0) i_1)) - (3 * ((upd (cpn (fun j => nI (bn (A 0) j)) (A 5) i_1) i_1 (nI b)) i_1)))), (0, .ref o), (2, .int (nI i_1))]) hx hb dX3_burns_62 rfl hl (by decide) rfl (fun ls hl => ?_)
      refine lv_iinc (v := (nI (i_1 + 1))) (lv' := [(2, .int (nI (i_1 + 1))), (1, .int ((nI (lf (A 0) i_1)) - (3 * ((upd (cpn (fun j => nI (bn (A 0) j)) (A 5) i_1) i_1 (nI b)) i_1)))), (0, .ref o)]) hx hb dX3_burns_63 hl (k := 2) rfl (nx_iinc rfl) (by decide) rfl (fun ls hl => ?_)
      refine lv_goto (tgt := 9) hx hb dX3_burns_66 (by decide) ?_
      exact ih9 _ _ _ _ hg ⟨(hT.eqA (fam8 rfl rfl rfl rfl rfl (by subst hb8; exact cpn_s _ _ _) rfl rfl (fun _ => rfl))), (by rw [show nI (lf (A 0) (i_1 + 1)) = ((nI (lf (A 0) i_1)) - (3 * ((upd (cpn (fun j => nI (bn (A 0) j)) (A 5) i_1) i_1 (nI b)) i_1))) from (by rw [show lf (A 0) (i_1 + 1) = lf (A 0) i_1 - 3 * b from by rw [hb8]; rfl, upd_self, ← nx_sub (rfl : nI (lf (A 0) i_1) = nI (lf (A 0) i_1)) (pk_mul 3 b) (by omega)]; rfl)]; exact lv_sub hl [2, 1, 0] rfl)⟩
    have c_6 : ¬ (3 * b) ≤ (lf (A 0) i_1) := fun h9 => c_6 ((nx_le (nx_mul (show ((3 : Int32)) = nI 3 from rfl) (upd_self _ _ _)) rfl (by omega) (by omega)).mpr h9)
    refine lv_aload_n hx hb dX3_burns_39 rfl (lv_at hl 0 rfl) ?_
    refine gh_get (v := .ref (ad 5)) hC hg hT.1.1 fX3_38_0 rfl dX3_burns_40 ?_
    refine lv_iload_n hx hb dX3_burns_43 rfl (lv_at hl 2 rfl) ?_
    refine lv_dup2_11 hx hb dX3_burns_44 rfl rfl ?_
    refine gh_iald (n := 8) (f := (upd (cpn (fun j => nI (bn (A 0) j)) (A 5) i_1) i_1 (nI b))) hC hg (hT.1.2.1 5 (by decide)) rfl (by omega) (by omega) dX3_burns_45 ?_
    refine lv_iconst (v := 1) hx hb dX3_burns_46 (by decide) ?_
    refine lv_isub hx hb dX3_burns_47 ?_
    refine gh_iast (n := 8) (f := (upd (cpn (fun j => nI (bn (A 0) j)) (A 5) i_1) i_1 (nI b))) hC hg (hT.1.2.1 5 (by decide)) rfl (by omega) (by omega) dX3_burns_48 (fun g H locs hg hw hn => ?_)
    have hT : tw_W V g0 g o ad I (va_up (va_up A 5 (upd (cpn (fun j => nI (bn (A 0) j)) (A 5) i_1) i_1 (nI b))) 5 (upd (upd (cpn (fun j => nI (bn (A 0) j)) (A 5) i_1) i_1 (nI b)) i_1 (((upd (cpn (fun j => nI (bn (A 0) j)) (A 5) i_1) i_1 (nI b)) i_1) - 1))) F := hT.putA 5 (by decide) hw hn
    refine lv_goto (tgt := 27) hx hb dX3_burns_49 (by decide) ?_
    have hb9 : bn (A 0) i_1 ≤ b - 1 := by have h9 := bnU_u (lf (A 0) i_1) (bz (A 0) i_1); have h8 : bnU (lf (A 0) i_1) (bz (A 0) i_1) = bn (A 0) i_1 := rfl; omega
    exact ih27 (b - 1) (by show b - 1 < b; omega) _ _ _ _ hg ⟨hT.eqA (fam8 rfl rfl rfl rfl rfl (upd_dec _ _ _ (by omega)) rfl rfl (fun _ => rfl)), ⟨by omega, hb9⟩, lv_sub hl [0, 1, 2] rfl⟩
set_option maxHeartbeats 1000000 in
set_option maxRecDepth 100000 in
theorem t_heats (l : Launch) (V : gh_V) (o : Nat) (ad : Nat → Nat) (I : Nat → Int32) (A : Nat → Nat → Int32) (F : Nat → Nat → UInt32) (g0 : gh_G) (hP : tw_P V g0 o ad I A F) (L D P : Nat) (hE : tw_wf (A 0) L D P) : MV l yX3_heats cX3_heats 4 ({ frames := 2, cells := 0, slots := 0, locals := 44 } : Room) V [.ref o] g0 (fun g1 => ∃ b5 b6, tw_W V g0 g1 o ad I (va_up (va_up (va_up A 5 b5) 6 b6) 0 (ht2 (A 0) 8)) F) := by
  refine MG.of RX3 (by decide) rfl (Nat.le_of_ble_eq_true rfl) (fun pp ee s mm args below meth c ls hC hg hr hlk hnm hl => ?_)
  have hx := hC.1.1
  have hb := hC.1.2.1
  have hml := hC.1.2.2.1
  have hown := hC.1.2.2.2.1
  have hts := hC.1.2.2.2.2
  have hl : lv_has ls 4 [(0, .ref o)] := hl
  have hT := hP.W
  refine lv_aload_n hx hb dX3_heats_0 rfl (lv_at hl 0 rfl) ?_
  refine gh_callv hg (gh_runV (As := []) (rest := []) hC hg (t_burns l V o ad I A F _ hT.1 L D P hE) 0 (lw_V q4032 q4034 qs78 q138 q4035) hT.1.1 rfl hd_X3_burns ⟨Nat.le_of_ble_eq_true rfl, Nat.le_of_ble_eq_true rfl⟩ rfl hl.1 rfl (Nat.le_of_ble_eq_true rfl) dX3_heats_1 ⟨Nat.le_of_ble_eq_true rfl, Nat.le_of_ble_eq_true rfl⟩) (fun g H locs hg hp => ?_)
  have hT : tw_W V g0 g o ad I (va_up A 5 (cpn (fun j => nI (bn (A 0) j)) (A 5) 8)) F := hT.call hp
  refine lv_iconst (v := 0) hx hb dX3_heats_4 (by decide) ?_
  refine lv_istore_n (lv' := [(1, .int 0), (0, .ref o)]) hx hb dX3_heats_5 rfl hl (by decide) rfl (fun ls hl => ?_)
  refine gh_loop (N := 8) (X := fun i_1 g ls => tw_W V g0 g o ad I (va_up (va_up (va_up A 5 (cpn (fun j => nI (bn (A 0) j)) (A 5) 8)) 0 (ht1 (A 0) i_1)) 6 (cpn (wm (A 0)) (A 6) i_1)) F ∧ lv_has ls 4 [(0, .ref o), (1, .int (nI i_1))]) ?_ ?_ 0 (by omega) hg ⟨(hT.eqA (fam8 (ht1_0 _).symm rfl rfl rfl rfl rfl rfl rfl (fun _ => rfl))), lv_sub hl [1, 0] rfl⟩
  · intro g H locs ls hg hX
    obtain ⟨hT, hl⟩ := hX
    refine lv_iload_n hx hb dX3_heats_6 rfl (lv_at hl 1 rfl) ?_
    refine lv_bipush (v := 8) hx hb dX3_heats_7 (by decide) ?_
    refine lv_icmp_ge (tgt := 101) hx hb dX3_heats_9 (by decide) (fun _ => ?_) (fun c_2 => (absurd ((nx_le (show ((8 : Int32)) = nI 8 from rfl) rfl (by omega) (by omega)).mpr (by omega)) c_2))
    refine lv_iconst (v := 0) hx hb dX3_heats_101 (by decide) ?_
    refine lv_istore_n (lv' := [(1, .int 0), (0, .ref o)]) hx hb dX3_heats_102 rfl hl (by decide) rfl (fun ls hl => ?_)
    refine gh_loop (N := 8) (X := fun i_3 g ls => tw_W V g0 g o ad I (va_up (va_up (va_up A 5 (cpn (fun j => nI (bn (A 0) j)) (A 5) 8)) 6 (cpn (wm (A 0)) (A 6) 8)) 0 (ht2 (A 0) i_3)) F ∧ lv_has ls 4 [(0, .ref o), (1, .int (nI i_3))]) ?_ ?_ 0 (by omega) hg ⟨(hT.eqA (fam8 (ht2_0 _).symm rfl rfl rfl rfl rfl rfl rfl (fun _ => rfl))), lv_sub hl [1, 0] rfl⟩
    · intro g H locs ls hg hX
      obtain ⟨hT, hl⟩ := hX
      refine lv_iload_n hx hb dX3_heats_103 rfl (lv_at hl 1 rfl) ?_
      refine lv_bipush (v := 8) hx hb dX3_heats_104 (by decide) ?_
      refine lv_icmp_ge (tgt := 187) hx hb dX3_heats_106 (by decide) (fun _ => ?_) (fun c_4 => (absurd ((nx_le (show ((8 : Int32)) = nI 8 from rfl) rfl (by omega) (by omega)).mpr (by omega)) c_4))
      exact gh_retv hC hg hr hlk (⟨_, _, hT⟩) dX3_heats_187 (Nat.le_of_ble_eq_true rfl) (Nat.le_of_ble_eq_true rfl)
    · intro i_3 h_5 ih103 g H locs ls hg hX
      obtain ⟨hT, hl⟩ := hX
      refine lv_iload_n hx hb dX3_heats_103 rfl (lv_at hl 1 rfl) ?_
      refine lv_bipush (v := 8) hx hb dX3_heats_104 (by decide) ?_
      refine lv_icmp_ge (tgt := 187) hx hb dX3_heats_106 (by decide) (fun c_6 => (absurd ((nx_le (show ((8 : Int32)) = nI 8 from rfl) rfl (by omega) (by omega)).mp c_6) (by omega))) (fun _ => ?_)
      refine lv_iload_n hx hb dX3_heats_109 rfl (lv_at hl 1 rfl) ?_
      refine lv_bipush (v := 7) hx hb dX3_heats_110 (by decide) ?_
      refine lv_icmp_ge (tgt := 136) hx hb dX3_heats_112 (by decide) (fun c_7 => ?_) (fun c_7 => ?_)
      · skip
        have c_7 : 7 ≤ i_3 := (nx_le (show ((7 : Int32)) = nI 7 from rfl) rfl (by omega) (by omega)).mp c_7
        refine lv_iconst (v := 0) hx hb dX3_heats_136 (by decide) ?_
        refine lv_istore_n (lv' := [(2, .int 0), (0, .ref o), (1, .int (nI i_3))]) hx hb dX3_heats_137 rfl hl (by decide) rfl (fun ls hl => ?_)
        refine lv_iload_n hx hb dX3_heats_138 rfl (lv_at hl 2 rfl) ?_
        refine lv_if_le (tgt := 163) hx hb dX3_heats_139 (by decide) (fun c_8 => ?_) (fun c_8 => ?_)
        · skip
          have c_8 : i_3 ≤ 0 := (nx_le rfl (show ((0 : Int32)) = nI 0 from rfl) (by omega) (by omega)).mp c_8
          refine lv_iconst (v := 0) hx hb dX3_heats_163 (by decide) ?_
          refine lv_istore_n (lv' := [(3, .int 0), (2, .int 0), (0, .ref o), (1, .int (nI i_3))]) hx hb dX3_heats_164 rfl hl (by decide) rfl (fun ls hl => ?_)
          refine lv_aload_n hx hb dX3_heats_165 rfl (lv_at hl 2 rfl) ?_
          refine lv_iload_n hx hb dX3_heats_166 rfl (lv_at hl 3 rfl) ?_
          refine lv_iconst (v := 3) hx hb dX3_heats_167 (by decide) ?_
          refine lv_aload_n hx hb dX3_heats_168 rfl (lv_at hl 2 rfl) ?_
          refine gh_get (v := .ref (ad 6)) hC hg hT.1.1 fX3_41_0 rfl dX3_heats_169 ?_
          refine lv_iload_n hx hb dX3_heats_172 rfl (lv_at hl 3 rfl) ?_
          refine gh_iald (n := 8) (f := (cpn (wm (A 0)) (A 6) 8)) hC hg (hT.1.2.1 6 (by decide)) rfl (by omega) (by omega) dX3_heats_173 ?_
          refine W.eq (g2 := F0 mm 174 ls [.int (wm (A 0) i_3), .int 3, .int (nI i_3), .ref o]) (by rw [cpn_lt (f := wm (A 0)) (by omega)] <;> rfl) ?_
          refine lv_iload_n hx hb dX3_heats_174 rfl (lv_at hl 1 rfl) ?_
          refine lv_isub hx hb dX3_heats_175 ?_
          refine lv_iload_n hx hb dX3_heats_176 rfl (lv_at hl 0 rfl) ?_
          refine lv_iadd hx hb dX3_heats_177 ?_
          refine gh_callv hg (gh_runV (As := [.int (nI i_3), .int 3, .int (((wm (A 0) i_3) - 0) + 0)]) (rest := []) hC hg (t_putZone l V o ad I (va_up (va_up (va_up A 5 (cpn (fun j => nI (bn (A 0) j)) (A 5) 8)) 6 (cpn (wm (A 0)) (A 6) 8)) 0 (ht2 (A 0) i_3)) F _ hT.1 (nI i_3) 3 (((wm (A 0) i_3) - 0) + 0) i_3 3 rfl (show ((3 : Int32)) = nI 3 from rfl) (by omega) (by omega)) 3 (lw_V q3822 q3824 qs52 q138 q3825) hT.1.1 rfl hd_X3_putZone ⟨Nat.le_of_ble_eq_true rfl, Nat.le_of_ble_eq_true rfl⟩ rfl hl.1 rfl (Nat.le_of_ble_eq_true rfl) dX3_heats_178 ⟨Nat.le_of_ble_eq_true rfl, Nat.le_of_ble_eq_true rfl⟩) (fun g H locs hg hp => ?_)
          have hT : tw_W V g0 g o ad I (va_up (va_up (va_up (va_up A 5 (cpn (fun j => nI (bn (A 0) j)) (A 5) 8)) 6 (cpn (wm (A 0)) (A 6) 8)) 0 (ht2 (A 0) i_3)) 0 (zs (ht2 (A 0) i_3) i_3 3 (((wm (A 0) i_3) - 0) + 0))) F := hT.call hp
          refine lv_iinc (v := (nI (i_3 + 1))) (lv' := [(1, .int (nI (i_3 + 1))), (3, .int 0), (2, .int 0), (0, .ref o)]) hx hb dX3_heats_181 hl (k := 3) rfl (nx_iinc rfl) (by decide) rfl (fun ls hl => ?_)
          refine lv_goto (tgt := 103) hx hb dX3_heats_184 (by decide) ?_
          exact ih103 _ _ _ _ hg ⟨(hT.eqA (fam8 (show (zs (ht2 (A 0) i_3) i_3 3 (((wm (A 0) i_3) - 0) + 0)) = ht2 (A 0) (i_3 + 1) from by rw [← ht2_s]; unfold exz; simp only [if_pos c_7, if_pos c_8]) rfl rfl rfl rfl rfl rfl rfl (fun _ => rfl))), lv_sub hl [3, 0] rfl⟩
        have c_8 : ¬ i_3 ≤ 0 := fun h9 => c_8 ((nx_le rfl (show ((0 : Int32)) = nI 0 from rfl) (by omega) (by omega)).mpr h9)
        refine lv_aload_n hx hb dX3_heats_142 rfl (lv_at hl 1 rfl) ?_
        refine gh_get (v := .ref (ad 6)) hC hg hT.1.1 fX3_41_0 rfl dX3_heats_143 ?_
        refine lv_iload_n hx hb dX3_heats_146 rfl (lv_at hl 2 rfl) ?_
        refine lv_iconst (v := 1) hx hb dX3_heats_147 (by decide) ?_
        refine lv_isub hx hb dX3_heats_148 ?_
        refine gh_iald (n := 8) (f := (cpn (wm (A 0)) (A 6) 8)) hC hg (hT.1.2.1 6 (by decide)) (nx_sub rfl (show ((1 : Int32)) = nI 1 from rfl) (by omega)) (by omega) (by omega) dX3_heats_149 ?_
        refine W.eq (g2 := F0 mm 150 ls [.int (wm (A 0) (i_3 - 1))]) (by rw [cpn_lt (f := wm (A 0)) (by omega)] <;> rfl) ?_
        refine lv_aload_n hx hb dX3_heats_150 rfl (lv_at hl 1 rfl) ?_
        refine gh_get (v := .ref (ad 6)) hC hg hT.1.1 fX3_41_0 rfl dX3_heats_151 ?_
        refine lv_iload_n hx hb dX3_heats_154 rfl (lv_at hl 2 rfl) ?_
        refine gh_iald (n := 8) (f := (cpn (wm (A 0)) (A 6) 8)) hC hg (hT.1.2.1 6 (by decide)) rfl (by omega) (by omega) dX3_heats_155 ?_
        refine W.eq (g2 := F0 mm 156 ls [.int (wm (A 0) i_3), .int (wm (A 0) (i_3 - 1))]) (by rw [cpn_lt (f := wm (A 0)) (by omega)] <;> rfl) ?_
        refine lv_isub hx hb dX3_heats_156 ?_
        refine lv_bipush (v := 16) hx hb dX3_heats_157 (by decide) ?_
        refine lv_idiv hx hb dX3_heats_159 (by decide) ?_
        refine lv_goto (tgt := 164) hx hb dX3_heats_160 (by decide) ?_
        refine lv_istore_n (lv' := [(3, .int (((wm (A 0) (i_3 - 1)) - (wm (A 0) i_3)) / 16)), (2, .int 0), (0, .ref o), (1, .int (nI i_3))]) hx hb dX3_heats_164 rfl hl (by decide) rfl (fun ls hl => ?_)
        refine lv_aload_n hx hb dX3_heats_165 rfl (lv_at hl 2 rfl) ?_
        refine lv_iload_n hx hb dX3_heats_166 rfl (lv_at hl 3 rfl) ?_
        refine lv_iconst (v := 3) hx hb dX3_heats_167 (by decide) ?_
        refine lv_aload_n hx hb dX3_heats_168 rfl (lv_at hl 2 rfl) ?_
        refine gh_get (v := .ref (ad 6)) hC hg hT.1.1 fX3_41_0 rfl dX3_heats_169 ?_
        refine lv_iload_n hx hb dX3_heats_172 rfl (lv_at hl 3 rfl) ?_
        refine gh_iald (n := 8) (f := (cpn (wm (A 0)) (A 6) 8)) hC hg (hT.1.2.1 6 (by decide)) rfl (by omega) (by omega) dX3_heats_173 ?_
        refine W.eq (g2 := F0 mm 174 ls [.int (wm (A 0) i_3), .int 3, .int (nI i_3), .ref o]) (by rw [cpn_lt (f := wm (A 0)) (by omega)] <;> rfl) ?_
        refine lv_iload_n hx hb dX3_heats_174 rfl (lv_at hl 1 rfl) ?_
        refine lv_isub hx hb dX3_heats_175 ?_
        refine lv_iload_n hx hb dX3_heats_176 rfl (lv_at hl 0 rfl) ?_
        refine lv_iadd hx hb dX3_heats_177 ?_
        refine gh_callv hg (gh_runV (As := [.int (nI i_3), .int 3, .int (((wm (A 0) i_3) - 0) + (((wm (A 0) (i_3 - 1)) - (wm (A 0) i_3)) / 16))]) (rest := []) hC hg (t_putZone l V o ad I (va_up (va_up (va_up A 5 (cpn (fun j => nI (bn (A 0) j)) (A 5) 8)) 6 (cpn (wm (A 0)) (A 6) 8)) 0 (ht2 (A 0) i_3)) F _ hT.1 (nI i_3) 3 (((wm (A 0) i_3) - 0) + (((wm (A 0) (i_3 - 1)) - (wm (A 0) i_3)) / 16)) i_3 3 rfl (show ((3 : Int32)) = nI 3 from rfl) (by omega) (by omega)) 3 (lw_V q3822 q3824 qs52 q138 q3825) hT.1.1 rfl hd_X3_putZone ⟨Nat.le_of_ble_eq_true rfl, Nat.le_of_ble_eq_true rfl⟩ rfl hl.1 rfl (Nat.le_of_ble_eq_true rfl) dX3_heats_178 ⟨Nat.le_of_ble_eq_true rfl, Nat.le_of_ble_eq_true rfl⟩) (fun g H locs hg hp => ?_)
        have hT : tw_W V g0 g o ad I (va_up (va_up (va_up (va_up A 5 (cpn (fun j => nI (bn (A 0) j)) (A 5) 8)) 6 (cpn (wm (A 0)) (A 6) 8)) 0 (ht2 (A 0) i_3)) 0 (zs (ht2 (A 0) i_3) i_3 3 (((wm (A 0) i_3) - 0) + (((wm (A 0) (i_3 - 1)) - (wm (A 0) i_3)) / 16)))) F := hT.call hp
        refine lv_iinc (v := (nI (i_3 + 1))) (lv' := [(1, .int (nI (i_3 + 1))), (3, .int (((wm (A 0) (i_3 - 1)) - (wm (A 0) i_3)) / 16)), (2, .int 0), (0, .ref o)]) hx hb dX3_heats_181 hl (k := 3) rfl (nx_iinc rfl) (by decide) rfl (fun ls hl => ?_)
        refine lv_goto (tgt := 103) hx hb dX3_heats_184 (by decide) ?_
        exact ih103 _ _ _ _ hg ⟨(hT.eqA (fam8 (show (zs (ht2 (A 0) i_3) i_3 3 (((wm (A 0) i_3) - 0) + (((wm (A 0) (i_3 - 1)) - (wm (A 0) i_3)) / 16))) = ht2 (A 0) (i_3 + 1) from by rw [← ht2_s]; unfold exz; simp only [if_pos c_7, if_neg c_8]) rfl rfl rfl rfl rfl rfl rfl (fun _ => rfl))), lv_sub hl [3, 0] rfl⟩
      have c_7 : ¬ 7 ≤ i_3 := fun h9 => c_7 ((nx_le (show ((7 : Int32)) = nI 7 from rfl) rfl (by omega) (by omega)).mpr h9)
      refine lv_aload_n hx hb dX3_heats_115 rfl (lv_at hl 0 rfl) ?_
      refine gh_get (v := .ref (ad 6)) hC hg hT.1.1 fX3_41_0 rfl dX3_heats_116 ?_
      refine lv_iload_n hx hb dX3_heats_119 rfl (lv_at hl 1 rfl) ?_
      refine gh_iald (n := 8) (f := (cpn (wm (A 0)) (A 6) 8)) hC hg (hT.1.2.1 6 (by decide)) rfl (by omega) (by omega) dX3_heats_120 ?_
      refine W.eq (g2 := F0 mm 121 ls [.int (wm (A 0) i_3)]) (by rw [cpn_lt (f := wm (A 0)) (by omega)] <;> rfl) ?_
      refine lv_aload_n hx hb dX3_heats_121 rfl (lv_at hl 0 rfl) ?_
      refine gh_get (v := .ref (ad 6)) hC hg hT.1.1 fX3_41_0 rfl dX3_heats_122 ?_
      refine lv_iload_n hx hb dX3_heats_125 rfl (lv_at hl 1 rfl) ?_
      refine lv_iconst (v := 1) hx hb dX3_heats_126 (by decide) ?_
      refine lv_iadd hx hb dX3_heats_127 ?_
      refine gh_iald (n := 8) (f := (cpn (wm (A 0)) (A 6) 8)) hC hg (hT.1.2.1 6 (by decide)) (nx_add rfl (show ((1 : Int32)) = nI 1 from rfl)) (by omega) (by omega) dX3_heats_128 ?_
      refine W.eq (g2 := F0 mm 129 ls [.int (wm (A 0) (i_3 + 1)), .int (wm (A 0) i_3)]) (by rw [cpn_lt (f := wm (A 0)) (by omega)] <;> rfl) ?_
      refine lv_isub hx hb dX3_heats_129 ?_
      refine lv_bipush (v := 16) hx hb dX3_heats_130 (by decide) ?_
      refine lv_idiv hx hb dX3_heats_132 (by decide) ?_
      refine lv_goto (tgt := 137) hx hb dX3_heats_133 (by decide) ?_
      refine lv_istore_n (lv' := [(2, .int (((wm (A 0) i_3) - (wm (A 0) (i_3 + 1))) / 16)), (0, .ref o), (1, .int (nI i_3))]) hx hb dX3_heats_137 rfl hl (by decide) rfl (fun ls hl => ?_)
      refine lv_iload_n hx hb dX3_heats_138 rfl (lv_at hl 2 rfl) ?_
      refine lv_if_le (tgt := 163) hx hb dX3_heats_139 (by decide) (fun c_9 => ?_) (fun c_9 => ?_)
      · skip
        have c_9 : i_3 ≤ 0 := (nx_le rfl (show ((0 : Int32)) = nI 0 from rfl) (by omega) (by omega)).mp c_9
        refine lv_iconst (v := 0) hx hb dX3_heats_163 (by decide) ?_
        refine lv_istore_n (lv' := [(3, .int 0), (2, .int (((wm (A 0) i_3) - (wm (A 0) (i_3 + 1))) / 16)), (0, .ref o), (1, .int (nI i_3))]) hx hb dX3_heats_164 rfl hl (by decide) rfl (fun ls hl => ?_)
        refine lv_aload_n hx hb dX3_heats_165 rfl (lv_at hl 2 rfl) ?_
        refine lv_iload_n hx hb dX3_heats_166 rfl (lv_at hl 3 rfl) ?_
        refine lv_iconst (v := 3) hx hb dX3_heats_167 (by decide) ?_
        refine lv_aload_n hx hb dX3_heats_168 rfl (lv_at hl 2 rfl) ?_
        refine gh_get (v := .ref (ad 6)) hC hg hT.1.1 fX3_41_0 rfl dX3_heats_169 ?_
        refine lv_iload_n hx hb dX3_heats_172 rfl (lv_at hl 3 rfl) ?_
        refine gh_iald (n := 8) (f := (cpn (wm (A 0)) (A 6) 8)) hC hg (hT.1.2.1 6 (by decide)) rfl (by omega) (by omega) dX3_heats_173 ?_
        refine W.eq (g2 := F0 mm 174 ls [.int (wm (A 0) i_3), .int 3, .int (nI i_3), .ref o]) (by rw [cpn_lt (f := wm (A 0)) (by omega)] <;> rfl) ?_
        refine lv_iload_n hx hb dX3_heats_174 rfl (lv_at hl 1 rfl) ?_
        refine lv_isub hx hb dX3_heats_175 ?_
        refine lv_iload_n hx hb dX3_heats_176 rfl (lv_at hl 0 rfl) ?_
        refine lv_iadd hx hb dX3_heats_177 ?_
        refine gh_callv hg (gh_runV (As := [.int (nI i_3), .int 3, .int (((wm (A 0) i_3) - (((wm (A 0) i_3) - (wm (A 0) (i_3 + 1))) / 16)) + 0)]) (rest := []) hC hg (t_putZone l V o ad I (va_up (va_up (va_up A 5 (cpn (fun j => nI (bn (A 0) j)) (A 5) 8)) 6 (cpn (wm (A 0)) (A 6) 8)) 0 (ht2 (A 0) i_3)) F _ hT.1 (nI i_3) 3 (((wm (A 0) i_3) - (((wm (A 0) i_3) - (wm (A 0) (i_3 + 1))) / 16)) + 0) i_3 3 rfl (show ((3 : Int32)) = nI 3 from rfl) (by omega) (by omega)) 3 (lw_V q3822 q3824 qs52 q138 q3825) hT.1.1 rfl hd_X3_putZone ⟨Nat.le_of_ble_eq_true rfl, Nat.le_of_ble_eq_true rfl⟩ rfl hl.1 rfl (Nat.le_of_ble_eq_true rfl) dX3_heats_178 ⟨Nat.le_of_ble_eq_true rfl, Nat.le_of_ble_eq_true rfl⟩) (fun g H locs hg hp => ?_)
        have hT : tw_W V g0 g o ad I (va_up (va_up (va_up (va_up A 5 (cpn (fun j => nI (bn (A 0) j)) (A 5) 8)) 6 (cpn (wm (A 0)) (A 6) 8)) 0 (ht2 (A 0) i_3)) 0 (zs (ht2 (A 0) i_3) i_3 3 (((wm (A 0) i_3) - (((wm (A 0) i_3) - (wm (A 0) (i_3 + 1))) / 16)) + 0))) F := hT.call hp
        refine lv_iinc (v := (nI (i_3 + 1))) (lv' := [(1, .int (nI (i_3 + 1))), (3, .int 0), (2, .int (((wm (A 0) i_3) - (wm (A 0) (i_3 + 1))) / 16)), (0, .ref o)]) hx hb dX3_heats_181 hl (k := 3) rfl (nx_iinc rfl) (by decide) rfl (fun ls hl => ?_)
        refine lv_goto (tgt := 103) hx hb dX3_heats_184 (by decide) ?_
        exact ih103 _ _ _ _ hg ⟨(hT.eqA (fam8 (show (zs (ht2 (A 0) i_3) i_3 3 (((wm (A 0) i_3) - (((wm (A 0) i_3) - (wm (A 0) (i_3 + 1))) / 16)) + 0)) = ht2 (A 0) (i_3 + 1) from by rw [← ht2_s]; unfold exz; simp only [if_neg c_7, if_pos c_9]) rfl rfl rfl rfl rfl rfl rfl (fun _ => rfl))), lv_sub hl [3, 0] rfl⟩
      have c_9 : ¬ i_3 ≤ 0 := fun h9 => c_9 ((nx_le rfl (show ((0 : Int32)) = nI 0 from rfl) (by omega) (by omega)).mpr h9)
      refine lv_aload_n hx hb dX3_heats_142 rfl (lv_at hl 1 rfl) ?_
      refine gh_get (v := .ref (ad 6)) hC hg hT.1.1 fX3_41_0 rfl dX3_heats_143 ?_
      refine lv_iload_n hx hb dX3_heats_146 rfl (lv_at hl 2 rfl) ?_
      refine lv_iconst (v := 1) hx hb dX3_heats_147 (by decide) ?_
      refine lv_isub hx hb dX3_heats_148 ?_
      refine gh_iald (n := 8) (f := (cpn (wm (A 0)) (A 6) 8)) hC hg (hT.1.2.1 6 (by decide)) (nx_sub rfl (show ((1 : Int32)) = nI 1 from rfl) (by omega)) (by omega) (by omega) dX3_heats_149 ?_
      refine W.eq (g2 := F0 mm 150 ls [.int (wm (A 0) (i_3 - 1))]) (by rw [cpn_lt (f := wm (A 0)) (by omega)] <;> rfl) ?_
      refine lv_aload_n hx hb dX3_heats_150 rfl (lv_at hl 1 rfl) ?_
      refine gh_get (v := .ref (ad 6)) hC hg hT.1.1 fX3_41_0 rfl dX3_heats_151 ?_
      refine lv_iload_n hx hb dX3_heats_154 rfl (lv_at hl 2 rfl) ?_
      refine gh_iald (n := 8) (f := (cpn (wm (A 0)) (A 6) 8)) hC hg (hT.1.2.1 6 (by decide)) rfl (by omega) (by omega) dX3_heats_155 ?_
      refine W.eq (g2 := F0 mm 156 ls [.int (wm (A 0) i_3), .int (wm (A 0) (i_3 - 1))]) (by rw [cpn_lt (f := wm (A 0)) (by omega)] <;> rfl) ?_
      refine lv_isub hx hb dX3_heats_156 ?_
      refine lv_bipush (v := 16) hx hb dX3_heats_157 (by decide) ?_
      refine lv_idiv hx hb dX3_heats_159 (by decide) ?_
      refine lv_goto (tgt := 164) hx hb dX3_heats_160 (by decide) ?_
      refine lv_istore_n (lv' := [(3, .int (((wm (A 0) (i_3 - 1)) - (wm (A 0) i_3)) / 16)), (2, .int (((wm (A 0) i_3) - (wm (A 0) (i_3 + 1))) / 16)), (0, .ref o), (1, .int (nI i_3))]) hx hb dX3_heats_164 rfl hl (by decide) rfl (fun ls hl => ?_)
      refine lv_aload_n hx hb dX3_heats_165 rfl (lv_at hl 2 rfl) ?_
      refine lv_iload_n hx hb dX3_heats_166 rfl (lv_at hl 3 rfl) ?_
      refine lv_iconst (v := 3) hx hb dX3_heats_167 (by decide) ?_
      refine lv_aload_n hx hb dX3_heats_168 rfl (lv_at hl 2 rfl) ?_
      refine gh_get (v := .ref (ad 6)) hC hg hT.1.1 fX3_41_0 rfl dX3_heats_169 ?_
      refine lv_iload_n hx hb dX3_heats_172 rfl (lv_at hl 3 rfl) ?_
      refine gh_iald (n := 8) (f := (cpn (wm (A 0)) (A 6) 8)) hC hg (hT.1.2.1 6 (by decide)) rfl (by omega) (by omega) dX3_heats_173 ?_
      refine W.eq (g2 := F0 mm 174 ls [.int (wm (A 0) i_3), .int 3, .int (nI i_3), .ref o]) (by rw [cpn_lt (f := wm (A 0)) (by omega)] <;> rfl) ?_
      refine lv_iload_n hx hb dX3_heats_174 rfl (lv_at hl 1 rfl) ?_
      refine lv_isub hx hb dX3_heats_175 ?_
      refine lv_iload_n hx hb dX3_heats_176 rfl (lv_at hl 0 rfl) ?_
      refine lv_iadd hx hb dX3_heats_177 ?_
      refine gh_callv hg (gh_runV (As := [.int (nI i_3), .int 3, .int (((wm (A 0) i_3) - (((wm (A 0) i_3) - (wm (A 0) (i_3 + 1))) / 16)) + (((wm (A 0) (i_3 - 1)) - (wm (A 0) i_3)) / 16))]) (rest := []) hC hg (t_putZone l V o ad I (va_up (va_up (va_up A 5 (cpn (fun j => nI (bn (A 0) j)) (A 5) 8)) 6 (cpn (wm (A 0)) (A 6) 8)) 0 (ht2 (A 0) i_3)) F _ hT.1 (nI i_3) 3 (((wm (A 0) i_3) - (((wm (A 0) i_3) - (wm (A 0) (i_3 + 1))) / 16)) + (((wm (A 0) (i_3 - 1)) - (wm (A 0) i_3)) / 16)) i_3 3 rfl (show ((3 : Int32)) = nI 3 from rfl) (by omega) (by omega)) 3 (lw_V q3822 q3824 qs52 q138 q3825) hT.1.1 rfl hd_X3_putZone ⟨Nat.le_of_ble_eq_true rfl, Nat.le_of_ble_eq_true rfl⟩ rfl hl.1 rfl (Nat.le_of_ble_eq_true rfl) dX3_heats_178 ⟨Nat.le_of_ble_eq_true rfl, Nat.le_of_ble_eq_true rfl⟩) (fun g H locs hg hp => ?_)
      have hT : tw_W V g0 g o ad I (va_up (va_up (va_up (va_up A 5 (cpn (fun j => nI (bn (A 0) j)) (A 5) 8)) 6 (cpn (wm (A 0)) (A 6) 8)) 0 (ht2 (A 0) i_3)) 0 (zs (ht2 (A 0) i_3) i_3 3 (((wm (A 0) i_3) - (((wm (A 0) i_3) - (wm (A 0) (i_3 + 1))) / 16)) + (((wm (A 0) (i_3 - 1)) - (wm (A 0) i_3)) / 16)))) F := hT.call hp
      refine lv_iinc (v := (nI (i_3 + 1))) (lv' := [(1, .int (nI (i_3 + 1))), (3, .int (((wm (A 0) (i_3 - 1)) - (wm (A 0) i_3)) / 16)), (2, .int (((wm (A 0) i_3) - (wm (A 0) (i_3 + 1))) / 16)), (0, .ref o)]) hx hb dX3_heats_181 hl (k := 3) rfl (nx_iinc rfl) (by decide) rfl (fun ls hl => ?_)
      refine lv_goto (tgt := 103) hx hb dX3_heats_184 (by decide) ?_
      exact ih103 _ _ _ _ hg ⟨(hT.eqA (fam8 (show (zs (ht2 (A 0) i_3) i_3 3 (((wm (A 0) i_3) - (((wm (A 0) i_3) - (wm (A 0) (i_3 + 1))) / 16)) + (((wm (A 0) (i_3 - 1)) - (wm (A 0) i_3)) / 16))) = ht2 (A 0) (i_3 + 1) from by rw [← ht2_s]; unfold exz; simp only [if_neg c_7, if_neg c_9]) rfl rfl rfl rfl rfl rfl rfl (fun _ => rfl))), lv_sub hl [3, 0] rfl⟩
  · intro i_1 h_10 ih6 g H locs ls hg hX
    obtain ⟨hT, hl⟩ := hX
    refine lv_iload_n hx hb dX3_heats_6 rfl (lv_at hl 1 rfl) ?_
    refine lv_bipush (v := 8) hx hb dX3_heats_7 (by decide) ?_
    refine lv_icmp_ge (tgt := 101) hx hb dX3_heats_9 (by decide) (fun c_11 => (absurd ((nx_le (show ((8 : Int32)) = nI 8 from rfl) rfl (by omega) (by omega)).mp c_11) (by omega))) (fun _ => ?_)
    refine lv_iconst (v := 3) hx hb dX3_heats_12 (by decide) ?_
    refine lv_aload_n hx hb dX3_heats_13 rfl (lv_at hl 0 rfl) ?_
    refine gh_get (v := .ref (ad 5)) hC hg hT.1.1 fX3_38_0 rfl dX3_heats_14 ?_
    refine lv_iload_n hx hb dX3_heats_17 rfl (lv_at hl 1 rfl) ?_
    refine gh_iald (n := 8) (f := (cpn (fun j => nI (bn (A 0) j)) (A 5) 8)) hC hg (hT.1.2.1 5 (by decide)) rfl (by omega) (by omega) dX3_heats_18 ?_
    refine W.eq (g2 := F0 mm 19 ls [.int (nI (bn (A 0) i_1)), .int 3]) (by rw [cpn_lt (f := (fun j => nI (bn (A 0) j))) (by omega)] <;> rfl) ?_
    refine lv_imul hx hb dX3_heats_19 ?_
    refine lv_istore_n (lv' := [(2, .int (3 * (nI (bn (A 0) i_1)))), (0, .ref o), (1, .int (nI i_1))]) hx hb dX3_heats_20 rfl hl (by decide) rfl (fun ls hl => ?_)
    refine lv_aload_n hx hb dX3_heats_21 rfl (lv_at hl 1 rfl) ?_
    refine lv_iload_n hx hb dX3_heats_22 rfl (lv_at hl 2 rfl) ?_
    refine lv_iconst (v := 4) hx hb dX3_heats_23 (by decide) ?_
    refine lv_aload_n hx hb dX3_heats_24 rfl (lv_at hl 1 rfl) ?_
    refine lv_iload_n hx hb dX3_heats_25 rfl (lv_at hl 2 rfl) ?_
    refine lv_iconst (v := 4) hx hb dX3_heats_26 (by decide) ?_
    refine gh_calli hg (gh_runV (As := [.int (nI i_1), .int 4]) (rest := [.int 4, .int (nI i_1), .ref o]) hC hg (t_zone l V o ad I (va_up (va_up (va_up A 5 (cpn (fun j => nI (bn (A 0) j)) (A 5) 8)) 0 (ht1 (A 0) i_1)) 6 (cpn (wm (A 0)) (A 6) i_1)) F _ hT.1 (nI i_1) 4 i_1 4 rfl (show ((4 : Int32)) = nI 4 from rfl) (by omega) (by omega)) 2 (lw_V q3920 q3922 qs59 q138 q3923) hT.1.1 rfl hd_X3_zone ⟨Nat.le_of_ble_eq_true rfl, Nat.le_of_ble_eq_true rfl⟩ rfl hl.1 rfl (Nat.le_of_ble_eq_true rfl) dX3_heats_27 ⟨Nat.le_of_ble_eq_true rfl, Nat.le_of_ble_eq_true rfl⟩) (fun r_12 g H locs hg hp => ?_)
    obtain ⟨hp, hq⟩ := hp
    replace hp : r_12 = (zn (ht1 (A 0) i_1) i_1 4) := hp
    subst hp
    rw [hq] at hg
    refine W.eq (g2 := F0 mm 30 ls [.int (zn (A 0) i_1 4), .int 4, .int (nI i_1), .ref o]) (by rw [ht1_z4 (s := A 0) (k := i_1) (z := i_1) (Nat.le_refl _)] <;> rfl) ?_
    refine lv_iload_n hx hb dX3_heats_30 rfl (lv_at hl 0 rfl) ?_
    refine lv_iadd hx hb dX3_heats_31 ?_
    refine gh_callv hg (gh_runV (As := [.int (nI i_1), .int 4, .int ((zn (A 0) i_1 4) + (3 * (nI (bn (A 0) i_1))))]) (rest := []) hC hg (t_putZone l V o ad I (va_up (va_up (va_up A 5 (cpn (fun j => nI (bn (A 0) j)) (A 5) 8)) 0 (ht1 (A 0) i_1)) 6 (cpn (wm (A 0)) (A 6) i_1)) F _ hT.1 (nI i_1) 4 ((zn (A 0) i_1 4) + (3 * (nI (bn (A 0) i_1)))) i_1 4 rfl (show ((4 : Int32)) = nI 4 from rfl) (by omega) (by omega)) 3 (lw_V q3822 q3824 qs52 q138 q3825) hT.1.1 rfl hd_X3_putZone ⟨Nat.le_of_ble_eq_true rfl, Nat.le_of_ble_eq_true rfl⟩ rfl hl.1 rfl (Nat.le_of_ble_eq_true rfl) dX3_heats_32 ⟨Nat.le_of_ble_eq_true rfl, Nat.le_of_ble_eq_true rfl⟩) (fun g H locs hg hp => ?_)
    have hT : tw_W V g0 g o ad I (va_up (va_up (va_up (va_up A 5 (cpn (fun j => nI (bn (A 0) j)) (A 5) 8)) 0 (ht1 (A 0) i_1)) 6 (cpn (wm (A 0)) (A 6) i_1)) 0 (zs (ht1 (A 0) i_1) i_1 4 ((zn (A 0) i_1 4) + (3 * (nI (bn (A 0) i_1)))))) F := hT.call hp
    refine lv_aload_n hx hb dX3_heats_35 rfl (lv_at hl 1 rfl) ?_
    refine gh_get (v := .ref (ad 0)) hC hg hT.1.1 fX3_7_0 rfl dX3_heats_36 ?_
    refine lv_iconst (v := 2) hx hb dX3_heats_39 (by decide) ?_
    refine lv_dup2_11 hx hb dX3_heats_40 rfl rfl ?_
    refine gh_iald (n := 578) (f := (zs (ht1 (A 0) i_1) i_1 4 ((zn (A 0) i_1 4) + (3 * (nI (bn (A 0) i_1)))))) hC hg (hT.1.2.1 0 (by decide)) (show ((2 : Int32)) = nI 2 from rfl) (by omega) (by omega) dX3_heats_41 ?_
    refine lv_iload_n hx hb dX3_heats_42 rfl (lv_at hl 0 rfl) ?_
    refine lv_iadd hx hb dX3_heats_43 ?_
    refine gh_iast (n := 578) (f := (zs (ht1 (A 0) i_1) i_1 4 ((zn (A 0) i_1 4) + (3 * (nI (bn (A 0) i_1)))))) hC hg (hT.1.2.1 0 (by decide)) (show ((2 : Int32)) = nI 2 from rfl) (by omega) (by omega) dX3_heats_44 (fun g H locs hg hw hn => ?_)
    have hT : tw_W V g0 g o ad I (va_up (va_up (va_up (va_up (va_up A 5 (cpn (fun j => nI (bn (A 0) j)) (A 5) 8)) 0 (ht1 (A 0) i_1)) 6 (cpn (wm (A 0)) (A 6) i_1)) 0 (zs (ht1 (A 0) i_1) i_1 4 ((zn (A 0) i_1 4) + (3 * (nI (bn (A 0) i_1)))))) 0 (upd (zs (ht1 (A 0) i_1) i_1 4 ((zn (A 0) i_1 4) + (3 * (nI (bn (A 0) i_1))))) 2 (((zs (ht1 (A 0) i_1) i_1 4 ((zn (A 0) i_1 4) + (3 * (nI (bn (A 0) i_1))))) 2) + (3 * (nI (bn (A 0) i_1)))))) F := hT.putA 0 (by decide) hw hn
    refine lv_aload_n hx hb dX3_heats_45 rfl (lv_at hl 1 rfl) ?_
    refine lv_iload_n hx hb dX3_heats_46 rfl (lv_at hl 2 rfl) ?_
    refine lv_iconst (v := 3) hx hb dX3_heats_47 (by decide) ?_
    refine gh_calli hg (gh_runV (As := [.int (nI i_1), .int 3]) (rest := []) hC hg (t_zone l V o ad I (va_up (va_up (va_up (va_up (va_up A 5 (cpn (fun j => nI (bn (A 0) j)) (A 5) 8)) 0 (ht1 (A 0) i_1)) 6 (cpn (wm (A 0)) (A 6) i_1)) 0 (zs (ht1 (A 0) i_1) i_1 4 ((zn (A 0) i_1 4) + (3 * (nI (bn (A 0) i_1)))))) 0 (upd (zs (ht1 (A 0) i_1) i_1 4 ((zn (A 0) i_1 4) + (3 * (nI (bn (A 0) i_1))))) 2 (((zs (ht1 (A 0) i_1) i_1 4 ((zn (A 0) i_1 4) + (3 * (nI (bn (A 0) i_1))))) 2) + (3 * (nI (bn (A 0) i_1)))))) F _ hT.1 (nI i_1) 3 i_1 3 rfl (show ((3 : Int32)) = nI 3 from rfl) (by omega) (by omega)) 2 (lw_V q3920 q3922 qs59 q138 q3923) hT.1.1 rfl hd_X3_zone ⟨Nat.le_of_ble_eq_true rfl, Nat.le_of_ble_eq_true rfl⟩ rfl hl.1 rfl (Nat.le_of_ble_eq_true rfl) dX3_heats_48 ⟨Nat.le_of_ble_eq_true rfl, Nat.le_of_ble_eq_true rfl⟩) (fun r_13 g H locs hg hp => ?_)
    obtain ⟨hp, hq⟩ := hp
    replace hp : r_13 = (zn (upd (zs (ht1 (A 0) i_1) i_1 4 ((zn (A 0) i_1 4) + (3 * (nI (bn (A 0) i_1))))) 2 (((zs (ht1 (A 0) i_1) i_1 4 ((zn (A 0) i_1 4) + (3 * (nI (bn (A 0) i_1))))) 2) + (3 * (nI (bn (A 0) i_1))))) i_1 3) := hp
    subst hp
    rw [hq] at hg
    refine W.eq (g2 := F0 mm 51 ls [.int (zn (A 0) i_1 3)]) (by rw [ht1_up (s := A 0) (k := i_1) (z := i_1) (q := 3) (by omega)] <;> rfl) ?_
    refine lv_istore_n (lv' := [(3, .int (zn (A 0) i_1 3)), (2, .int (3 * (nI (bn (A 0) i_1)))), (0, .ref o), (1, .int (nI i_1))]) hx hb dX3_heats_51 rfl hl (by decide) rfl (fun ls hl => ?_)
    refine lv_iload_n hx hb dX3_heats_52 rfl (lv_at hl 0 rfl) ?_
    refine lv_aload_n hx hb dX3_heats_53 rfl (lv_at hl 2 rfl) ?_
    refine gh_get (v := .ref (ad 5)) hC hg hT.1.1 fX3_38_0 rfl dX3_heats_54 ?_
    refine lv_iload_n hx hb dX3_heats_57 rfl (lv_at hl 3 rfl) ?_
    refine gh_iald (n := 8) (f := (cpn (fun j => nI (bn (A 0) j)) (A 5) 8)) hC hg (hT.1.2.1 5 (by decide)) rfl (by omega) (by omega) dX3_heats_58 ?_
    refine W.eq (g2 := F0 mm 59 ls [.int (nI (bn (A 0) i_1)), .int (zn (A 0) i_1 3)]) (by rw [cpn_lt (f := (fun j => nI (bn (A 0) j))) (by omega)] <;> rfl) ?_
    refine gh_calli hg (gh_runS (As := [.int (nI (bn (A 0) i_1))]) (rest := [.int (zn (A 0) i_1 3)]) hC hg (t_target l V _ (nI (bn (A 0) i_1))) 1 (lw_S q4036 q4037 q138 q4038) hd_X3_target.2 ⟨Nat.le_of_ble_eq_true rfl, Nat.le_of_ble_eq_true rfl⟩ rfl hl.1 rfl (Nat.le_of_ble_eq_true rfl) dX3_heats_59 ⟨Nat.le_of_ble_eq_true rfl, Nat.le_of_ble_eq_true rfl⟩) (fun r_14 g H locs hg hp => ?_)
    obtain ⟨hp, hq⟩ := hp
    replace hp : r_14 = (sp_target (nI (bn (A 0) i_1))) := hp
    subst hp
    rw [hq] at hg
    refine lv_iload_n hx hb dX3_heats_62 rfl (lv_at hl 0 rfl) ?_
    refine lv_isub hx hb dX3_heats_63 ?_
    refine lv_bipush (v := 8) hx hb dX3_heats_64 (by decide) ?_
    refine gh_calli hg (gh_runS (As := [.int ((sp_target (nI (bn (A 0) i_1))) - (zn (A 0) i_1 3)), .int 8]) (rest := [.int (zn (A 0) i_1 3)]) hC hg (t_step l V _ ((sp_target (nI (bn (A 0) i_1))) - (zn (A 0) i_1 3)) 8 (by decide)) 2 (lw_S q4039 q4040 q138 q4041) hd_X3_step.2 ⟨Nat.le_of_ble_eq_true rfl, Nat.le_of_ble_eq_true rfl⟩ rfl hl.1 rfl (Nat.le_of_ble_eq_true rfl) dX3_heats_66 ⟨Nat.le_of_ble_eq_true rfl, Nat.le_of_ble_eq_true rfl⟩) (fun r_15 g H locs hg hp => ?_)
    obtain ⟨hp, hq⟩ := hp
    replace hp : r_15 = (sp_step ((sp_target (nI (bn (A 0) i_1))) - (zn (A 0) i_1 3)) 8) := hp
    subst hp
    rw [hq] at hg
    refine lv_iadd hx hb dX3_heats_69 ?_
    refine lv_istore_n (lv' := [(3, .int ((zn (A 0) i_1 3) + (sp_step ((sp_target (nI (bn (A 0) i_1))) - (zn (A 0) i_1 3)) 8))), (2, .int (3 * (nI (bn (A 0) i_1)))), (0, .ref o), (1, .int (nI i_1))]) hx hb dX3_heats_70 rfl hl (by decide) rfl (fun ls hl => ?_)
    refine lv_iload_n hx hb dX3_heats_71 rfl (lv_at hl 0 rfl) ?_
    refine lv_aload_n hx hb dX3_heats_72 rfl (lv_at hl 2 rfl) ?_
    refine lv_iload_n hx hb dX3_heats_73 rfl (lv_at hl 3 rfl) ?_
    refine lv_iconst (v := 1) hx hb dX3_heats_74 (by decide) ?_
    refine gh_calli hg (gh_runV (As := [.int (nI i_1), .int 1]) (rest := [.int ((zn (A 0) i_1 3) + (sp_step ((sp_target (nI (bn (A 0) i_1))) - (zn (A 0) i_1 3)) 8))]) hC hg (t_zone l V o ad I (va_up (va_up (va_up (va_up (va_up A 5 (cpn (fun j => nI (bn (A 0) j)) (A 5) 8)) 0 (ht1 (A 0) i_1)) 6 (cpn (wm (A 0)) (A 6) i_1)) 0 (zs (ht1 (A 0) i_1) i_1 4 ((zn (A 0) i_1 4) + (3 * (nI (bn (A 0) i_1)))))) 0 (upd (zs (ht1 (A 0) i_1) i_1 4 ((zn (A 0) i_1 4) + (3 * (nI (bn (A 0) i_1))))) 2 (((zs (ht1 (A 0) i_1) i_1 4 ((zn (A 0) i_1 4) + (3 * (nI (bn (A 0) i_1))))) 2) + (3 * (nI (bn (A 0) i_1)))))) F _ hT.1 (nI i_1) 1 i_1 1 rfl (show ((1 : Int32)) = nI 1 from rfl) (by omega) (by omega)) 2 (lw_V q3920 q3922 qs59 q138 q3923) hT.1.1 rfl hd_X3_zone ⟨Nat.le_of_ble_eq_true rfl, Nat.le_of_ble_eq_true rfl⟩ rfl hl.1 rfl (Nat.le_of_ble_eq_true rfl) dX3_heats_75 ⟨Nat.le_of_ble_eq_true rfl, Nat.le_of_ble_eq_true rfl⟩) (fun r_16 g H locs hg hp => ?_)
    obtain ⟨hp, hq⟩ := hp
    replace hp : r_16 = (zn (upd (zs (ht1 (A 0) i_1) i_1 4 ((zn (A 0) i_1 4) + (3 * (nI (bn (A 0) i_1))))) 2 (((zs (ht1 (A 0) i_1) i_1 4 ((zn (A 0) i_1 4) + (3 * (nI (bn (A 0) i_1))))) 2) + (3 * (nI (bn (A 0) i_1))))) i_1 1) := hp
    subst hp
    rw [hq] at hg
    refine W.eq (g2 := F0 mm 78 ls [.int (zn (A 0) i_1 1), .int ((zn (A 0) i_1 3) + (sp_step ((sp_target (nI (bn (A 0) i_1))) - (zn (A 0) i_1 3)) 8))]) (by rw [ht1_up (s := A 0) (k := i_1) (z := i_1) (q := 1) (by omega)] <;> rfl) ?_
    refine lv_iload_n hx hb dX3_heats_78 rfl (lv_at hl 0 rfl) ?_
    refine lv_bipush (v := 20) hx hb dX3_heats_79 (by decide) ?_
    refine lv_isub hx hb dX3_heats_81 ?_
    refine lv_imul hx hb dX3_heats_82 ?_
    refine lv_bipush (v := 50) hx hb dX3_heats_83 (by decide) ?_
    refine lv_idiv hx hb dX3_heats_85 (by decide) ?_
    refine lv_isub hx hb dX3_heats_86 ?_
    refine lv_istore_n (lv' := [(3, .int (((zn (A 0) i_1 3) + (sp_step ((sp_target (nI (bn (A 0) i_1))) - (zn (A 0) i_1 3)) 8)) - (((zn (A 0) i_1 1) * (((zn (A 0) i_1 3) + (sp_step ((sp_target (nI (bn (A 0) i_1))) - (zn (A 0) i_1 3)) 8)) - 20)) / 50))), (2, .int (3 * (nI (bn (A 0) i_1)))), (0, .ref o), (1, .int (nI i_1))]) hx hb dX3_heats_87 rfl hl (by decide) rfl (fun ls hl => ?_)
    refine lv_aload_n hx hb dX3_heats_88 rfl (lv_at hl 2 rfl) ?_
    refine gh_get (v := .ref (ad 6)) hC hg hT.1.1 fX3_41_0 rfl dX3_heats_89 ?_
    refine lv_iload_n hx hb dX3_heats_92 rfl (lv_at hl 3 rfl) ?_
    refine lv_iload_n hx hb dX3_heats_93 rfl (lv_at hl 0 rfl) ?_
    refine gh_iast (n := 8) (f := (cpn (wm (A 0)) (A 6) i_1)) hC hg (hT.1.2.1 6 (by decide)) rfl (by omega) (by omega) dX3_heats_94 (fun g H locs hg hw hn => ?_)
    have hT : tw_W V g0 g o ad I (va_up (va_up (va_up (va_up (va_up (va_up A 5 (cpn (fun j => nI (bn (A 0) j)) (A 5) 8)) 0 (ht1 (A 0) i_1)) 6 (cpn (wm (A 0)) (A 6) i_1)) 0 (zs (ht1 (A 0) i_1) i_1 4 ((zn (A 0) i_1 4) + (3 * (nI (bn (A 0) i_1)))))) 0 (upd (zs (ht1 (A 0) i_1) i_1 4 ((zn (A 0) i_1 4) + (3 * (nI (bn (A 0) i_1))))) 2 (((zs (ht1 (A 0) i_1) i_1 4 ((zn (A 0) i_1 4) + (3 * (nI (bn (A 0) i_1))))) 2) + (3 * (nI (bn (A 0) i_1)))))) 6 (upd (cpn (wm (A 0)) (A 6) i_1) i_1 (((zn (A 0) i_1 3) + (sp_step ((sp_target (nI (bn (A 0) i_1))) - (zn (A 0) i_1 3)) 8)) - (((zn (A 0) i_1 1) * (((zn (A 0) i_1 3) + (sp_step ((sp_target (nI (bn (A 0) i_1))) - (zn (A 0) i_1 3)) 8)) - 20)) / 50)))) F := hT.putA 6 (by decide) hw hn
    refine lv_iinc (v := (nI (i_1 + 1))) (lv' := [(1, .int (nI (i_1 + 1))), (3, .int (((zn (A 0) i_1 3) + (sp_step ((sp_target (nI (bn (A 0) i_1))) - (zn (A 0) i_1 3)) 8)) - (((zn (A 0) i_1 1) * (((zn (A 0) i_1 3) + (sp_step ((sp_target (nI (bn (A 0) i_1))) - (zn (A 0) i_1 3)) 8)) - 20)) / 50))), (2, .int (3 * (nI (bn (A 0) i_1)))), (0, .ref o)]) hx hb dX3_heats_95 hl (k := 3) rfl (nx_iinc rfl) (by decide) rfl (fun ls hl => ?_)
    refine lv_goto (tgt := 6) hx hb dX3_heats_98 (by decide) ?_
    exact ih6 _ _ _ _ hg ⟨(hT.eqA (fam8 (ht1_s _ _) rfl rfl rfl rfl rfl (cpn_s _ _ _) rfl (fun _ => rfl))), lv_sub hl [3, 0] rfl⟩
