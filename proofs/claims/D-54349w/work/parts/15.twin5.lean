/-- a sum of the first n -/
def sm (f : Nat → Int32) : Nat → Int32
  | 0 => 0
  | n + 1 => sm f n + f n
def isP (s : Nat → Int32) (q : Nat) : Int32 := if pl s q 0 = -1 then 0 else 1
def fatedN (s : Nat → Int32) (i : Nat) (f : Int32) (k : Nat) : Int32 := if lt s i (5 + k) = f then 1 else 0
def fated (s : Nat → Int32) (i : Nat) (f : Int32) : Int32 := sm (fatedN s i f) (lt s i 2).toNatClampNeg
theorem cl_of {x : Int32} {n : Nat} (h : x = nI n) (hn : n < 2 ^ 31) : x.toNatClampNeg = n := by rw [h]; exact nI_clamp hn
def noLoad (s : Nat → Int32) (i : Nat) : Int32 := if lt s i 2 = 20 then 1 else if ¬ pl s 0 0 = -1 then 2 else if pl s 0 4 = 1 then 3 else 0
def noCln (s : Nat → Int32) (c q : Nat) : Int32 := if ¬ cl s c 1 ≤ 0 then 1 else if pl s q 4 = 0 then 2 else if ¬ cl s (1 - c) 1 ≤ 0 ∧ cl s (1 - c) 0 = nI q then 3 else 0
/-- the first place of the first n that fits, or -1 -/
def firstOf (f : Nat → Bool) (v : Nat → Int32) : Nat → Nat → Int32
  | _, 0 => -1
  | i, n + 1 => if f i then v i else firstOf f v (i + 1) n
set_option maxRecDepth 100000
theorem hd_X3_allIncome : yX3_allIncome.cls = RX3 ∧ yX3_allIncome.cls ≠ "java/lang/invoke/MethodHandle" ∧ yX3_allIncome.cls ≠ "java/lang/invoke/VarHandle" ∧ (parseMethodDescriptor yX3_allIncome.desc).map (fun d => d.parameters.length) = some 0 := by decide +kernel
theorem hd_X3_fated : yX3_fated.cls = RX3 ∧ yX3_fated.cls ≠ "java/lang/invoke/MethodHandle" ∧ yX3_fated.cls ≠ "java/lang/invoke/VarHandle" ∧ (parseMethodDescriptor yX3_fated.desc).map (fun d => d.parameters.length) = some 2 := by decide +kernel
theorem hd_X3_noCleaning : yX3_noCleaning.cls = RX3 ∧ yX3_noCleaning.cls ≠ "java/lang/invoke/MethodHandle" ∧ yX3_noCleaning.cls ≠ "java/lang/invoke/VarHandle" ∧ (parseMethodDescriptor yX3_noCleaning.desc).map (fun d => d.parameters.length) = some 2 := by decide +kernel
theorem hd_X3_noLoading : yX3_noLoading.cls = RX3 ∧ yX3_noLoading.cls ≠ "java/lang/invoke/MethodHandle" ∧ yX3_noLoading.cls ≠ "java/lang/invoke/VarHandle" ∧ (parseMethodDescriptor yX3_noLoading.desc).map (fun d => d.parameters.length) = some 1 := by decide +kernel
theorem hd_X3_order : yX3_order.cls = RX3 ∧ yX3_order.cls ≠ "java/lang/invoke/MethodHandle" ∧ yX3_order.cls ≠ "java/lang/invoke/VarHandle" ∧ (parseMethodDescriptor yX3_order.desc).map (fun d => d.parameters.length) = some 2 := by decide +kernel
theorem hd_X3_throwing : yX3_throwing.cls = RX3 ∧ yX3_throwing.cls ≠ "java/lang/invoke/MethodHandle" ∧ yX3_throwing.cls ≠ "java/lang/invoke/VarHandle" ∧ (parseMethodDescriptor yX3_throwing.desc).map (fun d => d.parameters.length) = some 1 := by decide +kernel
set_option maxHeartbeats 1000000 in
set_option maxRecDepth 100000 in
theorem t_gasByZones (l : Launch) (V : gh_V) (o : Nat) (ad : Nat → Nat) (I : Nat → Int32) (A : Nat → Nat → Int32) (F : Nat → Nat → UInt32) (g0 : gh_G) (hP : tw_P V g0 o ad I A F)  : MI l yX3_gasByZones cX3_gasByZones 3 (some .int) ({ frames := 1, cells := 0, slots := 0, locals := 22 } : Room) V [.ref o] g0 (fun r g1 => r = sm (fun z => zn (A 0) z 4) 8 ∧ tw_W V g0 g1 o ad (va_up I 3 0) A F) := by
  refine MG.of RX3 (by decide) rfl (Nat.le_of_ble_eq_true rfl) (fun pp ee s mm args below meth c ls hC hg hr hlk hnm hl => ?_)
  have hx := hC.1.1
  have hb := hC.1.2.1
  have hml := hC.1.2.2.1
  have hown := hC.1.2.2.2.1
  have hts := hC.1.2.2.2.2
  have hl : lv_has ls 3 [(0, .ref o)] := hl
  have hT := hP.W
  refine lv_aload_n hx hb dX3_gasByZones_0 rfl (lv_at hl 0 rfl) ?_
  refine lv_iconst (v := 0) hx hb dX3_gasByZones_1 (by decide) ?_
  refine gh_put (v := .int 0) hC hg hT.1.1 fX3_54_0 rfl rfl (Nat.le_of_ble_eq_true rfl) dX3_gasByZones_2 (fun g H locs hg hw hn => ?_)
  have hT : tw_W V g0 g o ad (va_up I 3 0) A F := hT.putI 3 0 hw hn
  refine lv_iconst (v := 0) hx hb dX3_gasByZones_5 (by decide) ?_
  refine lv_istore_n (lv' := [(1, .int 0), (0, .ref o)]) hx hb dX3_gasByZones_6 rfl hl (by decide) rfl (fun ls hl => ?_)
  refine lv_iconst (v := 0) hx hb dX3_gasByZones_7 (by decide) ?_
  refine lv_istore_n (lv' := [(2, .int 0), (1, .int 0), (0, .ref o)]) hx hb dX3_gasByZones_8 rfl hl (by decide) rfl (fun ls hl => ?_)
  refine gh_loop (N := 8) (X := fun i_1 g ls => tw_W V g0 g o ad (va_up I 3 0) A F ∧ lv_has ls 3 [(0, .ref o), (1, .int (sm (fun z => zn (A 0) z 4) i_1)), (2, .int (nI i_1))]) ?_ ?_ 0 (by omega) hg ⟨hT, lv_sub hl [2, 1, 0] rfl⟩
  · intro g H locs ls hg hX
    obtain ⟨hT, hl⟩ := hX
    refine lv_iload_n hx hb dX3_gasByZones_9 rfl (lv_at hl 2 rfl) ?_
    refine lv_bipush (v := 8) hx hb dX3_gasByZones_10 (by decide) ?_
    refine lv_icmp_ge (tgt := 30) hx hb dX3_gasByZones_12 (by decide) (fun _ => ?_) (fun c_2 => (absurd ((nx_le (show ((8 : Int32)) = nI 8 from rfl) rfl (by omega) (by omega)).mpr (by omega)) c_2))
    refine lv_iload_n hx hb dX3_gasByZones_30 rfl (lv_at hl 1 rfl) ?_
    exact gh_reti hC hg hr hlk (⟨rfl, hT⟩) dX3_gasByZones_31 (Nat.le_of_ble_eq_true rfl) (Nat.le_of_ble_eq_true rfl)
  · intro i_1 h_3 ih9 g H locs ls hg hX
    obtain ⟨hT, hl⟩ := hX
    refine lv_iload_n hx hb dX3_gasByZones_9 rfl (lv_at hl 2 rfl) ?_
    refine lv_bipush (v := 8) hx hb dX3_gasByZones_10 (by decide) ?_
    refine lv_icmp_ge (tgt := 30) hx hb dX3_gasByZones_12 (by decide) (fun c_4 => (absurd ((nx_le (show ((8 : Int32)) = nI 8 from rfl) rfl (by omega) (by omega)).mp c_4) (by omega))) (fun _ => ?_)
    refine lv_iload_n hx hb dX3_gasByZones_15 rfl (lv_at hl 1 rfl) ?_
    refine lv_aload_n hx hb dX3_gasByZones_16 rfl (lv_at hl 0 rfl) ?_
    refine lv_iload_n hx hb dX3_gasByZones_17 rfl (lv_at hl 2 rfl) ?_
    refine lv_iconst (v := 4) hx hb dX3_gasByZones_18 (by decide) ?_
    refine gh_calli hg (gh_runV (As := [.int (nI i_1), .int 4]) (rest := [.int (sm (fun z => zn (A 0) z 4) i_1)]) hC hg (t_zone l V o ad (va_up I 3 0) A F _ hT.1 (nI i_1) 4 i_1 4 rfl (show ((4 : Int32)) = nI 4 from rfl) (by omega) (by omega)) 2 (lw_V q3920 q3922 qs59 q138 q3923) hT.1.1 rfl hd_X3_zone ⟨Nat.le_of_ble_eq_true rfl, Nat.le_of_ble_eq_true rfl⟩ rfl hl.1 rfl (Nat.le_of_ble_eq_true rfl) dX3_gasByZones_19 ⟨Nat.le_of_ble_eq_true rfl, Nat.le_of_ble_eq_true rfl⟩) (fun r_5 g H locs hg hp => ?_)
    obtain ⟨hp, hq⟩ := hp
    replace hp : r_5 = (zn (A 0) i_1 4) := hp
    subst hp
    rw [hq] at hg
    refine lv_iadd hx hb dX3_gasByZones_22 ?_
    refine lv_istore_n (lv' := [(1, .int ((sm (fun z => zn (A 0) z 4) i_1) + (zn (A 0) i_1 4))), (0, .ref o), (2, .int (nI i_1))]) hx hb dX3_gasByZones_23 rfl hl (by decide) rfl (fun ls hl => ?_)
    refine lv_iinc (v := (nI (i_1 + 1))) (lv' := [(2, .int (nI (i_1 + 1))), (1, .int ((sm (fun z => zn (A 0) z 4) i_1) + (zn (A 0) i_1 4))), (0, .ref o)]) hx hb dX3_gasByZones_24 hl (k := 2) rfl (nx_iinc rfl) (by decide) rfl (fun ls hl => ?_)
    refine lv_goto (tgt := 9) hx hb dX3_gasByZones_27 (by decide) ?_
    exact ih9 _ _ _ _ hg ⟨hT, lv_sub hl [2, 1, 0] rfl⟩
set_option maxHeartbeats 1000000 in
set_option maxRecDepth 100000 in
theorem t_allIncome (l : Launch) (V : gh_V) (o : Nat) (ad : Nat → Nat) (I : Nat → Int32) (A : Nat → Nat → Int32) (F : Nat → Nat → UInt32) (g0 : gh_G) (hP : tw_P V g0 o ad I A F) (L : Nat) (hL : A 0 163 = nI L) (hL12 : L ≤ 12) : MI l yX3_allIncome cX3_allIncome 3 (some .int) ({ frames := 1, cells := 0, slots := 0, locals := 22 } : Room) V [.ref o] g0 (fun r g1 => r = sm (fun i => lt (A 0) i 4) L ∧ tw_W V g0 g1 o ad I A F) := by
  refine MG.of RX3 (by decide) rfl (Nat.le_of_ble_eq_true rfl) (fun pp ee s mm args below meth c ls hC hg hr hlk hnm hl => ?_)
  have hx := hC.1.1
  have hb := hC.1.2.1
  have hml := hC.1.2.2.1
  have hown := hC.1.2.2.2.1
  have hts := hC.1.2.2.2.2
  have hl : lv_has ls 3 [(0, .ref o)] := hl
  have hT := hP.W
  refine lv_iconst (v := 0) hx hb dX3_allIncome_0 (by decide) ?_
  refine lv_istore_n (lv' := [(1, .int 0), (0, .ref o)]) hx hb dX3_allIncome_1 rfl hl (by decide) rfl (fun ls hl => ?_)
  refine lv_iconst (v := 0) hx hb dX3_allIncome_2 (by decide) ?_
  refine lv_istore_n (lv' := [(2, .int 0), (1, .int 0), (0, .ref o)]) hx hb dX3_allIncome_3 rfl hl (by decide) rfl (fun ls hl => ?_)
  refine gh_loop (N := L) (X := fun i_1 g ls => tw_W V g0 g o ad I A F ∧ lv_has ls 3 [(0, .ref o), (1, .int (sm (fun i => lt (A 0) i 4) i_1)), (2, .int (nI i_1))]) ?_ ?_ 0 (by omega) hg ⟨hT, lv_sub hl [2, 1, 0] rfl⟩
  · intro g H locs ls hg hX
    obtain ⟨hT, hl⟩ := hX
    refine lv_iload_n hx hb dX3_allIncome_4 rfl (lv_at hl 2 rfl) ?_
    refine lv_aload_n hx hb dX3_allIncome_5 rfl (lv_at hl 0 rfl) ?_
    refine gh_get (v := .ref (ad 0)) hC hg hT.1.1 fX3_7_0 rfl dX3_allIncome_6 ?_
    refine lv_sipush (v := 163) hx hb dX3_allIncome_9 (by decide) ?_
    refine gh_iald (n := 578) (f := (A 0)) hC hg (hT.1.2.1 0 (by decide)) (show ((163 : Int32)) = nI 163 from rfl) (by omega) (by omega) dX3_allIncome_12 ?_
    refine lv_icmp_ge (tgt := 31) hx hb dX3_allIncome_13 (by decide) (fun _ => ?_) (fun c_2 => (absurd ((nx_le hL rfl (by omega) (by omega)).mpr (by omega)) c_2))
    refine lv_iload_n hx hb dX3_allIncome_31 rfl (lv_at hl 1 rfl) ?_
    exact gh_reti hC hg hr hlk (⟨rfl, hT⟩) dX3_allIncome_32 (Nat.le_of_ble_eq_true rfl) (Nat.le_of_ble_eq_true rfl)
  · intro i_1 h_3 ih4 g H locs ls hg hX
    obtain ⟨hT, hl⟩ := hX
    refine lv_iload_n hx hb dX3_allIncome_4 rfl (lv_at hl 2 rfl) ?_
    refine lv_aload_n hx hb dX3_allIncome_5 rfl (lv_at hl 0 rfl) ?_
    refine gh_get (v := .ref (ad 0)) hC hg hT.1.1 fX3_7_0 rfl dX3_allIncome_6 ?_
    refine lv_sipush (v := 163) hx hb dX3_allIncome_9 (by decide) ?_
    refine gh_iald (n := 578) (f := (A 0)) hC hg (hT.1.2.1 0 (by decide)) (show ((163 : Int32)) = nI 163 from rfl) (by omega) (by omega) dX3_allIncome_12 ?_
    refine lv_icmp_ge (tgt := 31) hx hb dX3_allIncome_13 (by decide) (fun c_4 => (absurd ((nx_le hL rfl (by omega) (by omega)).mp c_4) (by omega))) (fun _ => ?_)
    refine lv_iload_n hx hb dX3_allIncome_16 rfl (lv_at hl 1 rfl) ?_
    refine lv_aload_n hx hb dX3_allIncome_17 rfl (lv_at hl 0 rfl) ?_
    refine lv_iload_n hx hb dX3_allIncome_18 rfl (lv_at hl 2 rfl) ?_
    refine lv_iconst (v := 4) hx hb dX3_allIncome_19 (by decide) ?_
    refine gh_calli hg (gh_runV (As := [.int (nI i_1), .int 4]) (rest := [.int (sm (fun i => lt (A 0) i 4) i_1)]) hC hg (t_lot l V o ad I A F _ hT.1 (nI i_1) 4 i_1 4 rfl (show ((4 : Int32)) = nI 4 from rfl) (by omega) (by omega)) 2 (lw_V q3956 q3958 qs63 q138 q3959) hT.1.1 rfl hd_X3_lot ⟨Nat.le_of_ble_eq_true rfl, Nat.le_of_ble_eq_true rfl⟩ rfl hl.1 rfl (Nat.le_of_ble_eq_true rfl) dX3_allIncome_20 ⟨Nat.le_of_ble_eq_true rfl, Nat.le_of_ble_eq_true rfl⟩) (fun r_5 g H locs hg hp => ?_)
    obtain ⟨hp, hq⟩ := hp
    replace hp : r_5 = (lt (A 0) i_1 4) := hp
    subst hp
    rw [hq] at hg
    refine lv_iadd hx hb dX3_allIncome_23 ?_
    refine lv_istore_n (lv' := [(1, .int ((sm (fun i => lt (A 0) i 4) i_1) + (lt (A 0) i_1 4))), (0, .ref o), (2, .int (nI i_1))]) hx hb dX3_allIncome_24 rfl hl (by decide) rfl (fun ls hl => ?_)
    refine lv_iinc (v := (nI (i_1 + 1))) (lv' := [(2, .int (nI (i_1 + 1))), (1, .int ((sm (fun i => lt (A 0) i 4) i_1) + (lt (A 0) i_1 4))), (0, .ref o)]) hx hb dX3_allIncome_25 hl (k := 2) rfl (nx_iinc rfl) (by decide) rfl (fun ls hl => ?_)
    refine lv_goto (tgt := 4) hx hb dX3_allIncome_28 (by decide) ?_
    exact ih4 _ _ _ _ hg ⟨hT, lv_sub hl [2, 1, 0] rfl⟩
set_option maxHeartbeats 1000000 in
set_option maxRecDepth 100000 in
theorem t_incomeByLots (l : Launch) (V : gh_V) (o : Nat) (ad : Nat → Nat) (I : Nat → Int32) (A : Nat → Nat → Int32) (F : Nat → Nat → UInt32) (g0 : gh_G) (hP : tw_P V g0 o ad I A F) (L : Nat) (hL : A 0 163 = nI L) (hL12 : L ≤ 12) : MI l yX3_incomeByLots cX3_incomeByLots 1 (some .int) ({ frames := 2, cells := 0, slots := 0, locals := 44 } : Room) V [.ref o] g0 (fun r g1 => r = sm (fun i => lt (A 0) i 4) L ∧ tw_W V g0 g1 o ad (va_up I 3 0) A F) := by
  refine MG.of RX3 (by decide) rfl (Nat.le_of_ble_eq_true rfl) (fun pp ee s mm args below meth c ls hC hg hr hlk hnm hl => ?_)
  have hx := hC.1.1
  have hb := hC.1.2.1
  have hml := hC.1.2.2.1
  have hown := hC.1.2.2.2.1
  have hts := hC.1.2.2.2.2
  have hl : lv_has ls 1 [(0, .ref o)] := hl
  have hT := hP.W
  refine lv_aload_n hx hb dX3_incomeByLots_0 rfl (lv_at hl 0 rfl) ?_
  refine lv_iconst (v := 0) hx hb dX3_incomeByLots_1 (by decide) ?_
  refine gh_put (v := .int 0) hC hg hT.1.1 fX3_54_0 rfl rfl (Nat.le_of_ble_eq_true rfl) dX3_incomeByLots_2 (fun g H locs hg hw hn => ?_)
  have hT : tw_W V g0 g o ad (va_up I 3 0) A F := hT.putI 3 0 hw hn
  refine lv_aload_n hx hb dX3_incomeByLots_5 rfl (lv_at hl 0 rfl) ?_
  refine gh_calli hg (gh_runV (As := []) (rest := []) hC hg (t_allIncome l V o ad (va_up I 3 0) A F _ hT.1 L (hL) hL12) 0 (lw_V q4258 q4260 qs94 q138 q4261) hT.1.1 rfl hd_X3_allIncome ⟨Nat.le_of_ble_eq_true rfl, Nat.le_of_ble_eq_true rfl⟩ rfl hl.1 rfl (Nat.le_of_ble_eq_true rfl) dX3_incomeByLots_6 ⟨Nat.le_of_ble_eq_true rfl, Nat.le_of_ble_eq_true rfl⟩) (fun r_1 g H locs hg hp => ?_)
  obtain ⟨hp, hpT⟩ := hp
  replace hp : r_1 = (sm (fun i => lt (A 0) i 4) L) := hp
  subst hp
  have hT : tw_W V g0 g o ad (va_up I 3 0) A F := hT.call hpT
  exact gh_reti hC hg hr hlk (⟨rfl, hT⟩) dX3_incomeByLots_9 (Nat.le_of_ble_eq_true rfl) (Nat.le_of_ble_eq_true rfl)
set_option maxHeartbeats 1000000 in
set_option maxRecDepth 100000 in
theorem t_incomeByOrders (l : Launch) (V : gh_V) (o : Nat) (ad : Nat → Nat) (I : Nat → Int32) (A : Nat → Nat → Int32) (F : Nat → Nat → UInt32) (g0 : gh_G) (hP : tw_P V g0 o ad I A F) (D : Nat) (hD : A 0 464 = nI D) (hD10 : D ≤ 10) : MI l yX3_incomeByOrders cX3_incomeByOrders 3 (some .int) ({ frames := 1, cells := 0, slots := 0, locals := 22 } : Room) V [.ref o] g0 (fun r g1 => r = sm (fun i => od (A 0) i 5) D ∧ tw_W V g0 g1 o ad (va_up I 3 0) A F) := by
  refine MG.of RX3 (by decide) rfl (Nat.le_of_ble_eq_true rfl) (fun pp ee s mm args below meth c ls hC hg hr hlk hnm hl => ?_)
  have hx := hC.1.1
  have hb := hC.1.2.1
  have hml := hC.1.2.2.1
  have hown := hC.1.2.2.2.1
  have hts := hC.1.2.2.2.2
  have hl : lv_has ls 3 [(0, .ref o)] := hl
  have hT := hP.W
  refine lv_aload_n hx hb dX3_incomeByOrders_0 rfl (lv_at hl 0 rfl) ?_
  refine lv_iconst (v := 0) hx hb dX3_incomeByOrders_1 (by decide) ?_
  refine gh_put (v := .int 0) hC hg hT.1.1 fX3_54_0 rfl rfl (Nat.le_of_ble_eq_true rfl) dX3_incomeByOrders_2 (fun g H locs hg hw hn => ?_)
  have hT : tw_W V g0 g o ad (va_up I 3 0) A F := hT.putI 3 0 hw hn
  refine lv_iconst (v := 0) hx hb dX3_incomeByOrders_5 (by decide) ?_
  refine lv_istore_n (lv' := [(1, .int 0), (0, .ref o)]) hx hb dX3_incomeByOrders_6 rfl hl (by decide) rfl (fun ls hl => ?_)
  refine lv_iconst (v := 0) hx hb dX3_incomeByOrders_7 (by decide) ?_
  refine lv_istore_n (lv' := [(2, .int 0), (1, .int 0), (0, .ref o)]) hx hb dX3_incomeByOrders_8 rfl hl (by decide) rfl (fun ls hl => ?_)
  refine gh_loop (N := D) (X := fun i_1 g ls => tw_W V g0 g o ad (va_up I 3 0) A F ∧ lv_has ls 3 [(0, .ref o), (1, .int (sm (fun i => od (A 0) i 5) i_1)), (2, .int (nI i_1))]) ?_ ?_ 0 (by omega) hg ⟨hT, lv_sub hl [2, 1, 0] rfl⟩
  · intro g H locs ls hg hX
    obtain ⟨hT, hl⟩ := hX
    refine lv_iload_n hx hb dX3_incomeByOrders_9 rfl (lv_at hl 2 rfl) ?_
    refine lv_aload_n hx hb dX3_incomeByOrders_10 rfl (lv_at hl 0 rfl) ?_
    refine gh_get (v := .ref (ad 0)) hC hg hT.1.1 fX3_7_0 rfl dX3_incomeByOrders_11 ?_
    refine lv_sipush (v := 464) hx hb dX3_incomeByOrders_14 (by decide) ?_
    refine gh_iald (n := 578) (f := (A 0)) hC hg (hT.1.2.1 0 (by decide)) (show ((464 : Int32)) = nI 464 from rfl) (by omega) (by omega) dX3_incomeByOrders_17 ?_
    refine lv_icmp_ge (tgt := 36) hx hb dX3_incomeByOrders_18 (by decide) (fun _ => ?_) (fun c_2 => (absurd ((nx_le hD rfl (by omega) (by omega)).mpr (by omega)) c_2))
    refine lv_iload_n hx hb dX3_incomeByOrders_36 rfl (lv_at hl 1 rfl) ?_
    exact gh_reti hC hg hr hlk (⟨rfl, hT⟩) dX3_incomeByOrders_37 (Nat.le_of_ble_eq_true rfl) (Nat.le_of_ble_eq_true rfl)
  · intro i_1 h_3 ih9 g H locs ls hg hX
    obtain ⟨hT, hl⟩ := hX
    refine lv_iload_n hx hb dX3_incomeByOrders_9 rfl (lv_at hl 2 rfl) ?_
    refine lv_aload_n hx hb dX3_incomeByOrders_10 rfl (lv_at hl 0 rfl) ?_
    refine gh_get (v := .ref (ad 0)) hC hg hT.1.1 fX3_7_0 rfl dX3_incomeByOrders_11 ?_
    refine lv_sipush (v := 464) hx hb dX3_incomeByOrders_14 (by decide) ?_
    refine gh_iald (n := 578) (f := (A 0)) hC hg (hT.1.2.1 0 (by decide)) (show ((464 : Int32)) = nI 464 from rfl) (by omega) (by omega) dX3_incomeByOrders_17 ?_
    refine lv_icmp_ge (tgt := 36) hx hb dX3_incomeByOrders_18 (by decide) (fun c_4 => (absurd ((nx_le hD rfl (by omega) (by omega)).mp c_4) (by omega))) (fun _ => ?_)
    refine lv_iload_n hx hb dX3_incomeByOrders_21 rfl (lv_at hl 1 rfl) ?_
    refine lv_aload_n hx hb dX3_incomeByOrders_22 rfl (lv_at hl 0 rfl) ?_
    refine lv_iload_n hx hb dX3_incomeByOrders_23 rfl (lv_at hl 2 rfl) ?_
    refine lv_iconst (v := 5) hx hb dX3_incomeByOrders_24 (by decide) ?_
    refine gh_calli hg (gh_runV (As := [.int (nI i_1), .int 5]) (rest := [.int (sm (fun i => od (A 0) i 5) i_1)]) hC hg (t_order l V o ad (va_up I 3 0) A F _ hT.1 (nI i_1) 5 i_1 5 rfl (show ((5 : Int32)) = nI 5 from rfl) (by omega) (by omega)) 2 (lw_V q3996 q3998 qs71 q138 q3999) hT.1.1 rfl hd_X3_order ⟨Nat.le_of_ble_eq_true rfl, Nat.le_of_ble_eq_true rfl⟩ rfl hl.1 rfl (Nat.le_of_ble_eq_true rfl) dX3_incomeByOrders_25 ⟨Nat.le_of_ble_eq_true rfl, Nat.le_of_ble_eq_true rfl⟩) (fun r_5 g H locs hg hp => ?_)
    obtain ⟨hp, hq⟩ := hp
    replace hp : r_5 = (od (A 0) i_1 5) := hp
    subst hp
    rw [hq] at hg
    refine lv_iadd hx hb dX3_incomeByOrders_28 ?_
    refine lv_istore_n (lv' := [(1, .int ((sm (fun i => od (A 0) i 5) i_1) + (od (A 0) i_1 5))), (0, .ref o), (2, .int (nI i_1))]) hx hb dX3_incomeByOrders_29 rfl hl (by decide) rfl (fun ls hl => ?_)
    refine lv_iinc (v := (nI (i_1 + 1))) (lv' := [(2, .int (nI (i_1 + 1))), (1, .int ((sm (fun i => od (A 0) i 5) i_1) + (od (A 0) i_1 5))), (0, .ref o)]) hx hb dX3_incomeByOrders_30 hl (k := 2) rfl (nx_iinc rfl) (by decide) rfl (fun ls hl => ?_)
    refine lv_goto (tgt := 9) hx hb dX3_incomeByOrders_33 (by decide) ?_
    exact ih9 _ _ _ _ hg ⟨hT, lv_sub hl [2, 1, 0] rfl⟩
set_option maxHeartbeats 1000000 in
set_option maxRecDepth 100000 in
theorem t_piecesByPlaces (l : Launch) (V : gh_V) (o : Nat) (ad : Nat → Nat) (I : Nat → Int32) (A : Nat → Nat → Int32) (F : Nat → Nat → UInt32) (g0 : gh_G) (hP : tw_P V g0 o ad I A F)  : MI l yX3_piecesByPlaces cX3_piecesByPlaces 3 (some .int) ({ frames := 2, cells := 0, slots := 0, locals := 43 } : Room) V [.ref o] g0 (fun r g1 => r = sm (isP (A 0)) 24 ∧ tw_W V g0 g1 o ad (va_up I 3 0) A F) := by
  refine MG.of RX3 (by decide) rfl (Nat.le_of_ble_eq_true rfl) (fun pp ee s mm args below meth c ls hC hg hr hlk hnm hl => ?_)
  have hx := hC.1.1
  have hb := hC.1.2.1
  have hml := hC.1.2.2.1
  have hown := hC.1.2.2.2.1
  have hts := hC.1.2.2.2.2
  have hl : lv_has ls 3 [(0, .ref o)] := hl
  have hT := hP.W
  refine lv_aload_n hx hb dX3_piecesByPlaces_0 rfl (lv_at hl 0 rfl) ?_
  refine lv_iconst (v := 0) hx hb dX3_piecesByPlaces_1 (by decide) ?_
  refine gh_put (v := .int 0) hC hg hT.1.1 fX3_54_0 rfl rfl (Nat.le_of_ble_eq_true rfl) dX3_piecesByPlaces_2 (fun g H locs hg hw hn => ?_)
  have hT : tw_W V g0 g o ad (va_up I 3 0) A F := hT.putI 3 0 hw hn
  refine lv_iconst (v := 0) hx hb dX3_piecesByPlaces_5 (by decide) ?_
  refine lv_istore_n (lv' := [(1, .int 0), (0, .ref o)]) hx hb dX3_piecesByPlaces_6 rfl hl (by decide) rfl (fun ls hl => ?_)
  refine lv_iconst (v := 0) hx hb dX3_piecesByPlaces_7 (by decide) ?_
  refine lv_istore_n (lv' := [(2, .int 0), (1, .int 0), (0, .ref o)]) hx hb dX3_piecesByPlaces_8 rfl hl (by decide) rfl (fun ls hl => ?_)
  refine gh_loop (N := 24) (X := fun i_1 g ls => tw_W V g0 g o ad (va_up I 3 0) A F ∧ lv_has ls 3 [(0, .ref o), (1, .int (sm (isP (A 0)) i_1)), (2, .int (nI i_1))]) ?_ ?_ 0 (by omega) hg ⟨hT, lv_sub hl [2, 1, 0] rfl⟩
  · intro g H locs ls hg hX
    obtain ⟨hT, hl⟩ := hX
    refine lv_iload_n hx hb dX3_piecesByPlaces_9 rfl (lv_at hl 2 rfl) ?_
    refine lv_bipush (v := 24) hx hb dX3_piecesByPlaces_10 (by decide) ?_
    refine lv_icmp_ge (tgt := 37) hx hb dX3_piecesByPlaces_12 (by decide) (fun _ => ?_) (fun c_2 => (absurd ((nx_le (show ((24 : Int32)) = nI 24 from rfl) rfl (by omega) (by omega)).mpr (by omega)) c_2))
    refine lv_iload_n hx hb dX3_piecesByPlaces_37 rfl (lv_at hl 1 rfl) ?_
    exact gh_reti hC hg hr hlk (⟨rfl, hT⟩) dX3_piecesByPlaces_38 (Nat.le_of_ble_eq_true rfl) (Nat.le_of_ble_eq_true rfl)
  · intro i_1 h_3 ih9 g H locs ls hg hX
    obtain ⟨hT, hl⟩ := hX
    refine lv_iload_n hx hb dX3_piecesByPlaces_9 rfl (lv_at hl 2 rfl) ?_
    refine lv_bipush (v := 24) hx hb dX3_piecesByPlaces_10 (by decide) ?_
    refine lv_icmp_ge (tgt := 37) hx hb dX3_piecesByPlaces_12 (by decide) (fun c_4 => (absurd ((nx_le (show ((24 : Int32)) = nI 24 from rfl) rfl (by omega) (by omega)).mp c_4) (by omega))) (fun _ => ?_)
    refine lv_iload_n hx hb dX3_piecesByPlaces_15 rfl (lv_at hl 1 rfl) ?_
    refine lv_aload_n hx hb dX3_piecesByPlaces_16 rfl (lv_at hl 0 rfl) ?_
    refine lv_iload_n hx hb dX3_piecesByPlaces_17 rfl (lv_at hl 2 rfl) ?_
    refine gh_calli hg (gh_runV (As := [.int (nI i_1)]) (rest := [.int (sm (isP (A 0)) i_1)]) hC hg (t_isPiece l V o ad (va_up I 3 0) A F _ hT.1 (nI i_1) i_1 rfl (by omega)) 1 (lw_V q3960 q3962 qs64 q138 q3963) hT.1.1 rfl hd_X3_isPiece ⟨Nat.le_of_ble_eq_true rfl, Nat.le_of_ble_eq_true rfl⟩ rfl hl.1 rfl (Nat.le_of_ble_eq_true rfl) dX3_piecesByPlaces_18 ⟨Nat.le_of_ble_eq_true rfl, Nat.le_of_ble_eq_true rfl⟩) (fun r_5 g H locs hg hp => ?_)
    replace hp : r_5 = (if ¬ pl (A 0) i_1 0 = -1 then 1 else 0) ∧ g = _ := hp
    by_cases pc_6 : ¬ pl (A 0) i_1 0 = -1
    · rw [if_pos pc_6] at hp
      obtain ⟨rfl, hq⟩ := hp
      rw [hq] at hg
      refine lv_if_eq (tgt := 28) hx hb dX3_piecesByPlaces_21 (by decide) (fun c_7 => (absurd ((nx_eq (show ((1 : Int32)) = nI 1 from rfl) (show ((0 : Int32)) = nI 0 from rfl) (by omega) (by omega)).mp c_7) (by omega))) (fun _ => ?_)
      refine lv_iconst (v := 1) hx hb dX3_piecesByPlaces_24 (by decide) ?_
      refine lv_goto (tgt := 29) hx hb dX3_piecesByPlaces_25 (by decide) ?_
      refine lv_iadd hx hb dX3_piecesByPlaces_29 ?_
      refine lv_istore_n (lv' := [(1, .int ((sm (isP (A 0)) i_1) + 1)), (0, .ref o), (2, .int (nI i_1))]) hx hb dX3_piecesByPlaces_30 rfl hl (by decide) rfl (fun ls hl => ?_)
      refine lv_iinc (v := (nI (i_1 + 1))) (lv' := [(2, .int (nI (i_1 + 1))), (1, .int ((sm (isP (A 0)) i_1) + 1)), (0, .ref o)]) hx hb dX3_piecesByPlaces_31 hl (k := 2) rfl (nx_iinc rfl) (by decide) rfl (fun ls hl => ?_)
      refine lv_goto (tgt := 9) hx hb dX3_piecesByPlaces_34 (by decide) ?_
      exact ih9 _ _ _ _ hg ⟨hT, (by rw [show sm (isP (A 0)) (i_1 + 1) = ((sm (isP (A 0)) i_1) + 1) from by simp [sm, isP, pc_6]]; exact lv_sub hl [2, 1, 0] rfl)⟩
    rw [if_neg pc_6] at hp
    obtain ⟨rfl, hq⟩ := hp
    rw [hq] at hg
    refine lv_if_eq (tgt := 28) hx hb dX3_piecesByPlaces_21 (by decide) (fun _ => ?_) (fun c_8 => (absurd ((nx_eq (show ((0 : Int32)) = nI 0 from rfl) (show ((0 : Int32)) = nI 0 from rfl) (by omega) (by omega)).mpr (by omega)) c_8))
    refine lv_iconst (v := 0) hx hb dX3_piecesByPlaces_28 (by decide) ?_
    refine lv_iadd hx hb dX3_piecesByPlaces_29 ?_
    refine lv_istore_n (lv' := [(1, .int ((sm (isP (A 0)) i_1) + 0)), (0, .ref o), (2, .int (nI i_1))]) hx hb dX3_piecesByPlaces_30 rfl hl (by decide) rfl (fun ls hl => ?_)
    refine lv_iinc (v := (nI (i_1 + 1))) (lv' := [(2, .int (nI (i_1 + 1))), (1, .int ((sm (isP (A 0)) i_1) + 0)), (0, .ref o)]) hx hb dX3_piecesByPlaces_31 hl (k := 2) rfl (nx_iinc rfl) (by decide) rfl (fun ls hl => ?_)
    refine lv_goto (tgt := 9) hx hb dX3_piecesByPlaces_34 (by decide) ?_
    exact ih9 _ _ _ _ hg ⟨hT, (by rw [show sm (isP (A 0)) (i_1 + 1) = ((sm (isP (A 0)) i_1) + 0) from by simp [sm, isP, pc_6]]; exact lv_sub hl [2, 1, 0] rfl)⟩
set_option maxHeartbeats 1000000 in
set_option maxRecDepth 100000 in
theorem t_fated (l : Launch) (V : gh_V) (o : Nat) (ad : Nat → Nat) (I : Nat → Int32) (A : Nat → Nat → Int32) (F : Nat → Nat → UInt32) (g0 : gh_G) (hP : tw_P V g0 o ad I A F) (x y : Int32) (i K : Nat) (ex : x = nI i) (bi : i < 12) (hK : lt (A 0) i 2 = nI K) (hK20 : K ≤ 20) : MI l yX3_fated cX3_fated 5 (some .int) ({ frames := 1, cells := 0, slots := 0, locals := 22 } : Room) V [.ref o, .int x, .int y] g0 (fun r g1 => r = fated (A 0) i y ∧ tw_W V g0 g1 o ad I A F) := by
  refine MG.of RX3 (by decide) rfl (Nat.le_of_ble_eq_true rfl) (fun pp ee s mm args below meth c ls hC hg hr hlk hnm hl => ?_)
  have hx := hC.1.1
  have hb := hC.1.2.1
  have hml := hC.1.2.2.1
  have hown := hC.1.2.2.2.1
  have hts := hC.1.2.2.2.2
  have hl : lv_has ls 5 [(0, .ref o), (1, .int x), (2, .int y)] := hl
  have hT := hP.W
  refine lv_iconst (v := 0) hx hb dX3_fated_0 (by decide) ?_
  refine lv_istore_n (lv' := [(3, .int 0), (0, .ref o), (1, .int x), (2, .int y)]) hx hb dX3_fated_1 rfl hl (by decide) rfl (fun ls hl => ?_)
  refine lv_iconst (v := 0) hx hb dX3_fated_2 (by decide) ?_
  refine lv_istore (lv' := [(4, .int 0), (3, .int 0), (0, .ref o), (1, .int x), (2, .int y)]) hx hb dX3_fated_3 hl (by decide) rfl (fun ls hl => ?_)
  refine gh_loop (N := K) (X := fun i_1 g ls => tw_W V g0 g o ad I A F ∧ lv_has ls 5 [(0, .ref o), (1, .int x), (2, .int y), (3, .int (sm (fatedN (A 0) i y) i_1)), (4, .int (nI i_1))]) ?_ ?_ 0 (by omega) hg ⟨hT, lv_sub hl [2, 3, 4, 1, 0] rfl⟩
  · intro g H locs ls hg hX
    obtain ⟨hT, hl⟩ := hX
    refine lv_iload hx hb dX3_fated_5 (lv_at hl 4 rfl) ?_
    refine lv_aload_n hx hb dX3_fated_7 rfl (lv_at hl 0 rfl) ?_
    refine lv_iload_n hx hb dX3_fated_8 rfl (lv_at hl 1 rfl) ?_
    refine lv_iconst (v := 2) hx hb dX3_fated_9 (by decide) ?_
    refine gh_calli hg (gh_runV (As := [.int x, .int 2]) (rest := [.int (nI K)]) hC hg (t_lot l V o ad I A F _ hT.1 x 2 i 2 ex (show ((2 : Int32)) = nI 2 from rfl) (by omega) (by omega)) 2 (lw_V q3956 q3958 qs63 q138 q3959) hT.1.1 rfl hd_X3_lot ⟨Nat.le_of_ble_eq_true rfl, Nat.le_of_ble_eq_true rfl⟩ rfl hl.1 rfl (Nat.le_of_ble_eq_true rfl) dX3_fated_10 ⟨Nat.le_of_ble_eq_true rfl, Nat.le_of_ble_eq_true rfl⟩) (fun r_2 g H locs hg hp => ?_)
    obtain ⟨hp, hq⟩ := hp
    replace hp : r_2 = (lt (A 0) i 2) := hp
    subst hp
    rw [hq] at hg
    refine lv_icmp_ge (tgt := 43) hx hb dX3_fated_13 (by decide) (fun _ => ?_) (fun c_3 => (absurd ((nx_le hK rfl (by omega) (by omega)).mpr (by omega)) c_3))
    refine lv_iload_n hx hb dX3_fated_43 rfl (lv_at hl 3 rfl) ?_
    exact gh_reti hC hg hr hlk (⟨by rw [fated, cl_of hK (by omega)], hT⟩) dX3_fated_44 (Nat.le_of_ble_eq_true rfl) (Nat.le_of_ble_eq_true rfl)
  · intro i_1 h_4 ih5 g H locs ls hg hX
    obtain ⟨hT, hl⟩ := hX
    refine lv_iload hx hb dX3_fated_5 (lv_at hl 4 rfl) ?_
    refine lv_aload_n hx hb dX3_fated_7 rfl (lv_at hl 0 rfl) ?_
    refine lv_iload_n hx hb dX3_fated_8 rfl (lv_at hl 1 rfl) ?_
    refine lv_iconst (v := 2) hx hb dX3_fated_9 (by decide) ?_
    refine gh_calli hg (gh_runV (As := [.int x, .int 2]) (rest := [.int (nI i_1)]) hC hg (t_lot l V o ad I A F _ hT.1 x 2 i 2 ex (show ((2 : Int32)) = nI 2 from rfl) (by omega) (by omega)) 2 (lw_V q3956 q3958 qs63 q138 q3959) hT.1.1 rfl hd_X3_lot ⟨Nat.le_of_ble_eq_true rfl, Nat.le_of_ble_eq_true rfl⟩ rfl hl.1 rfl (Nat.le_of_ble_eq_true rfl) dX3_fated_10 ⟨Nat.le_of_ble_eq_true rfl, Nat.le_of_ble_eq_true rfl⟩) (fun r_5 g H locs hg hp => ?_)
    obtain ⟨hp, hq⟩ := hp
    replace hp : r_5 = (lt (A 0) i 2) := hp
    subst hp
    rw [hq] at hg
    refine lv_icmp_ge (tgt := 43) hx hb dX3_fated_13 (by decide) (fun c_6 => (absurd ((nx_le hK rfl (by omega) (by omega)).mp c_6) (by omega))) (fun _ => ?_)
    refine lv_iload_n hx hb dX3_fated_16 rfl (lv_at hl 3 rfl) ?_
    refine lv_aload_n hx hb dX3_fated_17 rfl (lv_at hl 0 rfl) ?_
    refine lv_iload_n hx hb dX3_fated_18 rfl (lv_at hl 1 rfl) ?_
    refine lv_iconst (v := 5) hx hb dX3_fated_19 (by decide) ?_
    refine lv_iload hx hb dX3_fated_20 (lv_at hl 4 rfl) ?_
    refine lv_iadd hx hb dX3_fated_22 ?_
    refine gh_calli hg (gh_runV (As := [.int x, .int (5 + (nI i_1))]) (rest := [.int (sm (fatedN (A 0) i y) i_1)]) hC hg (t_lot l V o ad I A F _ hT.1 x (5 + (nI i_1)) i (5 + i_1) ex (nx_add (show ((5 : Int32)) = nI 5 from rfl) rfl) (by omega) (by omega)) 2 (lw_V q3956 q3958 qs63 q138 q3959) hT.1.1 rfl hd_X3_lot ⟨Nat.le_of_ble_eq_true rfl, Nat.le_of_ble_eq_true rfl⟩ rfl hl.1 rfl (Nat.le_of_ble_eq_true rfl) dX3_fated_23 ⟨Nat.le_of_ble_eq_true rfl, Nat.le_of_ble_eq_true rfl⟩) (fun r_7 g H locs hg hp => ?_)
    obtain ⟨hp, hq⟩ := hp
    replace hp : r_7 = (lt (A 0) i (5 + i_1)) := hp
    subst hp
    rw [hq] at hg
    refine lv_iload_n hx hb dX3_fated_26 rfl (lv_at hl 2 rfl) ?_
    refine lv_icmp_ne (tgt := 34) hx hb dX3_fated_27 (by decide) (fun c_8 => ?_) (fun c_8 => ?_)
    · skip
      refine lv_iconst (v := 0) hx hb dX3_fated_34 (by decide) ?_
      refine lv_iadd hx hb dX3_fated_35 ?_
      refine lv_istore_n (lv' := [(3, .int ((sm (fatedN (A 0) i y) i_1) + 0)), (0, .ref o), (1, .int x), (2, .int y), (4, .int (nI i_1))]) hx hb dX3_fated_36 rfl hl (by decide) rfl (fun ls hl => ?_)
      refine lv_iinc (v := (nI (i_1 + 1))) (lv' := [(4, .int (nI (i_1 + 1))), (3, .int ((sm (fatedN (A 0) i y) i_1) + 0)), (0, .ref o), (1, .int x), (2, .int y)]) hx hb dX3_fated_37 hl (k := 4) rfl (nx_iinc rfl) (by decide) rfl (fun ls hl => ?_)
      refine lv_goto (tgt := 5) hx hb dX3_fated_40 (by decide) ?_
      exact ih5 _ _ _ _ hg ⟨hT, (by rw [show sm (fatedN (A 0) i y) (i_1 + 1) = ((sm (fatedN (A 0) i y) i_1) + 0) from by simp [sm, fatedN, c_8]]; exact lv_sub hl [2, 3, 4, 1, 0] rfl)⟩
    refine lv_iconst (v := 1) hx hb dX3_fated_30 (by decide) ?_
    refine lv_goto (tgt := 35) hx hb dX3_fated_31 (by decide) ?_
    refine lv_iadd hx hb dX3_fated_35 ?_
    refine lv_istore_n (lv' := [(3, .int ((sm (fatedN (A 0) i y) i_1) + 1)), (0, .ref o), (1, .int x), (2, .int y), (4, .int (nI i_1))]) hx hb dX3_fated_36 rfl hl (by decide) rfl (fun ls hl => ?_)
    refine lv_iinc (v := (nI (i_1 + 1))) (lv' := [(4, .int (nI (i_1 + 1))), (3, .int ((sm (fatedN (A 0) i y) i_1) + 1)), (0, .ref o), (1, .int x), (2, .int y)]) hx hb dX3_fated_37 hl (k := 4) rfl (nx_iinc rfl) (by decide) rfl (fun ls hl => ?_)
    refine lv_goto (tgt := 5) hx hb dX3_fated_40 (by decide) ?_
    exact ih5 _ _ _ _ hg ⟨hT, (by rw [show sm (fatedN (A 0) i y) (i_1 + 1) = ((sm (fatedN (A 0) i y) i_1) + 1) from by simp [sm, fatedN, c_8]]; exact lv_sub hl [2, 3, 4, 1, 0] rfl)⟩
set_option maxHeartbeats 1000000 in
set_option maxRecDepth 100000 in
theorem t_piecesOf (l : Launch) (V : gh_V) (o : Nat) (ad : Nat → Nat) (I : Nat → Int32) (A : Nat → Nat → Int32) (F : Nat → Nat → UInt32) (g0 : gh_G) (hP : tw_P V g0 o ad I A F) (x y : Int32) (L D P : Nat) (hE : tw_wf (A 0) L D P) : MI l yX3_piecesOf cX3_piecesOf 3 (some .int) ({ frames := 2, cells := 0, slots := 0, locals := 46 } : Room) V [.ref o, .int x, .int y] g0 (fun r g1 => (c2 (okL x L) (okR y 0 4) = 0 → r = fated (A 0) x.toNatClampNeg y) ∧ tw_W V g0 g1 o ad (va_up I 3 (c2 (okL x L) (okR y 0 4))) A F) := by
  refine MG.of RX3 (by decide) rfl (Nat.le_of_ble_eq_true rfl) (fun pp ee s mm args below meth c ls hC hg hr hlk hnm hl => ?_)
  have hx := hC.1.1
  have hb := hC.1.2.1
  have hml := hC.1.2.2.1
  have hown := hC.1.2.2.2.1
  have hts := hC.1.2.2.2.2
  have hl : lv_has ls 3 [(0, .ref o), (1, .int x), (2, .int y)] := hl
  have hT := hP.W
  have hL := hE.1.1
  have hL12 := hE.1.2
  refine lv_aload_n hx hb dX3_piecesOf_0 rfl (lv_at hl 0 rfl) ?_
  refine lv_iload_n hx hb dX3_piecesOf_1 rfl (lv_at hl 1 rfl) ?_
  refine gh_calli hg (gh_runV (As := [.int x]) (rest := []) hC hg (t_isLot l V o ad I A F _ hT.1 x L (hL) hL12) 1 (lw_V q3948 q3950 qs61 q138 q3951) hT.1.1 rfl hd_X3_isLot ⟨Nat.le_of_ble_eq_true rfl, Nat.le_of_ble_eq_true rfl⟩ rfl hl.1 rfl (Nat.le_of_ble_eq_true rfl) dX3_piecesOf_2 ⟨Nat.le_of_ble_eq_true rfl, Nat.le_of_ble_eq_true rfl⟩) (fun r_1 g H locs hg hp => ?_)
  replace hp : r_1 = (if okL x L then 1 else 0) ∧ tw_W V _ g o ad (va_up I 3 (if okL x L then 0 else 1)) A F := hp
  by_cases ok_2 : okL x L
  · rw [if_pos ok_2, if_pos ok_2] at hp
    obtain ⟨rfl, hp⟩ := hp
    have hT : tw_W V g0 g o ad (va_up I 3 0) A F := hT.call hp
    obtain ⟨h_3a, h_3⟩ := okL_cl (by omega) ok_2
    refine lv_if_ne (tgt := 10) hx hb dX3_piecesOf_5 (by decide) (fun _ => ?_) (fun c_4 => (absurd ((nx_eq (show ((1 : Int32)) = nI 1 from rfl) (show ((0 : Int32)) = nI 0 from rfl) (by omega) (by omega)).mp c_4) (by omega)))
    refine lv_iload_n hx hb dX3_piecesOf_10 rfl (lv_at hl 2 rfl) ?_
    refine lv_iconst (v := 0) hx hb dX3_piecesOf_11 (by decide) ?_
    refine lv_iconst (v := 4) hx hb dX3_piecesOf_12 (by decide) ?_
    refine gh_calli hg (gh_runS (As := [.int y, .int 0, .int 4]) (rest := []) hC hg (t_in l V _ y 0 4) 3 (lw_S q3905 q3906 q138 q3907) hd_X3_in.2 ⟨Nat.le_of_ble_eq_true rfl, Nat.le_of_ble_eq_true rfl⟩ rfl hl.1 rfl (Nat.le_of_ble_eq_true rfl) dX3_piecesOf_13 ⟨Nat.le_of_ble_eq_true rfl, Nat.le_of_ble_eq_true rfl⟩) (fun r_5 g H locs hg hp => ?_)
    replace hp : r_5 = (if okR y 0 4 then 1 else 0) ∧ g = _ := hp
    by_cases ok_6 : okR y 0 4
    · rw [if_pos ok_6] at hp
      obtain ⟨rfl, hq⟩ := hp
      rw [hq] at hg
      obtain ⟨h_7a, h_7b, h_7⟩ := okR_cl (show ((0 : Int32)) = nI 0 from rfl) (show ((4 : Int32)) = nI 4 from rfl) (by omega) (by omega) ok_6
      refine lv_if_eq (tgt := 28) hx hb dX3_piecesOf_16 (by decide) (fun c_8 => (absurd ((nx_eq (show ((1 : Int32)) = nI 1 from rfl) (show ((0 : Int32)) = nI 0 from rfl) (by omega) (by omega)).mp c_8) (by omega))) (fun _ => ?_)
      refine lv_aload_n hx hb dX3_piecesOf_19 rfl (lv_at hl 0 rfl) ?_
      refine lv_iload_n hx hb dX3_piecesOf_20 rfl (lv_at hl 1 rfl) ?_
      refine lv_iload_n hx hb dX3_piecesOf_21 rfl (lv_at hl 2 rfl) ?_
      obtain ⟨K_9, hK_10b, hK_10⟩ := hE.2.2.2.2.1 ((x).toNatClampNeg) (by omega)
      refine gh_calli hg (gh_runV (As := [.int x, .int y]) (rest := []) hC hg (t_fated l V o ad (va_up I 3 0) A F _ hT.1 x y ((x).toNatClampNeg) K_9 h_3 (by omega) hK_10 hK_10b) 2 (lw_V q4210 q4212 qs91 q138 q4213) hT.1.1 rfl hd_X3_fated ⟨Nat.le_of_ble_eq_true rfl, Nat.le_of_ble_eq_true rfl⟩ rfl hl.1 rfl (Nat.le_of_ble_eq_true rfl) dX3_piecesOf_22 ⟨Nat.le_of_ble_eq_true rfl, Nat.le_of_ble_eq_true rfl⟩) (fun r_11 g H locs hg hp => ?_)
      obtain ⟨hp, hpT⟩ := hp
      replace hp : r_11 = (fated (A 0) ((x).toNatClampNeg) y) := hp
      subst hp
      have hT : tw_W V g0 g o ad (va_up I 3 0) A F := hT.call hpT
      refine lv_goto (tgt := 33) hx hb dX3_piecesOf_25 (by decide) ?_
      have e9 : c2 (okL x L) (okR y 0 4) = 0 := by first | rfl | (simp only [c1, c2, c3, if_pos ok_2, if_pos ok_6]; done) | simp [c1, c2, c3, ok_2, ok_6]
      exact gh_reti hC hg hr hlk (⟨fun h9 => rfl, by rw [e9]; exact hT⟩) dX3_piecesOf_33 (Nat.le_of_ble_eq_true rfl) (Nat.le_of_ble_eq_true rfl)
    rw [if_neg ok_6] at hp
    obtain ⟨rfl, hq⟩ := hp
    rw [hq] at hg
    refine lv_if_eq (tgt := 28) hx hb dX3_piecesOf_16 (by decide) (fun _ => ?_) (fun c_12 => (absurd ((nx_eq (show ((0 : Int32)) = nI 0 from rfl) (show ((0 : Int32)) = nI 0 from rfl) (by omega) (by omega)).mpr (by omega)) c_12))
    refine lv_aload_n hx hb dX3_piecesOf_28 rfl (lv_at hl 0 rfl) ?_
    refine lv_iconst (v := 2) hx hb dX3_piecesOf_29 (by decide) ?_
    refine gh_calli hg (gh_runV (As := [.int 2]) (rest := []) hC hg (t_throwing l V o ad (va_up I 3 0) A F _ hT.1 2) 1 (lw_V q3908 q3910 qs56 q138 q3911) hT.1.1 rfl hd_X3_throwing ⟨Nat.le_of_ble_eq_true rfl, Nat.le_of_ble_eq_true rfl⟩ rfl hl.1 rfl (Nat.le_of_ble_eq_true rfl) dX3_piecesOf_30 ⟨Nat.le_of_ble_eq_true rfl, Nat.le_of_ble_eq_true rfl⟩) (fun r_13 g H locs hg hp => ?_)
    obtain ⟨hp, hpT⟩ := hp
    replace hp : r_13 = 0 := hp
    subst hp
    have hT : tw_W V g0 g o ad (va_up (va_up I 3 0) 3 2) A F := hT.call hpT
    have e9 : c2 (okL x L) (okR y 0 4) = 2 := by first | rfl | (simp only [c1, c2, c3, if_pos ok_2, if_neg ok_6]; done) | simp [c1, c2, c3, ok_2, ok_6]
    exact gh_reti hC hg hr hlk (⟨fun h9 => absurd (e9.symm.trans h9) (by decide), by rw [e9]; exact hT⟩) dX3_piecesOf_33 (Nat.le_of_ble_eq_true rfl) (Nat.le_of_ble_eq_true rfl)
  rw [if_neg ok_2, if_neg ok_2] at hp
  obtain ⟨rfl, hp⟩ := hp
  have hT : tw_W V g0 g o ad (va_up I 3 1) A F := hT.call hp
  refine lv_if_ne (tgt := 10) hx hb dX3_piecesOf_5 (by decide) (fun c_14 => (absurd ((nx_eq (show ((0 : Int32)) = nI 0 from rfl) (show ((0 : Int32)) = nI 0 from rfl) (by omega) (by omega)).mpr (by omega)) c_14)) (fun _ => ?_)
  refine lv_iconst (v := 0) hx hb dX3_piecesOf_8 (by decide) ?_
  have e9 : c2 (okL x L) (okR y 0 4) = 1 := by first | rfl | (simp only [c1, c2, c3, if_neg ok_2]; done) | simp [c1, c2, c3, ok_2]
  exact gh_reti hC hg hr hlk (⟨fun h9 => absurd (e9.symm.trans h9) (by decide), by rw [e9]; exact hT⟩) dX3_piecesOf_9 (Nat.le_of_ble_eq_true rfl) (Nat.le_of_ble_eq_true rfl)
set_option maxHeartbeats 1000000 in
set_option maxRecDepth 100000 in
theorem t_piecesByLots (l : Launch) (V : gh_V) (o : Nat) (ad : Nat → Nat) (I : Nat → Int32) (A : Nat → Nat → Int32) (F : Nat → Nat → UInt32) (g0 : gh_G) (hP : tw_P V g0 o ad I A F) (L D P : Nat) (hE : tw_wf (A 0) L D P) : MI l yX3_piecesByLots cX3_piecesByLots 3 (some .int) ({ frames := 2, cells := 0, slots := 0, locals := 46 } : Room) V [.ref o] g0 (fun r g1 => r = sm (fun i => fated (A 0) i 0) L ∧ tw_W V g0 g1 o ad (va_up I 3 0) A F) := by
  refine MG.of RX3 (by decide) rfl (Nat.le_of_ble_eq_true rfl) (fun pp ee s mm args below meth c ls hC hg hr hlk hnm hl => ?_)
  have hx := hC.1.1
  have hb := hC.1.2.1
  have hml := hC.1.2.2.1
  have hown := hC.1.2.2.2.1
  have hts := hC.1.2.2.2.2
  have hl : lv_has ls 3 [(0, .ref o)] := hl
  have hT := hP.W
  have hL := hE.1.1
  have hL12 := hE.1.2
  refine lv_aload_n hx hb dX3_piecesByLots_0 rfl (lv_at hl 0 rfl) ?_
  refine lv_iconst (v := 0) hx hb dX3_piecesByLots_1 (by decide) ?_
  refine gh_put (v := .int 0) hC hg hT.1.1 fX3_54_0 rfl rfl (Nat.le_of_ble_eq_true rfl) dX3_piecesByLots_2 (fun g H locs hg hw hn => ?_)
  have hT : tw_W V g0 g o ad (va_up I 3 0) A F := hT.putI 3 0 hw hn
  refine lv_iconst (v := 0) hx hb dX3_piecesByLots_5 (by decide) ?_
  refine lv_istore_n (lv' := [(1, .int 0), (0, .ref o)]) hx hb dX3_piecesByLots_6 rfl hl (by decide) rfl (fun ls hl => ?_)
  refine lv_iconst (v := 0) hx hb dX3_piecesByLots_7 (by decide) ?_
  refine lv_istore_n (lv' := [(2, .int 0), (1, .int 0), (0, .ref o)]) hx hb dX3_piecesByLots_8 rfl hl (by decide) rfl (fun ls hl => ?_)
  refine gh_loop (N := L) (X := fun i_1 g ls => tw_W V g0 g o ad (va_up I 3 0) A F ∧ lv_has ls 3 [(0, .ref o), (1, .int (sm (fun i => fated (A 0) i 0) i_1)), (2, .int (nI i_1))]) ?_ ?_ 0 (by omega) hg ⟨hT, lv_sub hl [2, 1, 0] rfl⟩
  · intro g H locs ls hg hX
    obtain ⟨hT, hl⟩ := hX
    refine lv_iload_n hx hb dX3_piecesByLots_9 rfl (lv_at hl 2 rfl) ?_
    refine lv_aload_n hx hb dX3_piecesByLots_10 rfl (lv_at hl 0 rfl) ?_
    refine gh_get (v := .ref (ad 0)) hC hg hT.1.1 fX3_7_0 rfl dX3_piecesByLots_11 ?_
    refine lv_sipush (v := 163) hx hb dX3_piecesByLots_14 (by decide) ?_
    refine gh_iald (n := 578) (f := (A 0)) hC hg (hT.1.2.1 0 (by decide)) (show ((163 : Int32)) = nI 163 from rfl) (by omega) (by omega) dX3_piecesByLots_17 ?_
    refine lv_icmp_ge (tgt := 36) hx hb dX3_piecesByLots_18 (by decide) (fun _ => ?_) (fun c_2 => (absurd ((nx_le hL rfl (by omega) (by omega)).mpr (by omega)) c_2))
    refine lv_iload_n hx hb dX3_piecesByLots_36 rfl (lv_at hl 1 rfl) ?_
    exact gh_reti hC hg hr hlk (⟨rfl, hT⟩) dX3_piecesByLots_37 (Nat.le_of_ble_eq_true rfl) (Nat.le_of_ble_eq_true rfl)
  · intro i_1 h_3 ih9 g H locs ls hg hX
    obtain ⟨hT, hl⟩ := hX
    refine lv_iload_n hx hb dX3_piecesByLots_9 rfl (lv_at hl 2 rfl) ?_
    refine lv_aload_n hx hb dX3_piecesByLots_10 rfl (lv_at hl 0 rfl) ?_
    refine gh_get (v := .ref (ad 0)) hC hg hT.1.1 fX3_7_0 rfl dX3_piecesByLots_11 ?_
    refine lv_sipush (v := 163) hx hb dX3_piecesByLots_14 (by decide) ?_
    refine gh_iald (n := 578) (f := (A 0)) hC hg (hT.1.2.1 0 (by decide)) (show ((163 : Int32)) = nI 163 from rfl) (by omega) (by omega) dX3_piecesByLots_17 ?_
    refine lv_icmp_ge (tgt := 36) hx hb dX3_piecesByLots_18 (by decide) (fun c_4 => (absurd ((nx_le hL rfl (by omega) (by omega)).mp c_4) (by omega))) (fun _ => ?_)
    refine lv_iload_n hx hb dX3_piecesByLots_21 rfl (lv_at hl 1 rfl) ?_
    refine lv_aload_n hx hb dX3_piecesByLots_22 rfl (lv_at hl 0 rfl) ?_
    refine lv_iload_n hx hb dX3_piecesByLots_23 rfl (lv_at hl 2 rfl) ?_
    refine lv_iconst (v := 0) hx hb dX3_piecesByLots_24 (by decide) ?_
    obtain ⟨K_5, hK_6b, hK_6⟩ := hE.2.2.2.2.1 i_1 (by omega)
    refine gh_calli hg (gh_runV (As := [.int (nI i_1), .int 0]) (rest := [.int (sm (fun i => fated (A 0) i 0) i_1)]) hC hg (t_fated l V o ad (va_up I 3 0) A F _ hT.1 (nI i_1) 0 i_1 K_5 rfl (by omega) hK_6 hK_6b) 2 (lw_V q4210 q4212 qs91 q138 q4213) hT.1.1 rfl hd_X3_fated ⟨Nat.le_of_ble_eq_true rfl, Nat.le_of_ble_eq_true rfl⟩ rfl hl.1 rfl (Nat.le_of_ble_eq_true rfl) dX3_piecesByLots_25 ⟨Nat.le_of_ble_eq_true rfl, Nat.le_of_ble_eq_true rfl⟩) (fun r_7 g H locs hg hp => ?_)
    obtain ⟨hp, hpT⟩ := hp
    replace hp : r_7 = (fated (A 0) i_1 0) := hp
    subst hp
    have hT : tw_W V g0 g o ad (va_up I 3 0) A F := hT.call hpT
    refine lv_iadd hx hb dX3_piecesByLots_28 ?_
    refine lv_istore_n (lv' := [(1, .int ((sm (fun i => fated (A 0) i 0) i_1) + (fated (A 0) i_1 0))), (0, .ref o), (2, .int (nI i_1))]) hx hb dX3_piecesByLots_29 rfl hl (by decide) rfl (fun ls hl => ?_)
    refine lv_iinc (v := (nI (i_1 + 1))) (lv' := [(2, .int (nI (i_1 + 1))), (1, .int ((sm (fun i => fated (A 0) i 0) i_1) + (fated (A 0) i_1 0))), (0, .ref o)]) hx hb dX3_piecesByLots_30 hl (k := 2) rfl (nx_iinc rfl) (by decide) rfl (fun ls hl => ?_)
    refine lv_goto (tgt := 9) hx hb dX3_piecesByLots_33 (by decide) ?_
    exact ih9 _ _ _ _ hg ⟨hT, lv_sub hl [2, 1, 0] rfl⟩
set_option maxHeartbeats 1000000 in
set_option maxRecDepth 100000 in
theorem t_noLoading (l : Launch) (V : gh_V) (o : Nat) (ad : Nat → Nat) (I : Nat → Int32) (A : Nat → Nat → Int32) (F : Nat → Nat → UInt32) (g0 : gh_G) (hP : tw_P V g0 o ad I A F) (x : Int32) (i : Nat) (ex : x = nI i) (bi : i < 12) : MI l yX3_noLoading cX3_noLoading 2 (some .int) ({ frames := 2, cells := 0, slots := 0, locals := 43 } : Room) V [.ref o, .int x] g0 (fun r g1 => r = noLoad (A 0) i ∧ g1 = g0) := by
  refine MG.of RX3 (by decide) rfl (Nat.le_of_ble_eq_true rfl) (fun pp ee s mm args below meth c ls hC hg hr hlk hnm hl => ?_)
  have hx := hC.1.1
  have hb := hC.1.2.1
  have hml := hC.1.2.2.1
  have hown := hC.1.2.2.2.1
  have hts := hC.1.2.2.2.2
  have hl : lv_has ls 2 [(0, .ref o), (1, .int x)] := hl
  have hT := hP.W
  refine lv_aload_n hx hb dX3_noLoading_0 rfl (lv_at hl 0 rfl) ?_
  refine lv_iload_n hx hb dX3_noLoading_1 rfl (lv_at hl 1 rfl) ?_
  refine lv_iconst (v := 2) hx hb dX3_noLoading_2 (by decide) ?_
  refine gh_calli hg (gh_runV (As := [.int x, .int 2]) (rest := []) hC hg (t_lot l V o ad I A F _ hT.1 x 2 i 2 ex (show ((2 : Int32)) = nI 2 from rfl) (by omega) (by omega)) 2 (lw_V q3956 q3958 qs63 q138 q3959) hT.1.1 rfl hd_X3_lot ⟨Nat.le_of_ble_eq_true rfl, Nat.le_of_ble_eq_true rfl⟩ rfl hl.1 rfl (Nat.le_of_ble_eq_true rfl) dX3_noLoading_3 ⟨Nat.le_of_ble_eq_true rfl, Nat.le_of_ble_eq_true rfl⟩) (fun r_1 g H locs hg hp => ?_)
  obtain ⟨hp, hq⟩ := hp
  replace hp : r_1 = (lt (A 0) i 2) := hp
  subst hp
  rw [hq] at hg
  refine lv_bipush (v := 20) hx hb dX3_noLoading_6 (by decide) ?_
  refine lv_icmp_ne (tgt := 15) hx hb dX3_noLoading_8 (by decide) (fun c_2 => ?_) (fun c_2 => ?_)
  · skip
    refine lv_aload_n hx hb dX3_noLoading_15 rfl (lv_at hl 0 rfl) ?_
    refine lv_iconst (v := 0) hx hb dX3_noLoading_16 (by decide) ?_
    refine gh_calli hg (gh_runV (As := [.int 0]) (rest := []) hC hg (t_isPiece l V o ad I A F _ hT.1 0 0 (show ((0 : Int32)) = nI 0 from rfl) (by omega)) 1 (lw_V q3960 q3962 qs64 q138 q3963) hT.1.1 rfl hd_X3_isPiece ⟨Nat.le_of_ble_eq_true rfl, Nat.le_of_ble_eq_true rfl⟩ rfl hl.1 rfl (Nat.le_of_ble_eq_true rfl) dX3_noLoading_17 ⟨Nat.le_of_ble_eq_true rfl, Nat.le_of_ble_eq_true rfl⟩) (fun r_3 g H locs hg hp => ?_)
    replace hp : r_3 = (if ¬ pl (A 0) 0 0 = -1 then 1 else 0) ∧ g = _ := hp
    by_cases pc_4 : ¬ pl (A 0) 0 0 = -1
    · rw [if_pos pc_4] at hp
      obtain ⟨rfl, hq⟩ := hp
      rw [hq] at hg
      refine lv_if_eq (tgt := 27) hx hb dX3_noLoading_20 (by decide) (fun c_5 => (absurd ((nx_eq (show ((1 : Int32)) = nI 1 from rfl) (show ((0 : Int32)) = nI 0 from rfl) (by omega) (by omega)).mp c_5) (by omega))) (fun _ => ?_)
      refine lv_iconst (v := 2) hx hb dX3_noLoading_23 (by decide) ?_
      refine lv_goto (tgt := 42) hx hb dX3_noLoading_24 (by decide) ?_
      exact gh_reti hC hg hr hlk (⟨by simp [noLoad, c_2, pc_4], rfl⟩) dX3_noLoading_42 (Nat.le_of_ble_eq_true rfl) (Nat.le_of_ble_eq_true rfl)
    rw [if_neg pc_4] at hp
    obtain ⟨rfl, hq⟩ := hp
    rw [hq] at hg
    refine lv_if_eq (tgt := 27) hx hb dX3_noLoading_20 (by decide) (fun _ => ?_) (fun c_6 => (absurd ((nx_eq (show ((0 : Int32)) = nI 0 from rfl) (show ((0 : Int32)) = nI 0 from rfl) (by omega) (by omega)).mpr (by omega)) c_6))
    refine lv_aload_n hx hb dX3_noLoading_27 rfl (lv_at hl 0 rfl) ?_
    refine lv_iconst (v := 0) hx hb dX3_noLoading_28 (by decide) ?_
    refine lv_iconst (v := 4) hx hb dX3_noLoading_29 (by decide) ?_
    refine gh_calli hg (gh_runV (As := [.int 0, .int 4]) (rest := []) hC hg (t_at l V o ad I A F _ hT.1 0 4 0 4 (show ((0 : Int32)) = nI 0 from rfl) (show ((4 : Int32)) = nI 4 from rfl) (by omega) (by omega)) 2 (lw_V q3964 q3966 qs65 q138 q3967) hT.1.1 rfl hd_X3_at ⟨Nat.le_of_ble_eq_true rfl, Nat.le_of_ble_eq_true rfl⟩ rfl hl.1 rfl (Nat.le_of_ble_eq_true rfl) dX3_noLoading_30 ⟨Nat.le_of_ble_eq_true rfl, Nat.le_of_ble_eq_true rfl⟩) (fun r_7 g H locs hg hp => ?_)
    obtain ⟨hp, hq⟩ := hp
    replace hp : r_7 = (pl (A 0) 0 4) := hp
    subst hp
    rw [hq] at hg
    refine lv_iconst (v := 1) hx hb dX3_noLoading_33 (by decide) ?_
    refine lv_icmp_ne (tgt := 41) hx hb dX3_noLoading_34 (by decide) (fun c_8 => ?_) (fun c_8 => ?_)
    · skip
      refine lv_iconst (v := 0) hx hb dX3_noLoading_41 (by decide) ?_
      exact gh_reti hC hg hr hlk (⟨by simp [noLoad, c_2, pc_4, c_8], rfl⟩) dX3_noLoading_42 (Nat.le_of_ble_eq_true rfl) (Nat.le_of_ble_eq_true rfl)
    refine lv_iconst (v := 3) hx hb dX3_noLoading_37 (by decide) ?_
    refine lv_goto (tgt := 42) hx hb dX3_noLoading_38 (by decide) ?_
    exact gh_reti hC hg hr hlk (⟨by simp [noLoad, c_2, pc_4, c_8], rfl⟩) dX3_noLoading_42 (Nat.le_of_ble_eq_true rfl) (Nat.le_of_ble_eq_true rfl)
  refine lv_iconst (v := 1) hx hb dX3_noLoading_11 (by decide) ?_
  refine lv_goto (tgt := 42) hx hb dX3_noLoading_12 (by decide) ?_
  exact gh_reti hC hg hr hlk (⟨by simp [noLoad, c_2], rfl⟩) dX3_noLoading_42 (Nat.le_of_ble_eq_true rfl) (Nat.le_of_ble_eq_true rfl)
set_option maxHeartbeats 1000000 in
set_option maxRecDepth 100000 in
theorem t_noCleaning (l : Launch) (V : gh_V) (o : Nat) (ad : Nat → Nat) (I : Nat → Int32) (A : Nat → Nat → Int32) (F : Nat → Nat → UInt32) (g0 : gh_G) (hP : tw_P V g0 o ad I A F) (x y : Int32) (c q : Nat) (ex : x = nI c) (ey : y = nI q) (bc : c < 2) (bq : q < 24) : MI l yX3_noCleaning cX3_noCleaning 4 (some .int) ({ frames := 1, cells := 0, slots := 0, locals := 22 } : Room) V [.ref o, .int x, .int y] g0 (fun r g1 => r = noCln (A 0) c q ∧ g1 = g0) := by
  refine MG.of RX3 (by decide) rfl (Nat.le_of_ble_eq_true rfl) (fun pp ee s mm args below meth c ls hC hg hr hlk hnm hl => ?_)
  have hx := hC.1.1
  have hb := hC.1.2.1
  have hml := hC.1.2.2.1
  have hown := hC.1.2.2.2.1
  have hts := hC.1.2.2.2.2
  have hl : lv_has ls 4 [(0, .ref o), (1, .int x), (2, .int y)] := hl
  have hT := hP.W
  refine lv_sipush (v := 525) hx hb dX3_noCleaning_0 (by decide) ?_
  refine lv_iconst (v := 2) hx hb dX3_noCleaning_3 (by decide) ?_
  refine lv_iconst (v := 1) hx hb dX3_noCleaning_4 (by decide) ?_
  refine lv_iload_n hx hb dX3_noCleaning_5 rfl (lv_at hl 1 rfl) ?_
  refine lv_isub hx hb dX3_noCleaning_6 ?_
  refine lv_imul hx hb dX3_noCleaning_7 ?_
  refine lv_iadd hx hb dX3_noCleaning_8 ?_
  refine lv_istore_n (lv' := [(3, .int (525 + (2 * (1 - x)))), (0, .ref o), (1, .int x), (2, .int y)]) hx hb dX3_noCleaning_9 rfl hl (by decide) rfl (fun ls hl => ?_)
  refine lv_aload_n hx hb dX3_noCleaning_10 rfl (lv_at hl 1 rfl) ?_
  refine gh_get (v := .ref (ad 0)) hC hg hT.1.1 fX3_7_0 rfl dX3_noCleaning_11 ?_
  refine lv_sipush (v := 525) hx hb dX3_noCleaning_14 (by decide) ?_
  refine lv_iconst (v := 2) hx hb dX3_noCleaning_17 (by decide) ?_
  refine lv_iload_n hx hb dX3_noCleaning_18 rfl (lv_at hl 2 rfl) ?_
  refine lv_imul hx hb dX3_noCleaning_19 ?_
  refine lv_iadd hx hb dX3_noCleaning_20 ?_
  refine lv_iconst (v := 1) hx hb dX3_noCleaning_21 (by decide) ?_
  refine lv_iadd hx hb dX3_noCleaning_22 ?_
  refine gh_iald (n := 578) (f := (A 0)) hC hg (hT.1.2.1 0 (by decide)) (nx_add (nx_add (show ((525 : Int32)) = nI 525 from rfl) (nx_mul (show ((2 : Int32)) = nI 2 from rfl) ex)) (show ((1 : Int32)) = nI 1 from rfl)) (by omega) (by omega) dX3_noCleaning_23 ?_
  refine lv_if_le (tgt := 31) hx hb dX3_noCleaning_24 (by decide) (fun c_1 => ?_) (fun c_1 => ?_)
  · skip
    refine lv_aload_n hx hb dX3_noCleaning_31 rfl (lv_at hl 1 rfl) ?_
    refine lv_iload_n hx hb dX3_noCleaning_32 rfl (lv_at hl 3 rfl) ?_
    refine lv_iconst (v := 4) hx hb dX3_noCleaning_33 (by decide) ?_
    refine gh_calli hg (gh_runV (As := [.int y, .int 4]) (rest := []) hC hg (t_at l V o ad I A F _ hT.1 y 4 q 4 ey (show ((4 : Int32)) = nI 4 from rfl) (by omega) (by omega)) 2 (lw_V q3964 q3966 qs65 q138 q3967) hT.1.1 rfl hd_X3_at ⟨Nat.le_of_ble_eq_true rfl, Nat.le_of_ble_eq_true rfl⟩ rfl hl.1 rfl (Nat.le_of_ble_eq_true rfl) dX3_noCleaning_34 ⟨Nat.le_of_ble_eq_true rfl, Nat.le_of_ble_eq_true rfl⟩) (fun r_2 g H locs hg hp => ?_)
    obtain ⟨hp, hq⟩ := hp
    replace hp : r_2 = (pl (A 0) q 4) := hp
    subst hp
    rw [hq] at hg
    refine lv_if_ne (tgt := 44) hx hb dX3_noCleaning_37 (by decide) (fun c_3 => ?_) (fun c_3 => ?_)
    · skip
      refine lv_aload_n hx hb dX3_noCleaning_44 rfl (lv_at hl 1 rfl) ?_
      refine gh_get (v := .ref (ad 0)) hC hg hT.1.1 fX3_7_0 rfl dX3_noCleaning_45 ?_
      refine lv_iload_n hx hb dX3_noCleaning_48 rfl (lv_at hl 0 rfl) ?_
      refine lv_iconst (v := 1) hx hb dX3_noCleaning_49 (by decide) ?_
      refine lv_iadd hx hb dX3_noCleaning_50 ?_
      refine gh_iald (n := 578) (f := (A 0)) hC hg (hT.1.2.1 0 (by decide)) (nx_add (nx_add (show ((525 : Int32)) = nI 525 from rfl) (nx_mul (show ((2 : Int32)) = nI 2 from rfl) (nx_sub (show ((1 : Int32)) = nI 1 from rfl) ex (by omega)))) (show ((1 : Int32)) = nI 1 from rfl)) (by omega) (by omega) dX3_noCleaning_51 ?_
      refine lv_if_le (tgt := 69) hx hb dX3_noCleaning_52 (by decide) (fun c_4 => ?_) (fun c_4 => ?_)
      · skip
        refine lv_iconst (v := 0) hx hb dX3_noCleaning_69 (by decide) ?_
        exact gh_reti hC hg hr hlk (⟨by simp [noCln, cl, ← ey, c_1, c_3, c_4], rfl⟩) dX3_noCleaning_70 (Nat.le_of_ble_eq_true rfl) (Nat.le_of_ble_eq_true rfl)
      refine lv_aload_n hx hb dX3_noCleaning_55 rfl (lv_at hl 1 rfl) ?_
      refine gh_get (v := .ref (ad 0)) hC hg hT.1.1 fX3_7_0 rfl dX3_noCleaning_56 ?_
      refine lv_iload_n hx hb dX3_noCleaning_59 rfl (lv_at hl 0 rfl) ?_
      refine gh_iald (n := 578) (f := (A 0)) hC hg (hT.1.2.1 0 (by decide)) (nx_add (show ((525 : Int32)) = nI 525 from rfl) (nx_mul (show ((2 : Int32)) = nI 2 from rfl) (nx_sub (show ((1 : Int32)) = nI 1 from rfl) ex (by omega)))) (by omega) (by omega) dX3_noCleaning_60 ?_
      refine lv_iload_n hx hb dX3_noCleaning_61 rfl (lv_at hl 3 rfl) ?_
      refine lv_icmp_ne (tgt := 69) hx hb dX3_noCleaning_62 (by decide) (fun c_5 => ?_) (fun c_5 => ?_)
      · skip
        refine lv_iconst (v := 0) hx hb dX3_noCleaning_69 (by decide) ?_
        exact gh_reti hC hg hr hlk (⟨by simp [noCln, cl, ← ey, c_1, c_3, c_4, c_5], rfl⟩) dX3_noCleaning_70 (Nat.le_of_ble_eq_true rfl) (Nat.le_of_ble_eq_true rfl)
      refine lv_iconst (v := 3) hx hb dX3_noCleaning_65 (by decide) ?_
      refine lv_goto (tgt := 70) hx hb dX3_noCleaning_66 (by decide) ?_
      exact gh_reti hC hg hr hlk (⟨by simp [noCln, cl, ← ey, c_1, c_3, c_4, c_5], rfl⟩) dX3_noCleaning_70 (Nat.le_of_ble_eq_true rfl) (Nat.le_of_ble_eq_true rfl)
    refine lv_iconst (v := 2) hx hb dX3_noCleaning_40 (by decide) ?_
    refine lv_goto (tgt := 70) hx hb dX3_noCleaning_41 (by decide) ?_
    exact gh_reti hC hg hr hlk (⟨by simp [noCln, cl, ← ey, c_1, c_3], rfl⟩) dX3_noCleaning_70 (Nat.le_of_ble_eq_true rfl) (Nat.le_of_ble_eq_true rfl)
  refine lv_iconst (v := 1) hx hb dX3_noCleaning_27 (by decide) ?_
  refine lv_goto (tgt := 70) hx hb dX3_noCleaning_28 (by decide) ?_
  exact gh_reti hC hg hr hlk (⟨by simp [noCln, cl, ← ey, c_1], rfl⟩) dX3_noCleaning_70 (Nat.le_of_ble_eq_true rfl) (Nat.le_of_ble_eq_true rfl)
set_option maxHeartbeats 1000000 in
set_option maxRecDepth 100000 in
theorem t_whyNotLoading (l : Launch) (V : gh_V) (o : Nat) (ad : Nat → Nat) (I : Nat → Int32) (A : Nat → Nat → Int32) (F : Nat → Nat → UInt32) (g0 : gh_G) (hP : tw_P V g0 o ad I A F) (x : Int32) (L : Nat) (hL : A 0 163 = nI L) (hL12 : L ≤ 12) : MI l yX3_whyNotLoading cX3_whyNotLoading 2 (some .int) ({ frames := 3, cells := 0, slots := 0, locals := 64 } : Room) V [.ref o, .int x] g0 (fun r g1 => (c1 (okL x L) = 0 → r = noLoad (A 0) x.toNatClampNeg) ∧ tw_W V g0 g1 o ad (va_up I 3 (c1 (okL x L))) A F) := by
  refine MG.of RX3 (by decide) rfl (Nat.le_of_ble_eq_true rfl) (fun pp ee s mm args below meth c ls hC hg hr hlk hnm hl => ?_)
  have hx := hC.1.1
  have hb := hC.1.2.1
  have hml := hC.1.2.2.1
  have hown := hC.1.2.2.2.1
  have hts := hC.1.2.2.2.2
  have hl : lv_has ls 2 [(0, .ref o), (1, .int x)] := hl
  have hT := hP.W
  refine lv_aload_n hx hb dX3_whyNotLoading_0 rfl (lv_at hl 0 rfl) ?_
  refine lv_iload_n hx hb dX3_whyNotLoading_1 rfl (lv_at hl 1 rfl) ?_
  refine gh_calli hg (gh_runV (As := [.int x]) (rest := []) hC hg (t_isLot l V o ad I A F _ hT.1 x L (hL) hL12) 1 (lw_V q3948 q3950 qs61 q138 q3951) hT.1.1 rfl hd_X3_isLot ⟨Nat.le_of_ble_eq_true rfl, Nat.le_of_ble_eq_true rfl⟩ rfl hl.1 rfl (Nat.le_of_ble_eq_true rfl) dX3_whyNotLoading_2 ⟨Nat.le_of_ble_eq_true rfl, Nat.le_of_ble_eq_true rfl⟩) (fun r_1 g H locs hg hp => ?_)
  replace hp : r_1 = (if okL x L then 1 else 0) ∧ tw_W V _ g o ad (va_up I 3 (if okL x L then 0 else 1)) A F := hp
  by_cases ok_2 : okL x L
  · rw [if_pos ok_2, if_pos ok_2] at hp
    obtain ⟨rfl, hp⟩ := hp
    have hT : tw_W V g0 g o ad (va_up I 3 0) A F := hT.call hp
    obtain ⟨h_3a, h_3⟩ := okL_cl (by omega) ok_2
    refine lv_if_eq (tgt := 16) hx hb dX3_whyNotLoading_5 (by decide) (fun c_4 => (absurd ((nx_eq (show ((1 : Int32)) = nI 1 from rfl) (show ((0 : Int32)) = nI 0 from rfl) (by omega) (by omega)).mp c_4) (by omega))) (fun _ => ?_)
    refine lv_aload_n hx hb dX3_whyNotLoading_8 rfl (lv_at hl 0 rfl) ?_
    refine lv_iload_n hx hb dX3_whyNotLoading_9 rfl (lv_at hl 1 rfl) ?_
    refine gh_calli hg (gh_runV (As := [.int x]) (rest := []) hC hg (t_noLoading l V o ad (va_up I 3 0) A F _ hT.1 x ((x).toNatClampNeg) h_3 (by omega)) 1 (lw_V q3952 q3954 qs62 q138 q3955) hT.1.1 rfl hd_X3_noLoading ⟨Nat.le_of_ble_eq_true rfl, Nat.le_of_ble_eq_true rfl⟩ rfl hl.1 rfl (Nat.le_of_ble_eq_true rfl) dX3_whyNotLoading_10 ⟨Nat.le_of_ble_eq_true rfl, Nat.le_of_ble_eq_true rfl⟩) (fun r_5 g H locs hg hp => ?_)
    obtain ⟨hp, hq⟩ := hp
    replace hp : r_5 = (noLoad (A 0) ((x).toNatClampNeg)) := hp
    subst hp
    rw [hq] at hg
    refine lv_goto (tgt := 17) hx hb dX3_whyNotLoading_13 (by decide) ?_
    have e9 : c1 (okL x L) = 0 := by first | rfl | (simp only [c1, c2, c3, if_pos ok_2]; done) | simp [c1, c2, c3, ok_2]
    exact gh_reti hC hg hr hlk (⟨fun h9 => rfl, by rw [e9]; exact hT⟩) dX3_whyNotLoading_17 (Nat.le_of_ble_eq_true rfl) (Nat.le_of_ble_eq_true rfl)
  rw [if_neg ok_2, if_neg ok_2] at hp
  obtain ⟨rfl, hp⟩ := hp
  have hT : tw_W V g0 g o ad (va_up I 3 1) A F := hT.call hp
  refine lv_if_eq (tgt := 16) hx hb dX3_whyNotLoading_5 (by decide) (fun _ => ?_) (fun c_6 => (absurd ((nx_eq (show ((0 : Int32)) = nI 0 from rfl) (show ((0 : Int32)) = nI 0 from rfl) (by omega) (by omega)).mpr (by omega)) c_6))
  refine lv_iconst (v := 0) hx hb dX3_whyNotLoading_16 (by decide) ?_
  have e9 : c1 (okL x L) = 1 := by first | rfl | (simp only [c1, c2, c3, if_neg ok_2]; done) | simp [c1, c2, c3, ok_2]
  exact gh_reti hC hg hr hlk (⟨fun h9 => absurd (e9.symm.trans h9) (by decide), by rw [e9]; exact hT⟩) dX3_whyNotLoading_17 (Nat.le_of_ble_eq_true rfl) (Nat.le_of_ble_eq_true rfl)
set_option maxHeartbeats 1000000 in
set_option maxRecDepth 100000 in
theorem t_whyNotCleaning (l : Launch) (V : gh_V) (o : Nat) (ad : Nat → Nat) (I : Nat → Int32) (A : Nat → Nat → Int32) (F : Nat → Nat → UInt32) (g0 : gh_G) (hP : tw_P V g0 o ad I A F) (x y : Int32) : MI l yX3_whyNotCleaning cX3_whyNotCleaning 3 (some .int) ({ frames := 2, cells := 0, slots := 0, locals := 45 } : Room) V [.ref o, .int x, .int y] g0 (fun r g1 => (c1 (okL x 2 ∧ okL y 24) = 0 → r = noCln (A 0) x.toNatClampNeg y.toNatClampNeg) ∧ tw_W V g0 g1 o ad (va_up I 3 (c1 (okL x 2 ∧ okL y 24))) A F) := by
  refine MG.of RX3 (by decide) rfl (Nat.le_of_ble_eq_true rfl) (fun pp ee s mm args below meth c ls hC hg hr hlk hnm hl => ?_)
  have hx := hC.1.1
  have hb := hC.1.2.1
  have hml := hC.1.2.2.1
  have hown := hC.1.2.2.2.1
  have hts := hC.1.2.2.2.2
  have hl : lv_has ls 3 [(0, .ref o), (1, .int x), (2, .int y)] := hl
  have hT := hP.W
  refine lv_aload_n hx hb dX3_whyNotCleaning_0 rfl (lv_at hl 0 rfl) ?_
  refine lv_iload_n hx hb dX3_whyNotCleaning_1 rfl (lv_at hl 1 rfl) ?_
  refine lv_iload_n hx hb dX3_whyNotCleaning_2 rfl (lv_at hl 2 rfl) ?_
  refine gh_calli hg (gh_runV (As := [.int x, .int y]) (rest := []) hC hg (t_isCleaner l V o ad I A F _ hT.1 x y) 2 (lw_V q3980 q3982 qs68 q138 q3983) hT.1.1 rfl hd_X3_isCleaner ⟨Nat.le_of_ble_eq_true rfl, Nat.le_of_ble_eq_true rfl⟩ rfl hl.1 rfl (Nat.le_of_ble_eq_true rfl) dX3_whyNotCleaning_3 ⟨Nat.le_of_ble_eq_true rfl, Nat.le_of_ble_eq_true rfl⟩) (fun r_1 g H locs hg hp => ?_)
  replace hp : r_1 = (if (okL x 2 ∧ okL y 24) then 1 else 0) ∧ tw_W V _ g o ad (va_up I 3 (if (okL x 2 ∧ okL y 24) then 0 else 1)) A F := hp
  by_cases ok_2 : (okL x 2 ∧ okL y 24)
  · rw [if_pos ok_2, if_pos ok_2] at hp
    obtain ⟨rfl, hp⟩ := hp
    have hT : tw_W V g0 g o ad (va_up I 3 0) A F := hT.call hp
    obtain ⟨h_3a, h_3⟩ := okL_cl (by omega) ok_2.1
    obtain ⟨h_4a, h_4⟩ := okL_cl (by omega) ok_2.2
    refine lv_if_eq (tgt := 18) hx hb dX3_whyNotCleaning_6 (by decide) (fun c_5 => (absurd ((nx_eq (show ((1 : Int32)) = nI 1 from rfl) (show ((0 : Int32)) = nI 0 from rfl) (by omega) (by omega)).mp c_5) (by omega))) (fun _ => ?_)
    refine lv_aload_n hx hb dX3_whyNotCleaning_9 rfl (lv_at hl 0 rfl) ?_
    refine lv_iload_n hx hb dX3_whyNotCleaning_10 rfl (lv_at hl 1 rfl) ?_
    refine lv_iload_n hx hb dX3_whyNotCleaning_11 rfl (lv_at hl 2 rfl) ?_
    refine gh_calli hg (gh_runV (As := [.int x, .int y]) (rest := []) hC hg (t_noCleaning l V o ad (va_up I 3 0) A F _ hT.1 x y ((x).toNatClampNeg) ((y).toNatClampNeg) h_3 h_4 (by omega) (by omega)) 2 (lw_V q3984 q3986 qs69 q138 q3987) hT.1.1 rfl hd_X3_noCleaning ⟨Nat.le_of_ble_eq_true rfl, Nat.le_of_ble_eq_true rfl⟩ rfl hl.1 rfl (Nat.le_of_ble_eq_true rfl) dX3_whyNotCleaning_12 ⟨Nat.le_of_ble_eq_true rfl, Nat.le_of_ble_eq_true rfl⟩) (fun r_6 g H locs hg hp => ?_)
    obtain ⟨hp, hq⟩ := hp
    replace hp : r_6 = (noCln (A 0) ((x).toNatClampNeg) ((y).toNatClampNeg)) := hp
    subst hp
    rw [hq] at hg
    refine lv_goto (tgt := 19) hx hb dX3_whyNotCleaning_15 (by decide) ?_
    have e9 : c1 (okL x 2 ∧ okL y 24) = 0 := by first | rfl | (simp only [c1, c2, c3, if_pos ok_2]; done) | simp [c1, c2, c3, ok_2]
    exact gh_reti hC hg hr hlk (⟨fun h9 => rfl, by rw [e9]; exact hT⟩) dX3_whyNotCleaning_19 (Nat.le_of_ble_eq_true rfl) (Nat.le_of_ble_eq_true rfl)
  rw [if_neg ok_2, if_neg ok_2] at hp
  obtain ⟨rfl, hp⟩ := hp
  have hT : tw_W V g0 g o ad (va_up I 3 1) A F := hT.call hp
  refine lv_if_eq (tgt := 18) hx hb dX3_whyNotCleaning_6 (by decide) (fun _ => ?_) (fun c_7 => (absurd ((nx_eq (show ((0 : Int32)) = nI 0 from rfl) (show ((0 : Int32)) = nI 0 from rfl) (by omega) (by omega)).mpr (by omega)) c_7))
  refine lv_iconst (v := 0) hx hb dX3_whyNotCleaning_18 (by decide) ?_
  have e9 : c1 (okL x 2 ∧ okL y 24) = 1 := by first | rfl | (simp only [c1, c2, c3, if_neg ok_2]; done) | simp [c1, c2, c3, ok_2]
  exact gh_reti hC hg hr hlk (⟨fun h9 => absurd (e9.symm.trans h9) (by decide), by rw [e9]; exact hT⟩) dX3_whyNotCleaning_19 (Nat.le_of_ble_eq_true rfl) (Nat.le_of_ble_eq_true rfl)
