set_option maxRecDepth 100000
theorem fX3_7_0 : gh_fd RX3 7 0 0 (.array .int) true := gh_fd.own (T := TX3) tyX3 rfl in_X3 tyX3_ok nmX3 (by decide) q3830 rfl rfl (fun h => rfl)
set_option maxHeartbeats 1000000 in
set_option maxRecDepth 100000 in
theorem t_zone (l : Launch) (V : gh_V) (o : Nat) (ad : Nat → Nat) (I : Nat → Int32) (A : Nat → Nat → Int32) (F : Nat → Nat → UInt32) (g0 : gh_G) (hP : tw_P V g0 o ad I A F) (x0 x1 : Int32) (z k : Nat) (hx0 : x0 = nI z) (hx1 : x1 = nI k) (bz : z < 8) (bk : k < 5) : MI l yX3_zone cX3_zone 3 (some .int) ({ frames := 0, cells := 0, slots := 0, locals := 0 } : Room) V [.ref o, .int x0, .int x1] g0 (fun r g1 => r = (zn (A 0) z k) ∧ g1 = g0) := by
  refine MG.of RX3 (by decide) rfl (Nat.le_of_ble_eq_true rfl) (fun pp ee s mm args below meth c ls hC hg hr hlk hnm hl => ?_)
  have hx := hC.1.1
  have hb := hC.1.2.1
  have hml := hC.1.2.2.1
  have hown := hC.1.2.2.2.1
  have hts := hC.1.2.2.2.2
  have hl : lv_has ls 3 [(0, .ref o), (1, .int x0), (2, .int x1)] := hl
  have hT := hP.W
  refine lv_aload_n hx hb dX3_zone_0 rfl (lv_at hl 0 rfl) ?_
  refine gh_get (v := .ref (ad 0)) hC hg hT.1.1 fX3_7_0 rfl dX3_zone_1 ?_
  refine lv_iconst (v := 3) hx hb dX3_zone_4 (by decide) ?_
  refine lv_iconst (v := 5) hx hb dX3_zone_5 (by decide) ?_
  refine lv_iload_n hx hb dX3_zone_6 rfl (lv_at hl 1 rfl) ?_
  refine lv_imul hx hb dX3_zone_7 ?_
  refine lv_iadd hx hb dX3_zone_8 ?_
  refine lv_iload_n hx hb dX3_zone_9 rfl (lv_at hl 2 rfl) ?_
  refine lv_iadd hx hb dX3_zone_10 ?_
  refine gh_iald (n := 578) (f := (A 0)) hC hg (hT.1.2.1 0 (by decide)) (nx_add (nx_add (show ((3 : Int32)) = nI 3 from rfl) (nx_mul (show ((5 : Int32)) = nI 5 from rfl) hx0)) hx1) (by omega) (by omega) dX3_zone_11 ?_
  exact gh_reti hC hg hr hlk (⟨rfl, rfl⟩) dX3_zone_12 (Nat.le_of_ble_eq_true rfl) (Nat.le_of_ble_eq_true rfl)
set_option maxHeartbeats 1000000 in
set_option maxRecDepth 100000 in
theorem t_at (l : Launch) (V : gh_V) (o : Nat) (ad : Nat → Nat) (I : Nat → Int32) (A : Nat → Nat → Int32) (F : Nat → Nat → UInt32) (g0 : gh_G) (hP : tw_P V g0 o ad I A F) (x0 x1 : Int32) (q k : Nat) (hx0 : x0 = nI q) (hx1 : x1 = nI k) (bq : q < 24) (bk : k < 5) : MI l yX3_at cX3_at 3 (some .int) ({ frames := 0, cells := 0, slots := 0, locals := 0 } : Room) V [.ref o, .int x0, .int x1] g0 (fun r g1 => r = (pl (A 0) q k) ∧ g1 = g0) := by
  refine MG.of RX3 (by decide) rfl (Nat.le_of_ble_eq_true rfl) (fun pp ee s mm args below meth c ls hC hg hr hlk hnm hl => ?_)
  have hx := hC.1.1
  have hb := hC.1.2.1
  have hml := hC.1.2.2.1
  have hown := hC.1.2.2.2.1
  have hts := hC.1.2.2.2.2
  have hl : lv_has ls 3 [(0, .ref o), (1, .int x0), (2, .int x1)] := hl
  have hT := hP.W
  refine lv_aload_n hx hb dX3_at_0 rfl (lv_at hl 0 rfl) ?_
  refine gh_get (v := .ref (ad 0)) hC hg hT.1.1 fX3_7_0 rfl dX3_at_1 ?_
  refine lv_bipush (v := 43) hx hb dX3_at_4 (by decide) ?_
  refine lv_iconst (v := 5) hx hb dX3_at_6 (by decide) ?_
  refine lv_iload_n hx hb dX3_at_7 rfl (lv_at hl 1 rfl) ?_
  refine lv_imul hx hb dX3_at_8 ?_
  refine lv_iadd hx hb dX3_at_9 ?_
  refine lv_iload_n hx hb dX3_at_10 rfl (lv_at hl 2 rfl) ?_
  refine lv_iadd hx hb dX3_at_11 ?_
  refine gh_iald (n := 578) (f := (A 0)) hC hg (hT.1.2.1 0 (by decide)) (nx_add (nx_add (show ((43 : Int32)) = nI 43 from rfl) (nx_mul (show ((5 : Int32)) = nI 5 from rfl) hx0)) hx1) (by omega) (by omega) dX3_at_12 ?_
  exact gh_reti hC hg hr hlk (⟨rfl, rfl⟩) dX3_at_13 (Nat.le_of_ble_eq_true rfl) (Nat.le_of_ble_eq_true rfl)
set_option maxHeartbeats 1000000 in
set_option maxRecDepth 100000 in
theorem t_lot (l : Launch) (V : gh_V) (o : Nat) (ad : Nat → Nat) (I : Nat → Int32) (A : Nat → Nat → Int32) (F : Nat → Nat → UInt32) (g0 : gh_G) (hP : tw_P V g0 o ad I A F) (x0 x1 : Int32) (i k : Nat) (hx0 : x0 = nI i) (hx1 : x1 = nI k) (bi : i < 12) (bk : k < 25) : MI l yX3_lot cX3_lot 3 (some .int) ({ frames := 0, cells := 0, slots := 0, locals := 0 } : Room) V [.ref o, .int x0, .int x1] g0 (fun r g1 => r = (lt (A 0) i k) ∧ g1 = g0) := by
  refine MG.of RX3 (by decide) rfl (Nat.le_of_ble_eq_true rfl) (fun pp ee s mm args below meth c ls hC hg hr hlk hnm hl => ?_)
  have hx := hC.1.1
  have hb := hC.1.2.1
  have hml := hC.1.2.2.1
  have hown := hC.1.2.2.2.1
  have hts := hC.1.2.2.2.2
  have hl : lv_has ls 3 [(0, .ref o), (1, .int x0), (2, .int x1)] := hl
  have hT := hP.W
  refine lv_aload_n hx hb dX3_lot_0 rfl (lv_at hl 0 rfl) ?_
  refine gh_get (v := .ref (ad 0)) hC hg hT.1.1 fX3_7_0 rfl dX3_lot_1 ?_
  refine lv_sipush (v := 164) hx hb dX3_lot_4 (by decide) ?_
  refine lv_bipush (v := 25) hx hb dX3_lot_7 (by decide) ?_
  refine lv_iload_n hx hb dX3_lot_9 rfl (lv_at hl 1 rfl) ?_
  refine lv_imul hx hb dX3_lot_10 ?_
  refine lv_iadd hx hb dX3_lot_11 ?_
  refine lv_iload_n hx hb dX3_lot_12 rfl (lv_at hl 2 rfl) ?_
  refine lv_iadd hx hb dX3_lot_13 ?_
  refine gh_iald (n := 578) (f := (A 0)) hC hg (hT.1.2.1 0 (by decide)) (nx_add (nx_add (show ((164 : Int32)) = nI 164 from rfl) (nx_mul (show ((25 : Int32)) = nI 25 from rfl) hx0)) hx1) (by omega) (by omega) dX3_lot_14 ?_
  exact gh_reti hC hg hr hlk (⟨rfl, rfl⟩) dX3_lot_15 (Nat.le_of_ble_eq_true rfl) (Nat.le_of_ble_eq_true rfl)
set_option maxHeartbeats 1000000 in
set_option maxRecDepth 100000 in
theorem t_order (l : Launch) (V : gh_V) (o : Nat) (ad : Nat → Nat) (I : Nat → Int32) (A : Nat → Nat → Int32) (F : Nat → Nat → UInt32) (g0 : gh_G) (hP : tw_P V g0 o ad I A F) (x0 x1 : Int32) (i k : Nat) (hx0 : x0 = nI i) (hx1 : x1 = nI k) (bi : i < 10) (bk : k < 6) : MI l yX3_order cX3_order 3 (some .int) ({ frames := 0, cells := 0, slots := 0, locals := 0 } : Room) V [.ref o, .int x0, .int x1] g0 (fun r g1 => r = (od (A 0) i k) ∧ g1 = g0) := by
  refine MG.of RX3 (by decide) rfl (Nat.le_of_ble_eq_true rfl) (fun pp ee s mm args below meth c ls hC hg hr hlk hnm hl => ?_)
  have hx := hC.1.1
  have hb := hC.1.2.1
  have hml := hC.1.2.2.1
  have hown := hC.1.2.2.2.1
  have hts := hC.1.2.2.2.2
  have hl : lv_has ls 3 [(0, .ref o), (1, .int x0), (2, .int x1)] := hl
  have hT := hP.W
  refine lv_aload_n hx hb dX3_order_0 rfl (lv_at hl 0 rfl) ?_
  refine gh_get (v := .ref (ad 0)) hC hg hT.1.1 fX3_7_0 rfl dX3_order_1 ?_
  refine lv_sipush (v := 465) hx hb dX3_order_4 (by decide) ?_
  refine lv_bipush (v := 6) hx hb dX3_order_7 (by decide) ?_
  refine lv_iload_n hx hb dX3_order_9 rfl (lv_at hl 1 rfl) ?_
  refine lv_imul hx hb dX3_order_10 ?_
  refine lv_iadd hx hb dX3_order_11 ?_
  refine lv_iload_n hx hb dX3_order_12 rfl (lv_at hl 2 rfl) ?_
  refine lv_iadd hx hb dX3_order_13 ?_
  refine gh_iald (n := 578) (f := (A 0)) hC hg (hT.1.2.1 0 (by decide)) (nx_add (nx_add (show ((465 : Int32)) = nI 465 from rfl) (nx_mul (show ((6 : Int32)) = nI 6 from rfl) hx0)) hx1) (by omega) (by omega) dX3_order_14 ?_
  exact gh_reti hC hg hr hlk (⟨rfl, rfl⟩) dX3_order_15 (Nat.le_of_ble_eq_true rfl) (Nat.le_of_ble_eq_true rfl)
set_option maxHeartbeats 1000000 in
set_option maxRecDepth 100000 in
theorem t_putZone (l : Launch) (V : gh_V) (o : Nat) (ad : Nat → Nat) (I : Nat → Int32) (A : Nat → Nat → Int32) (F : Nat → Nat → UInt32) (g0 : gh_G) (hP : tw_P V g0 o ad I A F) (x0 x1 v : Int32) (z k : Nat) (hx0 : x0 = nI z) (hx1 : x1 = nI k) (bz : z < 8) (bk : k < 5) : MV l yX3_putZone cX3_putZone 4 ({ frames := 0, cells := 0, slots := 0, locals := 0 } : Room) V [.ref o, .int x0, .int x1, .int v] g0 (fun g1 => tw_W V g0 g1 o ad I (va_up A 0 (zs (A 0) z k v)) F) := by
  refine MG.of RX3 (by decide) rfl (Nat.le_of_ble_eq_true rfl) (fun pp ee s mm args below meth c ls hC hg hr hlk hnm hl => ?_)
  have hx := hC.1.1
  have hb := hC.1.2.1
  have hml := hC.1.2.2.1
  have hown := hC.1.2.2.2.1
  have hts := hC.1.2.2.2.2
  have hl : lv_has ls 4 [(0, .ref o), (1, .int x0), (2, .int x1), (3, .int v)] := hl
  have hT := hP.W
  refine lv_aload_n hx hb dX3_putZone_0 rfl (lv_at hl 0 rfl) ?_
  refine gh_get (v := .ref (ad 0)) hC hg hT.1.1 fX3_7_0 rfl dX3_putZone_1 ?_
  refine lv_iconst (v := 3) hx hb dX3_putZone_4 (by decide) ?_
  refine lv_iconst (v := 5) hx hb dX3_putZone_5 (by decide) ?_
  refine lv_iload_n hx hb dX3_putZone_6 rfl (lv_at hl 1 rfl) ?_
  refine lv_imul hx hb dX3_putZone_7 ?_
  refine lv_iadd hx hb dX3_putZone_8 ?_
  refine lv_iload_n hx hb dX3_putZone_9 rfl (lv_at hl 2 rfl) ?_
  refine lv_iadd hx hb dX3_putZone_10 ?_
  refine lv_iload_n hx hb dX3_putZone_11 rfl (lv_at hl 3 rfl) ?_
  refine gh_iast (n := 578) (f := (A 0)) hC hg (hT.1.2.1 0 (by decide)) (nx_add (nx_add (show ((3 : Int32)) = nI 3 from rfl) (nx_mul (show ((5 : Int32)) = nI 5 from rfl) hx0)) hx1) (by omega) (by omega) dX3_putZone_12 (fun g H locs hg hw hn => ?_)
  have hT : tw_W V g0 g o ad I (va_up A 0 (upd (A 0) ((3 + (5 * z)) + k) v)) F := hT.putA 0 (by decide) hw hn
  exact gh_retv hC hg hr hlk hT dX3_putZone_13 (Nat.le_of_ble_eq_true rfl) (Nat.le_of_ble_eq_true rfl)
set_option maxHeartbeats 1000000 in
set_option maxRecDepth 100000 in
theorem t_putPlace (l : Launch) (V : gh_V) (o : Nat) (ad : Nat → Nat) (I : Nat → Int32) (A : Nat → Nat → Int32) (F : Nat → Nat → UInt32) (g0 : gh_G) (hP : tw_P V g0 o ad I A F) (x0 x1 v : Int32) (q k : Nat) (hx0 : x0 = nI q) (hx1 : x1 = nI k) (bq : q < 24) (bk : k < 5) : MV l yX3_putPlace cX3_putPlace 4 ({ frames := 0, cells := 0, slots := 0, locals := 0 } : Room) V [.ref o, .int x0, .int x1, .int v] g0 (fun g1 => tw_W V g0 g1 o ad I (va_up A 0 (ps (A 0) q k v)) F) := by
  refine MG.of RX3 (by decide) rfl (Nat.le_of_ble_eq_true rfl) (fun pp ee s mm args below meth c ls hC hg hr hlk hnm hl => ?_)
  have hx := hC.1.1
  have hb := hC.1.2.1
  have hml := hC.1.2.2.1
  have hown := hC.1.2.2.2.1
  have hts := hC.1.2.2.2.2
  have hl : lv_has ls 4 [(0, .ref o), (1, .int x0), (2, .int x1), (3, .int v)] := hl
  have hT := hP.W
  refine lv_aload_n hx hb dX3_putPlace_0 rfl (lv_at hl 0 rfl) ?_
  refine gh_get (v := .ref (ad 0)) hC hg hT.1.1 fX3_7_0 rfl dX3_putPlace_1 ?_
  refine lv_bipush (v := 43) hx hb dX3_putPlace_4 (by decide) ?_
  refine lv_iconst (v := 5) hx hb dX3_putPlace_6 (by decide) ?_
  refine lv_iload_n hx hb dX3_putPlace_7 rfl (lv_at hl 1 rfl) ?_
  refine lv_imul hx hb dX3_putPlace_8 ?_
  refine lv_iadd hx hb dX3_putPlace_9 ?_
  refine lv_iload_n hx hb dX3_putPlace_10 rfl (lv_at hl 2 rfl) ?_
  refine lv_iadd hx hb dX3_putPlace_11 ?_
  refine lv_iload_n hx hb dX3_putPlace_12 rfl (lv_at hl 3 rfl) ?_
  refine gh_iast (n := 578) (f := (A 0)) hC hg (hT.1.2.1 0 (by decide)) (nx_add (nx_add (show ((43 : Int32)) = nI 43 from rfl) (nx_mul (show ((5 : Int32)) = nI 5 from rfl) hx0)) hx1) (by omega) (by omega) dX3_putPlace_13 (fun g H locs hg hw hn => ?_)
  have hT : tw_W V g0 g o ad I (va_up A 0 (upd (A 0) ((43 + (5 * q)) + k) v)) F := hT.putA 0 (by decide) hw hn
  exact gh_retv hC hg hr hlk hT dX3_putPlace_14 (Nat.le_of_ble_eq_true rfl) (Nat.le_of_ble_eq_true rfl)
set_option maxHeartbeats 1000000 in
set_option maxRecDepth 100000 in
theorem t_growLot (l : Launch) (V : gh_V) (o : Nat) (ad : Nat → Nat) (I : Nat → Int32) (A : Nat → Nat → Int32) (F : Nat → Nat → UInt32) (g0 : gh_G) (hP : tw_P V g0 o ad I A F) (x0 x1 v : Int32) (i k : Nat) (hx0 : x0 = nI i) (hx1 : x1 = nI k) (bi : i < 12) (bk : k < 25) : MV l yX3_growLot cX3_growLot 4 ({ frames := 0, cells := 0, slots := 0, locals := 0 } : Room) V [.ref o, .int x0, .int x1, .int v] g0 (fun g1 => tw_W V g0 g1 o ad I (va_up A 0 (lts (A 0) i k (lt (A 0) i k + v))) F) := by
  refine MG.of RX3 (by decide) rfl (Nat.le_of_ble_eq_true rfl) (fun pp ee s mm args below meth c ls hC hg hr hlk hnm hl => ?_)
  have hx := hC.1.1
  have hb := hC.1.2.1
  have hml := hC.1.2.2.1
  have hown := hC.1.2.2.2.1
  have hts := hC.1.2.2.2.2
  have hl : lv_has ls 4 [(0, .ref o), (1, .int x0), (2, .int x1), (3, .int v)] := hl
  have hT := hP.W
  refine lv_aload_n hx hb dX3_growLot_0 rfl (lv_at hl 0 rfl) ?_
  refine gh_get (v := .ref (ad 0)) hC hg hT.1.1 fX3_7_0 rfl dX3_growLot_1 ?_
  refine lv_sipush (v := 164) hx hb dX3_growLot_4 (by decide) ?_
  refine lv_bipush (v := 25) hx hb dX3_growLot_7 (by decide) ?_
  refine lv_iload_n hx hb dX3_growLot_9 rfl (lv_at hl 1 rfl) ?_
  refine lv_imul hx hb dX3_growLot_10 ?_
  refine lv_iadd hx hb dX3_growLot_11 ?_
  refine lv_iload_n hx hb dX3_growLot_12 rfl (lv_at hl 2 rfl) ?_
  refine lv_iadd hx hb dX3_growLot_13 ?_
  refine lv_dup2_11 hx hb dX3_growLot_14 rfl rfl ?_
  refine gh_iald (n := 578) (f := (A 0)) hC hg (hT.1.2.1 0 (by decide)) (nx_add (nx_add (show ((164 : Int32)) = nI 164 from rfl) (nx_mul (show ((25 : Int32)) = nI 25 from rfl) hx0)) hx1) (by omega) (by omega) dX3_growLot_15 ?_
  refine lv_iload_n hx hb dX3_growLot_16 rfl (lv_at hl 3 rfl) ?_
  refine lv_iadd hx hb dX3_growLot_17 ?_
  refine gh_iast (n := 578) (f := (A 0)) hC hg (hT.1.2.1 0 (by decide)) (nx_add (nx_add (show ((164 : Int32)) = nI 164 from rfl) (nx_mul (show ((25 : Int32)) = nI 25 from rfl) hx0)) hx1) (by omega) (by omega) dX3_growLot_18 (fun g H locs hg hw hn => ?_)
  have hT : tw_W V g0 g o ad I (va_up A 0 (upd (A 0) ((164 + (25 * i)) + k) (((A 0) ((164 + (25 * i)) + k)) + v))) F := hT.putA 0 (by decide) hw hn
  exact gh_retv hC hg hr hlk hT dX3_growLot_19 (Nat.le_of_ble_eq_true rfl) (Nat.le_of_ble_eq_true rfl)
set_option maxHeartbeats 1000000 in
set_option maxRecDepth 100000 in
theorem t_low (l : Launch) (V : gh_V) (g0 : gh_G) (x0 : Int32) : MI l yX3_low cX3_low 1 (some .int) ({ frames := 0, cells := 0, slots := 0, locals := 0 } : Room) V [.int x0] g0 (fun r g1 => r = sp_low x0 ∧ g1 = g0) := by
  refine MG.of RX3 (by decide) rfl (Nat.le_of_ble_eq_true rfl) (fun pp ee s mm args below meth c ls hC hg hr hlk hnm hl => ?_)
  have hx := hC.1.1
  have hb := hC.1.2.1
  have hml := hC.1.2.2.1
  have hown := hC.1.2.2.2.1
  have hts := hC.1.2.2.2.2
  have hl : lv_has ls 1 [(0, .int x0)] := hl
  refine lv_iload_n hx hb dX3_low_0 rfl (lv_at hl 0 rfl) ?_
  refine lv_if_ne (tgt := 10) hx hb dX3_low_1 (by decide) (fun c_1 => ?_) (fun c_1 => ?_)
  · skip
    refine lv_iload_n hx hb dX3_low_10 rfl (lv_at hl 0 rfl) ?_
    refine lv_iconst (v := 1) hx hb dX3_low_11 (by decide) ?_
    refine lv_icmp_ne (tgt := 21) hx hb dX3_low_12 (by decide) (fun c_2 => ?_) (fun c_2 => ?_)
    · skip
      refine lv_sipush (v := 430) hx hb dX3_low_21 (by decide) ?_
      exact gh_reti hC hg hr hlk (⟨by simp [sp_low, c_1, c_2], rfl⟩) dX3_low_24 (Nat.le_of_ble_eq_true rfl) (Nat.le_of_ble_eq_true rfl)
    refine lv_sipush (v := 470) hx hb dX3_low_15 (by decide) ?_
    refine lv_goto (tgt := 24) hx hb dX3_low_18 (by decide) ?_
    exact gh_reti hC hg hr hlk (⟨by simp [sp_low, c_1, c_2], rfl⟩) dX3_low_24 (Nat.le_of_ble_eq_true rfl) (Nat.le_of_ble_eq_true rfl)
  refine lv_sipush (v := 450) hx hb dX3_low_4 (by decide) ?_
  refine lv_goto (tgt := 24) hx hb dX3_low_7 (by decide) ?_
  exact gh_reti hC hg hr hlk (⟨by simp [sp_low, c_1], rfl⟩) dX3_low_24 (Nat.le_of_ble_eq_true rfl) (Nat.le_of_ble_eq_true rfl)
set_option maxHeartbeats 1000000 in
set_option maxRecDepth 100000 in
theorem t_high (l : Launch) (V : gh_V) (g0 : gh_G) (x0 : Int32) : MI l yX3_high cX3_high 1 (some .int) ({ frames := 0, cells := 0, slots := 0, locals := 0 } : Room) V [.int x0] g0 (fun r g1 => r = sp_high x0 ∧ g1 = g0) := by
  refine MG.of RX3 (by decide) rfl (Nat.le_of_ble_eq_true rfl) (fun pp ee s mm args below meth c ls hC hg hr hlk hnm hl => ?_)
  have hx := hC.1.1
  have hb := hC.1.2.1
  have hml := hC.1.2.2.1
  have hown := hC.1.2.2.2.1
  have hts := hC.1.2.2.2.2
  have hl : lv_has ls 1 [(0, .int x0)] := hl
  refine lv_iload_n hx hb dX3_high_0 rfl (lv_at hl 0 rfl) ?_
  refine lv_if_ne (tgt := 10) hx hb dX3_high_1 (by decide) (fun c_1 => ?_) (fun c_1 => ?_)
  · skip
    refine lv_iload_n hx hb dX3_high_10 rfl (lv_at hl 0 rfl) ?_
    refine lv_iconst (v := 1) hx hb dX3_high_11 (by decide) ?_
    refine lv_icmp_ne (tgt := 21) hx hb dX3_high_12 (by decide) (fun c_2 => ?_) (fun c_2 => ?_)
    · skip
      refine lv_sipush (v := 540) hx hb dX3_high_21 (by decide) ?_
      exact gh_reti hC hg hr hlk (⟨by simp [sp_high, c_1, c_2], rfl⟩) dX3_high_24 (Nat.le_of_ble_eq_true rfl) (Nat.le_of_ble_eq_true rfl)
    refine lv_sipush (v := 560) hx hb dX3_high_15 (by decide) ?_
    refine lv_goto (tgt := 24) hx hb dX3_high_18 (by decide) ?_
    exact gh_reti hC hg hr hlk (⟨by simp [sp_high, c_1, c_2], rfl⟩) dX3_high_24 (Nat.le_of_ble_eq_true rfl) (Nat.le_of_ble_eq_true rfl)
  refine lv_sipush (v := 550) hx hb dX3_high_4 (by decide) ?_
  refine lv_goto (tgt := 24) hx hb dX3_high_7 (by decide) ?_
  exact gh_reti hC hg hr hlk (⟨by simp [sp_high, c_1], rfl⟩) dX3_high_24 (Nat.le_of_ble_eq_true rfl) (Nat.le_of_ble_eq_true rfl)
set_option maxHeartbeats 1000000 in
set_option maxRecDepth 100000 in
theorem t_soft (l : Launch) (V : gh_V) (g0 : gh_G) (x0 : Int32) : MI l yX3_soft cX3_soft 1 (some .int) ({ frames := 0, cells := 0, slots := 0, locals := 0 } : Room) V [.int x0] g0 (fun r g1 => r = sp_soft x0 ∧ g1 = g0) := by
  refine MG.of RX3 (by decide) rfl (Nat.le_of_ble_eq_true rfl) (fun pp ee s mm args below meth c ls hC hg hr hlk hnm hl => ?_)
  have hx := hC.1.1
  have hb := hC.1.2.1
  have hml := hC.1.2.2.1
  have hown := hC.1.2.2.2.1
  have hts := hC.1.2.2.2.2
  have hl : lv_has ls 1 [(0, .int x0)] := hl
  refine lv_iload_n hx hb dX3_soft_0 rfl (lv_at hl 0 rfl) ?_
  refine lv_if_ne (tgt := 9) hx hb dX3_soft_1 (by decide) (fun c_1 => ?_) (fun c_1 => ?_)
  · skip
    refine lv_iload_n hx hb dX3_soft_9 rfl (lv_at hl 0 rfl) ?_
    refine lv_iconst (v := 1) hx hb dX3_soft_10 (by decide) ?_
    refine lv_icmp_ne (tgt := 19) hx hb dX3_soft_11 (by decide) (fun c_2 => ?_) (fun c_2 => ?_)
    · skip
      refine lv_bipush (v := 60) hx hb dX3_soft_19 (by decide) ?_
      exact gh_reti hC hg hr hlk (⟨by simp [sp_soft, c_1, c_2], rfl⟩) dX3_soft_21 (Nat.le_of_ble_eq_true rfl) (Nat.le_of_ble_eq_true rfl)
    refine lv_bipush (v := 25) hx hb dX3_soft_14 (by decide) ?_
    refine lv_goto (tgt := 21) hx hb dX3_soft_16 (by decide) ?_
    exact gh_reti hC hg hr hlk (⟨by simp [sp_soft, c_1, c_2], rfl⟩) dX3_soft_21 (Nat.le_of_ble_eq_true rfl) (Nat.le_of_ble_eq_true rfl)
  refine lv_bipush (v := 40) hx hb dX3_soft_4 (by decide) ?_
  refine lv_goto (tgt := 21) hx hb dX3_soft_6 (by decide) ?_
  exact gh_reti hC hg hr hlk (⟨by simp [sp_soft, c_1], rfl⟩) dX3_soft_21 (Nat.le_of_ble_eq_true rfl) (Nat.le_of_ble_eq_true rfl)
set_option maxHeartbeats 1000000 in
set_option maxRecDepth 100000 in
theorem t_limit (l : Launch) (V : gh_V) (g0 : gh_G) (x0 : Int32) : MI l yX3_limit cX3_limit 1 (some .int) ({ frames := 0, cells := 0, slots := 0, locals := 0 } : Room) V [.int x0] g0 (fun r g1 => r = sp_limit x0 ∧ g1 = g0) := by
  refine MG.of RX3 (by decide) rfl (Nat.le_of_ble_eq_true rfl) (fun pp ee s mm args below meth c ls hC hg hr hlk hnm hl => ?_)
  have hx := hC.1.1
  have hb := hC.1.2.1
  have hml := hC.1.2.2.1
  have hown := hC.1.2.2.2.1
  have hts := hC.1.2.2.2.2
  have hl : lv_has ls 1 [(0, .int x0)] := hl
  refine lv_iload_n hx hb dX3_limit_0 rfl (lv_at hl 0 rfl) ?_
  refine lv_if_ne (tgt := 9) hx hb dX3_limit_1 (by decide) (fun c_1 => ?_) (fun c_1 => ?_)
  · skip
    refine lv_iload_n hx hb dX3_limit_9 rfl (lv_at hl 0 rfl) ?_
    refine lv_iconst (v := 1) hx hb dX3_limit_10 (by decide) ?_
    refine lv_icmp_ne (tgt := 19) hx hb dX3_limit_11 (by decide) (fun c_2 => ?_) (fun c_2 => ?_)
    · skip
      refine lv_bipush (v := 45) hx hb dX3_limit_19 (by decide) ?_
      exact gh_reti hC hg hr hlk (⟨by simp [sp_limit, c_1, c_2], rfl⟩) dX3_limit_21 (Nat.le_of_ble_eq_true rfl) (Nat.le_of_ble_eq_true rfl)
    refine lv_bipush (v := 20) hx hb dX3_limit_14 (by decide) ?_
    refine lv_goto (tgt := 21) hx hb dX3_limit_16 (by decide) ?_
    exact gh_reti hC hg hr hlk (⟨by simp [sp_limit, c_1, c_2], rfl⟩) dX3_limit_21 (Nat.le_of_ble_eq_true rfl) (Nat.le_of_ble_eq_true rfl)
  refine lv_bipush (v := 30) hx hb dX3_limit_4 (by decide) ?_
  refine lv_goto (tgt := 21) hx hb dX3_limit_6 (by decide) ?_
  exact gh_reti hC hg hr hlk (⟨by simp [sp_limit, c_1], rfl⟩) dX3_limit_21 (Nat.le_of_ble_eq_true rfl) (Nat.le_of_ble_eq_true rfl)
set_option maxHeartbeats 1000000 in
set_option maxRecDepth 100000 in
theorem t_target (l : Launch) (V : gh_V) (g0 : gh_G) (x0 : Int32) : MI l yX3_target cX3_target 1 (some .int) ({ frames := 0, cells := 0, slots := 0, locals := 0 } : Room) V [.int x0] g0 (fun r g1 => r = sp_target x0 ∧ g1 = g0) := by
  refine MG.of RX3 (by decide) rfl (Nat.le_of_ble_eq_true rfl) (fun pp ee s mm args below meth c ls hC hg hr hlk hnm hl => ?_)
  have hx := hC.1.1
  have hb := hC.1.2.1
  have hml := hC.1.2.2.1
  have hown := hC.1.2.2.2.1
  have hts := hC.1.2.2.2.2
  have hl : lv_has ls 1 [(0, .int x0)] := hl
  refine lv_iload_n hx hb dX3_target_0 rfl (lv_at hl 0 rfl) ?_
  refine lv_if_ne (tgt := 9) hx hb dX3_target_1 (by decide) (fun c_1 => ?_) (fun c_1 => ?_)
  · skip
    refine lv_iload_n hx hb dX3_target_9 rfl (lv_at hl 0 rfl) ?_
    refine lv_iconst (v := 1) hx hb dX3_target_10 (by decide) ?_
    refine lv_icmp_ne (tgt := 20) hx hb dX3_target_11 (by decide) (fun c_2 => ?_) (fun c_2 => ?_)
    · skip
      refine lv_iload_n hx hb dX3_target_20 rfl (lv_at hl 0 rfl) ?_
      refine lv_iconst (v := 2) hx hb dX3_target_21 (by decide) ?_
      refine lv_icmp_ne (tgt := 31) hx hb dX3_target_22 (by decide) (fun c_3 => ?_) (fun c_3 => ?_)
      · skip
        refine lv_sipush (v := 580) hx hb dX3_target_31 (by decide) ?_
        exact gh_reti hC hg hr hlk (⟨by simp [sp_target, c_1, c_2, c_3], rfl⟩) dX3_target_34 (Nat.le_of_ble_eq_true rfl) (Nat.le_of_ble_eq_true rfl)
      refine lv_sipush (v := 450) hx hb dX3_target_25 (by decide) ?_
      refine lv_goto (tgt := 34) hx hb dX3_target_28 (by decide) ?_
      exact gh_reti hC hg hr hlk (⟨by simp [sp_target, c_1, c_2, c_3], rfl⟩) dX3_target_34 (Nat.le_of_ble_eq_true rfl) (Nat.le_of_ble_eq_true rfl)
    refine lv_sipush (v := 250) hx hb dX3_target_14 (by decide) ?_
    refine lv_goto (tgt := 34) hx hb dX3_target_17 (by decide) ?_
    exact gh_reti hC hg hr hlk (⟨by simp [sp_target, c_1, c_2], rfl⟩) dX3_target_34 (Nat.le_of_ble_eq_true rfl) (Nat.le_of_ble_eq_true rfl)
  refine lv_bipush (v := 20) hx hb dX3_target_4 (by decide) ?_
  refine lv_goto (tgt := 34) hx hb dX3_target_6 (by decide) ?_
  exact gh_reti hC hg hr hlk (⟨by simp [sp_target, c_1], rfl⟩) dX3_target_34 (Nat.le_of_ble_eq_true rfl) (Nat.le_of_ble_eq_true rfl)
set_option maxHeartbeats 1000000 in
set_option maxRecDepth 100000 in
theorem t_step (l : Launch) (V : gh_V) (g0 : gh_G) (x0 x1 : Int32) (hne1 : ¬ x1 = 0) : MI l yX3_step cX3_step 3 (some .int) ({ frames := 0, cells := 0, slots := 0, locals := 0 } : Room) V [.int x0, .int x1] g0 (fun r g1 => r = sp_step x0 x1 ∧ g1 = g0) := by
  refine MG.of RX3 (by decide) rfl (Nat.le_of_ble_eq_true rfl) (fun pp ee s mm args below meth c ls hC hg hr hlk hnm hl => ?_)
  have hx := hC.1.1
  have hb := hC.1.2.1
  have hml := hC.1.2.2.1
  have hown := hC.1.2.2.2.1
  have hts := hC.1.2.2.2.2
  have hl : lv_has ls 3 [(0, .int x0), (1, .int x1)] := hl
  refine lv_iload_n hx hb dX3_step_0 rfl (lv_at hl 0 rfl) ?_
  refine lv_iload_n hx hb dX3_step_1 rfl (lv_at hl 1 rfl) ?_
  refine lv_idiv hx hb dX3_step_2 hne1 ?_
  refine lv_istore_n (lv' := [(2, .int (x0 / x1)), (0, .int x0), (1, .int x1)]) hx hb dX3_step_3 rfl hl (by decide) rfl (fun ls hl => ?_)
  refine lv_iload_n hx hb dX3_step_4 rfl (lv_at hl 0 rfl) ?_
  refine lv_if_ne (tgt := 12) hx hb dX3_step_5 (by decide) (fun c_1 => ?_) (fun c_1 => ?_)
  · skip
    refine lv_iload_n hx hb dX3_step_12 rfl (lv_at hl 0 rfl) ?_
    refine lv_goto (tgt := 25) hx hb dX3_step_13 (by decide) ?_
    exact gh_reti hC hg hr hlk (⟨by simp [sp_step, c_1], rfl⟩) dX3_step_25 (Nat.le_of_ble_eq_true rfl) (Nat.le_of_ble_eq_true rfl)
  refine lv_iload_n hx hb dX3_step_8 rfl (lv_at hl 1 rfl) ?_
  refine lv_if_ne (tgt := 16) hx hb dX3_step_9 (by decide) (fun c_2 => ?_) (fun c_2 => ?_)
  · skip
    refine lv_iload_n hx hb dX3_step_16 rfl (lv_at hl 1 rfl) ?_
    refine lv_if_ge (tgt := 24) hx hb dX3_step_17 (by decide) (fun c_3 => ?_) (fun c_3 => ?_)
    · skip
      refine lv_iconst (v := 1) hx hb dX3_step_24 (by decide) ?_
      exact gh_reti hC hg hr hlk (⟨by simp [sp_step, c_1, c_2, c_3], rfl⟩) dX3_step_25 (Nat.le_of_ble_eq_true rfl) (Nat.le_of_ble_eq_true rfl)
    refine lv_iconst (v := (-1)) hx hb dX3_step_20 (by decide) ?_
    refine lv_goto (tgt := 25) hx hb dX3_step_21 (by decide) ?_
    exact gh_reti hC hg hr hlk (⟨by simp [sp_step, c_1, c_2, c_3], rfl⟩) dX3_step_25 (Nat.le_of_ble_eq_true rfl) (Nat.le_of_ble_eq_true rfl)
  refine lv_iload_n hx hb dX3_step_12 rfl (lv_at hl 0 rfl) ?_
  refine lv_goto (tgt := 25) hx hb dX3_step_13 (by decide) ?_
  exact gh_reti hC hg hr hlk (⟨by simp [sp_step, c_1, c_2], rfl⟩) dX3_step_25 (Nat.le_of_ble_eq_true rfl) (Nat.le_of_ble_eq_true rfl)
