theorem ini_new {g g1 : gh_G} {q b : Nat} {x : gh_T × gh_E} (h : g b = some x) (hz : g q = none) (hn : ∀ b, b ≠ q → g1 b = g b) : g1 b = some x := by
  rw [hn b (fun e => by subst e; rw [h] at hz; cases hz)]
  exact h
theorem ini_fr {r : Nat} {g0 g g1 : gh_G} {q : Nat} (h : gh_fr r g0 g) (hz : g q = none) (hn : ∀ b, b ≠ q → g1 b = g b) : gh_fr r g0 g1 :=
  fun b t e ht hb => ini_new (h b t e ht hb) hz hn
def tw_ad (l : List Nat) (j : Nat) : Nat := l.getD j 0
def izS : Nat → Nat → Int32
  | 0 => upd (fun _ => 0) 1 60
  | k + 1 => zs (zs (izS k) k 3 20) k 2 3
def ipS : Nat → Nat → Int32
  | 0 => izS 8
  | k + 1 => ps (ipS k) k 0 (-1)
set_option maxRecDepth 100000

set_option maxHeartbeats 1000000 in
set_option maxRecDepth 100000 in
theorem t_init (l : Launch) (V : gh_V) (o : Nat) (g0 : gh_G) (h0 : g0 o = some ((o, 0, 0), oo 0 [.null, .null, .null, .null, .int 0, .null, .null, .int 0, .null, .null, .null, .int 0, .int 0, .null, .null, .int 0, .null, .int 0, .int 0]))  : MV l yX3_init cX3_init 2 ({ frames := 1, cells := 12, slots := 4916, locals := 23 } : Room) V [.ref o] g0 (fun g1 => ∃ ad, tw_W V g0 g1 o ad (fun _ => 0) (va_up (fun _ _ => 0) 0 (ipS 24)) (fun _ _ => 0)) := by
  refine MG.of RX3 (by decide) rfl (Nat.le_of_ble_eq_true rfl) (fun pp ee s mm args below meth c ls hC hg hr hlk hnm hl => ?_)
  have hx := hC.1.1
  have hb := hC.1.2.1
  have hml := hC.1.2.2.1
  have hown := hC.1.2.2.2.1
  have hts := hC.1.2.2.2.2
  have hl : lv_has ls 2 [(0, .ref o)] := hl
  have hc := h0
  have hfr : gh_fr o g0 g0 := gh_fr.rf
  refine lv_aload_n hx hb dX3_init_0 rfl (lv_at hl 0 rfl) ?_
  refine W.objInit hx hb hown (hts _ q3821) (hts _ q185) (hts _ q186) rfl (by rw [hml]; exact hl.1) rfl dX3_init_1 (Nat.le_of_ble_eq_true rfl) (Nat.le_of_ble_eq_true rfl) ?_
  refine W.eq (g2 := F0 mm 4 ls []) rfl ?_
  refine lv_aload_n hx hb dX3_init_4 rfl (lv_at hl 0 rfl) ?_
  refine lv_sipush (v := 578) hx hb dX3_init_5 (by decide) ?_
  refine gh_newaI hC hg (fun _ => (o, 1, 0)) (q388) (show ((578 : Int32)) = nI 578 from rfl) (by omega) (Nat.le_of_ble_eq_true rfl) (Nat.le_of_ble_eq_true rfl) dX3_init_8 (fun q0 g H hg hz hw hn => ?_)
  have hc := ini_new hc hz hn
  have hfr := ini_fr hfr hz hn
  have ha0 := hw
  refine gh_putF (v := .ref q0) hC hg hnm hc fX3_7_0 rfl rfl (Nat.le_of_ble_eq_true rfl) dX3_init_10 (fun g H locs hg hw hn => ?_)
  have ha0 := (hn _ (gh_neK ha0 hc rfl)).trans ha0
  have hfr := hfr.put hc rfl hn
  have hc : g o = some ((o, 0, 0), oo 0 [.ref q0, .null, .null, .null, .int 0, .null, .null, .int 0, .null, .null, .null, .int 0, .int 0, .null, .null, .int 0, .null, .int 0, .int 0]) := hw
  refine lv_aload_n hx hb dX3_init_13 rfl (lv_at hl 0 rfl) ?_
  refine lv_bipush (v := 24) hx hb dX3_init_14 (by decide) ?_
  refine gh_newaF hC hg (fun _ => (o, 2, 0)) (q3888) (show ((24 : Int32)) = nI 24 from rfl) (by omega) (Nat.le_of_ble_eq_true rfl) (Nat.le_of_ble_eq_true rfl) dX3_init_16 (fun q8 g H hg hz hw hn => ?_)
  have hc := ini_new hc hz hn
  have hfr := ini_fr hfr hz hn
  have ha0 := ini_new ha0 hz hn
  have ha8 := hw
  refine gh_putF (v := .ref q8) hC hg hnm hc fX3_13_0 rfl rfl (Nat.le_of_ble_eq_true rfl) dX3_init_18 (fun g H locs hg hw hn => ?_)
  have ha0 := (hn _ (gh_neK ha0 hc rfl)).trans ha0
  have ha8 := (hn _ (gh_neK ha8 hc rfl)).trans ha8
  have hfr := hfr.put hc rfl hn
  have hc : g o = some ((o, 0, 0), oo 0 [.ref q0, .ref q8, .null, .null, .int 0, .null, .null, .int 0, .null, .null, .null, .int 0, .int 0, .null, .null, .int 0, .null, .int 0, .int 0]) := hw
  refine lv_aload_n hx hb dX3_init_21 rfl (lv_at hl 0 rfl) ?_
  refine lv_sipush (v := 2890) hx hb dX3_init_22 (by decide) ?_
  refine gh_newaI hC hg (fun _ => (o, 1, 1)) (q388) (show ((2890 : Int32)) = nI 2890 from rfl) (by omega) (Nat.le_of_ble_eq_true rfl) (Nat.le_of_ble_eq_true rfl) dX3_init_25 (fun q1 g H hg hz hw hn => ?_)
  have hc := ini_new hc hz hn
  have hfr := ini_fr hfr hz hn
  have ha0 := ini_new ha0 hz hn
  have ha8 := ini_new ha8 hz hn
  have ha1 := hw
  refine gh_putF (v := .ref q1) hC hg hnm hc fX3_17_0 rfl rfl (Nat.le_of_ble_eq_true rfl) dX3_init_27 (fun g H locs hg hw hn => ?_)
  have ha0 := (hn _ (gh_neK ha0 hc rfl)).trans ha0
  have ha8 := (hn _ (gh_neK ha8 hc rfl)).trans ha8
  have ha1 := (hn _ (gh_neK ha1 hc rfl)).trans ha1
  have hfr := hfr.put hc rfl hn
  have hc : g o = some ((o, 0, 0), oo 0 [.ref q0, .ref q8, .ref q1, .null, .int 0, .null, .null, .int 0, .null, .null, .null, .int 0, .int 0, .null, .null, .int 0, .null, .int 0, .int 0]) := hw
  refine lv_aload_n hx hb dX3_init_30 rfl (lv_at hl 0 rfl) ?_
  refine lv_bipush (v := 120) hx hb dX3_init_31 (by decide) ?_
  refine gh_newaF hC hg (fun _ => (o, 2, 1)) (q3888) (show ((120 : Int32)) = nI 120 from rfl) (by omega) (Nat.le_of_ble_eq_true rfl) (Nat.le_of_ble_eq_true rfl) dX3_init_33 (fun q9 g H hg hz hw hn => ?_)
  have hc := ini_new hc hz hn
  have hfr := ini_fr hfr hz hn
  have ha0 := ini_new ha0 hz hn
  have ha8 := ini_new ha8 hz hn
  have ha1 := ini_new ha1 hz hn
  have ha9 := hw
  refine gh_putF (v := .ref q9) hC hg hnm hc fX3_20_0 rfl rfl (Nat.le_of_ble_eq_true rfl) dX3_init_35 (fun g H locs hg hw hn => ?_)
  have ha0 := (hn _ (gh_neK ha0 hc rfl)).trans ha0
  have ha8 := (hn _ (gh_neK ha8 hc rfl)).trans ha8
  have ha1 := (hn _ (gh_neK ha1 hc rfl)).trans ha1
  have ha9 := (hn _ (gh_neK ha9 hc rfl)).trans ha9
  have hfr := hfr.put hc rfl hn
  have hc : g o = some ((o, 0, 0), oo 0 [.ref q0, .ref q8, .ref q1, .ref q9, .int 0, .null, .null, .int 0, .null, .null, .null, .int 0, .int 0, .null, .null, .int 0, .null, .int 0, .int 0]) := hw
  refine lv_aload_n hx hb dX3_init_38 rfl (lv_at hl 0 rfl) ?_
  refine lv_sipush (v := 578) hx hb dX3_init_39 (by decide) ?_
  refine gh_newaI hC hg (fun _ => (o, 1, 2)) (q388) (show ((578 : Int32)) = nI 578 from rfl) (by omega) (Nat.le_of_ble_eq_true rfl) (Nat.le_of_ble_eq_true rfl) dX3_init_42 (fun q2 g H hg hz hw hn => ?_)
  have hc := ini_new hc hz hn
  have hfr := ini_fr hfr hz hn
  have ha0 := ini_new ha0 hz hn
  have ha8 := ini_new ha8 hz hn
  have ha1 := ini_new ha1 hz hn
  have ha9 := ini_new ha9 hz hn
  have ha2 := hw
  refine gh_putF (v := .ref q2) hC hg hnm hc fX3_23_0 rfl rfl (Nat.le_of_ble_eq_true rfl) dX3_init_44 (fun g H locs hg hw hn => ?_)
  have ha0 := (hn _ (gh_neK ha0 hc rfl)).trans ha0
  have ha8 := (hn _ (gh_neK ha8 hc rfl)).trans ha8
  have ha1 := (hn _ (gh_neK ha1 hc rfl)).trans ha1
  have ha9 := (hn _ (gh_neK ha9 hc rfl)).trans ha9
  have ha2 := (hn _ (gh_neK ha2 hc rfl)).trans ha2
  have hfr := hfr.put hc rfl hn
  have hc : g o = some ((o, 0, 0), oo 0 [.ref q0, .ref q8, .ref q1, .ref q9, .int 0, .ref q2, .null, .int 0, .null, .null, .null, .int 0, .int 0, .null, .null, .int 0, .null, .int 0, .int 0]) := hw
  refine lv_aload_n hx hb dX3_init_47 rfl (lv_at hl 0 rfl) ?_
  refine lv_bipush (v := 24) hx hb dX3_init_48 (by decide) ?_
  refine gh_newaF hC hg (fun _ => (o, 2, 2)) (q3888) (show ((24 : Int32)) = nI 24 from rfl) (by omega) (Nat.le_of_ble_eq_true rfl) (Nat.le_of_ble_eq_true rfl) dX3_init_50 (fun q10 g H hg hz hw hn => ?_)
  have hc := ini_new hc hz hn
  have hfr := ini_fr hfr hz hn
  have ha0 := ini_new ha0 hz hn
  have ha8 := ini_new ha8 hz hn
  have ha1 := ini_new ha1 hz hn
  have ha9 := ini_new ha9 hz hn
  have ha2 := ini_new ha2 hz hn
  have ha10 := hw
  refine gh_putF (v := .ref q10) hC hg hnm hc fX3_26_0 rfl rfl (Nat.le_of_ble_eq_true rfl) dX3_init_52 (fun g H locs hg hw hn => ?_)
  have ha0 := (hn _ (gh_neK ha0 hc rfl)).trans ha0
  have ha8 := (hn _ (gh_neK ha8 hc rfl)).trans ha8
  have ha1 := (hn _ (gh_neK ha1 hc rfl)).trans ha1
  have ha9 := (hn _ (gh_neK ha9 hc rfl)).trans ha9
  have ha2 := (hn _ (gh_neK ha2 hc rfl)).trans ha2
  have ha10 := (hn _ (gh_neK ha10 hc rfl)).trans ha10
  have hfr := hfr.put hc rfl hn
  have hc : g o = some ((o, 0, 0), oo 0 [.ref q0, .ref q8, .ref q1, .ref q9, .int 0, .ref q2, .ref q10, .int 0, .null, .null, .null, .int 0, .int 0, .null, .null, .int 0, .null, .int 0, .int 0]) := hw
  refine lv_aload_n hx hb dX3_init_55 rfl (lv_at hl 0 rfl) ?_
  refine lv_sipush (v := 578) hx hb dX3_init_56 (by decide) ?_
  refine gh_newaI hC hg (fun _ => (o, 1, 3)) (q388) (show ((578 : Int32)) = nI 578 from rfl) (by omega) (Nat.le_of_ble_eq_true rfl) (Nat.le_of_ble_eq_true rfl) dX3_init_59 (fun q3 g H hg hz hw hn => ?_)
  have hc := ini_new hc hz hn
  have hfr := ini_fr hfr hz hn
  have ha0 := ini_new ha0 hz hn
  have ha8 := ini_new ha8 hz hn
  have ha1 := ini_new ha1 hz hn
  have ha9 := ini_new ha9 hz hn
  have ha2 := ini_new ha2 hz hn
  have ha10 := ini_new ha10 hz hn
  have ha3 := hw
  refine gh_putF (v := .ref q3) hC hg hnm hc fX3_29_0 rfl rfl (Nat.le_of_ble_eq_true rfl) dX3_init_61 (fun g H locs hg hw hn => ?_)
  have ha0 := (hn _ (gh_neK ha0 hc rfl)).trans ha0
  have ha8 := (hn _ (gh_neK ha8 hc rfl)).trans ha8
  have ha1 := (hn _ (gh_neK ha1 hc rfl)).trans ha1
  have ha9 := (hn _ (gh_neK ha9 hc rfl)).trans ha9
  have ha2 := (hn _ (gh_neK ha2 hc rfl)).trans ha2
  have ha10 := (hn _ (gh_neK ha10 hc rfl)).trans ha10
  have ha3 := (hn _ (gh_neK ha3 hc rfl)).trans ha3
  have hfr := hfr.put hc rfl hn
  have hc : g o = some ((o, 0, 0), oo 0 [.ref q0, .ref q8, .ref q1, .ref q9, .int 0, .ref q2, .ref q10, .int 0, .ref q3, .null, .null, .int 0, .int 0, .null, .null, .int 0, .null, .int 0, .int 0]) := hw
  refine lv_aload_n hx hb dX3_init_64 rfl (lv_at hl 0 rfl) ?_
  refine lv_bipush (v := 24) hx hb dX3_init_65 (by decide) ?_
  refine gh_newaF hC hg (fun _ => (o, 2, 3)) (q3888) (show ((24 : Int32)) = nI 24 from rfl) (by omega) (Nat.le_of_ble_eq_true rfl) (Nat.le_of_ble_eq_true rfl) dX3_init_67 (fun q11 g H hg hz hw hn => ?_)
  have hc := ini_new hc hz hn
  have hfr := ini_fr hfr hz hn
  have ha0 := ini_new ha0 hz hn
  have ha8 := ini_new ha8 hz hn
  have ha1 := ini_new ha1 hz hn
  have ha9 := ini_new ha9 hz hn
  have ha2 := ini_new ha2 hz hn
  have ha10 := ini_new ha10 hz hn
  have ha3 := ini_new ha3 hz hn
  have ha11 := hw
  refine gh_putF (v := .ref q11) hC hg hnm hc fX3_32_0 rfl rfl (Nat.le_of_ble_eq_true rfl) dX3_init_69 (fun g H locs hg hw hn => ?_)
  have ha0 := (hn _ (gh_neK ha0 hc rfl)).trans ha0
  have ha8 := (hn _ (gh_neK ha8 hc rfl)).trans ha8
  have ha1 := (hn _ (gh_neK ha1 hc rfl)).trans ha1
  have ha9 := (hn _ (gh_neK ha9 hc rfl)).trans ha9
  have ha2 := (hn _ (gh_neK ha2 hc rfl)).trans ha2
  have ha10 := (hn _ (gh_neK ha10 hc rfl)).trans ha10
  have ha3 := (hn _ (gh_neK ha3 hc rfl)).trans ha3
  have ha11 := (hn _ (gh_neK ha11 hc rfl)).trans ha11
  have hfr := hfr.put hc rfl hn
  have hc : g o = some ((o, 0, 0), oo 0 [.ref q0, .ref q8, .ref q1, .ref q9, .int 0, .ref q2, .ref q10, .int 0, .ref q3, .ref q11, .null, .int 0, .int 0, .null, .null, .int 0, .null, .int 0, .int 0]) := hw
  refine lv_aload_n hx hb dX3_init_72 rfl (lv_at hl 0 rfl) ?_
  refine lv_bipush (v := 60) hx hb dX3_init_73 (by decide) ?_
  refine gh_newaI hC hg (fun _ => (o, 1, 4)) (q388) (show ((60 : Int32)) = nI 60 from rfl) (by omega) (Nat.le_of_ble_eq_true rfl) (Nat.le_of_ble_eq_true rfl) dX3_init_75 (fun q4 g H hg hz hw hn => ?_)
  have hc := ini_new hc hz hn
  have hfr := ini_fr hfr hz hn
  have ha0 := ini_new ha0 hz hn
  have ha8 := ini_new ha8 hz hn
  have ha1 := ini_new ha1 hz hn
  have ha9 := ini_new ha9 hz hn
  have ha2 := ini_new ha2 hz hn
  have ha10 := ini_new ha10 hz hn
  have ha3 := ini_new ha3 hz hn
  have ha11 := ini_new ha11 hz hn
  have ha4 := hw
  refine gh_putF (v := .ref q4) hC hg hnm hc fX3_35_0 rfl rfl (Nat.le_of_ble_eq_true rfl) dX3_init_77 (fun g H locs hg hw hn => ?_)
  have ha0 := (hn _ (gh_neK ha0 hc rfl)).trans ha0
  have ha8 := (hn _ (gh_neK ha8 hc rfl)).trans ha8
  have ha1 := (hn _ (gh_neK ha1 hc rfl)).trans ha1
  have ha9 := (hn _ (gh_neK ha9 hc rfl)).trans ha9
  have ha2 := (hn _ (gh_neK ha2 hc rfl)).trans ha2
  have ha10 := (hn _ (gh_neK ha10 hc rfl)).trans ha10
  have ha3 := (hn _ (gh_neK ha3 hc rfl)).trans ha3
  have ha11 := (hn _ (gh_neK ha11 hc rfl)).trans ha11
  have ha4 := (hn _ (gh_neK ha4 hc rfl)).trans ha4
  have hfr := hfr.put hc rfl hn
  have hc : g o = some ((o, 0, 0), oo 0 [.ref q0, .ref q8, .ref q1, .ref q9, .int 0, .ref q2, .ref q10, .int 0, .ref q3, .ref q11, .ref q4, .int 0, .int 0, .null, .null, .int 0, .null, .int 0, .int 0]) := hw
  refine lv_aload_n hx hb dX3_init_80 rfl (lv_at hl 0 rfl) ?_
  refine lv_bipush (v := 8) hx hb dX3_init_81 (by decide) ?_
  refine gh_newaI hC hg (fun _ => (o, 1, 5)) (q388) (show ((8 : Int32)) = nI 8 from rfl) (by omega) (Nat.le_of_ble_eq_true rfl) (Nat.le_of_ble_eq_true rfl) dX3_init_83 (fun q5 g H hg hz hw hn => ?_)
  have hc := ini_new hc hz hn
  have hfr := ini_fr hfr hz hn
  have ha0 := ini_new ha0 hz hn
  have ha8 := ini_new ha8 hz hn
  have ha1 := ini_new ha1 hz hn
  have ha9 := ini_new ha9 hz hn
  have ha2 := ini_new ha2 hz hn
  have ha10 := ini_new ha10 hz hn
  have ha3 := ini_new ha3 hz hn
  have ha11 := ini_new ha11 hz hn
  have ha4 := ini_new ha4 hz hn
  have ha5 := hw
  refine gh_putF (v := .ref q5) hC hg hnm hc fX3_38_0 rfl rfl (Nat.le_of_ble_eq_true rfl) dX3_init_85 (fun g H locs hg hw hn => ?_)
  have ha0 := (hn _ (gh_neK ha0 hc rfl)).trans ha0
  have ha8 := (hn _ (gh_neK ha8 hc rfl)).trans ha8
  have ha1 := (hn _ (gh_neK ha1 hc rfl)).trans ha1
  have ha9 := (hn _ (gh_neK ha9 hc rfl)).trans ha9
  have ha2 := (hn _ (gh_neK ha2 hc rfl)).trans ha2
  have ha10 := (hn _ (gh_neK ha10 hc rfl)).trans ha10
  have ha3 := (hn _ (gh_neK ha3 hc rfl)).trans ha3
  have ha11 := (hn _ (gh_neK ha11 hc rfl)).trans ha11
  have ha4 := (hn _ (gh_neK ha4 hc rfl)).trans ha4
  have ha5 := (hn _ (gh_neK ha5 hc rfl)).trans ha5
  have hfr := hfr.put hc rfl hn
  have hc : g o = some ((o, 0, 0), oo 0 [.ref q0, .ref q8, .ref q1, .ref q9, .int 0, .ref q2, .ref q10, .int 0, .ref q3, .ref q11, .ref q4, .int 0, .int 0, .ref q5, .null, .int 0, .null, .int 0, .int 0]) := hw
  refine lv_aload_n hx hb dX3_init_88 rfl (lv_at hl 0 rfl) ?_
  refine lv_bipush (v := 8) hx hb dX3_init_89 (by decide) ?_
  refine gh_newaI hC hg (fun _ => (o, 1, 6)) (q388) (show ((8 : Int32)) = nI 8 from rfl) (by omega) (Nat.le_of_ble_eq_true rfl) (Nat.le_of_ble_eq_true rfl) dX3_init_91 (fun q6 g H hg hz hw hn => ?_)
  have hc := ini_new hc hz hn
  have hfr := ini_fr hfr hz hn
  have ha0 := ini_new ha0 hz hn
  have ha8 := ini_new ha8 hz hn
  have ha1 := ini_new ha1 hz hn
  have ha9 := ini_new ha9 hz hn
  have ha2 := ini_new ha2 hz hn
  have ha10 := ini_new ha10 hz hn
  have ha3 := ini_new ha3 hz hn
  have ha11 := ini_new ha11 hz hn
  have ha4 := ini_new ha4 hz hn
  have ha5 := ini_new ha5 hz hn
  have ha6 := hw
  refine gh_putF (v := .ref q6) hC hg hnm hc fX3_41_0 rfl rfl (Nat.le_of_ble_eq_true rfl) dX3_init_93 (fun g H locs hg hw hn => ?_)
  have ha0 := (hn _ (gh_neK ha0 hc rfl)).trans ha0
  have ha8 := (hn _ (gh_neK ha8 hc rfl)).trans ha8
  have ha1 := (hn _ (gh_neK ha1 hc rfl)).trans ha1
  have ha9 := (hn _ (gh_neK ha9 hc rfl)).trans ha9
  have ha2 := (hn _ (gh_neK ha2 hc rfl)).trans ha2
  have ha10 := (hn _ (gh_neK ha10 hc rfl)).trans ha10
  have ha3 := (hn _ (gh_neK ha3 hc rfl)).trans ha3
  have ha11 := (hn _ (gh_neK ha11 hc rfl)).trans ha11
  have ha4 := (hn _ (gh_neK ha4 hc rfl)).trans ha4
  have ha5 := (hn _ (gh_neK ha5 hc rfl)).trans ha5
  have ha6 := (hn _ (gh_neK ha6 hc rfl)).trans ha6
  have hfr := hfr.put hc rfl hn
  have hc : g o = some ((o, 0, 0), oo 0 [.ref q0, .ref q8, .ref q1, .ref q9, .int 0, .ref q2, .ref q10, .int 0, .ref q3, .ref q11, .ref q4, .int 0, .int 0, .ref q5, .ref q6, .int 0, .null, .int 0, .int 0]) := hw
  refine lv_aload_n hx hb dX3_init_96 rfl (lv_at hl 0 rfl) ?_
  refine lv_bipush (v := 24) hx hb dX3_init_97 (by decide) ?_
  refine gh_newaI hC hg (fun _ => (o, 1, 7)) (q388) (show ((24 : Int32)) = nI 24 from rfl) (by omega) (Nat.le_of_ble_eq_true rfl) (Nat.le_of_ble_eq_true rfl) dX3_init_99 (fun q7 g H hg hz hw hn => ?_)
  have hc := ini_new hc hz hn
  have hfr := ini_fr hfr hz hn
  have ha0 := ini_new ha0 hz hn
  have ha8 := ini_new ha8 hz hn
  have ha1 := ini_new ha1 hz hn
  have ha9 := ini_new ha9 hz hn
  have ha2 := ini_new ha2 hz hn
  have ha10 := ini_new ha10 hz hn
  have ha3 := ini_new ha3 hz hn
  have ha11 := ini_new ha11 hz hn
  have ha4 := ini_new ha4 hz hn
  have ha5 := ini_new ha5 hz hn
  have ha6 := ini_new ha6 hz hn
  have ha7 := hw
  refine gh_putF (v := .ref q7) hC hg hnm hc fX3_44_0 rfl rfl (Nat.le_of_ble_eq_true rfl) dX3_init_101 (fun g H locs hg hw hn => ?_)
  have ha0 := (hn _ (gh_neK ha0 hc rfl)).trans ha0
  have ha8 := (hn _ (gh_neK ha8 hc rfl)).trans ha8
  have ha1 := (hn _ (gh_neK ha1 hc rfl)).trans ha1
  have ha9 := (hn _ (gh_neK ha9 hc rfl)).trans ha9
  have ha2 := (hn _ (gh_neK ha2 hc rfl)).trans ha2
  have ha10 := (hn _ (gh_neK ha10 hc rfl)).trans ha10
  have ha3 := (hn _ (gh_neK ha3 hc rfl)).trans ha3
  have ha11 := (hn _ (gh_neK ha11 hc rfl)).trans ha11
  have ha4 := (hn _ (gh_neK ha4 hc rfl)).trans ha4
  have ha5 := (hn _ (gh_neK ha5 hc rfl)).trans ha5
  have ha6 := (hn _ (gh_neK ha6 hc rfl)).trans ha6
  have ha7 := (hn _ (gh_neK ha7 hc rfl)).trans ha7
  have hfr := hfr.put hc rfl hn
  have hc : g o = some ((o, 0, 0), oo 0 [.ref q0, .ref q8, .ref q1, .ref q9, .int 0, .ref q2, .ref q10, .int 0, .ref q3, .ref q11, .ref q4, .int 0, .int 0, .ref q5, .ref q6, .int 0, .ref q7, .int 0, .int 0]) := hw
  obtain ⟨ad, had⟩ : ∃ ad, ad = (tw_ad [q0, q1, q2, q3, q4, q5, q6, q7, q8, q9, q10, q11]) := ⟨_, rfl⟩
  have hT : tw_W V g0 g o ad (fun _ => 0) (fun _ _ => 0) (fun _ _ => 0) := by
    subst had; refine ⟨⟨hc, fun j hj => ?_, fun j hj => ?_⟩, hfr⟩
    · match j, hj with
      | 0, _ => exact ha0
      | 1, _ => exact ha1
      | 2, _ => exact ha2
      | 3, _ => exact ha3
      | 4, _ => exact ha4
      | 5, _ => exact ha5
      | 6, _ => exact ha6
      | 7, _ => exact ha7
    · match j, hj with
      | 0, _ => exact ha8
      | 1, _ => exact ha9
      | 2, _ => exact ha10
      | 3, _ => exact ha11
  refine lv_aload_n hx hb dX3_init_104 rfl (lv_at hl 0 rfl) ?_
  refine gh_get (v := .ref (ad 0)) hC hg hT.1.1 fX3_7_0 rfl dX3_init_105 ?_
  refine lv_iconst (v := 1) hx hb dX3_init_108 (by decide) ?_
  refine lv_bipush (v := 60) hx hb dX3_init_109 (by decide) ?_
  refine gh_iast (n := 578) (f := ((fun _ _ => 0) 0)) hC hg (hT.1.2.1 0 (by decide)) (show ((1 : Int32)) = nI 1 from rfl) (by omega) (by omega) dX3_init_111 (fun g H locs hg hw hn => ?_)
  have hT : tw_W V g0 g o ad (fun _ => 0) (va_up (fun _ _ => 0) 0 (upd ((fun _ _ => 0) 0) 1 60)) (fun _ _ => 0) := hT.putA 0 (by decide) hw hn
  refine lv_iconst (v := 0) hx hb dX3_init_112 (by decide) ?_
  refine lv_istore_n (lv' := [(1, .int 0), (0, .ref o)]) hx hb dX3_init_113 rfl hl (by decide) rfl (fun ls hl => ?_)
  refine gh_loop (N := 8) (X := fun i_1 g ls => tw_W V g0 g o ad (fun _ => 0) (va_up (fun _ _ => 0) 0 (izS i_1)) (fun _ _ => 0) ∧ lv_has ls 2 [(0, .ref o), (1, .int (nI i_1))]) ?_ ?_ 0 (by omega) hg ⟨(hT.eqA (fam8 rfl rfl rfl rfl rfl rfl rfl rfl (fun _ => rfl))), lv_sub hl [1, 0] rfl⟩
  · intro g H locs ls hg hX
    obtain ⟨hT, hl⟩ := hX
    refine lv_iload_n hx hb dX3_init_114 rfl (lv_at hl 1 rfl) ?_
    refine lv_bipush (v := 8) hx hb dX3_init_115 (by decide) ?_
    refine lv_icmp_ge (tgt := 141) hx hb dX3_init_117 (by decide) (fun _ => ?_) (fun c_2 => (absurd ((nx_le (show ((8 : Int32)) = nI 8 from rfl) rfl (by omega) (by omega)).mpr (by omega)) c_2))
    refine lv_iconst (v := 0) hx hb dX3_init_141 (by decide) ?_
    refine lv_istore_n (lv' := [(1, .int 0), (0, .ref o)]) hx hb dX3_init_142 rfl hl (by decide) rfl (fun ls hl => ?_)
    refine gh_loop (N := 24) (X := fun i_3 g ls => tw_W V g0 g o ad (fun _ => 0) (va_up (fun _ _ => 0) 0 (ipS i_3)) (fun _ _ => 0) ∧ lv_has ls 2 [(0, .ref o), (1, .int (nI i_3))]) ?_ ?_ 0 (by omega) hg ⟨(hT.eqA (fam8 rfl rfl rfl rfl rfl rfl rfl rfl (fun _ => rfl))), lv_sub hl [1, 0] rfl⟩
    · intro g H locs ls hg hX
      obtain ⟨hT, hl⟩ := hX
      refine lv_iload_n hx hb dX3_init_143 rfl (lv_at hl 1 rfl) ?_
      refine lv_bipush (v := 24) hx hb dX3_init_144 (by decide) ?_
      refine lv_icmp_ge (tgt := 162) hx hb dX3_init_146 (by decide) (fun _ => ?_) (fun c_4 => (absurd ((nx_le (show ((24 : Int32)) = nI 24 from rfl) rfl (by omega) (by omega)).mpr (by omega)) c_4))
      exact gh_retv hC hg hr hlk (⟨_, hT⟩) dX3_init_162 (Nat.le_of_ble_eq_true rfl) (Nat.le_of_ble_eq_true rfl)
    · intro i_3 h_5 ih143 g H locs ls hg hX
      obtain ⟨hT, hl⟩ := hX
      refine lv_iload_n hx hb dX3_init_143 rfl (lv_at hl 1 rfl) ?_
      refine lv_bipush (v := 24) hx hb dX3_init_144 (by decide) ?_
      refine lv_icmp_ge (tgt := 162) hx hb dX3_init_146 (by decide) (fun c_6 => (absurd ((nx_le (show ((24 : Int32)) = nI 24 from rfl) rfl (by omega) (by omega)).mp c_6) (by omega))) (fun _ => ?_)
      refine lv_aload_n hx hb dX3_init_149 rfl (lv_at hl 0 rfl) ?_
      refine lv_iload_n hx hb dX3_init_150 rfl (lv_at hl 1 rfl) ?_
      refine lv_iconst (v := 0) hx hb dX3_init_151 (by decide) ?_
      refine lv_iconst (v := (-1)) hx hb dX3_init_152 (by decide) ?_
      refine gh_callv hg (gh_runV (As := [.int (nI i_3), .int 0, .int (-1)]) (rest := []) hC hg (t_putPlace l V o ad (fun _ => 0) (va_up (fun _ _ => 0) 0 (ipS i_3)) (fun _ _ => 0) _ hT.1 (nI i_3) 0 (-1) i_3 0 rfl (show ((0 : Int32)) = nI 0 from rfl) (by omega) (by omega)) 3 (lw_V q3826 q3828 qs53 q138 q3829) hT.1.1 rfl hd_X3_putPlace ⟨Nat.le_of_ble_eq_true rfl, Nat.le_of_ble_eq_true rfl⟩ rfl hl.1 rfl (Nat.le_of_ble_eq_true rfl) dX3_init_153 ⟨Nat.le_of_ble_eq_true rfl, Nat.le_of_ble_eq_true rfl⟩) (fun g H locs hg hp => ?_)
      have hT : tw_W V g0 g o ad (fun _ => 0) (va_up (va_up (fun _ _ => 0) 0 (ipS i_3)) 0 (ps (ipS i_3) i_3 0 (-1))) (fun _ _ => 0) := hT.call hp
      refine lv_iinc (v := (nI (i_3 + 1))) (lv' := [(1, .int (nI (i_3 + 1))), (0, .ref o)]) hx hb dX3_init_156 hl (k := 1) rfl (nx_iinc rfl) (by decide) rfl (fun ls hl => ?_)
      refine lv_goto (tgt := 143) hx hb dX3_init_159 (by decide) ?_
      exact ih143 _ _ _ _ hg ⟨(hT.eqA (fam8 rfl rfl rfl rfl rfl rfl rfl rfl (fun _ => rfl))), lv_sub hl [1, 0] rfl⟩
  · intro i_1 h_7 ih114 g H locs ls hg hX
    obtain ⟨hT, hl⟩ := hX
    refine lv_iload_n hx hb dX3_init_114 rfl (lv_at hl 1 rfl) ?_
    refine lv_bipush (v := 8) hx hb dX3_init_115 (by decide) ?_
    refine lv_icmp_ge (tgt := 141) hx hb dX3_init_117 (by decide) (fun c_8 => (absurd ((nx_le (show ((8 : Int32)) = nI 8 from rfl) rfl (by omega) (by omega)).mp c_8) (by omega))) (fun _ => ?_)
    refine lv_aload_n hx hb dX3_init_120 rfl (lv_at hl 0 rfl) ?_
    refine lv_iload_n hx hb dX3_init_121 rfl (lv_at hl 1 rfl) ?_
    refine lv_iconst (v := 3) hx hb dX3_init_122 (by decide) ?_
    refine lv_bipush (v := 20) hx hb dX3_init_123 (by decide) ?_
    refine gh_callv hg (gh_runV (As := [.int (nI i_1), .int 3, .int 20]) (rest := []) hC hg (t_putZone l V o ad (fun _ => 0) (va_up (fun _ _ => 0) 0 (izS i_1)) (fun _ _ => 0) _ hT.1 (nI i_1) 3 20 i_1 3 rfl (show ((3 : Int32)) = nI 3 from rfl) (by omega) (by omega)) 3 (lw_V q3822 q3824 qs52 q138 q3825) hT.1.1 rfl hd_X3_putZone ⟨Nat.le_of_ble_eq_true rfl, Nat.le_of_ble_eq_true rfl⟩ rfl hl.1 rfl (Nat.le_of_ble_eq_true rfl) dX3_init_125 ⟨Nat.le_of_ble_eq_true rfl, Nat.le_of_ble_eq_true rfl⟩) (fun g H locs hg hp => ?_)
    have hT : tw_W V g0 g o ad (fun _ => 0) (va_up (va_up (fun _ _ => 0) 0 (izS i_1)) 0 (zs (izS i_1) i_1 3 20)) (fun _ _ => 0) := hT.call hp
    refine lv_aload_n hx hb dX3_init_128 rfl (lv_at hl 0 rfl) ?_
    refine lv_iload_n hx hb dX3_init_129 rfl (lv_at hl 1 rfl) ?_
    refine lv_iconst (v := 2) hx hb dX3_init_130 (by decide) ?_
    refine lv_iconst (v := 3) hx hb dX3_init_131 (by decide) ?_
    refine gh_callv hg (gh_runV (As := [.int (nI i_1), .int 2, .int 3]) (rest := []) hC hg (t_putZone l V o ad (fun _ => 0) (va_up (va_up (fun _ _ => 0) 0 (izS i_1)) 0 (zs (izS i_1) i_1 3 20)) (fun _ _ => 0) _ hT.1 (nI i_1) 2 3 i_1 2 rfl (show ((2 : Int32)) = nI 2 from rfl) (by omega) (by omega)) 3 (lw_V q3822 q3824 qs52 q138 q3825) hT.1.1 rfl hd_X3_putZone ⟨Nat.le_of_ble_eq_true rfl, Nat.le_of_ble_eq_true rfl⟩ rfl hl.1 rfl (Nat.le_of_ble_eq_true rfl) dX3_init_132 ⟨Nat.le_of_ble_eq_true rfl, Nat.le_of_ble_eq_true rfl⟩) (fun g H locs hg hp => ?_)
    have hT : tw_W V g0 g o ad (fun _ => 0) (va_up (va_up (va_up (fun _ _ => 0) 0 (izS i_1)) 0 (zs (izS i_1) i_1 3 20)) 0 (zs (zs (izS i_1) i_1 3 20) i_1 2 3)) (fun _ _ => 0) := hT.call hp
    refine lv_iinc (v := (nI (i_1 + 1))) (lv' := [(1, .int (nI (i_1 + 1))), (0, .ref o)]) hx hb dX3_init_135 hl (k := 1) rfl (nx_iinc rfl) (by decide) rfl (fun ls hl => ?_)
    refine lv_goto (tgt := 114) hx hb dX3_init_138 (by decide) ?_
    exact ih114 _ _ _ _ hg ⟨(hT.eqA (fam8 rfl rfl rfl rfl rfl rfl rfl rfl (fun _ => rfl))), lv_sub hl [1, 0] rfl⟩
