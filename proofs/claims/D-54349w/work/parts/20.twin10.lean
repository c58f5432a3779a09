def put3 (s : Nat → Int32) (a : Nat) (x y z : Int32) : Nat → Int32 := upd (upd (upd s a x) (a + 1) y) (a + 2) z
def shl (s : Nat → Int32) (a i : Nat) : Nat → Int32 := fun m => if a ≤ m ∧ m < a + i then s (m + 3) else s m
theorem shl_0 (s : Nat → Int32) (a : Nat) : shl s a 0 = s := by
  funext j; unfold shl; rw [if_neg (by omega)]
theorem shl_s (s : Nat → Int32) (a i : Nat) : upd (shl s a i) (a + i) (shl s a i (a + i + 3)) = shl s a (i + 1) := by
  funext j
  simp only [upd, shl]
  have h1 : ¬ (a ≤ a + i + 3 ∧ a + i + 3 < a + i) := by omega
  by_cases hj : j = a + i
  · subst hj; rw [if_pos rfl, if_neg h1, if_pos (by omega)]
  · have e : (a ≤ j ∧ j < a + (i + 1)) ↔ (a ≤ j ∧ j < a + i) := by omega
    simp [hj, e]
theorem shl_529 {s : Nat → Int32} {a i : Nat} {v : Int32} (ha : 529 < a) (h : s 529 = v) : shl s a i 529 = v := by
  unfold shl; rw [if_neg (by omega)]; exact h
theorem clr_529 {s : Nat → Int32} {a i : Nat} {v : Int32} (ha : 529 < a) (h : s 529 = v) : clr s a i 529 = v := by
  unfold clr; rw [if_neg (by omega)]; exact h
theorem upd_529 {s : Nat → Int32} {P : Nat} (h : s 529 = nI P) (h0 : 0 < P) : upd s 529 (s 529 - 1) 529 = nI (P - 1) := by
  unfold upd; rw [if_pos rfl]; exact nx_sub h rfl h0
def rmS (s : Nat → Int32) (a P : Nat) : Nat → Int32 := clr (shl (upd s 529 (s 529 - 1)) a (530 + 3 * (P - 1) - a)) (530 + 3 * (P - 1)) 3
def planS (s : Nat → Int32) (x y z : Int32) (P : Nat) : Nat → Int32 :=
  if z = -1 then (if planAt s x y P = -1 then s else rmS s (planAt s x y P).toNatClampNeg P)
  else (if planAt s x y P = -1 then put3 (upd s 529 (s 529 + 1)) (530 + 3 * P) x y z else put3 (upd s 529 (s 529 + 0)) (planAt s x y P).toNatClampNeg x y z)
theorem wants_pos {x : Int32} {n : Nat} (h : x = nI n) (c : ¬ x ≤ 0) : 0 < n := by
  rcases Nat.eq_zero_or_pos n with h0 | h0
  · subst h0; subst h; exact absurd (by decide) c
  · exact h0
/-- what rides through takeOrder's loops -/
def tkF (s : Nat → Int32) (L d n : Nat) : Prop := s 163 = nI L ∧ n ≤ 20 ∧ od s d 2 = nI n
theorem tkF_new {s : Nat → Int32} {L D n : Nat} {x y u v w : Int32} (h : s 163 = nI L) (hn : n ≤ 20) (hu : u = nI n) : tkF (newOrd s D x y u v w) L D n := by
  refine ⟨?_, hn, ?_⟩
  · unfold newOrd upd
    rw [if_neg (by omega), if_neg (by omega), if_neg (by omega), if_neg (by omega), if_neg (by omega), if_neg (by omega), if_neg (by omega)]
    exact h
  · unfold newOrd od
    simp only [upd]
    rw [if_neg (by omega), if_neg (by omega), if_neg (by omega)]
    simpa using hu
theorem tkF_go {s : Nat → Int32} {L d n k : Nat} (h : tkF s L d n) (hk : k < 12) (hd : d < 10) (h0 : 0 < n) (v : Int32) : tkF (dlv (lts s k 3 v) k d) L d (n - 1) := by
  obtain ⟨h1, h2, h3⟩ := h
  refine ⟨?_, by omega, ?_⟩
  · rw [dlv_ne (by omega) (by omega) (by omega), lts_ne (by omega)]; exact h1
  · rw [dlv_w hk]
    have e : od (lts s k 3 v) d 2 = od s d 2 := lts_ne (by omega)
    rw [e]
    exact nx_sub h3 rfl h0
set_option maxRecDepth 100000

set_option maxHeartbeats 1000000 in
set_option maxRecDepth 100000 in
theorem t_takeOrder (l : Launch) (V : gh_V) (o : Nat) (ad : Nat → Nat) (I : Nat → Int32) (A : Nat → Nat → Int32) (F : Nat → Nat → UInt32) (g0 : gh_G) (hP : tw_P V g0 o ad I A F) (x y u v z : Int32) (K L D : Nat) (hKn : I 0 = nI K) (hK5 : K ≤ 5) (hL : A 0 163 = nI L) (hL12 : L ≤ 12) (hD : A 0 464 = nI D) (hD10 : D ≤ 10) : MI l yX3_takeOrder cX3_takeOrder 9 (some .int) ({ frames := 2, cells := 0, slots := 0, locals := 47 } : Room) V [.ref o, .int x, .int y, .int u, .int v, .int z] g0 (fun r g1 => (c2 (okR x 0 2 ∧ okR y 1 9 ∧ okR u 1 20 ∧ okR v 1 9999 ∧ okR z 1 99) (¬ D = 10) = 0 → r = A 0 464 ∧ tw_W V g0 g1 o ad (svI (va_up I 3 0) K) (va_up (svA A K) 0 (tk (newOrd (A 0) D x y u v z) D x y L)) (svF F K)) ∧ (¬ c2 (okR x 0 2 ∧ okR y 1 9 ∧ okR u 1 20 ∧ okR v 1 9999 ∧ okR z 1 99) (¬ D = 10) = 0 → tw_W V g0 g1 o ad (va_up I 3 (c2 (okR x 0 2 ∧ okR y 1 9 ∧ okR u 1 20 ∧ okR v 1 9999 ∧ okR z 1 99) (¬ D = 10))) A F)) := by
  refine MG.of RX3 (by decide) rfl (Nat.le_of_ble_eq_true rfl) (fun pp ee s mm args below meth c ls hC hg hr hlk hnm hl => ?_)
  have hx := hC.1.1
  have hb := hC.1.2.1
  have hml := hC.1.2.2.1
  have hown := hC.1.2.2.2.1
  have hts := hC.1.2.2.2.2
  have hl : lv_has ls 9 [(0, .ref o), (1, .int x), (2, .int y), (3, .int u), (4, .int v), (5, .int z)] := hl
  have hT := hP.W
  refine lv_aload_n hx hb dX3_takeOrder_0 rfl (lv_at hl 0 rfl) ?_
  refine lv_iconst (v := 0) hx hb dX3_takeOrder_1 (by decide) ?_
  refine gh_put (v := .int 0) hC hg hT.1.1 fX3_54_0 rfl rfl (Nat.le_of_ble_eq_true rfl) dX3_takeOrder_2 (fun g H locs hg hw hn => ?_)
  have hT : tw_W V g0 g o ad (va_up I 3 0) A F := hT.putI 3 0 hw hn
  refine lv_iload_n hx hb dX3_takeOrder_5 rfl (lv_at hl 1 rfl) ?_
  refine lv_iconst (v := 0) hx hb dX3_takeOrder_6 (by decide) ?_
  refine lv_iconst (v := 2) hx hb dX3_takeOrder_7 (by decide) ?_
  refine gh_calli hg (gh_runS (As := [.int x, .int 0, .int 2]) (rest := []) hC hg (t_in l V _ x 0 2) 3 (lw_S q3905 q3906 q138 q3907) hd_X3_in.2 ⟨Nat.le_of_ble_eq_true rfl, Nat.le_of_ble_eq_true rfl⟩ rfl hl.1 rfl (Nat.le_of_ble_eq_true rfl) dX3_takeOrder_8 ⟨Nat.le_of_ble_eq_true rfl, Nat.le_of_ble_eq_true rfl⟩) (fun r_1 g H locs hg hp => ?_)
  replace hp : r_1 = (if okR x 0 2 then 1 else 0) ∧ g = _ := hp
  by_cases ok_2 : okR x 0 2
  · rw [if_pos ok_2] at hp
    obtain ⟨rfl, hq⟩ := hp
    rw [hq] at hg
    obtain ⟨h_3a, h_3b, h_3⟩ := okR_cl (show ((0 : Int32)) = nI 0 from rfl) (show ((2 : Int32)) = nI 2 from rfl) (by omega) (by omega) ok_2
    refine lv_if_eq (tgt := 57) hx hb dX3_takeOrder_11 (by decide) (fun c_4 => (absurd ((nx_eq (show ((1 : Int32)) = nI 1 from rfl) (show ((0 : Int32)) = nI 0 from rfl) (by omega) (by omega)).mp c_4) (by omega))) (fun _ => ?_)
    refine lv_iload_n hx hb dX3_takeOrder_14 rfl (lv_at hl 2 rfl) ?_
    refine lv_iconst (v := 1) hx hb dX3_takeOrder_15 (by decide) ?_
    refine lv_bipush (v := 9) hx hb dX3_takeOrder_16 (by decide) ?_
    refine gh_calli hg (gh_runS (As := [.int y, .int 1, .int 9]) (rest := []) hC hg (t_in l V _ y 1 9) 3 (lw_S q3905 q3906 q138 q3907) hd_X3_in.2 ⟨Nat.le_of_ble_eq_true rfl, Nat.le_of_ble_eq_true rfl⟩ rfl hl.1 rfl (Nat.le_of_ble_eq_true rfl) dX3_takeOrder_18 ⟨Nat.le_of_ble_eq_true rfl, Nat.le_of_ble_eq_true rfl⟩) (fun r_5 g H locs hg hp => ?_)
    replace hp : r_5 = (if okR y 1 9 then 1 else 0) ∧ g = _ := hp
    by_cases ok_6 : okR y 1 9
    · rw [if_pos ok_6] at hp
      obtain ⟨rfl, hq⟩ := hp
      rw [hq] at hg
      obtain ⟨h_7a, h_7b, h_7⟩ := okR_cl (show ((1 : Int32)) = nI 1 from rfl) (show ((9 : Int32)) = nI 9 from rfl) (by omega) (by omega) ok_6
      refine lv_if_eq (tgt := 57) hx hb dX3_takeOrder_21 (by decide) (fun c_8 => (absurd ((nx_eq (show ((1 : Int32)) = nI 1 from rfl) (show ((0 : Int32)) = nI 0 from rfl) (by omega) (by omega)).mp c_8) (by omega))) (fun _ => ?_)
      refine lv_iload_n hx hb dX3_takeOrder_24 rfl (lv_at hl 3 rfl) ?_
      refine lv_iconst (v := 1) hx hb dX3_takeOrder_25 (by decide) ?_
      refine lv_bipush (v := 20) hx hb dX3_takeOrder_26 (by decide) ?_
      refine gh_calli hg (gh_runS (As := [.int u, .int 1, .int 20]) (rest := []) hC hg (t_in l V _ u 1 20) 3 (lw_S q3905 q3906 q138 q3907) hd_X3_in.2 ⟨Nat.le_of_ble_eq_true rfl, Nat.le_of_ble_eq_true rfl⟩ rfl hl.1 rfl (Nat.le_of_ble_eq_true rfl) dX3_takeOrder_28 ⟨Nat.le_of_ble_eq_true rfl, Nat.le_of_ble_eq_true rfl⟩) (fun r_9 g H locs hg hp => ?_)
      replace hp : r_9 = (if okR u 1 20 then 1 else 0) ∧ g = _ := hp
      by_cases ok_10 : okR u 1 20
      · rw [if_pos ok_10] at hp
        obtain ⟨rfl, hq⟩ := hp
        rw [hq] at hg
        obtain ⟨h_11a, h_11b, h_11⟩ := okR_cl (show ((1 : Int32)) = nI 1 from rfl) (show ((20 : Int32)) = nI 20 from rfl) (by omega) (by omega) ok_10
        refine lv_if_eq (tgt := 57) hx hb dX3_takeOrder_31 (by decide) (fun c_12 => (absurd ((nx_eq (show ((1 : Int32)) = nI 1 from rfl) (show ((0 : Int32)) = nI 0 from rfl) (by omega) (by omega)).mp c_12) (by omega))) (fun _ => ?_)
        refine lv_iload hx hb dX3_takeOrder_34 (lv_at hl 4 rfl) ?_
        refine lv_iconst (v := 1) hx hb dX3_takeOrder_36 (by decide) ?_
        refine lv_sipush (v := 9999) hx hb dX3_takeOrder_37 (by decide) ?_
        refine gh_calli hg (gh_runS (As := [.int v, .int 1, .int 9999]) (rest := []) hC hg (t_in l V _ v 1 9999) 3 (lw_S q3905 q3906 q138 q3907) hd_X3_in.2 ⟨Nat.le_of_ble_eq_true rfl, Nat.le_of_ble_eq_true rfl⟩ rfl hl.1 rfl (Nat.le_of_ble_eq_true rfl) dX3_takeOrder_40 ⟨Nat.le_of_ble_eq_true rfl, Nat.le_of_ble_eq_true rfl⟩) (fun r_13 g H locs hg hp => ?_)
        replace hp : r_13 = (if okR v 1 9999 then 1 else 0) ∧ g = _ := hp
        by_cases ok_14 : okR v 1 9999
        · rw [if_pos ok_14] at hp
          obtain ⟨rfl, hq⟩ := hp
          rw [hq] at hg
          obtain ⟨h_15a, h_15b, h_15⟩ := okR_cl (show ((1 : Int32)) = nI 1 from rfl) (show ((9999 : Int32)) = nI 9999 from rfl) (by omega) (by omega) ok_14
          refine lv_if_eq (tgt := 57) hx hb dX3_takeOrder_43 (by decide) (fun c_16 => (absurd ((nx_eq (show ((1 : Int32)) = nI 1 from rfl) (show ((0 : Int32)) = nI 0 from rfl) (by omega) (by omega)).mp c_16) (by omega))) (fun _ => ?_)
          refine lv_iload hx hb dX3_takeOrder_46 (lv_at hl 5 rfl) ?_
          refine lv_iconst (v := 1) hx hb dX3_takeOrder_48 (by decide) ?_
          refine lv_bipush (v := 99) hx hb dX3_takeOrder_49 (by decide) ?_
          refine gh_calli hg (gh_runS (As := [.int z, .int 1, .int 99]) (rest := []) hC hg (t_in l V _ z 1 99) 3 (lw_S q3905 q3906 q138 q3907) hd_X3_in.2 ⟨Nat.le_of_ble_eq_true rfl, Nat.le_of_ble_eq_true rfl⟩ rfl hl.1 rfl (Nat.le_of_ble_eq_true rfl) dX3_takeOrder_51 ⟨Nat.le_of_ble_eq_true rfl, Nat.le_of_ble_eq_true rfl⟩) (fun r_17 g H locs hg hp => ?_)
          replace hp : r_17 = (if okR z 1 99 then 1 else 0) ∧ g = _ := hp
          by_cases ok_18 : okR z 1 99
          · rw [if_pos ok_18] at hp
            obtain ⟨rfl, hq⟩ := hp
            rw [hq] at hg
            obtain ⟨h_19a, h_19b, h_19⟩ := okR_cl (show ((1 : Int32)) = nI 1 from rfl) (show ((99 : Int32)) = nI 99 from rfl) (by omega) (by omega) ok_18
            refine lv_if_ne (tgt := 63) hx hb dX3_takeOrder_54 (by decide) (fun _ => ?_) (fun c_20 => (absurd ((nx_eq (show ((1 : Int32)) = nI 1 from rfl) (show ((0 : Int32)) = nI 0 from rfl) (by omega) (by omega)).mp c_20) (by omega)))
            refine lv_aload_n hx hb dX3_takeOrder_63 rfl (lv_at hl 0 rfl) ?_
            refine gh_get (v := .ref (ad 0)) hC hg hT.1.1 fX3_7_0 rfl dX3_takeOrder_64 ?_
            refine lv_sipush (v := 464) hx hb dX3_takeOrder_67 (by decide) ?_
            refine gh_iald (n := 578) (f := (A 0)) hC hg (hT.1.2.1 0 (by decide)) (show ((464 : Int32)) = nI 464 from rfl) (by omega) (by omega) dX3_takeOrder_70 ?_
            refine lv_bipush (v := 10) hx hb dX3_takeOrder_71 (by decide) ?_
            refine lv_icmp_ne (tgt := 82) hx hb dX3_takeOrder_73 (by decide) (fun c_21 => ?_) (fun c_21 => ?_)
            · skip
              have c_21 : ¬ D = 10 := fun h9 => c_21 ((nx_eq hD (show ((10 : Int32)) = nI 10 from rfl) (by omega) (by omega)).mpr h9)
              refine lv_aload_n hx hb dX3_takeOrder_82 rfl (lv_at hl 0 rfl) ?_
              refine gh_callv hg (gh_runV (As := []) (rest := []) hC hg (t_save l V o ad (va_up I 3 0) A F _ hT.1 K (by rw [show va_up I 3 0 0 = I 0 from rfl]; exact hKn) hK5) 0 (lw_V q3912 q3914 qs57 q138 q3915) hT.1.1 rfl hd_X3_save ⟨Nat.le_of_ble_eq_true rfl, Nat.le_of_ble_eq_true rfl⟩ rfl hl.1 rfl (Nat.le_of_ble_eq_true rfl) dX3_takeOrder_83 ⟨Nat.le_of_ble_eq_true rfl, Nat.le_of_ble_eq_true rfl⟩) (fun g H locs hg hp => ?_)
              have hT : tw_W V g0 g o ad (svI (va_up I 3 0) K) (svA A K) (svF F K) := hT.call hp
              refine lv_aload_n hx hb dX3_takeOrder_86 rfl (lv_at hl 0 rfl) ?_
              refine gh_get (v := .ref (ad 0)) hC hg hT.1.1 fX3_7_0 rfl dX3_takeOrder_87 ?_
              refine lv_sipush (v := 464) hx hb dX3_takeOrder_90 (by decide) ?_
              refine gh_iald (n := 578) (f := (A 0)) hC hg (hT.1.2.1 0 (by decide)) (show ((464 : Int32)) = nI 464 from rfl) (by omega) (by omega) dX3_takeOrder_93 ?_
              refine lv_istore (lv' := [(6, .int ((A 0) 464)), (0, .ref o), (1, .int x), (2, .int y), (3, .int u), (4, .int v), (5, .int z)]) hx hb dX3_takeOrder_94 hl (by decide) rfl (fun ls hl => ?_)
              refine lv_sipush (v := 465) hx hb dX3_takeOrder_96 (by decide) ?_
              refine lv_bipush (v := 6) hx hb dX3_takeOrder_99 (by decide) ?_
              refine lv_iload hx hb dX3_takeOrder_101 (lv_at hl 0 rfl) ?_
              refine lv_imul hx hb dX3_takeOrder_103 ?_
              refine lv_iadd hx hb dX3_takeOrder_104 ?_
              refine lv_istore (lv' := [(7, .int (465 + (6 * ((A 0) 464)))), (6, .int ((A 0) 464)), (0, .ref o), (1, .int x), (2, .int y), (3, .int u), (4, .int v), (5, .int z)]) hx hb dX3_takeOrder_105 hl (by decide) rfl (fun ls hl => ?_)
              refine lv_aload_n hx hb dX3_takeOrder_107 rfl (lv_at hl 2 rfl) ?_
              refine gh_get (v := .ref (ad 0)) hC hg hT.1.1 fX3_7_0 rfl dX3_takeOrder_108 ?_
              refine lv_sipush (v := 464) hx hb dX3_takeOrder_111 (by decide) ?_
              refine lv_dup2_11 hx hb dX3_takeOrder_114 rfl rfl ?_
              refine gh_iald (n := 578) (f := (A 0)) hC hg (hT.1.2.1 0 (by decide)) (show ((464 : Int32)) = nI 464 from rfl) (by omega) (by omega) dX3_takeOrder_115 ?_
              refine lv_iconst (v := 1) hx hb dX3_takeOrder_116 (by decide) ?_
              refine lv_iadd hx hb dX3_takeOrder_117 ?_
              refine gh_iast (n := 578) (f := (A 0)) hC hg (hT.1.2.1 0 (by decide)) (show ((464 : Int32)) = nI 464 from rfl) (by omega) (by omega) dX3_takeOrder_118 (fun g H locs hg hw hn => ?_)
              have hT : tw_W V g0 g o ad (svI (va_up I 3 0) K) (va_up (svA A K) 0 (upd (A 0) 464 (((A 0) 464) + 1))) (svF F K) := hT.putA 0 (by decide) hw hn
              refine lv_aload_n hx hb dX3_takeOrder_119 rfl (lv_at hl 2 rfl) ?_
              refine gh_get (v := .ref (ad 0)) hC hg hT.1.1 fX3_7_0 rfl dX3_takeOrder_120 ?_
              refine lv_iload hx hb dX3_takeOrder_123 (lv_at hl 0 rfl) ?_
              refine lv_iconst (v := 0) hx hb dX3_takeOrder_125 (by decide) ?_
              refine lv_iadd hx hb dX3_takeOrder_126 ?_
              refine lv_iload_n hx hb dX3_takeOrder_127 rfl (lv_at hl 3 rfl) ?_
              refine gh_iast (n := 578) (f := (upd (A 0) 464 (((A 0) 464) + 1))) hC hg (hT.1.2.1 0 (by decide)) (nx_add (nx_add (show ((465 : Int32)) = nI 465 from rfl) (nx_mul (show ((6 : Int32)) = nI 6 from rfl) hD)) (show ((0 : Int32)) = nI 0 from rfl)) (by omega) (by omega) dX3_takeOrder_128 (fun g H locs hg hw hn => ?_)
              have hT : tw_W V g0 g o ad (svI (va_up I 3 0) K) (va_up (va_up (svA A K) 0 (upd (A 0) 464 (((A 0) 464) + 1))) 0 (upd (upd (A 0) 464 (((A 0) 464) + 1)) ((465 + (6 * D)) + 0) x)) (svF F K) := hT.putA 0 (by decide) hw hn
              refine lv_aload_n hx hb dX3_takeOrder_129 rfl (lv_at hl 2 rfl) ?_
              refine gh_get (v := .ref (ad 0)) hC hg hT.1.1 fX3_7_0 rfl dX3_takeOrder_130 ?_
              refine lv_iload hx hb dX3_takeOrder_133 (lv_at hl 0 rfl) ?_
              refine lv_iconst (v := 1) hx hb dX3_takeOrder_135 (by decide) ?_
              refine lv_iadd hx hb dX3_takeOrder_136 ?_
              refine lv_iload_n hx hb dX3_takeOrder_137 rfl (lv_at hl 4 rfl) ?_
              refine gh_iast (n := 578) (f := (upd (upd (A 0) 464 (((A 0) 464) + 1)) ((465 + (6 * D)) + 0) x)) hC hg (hT.1.2.1 0 (by decide)) (nx_add (nx_add (show ((465 : Int32)) = nI 465 from rfl) (nx_mul (show ((6 : Int32)) = nI 6 from rfl) hD)) (show ((1 : Int32)) = nI 1 from rfl)) (by omega) (by omega) dX3_takeOrder_138 (fun g H locs hg hw hn => ?_)
              have hT : tw_W V g0 g o ad (svI (va_up I 3 0) K) (va_up (va_up (va_up (svA A K) 0 (upd (A 0) 464 (((A 0) 464) + 1))) 0 (upd (upd (A 0) 464 (((A 0) 464) + 1)) ((465 + (6 * D)) + 0) x)) 0 (upd (upd (upd (A 0) 464 (((A 0) 464) + 1)) ((465 + (6 * D)) + 0) x) ((465 + (6 * D)) + 1) y)) (svF F K) := hT.putA 0 (by decide) hw hn
              refine lv_aload_n hx hb dX3_takeOrder_139 rfl (lv_at hl 2 rfl) ?_
              refine gh_get (v := .ref (ad 0)) hC hg hT.1.1 fX3_7_0 rfl dX3_takeOrder_140 ?_
              refine lv_iload hx hb dX3_takeOrder_143 (lv_at hl 0 rfl) ?_
              refine lv_iconst (v := 2) hx hb dX3_takeOrder_145 (by decide) ?_
              refine lv_iadd hx hb dX3_takeOrder_146 ?_
              refine lv_iload_n hx hb dX3_takeOrder_147 rfl (lv_at hl 5 rfl) ?_
              refine gh_iast (n := 578) (f := (upd (upd (upd (A 0) 464 (((A 0) 464) + 1)) ((465 + (6 * D)) + 0) x) ((465 + (6 * D)) + 1) y)) hC hg (hT.1.2.1 0 (by decide)) (nx_add (nx_add (show ((465 : Int32)) = nI 465 from rfl) (nx_mul (show ((6 : Int32)) = nI 6 from rfl) hD)) (show ((2 : Int32)) = nI 2 from rfl)) (by omega) (by omega) dX3_takeOrder_148 (fun g H locs hg hw hn => ?_)
              have hT : tw_W V g0 g o ad (svI (va_up I 3 0) K) (va_up (va_up (va_up (va_up (svA A K) 0 (upd (A 0) 464 (((A 0) 464) + 1))) 0 (upd (upd (A 0) 464 (((A 0) 464) + 1)) ((465 + (6 * D)) + 0) x)) 0 (upd (upd (upd (A 0) 464 (((A 0) 464) + 1)) ((465 + (6 * D)) + 0) x) ((465 + (6 * D)) + 1) y)) 0 (upd (upd (upd (upd (A 0) 464 (((A 0) 464) + 1)) ((465 + (6 * D)) + 0) x) ((465 + (6 * D)) + 1) y) ((465 + (6 * D)) + 2) u)) (svF F K) := hT.putA 0 (by decide) hw hn
              refine lv_aload_n hx hb dX3_takeOrder_149 rfl (lv_at hl 2 rfl) ?_
              refine gh_get (v := .ref (ad 0)) hC hg hT.1.1 fX3_7_0 rfl dX3_takeOrder_150 ?_
              refine lv_iload hx hb dX3_takeOrder_153 (lv_at hl 0 rfl) ?_
              refine lv_iconst (v := 3) hx hb dX3_takeOrder_155 (by decide) ?_
              refine lv_iadd hx hb dX3_takeOrder_156 ?_
              refine lv_iload hx hb dX3_takeOrder_157 (lv_at hl 6 rfl) ?_
              refine gh_iast (n := 578) (f := (upd (upd (upd (upd (A 0) 464 (((A 0) 464) + 1)) ((465 + (6 * D)) + 0) x) ((465 + (6 * D)) + 1) y) ((465 + (6 * D)) + 2) u)) hC hg (hT.1.2.1 0 (by decide)) (nx_add (nx_add (show ((465 : Int32)) = nI 465 from rfl) (nx_mul (show ((6 : Int32)) = nI 6 from rfl) hD)) (show ((3 : Int32)) = nI 3 from rfl)) (by omega) (by omega) dX3_takeOrder_159 (fun g H locs hg hw hn => ?_)
              have hT : tw_W V g0 g o ad (svI (va_up I 3 0) K) (va_up (va_up (va_up (va_up (va_up (svA A K) 0 (upd (A 0) 464 (((A 0) 464) + 1))) 0 (upd (upd (A 0) 464 (((A 0) 464) + 1)) ((465 + (6 * D)) + 0) x)) 0 (upd (upd (upd (A 0) 464 (((A 0) 464) + 1)) ((465 + (6 * D)) + 0) x) ((465 + (6 * D)) + 1) y)) 0 (upd (upd (upd (upd (A 0) 464 (((A 0) 464) + 1)) ((465 + (6 * D)) + 0) x) ((465 + (6 * D)) + 1) y) ((465 + (6 * D)) + 2) u)) 0 (upd (upd (upd (upd (upd (A 0) 464 (((A 0) 464) + 1)) ((465 + (6 * D)) + 0) x) ((465 + (6 * D)) + 1) y) ((465 + (6 * D)) + 2) u) ((465 + (6 * D)) + 3) v)) (svF F K) := hT.putA 0 (by decide) hw hn
              refine lv_aload_n hx hb dX3_takeOrder_160 rfl (lv_at hl 2 rfl) ?_
              refine gh_get (v := .ref (ad 0)) hC hg hT.1.1 fX3_7_0 rfl dX3_takeOrder_161 ?_
              refine lv_iload hx hb dX3_takeOrder_164 (lv_at hl 0 rfl) ?_
              refine lv_iconst (v := 4) hx hb dX3_takeOrder_166 (by decide) ?_
              refine lv_iadd hx hb dX3_takeOrder_167 ?_
              refine lv_iload hx hb dX3_takeOrder_168 (lv_at hl 7 rfl) ?_
              refine gh_iast (n := 578) (f := (upd (upd (upd (upd (upd (A 0) 464 (((A 0) 464) + 1)) ((465 + (6 * D)) + 0) x) ((465 + (6 * D)) + 1) y) ((465 + (6 * D)) + 2) u) ((465 + (6 * D)) + 3) v)) hC hg (hT.1.2.1 0 (by decide)) (nx_add (nx_add (show ((465 : Int32)) = nI 465 from rfl) (nx_mul (show ((6 : Int32)) = nI 6 from rfl) hD)) (show ((4 : Int32)) = nI 4 from rfl)) (by omega) (by omega) dX3_takeOrder_170 (fun g H locs hg hw hn => ?_)
              have hT : tw_W V g0 g o ad (svI (va_up I 3 0) K) (va_up (va_up (va_up (va_up (va_up (va_up (svA A K) 0 (upd (A 0) 464 (((A 0) 464) + 1))) 0 (upd (upd (A 0) 464 (((A 0) 464) + 1)) ((465 + (6 * D)) + 0) x)) 0 (upd (upd (upd (A 0) 464 (((A 0) 464) + 1)) ((465 + (6 * D)) + 0) x) ((465 + (6 * D)) + 1) y)) 0 (upd (upd (upd (upd (A 0) 464 (((A 0) 464) + 1)) ((465 + (6 * D)) + 0) x) ((465 + (6 * D)) + 1) y) ((465 + (6 * D)) + 2) u)) 0 (upd (upd (upd (upd (upd (A 0) 464 (((A 0) 464) + 1)) ((465 + (6 * D)) + 0) x) ((465 + (6 * D)) + 1) y) ((465 + (6 * D)) + 2) u) ((465 + (6 * D)) + 3) v)) 0 (upd (upd (upd (upd (upd (upd (A 0) 464 (((A 0) 464) + 1)) ((465 + (6 * D)) + 0) x) ((465 + (6 * D)) + 1) y) ((465 + (6 * D)) + 2) u) ((465 + (6 * D)) + 3) v) ((465 + (6 * D)) + 4) z)) (svF F K) := hT.putA 0 (by decide) hw hn
              refine lv_aload_n hx hb dX3_takeOrder_171 rfl (lv_at hl 2 rfl) ?_
              refine gh_get (v := .ref (ad 0)) hC hg hT.1.1 fX3_7_0 rfl dX3_takeOrder_172 ?_
              refine lv_iload hx hb dX3_takeOrder_175 (lv_at hl 0 rfl) ?_
              refine lv_iconst (v := 5) hx hb dX3_takeOrder_177 (by decide) ?_
              refine lv_iadd hx hb dX3_takeOrder_178 ?_
              refine lv_iconst (v := 0) hx hb dX3_takeOrder_179 (by decide) ?_
              refine gh_iast (n := 578) (f := (upd (upd (upd (upd (upd (upd (A 0) 464 (((A 0) 464) + 1)) ((465 + (6 * D)) + 0) x) ((465 + (6 * D)) + 1) y) ((465 + (6 * D)) + 2) u) ((465 + (6 * D)) + 3) v) ((465 + (6 * D)) + 4) z)) hC hg (hT.1.2.1 0 (by decide)) (nx_add (nx_add (show ((465 : Int32)) = nI 465 from rfl) (nx_mul (show ((6 : Int32)) = nI 6 from rfl) hD)) (show ((5 : Int32)) = nI 5 from rfl)) (by omega) (by omega) dX3_takeOrder_180 (fun g H locs hg hw hn => ?_)
              have hT : tw_W V g0 g o ad (svI (va_up I 3 0) K) (va_up (va_up (va_up (va_up (va_up (va_up (va_up (svA A K) 0 (upd (A 0) 464 (((A 0) 464) + 1))) 0 (upd (upd (A 0) 464 (((A 0) 464) + 1)) ((465 + (6 * D)) + 0) x)) 0 (upd (upd (upd (A 0) 464 (((A 0) 464) + 1)) ((465 + (6 * D)) + 0) x) ((465 + (6 * D)) + 1) y)) 0 (upd (upd (upd (upd (A 0) 464 (((A 0) 464) + 1)) ((465 + (6 * D)) + 0) x) ((465 + (6 * D)) + 1) y) ((465 + (6 * D)) + 2) u)) 0 (upd (upd (upd (upd (upd (A 0) 464 (((A 0) 464) + 1)) ((465 + (6 * D)) + 0) x) ((465 + (6 * D)) + 1) y) ((465 + (6 * D)) + 2) u) ((465 + (6 * D)) + 3) v)) 0 (upd (upd (upd (upd (upd (upd (A 0) 464 (((A 0) 464) + 1)) ((465 + (6 * D)) + 0) x) ((465 + (6 * D)) + 1) y) ((465 + (6 * D)) + 2) u) ((465 + (6 * D)) + 3) v) ((465 + (6 * D)) + 4) z)) 0 (upd (upd (upd (upd (upd (upd (upd (A 0) 464 (((A 0) 464) + 1)) ((465 + (6 * D)) + 0) x) ((465 + (6 * D)) + 1) y) ((465 + (6 * D)) + 2) u) ((465 + (6 * D)) + 3) v) ((465 + (6 * D)) + 4) z) ((465 + (6 * D)) + 5) 0)) (svF F K) := hT.putA 0 (by decide) hw hn
              refine lv_iconst (v := 0) hx hb dX3_takeOrder_181 (by decide) ?_
              refine lv_istore (lv' := [(8, .int 0), (7, .int (465 + (6 * ((A 0) 464)))), (6, .int ((A 0) 464)), (0, .ref o), (1, .int x), (2, .int y), (3, .int u), (4, .int v), (5, .int z)]) hx hb dX3_takeOrder_182 hl (by decide) rfl (fun ls hl => ?_)
              obtain ⟨q9, hE9⟩ : ∃ n, tkF (tk (newOrd (A 0) D x y u v z) D x y 0) L D n := ⟨_, tkF_new hL (by omega) h_11⟩
              refine gh_loop (N := L) (X := fun i_22 g ls => ∃ (q9 : Nat), tw_W V g0 g o ad (svI (va_up I 3 0) K) (va_up (svA A K) 0 (tk (newOrd (A 0) D x y u v z) D x y i_22)) (svF F K) ∧ tkF (tk (newOrd (A 0) D x y u v z) D x y i_22) L D q9 ∧ lv_has ls 9 [(0, .ref o), (1, .int x), (2, .int y), (3, .int u), (4, .int v), (5, .int z), (6, .int ((A 0) 464)), (7, .int (465 + (6 * ((A 0) 464)))), (8, .int (nI i_22))]) ?_ ?_ 0 (by omega) hg ⟨q9, (hT.eqA (by first | rfl | (simp only [bx_uu]; done) | (simp only [bx_uu]; rfl))), hE9, lv_sub hl [3, 4, 5, 6, 7, 8, 2, 1, 0] rfl⟩
              · intro g H locs ls hg hX
                obtain ⟨q9, hT, hE9, hl⟩ := hX
                refine lv_iload hx hb dX3_takeOrder_184 (lv_at hl 8 rfl) ?_
                refine lv_aload_n hx hb dX3_takeOrder_186 rfl (lv_at hl 0 rfl) ?_
                refine gh_get (v := .ref (ad 0)) hC hg hT.1.1 fX3_7_0 rfl dX3_takeOrder_187 ?_
                refine lv_sipush (v := 163) hx hb dX3_takeOrder_190 (by decide) ?_
                refine gh_iald (n := 578) (f := (tk (newOrd (A 0) D x y u v z) D x y L)) hC hg (hT.1.2.1 0 (by decide)) (show ((163 : Int32)) = nI 163 from rfl) (by omega) (by omega) dX3_takeOrder_193 ?_
                refine lv_icmp_ge (tgt := 264) hx hb dX3_takeOrder_194 (by decide) (fun _ => ?_) (fun c_23 => (absurd ((nx_le hE9.1 rfl (by omega) (by omega)).mpr (by omega)) c_23))
                refine lv_iload hx hb dX3_takeOrder_264 (lv_at hl 6 rfl) ?_
                have e9 : c2 (okR x 0 2 ∧ okR y 1 9 ∧ okR u 1 20 ∧ okR v 1 9999 ∧ okR z 1 99) (¬ D = 10) = 0 := by first | rfl | (simp only [c1, c2, c3, if_pos ok_2, if_pos ok_6, if_pos ok_10, if_pos ok_14, if_pos ok_18, if_neg c_21]; done) | simp [c1, c2, c3, ok_2, ok_6, ok_10, ok_14, ok_18, c_21]
                exact gh_reti hC hg hr hlk (⟨fun _ => ⟨rfl, hT⟩, fun h9 => absurd e9 h9⟩) dX3_takeOrder_266 (Nat.le_of_ble_eq_true rfl) (Nat.le_of_ble_eq_true rfl)
              · intro i_22 h_24 ih184 g H locs ls hg hX
                obtain ⟨q9, hT, hE9, hl⟩ := hX
                refine lv_iload hx hb dX3_takeOrder_184 (lv_at hl 8 rfl) ?_
                refine lv_aload_n hx hb dX3_takeOrder_186 rfl (lv_at hl 0 rfl) ?_
                refine gh_get (v := .ref (ad 0)) hC hg hT.1.1 fX3_7_0 rfl dX3_takeOrder_187 ?_
                refine lv_sipush (v := 163) hx hb dX3_takeOrder_190 (by decide) ?_
                refine gh_iald (n := 578) (f := (tk (newOrd (A 0) D x y u v z) D x y i_22)) hC hg (hT.1.2.1 0 (by decide)) (show ((163 : Int32)) = nI 163 from rfl) (by omega) (by omega) dX3_takeOrder_193 ?_
                refine lv_icmp_ge (tgt := 264) hx hb dX3_takeOrder_194 (by decide) (fun c_25 => (absurd ((nx_le hE9.1 rfl (by omega) (by omega)).mp c_25) (by omega))) (fun _ => ?_)
                refine gh_while (μ := fun n : Nat => n) (X := fun n g ls => ∃ sc : Nat → Int32, tw_W V g0 g o ad (svI (va_up I 3 0) K) (va_up (svA A K) 0 sc) (svF F K) ∧ tkI i_22 D x y n sc = (tk (newOrd (A 0) D x y u v z) D x y (i_22 + 1)) ∧ tkF sc L D n ∧ lv_has ls 9 [(0, .ref o), (1, .int x), (2, .int y), (3, .int u), (4, .int v), (5, .int z), (6, .int ((A 0) 464)), (7, .int (465 + (6 * ((A 0) 464)))), (8, .int (nI i_22))]) ?_ q9 hg ⟨_, hT, (by rw [tk, cl_of hE9.2.2 (by have := hE9.2.1; omega)]), hE9, lv_sub hl [0, 1, 2, 3, 4, 5, 6, 7, 8] rfl⟩
                intro n ih197 g H locs ls hg hX
                obtain ⟨sc, hT, hT1, hT3, hl⟩ := hX
                refine lv_aload_n hx hb dX3_takeOrder_197 rfl (lv_at hl 0 rfl) ?_
                refine lv_iload hx hb dX3_takeOrder_198 (lv_at hl 8 rfl) ?_
                refine lv_iconst (v := 0) hx hb dX3_takeOrder_200 (by decide) ?_
                refine gh_calli hg (gh_runV (As := [.int (nI i_22), .int 0]) (rest := []) hC hg (t_lot l V o ad (svI (va_up I 3 0) K) (va_up (svA A K) 0 sc) (svF F K) _ hT.1 (nI i_22) 0 i_22 0 rfl (show ((0 : Int32)) = nI 0 from rfl) (by omega) (by omega)) 2 (lw_V q3956 q3958 qs63 q138 q3959) hT.1.1 rfl hd_X3_lot ⟨Nat.le_of_ble_eq_true rfl, Nat.le_of_ble_eq_true rfl⟩ rfl hl.1 rfl (Nat.le_of_ble_eq_true rfl) dX3_takeOrder_201 ⟨Nat.le_of_ble_eq_true rfl, Nat.le_of_ble_eq_true rfl⟩) (fun r_26 g H locs hg hp => ?_)
                obtain ⟨hp, hq⟩ := hp
                replace hp : r_26 = (lt sc i_22 0) := hp
                subst hp
                rw [hq] at hg
                refine lv_iload_n hx hb dX3_takeOrder_204 rfl (lv_at hl 1 rfl) ?_
                refine lv_icmp_ne (tgt := 258) hx hb dX3_takeOrder_205 (by decide) (fun c_27 => ?_) (fun c_27 => ?_)
                · skip
                  have e8 : sc = (tk (newOrd (A 0) D x y u v z) D x y (i_22 + 1)) := (tkI_stop (s := sc) (k := i_22) (d := D) (x := x) (y := y) n (fun h9 => c_27 h9.1)).symm.trans hT1
                  refine lv_iinc (v := (nI (i_22 + 1))) (lv' := [(8, .int (nI (i_22 + 1))), (0, .ref o), (1, .int x), (2, .int y), (3, .int u), (4, .int v), (5, .int z), (6, .int ((A 0) 464)), (7, .int (465 + (6 * ((A 0) 464))))]) hx hb dX3_takeOrder_258 hl (k := 8) rfl (nx_iinc rfl) (by decide) rfl (fun ls hl => ?_)
                  refine lv_goto (tgt := 184) hx hb dX3_takeOrder_261 (by decide) ?_
                  exact ih184 _ _ _ _ hg ⟨n, (hT.eqA (by rw [e8])), (by rw [← e8]; exact hT3), lv_sub hl [1, 2, 3, 4, 5, 6, 7, 8, 0] rfl⟩
                refine lv_aload_n hx hb dX3_takeOrder_208 rfl (lv_at hl 0 rfl) ?_
                refine lv_iload hx hb dX3_takeOrder_209 (lv_at hl 8 rfl) ?_
                refine lv_iconst (v := 1) hx hb dX3_takeOrder_211 (by decide) ?_
                refine gh_calli hg (gh_runV (As := [.int (nI i_22), .int 1]) (rest := []) hC hg (t_lot l V o ad (svI (va_up I 3 0) K) (va_up (svA A K) 0 sc) (svF F K) _ hT.1 (nI i_22) 1 i_22 1 rfl (show ((1 : Int32)) = nI 1 from rfl) (by omega) (by omega)) 2 (lw_V q3956 q3958 qs63 q138 q3959) hT.1.1 rfl hd_X3_lot ⟨Nat.le_of_ble_eq_true rfl, Nat.le_of_ble_eq_true rfl⟩ rfl hl.1 rfl (Nat.le_of_ble_eq_true rfl) dX3_takeOrder_212 ⟨Nat.le_of_ble_eq_true rfl, Nat.le_of_ble_eq_true rfl⟩) (fun r_28 g H locs hg hp => ?_)
                obtain ⟨hp, hq⟩ := hp
                replace hp : r_28 = (lt sc i_22 1) := hp
                subst hp
                rw [hq] at hg
                refine lv_iload_n hx hb dX3_takeOrder_215 rfl (lv_at hl 2 rfl) ?_
                refine lv_icmp_ne (tgt := 258) hx hb dX3_takeOrder_216 (by decide) (fun c_29 => ?_) (fun c_29 => ?_)
                · skip
                  have e8 : sc = (tk (newOrd (A 0) D x y u v z) D x y (i_22 + 1)) := (tkI_stop (s := sc) (k := i_22) (d := D) (x := x) (y := y) n (fun h9 => c_29 h9.2.1)).symm.trans hT1
                  refine lv_iinc (v := (nI (i_22 + 1))) (lv' := [(8, .int (nI (i_22 + 1))), (0, .ref o), (1, .int x), (2, .int y), (3, .int u), (4, .int v), (5, .int z), (6, .int ((A 0) 464)), (7, .int (465 + (6 * ((A 0) 464))))]) hx hb dX3_takeOrder_258 hl (k := 8) rfl (nx_iinc rfl) (by decide) rfl (fun ls hl => ?_)
                  refine lv_goto (tgt := 184) hx hb dX3_takeOrder_261 (by decide) ?_
                  exact ih184 _ _ _ _ hg ⟨n, (hT.eqA (by rw [e8])), (by rw [← e8]; exact hT3), lv_sub hl [1, 2, 3, 4, 5, 6, 7, 8, 0] rfl⟩
                refine lv_aload_n hx hb dX3_takeOrder_219 rfl (lv_at hl 0 rfl) ?_
                refine lv_iload hx hb dX3_takeOrder_220 (lv_at hl 8 rfl) ?_
                refine lv_iconst (v := 3) hx hb dX3_takeOrder_222 (by decide) ?_
                refine gh_calli hg (gh_runV (As := [.int (nI i_22), .int 3]) (rest := []) hC hg (t_lot l V o ad (svI (va_up I 3 0) K) (va_up (svA A K) 0 sc) (svF F K) _ hT.1 (nI i_22) 3 i_22 3 rfl (show ((3 : Int32)) = nI 3 from rfl) (by omega) (by omega)) 2 (lw_V q3956 q3958 qs63 q138 q3959) hT.1.1 rfl hd_X3_lot ⟨Nat.le_of_ble_eq_true rfl, Nat.le_of_ble_eq_true rfl⟩ rfl hl.1 rfl (Nat.le_of_ble_eq_true rfl) dX3_takeOrder_223 ⟨Nat.le_of_ble_eq_true rfl, Nat.le_of_ble_eq_true rfl⟩) (fun r_30 g H locs hg hp => ?_)
                obtain ⟨hp, hq⟩ := hp
                replace hp : r_30 = (lt sc i_22 3) := hp
                subst hp
                rw [hq] at hg
                refine lv_if_le (tgt := 258) hx hb dX3_takeOrder_226 (by decide) (fun c_31 => ?_) (fun c_31 => ?_)
                · skip
                  have e8 : sc = (tk (newOrd (A 0) D x y u v z) D x y (i_22 + 1)) := (tkI_stop (s := sc) (k := i_22) (d := D) (x := x) (y := y) n (fun h9 => h9.2.2.1 c_31)).symm.trans hT1
                  refine lv_iinc (v := (nI (i_22 + 1))) (lv' := [(8, .int (nI (i_22 + 1))), (0, .ref o), (1, .int x), (2, .int y), (3, .int u), (4, .int v), (5, .int z), (6, .int ((A 0) 464)), (7, .int (465 + (6 * ((A 0) 464))))]) hx hb dX3_takeOrder_258 hl (k := 8) rfl (nx_iinc rfl) (by decide) rfl (fun ls hl => ?_)
                  refine lv_goto (tgt := 184) hx hb dX3_takeOrder_261 (by decide) ?_
                  exact ih184 _ _ _ _ hg ⟨n, (hT.eqA (by rw [e8])), (by rw [← e8]; exact hT3), lv_sub hl [1, 2, 3, 4, 5, 6, 7, 8, 0] rfl⟩
                refine lv_aload_n hx hb dX3_takeOrder_229 rfl (lv_at hl 0 rfl) ?_
                refine lv_iload hx hb dX3_takeOrder_230 (lv_at hl 6 rfl) ?_
                refine lv_iconst (v := 2) hx hb dX3_takeOrder_232 (by decide) ?_
                refine gh_calli hg (gh_runV (As := [.int ((A 0) 464), .int 2]) (rest := []) hC hg (t_order l V o ad (svI (va_up I 3 0) K) (va_up (svA A K) 0 sc) (svF F K) _ hT.1 ((A 0) 464) 2 D 2 hD (show ((2 : Int32)) = nI 2 from rfl) (by omega) (by omega)) 2 (lw_V q3996 q3998 qs71 q138 q3999) hT.1.1 rfl hd_X3_order ⟨Nat.le_of_ble_eq_true rfl, Nat.le_of_ble_eq_true rfl⟩ rfl hl.1 rfl (Nat.le_of_ble_eq_true rfl) dX3_takeOrder_233 ⟨Nat.le_of_ble_eq_true rfl, Nat.le_of_ble_eq_true rfl⟩) (fun r_32 g H locs hg hp => ?_)
                obtain ⟨hp, hq⟩ := hp
                replace hp : r_32 = (od sc D 2) := hp
                subst hp
                rw [hq] at hg
                refine lv_if_le (tgt := 258) hx hb dX3_takeOrder_236 (by decide) (fun c_33 => ?_) (fun c_33 => ?_)
                · skip
                  have e8 : sc = (tk (newOrd (A 0) D x y u v z) D x y (i_22 + 1)) := (tkI_stop (s := sc) (k := i_22) (d := D) (x := x) (y := y) n (fun h9 => h9.2.2.2 c_33)).symm.trans hT1
                  refine lv_iinc (v := (nI (i_22 + 1))) (lv' := [(8, .int (nI (i_22 + 1))), (0, .ref o), (1, .int x), (2, .int y), (3, .int u), (4, .int v), (5, .int z), (6, .int ((A 0) 464)), (7, .int (465 + (6 * ((A 0) 464))))]) hx hb dX3_takeOrder_258 hl (k := 8) rfl (nx_iinc rfl) (by decide) rfl (fun ls hl => ?_)
                  refine lv_goto (tgt := 184) hx hb dX3_takeOrder_261 (by decide) ?_
                  exact ih184 _ _ _ _ hg ⟨n, (hT.eqA (by rw [e8])), (by rw [← e8]; exact hT3), lv_sub hl [1, 2, 3, 4, 5, 6, 7, 8, 0] rfl⟩
                refine lv_aload_n hx hb dX3_takeOrder_239 rfl (lv_at hl 0 rfl) ?_
                refine lv_iload hx hb dX3_takeOrder_240 (lv_at hl 8 rfl) ?_
                refine lv_iconst (v := 3) hx hb dX3_takeOrder_242 (by decide) ?_
                refine lv_iconst (v := (-1)) hx hb dX3_takeOrder_243 (by decide) ?_
                refine gh_callv hg (gh_runV (As := [.int (nI i_22), .int 3, .int (-1)]) (rest := []) hC hg (t_growLot l V o ad (svI (va_up I 3 0) K) (va_up (svA A K) 0 sc) (svF F K) _ hT.1 (nI i_22) 3 (-1) i_22 3 rfl (show ((3 : Int32)) = nI 3 from rfl) (by omega) (by omega)) 3 (lw_V q3972 q3974 qs67 q138 q3975) hT.1.1 rfl hd_X3_growLot ⟨Nat.le_of_ble_eq_true rfl, Nat.le_of_ble_eq_true rfl⟩ rfl hl.1 rfl (Nat.le_of_ble_eq_true rfl) dX3_takeOrder_244 ⟨Nat.le_of_ble_eq_true rfl, Nat.le_of_ble_eq_true rfl⟩) (fun g H locs hg hp => ?_)
                have hT : tw_W V g0 g o ad (svI (va_up I 3 0) K) (va_up (va_up (svA A K) 0 sc) 0 (lts sc i_22 3 (lt sc i_22 3 + (-1)))) (svF F K) := hT.call hp
                refine lv_aload_n hx hb dX3_takeOrder_247 rfl (lv_at hl 0 rfl) ?_
                refine lv_iload hx hb dX3_takeOrder_248 (lv_at hl 8 rfl) ?_
                refine lv_iload hx hb dX3_takeOrder_250 (lv_at hl 6 rfl) ?_
                refine gh_callv hg (gh_runV (As := [.int (nI i_22), .int ((A 0) 464)]) (rest := []) hC hg (t_delivers l V o ad (svI (va_up I 3 0) K) (va_up (va_up (svA A K) 0 sc) 0 (lts sc i_22 3 (lt sc i_22 3 + (-1)))) (svF F K) _ hT.1 (nI i_22) ((A 0) 464) i_22 D rfl hD (by omega) (by omega)) 2 (lw_V q4000 q4002 qs72 q138 q4003) hT.1.1 rfl hd_X3_delivers ⟨Nat.le_of_ble_eq_true rfl, Nat.le_of_ble_eq_true rfl⟩ rfl hl.1 rfl (Nat.le_of_ble_eq_true rfl) dX3_takeOrder_252 ⟨Nat.le_of_ble_eq_true rfl, Nat.le_of_ble_eq_true rfl⟩) (fun g H locs hg hp => ?_)
                have hT : tw_W V g0 g o ad (svI (va_up I 3 0) K) (va_up (va_up (va_up (svA A K) 0 sc) 0 (lts sc i_22 3 (lt sc i_22 3 + (-1)))) 0 (dlv (lts sc i_22 3 (lt sc i_22 3 + (-1))) i_22 D)) (svF F K) := hT.call hp
                refine lv_goto (tgt := 197) hx hb dX3_takeOrder_255 (by decide) ?_
                have hn0 := wants_pos hT3.2.2 c_33
                exact ih197 (n - 1) (by show n - 1 < n; omega) _ _ _ _ hg ⟨_, hT.eqA (by first | rfl | (simp only [bx_uu]; done) | (simp only [bx_uu]; rfl)), ((tkI_go (s := sc) (k := i_22) (d := D) (x := x) (y := y) hn0 ⟨c_27, c_29, c_31, c_33⟩).symm.trans hT1), tkF_go hT3 (by omega) (by omega) hn0 _, lv_sub hl [0, 1, 2, 3, 4, 5, 6, 7, 8] rfl⟩
            have c_21 : D = 10 := (nx_eq hD (show ((10 : Int32)) = nI 10 from rfl) (by omega) (by omega)).mp c_21
            refine lv_aload_n hx hb dX3_takeOrder_76 rfl (lv_at hl 0 rfl) ?_
            refine lv_iconst (v := 2) hx hb dX3_takeOrder_77 (by decide) ?_
            refine gh_calli hg (gh_runV (As := [.int 2]) (rest := []) hC hg (t_throwing l V o ad (va_up I 3 0) A F _ hT.1 2) 1 (lw_V q3908 q3910 qs56 q138 q3911) hT.1.1 rfl hd_X3_throwing ⟨Nat.le_of_ble_eq_true rfl, Nat.le_of_ble_eq_true rfl⟩ rfl hl.1 rfl (Nat.le_of_ble_eq_true rfl) dX3_takeOrder_78 ⟨Nat.le_of_ble_eq_true rfl, Nat.le_of_ble_eq_true rfl⟩) (fun r_34 g H locs hg hp => ?_)
            obtain ⟨hp, hpT⟩ := hp
            replace hp : r_34 = 0 := hp
            subst hp
            have hT : tw_W V g0 g o ad (va_up (va_up I 3 0) 3 2) A F := hT.call hpT
            have e9 : c2 (okR x 0 2 ∧ okR y 1 9 ∧ okR u 1 20 ∧ okR v 1 9999 ∧ okR z 1 99) (¬ D = 10) = 2 := by first | rfl | (simp only [c1, c2, c3, if_pos ok_2, if_pos ok_6, if_pos ok_10, if_pos ok_14, if_pos ok_18, if_pos c_21]; done) | simp [c1, c2, c3, ok_2, ok_6, ok_10, ok_14, ok_18, c_21]
            exact gh_reti hC hg hr hlk (⟨fun h9 => absurd (e9.symm.trans h9) (by decide), fun _ => by rw [e9]; exact hT⟩) dX3_takeOrder_81 (Nat.le_of_ble_eq_true rfl) (Nat.le_of_ble_eq_true rfl)
          rw [if_neg ok_18] at hp
          obtain ⟨rfl, hq⟩ := hp
          rw [hq] at hg
          refine lv_if_ne (tgt := 63) hx hb dX3_takeOrder_54 (by decide) (fun c_35 => (absurd ((nx_eq (show ((0 : Int32)) = nI 0 from rfl) (show ((0 : Int32)) = nI 0 from rfl) (by omega) (by omega)).mpr (by omega)) c_35)) (fun _ => ?_)
          refine lv_aload_n hx hb dX3_takeOrder_57 rfl (lv_at hl 0 rfl) ?_
          refine lv_iconst (v := 1) hx hb dX3_takeOrder_58 (by decide) ?_
          refine gh_calli hg (gh_runV (As := [.int 1]) (rest := []) hC hg (t_throwing l V o ad (va_up I 3 0) A F _ hT.1 1) 1 (lw_V q3908 q3910 qs56 q138 q3911) hT.1.1 rfl hd_X3_throwing ⟨Nat.le_of_ble_eq_true rfl, Nat.le_of_ble_eq_true rfl⟩ rfl hl.1 rfl (Nat.le_of_ble_eq_true rfl) dX3_takeOrder_59 ⟨Nat.le_of_ble_eq_true rfl, Nat.le_of_ble_eq_true rfl⟩) (fun r_36 g H locs hg hp => ?_)
          obtain ⟨hp, hpT⟩ := hp
          replace hp : r_36 = 0 := hp
          subst hp
          have hT : tw_W V g0 g o ad (va_up (va_up I 3 0) 3 1) A F := hT.call hpT
          have e9 : c2 (okR x 0 2 ∧ okR y 1 9 ∧ okR u 1 20 ∧ okR v 1 9999 ∧ okR z 1 99) (¬ D = 10) = 1 := by first | rfl | (simp only [c1, c2, c3, if_pos ok_2, if_pos ok_6, if_pos ok_10, if_pos ok_14, if_neg ok_18]; done) | simp [c1, c2, c3, ok_2, ok_6, ok_10, ok_14, ok_18]
          exact gh_reti hC hg hr hlk (⟨fun h9 => absurd (e9.symm.trans h9) (by decide), fun _ => by rw [e9]; exact hT⟩) dX3_takeOrder_62 (Nat.le_of_ble_eq_true rfl) (Nat.le_of_ble_eq_true rfl)
        rw [if_neg ok_14] at hp
        obtain ⟨rfl, hq⟩ := hp
        rw [hq] at hg
        refine lv_if_eq (tgt := 57) hx hb dX3_takeOrder_43 (by decide) (fun _ => ?_) (fun c_37 => (absurd ((nx_eq (show ((0 : Int32)) = nI 0 from rfl) (show ((0 : Int32)) = nI 0 from rfl) (by omega) (by omega)).mpr (by omega)) c_37))
        refine lv_aload_n hx hb dX3_takeOrder_57 rfl (lv_at hl 0 rfl) ?_
        refine lv_iconst (v := 1) hx hb dX3_takeOrder_58 (by decide) ?_
        refine gh_calli hg (gh_runV (As := [.int 1]) (rest := []) hC hg (t_throwing l V o ad (va_up I 3 0) A F _ hT.1 1) 1 (lw_V q3908 q3910 qs56 q138 q3911) hT.1.1 rfl hd_X3_throwing ⟨Nat.le_of_ble_eq_true rfl, Nat.le_of_ble_eq_true rfl⟩ rfl hl.1 rfl (Nat.le_of_ble_eq_true rfl) dX3_takeOrder_59 ⟨Nat.le_of_ble_eq_true rfl, Nat.le_of_ble_eq_true rfl⟩) (fun r_38 g H locs hg hp => ?_)
        obtain ⟨hp, hpT⟩ := hp
        replace hp : r_38 = 0 := hp
        subst hp
        have hT : tw_W V g0 g o ad (va_up (va_up I 3 0) 3 1) A F := hT.call hpT
        have e9 : c2 (okR x 0 2 ∧ okR y 1 9 ∧ okR u 1 20 ∧ okR v 1 9999 ∧ okR z 1 99) (¬ D = 10) = 1 := by first | rfl | (simp only [c1, c2, c3, if_pos ok_2, if_pos ok_6, if_pos ok_10, if_neg ok_14]; done) | simp [c1, c2, c3, ok_2, ok_6, ok_10, ok_14]
        exact gh_reti hC hg hr hlk (⟨fun h9 => absurd (e9.symm.trans h9) (by decide), fun _ => by rw [e9]; exact hT⟩) dX3_takeOrder_62 (Nat.le_of_ble_eq_true rfl) (Nat.le_of_ble_eq_true rfl)
      rw [if_neg ok_10] at hp
      obtain ⟨rfl, hq⟩ := hp
      rw [hq] at hg
      refine lv_if_eq (tgt := 57) hx hb dX3_takeOrder_31 (by decide) (fun _ => ?_) (fun c_39 => (absurd ((nx_eq (show ((0 : Int32)) = nI 0 from rfl) (show ((0 : Int32)) = nI 0 from rfl) (by omega) (by omega)).mpr (by omega)) c_39))
      refine lv_aload_n hx hb dX3_takeOrder_57 rfl (lv_at hl 0 rfl) ?_
      refine lv_iconst (v := 1) hx hb dX3_takeOrder_58 (by decide) ?_
      refine gh_calli hg (gh_runV (As := [.int 1]) (rest := []) hC hg (t_throwing l V o ad (va_up I 3 0) A F _ hT.1 1) 1 (lw_V q3908 q3910 qs56 q138 q3911) hT.1.1 rfl hd_X3_throwing ⟨Nat.le_of_ble_eq_true rfl, Nat.le_of_ble_eq_true rfl⟩ rfl hl.1 rfl (Nat.le_of_ble_eq_true rfl) dX3_takeOrder_59 ⟨Nat.le_of_ble_eq_true rfl, Nat.le_of_ble_eq_true rfl⟩) (fun r_40 g H locs hg hp => ?_)
      obtain ⟨hp, hpT⟩ := hp
      replace hp : r_40 = 0 := hp
      subst hp
      have hT : tw_W V g0 g o ad (va_up (va_up I 3 0) 3 1) A F := hT.call hpT
      have e9 : c2 (okR x 0 2 ∧ okR y 1 9 ∧ okR u 1 20 ∧ okR v 1 9999 ∧ okR z 1 99) (¬ D = 10) = 1 := by first | rfl | (simp only [c1, c2, c3, if_pos ok_2, if_pos ok_6, if_neg ok_10]; done) | simp [c1, c2, c3, ok_2, ok_6, ok_10]
      exact gh_reti hC hg hr hlk (⟨fun h9 => absurd (e9.symm.trans h9) (by decide), fun _ => by rw [e9]; exact hT⟩) dX3_takeOrder_62 (Nat.le_of_ble_eq_true rfl) (Nat.le_of_ble_eq_true rfl)
    rw [if_neg ok_6] at hp
    obtain ⟨rfl, hq⟩ := hp
    rw [hq] at hg
    refine lv_if_eq (tgt := 57) hx hb dX3_takeOrder_21 (by decide) (fun _ => ?_) (fun c_41 => (absurd ((nx_eq (show ((0 : Int32)) = nI 0 from rfl) (show ((0 : Int32)) = nI 0 from rfl) (by omega) (by omega)).mpr (by omega)) c_41))
    refine lv_aload_n hx hb dX3_takeOrder_57 rfl (lv_at hl 0 rfl) ?_
    refine lv_iconst (v := 1) hx hb dX3_takeOrder_58 (by decide) ?_
    refine gh_calli hg (gh_runV (As := [.int 1]) (rest := []) hC hg (t_throwing l V o ad (va_up I 3 0) A F _ hT.1 1) 1 (lw_V q3908 q3910 qs56 q138 q3911) hT.1.1 rfl hd_X3_throwing ⟨Nat.le_of_ble_eq_true rfl, Nat.le_of_ble_eq_true rfl⟩ rfl hl.1 rfl (Nat.le_of_ble_eq_true rfl) dX3_takeOrder_59 ⟨Nat.le_of_ble_eq_true rfl, Nat.le_of_ble_eq_true rfl⟩) (fun r_42 g H locs hg hp => ?_)
    obtain ⟨hp, hpT⟩ := hp
    replace hp : r_42 = 0 := hp
    subst hp
    have hT : tw_W V g0 g o ad (va_up (va_up I 3 0) 3 1) A F := hT.call hpT
    have e9 : c2 (okR x 0 2 ∧ okR y 1 9 ∧ okR u 1 20 ∧ okR v 1 9999 ∧ okR z 1 99) (¬ D = 10) = 1 := by first | rfl | (simp only [c1, c2, c3, if_pos ok_2, if_neg ok_6]; done) | simp [c1, c2, c3, ok_2, ok_6]
    exact gh_reti hC hg hr hlk (⟨fun h9 => absurd (e9.symm.trans h9) (by decide), fun _ => by rw [e9]; exact hT⟩) dX3_takeOrder_62 (Nat.le_of_ble_eq_true rfl) (Nat.le_of_ble_eq_true rfl)
  rw [if_neg ok_2] at hp
  obtain ⟨rfl, hq⟩ := hp
  rw [hq] at hg
  refine lv_if_eq (tgt := 57) hx hb dX3_takeOrder_11 (by decide) (fun _ => ?_) (fun c_43 => (absurd ((nx_eq (show ((0 : Int32)) = nI 0 from rfl) (show ((0 : Int32)) = nI 0 from rfl) (by omega) (by omega)).mpr (by omega)) c_43))
  refine lv_aload_n hx hb dX3_takeOrder_57 rfl (lv_at hl 0 rfl) ?_
  refine lv_iconst (v := 1) hx hb dX3_takeOrder_58 (by decide) ?_
  refine gh_calli hg (gh_runV (As := [.int 1]) (rest := []) hC hg (t_throwing l V o ad (va_up I 3 0) A F _ hT.1 1) 1 (lw_V q3908 q3910 qs56 q138 q3911) hT.1.1 rfl hd_X3_throwing ⟨Nat.le_of_ble_eq_true rfl, Nat.le_of_ble_eq_true rfl⟩ rfl hl.1 rfl (Nat.le_of_ble_eq_true rfl) dX3_takeOrder_59 ⟨Nat.le_of_ble_eq_true rfl, Nat.le_of_ble_eq_true rfl⟩) (fun r_44 g H locs hg hp => ?_)
  obtain ⟨hp, hpT⟩ := hp
  replace hp : r_44 = 0 := hp
  subst hp
  have hT : tw_W V g0 g o ad (va_up (va_up I 3 0) 3 1) A F := hT.call hpT
  have e9 : c2 (okR x 0 2 ∧ okR y 1 9 ∧ okR u 1 20 ∧ okR v 1 9999 ∧ okR z 1 99) (¬ D = 10) = 1 := by first | rfl | (simp only [c1, c2, c3, if_neg ok_2]; done) | simp [c1, c2, c3, ok_2]
  exact gh_reti hC hg hr hlk (⟨fun h9 => absurd (e9.symm.trans h9) (by decide), fun _ => by rw [e9]; exact hT⟩) dX3_takeOrder_62 (Nat.le_of_ble_eq_true rfl) (Nat.le_of_ble_eq_true rfl)
set_option maxHeartbeats 1000000 in
set_option maxRecDepth 100000 in
theorem t_plan (l : Launch) (V : gh_V) (o : Nat) (ad : Nat → Nat) (I : Nat → Int32) (A : Nat → Nat → Int32) (F : Nat → Nat → UInt32) (g0 : gh_G) (hP : tw_P V g0 o ad I A F) (x y z : Int32) (K P : Nat) (hKn : I 0 = nI K) (hK5 : K ≤ 5) (hPn : A 0 529 = nI P) (hP16 : P ≤ 16) : MI l yX3_plan cX3_plan 7 (some .int) ({ frames := 2, cells := 0, slots := 0, locals := 43 } : Room) V [.ref o, .int x, .int y, .int z] g0 (fun r g1 => (c3 (okL y 8) (okR x 1 9999 ∧ okR z (-1) 3) (¬ x ≤ A 0 0 ∧ (z = -1 ∨ ¬ planAt (A 0) x y P = -1 ∨ ¬ P = 16)) = 0 → r = plannedN (A 0) x y P ∧ tw_W V g0 g1 o ad (svI (va_up I 3 0) K) (va_up (svA A K) 0 (planS (A 0) x y z P)) (svF F K)) ∧ (¬ c3 (okL y 8) (okR x 1 9999 ∧ okR z (-1) 3) (¬ x ≤ A 0 0 ∧ (z = -1 ∨ ¬ planAt (A 0) x y P = -1 ∨ ¬ P = 16)) = 0 → tw_W V g0 g1 o ad (va_up I 3 (c3 (okL y 8) (okR x 1 9999 ∧ okR z (-1) 3) (¬ x ≤ A 0 0 ∧ (z = -1 ∨ ¬ planAt (A 0) x y P = -1 ∨ ¬ P = 16)))) A F)) := by
  refine MG.of RX3 (by decide) rfl (Nat.le_of_ble_eq_true rfl) (fun pp ee s mm args below meth c ls hC hg hr hlk hnm hl => ?_)
  have hx := hC.1.1
  have hb := hC.1.2.1
  have hml := hC.1.2.2.1
  have hown := hC.1.2.2.2.1
  have hts := hC.1.2.2.2.2
  have hl : lv_has ls 7 [(0, .ref o), (1, .int x), (2, .int y), (3, .int z)] := hl
  have hT := hP.W
  refine lv_aload_n hx hb dX3_plan_0 rfl (lv_at hl 0 rfl) ?_
  refine lv_iload_n hx hb dX3_plan_1 rfl (lv_at hl 2 rfl) ?_
  refine gh_calli hg (gh_runV (As := [.int y]) (rest := []) hC hg (t_isZone l V o ad I A F _ hT.1 y) 1 (lw_V q3901 q3903 qs55 q138 q3904) hT.1.1 rfl hd_X3_isZone ⟨Nat.le_of_ble_eq_true rfl, Nat.le_of_ble_eq_true rfl⟩ rfl hl.1 rfl (Nat.le_of_ble_eq_true rfl) dX3_plan_2 ⟨Nat.le_of_ble_eq_true rfl, Nat.le_of_ble_eq_true rfl⟩) (fun r_1 g H locs hg hp => ?_)
  replace hp : r_1 = (if okL y 8 then 1 else 0) ∧ tw_W V _ g o ad (va_up I 3 (if okL y 8 then 0 else 1)) A F := hp
  by_cases ok_2 : okL y 8
  · rw [if_pos ok_2, if_pos ok_2] at hp
    obtain ⟨rfl, hp⟩ := hp
    have hT : tw_W V g0 g o ad (va_up I 3 0) A F := hT.call hp
    obtain ⟨h_3a, h_3⟩ := okL_cl (by omega) ok_2
    refine lv_if_ne (tgt := 10) hx hb dX3_plan_5 (by decide) (fun _ => ?_) (fun c_4 => (absurd ((nx_eq (show ((1 : Int32)) = nI 1 from rfl) (show ((0 : Int32)) = nI 0 from rfl) (by omega) (by omega)).mp c_4) (by omega)))
    refine lv_iload_n hx hb dX3_plan_10 rfl (lv_at hl 1 rfl) ?_
    refine lv_iconst (v := 1) hx hb dX3_plan_11 (by decide) ?_
    refine lv_sipush (v := 9999) hx hb dX3_plan_12 (by decide) ?_
    refine gh_calli hg (gh_runS (As := [.int x, .int 1, .int 9999]) (rest := []) hC hg (t_in l V _ x 1 9999) 3 (lw_S q3905 q3906 q138 q3907) hd_X3_in.2 ⟨Nat.le_of_ble_eq_true rfl, Nat.le_of_ble_eq_true rfl⟩ rfl hl.1 rfl (Nat.le_of_ble_eq_true rfl) dX3_plan_15 ⟨Nat.le_of_ble_eq_true rfl, Nat.le_of_ble_eq_true rfl⟩) (fun r_5 g H locs hg hp => ?_)
    replace hp : r_5 = (if okR x 1 9999 then 1 else 0) ∧ g = _ := hp
    by_cases ok_6 : okR x 1 9999
    · rw [if_pos ok_6] at hp
      obtain ⟨rfl, hq⟩ := hp
      rw [hq] at hg
      obtain ⟨h_7a, h_7b, h_7⟩ := okR_cl (show ((1 : Int32)) = nI 1 from rfl) (show ((9999 : Int32)) = nI 9999 from rfl) (by omega) (by omega) ok_6
      refine lv_if_eq (tgt := 30) hx hb dX3_plan_18 (by decide) (fun c_8 => (absurd ((nx_eq (show ((1 : Int32)) = nI 1 from rfl) (show ((0 : Int32)) = nI 0 from rfl) (by omega) (by omega)).mp c_8) (by omega))) (fun _ => ?_)
      refine lv_iload_n hx hb dX3_plan_21 rfl (lv_at hl 3 rfl) ?_
      refine lv_iconst (v := (-1)) hx hb dX3_plan_22 (by decide) ?_
      refine lv_iconst (v := 3) hx hb dX3_plan_23 (by decide) ?_
      refine gh_calli hg (gh_runS (As := [.int z, .int (-1), .int 3]) (rest := []) hC hg (t_in l V _ z (-1) 3) 3 (lw_S q3905 q3906 q138 q3907) hd_X3_in.2 ⟨Nat.le_of_ble_eq_true rfl, Nat.le_of_ble_eq_true rfl⟩ rfl hl.1 rfl (Nat.le_of_ble_eq_true rfl) dX3_plan_24 ⟨Nat.le_of_ble_eq_true rfl, Nat.le_of_ble_eq_true rfl⟩) (fun r_9 g H locs hg hp => ?_)
      replace hp : r_9 = (if okR z (-1) 3 then 1 else 0) ∧ g = _ := hp
      by_cases ok_10 : okR z (-1) 3
      · rw [if_pos ok_10] at hp
        obtain ⟨rfl, hq⟩ := hp
        rw [hq] at hg
        refine lv_if_ne (tgt := 36) hx hb dX3_plan_27 (by decide) (fun _ => ?_) (fun c_11 => (absurd ((nx_eq (show ((1 : Int32)) = nI 1 from rfl) (show ((0 : Int32)) = nI 0 from rfl) (by omega) (by omega)).mp c_11) (by omega)))
        refine lv_aload_n hx hb dX3_plan_36 rfl (lv_at hl 0 rfl) ?_
        refine lv_iload_n hx hb dX3_plan_37 rfl (lv_at hl 1 rfl) ?_
        refine lv_iload_n hx hb dX3_plan_38 rfl (lv_at hl 2 rfl) ?_
        refine gh_calli hg (gh_runV (As := [.int x, .int y]) (rest := []) hC hg (t_planOf l V o ad (va_up I 3 0) A F _ hT.1 x y P hPn hP16) 2 (lw_V q4008 q4010 qs73 q138 q4011) hT.1.1 rfl hd_X3_planOf ⟨Nat.le_of_ble_eq_true rfl, Nat.le_of_ble_eq_true rfl⟩ rfl hl.1 rfl (Nat.le_of_ble_eq_true rfl) dX3_plan_39 ⟨Nat.le_of_ble_eq_true rfl, Nat.le_of_ble_eq_true rfl⟩) (fun r_12 g H locs hg hp => ?_)
        obtain ⟨hp, hpT⟩ := hp
        replace hp : r_12 = (planAt (A 0) x y P) := hp
        subst hp
        have hT : tw_W V g0 g o ad (va_up I 3 0) A F := hT.call hpT
        rcases planAt_two (A 0) x y P with ⟨pl_13a, pl_13b⟩ | ⟨pl_13j, pl_13h, pl_13a, pl_13b⟩
        · skip
          refine W.eq (g2 := F0 mm 42 ls [.int (-1)]) (by rw [pl_13a] <;> rfl) ?_
          refine lv_istore (lv' := [(4, .int (-1)), (0, .ref o), (1, .int x), (2, .int y), (3, .int z)]) hx hb dX3_plan_42 hl (by decide) rfl (fun ls hl => ?_)
          refine lv_iload_n hx hb dX3_plan_44 rfl (lv_at hl 2 rfl) ?_
          refine lv_aload_n hx hb dX3_plan_45 rfl (lv_at hl 1 rfl) ?_
          refine gh_get (v := .ref (ad 0)) hC hg hT.1.1 fX3_7_0 rfl dX3_plan_46 ?_
          refine lv_iconst (v := 0) hx hb dX3_plan_49 (by decide) ?_
          refine gh_iald (n := 578) (f := (A 0)) hC hg (hT.1.2.1 0 (by decide)) (show ((0 : Int32)) = nI 0 from rfl) (by omega) (by omega) dX3_plan_50 ?_
          refine lv_icmp_le (tgt := 78) hx hb dX3_plan_51 (by decide) (fun c_14 => ?_) (fun c_14 => ?_)
          · skip
            refine lv_aload_n hx hb dX3_plan_78 rfl (lv_at hl 1 rfl) ?_
            refine lv_iconst (v := 3) hx hb dX3_plan_79 (by decide) ?_
            refine gh_calli hg (gh_runV (As := [.int 3]) (rest := []) hC hg (t_throwing l V o ad (va_up I 3 0) A F _ hT.1 3) 1 (lw_V q3908 q3910 qs56 q138 q3911) hT.1.1 rfl hd_X3_throwing ⟨Nat.le_of_ble_eq_true rfl, Nat.le_of_ble_eq_true rfl⟩ rfl hl.1 rfl (Nat.le_of_ble_eq_true rfl) dX3_plan_80 ⟨Nat.le_of_ble_eq_true rfl, Nat.le_of_ble_eq_true rfl⟩) (fun r_15 g H locs hg hp => ?_)
            obtain ⟨hp, hpT⟩ := hp
            replace hp : r_15 = 0 := hp
            subst hp
            have hT : tw_W V g0 g o ad (va_up (va_up I 3 0) 3 3) A F := hT.call hpT
            have e9 : c3 (okL y 8) (okR x 1 9999 ∧ okR z (-1) 3) (¬ x ≤ A 0 0 ∧ (z = -1 ∨ ¬ planAt (A 0) x y P = -1 ∨ ¬ P = 16)) = 3 := by rw [c3, if_pos ok_2, if_pos ⟨ok_6, ok_10⟩, if_neg (by rw [pl_13a]; simp [c_14, pl_13a])]
            exact gh_reti hC hg hr hlk (⟨fun h9 => absurd (e9.symm.trans h9) (by decide), fun _ => by rw [e9]; exact hT⟩) dX3_plan_83 (Nat.le_of_ble_eq_true rfl) (Nat.le_of_ble_eq_true rfl)
          refine lv_iload_n hx hb dX3_plan_54 rfl (lv_at hl 4 rfl) ?_
          refine lv_iconst (v := (-1)) hx hb dX3_plan_55 (by decide) ?_
          refine lv_icmp_eq (tgt := 84) hx hb dX3_plan_56 (by decide) (fun c_16 => ?_) (fun c_16 => ?_)
          · skip
            refine lv_aload_n hx hb dX3_plan_84 rfl (lv_at hl 1 rfl) ?_
            refine gh_callv hg (gh_runV (As := []) (rest := []) hC hg (t_save l V o ad (va_up I 3 0) A F _ hT.1 K (by rw [show va_up I 3 0 0 = I 0 from rfl]; exact hKn) hK5) 0 (lw_V q3912 q3914 qs57 q138 q3915) hT.1.1 rfl hd_X3_save ⟨Nat.le_of_ble_eq_true rfl, Nat.le_of_ble_eq_true rfl⟩ rfl hl.1 rfl (Nat.le_of_ble_eq_true rfl) dX3_plan_85 ⟨Nat.le_of_ble_eq_true rfl, Nat.le_of_ble_eq_true rfl⟩) (fun g H locs hg hp => ?_)
            have hT : tw_W V g0 g o ad (svI (va_up I 3 0) K) (svA A K) (svF F K) := hT.call hp
            refine lv_iload hx hb dX3_plan_88 (lv_at hl 0 rfl) ?_
            refine lv_iconst (v := (-1)) hx hb dX3_plan_90 (by decide) ?_
            refine lv_icmp_ne (tgt := 98) hx hb dX3_plan_91 (by decide) (fun c_17 => (absurd rfl c_17)) (fun _ => ?_)
            refine lv_iconst (v := (-1)) hx hb dX3_plan_94 (by decide) ?_
            refine lv_goto (tgt := 107) hx hb dX3_plan_95 (by decide) ?_
            refine lv_istore (lv' := [(5, .int (-1)), (4, .int (-1)), (0, .ref o), (1, .int x), (2, .int y), (3, .int z)]) hx hb dX3_plan_107 hl (by decide) rfl (fun ls hl => ?_)
            refine lv_iload_n hx hb dX3_plan_109 rfl (lv_at hl 5 rfl) ?_
            refine lv_iconst (v := (-1)) hx hb dX3_plan_110 (by decide) ?_
            refine lv_icmp_ne (tgt := 218) hx hb dX3_plan_111 (by decide) (fun c_18 => (absurd c_16 c_18)) (fun _ => ?_)
            refine lv_iload hx hb dX3_plan_114 (lv_at hl 1 rfl) ?_
            refine lv_iconst (v := (-1)) hx hb dX3_plan_116 (by decide) ?_
            refine lv_icmp_eq (tgt := 218) hx hb dX3_plan_117 (by decide) (fun _ => ?_) (fun c_19 => (absurd rfl c_19))
            refine lv_iload_n hx hb dX3_plan_218 rfl (lv_at hl 5 rfl) ?_
            refine lv_iconst (v := (-1)) hx hb dX3_plan_219 (by decide) ?_
            refine lv_icmp_eq (tgt := 300) hx hb dX3_plan_220 (by decide) (fun _ => ?_) (fun c_20 => (absurd c_16 c_20))
            refine lv_iload hx hb dX3_plan_300 (lv_at hl 0 rfl) ?_
            have e9 : c3 (okL y 8) (okR x 1 9999 ∧ okR z (-1) 3) (¬ x ≤ A 0 0 ∧ (z = -1 ∨ ¬ planAt (A 0) x y P = -1 ∨ ¬ P = 16)) = 0 := by rw [c3, if_pos ok_2, if_pos ⟨ok_6, ok_10⟩, if_pos (by rw [pl_13a]; simp [c_14, c_16, pl_13a])]
            exact gh_reti hC hg hr hlk (⟨fun _ => ⟨pl_13b.symm, hT.eqA (by (try simp only [bx_uu]); unfold planS; rw [if_pos c_16, pl_13a, if_pos rfl]; first | rfl | exact (up_self _ _).symm)⟩, fun h9 => absurd e9 h9⟩) dX3_plan_302 (Nat.le_of_ble_eq_true rfl) (Nat.le_of_ble_eq_true rfl)
          refine lv_iload hx hb dX3_plan_59 (lv_at hl 0 rfl) ?_
          refine lv_iconst (v := (-1)) hx hb dX3_plan_61 (by decide) ?_
          refine lv_icmp_ne (tgt := 84) hx hb dX3_plan_62 (by decide) (fun c_21 => (absurd rfl c_21)) (fun _ => ?_)
          refine lv_aload_n hx hb dX3_plan_65 rfl (lv_at hl 1 rfl) ?_
          refine gh_get (v := .ref (ad 0)) hC hg hT.1.1 fX3_7_0 rfl dX3_plan_66 ?_
          refine lv_sipush (v := 529) hx hb dX3_plan_69 (by decide) ?_
          refine gh_iald (n := 578) (f := (A 0)) hC hg (hT.1.2.1 0 (by decide)) (show ((529 : Int32)) = nI 529 from rfl) (by omega) (by omega) dX3_plan_72 ?_
          refine lv_bipush (v := 16) hx hb dX3_plan_73 (by decide) ?_
          refine lv_icmp_ne (tgt := 84) hx hb dX3_plan_75 (by decide) (fun c_22 => ?_) (fun c_22 => ?_)
          · skip
            have c_22 : ¬ P = 16 := fun h9 => c_22 ((nx_eq hPn (show ((16 : Int32)) = nI 16 from rfl) (by omega) (by omega)).mpr h9)
            refine lv_aload_n hx hb dX3_plan_84 rfl (lv_at hl 1 rfl) ?_
            refine gh_callv hg (gh_runV (As := []) (rest := []) hC hg (t_save l V o ad (va_up I 3 0) A F _ hT.1 K (by rw [show va_up I 3 0 0 = I 0 from rfl]; exact hKn) hK5) 0 (lw_V q3912 q3914 qs57 q138 q3915) hT.1.1 rfl hd_X3_save ⟨Nat.le_of_ble_eq_true rfl, Nat.le_of_ble_eq_true rfl⟩ rfl hl.1 rfl (Nat.le_of_ble_eq_true rfl) dX3_plan_85 ⟨Nat.le_of_ble_eq_true rfl, Nat.le_of_ble_eq_true rfl⟩) (fun g H locs hg hp => ?_)
            have hT : tw_W V g0 g o ad (svI (va_up I 3 0) K) (svA A K) (svF F K) := hT.call hp
            refine lv_iload hx hb dX3_plan_88 (lv_at hl 0 rfl) ?_
            refine lv_iconst (v := (-1)) hx hb dX3_plan_90 (by decide) ?_
            refine lv_icmp_ne (tgt := 98) hx hb dX3_plan_91 (by decide) (fun c_23 => (absurd rfl c_23)) (fun _ => ?_)
            refine lv_iconst (v := (-1)) hx hb dX3_plan_94 (by decide) ?_
            refine lv_goto (tgt := 107) hx hb dX3_plan_95 (by decide) ?_
            refine lv_istore (lv' := [(5, .int (-1)), (4, .int (-1)), (0, .ref o), (1, .int x), (2, .int y), (3, .int z)]) hx hb dX3_plan_107 hl (by decide) rfl (fun ls hl => ?_)
            refine lv_iload_n hx hb dX3_plan_109 rfl (lv_at hl 5 rfl) ?_
            refine lv_iconst (v := (-1)) hx hb dX3_plan_110 (by decide) ?_
            refine lv_icmp_ne (tgt := 218) hx hb dX3_plan_111 (by decide) (fun _ => ?_) (fun c_24 => (absurd c_24 c_16))
            refine lv_iload_n hx hb dX3_plan_218 rfl (lv_at hl 5 rfl) ?_
            refine lv_iconst (v := (-1)) hx hb dX3_plan_219 (by decide) ?_
            refine lv_icmp_eq (tgt := 300) hx hb dX3_plan_220 (by decide) (fun c_25 => (absurd c_25 c_16)) (fun _ => ?_)
            refine lv_iload hx hb dX3_plan_223 (lv_at hl 1 rfl) ?_
            refine lv_iconst (v := (-1)) hx hb dX3_plan_225 (by decide) ?_
            refine lv_icmp_ne (tgt := 246) hx hb dX3_plan_226 (by decide) (fun c_26 => (absurd rfl c_26)) (fun _ => ?_)
            refine lv_sipush (v := 530) hx hb dX3_plan_229 (by decide) ?_
            refine lv_iconst (v := 3) hx hb dX3_plan_232 (by decide) ?_
            refine lv_aload_n hx hb dX3_plan_233 rfl (lv_at hl 2 rfl) ?_
            refine gh_get (v := .ref (ad 0)) hC hg hT.1.1 fX3_7_0 rfl dX3_plan_234 ?_
            refine lv_sipush (v := 529) hx hb dX3_plan_237 (by decide) ?_
            refine gh_iald (n := 578) (f := (A 0)) hC hg (hT.1.2.1 0 (by decide)) (show ((529 : Int32)) = nI 529 from rfl) (by omega) (by omega) dX3_plan_240 ?_
            refine lv_imul hx hb dX3_plan_241 ?_
            refine lv_iadd hx hb dX3_plan_242 ?_
            refine lv_goto (tgt := 248) hx hb dX3_plan_243 (by decide) ?_
            refine lv_istore (lv' := [(6, .int (530 + (3 * ((A 0) 529)))), (5, .int (-1)), (4, .int (-1)), (0, .ref o), (1, .int x), (2, .int y), (3, .int z)]) hx hb dX3_plan_248 hl (by decide) rfl (fun ls hl => ?_)
            refine lv_aload_n hx hb dX3_plan_250 rfl (lv_at hl 3 rfl) ?_
            refine gh_get (v := .ref (ad 0)) hC hg hT.1.1 fX3_7_0 rfl dX3_plan_251 ?_
            refine lv_sipush (v := 529) hx hb dX3_plan_254 (by decide) ?_
            refine lv_dup2_11 hx hb dX3_plan_257 rfl rfl ?_
            refine gh_iald (n := 578) (f := (A 0)) hC hg (hT.1.2.1 0 (by decide)) (show ((529 : Int32)) = nI 529 from rfl) (by omega) (by omega) dX3_plan_258 ?_
            refine lv_iload hx hb dX3_plan_259 (lv_at hl 2 rfl) ?_
            refine lv_iconst (v := (-1)) hx hb dX3_plan_261 (by decide) ?_
            refine lv_icmp_ne (tgt := 269) hx hb dX3_plan_262 (by decide) (fun c_27 => (absurd rfl c_27)) (fun _ => ?_)
            refine lv_iconst (v := 1) hx hb dX3_plan_265 (by decide) ?_
            refine lv_goto (tgt := 270) hx hb dX3_plan_266 (by decide) ?_
            refine lv_iadd hx hb dX3_plan_270 ?_
            refine gh_iast (n := 578) (f := (A 0)) hC hg (hT.1.2.1 0 (by decide)) (show ((529 : Int32)) = nI 529 from rfl) (by omega) (by omega) dX3_plan_271 (fun g H locs hg hw hn => ?_)
            have hT : tw_W V g0 g o ad (svI (va_up I 3 0) K) (va_up (svA A K) 0 (upd (A 0) 529 (((A 0) 529) + 1))) (svF F K) := hT.putA 0 (by decide) hw hn
            refine lv_aload_n hx hb dX3_plan_272 rfl (lv_at hl 3 rfl) ?_
            refine gh_get (v := .ref (ad 0)) hC hg hT.1.1 fX3_7_0 rfl dX3_plan_273 ?_
            refine lv_iload hx hb dX3_plan_276 (lv_at hl 0 rfl) ?_
            refine lv_iload_n hx hb dX3_plan_278 rfl (lv_at hl 4 rfl) ?_
            refine gh_iast (n := 578) (f := (upd (A 0) 529 (((A 0) 529) + 1))) hC hg (hT.1.2.1 0 (by decide)) (nx_add (show ((530 : Int32)) = nI 530 from rfl) (nx_mul (show ((3 : Int32)) = nI 3 from rfl) hPn)) (by omega) (by omega) dX3_plan_279 (fun g H locs hg hw hn => ?_)
            have hT : tw_W V g0 g o ad (svI (va_up I 3 0) K) (va_up (va_up (svA A K) 0 (upd (A 0) 529 (((A 0) 529) + 1))) 0 (upd (upd (A 0) 529 (((A 0) 529) + 1)) (530 + (3 * P)) x)) (svF F K) := hT.putA 0 (by decide) hw hn
            refine lv_aload_n hx hb dX3_plan_280 rfl (lv_at hl 3 rfl) ?_
            refine gh_get (v := .ref (ad 0)) hC hg hT.1.1 fX3_7_0 rfl dX3_plan_281 ?_
            refine lv_iload hx hb dX3_plan_284 (lv_at hl 0 rfl) ?_
            refine lv_iconst (v := 1) hx hb dX3_plan_286 (by decide) ?_
            refine lv_iadd hx hb dX3_plan_287 ?_
            refine lv_iload_n hx hb dX3_plan_288 rfl (lv_at hl 5 rfl) ?_
            refine gh_iast (n := 578) (f := (upd (upd (A 0) 529 (((A 0) 529) + 1)) (530 + (3 * P)) x)) hC hg (hT.1.2.1 0 (by decide)) (nx_add (nx_add (show ((530 : Int32)) = nI 530 from rfl) (nx_mul (show ((3 : Int32)) = nI 3 from rfl) hPn)) (show ((1 : Int32)) = nI 1 from rfl)) (by omega) (by omega) dX3_plan_289 (fun g H locs hg hw hn => ?_)
            have hT : tw_W V g0 g o ad (svI (va_up I 3 0) K) (va_up (va_up (va_up (svA A K) 0 (upd (A 0) 529 (((A 0) 529) + 1))) 0 (upd (upd (A 0) 529 (((A 0) 529) + 1)) (530 + (3 * P)) x)) 0 (upd (upd (upd (A 0) 529 (((A 0) 529) + 1)) (530 + (3 * P)) x) ((530 + (3 * P)) + 1) y)) (svF F K) := hT.putA 0 (by decide) hw hn
            refine lv_aload_n hx hb dX3_plan_290 rfl (lv_at hl 3 rfl) ?_
            refine gh_get (v := .ref (ad 0)) hC hg hT.1.1 fX3_7_0 rfl dX3_plan_291 ?_
            refine lv_iload hx hb dX3_plan_294 (lv_at hl 0 rfl) ?_
            refine lv_iconst (v := 2) hx hb dX3_plan_296 (by decide) ?_
            refine lv_iadd hx hb dX3_plan_297 ?_
            refine lv_iload_n hx hb dX3_plan_298 rfl (lv_at hl 6 rfl) ?_
            refine gh_iast (n := 578) (f := (upd (upd (upd (A 0) 529 (((A 0) 529) + 1)) (530 + (3 * P)) x) ((530 + (3 * P)) + 1) y)) hC hg (hT.1.2.1 0 (by decide)) (nx_add (nx_add (show ((530 : Int32)) = nI 530 from rfl) (nx_mul (show ((3 : Int32)) = nI 3 from rfl) hPn)) (show ((2 : Int32)) = nI 2 from rfl)) (by omega) (by omega) dX3_plan_299 (fun g H locs hg hw hn => ?_)
            have hT : tw_W V g0 g o ad (svI (va_up I 3 0) K) (va_up (va_up (va_up (va_up (svA A K) 0 (upd (A 0) 529 (((A 0) 529) + 1))) 0 (upd (upd (A 0) 529 (((A 0) 529) + 1)) (530 + (3 * P)) x)) 0 (upd (upd (upd (A 0) 529 (((A 0) 529) + 1)) (530 + (3 * P)) x) ((530 + (3 * P)) + 1) y)) 0 (upd (upd (upd (upd (A 0) 529 (((A 0) 529) + 1)) (530 + (3 * P)) x) ((530 + (3 * P)) + 1) y) ((530 + (3 * P)) + 2) z)) (svF F K) := hT.putA 0 (by decide) hw hn
            refine lv_iload hx hb dX3_plan_300 (lv_at hl 1 rfl) ?_
            have e9 : c3 (okL y 8) (okR x 1 9999 ∧ okR z (-1) 3) (¬ x ≤ A 0 0 ∧ (z = -1 ∨ ¬ planAt (A 0) x y P = -1 ∨ ¬ P = 16)) = 0 := by rw [c3, if_pos ok_2, if_pos ⟨ok_6, ok_10⟩, if_pos (by rw [pl_13a]; simp [c_14, c_16, c_22, pl_13a])]
            exact gh_reti hC hg hr hlk (⟨fun _ => ⟨pl_13b.symm, hT.eqA (by (try simp only [bx_uu]); unfold planS; rw [if_neg c_16, pl_13a, if_pos rfl]; first | rfl | exact (up_self _ _).symm)⟩, fun h9 => absurd e9 h9⟩) dX3_plan_302 (Nat.le_of_ble_eq_true rfl) (Nat.le_of_ble_eq_true rfl)
          have c_22 : P = 16 := (nx_eq hPn (show ((16 : Int32)) = nI 16 from rfl) (by omega) (by omega)).mp c_22
          refine lv_aload_n hx hb dX3_plan_78 rfl (lv_at hl 1 rfl) ?_
          refine lv_iconst (v := 3) hx hb dX3_plan_79 (by decide) ?_
          refine gh_calli hg (gh_runV (As := [.int 3]) (rest := []) hC hg (t_throwing l V o ad (va_up I 3 0) A F _ hT.1 3) 1 (lw_V q3908 q3910 qs56 q138 q3911) hT.1.1 rfl hd_X3_throwing ⟨Nat.le_of_ble_eq_true rfl, Nat.le_of_ble_eq_true rfl⟩ rfl hl.1 rfl (Nat.le_of_ble_eq_true rfl) dX3_plan_80 ⟨Nat.le_of_ble_eq_true rfl, Nat.le_of_ble_eq_true rfl⟩) (fun r_28 g H locs hg hp => ?_)
          obtain ⟨hp, hpT⟩ := hp
          replace hp : r_28 = 0 := hp
          subst hp
          have hT : tw_W V g0 g o ad (va_up (va_up I 3 0) 3 3) A F := hT.call hpT
          have e9 : c3 (okL y 8) (okR x 1 9999 ∧ okR z (-1) 3) (¬ x ≤ A 0 0 ∧ (z = -1 ∨ ¬ planAt (A 0) x y P = -1 ∨ ¬ P = 16)) = 3 := by rw [c3, if_pos ok_2, if_pos ⟨ok_6, ok_10⟩, if_neg (by rw [pl_13a]; simp [c_14, c_16, c_22, pl_13a])]
          exact gh_reti hC hg hr hlk (⟨fun h9 => absurd (e9.symm.trans h9) (by decide), fun _ => by rw [e9]; exact hT⟩) dX3_plan_83 (Nat.le_of_ble_eq_true rfl) (Nat.le_of_ble_eq_true rfl)
        refine W.eq (g2 := F0 mm 42 ls [.int (nI (530 + 3 * pl_13j))]) (by rw [pl_13a] <;> rfl) ?_
        refine lv_istore (lv' := [(4, .int (nI (530 + 3 * pl_13j))), (0, .ref o), (1, .int x), (2, .int y), (3, .int z)]) hx hb dX3_plan_42 hl (by decide) rfl (fun ls hl => ?_)
        refine lv_iload_n hx hb dX3_plan_44 rfl (lv_at hl 2 rfl) ?_
        refine lv_aload_n hx hb dX3_plan_45 rfl (lv_at hl 1 rfl) ?_
        refine gh_get (v := .ref (ad 0)) hC hg hT.1.1 fX3_7_0 rfl dX3_plan_46 ?_
        refine lv_iconst (v := 0) hx hb dX3_plan_49 (by decide) ?_
        refine gh_iald (n := 578) (f := (A 0)) hC hg (hT.1.2.1 0 (by decide)) (show ((0 : Int32)) = nI 0 from rfl) (by omega) (by omega) dX3_plan_50 ?_
        refine lv_icmp_le (tgt := 78) hx hb dX3_plan_51 (by decide) (fun c_29 => ?_) (fun c_29 => ?_)
        · skip
          refine lv_aload_n hx hb dX3_plan_78 rfl (lv_at hl 1 rfl) ?_
          refine lv_iconst (v := 3) hx hb dX3_plan_79 (by decide) ?_
          refine gh_calli hg (gh_runV (As := [.int 3]) (rest := []) hC hg (t_throwing l V o ad (va_up I 3 0) A F _ hT.1 3) 1 (lw_V q3908 q3910 qs56 q138 q3911) hT.1.1 rfl hd_X3_throwing ⟨Nat.le_of_ble_eq_true rfl, Nat.le_of_ble_eq_true rfl⟩ rfl hl.1 rfl (Nat.le_of_ble_eq_true rfl) dX3_plan_80 ⟨Nat.le_of_ble_eq_true rfl, Nat.le_of_ble_eq_true rfl⟩) (fun r_30 g H locs hg hp => ?_)
          obtain ⟨hp, hpT⟩ := hp
          replace hp : r_30 = 0 := hp
          subst hp
          have hT : tw_W V g0 g o ad (va_up (va_up I 3 0) 3 3) A F := hT.call hpT
          have e9 : c3 (okL y 8) (okR x 1 9999 ∧ okR z (-1) 3) (¬ x ≤ A 0 0 ∧ (z = -1 ∨ ¬ planAt (A 0) x y P = -1 ∨ ¬ P = 16)) = 3 := by rw [c3, if_pos ok_2, if_pos ⟨ok_6, ok_10⟩, if_neg (by rw [pl_13a]; simp [c_29, pl_13a, nI_ne_m1 (n := 530 + 3 * pl_13j) (by omega)])]
          exact gh_reti hC hg hr hlk (⟨fun h9 => absurd (e9.symm.trans h9) (by decide), fun _ => by rw [e9]; exact hT⟩) dX3_plan_83 (Nat.le_of_ble_eq_true rfl) (Nat.le_of_ble_eq_true rfl)
        refine lv_iload_n hx hb dX3_plan_54 rfl (lv_at hl 4 rfl) ?_
        refine lv_iconst (v := (-1)) hx hb dX3_plan_55 (by decide) ?_
        refine lv_icmp_eq (tgt := 84) hx hb dX3_plan_56 (by decide) (fun c_31 => ?_) (fun c_31 => ?_)
        · skip
          refine lv_aload_n hx hb dX3_plan_84 rfl (lv_at hl 1 rfl) ?_
          refine gh_callv hg (gh_runV (As := []) (rest := []) hC hg (t_save l V o ad (va_up I 3 0) A F _ hT.1 K (by rw [show va_up I 3 0 0 = I 0 from rfl]; exact hKn) hK5) 0 (lw_V q3912 q3914 qs57 q138 q3915) hT.1.1 rfl hd_X3_save ⟨Nat.le_of_ble_eq_true rfl, Nat.le_of_ble_eq_true rfl⟩ rfl hl.1 rfl (Nat.le_of_ble_eq_true rfl) dX3_plan_85 ⟨Nat.le_of_ble_eq_true rfl, Nat.le_of_ble_eq_true rfl⟩) (fun g H locs hg hp => ?_)
          have hT : tw_W V g0 g o ad (svI (va_up I 3 0) K) (svA A K) (svF F K) := hT.call hp
          refine lv_iload hx hb dX3_plan_88 (lv_at hl 0 rfl) ?_
          refine lv_iconst (v := (-1)) hx hb dX3_plan_90 (by decide) ?_
          refine lv_icmp_ne (tgt := 98) hx hb dX3_plan_91 (by decide) (fun _ => ?_) (fun c_32 => (absurd c_32 (nI_ne_m1 (by omega))))
          refine lv_aload_n hx hb dX3_plan_98 rfl (lv_at hl 1 rfl) ?_
          refine gh_get (v := .ref (ad 0)) hC hg hT.1.1 fX3_7_0 rfl dX3_plan_99 ?_
          refine lv_iload hx hb dX3_plan_102 (lv_at hl 0 rfl) ?_
          refine lv_iconst (v := 2) hx hb dX3_plan_104 (by decide) ?_
          refine lv_iadd hx hb dX3_plan_105 ?_
          refine gh_iald (n := 578) (f := (A 0)) hC hg (hT.1.2.1 0 (by decide)) (nx_add rfl (show ((2 : Int32)) = nI 2 from rfl)) (by omega) (by omega) dX3_plan_106 ?_
          refine lv_istore (lv' := [(5, .int ((A 0) ((530 + 3 * pl_13j) + 2))), (4, .int (nI (530 + 3 * pl_13j))), (0, .ref o), (1, .int x), (2, .int y), (3, .int z)]) hx hb dX3_plan_107 hl (by decide) rfl (fun ls hl => ?_)
          refine lv_iload_n hx hb dX3_plan_109 rfl (lv_at hl 5 rfl) ?_
          refine lv_iconst (v := (-1)) hx hb dX3_plan_110 (by decide) ?_
          refine lv_icmp_ne (tgt := 218) hx hb dX3_plan_111 (by decide) (fun c_33 => (absurd c_31 c_33)) (fun _ => ?_)
          refine lv_iload hx hb dX3_plan_114 (lv_at hl 1 rfl) ?_
          refine lv_iconst (v := (-1)) hx hb dX3_plan_116 (by decide) ?_
          refine lv_icmp_eq (tgt := 218) hx hb dX3_plan_117 (by decide) (fun c_34 => (absurd c_34 (nI_ne_m1 (by omega)))) (fun _ => ?_)
          refine lv_aload_n hx hb dX3_plan_120 rfl (lv_at hl 2 rfl) ?_
          refine gh_get (v := .ref (ad 0)) hC hg hT.1.1 fX3_7_0 rfl dX3_plan_121 ?_
          refine lv_sipush (v := 529) hx hb dX3_plan_124 (by decide) ?_
          refine lv_dup2_11 hx hb dX3_plan_127 rfl rfl ?_
          refine gh_iald (n := 578) (f := (A 0)) hC hg (hT.1.2.1 0 (by decide)) (show ((529 : Int32)) = nI 529 from rfl) (by omega) (by omega) dX3_plan_128 ?_
          refine lv_iconst (v := 1) hx hb dX3_plan_129 (by decide) ?_
          refine lv_isub hx hb dX3_plan_130 ?_
          refine gh_iast (n := 578) (f := (A 0)) hC hg (hT.1.2.1 0 (by decide)) (show ((529 : Int32)) = nI 529 from rfl) (by omega) (by omega) dX3_plan_131 (fun g H locs hg hw hn => ?_)
          have hT : tw_W V g0 g o ad (svI (va_up I 3 0) K) (va_up (svA A K) 0 (upd (A 0) 529 (((A 0) 529) - 1))) (svF F K) := hT.putA 0 (by decide) hw hn
          refine lv_iload hx hb dX3_plan_132 (lv_at hl 1 rfl) ?_
          refine lv_istore (lv' := [(6, .int (nI (530 + 3 * pl_13j))), (5, .int ((A 0) ((530 + 3 * pl_13j) + 2))), (4, .int (nI (530 + 3 * pl_13j))), (0, .ref o), (1, .int x), (2, .int y), (3, .int z)]) hx hb dX3_plan_134 hl (by decide) rfl (fun ls hl => ?_)
          refine gh_loop (N := (530 + 3 * (P - 1) - (530 + 3 * pl_13j))) (X := fun i_35 g ls => tw_W V g0 g o ad (svI (va_up I 3 0) K) (va_up (va_up (svA A K) 0 (upd (A 0) 529 (((A 0) 529) - 1))) 0 (shl (upd (A 0) 529 (((A 0) 529) - 1)) (530 + 3 * pl_13j) i_35)) (svF F K) ∧ lv_has ls 7 [(0, .ref o), (1, .int x), (2, .int y), (3, .int z), (4, .int (nI (530 + 3 * pl_13j))), (5, .int ((A 0) ((530 + 3 * pl_13j) + 2))), (6, .int (nI ((530 + 3 * pl_13j) + i_35)))]) ?_ ?_ 0 (by omega) hg ⟨(hT.eqA (by rw [shl_0, bx_uu])), lv_sub hl [3, 4, 5, 6, 2, 1, 0] rfl⟩
          · intro g H locs ls hg hX
            obtain ⟨hT, hl⟩ := hX
            refine lv_iload hx hb dX3_plan_136 (lv_at hl 6 rfl) ?_
            refine lv_sipush (v := 530) hx hb dX3_plan_138 (by decide) ?_
            refine lv_iconst (v := 3) hx hb dX3_plan_141 (by decide) ?_
            refine lv_aload_n hx hb dX3_plan_142 rfl (lv_at hl 0 rfl) ?_
            refine gh_get (v := .ref (ad 0)) hC hg hT.1.1 fX3_7_0 rfl dX3_plan_143 ?_
            refine lv_sipush (v := 529) hx hb dX3_plan_146 (by decide) ?_
            refine gh_iald (n := 578) (f := (shl (upd (A 0) 529 (((A 0) 529) - 1)) (530 + 3 * pl_13j) (530 + 3 * (P - 1) - (530 + 3 * pl_13j)))) hC hg (hT.1.2.1 0 (by decide)) (show ((529 : Int32)) = nI 529 from rfl) (by omega) (by omega) dX3_plan_149 ?_
            refine lv_imul hx hb dX3_plan_150 ?_
            refine lv_iadd hx hb dX3_plan_151 ?_
            refine lv_icmp_ge (tgt := 177) hx hb dX3_plan_152 (by decide) (fun _ => ?_) (fun c_36 => (absurd ((nx_le (nx_add (show ((530 : Int32)) = nI 530 from rfl) (nx_mul (show ((3 : Int32)) = nI 3 from rfl) (shl_529 (by omega) (upd_529 hPn (by omega))))) rfl (by omega) (by omega)).mpr (by omega)) c_36))
            refine lv_iconst (v := 0) hx hb dX3_plan_177 (by decide) ?_
            refine lv_istore (lv' := [(6, .int 0), (0, .ref o), (1, .int x), (2, .int y), (3, .int z), (4, .int (nI (530 + 3 * pl_13j))), (5, .int ((A 0) ((530 + 3 * pl_13j) + 2)))]) hx hb dX3_plan_178 hl (by decide) rfl (fun ls hl => ?_)
            refine gh_loop (N := 3) (X := fun i_37 g ls => tw_W V g0 g o ad (svI (va_up I 3 0) K) (va_up (va_up (va_up (svA A K) 0 (upd (A 0) 529 (((A 0) 529) - 1))) 0 (shl (upd (A 0) 529 (((A 0) 529) - 1)) (530 + 3 * pl_13j) (530 + 3 * (P - 1) - (530 + 3 * pl_13j)))) 0 (clr (shl (upd (A 0) 529 (((A 0) 529) - 1)) (530 + 3 * pl_13j) (530 + 3 * (P - 1) - (530 + 3 * pl_13j))) (530 + 3 * (P - 1)) i_37)) (svF F K) ∧ lv_has ls 7 [(0, .ref o), (1, .int x), (2, .int y), (3, .int z), (4, .int (nI (530 + 3 * pl_13j))), (5, .int ((A 0) ((530 + 3 * pl_13j) + 2))), (6, .int (nI i_37))]) ?_ ?_ 0 (by omega) hg ⟨(hT.eqA (by rw [clr_0]; first | rfl | (simp only [bx_uu]; done) | (simp only [bx_uu]; rfl))), lv_sub hl [1, 2, 3, 4, 5, 6, 0] rfl⟩
            · intro g H locs ls hg hX
              obtain ⟨hT, hl⟩ := hX
              refine lv_iload hx hb dX3_plan_180 (lv_at hl 6 rfl) ?_
              refine lv_iconst (v := 3) hx hb dX3_plan_182 (by decide) ?_
              refine lv_icmp_ge (tgt := 215) hx hb dX3_plan_183 (by decide) (fun _ => ?_) (fun c_38 => (absurd ((nx_le (show ((3 : Int32)) = nI 3 from rfl) rfl (by omega) (by omega)).mpr (by omega)) c_38))
              refine lv_goto (tgt := 300) hx hb dX3_plan_215 (by decide) ?_
              refine lv_iload hx hb dX3_plan_300 (lv_at hl 5 rfl) ?_
              have e9 : c3 (okL y 8) (okR x 1 9999 ∧ okR z (-1) 3) (¬ x ≤ A 0 0 ∧ (z = -1 ∨ ¬ planAt (A 0) x y P = -1 ∨ ¬ P = 16)) = 0 := by rw [c3, if_pos ok_2, if_pos ⟨ok_6, ok_10⟩, if_pos (by rw [pl_13a]; simp [c_29, c_31, pl_13a, nI_ne_m1 (n := 530 + 3 * pl_13j) (by omega)])]
              exact gh_reti hC hg hr hlk (⟨fun _ => ⟨by rw [pl_13b]; rfl, hT.eqA (by (try simp only [bx_uu]); unfold planS; rw [if_pos c_31, pl_13a, if_neg (nI_ne_m1 (by omega)), nI_clamp (by omega)]; first | rfl | exact (up_self _ _).symm)⟩, fun h9 => absurd e9 h9⟩) dX3_plan_302 (Nat.le_of_ble_eq_true rfl) (Nat.le_of_ble_eq_true rfl)
            · intro i_37 h_39 ih180 g H locs ls hg hX
              obtain ⟨hT, hl⟩ := hX
              refine lv_iload hx hb dX3_plan_180 (lv_at hl 6 rfl) ?_
              refine lv_iconst (v := 3) hx hb dX3_plan_182 (by decide) ?_
              refine lv_icmp_ge (tgt := 215) hx hb dX3_plan_183 (by decide) (fun c_40 => (absurd ((nx_le (show ((3 : Int32)) = nI 3 from rfl) rfl (by omega) (by omega)).mp c_40) (by omega))) (fun _ => ?_)
              refine lv_aload_n hx hb dX3_plan_186 rfl (lv_at hl 0 rfl) ?_
              refine gh_get (v := .ref (ad 0)) hC hg hT.1.1 fX3_7_0 rfl dX3_plan_187 ?_
              refine lv_sipush (v := 530) hx hb dX3_plan_190 (by decide) ?_
              refine lv_iconst (v := 3) hx hb dX3_plan_193 (by decide) ?_
              refine lv_aload_n hx hb dX3_plan_194 rfl (lv_at hl 0 rfl) ?_
              refine gh_get (v := .ref (ad 0)) hC hg hT.1.1 fX3_7_0 rfl dX3_plan_195 ?_
              refine lv_sipush (v := 529) hx hb dX3_plan_198 (by decide) ?_
              refine gh_iald (n := 578) (f := (clr (shl (upd (A 0) 529 (((A 0) 529) - 1)) (530 + 3 * pl_13j) (530 + 3 * (P - 1) - (530 + 3 * pl_13j))) (530 + 3 * (P - 1)) i_37)) hC hg (hT.1.2.1 0 (by decide)) (show ((529 : Int32)) = nI 529 from rfl) (by omega) (by omega) dX3_plan_201 ?_
              refine lv_imul hx hb dX3_plan_202 ?_
              refine lv_iadd hx hb dX3_plan_203 ?_
              refine lv_iload hx hb dX3_plan_204 (lv_at hl 6 rfl) ?_
              refine lv_iadd hx hb dX3_plan_206 ?_
              refine lv_iconst (v := 0) hx hb dX3_plan_207 (by decide) ?_
              refine gh_iast (n := 578) (f := (clr (shl (upd (A 0) 529 (((A 0) 529) - 1)) (530 + 3 * pl_13j) (530 + 3 * (P - 1) - (530 + 3 * pl_13j))) (530 + 3 * (P - 1)) i_37)) hC hg (hT.1.2.1 0 (by decide)) (nx_add (nx_add (show ((530 : Int32)) = nI 530 from rfl) (nx_mul (show ((3 : Int32)) = nI 3 from rfl) (clr_529 (by omega) (shl_529 (by omega) (upd_529 hPn (by omega)))))) rfl) (by omega) (by omega) dX3_plan_208 (fun g H locs hg hw hn => ?_)
              have hT : tw_W V g0 g o ad (svI (va_up I 3 0) K) (va_up (va_up (va_up (va_up (svA A K) 0 (upd (A 0) 529 (((A 0) 529) - 1))) 0 (shl (upd (A 0) 529 (((A 0) 529) - 1)) (530 + 3 * pl_13j) (530 + 3 * (P - 1) - (530 + 3 * pl_13j)))) 0 (clr (shl (upd (A 0) 529 (((A 0) 529) - 1)) (530 + 3 * pl_13j) (530 + 3 * (P - 1) - (530 + 3 * pl_13j))) (530 + 3 * (P - 1)) i_37)) 0 (upd (clr (shl (upd (A 0) 529 (((A 0) 529) - 1)) (530 + 3 * pl_13j) (530 + 3 * (P - 1) - (530 + 3 * pl_13j))) (530 + 3 * (P - 1)) i_37) ((530 + (3 * (P - 1))) + i_37) 0)) (svF F K) := hT.putA 0 (by decide) hw hn
              refine lv_iinc (v := (nI (i_37 + 1))) (lv' := [(6, .int (nI (i_37 + 1))), (0, .ref o), (1, .int x), (2, .int y), (3, .int z), (4, .int (nI (530 + 3 * pl_13j))), (5, .int ((A 0) ((530 + 3 * pl_13j) + 2)))]) hx hb dX3_plan_209 hl (k := 6) rfl (nx_iinc rfl) (by decide) rfl (fun ls hl => ?_)
              refine lv_goto (tgt := 180) hx hb dX3_plan_212 (by decide) ?_
              exact ih180 _ _ _ _ hg ⟨(hT.eqA (by rw [bx_uu]; exact congrArg (va_up _ _) (clr_s _ _ _))), lv_sub hl [1, 2, 3, 4, 5, 6, 0] rfl⟩
          · intro i_35 h_41 ih136 g H locs ls hg hX
            obtain ⟨hT, hl⟩ := hX
            refine lv_iload hx hb dX3_plan_136 (lv_at hl 6 rfl) ?_
            refine lv_sipush (v := 530) hx hb dX3_plan_138 (by decide) ?_
            refine lv_iconst (v := 3) hx hb dX3_plan_141 (by decide) ?_
            refine lv_aload_n hx hb dX3_plan_142 rfl (lv_at hl 0 rfl) ?_
            refine gh_get (v := .ref (ad 0)) hC hg hT.1.1 fX3_7_0 rfl dX3_plan_143 ?_
            refine lv_sipush (v := 529) hx hb dX3_plan_146 (by decide) ?_
            refine gh_iald (n := 578) (f := (shl (upd (A 0) 529 (((A 0) 529) - 1)) (530 + 3 * pl_13j) i_35)) hC hg (hT.1.2.1 0 (by decide)) (show ((529 : Int32)) = nI 529 from rfl) (by omega) (by omega) dX3_plan_149 ?_
            refine lv_imul hx hb dX3_plan_150 ?_
            refine lv_iadd hx hb dX3_plan_151 ?_
            refine lv_icmp_ge (tgt := 177) hx hb dX3_plan_152 (by decide) (fun c_42 => (absurd ((nx_le (nx_add (show ((530 : Int32)) = nI 530 from rfl) (nx_mul (show ((3 : Int32)) = nI 3 from rfl) (shl_529 (by omega) (upd_529 hPn (by omega))))) rfl (by omega) (by omega)).mp c_42) (by omega))) (fun _ => ?_)
            refine lv_aload_n hx hb dX3_plan_155 rfl (lv_at hl 0 rfl) ?_
            refine gh_get (v := .ref (ad 0)) hC hg hT.1.1 fX3_7_0 rfl dX3_plan_156 ?_
            refine lv_iload hx hb dX3_plan_159 (lv_at hl 6 rfl) ?_
            refine lv_aload_n hx hb dX3_plan_161 rfl (lv_at hl 0 rfl) ?_
            refine gh_get (v := .ref (ad 0)) hC hg hT.1.1 fX3_7_0 rfl dX3_plan_162 ?_
            refine lv_iload hx hb dX3_plan_165 (lv_at hl 6 rfl) ?_
            refine lv_iconst (v := 3) hx hb dX3_plan_167 (by decide) ?_
            refine lv_iadd hx hb dX3_plan_168 ?_
            refine gh_iald (n := 578) (f := (shl (upd (A 0) 529 (((A 0) 529) - 1)) (530 + 3 * pl_13j) i_35)) hC hg (hT.1.2.1 0 (by decide)) (nx_add rfl (show ((3 : Int32)) = nI 3 from rfl)) (by omega) (by omega) dX3_plan_169 ?_
            refine gh_iast (n := 578) (f := (shl (upd (A 0) 529 (((A 0) 529) - 1)) (530 + 3 * pl_13j) i_35)) hC hg (hT.1.2.1 0 (by decide)) rfl (by omega) (by omega) dX3_plan_170 (fun g H locs hg hw hn => ?_)
            have hT : tw_W V g0 g o ad (svI (va_up I 3 0) K) (va_up (va_up (va_up (svA A K) 0 (upd (A 0) 529 (((A 0) 529) - 1))) 0 (shl (upd (A 0) 529 (((A 0) 529) - 1)) (530 + 3 * pl_13j) i_35)) 0 (upd (shl (upd (A 0) 529 (((A 0) 529) - 1)) (530 + 3 * pl_13j) i_35) ((530 + 3 * pl_13j) + i_35) ((shl (upd (A 0) 529 (((A 0) 529) - 1)) (530 + 3 * pl_13j) i_35) (((530 + 3 * pl_13j) + i_35) + 3)))) (svF F K) := hT.putA 0 (by decide) hw hn
            refine lv_iinc (v := (nI (((530 + 3 * pl_13j) + i_35) + 1))) (lv' := [(6, .int (nI (((530 + 3 * pl_13j) + i_35) + 1))), (0, .ref o), (1, .int x), (2, .int y), (3, .int z), (4, .int (nI (530 + 3 * pl_13j))), (5, .int ((A 0) ((530 + 3 * pl_13j) + 2)))]) hx hb dX3_plan_171 hl (k := 6) rfl (nx_iinc rfl) (by decide) rfl (fun ls hl => ?_)
            refine lv_goto (tgt := 136) hx hb dX3_plan_174 (by decide) ?_
            exact ih136 _ _ _ _ hg ⟨(hT.eqA (by rw [bx_uu]; exact congrArg (va_up _ _) (shl_s _ _ _))), lv_sub hl [1, 2, 3, 4, 5, 6, 0] rfl⟩
        refine lv_iload hx hb dX3_plan_59 (lv_at hl 0 rfl) ?_
        refine lv_iconst (v := (-1)) hx hb dX3_plan_61 (by decide) ?_
        refine lv_icmp_ne (tgt := 84) hx hb dX3_plan_62 (by decide) (fun _ => ?_) (fun c_43 => (absurd c_43 (nI_ne_m1 (by omega))))
        refine lv_aload_n hx hb dX3_plan_84 rfl (lv_at hl 1 rfl) ?_
        refine gh_callv hg (gh_runV (As := []) (rest := []) hC hg (t_save l V o ad (va_up I 3 0) A F _ hT.1 K (by rw [show va_up I 3 0 0 = I 0 from rfl]; exact hKn) hK5) 0 (lw_V q3912 q3914 qs57 q138 q3915) hT.1.1 rfl hd_X3_save ⟨Nat.le_of_ble_eq_true rfl, Nat.le_of_ble_eq_true rfl⟩ rfl hl.1 rfl (Nat.le_of_ble_eq_true rfl) dX3_plan_85 ⟨Nat.le_of_ble_eq_true rfl, Nat.le_of_ble_eq_true rfl⟩) (fun g H locs hg hp => ?_)
        have hT : tw_W V g0 g o ad (svI (va_up I 3 0) K) (svA A K) (svF F K) := hT.call hp
        refine lv_iload hx hb dX3_plan_88 (lv_at hl 0 rfl) ?_
        refine lv_iconst (v := (-1)) hx hb dX3_plan_90 (by decide) ?_
        refine lv_icmp_ne (tgt := 98) hx hb dX3_plan_91 (by decide) (fun _ => ?_) (fun c_44 => (absurd c_44 (nI_ne_m1 (by omega))))
        refine lv_aload_n hx hb dX3_plan_98 rfl (lv_at hl 1 rfl) ?_
        refine gh_get (v := .ref (ad 0)) hC hg hT.1.1 fX3_7_0 rfl dX3_plan_99 ?_
        refine lv_iload hx hb dX3_plan_102 (lv_at hl 0 rfl) ?_
        refine lv_iconst (v := 2) hx hb dX3_plan_104 (by decide) ?_
        refine lv_iadd hx hb dX3_plan_105 ?_
        refine gh_iald (n := 578) (f := (A 0)) hC hg (hT.1.2.1 0 (by decide)) (nx_add rfl (show ((2 : Int32)) = nI 2 from rfl)) (by omega) (by omega) dX3_plan_106 ?_
        refine lv_istore (lv' := [(5, .int ((A 0) ((530 + 3 * pl_13j) + 2))), (4, .int (nI (530 + 3 * pl_13j))), (0, .ref o), (1, .int x), (2, .int y), (3, .int z)]) hx hb dX3_plan_107 hl (by decide) rfl (fun ls hl => ?_)
        refine lv_iload_n hx hb dX3_plan_109 rfl (lv_at hl 5 rfl) ?_
        refine lv_iconst (v := (-1)) hx hb dX3_plan_110 (by decide) ?_
        refine lv_icmp_ne (tgt := 218) hx hb dX3_plan_111 (by decide) (fun _ => ?_) (fun c_45 => (absurd c_45 c_31))
        refine lv_iload_n hx hb dX3_plan_218 rfl (lv_at hl 5 rfl) ?_
        refine lv_iconst (v := (-1)) hx hb dX3_plan_219 (by decide) ?_
        refine lv_icmp_eq (tgt := 300) hx hb dX3_plan_220 (by decide) (fun c_46 => (absurd c_46 c_31)) (fun _ => ?_)
        refine lv_iload hx hb dX3_plan_223 (lv_at hl 1 rfl) ?_
        refine lv_iconst (v := (-1)) hx hb dX3_plan_225 (by decide) ?_
        refine lv_icmp_ne (tgt := 246) hx hb dX3_plan_226 (by decide) (fun _ => ?_) (fun c_47 => (absurd c_47 (nI_ne_m1 (by omega))))
        refine lv_iload hx hb dX3_plan_246 (lv_at hl 1 rfl) ?_
        refine lv_istore (lv' := [(6, .int (nI (530 + 3 * pl_13j))), (5, .int ((A 0) ((530 + 3 * pl_13j) + 2))), (4, .int (nI (530 + 3 * pl_13j))), (0, .ref o), (1, .int x), (2, .int y), (3, .int z)]) hx hb dX3_plan_248 hl (by decide) rfl (fun ls hl => ?_)
        refine lv_aload_n hx hb dX3_plan_250 rfl (lv_at hl 3 rfl) ?_
        refine gh_get (v := .ref (ad 0)) hC hg hT.1.1 fX3_7_0 rfl dX3_plan_251 ?_
        refine lv_sipush (v := 529) hx hb dX3_plan_254 (by decide) ?_
        refine lv_dup2_11 hx hb dX3_plan_257 rfl rfl ?_
        refine gh_iald (n := 578) (f := (A 0)) hC hg (hT.1.2.1 0 (by decide)) (show ((529 : Int32)) = nI 529 from rfl) (by omega) (by omega) dX3_plan_258 ?_
        refine lv_iload hx hb dX3_plan_259 (lv_at hl 2 rfl) ?_
        refine lv_iconst (v := (-1)) hx hb dX3_plan_261 (by decide) ?_
        refine lv_icmp_ne (tgt := 269) hx hb dX3_plan_262 (by decide) (fun _ => ?_) (fun c_48 => (absurd c_48 (nI_ne_m1 (by omega))))
        refine lv_iconst (v := 0) hx hb dX3_plan_269 (by decide) ?_
        refine lv_iadd hx hb dX3_plan_270 ?_
        refine gh_iast (n := 578) (f := (A 0)) hC hg (hT.1.2.1 0 (by decide)) (show ((529 : Int32)) = nI 529 from rfl) (by omega) (by omega) dX3_plan_271 (fun g H locs hg hw hn => ?_)
        have hT : tw_W V g0 g o ad (svI (va_up I 3 0) K) (va_up (svA A K) 0 (upd (A 0) 529 (((A 0) 529) + 0))) (svF F K) := hT.putA 0 (by decide) hw hn
        refine lv_aload_n hx hb dX3_plan_272 rfl (lv_at hl 3 rfl) ?_
        refine gh_get (v := .ref (ad 0)) hC hg hT.1.1 fX3_7_0 rfl dX3_plan_273 ?_
        refine lv_iload hx hb dX3_plan_276 (lv_at hl 0 rfl) ?_
        refine lv_iload_n hx hb dX3_plan_278 rfl (lv_at hl 4 rfl) ?_
        refine gh_iast (n := 578) (f := (upd (A 0) 529 (((A 0) 529) + 0))) hC hg (hT.1.2.1 0 (by decide)) rfl (by omega) (by omega) dX3_plan_279 (fun g H locs hg hw hn => ?_)
        have hT : tw_W V g0 g o ad (svI (va_up I 3 0) K) (va_up (va_up (svA A K) 0 (upd (A 0) 529 (((A 0) 529) + 0))) 0 (upd (upd (A 0) 529 (((A 0) 529) + 0)) (530 + 3 * pl_13j) x)) (svF F K) := hT.putA 0 (by decide) hw hn
        refine lv_aload_n hx hb dX3_plan_280 rfl (lv_at hl 3 rfl) ?_
        refine gh_get (v := .ref (ad 0)) hC hg hT.1.1 fX3_7_0 rfl dX3_plan_281 ?_
        refine lv_iload hx hb dX3_plan_284 (lv_at hl 0 rfl) ?_
        refine lv_iconst (v := 1) hx hb dX3_plan_286 (by decide) ?_
        refine lv_iadd hx hb dX3_plan_287 ?_
        refine lv_iload_n hx hb dX3_plan_288 rfl (lv_at hl 5 rfl) ?_
        refine gh_iast (n := 578) (f := (upd (upd (A 0) 529 (((A 0) 529) + 0)) (530 + 3 * pl_13j) x)) hC hg (hT.1.2.1 0 (by decide)) (nx_add rfl (show ((1 : Int32)) = nI 1 from rfl)) (by omega) (by omega) dX3_plan_289 (fun g H locs hg hw hn => ?_)
        have hT : tw_W V g0 g o ad (svI (va_up I 3 0) K) (va_up (va_up (va_up (svA A K) 0 (upd (A 0) 529 (((A 0) 529) + 0))) 0 (upd (upd (A 0) 529 (((A 0) 529) + 0)) (530 + 3 * pl_13j) x)) 0 (upd (upd (upd (A 0) 529 (((A 0) 529) + 0)) (530 + 3 * pl_13j) x) ((530 + 3 * pl_13j) + 1) y)) (svF F K) := hT.putA 0 (by decide) hw hn
        refine lv_aload_n hx hb dX3_plan_290 rfl (lv_at hl 3 rfl) ?_
        refine gh_get (v := .ref (ad 0)) hC hg hT.1.1 fX3_7_0 rfl dX3_plan_291 ?_
        refine lv_iload hx hb dX3_plan_294 (lv_at hl 0 rfl) ?_
        refine lv_iconst (v := 2) hx hb dX3_plan_296 (by decide) ?_
        refine lv_iadd hx hb dX3_plan_297 ?_
        refine lv_iload_n hx hb dX3_plan_298 rfl (lv_at hl 6 rfl) ?_
        refine gh_iast (n := 578) (f := (upd (upd (upd (A 0) 529 (((A 0) 529) + 0)) (530 + 3 * pl_13j) x) ((530 + 3 * pl_13j) + 1) y)) hC hg (hT.1.2.1 0 (by decide)) (nx_add rfl (show ((2 : Int32)) = nI 2 from rfl)) (by omega) (by omega) dX3_plan_299 (fun g H locs hg hw hn => ?_)
        have hT : tw_W V g0 g o ad (svI (va_up I 3 0) K) (va_up (va_up (va_up (va_up (svA A K) 0 (upd (A 0) 529 (((A 0) 529) + 0))) 0 (upd (upd (A 0) 529 (((A 0) 529) + 0)) (530 + 3 * pl_13j) x)) 0 (upd (upd (upd (A 0) 529 (((A 0) 529) + 0)) (530 + 3 * pl_13j) x) ((530 + 3 * pl_13j) + 1) y)) 0 (upd (upd (upd (upd (A 0) 529 (((A 0) 529) + 0)) (530 + 3 * pl_13j) x) ((530 + 3 * pl_13j) + 1) y) ((530 + 3 * pl_13j) + 2) z)) (svF F K) := hT.putA 0 (by decide) hw hn
        refine lv_iload hx hb dX3_plan_300 (lv_at hl 1 rfl) ?_
        have e9 : c3 (okL y 8) (okR x 1 9999 ∧ okR z (-1) 3) (¬ x ≤ A 0 0 ∧ (z = -1 ∨ ¬ planAt (A 0) x y P = -1 ∨ ¬ P = 16)) = 0 := by rw [c3, if_pos ok_2, if_pos ⟨ok_6, ok_10⟩, if_pos (by rw [pl_13a]; simp [c_29, c_31, pl_13a, nI_ne_m1 (n := 530 + 3 * pl_13j) (by omega)])]
        exact gh_reti hC hg hr hlk (⟨fun _ => ⟨by rw [pl_13b]; rfl, hT.eqA (by (try simp only [bx_uu]); unfold planS; rw [if_neg c_31, pl_13a, if_neg (nI_ne_m1 (by omega)), nI_clamp (by omega)]; first | rfl | exact (up_self _ _).symm)⟩, fun h9 => absurd e9 h9⟩) dX3_plan_302 (Nat.le_of_ble_eq_true rfl) (Nat.le_of_ble_eq_true rfl)
      rw [if_neg ok_10] at hp
      obtain ⟨rfl, hq⟩ := hp
      rw [hq] at hg
      refine lv_if_ne (tgt := 36) hx hb dX3_plan_27 (by decide) (fun c_49 => (absurd ((nx_eq (show ((0 : Int32)) = nI 0 from rfl) (show ((0 : Int32)) = nI 0 from rfl) (by omega) (by omega)).mpr (by omega)) c_49)) (fun _ => ?_)
      refine lv_aload_n hx hb dX3_plan_30 rfl (lv_at hl 0 rfl) ?_
      refine lv_iconst (v := 2) hx hb dX3_plan_31 (by decide) ?_
      refine gh_calli hg (gh_runV (As := [.int 2]) (rest := []) hC hg (t_throwing l V o ad (va_up I 3 0) A F _ hT.1 2) 1 (lw_V q3908 q3910 qs56 q138 q3911) hT.1.1 rfl hd_X3_throwing ⟨Nat.le_of_ble_eq_true rfl, Nat.le_of_ble_eq_true rfl⟩ rfl hl.1 rfl (Nat.le_of_ble_eq_true rfl) dX3_plan_32 ⟨Nat.le_of_ble_eq_true rfl, Nat.le_of_ble_eq_true rfl⟩) (fun r_50 g H locs hg hp => ?_)
      obtain ⟨hp, hpT⟩ := hp
      replace hp : r_50 = 0 := hp
      subst hp
      have hT : tw_W V g0 g o ad (va_up (va_up I 3 0) 3 2) A F := hT.call hpT
      have e9 : c3 (okL y 8) (okR x 1 9999 ∧ okR z (-1) 3) (¬ x ≤ A 0 0 ∧ (z = -1 ∨ ¬ planAt (A 0) x y P = -1 ∨ ¬ P = 16)) = 2 := by rw [c3, if_pos ok_2, if_neg (fun h9 => ok_10 h9.2)]
      exact gh_reti hC hg hr hlk (⟨fun h9 => absurd (e9.symm.trans h9) (by decide), fun _ => by rw [e9]; exact hT⟩) dX3_plan_35 (Nat.le_of_ble_eq_true rfl) (Nat.le_of_ble_eq_true rfl)
    rw [if_neg ok_6] at hp
    obtain ⟨rfl, hq⟩ := hp
    rw [hq] at hg
    refine lv_if_eq (tgt := 30) hx hb dX3_plan_18 (by decide) (fun _ => ?_) (fun c_51 => (absurd ((nx_eq (show ((0 : Int32)) = nI 0 from rfl) (show ((0 : Int32)) = nI 0 from rfl) (by omega) (by omega)).mpr (by omega)) c_51))
    refine lv_aload_n hx hb dX3_plan_30 rfl (lv_at hl 0 rfl) ?_
    refine lv_iconst (v := 2) hx hb dX3_plan_31 (by decide) ?_
    refine gh_calli hg (gh_runV (As := [.int 2]) (rest := []) hC hg (t_throwing l V o ad (va_up I 3 0) A F _ hT.1 2) 1 (lw_V q3908 q3910 qs56 q138 q3911) hT.1.1 rfl hd_X3_throwing ⟨Nat.le_of_ble_eq_true rfl, Nat.le_of_ble_eq_true rfl⟩ rfl hl.1 rfl (Nat.le_of_ble_eq_true rfl) dX3_plan_32 ⟨Nat.le_of_ble_eq_true rfl, Nat.le_of_ble_eq_true rfl⟩) (fun r_52 g H locs hg hp => ?_)
    obtain ⟨hp, hpT⟩ := hp
    replace hp : r_52 = 0 := hp
    subst hp
    have hT : tw_W V g0 g o ad (va_up (va_up I 3 0) 3 2) A F := hT.call hpT
    have e9 : c3 (okL y 8) (okR x 1 9999 ∧ okR z (-1) 3) (¬ x ≤ A 0 0 ∧ (z = -1 ∨ ¬ planAt (A 0) x y P = -1 ∨ ¬ P = 16)) = 2 := by rw [c3, if_pos ok_2, if_neg (fun h9 => ok_6 h9.1)]
    exact gh_reti hC hg hr hlk (⟨fun h9 => absurd (e9.symm.trans h9) (by decide), fun _ => by rw [e9]; exact hT⟩) dX3_plan_35 (Nat.le_of_ble_eq_true rfl) (Nat.le_of_ble_eq_true rfl)
  rw [if_neg ok_2, if_neg ok_2] at hp
  obtain ⟨rfl, hp⟩ := hp
  have hT : tw_W V g0 g o ad (va_up I 3 1) A F := hT.call hp
  refine lv_if_ne (tgt := 10) hx hb dX3_plan_5 (by decide) (fun c_53 => (absurd ((nx_eq (show ((0 : Int32)) = nI 0 from rfl) (show ((0 : Int32)) = nI 0 from rfl) (by omega) (by omega)).mpr (by omega)) c_53)) (fun _ => ?_)
  refine lv_iconst (v := 0) hx hb dX3_plan_8 (by decide) ?_
  have e9 : c3 (okL y 8) (okR x 1 9999 ∧ okR z (-1) 3) (¬ x ≤ A 0 0 ∧ (z = -1 ∨ ¬ planAt (A 0) x y P = -1 ∨ ¬ P = 16)) = 1 := if_neg ok_2
  exact gh_reti hC hg hr hlk (⟨fun h9 => absurd (e9.symm.trans h9) (by decide), fun _ => by rw [e9]; exact hT⟩) dX3_plan_9 (Nat.le_of_ble_eq_true rfl) (Nat.le_of_ble_eq_true rfl)
