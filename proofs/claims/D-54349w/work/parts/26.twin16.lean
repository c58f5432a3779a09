section
variable {V : gh_V} {g0 g : gh_G} {o : Nat} {ad : Nat → Nat} {I I' : Nat → Int32} {A A' : Nat → Nat → Int32} {F F' : Nat → Nat → UInt32}
theorem tw_W.H (h : tw_W V g0 g o ad I' A' F') (i : I' 0 = I 0 ∧ I' 1 = I 1 ∧ I' 2 = I 2 ∧ I' 3 = I 3) (a : A' 0 = A 0 ∧ A' 1 = A 1 ∧ A' 2 = A 2 ∧ A' 4 = A 4) (f : F' 0 = F 0 ∧ F' 1 = F 1 ∧ F' 2 = F 2) : tw_H V g0 g o ad I A F := by
  refine ⟨I', A', F', h, fun j hj => ?_, a, fun j hj => ?_⟩
  · match j, hj with
    | 0, _ => exact i.1
    | 1, _ => exact i.2.1
    | 2, _ => exact i.2.2.1
    | 3, _ => exact i.2.2.2
  · match j, hj with
    | 0, _ => exact f.1
    | 1, _ => exact f.2.1
    | 2, _ => exact f.2.2
end
theorem runsF_wf {s : Nat → Int32} {st : Nat → UInt32} {L D P : Nat} (h : tw_wf s L D P) (hn : nnS st) (n : Nat) : ∃ P', tw_wf (runsF s st n).1 L D P' ∧ nnS (runsF s st n).2.1 := by
  rw [runsF_eq]; exact runs_wf h hn n
/-! why a piece does not move -/
def why1 (s : Nat → Int32) (p : Nat) (nx : Int32) : Int32 := if pl s p 0 = -1 then 1 else if zn s (p / 3) 2 = 0 then 2 else if ¬ zn s (p / 3) 2 ≤ pl s p 3 + 1 then 3 else if p + 1 = 24 then 0 else if pl s (p + 1) 0 = -1 then (if pl s (p + 1) 4 = 1 then 5 else 0) else if nx = 0 then 0 else 4
def whyU (s : Nat → Int32) : Nat → Int32
  | 0 => why1 s 23 0
  | m + 1 => why1 s (23 - (m + 1)) (whyU s m)
def whyP (s : Nat → Int32) (p : Nat) : Int32 := whyU s (23 - p)
theorem why1_last (s : Nat → Int32) (a b : Int32) : why1 s 23 a = why1 s 23 b := by
  unfold why1
  rw [if_pos (rfl : 23 + 1 = 24), if_pos (rfl : 23 + 1 = 24)]
def wyA (s a : Nat → Int32) (i : Nat) : Nat → Int32 := fun j => if 24 - i ≤ j ∧ j < 24 then whyP s j else a j
theorem wyA_0 (s a : Nat → Int32) : wyA s a 0 = a := by
  funext j; unfold wyA; rw [if_neg (by omega)]
theorem wyA_24 {s a : Nat → Int32} {j : Nat} (h : j < 24) : wyA s a 24 j = whyP s j := if_pos ⟨by omega, h⟩
theorem whyP_s (s a : Nat → Int32) {i : Nat} (hi : i < 24) : whyP s (24 - i - 1) = why1 s (24 - i - 1) (wyA s a i (24 - i - 1 + 1)) := by
  by_cases h0 : i = 0
  · subst h0; exact why1_last s _ _
  · obtain ⟨m, rfl⟩ : ∃ m, i = m + 1 := ⟨i - 1, by omega⟩
    have e1 : wyA s a (m + 1) (24 - (m + 1) - 1 + 1) = whyP s (24 - (m + 1) - 1 + 1) := if_pos ⟨by omega, by omega⟩
    rw [e1]
    unfold whyP
    rw [show 23 - (24 - (m + 1) - 1) = m + 1 by omega, show 23 - (24 - (m + 1) - 1 + 1) = m by omega]
    rw [whyU, show 24 - (m + 1) - 1 = 23 - (m + 1) by omega]
theorem wyA_s {s a : Nat → Int32} {i : Nat} {v : Int32} (hi : i < 24) (hv : why1 s (24 - i - 1) (wyA s a i (24 - i - 1 + 1)) = v) : upd (wyA s a i) (24 - i - 1) v = wyA s a (i + 1) := by
  rw [← whyP_s s a hi] at hv
  funext j
  show (if j = 24 - i - 1 then v else wyA s a i j) = wyA s a (i + 1) j
  unfold wyA
  by_cases hj : j = 24 - i - 1
  · subst hj; rw [if_pos rfl, if_pos ⟨by omega, by omega⟩, hv]
  · rw [if_neg hj]
    by_cases h1 : 24 - i ≤ j ∧ j < 24
    · rw [if_pos h1, if_pos ⟨by omega, h1.2⟩]
    · rw [if_neg h1, if_neg (by omega)]
theorem whyP_23 (s : Nat → Int32) : ¬ whyP s 23 = 4 := by
  show ¬ why1 s 23 0 = 4
  unfold why1
  rw [if_pos (rfl : 23 + 1 = 24)]
  split
  · decide
  · split
    · decide
    · split <;> decide
def hup (s : Nat → Int32) : Nat → Nat → Nat
  | p, 0 => p
  | p, f + 1 => if whyP s p = 4 then hup s (p + 1) f else p
def hupN (s : Nat → Int32) (x : Nat) : Int32 := if ¬ 2 ≤ whyP s x then -1 else if whyP s (hup s x (23 - x)) = 5 then nI (hup s x (23 - x)) + 1 else nI (hup s x (23 - x))
theorem hup_s {s : Nat → Int32} {i : Nat} (hi : i < 23) : hup s i (23 - i) = if whyP s i = 4 then hup s (i + 1) (23 - (i + 1)) else i := by
  rw [show 23 - i = (23 - (i + 1)) + 1 by omega, hup]
noncomputable def motX (s : Nat → Int32) (st : Nat → UInt32) (i k N : Nat) : Int32 := if mot s st i k 0 N < N then nI (mot s st i k 0 N) else -1
noncomputable def motF (s : Nat → Int32) (st : Nat → UInt32) (i k : Nat) : Int32 := motX s st i k 241
theorem motF_eq (s : Nat → Int32) (st : Nat → UInt32) (i k : Nat) {N : Nat} (h : N = 241) : motF s st i k = motX s st i k N := by rw [h]; rfl
theorem mot_s {s : Nat → Int32} {st : Nat → UInt32} {i k n N : Nat} (h : n < N) : mot s st i k n (N - n) = if lt (runs s st n).1 i (5 + k) = 0 then mot s st i k (n + 1) (N - (n + 1)) else n := by
  rw [show N - n = (N - (n + 1)) + 1 by omega, mot]
set_option maxRecDepth 100000
theorem fX3_44_0 : gh_fd RX3 44 0 16 (.array .int) true := gh_fd.own (T := TX3) tyX3 rfl in_X3 tyX3_ok nmX3 (by decide) q3846 rfl rfl (fun h => rfl)
theorem hd_X3_asksWhy : yX3_asksWhy.cls = RX3 ∧ yX3_asksWhy.cls ≠ "java/lang/invoke/MethodHandle" ∧ yX3_asksWhy.cls ≠ "java/lang/invoke/VarHandle" ∧ (parseMethodDescriptor yX3_asksWhy.desc).map (fun d => d.parameters.length) = some 0 := by decide +kernel
theorem hd_X3_keepsAside : yX3_keepsAside.cls = RX3 ∧ yX3_keepsAside.cls ≠ "java/lang/invoke/MethodHandle" ∧ yX3_keepsAside.cls ≠ "java/lang/invoke/VarHandle" ∧ (parseMethodDescriptor yX3_keepsAside.desc).map (fun d => d.parameters.length) = some 0 := by decide +kernel
theorem hd_X3_passes : yX3_passes.cls = RX3 ∧ yX3_passes.cls ≠ "java/lang/invoke/MethodHandle" ∧ yX3_passes.cls ≠ "java/lang/invoke/VarHandle" ∧ (parseMethodDescriptor yX3_passes.desc).map (fun d => d.parameters.length) = some 1 := by decide +kernel
theorem hd_X3_putsBack : yX3_putsBack.cls = RX3 ∧ yX3_putsBack.cls ≠ "java/lang/invoke/MethodHandle" ∧ yX3_putsBack.cls ≠ "java/lang/invoke/VarHandle" ∧ (parseMethodDescriptor yX3_putsBack.desc).map (fun d => d.parameters.length) = some 0 := by decide +kernel
set_option maxHeartbeats 1000000 in
set_option maxRecDepth 100000 in
theorem t_pass (l : Launch) (V : gh_V) (o : Nat) (ad : Nat → Nat) (I : Nat → Int32) (A : Nat → Nat → Int32) (F : Nat → Nat → UInt32) (g0 : gh_G) (hP : tw_P V g0 o ad I A F) (x : Int32) (K : Nat) (L D P : Nat) (hKn : I 0 = nI K) (hK5 : K ≤ 5) (hE : tw_wf (A 0) L D P) (hnn : nnS (F 0)) : MI l yX3_pass cX3_pass 2 (some .int) ({ frames := 7, cells := 0, slots := 0, locals := 163 } : Room) V [.ref o, .int x] g0 (fun r g1 => (c2 (okR x 1 60) (A 0 0 + x ≤ 9999) = 0 → r = (runsF (A 0) (F 0) x.toNatClampNeg).2.2.1 ∧ tw_H V g0 g1 o ad (svI (va_up I 3 0) K) (va_up (svA A K) 0 (runsF (A 0) (F 0) x.toNatClampNeg).1) (va_up (svF F K) 0 (runsF (A 0) (F 0) x.toNatClampNeg).2.1)) ∧ (¬ c2 (okR x 1 60) (A 0 0 + x ≤ 9999) = 0 → tw_W V g0 g1 o ad (va_up I 3 (c2 (okR x 1 60) (A 0 0 + x ≤ 9999))) A F)) := by
  refine MG.of RX3 (by decide) rfl (Nat.le_of_ble_eq_true rfl) (fun pp ee s mm args below meth c ls hC hg hr hlk hnm hl => ?_)
  have hx := hC.1.1
  have hb := hC.1.2.1
  have hml := hC.1.2.2.1
  have hown := hC.1.2.2.2.1
  have hts := hC.1.2.2.2.2
  have hl : lv_has ls 2 [(0, .ref o), (1, .int x)] := hl
  have hT := hP.W
  refine lv_aload_n hx hb dX3_pass_0 rfl (lv_at hl 0 rfl) ?_
  refine lv_iconst (v := 0) hx hb dX3_pass_1 (by decide) ?_
  refine gh_put (v := .int 0) hC hg hT.1.1 fX3_54_0 rfl rfl (Nat.le_of_ble_eq_true rfl) dX3_pass_2 (fun g H locs hg hw hn => ?_)
  have hT : tw_W V g0 g o ad (va_up I 3 0) A F := hT.putI 3 0 hw hn
  refine lv_iload_n hx hb dX3_pass_5 rfl (lv_at hl 1 rfl) ?_
  refine lv_iconst (v := 1) hx hb dX3_pass_6 (by decide) ?_
  refine lv_bipush (v := 60) hx hb dX3_pass_7 (by decide) ?_
  refine gh_calli hg (gh_runS (As := [.int x, .int 1, .int 60]) (rest := []) hC hg (t_in l V _ x 1 60) 3 (lw_S q3905 q3906 q138 q3907) hd_X3_in.2 ⟨Nat.le_of_ble_eq_true rfl, Nat.le_of_ble_eq_true rfl⟩ rfl hl.1 rfl (Nat.le_of_ble_eq_true rfl) dX3_pass_9 ⟨Nat.le_of_ble_eq_true rfl, Nat.le_of_ble_eq_true rfl⟩) (fun r_1 g H locs hg hp => ?_)
  replace hp : r_1 = (if okR x 1 60 then 1 else 0) ∧ g = _ := hp
  by_cases ok_2 : okR x 1 60
  · rw [if_pos ok_2] at hp
    obtain ⟨rfl, hq⟩ := hp
    rw [hq] at hg
    obtain ⟨h_3a, h_3b, h_3⟩ := okR_cl (show ((1 : Int32)) = nI 1 from rfl) (show ((60 : Int32)) = nI 60 from rfl) (by omega) (by omega) ok_2
    refine lv_if_ne (tgt := 21) hx hb dX3_pass_12 (by decide) (fun _ => ?_) (fun c_4 => (absurd ((nx_eq (show ((1 : Int32)) = nI 1 from rfl) (show ((0 : Int32)) = nI 0 from rfl) (by omega) (by omega)).mp c_4) (by omega)))
    refine lv_aload_n hx hb dX3_pass_21 rfl (lv_at hl 0 rfl) ?_
    refine gh_get (v := .ref (ad 0)) hC hg hT.1.1 fX3_7_0 rfl dX3_pass_22 ?_
    refine lv_iconst (v := 0) hx hb dX3_pass_25 (by decide) ?_
    refine gh_iald (n := 578) (f := (A 0)) hC hg (hT.1.2.1 0 (by decide)) (show ((0 : Int32)) = nI 0 from rfl) (by omega) (by omega) dX3_pass_26 ?_
    refine lv_iload_n hx hb dX3_pass_27 rfl (lv_at hl 1 rfl) ?_
    refine lv_iadd hx hb dX3_pass_28 ?_
    refine lv_sipush (v := 9999) hx hb dX3_pass_29 (by decide) ?_
    refine lv_icmp_le (tgt := 41) hx hb dX3_pass_32 (by decide) (fun c_5 => ?_) (fun c_5 => ?_)
    · skip
      refine lv_aload_n hx hb dX3_pass_41 rfl (lv_at hl 0 rfl) ?_
      refine gh_callv hg (gh_runV (As := []) (rest := []) hC hg (t_save l V o ad (va_up I 3 0) A F _ hT.1 K (by rw [show va_up I 3 0 0 = I 0 from rfl]; exact hKn) hK5) 0 (lw_V q3912 q3914 qs57 q138 q3915) hT.1.1 rfl hd_X3_save ⟨Nat.le_of_ble_eq_true rfl, Nat.le_of_ble_eq_true rfl⟩ rfl hl.1 rfl (Nat.le_of_ble_eq_true rfl) dX3_pass_42 ⟨Nat.le_of_ble_eq_true rfl, Nat.le_of_ble_eq_true rfl⟩) (fun g H locs hg hp => ?_)
      have hT : tw_W V g0 g o ad (svI (va_up I 3 0) K) (svA A K) (svF F K) := hT.call hp
      refine lv_aload_n hx hb dX3_pass_45 rfl (lv_at hl 0 rfl) ?_
      refine lv_iload_n hx hb dX3_pass_46 rfl (lv_at hl 1 rfl) ?_
      refine gh_calli hg (gh_runV (As := [.int x]) (rest := []) hC hg (t_passes l V o ad (svI (va_up I 3 0) K) (svA A K) (svF F K) _ hT.1 x ((x).toNatClampNeg) L h_3 (wf_n hE) hnn (by omega)) 1 (lw_V q4016 q4018 qs74 q138 q4019) hT.1.1 rfl hd_X3_passes ⟨Nat.le_of_ble_eq_true rfl, Nat.le_of_ble_eq_true rfl⟩ rfl hl.1 rfl (Nat.le_of_ble_eq_true rfl) dX3_pass_47 ⟨Nat.le_of_ble_eq_true rfl, Nat.le_of_ble_eq_true rfl⟩) (fun r_6 g H locs hg hp => ?_)
      obtain ⟨hp, b5, b6, hpT⟩ := hp
      replace hp : r_6 = (runsF (A 0) (F 0) ((x).toNatClampNeg)).2.2.1 := hp
      subst hp
      have hT : tw_W V g0 g o ad (va_up (svI (va_up I 3 0) K) 4 ((runsF (A 0) (F 0) ((x).toNatClampNeg)).2.2.2)) (va_up (va_up (va_up (svA A K) 5 b5) 6 b6) 0 ((runsF (A 0) (F 0) ((x).toNatClampNeg)).1)) (va_up (svF F K) 0 ((runsF (A 0) (F 0) ((x).toNatClampNeg)).2.1)) := hT.call hpT
      have e9 : c2 (okR x 1 60) (A 0 0 + x ≤ 9999) = 0 := by first | rfl | (simp only [c1, c2, c3, if_pos ok_2, if_pos c_5]; done) | simp [c1, c2, c3, ok_2, c_5]
      exact gh_reti hC hg hr hlk (⟨fun _ => ⟨rfl, hT.H ⟨rfl, rfl, rfl, rfl⟩ ⟨rfl, rfl, rfl, rfl⟩ ⟨rfl, rfl, rfl⟩⟩, fun h9 => absurd e9 h9⟩) dX3_pass_50 (Nat.le_of_ble_eq_true rfl) (Nat.le_of_ble_eq_true rfl)
    refine lv_aload_n hx hb dX3_pass_35 rfl (lv_at hl 0 rfl) ?_
    refine lv_iconst (v := 2) hx hb dX3_pass_36 (by decide) ?_
    refine gh_calli hg (gh_runV (As := [.int 2]) (rest := []) hC hg (t_throwing l V o ad (va_up I 3 0) A F _ hT.1 2) 1 (lw_V q3908 q3910 qs56 q138 q3911) hT.1.1 rfl hd_X3_throwing ⟨Nat.le_of_ble_eq_true rfl, Nat.le_of_ble_eq_true rfl⟩ rfl hl.1 rfl (Nat.le_of_ble_eq_true rfl) dX3_pass_37 ⟨Nat.le_of_ble_eq_true rfl, Nat.le_of_ble_eq_true rfl⟩) (fun r_7 g H locs hg hp => ?_)
    obtain ⟨hp, hpT⟩ := hp
    replace hp : r_7 = 0 := hp
    subst hp
    have hT : tw_W V g0 g o ad (va_up (va_up I 3 0) 3 2) A F := hT.call hpT
    have e9 : c2 (okR x 1 60) (A 0 0 + x ≤ 9999) = 2 := by first | rfl | (simp only [c1, c2, c3, if_pos ok_2, if_neg c_5]; done) | simp [c1, c2, c3, ok_2, c_5]
    exact gh_reti hC hg hr hlk (⟨fun h9 => absurd (e9.symm.trans h9) (by decide), fun _ => by rw [e9]; exact hT⟩) dX3_pass_40 (Nat.le_of_ble_eq_true rfl) (Nat.le_of_ble_eq_true rfl)
  rw [if_neg ok_2] at hp
  obtain ⟨rfl, hq⟩ := hp
  rw [hq] at hg
  refine lv_if_ne (tgt := 21) hx hb dX3_pass_12 (by decide) (fun c_8 => (absurd ((nx_eq (show ((0 : Int32)) = nI 0 from rfl) (show ((0 : Int32)) = nI 0 from rfl) (by omega) (by omega)).mpr (by omega)) c_8)) (fun _ => ?_)
  refine lv_aload_n hx hb dX3_pass_15 rfl (lv_at hl 0 rfl) ?_
  refine lv_iconst (v := 1) hx hb dX3_pass_16 (by decide) ?_
  refine gh_calli hg (gh_runV (As := [.int 1]) (rest := []) hC hg (t_throwing l V o ad (va_up I 3 0) A F _ hT.1 1) 1 (lw_V q3908 q3910 qs56 q138 q3911) hT.1.1 rfl hd_X3_throwing ⟨Nat.le_of_ble_eq_true rfl, Nat.le_of_ble_eq_true rfl⟩ rfl hl.1 rfl (Nat.le_of_ble_eq_true rfl) dX3_pass_17 ⟨Nat.le_of_ble_eq_true rfl, Nat.le_of_ble_eq_true rfl⟩) (fun r_9 g H locs hg hp => ?_)
  obtain ⟨hp, hpT⟩ := hp
  replace hp : r_9 = 0 := hp
  subst hp
  have hT : tw_W V g0 g o ad (va_up (va_up I 3 0) 3 1) A F := hT.call hpT
  have e9 : c2 (okR x 1 60) (A 0 0 + x ≤ 9999) = 1 := by first | rfl | (simp only [c1, c2, c3, if_neg ok_2]; done) | simp [c1, c2, c3, ok_2]
  exact gh_reti hC hg hr hlk (⟨fun h9 => absurd (e9.symm.trans h9) (by decide), fun _ => by rw [e9]; exact hT⟩) dX3_pass_20 (Nat.le_of_ble_eq_true rfl) (Nat.le_of_ble_eq_true rfl)
set_option maxHeartbeats 1000000 in
set_option maxRecDepth 100000 in
theorem t_burningOf (l : Launch) (V : gh_V) (o : Nat) (ad : Nat → Nat) (I : Nat → Int32) (A : Nat → Nat → Int32) (F : Nat → Nat → UInt32) (g0 : gh_G) (hP : tw_P V g0 o ad I A F) (x : Int32) (L D P : Nat) (hE : tw_wf (A 0) L D P) : MI l yX3_burningOf cX3_burningOf 2 (some .int) ({ frames := 2, cells := 0, slots := 0, locals := 44 } : Room) V [.ref o, .int x] g0 (fun r g1 => (c1 (okL x 8) = 0 → r = nI (bn (A 0) x.toNatClampNeg)) ∧ tw_H V g0 g1 o ad (va_up I 3 (c1 (okL x 8))) A F) := by
  refine MG.of RX3 (by decide) rfl (Nat.le_of_ble_eq_true rfl) (fun pp ee s mm args below meth c ls hC hg hr hlk hnm hl => ?_)
  have hx := hC.1.1
  have hb := hC.1.2.1
  have hml := hC.1.2.2.1
  have hown := hC.1.2.2.2.1
  have hts := hC.1.2.2.2.2
  have hl : lv_has ls 2 [(0, .ref o), (1, .int x)] := hl
  have hT := hP.W
  refine lv_aload_n hx hb dX3_burningOf_0 rfl (lv_at hl 0 rfl) ?_
  refine lv_iload_n hx hb dX3_burningOf_1 rfl (lv_at hl 1 rfl) ?_
  refine gh_calli hg (gh_runV (As := [.int x]) (rest := []) hC hg (t_isZone l V o ad I A F _ hT.1 x) 1 (lw_V q3901 q3903 qs55 q138 q3904) hT.1.1 rfl hd_X3_isZone ⟨Nat.le_of_ble_eq_true rfl, Nat.le_of_ble_eq_true rfl⟩ rfl hl.1 rfl (Nat.le_of_ble_eq_true rfl) dX3_burningOf_2 ⟨Nat.le_of_ble_eq_true rfl, Nat.le_of_ble_eq_true rfl⟩) (fun r_1 g H locs hg hp => ?_)
  replace hp : r_1 = (if okL x 8 then 1 else 0) ∧ tw_W V _ g o ad (va_up I 3 (if okL x 8 then 0 else 1)) A F := hp
  by_cases ok_2 : okL x 8
  · rw [if_pos ok_2, if_pos ok_2] at hp
    obtain ⟨rfl, hp⟩ := hp
    have hT : tw_W V g0 g o ad (va_up I 3 0) A F := hT.call hp
    obtain ⟨h_3a, h_3⟩ := okL_cl (by omega) ok_2
    refine lv_if_ne (tgt := 10) hx hb dX3_burningOf_5 (by decide) (fun _ => ?_) (fun c_4 => (absurd ((nx_eq (show ((1 : Int32)) = nI 1 from rfl) (show ((0 : Int32)) = nI 0 from rfl) (by omega) (by omega)).mp c_4) (by omega)))
    refine lv_aload_n hx hb dX3_burningOf_10 rfl (lv_at hl 0 rfl) ?_
    refine gh_callv hg (gh_runV (As := []) (rest := []) hC hg (t_burns l V o ad (va_up I 3 0) A F _ hT.1 L D P hE) 0 (lw_V q4032 q4034 qs78 q138 q4035) hT.1.1 rfl hd_X3_burns ⟨Nat.le_of_ble_eq_true rfl, Nat.le_of_ble_eq_true rfl⟩ rfl hl.1 rfl (Nat.le_of_ble_eq_true rfl) dX3_burningOf_11 ⟨Nat.le_of_ble_eq_true rfl, Nat.le_of_ble_eq_true rfl⟩) (fun g H locs hg hp => ?_)
    have hT : tw_W V g0 g o ad (va_up I 3 0) (va_up A 5 (cpn (fun j => nI (bn (A 0) j)) (A 5) 8)) F := hT.call hp
    refine lv_aload_n hx hb dX3_burningOf_14 rfl (lv_at hl 0 rfl) ?_
    refine gh_get (v := .ref (ad 5)) hC hg hT.1.1 fX3_38_0 rfl dX3_burningOf_15 ?_
    refine lv_iload_n hx hb dX3_burningOf_18 rfl (lv_at hl 1 rfl) ?_
    refine gh_iald (n := 8) (f := (cpn (fun j => nI (bn (A 0) j)) (A 5) 8)) hC hg (hT.1.2.1 5 (by decide)) h_3 (by omega) (by omega) dX3_burningOf_19 ?_
    refine W.eq (g2 := F0 mm 20 ls [.int (nI (bn (A 0) ((x).toNatClampNeg)))]) (by rw [cpn_lt (f := (fun j => nI (bn (A 0) j))) (by omega)] <;> rfl) ?_
    have e9 : c1 (okL x 8) = 0 := by first | rfl | (simp only [c1, c2, c3, if_pos ok_2]; done) | simp [c1, c2, c3, ok_2]
    exact gh_reti hC hg hr hlk (⟨fun h9 => rfl, by rw [e9]; exact hT.H ⟨rfl, rfl, rfl, rfl⟩ ⟨rfl, rfl, rfl, rfl⟩ ⟨rfl, rfl, rfl⟩⟩) dX3_burningOf_20 (Nat.le_of_ble_eq_true rfl) (Nat.le_of_ble_eq_true rfl)
  rw [if_neg ok_2, if_neg ok_2] at hp
  obtain ⟨rfl, hp⟩ := hp
  have hT : tw_W V g0 g o ad (va_up I 3 1) A F := hT.call hp
  refine lv_if_ne (tgt := 10) hx hb dX3_burningOf_5 (by decide) (fun c_5 => (absurd ((nx_eq (show ((0 : Int32)) = nI 0 from rfl) (show ((0 : Int32)) = nI 0 from rfl) (by omega) (by omega)).mpr (by omega)) c_5)) (fun _ => ?_)
  refine lv_iconst (v := 0) hx hb dX3_burningOf_8 (by decide) ?_
  have e9 : c1 (okL x 8) = 1 := by first | rfl | (simp only [c1, c2, c3, if_neg ok_2]; done) | simp [c1, c2, c3, ok_2]
  exact gh_reti hC hg hr hlk (⟨fun h9 => absurd (e9.symm.trans h9) (by decide), by rw [e9]; exact hT.H ⟨rfl, rfl, rfl, rfl⟩ ⟨rfl, rfl, rfl, rfl⟩ ⟨rfl, rfl, rfl⟩⟩) dX3_burningOf_9 (Nat.le_of_ble_eq_true rfl) (Nat.le_of_ble_eq_true rfl)
set_option maxHeartbeats 1000000 in
set_option maxRecDepth 100000 in
theorem t_brokenIn (l : Launch) (V : gh_V) (o : Nat) (ad : Nat → Nat) (I : Nat → Int32) (A : Nat → Nat → Int32) (F : Nat → Nat → UInt32) (g0 : gh_G) (hP : tw_P V g0 o ad I A F) (x : Int32) (L D P : Nat) (hE : tw_wf (A 0) L D P) (hnn : nnS (F 0)) : MI l yX3_brokenIn cX3_brokenIn 3 (some .int) ({ frames := 7, cells := 0, slots := 0, locals := 163 } : Room) V [.ref o, .int x] g0 (fun r g1 => (c1 (okR x 1 120) = 0 → r = (runsF (A 0) (F 0) x.toNatClampNeg).2.2.2) ∧ tw_H V g0 g1 o ad (va_up I 3 (c1 (okR x 1 120))) A F) := by
  refine MG.of RX3 (by decide) rfl (Nat.le_of_ble_eq_true rfl) (fun pp ee s mm args below meth c ls hC hg hr hlk hnm hl => ?_)
  have hx := hC.1.1
  have hb := hC.1.2.1
  have hml := hC.1.2.2.1
  have hown := hC.1.2.2.2.1
  have hts := hC.1.2.2.2.2
  have hl : lv_has ls 3 [(0, .ref o), (1, .int x)] := hl
  have hT := hP.W
  refine lv_aload_n hx hb dX3_brokenIn_0 rfl (lv_at hl 0 rfl) ?_
  refine lv_iconst (v := 0) hx hb dX3_brokenIn_1 (by decide) ?_
  refine gh_put (v := .int 0) hC hg hT.1.1 fX3_54_0 rfl rfl (Nat.le_of_ble_eq_true rfl) dX3_brokenIn_2 (fun g H locs hg hw hn => ?_)
  have hT : tw_W V g0 g o ad (va_up I 3 0) A F := hT.putI 3 0 hw hn
  refine lv_iload_n hx hb dX3_brokenIn_5 rfl (lv_at hl 1 rfl) ?_
  refine lv_iconst (v := 1) hx hb dX3_brokenIn_6 (by decide) ?_
  refine lv_bipush (v := 120) hx hb dX3_brokenIn_7 (by decide) ?_
  refine gh_calli hg (gh_runS (As := [.int x, .int 1, .int 120]) (rest := []) hC hg (t_in l V _ x 1 120) 3 (lw_S q3905 q3906 q138 q3907) hd_X3_in.2 ⟨Nat.le_of_ble_eq_true rfl, Nat.le_of_ble_eq_true rfl⟩ rfl hl.1 rfl (Nat.le_of_ble_eq_true rfl) dX3_brokenIn_9 ⟨Nat.le_of_ble_eq_true rfl, Nat.le_of_ble_eq_true rfl⟩) (fun r_1 g H locs hg hp => ?_)
  replace hp : r_1 = (if okR x 1 120 then 1 else 0) ∧ g = _ := hp
  by_cases ok_2 : okR x 1 120
  · rw [if_pos ok_2] at hp
    obtain ⟨rfl, hq⟩ := hp
    rw [hq] at hg
    obtain ⟨h_3a, h_3b, h_3⟩ := okR_cl (show ((1 : Int32)) = nI 1 from rfl) (show ((120 : Int32)) = nI 120 from rfl) (by omega) (by omega) ok_2
    refine lv_if_ne (tgt := 21) hx hb dX3_brokenIn_12 (by decide) (fun _ => ?_) (fun c_4 => (absurd ((nx_eq (show ((1 : Int32)) = nI 1 from rfl) (show ((0 : Int32)) = nI 0 from rfl) (by omega) (by omega)).mp c_4) (by omega)))
    refine lv_aload_n hx hb dX3_brokenIn_21 rfl (lv_at hl 0 rfl) ?_
    refine gh_callv hg (gh_runV (As := []) (rest := []) hC hg (t_keepsAside l V o ad (va_up I 3 0) A F _ hT.1) 0 (lw_V q4286 q4288 qs95 q138 q4289) hT.1.1 rfl hd_X3_keepsAside ⟨Nat.le_of_ble_eq_true rfl, Nat.le_of_ble_eq_true rfl⟩ rfl hl.1 rfl (Nat.le_of_ble_eq_true rfl) dX3_brokenIn_22 ⟨Nat.le_of_ble_eq_true rfl, Nat.le_of_ble_eq_true rfl⟩) (fun g H locs hg hp => ?_)
    have hT : tw_W V g0 g o ad (va_up I 3 0) (va_up A 3 (cpn (A 0) (A 3) 578)) (va_up F 3 (cpn (F 0) (F 3) 24)) := hT.call hp
    refine lv_aload_n hx hb dX3_brokenIn_25 rfl (lv_at hl 0 rfl) ?_
    refine lv_iload_n hx hb dX3_brokenIn_26 rfl (lv_at hl 1 rfl) ?_
    refine gh_calli hg (gh_runV (As := [.int x]) (rest := []) hC hg (t_passes l V o ad (va_up I 3 0) (va_up A 3 (cpn (A 0) (A 3) 578)) (va_up F 3 (cpn (F 0) (F 3) 24)) _ hT.1 x ((x).toNatClampNeg) L h_3 (wf_n hE) hnn (by omega)) 1 (lw_V q4016 q4018 qs74 q138 q4019) hT.1.1 rfl hd_X3_passes ⟨Nat.le_of_ble_eq_true rfl, Nat.le_of_ble_eq_true rfl⟩ rfl hl.1 rfl (Nat.le_of_ble_eq_true rfl) dX3_brokenIn_27 ⟨Nat.le_of_ble_eq_true rfl, Nat.le_of_ble_eq_true rfl⟩) (fun r_5 g H locs hg hp => ?_)
    obtain ⟨hp, b5, b6, hpT⟩ := hp
    replace hp : r_5 = (runsF (A 0) (F 0) ((x).toNatClampNeg)).2.2.1 := hp
    subst hp
    have hT : tw_W V g0 g o ad (va_up (va_up I 3 0) 4 ((runsF (A 0) (F 0) ((x).toNatClampNeg)).2.2.2)) (va_up (va_up (va_up (va_up A 3 (cpn (A 0) (A 3) 578)) 5 b5) 6 b6) 0 ((runsF (A 0) (F 0) ((x).toNatClampNeg)).1)) (va_up (va_up F 3 (cpn (F 0) (F 3) 24)) 0 ((runsF (A 0) (F 0) ((x).toNatClampNeg)).2.1)) := hT.call hpT
    refine lv_istore_n (lv' := [(2, .int ((runsF (A 0) (F 0) ((x).toNatClampNeg)).2.2.1)), (0, .ref o), (1, .int x)]) hx hb dX3_brokenIn_30 rfl hl (by decide) rfl (fun ls hl => ?_)
    refine lv_aload_n hx hb dX3_brokenIn_31 rfl (lv_at hl 1 rfl) ?_
    refine gh_callv hg (gh_runV (As := []) (rest := []) hC hg (t_putsBack l V o ad (va_up (va_up I 3 0) 4 ((runsF (A 0) (F 0) ((x).toNatClampNeg)).2.2.2)) (va_up (va_up (va_up (va_up A 3 (cpn (A 0) (A 3) 578)) 5 b5) 6 b6) 0 ((runsF (A 0) (F 0) ((x).toNatClampNeg)).1)) (va_up (va_up F 3 (cpn (F 0) (F 3) 24)) 0 ((runsF (A 0) (F 0) ((x).toNatClampNeg)).2.1)) _ hT.1) 0 (lw_V q4290 q4292 qs96 q138 q4293) hT.1.1 rfl hd_X3_putsBack ⟨Nat.le_of_ble_eq_true rfl, Nat.le_of_ble_eq_true rfl⟩ rfl hl.1 rfl (Nat.le_of_ble_eq_true rfl) dX3_brokenIn_32 ⟨Nat.le_of_ble_eq_true rfl, Nat.le_of_ble_eq_true rfl⟩) (fun g H locs hg hp => ?_)
    have hT : tw_W V g0 g o ad (va_up (va_up I 3 0) 4 ((runsF (A 0) (F 0) ((x).toNatClampNeg)).2.2.2)) (va_up (va_up (va_up (va_up (va_up A 3 (cpn (A 0) (A 3) 578)) 5 b5) 6 b6) 0 ((runsF (A 0) (F 0) ((x).toNatClampNeg)).1)) 0 (cpn (cpn (A 0) (A 3) 578) ((runsF (A 0) (F 0) ((x).toNatClampNeg)).1) 578)) (va_up (va_up (va_up F 3 (cpn (F 0) (F 3) 24)) 0 ((runsF (A 0) (F 0) ((x).toNatClampNeg)).2.1)) 0 (cpn (cpn (F 0) (F 3) 24) ((runsF (A 0) (F 0) ((x).toNatClampNeg)).2.1) 24)) := hT.call hp
    obtain ⟨g, hg, hT⟩ := hT.congA hg 0 (by decide) (A 0) (fun i hi => cpn_cpn hi)
    obtain ⟨g, hg, hT⟩ := hT.congF hg 0 (by decide) (F 0) (fun i hi => cpn_cpn hi)
    refine lv_aload_n hx hb dX3_brokenIn_35 rfl (lv_at hl 1 rfl) ?_
    refine gh_get (v := .int ((runsF (A 0) (F 0) ((x).toNatClampNeg)).2.2.2)) hC hg hT.1.1 fX3_136_0 rfl dX3_brokenIn_36 ?_
    have e9 : c1 (okR x 1 120) = 0 := by first | rfl | (simp only [c1, c2, c3, if_pos ok_2]; done) | simp [c1, c2, c3, ok_2]
    exact gh_reti hC hg hr hlk (⟨fun h9 => rfl, by rw [e9]; exact hT.H ⟨rfl, rfl, rfl, rfl⟩ ⟨rfl, rfl, rfl, rfl⟩ ⟨rfl, rfl, rfl⟩⟩) dX3_brokenIn_39 (Nat.le_of_ble_eq_true rfl) (Nat.le_of_ble_eq_true rfl)
  rw [if_neg ok_2] at hp
  obtain ⟨rfl, hq⟩ := hp
  rw [hq] at hg
  refine lv_if_ne (tgt := 21) hx hb dX3_brokenIn_12 (by decide) (fun c_6 => (absurd ((nx_eq (show ((0 : Int32)) = nI 0 from rfl) (show ((0 : Int32)) = nI 0 from rfl) (by omega) (by omega)).mpr (by omega)) c_6)) (fun _ => ?_)
  refine lv_aload_n hx hb dX3_brokenIn_15 rfl (lv_at hl 0 rfl) ?_
  refine lv_iconst (v := 1) hx hb dX3_brokenIn_16 (by decide) ?_
  refine gh_calli hg (gh_runV (As := [.int 1]) (rest := []) hC hg (t_throwing l V o ad (va_up I 3 0) A F _ hT.1 1) 1 (lw_V q3908 q3910 qs56 q138 q3911) hT.1.1 rfl hd_X3_throwing ⟨Nat.le_of_ble_eq_true rfl, Nat.le_of_ble_eq_true rfl⟩ rfl hl.1 rfl (Nat.le_of_ble_eq_true rfl) dX3_brokenIn_17 ⟨Nat.le_of_ble_eq_true rfl, Nat.le_of_ble_eq_true rfl⟩) (fun r_7 g H locs hg hp => ?_)
  obtain ⟨hp, hpT⟩ := hp
  replace hp : r_7 = 0 := hp
  subst hp
  have hT : tw_W V g0 g o ad (va_up (va_up I 3 0) 3 1) A F := hT.call hpT
  have e9 : c1 (okR x 1 120) = 1 := by first | rfl | (simp only [c1, c2, c3, if_neg ok_2]; done) | simp [c1, c2, c3, ok_2]
  exact gh_reti hC hg hr hlk (⟨fun h9 => absurd (e9.symm.trans h9) (by decide), by rw [e9]; exact hT.H ⟨rfl, rfl, rfl, rfl⟩ ⟨rfl, rfl, rfl, rfl⟩ ⟨rfl, rfl, rfl⟩⟩) dX3_brokenIn_20 (Nat.le_of_ble_eq_true rfl) (Nat.le_of_ble_eq_true rfl)
set_option maxHeartbeats 1000000 in
set_option maxRecDepth 100000 in
theorem t_incomeIn (l : Launch) (V : gh_V) (o : Nat) (ad : Nat → Nat) (I : Nat → Int32) (A : Nat → Nat → Int32) (F : Nat → Nat → UInt32) (g0 : gh_G) (hP : tw_P V g0 o ad I A F) (x : Int32) (L D P : Nat) (hE : tw_wf (A 0) L D P) (hnn : nnS (F 0)) : MI l yX3_incomeIn cX3_incomeIn 5 (some .int) ({ frames := 7, cells := 0, slots := 0, locals := 163 } : Room) V [.ref o, .int x] g0 (fun r g1 => (c1 (okR x 1 120) = 0 → r = sm (fun i => lt (runsF (A 0) (F 0) x.toNatClampNeg).1 i 4) L - sm (fun i => lt (A 0) i 4) L) ∧ tw_H V g0 g1 o ad (va_up I 3 (c1 (okR x 1 120))) A F) := by
  refine MG.of RX3 (by decide) rfl (Nat.le_of_ble_eq_true rfl) (fun pp ee s mm args below meth c ls hC hg hr hlk hnm hl => ?_)
  have hx := hC.1.1
  have hb := hC.1.2.1
  have hml := hC.1.2.2.1
  have hown := hC.1.2.2.2.1
  have hts := hC.1.2.2.2.2
  have hl : lv_has ls 5 [(0, .ref o), (1, .int x)] := hl
  have hT := hP.W
  have hL12 := hE.1.2
  refine lv_aload_n hx hb dX3_incomeIn_0 rfl (lv_at hl 0 rfl) ?_
  refine lv_iconst (v := 0) hx hb dX3_incomeIn_1 (by decide) ?_
  refine gh_put (v := .int 0) hC hg hT.1.1 fX3_54_0 rfl rfl (Nat.le_of_ble_eq_true rfl) dX3_incomeIn_2 (fun g H locs hg hw hn => ?_)
  have hT : tw_W V g0 g o ad (va_up I 3 0) A F := hT.putI 3 0 hw hn
  refine lv_iload_n hx hb dX3_incomeIn_5 rfl (lv_at hl 1 rfl) ?_
  refine lv_iconst (v := 1) hx hb dX3_incomeIn_6 (by decide) ?_
  refine lv_bipush (v := 120) hx hb dX3_incomeIn_7 (by decide) ?_
  refine gh_calli hg (gh_runS (As := [.int x, .int 1, .int 120]) (rest := []) hC hg (t_in l V _ x 1 120) 3 (lw_S q3905 q3906 q138 q3907) hd_X3_in.2 ⟨Nat.le_of_ble_eq_true rfl, Nat.le_of_ble_eq_true rfl⟩ rfl hl.1 rfl (Nat.le_of_ble_eq_true rfl) dX3_incomeIn_9 ⟨Nat.le_of_ble_eq_true rfl, Nat.le_of_ble_eq_true rfl⟩) (fun r_1 g H locs hg hp => ?_)
  replace hp : r_1 = (if okR x 1 120 then 1 else 0) ∧ g = _ := hp
  by_cases ok_2 : okR x 1 120
  · rw [if_pos ok_2] at hp
    obtain ⟨rfl, hq⟩ := hp
    rw [hq] at hg
    obtain ⟨h_3a, h_3b, h_3⟩ := okR_cl (show ((1 : Int32)) = nI 1 from rfl) (show ((120 : Int32)) = nI 120 from rfl) (by omega) (by omega) ok_2
    refine lv_if_ne (tgt := 21) hx hb dX3_incomeIn_12 (by decide) (fun _ => ?_) (fun c_4 => (absurd ((nx_eq (show ((1 : Int32)) = nI 1 from rfl) (show ((0 : Int32)) = nI 0 from rfl) (by omega) (by omega)).mp c_4) (by omega)))
    refine lv_aload_n hx hb dX3_incomeIn_21 rfl (lv_at hl 0 rfl) ?_
    refine gh_calli hg (gh_runV (As := []) (rest := []) hC hg (t_allIncome l V o ad (va_up I 3 0) A F _ hT.1 L (hE.1.1) hL12) 0 (lw_V q4258 q4260 qs94 q138 q4261) hT.1.1 rfl hd_X3_allIncome ⟨Nat.le_of_ble_eq_true rfl, Nat.le_of_ble_eq_true rfl⟩ rfl hl.1 rfl (Nat.le_of_ble_eq_true rfl) dX3_incomeIn_22 ⟨Nat.le_of_ble_eq_true rfl, Nat.le_of_ble_eq_true rfl⟩) (fun r_5 g H locs hg hp => ?_)
    obtain ⟨hp, hpT⟩ := hp
    replace hp : r_5 = (sm (fun i => lt (A 0) i 4) L) := hp
    subst hp
    have hT : tw_W V g0 g o ad (va_up I 3 0) A F := hT.call hpT
    refine lv_istore_n (lv' := [(2, .int (sm (fun i => lt (A 0) i 4) L)), (0, .ref o), (1, .int x)]) hx hb dX3_incomeIn_25 rfl hl (by decide) rfl (fun ls hl => ?_)
    refine lv_aload_n hx hb dX3_incomeIn_26 rfl (lv_at hl 1 rfl) ?_
    refine gh_callv hg (gh_runV (As := []) (rest := []) hC hg (t_keepsAside l V o ad (va_up I 3 0) A F _ hT.1) 0 (lw_V q4286 q4288 qs95 q138 q4289) hT.1.1 rfl hd_X3_keepsAside ⟨Nat.le_of_ble_eq_true rfl, Nat.le_of_ble_eq_true rfl⟩ rfl hl.1 rfl (Nat.le_of_ble_eq_true rfl) dX3_incomeIn_27 ⟨Nat.le_of_ble_eq_true rfl, Nat.le_of_ble_eq_true rfl⟩) (fun g H locs hg hp => ?_)
    have hT : tw_W V g0 g o ad (va_up I 3 0) (va_up A 3 (cpn (A 0) (A 3) 578)) (va_up F 3 (cpn (F 0) (F 3) 24)) := hT.call hp
    refine lv_aload_n hx hb dX3_incomeIn_30 rfl (lv_at hl 1 rfl) ?_
    refine lv_iload_n hx hb dX3_incomeIn_31 rfl (lv_at hl 2 rfl) ?_
    refine gh_calli hg (gh_runV (As := [.int x]) (rest := []) hC hg (t_passes l V o ad (va_up I 3 0) (va_up A 3 (cpn (A 0) (A 3) 578)) (va_up F 3 (cpn (F 0) (F 3) 24)) _ hT.1 x ((x).toNatClampNeg) L h_3 (wf_n hE) hnn (by omega)) 1 (lw_V q4016 q4018 qs74 q138 q4019) hT.1.1 rfl hd_X3_passes ⟨Nat.le_of_ble_eq_true rfl, Nat.le_of_ble_eq_true rfl⟩ rfl hl.1 rfl (Nat.le_of_ble_eq_true rfl) dX3_incomeIn_32 ⟨Nat.le_of_ble_eq_true rfl, Nat.le_of_ble_eq_true rfl⟩) (fun r_6 g H locs hg hp => ?_)
    obtain ⟨hp, b5, b6, hpT⟩ := hp
    replace hp : r_6 = (runsF (A 0) (F 0) ((x).toNatClampNeg)).2.2.1 := hp
    subst hp
    have hT : tw_W V g0 g o ad (va_up (va_up I 3 0) 4 ((runsF (A 0) (F 0) ((x).toNatClampNeg)).2.2.2)) (va_up (va_up (va_up (va_up A 3 (cpn (A 0) (A 3) 578)) 5 b5) 6 b6) 0 ((runsF (A 0) (F 0) ((x).toNatClampNeg)).1)) (va_up (va_up F 3 (cpn (F 0) (F 3) 24)) 0 ((runsF (A 0) (F 0) ((x).toNatClampNeg)).2.1)) := hT.call hpT
    obtain ⟨P9, hW9, hn9⟩ := runsF_wf hE hnn x.toNatClampNeg
    refine lv_istore_n (lv' := [(3, .int ((runsF (A 0) (F 0) ((x).toNatClampNeg)).2.2.1)), (2, .int (sm (fun i => lt (A 0) i 4) L)), (0, .ref o), (1, .int x)]) hx hb dX3_incomeIn_35 rfl hl (by decide) rfl (fun ls hl => ?_)
    refine lv_aload_n hx hb dX3_incomeIn_36 rfl (lv_at hl 2 rfl) ?_
    refine gh_calli hg (gh_runV (As := []) (rest := []) hC hg (t_allIncome l V o ad (va_up (va_up I 3 0) 4 ((runsF (A 0) (F 0) ((x).toNatClampNeg)).2.2.2)) (va_up (va_up (va_up (va_up A 3 (cpn (A 0) (A 3) 578)) 5 b5) 6 b6) 0 ((runsF (A 0) (F 0) ((x).toNatClampNeg)).1)) (va_up (va_up F 3 (cpn (F 0) (F 3) 24)) 0 ((runsF (A 0) (F 0) ((x).toNatClampNeg)).2.1)) _ hT.1 L (hW9.1.1) hL12) 0 (lw_V q4258 q4260 qs94 q138 q4261) hT.1.1 rfl hd_X3_allIncome ⟨Nat.le_of_ble_eq_true rfl, Nat.le_of_ble_eq_true rfl⟩ rfl hl.1 rfl (Nat.le_of_ble_eq_true rfl) dX3_incomeIn_37 ⟨Nat.le_of_ble_eq_true rfl, Nat.le_of_ble_eq_true rfl⟩) (fun r_7 g H locs hg hp => ?_)
    obtain ⟨hp, hpT⟩ := hp
    replace hp : r_7 = (sm (fun i => lt ((runsF (A 0) (F 0) ((x).toNatClampNeg)).1) i 4) L) := hp
    subst hp
    have hT : tw_W V g0 g o ad (va_up (va_up I 3 0) 4 ((runsF (A 0) (F 0) ((x).toNatClampNeg)).2.2.2)) (va_up (va_up (va_up (va_up A 3 (cpn (A 0) (A 3) 578)) 5 b5) 6 b6) 0 ((runsF (A 0) (F 0) ((x).toNatClampNeg)).1)) (va_up (va_up F 3 (cpn (F 0) (F 3) 24)) 0 ((runsF (A 0) (F 0) ((x).toNatClampNeg)).2.1)) := hT.call hpT
    refine lv_istore (lv' := [(4, .int (sm (fun i => lt ((runsF (A 0) (F 0) ((x).toNatClampNeg)).1) i 4) L)), (3, .int ((runsF (A 0) (F 0) ((x).toNatClampNeg)).2.2.1)), (2, .int (sm (fun i => lt (A 0) i 4) L)), (0, .ref o), (1, .int x)]) hx hb dX3_incomeIn_40 hl (by decide) rfl (fun ls hl => ?_)
    refine lv_aload_n hx hb dX3_incomeIn_42 rfl (lv_at hl 3 rfl) ?_
    refine gh_callv hg (gh_runV (As := []) (rest := []) hC hg (t_putsBack l V o ad (va_up (va_up I 3 0) 4 ((runsF (A 0) (F 0) ((x).toNatClampNeg)).2.2.2)) (va_up (va_up (va_up (va_up A 3 (cpn (A 0) (A 3) 578)) 5 b5) 6 b6) 0 ((runsF (A 0) (F 0) ((x).toNatClampNeg)).1)) (va_up (va_up F 3 (cpn (F 0) (F 3) 24)) 0 ((runsF (A 0) (F 0) ((x).toNatClampNeg)).2.1)) _ hT.1) 0 (lw_V q4290 q4292 qs96 q138 q4293) hT.1.1 rfl hd_X3_putsBack ⟨Nat.le_of_ble_eq_true rfl, Nat.le_of_ble_eq_true rfl⟩ rfl hl.1 rfl (Nat.le_of_ble_eq_true rfl) dX3_incomeIn_43 ⟨Nat.le_of_ble_eq_true rfl, Nat.le_of_ble_eq_true rfl⟩) (fun g H locs hg hp => ?_)
    have hT : tw_W V g0 g o ad (va_up (va_up I 3 0) 4 ((runsF (A 0) (F 0) ((x).toNatClampNeg)).2.2.2)) (va_up (va_up (va_up (va_up (va_up A 3 (cpn (A 0) (A 3) 578)) 5 b5) 6 b6) 0 ((runsF (A 0) (F 0) ((x).toNatClampNeg)).1)) 0 (cpn (cpn (A 0) (A 3) 578) ((runsF (A 0) (F 0) ((x).toNatClampNeg)).1) 578)) (va_up (va_up (va_up F 3 (cpn (F 0) (F 3) 24)) 0 ((runsF (A 0) (F 0) ((x).toNatClampNeg)).2.1)) 0 (cpn (cpn (F 0) (F 3) 24) ((runsF (A 0) (F 0) ((x).toNatClampNeg)).2.1) 24)) := hT.call hp
    obtain ⟨g, hg, hT⟩ := hT.congA hg 0 (by decide) (A 0) (fun i hi => cpn_cpn hi)
    obtain ⟨g, hg, hT⟩ := hT.congF hg 0 (by decide) (F 0) (fun i hi => cpn_cpn hi)
    refine lv_iload hx hb dX3_incomeIn_46 (lv_at hl 0 rfl) ?_
    refine lv_iload_n hx hb dX3_incomeIn_48 rfl (lv_at hl 2 rfl) ?_
    refine lv_isub hx hb dX3_incomeIn_49 ?_
    have e9 : c1 (okR x 1 120) = 0 := by first | rfl | (simp only [c1, c2, c3, if_pos ok_2]; done) | simp [c1, c2, c3, ok_2]
    exact gh_reti hC hg hr hlk (⟨fun h9 => rfl, by rw [e9]; exact hT.H ⟨rfl, rfl, rfl, rfl⟩ ⟨rfl, rfl, rfl, rfl⟩ ⟨rfl, rfl, rfl⟩⟩) dX3_incomeIn_50 (Nat.le_of_ble_eq_true rfl) (Nat.le_of_ble_eq_true rfl)
  rw [if_neg ok_2] at hp
  obtain ⟨rfl, hq⟩ := hp
  rw [hq] at hg
  refine lv_if_ne (tgt := 21) hx hb dX3_incomeIn_12 (by decide) (fun c_8 => (absurd ((nx_eq (show ((0 : Int32)) = nI 0 from rfl) (show ((0 : Int32)) = nI 0 from rfl) (by omega) (by omega)).mpr (by omega)) c_8)) (fun _ => ?_)
  refine lv_aload_n hx hb dX3_incomeIn_15 rfl (lv_at hl 0 rfl) ?_
  refine lv_iconst (v := 1) hx hb dX3_incomeIn_16 (by decide) ?_
  refine gh_calli hg (gh_runV (As := [.int 1]) (rest := []) hC hg (t_throwing l V o ad (va_up I 3 0) A F _ hT.1 1) 1 (lw_V q3908 q3910 qs56 q138 q3911) hT.1.1 rfl hd_X3_throwing ⟨Nat.le_of_ble_eq_true rfl, Nat.le_of_ble_eq_true rfl⟩ rfl hl.1 rfl (Nat.le_of_ble_eq_true rfl) dX3_incomeIn_17 ⟨Nat.le_of_ble_eq_true rfl, Nat.le_of_ble_eq_true rfl⟩) (fun r_9 g H locs hg hp => ?_)
  obtain ⟨hp, hpT⟩ := hp
  replace hp : r_9 = 0 := hp
  subst hp
  have hT : tw_W V g0 g o ad (va_up (va_up I 3 0) 3 1) A F := hT.call hpT
  have e9 : c1 (okR x 1 120) = 1 := by first | rfl | (simp only [c1, c2, c3, if_neg ok_2]; done) | simp [c1, c2, c3, ok_2]
  exact gh_reti hC hg hr hlk (⟨fun h9 => absurd (e9.symm.trans h9) (by decide), by rw [e9]; exact hT.H ⟨rfl, rfl, rfl, rfl⟩ ⟨rfl, rfl, rfl, rfl⟩ ⟨rfl, rfl, rfl⟩⟩) dX3_incomeIn_20 (Nat.le_of_ble_eq_true rfl) (Nat.le_of_ble_eq_true rfl)
set_option maxHeartbeats 1000000 in
set_option maxRecDepth 100000 in
theorem t_asksWhy (l : Launch) (V : gh_V) (o : Nat) (ad : Nat → Nat) (I : Nat → Int32) (A : Nat → Nat → Int32) (F : Nat → Nat → UInt32) (g0 : gh_G) (hP : tw_P V g0 o ad I A F)  : MV l yX3_asksWhy cX3_asksWhy 5 ({ frames := 2, cells := 0, slots := 0, locals := 43 } : Room) V [.ref o] g0 (fun g1 => tw_W V g0 g1 o ad I (va_up A 7 (wyA (A 0) (A 7) 24)) F) := by
  refine MG.of RX3 (by decide) rfl (Nat.le_of_ble_eq_true rfl) (fun pp ee s mm args below meth c ls hC hg hr hlk hnm hl => ?_)
  have hx := hC.1.1
  have hb := hC.1.2.1
  have hml := hC.1.2.2.1
  have hown := hC.1.2.2.2.1
  have hts := hC.1.2.2.2.2
  have hl : lv_has ls 5 [(0, .ref o)] := hl
  have hT := hP.W
  obtain ⟨N9, hN9⟩ : ∃ N, N = 24 := ⟨24, rfl⟩
  refine lv_bipush (v := 23) hx hb dX3_asksWhy_0 (by decide) ?_
  refine lv_istore_n (lv' := [(1, .int 23), (0, .ref o)]) hx hb dX3_asksWhy_2 rfl hl (by decide) rfl (fun ls hl => ?_)
  refine gh_loop (N := N9) (X := fun i_1 g ls => tw_W V g0 g o ad I (va_up A 7 (wyA (A 0) (A 7) i_1)) F ∧ lv_has ls 5 [(0, .ref o), (1, .int (nI (24 - i_1) - 1))]) ?_ ?_ 0 (by omega) hg ⟨(hT.eqA (by rw [wyA_0, up_self])), lv_sub hl [1, 0] rfl⟩
  · intro g H locs ls hg hX
    obtain ⟨hT, hl⟩ := hX
    refine lv_iload_n hx hb dX3_asksWhy_3 rfl (lv_at hl 1 rfl) ?_
    refine lv_if_lt (tgt := 130) hx hb dX3_asksWhy_4 (by decide) (fun _ => ?_) (fun c_2 => (absurd (by rw [hN9]; decide) c_2))
    exact gh_retv hC hg hr hlk (hN9 ▸ hT) dX3_asksWhy_130 (Nat.le_of_ble_eq_true rfl) (Nat.le_of_ble_eq_true rfl)
  · intro i_1 h_3 ih3 g H locs ls hg hX
    obtain ⟨hT, hl⟩ := hX
    refine lv_iload_n hx hb dX3_asksWhy_3 rfl (lv_at hl 1 rfl) ?_
    have hi24 : i_1 < 24 := by omega
    refine lv_if_lt (tgt := 130) hx hb dX3_asksWhy_4 (by decide) (fun c_4 => (absurd c_4 (by rw [dn_nat (by omega)]; exact nI_pos (by omega)))) (fun _ => ?_)
    refine lv_aload_n hx hb dX3_asksWhy_7 rfl (lv_at hl 0 rfl) ?_
    refine lv_iload_n hx hb dX3_asksWhy_8 rfl (lv_at hl 1 rfl) ?_
    refine lv_iconst (v := 3) hx hb dX3_asksWhy_9 (by decide) ?_
    refine lv_idiv hx hb dX3_asksWhy_10 (by decide) ?_
    refine lv_iconst (v := 2) hx hb dX3_asksWhy_11 (by decide) ?_
    refine gh_calli hg (gh_runV (As := [.int ((nI (24 - i_1) - 1) / 3), .int 2]) (rest := []) hC hg (t_zone l V o ad I (va_up A 7 (wyA (A 0) (A 7) i_1)) F _ hT.1 ((nI (24 - i_1) - 1) / 3) 2 ((24 - i_1 - 1) / 3) 2 (nx_div (dn_nat (by omega)) (show ((3 : Int32)) = nI 3 from rfl) (by omega) (by omega) (by omega)) (show ((2 : Int32)) = nI 2 from rfl) (by omega) (by omega)) 2 (lw_V q3920 q3922 qs59 q138 q3923) hT.1.1 rfl hd_X3_zone ⟨Nat.le_of_ble_eq_true rfl, Nat.le_of_ble_eq_true rfl⟩ rfl hl.1 rfl (Nat.le_of_ble_eq_true rfl) dX3_asksWhy_12 ⟨Nat.le_of_ble_eq_true rfl, Nat.le_of_ble_eq_true rfl⟩) (fun r_5 g H locs hg hp => ?_)
    obtain ⟨hp, hq⟩ := hp
    replace hp : r_5 = (zn (A 0) ((24 - i_1 - 1) / 3) 2) := hp
    subst hp
    rw [hq] at hg
    refine lv_istore_n (lv' := [(2, .int (zn (A 0) ((24 - i_1 - 1) / 3) 2)), (0, .ref o), (1, .int (nI (24 - i_1) - 1))]) hx hb dX3_asksWhy_15 rfl hl (by decide) rfl (fun ls hl => ?_)
    refine lv_iload_n hx hb dX3_asksWhy_16 rfl (lv_at hl 2 rfl) ?_
    refine lv_iconst (v := 1) hx hb dX3_asksWhy_17 (by decide) ?_
    refine lv_iadd hx hb dX3_asksWhy_18 ?_
    refine lv_istore_n (lv' := [(3, .int ((nI (24 - i_1) - 1) + 1)), (2, .int (zn (A 0) ((24 - i_1 - 1) / 3) 2)), (0, .ref o), (1, .int (nI (24 - i_1) - 1))]) hx hb dX3_asksWhy_19 rfl hl (by decide) rfl (fun ls hl => ?_)
    refine lv_iload_n hx hb dX3_asksWhy_20 rfl (lv_at hl 0 rfl) ?_
    refine lv_bipush (v := 24) hx hb dX3_asksWhy_21 (by decide) ?_
    refine lv_icmp_ne (tgt := 30) hx hb dX3_asksWhy_23 (by decide) (fun c_6 => ?_) (fun c_6 => ?_)
    · skip
      have c_6 : ¬ ((24 - i_1 - 1) + 1) = 24 := fun h9 => c_6 ((nx_eq (nx_add (dn_nat (by omega)) (show ((1 : Int32)) = nI 1 from rfl)) (show ((24 : Int32)) = nI 24 from rfl) (by omega) (by omega)).mpr h9)
      refine lv_iconst (v := 0) hx hb dX3_asksWhy_30 (by decide) ?_
      refine lv_istore (lv' := [(4, .int 0), (3, .int ((nI (24 - i_1) - 1) + 1)), (2, .int (zn (A 0) ((24 - i_1 - 1) / 3) 2)), (0, .ref o), (1, .int (nI (24 - i_1) - 1))]) hx hb dX3_asksWhy_31 hl (by decide) rfl (fun ls hl => ?_)
      refine lv_aload_n hx hb dX3_asksWhy_33 rfl (lv_at hl 3 rfl) ?_
      refine gh_get (v := .ref (ad 7)) hC hg hT.1.1 fX3_44_0 rfl dX3_asksWhy_34 ?_
      refine lv_iload_n hx hb dX3_asksWhy_37 rfl (lv_at hl 4 rfl) ?_
      refine lv_aload_n hx hb dX3_asksWhy_38 rfl (lv_at hl 3 rfl) ?_
      refine lv_iload_n hx hb dX3_asksWhy_39 rfl (lv_at hl 4 rfl) ?_
      refine gh_calli hg (gh_runV (As := [.int (nI (24 - i_1) - 1)]) (rest := [.int (nI (24 - i_1) - 1), .ref (ad 7)]) hC hg (t_isPiece l V o ad I (va_up A 7 (wyA (A 0) (A 7) i_1)) F _ hT.1 (nI (24 - i_1) - 1) (24 - i_1 - 1) (dn_nat (by omega)) (by omega)) 1 (lw_V q3960 q3962 qs64 q138 q3963) hT.1.1 rfl hd_X3_isPiece ⟨Nat.le_of_ble_eq_true rfl, Nat.le_of_ble_eq_true rfl⟩ rfl hl.1 rfl (Nat.le_of_ble_eq_true rfl) dX3_asksWhy_40 ⟨Nat.le_of_ble_eq_true rfl, Nat.le_of_ble_eq_true rfl⟩) (fun r_7 g H locs hg hp => ?_)
      replace hp : r_7 = (if ¬ pl (A 0) (24 - i_1 - 1) 0 = -1 then 1 else 0) ∧ g = _ := hp
      by_cases pc_8 : ¬ pl (A 0) (24 - i_1 - 1) 0 = -1
      · rw [if_pos pc_8] at hp
        obtain ⟨rfl, hq⟩ := hp
        rw [hq] at hg
        refine lv_if_ne (tgt := 50) hx hb dX3_asksWhy_43 (by decide) (fun _ => ?_) (fun c_9 => (absurd ((nx_eq (show ((1 : Int32)) = nI 1 from rfl) (show ((0 : Int32)) = nI 0 from rfl) (by omega) (by omega)).mp c_9) (by omega)))
        refine lv_iload_n hx hb dX3_asksWhy_50 rfl (lv_at hl 2 rfl) ?_
        refine lv_if_ne (tgt := 58) hx hb dX3_asksWhy_51 (by decide) (fun c_10 => ?_) (fun c_10 => ?_)
        · skip
          refine lv_aload_n hx hb dX3_asksWhy_58 rfl (lv_at hl 3 rfl) ?_
          refine lv_iload_n hx hb dX3_asksWhy_59 rfl (lv_at hl 4 rfl) ?_
          refine lv_iconst (v := 3) hx hb dX3_asksWhy_60 (by decide) ?_
          refine gh_calli hg (gh_runV (As := [.int (nI (24 - i_1) - 1), .int 3]) (rest := [.int (nI (24 - i_1) - 1), .ref (ad 7)]) hC hg (t_at l V o ad I (va_up A 7 (wyA (A 0) (A 7) i_1)) F _ hT.1 (nI (24 - i_1) - 1) 3 (24 - i_1 - 1) 3 (dn_nat (by omega)) (show ((3 : Int32)) = nI 3 from rfl) (by omega) (by omega)) 2 (lw_V q3964 q3966 qs65 q138 q3967) hT.1.1 rfl hd_X3_at ⟨Nat.le_of_ble_eq_true rfl, Nat.le_of_ble_eq_true rfl⟩ rfl hl.1 rfl (Nat.le_of_ble_eq_true rfl) dX3_asksWhy_61 ⟨Nat.le_of_ble_eq_true rfl, Nat.le_of_ble_eq_true rfl⟩) (fun r_11 g H locs hg hp => ?_)
          obtain ⟨hp, hq⟩ := hp
          replace hp : r_11 = (pl (A 0) (24 - i_1 - 1) 3) := hp
          subst hp
          rw [hq] at hg
          refine lv_iconst (v := 1) hx hb dX3_asksWhy_64 (by decide) ?_
          refine lv_iadd hx hb dX3_asksWhy_65 ?_
          refine lv_iload_n hx hb dX3_asksWhy_66 rfl (lv_at hl 2 rfl) ?_
          refine lv_icmp_ge (tgt := 74) hx hb dX3_asksWhy_67 (by decide) (fun c_12 => ?_) (fun c_12 => ?_)
          · skip
            refine lv_iload hx hb dX3_asksWhy_74 (lv_at hl 0 rfl) ?_
            refine lv_if_eq (tgt := 83) hx hb dX3_asksWhy_76 (by decide) (fun _ => ?_) (fun c_13 => (absurd ((nx_eq (show ((0 : Int32)) = nI 0 from rfl) (show ((0 : Int32)) = nI 0 from rfl) (by omega) (by omega)).mpr (by omega)) c_13))
            refine lv_aload_n hx hb dX3_asksWhy_83 rfl (lv_at hl 3 rfl) ?_
            refine lv_iload_n hx hb dX3_asksWhy_84 rfl (lv_at hl 1 rfl) ?_
            refine gh_calli hg (gh_runV (As := [.int ((nI (24 - i_1) - 1) + 1)]) (rest := [.int (nI (24 - i_1) - 1), .ref (ad 7)]) hC hg (t_isPiece l V o ad I (va_up A 7 (wyA (A 0) (A 7) i_1)) F _ hT.1 ((nI (24 - i_1) - 1) + 1) ((24 - i_1 - 1) + 1) (nx_add (dn_nat (by omega)) (show ((1 : Int32)) = nI 1 from rfl)) (by omega)) 1 (lw_V q3960 q3962 qs64 q138 q3963) hT.1.1 rfl hd_X3_isPiece ⟨Nat.le_of_ble_eq_true rfl, Nat.le_of_ble_eq_true rfl⟩ rfl hl.1 rfl (Nat.le_of_ble_eq_true rfl) dX3_asksWhy_85 ⟨Nat.le_of_ble_eq_true rfl, Nat.le_of_ble_eq_true rfl⟩) (fun r_14 g H locs hg hp => ?_)
            replace hp : r_14 = (if ¬ pl (A 0) ((24 - i_1 - 1) + 1) 0 = -1 then 1 else 0) ∧ g = _ := hp
            by_cases pc_15 : ¬ pl (A 0) ((24 - i_1 - 1) + 1) 0 = -1
            · rw [if_pos pc_15] at hp
              obtain ⟨rfl, hq⟩ := hp
              rw [hq] at hg
              refine lv_if_eq (tgt := 108) hx hb dX3_asksWhy_88 (by decide) (fun c_16 => (absurd ((nx_eq (show ((1 : Int32)) = nI 1 from rfl) (show ((0 : Int32)) = nI 0 from rfl) (by omega) (by omega)).mp c_16) (by omega))) (fun _ => ?_)
              refine lv_aload_n hx hb dX3_asksWhy_91 rfl (lv_at hl 3 rfl) ?_
              refine gh_get (v := .ref (ad 7)) hC hg hT.1.1 fX3_44_0 rfl dX3_asksWhy_92 ?_
              refine lv_iload_n hx hb dX3_asksWhy_95 rfl (lv_at hl 1 rfl) ?_
              refine gh_iald (n := 24) (f := (wyA (A 0) (A 7) i_1)) hC hg (hT.1.2.1 7 (by decide)) (nx_add (dn_nat (by omega)) (show ((1 : Int32)) = nI 1 from rfl)) (by omega) (by omega) dX3_asksWhy_96 ?_
              refine lv_if_ne (tgt := 104) hx hb dX3_asksWhy_97 (by decide) (fun c_17 => ?_) (fun c_17 => ?_)
              · skip
                refine lv_iconst (v := 4) hx hb dX3_asksWhy_104 (by decide) ?_
                refine lv_goto (tgt := 123) hx hb dX3_asksWhy_105 (by decide) ?_
                refine gh_iast (n := 24) (f := (wyA (A 0) (A 7) i_1)) hC hg (hT.1.2.1 7 (by decide)) (dn_nat (by omega)) (by omega) (by omega) dX3_asksWhy_123 (fun g H locs hg hw hn => ?_)
                have hT : tw_W V g0 g o ad I (va_up (va_up A 7 (wyA (A 0) (A 7) i_1)) 7 (upd (wyA (A 0) (A 7) i_1) (24 - i_1 - 1) 4)) F := hT.putA 7 (by decide) hw hn
                refine lv_iinc (v := (nI (24 - (i_1 + 1)) - 1)) (lv' := [(1, .int (nI (24 - (i_1 + 1)) - 1)), (4, .int 0), (3, .int ((nI (24 - i_1) - 1) + 1)), (2, .int (zn (A 0) ((24 - i_1 - 1) / 3) 2)), (0, .ref o)]) hx hb dX3_asksWhy_124 hl (k := 4) rfl (dn_step hi24) (by decide) rfl (fun ls hl => ?_)
                refine lv_goto (tgt := 3) hx hb dX3_asksWhy_127 (by decide) ?_
                exact ih3 _ _ _ _ hg ⟨(hT.eqA (fam8 rfl rfl rfl rfl rfl rfl rfl (wyA_s hi24 (show why1 (A 0) (24 - i_1 - 1) (wyA (A 0) (A 7) i_1 (24 - i_1 - 1 + 1)) = 4 from by unfold why1; simp only [if_neg c_6, if_neg pc_8, if_neg c_10, if_neg (not_not_intro c_12), if_neg pc_15, if_neg c_17])) (fun _ => rfl))), lv_sub hl [4, 0] rfl⟩
              refine lv_iconst (v := 0) hx hb dX3_asksWhy_100 (by decide) ?_
              refine lv_goto (tgt := 123) hx hb dX3_asksWhy_101 (by decide) ?_
              refine gh_iast (n := 24) (f := (wyA (A 0) (A 7) i_1)) hC hg (hT.1.2.1 7 (by decide)) (dn_nat (by omega)) (by omega) (by omega) dX3_asksWhy_123 (fun g H locs hg hw hn => ?_)
              have hT : tw_W V g0 g o ad I (va_up (va_up A 7 (wyA (A 0) (A 7) i_1)) 7 (upd (wyA (A 0) (A 7) i_1) (24 - i_1 - 1) 0)) F := hT.putA 7 (by decide) hw hn
              refine lv_iinc (v := (nI (24 - (i_1 + 1)) - 1)) (lv' := [(1, .int (nI (24 - (i_1 + 1)) - 1)), (4, .int 0), (3, .int ((nI (24 - i_1) - 1) + 1)), (2, .int (zn (A 0) ((24 - i_1 - 1) / 3) 2)), (0, .ref o)]) hx hb dX3_asksWhy_124 hl (k := 4) rfl (dn_step hi24) (by decide) rfl (fun ls hl => ?_)
              refine lv_goto (tgt := 3) hx hb dX3_asksWhy_127 (by decide) ?_
              exact ih3 _ _ _ _ hg ⟨(hT.eqA (fam8 rfl rfl rfl rfl rfl rfl rfl (wyA_s hi24 (show why1 (A 0) (24 - i_1 - 1) (wyA (A 0) (A 7) i_1 (24 - i_1 - 1 + 1)) = 0 from by unfold why1; simp only [if_neg c_6, if_neg pc_8, if_neg c_10, if_neg (not_not_intro c_12), if_neg pc_15, if_pos c_17])) (fun _ => rfl))), lv_sub hl [4, 0] rfl⟩
            rw [if_neg pc_15] at hp
            obtain ⟨rfl, hq⟩ := hp
            rw [hq] at hg
            have pc_15 := Decidable.not_not.mp pc_15
            refine lv_if_eq (tgt := 108) hx hb dX3_asksWhy_88 (by decide) (fun _ => ?_) (fun c_18 => (absurd ((nx_eq (show ((0 : Int32)) = nI 0 from rfl) (show ((0 : Int32)) = nI 0 from rfl) (by omega) (by omega)).mpr (by omega)) c_18))
            refine lv_aload_n hx hb dX3_asksWhy_108 rfl (lv_at hl 3 rfl) ?_
            refine lv_iload_n hx hb dX3_asksWhy_109 rfl (lv_at hl 1 rfl) ?_
            refine lv_iconst (v := 4) hx hb dX3_asksWhy_110 (by decide) ?_
            refine gh_calli hg (gh_runV (As := [.int ((nI (24 - i_1) - 1) + 1), .int 4]) (rest := [.int (nI (24 - i_1) - 1), .ref (ad 7)]) hC hg (t_at l V o ad I (va_up A 7 (wyA (A 0) (A 7) i_1)) F _ hT.1 ((nI (24 - i_1) - 1) + 1) 4 ((24 - i_1 - 1) + 1) 4 (nx_add (dn_nat (by omega)) (show ((1 : Int32)) = nI 1 from rfl)) (show ((4 : Int32)) = nI 4 from rfl) (by omega) (by omega)) 2 (lw_V q3964 q3966 qs65 q138 q3967) hT.1.1 rfl hd_X3_at ⟨Nat.le_of_ble_eq_true rfl, Nat.le_of_ble_eq_true rfl⟩ rfl hl.1 rfl (Nat.le_of_ble_eq_true rfl) dX3_asksWhy_111 ⟨Nat.le_of_ble_eq_true rfl, Nat.le_of_ble_eq_true rfl⟩) (fun r_19 g H locs hg hp => ?_)
            obtain ⟨hp, hq⟩ := hp
            replace hp : r_19 = (pl (A 0) ((24 - i_1 - 1) + 1) 4) := hp
            subst hp
            rw [hq] at hg
            refine lv_iconst (v := 1) hx hb dX3_asksWhy_114 (by decide) ?_
            refine lv_icmp_ne (tgt := 122) hx hb dX3_asksWhy_115 (by decide) (fun c_20 => ?_) (fun c_20 => ?_)
            · skip
              refine lv_iconst (v := 0) hx hb dX3_asksWhy_122 (by decide) ?_
              refine gh_iast (n := 24) (f := (wyA (A 0) (A 7) i_1)) hC hg (hT.1.2.1 7 (by decide)) (dn_nat (by omega)) (by omega) (by omega) dX3_asksWhy_123 (fun g H locs hg hw hn => ?_)
              have hT : tw_W V g0 g o ad I (va_up (va_up A 7 (wyA (A 0) (A 7) i_1)) 7 (upd (wyA (A 0) (A 7) i_1) (24 - i_1 - 1) 0)) F := hT.putA 7 (by decide) hw hn
              refine lv_iinc (v := (nI (24 - (i_1 + 1)) - 1)) (lv' := [(1, .int (nI (24 - (i_1 + 1)) - 1)), (4, .int 0), (3, .int ((nI (24 - i_1) - 1) + 1)), (2, .int (zn (A 0) ((24 - i_1 - 1) / 3) 2)), (0, .ref o)]) hx hb dX3_asksWhy_124 hl (k := 4) rfl (dn_step hi24) (by decide) rfl (fun ls hl => ?_)
              refine lv_goto (tgt := 3) hx hb dX3_asksWhy_127 (by decide) ?_
              exact ih3 _ _ _ _ hg ⟨(hT.eqA (fam8 rfl rfl rfl rfl rfl rfl rfl (wyA_s hi24 (show why1 (A 0) (24 - i_1 - 1) (wyA (A 0) (A 7) i_1 (24 - i_1 - 1 + 1)) = 0 from by unfold why1; simp only [if_neg c_6, if_neg pc_8, if_neg c_10, if_neg (not_not_intro c_12), if_pos pc_15, if_neg c_20])) (fun _ => rfl))), lv_sub hl [4, 0] rfl⟩
            refine lv_iconst (v := 5) hx hb dX3_asksWhy_118 (by decide) ?_
            refine lv_goto (tgt := 123) hx hb dX3_asksWhy_119 (by decide) ?_
            refine gh_iast (n := 24) (f := (wyA (A 0) (A 7) i_1)) hC hg (hT.1.2.1 7 (by decide)) (dn_nat (by omega)) (by omega) (by omega) dX3_asksWhy_123 (fun g H locs hg hw hn => ?_)
            have hT : tw_W V g0 g o ad I (va_up (va_up A 7 (wyA (A 0) (A 7) i_1)) 7 (upd (wyA (A 0) (A 7) i_1) (24 - i_1 - 1) 5)) F := hT.putA 7 (by decide) hw hn
            refine lv_iinc (v := (nI (24 - (i_1 + 1)) - 1)) (lv' := [(1, .int (nI (24 - (i_1 + 1)) - 1)), (4, .int 0), (3, .int ((nI (24 - i_1) - 1) + 1)), (2, .int (zn (A 0) ((24 - i_1 - 1) / 3) 2)), (0, .ref o)]) hx hb dX3_asksWhy_124 hl (k := 4) rfl (dn_step hi24) (by decide) rfl (fun ls hl => ?_)
            refine lv_goto (tgt := 3) hx hb dX3_asksWhy_127 (by decide) ?_
            exact ih3 _ _ _ _ hg ⟨(hT.eqA (fam8 rfl rfl rfl rfl rfl rfl rfl (wyA_s hi24 (show why1 (A 0) (24 - i_1 - 1) (wyA (A 0) (A 7) i_1 (24 - i_1 - 1 + 1)) = 5 from by unfold why1; simp only [if_neg c_6, if_neg pc_8, if_neg c_10, if_neg (not_not_intro c_12), if_pos pc_15, if_pos c_20])) (fun _ => rfl))), lv_sub hl [4, 0] rfl⟩
          refine lv_iconst (v := 3) hx hb dX3_asksWhy_70 (by decide) ?_
          refine lv_goto (tgt := 123) hx hb dX3_asksWhy_71 (by decide) ?_
          refine gh_iast (n := 24) (f := (wyA (A 0) (A 7) i_1)) hC hg (hT.1.2.1 7 (by decide)) (dn_nat (by omega)) (by omega) (by omega) dX3_asksWhy_123 (fun g H locs hg hw hn => ?_)
          have hT : tw_W V g0 g o ad I (va_up (va_up A 7 (wyA (A 0) (A 7) i_1)) 7 (upd (wyA (A 0) (A 7) i_1) (24 - i_1 - 1) 3)) F := hT.putA 7 (by decide) hw hn
          refine lv_iinc (v := (nI (24 - (i_1 + 1)) - 1)) (lv' := [(1, .int (nI (24 - (i_1 + 1)) - 1)), (4, .int 0), (3, .int ((nI (24 - i_1) - 1) + 1)), (2, .int (zn (A 0) ((24 - i_1 - 1) / 3) 2)), (0, .ref o)]) hx hb dX3_asksWhy_124 hl (k := 4) rfl (dn_step hi24) (by decide) rfl (fun ls hl => ?_)
          refine lv_goto (tgt := 3) hx hb dX3_asksWhy_127 (by decide) ?_
          exact ih3 _ _ _ _ hg ⟨(hT.eqA (fam8 rfl rfl rfl rfl rfl rfl rfl (wyA_s hi24 (show why1 (A 0) (24 - i_1 - 1) (wyA (A 0) (A 7) i_1 (24 - i_1 - 1 + 1)) = 3 from by unfold why1; simp only [if_neg c_6, if_neg pc_8, if_neg c_10, if_pos c_12])) (fun _ => rfl))), lv_sub hl [4, 0] rfl⟩
        refine lv_iconst (v := 2) hx hb dX3_asksWhy_54 (by decide) ?_
        refine lv_goto (tgt := 123) hx hb dX3_asksWhy_55 (by decide) ?_
        refine gh_iast (n := 24) (f := (wyA (A 0) (A 7) i_1)) hC hg (hT.1.2.1 7 (by decide)) (dn_nat (by omega)) (by omega) (by omega) dX3_asksWhy_123 (fun g H locs hg hw hn => ?_)
        have hT : tw_W V g0 g o ad I (va_up (va_up A 7 (wyA (A 0) (A 7) i_1)) 7 (upd (wyA (A 0) (A 7) i_1) (24 - i_1 - 1) 2)) F := hT.putA 7 (by decide) hw hn
        refine lv_iinc (v := (nI (24 - (i_1 + 1)) - 1)) (lv' := [(1, .int (nI (24 - (i_1 + 1)) - 1)), (4, .int 0), (3, .int ((nI (24 - i_1) - 1) + 1)), (2, .int (zn (A 0) ((24 - i_1 - 1) / 3) 2)), (0, .ref o)]) hx hb dX3_asksWhy_124 hl (k := 4) rfl (dn_step hi24) (by decide) rfl (fun ls hl => ?_)
        refine lv_goto (tgt := 3) hx hb dX3_asksWhy_127 (by decide) ?_
        exact ih3 _ _ _ _ hg ⟨(hT.eqA (fam8 rfl rfl rfl rfl rfl rfl rfl (wyA_s hi24 (show why1 (A 0) (24 - i_1 - 1) (wyA (A 0) (A 7) i_1 (24 - i_1 - 1 + 1)) = 2 from by unfold why1; simp only [if_neg c_6, if_neg pc_8, if_pos c_10])) (fun _ => rfl))), lv_sub hl [4, 0] rfl⟩
      rw [if_neg pc_8] at hp
      obtain ⟨rfl, hq⟩ := hp
      rw [hq] at hg
      have pc_8 := Decidable.not_not.mp pc_8
      refine lv_if_ne (tgt := 50) hx hb dX3_asksWhy_43 (by decide) (fun c_21 => (absurd ((nx_eq (show ((0 : Int32)) = nI 0 from rfl) (show ((0 : Int32)) = nI 0 from rfl) (by omega) (by omega)).mpr (by omega)) c_21)) (fun _ => ?_)
      refine lv_iconst (v := 1) hx hb dX3_asksWhy_46 (by decide) ?_
      refine lv_goto (tgt := 123) hx hb dX3_asksWhy_47 (by decide) ?_
      refine gh_iast (n := 24) (f := (wyA (A 0) (A 7) i_1)) hC hg (hT.1.2.1 7 (by decide)) (dn_nat (by omega)) (by omega) (by omega) dX3_asksWhy_123 (fun g H locs hg hw hn => ?_)
      have hT : tw_W V g0 g o ad I (va_up (va_up A 7 (wyA (A 0) (A 7) i_1)) 7 (upd (wyA (A 0) (A 7) i_1) (24 - i_1 - 1) 1)) F := hT.putA 7 (by decide) hw hn
      refine lv_iinc (v := (nI (24 - (i_1 + 1)) - 1)) (lv' := [(1, .int (nI (24 - (i_1 + 1)) - 1)), (4, .int 0), (3, .int ((nI (24 - i_1) - 1) + 1)), (2, .int (zn (A 0) ((24 - i_1 - 1) / 3) 2)), (0, .ref o)]) hx hb dX3_asksWhy_124 hl (k := 4) rfl (dn_step hi24) (by decide) rfl (fun ls hl => ?_)
      refine lv_goto (tgt := 3) hx hb dX3_asksWhy_127 (by decide) ?_
      exact ih3 _ _ _ _ hg ⟨(hT.eqA (fam8 rfl rfl rfl rfl rfl rfl rfl (wyA_s hi24 (show why1 (A 0) (24 - i_1 - 1) (wyA (A 0) (A 7) i_1 (24 - i_1 - 1 + 1)) = 1 from by unfold why1; simp only [if_neg c_6, if_pos pc_8])) (fun _ => rfl))), lv_sub hl [4, 0] rfl⟩
    have c_6 : ((24 - i_1 - 1) + 1) = 24 := (nx_eq (nx_add (dn_nat (by omega)) (show ((1 : Int32)) = nI 1 from rfl)) (show ((24 : Int32)) = nI 24 from rfl) (by omega) (by omega)).mp c_6
    refine lv_iconst (v := 1) hx hb dX3_asksWhy_26 (by decide) ?_
    refine lv_goto (tgt := 31) hx hb dX3_asksWhy_27 (by decide) ?_
    refine lv_istore (lv' := [(4, .int 1), (3, .int ((nI (24 - i_1) - 1) + 1)), (2, .int (zn (A 0) ((24 - i_1 - 1) / 3) 2)), (0, .ref o), (1, .int (nI (24 - i_1) - 1))]) hx hb dX3_asksWhy_31 hl (by decide) rfl (fun ls hl => ?_)
    refine lv_aload_n hx hb dX3_asksWhy_33 rfl (lv_at hl 3 rfl) ?_
    refine gh_get (v := .ref (ad 7)) hC hg hT.1.1 fX3_44_0 rfl dX3_asksWhy_34 ?_
    refine lv_iload_n hx hb dX3_asksWhy_37 rfl (lv_at hl 4 rfl) ?_
    refine lv_aload_n hx hb dX3_asksWhy_38 rfl (lv_at hl 3 rfl) ?_
    refine lv_iload_n hx hb dX3_asksWhy_39 rfl (lv_at hl 4 rfl) ?_
    refine gh_calli hg (gh_runV (As := [.int (nI (24 - i_1) - 1)]) (rest := [.int (nI (24 - i_1) - 1), .ref (ad 7)]) hC hg (t_isPiece l V o ad I (va_up A 7 (wyA (A 0) (A 7) i_1)) F _ hT.1 (nI (24 - i_1) - 1) (24 - i_1 - 1) (dn_nat (by omega)) (by omega)) 1 (lw_V q3960 q3962 qs64 q138 q3963) hT.1.1 rfl hd_X3_isPiece ⟨Nat.le_of_ble_eq_true rfl, Nat.le_of_ble_eq_true rfl⟩ rfl hl.1 rfl (Nat.le_of_ble_eq_true rfl) dX3_asksWhy_40 ⟨Nat.le_of_ble_eq_true rfl, Nat.le_of_ble_eq_true rfl⟩) (fun r_22 g H locs hg hp => ?_)
    replace hp : r_22 = (if ¬ pl (A 0) (24 - i_1 - 1) 0 = -1 then 1 else 0) ∧ g = _ := hp
    by_cases pc_23 : ¬ pl (A 0) (24 - i_1 - 1) 0 = -1
    · rw [if_pos pc_23] at hp
      obtain ⟨rfl, hq⟩ := hp
      rw [hq] at hg
      refine lv_if_ne (tgt := 50) hx hb dX3_asksWhy_43 (by decide) (fun _ => ?_) (fun c_24 => (absurd ((nx_eq (show ((1 : Int32)) = nI 1 from rfl) (show ((0 : Int32)) = nI 0 from rfl) (by omega) (by omega)).mp c_24) (by omega)))
      refine lv_iload_n hx hb dX3_asksWhy_50 rfl (lv_at hl 2 rfl) ?_
      refine lv_if_ne (tgt := 58) hx hb dX3_asksWhy_51 (by decide) (fun c_25 => ?_) (fun c_25 => ?_)
      · skip
        refine lv_aload_n hx hb dX3_asksWhy_58 rfl (lv_at hl 3 rfl) ?_
        refine lv_iload_n hx hb dX3_asksWhy_59 rfl (lv_at hl 4 rfl) ?_
        refine lv_iconst (v := 3) hx hb dX3_asksWhy_60 (by decide) ?_
        refine gh_calli hg (gh_runV (As := [.int (nI (24 - i_1) - 1), .int 3]) (rest := [.int (nI (24 - i_1) - 1), .ref (ad 7)]) hC hg (t_at l V o ad I (va_up A 7 (wyA (A 0) (A 7) i_1)) F _ hT.1 (nI (24 - i_1) - 1) 3 (24 - i_1 - 1) 3 (dn_nat (by omega)) (show ((3 : Int32)) = nI 3 from rfl) (by omega) (by omega)) 2 (lw_V q3964 q3966 qs65 q138 q3967) hT.1.1 rfl hd_X3_at ⟨Nat.le_of_ble_eq_true rfl, Nat.le_of_ble_eq_true rfl⟩ rfl hl.1 rfl (Nat.le_of_ble_eq_true rfl) dX3_asksWhy_61 ⟨Nat.le_of_ble_eq_true rfl, Nat.le_of_ble_eq_true rfl⟩) (fun r_26 g H locs hg hp => ?_)
        obtain ⟨hp, hq⟩ := hp
        replace hp : r_26 = (pl (A 0) (24 - i_1 - 1) 3) := hp
        subst hp
        rw [hq] at hg
        refine lv_iconst (v := 1) hx hb dX3_asksWhy_64 (by decide) ?_
        refine lv_iadd hx hb dX3_asksWhy_65 ?_
        refine lv_iload_n hx hb dX3_asksWhy_66 rfl (lv_at hl 2 rfl) ?_
        refine lv_icmp_ge (tgt := 74) hx hb dX3_asksWhy_67 (by decide) (fun c_27 => ?_) (fun c_27 => ?_)
        · skip
          refine lv_iload hx hb dX3_asksWhy_74 (lv_at hl 0 rfl) ?_
          refine lv_if_eq (tgt := 83) hx hb dX3_asksWhy_76 (by decide) (fun c_28 => (absurd ((nx_eq (show ((1 : Int32)) = nI 1 from rfl) (show ((0 : Int32)) = nI 0 from rfl) (by omega) (by omega)).mp c_28) (by omega))) (fun _ => ?_)
          refine lv_iconst (v := 0) hx hb dX3_asksWhy_79 (by decide) ?_
          refine lv_goto (tgt := 123) hx hb dX3_asksWhy_80 (by decide) ?_
          refine gh_iast (n := 24) (f := (wyA (A 0) (A 7) i_1)) hC hg (hT.1.2.1 7 (by decide)) (dn_nat (by omega)) (by omega) (by omega) dX3_asksWhy_123 (fun g H locs hg hw hn => ?_)
          have hT : tw_W V g0 g o ad I (va_up (va_up A 7 (wyA (A 0) (A 7) i_1)) 7 (upd (wyA (A 0) (A 7) i_1) (24 - i_1 - 1) 0)) F := hT.putA 7 (by decide) hw hn
          refine lv_iinc (v := (nI (24 - (i_1 + 1)) - 1)) (lv' := [(1, .int (nI (24 - (i_1 + 1)) - 1)), (4, .int 1), (3, .int ((nI (24 - i_1) - 1) + 1)), (2, .int (zn (A 0) ((24 - i_1 - 1) / 3) 2)), (0, .ref o)]) hx hb dX3_asksWhy_124 hl (k := 4) rfl (dn_step hi24) (by decide) rfl (fun ls hl => ?_)
          refine lv_goto (tgt := 3) hx hb dX3_asksWhy_127 (by decide) ?_
          exact ih3 _ _ _ _ hg ⟨(hT.eqA (fam8 rfl rfl rfl rfl rfl rfl rfl (wyA_s hi24 (show why1 (A 0) (24 - i_1 - 1) (wyA (A 0) (A 7) i_1 (24 - i_1 - 1 + 1)) = 0 from by unfold why1; simp only [if_pos c_6, if_neg pc_23, if_neg c_25, if_neg (not_not_intro c_27)])) (fun _ => rfl))), lv_sub hl [4, 0] rfl⟩
        refine lv_iconst (v := 3) hx hb dX3_asksWhy_70 (by decide) ?_
        refine lv_goto (tgt := 123) hx hb dX3_asksWhy_71 (by decide) ?_
        refine gh_iast (n := 24) (f := (wyA (A 0) (A 7) i_1)) hC hg (hT.1.2.1 7 (by decide)) (dn_nat (by omega)) (by omega) (by omega) dX3_asksWhy_123 (fun g H locs hg hw hn => ?_)
        have hT : tw_W V g0 g o ad I (va_up (va_up A 7 (wyA (A 0) (A 7) i_1)) 7 (upd (wyA (A 0) (A 7) i_1) (24 - i_1 - 1) 3)) F := hT.putA 7 (by decide) hw hn
        refine lv_iinc (v := (nI (24 - (i_1 + 1)) - 1)) (lv' := [(1, .int (nI (24 - (i_1 + 1)) - 1)), (4, .int 1), (3, .int ((nI (24 - i_1) - 1) + 1)), (2, .int (zn (A 0) ((24 - i_1 - 1) / 3) 2)), (0, .ref o)]) hx hb dX3_asksWhy_124 hl (k := 4) rfl (dn_step hi24) (by decide) rfl (fun ls hl => ?_)
        refine lv_goto (tgt := 3) hx hb dX3_asksWhy_127 (by decide) ?_
        exact ih3 _ _ _ _ hg ⟨(hT.eqA (fam8 rfl rfl rfl rfl rfl rfl rfl (wyA_s hi24 (show why1 (A 0) (24 - i_1 - 1) (wyA (A 0) (A 7) i_1 (24 - i_1 - 1 + 1)) = 3 from by unfold why1; simp only [if_pos c_6, if_neg pc_23, if_neg c_25, if_pos c_27])) (fun _ => rfl))), lv_sub hl [4, 0] rfl⟩
      refine lv_iconst (v := 2) hx hb dX3_asksWhy_54 (by decide) ?_
      refine lv_goto (tgt := 123) hx hb dX3_asksWhy_55 (by decide) ?_
      refine gh_iast (n := 24) (f := (wyA (A 0) (A 7) i_1)) hC hg (hT.1.2.1 7 (by decide)) (dn_nat (by omega)) (by omega) (by omega) dX3_asksWhy_123 (fun g H locs hg hw hn => ?_)
      have hT : tw_W V g0 g o ad I (va_up (va_up A 7 (wyA (A 0) (A 7) i_1)) 7 (upd (wyA (A 0) (A 7) i_1) (24 - i_1 - 1) 2)) F := hT.putA 7 (by decide) hw hn
      refine lv_iinc (v := (nI (24 - (i_1 + 1)) - 1)) (lv' := [(1, .int (nI (24 - (i_1 + 1)) - 1)), (4, .int 1), (3, .int ((nI (24 - i_1) - 1) + 1)), (2, .int (zn (A 0) ((24 - i_1 - 1) / 3) 2)), (0, .ref o)]) hx hb dX3_asksWhy_124 hl (k := 4) rfl (dn_step hi24) (by decide) rfl (fun ls hl => ?_)
      refine lv_goto (tgt := 3) hx hb dX3_asksWhy_127 (by decide) ?_
      exact ih3 _ _ _ _ hg ⟨(hT.eqA (fam8 rfl rfl rfl rfl rfl rfl rfl (wyA_s hi24 (show why1 (A 0) (24 - i_1 - 1) (wyA (A 0) (A 7) i_1 (24 - i_1 - 1 + 1)) = 2 from by unfold why1; simp only [if_pos c_6, if_neg pc_23, if_pos c_25])) (fun _ => rfl))), lv_sub hl [4, 0] rfl⟩
    rw [if_neg pc_23] at hp
    obtain ⟨rfl, hq⟩ := hp
    rw [hq] at hg
    have pc_23 := Decidable.not_not.mp pc_23
    refine lv_if_ne (tgt := 50) hx hb dX3_asksWhy_43 (by decide) (fun c_29 => (absurd ((nx_eq (show ((0 : Int32)) = nI 0 from rfl) (show ((0 : Int32)) = nI 0 from rfl) (by omega) (by omega)).mpr (by omega)) c_29)) (fun _ => ?_)
    refine lv_iconst (v := 1) hx hb dX3_asksWhy_46 (by decide) ?_
    refine lv_goto (tgt := 123) hx hb dX3_asksWhy_47 (by decide) ?_
    refine gh_iast (n := 24) (f := (wyA (A 0) (A 7) i_1)) hC hg (hT.1.2.1 7 (by decide)) (dn_nat (by omega)) (by omega) (by omega) dX3_asksWhy_123 (fun g H locs hg hw hn => ?_)
    have hT : tw_W V g0 g o ad I (va_up (va_up A 7 (wyA (A 0) (A 7) i_1)) 7 (upd (wyA (A 0) (A 7) i_1) (24 - i_1 - 1) 1)) F := hT.putA 7 (by decide) hw hn
    refine lv_iinc (v := (nI (24 - (i_1 + 1)) - 1)) (lv' := [(1, .int (nI (24 - (i_1 + 1)) - 1)), (4, .int 1), (3, .int ((nI (24 - i_1) - 1) + 1)), (2, .int (zn (A 0) ((24 - i_1 - 1) / 3) 2)), (0, .ref o)]) hx hb dX3_asksWhy_124 hl (k := 4) rfl (dn_step hi24) (by decide) rfl (fun ls hl => ?_)
    refine lv_goto (tgt := 3) hx hb dX3_asksWhy_127 (by decide) ?_
    exact ih3 _ _ _ _ hg ⟨(hT.eqA (fam8 rfl rfl rfl rfl rfl rfl rfl (wyA_s hi24 (show why1 (A 0) (24 - i_1 - 1) (wyA (A 0) (A 7) i_1 (24 - i_1 - 1 + 1)) = 1 from by unfold why1; simp only [if_pos c_6, if_pos pc_23])) (fun _ => rfl))), lv_sub hl [4, 0] rfl⟩
set_option maxHeartbeats 1000000 in
set_option maxRecDepth 100000 in
theorem t_whyNotMoving (l : Launch) (V : gh_V) (o : Nat) (ad : Nat → Nat) (I : Nat → Int32) (A : Nat → Nat → Int32) (F : Nat → Nat → UInt32) (g0 : gh_G) (hP : tw_P V g0 o ad I A F) (x : Int32) : MI l yX3_whyNotMoving cX3_whyNotMoving 2 (some .int) ({ frames := 3, cells := 0, slots := 0, locals := 67 } : Room) V [.ref o, .int x] g0 (fun r g1 => (c1 (okL x 24) = 0 → r = whyP (A 0) x.toNatClampNeg) ∧ tw_H V g0 g1 o ad (va_up I 3 (c1 (okL x 24))) A F) := by
  refine MG.of RX3 (by decide) rfl (Nat.le_of_ble_eq_true rfl) (fun pp ee s mm args below meth c ls hC hg hr hlk hnm hl => ?_)
  have hx := hC.1.1
  have hb := hC.1.2.1
  have hml := hC.1.2.2.1
  have hown := hC.1.2.2.2.1
  have hts := hC.1.2.2.2.2
  have hl : lv_has ls 2 [(0, .ref o), (1, .int x)] := hl
  have hT := hP.W
  refine lv_aload_n hx hb dX3_whyNotMoving_0 rfl (lv_at hl 0 rfl) ?_
  refine lv_iload_n hx hb dX3_whyNotMoving_1 rfl (lv_at hl 1 rfl) ?_
  refine gh_calli hg (gh_runV (As := [.int x]) (rest := []) hC hg (t_isPlace l V o ad I A F _ hT.1 x) 1 (lw_V q4134 q4136 qs88 q138 q4137) hT.1.1 rfl hd_X3_isPlace ⟨Nat.le_of_ble_eq_true rfl, Nat.le_of_ble_eq_true rfl⟩ rfl hl.1 rfl (Nat.le_of_ble_eq_true rfl) dX3_whyNotMoving_2 ⟨Nat.le_of_ble_eq_true rfl, Nat.le_of_ble_eq_true rfl⟩) (fun r_1 g H locs hg hp => ?_)
  replace hp : r_1 = (if okL x 24 then 1 else 0) ∧ tw_W V _ g o ad (va_up I 3 (if okL x 24 then 0 else 1)) A F := hp
  by_cases ok_2 : okL x 24
  · rw [if_pos ok_2, if_pos ok_2] at hp
    obtain ⟨rfl, hp⟩ := hp
    have hT : tw_W V g0 g o ad (va_up I 3 0) A F := hT.call hp
    obtain ⟨h_3a, h_3⟩ := okL_cl (by omega) ok_2
    refine lv_if_ne (tgt := 10) hx hb dX3_whyNotMoving_5 (by decide) (fun _ => ?_) (fun c_4 => (absurd ((nx_eq (show ((1 : Int32)) = nI 1 from rfl) (show ((0 : Int32)) = nI 0 from rfl) (by omega) (by omega)).mp c_4) (by omega)))
    refine lv_aload_n hx hb dX3_whyNotMoving_10 rfl (lv_at hl 0 rfl) ?_
    refine gh_callv hg (gh_runV (As := []) (rest := []) hC hg (t_asksWhy l V o ad (va_up I 3 0) A F _ hT.1) 0 (lw_V q4174 q4176 qs90 q138 q4177) hT.1.1 rfl hd_X3_asksWhy ⟨Nat.le_of_ble_eq_true rfl, Nat.le_of_ble_eq_true rfl⟩ rfl hl.1 rfl (Nat.le_of_ble_eq_true rfl) dX3_whyNotMoving_11 ⟨Nat.le_of_ble_eq_true rfl, Nat.le_of_ble_eq_true rfl⟩) (fun g H locs hg hp => ?_)
    have hT : tw_W V g0 g o ad (va_up I 3 0) (va_up A 7 (wyA (A 0) (A 7) 24)) F := hT.call hp
    refine lv_aload_n hx hb dX3_whyNotMoving_14 rfl (lv_at hl 0 rfl) ?_
    refine gh_get (v := .ref (ad 7)) hC hg hT.1.1 fX3_44_0 rfl dX3_whyNotMoving_15 ?_
    refine lv_iload_n hx hb dX3_whyNotMoving_18 rfl (lv_at hl 1 rfl) ?_
    refine gh_iald (n := 24) (f := (wyA (A 0) (A 7) 24)) hC hg (hT.1.2.1 7 (by decide)) h_3 (by omega) (by omega) dX3_whyNotMoving_19 ?_
    refine W.eq (g2 := F0 mm 20 ls [.int (whyP (A 0) ((x).toNatClampNeg))]) (by rw [wyA_24 (by omega)] <;> rfl) ?_
    have e9 : c1 (okL x 24) = 0 := by first | rfl | (simp only [c1, c2, c3, if_pos ok_2]; done) | simp [c1, c2, c3, ok_2]
    exact gh_reti hC hg hr hlk (⟨fun h9 => rfl, by rw [e9]; exact hT.H ⟨rfl, rfl, rfl, rfl⟩ ⟨rfl, rfl, rfl, rfl⟩ ⟨rfl, rfl, rfl⟩⟩) dX3_whyNotMoving_20 (Nat.le_of_ble_eq_true rfl) (Nat.le_of_ble_eq_true rfl)
  rw [if_neg ok_2, if_neg ok_2] at hp
  obtain ⟨rfl, hp⟩ := hp
  have hT : tw_W V g0 g o ad (va_up I 3 1) A F := hT.call hp
  refine lv_if_ne (tgt := 10) hx hb dX3_whyNotMoving_5 (by decide) (fun c_5 => (absurd ((nx_eq (show ((0 : Int32)) = nI 0 from rfl) (show ((0 : Int32)) = nI 0 from rfl) (by omega) (by omega)).mpr (by omega)) c_5)) (fun _ => ?_)
  refine lv_iconst (v := 0) hx hb dX3_whyNotMoving_8 (by decide) ?_
  have e9 : c1 (okL x 24) = 1 := by first | rfl | (simp only [c1, c2, c3, if_neg ok_2]; done) | simp [c1, c2, c3, ok_2]
  exact gh_reti hC hg hr hlk (⟨fun h9 => absurd (e9.symm.trans h9) (by decide), by rw [e9]; exact hT.H ⟨rfl, rfl, rfl, rfl⟩ ⟨rfl, rfl, rfl, rfl⟩ ⟨rfl, rfl, rfl⟩⟩) dX3_whyNotMoving_9 (Nat.le_of_ble_eq_true rfl) (Nat.le_of_ble_eq_true rfl)
set_option maxHeartbeats 1000000 in
set_option maxRecDepth 100000 in
theorem t_heldUpBy (l : Launch) (V : gh_V) (o : Nat) (ad : Nat → Nat) (I : Nat → Int32) (A : Nat → Nat → Int32) (F : Nat → Nat → UInt32) (g0 : gh_G) (hP : tw_P V g0 o ad I A F) (x : Int32) : MI l yX3_heldUpBy cX3_heldUpBy 3 (some .int) ({ frames := 3, cells := 0, slots := 0, locals := 67 } : Room) V [.ref o, .int x] g0 (fun r g1 => (c1 (okL x 24) = 0 → r = hupN (A 0) x.toNatClampNeg) ∧ tw_H V g0 g1 o ad (va_up I 3 (c1 (okL x 24))) A F) := by
  refine MG.of RX3 (by decide) rfl (Nat.le_of_ble_eq_true rfl) (fun pp ee s mm args below meth c ls hC hg hr hlk hnm hl => ?_)
  have hx := hC.1.1
  have hb := hC.1.2.1
  have hml := hC.1.2.2.1
  have hown := hC.1.2.2.2.1
  have hts := hC.1.2.2.2.2
  have hl : lv_has ls 3 [(0, .ref o), (1, .int x)] := hl
  have hT := hP.W
  refine lv_aload_n hx hb dX3_heldUpBy_0 rfl (lv_at hl 0 rfl) ?_
  refine lv_iload_n hx hb dX3_heldUpBy_1 rfl (lv_at hl 1 rfl) ?_
  refine gh_calli hg (gh_runV (As := [.int x]) (rest := []) hC hg (t_isPlace l V o ad I A F _ hT.1 x) 1 (lw_V q4134 q4136 qs88 q138 q4137) hT.1.1 rfl hd_X3_isPlace ⟨Nat.le_of_ble_eq_true rfl, Nat.le_of_ble_eq_true rfl⟩ rfl hl.1 rfl (Nat.le_of_ble_eq_true rfl) dX3_heldUpBy_2 ⟨Nat.le_of_ble_eq_true rfl, Nat.le_of_ble_eq_true rfl⟩) (fun r_1 g H locs hg hp => ?_)
  replace hp : r_1 = (if okL x 24 then 1 else 0) ∧ tw_W V _ g o ad (va_up I 3 (if okL x 24 then 0 else 1)) A F := hp
  by_cases ok_2 : okL x 24
  · rw [if_pos ok_2, if_pos ok_2] at hp
    obtain ⟨rfl, hp⟩ := hp
    have hT : tw_W V g0 g o ad (va_up I 3 0) A F := hT.call hp
    obtain ⟨h_3a, h_3⟩ := okL_cl (by omega) ok_2
    refine lv_if_ne (tgt := 10) hx hb dX3_heldUpBy_5 (by decide) (fun _ => ?_) (fun c_4 => (absurd ((nx_eq (show ((1 : Int32)) = nI 1 from rfl) (show ((0 : Int32)) = nI 0 from rfl) (by omega) (by omega)).mp c_4) (by omega)))
    refine lv_aload_n hx hb dX3_heldUpBy_10 rfl (lv_at hl 0 rfl) ?_
    refine gh_callv hg (gh_runV (As := []) (rest := []) hC hg (t_asksWhy l V o ad (va_up I 3 0) A F _ hT.1) 0 (lw_V q4174 q4176 qs90 q138 q4177) hT.1.1 rfl hd_X3_asksWhy ⟨Nat.le_of_ble_eq_true rfl, Nat.le_of_ble_eq_true rfl⟩ rfl hl.1 rfl (Nat.le_of_ble_eq_true rfl) dX3_heldUpBy_11 ⟨Nat.le_of_ble_eq_true rfl, Nat.le_of_ble_eq_true rfl⟩) (fun g H locs hg hp => ?_)
    have hT : tw_W V g0 g o ad (va_up I 3 0) (va_up A 7 (wyA (A 0) (A 7) 24)) F := hT.call hp
    refine lv_aload_n hx hb dX3_heldUpBy_14 rfl (lv_at hl 0 rfl) ?_
    refine gh_get (v := .ref (ad 7)) hC hg hT.1.1 fX3_44_0 rfl dX3_heldUpBy_15 ?_
    refine lv_iload_n hx hb dX3_heldUpBy_18 rfl (lv_at hl 1 rfl) ?_
    refine gh_iald (n := 24) (f := (wyA (A 0) (A 7) 24)) hC hg (hT.1.2.1 7 (by decide)) h_3 (by omega) (by omega) dX3_heldUpBy_19 ?_
    refine W.eq (g2 := F0 mm 20 ls [.int (whyP (A 0) ((x).toNatClampNeg))]) (by rw [wyA_24 (by omega)] <;> rfl) ?_
    refine lv_iconst (v := 2) hx hb dX3_heldUpBy_20 (by decide) ?_
    refine lv_icmp_ge (tgt := 26) hx hb dX3_heldUpBy_21 (by decide) (fun c_5 => ?_) (fun c_5 => ?_)
    · skip
      refine lv_iload_n hx hb dX3_heldUpBy_26 rfl (lv_at hl 1 rfl) ?_
      refine lv_istore_n (lv' := [(2, .int x), (0, .ref o), (1, .int x)]) hx hb dX3_heldUpBy_27 rfl hl (by decide) rfl (fun ls hl => ?_)
      refine gh_loop (N := 23) (X := fun i_6 g ls => tw_W V g0 g o ad (va_up I 3 0) (va_up A 7 (wyA (A 0) (A 7) 24)) F ∧ hup (A 0) ((x).toNatClampNeg) (23 - ((x).toNatClampNeg)) = hup (A 0) i_6 (23 - i_6) ∧ lv_has ls 3 [(0, .ref o), (1, .int x), (2, .int (nI i_6))]) ?_ ?_ ((x).toNatClampNeg) (by omega) hg ⟨hT, rfl, (Eq.mp (by rw [← h_3]; rfl) (lv_sub hl [1, 2, 0] rfl))⟩
      · intro g H locs ls hg hX
        obtain ⟨hT, hE9, hl⟩ := hX
        have hE8 := hE9.trans (rfl : hup (A 0) 23 (23 - 23) = 23)
        refine lv_aload_n hx hb dX3_heldUpBy_28 rfl (lv_at hl 0 rfl) ?_
        refine gh_get (v := .ref (ad 7)) hC hg hT.1.1 fX3_44_0 rfl dX3_heldUpBy_29 ?_
        refine lv_iload_n hx hb dX3_heldUpBy_32 rfl (lv_at hl 2 rfl) ?_
        refine gh_iald (n := 24) (f := (wyA (A 0) (A 7) 24)) hC hg (hT.1.2.1 7 (by decide)) rfl (by omega) (by omega) dX3_heldUpBy_33 ?_
        refine W.eq (g2 := F0 mm 34 ls [.int (whyP (A 0) 23)]) (by rw [wyA_24 (by omega)] <;> rfl) ?_
        refine lv_iconst (v := 4) hx hb dX3_heldUpBy_34 (by decide) ?_
        refine lv_icmp_ne (tgt := 44) hx hb dX3_heldUpBy_35 (by decide) (fun _ => ?_) (fun c_7 => (absurd c_7 (whyP_23 (A 0))))
        refine lv_aload_n hx hb dX3_heldUpBy_44 rfl (lv_at hl 0 rfl) ?_
        refine gh_get (v := .ref (ad 7)) hC hg hT.1.1 fX3_44_0 rfl dX3_heldUpBy_45 ?_
        refine lv_iload_n hx hb dX3_heldUpBy_48 rfl (lv_at hl 2 rfl) ?_
        refine gh_iald (n := 24) (f := (wyA (A 0) (A 7) 24)) hC hg (hT.1.2.1 7 (by decide)) rfl (by omega) (by omega) dX3_heldUpBy_49 ?_
        refine W.eq (g2 := F0 mm 50 ls [.int (whyP (A 0) 23)]) (by rw [wyA_24 (by omega)] <;> rfl) ?_
        refine lv_iconst (v := 5) hx hb dX3_heldUpBy_50 (by decide) ?_
        refine lv_icmp_ne (tgt := 60) hx hb dX3_heldUpBy_51 (by decide) (fun c_8 => ?_) (fun c_8 => ?_)
        · skip
          refine lv_iload_n hx hb dX3_heldUpBy_60 rfl (lv_at hl 2 rfl) ?_
          have e9 : c1 (okL x 24) = 0 := by first | rfl | (simp only [c1, c2, c3, if_neg c_8]; done) | simp [c1, c2, c3, ok_2, c_5, c_8]
          exact gh_reti hC hg hr hlk (⟨fun h9 => (by unfold hupN; rw [if_neg (not_not_intro c_5), hE8]; exact (if_neg c_8).symm), by rw [e9]; exact hT.H ⟨rfl, rfl, rfl, rfl⟩ ⟨rfl, rfl, rfl, rfl⟩ ⟨rfl, rfl, rfl⟩⟩) dX3_heldUpBy_61 (Nat.le_of_ble_eq_true rfl) (Nat.le_of_ble_eq_true rfl)
        refine lv_iload_n hx hb dX3_heldUpBy_54 rfl (lv_at hl 2 rfl) ?_
        refine lv_iconst (v := 1) hx hb dX3_heldUpBy_55 (by decide) ?_
        refine lv_iadd hx hb dX3_heldUpBy_56 ?_
        refine lv_goto (tgt := 61) hx hb dX3_heldUpBy_57 (by decide) ?_
        have e9 : c1 (okL x 24) = 0 := by first | rfl | (simp only [c1, c2, c3, if_pos c_8]; done) | simp [c1, c2, c3, ok_2, c_5, c_8]
        exact gh_reti hC hg hr hlk (⟨fun h9 => (by unfold hupN; rw [if_neg (not_not_intro c_5), hE8]; exact (if_pos c_8).symm), by rw [e9]; exact hT.H ⟨rfl, rfl, rfl, rfl⟩ ⟨rfl, rfl, rfl, rfl⟩ ⟨rfl, rfl, rfl⟩⟩) dX3_heldUpBy_61 (Nat.le_of_ble_eq_true rfl) (Nat.le_of_ble_eq_true rfl)
      · intro i_6 h_9 ih28 g H locs ls hg hX
        obtain ⟨hT, hE9, hl⟩ := hX
        refine lv_aload_n hx hb dX3_heldUpBy_28 rfl (lv_at hl 0 rfl) ?_
        refine gh_get (v := .ref (ad 7)) hC hg hT.1.1 fX3_44_0 rfl dX3_heldUpBy_29 ?_
        refine lv_iload_n hx hb dX3_heldUpBy_32 rfl (lv_at hl 2 rfl) ?_
        refine gh_iald (n := 24) (f := (wyA (A 0) (A 7) 24)) hC hg (hT.1.2.1 7 (by decide)) rfl (by omega) (by omega) dX3_heldUpBy_33 ?_
        refine W.eq (g2 := F0 mm 34 ls [.int (whyP (A 0) i_6)]) (by rw [wyA_24 (by omega)] <;> rfl) ?_
        refine lv_iconst (v := 4) hx hb dX3_heldUpBy_34 (by decide) ?_
        refine lv_icmp_ne (tgt := 44) hx hb dX3_heldUpBy_35 (by decide) (fun c_10 => ?_) (fun c_10 => ?_)
        · skip
          have hE8 := hE9.trans ((hup_s (by omega)).trans (if_neg c_10))
          refine lv_aload_n hx hb dX3_heldUpBy_44 rfl (lv_at hl 0 rfl) ?_
          refine gh_get (v := .ref (ad 7)) hC hg hT.1.1 fX3_44_0 rfl dX3_heldUpBy_45 ?_
          refine lv_iload_n hx hb dX3_heldUpBy_48 rfl (lv_at hl 2 rfl) ?_
          refine gh_iald (n := 24) (f := (wyA (A 0) (A 7) 24)) hC hg (hT.1.2.1 7 (by decide)) rfl (by omega) (by omega) dX3_heldUpBy_49 ?_
          refine W.eq (g2 := F0 mm 50 ls [.int (whyP (A 0) i_6)]) (by rw [wyA_24 (by omega)] <;> rfl) ?_
          refine lv_iconst (v := 5) hx hb dX3_heldUpBy_50 (by decide) ?_
          refine lv_icmp_ne (tgt := 60) hx hb dX3_heldUpBy_51 (by decide) (fun c_11 => ?_) (fun c_11 => ?_)
          · skip
            refine lv_iload_n hx hb dX3_heldUpBy_60 rfl (lv_at hl 2 rfl) ?_
            have e9 : c1 (okL x 24) = 0 := by first | rfl | (simp only [c1, c2, c3, if_neg c_11]; done) | simp [c1, c2, c3, ok_2, c_5, c_10, c_11]
            exact gh_reti hC hg hr hlk (⟨fun h9 => (by unfold hupN; rw [if_neg (not_not_intro c_5), hE8]; exact (if_neg c_11).symm), by rw [e9]; exact hT.H ⟨rfl, rfl, rfl, rfl⟩ ⟨rfl, rfl, rfl, rfl⟩ ⟨rfl, rfl, rfl⟩⟩) dX3_heldUpBy_61 (Nat.le_of_ble_eq_true rfl) (Nat.le_of_ble_eq_true rfl)
          refine lv_iload_n hx hb dX3_heldUpBy_54 rfl (lv_at hl 2 rfl) ?_
          refine lv_iconst (v := 1) hx hb dX3_heldUpBy_55 (by decide) ?_
          refine lv_iadd hx hb dX3_heldUpBy_56 ?_
          refine lv_goto (tgt := 61) hx hb dX3_heldUpBy_57 (by decide) ?_
          have e9 : c1 (okL x 24) = 0 := by first | rfl | (simp only [c1, c2, c3, if_pos c_11]; done) | simp [c1, c2, c3, ok_2, c_5, c_10, c_11]
          exact gh_reti hC hg hr hlk (⟨fun h9 => (by unfold hupN; rw [if_neg (not_not_intro c_5), hE8]; exact (if_pos c_11).symm), by rw [e9]; exact hT.H ⟨rfl, rfl, rfl, rfl⟩ ⟨rfl, rfl, rfl, rfl⟩ ⟨rfl, rfl, rfl⟩⟩) dX3_heldUpBy_61 (Nat.le_of_ble_eq_true rfl) (Nat.le_of_ble_eq_true rfl)
        refine lv_iinc (v := (nI (i_6 + 1))) (lv' := [(2, .int (nI (i_6 + 1))), (0, .ref o), (1, .int x)]) hx hb dX3_heldUpBy_38 hl (k := 2) rfl (nx_iinc rfl) (by decide) rfl (fun ls hl => ?_)
        refine lv_goto (tgt := 28) hx hb dX3_heldUpBy_41 (by decide) ?_
        exact ih28 _ _ _ _ hg ⟨hT, (hE9.trans ((hup_s (by omega)).trans (if_pos c_10))), lv_sub hl [1, 2, 0] rfl⟩
    refine lv_iconst (v := (-1)) hx hb dX3_heldUpBy_24 (by decide) ?_
    have e9 : c1 (okL x 24) = 0 := by first | rfl | (simp only [c1, c2, c3, if_pos ok_2, if_neg c_5]; done) | simp [c1, c2, c3, ok_2, c_5]
    exact gh_reti hC hg hr hlk (⟨fun h9 => (if_pos c_5).symm, by rw [e9]; exact hT.H ⟨rfl, rfl, rfl, rfl⟩ ⟨rfl, rfl, rfl, rfl⟩ ⟨rfl, rfl, rfl⟩⟩) dX3_heldUpBy_25 (Nat.le_of_ble_eq_true rfl) (Nat.le_of_ble_eq_true rfl)
  rw [if_neg ok_2, if_neg ok_2] at hp
  obtain ⟨rfl, hp⟩ := hp
  have hT : tw_W V g0 g o ad (va_up I 3 1) A F := hT.call hp
  refine lv_if_ne (tgt := 10) hx hb dX3_heldUpBy_5 (by decide) (fun c_12 => (absurd ((nx_eq (show ((0 : Int32)) = nI 0 from rfl) (show ((0 : Int32)) = nI 0 from rfl) (by omega) (by omega)).mpr (by omega)) c_12)) (fun _ => ?_)
  refine lv_iconst (v := 0) hx hb dX3_heldUpBy_8 (by decide) ?_
  have e9 : c1 (okL x 24) = 1 := by first | rfl | (simp only [c1, c2, c3, if_neg ok_2]; done) | simp [c1, c2, c3, ok_2]
  exact gh_reti hC hg hr hlk (⟨fun h9 => absurd (e9.symm.trans h9) (by decide), by rw [e9]; exact hT.H ⟨rfl, rfl, rfl, rfl⟩ ⟨rfl, rfl, rfl, rfl⟩ ⟨rfl, rfl, rfl⟩⟩) dX3_heldUpBy_9 (Nat.le_of_ble_eq_true rfl) (Nat.le_of_ble_eq_true rfl)
