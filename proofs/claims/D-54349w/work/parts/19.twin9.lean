def clr (s : Nat → Int32) (off i : Nat) : Nat → Int32 := fun j => if off ≤ j ∧ j < off + i then 0 else s j
theorem clr_0 (s : Nat → Int32) (off : Nat) : clr s off 0 = s := by
  funext j; unfold clr; rw [if_neg (by omega)]
theorem clr_s (s : Nat → Int32) (off i : Nat) : upd (clr s off i) (off + i) 0 = clr s off (i + 1) := by
  funext j
  simp only [upd, clr]
  by_cases hj : j = off + i
  · subst hj; rw [if_pos rfl, if_pos (by omega)]
  · have e : (off ≤ j ∧ j < off + (i + 1)) ↔ (off ≤ j ∧ j < off + i) := by omega
    simp [hj, e]
def opensS (s : Nat → Int32) (L : Nat) (x y : Int32) : Nat → Int32 := lts (lts (clr (upd s 163 (s 163 + 1)) (164 + 25 * L) 25) L 0 x) L 1 y
def loadsS (s : Nat → Int32) (i : Nat) (x : Int32) : Nat → Int32 := ps (ps (ps (ps (lts s i 2 (lt s i 2 + 1)) 0 0 x) 0 1 (lt s i 2)) 0 2 600) 0 3 0
def farN (s : Nat → Int32) (c : Nat) (y : Int32) : Int32 := if y ≤ cl s c 0 then cl s c 0 - y else y - cl s c 0
def sendsS (s : Nat → Int32) (c : Nat) (y : Int32) : Nat → Int32 := cls (cls s c 0 y) c 1 (3 + farN s c y / 2)
def coinsN (s : Nat → Int32) (d : Nat) : Int32 := if s 0 ≤ od s d 3 then od s d 4 else od s d 4 / 2
def dlv (s : Nat → Int32) (i d : Nat) : Nat → Int32 :=
  ods (ods (lts s i 4 (lt s i 4 + coinsN s d)) d 5 (od (lts s i 4 (lt s i 4 + coinsN s d)) d 5 + coinsN s d)) d 2 (od (ods (lts s i 4 (lt s i 4 + coinsN s d)) d 5 (od (lts s i 4 (lt s i 4 + coinsN s d)) d 5 + coinsN s d)) d 2 - 1)
def bo (s : Nat → Int32) (i : Nat) : Nat → Int32
  | 0 => -1
  | k + 1 => if od s k 0 = lt s i 0 then (if od s k 1 = lt s i 1 then (if od s k 2 ≤ 0 then bo s i k else if bo s i k = -1 then nI k else if od s (bo s i k).toNatClampNeg 3 ≤ od s k 3 then bo s i k else nI k) else bo s i k) else bo s i k
theorem bo_cases (s : Nat → Int32) (i : Nat) : ∀ k, bo s i k = -1 ∨ ∃ j, j < k ∧ bo s i k = nI j
  | 0 => Or.inl rfl
  | k + 1 => by
    have ih : bo s i k = -1 ∨ ∃ j, j < k + 1 ∧ bo s i k = nI j := by
      rcases bo_cases s i k with h | ⟨j, hj, h⟩
      · exact Or.inl h
      · exact Or.inr ⟨j, by omega, h⟩
    unfold bo
    repeat' split
    all_goals first | exact ih | exact Or.inr ⟨k, by omega, rfl⟩
theorem bo_nat {s : Nat → Int32} {i k : Nat} (hk : k < 2 ^ 31) (h : ¬ bo s i k = -1) : (bo s i k).toNatClampNeg < k ∧ bo s i k = nI (bo s i k).toNatClampNeg := by
  rcases bo_cases s i k with h1 | ⟨j, hj, h1⟩
  · exact absurd h1 h
  · rw [h1, nI_clamp (by omega)]; exact ⟨hj, rfl⟩
def goodS (s : Nat → Int32) (i D : Nat) : Nat → Int32 := if bo s i D = -1 then lts s i 3 (lt s i 3 + 1) else dlv s i (bo s i D).toNatClampNeg
/-- the inner loop of takeOrder: lot k against the order d, at most n pieces -/
abbrev tkC (s : Nat → Int32) (k d : Nat) (x y : Int32) : Prop := lt s k 0 = x ∧ lt s k 1 = y ∧ ¬ lt s k 3 ≤ 0 ∧ ¬ od s d 2 ≤ 0
def tkI (k d : Nat) (x y : Int32) : Nat → (Nat → Int32) → (Nat → Int32)
  | 0, s => s
  | n + 1, s => if tkC s k d x y then tkI k d x y n (dlv (lts s k 3 (lt s k 3 + (-1))) k d) else s
theorem tkI_stop {s : Nat → Int32} {k d : Nat} {x y : Int32} (n : Nat) (h : ¬ tkC s k d x y) : tkI k d x y n s = s := by
  cases n with
  | zero => rfl
  | succ n => rw [tkI, if_neg h]
theorem tkI_go {s : Nat → Int32} {k d : Nat} {x y : Int32} {n : Nat} (hn : 0 < n) (h : tkC s k d x y) : tkI k d x y n s = tkI k d x y (n - 1) (dlv (lts s k 3 (lt s k 3 + (-1))) k d) := by
  obtain ⟨m, rfl⟩ : ∃ m, n = m + 1 := ⟨n - 1, by omega⟩
  rw [tkI, if_pos h]
  rfl
def tk (s : Nat → Int32) (d : Nat) (x y : Int32) : Nat → (Nat → Int32)
  | 0 => s
  | k + 1 => tkI k d x y (od (tk s d x y k) d 2).toNatClampNeg (tk s d x y k)
def newOrd (s : Nat → Int32) (D : Nat) (x y u v w : Int32) : Nat → Int32 := upd (upd (upd (upd (upd (upd (upd s 464 (s 464 + 1)) (465 + 6 * D + 0) x) (465 + 6 * D + 1) y) (465 + 6 * D + 2) u) (465 + 6 * D + 3) v) (465 + 6 * D + 4) w) (465 + 6 * D + 5) 0
/-- other places -/
theorem ods_ne {s : Nat → Int32} {d k j : Nat} {v : Int32} (h : j ≠ 465 + 6 * d + k) : ods s d k v j = s j := if_neg h
theorem lts_ne {s : Nat → Int32} {d k j : Nat} {v : Int32} (h : j ≠ 164 + 25 * d + k) : lts s d k v j = s j := if_neg h
theorem ods_eq {s : Nat → Int32} {d k : Nat} {v : Int32} : od (ods s d k v) d k = v := if_pos rfl
theorem dlv_ne {s : Nat → Int32} {i d j : Nat} (h1 : j ≠ 164 + 25 * i + 4) (h2 : j ≠ 465 + 6 * d + 5) (h3 : j ≠ 465 + 6 * d + 2) : dlv s i d j = s j := by
  unfold dlv; rw [ods_ne h3, ods_ne h2, lts_ne h1]
theorem dlv_w {s : Nat → Int32} {i d : Nat} (hi : i < 12) : od (dlv s i d) d 2 = od s d 2 - 1 := by
  unfold dlv
  rw [ods_eq]
  show ods _ d 5 _ (465 + 6 * d + 2) - 1 = _
  rw [ods_ne (by omega), lts_ne (by omega)]
  rfl
theorem bo_s (s : Nat → Int32) (i k : Nat) : bo s i (k + 1) = if od s k 0 = lt s i 0 then (if od s k 1 = lt s i 1 then (if od s k 2 ≤ 0 then bo s i k else if bo s i k = -1 then nI k else if od s (bo s i k).toNatClampNeg 3 ≤ od s k 3 then bo s i k else nI k) else bo s i k) else bo s i k := rfl
set_option maxRecDepth 100000
theorem fX3_23_0 : gh_fd RX3 23 0 5 (.array .int) true := gh_fd.own (T := TX3) tyX3 rfl in_X3 tyX3_ok nmX3 (by decide) q3835 rfl rfl (fun h => rfl)
theorem fX3_257_0 : gh_fd RX3 257 0 7 .boolean false := gh_fd.own (T := TX3) tyX3 rfl in_X3 tyX3_ok nmX3 (by decide) q3837 rfl rfl (fun h => by cases h)
theorem fX3_26_0 : gh_fd RX3 26 0 6 (.array .float) true := gh_fd.own (T := TX3) tyX3 rfl in_X3 tyX3_ok nmX3 (by decide) q3836 rfl rfl (fun h => rfl)
theorem hd_X3_delivers : yX3_delivers.cls = RX3 ∧ yX3_delivers.cls ≠ "java/lang/invoke/MethodHandle" ∧ yX3_delivers.cls ≠ "java/lang/invoke/VarHandle" ∧ (parseMethodDescriptor yX3_delivers.desc).map (fun d => d.parameters.length) = some 2 := by decide +kernel
theorem hd_X3_growLot : yX3_growLot.cls = RX3 ∧ yX3_growLot.cls ≠ "java/lang/invoke/MethodHandle" ∧ yX3_growLot.cls ≠ "java/lang/invoke/VarHandle" ∧ (parseMethodDescriptor yX3_growLot.desc).map (fun d => d.parameters.length) = some 3 := by decide +kernel
theorem hd_X3_loads : yX3_loads.cls = RX3 ∧ yX3_loads.cls ≠ "java/lang/invoke/MethodHandle" ∧ yX3_loads.cls ≠ "java/lang/invoke/VarHandle" ∧ (parseMethodDescriptor yX3_loads.desc).map (fun d => d.parameters.length) = some 1 := by decide +kernel
theorem hd_X3_opens : yX3_opens.cls = RX3 ∧ yX3_opens.cls ≠ "java/lang/invoke/MethodHandle" ∧ yX3_opens.cls ≠ "java/lang/invoke/VarHandle" ∧ (parseMethodDescriptor yX3_opens.desc).map (fun d => d.parameters.length) = some 2 := by decide +kernel
theorem hd_X3_putPlace : yX3_putPlace.cls = RX3 ∧ yX3_putPlace.cls ≠ "java/lang/invoke/MethodHandle" ∧ yX3_putPlace.cls ≠ "java/lang/invoke/VarHandle" ∧ (parseMethodDescriptor yX3_putPlace.desc).map (fun d => d.parameters.length) = some 3 := by decide +kernel
theorem hd_X3_sends : yX3_sends.cls = RX3 ∧ yX3_sends.cls ≠ "java/lang/invoke/MethodHandle" ∧ yX3_sends.cls ≠ "java/lang/invoke/VarHandle" ∧ (parseMethodDescriptor yX3_sends.desc).map (fun d => d.parameters.length) = some 2 := by decide +kernel
set_option maxHeartbeats 1000000 in
set_option maxRecDepth 100000 in
theorem t_undo (l : Launch) (V : gh_V) (o : Nat) (ad : Nat → Nat) (I : Nat → Int32) (A : Nat → Nat → Int32) (F : Nat → Nat → UInt32) (g0 : gh_G) (hP : tw_P V g0 o ad I A F) (K : Nat) (hKn : I 0 = nI K) (hK5 : K ≤ 5) : MI l yX3_undo cX3_undo 2 (some .int) ({ frames := 1, cells := 0, slots := 0, locals := 21 } : Room) V [.ref o] g0 (fun r g1 => (c1 (¬ K = 0) = 0 → r = I 0 - 1 ∧ tw_W V g0 g1 o ad (va_up (va_up I 3 0) 0 (I 0 - 1)) (va_up A 0 (cpn (fun j => A 1 (578 * (K - 1) + j)) (A 0) 578)) (va_up F 0 (cpn (fun j => F 1 (24 * (K - 1) + j)) (F 0) 24))) ∧ (¬ c1 (¬ K = 0) = 0 → tw_W V g0 g1 o ad (va_up I 3 (c1 (¬ K = 0))) A F)) := by
  refine MG.of RX3 (by decide) rfl (Nat.le_of_ble_eq_true rfl) (fun pp ee s mm args below meth c ls hC hg hr hlk hnm hl => ?_)
  have hx := hC.1.1
  have hb := hC.1.2.1
  have hml := hC.1.2.2.1
  have hown := hC.1.2.2.2.1
  have hts := hC.1.2.2.2.2
  have hl : lv_has ls 2 [(0, .ref o)] := hl
  have hT := hP.W
  refine lv_aload_n hx hb dX3_undo_0 rfl (lv_at hl 0 rfl) ?_
  refine lv_iconst (v := 0) hx hb dX3_undo_1 (by decide) ?_
  refine gh_put (v := .int 0) hC hg hT.1.1 fX3_54_0 rfl rfl (Nat.le_of_ble_eq_true rfl) dX3_undo_2 (fun g H locs hg hw hn => ?_)
  have hT : tw_W V g0 g o ad (va_up I 3 0) A F := hT.putI 3 0 hw hn
  refine lv_aload_n hx hb dX3_undo_5 rfl (lv_at hl 0 rfl) ?_
  refine gh_get (v := .int (I 0)) hC hg hT.1.1 fX3_66_0 rfl dX3_undo_6 ?_
  refine lv_if_ne (tgt := 18) hx hb dX3_undo_9 (by decide) (fun c_1 => ?_) (fun c_1 => ?_)
  · skip
    have c_1 : ¬ K = 0 := fun h9 => c_1 ((nx_eq hKn (show ((0 : Int32)) = nI 0 from rfl) (by omega) (by omega)).mpr h9)
    refine lv_aload_n hx hb dX3_undo_18 rfl (lv_at hl 0 rfl) ?_
    refine lv_dup hx hb dX3_undo_19 rfl ?_
    refine gh_get (v := .int (I 0)) hC hg hT.1.1 fX3_66_0 rfl dX3_undo_20 ?_
    refine lv_iconst (v := 1) hx hb dX3_undo_23 (by decide) ?_
    refine lv_isub hx hb dX3_undo_24 ?_
    refine gh_put (v := .int ((I 0) - 1)) hC hg hT.1.1 fX3_66_0 rfl rfl (Nat.le_of_ble_eq_true rfl) dX3_undo_25 (fun g H locs hg hw hn => ?_)
    have hT : tw_W V g0 g o ad (va_up (va_up I 3 0) 0 ((I 0) - 1)) A F := hT.putI 0 ((I 0) - 1) hw hn
    refine lv_iconst (v := 0) hx hb dX3_undo_28 (by decide) ?_
    refine lv_istore_n (lv' := [(1, .int 0), (0, .ref o)]) hx hb dX3_undo_29 rfl hl (by decide) rfl (fun ls hl => ?_)
    refine gh_loop (N := 578) (X := fun i_2 g ls => tw_W V g0 g o ad (va_up (va_up I 3 0) 0 ((I 0) - 1)) (va_up A 0 (cpn (fun j => A 1 (578 * (K - 1) + j)) (A 0) i_2)) F ∧ lv_has ls 2 [(0, .ref o), (1, .int (nI i_2))]) ?_ ?_ 0 (by omega) hg ⟨(hT.eqA (by rw [cpn_0, up_self])), lv_sub hl [1, 0] rfl⟩
    · intro g H locs ls hg hX
      obtain ⟨hT, hl⟩ := hX
      refine lv_iload_n hx hb dX3_undo_30 rfl (lv_at hl 1 rfl) ?_
      refine lv_sipush (v := 578) hx hb dX3_undo_31 (by decide) ?_
      refine lv_icmp_ge (tgt := 64) hx hb dX3_undo_34 (by decide) (fun _ => ?_) (fun c_3 => (absurd ((nx_le (show ((578 : Int32)) = nI 578 from rfl) rfl (by omega) (by omega)).mpr (by omega)) c_3))
      refine lv_iconst (v := 0) hx hb dX3_undo_64 (by decide) ?_
      refine lv_istore_n (lv' := [(1, .int 0), (0, .ref o)]) hx hb dX3_undo_65 rfl hl (by decide) rfl (fun ls hl => ?_)
      refine gh_loop (N := 24) (X := fun i_4 g ls => tw_W V g0 g o ad (va_up (va_up I 3 0) 0 ((I 0) - 1)) (va_up A 0 (cpn (fun j => A 1 (578 * (K - 1) + j)) (A 0) 578)) (va_up F 0 (cpn (fun j => F 1 (24 * (K - 1) + j)) (F 0) i_4)) ∧ lv_has ls 2 [(0, .ref o), (1, .int (nI i_4))]) ?_ ?_ 0 (by omega) hg ⟨(hT.eqF (by rw [cpn_0, up_self])), lv_sub hl [1, 0] rfl⟩
      · intro g H locs ls hg hX
        obtain ⟨hT, hl⟩ := hX
        refine lv_iload_n hx hb dX3_undo_66 rfl (lv_at hl 1 rfl) ?_
        refine lv_bipush (v := 24) hx hb dX3_undo_67 (by decide) ?_
        refine lv_icmp_ge (tgt := 98) hx hb dX3_undo_69 (by decide) (fun _ => ?_) (fun c_5 => (absurd ((nx_le (show ((24 : Int32)) = nI 24 from rfl) rfl (by omega) (by omega)).mpr (by omega)) c_5))
        refine lv_aload_n hx hb dX3_undo_98 rfl (lv_at hl 0 rfl) ?_
        refine gh_get (v := .int ((I 0) - 1)) hC hg hT.1.1 fX3_66_0 rfl dX3_undo_99 ?_
        have e9 : c1 (¬ K = 0) = 0 := by first | rfl | (simp only [c1, c2, c3, if_neg c_1]; done) | simp [c1, c2, c3, c_1]
        exact gh_reti hC hg hr hlk (⟨fun _ => ⟨rfl, hT⟩, fun h9 => absurd e9 h9⟩) dX3_undo_102 (Nat.le_of_ble_eq_true rfl) (Nat.le_of_ble_eq_true rfl)
      · intro i_4 h_6 ih66 g H locs ls hg hX
        obtain ⟨hT, hl⟩ := hX
        refine lv_iload_n hx hb dX3_undo_66 rfl (lv_at hl 1 rfl) ?_
        refine lv_bipush (v := 24) hx hb dX3_undo_67 (by decide) ?_
        refine lv_icmp_ge (tgt := 98) hx hb dX3_undo_69 (by decide) (fun c_7 => (absurd ((nx_le (show ((24 : Int32)) = nI 24 from rfl) rfl (by omega) (by omega)).mp c_7) (by omega))) (fun _ => ?_)
        refine lv_aload_n hx hb dX3_undo_72 rfl (lv_at hl 0 rfl) ?_
        refine gh_get (v := .ref (ad 8)) hC hg hT.1.1 fX3_13_0 rfl dX3_undo_73 ?_
        refine lv_iload_n hx hb dX3_undo_76 rfl (lv_at hl 1 rfl) ?_
        refine lv_aload_n hx hb dX3_undo_77 rfl (lv_at hl 0 rfl) ?_
        refine gh_get (v := .ref (ad 9)) hC hg hT.1.1 fX3_20_0 rfl dX3_undo_78 ?_
        refine lv_bipush (v := 24) hx hb dX3_undo_81 (by decide) ?_
        refine lv_aload_n hx hb dX3_undo_83 rfl (lv_at hl 0 rfl) ?_
        refine gh_get (v := .int ((I 0) - 1)) hC hg hT.1.1 fX3_66_0 rfl dX3_undo_84 ?_
        refine lv_imul hx hb dX3_undo_87 ?_
        refine lv_iload_n hx hb dX3_undo_88 rfl (lv_at hl 1 rfl) ?_
        refine lv_iadd hx hb dX3_undo_89 ?_
        refine gh_fald (n := 120) (f := (F 1)) hC hg (hT.1.2.2 1 (by decide)) (nx_add (nx_mul (show ((24 : Int32)) = nI 24 from rfl) (nx_sub hKn (show ((1 : Int32)) = nI 1 from rfl) (by omega))) rfl) (by omega) (by omega) dX3_undo_90 ?_
        refine gh_fast (n := 24) (f := (cpn (fun j => F 1 (24 * (K - 1) + j)) (F 0) i_4)) hC hg (hT.1.2.2 0 (by decide)) rfl (by omega) (by omega) dX3_undo_91 (fun g H locs hg hw hn => ?_)
        have hT : tw_W V g0 g o ad (va_up (va_up I 3 0) 0 ((I 0) - 1)) (va_up A 0 (cpn (fun j => A 1 (578 * (K - 1) + j)) (A 0) 578)) (va_up (va_up F 0 (cpn (fun j => F 1 (24 * (K - 1) + j)) (F 0) i_4)) 0 (va_up (cpn (fun j => F 1 (24 * (K - 1) + j)) (F 0) i_4) i_4 ((F 1) ((24 * (K - 1)) + i_4)))) := hT.putF 0 (by decide) hw hn
        refine lv_iinc (v := (nI (i_4 + 1))) (lv' := [(1, .int (nI (i_4 + 1))), (0, .ref o)]) hx hb dX3_undo_92 hl (k := 1) rfl (nx_iinc rfl) (by decide) rfl (fun ls hl => ?_)
        refine lv_goto (tgt := 66) hx hb dX3_undo_95 (by decide) ?_
        exact ih66 _ _ _ _ hg ⟨(hT.eqF (by rw [bx_uu]; exact congrArg (va_up _ _) (cpn_sf _ _ _))), lv_sub hl [1, 0] rfl⟩
    · intro i_2 h_8 ih30 g H locs ls hg hX
      obtain ⟨hT, hl⟩ := hX
      refine lv_iload_n hx hb dX3_undo_30 rfl (lv_at hl 1 rfl) ?_
      refine lv_sipush (v := 578) hx hb dX3_undo_31 (by decide) ?_
      refine lv_icmp_ge (tgt := 64) hx hb dX3_undo_34 (by decide) (fun c_9 => (absurd ((nx_le (show ((578 : Int32)) = nI 578 from rfl) rfl (by omega) (by omega)).mp c_9) (by omega))) (fun _ => ?_)
      refine lv_aload_n hx hb dX3_undo_37 rfl (lv_at hl 0 rfl) ?_
      refine gh_get (v := .ref (ad 0)) hC hg hT.1.1 fX3_7_0 rfl dX3_undo_38 ?_
      refine lv_iload_n hx hb dX3_undo_41 rfl (lv_at hl 1 rfl) ?_
      refine lv_aload_n hx hb dX3_undo_42 rfl (lv_at hl 0 rfl) ?_
      refine gh_get (v := .ref (ad 1)) hC hg hT.1.1 fX3_17_0 rfl dX3_undo_43 ?_
      refine lv_sipush (v := 578) hx hb dX3_undo_46 (by decide) ?_
      refine lv_aload_n hx hb dX3_undo_49 rfl (lv_at hl 0 rfl) ?_
      refine gh_get (v := .int ((I 0) - 1)) hC hg hT.1.1 fX3_66_0 rfl dX3_undo_50 ?_
      refine lv_imul hx hb dX3_undo_53 ?_
      refine lv_iload_n hx hb dX3_undo_54 rfl (lv_at hl 1 rfl) ?_
      refine lv_iadd hx hb dX3_undo_55 ?_
      refine gh_iald (n := 2890) (f := (A 1)) hC hg (hT.1.2.1 1 (by decide)) (nx_add (nx_mul (show ((578 : Int32)) = nI 578 from rfl) (nx_sub hKn (show ((1 : Int32)) = nI 1 from rfl) (by omega))) rfl) (by omega) (by omega) dX3_undo_56 ?_
      refine gh_iast (n := 578) (f := (cpn (fun j => A 1 (578 * (K - 1) + j)) (A 0) i_2)) hC hg (hT.1.2.1 0 (by decide)) rfl (by omega) (by omega) dX3_undo_57 (fun g H locs hg hw hn => ?_)
      have hT : tw_W V g0 g o ad (va_up (va_up I 3 0) 0 ((I 0) - 1)) (va_up (va_up A 0 (cpn (fun j => A 1 (578 * (K - 1) + j)) (A 0) i_2)) 0 (upd (cpn (fun j => A 1 (578 * (K - 1) + j)) (A 0) i_2) i_2 ((A 1) ((578 * (K - 1)) + i_2)))) F := hT.putA 0 (by decide) hw hn
      refine lv_iinc (v := (nI (i_2 + 1))) (lv' := [(1, .int (nI (i_2 + 1))), (0, .ref o)]) hx hb dX3_undo_58 hl (k := 1) rfl (nx_iinc rfl) (by decide) rfl (fun ls hl => ?_)
      refine lv_goto (tgt := 30) hx hb dX3_undo_61 (by decide) ?_
      exact ih30 _ _ _ _ hg ⟨(hT.eqA (by rw [bx_uu]; exact congrArg (va_up _ _) (cpn_s _ _ _))), lv_sub hl [1, 0] rfl⟩
  have c_1 : K = 0 := (nx_eq hKn (show ((0 : Int32)) = nI 0 from rfl) (by omega) (by omega)).mp c_1
  refine lv_aload_n hx hb dX3_undo_12 rfl (lv_at hl 0 rfl) ?_
  refine lv_iconst (v := 1) hx hb dX3_undo_13 (by decide) ?_
  refine gh_calli hg (gh_runV (As := [.int 1]) (rest := []) hC hg (t_throwing l V o ad (va_up I 3 0) A F _ hT.1 1) 1 (lw_V q3908 q3910 qs56 q138 q3911) hT.1.1 rfl hd_X3_throwing ⟨Nat.le_of_ble_eq_true rfl, Nat.le_of_ble_eq_true rfl⟩ rfl hl.1 rfl (Nat.le_of_ble_eq_true rfl) dX3_undo_14 ⟨Nat.le_of_ble_eq_true rfl, Nat.le_of_ble_eq_true rfl⟩) (fun r_10 g H locs hg hp => ?_)
  obtain ⟨hp, hpT⟩ := hp
  replace hp : r_10 = 0 := hp
  subst hp
  have hT : tw_W V g0 g o ad (va_up (va_up I 3 0) 3 1) A F := hT.call hpT
  have e9 : c1 (¬ K = 0) = 1 := by first | rfl | (simp only [c1, c2, c3, if_pos c_1]; done) | simp [c1, c2, c3, c_1]
  exact gh_reti hC hg hr hlk (⟨fun h9 => absurd (e9.symm.trans h9) (by decide), fun _ => by rw [e9]; exact hT⟩) dX3_undo_17 (Nat.le_of_ble_eq_true rfl) (Nat.le_of_ble_eq_true rfl)
set_option maxHeartbeats 1000000 in
set_option maxRecDepth 100000 in
theorem t_takeSnapshot (l : Launch) (V : gh_V) (o : Nat) (ad : Nat → Nat) (I : Nat → Int32) (A : Nat → Nat → Int32) (F : Nat → Nat → UInt32) (g0 : gh_G) (hP : tw_P V g0 o ad I A F)  : MI l yX3_takeSnapshot cX3_takeSnapshot 2 (some .int) ({ frames := 0, cells := 0, slots := 0, locals := 0 } : Room) V [.ref o] g0 (fun r g1 => r = A 0 0 ∧ tw_W V g0 g1 o ad (va_up (va_up I 3 0) 1 1) (va_up A 2 (cpn (A 0) (A 2) 578)) (va_up F 2 (cpn (F 0) (F 2) 24))) := by
  refine MG.of RX3 (by decide) rfl (Nat.le_of_ble_eq_true rfl) (fun pp ee s mm args below meth c ls hC hg hr hlk hnm hl => ?_)
  have hx := hC.1.1
  have hb := hC.1.2.1
  have hml := hC.1.2.2.1
  have hown := hC.1.2.2.2.1
  have hts := hC.1.2.2.2.2
  have hl : lv_has ls 2 [(0, .ref o)] := hl
  have hT := hP.W
  refine lv_aload_n hx hb dX3_takeSnapshot_0 rfl (lv_at hl 0 rfl) ?_
  refine lv_iconst (v := 0) hx hb dX3_takeSnapshot_1 (by decide) ?_
  refine gh_put (v := .int 0) hC hg hT.1.1 fX3_54_0 rfl rfl (Nat.le_of_ble_eq_true rfl) dX3_takeSnapshot_2 (fun g H locs hg hw hn => ?_)
  have hT : tw_W V g0 g o ad (va_up I 3 0) A F := hT.putI 3 0 hw hn
  refine lv_iconst (v := 0) hx hb dX3_takeSnapshot_5 (by decide) ?_
  refine lv_istore_n (lv' := [(1, .int 0), (0, .ref o)]) hx hb dX3_takeSnapshot_6 rfl hl (by decide) rfl (fun ls hl => ?_)
  refine gh_loop (N := 578) (X := fun i_1 g ls => tw_W V g0 g o ad (va_up I 3 0) (va_up A 2 (cpn (A 0) (A 2) i_1)) F ∧ lv_has ls 2 [(0, .ref o), (1, .int (nI i_1))]) ?_ ?_ 0 (by omega) hg ⟨(hT.eqA (by rw [cpn_0]; exact (up_self _ _).symm)), lv_sub hl [1, 0] rfl⟩
  · intro g H locs ls hg hX
    obtain ⟨hT, hl⟩ := hX
    refine lv_iload_n hx hb dX3_takeSnapshot_7 rfl (lv_at hl 1 rfl) ?_
    refine lv_sipush (v := 578) hx hb dX3_takeSnapshot_8 (by decide) ?_
    refine lv_icmp_ge (tgt := 32) hx hb dX3_takeSnapshot_11 (by decide) (fun _ => ?_) (fun c_2 => (absurd ((nx_le (show ((578 : Int32)) = nI 578 from rfl) rfl (by omega) (by omega)).mpr (by omega)) c_2))
    refine lv_iconst (v := 0) hx hb dX3_takeSnapshot_32 (by decide) ?_
    refine lv_istore_n (lv' := [(1, .int 0), (0, .ref o)]) hx hb dX3_takeSnapshot_33 rfl hl (by decide) rfl (fun ls hl => ?_)
    refine gh_loop (N := 24) (X := fun i_3 g ls => tw_W V g0 g o ad (va_up I 3 0) (va_up A 2 (cpn (A 0) (A 2) 578)) (va_up F 2 (cpn (F 0) (F 2) i_3)) ∧ lv_has ls 2 [(0, .ref o), (1, .int (nI i_3))]) ?_ ?_ 0 (by omega) hg ⟨(hT.eqF (by rw [cpn_0]; exact (up_self _ _).symm)), lv_sub hl [1, 0] rfl⟩
    · intro g H locs ls hg hX
      obtain ⟨hT, hl⟩ := hX
      refine lv_iload_n hx hb dX3_takeSnapshot_34 rfl (lv_at hl 1 rfl) ?_
      refine lv_bipush (v := 24) hx hb dX3_takeSnapshot_35 (by decide) ?_
      refine lv_icmp_ge (tgt := 58) hx hb dX3_takeSnapshot_37 (by decide) (fun _ => ?_) (fun c_4 => (absurd ((nx_le (show ((24 : Int32)) = nI 24 from rfl) rfl (by omega) (by omega)).mpr (by omega)) c_4))
      refine lv_aload_n hx hb dX3_takeSnapshot_58 rfl (lv_at hl 0 rfl) ?_
      refine lv_iconst (v := 1) hx hb dX3_takeSnapshot_59 (by decide) ?_
      refine gh_put (v := .int 1) hC hg hT.1.1 fX3_257_0 rfl rfl (Nat.le_of_ble_eq_true rfl) dX3_takeSnapshot_60 (fun g H locs hg hw hn => ?_)
      have hT : tw_W V g0 g o ad (va_up (va_up I 3 0) 1 1) (va_up A 2 (cpn (A 0) (A 2) 578)) (va_up F 2 (cpn (F 0) (F 2) 24)) := hT.putI 1 1 hw hn
      refine lv_aload_n hx hb dX3_takeSnapshot_63 rfl (lv_at hl 0 rfl) ?_
      refine gh_get (v := .ref (ad 0)) hC hg hT.1.1 fX3_7_0 rfl dX3_takeSnapshot_64 ?_
      refine lv_iconst (v := 0) hx hb dX3_takeSnapshot_67 (by decide) ?_
      refine gh_iald (n := 578) (f := (A 0)) hC hg (hT.1.2.1 0 (by decide)) (show ((0 : Int32)) = nI 0 from rfl) (by omega) (by omega) dX3_takeSnapshot_68 ?_
      exact gh_reti hC hg hr hlk (⟨rfl, hT⟩) dX3_takeSnapshot_69 (Nat.le_of_ble_eq_true rfl) (Nat.le_of_ble_eq_true rfl)
    · intro i_3 h_5 ih34 g H locs ls hg hX
      obtain ⟨hT, hl⟩ := hX
      refine lv_iload_n hx hb dX3_takeSnapshot_34 rfl (lv_at hl 1 rfl) ?_
      refine lv_bipush (v := 24) hx hb dX3_takeSnapshot_35 (by decide) ?_
      refine lv_icmp_ge (tgt := 58) hx hb dX3_takeSnapshot_37 (by decide) (fun c_6 => (absurd ((nx_le (show ((24 : Int32)) = nI 24 from rfl) rfl (by omega) (by omega)).mp c_6) (by omega))) (fun _ => ?_)
      refine lv_aload_n hx hb dX3_takeSnapshot_40 rfl (lv_at hl 0 rfl) ?_
      refine gh_get (v := .ref (ad 10)) hC hg hT.1.1 fX3_26_0 rfl dX3_takeSnapshot_41 ?_
      refine lv_iload_n hx hb dX3_takeSnapshot_44 rfl (lv_at hl 1 rfl) ?_
      refine lv_aload_n hx hb dX3_takeSnapshot_45 rfl (lv_at hl 0 rfl) ?_
      refine gh_get (v := .ref (ad 8)) hC hg hT.1.1 fX3_13_0 rfl dX3_takeSnapshot_46 ?_
      refine lv_iload_n hx hb dX3_takeSnapshot_49 rfl (lv_at hl 1 rfl) ?_
      refine gh_fald (n := 24) (f := (F 0)) hC hg (hT.1.2.2 0 (by decide)) rfl (by omega) (by omega) dX3_takeSnapshot_50 ?_
      refine gh_fast (n := 24) (f := (cpn (F 0) (F 2) i_3)) hC hg (hT.1.2.2 2 (by decide)) rfl (by omega) (by omega) dX3_takeSnapshot_51 (fun g H locs hg hw hn => ?_)
      have hT : tw_W V g0 g o ad (va_up I 3 0) (va_up A 2 (cpn (A 0) (A 2) 578)) (va_up (va_up F 2 (cpn (F 0) (F 2) i_3)) 2 (va_up (cpn (F 0) (F 2) i_3) i_3 ((F 0) i_3))) := hT.putF 2 (by decide) hw hn
      refine lv_iinc (v := (nI (i_3 + 1))) (lv' := [(1, .int (nI (i_3 + 1))), (0, .ref o)]) hx hb dX3_takeSnapshot_52 hl (k := 1) rfl (nx_iinc rfl) (by decide) rfl (fun ls hl => ?_)
      refine lv_goto (tgt := 34) hx hb dX3_takeSnapshot_55 (by decide) ?_
      exact ih34 _ _ _ _ hg ⟨(hT.eqF (by rw [bx_uu]; exact congrArg (va_up _ _) (cpn_sf _ _ _))), lv_sub hl [1, 0] rfl⟩
  · intro i_1 h_7 ih7 g H locs ls hg hX
    obtain ⟨hT, hl⟩ := hX
    refine lv_iload_n hx hb dX3_takeSnapshot_7 rfl (lv_at hl 1 rfl) ?_
    refine lv_sipush (v := 578) hx hb dX3_takeSnapshot_8 (by decide) ?_
    refine lv_icmp_ge (tgt := 32) hx hb dX3_takeSnapshot_11 (by decide) (fun c_8 => (absurd ((nx_le (show ((578 : Int32)) = nI 578 from rfl) rfl (by omega) (by omega)).mp c_8) (by omega))) (fun _ => ?_)
    refine lv_aload_n hx hb dX3_takeSnapshot_14 rfl (lv_at hl 0 rfl) ?_
    refine gh_get (v := .ref (ad 2)) hC hg hT.1.1 fX3_23_0 rfl dX3_takeSnapshot_15 ?_
    refine lv_iload_n hx hb dX3_takeSnapshot_18 rfl (lv_at hl 1 rfl) ?_
    refine lv_aload_n hx hb dX3_takeSnapshot_19 rfl (lv_at hl 0 rfl) ?_
    refine gh_get (v := .ref (ad 0)) hC hg hT.1.1 fX3_7_0 rfl dX3_takeSnapshot_20 ?_
    refine lv_iload_n hx hb dX3_takeSnapshot_23 rfl (lv_at hl 1 rfl) ?_
    refine gh_iald (n := 578) (f := (A 0)) hC hg (hT.1.2.1 0 (by decide)) rfl (by omega) (by omega) dX3_takeSnapshot_24 ?_
    refine gh_iast (n := 578) (f := (cpn (A 0) (A 2) i_1)) hC hg (hT.1.2.1 2 (by decide)) rfl (by omega) (by omega) dX3_takeSnapshot_25 (fun g H locs hg hw hn => ?_)
    have hT : tw_W V g0 g o ad (va_up I 3 0) (va_up (va_up A 2 (cpn (A 0) (A 2) i_1)) 2 (upd (cpn (A 0) (A 2) i_1) i_1 ((A 0) i_1))) F := hT.putA 2 (by decide) hw hn
    refine lv_iinc (v := (nI (i_1 + 1))) (lv' := [(1, .int (nI (i_1 + 1))), (0, .ref o)]) hx hb dX3_takeSnapshot_26 hl (k := 1) rfl (nx_iinc rfl) (by decide) rfl (fun ls hl => ?_)
    refine lv_goto (tgt := 7) hx hb dX3_takeSnapshot_29 (by decide) ?_
    exact ih7 _ _ _ _ hg ⟨(hT.eqA (by rw [bx_uu]; exact congrArg (va_up _ _) (cpn_s _ _ _))), lv_sub hl [1, 0] rfl⟩
set_option maxHeartbeats 1000000 in
set_option maxRecDepth 100000 in
theorem t_restoreSnapshot (l : Launch) (V : gh_V) (o : Nat) (ad : Nat → Nat) (I : Nat → Int32) (A : Nat → Nat → Int32) (F : Nat → Nat → UInt32) (g0 : gh_G) (hP : tw_P V g0 o ad I A F) (K : Nat) (hKn : I 0 = nI K) (hK5 : K ≤ 5) : MI l yX3_restoreSnapshot cX3_restoreSnapshot 2 (some .int) ({ frames := 1, cells := 0, slots := 0, locals := 21 } : Room) V [.ref o] g0 (fun r g1 => (c1 (¬ I 1 = 0) = 0 → r = A 2 0 ∧ tw_W V g0 g1 o ad (svI (va_up I 3 0) K) (va_up (svA A K) 0 (cpn (A 2) (A 0) 578)) (va_up (svF F K) 0 (cpn (F 2) (F 0) 24))) ∧ (¬ c1 (¬ I 1 = 0) = 0 → tw_W V g0 g1 o ad (va_up I 3 (c1 (¬ I 1 = 0))) A F)) := by
  refine MG.of RX3 (by decide) rfl (Nat.le_of_ble_eq_true rfl) (fun pp ee s mm args below meth c ls hC hg hr hlk hnm hl => ?_)
  have hx := hC.1.1
  have hb := hC.1.2.1
  have hml := hC.1.2.2.1
  have hown := hC.1.2.2.2.1
  have hts := hC.1.2.2.2.2
  have hl : lv_has ls 2 [(0, .ref o)] := hl
  have hT := hP.W
  refine lv_aload_n hx hb dX3_restoreSnapshot_0 rfl (lv_at hl 0 rfl) ?_
  refine lv_iconst (v := 0) hx hb dX3_restoreSnapshot_1 (by decide) ?_
  refine gh_put (v := .int 0) hC hg hT.1.1 fX3_54_0 rfl rfl (Nat.le_of_ble_eq_true rfl) dX3_restoreSnapshot_2 (fun g H locs hg hw hn => ?_)
  have hT : tw_W V g0 g o ad (va_up I 3 0) A F := hT.putI 3 0 hw hn
  refine lv_aload_n hx hb dX3_restoreSnapshot_5 rfl (lv_at hl 0 rfl) ?_
  refine gh_get (v := .int (I 1)) hC hg hT.1.1 fX3_257_0 rfl dX3_restoreSnapshot_6 ?_
  refine lv_if_ne (tgt := 18) hx hb dX3_restoreSnapshot_9 (by decide) (fun c_1 => ?_) (fun c_1 => ?_)
  · skip
    refine lv_aload_n hx hb dX3_restoreSnapshot_18 rfl (lv_at hl 0 rfl) ?_
    refine gh_callv hg (gh_runV (As := []) (rest := []) hC hg (t_save l V o ad (va_up I 3 0) A F _ hT.1 K (by rw [show va_up I 3 0 0 = I 0 from rfl]; exact hKn) hK5) 0 (lw_V q3912 q3914 qs57 q138 q3915) hT.1.1 rfl hd_X3_save ⟨Nat.le_of_ble_eq_true rfl, Nat.le_of_ble_eq_true rfl⟩ rfl hl.1 rfl (Nat.le_of_ble_eq_true rfl) dX3_restoreSnapshot_19 ⟨Nat.le_of_ble_eq_true rfl, Nat.le_of_ble_eq_true rfl⟩) (fun g H locs hg hp => ?_)
    have hT : tw_W V g0 g o ad (svI (va_up I 3 0) K) (svA A K) (svF F K) := hT.call hp
    refine lv_iconst (v := 0) hx hb dX3_restoreSnapshot_22 (by decide) ?_
    refine lv_istore_n (lv' := [(1, .int 0), (0, .ref o)]) hx hb dX3_restoreSnapshot_23 rfl hl (by decide) rfl (fun ls hl => ?_)
    refine gh_loop (N := 578) (X := fun i_2 g ls => tw_W V g0 g o ad (svI (va_up I 3 0) K) (va_up (svA A K) 0 (cpn (A 2) (A 0) i_2)) (svF F K) ∧ lv_has ls 2 [(0, .ref o), (1, .int (nI i_2))]) ?_ ?_ 0 (by omega) hg ⟨(hT.eqA (by rw [cpn_0]; exact (up_self _ _).symm)), lv_sub hl [1, 0] rfl⟩
    · intro g H locs ls hg hX
      obtain ⟨hT, hl⟩ := hX
      refine lv_iload_n hx hb dX3_restoreSnapshot_24 rfl (lv_at hl 1 rfl) ?_
      refine lv_sipush (v := 578) hx hb dX3_restoreSnapshot_25 (by decide) ?_
      refine lv_icmp_ge (tgt := 49) hx hb dX3_restoreSnapshot_28 (by decide) (fun _ => ?_) (fun c_3 => (absurd ((nx_le (show ((578 : Int32)) = nI 578 from rfl) rfl (by omega) (by omega)).mpr (by omega)) c_3))
      refine lv_iconst (v := 0) hx hb dX3_restoreSnapshot_49 (by decide) ?_
      refine lv_istore_n (lv' := [(1, .int 0), (0, .ref o)]) hx hb dX3_restoreSnapshot_50 rfl hl (by decide) rfl (fun ls hl => ?_)
      refine gh_loop (N := 24) (X := fun i_4 g ls => tw_W V g0 g o ad (svI (va_up I 3 0) K) (va_up (svA A K) 0 (cpn (A 2) (A 0) 578)) (va_up (svF F K) 0 (cpn (F 2) (F 0) i_4)) ∧ lv_has ls 2 [(0, .ref o), (1, .int (nI i_4))]) ?_ ?_ 0 (by omega) hg ⟨(hT.eqF (by rw [cpn_0]; exact (up_self _ _).symm)), lv_sub hl [1, 0] rfl⟩
      · intro g H locs ls hg hX
        obtain ⟨hT, hl⟩ := hX
        refine lv_iload_n hx hb dX3_restoreSnapshot_51 rfl (lv_at hl 1 rfl) ?_
        refine lv_bipush (v := 24) hx hb dX3_restoreSnapshot_52 (by decide) ?_
        refine lv_icmp_ge (tgt := 75) hx hb dX3_restoreSnapshot_54 (by decide) (fun _ => ?_) (fun c_5 => (absurd ((nx_le (show ((24 : Int32)) = nI 24 from rfl) rfl (by omega) (by omega)).mpr (by omega)) c_5))
        refine lv_aload_n hx hb dX3_restoreSnapshot_75 rfl (lv_at hl 0 rfl) ?_
        refine gh_get (v := .ref (ad 0)) hC hg hT.1.1 fX3_7_0 rfl dX3_restoreSnapshot_76 ?_
        refine lv_iconst (v := 0) hx hb dX3_restoreSnapshot_79 (by decide) ?_
        refine gh_iald (n := 578) (f := (cpn (A 2) (A 0) 578)) hC hg (hT.1.2.1 0 (by decide)) (show ((0 : Int32)) = nI 0 from rfl) (by omega) (by omega) dX3_restoreSnapshot_80 ?_
        have e9 : c1 (¬ I 1 = 0) = 0 := by first | rfl | (simp only [c1, c2, c3, if_neg c_1]; done) | simp [c1, c2, c3, c_1]
        exact gh_reti hC hg hr hlk (⟨fun _ => ⟨rfl, hT⟩, fun h9 => absurd e9 h9⟩) dX3_restoreSnapshot_81 (Nat.le_of_ble_eq_true rfl) (Nat.le_of_ble_eq_true rfl)
      · intro i_4 h_6 ih51 g H locs ls hg hX
        obtain ⟨hT, hl⟩ := hX
        refine lv_iload_n hx hb dX3_restoreSnapshot_51 rfl (lv_at hl 1 rfl) ?_
        refine lv_bipush (v := 24) hx hb dX3_restoreSnapshot_52 (by decide) ?_
        refine lv_icmp_ge (tgt := 75) hx hb dX3_restoreSnapshot_54 (by decide) (fun c_7 => (absurd ((nx_le (show ((24 : Int32)) = nI 24 from rfl) rfl (by omega) (by omega)).mp c_7) (by omega))) (fun _ => ?_)
        refine lv_aload_n hx hb dX3_restoreSnapshot_57 rfl (lv_at hl 0 rfl) ?_
        refine gh_get (v := .ref (ad 8)) hC hg hT.1.1 fX3_13_0 rfl dX3_restoreSnapshot_58 ?_
        refine lv_iload_n hx hb dX3_restoreSnapshot_61 rfl (lv_at hl 1 rfl) ?_
        refine lv_aload_n hx hb dX3_restoreSnapshot_62 rfl (lv_at hl 0 rfl) ?_
        refine gh_get (v := .ref (ad 10)) hC hg hT.1.1 fX3_26_0 rfl dX3_restoreSnapshot_63 ?_
        refine lv_iload_n hx hb dX3_restoreSnapshot_66 rfl (lv_at hl 1 rfl) ?_
        refine gh_fald (n := 24) (f := (F 2)) hC hg (hT.1.2.2 2 (by decide)) rfl (by omega) (by omega) dX3_restoreSnapshot_67 ?_
        refine gh_fast (n := 24) (f := (cpn (F 2) (F 0) i_4)) hC hg (hT.1.2.2 0 (by decide)) rfl (by omega) (by omega) dX3_restoreSnapshot_68 (fun g H locs hg hw hn => ?_)
        have hT : tw_W V g0 g o ad (svI (va_up I 3 0) K) (va_up (svA A K) 0 (cpn (A 2) (A 0) 578)) (va_up (va_up (svF F K) 0 (cpn (F 2) (F 0) i_4)) 0 (va_up (cpn (F 2) (F 0) i_4) i_4 ((F 2) i_4))) := hT.putF 0 (by decide) hw hn
        refine lv_iinc (v := (nI (i_4 + 1))) (lv' := [(1, .int (nI (i_4 + 1))), (0, .ref o)]) hx hb dX3_restoreSnapshot_69 hl (k := 1) rfl (nx_iinc rfl) (by decide) rfl (fun ls hl => ?_)
        refine lv_goto (tgt := 51) hx hb dX3_restoreSnapshot_72 (by decide) ?_
        exact ih51 _ _ _ _ hg ⟨(hT.eqF (by rw [bx_uu]; exact congrArg (va_up _ _) (cpn_sf _ _ _))), lv_sub hl [1, 0] rfl⟩
    · intro i_2 h_8 ih24 g H locs ls hg hX
      obtain ⟨hT, hl⟩ := hX
      refine lv_iload_n hx hb dX3_restoreSnapshot_24 rfl (lv_at hl 1 rfl) ?_
      refine lv_sipush (v := 578) hx hb dX3_restoreSnapshot_25 (by decide) ?_
      refine lv_icmp_ge (tgt := 49) hx hb dX3_restoreSnapshot_28 (by decide) (fun c_9 => (absurd ((nx_le (show ((578 : Int32)) = nI 578 from rfl) rfl (by omega) (by omega)).mp c_9) (by omega))) (fun _ => ?_)
      refine lv_aload_n hx hb dX3_restoreSnapshot_31 rfl (lv_at hl 0 rfl) ?_
      refine gh_get (v := .ref (ad 0)) hC hg hT.1.1 fX3_7_0 rfl dX3_restoreSnapshot_32 ?_
      refine lv_iload_n hx hb dX3_restoreSnapshot_35 rfl (lv_at hl 1 rfl) ?_
      refine lv_aload_n hx hb dX3_restoreSnapshot_36 rfl (lv_at hl 0 rfl) ?_
      refine gh_get (v := .ref (ad 2)) hC hg hT.1.1 fX3_23_0 rfl dX3_restoreSnapshot_37 ?_
      refine lv_iload_n hx hb dX3_restoreSnapshot_40 rfl (lv_at hl 1 rfl) ?_
      refine gh_iald (n := 578) (f := (A 2)) hC hg (hT.1.2.1 2 (by decide)) rfl (by omega) (by omega) dX3_restoreSnapshot_41 ?_
      refine gh_iast (n := 578) (f := (cpn (A 2) (A 0) i_2)) hC hg (hT.1.2.1 0 (by decide)) rfl (by omega) (by omega) dX3_restoreSnapshot_42 (fun g H locs hg hw hn => ?_)
      have hT : tw_W V g0 g o ad (svI (va_up I 3 0) K) (va_up (va_up (svA A K) 0 (cpn (A 2) (A 0) i_2)) 0 (upd (cpn (A 2) (A 0) i_2) i_2 ((A 2) i_2))) (svF F K) := hT.putA 0 (by decide) hw hn
      refine lv_iinc (v := (nI (i_2 + 1))) (lv' := [(1, .int (nI (i_2 + 1))), (0, .ref o)]) hx hb dX3_restoreSnapshot_43 hl (k := 1) rfl (nx_iinc rfl) (by decide) rfl (fun ls hl => ?_)
      refine lv_goto (tgt := 24) hx hb dX3_restoreSnapshot_46 (by decide) ?_
      exact ih24 _ _ _ _ hg ⟨(hT.eqA (by rw [bx_uu]; exact congrArg (va_up _ _) (cpn_s _ _ _))), lv_sub hl [1, 0] rfl⟩
  refine lv_aload_n hx hb dX3_restoreSnapshot_12 rfl (lv_at hl 0 rfl) ?_
  refine lv_iconst (v := 1) hx hb dX3_restoreSnapshot_13 (by decide) ?_
  refine gh_calli hg (gh_runV (As := [.int 1]) (rest := []) hC hg (t_throwing l V o ad (va_up I 3 0) A F _ hT.1 1) 1 (lw_V q3908 q3910 qs56 q138 q3911) hT.1.1 rfl hd_X3_throwing ⟨Nat.le_of_ble_eq_true rfl, Nat.le_of_ble_eq_true rfl⟩ rfl hl.1 rfl (Nat.le_of_ble_eq_true rfl) dX3_restoreSnapshot_14 ⟨Nat.le_of_ble_eq_true rfl, Nat.le_of_ble_eq_true rfl⟩) (fun r_10 g H locs hg hp => ?_)
  obtain ⟨hp, hpT⟩ := hp
  replace hp : r_10 = 0 := hp
  subst hp
  have hT : tw_W V g0 g o ad (va_up (va_up I 3 0) 3 1) A F := hT.call hpT
  have e9 : c1 (¬ I 1 = 0) = 1 := by first | rfl | (simp only [c1, c2, c3, if_pos c_1]; done) | simp [c1, c2, c3, c_1]
  exact gh_reti hC hg hr hlk (⟨fun h9 => absurd (e9.symm.trans h9) (by decide), fun _ => by rw [e9]; exact hT⟩) dX3_restoreSnapshot_17 (Nat.le_of_ble_eq_true rfl) (Nat.le_of_ble_eq_true rfl)
set_option maxHeartbeats 1000000 in
set_option maxRecDepth 100000 in
theorem t_opens (l : Launch) (V : gh_V) (o : Nat) (ad : Nat → Nat) (I : Nat → Int32) (A : Nat → Nat → Int32) (F : Nat → Nat → UInt32) (g0 : gh_G) (hP : tw_P V g0 o ad I A F) (x y : Int32) (L : Nat) (hL : A 0 163 = nI L) (hL11 : L < 12) : MI l yX3_opens cX3_opens 5 (some .int) ({ frames := 0, cells := 0, slots := 0, locals := 0 } : Room) V [.ref o, .int x, .int y] g0 (fun r g1 => r = A 0 163 ∧ tw_W V g0 g1 o ad I (va_up A 0 (opensS (A 0) L x y)) F) := by
  refine MG.of RX3 (by decide) rfl (Nat.le_of_ble_eq_true rfl) (fun pp ee s mm args below meth c ls hC hg hr hlk hnm hl => ?_)
  have hx := hC.1.1
  have hb := hC.1.2.1
  have hml := hC.1.2.2.1
  have hown := hC.1.2.2.2.1
  have hts := hC.1.2.2.2.2
  have hl : lv_has ls 5 [(0, .ref o), (1, .int x), (2, .int y)] := hl
  have hT := hP.W
  refine lv_aload_n hx hb dX3_opens_0 rfl (lv_at hl 0 rfl) ?_
  refine gh_get (v := .ref (ad 0)) hC hg hT.1.1 fX3_7_0 rfl dX3_opens_1 ?_
  refine lv_sipush (v := 163) hx hb dX3_opens_4 (by decide) ?_
  refine gh_iald (n := 578) (f := (A 0)) hC hg (hT.1.2.1 0 (by decide)) (show ((163 : Int32)) = nI 163 from rfl) (by omega) (by omega) dX3_opens_7 ?_
  refine lv_istore_n (lv' := [(3, .int ((A 0) 163)), (0, .ref o), (1, .int x), (2, .int y)]) hx hb dX3_opens_8 rfl hl (by decide) rfl (fun ls hl => ?_)
  refine lv_aload_n hx hb dX3_opens_9 rfl (lv_at hl 1 rfl) ?_
  refine gh_get (v := .ref (ad 0)) hC hg hT.1.1 fX3_7_0 rfl dX3_opens_10 ?_
  refine lv_sipush (v := 163) hx hb dX3_opens_13 (by decide) ?_
  refine lv_dup2_11 hx hb dX3_opens_16 rfl rfl ?_
  refine gh_iald (n := 578) (f := (A 0)) hC hg (hT.1.2.1 0 (by decide)) (show ((163 : Int32)) = nI 163 from rfl) (by omega) (by omega) dX3_opens_17 ?_
  refine lv_iconst (v := 1) hx hb dX3_opens_18 (by decide) ?_
  refine lv_iadd hx hb dX3_opens_19 ?_
  refine gh_iast (n := 578) (f := (A 0)) hC hg (hT.1.2.1 0 (by decide)) (show ((163 : Int32)) = nI 163 from rfl) (by omega) (by omega) dX3_opens_20 (fun g H locs hg hw hn => ?_)
  have hT : tw_W V g0 g o ad I (va_up A 0 (upd (A 0) 163 (((A 0) 163) + 1))) F := hT.putA 0 (by decide) hw hn
  refine lv_iconst (v := 0) hx hb dX3_opens_21 (by decide) ?_
  refine lv_istore (lv' := [(4, .int 0), (3, .int ((A 0) 163)), (0, .ref o), (1, .int x), (2, .int y)]) hx hb dX3_opens_22 hl (by decide) rfl (fun ls hl => ?_)
  refine gh_loop (N := 25) (X := fun i_1 g ls => tw_W V g0 g o ad I (va_up (va_up A 0 (upd (A 0) 163 (((A 0) 163) + 1))) 0 (clr (upd (A 0) 163 (((A 0) 163) + 1)) (164 + 25 * L) i_1)) F ∧ lv_has ls 5 [(0, .ref o), (1, .int x), (2, .int y), (3, .int ((A 0) 163)), (4, .int (nI i_1))]) ?_ ?_ 0 (by omega) hg ⟨(hT.eqA (by rw [clr_0, bx_uu])), lv_sub hl [2, 3, 4, 1, 0] rfl⟩
  · intro g H locs ls hg hX
    obtain ⟨hT, hl⟩ := hX
    refine lv_iload hx hb dX3_opens_24 (lv_at hl 4 rfl) ?_
    refine lv_bipush (v := 25) hx hb dX3_opens_26 (by decide) ?_
    refine lv_icmp_ge (tgt := 54) hx hb dX3_opens_28 (by decide) (fun _ => ?_) (fun c_2 => (absurd ((nx_le (show ((25 : Int32)) = nI 25 from rfl) rfl (by omega) (by omega)).mpr (by omega)) c_2))
    refine lv_aload_n hx hb dX3_opens_54 rfl (lv_at hl 0 rfl) ?_
    refine gh_get (v := .ref (ad 0)) hC hg hT.1.1 fX3_7_0 rfl dX3_opens_55 ?_
    refine lv_sipush (v := 164) hx hb dX3_opens_58 (by decide) ?_
    refine lv_bipush (v := 25) hx hb dX3_opens_61 (by decide) ?_
    refine lv_iload_n hx hb dX3_opens_63 rfl (lv_at hl 3 rfl) ?_
    refine lv_imul hx hb dX3_opens_64 ?_
    refine lv_iadd hx hb dX3_opens_65 ?_
    refine lv_iconst (v := 0) hx hb dX3_opens_66 (by decide) ?_
    refine lv_iadd hx hb dX3_opens_67 ?_
    refine lv_iload_n hx hb dX3_opens_68 rfl (lv_at hl 1 rfl) ?_
    refine gh_iast (n := 578) (f := (clr (upd (A 0) 163 (((A 0) 163) + 1)) (164 + 25 * L) 25)) hC hg (hT.1.2.1 0 (by decide)) (nx_add (nx_add (show ((164 : Int32)) = nI 164 from rfl) (nx_mul (show ((25 : Int32)) = nI 25 from rfl) hL)) (show ((0 : Int32)) = nI 0 from rfl)) (by omega) (by omega) dX3_opens_69 (fun g H locs hg hw hn => ?_)
    have hT : tw_W V g0 g o ad I (va_up (va_up (va_up A 0 (upd (A 0) 163 (((A 0) 163) + 1))) 0 (clr (upd (A 0) 163 (((A 0) 163) + 1)) (164 + 25 * L) 25)) 0 (upd (clr (upd (A 0) 163 (((A 0) 163) + 1)) (164 + 25 * L) 25) ((164 + (25 * L)) + 0) x)) F := hT.putA 0 (by decide) hw hn
    refine lv_aload_n hx hb dX3_opens_70 rfl (lv_at hl 0 rfl) ?_
    refine gh_get (v := .ref (ad 0)) hC hg hT.1.1 fX3_7_0 rfl dX3_opens_71 ?_
    refine lv_sipush (v := 164) hx hb dX3_opens_74 (by decide) ?_
    refine lv_bipush (v := 25) hx hb dX3_opens_77 (by decide) ?_
    refine lv_iload_n hx hb dX3_opens_79 rfl (lv_at hl 3 rfl) ?_
    refine lv_imul hx hb dX3_opens_80 ?_
    refine lv_iadd hx hb dX3_opens_81 ?_
    refine lv_iconst (v := 1) hx hb dX3_opens_82 (by decide) ?_
    refine lv_iadd hx hb dX3_opens_83 ?_
    refine lv_iload_n hx hb dX3_opens_84 rfl (lv_at hl 2 rfl) ?_
    refine gh_iast (n := 578) (f := (upd (clr (upd (A 0) 163 (((A 0) 163) + 1)) (164 + 25 * L) 25) ((164 + (25 * L)) + 0) x)) hC hg (hT.1.2.1 0 (by decide)) (nx_add (nx_add (show ((164 : Int32)) = nI 164 from rfl) (nx_mul (show ((25 : Int32)) = nI 25 from rfl) hL)) (show ((1 : Int32)) = nI 1 from rfl)) (by omega) (by omega) dX3_opens_85 (fun g H locs hg hw hn => ?_)
    have hT : tw_W V g0 g o ad I (va_up (va_up (va_up (va_up A 0 (upd (A 0) 163 (((A 0) 163) + 1))) 0 (clr (upd (A 0) 163 (((A 0) 163) + 1)) (164 + 25 * L) 25)) 0 (upd (clr (upd (A 0) 163 (((A 0) 163) + 1)) (164 + 25 * L) 25) ((164 + (25 * L)) + 0) x)) 0 (upd (upd (clr (upd (A 0) 163 (((A 0) 163) + 1)) (164 + 25 * L) 25) ((164 + (25 * L)) + 0) x) ((164 + (25 * L)) + 1) y)) F := hT.putA 0 (by decide) hw hn
    refine lv_iload_n hx hb dX3_opens_86 rfl (lv_at hl 3 rfl) ?_
    exact gh_reti hC hg hr hlk (⟨rfl, hT.eqA (by simp only [bx_uu]; rfl)⟩) dX3_opens_87 (Nat.le_of_ble_eq_true rfl) (Nat.le_of_ble_eq_true rfl)
  · intro i_1 h_3 ih24 g H locs ls hg hX
    obtain ⟨hT, hl⟩ := hX
    refine lv_iload hx hb dX3_opens_24 (lv_at hl 4 rfl) ?_
    refine lv_bipush (v := 25) hx hb dX3_opens_26 (by decide) ?_
    refine lv_icmp_ge (tgt := 54) hx hb dX3_opens_28 (by decide) (fun c_4 => (absurd ((nx_le (show ((25 : Int32)) = nI 25 from rfl) rfl (by omega) (by omega)).mp c_4) (by omega))) (fun _ => ?_)
    refine lv_aload_n hx hb dX3_opens_31 rfl (lv_at hl 0 rfl) ?_
    refine gh_get (v := .ref (ad 0)) hC hg hT.1.1 fX3_7_0 rfl dX3_opens_32 ?_
    refine lv_sipush (v := 164) hx hb dX3_opens_35 (by decide) ?_
    refine lv_bipush (v := 25) hx hb dX3_opens_38 (by decide) ?_
    refine lv_iload_n hx hb dX3_opens_40 rfl (lv_at hl 3 rfl) ?_
    refine lv_imul hx hb dX3_opens_41 ?_
    refine lv_iadd hx hb dX3_opens_42 ?_
    refine lv_iload hx hb dX3_opens_43 (lv_at hl 4 rfl) ?_
    refine lv_iadd hx hb dX3_opens_45 ?_
    refine lv_iconst (v := 0) hx hb dX3_opens_46 (by decide) ?_
    refine gh_iast (n := 578) (f := (clr (upd (A 0) 163 (((A 0) 163) + 1)) (164 + 25 * L) i_1)) hC hg (hT.1.2.1 0 (by decide)) (nx_add (nx_add (show ((164 : Int32)) = nI 164 from rfl) (nx_mul (show ((25 : Int32)) = nI 25 from rfl) hL)) rfl) (by omega) (by omega) dX3_opens_47 (fun g H locs hg hw hn => ?_)
    have hT : tw_W V g0 g o ad I (va_up (va_up (va_up A 0 (upd (A 0) 163 (((A 0) 163) + 1))) 0 (clr (upd (A 0) 163 (((A 0) 163) + 1)) (164 + 25 * L) i_1)) 0 (upd (clr (upd (A 0) 163 (((A 0) 163) + 1)) (164 + 25 * L) i_1) ((164 + (25 * L)) + i_1) 0)) F := hT.putA 0 (by decide) hw hn
    refine lv_iinc (v := (nI (i_1 + 1))) (lv' := [(4, .int (nI (i_1 + 1))), (0, .ref o), (1, .int x), (2, .int y), (3, .int ((A 0) 163))]) hx hb dX3_opens_48 hl (k := 4) rfl (nx_iinc rfl) (by decide) rfl (fun ls hl => ?_)
    refine lv_goto (tgt := 24) hx hb dX3_opens_51 (by decide) ?_
    exact ih24 _ _ _ _ hg ⟨(hT.eqA (by rw [bx_uu]; exact congrArg (va_up _ _) (clr_s _ _ _))), lv_sub hl [1, 2, 3, 4, 0] rfl⟩
set_option maxHeartbeats 1000000 in
set_option maxRecDepth 100000 in
theorem t_openLot (l : Launch) (V : gh_V) (o : Nat) (ad : Nat → Nat) (I : Nat → Int32) (A : Nat → Nat → Int32) (F : Nat → Nat → UInt32) (g0 : gh_G) (hP : tw_P V g0 o ad I A F) (x y : Int32) (K L : Nat) (hKn : I 0 = nI K) (hK5 : K ≤ 5) (hL : A 0 163 = nI L) (hL12 : L ≤ 12) : MI l yX3_openLot cX3_openLot 3 (some .int) ({ frames := 1, cells := 0, slots := 0, locals := 24 } : Room) V [.ref o, .int x, .int y] g0 (fun r g1 => (c2 (okR x 0 2 ∧ okR y 1 9) (¬ L = 12) = 0 → r = A 0 163 ∧ tw_W V g0 g1 o ad (svI (va_up I 3 0) K) (va_up (svA A K) 0 (opensS (A 0) L x y)) (svF F K)) ∧ (¬ c2 (okR x 0 2 ∧ okR y 1 9) (¬ L = 12) = 0 → tw_W V g0 g1 o ad (va_up I 3 (c2 (okR x 0 2 ∧ okR y 1 9) (¬ L = 12))) A F)) := by
  refine MG.of RX3 (by decide) rfl (Nat.le_of_ble_eq_true rfl) (fun pp ee s mm args below meth c ls hC hg hr hlk hnm hl => ?_)
  have hx := hC.1.1
  have hb := hC.1.2.1
  have hml := hC.1.2.2.1
  have hown := hC.1.2.2.2.1
  have hts := hC.1.2.2.2.2
  have hl : lv_has ls 3 [(0, .ref o), (1, .int x), (2, .int y)] := hl
  have hT := hP.W
  refine lv_aload_n hx hb dX3_openLot_0 rfl (lv_at hl 0 rfl) ?_
  refine lv_iconst (v := 0) hx hb dX3_openLot_1 (by decide) ?_
  refine gh_put (v := .int 0) hC hg hT.1.1 fX3_54_0 rfl rfl (Nat.le_of_ble_eq_true rfl) dX3_openLot_2 (fun g H locs hg hw hn => ?_)
  have hT : tw_W V g0 g o ad (va_up I 3 0) A F := hT.putI 3 0 hw hn
  refine lv_iload_n hx hb dX3_openLot_5 rfl (lv_at hl 1 rfl) ?_
  refine lv_iconst (v := 0) hx hb dX3_openLot_6 (by decide) ?_
  refine lv_iconst (v := 2) hx hb dX3_openLot_7 (by decide) ?_
  refine gh_calli hg (gh_runS (As := [.int x, .int 0, .int 2]) (rest := []) hC hg (t_in l V _ x 0 2) 3 (lw_S q3905 q3906 q138 q3907) hd_X3_in.2 ⟨Nat.le_of_ble_eq_true rfl, Nat.le_of_ble_eq_true rfl⟩ rfl hl.1 rfl (Nat.le_of_ble_eq_true rfl) dX3_openLot_8 ⟨Nat.le_of_ble_eq_true rfl, Nat.le_of_ble_eq_true rfl⟩) (fun r_1 g H locs hg hp => ?_)
  replace hp : r_1 = (if okR x 0 2 then 1 else 0) ∧ g = _ := hp
  by_cases ok_2 : okR x 0 2
  · rw [if_pos ok_2] at hp
    obtain ⟨rfl, hq⟩ := hp
    rw [hq] at hg
    obtain ⟨h_3a, h_3b, h_3⟩ := okR_cl (show ((0 : Int32)) = nI 0 from rfl) (show ((2 : Int32)) = nI 2 from rfl) (by omega) (by omega) ok_2
    refine lv_if_eq (tgt := 24) hx hb dX3_openLot_11 (by decide) (fun c_4 => (absurd ((nx_eq (show ((1 : Int32)) = nI 1 from rfl) (show ((0 : Int32)) = nI 0 from rfl) (by omega) (by omega)).mp c_4) (by omega))) (fun _ => ?_)
    refine lv_iload_n hx hb dX3_openLot_14 rfl (lv_at hl 2 rfl) ?_
    refine lv_iconst (v := 1) hx hb dX3_openLot_15 (by decide) ?_
    refine lv_bipush (v := 9) hx hb dX3_openLot_16 (by decide) ?_
    refine gh_calli hg (gh_runS (As := [.int y, .int 1, .int 9]) (rest := []) hC hg (t_in l V _ y 1 9) 3 (lw_S q3905 q3906 q138 q3907) hd_X3_in.2 ⟨Nat.le_of_ble_eq_true rfl, Nat.le_of_ble_eq_true rfl⟩ rfl hl.1 rfl (Nat.le_of_ble_eq_true rfl) dX3_openLot_18 ⟨Nat.le_of_ble_eq_true rfl, Nat.le_of_ble_eq_true rfl⟩) (fun r_5 g H locs hg hp => ?_)
    replace hp : r_5 = (if okR y 1 9 then 1 else 0) ∧ g = _ := hp
    by_cases ok_6 : okR y 1 9
    · rw [if_pos ok_6] at hp
      obtain ⟨rfl, hq⟩ := hp
      rw [hq] at hg
      obtain ⟨h_7a, h_7b, h_7⟩ := okR_cl (show ((1 : Int32)) = nI 1 from rfl) (show ((9 : Int32)) = nI 9 from rfl) (by omega) (by omega) ok_6
      refine lv_if_ne (tgt := 30) hx hb dX3_openLot_21 (by decide) (fun _ => ?_) (fun c_8 => (absurd ((nx_eq (show ((1 : Int32)) = nI 1 from rfl) (show ((0 : Int32)) = nI 0 from rfl) (by omega) (by omega)).mp c_8) (by omega)))
      refine lv_aload_n hx hb dX3_openLot_30 rfl (lv_at hl 0 rfl) ?_
      refine gh_get (v := .ref (ad 0)) hC hg hT.1.1 fX3_7_0 rfl dX3_openLot_31 ?_
      refine lv_sipush (v := 163) hx hb dX3_openLot_34 (by decide) ?_
      refine gh_iald (n := 578) (f := (A 0)) hC hg (hT.1.2.1 0 (by decide)) (show ((163 : Int32)) = nI 163 from rfl) (by omega) (by omega) dX3_openLot_37 ?_
      refine lv_bipush (v := 12) hx hb dX3_openLot_38 (by decide) ?_
      refine lv_icmp_ne (tgt := 49) hx hb dX3_openLot_40 (by decide) (fun c_9 => ?_) (fun c_9 => ?_)
      · skip
        have c_9 : ¬ L = 12 := fun h9 => c_9 ((nx_eq hL (show ((12 : Int32)) = nI 12 from rfl) (by omega) (by omega)).mpr h9)
        refine lv_aload_n hx hb dX3_openLot_49 rfl (lv_at hl 0 rfl) ?_
        refine gh_callv hg (gh_runV (As := []) (rest := []) hC hg (t_save l V o ad (va_up I 3 0) A F _ hT.1 K (by rw [show va_up I 3 0 0 = I 0 from rfl]; exact hKn) hK5) 0 (lw_V q3912 q3914 qs57 q138 q3915) hT.1.1 rfl hd_X3_save ⟨Nat.le_of_ble_eq_true rfl, Nat.le_of_ble_eq_true rfl⟩ rfl hl.1 rfl (Nat.le_of_ble_eq_true rfl) dX3_openLot_50 ⟨Nat.le_of_ble_eq_true rfl, Nat.le_of_ble_eq_true rfl⟩) (fun g H locs hg hp => ?_)
        have hT : tw_W V g0 g o ad (svI (va_up I 3 0) K) (svA A K) (svF F K) := hT.call hp
        refine lv_aload_n hx hb dX3_openLot_53 rfl (lv_at hl 0 rfl) ?_
        refine lv_iload_n hx hb dX3_openLot_54 rfl (lv_at hl 1 rfl) ?_
        refine lv_iload_n hx hb dX3_openLot_55 rfl (lv_at hl 2 rfl) ?_
        refine gh_calli hg (gh_runV (As := [.int x, .int y]) (rest := []) hC hg (t_opens l V o ad (svI (va_up I 3 0) K) (svA A K) (svF F K) _ hT.1 x y L hL (by omega)) 2 (lw_V q3940 q3942 qs60 q138 q3943) hT.1.1 rfl hd_X3_opens ⟨Nat.le_of_ble_eq_true rfl, Nat.le_of_ble_eq_true rfl⟩ rfl hl.1 rfl (Nat.le_of_ble_eq_true rfl) dX3_openLot_56 ⟨Nat.le_of_ble_eq_true rfl, Nat.le_of_ble_eq_true rfl⟩) (fun r_10 g H locs hg hp => ?_)
        obtain ⟨hp, hpT⟩ := hp
        replace hp : r_10 = ((A 0) 163) := hp
        subst hp
        have hT : tw_W V g0 g o ad (svI (va_up I 3 0) K) (va_up (svA A K) 0 (opensS (A 0) L x y)) (svF F K) := hT.call hpT
        have e9 : c2 (okR x 0 2 ∧ okR y 1 9) (¬ L = 12) = 0 := by first | rfl | (simp only [c1, c2, c3, if_pos ok_2, if_pos ok_6, if_neg c_9]; done) | simp [c1, c2, c3, ok_2, ok_6, c_9]
        exact gh_reti hC hg hr hlk (⟨fun _ => ⟨rfl, hT⟩, fun h9 => absurd e9 h9⟩) dX3_openLot_59 (Nat.le_of_ble_eq_true rfl) (Nat.le_of_ble_eq_true rfl)
      have c_9 : L = 12 := (nx_eq hL (show ((12 : Int32)) = nI 12 from rfl) (by omega) (by omega)).mp c_9
      refine lv_aload_n hx hb dX3_openLot_43 rfl (lv_at hl 0 rfl) ?_
      refine lv_iconst (v := 2) hx hb dX3_openLot_44 (by decide) ?_
      refine gh_calli hg (gh_runV (As := [.int 2]) (rest := []) hC hg (t_throwing l V o ad (va_up I 3 0) A F _ hT.1 2) 1 (lw_V q3908 q3910 qs56 q138 q3911) hT.1.1 rfl hd_X3_throwing ⟨Nat.le_of_ble_eq_true rfl, Nat.le_of_ble_eq_true rfl⟩ rfl hl.1 rfl (Nat.le_of_ble_eq_true rfl) dX3_openLot_45 ⟨Nat.le_of_ble_eq_true rfl, Nat.le_of_ble_eq_true rfl⟩) (fun r_11 g H locs hg hp => ?_)
      obtain ⟨hp, hpT⟩ := hp
      replace hp : r_11 = 0 := hp
      subst hp
      have hT : tw_W V g0 g o ad (va_up (va_up I 3 0) 3 2) A F := hT.call hpT
      have e9 : c2 (okR x 0 2 ∧ okR y 1 9) (¬ L = 12) = 2 := by first | rfl | (simp only [c1, c2, c3, if_pos ok_2, if_pos ok_6, if_pos c_9]; done) | simp [c1, c2, c3, ok_2, ok_6, c_9]
      exact gh_reti hC hg hr hlk (⟨fun h9 => absurd (e9.symm.trans h9) (by decide), fun _ => by rw [e9]; exact hT⟩) dX3_openLot_48 (Nat.le_of_ble_eq_true rfl) (Nat.le_of_ble_eq_true rfl)
    rw [if_neg ok_6] at hp
    obtain ⟨rfl, hq⟩ := hp
    rw [hq] at hg
    refine lv_if_ne (tgt := 30) hx hb dX3_openLot_21 (by decide) (fun c_12 => (absurd ((nx_eq (show ((0 : Int32)) = nI 0 from rfl) (show ((0 : Int32)) = nI 0 from rfl) (by omega) (by omega)).mpr (by omega)) c_12)) (fun _ => ?_)
    refine lv_aload_n hx hb dX3_openLot_24 rfl (lv_at hl 0 rfl) ?_
    refine lv_iconst (v := 1) hx hb dX3_openLot_25 (by decide) ?_
    refine gh_calli hg (gh_runV (As := [.int 1]) (rest := []) hC hg (t_throwing l V o ad (va_up I 3 0) A F _ hT.1 1) 1 (lw_V q3908 q3910 qs56 q138 q3911) hT.1.1 rfl hd_X3_throwing ⟨Nat.le_of_ble_eq_true rfl, Nat.le_of_ble_eq_true rfl⟩ rfl hl.1 rfl (Nat.le_of_ble_eq_true rfl) dX3_openLot_26 ⟨Nat.le_of_ble_eq_true rfl, Nat.le_of_ble_eq_true rfl⟩) (fun r_13 g H locs hg hp => ?_)
    obtain ⟨hp, hpT⟩ := hp
    replace hp : r_13 = 0 := hp
    subst hp
    have hT : tw_W V g0 g o ad (va_up (va_up I 3 0) 3 1) A F := hT.call hpT
    have e9 : c2 (okR x 0 2 ∧ okR y 1 9) (¬ L = 12) = 1 := by first | rfl | (simp only [c1, c2, c3, if_pos ok_2, if_neg ok_6]; done) | simp [c1, c2, c3, ok_2, ok_6]
    exact gh_reti hC hg hr hlk (⟨fun h9 => absurd (e9.symm.trans h9) (by decide), fun _ => by rw [e9]; exact hT⟩) dX3_openLot_29 (Nat.le_of_ble_eq_true rfl) (Nat.le_of_ble_eq_true rfl)
  rw [if_neg ok_2] at hp
  obtain ⟨rfl, hq⟩ := hp
  rw [hq] at hg
  refine lv_if_eq (tgt := 24) hx hb dX3_openLot_11 (by decide) (fun _ => ?_) (fun c_14 => (absurd ((nx_eq (show ((0 : Int32)) = nI 0 from rfl) (show ((0 : Int32)) = nI 0 from rfl) (by omega) (by omega)).mpr (by omega)) c_14))
  refine lv_aload_n hx hb dX3_openLot_24 rfl (lv_at hl 0 rfl) ?_
  refine lv_iconst (v := 1) hx hb dX3_openLot_25 (by decide) ?_
  refine gh_calli hg (gh_runV (As := [.int 1]) (rest := []) hC hg (t_throwing l V o ad (va_up I 3 0) A F _ hT.1 1) 1 (lw_V q3908 q3910 qs56 q138 q3911) hT.1.1 rfl hd_X3_throwing ⟨Nat.le_of_ble_eq_true rfl, Nat.le_of_ble_eq_true rfl⟩ rfl hl.1 rfl (Nat.le_of_ble_eq_true rfl) dX3_openLot_26 ⟨Nat.le_of_ble_eq_true rfl, Nat.le_of_ble_eq_true rfl⟩) (fun r_15 g H locs hg hp => ?_)
  obtain ⟨hp, hpT⟩ := hp
  replace hp : r_15 = 0 := hp
  subst hp
  have hT : tw_W V g0 g o ad (va_up (va_up I 3 0) 3 1) A F := hT.call hpT
  have e9 : c2 (okR x 0 2 ∧ okR y 1 9) (¬ L = 12) = 1 := by first | rfl | (simp only [c1, c2, c3, if_neg ok_2]; done) | simp [c1, c2, c3, ok_2]
  exact gh_reti hC hg hr hlk (⟨fun h9 => absurd (e9.symm.trans h9) (by decide), fun _ => by rw [e9]; exact hT⟩) dX3_openLot_29 (Nat.le_of_ble_eq_true rfl) (Nat.le_of_ble_eq_true rfl)
set_option maxHeartbeats 1000000 in
set_option maxRecDepth 100000 in
theorem t_loads (l : Launch) (V : gh_V) (o : Nat) (ad : Nat → Nat) (I : Nat → Int32) (A : Nat → Nat → Int32) (F : Nat → Nat → UInt32) (g0 : gh_G) (hP : tw_P V g0 o ad I A F) (x : Int32) (i : Nat) (ex : x = nI i) (bi : i < 12) : MI l yX3_loads cX3_loads 3 (some .int) ({ frames := 1, cells := 0, slots := 0, locals := 23 } : Room) V [.ref o, .int x] g0 (fun r g1 => r = lt (A 0) i 2 ∧ tw_W V g0 g1 o ad I (va_up A 0 (loadsS (A 0) i x)) (va_up F 0 (va_up (F 0) 0 FP.fconst0))) := by
  refine MG.of RX3 (by decide) rfl (Nat.le_of_ble_eq_true rfl) (fun pp ee s mm args below meth c ls hC hg hr hlk hnm hl => ?_)
  have hx := hC.1.1
  have hb := hC.1.2.1
  have hml := hC.1.2.2.1
  have hown := hC.1.2.2.2.1
  have hts := hC.1.2.2.2.2
  have hl : lv_has ls 3 [(0, .ref o), (1, .int x)] := hl
  have hT := hP.W
  refine lv_aload_n hx hb dX3_loads_0 rfl (lv_at hl 0 rfl) ?_
  refine lv_iload_n hx hb dX3_loads_1 rfl (lv_at hl 1 rfl) ?_
  refine lv_iconst (v := 2) hx hb dX3_loads_2 (by decide) ?_
  refine gh_calli hg (gh_runV (As := [.int x, .int 2]) (rest := []) hC hg (t_lot l V o ad I A F _ hT.1 x 2 i 2 ex (show ((2 : Int32)) = nI 2 from rfl) (by omega) (by omega)) 2 (lw_V q3956 q3958 qs63 q138 q3959) hT.1.1 rfl hd_X3_lot ⟨Nat.le_of_ble_eq_true rfl, Nat.le_of_ble_eq_true rfl⟩ rfl hl.1 rfl (Nat.le_of_ble_eq_true rfl) dX3_loads_3 ⟨Nat.le_of_ble_eq_true rfl, Nat.le_of_ble_eq_true rfl⟩) (fun r_1 g H locs hg hp => ?_)
  obtain ⟨hp, hq⟩ := hp
  replace hp : r_1 = (lt (A 0) i 2) := hp
  subst hp
  rw [hq] at hg
  refine lv_istore_n (lv' := [(2, .int (lt (A 0) i 2)), (0, .ref o), (1, .int x)]) hx hb dX3_loads_6 rfl hl (by decide) rfl (fun ls hl => ?_)
  refine lv_aload_n hx hb dX3_loads_7 rfl (lv_at hl 1 rfl) ?_
  refine lv_iload_n hx hb dX3_loads_8 rfl (lv_at hl 2 rfl) ?_
  refine lv_iconst (v := 2) hx hb dX3_loads_9 (by decide) ?_
  refine lv_iconst (v := 1) hx hb dX3_loads_10 (by decide) ?_
  refine gh_callv hg (gh_runV (As := [.int x, .int 2, .int 1]) (rest := []) hC hg (t_growLot l V o ad I A F _ hT.1 x 2 1 i 2 ex (show ((2 : Int32)) = nI 2 from rfl) (by omega) (by omega)) 3 (lw_V q3972 q3974 qs67 q138 q3975) hT.1.1 rfl hd_X3_growLot ⟨Nat.le_of_ble_eq_true rfl, Nat.le_of_ble_eq_true rfl⟩ rfl hl.1 rfl (Nat.le_of_ble_eq_true rfl) dX3_loads_11 ⟨Nat.le_of_ble_eq_true rfl, Nat.le_of_ble_eq_true rfl⟩) (fun g H locs hg hp => ?_)
  have hT : tw_W V g0 g o ad I (va_up A 0 (lts (A 0) i 2 (lt (A 0) i 2 + 1))) F := hT.call hp
  refine lv_aload_n hx hb dX3_loads_14 rfl (lv_at hl 1 rfl) ?_
  refine lv_iconst (v := 0) hx hb dX3_loads_15 (by decide) ?_
  refine lv_iconst (v := 0) hx hb dX3_loads_16 (by decide) ?_
  refine lv_iload_n hx hb dX3_loads_17 rfl (lv_at hl 2 rfl) ?_
  refine gh_callv hg (gh_runV (As := [.int 0, .int 0, .int x]) (rest := []) hC hg (t_putPlace l V o ad I (va_up A 0 (lts (A 0) i 2 (lt (A 0) i 2 + 1))) F _ hT.1 0 0 x 0 0 (show ((0 : Int32)) = nI 0 from rfl) (show ((0 : Int32)) = nI 0 from rfl) (by omega) (by omega)) 3 (lw_V q3826 q3828 qs53 q138 q3829) hT.1.1 rfl hd_X3_putPlace ⟨Nat.le_of_ble_eq_true rfl, Nat.le_of_ble_eq_true rfl⟩ rfl hl.1 rfl (Nat.le_of_ble_eq_true rfl) dX3_loads_18 ⟨Nat.le_of_ble_eq_true rfl, Nat.le_of_ble_eq_true rfl⟩) (fun g H locs hg hp => ?_)
  have hT : tw_W V g0 g o ad I (va_up (va_up A 0 (lts (A 0) i 2 (lt (A 0) i 2 + 1))) 0 (ps (lts (A 0) i 2 (lt (A 0) i 2 + 1)) 0 0 x)) F := hT.call hp
  refine lv_aload_n hx hb dX3_loads_21 rfl (lv_at hl 1 rfl) ?_
  refine lv_iconst (v := 0) hx hb dX3_loads_22 (by decide) ?_
  refine lv_iconst (v := 1) hx hb dX3_loads_23 (by decide) ?_
  refine lv_iload_n hx hb dX3_loads_24 rfl (lv_at hl 0 rfl) ?_
  refine gh_callv hg (gh_runV (As := [.int 0, .int 1, .int (lt (A 0) i 2)]) (rest := []) hC hg (t_putPlace l V o ad I (va_up (va_up A 0 (lts (A 0) i 2 (lt (A 0) i 2 + 1))) 0 (ps (lts (A 0) i 2 (lt (A 0) i 2 + 1)) 0 0 x)) F _ hT.1 0 1 (lt (A 0) i 2) 0 1 (show ((0 : Int32)) = nI 0 from rfl) (show ((1 : Int32)) = nI 1 from rfl) (by omega) (by omega)) 3 (lw_V q3826 q3828 qs53 q138 q3829) hT.1.1 rfl hd_X3_putPlace ⟨Nat.le_of_ble_eq_true rfl, Nat.le_of_ble_eq_true rfl⟩ rfl hl.1 rfl (Nat.le_of_ble_eq_true rfl) dX3_loads_25 ⟨Nat.le_of_ble_eq_true rfl, Nat.le_of_ble_eq_true rfl⟩) (fun g H locs hg hp => ?_)
  have hT : tw_W V g0 g o ad I (va_up (va_up (va_up A 0 (lts (A 0) i 2 (lt (A 0) i 2 + 1))) 0 (ps (lts (A 0) i 2 (lt (A 0) i 2 + 1)) 0 0 x)) 0 (ps (ps (lts (A 0) i 2 (lt (A 0) i 2 + 1)) 0 0 x) 0 1 (lt (A 0) i 2))) F := hT.call hp
  refine lv_aload_n hx hb dX3_loads_28 rfl (lv_at hl 1 rfl) ?_
  refine lv_iconst (v := 0) hx hb dX3_loads_29 (by decide) ?_
  refine lv_iconst (v := 2) hx hb dX3_loads_30 (by decide) ?_
  refine lv_sipush (v := 600) hx hb dX3_loads_31 (by decide) ?_
  refine gh_callv hg (gh_runV (As := [.int 0, .int 2, .int 600]) (rest := []) hC hg (t_putPlace l V o ad I (va_up (va_up (va_up A 0 (lts (A 0) i 2 (lt (A 0) i 2 + 1))) 0 (ps (lts (A 0) i 2 (lt (A 0) i 2 + 1)) 0 0 x)) 0 (ps (ps (lts (A 0) i 2 (lt (A 0) i 2 + 1)) 0 0 x) 0 1 (lt (A 0) i 2))) F _ hT.1 0 2 600 0 2 (show ((0 : Int32)) = nI 0 from rfl) (show ((2 : Int32)) = nI 2 from rfl) (by omega) (by omega)) 3 (lw_V q3826 q3828 qs53 q138 q3829) hT.1.1 rfl hd_X3_putPlace ⟨Nat.le_of_ble_eq_true rfl, Nat.le_of_ble_eq_true rfl⟩ rfl hl.1 rfl (Nat.le_of_ble_eq_true rfl) dX3_loads_34 ⟨Nat.le_of_ble_eq_true rfl, Nat.le_of_ble_eq_true rfl⟩) (fun g H locs hg hp => ?_)
  have hT : tw_W V g0 g o ad I (va_up (va_up (va_up (va_up A 0 (lts (A 0) i 2 (lt (A 0) i 2 + 1))) 0 (ps (lts (A 0) i 2 (lt (A 0) i 2 + 1)) 0 0 x)) 0 (ps (ps (lts (A 0) i 2 (lt (A 0) i 2 + 1)) 0 0 x) 0 1 (lt (A 0) i 2))) 0 (ps (ps (ps (lts (A 0) i 2 (lt (A 0) i 2 + 1)) 0 0 x) 0 1 (lt (A 0) i 2)) 0 2 600)) F := hT.call hp
  refine lv_aload_n hx hb dX3_loads_37 rfl (lv_at hl 1 rfl) ?_
  refine lv_iconst (v := 0) hx hb dX3_loads_38 (by decide) ?_
  refine lv_iconst (v := 3) hx hb dX3_loads_39 (by decide) ?_
  refine lv_iconst (v := 0) hx hb dX3_loads_40 (by decide) ?_
  refine gh_callv hg (gh_runV (As := [.int 0, .int 3, .int 0]) (rest := []) hC hg (t_putPlace l V o ad I (va_up (va_up (va_up (va_up A 0 (lts (A 0) i 2 (lt (A 0) i 2 + 1))) 0 (ps (lts (A 0) i 2 (lt (A 0) i 2 + 1)) 0 0 x)) 0 (ps (ps (lts (A 0) i 2 (lt (A 0) i 2 + 1)) 0 0 x) 0 1 (lt (A 0) i 2))) 0 (ps (ps (ps (lts (A 0) i 2 (lt (A 0) i 2 + 1)) 0 0 x) 0 1 (lt (A 0) i 2)) 0 2 600)) F _ hT.1 0 3 0 0 3 (show ((0 : Int32)) = nI 0 from rfl) (show ((3 : Int32)) = nI 3 from rfl) (by omega) (by omega)) 3 (lw_V q3826 q3828 qs53 q138 q3829) hT.1.1 rfl hd_X3_putPlace ⟨Nat.le_of_ble_eq_true rfl, Nat.le_of_ble_eq_true rfl⟩ rfl hl.1 rfl (Nat.le_of_ble_eq_true rfl) dX3_loads_41 ⟨Nat.le_of_ble_eq_true rfl, Nat.le_of_ble_eq_true rfl⟩) (fun g H locs hg hp => ?_)
  have hT : tw_W V g0 g o ad I (va_up (va_up (va_up (va_up (va_up A 0 (lts (A 0) i 2 (lt (A 0) i 2 + 1))) 0 (ps (lts (A 0) i 2 (lt (A 0) i 2 + 1)) 0 0 x)) 0 (ps (ps (lts (A 0) i 2 (lt (A 0) i 2 + 1)) 0 0 x) 0 1 (lt (A 0) i 2))) 0 (ps (ps (ps (lts (A 0) i 2 (lt (A 0) i 2 + 1)) 0 0 x) 0 1 (lt (A 0) i 2)) 0 2 600)) 0 (ps (ps (ps (ps (lts (A 0) i 2 (lt (A 0) i 2 + 1)) 0 0 x) 0 1 (lt (A 0) i 2)) 0 2 600) 0 3 0)) F := hT.call hp
  refine lv_aload_n hx hb dX3_loads_44 rfl (lv_at hl 1 rfl) ?_
  refine gh_get (v := .ref (ad 8)) hC hg hT.1.1 fX3_13_0 rfl dX3_loads_45 ?_
  refine lv_iconst (v := 0) hx hb dX3_loads_48 (by decide) ?_
  refine lv_fconst0 hx hb dX3_loads_49 ?_
  refine gh_fast (n := 24) (f := (F 0)) hC hg (hT.1.2.2 0 (by decide)) (show ((0 : Int32)) = nI 0 from rfl) (by omega) (by omega) dX3_loads_50 (fun g H locs hg hw hn => ?_)
  have hT : tw_W V g0 g o ad I (va_up (va_up (va_up (va_up (va_up A 0 (lts (A 0) i 2 (lt (A 0) i 2 + 1))) 0 (ps (lts (A 0) i 2 (lt (A 0) i 2 + 1)) 0 0 x)) 0 (ps (ps (lts (A 0) i 2 (lt (A 0) i 2 + 1)) 0 0 x) 0 1 (lt (A 0) i 2))) 0 (ps (ps (ps (lts (A 0) i 2 (lt (A 0) i 2 + 1)) 0 0 x) 0 1 (lt (A 0) i 2)) 0 2 600)) 0 (ps (ps (ps (ps (lts (A 0) i 2 (lt (A 0) i 2 + 1)) 0 0 x) 0 1 (lt (A 0) i 2)) 0 2 600) 0 3 0)) (va_up F 0 (va_up (F 0) 0 FP.fconst0)) := hT.putF 0 (by decide) hw hn
  refine lv_iload_n hx hb dX3_loads_51 rfl (lv_at hl 0 rfl) ?_
  exact gh_reti hC hg hr hlk (⟨rfl, hT.eqA (by simp only [bx_uu]; rfl)⟩) dX3_loads_52 (Nat.le_of_ble_eq_true rfl) (Nat.le_of_ble_eq_true rfl)
set_option maxHeartbeats 1000000 in
set_option maxRecDepth 100000 in
theorem t_load (l : Launch) (V : gh_V) (o : Nat) (ad : Nat → Nat) (I : Nat → Int32) (A : Nat → Nat → Int32) (F : Nat → Nat → UInt32) (g0 : gh_G) (hP : tw_P V g0 o ad I A F) (x : Int32) (K L : Nat) (hKn : I 0 = nI K) (hK5 : K ≤ 5) (hL : A 0 163 = nI L) (hL12 : L ≤ 12) : MI l yX3_load cX3_load 2 (some .int) ({ frames := 3, cells := 0, slots := 0, locals := 64 } : Room) V [.ref o, .int x] g0 (fun r g1 => (c2 (okL x L) (noLoad (A 0) x.toNatClampNeg ≤ 0) = 0 → r = lt (A 0) x.toNatClampNeg 2 ∧ tw_W V g0 g1 o ad (svI (va_up I 3 0) K) (va_up (svA A K) 0 (loadsS (A 0) x.toNatClampNeg x)) (va_up (svF F K) 0 (va_up (F 0) 0 FP.fconst0))) ∧ (¬ c2 (okL x L) (noLoad (A 0) x.toNatClampNeg ≤ 0) = 0 → tw_W V g0 g1 o ad (va_up I 3 (c2 (okL x L) (noLoad (A 0) x.toNatClampNeg ≤ 0))) A F)) := by
  refine MG.of RX3 (by decide) rfl (Nat.le_of_ble_eq_true rfl) (fun pp ee s mm args below meth c ls hC hg hr hlk hnm hl => ?_)
  have hx := hC.1.1
  have hb := hC.1.2.1
  have hml := hC.1.2.2.1
  have hown := hC.1.2.2.2.1
  have hts := hC.1.2.2.2.2
  have hl : lv_has ls 2 [(0, .ref o), (1, .int x)] := hl
  have hT := hP.W
  refine lv_aload_n hx hb dX3_load_0 rfl (lv_at hl 0 rfl) ?_
  refine lv_iload_n hx hb dX3_load_1 rfl (lv_at hl 1 rfl) ?_
  refine gh_calli hg (gh_runV (As := [.int x]) (rest := []) hC hg (t_isLot l V o ad I A F _ hT.1 x L (hL) hL12) 1 (lw_V q3948 q3950 qs61 q138 q3951) hT.1.1 rfl hd_X3_isLot ⟨Nat.le_of_ble_eq_true rfl, Nat.le_of_ble_eq_true rfl⟩ rfl hl.1 rfl (Nat.le_of_ble_eq_true rfl) dX3_load_2 ⟨Nat.le_of_ble_eq_true rfl, Nat.le_of_ble_eq_true rfl⟩) (fun r_1 g H locs hg hp => ?_)
  replace hp : r_1 = (if okL x L then 1 else 0) ∧ tw_W V _ g o ad (va_up I 3 (if okL x L then 0 else 1)) A F := hp
  by_cases ok_2 : okL x L
  · rw [if_pos ok_2, if_pos ok_2] at hp
    obtain ⟨rfl, hp⟩ := hp
    have hT : tw_W V g0 g o ad (va_up I 3 0) A F := hT.call hp
    obtain ⟨h_3a, h_3⟩ := okL_cl (by omega) ok_2
    refine lv_if_ne (tgt := 10) hx hb dX3_load_5 (by decide) (fun _ => ?_) (fun c_4 => (absurd ((nx_eq (show ((1 : Int32)) = nI 1 from rfl) (show ((0 : Int32)) = nI 0 from rfl) (by omega) (by omega)).mp c_4) (by omega)))
    refine lv_aload_n hx hb dX3_load_10 rfl (lv_at hl 0 rfl) ?_
    refine lv_iload_n hx hb dX3_load_11 rfl (lv_at hl 1 rfl) ?_
    refine gh_calli hg (gh_runV (As := [.int x]) (rest := []) hC hg (t_noLoading l V o ad (va_up I 3 0) A F _ hT.1 x ((x).toNatClampNeg) h_3 (by omega)) 1 (lw_V q3952 q3954 qs62 q138 q3955) hT.1.1 rfl hd_X3_noLoading ⟨Nat.le_of_ble_eq_true rfl, Nat.le_of_ble_eq_true rfl⟩ rfl hl.1 rfl (Nat.le_of_ble_eq_true rfl) dX3_load_12 ⟨Nat.le_of_ble_eq_true rfl, Nat.le_of_ble_eq_true rfl⟩) (fun r_5 g H locs hg hp => ?_)
    obtain ⟨hp, hq⟩ := hp
    replace hp : r_5 = (noLoad (A 0) ((x).toNatClampNeg)) := hp
    subst hp
    rw [hq] at hg
    refine lv_if_le (tgt := 24) hx hb dX3_load_15 (by decide) (fun c_6 => ?_) (fun c_6 => ?_)
    · skip
      refine lv_aload_n hx hb dX3_load_24 rfl (lv_at hl 0 rfl) ?_
      refine gh_callv hg (gh_runV (As := []) (rest := []) hC hg (t_save l V o ad (va_up I 3 0) A F _ hT.1 K (by rw [show va_up I 3 0 0 = I 0 from rfl]; exact hKn) hK5) 0 (lw_V q3912 q3914 qs57 q138 q3915) hT.1.1 rfl hd_X3_save ⟨Nat.le_of_ble_eq_true rfl, Nat.le_of_ble_eq_true rfl⟩ rfl hl.1 rfl (Nat.le_of_ble_eq_true rfl) dX3_load_25 ⟨Nat.le_of_ble_eq_true rfl, Nat.le_of_ble_eq_true rfl⟩) (fun g H locs hg hp => ?_)
      have hT : tw_W V g0 g o ad (svI (va_up I 3 0) K) (svA A K) (svF F K) := hT.call hp
      refine lv_aload_n hx hb dX3_load_28 rfl (lv_at hl 0 rfl) ?_
      refine lv_iload_n hx hb dX3_load_29 rfl (lv_at hl 1 rfl) ?_
      refine gh_calli hg (gh_runV (As := [.int x]) (rest := []) hC hg (t_loads l V o ad (svI (va_up I 3 0) K) (svA A K) (svF F K) _ hT.1 x ((x).toNatClampNeg) h_3 (by omega)) 1 (lw_V q3968 q3970 qs66 q138 q3971) hT.1.1 rfl hd_X3_loads ⟨Nat.le_of_ble_eq_true rfl, Nat.le_of_ble_eq_true rfl⟩ rfl hl.1 rfl (Nat.le_of_ble_eq_true rfl) dX3_load_30 ⟨Nat.le_of_ble_eq_true rfl, Nat.le_of_ble_eq_true rfl⟩) (fun r_7 g H locs hg hp => ?_)
      obtain ⟨hp, hpT⟩ := hp
      replace hp : r_7 = (lt (A 0) ((x).toNatClampNeg) 2) := hp
      subst hp
      have hT : tw_W V g0 g o ad (svI (va_up I 3 0) K) (va_up (svA A K) 0 (loadsS (A 0) ((x).toNatClampNeg) x)) (va_up (svF F K) 0 (va_up (F 0) 0 FP.fconst0)) := hT.call hpT
      have e9 : c2 (okL x L) (noLoad (A 0) x.toNatClampNeg ≤ 0) = 0 := by first | rfl | (simp only [c1, c2, c3, if_pos ok_2, if_pos c_6]; done) | simp [c1, c2, c3, ok_2, c_6]
      exact gh_reti hC hg hr hlk (⟨fun _ => ⟨rfl, hT⟩, fun h9 => absurd e9 h9⟩) dX3_load_33 (Nat.le_of_ble_eq_true rfl) (Nat.le_of_ble_eq_true rfl)
    refine lv_aload_n hx hb dX3_load_18 rfl (lv_at hl 0 rfl) ?_
    refine lv_iconst (v := 2) hx hb dX3_load_19 (by decide) ?_
    refine gh_calli hg (gh_runV (As := [.int 2]) (rest := []) hC hg (t_throwing l V o ad (va_up I 3 0) A F _ hT.1 2) 1 (lw_V q3908 q3910 qs56 q138 q3911) hT.1.1 rfl hd_X3_throwing ⟨Nat.le_of_ble_eq_true rfl, Nat.le_of_ble_eq_true rfl⟩ rfl hl.1 rfl (Nat.le_of_ble_eq_true rfl) dX3_load_20 ⟨Nat.le_of_ble_eq_true rfl, Nat.le_of_ble_eq_true rfl⟩) (fun r_8 g H locs hg hp => ?_)
    obtain ⟨hp, hpT⟩ := hp
    replace hp : r_8 = 0 := hp
    subst hp
    have hT : tw_W V g0 g o ad (va_up (va_up I 3 0) 3 2) A F := hT.call hpT
    have e9 : c2 (okL x L) (noLoad (A 0) x.toNatClampNeg ≤ 0) = 2 := by first | rfl | (simp only [c1, c2, c3, if_pos ok_2, if_neg c_6]; done) | simp [c1, c2, c3, ok_2, c_6]
    exact gh_reti hC hg hr hlk (⟨fun h9 => absurd (e9.symm.trans h9) (by decide), fun _ => by rw [e9]; exact hT⟩) dX3_load_23 (Nat.le_of_ble_eq_true rfl) (Nat.le_of_ble_eq_true rfl)
  rw [if_neg ok_2, if_neg ok_2] at hp
  obtain ⟨rfl, hp⟩ := hp
  have hT : tw_W V g0 g o ad (va_up I 3 1) A F := hT.call hp
  refine lv_if_ne (tgt := 10) hx hb dX3_load_5 (by decide) (fun c_9 => (absurd ((nx_eq (show ((0 : Int32)) = nI 0 from rfl) (show ((0 : Int32)) = nI 0 from rfl) (by omega) (by omega)).mpr (by omega)) c_9)) (fun _ => ?_)
  refine lv_iconst (v := 0) hx hb dX3_load_8 (by decide) ?_
  have e9 : c2 (okL x L) (noLoad (A 0) x.toNatClampNeg ≤ 0) = 1 := by first | rfl | (simp only [c1, c2, c3, if_neg ok_2]; done) | simp [c1, c2, c3, ok_2]
  exact gh_reti hC hg hr hlk (⟨fun h9 => absurd (e9.symm.trans h9) (by decide), fun _ => by rw [e9]; exact hT⟩) dX3_load_9 (Nat.le_of_ble_eq_true rfl) (Nat.le_of_ble_eq_true rfl)
set_option maxHeartbeats 1000000 in
set_option maxRecDepth 100000 in
theorem t_sends (l : Launch) (V : gh_V) (o : Nat) (ad : Nat → Nat) (I : Nat → Int32) (A : Nat → Nat → Int32) (F : Nat → Nat → UInt32) (g0 : gh_G) (hP : tw_P V g0 o ad I A F) (x y : Int32) (k : Nat) (ex : x = nI k) (bk : k < 2) : MI l yX3_sends cX3_sends 5 (some .int) ({ frames := 0, cells := 0, slots := 0, locals := 0 } : Room) V [.ref o, .int x, .int y] g0 (fun r g1 => r = 3 + farN (A 0) k y / 2 ∧ tw_W V g0 g1 o ad I (va_up A 0 (sendsS (A 0) k y)) F) := by
  refine MG.of RX3 (by decide) rfl (Nat.le_of_ble_eq_true rfl) (fun pp ee s mm args below meth c ls hC hg hr hlk hnm hl => ?_)
  have hx := hC.1.1
  have hb := hC.1.2.1
  have hml := hC.1.2.2.1
  have hown := hC.1.2.2.2.1
  have hts := hC.1.2.2.2.2
  have hl : lv_has ls 5 [(0, .ref o), (1, .int x), (2, .int y)] := hl
  have hT := hP.W
  refine lv_sipush (v := 525) hx hb dX3_sends_0 (by decide) ?_
  refine lv_iconst (v := 2) hx hb dX3_sends_3 (by decide) ?_
  refine lv_iload_n hx hb dX3_sends_4 rfl (lv_at hl 1 rfl) ?_
  refine lv_imul hx hb dX3_sends_5 ?_
  refine lv_iadd hx hb dX3_sends_6 ?_
  refine lv_istore_n (lv' := [(3, .int (525 + (2 * x))), (0, .ref o), (1, .int x), (2, .int y)]) hx hb dX3_sends_7 rfl hl (by decide) rfl (fun ls hl => ?_)
  refine lv_aload_n hx hb dX3_sends_8 rfl (lv_at hl 1 rfl) ?_
  refine gh_get (v := .ref (ad 0)) hC hg hT.1.1 fX3_7_0 rfl dX3_sends_9 ?_
  refine lv_iload_n hx hb dX3_sends_12 rfl (lv_at hl 0 rfl) ?_
  refine gh_iald (n := 578) (f := (A 0)) hC hg (hT.1.2.1 0 (by decide)) (nx_add (show ((525 : Int32)) = nI 525 from rfl) (nx_mul (show ((2 : Int32)) = nI 2 from rfl) ex)) (by omega) (by omega) dX3_sends_13 ?_
  refine lv_iload_n hx hb dX3_sends_14 rfl (lv_at hl 3 rfl) ?_
  refine lv_icmp_ge (tgt := 29) hx hb dX3_sends_15 (by decide) (fun c_1 => ?_) (fun c_1 => ?_)
  · skip
    refine lv_aload_n hx hb dX3_sends_29 rfl (lv_at hl 1 rfl) ?_
    refine gh_get (v := .ref (ad 0)) hC hg hT.1.1 fX3_7_0 rfl dX3_sends_30 ?_
    refine lv_iload_n hx hb dX3_sends_33 rfl (lv_at hl 0 rfl) ?_
    refine gh_iald (n := 578) (f := (A 0)) hC hg (hT.1.2.1 0 (by decide)) (nx_add (show ((525 : Int32)) = nI 525 from rfl) (nx_mul (show ((2 : Int32)) = nI 2 from rfl) ex)) (by omega) (by omega) dX3_sends_34 ?_
    refine lv_iload_n hx hb dX3_sends_35 rfl (lv_at hl 3 rfl) ?_
    refine lv_isub hx hb dX3_sends_36 ?_
    refine lv_istore (lv' := [(4, .int (((A 0) (525 + (2 * k))) - y)), (3, .int (525 + (2 * x))), (0, .ref o), (1, .int x), (2, .int y)]) hx hb dX3_sends_37 hl (by decide) rfl (fun ls hl => ?_)
    refine lv_aload_n hx hb dX3_sends_39 rfl (lv_at hl 2 rfl) ?_
    refine gh_get (v := .ref (ad 0)) hC hg hT.1.1 fX3_7_0 rfl dX3_sends_40 ?_
    refine lv_iload_n hx hb dX3_sends_43 rfl (lv_at hl 1 rfl) ?_
    refine lv_iload_n hx hb dX3_sends_44 rfl (lv_at hl 4 rfl) ?_
    refine gh_iast (n := 578) (f := (A 0)) hC hg (hT.1.2.1 0 (by decide)) (nx_add (show ((525 : Int32)) = nI 525 from rfl) (nx_mul (show ((2 : Int32)) = nI 2 from rfl) ex)) (by omega) (by omega) dX3_sends_45 (fun g H locs hg hw hn => ?_)
    have hT : tw_W V g0 g o ad I (va_up A 0 (upd (A 0) (525 + (2 * k)) y)) F := hT.putA 0 (by decide) hw hn
    refine lv_aload_n hx hb dX3_sends_46 rfl (lv_at hl 2 rfl) ?_
    refine gh_get (v := .ref (ad 0)) hC hg hT.1.1 fX3_7_0 rfl dX3_sends_47 ?_
    refine lv_iload_n hx hb dX3_sends_50 rfl (lv_at hl 1 rfl) ?_
    refine lv_iconst (v := 1) hx hb dX3_sends_51 (by decide) ?_
    refine lv_iadd hx hb dX3_sends_52 ?_
    refine lv_iconst (v := 3) hx hb dX3_sends_53 (by decide) ?_
    refine lv_iload hx hb dX3_sends_54 (lv_at hl 0 rfl) ?_
    refine lv_iconst (v := 2) hx hb dX3_sends_56 (by decide) ?_
    refine lv_idiv hx hb dX3_sends_57 (by decide) ?_
    refine lv_iadd hx hb dX3_sends_58 ?_
    refine gh_iast (n := 578) (f := (upd (A 0) (525 + (2 * k)) y)) hC hg (hT.1.2.1 0 (by decide)) (nx_add (nx_add (show ((525 : Int32)) = nI 525 from rfl) (nx_mul (show ((2 : Int32)) = nI 2 from rfl) ex)) (show ((1 : Int32)) = nI 1 from rfl)) (by omega) (by omega) dX3_sends_59 (fun g H locs hg hw hn => ?_)
    have hT : tw_W V g0 g o ad I (va_up (va_up A 0 (upd (A 0) (525 + (2 * k)) y)) 0 (upd (upd (A 0) (525 + (2 * k)) y) ((525 + (2 * k)) + 1) (3 + ((((A 0) (525 + (2 * k))) - y) / 2)))) F := hT.putA 0 (by decide) hw hn
    refine lv_aload_n hx hb dX3_sends_60 rfl (lv_at hl 2 rfl) ?_
    refine gh_get (v := .ref (ad 0)) hC hg hT.1.1 fX3_7_0 rfl dX3_sends_61 ?_
    refine lv_iload_n hx hb dX3_sends_64 rfl (lv_at hl 1 rfl) ?_
    refine lv_iconst (v := 1) hx hb dX3_sends_65 (by decide) ?_
    refine lv_iadd hx hb dX3_sends_66 ?_
    refine gh_iald (n := 578) (f := (upd (upd (A 0) (525 + (2 * k)) y) ((525 + (2 * k)) + 1) (3 + ((((A 0) (525 + (2 * k))) - y) / 2)))) hC hg (hT.1.2.1 0 (by decide)) (nx_add (nx_add (show ((525 : Int32)) = nI 525 from rfl) (nx_mul (show ((2 : Int32)) = nI 2 from rfl) ex)) (show ((1 : Int32)) = nI 1 from rfl)) (by omega) (by omega) dX3_sends_67 ?_
    exact gh_reti hC hg hr hlk (⟨by simp [farN, cl, upd, c_1], hT.eqA (by simp only [bx_uu]; simp [sendsS, farN, cls, cl, c_1])⟩) dX3_sends_68 (Nat.le_of_ble_eq_true rfl) (Nat.le_of_ble_eq_true rfl)
  refine lv_iload_n hx hb dX3_sends_18 rfl (lv_at hl 3 rfl) ?_
  refine lv_aload_n hx hb dX3_sends_19 rfl (lv_at hl 1 rfl) ?_
  refine gh_get (v := .ref (ad 0)) hC hg hT.1.1 fX3_7_0 rfl dX3_sends_20 ?_
  refine lv_iload_n hx hb dX3_sends_23 rfl (lv_at hl 0 rfl) ?_
  refine gh_iald (n := 578) (f := (A 0)) hC hg (hT.1.2.1 0 (by decide)) (nx_add (show ((525 : Int32)) = nI 525 from rfl) (nx_mul (show ((2 : Int32)) = nI 2 from rfl) ex)) (by omega) (by omega) dX3_sends_24 ?_
  refine lv_isub hx hb dX3_sends_25 ?_
  refine lv_goto (tgt := 37) hx hb dX3_sends_26 (by decide) ?_
  refine lv_istore (lv' := [(4, .int (y - ((A 0) (525 + (2 * k))))), (3, .int (525 + (2 * x))), (0, .ref o), (1, .int x), (2, .int y)]) hx hb dX3_sends_37 hl (by decide) rfl (fun ls hl => ?_)
  refine lv_aload_n hx hb dX3_sends_39 rfl (lv_at hl 2 rfl) ?_
  refine gh_get (v := .ref (ad 0)) hC hg hT.1.1 fX3_7_0 rfl dX3_sends_40 ?_
  refine lv_iload_n hx hb dX3_sends_43 rfl (lv_at hl 1 rfl) ?_
  refine lv_iload_n hx hb dX3_sends_44 rfl (lv_at hl 4 rfl) ?_
  refine gh_iast (n := 578) (f := (A 0)) hC hg (hT.1.2.1 0 (by decide)) (nx_add (show ((525 : Int32)) = nI 525 from rfl) (nx_mul (show ((2 : Int32)) = nI 2 from rfl) ex)) (by omega) (by omega) dX3_sends_45 (fun g H locs hg hw hn => ?_)
  have hT : tw_W V g0 g o ad I (va_up A 0 (upd (A 0) (525 + (2 * k)) y)) F := hT.putA 0 (by decide) hw hn
  refine lv_aload_n hx hb dX3_sends_46 rfl (lv_at hl 2 rfl) ?_
  refine gh_get (v := .ref (ad 0)) hC hg hT.1.1 fX3_7_0 rfl dX3_sends_47 ?_
  refine lv_iload_n hx hb dX3_sends_50 rfl (lv_at hl 1 rfl) ?_
  refine lv_iconst (v := 1) hx hb dX3_sends_51 (by decide) ?_
  refine lv_iadd hx hb dX3_sends_52 ?_
  refine lv_iconst (v := 3) hx hb dX3_sends_53 (by decide) ?_
  refine lv_iload hx hb dX3_sends_54 (lv_at hl 0 rfl) ?_
  refine lv_iconst (v := 2) hx hb dX3_sends_56 (by decide) ?_
  refine lv_idiv hx hb dX3_sends_57 (by decide) ?_
  refine lv_iadd hx hb dX3_sends_58 ?_
  refine gh_iast (n := 578) (f := (upd (A 0) (525 + (2 * k)) y)) hC hg (hT.1.2.1 0 (by decide)) (nx_add (nx_add (show ((525 : Int32)) = nI 525 from rfl) (nx_mul (show ((2 : Int32)) = nI 2 from rfl) ex)) (show ((1 : Int32)) = nI 1 from rfl)) (by omega) (by omega) dX3_sends_59 (fun g H locs hg hw hn => ?_)
  have hT : tw_W V g0 g o ad I (va_up (va_up A 0 (upd (A 0) (525 + (2 * k)) y)) 0 (upd (upd (A 0) (525 + (2 * k)) y) ((525 + (2 * k)) + 1) (3 + ((y - ((A 0) (525 + (2 * k)))) / 2)))) F := hT.putA 0 (by decide) hw hn
  refine lv_aload_n hx hb dX3_sends_60 rfl (lv_at hl 2 rfl) ?_
  refine gh_get (v := .ref (ad 0)) hC hg hT.1.1 fX3_7_0 rfl dX3_sends_61 ?_
  refine lv_iload_n hx hb dX3_sends_64 rfl (lv_at hl 1 rfl) ?_
  refine lv_iconst (v := 1) hx hb dX3_sends_65 (by decide) ?_
  refine lv_iadd hx hb dX3_sends_66 ?_
  refine gh_iald (n := 578) (f := (upd (upd (A 0) (525 + (2 * k)) y) ((525 + (2 * k)) + 1) (3 + ((y - ((A 0) (525 + (2 * k)))) / 2)))) hC hg (hT.1.2.1 0 (by decide)) (nx_add (nx_add (show ((525 : Int32)) = nI 525 from rfl) (nx_mul (show ((2 : Int32)) = nI 2 from rfl) ex)) (show ((1 : Int32)) = nI 1 from rfl)) (by omega) (by omega) dX3_sends_67 ?_
  exact gh_reti hC hg hr hlk (⟨by simp [farN, cl, upd, c_1], hT.eqA (by simp only [bx_uu]; simp [sendsS, farN, cls, cl, c_1])⟩) dX3_sends_68 (Nat.le_of_ble_eq_true rfl) (Nat.le_of_ble_eq_true rfl)
set_option maxHeartbeats 1000000 in
set_option maxRecDepth 100000 in
theorem t_sendCleaner (l : Launch) (V : gh_V) (o : Nat) (ad : Nat → Nat) (I : Nat → Int32) (A : Nat → Nat → Int32) (F : Nat → Nat → UInt32) (g0 : gh_G) (hP : tw_P V g0 o ad I A F) (x y : Int32) (K : Nat) (hKn : I 0 = nI K) (hK5 : K ≤ 5) : MI l yX3_sendCleaner cX3_sendCleaner 3 (some .int) ({ frames := 2, cells := 0, slots := 0, locals := 45 } : Room) V [.ref o, .int x, .int y] g0 (fun r g1 => (c2 (okL x 2 ∧ okL y 24) (noCln (A 0) x.toNatClampNeg y.toNatClampNeg ≤ 0) = 0 → r = 3 + farN (A 0) x.toNatClampNeg y / 2 ∧ tw_W V g0 g1 o ad (svI (va_up I 3 0) K) (va_up (svA A K) 0 (sendsS (A 0) x.toNatClampNeg y)) (svF F K)) ∧ (¬ c2 (okL x 2 ∧ okL y 24) (noCln (A 0) x.toNatClampNeg y.toNatClampNeg ≤ 0) = 0 → tw_W V g0 g1 o ad (va_up I 3 (c2 (okL x 2 ∧ okL y 24) (noCln (A 0) x.toNatClampNeg y.toNatClampNeg ≤ 0))) A F)) := by
  refine MG.of RX3 (by decide) rfl (Nat.le_of_ble_eq_true rfl) (fun pp ee s mm args below meth c ls hC hg hr hlk hnm hl => ?_)
  have hx := hC.1.1
  have hb := hC.1.2.1
  have hml := hC.1.2.2.1
  have hown := hC.1.2.2.2.1
  have hts := hC.1.2.2.2.2
  have hl : lv_has ls 3 [(0, .ref o), (1, .int x), (2, .int y)] := hl
  have hT := hP.W
  refine lv_aload_n hx hb dX3_sendCleaner_0 rfl (lv_at hl 0 rfl) ?_
  refine lv_iload_n hx hb dX3_sendCleaner_1 rfl (lv_at hl 1 rfl) ?_
  refine lv_iload_n hx hb dX3_sendCleaner_2 rfl (lv_at hl 2 rfl) ?_
  refine gh_calli hg (gh_runV (As := [.int x, .int y]) (rest := []) hC hg (t_isCleaner l V o ad I A F _ hT.1 x y) 2 (lw_V q3980 q3982 qs68 q138 q3983) hT.1.1 rfl hd_X3_isCleaner ⟨Nat.le_of_ble_eq_true rfl, Nat.le_of_ble_eq_true rfl⟩ rfl hl.1 rfl (Nat.le_of_ble_eq_true rfl) dX3_sendCleaner_3 ⟨Nat.le_of_ble_eq_true rfl, Nat.le_of_ble_eq_true rfl⟩) (fun r_1 g H locs hg hp => ?_)
  replace hp : r_1 = (if (okL x 2 ∧ okL y 24) then 1 else 0) ∧ tw_W V _ g o ad (va_up I 3 (if (okL x 2 ∧ okL y 24) then 0 else 1)) A F := hp
  by_cases ok_2 : (okL x 2 ∧ okL y 24)
  · rw [if_pos ok_2, if_pos ok_2] at hp
    obtain ⟨rfl, hp⟩ := hp
    have hT : tw_W V g0 g o ad (va_up I 3 0) A F := hT.call hp
    obtain ⟨h_3a, h_3⟩ := okL_cl (by omega) ok_2.1
    obtain ⟨h_4a, h_4⟩ := okL_cl (by omega) ok_2.2
    refine lv_if_ne (tgt := 11) hx hb dX3_sendCleaner_6 (by decide) (fun _ => ?_) (fun c_5 => (absurd ((nx_eq (show ((1 : Int32)) = nI 1 from rfl) (show ((0 : Int32)) = nI 0 from rfl) (by omega) (by omega)).mp c_5) (by omega)))
    refine lv_aload_n hx hb dX3_sendCleaner_11 rfl (lv_at hl 0 rfl) ?_
    refine lv_iload_n hx hb dX3_sendCleaner_12 rfl (lv_at hl 1 rfl) ?_
    refine lv_iload_n hx hb dX3_sendCleaner_13 rfl (lv_at hl 2 rfl) ?_
    refine gh_calli hg (gh_runV (As := [.int x, .int y]) (rest := []) hC hg (t_noCleaning l V o ad (va_up I 3 0) A F _ hT.1 x y ((x).toNatClampNeg) ((y).toNatClampNeg) h_3 h_4 (by omega) (by omega)) 2 (lw_V q3984 q3986 qs69 q138 q3987) hT.1.1 rfl hd_X3_noCleaning ⟨Nat.le_of_ble_eq_true rfl, Nat.le_of_ble_eq_true rfl⟩ rfl hl.1 rfl (Nat.le_of_ble_eq_true rfl) dX3_sendCleaner_14 ⟨Nat.le_of_ble_eq_true rfl, Nat.le_of_ble_eq_true rfl⟩) (fun r_6 g H locs hg hp => ?_)
    obtain ⟨hp, hq⟩ := hp
    replace hp : r_6 = (noCln (A 0) ((x).toNatClampNeg) ((y).toNatClampNeg)) := hp
    subst hp
    rw [hq] at hg
    refine lv_if_le (tgt := 26) hx hb dX3_sendCleaner_17 (by decide) (fun c_7 => ?_) (fun c_7 => ?_)
    · skip
      refine lv_aload_n hx hb dX3_sendCleaner_26 rfl (lv_at hl 0 rfl) ?_
      refine gh_callv hg (gh_runV (As := []) (rest := []) hC hg (t_save l V o ad (va_up I 3 0) A F _ hT.1 K (by rw [show va_up I 3 0 0 = I 0 from rfl]; exact hKn) hK5) 0 (lw_V q3912 q3914 qs57 q138 q3915) hT.1.1 rfl hd_X3_save ⟨Nat.le_of_ble_eq_true rfl, Nat.le_of_ble_eq_true rfl⟩ rfl hl.1 rfl (Nat.le_of_ble_eq_true rfl) dX3_sendCleaner_27 ⟨Nat.le_of_ble_eq_true rfl, Nat.le_of_ble_eq_true rfl⟩) (fun g H locs hg hp => ?_)
      have hT : tw_W V g0 g o ad (svI (va_up I 3 0) K) (svA A K) (svF F K) := hT.call hp
      refine lv_aload_n hx hb dX3_sendCleaner_30 rfl (lv_at hl 0 rfl) ?_
      refine lv_iload_n hx hb dX3_sendCleaner_31 rfl (lv_at hl 1 rfl) ?_
      refine lv_iload_n hx hb dX3_sendCleaner_32 rfl (lv_at hl 2 rfl) ?_
      refine gh_calli hg (gh_runV (As := [.int x, .int y]) (rest := []) hC hg (t_sends l V o ad (svI (va_up I 3 0) K) (svA A K) (svF F K) _ hT.1 x y ((x).toNatClampNeg) h_3 (by omega)) 2 (lw_V q3988 q3990 qs70 q138 q3991) hT.1.1 rfl hd_X3_sends ⟨Nat.le_of_ble_eq_true rfl, Nat.le_of_ble_eq_true rfl⟩ rfl hl.1 rfl (Nat.le_of_ble_eq_true rfl) dX3_sendCleaner_33 ⟨Nat.le_of_ble_eq_true rfl, Nat.le_of_ble_eq_true rfl⟩) (fun r_8 g H locs hg hp => ?_)
      obtain ⟨hp, hpT⟩ := hp
      replace hp : r_8 = (3 + farN (A 0) ((x).toNatClampNeg) y / 2) := hp
      subst hp
      have hT : tw_W V g0 g o ad (svI (va_up I 3 0) K) (va_up (svA A K) 0 (sendsS (A 0) ((x).toNatClampNeg) y)) (svF F K) := hT.call hpT
      have e9 : c2 (okL x 2 ∧ okL y 24) (noCln (A 0) x.toNatClampNeg y.toNatClampNeg ≤ 0) = 0 := by first | rfl | (simp only [c1, c2, c3, if_pos ok_2, if_pos c_7]; done) | simp [c1, c2, c3, ok_2, c_7]
      exact gh_reti hC hg hr hlk (⟨fun _ => ⟨rfl, hT⟩, fun h9 => absurd e9 h9⟩) dX3_sendCleaner_36 (Nat.le_of_ble_eq_true rfl) (Nat.le_of_ble_eq_true rfl)
    refine lv_aload_n hx hb dX3_sendCleaner_20 rfl (lv_at hl 0 rfl) ?_
    refine lv_iconst (v := 2) hx hb dX3_sendCleaner_21 (by decide) ?_
    refine gh_calli hg (gh_runV (As := [.int 2]) (rest := []) hC hg (t_throwing l V o ad (va_up I 3 0) A F _ hT.1 2) 1 (lw_V q3908 q3910 qs56 q138 q3911) hT.1.1 rfl hd_X3_throwing ⟨Nat.le_of_ble_eq_true rfl, Nat.le_of_ble_eq_true rfl⟩ rfl hl.1 rfl (Nat.le_of_ble_eq_true rfl) dX3_sendCleaner_22 ⟨Nat.le_of_ble_eq_true rfl, Nat.le_of_ble_eq_true rfl⟩) (fun r_9 g H locs hg hp => ?_)
    obtain ⟨hp, hpT⟩ := hp
    replace hp : r_9 = 0 := hp
    subst hp
    have hT : tw_W V g0 g o ad (va_up (va_up I 3 0) 3 2) A F := hT.call hpT
    have e9 : c2 (okL x 2 ∧ okL y 24) (noCln (A 0) x.toNatClampNeg y.toNatClampNeg ≤ 0) = 2 := by first | rfl | (simp only [c1, c2, c3, if_pos ok_2, if_neg c_7]; done) | simp [c1, c2, c3, ok_2, c_7]
    exact gh_reti hC hg hr hlk (⟨fun h9 => absurd (e9.symm.trans h9) (by decide), fun _ => by rw [e9]; exact hT⟩) dX3_sendCleaner_25 (Nat.le_of_ble_eq_true rfl) (Nat.le_of_ble_eq_true rfl)
  rw [if_neg ok_2, if_neg ok_2] at hp
  obtain ⟨rfl, hp⟩ := hp
  have hT : tw_W V g0 g o ad (va_up I 3 1) A F := hT.call hp
  refine lv_if_ne (tgt := 11) hx hb dX3_sendCleaner_6 (by decide) (fun c_10 => (absurd ((nx_eq (show ((0 : Int32)) = nI 0 from rfl) (show ((0 : Int32)) = nI 0 from rfl) (by omega) (by omega)).mpr (by omega)) c_10)) (fun _ => ?_)
  refine lv_iconst (v := 0) hx hb dX3_sendCleaner_9 (by decide) ?_
  have e9 : c2 (okL x 2 ∧ okL y 24) (noCln (A 0) x.toNatClampNeg y.toNatClampNeg ≤ 0) = 1 := by first | rfl | (simp only [c1, c2, c3, if_neg ok_2]; done) | simp [c1, c2, c3, ok_2]
  exact gh_reti hC hg hr hlk (⟨fun h9 => absurd (e9.symm.trans h9) (by decide), fun _ => by rw [e9]; exact hT⟩) dX3_sendCleaner_10 (Nat.le_of_ble_eq_true rfl) (Nat.le_of_ble_eq_true rfl)
set_option maxHeartbeats 1000000 in
set_option maxRecDepth 100000 in
theorem t_delivers (l : Launch) (V : gh_V) (o : Nat) (ad : Nat → Nat) (I : Nat → Int32) (A : Nat → Nat → Int32) (F : Nat → Nat → UInt32) (g0 : gh_G) (hP : tw_P V g0 o ad I A F) (x y : Int32) (i d : Nat) (ex : x = nI i) (ey : y = nI d) (bi : i < 12) (bd : d < 10) : MV l yX3_delivers cX3_delivers 5 ({ frames := 1, cells := 0, slots := 0, locals := 23 } : Room) V [.ref o, .int x, .int y] g0 (fun g1 => tw_W V g0 g1 o ad I (va_up A 0 (dlv (A 0) i d)) F) := by
  refine MG.of RX3 (by decide) rfl (Nat.le_of_ble_eq_true rfl) (fun pp ee s mm args below meth c ls hC hg hr hlk hnm hl => ?_)
  have hx := hC.1.1
  have hb := hC.1.2.1
  have hml := hC.1.2.2.1
  have hown := hC.1.2.2.2.1
  have hts := hC.1.2.2.2.2
  have hl : lv_has ls 5 [(0, .ref o), (1, .int x), (2, .int y)] := hl
  have hT := hP.W
  refine lv_aload_n hx hb dX3_delivers_0 rfl (lv_at hl 0 rfl) ?_
  refine lv_iload_n hx hb dX3_delivers_1 rfl (lv_at hl 2 rfl) ?_
  refine lv_iconst (v := 4) hx hb dX3_delivers_2 (by decide) ?_
  refine gh_calli hg (gh_runV (As := [.int y, .int 4]) (rest := []) hC hg (t_order l V o ad I A F _ hT.1 y 4 d 4 ey (show ((4 : Int32)) = nI 4 from rfl) (by omega) (by omega)) 2 (lw_V q3996 q3998 qs71 q138 q3999) hT.1.1 rfl hd_X3_order ⟨Nat.le_of_ble_eq_true rfl, Nat.le_of_ble_eq_true rfl⟩ rfl hl.1 rfl (Nat.le_of_ble_eq_true rfl) dX3_delivers_3 ⟨Nat.le_of_ble_eq_true rfl, Nat.le_of_ble_eq_true rfl⟩) (fun r_1 g H locs hg hp => ?_)
  obtain ⟨hp, hq⟩ := hp
  replace hp : r_1 = (od (A 0) d 4) := hp
  subst hp
  rw [hq] at hg
  refine lv_istore_n (lv' := [(3, .int (od (A 0) d 4)), (0, .ref o), (1, .int x), (2, .int y)]) hx hb dX3_delivers_6 rfl hl (by decide) rfl (fun ls hl => ?_)
  refine lv_aload_n hx hb dX3_delivers_7 rfl (lv_at hl 1 rfl) ?_
  refine gh_get (v := .ref (ad 0)) hC hg hT.1.1 fX3_7_0 rfl dX3_delivers_8 ?_
  refine lv_iconst (v := 0) hx hb dX3_delivers_11 (by decide) ?_
  refine gh_iald (n := 578) (f := (A 0)) hC hg (hT.1.2.1 0 (by decide)) (show ((0 : Int32)) = nI 0 from rfl) (by omega) (by omega) dX3_delivers_12 ?_
  refine lv_aload_n hx hb dX3_delivers_13 rfl (lv_at hl 1 rfl) ?_
  refine lv_iload_n hx hb dX3_delivers_14 rfl (lv_at hl 3 rfl) ?_
  refine lv_iconst (v := 3) hx hb dX3_delivers_15 (by decide) ?_
  refine gh_calli hg (gh_runV (As := [.int y, .int 3]) (rest := [.int ((A 0) 0)]) hC hg (t_order l V o ad I A F _ hT.1 y 3 d 3 ey (show ((3 : Int32)) = nI 3 from rfl) (by omega) (by omega)) 2 (lw_V q3996 q3998 qs71 q138 q3999) hT.1.1 rfl hd_X3_order ⟨Nat.le_of_ble_eq_true rfl, Nat.le_of_ble_eq_true rfl⟩ rfl hl.1 rfl (Nat.le_of_ble_eq_true rfl) dX3_delivers_16 ⟨Nat.le_of_ble_eq_true rfl, Nat.le_of_ble_eq_true rfl⟩) (fun r_2 g H locs hg hp => ?_)
  obtain ⟨hp, hq⟩ := hp
  replace hp : r_2 = (od (A 0) d 3) := hp
  subst hp
  rw [hq] at hg
  refine lv_icmp_le (tgt := 28) hx hb dX3_delivers_19 (by decide) (fun c_3 => ?_) (fun c_3 => ?_)
  · skip
    refine lv_iload_n hx hb dX3_delivers_28 rfl (lv_at hl 0 rfl) ?_
    refine lv_istore (lv' := [(4, .int (od (A 0) d 4)), (3, .int (od (A 0) d 4)), (0, .ref o), (1, .int x), (2, .int y)]) hx hb dX3_delivers_29 hl (by decide) rfl (fun ls hl => ?_)
    refine lv_aload_n hx hb dX3_delivers_31 rfl (lv_at hl 2 rfl) ?_
    refine lv_iload_n hx hb dX3_delivers_32 rfl (lv_at hl 3 rfl) ?_
    refine lv_iconst (v := 4) hx hb dX3_delivers_33 (by decide) ?_
    refine lv_iload hx hb dX3_delivers_34 (lv_at hl 0 rfl) ?_
    refine gh_callv hg (gh_runV (As := [.int x, .int 4, .int (od (A 0) d 4)]) (rest := []) hC hg (t_growLot l V o ad I A F _ hT.1 x 4 (od (A 0) d 4) i 4 ex (show ((4 : Int32)) = nI 4 from rfl) (by omega) (by omega)) 3 (lw_V q3972 q3974 qs67 q138 q3975) hT.1.1 rfl hd_X3_growLot ⟨Nat.le_of_ble_eq_true rfl, Nat.le_of_ble_eq_true rfl⟩ rfl hl.1 rfl (Nat.le_of_ble_eq_true rfl) dX3_delivers_36 ⟨Nat.le_of_ble_eq_true rfl, Nat.le_of_ble_eq_true rfl⟩) (fun g H locs hg hp => ?_)
    have hT : tw_W V g0 g o ad I (va_up A 0 (lts (A 0) i 4 (lt (A 0) i 4 + (od (A 0) d 4)))) F := hT.call hp
    refine lv_aload_n hx hb dX3_delivers_39 rfl (lv_at hl 2 rfl) ?_
    refine gh_get (v := .ref (ad 0)) hC hg hT.1.1 fX3_7_0 rfl dX3_delivers_40 ?_
    refine lv_sipush (v := 465) hx hb dX3_delivers_43 (by decide) ?_
    refine lv_bipush (v := 6) hx hb dX3_delivers_46 (by decide) ?_
    refine lv_iload_n hx hb dX3_delivers_48 rfl (lv_at hl 4 rfl) ?_
    refine lv_imul hx hb dX3_delivers_49 ?_
    refine lv_iadd hx hb dX3_delivers_50 ?_
    refine lv_iconst (v := 5) hx hb dX3_delivers_51 (by decide) ?_
    refine lv_iadd hx hb dX3_delivers_52 ?_
    refine lv_dup2_11 hx hb dX3_delivers_53 rfl rfl ?_
    refine gh_iald (n := 578) (f := (lts (A 0) i 4 (lt (A 0) i 4 + (od (A 0) d 4)))) hC hg (hT.1.2.1 0 (by decide)) (nx_add (nx_add (show ((465 : Int32)) = nI 465 from rfl) (nx_mul (show ((6 : Int32)) = nI 6 from rfl) ey)) (show ((5 : Int32)) = nI 5 from rfl)) (by omega) (by omega) dX3_delivers_54 ?_
    refine lv_iload hx hb dX3_delivers_55 (lv_at hl 0 rfl) ?_
    refine lv_iadd hx hb dX3_delivers_57 ?_
    refine gh_iast (n := 578) (f := (lts (A 0) i 4 (lt (A 0) i 4 + (od (A 0) d 4)))) hC hg (hT.1.2.1 0 (by decide)) (nx_add (nx_add (show ((465 : Int32)) = nI 465 from rfl) (nx_mul (show ((6 : Int32)) = nI 6 from rfl) ey)) (show ((5 : Int32)) = nI 5 from rfl)) (by omega) (by omega) dX3_delivers_58 (fun g H locs hg hw hn => ?_)
    have hT : tw_W V g0 g o ad I (va_up (va_up A 0 (lts (A 0) i 4 (lt (A 0) i 4 + (od (A 0) d 4)))) 0 (upd (lts (A 0) i 4 (lt (A 0) i 4 + (od (A 0) d 4))) ((465 + (6 * d)) + 5) (((lts (A 0) i 4 (lt (A 0) i 4 + (od (A 0) d 4))) ((465 + (6 * d)) + 5)) + (od (A 0) d 4)))) F := hT.putA 0 (by decide) hw hn
    refine lv_aload_n hx hb dX3_delivers_59 rfl (lv_at hl 2 rfl) ?_
    refine gh_get (v := .ref (ad 0)) hC hg hT.1.1 fX3_7_0 rfl dX3_delivers_60 ?_
    refine lv_sipush (v := 465) hx hb dX3_delivers_63 (by decide) ?_
    refine lv_bipush (v := 6) hx hb dX3_delivers_66 (by decide) ?_
    refine lv_iload_n hx hb dX3_delivers_68 rfl (lv_at hl 4 rfl) ?_
    refine lv_imul hx hb dX3_delivers_69 ?_
    refine lv_iadd hx hb dX3_delivers_70 ?_
    refine lv_iconst (v := 2) hx hb dX3_delivers_71 (by decide) ?_
    refine lv_iadd hx hb dX3_delivers_72 ?_
    refine lv_dup2_11 hx hb dX3_delivers_73 rfl rfl ?_
    refine gh_iald (n := 578) (f := (upd (lts (A 0) i 4 (lt (A 0) i 4 + (od (A 0) d 4))) ((465 + (6 * d)) + 5) (((lts (A 0) i 4 (lt (A 0) i 4 + (od (A 0) d 4))) ((465 + (6 * d)) + 5)) + (od (A 0) d 4)))) hC hg (hT.1.2.1 0 (by decide)) (nx_add (nx_add (show ((465 : Int32)) = nI 465 from rfl) (nx_mul (show ((6 : Int32)) = nI 6 from rfl) ey)) (show ((2 : Int32)) = nI 2 from rfl)) (by omega) (by omega) dX3_delivers_74 ?_
    refine lv_iconst (v := 1) hx hb dX3_delivers_75 (by decide) ?_
    refine lv_isub hx hb dX3_delivers_76 ?_
    refine gh_iast (n := 578) (f := (upd (lts (A 0) i 4 (lt (A 0) i 4 + (od (A 0) d 4))) ((465 + (6 * d)) + 5) (((lts (A 0) i 4 (lt (A 0) i 4 + (od (A 0) d 4))) ((465 + (6 * d)) + 5)) + (od (A 0) d 4)))) hC hg (hT.1.2.1 0 (by decide)) (nx_add (nx_add (show ((465 : Int32)) = nI 465 from rfl) (nx_mul (show ((6 : Int32)) = nI 6 from rfl) ey)) (show ((2 : Int32)) = nI 2 from rfl)) (by omega) (by omega) dX3_delivers_77 (fun g H locs hg hw hn => ?_)
    have hT : tw_W V g0 g o ad I (va_up (va_up (va_up A 0 (lts (A 0) i 4 (lt (A 0) i 4 + (od (A 0) d 4)))) 0 (upd (lts (A 0) i 4 (lt (A 0) i 4 + (od (A 0) d 4))) ((465 + (6 * d)) + 5) (((lts (A 0) i 4 (lt (A 0) i 4 + (od (A 0) d 4))) ((465 + (6 * d)) + 5)) + (od (A 0) d 4)))) 0 (upd (upd (lts (A 0) i 4 (lt (A 0) i 4 + (od (A 0) d 4))) ((465 + (6 * d)) + 5) (((lts (A 0) i 4 (lt (A 0) i 4 + (od (A 0) d 4))) ((465 + (6 * d)) + 5)) + (od (A 0) d 4))) ((465 + (6 * d)) + 2) (((upd (lts (A 0) i 4 (lt (A 0) i 4 + (od (A 0) d 4))) ((465 + (6 * d)) + 5) (((lts (A 0) i 4 (lt (A 0) i 4 + (od (A 0) d 4))) ((465 + (6 * d)) + 5)) + (od (A 0) d 4))) ((465 + (6 * d)) + 2)) - 1))) F := hT.putA 0 (by decide) hw hn
    exact gh_retv hC hg hr hlk (hT.eqA (by simp only [bx_uu]; unfold dlv coinsN; simp only [if_pos c_3]; rfl)) dX3_delivers_78 (Nat.le_of_ble_eq_true rfl) (Nat.le_of_ble_eq_true rfl)
  refine lv_iload_n hx hb dX3_delivers_22 rfl (lv_at hl 0 rfl) ?_
  refine lv_iconst (v := 2) hx hb dX3_delivers_23 (by decide) ?_
  refine lv_idiv hx hb dX3_delivers_24 (by decide) ?_
  refine lv_goto (tgt := 29) hx hb dX3_delivers_25 (by decide) ?_
  refine lv_istore (lv' := [(4, .int ((od (A 0) d 4) / 2)), (3, .int (od (A 0) d 4)), (0, .ref o), (1, .int x), (2, .int y)]) hx hb dX3_delivers_29 hl (by decide) rfl (fun ls hl => ?_)
  refine lv_aload_n hx hb dX3_delivers_31 rfl (lv_at hl 2 rfl) ?_
  refine lv_iload_n hx hb dX3_delivers_32 rfl (lv_at hl 3 rfl) ?_
  refine lv_iconst (v := 4) hx hb dX3_delivers_33 (by decide) ?_
  refine lv_iload hx hb dX3_delivers_34 (lv_at hl 0 rfl) ?_
  refine gh_callv hg (gh_runV (As := [.int x, .int 4, .int ((od (A 0) d 4) / 2)]) (rest := []) hC hg (t_growLot l V o ad I A F _ hT.1 x 4 ((od (A 0) d 4) / 2) i 4 ex (show ((4 : Int32)) = nI 4 from rfl) (by omega) (by omega)) 3 (lw_V q3972 q3974 qs67 q138 q3975) hT.1.1 rfl hd_X3_growLot ⟨Nat.le_of_ble_eq_true rfl, Nat.le_of_ble_eq_true rfl⟩ rfl hl.1 rfl (Nat.le_of_ble_eq_true rfl) dX3_delivers_36 ⟨Nat.le_of_ble_eq_true rfl, Nat.le_of_ble_eq_true rfl⟩) (fun g H locs hg hp => ?_)
  have hT : tw_W V g0 g o ad I (va_up A 0 (lts (A 0) i 4 (lt (A 0) i 4 + ((od (A 0) d 4) / 2)))) F := hT.call hp
  refine lv_aload_n hx hb dX3_delivers_39 rfl (lv_at hl 2 rfl) ?_
  refine gh_get (v := .ref (ad 0)) hC hg hT.1.1 fX3_7_0 rfl dX3_delivers_40 ?_
  refine lv_sipush (v := 465) hx hb dX3_delivers_43 (by decide) ?_
  refine lv_bipush (v := 6) hx hb dX3_delivers_46 (by decide) ?_
  refine lv_iload_n hx hb dX3_delivers_48 rfl (lv_at hl 4 rfl) ?_
  refine lv_imul hx hb dX3_delivers_49 ?_
  refine lv_iadd hx hb dX3_delivers_50 ?_
  refine lv_iconst (v := 5) hx hb dX3_delivers_51 (by decide) ?_
  refine lv_iadd hx hb dX3_delivers_52 ?_
  refine lv_dup2_11 hx hb dX3_delivers_53 rfl rfl ?_
  refine gh_iald (n := 578) (f := (lts (A 0) i 4 (lt (A 0) i 4 + ((od (A 0) d 4) / 2)))) hC hg (hT.1.2.1 0 (by decide)) (nx_add (nx_add (show ((465 : Int32)) = nI 465 from rfl) (nx_mul (show ((6 : Int32)) = nI 6 from rfl) ey)) (show ((5 : Int32)) = nI 5 from rfl)) (by omega) (by omega) dX3_delivers_54 ?_
  refine lv_iload hx hb dX3_delivers_55 (lv_at hl 0 rfl) ?_
  refine lv_iadd hx hb dX3_delivers_57 ?_
  refine gh_iast (n := 578) (f := (lts (A 0) i 4 (lt (A 0) i 4 + ((od (A 0) d 4) / 2)))) hC hg (hT.1.2.1 0 (by decide)) (nx_add (nx_add (show ((465 : Int32)) = nI 465 from rfl) (nx_mul (show ((6 : Int32)) = nI 6 from rfl) ey)) (show ((5 : Int32)) = nI 5 from rfl)) (by omega) (by omega) dX3_delivers_58 (fun g H locs hg hw hn => ?_)
  have hT : tw_W V g0 g o ad I (va_up (va_up A 0 (lts (A 0) i 4 (lt (A 0) i 4 + ((od (A 0) d 4) / 2)))) 0 (upd (lts (A 0) i 4 (lt (A 0) i 4 + ((od (A 0) d 4) / 2))) ((465 + (6 * d)) + 5) (((lts (A 0) i 4 (lt (A 0) i 4 + ((od (A 0) d 4) / 2))) ((465 + (6 * d)) + 5)) + ((od (A 0) d 4) / 2)))) F := hT.putA 0 (by decide) hw hn
  refine lv_aload_n hx hb dX3_delivers_59 rfl (lv_at hl 2 rfl) ?_
  refine gh_get (v := .ref (ad 0)) hC hg hT.1.1 fX3_7_0 rfl dX3_delivers_60 ?_
  refine lv_sipush (v := 465) hx hb dX3_delivers_63 (by decide) ?_
  refine lv_bipush (v := 6) hx hb dX3_delivers_66 (by decide) ?_
  refine lv_iload_n hx hb dX3_delivers_68 rfl (lv_at hl 4 rfl) ?_
  refine lv_imul hx hb dX3_delivers_69 ?_
  refine lv_iadd hx hb dX3_delivers_70 ?_
  refine lv_iconst (v := 2) hx hb dX3_delivers_71 (by decide) ?_
  refine lv_iadd hx hb dX3_delivers_72 ?_
  refine lv_dup2_11 hx hb dX3_delivers_73 rfl rfl ?_
  refine gh_iald (n := 578) (f := (upd (lts (A 0) i 4 (lt (A 0) i 4 + ((od (A 0) d 4) / 2))) ((465 + (6 * d)) + 5) (((lts (A 0) i 4 (lt (A 0) i 4 + ((od (A 0) d 4) / 2))) ((465 + (6 * d)) + 5)) + ((od (A 0) d 4) / 2)))) hC hg (hT.1.2.1 0 (by decide)) (nx_add (nx_add (show ((465 : Int32)) = nI 465 from rfl) (nx_mul (show ((6 : Int32)) = nI 6 from rfl) ey)) (show ((2 : Int32)) = nI 2 from rfl)) (by omega) (by omega) dX3_delivers_74 ?_
  refine lv_iconst (v := 1) hx hb dX3_delivers_75 (by decide) ?_
  refine lv_isub hx hb dX3_delivers_76 ?_
  refine gh_iast (n := 578) (f := (upd (lts (A 0) i 4 (lt (A 0) i 4 + ((od (A 0) d 4) / 2))) ((465 + (6 * d)) + 5) (((lts (A 0) i 4 (lt (A 0) i 4 + ((od (A 0) d 4) / 2))) ((465 + (6 * d)) + 5)) + ((od (A 0) d 4) / 2)))) hC hg (hT.1.2.1 0 (by decide)) (nx_add (nx_add (show ((465 : Int32)) = nI 465 from rfl) (nx_mul (show ((6 : Int32)) = nI 6 from rfl) ey)) (show ((2 : Int32)) = nI 2 from rfl)) (by omega) (by omega) dX3_delivers_77 (fun g H locs hg hw hn => ?_)
  have hT : tw_W V g0 g o ad I (va_up (va_up (va_up A 0 (lts (A 0) i 4 (lt (A 0) i 4 + ((od (A 0) d 4) / 2)))) 0 (upd (lts (A 0) i 4 (lt (A 0) i 4 + ((od (A 0) d 4) / 2))) ((465 + (6 * d)) + 5) (((lts (A 0) i 4 (lt (A 0) i 4 + ((od (A 0) d 4) / 2))) ((465 + (6 * d)) + 5)) + ((od (A 0) d 4) / 2)))) 0 (upd (upd (lts (A 0) i 4 (lt (A 0) i 4 + ((od (A 0) d 4) / 2))) ((465 + (6 * d)) + 5) (((lts (A 0) i 4 (lt (A 0) i 4 + ((od (A 0) d 4) / 2))) ((465 + (6 * d)) + 5)) + ((od (A 0) d 4) / 2))) ((465 + (6 * d)) + 2) (((upd (lts (A 0) i 4 (lt (A 0) i 4 + ((od (A 0) d 4) / 2))) ((465 + (6 * d)) + 5) (((lts (A 0) i 4 (lt (A 0) i 4 + ((od (A 0) d 4) / 2))) ((465 + (6 * d)) + 5)) + ((od (A 0) d 4) / 2))) ((465 + (6 * d)) + 2)) - 1))) F := hT.putA 0 (by decide) hw hn
  exact gh_retv hC hg hr hlk (hT.eqA (by simp only [bx_uu]; unfold dlv coinsN; simp only [if_neg c_3]; rfl)) dX3_delivers_78 (Nat.le_of_ble_eq_true rfl) (Nat.le_of_ble_eq_true rfl)
set_option maxHeartbeats 1000000 in
set_option maxRecDepth 100000 in
theorem t_good (l : Launch) (V : gh_V) (o : Nat) (ad : Nat → Nat) (I : Nat → Int32) (A : Nat → Nat → Int32) (F : Nat → Nat → UInt32) (g0 : gh_G) (hP : tw_P V g0 o ad I A F) (x : Int32) (i D : Nat) (ex : x = nI i) (bi : i < 12) (hD : A 0 464 = nI D) (hD10 : D ≤ 10) : MV l yX3_good cX3_good 5 ({ frames := 2, cells := 0, slots := 0, locals := 47 } : Room) V [.ref o, .int x] g0 (fun g1 => tw_W V g0 g1 o ad I (va_up A 0 (goodS (A 0) i D)) F) := by
  refine MG.of RX3 (by decide) rfl (Nat.le_of_ble_eq_true rfl) (fun pp ee s mm args below meth c ls hC hg hr hlk hnm hl => ?_)
  have hx := hC.1.1
  have hb := hC.1.2.1
  have hml := hC.1.2.2.1
  have hown := hC.1.2.2.2.1
  have hts := hC.1.2.2.2.2
  have hl : lv_has ls 5 [(0, .ref o), (1, .int x)] := hl
  have hT := hP.W
  refine lv_iconst (v := (-1)) hx hb dX3_good_0 (by decide) ?_
  refine lv_istore_n (lv' := [(2, .int (-1)), (0, .ref o), (1, .int x)]) hx hb dX3_good_1 rfl hl (by decide) rfl (fun ls hl => ?_)
  refine lv_iconst (v := 0) hx hb dX3_good_2 (by decide) ?_
  refine lv_istore_n (lv' := [(3, .int 0), (2, .int (-1)), (0, .ref o), (1, .int x)]) hx hb dX3_good_3 rfl hl (by decide) rfl (fun ls hl => ?_)
  refine gh_loop (N := D) (X := fun i_1 g ls => tw_W V g0 g o ad I A F ∧ lv_has ls 5 [(0, .ref o), (1, .int x), (2, .int (bo (A 0) i i_1)), (3, .int (nI i_1))]) ?_ ?_ 0 (by omega) hg ⟨hT, lv_sub hl [2, 3, 1, 0] rfl⟩
  · intro g H locs ls hg hX
    obtain ⟨hT, hl⟩ := hX
    refine lv_iload_n hx hb dX3_good_4 rfl (lv_at hl 3 rfl) ?_
    refine lv_aload_n hx hb dX3_good_5 rfl (lv_at hl 0 rfl) ?_
    refine gh_get (v := .ref (ad 0)) hC hg hT.1.1 fX3_7_0 rfl dX3_good_6 ?_
    refine lv_sipush (v := 464) hx hb dX3_good_9 (by decide) ?_
    refine gh_iald (n := 578) (f := (A 0)) hC hg (hT.1.2.1 0 (by decide)) (show ((464 : Int32)) = nI 464 from rfl) (by omega) (by omega) dX3_good_12 ?_
    refine lv_icmp_ge (tgt := 99) hx hb dX3_good_13 (by decide) (fun _ => ?_) (fun c_2 => (absurd ((nx_le hD rfl (by omega) (by omega)).mpr (by omega)) c_2))
    refine lv_iload_n hx hb dX3_good_99 rfl (lv_at hl 2 rfl) ?_
    refine lv_iconst (v := (-1)) hx hb dX3_good_100 (by decide) ?_
    refine lv_icmp_ne (tgt := 114) hx hb dX3_good_101 (by decide) (fun c_3 => ?_) (fun c_3 => ?_)
    · skip
      obtain ⟨hb_4a, hb_4⟩ := bo_nat (by omega) c_3
      refine lv_aload_n hx hb dX3_good_114 rfl (lv_at hl 0 rfl) ?_
      refine lv_iload_n hx hb dX3_good_115 rfl (lv_at hl 1 rfl) ?_
      refine lv_iload_n hx hb dX3_good_116 rfl (lv_at hl 2 rfl) ?_
      refine gh_callv hg (gh_runV (As := [.int x, .int (bo (A 0) i D)]) (rest := []) hC hg (t_delivers l V o ad I A F _ hT.1 x (bo (A 0) i D) i ((bo (A 0) i D).toNatClampNeg) ex hb_4 (by omega) (by omega)) 2 (lw_V q4000 q4002 qs72 q138 q4003) hT.1.1 rfl hd_X3_delivers ⟨Nat.le_of_ble_eq_true rfl, Nat.le_of_ble_eq_true rfl⟩ rfl hl.1 rfl (Nat.le_of_ble_eq_true rfl) dX3_good_117 ⟨Nat.le_of_ble_eq_true rfl, Nat.le_of_ble_eq_true rfl⟩) (fun g H locs hg hp => ?_)
      have hT : tw_W V g0 g o ad I (va_up A 0 (dlv (A 0) i ((bo (A 0) i D).toNatClampNeg))) F := hT.call hp
      exact gh_retv hC hg hr hlk (hT.eqA (by unfold goodS; simp only [if_neg c_3])) dX3_good_120 (Nat.le_of_ble_eq_true rfl) (Nat.le_of_ble_eq_true rfl)
    refine lv_aload_n hx hb dX3_good_104 rfl (lv_at hl 0 rfl) ?_
    refine lv_iload_n hx hb dX3_good_105 rfl (lv_at hl 1 rfl) ?_
    refine lv_iconst (v := 3) hx hb dX3_good_106 (by decide) ?_
    refine lv_iconst (v := 1) hx hb dX3_good_107 (by decide) ?_
    refine gh_callv hg (gh_runV (As := [.int x, .int 3, .int 1]) (rest := []) hC hg (t_growLot l V o ad I A F _ hT.1 x 3 1 i 3 ex (show ((3 : Int32)) = nI 3 from rfl) (by omega) (by omega)) 3 (lw_V q3972 q3974 qs67 q138 q3975) hT.1.1 rfl hd_X3_growLot ⟨Nat.le_of_ble_eq_true rfl, Nat.le_of_ble_eq_true rfl⟩ rfl hl.1 rfl (Nat.le_of_ble_eq_true rfl) dX3_good_108 ⟨Nat.le_of_ble_eq_true rfl, Nat.le_of_ble_eq_true rfl⟩) (fun g H locs hg hp => ?_)
    have hT : tw_W V g0 g o ad I (va_up A 0 (lts (A 0) i 3 (lt (A 0) i 3 + 1))) F := hT.call hp
    refine lv_goto (tgt := 120) hx hb dX3_good_111 (by decide) ?_
    exact gh_retv hC hg hr hlk (hT.eqA (by unfold goodS; simp only [if_pos c_3])) dX3_good_120 (Nat.le_of_ble_eq_true rfl) (Nat.le_of_ble_eq_true rfl)
  · intro i_1 h_5 ih4 g H locs ls hg hX
    obtain ⟨hT, hl⟩ := hX
    refine lv_iload_n hx hb dX3_good_4 rfl (lv_at hl 3 rfl) ?_
    refine lv_aload_n hx hb dX3_good_5 rfl (lv_at hl 0 rfl) ?_
    refine gh_get (v := .ref (ad 0)) hC hg hT.1.1 fX3_7_0 rfl dX3_good_6 ?_
    refine lv_sipush (v := 464) hx hb dX3_good_9 (by decide) ?_
    refine gh_iald (n := 578) (f := (A 0)) hC hg (hT.1.2.1 0 (by decide)) (show ((464 : Int32)) = nI 464 from rfl) (by omega) (by omega) dX3_good_12 ?_
    refine lv_icmp_ge (tgt := 99) hx hb dX3_good_13 (by decide) (fun c_6 => (absurd ((nx_le hD rfl (by omega) (by omega)).mp c_6) (by omega))) (fun _ => ?_)
    refine lv_aload_n hx hb dX3_good_16 rfl (lv_at hl 0 rfl) ?_
    refine lv_iload_n hx hb dX3_good_17 rfl (lv_at hl 3 rfl) ?_
    refine lv_iconst (v := 0) hx hb dX3_good_18 (by decide) ?_
    refine gh_calli hg (gh_runV (As := [.int (nI i_1), .int 0]) (rest := []) hC hg (t_order l V o ad I A F _ hT.1 (nI i_1) 0 i_1 0 rfl (show ((0 : Int32)) = nI 0 from rfl) (by omega) (by omega)) 2 (lw_V q3996 q3998 qs71 q138 q3999) hT.1.1 rfl hd_X3_order ⟨Nat.le_of_ble_eq_true rfl, Nat.le_of_ble_eq_true rfl⟩ rfl hl.1 rfl (Nat.le_of_ble_eq_true rfl) dX3_good_19 ⟨Nat.le_of_ble_eq_true rfl, Nat.le_of_ble_eq_true rfl⟩) (fun r_7 g H locs hg hp => ?_)
    obtain ⟨hp, hq⟩ := hp
    replace hp : r_7 = (od (A 0) i_1 0) := hp
    subst hp
    rw [hq] at hg
    refine lv_aload_n hx hb dX3_good_22 rfl (lv_at hl 0 rfl) ?_
    refine lv_iload_n hx hb dX3_good_23 rfl (lv_at hl 1 rfl) ?_
    refine lv_iconst (v := 0) hx hb dX3_good_24 (by decide) ?_
    refine gh_calli hg (gh_runV (As := [.int x, .int 0]) (rest := [.int (od (A 0) i_1 0)]) hC hg (t_lot l V o ad I A F _ hT.1 x 0 i 0 ex (show ((0 : Int32)) = nI 0 from rfl) (by omega) (by omega)) 2 (lw_V q3956 q3958 qs63 q138 q3959) hT.1.1 rfl hd_X3_lot ⟨Nat.le_of_ble_eq_true rfl, Nat.le_of_ble_eq_true rfl⟩ rfl hl.1 rfl (Nat.le_of_ble_eq_true rfl) dX3_good_25 ⟨Nat.le_of_ble_eq_true rfl, Nat.le_of_ble_eq_true rfl⟩) (fun r_8 g H locs hg hp => ?_)
    obtain ⟨hp, hq⟩ := hp
    replace hp : r_8 = (lt (A 0) i 0) := hp
    subst hp
    rw [hq] at hg
    refine lv_icmp_ne (tgt := 59) hx hb dX3_good_28 (by decide) (fun c_9 => ?_) (fun c_9 => ?_)
    · skip
      refine lv_iconst (v := 0) hx hb dX3_good_59 (by decide) ?_
      refine lv_istore (lv' := [(4, .int 0), (0, .ref o), (1, .int x), (2, .int (bo (A 0) i i_1)), (3, .int (nI i_1))]) hx hb dX3_good_60 hl (by decide) rfl (fun ls hl => ?_)
      refine lv_iload hx hb dX3_good_62 (lv_at hl 0 rfl) ?_
      refine lv_if_eq (tgt := 91) hx hb dX3_good_64 (by decide) (fun _ => ?_) (fun c_10 => (absurd ((nx_eq (show ((0 : Int32)) = nI 0 from rfl) (show ((0 : Int32)) = nI 0 from rfl) (by omega) (by omega)).mpr (by omega)) c_10))
      refine lv_iload_n hx hb dX3_good_91 rfl (lv_at hl 3 rfl) ?_
      refine lv_istore_n (lv' := [(2, .int (bo (A 0) i i_1)), (4, .int 0), (0, .ref o), (1, .int x), (3, .int (nI i_1))]) hx hb dX3_good_92 rfl hl (by decide) rfl (fun ls hl => ?_)
      refine lv_iinc (v := (nI (i_1 + 1))) (lv' := [(3, .int (nI (i_1 + 1))), (2, .int (bo (A 0) i i_1)), (4, .int 0), (0, .ref o), (1, .int x)]) hx hb dX3_good_93 hl (k := 4) rfl (nx_iinc rfl) (by decide) rfl (fun ls hl => ?_)
      refine lv_goto (tgt := 4) hx hb dX3_good_96 (by decide) ?_
      exact ih4 _ _ _ _ hg ⟨hT, (by rw [show bo (A 0) i (i_1 + 1) = (bo (A 0) i i_1) from by rw [bo_s]; simp only [if_neg c_9]]; exact lv_sub hl [3, 4, 1, 0] rfl)⟩
    refine lv_aload_n hx hb dX3_good_31 rfl (lv_at hl 0 rfl) ?_
    refine lv_iload_n hx hb dX3_good_32 rfl (lv_at hl 3 rfl) ?_
    refine lv_iconst (v := 1) hx hb dX3_good_33 (by decide) ?_
    refine gh_calli hg (gh_runV (As := [.int (nI i_1), .int 1]) (rest := []) hC hg (t_order l V o ad I A F _ hT.1 (nI i_1) 1 i_1 1 rfl (show ((1 : Int32)) = nI 1 from rfl) (by omega) (by omega)) 2 (lw_V q3996 q3998 qs71 q138 q3999) hT.1.1 rfl hd_X3_order ⟨Nat.le_of_ble_eq_true rfl, Nat.le_of_ble_eq_true rfl⟩ rfl hl.1 rfl (Nat.le_of_ble_eq_true rfl) dX3_good_34 ⟨Nat.le_of_ble_eq_true rfl, Nat.le_of_ble_eq_true rfl⟩) (fun r_11 g H locs hg hp => ?_)
    obtain ⟨hp, hq⟩ := hp
    replace hp : r_11 = (od (A 0) i_1 1) := hp
    subst hp
    rw [hq] at hg
    refine lv_aload_n hx hb dX3_good_37 rfl (lv_at hl 0 rfl) ?_
    refine lv_iload_n hx hb dX3_good_38 rfl (lv_at hl 1 rfl) ?_
    refine lv_iconst (v := 1) hx hb dX3_good_39 (by decide) ?_
    refine gh_calli hg (gh_runV (As := [.int x, .int 1]) (rest := [.int (od (A 0) i_1 1)]) hC hg (t_lot l V o ad I A F _ hT.1 x 1 i 1 ex (show ((1 : Int32)) = nI 1 from rfl) (by omega) (by omega)) 2 (lw_V q3956 q3958 qs63 q138 q3959) hT.1.1 rfl hd_X3_lot ⟨Nat.le_of_ble_eq_true rfl, Nat.le_of_ble_eq_true rfl⟩ rfl hl.1 rfl (Nat.le_of_ble_eq_true rfl) dX3_good_40 ⟨Nat.le_of_ble_eq_true rfl, Nat.le_of_ble_eq_true rfl⟩) (fun r_12 g H locs hg hp => ?_)
    obtain ⟨hp, hq⟩ := hp
    replace hp : r_12 = (lt (A 0) i 1) := hp
    subst hp
    rw [hq] at hg
    refine lv_icmp_ne (tgt := 59) hx hb dX3_good_43 (by decide) (fun c_13 => ?_) (fun c_13 => ?_)
    · skip
      refine lv_iconst (v := 0) hx hb dX3_good_59 (by decide) ?_
      refine lv_istore (lv' := [(4, .int 0), (0, .ref o), (1, .int x), (2, .int (bo (A 0) i i_1)), (3, .int (nI i_1))]) hx hb dX3_good_60 hl (by decide) rfl (fun ls hl => ?_)
      refine lv_iload hx hb dX3_good_62 (lv_at hl 0 rfl) ?_
      refine lv_if_eq (tgt := 91) hx hb dX3_good_64 (by decide) (fun _ => ?_) (fun c_14 => (absurd ((nx_eq (show ((0 : Int32)) = nI 0 from rfl) (show ((0 : Int32)) = nI 0 from rfl) (by omega) (by omega)).mpr (by omega)) c_14))
      refine lv_iload_n hx hb dX3_good_91 rfl (lv_at hl 3 rfl) ?_
      refine lv_istore_n (lv' := [(2, .int (bo (A 0) i i_1)), (4, .int 0), (0, .ref o), (1, .int x), (3, .int (nI i_1))]) hx hb dX3_good_92 rfl hl (by decide) rfl (fun ls hl => ?_)
      refine lv_iinc (v := (nI (i_1 + 1))) (lv' := [(3, .int (nI (i_1 + 1))), (2, .int (bo (A 0) i i_1)), (4, .int 0), (0, .ref o), (1, .int x)]) hx hb dX3_good_93 hl (k := 4) rfl (nx_iinc rfl) (by decide) rfl (fun ls hl => ?_)
      refine lv_goto (tgt := 4) hx hb dX3_good_96 (by decide) ?_
      exact ih4 _ _ _ _ hg ⟨hT, (by rw [show bo (A 0) i (i_1 + 1) = (bo (A 0) i i_1) from by rw [bo_s]; simp only [if_pos c_9, if_neg c_13]]; exact lv_sub hl [3, 4, 1, 0] rfl)⟩
    refine lv_aload_n hx hb dX3_good_46 rfl (lv_at hl 0 rfl) ?_
    refine lv_iload_n hx hb dX3_good_47 rfl (lv_at hl 3 rfl) ?_
    refine lv_iconst (v := 2) hx hb dX3_good_48 (by decide) ?_
    refine gh_calli hg (gh_runV (As := [.int (nI i_1), .int 2]) (rest := []) hC hg (t_order l V o ad I A F _ hT.1 (nI i_1) 2 i_1 2 rfl (show ((2 : Int32)) = nI 2 from rfl) (by omega) (by omega)) 2 (lw_V q3996 q3998 qs71 q138 q3999) hT.1.1 rfl hd_X3_order ⟨Nat.le_of_ble_eq_true rfl, Nat.le_of_ble_eq_true rfl⟩ rfl hl.1 rfl (Nat.le_of_ble_eq_true rfl) dX3_good_49 ⟨Nat.le_of_ble_eq_true rfl, Nat.le_of_ble_eq_true rfl⟩) (fun r_15 g H locs hg hp => ?_)
    obtain ⟨hp, hq⟩ := hp
    replace hp : r_15 = (od (A 0) i_1 2) := hp
    subst hp
    rw [hq] at hg
    refine lv_if_le (tgt := 59) hx hb dX3_good_52 (by decide) (fun c_16 => ?_) (fun c_16 => ?_)
    · skip
      refine lv_iconst (v := 0) hx hb dX3_good_59 (by decide) ?_
      refine lv_istore (lv' := [(4, .int 0), (0, .ref o), (1, .int x), (2, .int (bo (A 0) i i_1)), (3, .int (nI i_1))]) hx hb dX3_good_60 hl (by decide) rfl (fun ls hl => ?_)
      refine lv_iload hx hb dX3_good_62 (lv_at hl 0 rfl) ?_
      refine lv_if_eq (tgt := 91) hx hb dX3_good_64 (by decide) (fun _ => ?_) (fun c_17 => (absurd ((nx_eq (show ((0 : Int32)) = nI 0 from rfl) (show ((0 : Int32)) = nI 0 from rfl) (by omega) (by omega)).mpr (by omega)) c_17))
      refine lv_iload_n hx hb dX3_good_91 rfl (lv_at hl 3 rfl) ?_
      refine lv_istore_n (lv' := [(2, .int (bo (A 0) i i_1)), (4, .int 0), (0, .ref o), (1, .int x), (3, .int (nI i_1))]) hx hb dX3_good_92 rfl hl (by decide) rfl (fun ls hl => ?_)
      refine lv_iinc (v := (nI (i_1 + 1))) (lv' := [(3, .int (nI (i_1 + 1))), (2, .int (bo (A 0) i i_1)), (4, .int 0), (0, .ref o), (1, .int x)]) hx hb dX3_good_93 hl (k := 4) rfl (nx_iinc rfl) (by decide) rfl (fun ls hl => ?_)
      refine lv_goto (tgt := 4) hx hb dX3_good_96 (by decide) ?_
      exact ih4 _ _ _ _ hg ⟨hT, (by rw [show bo (A 0) i (i_1 + 1) = (bo (A 0) i i_1) from by rw [bo_s]; simp only [if_pos c_9, if_pos c_13, if_pos c_16]]; exact lv_sub hl [3, 4, 1, 0] rfl)⟩
    refine lv_iconst (v := 1) hx hb dX3_good_55 (by decide) ?_
    refine lv_goto (tgt := 60) hx hb dX3_good_56 (by decide) ?_
    refine lv_istore (lv' := [(4, .int 1), (0, .ref o), (1, .int x), (2, .int (bo (A 0) i i_1)), (3, .int (nI i_1))]) hx hb dX3_good_60 hl (by decide) rfl (fun ls hl => ?_)
    refine lv_iload hx hb dX3_good_62 (lv_at hl 0 rfl) ?_
    refine lv_if_eq (tgt := 91) hx hb dX3_good_64 (by decide) (fun c_18 => (absurd ((nx_eq (show ((1 : Int32)) = nI 1 from rfl) (show ((0 : Int32)) = nI 0 from rfl) (by omega) (by omega)).mp c_18) (by omega))) (fun _ => ?_)
    refine lv_iload_n hx hb dX3_good_67 rfl (lv_at hl 3 rfl) ?_
    refine lv_iconst (v := (-1)) hx hb dX3_good_68 (by decide) ?_
    refine lv_icmp_eq (tgt := 87) hx hb dX3_good_69 (by decide) (fun c_19 => ?_) (fun c_19 => ?_)
    · skip
      refine lv_iload_n hx hb dX3_good_87 rfl (lv_at hl 4 rfl) ?_
      refine lv_goto (tgt := 92) hx hb dX3_good_88 (by decide) ?_
      refine lv_istore_n (lv' := [(2, .int (nI i_1)), (4, .int 1), (0, .ref o), (1, .int x), (3, .int (nI i_1))]) hx hb dX3_good_92 rfl hl (by decide) rfl (fun ls hl => ?_)
      refine lv_iinc (v := (nI (i_1 + 1))) (lv' := [(3, .int (nI (i_1 + 1))), (2, .int (nI i_1)), (4, .int 1), (0, .ref o), (1, .int x)]) hx hb dX3_good_93 hl (k := 4) rfl (nx_iinc rfl) (by decide) rfl (fun ls hl => ?_)
      refine lv_goto (tgt := 4) hx hb dX3_good_96 (by decide) ?_
      exact ih4 _ _ _ _ hg ⟨hT, (by rw [show bo (A 0) i (i_1 + 1) = (nI i_1) from by rw [bo_s]; simp only [if_pos c_9, if_pos c_13, if_neg c_16, if_pos c_19]]; exact lv_sub hl [3, 4, 1, 0] rfl)⟩
    obtain ⟨hb_20a, hb_20⟩ := bo_nat (by omega) c_19
    refine lv_aload_n hx hb dX3_good_72 rfl (lv_at hl 1 rfl) ?_
    refine lv_iload_n hx hb dX3_good_73 rfl (lv_at hl 4 rfl) ?_
    refine lv_iconst (v := 3) hx hb dX3_good_74 (by decide) ?_
    refine gh_calli hg (gh_runV (As := [.int (nI i_1), .int 3]) (rest := []) hC hg (t_order l V o ad I A F _ hT.1 (nI i_1) 3 i_1 3 rfl (show ((3 : Int32)) = nI 3 from rfl) (by omega) (by omega)) 2 (lw_V q3996 q3998 qs71 q138 q3999) hT.1.1 rfl hd_X3_order ⟨Nat.le_of_ble_eq_true rfl, Nat.le_of_ble_eq_true rfl⟩ rfl hl.1 rfl (Nat.le_of_ble_eq_true rfl) dX3_good_75 ⟨Nat.le_of_ble_eq_true rfl, Nat.le_of_ble_eq_true rfl⟩) (fun r_21 g H locs hg hp => ?_)
    obtain ⟨hp, hq⟩ := hp
    replace hp : r_21 = (od (A 0) i_1 3) := hp
    subst hp
    rw [hq] at hg
    refine lv_aload_n hx hb dX3_good_78 rfl (lv_at hl 1 rfl) ?_
    refine lv_iload_n hx hb dX3_good_79 rfl (lv_at hl 3 rfl) ?_
    refine lv_iconst (v := 3) hx hb dX3_good_80 (by decide) ?_
    refine gh_calli hg (gh_runV (As := [.int (bo (A 0) i i_1), .int 3]) (rest := [.int (od (A 0) i_1 3)]) hC hg (t_order l V o ad I A F _ hT.1 (bo (A 0) i i_1) 3 ((bo (A 0) i i_1).toNatClampNeg) 3 hb_20 (show ((3 : Int32)) = nI 3 from rfl) (by omega) (by omega)) 2 (lw_V q3996 q3998 qs71 q138 q3999) hT.1.1 rfl hd_X3_order ⟨Nat.le_of_ble_eq_true rfl, Nat.le_of_ble_eq_true rfl⟩ rfl hl.1 rfl (Nat.le_of_ble_eq_true rfl) dX3_good_81 ⟨Nat.le_of_ble_eq_true rfl, Nat.le_of_ble_eq_true rfl⟩) (fun r_22 g H locs hg hp => ?_)
    obtain ⟨hp, hq⟩ := hp
    replace hp : r_22 = (od (A 0) ((bo (A 0) i i_1).toNatClampNeg) 3) := hp
    subst hp
    rw [hq] at hg
    refine lv_icmp_ge (tgt := 91) hx hb dX3_good_84 (by decide) (fun c_23 => ?_) (fun c_23 => ?_)
    · skip
      refine lv_iload_n hx hb dX3_good_91 rfl (lv_at hl 3 rfl) ?_
      refine lv_istore_n (lv' := [(2, .int (bo (A 0) i i_1)), (4, .int 1), (0, .ref o), (1, .int x), (3, .int (nI i_1))]) hx hb dX3_good_92 rfl hl (by decide) rfl (fun ls hl => ?_)
      refine lv_iinc (v := (nI (i_1 + 1))) (lv' := [(3, .int (nI (i_1 + 1))), (2, .int (bo (A 0) i i_1)), (4, .int 1), (0, .ref o), (1, .int x)]) hx hb dX3_good_93 hl (k := 4) rfl (nx_iinc rfl) (by decide) rfl (fun ls hl => ?_)
      refine lv_goto (tgt := 4) hx hb dX3_good_96 (by decide) ?_
      exact ih4 _ _ _ _ hg ⟨hT, (by rw [show bo (A 0) i (i_1 + 1) = (bo (A 0) i i_1) from by rw [bo_s]; simp only [if_pos c_9, if_pos c_13, if_neg c_16, if_neg c_19, if_pos c_23]]; exact lv_sub hl [3, 4, 1, 0] rfl)⟩
    refine lv_iload_n hx hb dX3_good_87 rfl (lv_at hl 4 rfl) ?_
    refine lv_goto (tgt := 92) hx hb dX3_good_88 (by decide) ?_
    refine lv_istore_n (lv' := [(2, .int (nI i_1)), (4, .int 1), (0, .ref o), (1, .int x), (3, .int (nI i_1))]) hx hb dX3_good_92 rfl hl (by decide) rfl (fun ls hl => ?_)
    refine lv_iinc (v := (nI (i_1 + 1))) (lv' := [(3, .int (nI (i_1 + 1))), (2, .int (nI i_1)), (4, .int 1), (0, .ref o), (1, .int x)]) hx hb dX3_good_93 hl (k := 4) rfl (nx_iinc rfl) (by decide) rfl (fun ls hl => ?_)
    refine lv_goto (tgt := 4) hx hb dX3_good_96 (by decide) ?_
    exact ih4 _ _ _ _ hg ⟨hT, (by rw [show bo (A 0) i (i_1 + 1) = (nI i_1) from by rw [bo_s]; simp only [if_pos c_9, if_pos c_13, if_neg c_16, if_neg c_19, if_neg c_23]]; exact lv_sub hl [3, 4, 1, 0] rfl)⟩
