theorem gh_joinG {V : gh_V} {p : Program} {l : Launch} {e : Env} {R : Room} {s : State} {m : MethodId} {args : Array Value} {below : List Frame} {meth : Method} {c : Code} {H : Heap} {locs : List Loc} {cells slots : Nat} {Q : State → Prop} {A : Nat → Prop} {st0 : JFrame} (pc : Nat) (st : List Value) (X : gh_G → Array Slot → Prop)
    (h1 : (∀ (g : gh_G) (H : Heap) (locs : List Loc) (ls : Array Slot), gh_W V A s g H locs → X g ls → W p l e R s m args below meth c H locs cells slots Q (F0 m pc ls st)) → W p l e R s m args below meth c H locs cells slots Q st0)
    (h2 : ∀ (g : gh_G) (H : Heap) (locs : List Loc) (ls : Array Slot), gh_W V A s g H locs → X g ls → W p l e R s m args below meth c H locs cells slots Q (F0 m pc ls st)) : W p l e R s m args below meth c H locs cells slots Q st0 := h1 h2
theorem rz_shl {n : Nat} (h : n < 1000000) : nI n <<< ((1 : Int32) &&& 31) = nI (2 * n) := by
  rw [show ((1 : Int32) &&& 31) = 1 from by decide, pk_shlN (n := n) 1 1 (by decide) (by omega), Nat.mul_comm]
theorem rz_thr0 : ∀ j : Fin 10, 16 ≤ 2 ^ j.val → 2 * (3 * 2 ^ j.val / 4) = 3 * (2 * 2 ^ j.val) / 4 := by decide
theorem rz_thr {n j : Nat} (hj : j ≤ 9) (hn : n = 2 ^ j) (h : 16 ≤ n) : 2 * (3 * n / 4) = 3 * (2 * n) / 4 := by rw [hn] at h ⊢; exact rz_thr0 ⟨j, by omega⟩ h
theorem hm_idx9c {x y : Int32} {n j h i : Nat} (hx : x = nI h) (hy : y = nI (n - 1)) (hn : n = 2 ^ j) (hi : h % n = i) : x &&& y = nI i := by rw [hx, hy, nI_and, Nat.and_comm, hm_and hn, hi]
theorem rz_nil {nx : Nat → Option Nat} {p : Option Nat} {l : List Nat} (h : hm_ch nx p l) (hp : p = none) : l = [] := by
  cases l with
  | nil => rfl
  | cons a l => rw [hp] at h; cases h.1
theorem rz_cons {nx : Nat → Option Nat} {p : Option Nat} {l : List Nat} {e : Nat} (h : hm_ch nx p l) (hp : p = some e) : ∃ l', l = e :: l' ∧ hm_ch nx (nx e) l' := by
  cases l with
  | nil => have h : p = none := h; rw [hp] at h; cases h
  | cons a l => have h1 := h.1; rw [hp] at h1; cases h1; exact ⟨l, rfl, h.2⟩
/-- which half -/
theorem rz_half {D : HD} {i j e : Nat} (hn : D.n ≠ 0) (hj : D.n = 2 ^ j) (he : hm_sp (D.C e) % D.n = i) : (hm_sp (D.C e) &&& D.n = 0 → rz_p D i e = true) ∧ (¬ hm_sp (D.C e) &&& D.n = 0 → rz_p D (i + D.n) e = true) := by
  refine ⟨fun h => by have := (rz_and hj he).mp h; simp [rz_p, this], fun h => ?_⟩
  rcases rz_mod (Nat.pos_of_ne_zero hn) he with h1 | h1
  · exact absurd ((rz_and hj he).mpr h1) h
  · simp [rz_p, h1]
/-- the two halves behind one more node -/
theorem rz_f1 {D : HD} {i e : Nat} {p : List Nat} (hn : D.n ≠ 0) (h : rz_p D i e = true) : (p ++ [e]).filter (rz_p D i) = p.filter (rz_p D i) ++ [e] ∧ (p ++ [e]).filter (rz_p D (i + D.n)) = p.filter (rz_p D (i + D.n)) := by
  have h2 : rz_p D (i + D.n) e = false := by
    cases hx : rz_p D (i + D.n) e with
    | false => rfl
    | true => exact absurd (rz_disj (Nat.pos_of_ne_zero hn) h hx) id
  constructor
  · rw [List.filter_append, List.filter_cons_of_pos h, List.filter_nil]
  · rw [List.filter_append, List.filter_cons_of_neg (by rw [h2]; decide), List.filter_nil, List.append_nil]
theorem rz_f2 {D : HD} {i e : Nat} {p : List Nat} (hn : D.n ≠ 0) (h : rz_p D (i + D.n) e = true) : (p ++ [e]).filter (rz_p D i) = p.filter (rz_p D i) ∧ (p ++ [e]).filter (rz_p D (i + D.n)) = p.filter (rz_p D (i + D.n)) ++ [e] := by
  have h2 : rz_p D i e = false := by
    cases hx : rz_p D i e with
    | false => rfl
    | true => exact absurd (rz_disj (Nat.pos_of_ne_zero hn) hx h) id
  constructor
  · rw [List.filter_append, List.filter_cons_of_neg (by rw [h2]; decide), List.filter_nil, List.append_nil]
  · rw [List.filter_append, List.filter_cons_of_pos h, List.filter_nil]
theorem rz_hd0 {q : List Nat} {e : Nat} (h : q.getLast? = none) : (q ++ [e]).head? = some e := by rw [List.getLast?_eq_none_iff.mp h]; rfl
theorem rz_hd1 {q : List Nat} {e t : Nat} (h : q.getLast? = some t) : (q ++ [e]).head? = q.head? := by
  cases q with
  | nil => cases h
  | cons a q => rfl
theorem rz_la {q : List Nat} {e : Nat} : (q ++ [e]).getLast? = some e := by rw [List.getLast?_append, List.getLast?_singleton]; rfl
set_option maxRecDepth 100000
theorem fJ4_81_13 : gh_fd RJ4 81 13 5 .float true := gh_fd.own (T := TJ5) tyJ5 rfl in_J5 tyJ5_ok nmJ5 (by decide) q260 rfl rfl (fun h => rfl)
theorem fJ4_88_13 : gh_fd RJ4 88 13 4 .int false := gh_fd.own (T := TJ5) tyJ5 rfl in_J5 tyJ5_ok nmJ5 (by decide) q259 rfl rfl (fun h => by cases h)
set_option maxHeartbeats 1000000 in
set_option maxRecDepth 100000 in
theorem j_J4_resize (l : Launch) (V : gh_V) (g0 : gh_G) (o k m ck sz sl : Nat) (D : HD) (hI : hm_G V o k g0 m ck D sz none) (h14 : ∀ a, a ∈ D.L → D.ci a = 14) (h256 : D.n ≤ 256) (hsl : 2 * D.n ≤ sl ∧ (D.n = 0 → D.th ≤ sl ∧ 16 ≤ sl)) : MR l yJ4_resize cJ4_resize 14 (some (.array (.object "java/util/HashMap$Node"))) ({ frames := 0, cells := 1, slots := sl, locals := 0 } : Room) V [.ref m] g0 (fun r g1 => ∃ D1 : HD, r = some D1.tb ∧ hm_G V o k g1 m ck D1 sz none ∧ rz_R D D1 ∧ gh_fk o k g0 g1) := by
  refine MG.of RJ4 (by decide) rfl (Nat.le_of_ble_eq_true rfl) (fun pp ee s mm args below meth c ls hC hg hr hlk hnm hl => ?_)
  have hx := hC.1.1
  have hb := hC.1.2.1
  have hml := hC.1.2.2.1
  have hown := hC.1.2.2.2.1
  have hts := hC.1.2.2.2.2
  have hl : lv_has ls 14 [(0, .ref m)] := hl
  obtain ⟨g, hg, hgg⟩ : ∃ g, gh_W V (gh_A g0 s.heap.size) s g s.heap [] ∧ g = g0 := ⟨g0, hg, rfl⟩
  have hm := hI.cm
  have hN := hI.cn
  rw [← hgg] at hm hN
  rcases Nat.eq_zero_or_pos D.n with hn0 | hn0
  · skip
    obtain ⟨hL0, hth⟩ := hI.z hn0
    rw [show hm_tab D = none from if_pos hn0] at hm
    have hfm : ∀ b, b ≠ m → g b = g0 b := fun b _ => by rw [hgg]
    rcases hth with hth | ⟨j, hj1, hj2, hth⟩
    · skip
      refine lv_aload_n hx hb dJ4_resize_0 rfl (lv_at hl 0 rfl) ?_
      refine gh_get (v := .null) hC hg hm fJ4_105_13 rfl dJ4_resize_1 ?_
      refine lv_astore_nN (lv' := [(1, .null), (0, .ref m)]) hx hb dJ4_resize_4 rfl hl (by decide) rfl (fun ls hl => ?_)
      refine lv_aload_nN hx hb dJ4_resize_5 rfl (lv_at hl 0 rfl) ?_
      refine lv_ifnonnullN hx hb dJ4_resize_6 ?_
      refine lv_iconst (v := 0) hx hb dJ4_resize_9 (by decide) ?_
      refine lv_goto (tgt := 15) hx hb dJ4_resize_10 (by decide) ?_
      refine lv_istore_n (lv' := [(2, .int 0), (1, .null), (0, .ref m)]) hx hb dJ4_resize_15 rfl hl (by decide) rfl (fun ls hl => ?_)
      refine lv_aload_n hx hb dJ4_resize_16 rfl (lv_at hl 2 rfl) ?_
      refine gh_get (v := .int (nI D.th)) hC hg hm fJ4_88_13 rfl dJ4_resize_17 ?_
      refine lv_istore_n (lv' := [(3, .int (nI D.th)), (2, .int 0), (1, .null), (0, .ref m)]) hx hb dJ4_resize_20 rfl hl (by decide) rfl (fun ls hl => ?_)
      refine lv_iconst (v := 0) hx hb dJ4_resize_21 (by decide) ?_
      refine lv_istore (lv' := [(5, .int 0), (3, .int (nI D.th)), (2, .int 0), (1, .null), (0, .ref m)]) hx hb dJ4_resize_22 hl (by decide) rfl (fun ls hl => ?_)
      refine lv_iload_n hx hb dJ4_resize_24 rfl (lv_at hl 2 rfl) ?_
      refine lv_if_le (tgt := 67) hx hb dJ4_resize_25 (by decide) (fun _ => ?_) (fun c_1 => (absurd ((nx_le (show ((0 : Int32)) = nI 0 from rfl) (show ((0 : Int32)) = nI 0 from rfl) (by omega) (by omega)).mpr (by omega)) c_1))
      refine lv_iload_n hx hb dJ4_resize_67 rfl (lv_at hl 1 rfl) ?_
      refine lv_if_le (tgt := 77) hx hb dJ4_resize_68 (by decide) (fun _ => ?_) (fun c_2 => (absurd ((nx_le rfl (show ((0 : Int32)) = nI 0 from rfl) (by omega) (by omega)).mpr (by omega)) c_2))
      refine lv_bipush (v := 16) hx hb dJ4_resize_77 (by decide) ?_
      refine lv_istore (lv' := [(4, .int 16), (5, .int 0), (3, .int (nI D.th)), (2, .int 0), (1, .null), (0, .ref m)]) hx hb dJ4_resize_79 hl (by decide) rfl (fun ls hl => ?_)
      refine lv_bipush (v := 12) hx hb dJ4_resize_81 (by decide) ?_
      refine lv_istore (lv' := [(5, .int 12), (4, .int 16), (3, .int (nI D.th)), (2, .int 0), (1, .null), (0, .ref m)]) hx hb dJ4_resize_83 hl (by decide) rfl (fun ls hl => ?_)
      refine lv_iload hx hb dJ4_resize_85 (lv_at hl 0 rfl) ?_
      refine lv_if_ne (tgt := 125) hx hb dJ4_resize_87 (by decide) (fun _ => ?_) (fun c_3 => (absurd ((nx_eq (show ((12 : Int32)) = nI 12 from rfl) (show ((0 : Int32)) = nI 0 from rfl) (by omega) (by omega)).mp c_3) (by omega)))
      refine lv_aload_n hx hb dJ4_resize_125 rfl (lv_at hl 5 rfl) ?_
      refine lv_iload hx hb dJ4_resize_126 (lv_at hl 0 rfl) ?_
      refine gh_put (v := .int 12) hC hg hm fJ4_88_13 rfl rfl (Nat.le_of_ble_eq_true rfl) dJ4_resize_128 (fun g H locs hg hw hn => ?_)
      have hfm : ∀ b, b ≠ m → g b = g0 b := fun b h1 => (hn b h1).trans (hfm b h1)
      have hm : g m = some ((o, k, 0), oo 13 [.null, va_rf D.es, .int (nI sz), .int D.mc, .int 12, .float 1061158912, va_rf D.ks, va_rf D.vs, va_rf (D.L.head?), va_rf (D.L.getLast?), .int 0, .int 0]) := hw
      have hm9 := hm
      refine lv_iload hx hb dJ4_resize_131 (lv_at hl 1 rfl) ?_
      refine gh_newq (k := 9) hC hg (fun q9 => (o, k, 1)) rfl q1820 (hC.2.2.1.1 _ (gh_nwm q1821 rfl)) (show ((16 : Int32)) = nI 16 from rfl) (by omega) (Nat.le_of_ble_eq_true rfl) (by show 0 + 16 ≤ sl; have := hsl.2 hn0; omega) dJ4_resize_133 (fun q_4 g H hg h0 hw hn => ?_)
      have hm : g m = some ((o, k, 0), oo 13 [.null, va_rf D.es, .int (nI sz), .int D.mc, .int 12, .float 1061158912, va_rf D.ks, va_rf D.vs, va_rf (D.L.head?), va_rf (D.L.getLast?), .int 0, .int 0]) := (hn _ (gh_neN hm h0)).trans hm
      have c_5 : g q_4 = some ((o, k, 1), aq V 9 16 (fun _ => none)) := hw
      have hq00 : g0 q_4 = none := (hfm q_4 (gh_neN hm9 h0).symm).symm.trans h0
      have hfr : ∀ b, b ≠ m → b ≠ q_4 → g b = g0 b := fun b h1 h2 => (hn b h2).trans (hfm b h1)
      refine lv_astore (lv' := [(6, .ref q_4), (5, .int 12), (4, .int 16), (3, .int (nI D.th)), (2, .int 0), (1, .null), (0, .ref m)]) hx hb dJ4_resize_136 hl (by decide) rfl (fun ls hl => ?_)
      refine lv_aload_n hx hb dJ4_resize_138 rfl (lv_at hl 6 rfl) ?_
      refine lv_aload hx hb dJ4_resize_139 (lv_at hl 0 rfl) ?_
      refine gh_put (v := .ref q_4) hC hg hm fJ4_105_13 rfl rfl (Nat.le_of_ble_eq_true rfl) dJ4_resize_141 (fun g H locs hg hw hn => ?_)
      have c_5 : g q_4 = some ((o, k, 1), aq V 9 16 (fun _ => none)) := (hn _ (gh_neI c_5 hm rfl)).trans c_5
      have hfr : ∀ b, b ≠ m → b ≠ q_4 → g b = g0 b := fun b h1 h2 => (hn b h1).trans (hfr b h1 h2)
      have hm : g m = some ((o, k, 0), oo 13 [.ref q_4, va_rf D.es, .int (nI sz), .int D.mc, .int 12, .float 1061158912, va_rf D.ks, va_rf D.vs, va_rf (D.L.head?), va_rf (D.L.getLast?), .int 0, .int 0]) := hw
      refine lv_aload_nN hx hb dJ4_resize_144 rfl (lv_at hl 5 rfl) ?_
      refine lv_ifnullN (tgt := 353) hx hb dJ4_resize_145 (by decide) ?_
      refine lv_aload hx hb dJ4_resize_353 (lv_at hl 0 rfl) ?_
      obtain ⟨hG, hF⟩ := rz_fin0 hI (q := q_4) (cap := 16) hn0 hq00 ⟨4, by decide, by decide, rfl⟩ hm c_5 hfr
      exact gh_retq (r := some q_4) (Or.inr ⟨_, rfl⟩) hC hg hr hlk (⟨rz_D0 D q_4 16, rfl, hG, ⟨(by show 16 ≠ 0; omega), (by rw [if_pos hn0, if_pos hth]; rfl), rfl, rfl, rfl, rfl, rfl, rfl, rfl⟩, hF⟩) dJ4_resize_355 (Nat.le_of_ble_eq_true rfl) (by show 0 + _ ≤ sl; have := hsl.2 hn0; omega)
    have hpw := pow2_lt hj2
    have hth1 : 0 < D.th := by rw [hth]; exact Nat.two_pow_pos j
    refine lv_aload_n hx hb dJ4_resize_0 rfl (lv_at hl 0 rfl) ?_
    refine gh_get (v := .null) hC hg hm fJ4_105_13 rfl dJ4_resize_1 ?_
    refine lv_astore_nN (lv' := [(1, .null), (0, .ref m)]) hx hb dJ4_resize_4 rfl hl (by decide) rfl (fun ls hl => ?_)
    refine lv_aload_nN hx hb dJ4_resize_5 rfl (lv_at hl 0 rfl) ?_
    refine lv_ifnonnullN hx hb dJ4_resize_6 ?_
    refine lv_iconst (v := 0) hx hb dJ4_resize_9 (by decide) ?_
    refine lv_goto (tgt := 15) hx hb dJ4_resize_10 (by decide) ?_
    refine lv_istore_n (lv' := [(2, .int 0), (1, .null), (0, .ref m)]) hx hb dJ4_resize_15 rfl hl (by decide) rfl (fun ls hl => ?_)
    refine lv_aload_n hx hb dJ4_resize_16 rfl (lv_at hl 2 rfl) ?_
    refine gh_get (v := .int (nI D.th)) hC hg hm fJ4_88_13 rfl dJ4_resize_17 ?_
    refine lv_istore_n (lv' := [(3, .int (nI D.th)), (2, .int 0), (1, .null), (0, .ref m)]) hx hb dJ4_resize_20 rfl hl (by decide) rfl (fun ls hl => ?_)
    refine lv_iconst (v := 0) hx hb dJ4_resize_21 (by decide) ?_
    refine lv_istore (lv' := [(5, .int 0), (3, .int (nI D.th)), (2, .int 0), (1, .null), (0, .ref m)]) hx hb dJ4_resize_22 hl (by decide) rfl (fun ls hl => ?_)
    refine lv_iload_n hx hb dJ4_resize_24 rfl (lv_at hl 2 rfl) ?_
    refine lv_if_le (tgt := 67) hx hb dJ4_resize_25 (by decide) (fun _ => ?_) (fun c_6 => (absurd ((nx_le (show ((0 : Int32)) = nI 0 from rfl) (show ((0 : Int32)) = nI 0 from rfl) (by omega) (by omega)).mpr (by omega)) c_6))
    refine lv_iload_n hx hb dJ4_resize_67 rfl (lv_at hl 1 rfl) ?_
    refine lv_if_le (tgt := 77) hx hb dJ4_resize_68 (by decide) (fun c_7 => (absurd ((nx_le rfl (show ((0 : Int32)) = nI 0 from rfl) (by omega) (by omega)).mp c_7) (by omega))) (fun _ => ?_)
    refine lv_iload_n hx hb dJ4_resize_71 rfl (lv_at hl 1 rfl) ?_
    refine lv_istore (lv' := [(4, .int (nI D.th)), (5, .int 0), (3, .int (nI D.th)), (2, .int 0), (1, .null), (0, .ref m)]) hx hb dJ4_resize_72 hl (by decide) rfl (fun ls hl => ?_)
    refine lv_goto (tgt := 85) hx hb dJ4_resize_74 (by decide) ?_
    refine lv_iload hx hb dJ4_resize_85 (lv_at hl 1 rfl) ?_
    refine lv_if_ne (tgt := 125) hx hb dJ4_resize_87 (by decide) (fun c_8 => (absurd ((nx_eq (show ((0 : Int32)) = nI 0 from rfl) (show ((0 : Int32)) = nI 0 from rfl) (by omega) (by omega)).mpr (by omega)) c_8)) (fun _ => ?_)
    refine lv_iload hx hb dJ4_resize_90 (lv_at hl 0 rfl) ?_
    refine lv_i2f hx hb dJ4_resize_92 ?_
    refine lv_aload_n hx hb dJ4_resize_93 rfl (lv_at hl 5 rfl) ?_
    refine gh_get (v := .float 1061158912) hC hg hm fJ4_81_13 rfl dJ4_resize_94 ?_
    refine lv_fmul hx hb dJ4_resize_97 (by rw [hth]; exact (rz_fp hj2).1) ?_
    refine lv_fstore (lv' := [(6, .float (FP.fmul (FP.i2f (nI D.th)) 1061158912)), (4, .int (nI D.th)), (5, .int 0), (3, .int (nI D.th)), (2, .int 0), (1, .null), (0, .ref m)]) hx hb dJ4_resize_98 hl (by decide) rfl (fun ls hl => ?_)
    refine lv_iload hx hb dJ4_resize_100 (lv_at hl 1 rfl) ?_
    refine lv_ldc (v := 1073741824) hx hb hown (hts _ q632) dJ4_resize_102 ?_
    refine lv_icmp_ge (tgt := 121) hx hb dJ4_resize_104 (by decide) (fun c_9 => (absurd ((nx_le (show ((1073741824 : Int32)) = nI 1073741824 from rfl) rfl (by omega) (by omega)).mp c_9) (by omega))) (fun _ => ?_)
    refine lv_fload hx hb dJ4_resize_107 (lv_at hl 0 rfl) ?_
    refine lv_ldcf (v := 1317011456) hx hb hown (hts _ q1819) dJ4_resize_109 ?_
    refine lv_fcmp hx hb dJ4_resize_111 ?_
    refine lv_if_ge (tgt := 121) hx hb dJ4_resize_112 (by decide) (fun c_10 => (absurd c_10 (by rw [hth, (rz_fp hj2).2.1]; decide))) (fun _ => ?_)
    refine lv_fload hx hb dJ4_resize_115 (lv_at hl 0 rfl) ?_
    refine lv_f2i hx hb dJ4_resize_117 ?_
    refine W.eq (g2 := F0 mm 118 ls [.int (nI (3 * D.th / 4))]) (by rw [(show FP.f2i (FP.fmul (FP.i2f (nI D.th)) 1061158912) = nI (3 * D.th / 4) from by rw [hth]; exact (rz_fp hj2).2.2)] <;> rfl) ?_
    refine lv_goto (tgt := 123) hx hb dJ4_resize_118 (by decide) ?_
    refine lv_istore (lv' := [(5, .int (nI (3 * D.th / 4))), (6, .float (FP.fmul (FP.i2f (nI D.th)) 1061158912)), (4, .int (nI D.th)), (3, .int (nI D.th)), (2, .int 0), (1, .null), (0, .ref m)]) hx hb dJ4_resize_123 hl (by decide) rfl (fun ls hl => ?_)
    refine lv_aload_n hx hb dJ4_resize_125 rfl (lv_at hl 6 rfl) ?_
    refine lv_iload hx hb dJ4_resize_126 (lv_at hl 0 rfl) ?_
    refine gh_put (v := .int (nI (3 * D.th / 4))) hC hg hm fJ4_88_13 rfl rfl (Nat.le_of_ble_eq_true rfl) dJ4_resize_128 (fun g H locs hg hw hn => ?_)
    have hfm : ∀ b, b ≠ m → g b = g0 b := fun b h1 => (hn b h1).trans (hfm b h1)
    have hm : g m = some ((o, k, 0), oo 13 [.null, va_rf D.es, .int (nI sz), .int D.mc, .int (nI (3 * D.th / 4)), .float 1061158912, va_rf D.ks, va_rf D.vs, va_rf (D.L.head?), va_rf (D.L.getLast?), .int 0, .int 0]) := hw
    have hm9 := hm
    refine lv_iload hx hb dJ4_resize_131 (lv_at hl 2 rfl) ?_
    refine gh_newq (k := 9) hC hg (fun q9 => (o, k, 1)) rfl q1820 (hC.2.2.1.1 _ (gh_nwm q1821 rfl)) rfl (by omega) (Nat.le_of_ble_eq_true rfl) (by show 0 + D.th ≤ sl; have := hsl.2 hn0; omega) dJ4_resize_133 (fun q_11 g H hg h0 hw hn => ?_)
    have hm : g m = some ((o, k, 0), oo 13 [.null, va_rf D.es, .int (nI sz), .int D.mc, .int (nI (3 * D.th / 4)), .float 1061158912, va_rf D.ks, va_rf D.vs, va_rf (D.L.head?), va_rf (D.L.getLast?), .int 0, .int 0]) := (hn _ (gh_neN hm h0)).trans hm
    have c_12 : g q_11 = some ((o, k, 1), aq V 9 D.th (fun _ => none)) := hw
    have hq00 : g0 q_11 = none := (hfm q_11 (gh_neN hm9 h0).symm).symm.trans h0
    have hfr : ∀ b, b ≠ m → b ≠ q_11 → g b = g0 b := fun b h1 h2 => (hn b h2).trans (hfm b h1)
    refine lv_astore (lv' := [(6, .ref q_11), (5, .int (nI (3 * D.th / 4))), (4, .int (nI D.th)), (3, .int (nI D.th)), (2, .int 0), (1, .null), (0, .ref m)]) hx hb dJ4_resize_136 hl (by decide) rfl (fun ls hl => ?_)
    refine lv_aload_n hx hb dJ4_resize_138 rfl (lv_at hl 6 rfl) ?_
    refine lv_aload hx hb dJ4_resize_139 (lv_at hl 0 rfl) ?_
    refine gh_put (v := .ref q_11) hC hg hm fJ4_105_13 rfl rfl (Nat.le_of_ble_eq_true rfl) dJ4_resize_141 (fun g H locs hg hw hn => ?_)
    have c_12 : g q_11 = some ((o, k, 1), aq V 9 D.th (fun _ => none)) := (hn _ (gh_neI c_12 hm rfl)).trans c_12
    have hfr : ∀ b, b ≠ m → b ≠ q_11 → g b = g0 b := fun b h1 h2 => (hn b h1).trans (hfr b h1 h2)
    have hm : g m = some ((o, k, 0), oo 13 [.ref q_11, va_rf D.es, .int (nI sz), .int D.mc, .int (nI (3 * D.th / 4)), .float 1061158912, va_rf D.ks, va_rf D.vs, va_rf (D.L.head?), va_rf (D.L.getLast?), .int 0, .int 0]) := hw
    refine lv_aload_nN hx hb dJ4_resize_144 rfl (lv_at hl 5 rfl) ?_
    refine lv_ifnullN (tgt := 353) hx hb dJ4_resize_145 (by decide) ?_
    refine lv_aload hx hb dJ4_resize_353 (lv_at hl 0 rfl) ?_
    obtain ⟨hG, hF⟩ := rz_fin0 hI (q := q_11) (cap := D.th) hn0 hq00 ⟨j, hj1, hj2, hth⟩ hm c_12 hfr
    exact gh_retq (r := some q_11) (Or.inr ⟨_, rfl⟩) hC hg hr hlk (⟨rz_D0 D q_11 D.th, rfl, hG, ⟨(by show D.th ≠ 0; omega), (by rw [if_pos hn0, if_neg (by omega)]; rfl), rfl, rfl, rfl, rfl, rfl, rfl, rfl⟩, hF⟩) dJ4_resize_355 (Nat.le_of_ble_eq_true rfl) (by show 0 + _ ≤ sl; have := hsl.2 hn0; omega)
  replace hn0 : D.n ≠ 0 := by omega
  obtain ⟨⟨j, hj1, hj2, hj⟩, hth⟩ := hI.pw hn0
  have htb := hI.ct hn0
  rw [← hgg] at htb
  have hj8 : j ≤ 8 := by
    rcases Nat.lt_or_ge j 9 with h9 | h9
    · omega
    · have e9 : j = 9 := by omega
      rw [e9] at hj
      have : (2 : Nat) ^ 9 = 512 := by decide
      omega
  rw [show hm_tab D = some D.tb from if_neg hn0] at hm
  refine lv_aload_n hx hb dJ4_resize_0 rfl (lv_at hl 0 rfl) ?_
  refine gh_get (v := .ref D.tb) hC hg hm fJ4_105_13 rfl dJ4_resize_1 ?_
  refine lv_astore_n (lv' := [(1, .ref D.tb), (0, .ref m)]) hx hb dJ4_resize_4 rfl hl (by decide) rfl (fun ls hl => ?_)
  refine lv_aload_n hx hb dJ4_resize_5 rfl (lv_at hl 0 rfl) ?_
  refine lv_ifnonnull (tgt := 13) hx hb dJ4_resize_6 (by decide) ?_
  refine lv_aload_n hx hb dJ4_resize_13 rfl (lv_at hl 0 rfl) ?_
  refine gh_alen hC hg htb rfl dJ4_resize_14 ?_
  refine lv_istore_n (lv' := [(2, .int (nI D.n)), (1, .ref D.tb), (0, .ref m)]) hx hb dJ4_resize_15 rfl hl (by decide) rfl (fun ls hl => ?_)
  refine lv_aload_n hx hb dJ4_resize_16 rfl (lv_at hl 2 rfl) ?_
  refine gh_get (v := .int (nI D.th)) hC hg hm fJ4_88_13 rfl dJ4_resize_17 ?_
  refine lv_istore_n (lv' := [(3, .int (nI D.th)), (2, .int (nI D.n)), (1, .ref D.tb), (0, .ref m)]) hx hb dJ4_resize_20 rfl hl (by decide) rfl (fun ls hl => ?_)
  refine lv_iconst (v := 0) hx hb dJ4_resize_21 (by decide) ?_
  refine lv_istore (lv' := [(5, .int 0), (3, .int (nI D.th)), (2, .int (nI D.n)), (1, .ref D.tb), (0, .ref m)]) hx hb dJ4_resize_22 hl (by decide) rfl (fun ls hl => ?_)
  refine lv_iload_n hx hb dJ4_resize_24 rfl (lv_at hl 2 rfl) ?_
  refine lv_if_le (tgt := 67) hx hb dJ4_resize_25 (by decide) (fun c_13 => (absurd ((nx_le rfl (show ((0 : Int32)) = nI 0 from rfl) (by omega) (by omega)).mp c_13) (by omega))) (fun _ => ?_)
  refine lv_iload_n hx hb dJ4_resize_28 rfl (lv_at hl 2 rfl) ?_
  refine lv_ldc (v := 1073741824) hx hb hown (hts _ q632) dJ4_resize_29 ?_
  refine lv_icmp_lt (tgt := 42) hx hb dJ4_resize_31 (by decide) (fun _ => ?_) (fun c_14 => (absurd ((nx_lt rfl (show ((1073741824 : Int32)) = nI 1073741824 from rfl) (by omega) (by omega)).mpr (by omega)) c_14))
  refine lv_iload_n hx hb dJ4_resize_42 rfl (lv_at hl 2 rfl) ?_
  refine lv_iconst (v := 1) hx hb dJ4_resize_43 (by decide) ?_
  refine lv_ishl hx hb dJ4_resize_44 ?_
  refine W.eq (g2 := F0 mm 45 ls [.int (nI (2 * D.n))]) (by rw [(rz_shl (n := D.n) (by omega))] <;> rfl) ?_
  refine lv_dup hx hb dJ4_resize_45 rfl ?_
  refine lv_istore (lv' := [(4, .int (nI (2 * D.n))), (5, .int 0), (3, .int (nI D.th)), (2, .int (nI D.n)), (1, .ref D.tb), (0, .ref m)]) hx hb dJ4_resize_46 hl (by decide) rfl (fun ls hl => ?_)
  refine lv_ldc (v := 1073741824) hx hb hown (hts _ q632) dJ4_resize_48 ?_
  refine lv_icmp_ge (tgt := 85) hx hb dJ4_resize_50 (by decide) (fun c_15 => (absurd ((nx_le (show ((1073741824 : Int32)) = nI 1073741824 from rfl) rfl (by omega) (by omega)).mp c_15) (by omega))) (fun _ => ?_)
  refine gh_join 125 [] (fun ls => lv_has ls 14 [(0, .ref m), (1, .ref D.tb), (2, .int (nI D.n)), (4, .int (nI (2 * D.n))), (5, .int (nI (3 * (2 * D.n) / 4)))]) (fun hjn => ?_) (fun ls hl => ?_)
  · skip
    have h2j : 2 * D.n = 2 ^ (j + 1) := by rw [hj, Nat.pow_succ, Nat.mul_comm]
    refine lv_iload_n hx hb dJ4_resize_53 rfl (lv_at hl 3 rfl) ?_
    refine lv_bipush (v := 16) hx hb dJ4_resize_54 (by decide) ?_
    refine lv_icmp_lt (tgt := 85) hx hb dJ4_resize_56 (by decide) (fun c_16 => ?_) (fun c_16 => ?_)
    · skip
      have c_16 : D.n < 16 := (nx_lt rfl (show ((16 : Int32)) = nI 16 from rfl) (by omega) (by omega)).mp c_16
      refine lv_iload hx hb dJ4_resize_85 (lv_at hl 1 rfl) ?_
      refine lv_if_ne (tgt := 125) hx hb dJ4_resize_87 (by decide) (fun c_17 => (absurd ((nx_eq (show ((0 : Int32)) = nI 0 from rfl) (show ((0 : Int32)) = nI 0 from rfl) (by omega) (by omega)).mpr (by omega)) c_17)) (fun _ => ?_)
      refine lv_iload hx hb dJ4_resize_90 (lv_at hl 0 rfl) ?_
      refine lv_i2f hx hb dJ4_resize_92 ?_
      refine lv_aload_n hx hb dJ4_resize_93 rfl (lv_at hl 5 rfl) ?_
      refine gh_get (v := .float 1061158912) hC hg hm fJ4_81_13 rfl dJ4_resize_94 ?_
      refine lv_fmul hx hb dJ4_resize_97 (by rw [h2j]; exact (rz_fp (by omega)).1) ?_
      refine lv_fstore (lv' := [(6, .float (FP.fmul (FP.i2f (nI (2 * D.n))) 1061158912)), (4, .int (nI (2 * D.n))), (5, .int 0), (3, .int (nI D.th)), (2, .int (nI D.n)), (1, .ref D.tb), (0, .ref m)]) hx hb dJ4_resize_98 hl (by decide) rfl (fun ls hl => ?_)
      refine lv_iload hx hb dJ4_resize_100 (lv_at hl 1 rfl) ?_
      refine lv_ldc (v := 1073741824) hx hb hown (hts _ q632) dJ4_resize_102 ?_
      refine lv_icmp_ge (tgt := 121) hx hb dJ4_resize_104 (by decide) (fun c_18 => (absurd ((nx_le (show ((1073741824 : Int32)) = nI 1073741824 from rfl) rfl (by omega) (by omega)).mp c_18) (by omega))) (fun _ => ?_)
      refine lv_fload hx hb dJ4_resize_107 (lv_at hl 0 rfl) ?_
      refine lv_ldcf (v := 1317011456) hx hb hown (hts _ q1819) dJ4_resize_109 ?_
      refine lv_fcmp hx hb dJ4_resize_111 ?_
      refine lv_if_ge (tgt := 121) hx hb dJ4_resize_112 (by decide) (fun c_19 => (absurd c_19 (by rw [h2j, (rz_fp (by omega)).2.1]; decide))) (fun _ => ?_)
      refine lv_fload hx hb dJ4_resize_115 (lv_at hl 0 rfl) ?_
      refine lv_f2i hx hb dJ4_resize_117 ?_
      refine W.eq (g2 := F0 mm 118 ls [.int (nI (3 * (2 * D.n) / 4))]) (by rw [(show FP.f2i (FP.fmul (FP.i2f (nI (2 * D.n))) 1061158912) = nI (3 * (2 * D.n) / 4) from by rw [h2j]; exact (rz_fp (by omega)).2.2)] <;> rfl) ?_
      refine lv_goto (tgt := 123) hx hb dJ4_resize_118 (by decide) ?_
      refine lv_istore (lv' := [(5, .int (nI (3 * (2 * D.n) / 4))), (6, .float (FP.fmul (FP.i2f (nI (2 * D.n))) 1061158912)), (4, .int (nI (2 * D.n))), (3, .int (nI D.th)), (2, .int (nI D.n)), (1, .ref D.tb), (0, .ref m)]) hx hb dJ4_resize_123 hl (by decide) rfl (fun ls hl => ?_)
      exact hjn _ (lv_sub hl [6, 5, 4, 2, 0] rfl)
    have c_16 : ¬ D.n < 16 := fun h9 => c_16 ((nx_lt rfl (show ((16 : Int32)) = nI 16 from rfl) (by omega) (by omega)).mpr h9)
    have h16 : 16 ≤ D.n := by omega
    refine lv_iload_n hx hb dJ4_resize_59 rfl (lv_at hl 2 rfl) ?_
    refine lv_iconst (v := 1) hx hb dJ4_resize_60 (by decide) ?_
    refine lv_ishl hx hb dJ4_resize_61 ?_
    refine W.eq (g2 := F0 mm 62 ls [.int (nI (3 * (2 * D.n) / 4))]) (by rw [(show nI D.th <<< ((1 : Int32) &&& 31) = nI (3 * (2 * D.n) / 4) from by rw [rz_shl (by omega), hth, rz_thr hj2 hj h16])] <;> rfl) ?_
    refine lv_istore (lv' := [(5, .int (nI (3 * (2 * D.n) / 4))), (4, .int (nI (2 * D.n))), (3, .int (nI D.th)), (2, .int (nI D.n)), (1, .ref D.tb), (0, .ref m)]) hx hb dJ4_resize_62 hl (by decide) rfl (fun ls hl => ?_)
    refine lv_goto (tgt := 85) hx hb dJ4_resize_64 (by decide) ?_
    refine lv_iload hx hb dJ4_resize_85 (lv_at hl 0 rfl) ?_
    refine lv_if_ne (tgt := 125) hx hb dJ4_resize_87 (by decide) (fun _ => ?_) (fun c_20 => (absurd ((nx_eq rfl (show ((0 : Int32)) = nI 0 from rfl) (by omega) (by omega)).mp c_20) (by omega)))
    exact hjn _ (lv_sub hl [5, 4, 3, 1, 0] rfl)
  have hfm : ∀ b, b ≠ m → g b = g0 b := fun b _ => by rw [hgg]
  refine lv_aload_n hx hb dJ4_resize_125 rfl (lv_at hl 0 rfl) ?_
  refine lv_iload hx hb dJ4_resize_126 (lv_at hl 4 rfl) ?_
  refine gh_put (v := .int (nI (3 * (2 * D.n) / 4))) hC hg hm fJ4_88_13 rfl rfl (Nat.le_of_ble_eq_true rfl) dJ4_resize_128 (fun g H locs hg hw hn => ?_)
  have htb : g D.tb = some ((o, k, 1), aq V 9 D.n D.T) := (hn _ (gh_neI htb hm rfl)).trans htb
  have hN : ∀ a, a ∈ D.L → g a = some ((o, k, 2), oo (D.ci a) (.int (nI (hm_sp (D.C a))) :: .ref (D.K a) :: va_rf (D.v a) :: va_rf (D.nx a) :: va_rf (pvL D.L a) :: va_rf (scL D.L a) :: D.ex a)) := fun a ha => (hn _ (gh_neI (hN a ha) hm rfl)).trans (hN a ha)
  have hfm : ∀ b, b ≠ m → g b = g0 b := fun b h1 => (hn b h1).trans (hfm b h1)
  have hm : g m = some ((o, k, 0), oo 13 [.ref D.tb, va_rf D.es, .int (nI sz), .int D.mc, .int (nI (3 * (2 * D.n) / 4)), .float 1061158912, va_rf D.ks, va_rf D.vs, va_rf (D.L.head?), va_rf (D.L.getLast?), .int 0, .int 0]) := hw
  have hm9 := hm
  refine lv_iload hx hb dJ4_resize_131 (lv_at hl 3 rfl) ?_
  refine gh_newq (k := 9) hC hg (fun q9 => (o, k, 1)) rfl q1820 (hC.2.2.1.1 _ (gh_nwm q1821 rfl)) rfl (by omega) (Nat.le_of_ble_eq_true rfl) (by show 0 + 2 * D.n ≤ sl; omega) dJ4_resize_133 (fun q_21 g H hg h0 hw hn => ?_)
  have hm : g m = some ((o, k, 0), oo 13 [.ref D.tb, va_rf D.es, .int (nI sz), .int D.mc, .int (nI (3 * (2 * D.n) / 4)), .float 1061158912, va_rf D.ks, va_rf D.vs, va_rf (D.L.head?), va_rf (D.L.getLast?), .int 0, .int 0]) := (hn _ (gh_neN hm h0)).trans hm
  have htb : g D.tb = some ((o, k, 1), aq V 9 D.n D.T) := (hn _ (gh_neN htb h0)).trans htb
  have hN : ∀ a, a ∈ D.L → g a = some ((o, k, 2), oo (D.ci a) (.int (nI (hm_sp (D.C a))) :: .ref (D.K a) :: va_rf (D.v a) :: va_rf (D.nx a) :: va_rf (pvL D.L a) :: va_rf (scL D.L a) :: D.ex a)) := fun a ha => (hn _ (gh_neN (hN a ha) h0)).trans (hN a ha)
  have c_22 : g q_21 = some ((o, k, 1), aq V 9 (2 * D.n) (fun _ => none)) := hw
  have hq00 : g0 q_21 = none := (hfm q_21 (gh_neN hm9 h0).symm).symm.trans h0
  have hqt : D.tb ≠ q_21 := fun e => by have h9 := hI.ct hn0; rw [e, hq00] at h9; cases h9
  have hqL : ∀ a, a ∈ D.L → a ≠ q_21 := fun a ha e => by have h9 := hI.cn a ha; rw [e, hq00] at h9; cases h9
  have hfr : ∀ b, b ≠ m → b ≠ D.tb → b ≠ q_21 → b ∉ D.L → g b = g0 b := fun b h1 _ h2 _ => (hn b h2).trans (hfm b h1)
  refine lv_astore (lv' := [(6, .ref q_21), (0, .ref m), (1, .ref D.tb), (2, .int (nI D.n)), (4, .int (nI (2 * D.n))), (5, .int (nI (3 * (2 * D.n) / 4)))]) hx hb dJ4_resize_136 hl (by decide) rfl (fun ls hl => ?_)
  refine lv_aload_n hx hb dJ4_resize_138 rfl (lv_at hl 1 rfl) ?_
  refine lv_aload hx hb dJ4_resize_139 (lv_at hl 0 rfl) ?_
  refine gh_put (v := .ref q_21) hC hg hm fJ4_105_13 rfl rfl (Nat.le_of_ble_eq_true rfl) dJ4_resize_141 (fun g H locs hg hw hn => ?_)
  have htb : g D.tb = some ((o, k, 1), aq V 9 D.n D.T) := (hn _ (gh_neI htb hm rfl)).trans htb
  have c_22 : g q_21 = some ((o, k, 1), aq V 9 (2 * D.n) (fun _ => none)) := (hn _ (gh_neI c_22 hm rfl)).trans c_22
  have hN : ∀ a, a ∈ D.L → g a = some ((o, k, 2), oo (D.ci a) (.int (nI (hm_sp (D.C a))) :: .ref (D.K a) :: va_rf (D.v a) :: va_rf (D.nx a) :: va_rf (pvL D.L a) :: va_rf (scL D.L a) :: D.ex a)) := fun a ha => (hn _ (gh_neI (hN a ha) hm rfl)).trans (hN a ha)
  have hfr : ∀ b, b ≠ m → b ≠ D.tb → b ≠ q_21 → b ∉ D.L → g b = g0 b := fun b h1 h2 h3 h4 => (hn b h1).trans (hfr b h1 h2 h3 h4)
  have hm : g m = some ((o, k, 0), oo 13 [.ref q_21, va_rf D.es, .int (nI sz), .int D.mc, .int (nI (3 * (2 * D.n) / 4)), .float 1061158912, va_rf D.ks, va_rf D.vs, va_rf (D.L.head?), va_rf (D.L.getLast?), .int 0, .int 0]) := hw
  refine lv_aload_n hx hb dJ4_resize_144 rfl (lv_at hl 2 rfl) ?_
  refine lv_ifnull hx hb dJ4_resize_145 ?_
  refine lv_iconst (v := 0) hx hb dJ4_resize_148 (by decide) ?_
  refine lv_istore (lv' := [(7, .int 0), (6, .ref q_21), (0, .ref m), (1, .ref D.tb), (2, .int (nI D.n)), (4, .int (nI (2 * D.n))), (5, .int (nI (3 * (2 * D.n) / 4)))]) hx hb dJ4_resize_149 hl (by decide) rfl (fun ls hl => ?_)
  refine gh_loop (N := D.n) (X := fun i g ls => ∃ nx f T : Nat → Option Nat, (g m = some ((o, k, 0), oo 13 [.ref q_21, va_rf D.es, .int (nI sz), .int D.mc, .int (nI (3 * (2 * D.n) / 4)), .float 1061158912, va_rf D.ks, va_rf D.vs, va_rf (D.L.head?), va_rf (D.L.getLast?), .int 0, .int 0])) ∧ (g D.tb = some ((o, k, 1), aq V 9 D.n f)) ∧ (g q_21 = some ((o, k, 1), aq V 9 (2 * D.n) T)) ∧ (∀ a, a ∈ D.L → g a = some ((o, k, 2), oo (D.ci a) (.int (nI (hm_sp (D.C a))) :: .ref (D.K a) :: va_rf (D.v a) :: va_rf (nx a) :: va_rf (pvL D.L a) :: va_rf (scL D.L a) :: D.ex a))) ∧ (∀ b, b ≠ m → b ≠ D.tb → b ≠ q_21 → b ∉ D.L → g b = g0 b) ∧ rz_I D i nx f T ∧ lv_has ls 14 [(0, .ref m), (1, .ref D.tb), (2, .int (nI D.n)), (4, .int (nI (2 * D.n))), (6, .ref q_21), (7, .int (nI i))]) ?_ ?_ 0 (Nat.zero_le _) hg ⟨D.nx, D.T, (fun _ => none), hm, htb, c_22, hN, hfr, ⟨(fun b _ hb9 => ⟨rfl, hI.ch b hb9⟩), (fun j _ h9 => absurd h9 (Nat.not_lt_zero _)), (fun _ _ _ => rfl)⟩, lv_sub hl [2, 3, 4, 5, 1, 0] rfl⟩
  · intro g H locs ls hg hX
    obtain ⟨nx, f, T, hm, htb, hq, hN, hfr, hRI, hl⟩ := hX
    refine lv_iload hx hb dJ4_resize_151 (lv_at hl 5 rfl) ?_
    refine lv_iload_n hx hb dJ4_resize_153 rfl (lv_at hl 2 rfl) ?_
    refine lv_icmp_ge (tgt := 353) hx hb dJ4_resize_154 (by decide) (fun _ => ?_) (fun c_23 => (absurd ((nx_le rfl rfl (by omega) (by omega)).mpr (by omega)) c_23))
    refine lv_aload hx hb dJ4_resize_353 (lv_at hl 4 rfl) ?_
    obtain ⟨hG, hF⟩ := rz_fin hI (g1 := g) (q := q_21) hn0 h256 h14 hq00 hm hq hN hfr hRI
    exact gh_retq (r := some q_21) (Or.inr ⟨_, rfl⟩) hC hg hr hlk (⟨rz_D D q_21 nx T, rfl, hG, ⟨(by show 2 * D.n ≠ 0; omega), (if_neg hn0).symm, rfl, rfl, rfl, rfl, rfl, rfl, rfl⟩, hF⟩) dJ4_resize_355 (Nat.le_of_ble_eq_true rfl) (by show 0 + _ ≤ sl; omega)
  · intro i hi ih g H locs ls hg hX
    obtain ⟨nx, f, T, hm, htb, hq, hN, hfr, hRI, hl⟩ := hX
    have hfi := (hRI.1 i (Nat.le_refl _) hi).1
    have hci := (hRI.1 i (Nat.le_refl _) hi).2
    have hdis : ∀ b, b < D.n → b ≠ i → ∀ a, a ∈ D.B b → a ∉ D.B i := fun b hb9 hbi a ha ha2 => hbi (((hI.bm b hb9 a).mp ha).2.2.symm.trans ((hI.bm i hi a).mp ha2).2.2)
    refine lv_iload hx hb dJ4_resize_151 (lv_at hl 5 rfl) ?_
    refine lv_iload_n hx hb dJ4_resize_153 rfl (lv_at hl 2 rfl) ?_
    refine lv_icmp_ge (tgt := 353) hx hb dJ4_resize_154 (by decide) (fun c_24 => (absurd ((nx_le rfl rfl (by omega) (by omega)).mp c_24) (by omega))) (fun _ => ?_)
    refine lv_aload_n hx hb dJ4_resize_157 rfl (lv_at hl 1 rfl) ?_
    refine lv_iload hx hb dJ4_resize_158 (lv_at hl 5 rfl) ?_
    refine gh_qald (n := D.n) (f := f) hC hg htb rfl rfl (by omega) (by omega) dJ4_resize_160 ?_
    refine W.eq (g2 := F0 mm 161 ls [va_rf (D.T i)]) (by rw [hfi] <;> rfl) ?_
    refine lv_dup hx hb dJ4_resize_161 (gh_cQ _) ?_
    refine lv_astoreQ (lv' := [(8, va_rf (D.T i)), (0, .ref m), (1, .ref D.tb), (2, .int (nI D.n)), (4, .int (nI (2 * D.n))), (6, .ref q_21), (7, .int (nI i))]) hx hb dJ4_resize_162 hl (by decide) rfl (fun ls hl => ?_)
    refine lv_ifnullQ (tgt := 347) hx hb dJ4_resize_164 (by decide) (fun hq_25 => ?_) (fun y_26 hq_25 => ?_)
    · skip
      rw [hq_25] at hl
      have hl : lv_has ls 14 [(8, .null), (0, .ref m), (1, .ref D.tb), (2, .int (nI D.n)), (4, .int (nI (2 * D.n))), (6, .ref q_21), (7, .int (nI i))] := hl
      have hB0 := rz_nil hci hq_25
      refine lv_iinc (v := (nI (i + 1))) (lv' := [(7, .int (nI (i + 1))), (8, .null), (0, .ref m), (1, .ref D.tb), (2, .int (nI D.n)), (4, .int (nI (2 * D.n))), (6, .ref q_21)]) hx hb dJ4_resize_347 hl (k := 6) rfl (nx_iinc rfl) (by decide) rfl (fun ls hl => ?_)
      refine lv_goto (tgt := 151) hx hb dJ4_resize_350 (by decide) ?_
      exact ih _ _ _ _ hg ⟨_, _, _, hm, htb, hq, hN, hfr, rz_none hRI hi hB0, lv_sub hl [2, 3, 4, 5, 6, 0] rfl⟩
    rw [hq_25] at hl
    have hl : lv_has ls 14 [(8, .ref y_26), (0, .ref m), (1, .ref D.tb), (2, .int (nI D.n)), (4, .int (nI (2 * D.n))), (6, .ref q_21), (7, .int (nI i))] := hl
    obtain ⟨l1, hB1, hnx1⟩ := rz_cons hci hq_25
    have hem : y_26 ∈ D.B i := by rw [hB1]; exact List.mem_cons_self
    have heL : y_26 ∈ D.L := hI.mem hi hem
    have hesp : hm_sp (D.C y_26) % D.n = i := ((hI.bm i hi y_26).mp hem).2.2
    have hes := hI.spl heL
    refine lv_aload_n hx hb dJ4_resize_167 rfl (lv_at hl 2 rfl) ?_
    refine lv_iload hx hb dJ4_resize_168 (lv_at hl 6 rfl) ?_
    refine lv_null hx hb dJ4_resize_170 ?_
    refine gh_qastN (n := D.n) (f := f) hC hg htb rfl rfl (by omega) (by omega) dJ4_resize_171 (fun g H locs hg hw hn => ?_)
    have hm : g m = some ((o, k, 0), oo 13 [.ref q_21, va_rf D.es, .int (nI sz), .int D.mc, .int (nI (3 * (2 * D.n) / 4)), .float 1061158912, va_rf D.ks, va_rf D.vs, va_rf (D.L.head?), va_rf (D.L.getLast?), .int 0, .int 0]) := (hn _ (gh_neI hm htb rfl)).trans hm
    have hq : g q_21 = some ((o, k, 1), aq V 9 (2 * D.n) T) := (hn _ hqt.symm).trans hq
    have hN : ∀ a, a ∈ D.L → g a = some ((o, k, 2), oo (D.ci a) (.int (nI (hm_sp (D.C a))) :: .ref (D.K a) :: va_rf (D.v a) :: va_rf (nx a) :: va_rf (pvL D.L a) :: va_rf (scL D.L a) :: D.ex a)) := fun a ha => (hn _ (gh_neI (hN a ha) htb rfl)).trans (hN a ha)
    have hfr : ∀ b, b ≠ m → b ≠ D.tb → b ≠ q_21 → b ∉ D.L → g b = g0 b := fun b h1 h2 h3 h4 => (hn b h2).trans (hfr b h1 h2 h3 h4)
    have htb : g D.tb = some ((o, k, 1), aq V 9 D.n (va_up f i none)) := hw
    refine lv_aload hx hb dJ4_resize_172 (lv_at hl 0 rfl) ?_
    refine gh_get (v := va_rf (nx y_26)) hC hg (hN y_26 heL) (fNJ4_177 (hI.len.2 y_26 heL)) rfl dJ4_resize_174 ?_
    refine lv_ifnonnullQ (tgt := 198) hx hb dJ4_resize_177 (by decide) (fun y_28 hq_27 => ?_) (fun hq_27 => ?_)
    · skip
      refine lv_aload hx hb dJ4_resize_198 (lv_at hl 0 rfl) ?_
      refine gh_instNo (C := "java/util/LinkedHashMap$Entry") (ci := D.ci y_26) hC hg (hN y_26 heL) (by rw [(h14 y_26 heL)]; rfl) q1822 (by decide +kernel) dJ4_resize_200 ?_
      refine lv_if_eq (tgt := 223) hx hb dJ4_resize_203 (by decide) (fun _ => ?_) (fun c_29 => (absurd ((nx_eq (show ((0 : Int32)) = nI 0 from rfl) (show ((0 : Int32)) = nI 0 from rfl) (by omega) (by omega)).mpr (by omega)) c_29))
      refine lv_null hx hb dJ4_resize_223 ?_
      refine lv_astoreN (lv' := [(9, .null), (8, .ref y_26), (0, .ref m), (1, .ref D.tb), (2, .int (nI D.n)), (4, .int (nI (2 * D.n))), (6, .ref q_21), (7, .int (nI i))]) hx hb dJ4_resize_224 hl (by decide) rfl (fun ls hl => ?_)
      refine lv_null hx hb dJ4_resize_226 ?_
      refine lv_astoreN (lv' := [(10, .null), (9, .null), (8, .ref y_26), (0, .ref m), (1, .ref D.tb), (2, .int (nI D.n)), (4, .int (nI (2 * D.n))), (6, .ref q_21), (7, .int (nI i))]) hx hb dJ4_resize_227 hl (by decide) rfl (fun ls hl => ?_)
      refine lv_null hx hb dJ4_resize_229 ?_
      refine lv_astoreN (lv' := [(11, .null), (10, .null), (9, .null), (8, .ref y_26), (0, .ref m), (1, .ref D.tb), (2, .int (nI D.n)), (4, .int (nI (2 * D.n))), (6, .ref q_21), (7, .int (nI i))]) hx hb dJ4_resize_230 hl (by decide) rfl (fun ls hl => ?_)
      refine lv_null hx hb dJ4_resize_232 ?_
      refine lv_astoreN (lv' := [(12, .null), (11, .null), (10, .null), (9, .null), (8, .ref y_26), (0, .ref m), (1, .ref D.tb), (2, .int (nI D.n)), (4, .int (nI (2 * D.n))), (6, .ref q_21), (7, .int (nI i))]) hx hb dJ4_resize_233 hl (by decide) rfl (fun ls hl => ?_)
      refine gh_joinG (V := V) (A := gh_A g0 s.heap.size) 309 [] (fun g ls => ∃ nx1 : Nat → Option Nat, (g m = some ((o, k, 0), oo 13 [.ref q_21, va_rf D.es, .int (nI sz), .int D.mc, .int (nI (3 * (2 * D.n) / 4)), .float 1061158912, va_rf D.ks, va_rf D.vs, va_rf (D.L.head?), va_rf (D.L.getLast?), .int 0, .int 0])) ∧ (g D.tb = some ((o, k, 1), aq V 9 D.n (va_up f i none))) ∧ (g q_21 = some ((o, k, 1), aq V 9 (2 * D.n) T)) ∧ (∀ a, a ∈ D.L → g a = some ((o, k, 2), oo (D.ci a) (.int (nI (hm_sp (D.C a))) :: .ref (D.K a) :: va_rf (D.v a) :: va_rf (nx1 a) :: va_rf (pvL D.L a) :: va_rf (scL D.L a) :: D.ex a))) ∧ (∀ b, b ≠ m → b ≠ D.tb → b ≠ q_21 → b ∉ D.L → g b = g0 b) ∧ rz_J D i nx1 T (D.B i) none [] ∧ lv_has ls 14 [(0, .ref m), (1, .ref D.tb), (2, .int (nI D.n)), (4, .int (nI (2 * D.n))), (6, .ref q_21), (7, .int (nI i)), (9, va_rf (((D.B i).filter (rz_p D i)).head?)), (10, va_rf (((D.B i).filter (rz_p D i)).getLast?)), (11, va_rf (((D.B i).filter (rz_p D (i + D.n))).head?)), (12, va_rf (((D.B i).filter (rz_p D (i + D.n))).getLast?))]) (fun hjn => ?_) (fun g H locs ls hg hX => ?_)
      · skip
        have hRJ0 := rz_start hRI hi
        refine gh_while (α := List Nat × Nat × List Nat × (Nat → Option Nat)) (μ := fun q => q.2.2.1.length) (X := fun q9 g ls => ∃ p e l nx1, q9 = (p, e, l, nx1) ∧ (g m = some ((o, k, 0), oo 13 [.ref q_21, va_rf D.es, .int (nI sz), .int D.mc, .int (nI (3 * (2 * D.n) / 4)), .float 1061158912, va_rf D.ks, va_rf D.vs, va_rf (D.L.head?), va_rf (D.L.getLast?), .int 0, .int 0])) ∧ (g D.tb = some ((o, k, 1), aq V 9 D.n (va_up f i none))) ∧ (g q_21 = some ((o, k, 1), aq V 9 (2 * D.n) T)) ∧ (∀ a, a ∈ D.L → g a = some ((o, k, 2), oo (D.ci a) (.int (nI (hm_sp (D.C a))) :: .ref (D.K a) :: va_rf (D.v a) :: va_rf (nx1 a) :: va_rf (pvL D.L a) :: va_rf (scL D.L a) :: D.ex a))) ∧ (∀ b, b ≠ m → b ≠ D.tb → b ≠ q_21 → b ∉ D.L → g b = g0 b) ∧ (rz_J D i nx1 T p (some e) (e :: l)) ∧ lv_has ls 14 [(0, .ref m), (1, .ref D.tb), (2, .int (nI D.n)), (4, .int (nI (2 * D.n))), (6, .ref q_21), (7, .int (nI i)), (8, .ref e), (9, va_rf ((p.filter (rz_p D i)).head?)), (10, va_rf ((p.filter (rz_p D i)).getLast?)), (11, va_rf ((p.filter (rz_p D (i + D.n))).head?)), (12, va_rf ((p.filter (rz_p D (i + D.n))).getLast?))]) ?_ ([], y_26, l1, nx) hg ⟨[], y_26, l1, nx, rfl, hm, htb, hq, hN, hfr, (by have h9 := rz_start hRI hi; rw [hB1] at h9; rw [hq_25] at h9; exact h9), lv_sub hl [5, 6, 7, 8, 9, 10, 4, 3, 2, 1, 0] rfl⟩
        intro q9 ih235 g H locs ls hg hX
        obtain ⟨p, e, l, nx1, rfl, hX235_0, hX235_1, hX235_2, hX235_3, hX235_4, hX235_5, hl⟩ := hX
        have hm := hX235_0
        have htb := hX235_1
        have hq := hX235_2
        have hN := hX235_3
        have hfr := hX235_4
        have hRJ := hX235_5
        have hem : e ∈ D.B i := by rw [hRJ.1]; exact List.mem_append_right _ List.mem_cons_self
        have heL : e ∈ D.L := hI.mem hi hem
        have hesp : hm_sp (D.C e) % D.n = i := ((hI.bm i hi e).mp hem).2.2
        have hes := hI.spl heL
        have hst := rz_step hRJ (Nat.pos_of_ne_zero hn0) (hI.bn i hi) hdis
        have hhf := rz_half hn0 hj hesp
        have hnxe := hRJ.2.2.2.1.2
        refine lv_aload hx hb dJ4_resize_235 (lv_at hl 6 rfl) ?_
        refine gh_get (v := va_rf (nx1 e)) hC hg (hN e heL) (fNJ4_177 (hI.len.2 e heL)) rfl dJ4_resize_237 ?_
        refine lv_astoreQ (lv' := [(13, va_rf (nx1 e)), (0, .ref m), (1, .ref D.tb), (2, .int (nI D.n)), (4, .int (nI (2 * D.n))), (6, .ref q_21), (7, .int (nI i)), (8, .ref e), (9, va_rf ((p.filter (rz_p D i)).head?)), (10, va_rf ((p.filter (rz_p D i)).getLast?)), (11, va_rf ((p.filter (rz_p D (i + D.n))).head?)), (12, va_rf ((p.filter (rz_p D (i + D.n))).getLast?))]) hx hb dJ4_resize_240 hl (by decide) (by simp [gh_cQ]) (fun ls hl => ?_)
        refine lv_aload hx hb dJ4_resize_242 (lv_at hl 7 rfl) ?_
        refine gh_getr (v := .int (nI (hm_sp (D.C e)))) hC hg (hN e heL) (rfNJ4_168 (hI.len.2 e heL)) rfl dJ4_resize_244 ?_
        refine lv_iload_n hx hb dJ4_resize_247 rfl (lv_at hl 3 rfl) ?_
        refine lv_iand hx hb dJ4_resize_248 ?_
        refine W.eq (g2 := F0 mm 249 ls [.int (nI (hm_sp (D.C e) &&& D.n))]) (by rw [(nI_and _ _)] <;> rfl) ?_
        have hanl : hm_sp (D.C e) &&& D.n < 2 ^ 31 := Nat.lt_of_le_of_lt Nat.and_le_right (by omega)
        refine lv_if_ne (tgt := 278) hx hb dJ4_resize_249 (by decide) (fun c_30 => ?_) (fun c_30 => ?_)
        · skip
          have c_30 : ¬ (hm_sp (D.C e) &&& D.n) = 0 := fun h9 => c_30 ((nx_eq rfl (show ((0 : Int32)) = nI 0 from rfl) (by omega) (by omega)).mpr h9)
          obtain ⟨hf1, hf2⟩ := rz_f2 (p := p) hn0 (hhf.2 c_30)
          refine lv_aloadQ hx hb dJ4_resize_278 (lv_at hl 11 rfl) ?_
          refine lv_ifnonnullQ (tgt := 290) hx hb dJ4_resize_280 (by decide) (fun y_32 hq_31 => ?_) (fun hq_31 => ?_)
          · skip
            rw [hq_31] at hl
            have hl : lv_has ls 14 [(13, va_rf (nx1 e)), (0, .ref m), (1, .ref D.tb), (2, .int (nI D.n)), (4, .int (nI (2 * D.n))), (6, .ref q_21), (7, .int (nI i)), (8, .ref e), (9, va_rf ((p.filter (rz_p D i)).head?)), (10, va_rf ((p.filter (rz_p D i)).getLast?)), (11, va_rf ((p.filter (rz_p D (i + D.n))).head?)), (12, .ref y_32)] := hl
            have htm := List.mem_filter.mp (List.mem_of_getLast? hq_31)
            have htB : y_32 ∈ D.B i := by rw [hRJ.1]; exact List.mem_append_left _ htm.1
            have htL : y_32 ∈ D.L := hI.mem hi htB
            refine lv_aload hx hb dJ4_resize_290 (lv_at hl 11 rfl) ?_
            refine lv_aload hx hb dJ4_resize_292 (lv_at hl 7 rfl) ?_
            refine gh_put (v := .ref e) hC hg (hN y_32 htL) (fNJ4_177 (hI.len.2 y_32 htL)) rfl rfl (gh_len (by decide)) dJ4_resize_294 (fun g H locs hg hw hn => ?_)
            have hm : g m = some ((o, k, 0), oo 13 [.ref q_21, va_rf D.es, .int (nI sz), .int D.mc, .int (nI (3 * (2 * D.n) / 4)), .float 1061158912, va_rf D.ks, va_rf D.vs, va_rf (D.L.head?), va_rf (D.L.getLast?), .int 0, .int 0]) := (hn _ (gh_neI hm (hN y_32 htL) rfl)).trans hm
            have htb : g D.tb = some ((o, k, 1), aq V 9 D.n (va_up f i none)) := (hn _ (gh_neI htb (hN y_32 htL) rfl)).trans htb
            have hq : g q_21 = some ((o, k, 1), aq V 9 (2 * D.n) T) := (hn _ (gh_neI hq (hN y_32 htL) rfl)).trans hq
            have hfr : ∀ b, b ≠ m → b ≠ D.tb → b ≠ q_21 → b ∉ D.L → g b = g0 b := fun b h1 h2 h3 h4 => (hn b (fun e => h4 (e ▸ htL))).trans (hfr b h1 h2 h3 h4)
            have hN : ∀ a, a ∈ D.L → g a = some ((o, k, 2), oo (D.ci a) (.int (nI (hm_sp (D.C a))) :: .ref (D.K a) :: va_rf (D.v a) :: va_rf ((va_up nx1 y_32 (some e)) a) :: va_rf (pvL D.L a) :: va_rf (scL D.L a) :: D.ex a)) := by
              intro a ha
              by_cases e9 : a = y_32
              · rw [e9, va_up_self]; exact hw
              · rw [va_up_ne _ _ e9]; exact (hn _ e9).trans (hN a ha)
            refine lv_aload hx hb dJ4_resize_297 (lv_at hl 7 rfl) ?_
            refine lv_astore (lv' := [(12, .ref e), (13, va_rf (nx1 e)), (0, .ref m), (1, .ref D.tb), (2, .int (nI D.n)), (4, .int (nI (2 * D.n))), (6, .ref q_21), (7, .int (nI i)), (8, .ref e), (9, va_rf ((p.filter (rz_p D i)).head?)), (10, va_rf ((p.filter (rz_p D i)).getLast?)), (11, va_rf ((p.filter (rz_p D (i + D.n))).head?))]) hx hb dJ4_resize_299 hl (by decide) (by simp [gh_cQ]) (fun ls hl => ?_)
            refine lv_aloadQ hx hb dJ4_resize_301 (lv_at hl 1 rfl) ?_
            refine lv_dup hx hb dJ4_resize_303 (gh_cQ _) ?_
            refine lv_astoreQ (lv' := [(8, va_rf (nx1 e)), (12, .ref e), (13, va_rf (nx1 e)), (0, .ref m), (1, .ref D.tb), (2, .int (nI D.n)), (4, .int (nI (2 * D.n))), (6, .ref q_21), (7, .int (nI i)), (9, va_rf ((p.filter (rz_p D i)).head?)), (10, va_rf ((p.filter (rz_p D i)).getLast?)), (11, va_rf ((p.filter (rz_p D (i + D.n))).head?))]) hx hb dJ4_resize_304 hl (by decide) rfl (fun ls hl => ?_)
            refine lv_ifnonnullQ (tgt := 235) hx hb dJ4_resize_306 (by decide) (fun y_34 hq_33 => ?_) (fun hq_33 => ?_)
            · skip
              rw [hq_33] at hl
              have hl : lv_has ls 14 [(8, .ref y_34), (12, .ref e), (13, .ref y_34), (0, .ref m), (1, .ref D.tb), (2, .int (nI D.n)), (4, .int (nI (2 * D.n))), (6, .ref q_21), (7, .int (nI i)), (9, va_rf ((p.filter (rz_p D i)).head?)), (10, va_rf ((p.filter (rz_p D i)).getLast?)), (11, va_rf ((p.filter (rz_p D (i + D.n))).head?))] := hl
              obtain ⟨l2, hl2, hnx2⟩ := rz_cons hnxe hq_33
              have hRK : rz_J D i (va_up nx1 y_32 (some e)) T (p ++ [e]) (nx1 e) l := by
                have h9 := (hst.2 (hhf.2 c_30))
                rw [hq_31] at h9
                exact h9
              exact ih235 (p ++ [e], y_34, l2, (va_up nx1 y_32 (some e))) (by show l2.length < l.length; rw [hl2]; exact Nat.lt_succ_self _) _ _ _ _ hg ⟨p ++ [e], y_34, l2, _, rfl, hm, htb, hq, hN, hfr, (by rw [← hq_33, ← hl2]; exact hRK), (by rw [hf1, hf2, rz_la, rz_hd1 hq_31]; exact lv_sub hl [3, 4, 5, 6, 7, 8, 0, 9, 10, 11, 1] rfl)⟩
            rw [hq_33] at hl
            have hl : lv_has ls 14 [(8, .null), (12, .ref e), (13, .null), (0, .ref m), (1, .ref D.tb), (2, .int (nI D.n)), (4, .int (nI (2 * D.n))), (6, .ref q_21), (7, .int (nI i)), (9, va_rf ((p.filter (rz_p D i)).head?)), (10, va_rf ((p.filter (rz_p D i)).getLast?)), (11, va_rf ((p.filter (rz_p D (i + D.n))).head?))] := hl
            have hl2 := rz_nil hnxe hq_33
            have hBp : D.B i = p ++ [e] := by rw [hRJ.1, hl2]
            have hRK : rz_J D i (va_up nx1 y_32 (some e)) T (p ++ [e]) (nx1 e) l := by
              have h9 := (hst.2 (hhf.2 c_30))
              rw [hq_31] at h9
              exact h9
            exact hjn _ _ _ _ hg ⟨_, hm, htb, hq, hN, hfr, (by rw [hBp]; have h9 := hRK; rw [hq_33, hl2] at h9; exact h9), (by rw [hBp, hf1, hf2, rz_la, rz_hd1 hq_31]; exact lv_sub hl [3, 4, 5, 6, 7, 8, 9, 10, 11, 1] rfl)⟩
          rw [hq_31] at hl
          have hl : lv_has ls 14 [(13, va_rf (nx1 e)), (0, .ref m), (1, .ref D.tb), (2, .int (nI D.n)), (4, .int (nI (2 * D.n))), (6, .ref q_21), (7, .int (nI i)), (8, .ref e), (9, va_rf ((p.filter (rz_p D i)).head?)), (10, va_rf ((p.filter (rz_p D i)).getLast?)), (11, va_rf ((p.filter (rz_p D (i + D.n))).head?)), (12, .null)] := hl
          refine lv_aload hx hb dJ4_resize_283 (lv_at hl 7 rfl) ?_
          refine lv_astore (lv' := [(11, .ref e), (13, va_rf (nx1 e)), (0, .ref m), (1, .ref D.tb), (2, .int (nI D.n)), (4, .int (nI (2 * D.n))), (6, .ref q_21), (7, .int (nI i)), (8, .ref e), (9, va_rf ((p.filter (rz_p D i)).head?)), (10, va_rf ((p.filter (rz_p D i)).getLast?)), (12, .null)]) hx hb dJ4_resize_285 hl (by decide) (by simp [gh_cQ]) (fun ls hl => ?_)
          refine lv_goto (tgt := 297) hx hb dJ4_resize_287 (by decide) ?_
          refine lv_aload hx hb dJ4_resize_297 (lv_at hl 8 rfl) ?_
          refine lv_astore (lv' := [(12, .ref e), (11, .ref e), (13, va_rf (nx1 e)), (0, .ref m), (1, .ref D.tb), (2, .int (nI D.n)), (4, .int (nI (2 * D.n))), (6, .ref q_21), (7, .int (nI i)), (8, .ref e), (9, va_rf ((p.filter (rz_p D i)).head?)), (10, va_rf ((p.filter (rz_p D i)).getLast?))]) hx hb dJ4_resize_299 hl (by decide) rfl (fun ls hl => ?_)
          refine lv_aloadQ hx hb dJ4_resize_301 (lv_at hl 2 rfl) ?_
          refine lv_dup hx hb dJ4_resize_303 (gh_cQ _) ?_
          refine lv_astoreQ (lv' := [(8, va_rf (nx1 e)), (12, .ref e), (11, .ref e), (13, va_rf (nx1 e)), (0, .ref m), (1, .ref D.tb), (2, .int (nI D.n)), (4, .int (nI (2 * D.n))), (6, .ref q_21), (7, .int (nI i)), (9, va_rf ((p.filter (rz_p D i)).head?)), (10, va_rf ((p.filter (rz_p D i)).getLast?))]) hx hb dJ4_resize_304 hl (by decide) rfl (fun ls hl => ?_)
          refine lv_ifnonnullQ (tgt := 235) hx hb dJ4_resize_306 (by decide) (fun y_36 hq_35 => ?_) (fun hq_35 => ?_)
          · skip
            rw [hq_35] at hl
            have hl : lv_has ls 14 [(8, .ref y_36), (12, .ref e), (11, .ref e), (13, .ref y_36), (0, .ref m), (1, .ref D.tb), (2, .int (nI D.n)), (4, .int (nI (2 * D.n))), (6, .ref q_21), (7, .int (nI i)), (9, va_rf ((p.filter (rz_p D i)).head?)), (10, va_rf ((p.filter (rz_p D i)).getLast?))] := hl
            obtain ⟨l2, hl2, hnx2⟩ := rz_cons hnxe hq_35
            have hRK : rz_J D i nx1 T (p ++ [e]) (nx1 e) l := by
              have h9 := (hst.2 (hhf.2 c_30))
              rw [hq_31] at h9
              exact h9
            exact ih235 (p ++ [e], y_36, l2, nx1) (by show l2.length < l.length; rw [hl2]; exact Nat.lt_succ_self _) _ _ _ _ hg ⟨p ++ [e], y_36, l2, _, rfl, hm, htb, hq, hN, hfr, (by rw [← hq_35, ← hl2]; exact hRK), (by rw [hf1, hf2, rz_la, rz_hd0 hq_31]; exact lv_sub hl [4, 5, 6, 7, 8, 9, 0, 10, 11, 2, 1] rfl)⟩
          rw [hq_35] at hl
          have hl : lv_has ls 14 [(8, .null), (12, .ref e), (11, .ref e), (13, .null), (0, .ref m), (1, .ref D.tb), (2, .int (nI D.n)), (4, .int (nI (2 * D.n))), (6, .ref q_21), (7, .int (nI i)), (9, va_rf ((p.filter (rz_p D i)).head?)), (10, va_rf ((p.filter (rz_p D i)).getLast?))] := hl
          have hl2 := rz_nil hnxe hq_35
          have hBp : D.B i = p ++ [e] := by rw [hRJ.1, hl2]
          have hRK : rz_J D i nx1 T (p ++ [e]) (nx1 e) l := by
            have h9 := (hst.2 (hhf.2 c_30))
            rw [hq_31] at h9
            exact h9
          exact hjn _ _ _ _ hg ⟨_, hm, htb, hq, hN, hfr, (by rw [hBp]; have h9 := hRK; rw [hq_35, hl2] at h9; exact h9), (by rw [hBp, hf1, hf2, rz_la, rz_hd0 hq_31]; exact lv_sub hl [4, 5, 6, 7, 8, 9, 10, 11, 2, 1] rfl)⟩
        have c_30 : (hm_sp (D.C e) &&& D.n) = 0 := (nx_eq rfl (show ((0 : Int32)) = nI 0 from rfl) (by omega) (by omega)).mp c_30
        obtain ⟨hf1, hf2⟩ := rz_f1 (p := p) hn0 (hhf.1 c_30)
        refine lv_aloadQ hx hb dJ4_resize_252 (lv_at hl 9 rfl) ?_
        refine lv_ifnonnullQ (tgt := 264) hx hb dJ4_resize_254 (by decide) (fun y_38 hq_37 => ?_) (fun hq_37 => ?_)
        · skip
          rw [hq_37] at hl
          have hl : lv_has ls 14 [(13, va_rf (nx1 e)), (0, .ref m), (1, .ref D.tb), (2, .int (nI D.n)), (4, .int (nI (2 * D.n))), (6, .ref q_21), (7, .int (nI i)), (8, .ref e), (9, va_rf ((p.filter (rz_p D i)).head?)), (10, .ref y_38), (11, va_rf ((p.filter (rz_p D (i + D.n))).head?)), (12, va_rf ((p.filter (rz_p D (i + D.n))).getLast?))] := hl
          have htm := List.mem_filter.mp (List.mem_of_getLast? hq_37)
          have htB : y_38 ∈ D.B i := by rw [hRJ.1]; exact List.mem_append_left _ htm.1
          have htL : y_38 ∈ D.L := hI.mem hi htB
          refine lv_aload hx hb dJ4_resize_264 (lv_at hl 9 rfl) ?_
          refine lv_aload hx hb dJ4_resize_266 (lv_at hl 7 rfl) ?_
          refine gh_put (v := .ref e) hC hg (hN y_38 htL) (fNJ4_177 (hI.len.2 y_38 htL)) rfl rfl (gh_len (by decide)) dJ4_resize_268 (fun g H locs hg hw hn => ?_)
          have hm : g m = some ((o, k, 0), oo 13 [.ref q_21, va_rf D.es, .int (nI sz), .int D.mc, .int (nI (3 * (2 * D.n) / 4)), .float 1061158912, va_rf D.ks, va_rf D.vs, va_rf (D.L.head?), va_rf (D.L.getLast?), .int 0, .int 0]) := (hn _ (gh_neI hm (hN y_38 htL) rfl)).trans hm
          have htb : g D.tb = some ((o, k, 1), aq V 9 D.n (va_up f i none)) := (hn _ (gh_neI htb (hN y_38 htL) rfl)).trans htb
          have hq : g q_21 = some ((o, k, 1), aq V 9 (2 * D.n) T) := (hn _ (gh_neI hq (hN y_38 htL) rfl)).trans hq
          have hfr : ∀ b, b ≠ m → b ≠ D.tb → b ≠ q_21 → b ∉ D.L → g b = g0 b := fun b h1 h2 h3 h4 => (hn b (fun e => h4 (e ▸ htL))).trans (hfr b h1 h2 h3 h4)
          have hN : ∀ a, a ∈ D.L → g a = some ((o, k, 2), oo (D.ci a) (.int (nI (hm_sp (D.C a))) :: .ref (D.K a) :: va_rf (D.v a) :: va_rf ((va_up nx1 y_38 (some e)) a) :: va_rf (pvL D.L a) :: va_rf (scL D.L a) :: D.ex a)) := by
            intro a ha
            by_cases e9 : a = y_38
            · rw [e9, va_up_self]; exact hw
            · rw [va_up_ne _ _ e9]; exact (hn _ e9).trans (hN a ha)
          refine lv_aload hx hb dJ4_resize_271 (lv_at hl 7 rfl) ?_
          refine lv_astore (lv' := [(10, .ref e), (13, va_rf (nx1 e)), (0, .ref m), (1, .ref D.tb), (2, .int (nI D.n)), (4, .int (nI (2 * D.n))), (6, .ref q_21), (7, .int (nI i)), (8, .ref e), (9, va_rf ((p.filter (rz_p D i)).head?)), (11, va_rf ((p.filter (rz_p D (i + D.n))).head?)), (12, va_rf ((p.filter (rz_p D (i + D.n))).getLast?))]) hx hb dJ4_resize_273 hl (by decide) (by simp [gh_cQ]) (fun ls hl => ?_)
          refine lv_goto (tgt := 301) hx hb dJ4_resize_275 (by decide) ?_
          refine lv_aloadQ hx hb dJ4_resize_301 (lv_at hl 1 rfl) ?_
          refine lv_dup hx hb dJ4_resize_303 (gh_cQ _) ?_
          refine lv_astoreQ (lv' := [(8, va_rf (nx1 e)), (10, .ref e), (13, va_rf (nx1 e)), (0, .ref m), (1, .ref D.tb), (2, .int (nI D.n)), (4, .int (nI (2 * D.n))), (6, .ref q_21), (7, .int (nI i)), (9, va_rf ((p.filter (rz_p D i)).head?)), (11, va_rf ((p.filter (rz_p D (i + D.n))).head?)), (12, va_rf ((p.filter (rz_p D (i + D.n))).getLast?))]) hx hb dJ4_resize_304 hl (by decide) rfl (fun ls hl => ?_)
          refine lv_ifnonnullQ (tgt := 235) hx hb dJ4_resize_306 (by decide) (fun y_40 hq_39 => ?_) (fun hq_39 => ?_)
          · skip
            rw [hq_39] at hl
            have hl : lv_has ls 14 [(8, .ref y_40), (10, .ref e), (13, .ref y_40), (0, .ref m), (1, .ref D.tb), (2, .int (nI D.n)), (4, .int (nI (2 * D.n))), (6, .ref q_21), (7, .int (nI i)), (9, va_rf ((p.filter (rz_p D i)).head?)), (11, va_rf ((p.filter (rz_p D (i + D.n))).head?)), (12, va_rf ((p.filter (rz_p D (i + D.n))).getLast?))] := hl
            obtain ⟨l2, hl2, hnx2⟩ := rz_cons hnxe hq_39
            have hRK : rz_J D i (va_up nx1 y_38 (some e)) T (p ++ [e]) (nx1 e) l := by
              have h9 := (hst.1 (hhf.1 c_30))
              rw [hq_37] at h9
              exact h9
            exact ih235 (p ++ [e], y_40, l2, (va_up nx1 y_38 (some e))) (by show l2.length < l.length; rw [hl2]; exact Nat.lt_succ_self _) _ _ _ _ hg ⟨p ++ [e], y_40, l2, _, rfl, hm, htb, hq, hN, hfr, (by rw [← hq_39, ← hl2]; exact hRK), (by rw [hf1, hf2, rz_la, rz_hd1 hq_37]; exact lv_sub hl [3, 4, 5, 6, 7, 8, 0, 9, 1, 10, 11] rfl)⟩
          rw [hq_39] at hl
          have hl : lv_has ls 14 [(8, .null), (10, .ref e), (13, .null), (0, .ref m), (1, .ref D.tb), (2, .int (nI D.n)), (4, .int (nI (2 * D.n))), (6, .ref q_21), (7, .int (nI i)), (9, va_rf ((p.filter (rz_p D i)).head?)), (11, va_rf ((p.filter (rz_p D (i + D.n))).head?)), (12, va_rf ((p.filter (rz_p D (i + D.n))).getLast?))] := hl
          have hl2 := rz_nil hnxe hq_39
          have hBp : D.B i = p ++ [e] := by rw [hRJ.1, hl2]
          have hRK : rz_J D i (va_up nx1 y_38 (some e)) T (p ++ [e]) (nx1 e) l := by
            have h9 := (hst.1 (hhf.1 c_30))
            rw [hq_37] at h9
            exact h9
          exact hjn _ _ _ _ hg ⟨_, hm, htb, hq, hN, hfr, (by rw [hBp]; have h9 := hRK; rw [hq_39, hl2] at h9; exact h9), (by rw [hBp, hf1, hf2, rz_la, rz_hd1 hq_37]; exact lv_sub hl [3, 4, 5, 6, 7, 8, 9, 1, 10, 11] rfl)⟩
        rw [hq_37] at hl
        have hl : lv_has ls 14 [(13, va_rf (nx1 e)), (0, .ref m), (1, .ref D.tb), (2, .int (nI D.n)), (4, .int (nI (2 * D.n))), (6, .ref q_21), (7, .int (nI i)), (8, .ref e), (9, va_rf ((p.filter (rz_p D i)).head?)), (10, .null), (11, va_rf ((p.filter (rz_p D (i + D.n))).head?)), (12, va_rf ((p.filter (rz_p D (i + D.n))).getLast?))] := hl
        refine lv_aload hx hb dJ4_resize_257 (lv_at hl 7 rfl) ?_
        refine lv_astore (lv' := [(9, .ref e), (13, va_rf (nx1 e)), (0, .ref m), (1, .ref D.tb), (2, .int (nI D.n)), (4, .int (nI (2 * D.n))), (6, .ref q_21), (7, .int (nI i)), (8, .ref e), (10, .null), (11, va_rf ((p.filter (rz_p D (i + D.n))).head?)), (12, va_rf ((p.filter (rz_p D (i + D.n))).getLast?))]) hx hb dJ4_resize_259 hl (by decide) rfl (fun ls hl => ?_)
        refine lv_goto (tgt := 271) hx hb dJ4_resize_261 (by decide) ?_
        refine lv_aload hx hb dJ4_resize_271 (lv_at hl 8 rfl) ?_
        refine lv_astore (lv' := [(10, .ref e), (9, .ref e), (13, va_rf (nx1 e)), (0, .ref m), (1, .ref D.tb), (2, .int (nI D.n)), (4, .int (nI (2 * D.n))), (6, .ref q_21), (7, .int (nI i)), (8, .ref e), (11, va_rf ((p.filter (rz_p D (i + D.n))).head?)), (12, va_rf ((p.filter (rz_p D (i + D.n))).getLast?))]) hx hb dJ4_resize_273 hl (by decide) rfl (fun ls hl => ?_)
        refine lv_goto (tgt := 301) hx hb dJ4_resize_275 (by decide) ?_
        refine lv_aloadQ hx hb dJ4_resize_301 (lv_at hl 2 rfl) ?_
        refine lv_dup hx hb dJ4_resize_303 (gh_cQ _) ?_
        refine lv_astoreQ (lv' := [(8, va_rf (nx1 e)), (10, .ref e), (9, .ref e), (13, va_rf (nx1 e)), (0, .ref m), (1, .ref D.tb), (2, .int (nI D.n)), (4, .int (nI (2 * D.n))), (6, .ref q_21), (7, .int (nI i)), (11, va_rf ((p.filter (rz_p D (i + D.n))).head?)), (12, va_rf ((p.filter (rz_p D (i + D.n))).getLast?))]) hx hb dJ4_resize_304 hl (by decide) rfl (fun ls hl => ?_)
        refine lv_ifnonnullQ (tgt := 235) hx hb dJ4_resize_306 (by decide) (fun y_42 hq_41 => ?_) (fun hq_41 => ?_)
        · skip
          rw [hq_41] at hl
          have hl : lv_has ls 14 [(8, .ref y_42), (10, .ref e), (9, .ref e), (13, .ref y_42), (0, .ref m), (1, .ref D.tb), (2, .int (nI D.n)), (4, .int (nI (2 * D.n))), (6, .ref q_21), (7, .int (nI i)), (11, va_rf ((p.filter (rz_p D (i + D.n))).head?)), (12, va_rf ((p.filter (rz_p D (i + D.n))).getLast?))] := hl
          obtain ⟨l2, hl2, hnx2⟩ := rz_cons hnxe hq_41
          have hRK : rz_J D i nx1 T (p ++ [e]) (nx1 e) l := by
            have h9 := (hst.1 (hhf.1 c_30))
            rw [hq_37] at h9
            exact h9
          exact ih235 (p ++ [e], y_42, l2, nx1) (by show l2.length < l.length; rw [hl2]; exact Nat.lt_succ_self _) _ _ _ _ hg ⟨p ++ [e], y_42, l2, _, rfl, hm, htb, hq, hN, hfr, (by rw [← hq_41, ← hl2]; exact hRK), (by rw [hf1, hf2, rz_la, rz_hd0 hq_37]; exact lv_sub hl [4, 5, 6, 7, 8, 9, 0, 2, 1, 10, 11] rfl)⟩
        rw [hq_41] at hl
        have hl : lv_has ls 14 [(8, .null), (10, .ref e), (9, .ref e), (13, .null), (0, .ref m), (1, .ref D.tb), (2, .int (nI D.n)), (4, .int (nI (2 * D.n))), (6, .ref q_21), (7, .int (nI i)), (11, va_rf ((p.filter (rz_p D (i + D.n))).head?)), (12, va_rf ((p.filter (rz_p D (i + D.n))).getLast?))] := hl
        have hl2 := rz_nil hnxe hq_41
        have hBp : D.B i = p ++ [e] := by rw [hRJ.1, hl2]
        have hRK : rz_J D i nx1 T (p ++ [e]) (nx1 e) l := by
          have h9 := (hst.1 (hhf.1 c_30))
          rw [hq_37] at h9
          exact h9
        exact hjn _ _ _ _ hg ⟨_, hm, htb, hq, hN, hfr, (by rw [hBp]; have h9 := hRK; rw [hq_41, hl2] at h9; exact h9), (by rw [hBp, hf1, hf2, rz_la, rz_hd0 hq_37]; exact lv_sub hl [4, 5, 6, 7, 8, 9, 2, 1, 10, 11] rfl)⟩
      obtain ⟨nx1, hm, htb, hq, hN, hfr, hRJ, hl⟩ := hX
      refine lv_aloadQ hx hb dJ4_resize_309 (lv_at hl 7 rfl) ?_
      refine lv_ifnullQ (tgt := 327) hx hb dJ4_resize_311 (by decide) (fun hq_43 => ?_) (fun y_44 hq_43 => ?_)
      · skip
        rw [hq_43] at hl
        have hl : lv_has ls 14 [(0, .ref m), (1, .ref D.tb), (2, .int (nI D.n)), (4, .int (nI (2 * D.n))), (6, .ref q_21), (7, .int (nI i)), (9, va_rf (((D.B i).filter (rz_p D i)).head?)), (10, .null), (11, va_rf (((D.B i).filter (rz_p D (i + D.n))).head?)), (12, va_rf (((D.B i).filter (rz_p D (i + D.n))).getLast?))] := hl
        refine lv_aloadQ hx hb dJ4_resize_327 (lv_at hl 9 rfl) ?_
        refine lv_ifnullQ (tgt := 347) hx hb dJ4_resize_329 (by decide) (fun hq_45 => ?_) (fun y_46 hq_45 => ?_)
        · skip
          rw [hq_45] at hl
          have hl : lv_has ls 14 [(0, .ref m), (1, .ref D.tb), (2, .int (nI D.n)), (4, .int (nI (2 * D.n))), (6, .ref q_21), (7, .int (nI i)), (9, va_rf (((D.B i).filter (rz_p D i)).head?)), (10, .null), (11, va_rf (((D.B i).filter (rz_p D (i + D.n))).head?)), (12, .null)] := hl
          refine lv_iinc (v := (nI (i + 1))) (lv' := [(7, .int (nI (i + 1))), (0, .ref m), (1, .ref D.tb), (2, .int (nI D.n)), (4, .int (nI (2 * D.n))), (6, .ref q_21), (9, va_rf (((D.B i).filter (rz_p D i)).head?)), (10, .null), (11, va_rf (((D.B i).filter (rz_p D (i + D.n))).head?)), (12, .null)]) hx hb dJ4_resize_347 hl (k := 5) rfl (nx_iinc rfl) (by decide) rfl (fun ls hl => ?_)
          refine lv_goto (tgt := 151) hx hb dJ4_resize_350 (by decide) ?_
          have hRK : rz_I D (i + 1) nx1 (va_up f i none) T := by
            have h9 := rz_end (nx := nx1) (f := f) (fo := (va_up f i none)) (fun _ => trivial) (fun b h1 h2 => by rw [va_up_ne _ _ (by omega)]; exact (hRI.1 b (by omega) h2).1) (fun j h1 h2 => hRI.2.2 j h1 h2) hRJ hi (hI.bn i hi) hdis
            unfold rz_t at h9
            rw [hq_43, hq_45] at h9
            exact h9
          exact ih _ _ _ _ hg ⟨_, _, _, hm, htb, hq, hN, hfr, hRK, lv_sub hl [1, 2, 3, 4, 5, 0] rfl⟩
        rw [hq_45] at hl
        have hl : lv_has ls 14 [(0, .ref m), (1, .ref D.tb), (2, .int (nI D.n)), (4, .int (nI (2 * D.n))), (6, .ref q_21), (7, .int (nI i)), (9, va_rf (((D.B i).filter (rz_p D i)).head?)), (10, .null), (11, va_rf (((D.B i).filter (rz_p D (i + D.n))).head?)), (12, .ref y_46)] := hl
        have htm := List.mem_filter.mp (List.mem_of_getLast? hq_45)
        have htLy_46 : y_46 ∈ D.L := hI.mem hi htm.1
        refine lv_aload hx hb dJ4_resize_332 (lv_at hl 9 rfl) ?_
        refine lv_null hx hb dJ4_resize_334 ?_
        refine gh_put (v := .null) hC hg (hN y_46 htLy_46) (fNJ4_177 (hI.len.2 y_46 htLy_46)) rfl rfl (gh_len (by decide)) dJ4_resize_335 (fun g H locs hg hw hn => ?_)
        have hm : g m = some ((o, k, 0), oo 13 [.ref q_21, va_rf D.es, .int (nI sz), .int D.mc, .int (nI (3 * (2 * D.n) / 4)), .float 1061158912, va_rf D.ks, va_rf D.vs, va_rf (D.L.head?), va_rf (D.L.getLast?), .int 0, .int 0]) := (hn _ (gh_neI hm (hN y_46 htLy_46) rfl)).trans hm
        have htb : g D.tb = some ((o, k, 1), aq V 9 D.n (va_up f i none)) := (hn _ (gh_neI htb (hN y_46 htLy_46) rfl)).trans htb
        have hq : g q_21 = some ((o, k, 1), aq V 9 (2 * D.n) T) := (hn _ (gh_neI hq (hN y_46 htLy_46) rfl)).trans hq
        have hfr : ∀ b, b ≠ m → b ≠ D.tb → b ≠ q_21 → b ∉ D.L → g b = g0 b := fun b h1 h2 h3 h4 => (hn b (fun e => h4 (e ▸ htLy_46))).trans (hfr b h1 h2 h3 h4)
        have hN : ∀ a, a ∈ D.L → g a = some ((o, k, 2), oo (D.ci a) (.int (nI (hm_sp (D.C a))) :: .ref (D.K a) :: va_rf (D.v a) :: va_rf ((va_up nx1 y_46 none) a) :: va_rf (pvL D.L a) :: va_rf (scL D.L a) :: D.ex a)) := by
          intro a ha
          by_cases e9 : a = y_46
          · rw [e9, va_up_self]; exact hw
          · rw [va_up_ne _ _ e9]; exact (hn _ e9).trans (hN a ha)
        refine lv_aload hx hb dJ4_resize_338 (lv_at hl 4 rfl) ?_
        refine lv_iload hx hb dJ4_resize_340 (lv_at hl 5 rfl) ?_
        refine lv_iload_n hx hb dJ4_resize_342 rfl (lv_at hl 2 rfl) ?_
        refine lv_iadd hx hb dJ4_resize_343 ?_
        refine lv_aloadQ hx hb dJ4_resize_344 (lv_at hl 8 rfl) ?_
        refine gh_qastQ (n := (2 * D.n)) (f := T) hC hg hq rfl (fun y9 hy9 => by have h8 := hI.mem hi (List.mem_filter.mp (List.mem_of_head? hy9)).1; have h9 := hN y9 h8; rw [h14 y9 h8] at h9; exact ⟨_, _, h9⟩) rfl (hC.2.2.1.1 _ (gh_nwm q4473 rfl)) (nx_add rfl rfl) (by omega) (by omega) dJ4_resize_346 (fun g H locs hg hw hn => ?_)
        have hm : g m = some ((o, k, 0), oo 13 [.ref q_21, va_rf D.es, .int (nI sz), .int D.mc, .int (nI (3 * (2 * D.n) / 4)), .float 1061158912, va_rf D.ks, va_rf D.vs, va_rf (D.L.head?), va_rf (D.L.getLast?), .int 0, .int 0]) := (hn _ (gh_neI hm hq rfl)).trans hm
        have htb : g D.tb = some ((o, k, 1), aq V 9 D.n (va_up f i none)) := (hn _ hqt).trans htb
        have hN : ∀ a, a ∈ D.L → g a = some ((o, k, 2), oo (D.ci a) (.int (nI (hm_sp (D.C a))) :: .ref (D.K a) :: va_rf (D.v a) :: va_rf ((va_up nx1 y_46 none) a) :: va_rf (pvL D.L a) :: va_rf (scL D.L a) :: D.ex a)) := fun a ha => (hn _ (gh_neI (hN a ha) hq rfl)).trans (hN a ha)
        have hfr : ∀ b, b ≠ m → b ≠ D.tb → b ≠ q_21 → b ∉ D.L → g b = g0 b := fun b h1 h2 h3 h4 => (hn b h3).trans (hfr b h1 h2 h3 h4)
        have hq : g q_21 = some ((o, k, 1), aq V 9 (2 * D.n) (va_up T (i + D.n) (((D.B i).filter (rz_p D (i + D.n))).head?))) := hw
        refine lv_iinc (v := (nI (i + 1))) (lv' := [(7, .int (nI (i + 1))), (0, .ref m), (1, .ref D.tb), (2, .int (nI D.n)), (4, .int (nI (2 * D.n))), (6, .ref q_21), (9, va_rf (((D.B i).filter (rz_p D i)).head?)), (10, .null), (11, va_rf (((D.B i).filter (rz_p D (i + D.n))).head?)), (12, .ref y_46)]) hx hb dJ4_resize_347 hl (k := 5) rfl (nx_iinc rfl) (by decide) rfl (fun ls hl => ?_)
        refine lv_goto (tgt := 151) hx hb dJ4_resize_350 (by decide) ?_
        have hRK : rz_I D (i + 1) (va_up nx1 y_46 none) (va_up f i none) (va_up T (i + D.n) (((D.B i).filter (rz_p D (i + D.n))).head?)) := by
          have h9 := rz_end (nx := nx1) (f := f) (fo := (va_up f i none)) (fun _ => trivial) (fun b h1 h2 => by rw [va_up_ne _ _ (by omega)]; exact (hRI.1 b (by omega) h2).1) (fun j h1 h2 => hRI.2.2 j h1 h2) hRJ hi (hI.bn i hi) hdis
          unfold rz_t at h9
          rw [hq_43, hq_45] at h9
          exact h9
        exact ih _ _ _ _ hg ⟨_, _, _, hm, htb, hq, hN, hfr, hRK, lv_sub hl [1, 2, 3, 4, 5, 0] rfl⟩
      rw [hq_43] at hl
      have hl : lv_has ls 14 [(0, .ref m), (1, .ref D.tb), (2, .int (nI D.n)), (4, .int (nI (2 * D.n))), (6, .ref q_21), (7, .int (nI i)), (9, va_rf (((D.B i).filter (rz_p D i)).head?)), (10, .ref y_44), (11, va_rf (((D.B i).filter (rz_p D (i + D.n))).head?)), (12, va_rf (((D.B i).filter (rz_p D (i + D.n))).getLast?))] := hl
      have htm := List.mem_filter.mp (List.mem_of_getLast? hq_43)
      have htLy_44 : y_44 ∈ D.L := hI.mem hi htm.1
      refine lv_aload hx hb dJ4_resize_314 (lv_at hl 7 rfl) ?_
      refine lv_null hx hb dJ4_resize_316 ?_
      refine gh_put (v := .null) hC hg (hN y_44 htLy_44) (fNJ4_177 (hI.len.2 y_44 htLy_44)) rfl rfl (gh_len (by decide)) dJ4_resize_317 (fun g H locs hg hw hn => ?_)
      have hm : g m = some ((o, k, 0), oo 13 [.ref q_21, va_rf D.es, .int (nI sz), .int D.mc, .int (nI (3 * (2 * D.n) / 4)), .float 1061158912, va_rf D.ks, va_rf D.vs, va_rf (D.L.head?), va_rf (D.L.getLast?), .int 0, .int 0]) := (hn _ (gh_neI hm (hN y_44 htLy_44) rfl)).trans hm
      have htb : g D.tb = some ((o, k, 1), aq V 9 D.n (va_up f i none)) := (hn _ (gh_neI htb (hN y_44 htLy_44) rfl)).trans htb
      have hq : g q_21 = some ((o, k, 1), aq V 9 (2 * D.n) T) := (hn _ (gh_neI hq (hN y_44 htLy_44) rfl)).trans hq
      have hfr : ∀ b, b ≠ m → b ≠ D.tb → b ≠ q_21 → b ∉ D.L → g b = g0 b := fun b h1 h2 h3 h4 => (hn b (fun e => h4 (e ▸ htLy_44))).trans (hfr b h1 h2 h3 h4)
      have hN : ∀ a, a ∈ D.L → g a = some ((o, k, 2), oo (D.ci a) (.int (nI (hm_sp (D.C a))) :: .ref (D.K a) :: va_rf (D.v a) :: va_rf ((va_up nx1 y_44 none) a) :: va_rf (pvL D.L a) :: va_rf (scL D.L a) :: D.ex a)) := by
        intro a ha
        by_cases e9 : a = y_44
        · rw [e9, va_up_self]; exact hw
        · rw [va_up_ne _ _ e9]; exact (hn _ e9).trans (hN a ha)
      refine lv_aload hx hb dJ4_resize_320 (lv_at hl 4 rfl) ?_
      refine lv_iload hx hb dJ4_resize_322 (lv_at hl 5 rfl) ?_
      refine lv_aloadQ hx hb dJ4_resize_324 (lv_at hl 6 rfl) ?_
      refine gh_qastQ (n := (2 * D.n)) (f := T) hC hg hq rfl (fun y9 hy9 => by have h8 := hI.mem hi (List.mem_filter.mp (List.mem_of_head? hy9)).1; have h9 := hN y9 h8; rw [h14 y9 h8] at h9; exact ⟨_, _, h9⟩) rfl (hC.2.2.1.1 _ (gh_nwm q4473 rfl)) rfl (by omega) (by omega) dJ4_resize_326 (fun g H locs hg hw hn => ?_)
      have hm : g m = some ((o, k, 0), oo 13 [.ref q_21, va_rf D.es, .int (nI sz), .int D.mc, .int (nI (3 * (2 * D.n) / 4)), .float 1061158912, va_rf D.ks, va_rf D.vs, va_rf (D.L.head?), va_rf (D.L.getLast?), .int 0, .int 0]) := (hn _ (gh_neI hm hq rfl)).trans hm
      have htb : g D.tb = some ((o, k, 1), aq V 9 D.n (va_up f i none)) := (hn _ hqt).trans htb
      have hN : ∀ a, a ∈ D.L → g a = some ((o, k, 2), oo (D.ci a) (.int (nI (hm_sp (D.C a))) :: .ref (D.K a) :: va_rf (D.v a) :: va_rf ((va_up nx1 y_44 none) a) :: va_rf (pvL D.L a) :: va_rf (scL D.L a) :: D.ex a)) := fun a ha => (hn _ (gh_neI (hN a ha) hq rfl)).trans (hN a ha)
      have hfr : ∀ b, b ≠ m → b ≠ D.tb → b ≠ q_21 → b ∉ D.L → g b = g0 b := fun b h1 h2 h3 h4 => (hn b h3).trans (hfr b h1 h2 h3 h4)
      have hq : g q_21 = some ((o, k, 1), aq V 9 (2 * D.n) (va_up T i (((D.B i).filter (rz_p D i)).head?))) := hw
      refine lv_aloadQ hx hb dJ4_resize_327 (lv_at hl 9 rfl) ?_
      refine lv_ifnullQ (tgt := 347) hx hb dJ4_resize_329 (by decide) (fun hq_47 => ?_) (fun y_48 hq_47 => ?_)
      · skip
        rw [hq_47] at hl
        have hl : lv_has ls 14 [(0, .ref m), (1, .ref D.tb), (2, .int (nI D.n)), (4, .int (nI (2 * D.n))), (6, .ref q_21), (7, .int (nI i)), (9, va_rf (((D.B i).filter (rz_p D i)).head?)), (10, .ref y_44), (11, va_rf (((D.B i).filter (rz_p D (i + D.n))).head?)), (12, .null)] := hl
        refine lv_iinc (v := (nI (i + 1))) (lv' := [(7, .int (nI (i + 1))), (0, .ref m), (1, .ref D.tb), (2, .int (nI D.n)), (4, .int (nI (2 * D.n))), (6, .ref q_21), (9, va_rf (((D.B i).filter (rz_p D i)).head?)), (10, .ref y_44), (11, va_rf (((D.B i).filter (rz_p D (i + D.n))).head?)), (12, .null)]) hx hb dJ4_resize_347 hl (k := 5) rfl (nx_iinc rfl) (by decide) rfl (fun ls hl => ?_)
        refine lv_goto (tgt := 151) hx hb dJ4_resize_350 (by decide) ?_
        have hRK : rz_I D (i + 1) (va_up nx1 y_44 none) (va_up f i none) (va_up T i (((D.B i).filter (rz_p D i)).head?)) := by
          have h9 := rz_end (nx := nx1) (f := f) (fo := (va_up f i none)) (fun _ => trivial) (fun b h1 h2 => by rw [va_up_ne _ _ (by omega)]; exact (hRI.1 b (by omega) h2).1) (fun j h1 h2 => hRI.2.2 j h1 h2) hRJ hi (hI.bn i hi) hdis
          unfold rz_t at h9
          rw [hq_43, hq_47] at h9
          exact h9
        exact ih _ _ _ _ hg ⟨_, _, _, hm, htb, hq, hN, hfr, hRK, lv_sub hl [1, 2, 3, 4, 5, 0] rfl⟩
      rw [hq_47] at hl
      have hl : lv_has ls 14 [(0, .ref m), (1, .ref D.tb), (2, .int (nI D.n)), (4, .int (nI (2 * D.n))), (6, .ref q_21), (7, .int (nI i)), (9, va_rf (((D.B i).filter (rz_p D i)).head?)), (10, .ref y_44), (11, va_rf (((D.B i).filter (rz_p D (i + D.n))).head?)), (12, .ref y_48)] := hl
      have htm := List.mem_filter.mp (List.mem_of_getLast? hq_47)
      have htLy_48 : y_48 ∈ D.L := hI.mem hi htm.1
      refine lv_aload hx hb dJ4_resize_332 (lv_at hl 9 rfl) ?_
      refine lv_null hx hb dJ4_resize_334 ?_
      refine gh_put (v := .null) hC hg (hN y_48 htLy_48) (fNJ4_177 (hI.len.2 y_48 htLy_48)) rfl rfl (gh_len (by decide)) dJ4_resize_335 (fun g H locs hg hw hn => ?_)
      have hm : g m = some ((o, k, 0), oo 13 [.ref q_21, va_rf D.es, .int (nI sz), .int D.mc, .int (nI (3 * (2 * D.n) / 4)), .float 1061158912, va_rf D.ks, va_rf D.vs, va_rf (D.L.head?), va_rf (D.L.getLast?), .int 0, .int 0]) := (hn _ (gh_neI hm (hN y_48 htLy_48) rfl)).trans hm
      have htb : g D.tb = some ((o, k, 1), aq V 9 D.n (va_up f i none)) := (hn _ (gh_neI htb (hN y_48 htLy_48) rfl)).trans htb
      have hq : g q_21 = some ((o, k, 1), aq V 9 (2 * D.n) (va_up T i (((D.B i).filter (rz_p D i)).head?))) := (hn _ (gh_neI hq (hN y_48 htLy_48) rfl)).trans hq
      have hfr : ∀ b, b ≠ m → b ≠ D.tb → b ≠ q_21 → b ∉ D.L → g b = g0 b := fun b h1 h2 h3 h4 => (hn b (fun e => h4 (e ▸ htLy_48))).trans (hfr b h1 h2 h3 h4)
      have hN : ∀ a, a ∈ D.L → g a = some ((o, k, 2), oo (D.ci a) (.int (nI (hm_sp (D.C a))) :: .ref (D.K a) :: va_rf (D.v a) :: va_rf ((va_up (va_up nx1 y_44 none) y_48 none) a) :: va_rf (pvL D.L a) :: va_rf (scL D.L a) :: D.ex a)) := by
        intro a ha
        by_cases e9 : a = y_48
        · rw [e9, va_up_self]; exact hw
        · rw [va_up_ne _ _ e9]; exact (hn _ e9).trans (hN a ha)
      refine lv_aload hx hb dJ4_resize_338 (lv_at hl 4 rfl) ?_
      refine lv_iload hx hb dJ4_resize_340 (lv_at hl 5 rfl) ?_
      refine lv_iload_n hx hb dJ4_resize_342 rfl (lv_at hl 2 rfl) ?_
      refine lv_iadd hx hb dJ4_resize_343 ?_
      refine lv_aloadQ hx hb dJ4_resize_344 (lv_at hl 8 rfl) ?_
      refine gh_qastQ (n := (2 * D.n)) (f := (va_up T i (((D.B i).filter (rz_p D i)).head?))) hC hg hq rfl (fun y9 hy9 => by have h8 := hI.mem hi (List.mem_filter.mp (List.mem_of_head? hy9)).1; have h9 := hN y9 h8; rw [h14 y9 h8] at h9; exact ⟨_, _, h9⟩) rfl (hC.2.2.1.1 _ (gh_nwm q4473 rfl)) (nx_add rfl rfl) (by omega) (by omega) dJ4_resize_346 (fun g H locs hg hw hn => ?_)
      have hm : g m = some ((o, k, 0), oo 13 [.ref q_21, va_rf D.es, .int (nI sz), .int D.mc, .int (nI (3 * (2 * D.n) / 4)), .float 1061158912, va_rf D.ks, va_rf D.vs, va_rf (D.L.head?), va_rf (D.L.getLast?), .int 0, .int 0]) := (hn _ (gh_neI hm hq rfl)).trans hm
      have htb : g D.tb = some ((o, k, 1), aq V 9 D.n (va_up f i none)) := (hn _ hqt).trans htb
      have hN : ∀ a, a ∈ D.L → g a = some ((o, k, 2), oo (D.ci a) (.int (nI (hm_sp (D.C a))) :: .ref (D.K a) :: va_rf (D.v a) :: va_rf ((va_up (va_up nx1 y_44 none) y_48 none) a) :: va_rf (pvL D.L a) :: va_rf (scL D.L a) :: D.ex a)) := fun a ha => (hn _ (gh_neI (hN a ha) hq rfl)).trans (hN a ha)
      have hfr : ∀ b, b ≠ m → b ≠ D.tb → b ≠ q_21 → b ∉ D.L → g b = g0 b := fun b h1 h2 h3 h4 => (hn b h3).trans (hfr b h1 h2 h3 h4)
      have hq : g q_21 = some ((o, k, 1), aq V 9 (2 * D.n) (va_up (va_up T i (((D.B i).filter (rz_p D i)).head?)) (i + D.n) (((D.B i).filter (rz_p D (i + D.n))).head?))) := hw
      refine lv_iinc (v := (nI (i + 1))) (lv' := [(7, .int (nI (i + 1))), (0, .ref m), (1, .ref D.tb), (2, .int (nI D.n)), (4, .int (nI (2 * D.n))), (6, .ref q_21), (9, va_rf (((D.B i).filter (rz_p D i)).head?)), (10, .ref y_44), (11, va_rf (((D.B i).filter (rz_p D (i + D.n))).head?)), (12, .ref y_48)]) hx hb dJ4_resize_347 hl (k := 5) rfl (nx_iinc rfl) (by decide) rfl (fun ls hl => ?_)
      refine lv_goto (tgt := 151) hx hb dJ4_resize_350 (by decide) ?_
      have hRK : rz_I D (i + 1) (va_up (va_up nx1 y_44 none) y_48 none) (va_up f i none) (va_up (va_up T i (((D.B i).filter (rz_p D i)).head?)) (i + D.n) (((D.B i).filter (rz_p D (i + D.n))).head?)) := by
        have h9 := rz_end (nx := nx1) (f := f) (fo := (va_up f i none)) (fun _ => trivial) (fun b h1 h2 => by rw [va_up_ne _ _ (by omega)]; exact (hRI.1 b (by omega) h2).1) (fun j h1 h2 => hRI.2.2 j h1 h2) hRJ hi (hI.bn i hi) hdis
        unfold rz_t at h9
        rw [hq_43, hq_47] at h9
        exact h9
      exact ih _ _ _ _ hg ⟨_, _, _, hm, htb, hq, hN, hfr, hRK, lv_sub hl [1, 2, 3, 4, 5, 0] rfl⟩
    have hl1 := rz_nil hnx1 hq_27
    rw [hl1] at hB1
    refine lv_aload hx hb dJ4_resize_180 (lv_at hl 5 rfl) ?_
    refine lv_aload hx hb dJ4_resize_182 (lv_at hl 0 rfl) ?_
    refine gh_getr (v := .int (nI (hm_sp (D.C y_26)))) hC hg (hN y_26 heL) (rfNJ4_168 (hI.len.2 y_26 heL)) rfl dJ4_resize_184 ?_
    refine lv_iload hx hb dJ4_resize_187 (lv_at hl 4 rfl) ?_
    refine lv_iconst (v := 1) hx hb dJ4_resize_189 (by decide) ?_
    refine lv_isub hx hb dJ4_resize_190 ?_
    refine lv_iand hx hb dJ4_resize_191 ?_
    refine W.eq (g2 := F0 mm 192 ls [.int (nI (hm_sp (D.C y_26) % (2 * D.n))), .ref q_21]) (by rw [(hm_idx9c (n := 2 * D.n) (j := j + 1) rfl (nx_sub rfl (show ((1 : Int32)) = nI 1 from rfl) (by omega)) (by rw [hj, Nat.pow_succ, Nat.mul_comm]) rfl)] <;> rfl) ?_
    refine lv_aload hx hb dJ4_resize_192 (lv_at hl 0 rfl) ?_
    refine gh_qastO (n := (2 * D.n)) (f := T) (r := (RJ36, TJ36, 6)) hC hg hq rfl (hN y_26 heL) (by rw [(h14 y_26 heL)]; rfl) (hC.2.2.1.1 _ (gh_nwm q4473 rfl)) rfl (Nat.mod_lt _ (by omega)) (by omega) dJ4_resize_194 (fun g H locs hg hw hn => ?_)
    have hm : g m = some ((o, k, 0), oo 13 [.ref q_21, va_rf D.es, .int (nI sz), .int D.mc, .int (nI (3 * (2 * D.n) / 4)), .float 1061158912, va_rf D.ks, va_rf D.vs, va_rf (D.L.head?), va_rf (D.L.getLast?), .int 0, .int 0]) := (hn _ (gh_neI hm hq rfl)).trans hm
    have htb : g D.tb = some ((o, k, 1), aq V 9 D.n (va_up f i none)) := (hn _ hqt).trans htb
    have hN : ∀ a, a ∈ D.L → g a = some ((o, k, 2), oo (D.ci a) (.int (nI (hm_sp (D.C a))) :: .ref (D.K a) :: va_rf (D.v a) :: va_rf (nx a) :: va_rf (pvL D.L a) :: va_rf (scL D.L a) :: D.ex a)) := fun a ha => (hn _ (gh_neI (hN a ha) hq rfl)).trans (hN a ha)
    have hfr : ∀ b, b ≠ m → b ≠ D.tb → b ≠ q_21 → b ∉ D.L → g b = g0 b := fun b h1 h2 h3 h4 => (hn b h3).trans (hfr b h1 h2 h3 h4)
    have hq : g q_21 = some ((o, k, 1), aq V 9 (2 * D.n) (va_up T (hm_sp (D.C y_26) % (2 * D.n)) (some y_26))) := hw
    refine lv_goto (tgt := 347) hx hb dJ4_resize_195 (by decide) ?_
    refine lv_iinc (v := (nI (i + 1))) (lv' := [(7, .int (nI (i + 1))), (8, .ref y_26), (0, .ref m), (1, .ref D.tb), (2, .int (nI D.n)), (4, .int (nI (2 * D.n))), (6, .ref q_21)]) hx hb dJ4_resize_347 hl (k := 6) rfl (nx_iinc rfl) (by decide) rfl (fun ls hl => ?_)
    refine lv_goto (tgt := 151) hx hb dJ4_resize_350 (by decide) ?_
    exact ih _ _ _ _ hg ⟨_, _, _, hm, htb, hq, hN, hfr, rz_one hRI hi hB1 hesp, lv_sub hl [2, 3, 4, 5, 6, 0] rfl⟩
