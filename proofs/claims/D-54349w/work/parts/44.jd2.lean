/-! KEYS: a key object has a code; LISTS: neighbours; CHAINS -/
/-- key object x of class number ck (9 PieceKey, 10 PlanKey) has code c -/
def ky_P (V : gh_V) (g : gh_G) (ck x c : Nat) : Prop := ∃ u w : Nat, g x = some ((V.2.2 9, 1, 0), oo ck [.int (nI u), .int (nI w)]) ∧ ((ck = 9 ∧ u < 12 ∧ w < 20 ∧ c = 20 * u + w) ∨ (ck = 10 ∧ u < 10000 ∧ w < 8 ∧ c = 8 * u + w))
theorem ky_P.lt {V : gh_V} {g : gh_G} {ck x c : Nat} (h : ky_P V g ck x c) : c < 80000 := by
  obtain ⟨u, w, -, h | h⟩ := h <;> omega
theorem ky_P.ck {V : gh_V} {g : gh_G} {ck x c : Nat} (h : ky_P V g ck x c) : ck = 9 ∨ ck = 10 := by
  obtain ⟨u, w, -, h | h⟩ := h
  · exact Or.inl h.1
  · exact Or.inr h.1
theorem ky_P.fk {V : gh_V} {g g1 : gh_G} {ck x c o k : Nat} (h : ky_P V g ck x c) (hf : gh_fk o k g g1) (hk : 10 ≤ k) : ky_P V g1 ck x c := by
  obtain ⟨u, w, h1, h2⟩ := h
  exact ⟨u, w, hf _ _ _ h1 (fun e => by have : (1 : Nat) = k := e.2; omega), h2⟩
theorem ky_P.keep {V : gh_V} {g g1 : gh_G} {ck x c : Nat} (h : ky_P V g ck x c) (hf : ∀ t e, g x = some (t, e) → t.2.1 = 1 → g1 x = some (t, e)) : ky_P V g1 ck x c := by
  obtain ⟨u, w, h1, h2⟩ := h
  exact ⟨u, w, hf _ _ h1 rfl, h2⟩
def hm_sp (c : Nat) : Nat := c ^^^ (c / 65536)
theorem hm_sp_lo {c : Nat} (h : c < 65536) : hm_sp c = c := by unfold hm_sp; rw [Nat.div_eq_of_lt h, Nat.xor_zero]
theorem hm_sp_hi {c : Nat} (h : 65536 ≤ c) (h2 : c < 131072) : hm_sp c = c ^^^ 1 := by unfold hm_sp; rw [show c / 65536 = 1 by omega]
theorem hm_x1 (c : Nat) : (c ^^^ 1) ^^^ 1 = c := by rw [Nat.xor_assoc, Nat.xor_self, Nat.xor_zero]
theorem hm_x1d (c : Nat) : (c ^^^ 1) / 2 = c / 2 := by
  have h := Nat.shiftRight_xor_distrib (a := c) (b := 1) (i := 1)
  rw [Nat.shiftRight_eq_div_pow, Nat.shiftRight_eq_div_pow, Nat.shiftRight_eq_div_pow] at h
  simpa using h
theorem hm_sp_lt {c : Nat} (h : c < 131072) : hm_sp c < 131072 := by
  rcases Nat.lt_or_ge c 65536 with h1 | h1
  · rw [hm_sp_lo h1]; exact h
  · rw [hm_sp_hi h1 h]; have := hm_x1d c; omega
theorem hm_sp_inj {c d : Nat} (hc : c < 131072) (hd : d < 131072) (h : hm_sp c = hm_sp d) : c = d := by
  rcases Nat.lt_or_ge c 65536 with h1 | h1
  · rw [hm_sp_lo h1] at h
    rcases Nat.lt_or_ge d 65536 with h2 | h2
    · rw [hm_sp_lo h2] at h; exact h
    · rw [hm_sp_hi h2 hd] at h; have := hm_x1d d; omega
  · rw [hm_sp_hi h1 hc] at h
    rcases Nat.lt_or_ge d 65536 with h2 | h2
    · rw [hm_sp_lo h2] at h; have := hm_x1d c; omega
    · rw [hm_sp_hi h2 hd] at h
      rw [← hm_x1 c, ← hm_x1 d, h]
/-- who follows a in the list -/
def scL : List Nat → Nat → Option Nat
  | [], _ => none
  | x :: l, a => if x = a then l.head? else scL l a
def pvL (l : List Nat) (a : Nat) : Option Nat := scL l.reverse a
theorem scL_not {l : List Nat} {a : Nat} (h : a ∉ l) : scL l a = none := by
  induction l with
  | nil => rfl
  | cons x l ih =>
    rw [scL, if_neg (fun e => h (by rw [e]; exact List.mem_cons_self)), ih (fun e => h (List.mem_cons_of_mem _ e))]
theorem scL_at {l1 l2 : List Nat} {a : Nat} (h : a ∉ l1) : scL (l1 ++ a :: l2) a = l2.head? := by
  induction l1 with
  | nil => exact if_pos rfl
  | cons x l ih =>
    show (if x = a then (l ++ a :: l2).head? else scL (l ++ a :: l2) a) = _
    rw [if_neg (fun e => h (by rw [e]; exact List.mem_cons_self)), ih (fun e => h (List.mem_cons_of_mem _ e))]
theorem scL_r {l1 l2 : List Nat} {a : Nat} (h : a ∉ l1) : scL (l1 ++ l2) a = scL l2 a := by
  induction l1 with
  | nil => rfl
  | cons x l ih =>
    show (if x = a then (l ++ l2).head? else scL (l ++ l2) a) = _
    rw [if_neg (fun e => h (by rw [e]; exact List.mem_cons_self)), ih (fun e => h (List.mem_cons_of_mem _ e))]
theorem scL_l {l1 l2 : List Nat} {a b : Nat} (h : a ∈ l1) (hl : l1.getLast? ≠ some a) : scL (l1 ++ l2) a = scL l1 a := by
  induction l1 with
  | nil => cases h
  | cons x l ih =>
    show (if x = a then (l ++ l2).head? else scL (l ++ l2) a) = (if x = a then l.head? else scL l a)
    by_cases e : x = a
    · rw [if_pos e, if_pos e]
      cases l with
      | nil => exact absurd (by rw [e]; rfl) hl
      | cons y l => rfl
    · rw [if_neg e, if_neg e]
      have hm : a ∈ l := by
        rcases List.mem_cons.mp h with h | h
        · exact absurd h.symm e
        · exact h
      refine ih hm (fun h9 => hl ?_)
      cases l with
      | nil => cases hm
      | cons y l => rw [List.getLast?_cons_cons]; exact h9
theorem scL_app {l : List Nat} {p a : Nat} (h : a ∈ l) (hn : l.Nodup) : scL (l ++ [p]) a = if l.getLast? = some a then some p else scL l a := by
  by_cases e : l.getLast? = some a
  · rw [if_pos e]
    obtain ⟨l1, rfl⟩ : ∃ l1, l = l1 ++ [a] := List.getLast?_eq_some_iff.mp e
    rw [List.append_assoc]
    exact scL_at (l2 := [p]) (fun q => (List.nodup_append.mp hn).2.2 a q a (List.mem_singleton.mpr rfl) rfl)
  · rw [if_neg e]; exact scL_l (b := 0) h e
theorem scL_last {l : List Nat} {p : Nat} (h : p ∉ l) : scL (l ++ [p]) p = none := scL_at (l2 := []) h
theorem pvL_last {l : List Nat} {p : Nat} : pvL (l ++ [p]) p = l.getLast? := by
  show scL (l ++ [p]).reverse p = _
  rw [List.reverse_append]
  show scL (p :: l.reverse) p = _
  rw [scL, if_pos rfl, List.head?_reverse]
theorem pvL_app {l : List Nat} {p a : Nat} (h : ¬ a = p) : pvL (l ++ [p]) a = pvL l a := by
  show scL (l ++ [p]).reverse a = scL l.reverse a
  rw [List.reverse_append]
  show scL (p :: l.reverse) a = _
  rw [scL, if_neg (fun e => h e.symm)]
/-- a chain by next from p runs through l to its end -/
def hm_ch (nx : Nat → Option Nat) : Option Nat → List Nat → Prop
  | p, [] => p = none
  | p, a :: l => p = some a ∧ hm_ch nx (nx a) l
theorem hm_ch.congr {nx nx' : Nat → Option Nat} {p : Option Nat} {l : List Nat} (h : hm_ch nx p l) (he : ∀ a, a ∈ l → nx' a = nx a) : hm_ch nx' p l := by
  induction l generalizing p with
  | nil => exact h
  | cons a l ih => exact ⟨h.1, by rw [he a List.mem_cons_self]; exact ih h.2 (fun b hb => he b (List.mem_cons_of_mem _ hb))⟩
theorem hm_ch.head {nx : Nat → Option Nat} {p : Option Nat} {l : List Nat} (h : hm_ch nx p l) : p = l.head? := by
  cases l with
  | nil => exact h
  | cons a l => exact h.1
theorem hm_ch.next {nx : Nat → Option Nat} {p : Option Nat} {l1 l2 : List Nat} {a : Nat} (h : hm_ch nx p (l1 ++ a :: l2)) : hm_ch nx (nx a) l2 := by
  induction l1 generalizing p with
  | nil => exact h.2
  | cons b l ih => exact ih h.2
theorem hm_and {a n j : Nat} (h : n = 2 ^ j) : (n - 1) &&& a = a % n := by
  rw [h, Nat.and_comm]; exact Nat.and_two_pow_sub_one_eq_mod a j
set_option maxRecDepth 100000
theorem fX11_15_9 : gh_fd RX11 15 9 1 .int true := gh_fd.own (T := TX11) tyX11 rfl in_X11 tyX11_ok nmX11 (by decide) q1655 rfl rfl (fun h => rfl)
theorem fX11_9_9 : gh_fd RX11 9 9 0 .int true := gh_fd.own (T := TX11) tyX11 rfl in_X11 tyX11_ok nmX11 (by decide) q1652 rfl rfl (fun h => rfl)
theorem fX12_15_10 : gh_fd RX12 15 10 1 .int true := gh_fd.own (T := TX12) tyX12 rfl in_X12 tyX12_ok nmX12 (by decide) q2345 rfl rfl (fun h => rfl)
theorem fX12_9_10 : gh_fd RX12 9 10 0 .int true := gh_fd.own (T := TX12) tyX12 rfl in_X12 tyX12_ok nmX12 (by decide) q2343 rfl rfl (fun h => rfl)
set_option maxHeartbeats 1000000 in
set_option maxRecDepth 100000 in
theorem j_X11_hashCode (l : Launch) (V : gh_V) (g0 : gh_G) (x u v : Nat) (hk1 : g0 x = some ((V.2.2 9, 1, 0), oo 9 [.int (nI u), .int (nI v)])) : MI l yX11_hashCode cX11_hashCode 1 (some .int) ({ frames := 0, cells := 0, slots := 0, locals := 0 } : Room) V [.ref x] g0 (fun r g1 => r = nI (20 * u + v) ∧ g1 = g0) := by
  refine MG.of RX11 (by decide) rfl (Nat.le_of_ble_eq_true rfl) (fun pp ee s mm args below meth c ls hC hg hr hlk hnm hl => ?_)
  have hx := hC.1.1
  have hb := hC.1.2.1
  have hml := hC.1.2.2.1
  have hown := hC.1.2.2.2.1
  have hts := hC.1.2.2.2.2
  have hl : lv_has ls 1 [(0, .ref x)] := hl
  obtain ⟨g, hg, hgg⟩ : ∃ g, gh_W V (gh_A g0 s.heap.size) s g s.heap [] ∧ g = g0 := ⟨g0, hg, rfl⟩
  rw [← hgg] at hk1
  refine lv_bipush (v := 20) hx hb dX11_hashCode_0 (by decide) ?_
  refine lv_aload_n hx hb dX11_hashCode_2 rfl (lv_at hl 0 rfl) ?_
  refine gh_get (v := .int (nI u)) hC hg hk1 fX11_9_9 rfl dX11_hashCode_3 ?_
  refine lv_imul hx hb dX11_hashCode_6 ?_
  refine lv_aload_n hx hb dX11_hashCode_7 rfl (lv_at hl 0 rfl) ?_
  refine gh_get (v := .int (nI v)) hC hg hk1 fX11_15_9 rfl dX11_hashCode_8 ?_
  refine lv_iadd hx hb dX11_hashCode_11 ?_
  exact gh_reti hC hg hr hlk (⟨by rw [show ((20 * (nI u)) + (nI v)) = nI (((20 * u) + v)) from (nx_add (nx_mul (show ((20 : Int32)) = nI 20 from rfl) rfl) rfl)], hgg⟩) dX11_hashCode_12 (Nat.le_of_ble_eq_true rfl) (Nat.le_of_ble_eq_true rfl)
set_option maxHeartbeats 1000000 in
set_option maxRecDepth 100000 in
theorem j_X11_equals (l : Launch) (V : gh_V) (g0 : gh_G) (x y u v u2 v2 : Nat) (bu : u < 10000) (bv : v < 10000) (bu2 : u2 < 10000) (bv2 : v2 < 10000) (hk1 : g0 x = some ((V.2.2 9, 1, 0), oo 9 [.int (nI u), .int (nI v)])) (hk2 : g0 y = some ((V.2.2 9, 1, 0), oo 9 [.int (nI u2), .int (nI v2)])) : MI l yX11_equals cX11_equals 3 (some .boolean) ({ frames := 0, cells := 0, slots := 0, locals := 0 } : Room) V [.ref x, .ref y] g0 (fun r g1 => r = (if u = u2 ∧ v = v2 then 1 else 0) ∧ g1 = g0) := by
  refine MG.of RX11 (by decide) rfl (Nat.le_of_ble_eq_true rfl) (fun pp ee s mm args below meth c ls hC hg hr hlk hnm hl => ?_)
  have hx := hC.1.1
  have hb := hC.1.2.1
  have hml := hC.1.2.2.1
  have hown := hC.1.2.2.2.1
  have hts := hC.1.2.2.2.2
  have hl : lv_has ls 3 [(0, .ref x), (1, .ref y)] := hl
  obtain ⟨g, hg, hgg⟩ : ∃ g, gh_W V (gh_A g0 s.heap.size) s g s.heap [] ∧ g = g0 := ⟨g0, hg, rfl⟩
  rw [← hgg] at hk1 hk2
  refine lv_aload_n hx hb dX11_equals_0 rfl (lv_at hl 1 rfl) ?_
  refine gh_instS hC hg hk2 rfl q2180 dX11_equals_1 ?_
  refine lv_if_eq (tgt := 38) hx hb dX11_equals_4 (by decide) (fun c_1 => (absurd ((nx_eq (show ((1 : Int32)) = nI 1 from rfl) (show ((0 : Int32)) = nI 0 from rfl) (by omega) (by omega)).mp c_1) (by omega))) (fun _ => ?_)
  refine lv_aload_n hx hb dX11_equals_7 rfl (lv_at hl 1 rfl) ?_
  refine gh_castS hC hg hk2 rfl q2180 dX11_equals_8 ?_
  refine lv_astore_n (lv' := [(2, .ref y), (0, .ref x), (1, .ref y)]) hx hb dX11_equals_11 rfl hl (by decide) rfl (fun ls hl => ?_)
  refine lv_aload_n hx hb dX11_equals_12 rfl (lv_at hl 0 rfl) ?_
  refine gh_get (v := .int (nI u2)) hC hg hk2 fX11_9_9 rfl dX11_equals_13 ?_
  refine lv_aload_n hx hb dX11_equals_16 rfl (lv_at hl 1 rfl) ?_
  refine gh_get (v := .int (nI u)) hC hg hk1 fX11_9_9 rfl dX11_equals_17 ?_
  refine lv_icmp_ne (tgt := 38) hx hb dX11_equals_20 (by decide) (fun c_2 => ?_) (fun c_2 => ?_)
  · skip
    have c_2 : ¬ u2 = u := fun h9 => c_2 ((nx_eq rfl rfl (by omega) (by omega)).mpr h9)
    refine lv_iconst (v := 0) hx hb dX11_equals_38 (by decide) ?_
    exact gh_retz rfl hC hg hr hlk (⟨(if_neg (fun h9 => by omega)).symm, hgg⟩) dX11_equals_39 (Nat.le_of_ble_eq_true rfl) (Nat.le_of_ble_eq_true rfl)
  have c_2 : u2 = u := (nx_eq rfl rfl (by omega) (by omega)).mp c_2
  refine lv_aload_n hx hb dX11_equals_23 rfl (lv_at hl 0 rfl) ?_
  refine gh_get (v := .int (nI v2)) hC hg hk2 fX11_15_9 rfl dX11_equals_24 ?_
  refine lv_aload_n hx hb dX11_equals_27 rfl (lv_at hl 1 rfl) ?_
  refine gh_get (v := .int (nI v)) hC hg hk1 fX11_15_9 rfl dX11_equals_28 ?_
  refine lv_icmp_ne (tgt := 38) hx hb dX11_equals_31 (by decide) (fun c_3 => ?_) (fun c_3 => ?_)
  · skip
    have c_3 : ¬ v2 = v := fun h9 => c_3 ((nx_eq rfl rfl (by omega) (by omega)).mpr h9)
    refine lv_iconst (v := 0) hx hb dX11_equals_38 (by decide) ?_
    exact gh_retz rfl hC hg hr hlk (⟨(if_neg (fun h9 => by omega)).symm, hgg⟩) dX11_equals_39 (Nat.le_of_ble_eq_true rfl) (Nat.le_of_ble_eq_true rfl)
  have c_3 : v2 = v := (nx_eq rfl rfl (by omega) (by omega)).mp c_3
  refine lv_iconst (v := 1) hx hb dX11_equals_34 (by decide) ?_
  refine lv_goto (tgt := 39) hx hb dX11_equals_35 (by decide) ?_
  exact gh_retz rfl hC hg hr hlk (⟨(if_pos ⟨by omega, by omega⟩).symm, hgg⟩) dX11_equals_39 (Nat.le_of_ble_eq_true rfl) (Nat.le_of_ble_eq_true rfl)
set_option maxHeartbeats 1000000 in
set_option maxRecDepth 100000 in
theorem j_X12_hashCode (l : Launch) (V : gh_V) (g0 : gh_G) (x u v : Nat) (hk1 : g0 x = some ((V.2.2 9, 1, 0), oo 10 [.int (nI u), .int (nI v)])) : MI l yX12_hashCode cX12_hashCode 1 (some .int) ({ frames := 0, cells := 0, slots := 0, locals := 0 } : Room) V [.ref x] g0 (fun r g1 => r = nI (8 * u + v) ∧ g1 = g0) := by
  refine MG.of RX12 (by decide) rfl (Nat.le_of_ble_eq_true rfl) (fun pp ee s mm args below meth c ls hC hg hr hlk hnm hl => ?_)
  have hx := hC.1.1
  have hb := hC.1.2.1
  have hml := hC.1.2.2.1
  have hown := hC.1.2.2.2.1
  have hts := hC.1.2.2.2.2
  have hl : lv_has ls 1 [(0, .ref x)] := hl
  obtain ⟨g, hg, hgg⟩ : ∃ g, gh_W V (gh_A g0 s.heap.size) s g s.heap [] ∧ g = g0 := ⟨g0, hg, rfl⟩
  rw [← hgg] at hk1
  refine lv_bipush (v := 8) hx hb dX12_hashCode_0 (by decide) ?_
  refine lv_aload_n hx hb dX12_hashCode_2 rfl (lv_at hl 0 rfl) ?_
  refine gh_get (v := .int (nI u)) hC hg hk1 fX12_9_10 rfl dX12_hashCode_3 ?_
  refine lv_imul hx hb dX12_hashCode_6 ?_
  refine lv_aload_n hx hb dX12_hashCode_7 rfl (lv_at hl 0 rfl) ?_
  refine gh_get (v := .int (nI v)) hC hg hk1 fX12_15_10 rfl dX12_hashCode_8 ?_
  refine lv_iadd hx hb dX12_hashCode_11 ?_
  exact gh_reti hC hg hr hlk (⟨by rw [show ((8 * (nI u)) + (nI v)) = nI (((8 * u) + v)) from (nx_add (nx_mul (show ((8 : Int32)) = nI 8 from rfl) rfl) rfl)], hgg⟩) dX12_hashCode_12 (Nat.le_of_ble_eq_true rfl) (Nat.le_of_ble_eq_true rfl)
set_option maxHeartbeats 1000000 in
set_option maxRecDepth 100000 in
theorem j_X12_equals (l : Launch) (V : gh_V) (g0 : gh_G) (x y u v u2 v2 : Nat) (bu : u < 10000) (bv : v < 10000) (bu2 : u2 < 10000) (bv2 : v2 < 10000) (hk1 : g0 x = some ((V.2.2 9, 1, 0), oo 10 [.int (nI u), .int (nI v)])) (hk2 : g0 y = some ((V.2.2 9, 1, 0), oo 10 [.int (nI u2), .int (nI v2)])) : MI l yX12_equals cX12_equals 3 (some .boolean) ({ frames := 0, cells := 0, slots := 0, locals := 0 } : Room) V [.ref x, .ref y] g0 (fun r g1 => r = (if u = u2 ∧ v = v2 then 1 else 0) ∧ g1 = g0) := by
  refine MG.of RX12 (by decide) rfl (Nat.le_of_ble_eq_true rfl) (fun pp ee s mm args below meth c ls hC hg hr hlk hnm hl => ?_)
  have hx := hC.1.1
  have hb := hC.1.2.1
  have hml := hC.1.2.2.1
  have hown := hC.1.2.2.2.1
  have hts := hC.1.2.2.2.2
  have hl : lv_has ls 3 [(0, .ref x), (1, .ref y)] := hl
  obtain ⟨g, hg, hgg⟩ : ∃ g, gh_W V (gh_A g0 s.heap.size) s g s.heap [] ∧ g = g0 := ⟨g0, hg, rfl⟩
  rw [← hgg] at hk1 hk2
  refine lv_aload_n hx hb dX12_equals_0 rfl (lv_at hl 1 rfl) ?_
  refine gh_instS hC hg hk2 rfl q2184 dX12_equals_1 ?_
  refine lv_if_eq (tgt := 38) hx hb dX12_equals_4 (by decide) (fun c_1 => (absurd ((nx_eq (show ((1 : Int32)) = nI 1 from rfl) (show ((0 : Int32)) = nI 0 from rfl) (by omega) (by omega)).mp c_1) (by omega))) (fun _ => ?_)
  refine lv_aload_n hx hb dX12_equals_7 rfl (lv_at hl 1 rfl) ?_
  refine gh_castS hC hg hk2 rfl q2184 dX12_equals_8 ?_
  refine lv_astore_n (lv' := [(2, .ref y), (0, .ref x), (1, .ref y)]) hx hb dX12_equals_11 rfl hl (by decide) rfl (fun ls hl => ?_)
  refine lv_aload_n hx hb dX12_equals_12 rfl (lv_at hl 0 rfl) ?_
  refine gh_get (v := .int (nI u2)) hC hg hk2 fX12_9_10 rfl dX12_equals_13 ?_
  refine lv_aload_n hx hb dX12_equals_16 rfl (lv_at hl 1 rfl) ?_
  refine gh_get (v := .int (nI u)) hC hg hk1 fX12_9_10 rfl dX12_equals_17 ?_
  refine lv_icmp_ne (tgt := 38) hx hb dX12_equals_20 (by decide) (fun c_2 => ?_) (fun c_2 => ?_)
  · skip
    have c_2 : ¬ u2 = u := fun h9 => c_2 ((nx_eq rfl rfl (by omega) (by omega)).mpr h9)
    refine lv_iconst (v := 0) hx hb dX12_equals_38 (by decide) ?_
    exact gh_retz rfl hC hg hr hlk (⟨(if_neg (fun h9 => by omega)).symm, hgg⟩) dX12_equals_39 (Nat.le_of_ble_eq_true rfl) (Nat.le_of_ble_eq_true rfl)
  have c_2 : u2 = u := (nx_eq rfl rfl (by omega) (by omega)).mp c_2
  refine lv_aload_n hx hb dX12_equals_23 rfl (lv_at hl 0 rfl) ?_
  refine gh_get (v := .int (nI v2)) hC hg hk2 fX12_15_10 rfl dX12_equals_24 ?_
  refine lv_aload_n hx hb dX12_equals_27 rfl (lv_at hl 1 rfl) ?_
  refine gh_get (v := .int (nI v)) hC hg hk1 fX12_15_10 rfl dX12_equals_28 ?_
  refine lv_icmp_ne (tgt := 38) hx hb dX12_equals_31 (by decide) (fun c_3 => ?_) (fun c_3 => ?_)
  · skip
    have c_3 : ¬ v2 = v := fun h9 => c_3 ((nx_eq rfl rfl (by omega) (by omega)).mpr h9)
    refine lv_iconst (v := 0) hx hb dX12_equals_38 (by decide) ?_
    exact gh_retz rfl hC hg hr hlk (⟨(if_neg (fun h9 => by omega)).symm, hgg⟩) dX12_equals_39 (Nat.le_of_ble_eq_true rfl) (Nat.le_of_ble_eq_true rfl)
  have c_3 : v2 = v := (nx_eq rfl rfl (by omega) (by omega)).mp c_3
  refine lv_iconst (v := 1) hx hb dX12_equals_34 (by decide) ?_
  refine lv_goto (tgt := 39) hx hb dX12_equals_35 (by decide) ?_
  exact gh_retz rfl hC hg hr hlk (⟨(if_pos ⟨by omega, by omega⟩).symm, hgg⟩) dX12_equals_39 (Nat.le_of_ble_eq_true rfl) (Nat.le_of_ble_eq_true rfl)
