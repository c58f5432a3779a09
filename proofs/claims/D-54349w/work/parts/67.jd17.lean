section GhConsts
variable {V : gh_V} {p : Program} {l : Launch} {e : Env} {R : Room} {s : State} {m : MethodId} {args : Array Value} {below : List Frame} {meth : Method} {c : Code} {H : Heap} {locs : List Loc} {cells slots : Nat} {Q : State → Prop} {cc : ByteArray} {nL : Nat} {own : String} {A : Nat → Prop} {g : gh_G} {pc : Nat} {ls : Array Slot} {rest : List Value}
/-- an Integer out of the cache -/
theorem gh_ialdK (hC : gh_C V p s m args c cc nL own A) (hg : gh_W V A s g H locs) {x : Int32} {j : Nat} (hx : x = nI j) (hj : j < 256) (hdg : decode cc pc = .ok (.aaload, 1))
    (kk : W p l e R s m args below meth c H locs cells slots Q (F0 m (pc + 1) ls (.ref (V.2.2 (10 + j)) :: rest))) : W p l e R s m args below meth c H locs cells slots Q (F0 m pc ls (.int x :: .ref (V.2.2 6) :: rest)) := by
  have h0 : x.toNatClampNeg = j := nx_cl hx hj (by decide)
  exact vb_tq hC.1.1 hC.1.2.1 hC.2.2.2.2.2.2.2.2.2.1 hg.2.2.1 (nx_in hx hj (by decide)) (by rw [h0]) hdg kk
theorem gh_Irec (hC : gh_C V p s m args c cc nL own A) (hg : gh_W V A s g H locs) {j : Nat} (hj : j < 256) : ∃ cellB : Cell, H[V.2.2 (10 + j)]? = some cellB ∧ cellB.vm.isStatics = false ∧ s.vm.findClass "java/lang/Integer" = some cellB.cls := va_Orecv (hC.2.2.2.2.2.2.2.2.1.1 j hj) hg.2.2.1
theorem gh_Ival (hC : gh_C V p s m args c cc nL own A) (hg : gh_W V A s g H locs) {j index : Nat} (hj : j < 256) (hlink : Cond.fieldLink own index "java/lang/Integer" "value" "I" ∈ lw_all) (hdg : decode cc pc = .ok (.getfield index, 3))
    (kk : W p l e R s m args below meth c H locs cells slots Q (F0 m (pc + 3) ls (.int (vb_c j) :: rest))) : W p l e R s m args below meth c H locs cells slots Q (F0 m pc ls (.ref (V.2.2 (10 + j)) :: rest)) :=
  vk_getf hC.1.1 hC.1.2.1 (hC.2.2.2.2.2.2.2.2.1.2 j hj) hg.2.2.1 hC.1.2.2.2.1 (hC.1.2.2.2.2 _ hlink) (fun _ h => h) hdg kk
theorem gh_castI (hC : gh_C V p s m args c cc nL own A) (hg : gh_W V A s g H locs) {j index : Nat} (hj : j < 256) (hlink : Cond.classLink own index "java/lang/Integer" ∈ lw_all) (hdg : decode cc pc = .ok (.checkcast index, 3))
    (kk : W p l e R s m args below meth c H locs cells slots Q (F0 m (pc + 3) ls (.ref (V.2.2 (10 + j)) :: rest))) : W p l e R s m args below meth c H locs cells slots Q (F0 m pc ls (.ref (V.2.2 (10 + j)) :: rest)) := by
  obtain ⟨cC, hat⟩ := gh_cat (C := "java/lang/Integer") (ci := 25) hC rfl
  exact va_castS hC.1.1 hC.1.2.1 hC.1.2.2.2.1 (hC.1.2.2.2.2 _ hlink) hat (gh_Irec hC hg hj) hdg kk
/-- a burner's number -/
theorem gh_ordK (hC : gh_C V p s m args c cc nL own A) (hg : gh_W V A s g H locs) {i index : Nat} (hi : i < 4) (hlink : Cond.fieldLink own index "java/lang/Enum" "ordinal" "I" ∈ lw_all) (hdg : decode cc pc = .ok (.getfield index, 3))
    (kk : W p l e R s m args below meth c H locs cells slots Q (F0 m (pc + 3) ls (.int (nI i) :: rest))) : W p l e R s m args below meth c H locs cells slots Q (F0 m pc ls (.ref (V.2.2 (2 + i)) :: rest)) :=
  vk_getf hC.1.1 hC.1.2.1 (hC.2.2.2.2.2.2.2.1 i hi) hg.2.2.1 hC.1.2.2.2.1 (hC.1.2.2.2.2 _ hlink) (fun _ h => h) hdg kk
end GhConsts
theorem dq_i1 : ∀ i, i < 17 → nI (i + 1) = nI (i + 1) ∧ (i + 1 < 17 → (i + 1) % 17 = i + 1) ∧ (¬ i + 1 < 17 → (i + 1) % 17 = 0) := fun i h => ⟨rfl, by omega, by omega⟩
theorem dq_s0 : ∀ i j, i < 17 → j < 17 → i < j → nI i - nI j < 0 ∧ nI i - nI j + nI 17 = nI (i + 17 - j) := by
  have h : ∀ i, i < 17 → ∀ j, j < 17 → i < j → nI i - nI j < 0 ∧ nI i - nI j + nI 17 = nI (i + 17 - j) := by decide +kernel
  exact fun i j h1 h2 h3 => h i h1 j h2 h3
/-- ARRAYDEQUE: the elements L from head h on, in an array of 17 -/
def dq_P (V : gh_V) (o k : Nat) (g : gh_G) (q : Nat) (L : List Nat) : Prop := ∃ (arr h : Nat) (f : Nat → Option Nat), g q = some ((o, k, 0), oo 17 [.ref arr, .int (nI h), .int (nI ((h + L.length) % 17))]) ∧ g arr = some ((o, k, 1), aq V 5 17 f) ∧ h < 17 ∧ L.length < 16 ∧ ∀ i, i < L.length → f ((h + i) % 17) = L[i]?
theorem dq_P.keep {V : gh_V} {o k : Nat} {g g1 : gh_G} {q : Nat} {L : List Nat} (h : dq_P V o k g q L) (hf : ∀ a t x, g a = some (t, x) → t.1 = o → t.2.1 = k → g1 a = some (t, x)) : dq_P V o k g1 q L := by
  obtain ⟨arr, hd, f, h1, h2, h3⟩ := h
  exact ⟨arr, hd, f, hf _ _ _ h1 rfl rfl, hf _ _ _ h2 rfl rfl, h3⟩
theorem dq_add {L : List Nat} {h x : Nat} {f : Nat → Option Nat} (hh : h < 17) (hL : L.length < 15) (hf : ∀ i, i < L.length → f ((h + i) % 17) = L[i]?) : ∀ i, i < (L ++ [x]).length → va_up f ((h + L.length) % 17) (some x) ((h + i) % 17) = (L ++ [x])[i]? := by
  intro i hi
  rw [List.length_append, List.length_singleton] at hi
  unfold va_up
  by_cases e : i = L.length
  · subst e
    rw [if_pos rfl, List.getElem?_append_right (Nat.le_refl _), Nat.sub_self]; rfl
  · rw [if_neg (by omega), hf i (by omega), List.getElem?_append_left (by omega)]
theorem dq_pop {L : List Nat} {h x : Nat} {f : Nat → Option Nat} (hh : h < 17) (hL : (x :: L).length < 16) (hf : ∀ i, i < (x :: L).length → f ((h + i) % 17) = (x :: L)[i]?) : ∀ i, i < L.length → va_up f h none (((h + 1) % 17 + i) % 17) = L[i]? := by
  intro i hi
  have h1 := hf (i + 1) (by simp; omega)
  rw [List.length_cons] at hL
  unfold va_up
  rw [if_neg (by omega), show ((h + 1) % 17 + i) % 17 = (h + (i + 1)) % 17 by omega, h1, List.getElem?_cons_succ]
theorem dq_last {L : List Nat} {h x : Nat} {f : Nat → Option Nat} (hh : h < 17) (hL : (L ++ [x]).length < 16) (hf : ∀ i, i < (L ++ [x]).length → f ((h + i) % 17) = (L ++ [x])[i]?) : f ((h + L.length) % 17) = some x ∧ ∀ i, i < L.length → va_up f ((h + L.length) % 17) none ((h + i) % 17) = L[i]? := by
  rw [List.length_append, List.length_singleton] at hL hf
  refine ⟨?_, fun i hi => ?_⟩
  · rw [hf L.length (by omega), List.getElem?_append_right (Nat.le_refl _), Nat.sub_self]; rfl
  · unfold va_up
    rw [if_neg (by omega), hf i (by omega), List.getElem?_append_left hi]
theorem sgb (y : BitVec 32) : (y.sshiftRight 31) ||| ((-y) >>> 31) = (if y.msb then -1#32 else if y = 0#32 then 0#32 else 1#32) := by
  by_cases hm : y.msb = true
  · rw [if_pos hm]
    ext i hi
    rw [BitVec.getElem_or, BitVec.getElem_sshiftRight]
    have : (-1#32) = BitVec.allOnes 32 := by decide
    rw [this, BitVec.getElem_allOnes]
    by_cases h0 : i = 0
    · subst h0
      have : y[31] = true := by rw [← BitVec.getLsbD_eq_getElem]; exact hm
      simp [this]
    · have : ¬ 31 + i < 32 := by omega
      simp [this, hm]
  · rw [if_neg hm]
    have hm : y.msb = false := by simpa using hm
    by_cases h0 : y = 0#32
    · subst h0; decide
    · rw [if_neg h0]
      have hn : (-y).msb = true := by
        rw [BitVec.msb_neg, hm]
        have h1 : y ≠ BitVec.intMin 32 := fun e => by rw [e] at hm; exact absurd hm (by decide)
        simp [h0, h1]
      ext i hi
      rw [BitVec.getElem_or, BitVec.getElem_sshiftRight, BitVec.getElem_ushiftRight]
      by_cases h2 : i = 0
      · subst h2
        have h3 : (-y).getLsbD 31 = true := by rw [← hn]; rfl
        simp [h3]
      · have : ¬ 31 + i < 32 := by omega
        have h4 : (-y).getLsbD (31 + i) = false := BitVec.getLsbD_of_ge _ _ (by omega)
        have h5 : (1#32)[i] = false := by simp [BitVec.getElem_one, h2]
        simp [this, hm, h4, h5]
theorem sg_0 (x : Int32) : (x >>> ((31 : Int32) &&& 31)) ||| ((-x).toUInt32 >>> ((31 : Int32).toUInt32 &&& Int32.toUInt32 31)).toInt32 = (if x < 0 then -1 else if x = 0 then 0 else 1) := by
  apply Int32.toBitVec_inj.mp
  have h1 : (x >>> ((31 : Int32) &&& 31)).toBitVec = x.toBitVec.sshiftRight 31 := rfl
  have h2 : (((-x).toUInt32 >>> ((31 : Int32).toUInt32 &&& Int32.toUInt32 31)).toInt32).toBitVec = (-x.toBitVec) >>> 31 := rfl
  rw [Int32.toBitVec_or, h1, h2, sgb]
  have h3 : (x < 0) ↔ x.toBitVec.msb = true := by
    rw [Int32.lt_iff_toInt_lt]
    rw [BitVec.msb_eq_toInt]
    simp
  have h4 : (x = 0) ↔ x.toBitVec = 0#32 := by rw [← Int32.toBitVec_inj]; rfl
  by_cases a : x < 0
  · rw [if_pos a, if_pos (h3.mp a)]; rfl
  · rw [if_neg a, if_neg (fun e => a (h3.mpr e))]
    by_cases b : x = 0
    · rw [if_pos b, if_pos (h4.mp b)]; rfl
    · rw [if_neg b, if_neg (fun e => b (h4.mpr e))]; rfl
def sgnI (x : Int32) : Int32 := if x < 0 then -1 else if x = 0 then 0 else 1
theorem vo_1 {i : Nat} (hi : i < 128) : ¬ nI i < -128 := by
  have h : ∀ i, i < 128 → ¬ nI i < -128 := by decide
  exact h i hi
theorem vo_2 (i : Nat) : vb_c (i + 128) = nI i := by
  unfold vb_c
  show nI (i + 128) - 128 = nI i
  exact (nx_sub (a := i + 128) (b := 128) rfl (show (128 : Int32) = nI 128 from rfl) (by omega)).trans (congrArg nI (by omega))
set_option maxRecDepth 100000
theorem fJ31_20_17 : gh_fd RJ31 20 17 2 .int false := gh_fd.own (T := TJ31) tyJ31 rfl in_J31 tyJ31_ok nmJ31 (by decide) q1261 rfl rfl (fun h => by cases h)
theorem fJ31_24_17 : gh_fd RJ31 24 17 1 .int false := gh_fd.own (T := TJ31) tyJ31 rfl in_J31 tyJ31_ok nmJ31 (by decide) q1260 rfl rfl (fun h => by cases h)
theorem fJ31_3_17 : gh_fd RJ31 3 17 0 (.array (.object "java/lang/Object")) false := gh_fd.own (T := TJ31) tyJ31 rfl in_J31 tyJ31_ok nmJ31 (by decide) q1257 rfl rfl (fun h => by cases h)
theorem hd_J31_dec : yJ31_dec.cls = RJ31 ∧ yJ31_dec.cls ≠ "java/lang/invoke/MethodHandle" ∧ yJ31_dec.cls ≠ "java/lang/invoke/VarHandle" ∧ (parseMethodDescriptor yJ31_dec.desc).map (fun d => d.parameters.length) = some 2 := by decide +kernel
theorem hd_J31_elementAt : yJ31_elementAt.cls = RJ31 ∧ yJ31_elementAt.cls ≠ "java/lang/invoke/MethodHandle" ∧ yJ31_elementAt.cls ≠ "java/lang/invoke/VarHandle" ∧ (parseMethodDescriptor yJ31_elementAt.desc).map (fun d => d.parameters.length) = some 2 := by decide +kernel
theorem hd_J31_inc : yJ31_inc.cls = RJ31 ∧ yJ31_inc.cls ≠ "java/lang/invoke/MethodHandle" ∧ yJ31_inc.cls ≠ "java/lang/invoke/VarHandle" ∧ (parseMethodDescriptor yJ31_inc.desc).map (fun d => d.parameters.length) = some 2 := by decide +kernel
theorem hd_J31_pollFirst : yJ31_pollFirst.cls = RJ31 ∧ yJ31_pollFirst.cls ≠ "java/lang/invoke/MethodHandle" ∧ yJ31_pollFirst.cls ≠ "java/lang/invoke/VarHandle" ∧ (parseMethodDescriptor yJ31_pollFirst.desc).map (fun d => d.parameters.length) = some 0 := by decide +kernel
theorem hd_J31_pollLast : yJ31_pollLast.cls = RJ31 ∧ yJ31_pollLast.cls ≠ "java/lang/invoke/MethodHandle" ∧ yJ31_pollLast.cls ≠ "java/lang/invoke/VarHandle" ∧ (parseMethodDescriptor yJ31_pollLast.desc).map (fun d => d.parameters.length) = some 0 := by decide +kernel
theorem hd_J31_sub : yJ31_sub.cls = RJ31 ∧ yJ31_sub.cls ≠ "java/lang/invoke/MethodHandle" ∧ yJ31_sub.cls ≠ "java/lang/invoke/VarHandle" ∧ (parseMethodDescriptor yJ31_sub.desc).map (fun d => d.parameters.length) = some 3 := by decide +kernel
set_option maxHeartbeats 1000000 in
set_option maxRecDepth 100000 in
theorem j_J31_inc (l : Launch) (V : gh_V) (g0 : gh_G) (i : Nat) (hi : i < 17) : MI l yJ31_inc cJ31_inc 2 (some .int) ({ frames := 0, cells := 0, slots := 0, locals := 0 } : Room) V [.int (nI i), .int (nI 17)] g0 (fun r g1 => r = nI ((i + 1) % 17) ∧ g1 = g0) := by
  refine MG.of RJ31 (by decide) rfl (Nat.le_of_ble_eq_true rfl) (fun pp ee s mm args below meth c ls hC hg hr hlk hnm hl => ?_)
  have hx := hC.1.1
  have hb := hC.1.2.1
  have hml := hC.1.2.2.1
  have hown := hC.1.2.2.2.1
  have hts := hC.1.2.2.2.2
  have hl : lv_has ls 2 [(0, .int (nI i)), (1, .int (nI 17))] := hl
  obtain ⟨g, hg, hgg⟩ : ∃ g, gh_W V (gh_A g0 s.heap.size) s g s.heap [] ∧ g = g0 := ⟨g0, hg, rfl⟩
  refine lv_iinc (v := (nI (i + 1))) (lv' := [(0, .int (nI (i + 1))), (1, .int (nI 17))]) hx hb dJ31_inc_0 hl (k := 0) rfl (nx_iinc rfl) (by decide) rfl (fun ls hl => ?_)
  refine lv_iload_n hx hb dJ31_inc_3 rfl (lv_at hl 0 rfl) ?_
  refine lv_iload_n hx hb dJ31_inc_4 rfl (lv_at hl 1 rfl) ?_
  refine lv_icmp_lt (tgt := 10) hx hb dJ31_inc_5 (by decide) (fun c_1 => ?_) (fun c_1 => ?_)
  · skip
    have c_1 : (i + 1) < 17 := (nx_lt rfl rfl (by omega) (by omega)).mp c_1
    refine lv_iload_n hx hb dJ31_inc_10 rfl (lv_at hl 0 rfl) ?_
    exact gh_reti hC hg hr hlk (⟨congrArg nI (by omega), hgg⟩) dJ31_inc_11 (Nat.le_of_ble_eq_true rfl) (Nat.le_of_ble_eq_true rfl)
  have c_1 : ¬ (i + 1) < 17 := fun h9 => c_1 ((nx_lt rfl rfl (by omega) (by omega)).mpr h9)
  refine lv_iconst (v := 0) hx hb dJ31_inc_8 (by decide) ?_
  refine lv_istore_n (lv' := [(0, .int 0), (1, .int (nI 17))]) hx hb dJ31_inc_9 rfl hl (by decide) rfl (fun ls hl => ?_)
  refine lv_iload_n hx hb dJ31_inc_10 rfl (lv_at hl 0 rfl) ?_
  exact gh_reti hC hg hr hlk (⟨congrArg nI (by omega : 0 = (i + 1) % 17), hgg⟩) dJ31_inc_11 (Nat.le_of_ble_eq_true rfl) (Nat.le_of_ble_eq_true rfl)
set_option maxHeartbeats 1000000 in
set_option maxRecDepth 100000 in
theorem j_J31_dec (l : Launch) (V : gh_V) (g0 : gh_G) (i : Nat) (hi : i < 17) : MI l yJ31_dec cJ31_dec 2 (some .int) ({ frames := 0, cells := 0, slots := 0, locals := 0 } : Room) V [.int (nI i), .int (nI 17)] g0 (fun r g1 => r = nI ((i + 16) % 17) ∧ g1 = g0) := by
  refine MG.of RJ31 (by decide) rfl (Nat.le_of_ble_eq_true rfl) (fun pp ee s mm args below meth c ls hC hg hr hlk hnm hl => ?_)
  have hx := hC.1.1
  have hb := hC.1.2.1
  have hml := hC.1.2.2.1
  have hown := hC.1.2.2.2.1
  have hts := hC.1.2.2.2.2
  have hl : lv_has ls 2 [(0, .int (nI i)), (1, .int (nI 17))] := hl
  obtain ⟨g, hg, hgg⟩ : ∃ g, gh_W V (gh_A g0 s.heap.size) s g s.heap [] ∧ g = g0 := ⟨g0, hg, rfl⟩
  rcases Nat.eq_zero_or_pos i with h0 | h0
  · skip
    subst h0
    have hl : lv_has ls 2 [(0, .int 0), (1, .int (nI 17))] := hl
    refine lv_iinc (v := (-1)) (lv' := [(0, .int (-1)), (1, .int (nI 17))]) hx hb dJ31_dec_0 hl (k := 0) rfl (by decide) (by decide) rfl (fun ls hl => ?_)
    refine lv_iload_n hx hb dJ31_dec_3 rfl (lv_at hl 0 rfl) ?_
    refine lv_if_ge (tgt := 11) hx hb dJ31_dec_4 (by decide) (fun c_1 => (absurd c_1 (by decide))) (fun _ => ?_)
    refine lv_iload_n hx hb dJ31_dec_7 rfl (lv_at hl 1 rfl) ?_
    refine lv_iconst (v := 1) hx hb dJ31_dec_8 (by decide) ?_
    refine lv_isub hx hb dJ31_dec_9 ?_
    refine lv_istore_n (lv' := [(0, .int ((nI 17) - 1)), (1, .int (nI 17))]) hx hb dJ31_dec_10 rfl hl (by decide) rfl (fun ls hl => ?_)
    refine lv_iload_n hx hb dJ31_dec_11 rfl (lv_at hl 0 rfl) ?_
    exact gh_reti hC hg hr hlk (⟨(by decide), hgg⟩) dJ31_dec_12 (Nat.le_of_ble_eq_true rfl) (Nat.le_of_ble_eq_true rfl)
  refine lv_iinc (v := (nI (i - 1))) (lv' := [(0, .int (nI (i - 1))), (1, .int (nI 17))]) hx hb dJ31_dec_0 hl (k := 0) rfl (nx_idec rfl (by omega)) (by decide) rfl (fun ls hl => ?_)
  refine lv_iload_n hx hb dJ31_dec_3 rfl (lv_at hl 0 rfl) ?_
  refine lv_if_ge (tgt := 11) hx hb dJ31_dec_4 (by decide) (fun _ => ?_) (fun c_2 => (absurd ((nx_le (show ((0 : Int32)) = nI 0 from rfl) rfl (by omega) (by omega)).mpr (by omega)) c_2))
  refine lv_iload_n hx hb dJ31_dec_11 rfl (lv_at hl 0 rfl) ?_
  exact gh_reti hC hg hr hlk (⟨congrArg nI (by omega), hgg⟩) dJ31_dec_12 (Nat.le_of_ble_eq_true rfl) (Nat.le_of_ble_eq_true rfl)
set_option maxHeartbeats 1000000 in
set_option maxRecDepth 100000 in
theorem j_J31_sub (l : Launch) (V : gh_V) (g0 : gh_G) (i j : Nat) (hi : i < 17) (hj : j < 17) : MI l yJ31_sub cJ31_sub 3 (some .int) ({ frames := 0, cells := 0, slots := 0, locals := 0 } : Room) V [.int (nI i), .int (nI j), .int (nI 17)] g0 (fun r g1 => r = nI ((i + 17 - j) % 17) ∧ g1 = g0) := by
  refine MG.of RJ31 (by decide) rfl (Nat.le_of_ble_eq_true rfl) (fun pp ee s mm args below meth c ls hC hg hr hlk hnm hl => ?_)
  have hx := hC.1.1
  have hb := hC.1.2.1
  have hml := hC.1.2.2.1
  have hown := hC.1.2.2.2.1
  have hts := hC.1.2.2.2.2
  have hl : lv_has ls 3 [(0, .int (nI i)), (1, .int (nI j)), (2, .int (nI 17))] := hl
  obtain ⟨g, hg, hgg⟩ : ∃ g, gh_W V (gh_A g0 s.heap.size) s g s.heap [] ∧ g = g0 := ⟨g0, hg, rfl⟩
  rcases Nat.lt_or_ge i j with h0 | h0
  · skip
    obtain ⟨hs1, hs2⟩ := dq_s0 i j hi hj h0
    refine lv_iload_n hx hb dJ31_sub_0 rfl (lv_at hl 0 rfl) ?_
    refine lv_iload_n hx hb dJ31_sub_1 rfl (lv_at hl 1 rfl) ?_
    refine lv_isub hx hb dJ31_sub_2 ?_
    refine lv_dup hx hb dJ31_sub_3 rfl ?_
    refine lv_istore_n (lv' := [(0, .int ((nI i) - (nI j))), (1, .int (nI j)), (2, .int (nI 17))]) hx hb dJ31_sub_4 rfl hl (by decide) rfl (fun ls hl => ?_)
    refine lv_if_ge (tgt := 12) hx hb dJ31_sub_5 (by decide) (fun c_1 => (absurd c_1 (by have := Int32.not_le.mpr hs1; exact this))) (fun _ => ?_)
    refine lv_iload_n hx hb dJ31_sub_8 rfl (lv_at hl 0 rfl) ?_
    refine lv_iload_n hx hb dJ31_sub_9 rfl (lv_at hl 2 rfl) ?_
    refine lv_iadd hx hb dJ31_sub_10 ?_
    refine lv_istore_n (lv' := [(0, .int (((nI i) - (nI j)) + (nI 17))), (1, .int (nI j)), (2, .int (nI 17))]) hx hb dJ31_sub_11 rfl hl (by decide) rfl (fun ls hl => ?_)
    refine lv_iload_n hx hb dJ31_sub_12 rfl (lv_at hl 0 rfl) ?_
    exact gh_reti hC hg hr hlk (⟨hs2.trans (congrArg nI (by omega)), hgg⟩) dJ31_sub_13 (Nat.le_of_ble_eq_true rfl) (Nat.le_of_ble_eq_true rfl)
  refine lv_iload_n hx hb dJ31_sub_0 rfl (lv_at hl 0 rfl) ?_
  refine lv_iload_n hx hb dJ31_sub_1 rfl (lv_at hl 1 rfl) ?_
  refine lv_isub hx hb dJ31_sub_2 ?_
  refine lv_dup hx hb dJ31_sub_3 rfl ?_
  refine lv_istore_n (lv' := [(0, .int ((nI i) - (nI j))), (1, .int (nI j)), (2, .int (nI 17))]) hx hb dJ31_sub_4 rfl hl (by decide) rfl (fun ls hl => ?_)
  refine lv_if_ge (tgt := 12) hx hb dJ31_sub_5 (by decide) (fun _ => ?_) (fun c_2 => (absurd ((nx_le (show ((0 : Int32)) = nI 0 from rfl) (nx_sub rfl rfl (by omega)) (by omega) (by omega)).mpr (by omega)) c_2))
  refine lv_iload_n hx hb dJ31_sub_12 rfl (lv_at hl 0 rfl) ?_
  exact gh_reti hC hg hr hlk (⟨((nx_sub rfl rfl (by omega))).trans (congrArg nI (by omega)), hgg⟩) dJ31_sub_13 (Nat.le_of_ble_eq_true rfl) (Nat.le_of_ble_eq_true rfl)
set_option maxHeartbeats 1000000 in
set_option maxRecDepth 100000 in
theorem j_J31_init (l : Launch) (V : gh_V) (g0 : gh_G) (q o k : Nat) (hqq : g0 q = some ((o, k, 0), oo 17 [.null, .int 0, .int 0])) : MV l yJ31_init cJ31_init 1 ({ frames := 2, cells := 1, slots := 17, locals := 32 } : Room) V [.ref q] g0 (fun g1 => dq_P V o k g1 q [] ∧ gh_fk o k g0 g1) := by
  refine MG.of RJ31 (by decide) rfl (Nat.le_of_ble_eq_true rfl) (fun pp ee s mm args below meth c ls hC hg hr hlk hnm hl => ?_)
  have hx := hC.1.1
  have hb := hC.1.2.1
  have hml := hC.1.2.2.1
  have hown := hC.1.2.2.2.1
  have hts := hC.1.2.2.2.2
  have hl : lv_has ls 1 [(0, .ref q)] := hl
  obtain ⟨g, hg, hgg⟩ : ∃ g, gh_W V (gh_A g0 s.heap.size) s g s.heap [] ∧ g = g0 := ⟨g0, hg, rfl⟩
  rw [← hgg] at hqq
  have hF : gh_fk o k g0 g := by rw [hgg]; exact gh_fk.rf
  refine lv_aload_n hx hb dJ31_init_0 rfl (lv_at hl 0 rfl) ?_
  refine gh_callv hg (gh_runI (As := []) (rest := []) hC hg (j_J0_init l V _ q) 0 (lw_meth q205) q105 q1255 q204 rfl hd_J0_init.2 ⟨Nat.le_of_ble_eq_true rfl, Nat.le_of_ble_eq_true rfl⟩ rfl hl.1 rfl (Nat.le_of_ble_eq_true rfl) dJ31_init_1 ⟨Nat.le_of_ble_eq_true rfl, Nat.le_of_ble_eq_true rfl⟩) (fun g H locs hg hp => ?_)
  rw [hp] at hg
  refine lv_aload_n hx hb dJ31_init_4 rfl (lv_at hl 0 rfl) ?_
  refine lv_bipush (v := 17) hx hb dJ31_init_5 (by decide) ?_
  refine gh_newq (k := 5) hC hg (fun q9 => (o, k, 1)) rfl q1256 (hC.2.2.1.1 _ (gh_nwm q1175 rfl)) (show ((17 : Int32)) = nI 17 from rfl) (by omega) (Nat.le_of_ble_eq_true rfl) (Nat.le_of_ble_eq_true rfl) dJ31_init_7 (fun q_1 g H hg h0 hw hn => ?_)
  have hqq : g q = some ((o, k, 0), oo 17 [.null, .int 0, .int 0]) := (hn _ (gh_neN hqq h0)).trans hqq
  have hF : gh_fk o k g0 g := hF.new h0 hn
  have c_2 : g q_1 = some ((o, k, 1), aq V 5 17 (fun _ => none)) := hw
  refine gh_put (v := .ref q_1) hC hg hqq fJ31_3_17 rfl rfl (Nat.le_of_ble_eq_true rfl) dJ31_init_10 (fun g H locs hg hw hn => ?_)
  have c_2 : g q_1 = some ((o, k, 1), aq V 5 17 (fun _ => none)) := (hn _ (gh_neI c_2 hqq rfl)).trans c_2
  have hF : gh_fk o k g0 g := hF.set hqq hn
  have hqq : g q = some ((o, k, 0), oo 17 [.ref q_1, .int 0, .int 0]) := hw
  exact gh_retv hC hg hr hlk (⟨⟨q_1, 0, _, hqq, c_2, by decide, by decide, fun i hi => absurd hi (Nat.not_lt_zero _)⟩, hF⟩) dJ31_init_13 (Nat.le_of_ble_eq_true rfl) (Nat.le_of_ble_eq_true rfl)
set_option maxHeartbeats 1000000 in
set_option maxRecDepth 100000 in
theorem j_J31_size (l : Launch) (V : gh_V) (g0 : gh_G) (o k q : Nat) (L : List Nat) (hQ : dq_P V o k g0 q L) : MI l yJ31_size cJ31_size 1 (some .int) ({ frames := 1, cells := 0, slots := 0, locals := 22 } : Room) V [.ref q] g0 (fun r g1 => r = nI L.length ∧ g1 = g0) := by
  refine MG.of RJ31 (by decide) rfl (Nat.le_of_ble_eq_true rfl) (fun pp ee s mm args below meth c ls hC hg hr hlk hnm hl => ?_)
  have hx := hC.1.1
  have hb := hC.1.2.1
  have hml := hC.1.2.2.1
  have hown := hC.1.2.2.2.1
  have hts := hC.1.2.2.2.2
  have hl : lv_has ls 1 [(0, .ref q)] := hl
  obtain ⟨g, hg, hgg⟩ : ∃ g, gh_W V (gh_A g0 s.heap.size) s g s.heap [] ∧ g = g0 := ⟨g0, hg, rfl⟩
  obtain ⟨arr, h, f, hqq, ha, hh, hL, hf⟩ := hQ
  rw [← hgg] at hqq ha
  have hF : gh_fk o k g0 g := by rw [hgg]; exact gh_fk.rf
  refine lv_aload_n hx hb dJ31_size_0 rfl (lv_at hl 0 rfl) ?_
  refine gh_get (v := .int (nI ((h + L.length) % 17))) hC hg hqq fJ31_20_17 rfl dJ31_size_1 ?_
  refine lv_aload_n hx hb dJ31_size_4 rfl (lv_at hl 0 rfl) ?_
  refine gh_get (v := .int (nI h)) hC hg hqq fJ31_24_17 rfl dJ31_size_5 ?_
  refine lv_aload_n hx hb dJ31_size_8 rfl (lv_at hl 0 rfl) ?_
  refine gh_get (v := .ref arr) hC hg hqq fJ31_3_17 rfl dJ31_size_9 ?_
  refine gh_alen hC hg ha rfl dJ31_size_12 ?_
  refine gh_calli hg (gh_runS (As := [.int (nI ((h + L.length) % 17)), .int (nI h), .int (nI 17)]) (rest := []) hC hg (j_J31_sub l V _ ((h + L.length) % 17) h (by omega) (by omega)) 3 (lw_S q2845 q2846 q137 q2847) hd_J31_sub.2 ⟨Nat.le_of_ble_eq_true rfl, Nat.le_of_ble_eq_true rfl⟩ rfl hl.1 rfl (Nat.le_of_ble_eq_true rfl) dJ31_size_13 ⟨Nat.le_of_ble_eq_true rfl, Nat.le_of_ble_eq_true rfl⟩) (fun r_1 g H locs hg hp => ?_)
  obtain ⟨hp, hq⟩ := hp
  replace hp : (nI ((((h + L.length) % 17) + 17 - h) % 17)) = r_1 := hp.symm
  subst hp
  rw [hq] at hg
  exact gh_reti hC hg hr hlk (⟨congrArg nI (by omega), hgg⟩) dJ31_size_16 (Nat.le_of_ble_eq_true rfl) (Nat.le_of_ble_eq_true rfl)
set_option maxHeartbeats 1000000 in
set_option maxRecDepth 100000 in
theorem j_J31_isEmpty (l : Launch) (V : gh_V) (g0 : gh_G) (o k q : Nat) (L : List Nat) (hQ : dq_P V o k g0 q L) : MI l yJ31_isEmpty cJ31_isEmpty 1 (some .boolean) ({ frames := 0, cells := 0, slots := 0, locals := 0 } : Room) V [.ref q] g0 (fun r g1 => r = (if L.length = 0 then 1 else 0) ∧ g1 = g0) := by
  refine MG.of RJ31 (by decide) rfl (Nat.le_of_ble_eq_true rfl) (fun pp ee s mm args below meth c ls hC hg hr hlk hnm hl => ?_)
  have hx := hC.1.1
  have hb := hC.1.2.1
  have hml := hC.1.2.2.1
  have hown := hC.1.2.2.2.1
  have hts := hC.1.2.2.2.2
  have hl : lv_has ls 1 [(0, .ref q)] := hl
  obtain ⟨g, hg, hgg⟩ : ∃ g, gh_W V (gh_A g0 s.heap.size) s g s.heap [] ∧ g = g0 := ⟨g0, hg, rfl⟩
  obtain ⟨arr, h, f, hqq, ha, hh, hL, hf⟩ := hQ
  rw [← hgg] at hqq ha
  have hF : gh_fk o k g0 g := by rw [hgg]; exact gh_fk.rf
  refine lv_aload_n hx hb dJ31_isEmpty_0 rfl (lv_at hl 0 rfl) ?_
  refine gh_get (v := .int (nI h)) hC hg hqq fJ31_24_17 rfl dJ31_isEmpty_1 ?_
  refine lv_aload_n hx hb dJ31_isEmpty_4 rfl (lv_at hl 0 rfl) ?_
  refine gh_get (v := .int (nI ((h + L.length) % 17))) hC hg hqq fJ31_20_17 rfl dJ31_isEmpty_5 ?_
  refine lv_icmp_ne (tgt := 15) hx hb dJ31_isEmpty_8 (by decide) (fun c_1 => ?_) (fun c_1 => ?_)
  · skip
    have c_1 : ¬ h = ((h + L.length) % 17) := fun h9 => c_1 ((nx_eq rfl rfl (by omega) (by omega)).mpr h9)
    refine lv_iconst (v := 0) hx hb dJ31_isEmpty_15 (by decide) ?_
    exact gh_retz rfl hC hg hr hlk (⟨(if_neg (by omega)).symm, hgg⟩) dJ31_isEmpty_16 (Nat.le_of_ble_eq_true rfl) (Nat.le_of_ble_eq_true rfl)
  have c_1 : h = ((h + L.length) % 17) := (nx_eq rfl rfl (by omega) (by omega)).mp c_1
  refine lv_iconst (v := 1) hx hb dJ31_isEmpty_11 (by decide) ?_
  refine lv_goto (tgt := 16) hx hb dJ31_isEmpty_12 (by decide) ?_
  exact gh_retz rfl hC hg hr hlk (⟨(if_pos (by omega)).symm, hgg⟩) dJ31_isEmpty_16 (Nat.le_of_ble_eq_true rfl) (Nat.le_of_ble_eq_true rfl)
set_option maxHeartbeats 1000000 in
set_option maxRecDepth 100000 in
theorem j_J31_addLast (l : Launch) (V : gh_V) (g0 : gh_G) (o k q : Nat) (L : List Nat) (hQ : dq_P V o k g0 q L) (x : Nat) (t9 : gh_T) (fs9 : List Value) (hx9 : g0 x = some (t9, oo 2 fs9)) (hL15 : L.length < 15) : MV l yJ31_addLast cJ31_addLast 3 ({ frames := 1, cells := 0, slots := 0, locals := 21 } : Room) V [.ref q, .ref x] g0 (fun g1 => dq_P V o k g1 q (L ++ [x]) ∧ gh_fk o k g0 g1) := by
  refine MG.of RJ31 (by decide) rfl (Nat.le_of_ble_eq_true rfl) (fun pp ee s mm args below meth c ls hC hg hr hlk hnm hl => ?_)
  have hx := hC.1.1
  have hb := hC.1.2.1
  have hml := hC.1.2.2.1
  have hown := hC.1.2.2.2.1
  have hts := hC.1.2.2.2.2
  have hl : lv_has ls 3 [(0, .ref q), (1, .ref x)] := hl
  obtain ⟨g, hg, hgg⟩ : ∃ g, gh_W V (gh_A g0 s.heap.size) s g s.heap [] ∧ g = g0 := ⟨g0, hg, rfl⟩
  obtain ⟨arr, h, f, hqq, ha, hh, hL, hf⟩ := hQ
  rw [← hgg] at hqq ha
  have hF : gh_fk o k g0 g := by rw [hgg]; exact gh_fk.rf
  rw [← hgg] at hx9
  have hxo : ∀ (t : gh_T), (g x = some (t, oo 2 fs9)) → True := fun _ _ => trivial
  refine lv_aload_n hx hb dJ31_addLast_0 rfl (lv_at hl 1 rfl) ?_
  refine lv_ifnonnull (tgt := 12) hx hb dJ31_addLast_1 (by decide) ?_
  refine lv_aload_n hx hb dJ31_addLast_12 rfl (lv_at hl 0 rfl) ?_
  refine gh_get (v := .ref arr) hC hg hqq fJ31_3_17 rfl dJ31_addLast_13 ?_
  refine lv_astore_n (lv' := [(2, .ref arr), (0, .ref q), (1, .ref x)]) hx hb dJ31_addLast_16 rfl hl (by decide) rfl (fun ls hl => ?_)
  refine lv_aload_n hx hb dJ31_addLast_17 rfl (lv_at hl 0 rfl) ?_
  refine lv_aload_n hx hb dJ31_addLast_18 rfl (lv_at hl 1 rfl) ?_
  refine gh_get (v := .int (nI ((h + L.length) % 17))) hC hg hqq fJ31_20_17 rfl dJ31_addLast_19 ?_
  refine lv_aload_n hx hb dJ31_addLast_22 rfl (lv_at hl 2 rfl) ?_
  refine gh_qastO (n := 17) (f := f) hC hg ha rfl hx9 rfl (hC.2.2.1.1 _ (gh_nwm q4430 rfl)) rfl (by omega) (by omega) dJ31_addLast_23 (fun g H locs hg hw hn => ?_)
  have hqq : g q = some ((o, k, 0), oo 17 [.ref arr, .int (nI h), .int (nI ((h + L.length) % 17))]) := (hn _ (gh_neI hqq ha rfl)).trans hqq
  have hx9 : g x = some ((t9.1, t9.2.1, t9.2.2), oo 2 fs9) := (hn _ (fun e9 => by rw [e9, ha] at hx9; exact absurd (congrArg Prod.snd (Option.some.inj hx9)) (by intro h9; first | (cases h9; done) | exact absurd h9 (by simp)))).trans hx9
  have hF : gh_fk o k g0 g := hF.set ha hn
  have ha : g arr = some ((o, k, 1), aq V 5 17 (va_up f ((h + L.length) % 17) (some x))) := hw
  refine lv_aload_n hx hb dJ31_addLast_24 rfl (lv_at hl 1 rfl) ?_
  refine gh_get (v := .int (nI h)) hC hg hqq fJ31_24_17 rfl dJ31_addLast_25 ?_
  refine lv_aload_n hx hb dJ31_addLast_28 rfl (lv_at hl 1 rfl) ?_
  refine lv_aload_n hx hb dJ31_addLast_29 rfl (lv_at hl 1 rfl) ?_
  refine gh_get (v := .int (nI ((h + L.length) % 17))) hC hg hqq fJ31_20_17 rfl dJ31_addLast_30 ?_
  refine lv_aload_n hx hb dJ31_addLast_33 rfl (lv_at hl 0 rfl) ?_
  refine gh_alen hC hg ha rfl dJ31_addLast_34 ?_
  refine gh_calli hg (gh_runS (As := [.int (nI ((h + L.length) % 17)), .int (nI 17)]) (rest := [.ref q, .int (nI h)]) hC hg (j_J31_inc l V _ ((h + L.length) % 17) (by omega)) 2 (lw_S q3179 q2560 q137 q2561) hd_J31_inc.2 ⟨Nat.le_of_ble_eq_true rfl, Nat.le_of_ble_eq_true rfl⟩ rfl hl.1 rfl (Nat.le_of_ble_eq_true rfl) dJ31_addLast_35 ⟨Nat.le_of_ble_eq_true rfl, Nat.le_of_ble_eq_true rfl⟩) (fun r_1 g H locs hg hp => ?_)
  obtain ⟨hp, hq⟩ := hp
  replace hp : (nI ((((h + L.length) % 17) + 1) % 17)) = r_1 := hp.symm
  subst hp
  rw [hq] at hg
  refine lv_dup_x1 hx hb dJ31_addLast_38 rfl rfl ?_
  refine gh_put (v := .int (nI ((((h + L.length) % 17) + 1) % 17))) hC hg hqq fJ31_20_17 rfl rfl (Nat.le_of_ble_eq_true rfl) dJ31_addLast_39 (fun g H locs hg hw hn => ?_)
  have ha : g arr = some ((o, k, 1), aq V 5 17 (va_up f ((h + L.length) % 17) (some x))) := (hn _ (gh_neI ha hqq rfl)).trans ha
  have hx9 : g x = some ((t9.1, t9.2.1, t9.2.2), oo 2 fs9) := (hn _ (gh_neC hx9 hqq rfl)).trans hx9
  have hF : gh_fk o k g0 g := hF.set hqq hn
  have hqq : g q = some ((o, k, 0), oo 17 [.ref arr, .int (nI h), .int (nI ((((h + L.length) % 17) + 1) % 17))]) := hw
  refine lv_icmp_ne (tgt := 50) hx hb dJ31_addLast_42 (by decide) (fun _ => ?_) (fun c_2 => (absurd ((nx_eq rfl rfl (by omega) (by omega)).mp c_2) (by omega)))
  exact gh_retv hC hg hr hlk (⟨⟨arr, h, _, (by rw [List.length_append, List.length_singleton, show (h + (L.length + 1)) % 17 = ((h + L.length) % 17 + 1) % 17 by omega]; exact hqq), ha, hh, (by rw [List.length_append, List.length_singleton]; omega), dq_add hh hL15 hf⟩, hF⟩) dJ31_addLast_50 (Nat.le_of_ble_eq_true rfl) (Nat.le_of_ble_eq_true rfl)
set_option maxHeartbeats 1000000 in
set_option maxRecDepth 100000 in
theorem j_J31_elementAt (l : Launch) (V : gh_V) (g0 : gh_G) (arr i : Nat) (f : Nat → Option Nat) (t9 : gh_T) (hi : i < 17) (ha : g0 arr = some (t9, aq V 5 17 f)) : MR l yJ31_elementAt cJ31_elementAt 2 (some (.object "java/lang/Object")) ({ frames := 0, cells := 0, slots := 0, locals := 0 } : Room) V [.ref arr, .int (nI i)] g0 (fun r g1 => r = f i ∧ g1 = g0) := by
  refine MG.of RJ31 (by decide) rfl (Nat.le_of_ble_eq_true rfl) (fun pp ee s mm args below meth c ls hC hg hr hlk hnm hl => ?_)
  have hx := hC.1.1
  have hb := hC.1.2.1
  have hml := hC.1.2.2.1
  have hown := hC.1.2.2.2.1
  have hts := hC.1.2.2.2.2
  have hl : lv_has ls 2 [(0, .ref arr), (1, .int (nI i))] := hl
  obtain ⟨g, hg, hgg⟩ : ∃ g, gh_W V (gh_A g0 s.heap.size) s g s.heap [] ∧ g = g0 := ⟨g0, hg, rfl⟩
  rw [← hgg] at ha
  refine lv_aload_n hx hb dJ31_elementAt_0 rfl (lv_at hl 0 rfl) ?_
  refine lv_iload_n hx hb dJ31_elementAt_1 rfl (lv_at hl 1 rfl) ?_
  refine gh_qald (n := 17) (f := f) hC hg ha rfl rfl (by omega) (by omega) dJ31_elementAt_2 ?_
  exact gh_retq (r := (f i)) (Or.inl ⟨_, rfl⟩) hC hg hr hlk (⟨rfl, hgg⟩) dJ31_elementAt_3 (Nat.le_of_ble_eq_true rfl) (Nat.le_of_ble_eq_true rfl)
set_option maxHeartbeats 1000000 in
set_option maxRecDepth 100000 in
theorem j_J31_pollFirst (l : Launch) (V : gh_V) (g0 : gh_G) (o k q x : Nat) (L : List Nat) (hQ : dq_P V o k g0 q (x :: L)) : MR l yJ31_pollFirst cJ31_pollFirst 4 (some (.object "java/lang/Object")) ({ frames := 1, cells := 0, slots := 0, locals := 21 } : Room) V [.ref q] g0 (fun r g1 => r = some x ∧ dq_P V o k g1 q L ∧ gh_fk o k g0 g1) := by
  refine MG.of RJ31 (by decide) rfl (Nat.le_of_ble_eq_true rfl) (fun pp ee s mm args below meth c ls hC hg hr hlk hnm hl => ?_)
  have hx := hC.1.1
  have hb := hC.1.2.1
  have hml := hC.1.2.2.1
  have hown := hC.1.2.2.2.1
  have hts := hC.1.2.2.2.2
  have hl : lv_has ls 4 [(0, .ref q)] := hl
  obtain ⟨g, hg, hgg⟩ : ∃ g, gh_W V (gh_A g0 s.heap.size) s g s.heap [] ∧ g = g0 := ⟨g0, hg, rfl⟩
  obtain ⟨arr, h, f, hqq, ha, hh, hL, hf⟩ := hQ
  rw [List.length_cons] at hqq
  rw [← hgg] at hqq ha
  have hF : gh_fk o k g0 g := by rw [hgg]; exact gh_fk.rf
  have hf0 : f h = some x := by have h9 := hf 0 (Nat.succ_pos _); rw [Nat.add_zero, Nat.mod_eq_of_lt hh] at h9; exact h9
  refine lv_aload_n hx hb dJ31_pollFirst_0 rfl (lv_at hl 0 rfl) ?_
  refine gh_get (v := .ref arr) hC hg hqq fJ31_3_17 rfl dJ31_pollFirst_1 ?_
  refine lv_dup hx hb dJ31_pollFirst_4 rfl ?_
  refine lv_astore_n (lv' := [(1, .ref arr), (0, .ref q)]) hx hb dJ31_pollFirst_5 rfl hl (by decide) rfl (fun ls hl => ?_)
  refine lv_aload_n hx hb dJ31_pollFirst_6 rfl (lv_at hl 1 rfl) ?_
  refine gh_get (v := .int (nI h)) hC hg hqq fJ31_24_17 rfl dJ31_pollFirst_7 ?_
  refine lv_dup hx hb dJ31_pollFirst_10 rfl ?_
  refine lv_istore_n (lv' := [(2, .int (nI h)), (1, .ref arr), (0, .ref q)]) hx hb dJ31_pollFirst_11 rfl hl (by decide) rfl (fun ls hl => ?_)
  refine gh_callq hg (gh_runS (As := [.ref arr, .int (nI h)]) (rest := []) hC hg (j_J31_elementAt l V _ arr h f (o, k, 1) (by omega) ha) 2 (lw_S q3253 q3254 q137 q3255) hd_J31_elementAt.2 ⟨Nat.le_of_ble_eq_true rfl, Nat.le_of_ble_eq_true rfl⟩ rfl hl.1 rfl (Nat.le_of_ble_eq_true rfl) dJ31_pollFirst_12 ⟨Nat.le_of_ble_eq_true rfl, Nat.le_of_ble_eq_true rfl⟩) (fun r_1 g H locs hg hp => ?_)
  obtain ⟨hp, hq9⟩ := hp
  rw [hf0] at hp
  subst hp
  rw [hq9] at hg
  refine W.eq (g2 := F0 mm 15 ls [.ref x]) rfl ?_
  refine lv_astore_n (lv' := [(3, .ref x), (2, .int (nI h)), (1, .ref arr), (0, .ref q)]) hx hb dJ31_pollFirst_15 rfl hl (by decide) rfl (fun ls hl => ?_)
  refine lv_aload_n hx hb dJ31_pollFirst_16 rfl (lv_at hl 0 rfl) ?_
  refine lv_ifnull hx hb dJ31_pollFirst_17 ?_
  refine lv_aload_n hx hb dJ31_pollFirst_20 rfl (lv_at hl 2 rfl) ?_
  refine lv_iload_n hx hb dJ31_pollFirst_21 rfl (lv_at hl 1 rfl) ?_
  refine lv_null hx hb dJ31_pollFirst_22 ?_
  refine gh_qastN (n := 17) (f := f) hC hg ha rfl rfl (by omega) (by omega) dJ31_pollFirst_23 (fun g H locs hg hw hn => ?_)
  have hqq : g q = some ((o, k, 0), oo 17 [.ref arr, .int (nI h), .int (nI ((h + (L.length + 1)) % 17))]) := (hn _ (gh_neI hqq ha rfl)).trans hqq
  have hF : gh_fk o k g0 g := hF.set ha hn
  have ha : g arr = some ((o, k, 1), aq V 5 17 (va_up f h none)) := hw
  refine lv_aload_n hx hb dJ31_pollFirst_24 rfl (lv_at hl 3 rfl) ?_
  refine lv_iload_n hx hb dJ31_pollFirst_25 rfl (lv_at hl 1 rfl) ?_
  refine lv_aload_n hx hb dJ31_pollFirst_26 rfl (lv_at hl 2 rfl) ?_
  refine gh_alen hC hg ha rfl dJ31_pollFirst_27 ?_
  refine gh_calli hg (gh_runS (As := [.int (nI h), .int (nI 17)]) (rest := [.ref q]) hC hg (j_J31_inc l V _ h (by omega)) 2 (lw_S q3179 q2560 q137 q2561) hd_J31_inc.2 ⟨Nat.le_of_ble_eq_true rfl, Nat.le_of_ble_eq_true rfl⟩ rfl hl.1 rfl (Nat.le_of_ble_eq_true rfl) dJ31_pollFirst_28 ⟨Nat.le_of_ble_eq_true rfl, Nat.le_of_ble_eq_true rfl⟩) (fun r_2 g H locs hg hp => ?_)
  obtain ⟨hp, hq⟩ := hp
  replace hp : (nI ((h + 1) % 17)) = r_2 := hp.symm
  subst hp
  rw [hq] at hg
  refine gh_put (v := .int (nI ((h + 1) % 17))) hC hg hqq fJ31_24_17 rfl rfl (Nat.le_of_ble_eq_true rfl) dJ31_pollFirst_31 (fun g H locs hg hw hn => ?_)
  have ha : g arr = some ((o, k, 1), aq V 5 17 (va_up f h none)) := (hn _ (gh_neI ha hqq rfl)).trans ha
  have hF : gh_fk o k g0 g := hF.set hqq hn
  have hqq : g q = some ((o, k, 0), oo 17 [.ref arr, .int (nI ((h + 1) % 17)), .int (nI ((h + (L.length + 1)) % 17))]) := hw
  refine lv_aload_n hx hb dJ31_pollFirst_34 rfl (lv_at hl 0 rfl) ?_
  exact gh_retq (r := some x) (Or.inl ⟨_, rfl⟩) hC hg hr hlk (⟨rfl, ⟨arr, (h + 1) % 17, _, (by rw [show ((h + 1) % 17 + L.length) % 17 = (h + (L.length + 1)) % 17 by omega]; exact hqq), ha, (by omega), (by rw [List.length_cons] at hL; omega), dq_pop hh hL hf⟩, hF⟩) dJ31_pollFirst_35 (Nat.le_of_ble_eq_true rfl) (Nat.le_of_ble_eq_true rfl)
set_option maxHeartbeats 1000000 in
set_option maxRecDepth 100000 in
theorem j_J31_removeFirst (l : Launch) (V : gh_V) (g0 : gh_G) (o k q x : Nat) (L : List Nat) (hQ : dq_P V o k g0 q (x :: L)) : MR l yJ31_removeFirst cJ31_removeFirst 2 (some (.object "java/lang/Object")) ({ frames := 2, cells := 0, slots := 0, locals := 44 } : Room) V [.ref q] g0 (fun r g1 => r = some x ∧ dq_P V o k g1 q L ∧ gh_fk o k g0 g1) := by
  refine MG.of RJ31 (by decide) rfl (Nat.le_of_ble_eq_true rfl) (fun pp ee s mm args below meth c ls hC hg hr hlk hnm hl => ?_)
  have hx := hC.1.1
  have hb := hC.1.2.1
  have hml := hC.1.2.2.1
  have hown := hC.1.2.2.2.1
  have hts := hC.1.2.2.2.2
  have hl : lv_has ls 2 [(0, .ref q)] := hl
  obtain ⟨g, hg, hgg⟩ : ∃ g, gh_W V (gh_A g0 s.heap.size) s g s.heap [] ∧ g = g0 := ⟨g0, hg, rfl⟩
  have hQ9 := hQ
  obtain ⟨arr, h, f, hqq, ha, hz⟩ := hQ
  rw [← hgg] at hqq hQ9
  refine lv_aload_n hx hb dJ31_removeFirst_0 rfl (lv_at hl 0 rfl) ?_
  refine gh_callq hg (gh_runV (As := []) (rest := []) hC hg (j_J31_pollFirst l V _ o k q x L hQ9) 0 (lw_V q3249 q3250 q3251 q137 q3252) hqq rfl hd_J31_pollFirst ⟨Nat.le_of_ble_eq_true rfl, Nat.le_of_ble_eq_true rfl⟩ rfl hl.1 rfl (Nat.le_of_ble_eq_true rfl) dJ31_removeFirst_1 ⟨Nat.le_of_ble_eq_true rfl, Nat.le_of_ble_eq_true rfl⟩) (fun r_1 g H locs hg hp => ?_)
  obtain ⟨hr, hQ9, hF9⟩ := hp
  subst hr
  refine W.eq (g2 := F0 mm 4 ls [.ref x]) rfl ?_
  rw [hgg] at hF9
  refine lv_astore_n (lv' := [(1, .ref x), (0, .ref q)]) hx hb dJ31_removeFirst_4 rfl hl (by decide) rfl (fun ls hl => ?_)
  refine lv_aload_n hx hb dJ31_removeFirst_5 rfl (lv_at hl 0 rfl) ?_
  refine lv_ifnonnull (tgt := 17) hx hb dJ31_removeFirst_6 (by decide) ?_
  refine lv_aload_n hx hb dJ31_removeFirst_17 rfl (lv_at hl 0 rfl) ?_
  exact gh_retq (r := some x) (Or.inl ⟨_, rfl⟩) hC hg hr hlk (⟨rfl, hQ9, hF9⟩) dJ31_removeFirst_18 (Nat.le_of_ble_eq_true rfl) (Nat.le_of_ble_eq_true rfl)
set_option maxHeartbeats 1000000 in
set_option maxRecDepth 100000 in
theorem j_J31_pollLast (l : Launch) (V : gh_V) (g0 : gh_G) (o k q x : Nat) (L : List Nat) (hQ : dq_P V o k g0 q (L ++ [x])) : MR l yJ31_pollLast cJ31_pollLast 4 (some (.object "java/lang/Object")) ({ frames := 1, cells := 0, slots := 0, locals := 21 } : Room) V [.ref q] g0 (fun r g1 => r = some x ∧ dq_P V o k g1 q L ∧ gh_fk o k g0 g1) := by
  refine MG.of RJ31 (by decide) rfl (Nat.le_of_ble_eq_true rfl) (fun pp ee s mm args below meth c ls hC hg hr hlk hnm hl => ?_)
  have hx := hC.1.1
  have hb := hC.1.2.1
  have hml := hC.1.2.2.1
  have hown := hC.1.2.2.2.1
  have hts := hC.1.2.2.2.2
  have hl : lv_has ls 4 [(0, .ref q)] := hl
  obtain ⟨g, hg, hgg⟩ : ∃ g, gh_W V (gh_A g0 s.heap.size) s g s.heap [] ∧ g = g0 := ⟨g0, hg, rfl⟩
  obtain ⟨arr, h, f, hqq, ha, hh, hL, hf⟩ := hQ
  rw [List.length_append, List.length_singleton] at hqq
  rw [← hgg] at hqq ha
  have hF : gh_fk o k g0 g := by rw [hgg]; exact gh_fk.rf
  obtain ⟨hfl, hfk⟩ := dq_last hh hL hf
  have he9 : ((h + (L.length + 1)) % 17 + 16) % 17 = (h + L.length) % 17 := by omega
  rw [← he9] at hfl hfk
  refine lv_aload_n hx hb dJ31_pollLast_0 rfl (lv_at hl 0 rfl) ?_
  refine gh_get (v := .ref arr) hC hg hqq fJ31_3_17 rfl dJ31_pollLast_1 ?_
  refine lv_dup hx hb dJ31_pollLast_4 rfl ?_
  refine lv_astore_n (lv' := [(1, .ref arr), (0, .ref q)]) hx hb dJ31_pollLast_5 rfl hl (by decide) rfl (fun ls hl => ?_)
  refine lv_aload_n hx hb dJ31_pollLast_6 rfl (lv_at hl 1 rfl) ?_
  refine gh_get (v := .int (nI ((h + (L.length + 1)) % 17))) hC hg hqq fJ31_20_17 rfl dJ31_pollLast_7 ?_
  refine lv_aload_n hx hb dJ31_pollLast_10 rfl (lv_at hl 0 rfl) ?_
  refine gh_alen hC hg ha rfl dJ31_pollLast_11 ?_
  refine gh_calli hg (gh_runS (As := [.int (nI ((h + (L.length + 1)) % 17)), .int (nI 17)]) (rest := [.ref arr]) hC hg (j_J31_dec l V _ ((h + (L.length + 1)) % 17) (by omega)) 2 (lw_S q3806 q3807 q137 q3808) hd_J31_dec.2 ⟨Nat.le_of_ble_eq_true rfl, Nat.le_of_ble_eq_true rfl⟩ rfl hl.1 rfl (Nat.le_of_ble_eq_true rfl) dJ31_pollLast_12 ⟨Nat.le_of_ble_eq_true rfl, Nat.le_of_ble_eq_true rfl⟩) (fun r_1 g H locs hg hp => ?_)
  obtain ⟨hp, hq⟩ := hp
  replace hp : (nI ((((h + (L.length + 1)) % 17) + 16) % 17)) = r_1 := hp.symm
  subst hp
  rw [hq] at hg
  refine lv_dup hx hb dJ31_pollLast_15 rfl ?_
  refine lv_istore_n (lv' := [(2, .int (nI ((((h + (L.length + 1)) % 17) + 16) % 17))), (1, .ref arr), (0, .ref q)]) hx hb dJ31_pollLast_16 rfl hl (by decide) rfl (fun ls hl => ?_)
  refine gh_callq hg (gh_runS (As := [.ref arr, .int (nI ((((h + (L.length + 1)) % 17) + 16) % 17))]) (rest := []) hC hg (j_J31_elementAt l V _ arr ((((h + (L.length + 1)) % 17) + 16) % 17) f (o, k, 1) (by omega) ha) 2 (lw_S q3253 q3254 q137 q3255) hd_J31_elementAt.2 ⟨Nat.le_of_ble_eq_true rfl, Nat.le_of_ble_eq_true rfl⟩ rfl hl.1 rfl (Nat.le_of_ble_eq_true rfl) dJ31_pollLast_17 ⟨Nat.le_of_ble_eq_true rfl, Nat.le_of_ble_eq_true rfl⟩) (fun r_2 g H locs hg hp => ?_)
  obtain ⟨hp, hq9⟩ := hp
  rw [hfl] at hp
  subst hp
  rw [hq9] at hg
  refine W.eq (g2 := F0 mm 20 ls [.ref x]) rfl ?_
  refine lv_astore_n (lv' := [(3, .ref x), (2, .int (nI ((((h + (L.length + 1)) % 17) + 16) % 17))), (1, .ref arr), (0, .ref q)]) hx hb dJ31_pollLast_20 rfl hl (by decide) rfl (fun ls hl => ?_)
  refine lv_aload_n hx hb dJ31_pollLast_21 rfl (lv_at hl 0 rfl) ?_
  refine lv_ifnull hx hb dJ31_pollLast_22 ?_
  refine lv_aload_n hx hb dJ31_pollLast_25 rfl (lv_at hl 2 rfl) ?_
  refine lv_aload_n hx hb dJ31_pollLast_26 rfl (lv_at hl 3 rfl) ?_
  refine lv_iload_n hx hb dJ31_pollLast_27 rfl (lv_at hl 1 rfl) ?_
  refine lv_dup_x1 hx hb dJ31_pollLast_28 rfl rfl ?_
  refine gh_put (v := .int (nI ((((h + (L.length + 1)) % 17) + 16) % 17))) hC hg hqq fJ31_20_17 rfl rfl (Nat.le_of_ble_eq_true rfl) dJ31_pollLast_29 (fun g H locs hg hw hn => ?_)
  have ha : g arr = some ((o, k, 1), aq V 5 17 f) := (hn _ (gh_neI ha hqq rfl)).trans ha
  have hF : gh_fk o k g0 g := hF.set hqq hn
  have hqq : g q = some ((o, k, 0), oo 17 [.ref arr, .int (nI h), .int (nI ((((h + (L.length + 1)) % 17) + 16) % 17))]) := hw
  refine lv_null hx hb dJ31_pollLast_32 ?_
  refine gh_qastN (n := 17) (f := f) hC hg ha rfl rfl (by omega) (by omega) dJ31_pollLast_33 (fun g H locs hg hw hn => ?_)
  have hqq : g q = some ((o, k, 0), oo 17 [.ref arr, .int (nI h), .int (nI ((((h + (L.length + 1)) % 17) + 16) % 17))]) := (hn _ (gh_neI hqq ha rfl)).trans hqq
  have hF : gh_fk o k g0 g := hF.set ha hn
  have ha : g arr = some ((o, k, 1), aq V 5 17 (va_up f ((((h + (L.length + 1)) % 17) + 16) % 17) none)) := hw
  refine lv_aload_n hx hb dJ31_pollLast_34 rfl (lv_at hl 0 rfl) ?_
  exact gh_retq (r := some x) (Or.inl ⟨_, rfl⟩) hC hg hr hlk (⟨rfl, ⟨arr, h, _, (by rw [← he9]; exact hqq), ha, hh, (by rw [List.length_append, List.length_singleton] at hL; omega), hfk⟩, hF⟩) dJ31_pollLast_35 (Nat.le_of_ble_eq_true rfl) (Nat.le_of_ble_eq_true rfl)
set_option maxHeartbeats 1000000 in
set_option maxRecDepth 100000 in
theorem j_J31_removeLast (l : Launch) (V : gh_V) (g0 : gh_G) (o k q x : Nat) (L : List Nat) (hQ : dq_P V o k g0 q (L ++ [x])) : MR l yJ31_removeLast cJ31_removeLast 2 (some (.object "java/lang/Object")) ({ frames := 2, cells := 0, slots := 0, locals := 44 } : Room) V [.ref q] g0 (fun r g1 => r = some x ∧ dq_P V o k g1 q L ∧ gh_fk o k g0 g1) := by
  refine MG.of RJ31 (by decide) rfl (Nat.le_of_ble_eq_true rfl) (fun pp ee s mm args below meth c ls hC hg hr hlk hnm hl => ?_)
  have hx := hC.1.1
  have hb := hC.1.2.1
  have hml := hC.1.2.2.1
  have hown := hC.1.2.2.2.1
  have hts := hC.1.2.2.2.2
  have hl : lv_has ls 2 [(0, .ref q)] := hl
  obtain ⟨g, hg, hgg⟩ : ∃ g, gh_W V (gh_A g0 s.heap.size) s g s.heap [] ∧ g = g0 := ⟨g0, hg, rfl⟩
  have hQ9 := hQ
  obtain ⟨arr, h, f, hqq, ha, hz⟩ := hQ
  rw [← hgg] at hqq hQ9
  refine lv_aload_n hx hb dJ31_removeLast_0 rfl (lv_at hl 0 rfl) ?_
  refine gh_callq hg (gh_runV (As := []) (rest := []) hC hg (j_J31_pollLast l V _ o k q x L hQ9) 0 (lw_V q3802 q3803 q3804 q137 q3805) hqq rfl hd_J31_pollLast ⟨Nat.le_of_ble_eq_true rfl, Nat.le_of_ble_eq_true rfl⟩ rfl hl.1 rfl (Nat.le_of_ble_eq_true rfl) dJ31_removeLast_1 ⟨Nat.le_of_ble_eq_true rfl, Nat.le_of_ble_eq_true rfl⟩) (fun r_1 g H locs hg hp => ?_)
  obtain ⟨hr, hQ9, hF9⟩ := hp
  subst hr
  refine W.eq (g2 := F0 mm 4 ls [.ref x]) rfl ?_
  rw [hgg] at hF9
  refine lv_astore_n (lv' := [(1, .ref x), (0, .ref q)]) hx hb dJ31_removeLast_4 rfl hl (by decide) rfl (fun ls hl => ?_)
  refine lv_aload_n hx hb dJ31_removeLast_5 rfl (lv_at hl 0 rfl) ?_
  refine lv_ifnonnull (tgt := 17) hx hb dJ31_removeLast_6 (by decide) ?_
  refine lv_aload_n hx hb dJ31_removeLast_17 rfl (lv_at hl 0 rfl) ?_
  exact gh_retq (r := some x) (Or.inl ⟨_, rfl⟩) hC hg hr hlk (⟨rfl, hQ9, hF9⟩) dJ31_removeLast_18 (Nat.le_of_ble_eq_true rfl) (Nat.le_of_ble_eq_true rfl)
set_option maxHeartbeats 1000000 in
set_option maxRecDepth 100000 in
theorem j_J23_valueOf (l : Launch) (V : gh_V) (g0 : gh_G) (i : Nat) (hi : i < 128) : MR l yJ23_valueOf cJ23_valueOf 1 (some (.object "java/lang/Integer")) ({ frames := 0, cells := 0, slots := 0, locals := 0 } : Room) V [.int (nI i)] g0 (fun r g1 => r = some (V.2.2 (10 + (i + 128))) ∧ g1 = g0) := by
  refine MG.ofF RJ23 (by decide +kernel) rfl (Nat.le_of_ble_eq_true rfl) (fun pp ee s mm args below meth c ls hC hg hr hlk hnm hl => ?_)
  have hx := hC.1.1
  have hb := hC.1.2.1
  have hml := hC.1.2.2.1
  have hown := hC.1.2.2.2.1
  have hts := hC.1.2.2.2.2
  have hl : lv_has ls 1 [(0, .int (nI i))] := hl
  obtain ⟨g, hg, hgg⟩ : ∃ g, gh_W V (gh_A g0 s.heap.size) s g s.heap [] ∧ g = g0 := ⟨g0, hg, rfl⟩
  refine lv_iload_n hx hb dJ23_valueOf_0 rfl (lv_at hl 0 rfl) ?_
  refine lv_bipush (v := (-128)) hx hb dJ23_valueOf_1 (by decide) ?_
  refine lv_icmp_lt (tgt := 23) hx hb dJ23_valueOf_3 (by decide) (fun c_1 => (absurd c_1 (vo_1 hi))) (fun _ => ?_)
  refine lv_iload_n hx hb dJ23_valueOf_6 rfl (lv_at hl 0 rfl) ?_
  refine gh_getsI (C := "java/lang/Integer$IntegerCache") (n := "high") (d := "I") (v := 127) hC hg (by decide +kernel) q3386 (fun _ _ _ _ h => h) dJ23_valueOf_7 ?_
  refine lv_icmp_gt (tgt := 23) hx hb dJ23_valueOf_10 (by decide) (fun c_2 => (absurd ((nx_lt (show ((127 : Int32)) = nI 127 from rfl) rfl (by omega) (by omega)).mp c_2) (by omega))) (fun _ => ?_)
  refine gh_getsR (C := "java/lang/Integer$IntegerCache") (n := "cache") (d := "[Ljava/lang/Integer;") (k := 6) hC hg (by decide +kernel) q3388 (fun _ _ _ _ h => h) dJ23_valueOf_13 ?_
  refine lv_iload_n hx hb dJ23_valueOf_16 rfl (lv_at hl 0 rfl) ?_
  refine lv_sipush (v := 128) hx hb dJ23_valueOf_17 (by decide) ?_
  refine lv_iadd hx hb dJ23_valueOf_20 ?_
  refine gh_ialdK (j := i + 128) hC hg (nx_add rfl (show ((128 : Int32)) = nI 128 from rfl)) (by omega) dJ23_valueOf_21 ?_
  exact gh_retq (r := some (V.2.2 (10 + (i + 128)))) (Or.inl ⟨_, rfl⟩) hC hg hr hlk (⟨rfl, hgg⟩) dJ23_valueOf_22 (Nat.le_of_ble_eq_true rfl) (Nat.le_of_ble_eq_true rfl)
set_option maxHeartbeats 1000000 in
set_option maxRecDepth 100000 in
theorem j_J23_intValue (l : Launch) (V : gh_V) (g0 : gh_G) (i : Nat) (hi : i < 128) : MI l yJ23_intValue cJ23_intValue 1 (some .int) ({ frames := 0, cells := 0, slots := 0, locals := 0 } : Room) V [.ref (V.2.2 (10 + (i + 128)))] g0 (fun r g1 => r = nI i ∧ g1 = g0) := by
  refine MG.ofF RJ23 (by decide +kernel) rfl (Nat.le_of_ble_eq_true rfl) (fun pp ee s mm args below meth c ls hC hg hr hlk hnm hl => ?_)
  have hx := hC.1.1
  have hb := hC.1.2.1
  have hml := hC.1.2.2.1
  have hown := hC.1.2.2.2.1
  have hts := hC.1.2.2.2.2
  have hl : lv_has ls 1 [(0, .ref (V.2.2 (10 + (i + 128))))] := hl
  obtain ⟨g, hg, hgg⟩ : ∃ g, gh_W V (gh_A g0 s.heap.size) s g s.heap [] ∧ g = g0 := ⟨g0, hg, rfl⟩
  refine lv_aload_n hx hb dJ23_intValue_0 rfl (lv_at hl 0 rfl) ?_
  refine gh_Ival (j := i + 128) hC hg (by omega) q3398 dJ23_intValue_1 ?_
  refine W.eq (g2 := F0 mm 4 ls [.int (nI i)]) (by rw [vo_2 i] <;> rfl) ?_
  exact gh_reti hC hg hr hlk (⟨rfl, hgg⟩) dJ23_intValue_4 (Nat.le_of_ble_eq_true rfl) (Nat.le_of_ble_eq_true rfl)
set_option maxHeartbeats 1000000 in
set_option maxRecDepth 100000 in
theorem j_J23_signum (l : Launch) (V : gh_V) (g0 : gh_G) (x : Int32) : MI l yJ23_signum cJ23_signum 1 (some .int) ({ frames := 0, cells := 0, slots := 0, locals := 0 } : Room) V [.int x] g0 (fun r g1 => r = sgnI x ∧ g1 = g0) := by
  refine MG.ofF RJ23 (by decide +kernel) rfl (Nat.le_of_ble_eq_true rfl) (fun pp ee s mm args below meth c ls hC hg hr hlk hnm hl => ?_)
  have hx := hC.1.1
  have hb := hC.1.2.1
  have hml := hC.1.2.2.1
  have hown := hC.1.2.2.2.1
  have hts := hC.1.2.2.2.2
  have hl : lv_has ls 1 [(0, .int x)] := hl
  obtain ⟨g, hg, hgg⟩ : ∃ g, gh_W V (gh_A g0 s.heap.size) s g s.heap [] ∧ g = g0 := ⟨g0, hg, rfl⟩
  refine lv_iload_n hx hb dJ23_signum_0 rfl (lv_at hl 0 rfl) ?_
  refine lv_bipush (v := 31) hx hb dJ23_signum_1 (by decide) ?_
  refine lv_ishr hx hb dJ23_signum_3 ?_
  refine lv_iload_n hx hb dJ23_signum_4 rfl (lv_at hl 0 rfl) ?_
  refine lv_ineg hx hb dJ23_signum_5 ?_
  refine lv_bipush (v := 31) hx hb dJ23_signum_6 (by decide) ?_
  refine lv_iushr (v := (((-x) : Int32).toUInt32 >>> ((31 : Int32).toUInt32 &&& Int32.toUInt32 31)).toInt32) hx hb dJ23_signum_8 rfl ?_
  refine lv_ior hx hb dJ23_signum_9 ?_
  exact gh_reti hC hg hr hlk (⟨sg_0 x, hgg⟩) dJ23_signum_10 (Nat.le_of_ble_eq_true rfl) (Nat.le_of_ble_eq_true rfl)
