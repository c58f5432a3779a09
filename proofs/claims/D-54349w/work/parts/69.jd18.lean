/-! STRINGBUILDER: n characters of codes b -/
def sb_C (V : gh_V) (o k : Nat) (g : gh_G) (q n : Nat) (b : Nat → Nat) (arr cap : Nat) (f : Nat → Int32) (ml : Int32) : Prop :=
  g q = some ((o, k, 0), oo 18 [.ref arr, .int 0, .int ml, .int (nI n)]) ∧ g arr = some ((o, k, 1), ai V 4 cap f) ∧ (cap = 16 ∨ cap = 34 ∨ cap = 70) ∧ n ≤ cap ∧ n ≤ 60 ∧ (∀ i, i < cap → ∃ c, c < 128 ∧ f i = nI c) ∧ (∀ i, i < n → f i = nI (b i) ∧ b i < 128)
def sb_P (V : gh_V) (o k : Nat) (g : gh_G) (q n : Nat) (b : Nat → Nat) : Prop := ∃ (arr cap : Nat) (f : Nat → Int32) (ml : Int32), sb_C V o k g q n b arr cap f ml
theorem sb_P.keep {V : gh_V} {o k : Nat} {g g1 : gh_G} {q n : Nat} {b : Nat → Nat} (h : sb_P V o k g q n b) (hf : ∀ a t x, g a = some (t, x) → t.1 = o → t.2.1 = k → g1 a = some (t, x)) : sb_P V o k g1 q n b := by
  obtain ⟨arr, cap, f, ml, h1, h2, h3⟩ := h
  exact ⟨arr, cap, f, ml, hf _ _ _ h1 rfl rfl, hf _ _ _ h2 rfl rfl, h3⟩
theorem sb_fit : ∀ c, c < 128 → fits .byte (.int (nI c)) = true ∧ (nI c).toInt8.toInt32 = nI c ∧ vp_nar .byte (nI c) = nI c ∧ (nI c) &&& 255 = nI c ∧ ((nI c).toUInt32 % 65536).toInt32 = nI c ∧ narrow .char (.int (nI c)) = .int (nI c) ∧ nI c <<< ((0 : Int32) &&& 31) = nI c ∧ nI c >>> ((0 : Int32) &&& 31) = nI c := by decide +kernel
theorem sb_le {a c : Nat} (h : a ≤ c) (hc : c < 1000) : nI a - nI c ≤ 0 := by
  have h1 : ∀ a, a < 80 → ∀ c, c < 80 → a ≤ c → nI a - nI c ≤ 0 := by decide +kernel
  by_cases h2 : c < 80
  · exact h1 a (by omega) c h2 h
  · rw [Int32.le_iff_toInt_le, Int32.toInt_sub, nI_toInt (by omega), nI_toInt (by omega)]
    have : ((a : Int) - (c : Int)).bmod (2 ^ 32) = (a : Int) - (c : Int) := Int.bmod_eq_of_le (by omega) (by omega)
    rw [this]
    show (a : Int) - c ≤ 0
    omega
theorem sb_cpy1 {f : Nat → Int32} {cap i : Nat} (hi : i < cap) : va_cpy f (fun _ => (0 : Int32)) 0 0 (min cap (2 * cap + 2)) i = f i := by
  unfold va_cpy
  rw [if_pos (by omega)]
  congr 1; omega
theorem sb_cpy2 {f : Nat → Int32} {cap i : Nat} (hfit : ∀ i, i < cap → ∃ c, c < 128 ∧ f i = nI c) : ∃ c, c < 128 ∧ va_cpy f (fun _ => (0 : Int32)) 0 0 (min cap (2 * cap + 2)) i = nI c := by
  unfold va_cpy
  split
  · exact hfit _ (by omega)
  · exact ⟨0, by decide, rfl⟩
theorem sb_put1 {f : Nat → Int32} {n c9 i : Nat} (hc : c9 < 128) (h : ∃ c, c < 128 ∧ f i = nI c) : ∃ c, c < 128 ∧ upd f n (vp_nar .byte (nI c9)) i = nI c := by
  unfold upd
  split
  · exact ⟨c9, hc, (sb_fit c9 hc).2.2.1⟩
  · exact h
theorem sb_put2 {f : Nat → Int32} {b : Nat → Nat} {n c9 i : Nat} (hc : c9 < 128) (h : ∀ i, i < n → f i = nI (b i) ∧ b i < 128) (hi : i < n + 1) : upd f n (vp_nar .byte (nI c9)) i = nI (if i = n then c9 else b i) ∧ (if i = n then c9 else b i) < 128 := by
  unfold upd
  split
  · exact ⟨(sb_fit c9 hc).2.2.1, hc⟩
  · exact h i (by omega)
set_option maxRecDepth 100000
theorem fJ13_15_18 : gh_fd RJ13 15 18 0 (.array .byte) false := gh_fd.own (T := TJ14) tyJ14 rfl in_J14 tyJ14_ok nmJ14 (by decide) q374 rfl rfl (fun h => by cases h)
theorem fJ13_22_18 : gh_fd RJ13 22 18 1 .byte false := gh_fd.own (T := TJ14) tyJ14 rfl in_J14 tyJ14_ok nmJ14 (by decide) q375 rfl rfl (fun h => by cases h)
theorem fJ13_73_18 : gh_fd RJ13 73 18 2 .boolean false := gh_fd.own (T := TJ14) tyJ14 rfl in_J14 tyJ14_ok nmJ14 (by decide) q376 rfl rfl (fun h => by cases h)
theorem fJ13_79_18 : gh_fd RJ13 79 18 3 .int false := gh_fd.own (T := TJ14) tyJ14 rfl in_J14 tyJ14_ok nmJ14 (by decide) q378 rfl rfl (fun h => by cases h)
theorem hd_J13_ensureCapacityInternal : yJ13_ensureCapacityInternal.cls = RJ13 ∧ yJ13_ensureCapacityInternal.cls ≠ "java/lang/invoke/MethodHandle" ∧ yJ13_ensureCapacityInternal.cls ≠ "java/lang/invoke/VarHandle" ∧ (parseMethodDescriptor yJ13_ensureCapacityInternal.desc).map (fun d => d.parameters.length) = some 1 := by decide +kernel
theorem hd_J13_init : yJ13_init.cls = RJ13 ∧ yJ13_init.cls ≠ "java/lang/invoke/MethodHandle" ∧ yJ13_init.cls ≠ "java/lang/invoke/VarHandle" ∧ (parseMethodDescriptor yJ13_init.desc).map (fun d => d.parameters.length) = some 1 := by decide +kernel
theorem hd_J13_newCapacity : yJ13_newCapacity.cls = RJ13 ∧ yJ13_newCapacity.cls ≠ "java/lang/invoke/MethodHandle" ∧ yJ13_newCapacity.cls ≠ "java/lang/invoke/VarHandle" ∧ (parseMethodDescriptor yJ13_newCapacity.desc).map (fun d => d.parameters.length) = some 1 := by decide +kernel
theorem hd_J15_checkIndex : yJ15_checkIndex.cls = RJ15 ∧ yJ15_checkIndex.cls ≠ "java/lang/invoke/MethodHandle" ∧ yJ15_checkIndex.cls ≠ "java/lang/invoke/VarHandle" ∧ (parseMethodDescriptor yJ15_checkIndex.desc).map (fun d => d.parameters.length) = some 2 := by decide +kernel
theorem hd_J19_copyOf : yJ19_copyOf.cls = RJ19 ∧ yJ19_copyOf.cls ≠ "java/lang/invoke/MethodHandle" ∧ yJ19_copyOf.cls ≠ "java/lang/invoke/VarHandle" ∧ (parseMethodDescriptor yJ19_copyOf.desc).map (fun d => d.parameters.length) = some 2 := by decide +kernel
theorem hd_J21_canEncode : yJ21_canEncode.cls = RJ21 ∧ yJ21_canEncode.cls ≠ "java/lang/invoke/MethodHandle" ∧ yJ21_canEncode.cls ≠ "java/lang/invoke/VarHandle" ∧ (parseMethodDescriptor yJ21_canEncode.desc).map (fun d => d.parameters.length) = some 1 := by decide +kernel
theorem hdF_AbstractStringBuilder_isLatin1_0 : (⟨"java/lang/AbstractStringBuilder", "isLatin1", "()Z"⟩ : MethodName).cls ≠ "java/lang/invoke/MethodHandle" ∧ (⟨"java/lang/AbstractStringBuilder", "isLatin1", "()Z"⟩ : MethodName).cls ≠ "java/lang/invoke/VarHandle" ∧ (parseMethodDescriptor (⟨"java/lang/AbstractStringBuilder", "isLatin1", "()Z"⟩ : MethodName).desc).map (fun d => d.parameters.length) = some 0 := by decide +kernel
theorem hdS_J13_append_5 : yJ13_append_5.name ≠ "<init>" ∧ (parseMethodDescriptor yJ13_append_5.desc).map (fun d => d.parameters.length) = some 1 := by decide +kernel
theorem hdS_J13_charAt : yJ13_charAt.name ≠ "<init>" ∧ (parseMethodDescriptor yJ13_charAt.desc).map (fun d => d.parameters.length) = some 1 := by decide +kernel
theorem hdS_J13_length : yJ13_length.name ≠ "<init>" ∧ (parseMethodDescriptor yJ13_length.desc).map (fun d => d.parameters.length) = some 0 := by decide +kernel
theorem hdS_J13_setLength : yJ13_setLength.name ≠ "<init>" ∧ (parseMethodDescriptor yJ13_setLength.desc).map (fun d => d.parameters.length) = some 1 := by decide +kernel
set_option maxHeartbeats 1000000 in
set_option maxRecDepth 100000 in
theorem j_J13_init (l : Launch) (V : gh_V) (g0 : gh_G) (o k q : Nat) (hqq : g0 q = some ((o, k, 0), oo 18 [.null, .int 0, .int 0, .int 0])) : MV l yJ13_init cJ13_init 2 ({ frames := 1, cells := 1, slots := 16, locals := 12 } : Room) V [.ref q, .int (nI 16)] g0 (fun g1 => sb_P V o k g1 q 0 (fun _ => 0) ∧ gh_fk o k g0 g1) := by
  refine MG.of RJ13 (by decide) rfl (Nat.le_of_ble_eq_true rfl) (fun pp ee s mm args below meth c ls hC hg hr hlk hnm hl => ?_)
  have hx := hC.1.1
  have hb := hC.1.2.1
  have hml := hC.1.2.2.1
  have hown := hC.1.2.2.2.1
  have hts := hC.1.2.2.2.2
  have hl : lv_has ls 2 [(0, .ref q), (1, .int (nI 16))] := hl
  obtain ⟨g, hg, hgg⟩ : ∃ g, gh_W V (gh_A g0 s.heap.size) s g s.heap [] ∧ g = g0 := ⟨g0, hg, rfl⟩
  rw [← hgg] at hqq
  have hF : gh_fk o k g0 g := by rw [hgg]; exact gh_fk.rf
  refine lv_aload_n hx hb dJ13_init_0 rfl (lv_at hl 0 rfl) ?_
  refine W.objInit hx hb hown (hts _ q364) (hts _ q185) (hts _ q186) rfl (by rw [hml]; exact hl.1) rfl dJ13_init_1 (Nat.le_of_ble_eq_true rfl) (Nat.le_of_ble_eq_true rfl) ?_
  refine W.eq (g2 := F0 mm 4 ls []) rfl ?_
  refine gh_getsI (C := "java/lang/String") (n := "COMPACT_STRINGS") (d := "Z") (v := 1) hC hg (by decide +kernel) q365 (fun _ _ _ _ h => h) dJ13_init_4 ?_
  refine lv_if_eq (tgt := 25) hx hb dJ13_init_7 (by decide) (fun c_1 => (absurd c_1 (by decide))) (fun _ => ?_)
  refine lv_aload_n hx hb dJ13_init_10 rfl (lv_at hl 0 rfl) ?_
  refine lv_iload_n hx hb dJ13_init_11 rfl (lv_at hl 1 rfl) ?_
  refine gh_newaB hC hg (fun q9 => (o, k, 1)) q390 rfl (by omega) (Nat.le_of_ble_eq_true rfl) (Nat.le_of_ble_eq_true rfl) dJ13_init_12 (fun q_2 g H hg h0 hw hn => ?_)
  have hqq : g q = some ((o, k, 0), oo 18 [.null, .int 0, .int 0, .int 0]) := (hn _ (gh_neN hqq h0)).trans hqq
  have hF : gh_fk o k g0 g := hF.new h0 hn
  have c_3 : g q_2 = some ((o, k, 1), ai V 4 16 (fun _ => 0)) := hw
  refine gh_put (v := .ref q_2) hC hg hqq fJ13_15_18 rfl rfl (Nat.le_of_ble_eq_true rfl) dJ13_init_14 (fun g H locs hg hw hn => ?_)
  have c_3 : g q_2 = some ((o, k, 1), ai V 4 16 (fun _ => 0)) := (hn _ (gh_neI c_3 hqq rfl)).trans c_3
  have hF : gh_fk o k g0 g := hF.set hqq hn
  have hqq : g q = some ((o, k, 0), oo 18 [.ref q_2, .int 0, .int 0, .int 0]) := hw
  refine lv_aload_n hx hb dJ13_init_17 rfl (lv_at hl 0 rfl) ?_
  refine lv_iconst (v := 0) hx hb dJ13_init_18 (by decide) ?_
  refine gh_put (v := .int 0) hC hg hqq fJ13_22_18 rfl rfl (Nat.le_of_ble_eq_true rfl) dJ13_init_19 (fun g H locs hg hw hn => ?_)
  have c_3 : g q_2 = some ((o, k, 1), ai V 4 16 (fun _ => 0)) := (hn _ (gh_neI c_3 hqq rfl)).trans c_3
  have hF : gh_fk o k g0 g := hF.set hqq hn
  have hqq : g q = some ((o, k, 0), oo 18 [.ref q_2, .int 0, .int 0, .int 0]) := hw
  refine lv_goto (tgt := 38) hx hb dJ13_init_22 (by decide) ?_
  exact gh_retv hC hg hr hlk (⟨⟨q_2, 16, _, 0, hqq, c_3, Or.inl rfl, (by omega), (by omega), (fun i hi => ⟨0, by decide, rfl⟩), fun i hi => absurd hi (Nat.not_lt_zero _)⟩, hF⟩) dJ13_init_38 (Nat.le_of_ble_eq_true rfl) (Nat.le_of_ble_eq_true rfl)
set_option maxHeartbeats 1000000 in
set_option maxRecDepth 100000 in
theorem j_J14_init (l : Launch) (V : gh_V) (g0 : gh_G) (o k q : Nat) (hqq : g0 q = some ((o, k, 0), oo 18 [.null, .int 0, .int 0, .int 0])) : MV l yJ14_init cJ14_init 1 ({ frames := 2, cells := 1, slots := 16, locals := 33 } : Room) V [.ref q] g0 (fun g1 => sb_P V o k g1 q 0 (fun _ => 0) ∧ gh_fk o k g0 g1) := by
  refine MG.of RJ14 (by decide) rfl (Nat.le_of_ble_eq_true rfl) (fun pp ee s mm args below meth c ls hC hg hr hlk hnm hl => ?_)
  have hx := hC.1.1
  have hb := hC.1.2.1
  have hml := hC.1.2.2.1
  have hown := hC.1.2.2.2.1
  have hts := hC.1.2.2.2.2
  have hl : lv_has ls 1 [(0, .ref q)] := hl
  obtain ⟨g, hg, hgg⟩ : ∃ g, gh_W V (gh_A g0 s.heap.size) s g s.heap [] ∧ g = g0 := ⟨g0, hg, rfl⟩
  rw [← hgg] at hqq
  refine lv_aload_n hx hb dJ14_init_0 rfl (lv_at hl 0 rfl) ?_
  refine lv_bipush (v := 16) hx hb dJ14_init_1 (by decide) ?_
  refine gh_callv hg (gh_runI (As := [.int 16]) (rest := []) hC hg (j_J13_init l V _ o k q hqq) 1 (lw_meth q363) q118 q361 q362 rfl hd_J13_init.2 ⟨Nat.le_of_ble_eq_true rfl, Nat.le_of_ble_eq_true rfl⟩ rfl hl.1 rfl (Nat.le_of_ble_eq_true rfl) dJ14_init_3 ⟨Nat.le_of_ble_eq_true rfl, Nat.le_of_ble_eq_true rfl⟩) (fun g H locs hg hp => ?_)
  obtain ⟨hP9, hF9⟩ := hp
  rw [hgg] at hF9
  exact gh_retv hC hg hr hlk (⟨hP9, hF9⟩) dJ14_init_6 (Nat.le_of_ble_eq_true rfl) (Nat.le_of_ble_eq_true rfl)
set_option maxHeartbeats 1000000 in
set_option maxRecDepth 100000 in
theorem j_J13_length (l : Launch) (V : gh_V) (g0 : gh_G) (o k q n : Nat) (b : Nat → Nat) (arr cap : Nat) (f : Nat → Int32) (ml : Int32) (hS : sb_C V o k g0 q n b arr cap f ml) : MI l yJ13_length cJ13_length 1 (some .int) ({ frames := 0, cells := 0, slots := 0, locals := 0 } : Room) V [.ref q] g0 (fun r g1 => r = nI n ∧ g1 = g0) := by
  refine MG.of RJ13 (by decide) rfl (Nat.le_of_ble_eq_true rfl) (fun pp ee s mm args below meth c ls hC hg hr hlk hnm hl => ?_)
  have hx := hC.1.1
  have hb := hC.1.2.1
  have hml := hC.1.2.2.1
  have hown := hC.1.2.2.2.1
  have hts := hC.1.2.2.2.2
  have hl : lv_has ls 1 [(0, .ref q)] := hl
  obtain ⟨g, hg, hgg⟩ : ∃ g, gh_W V (gh_A g0 s.heap.size) s g s.heap [] ∧ g = g0 := ⟨g0, hg, rfl⟩
  obtain ⟨hqq, ha, hcap, hnc, hn60, hfit, hfb⟩ := hS
  rw [← hgg] at hqq ha
  refine lv_aload_n hx hb dJ13_length_0 rfl (lv_at hl 0 rfl) ?_
  refine gh_get (v := .int (nI n)) hC hg hqq fJ13_79_18 rfl dJ13_length_1 ?_
  exact gh_reti hC hg hr hlk (⟨rfl, hgg⟩) dJ13_length_4 (Nat.le_of_ble_eq_true rfl) (Nat.le_of_ble_eq_true rfl)
set_option maxHeartbeats 1000000 in
set_option maxRecDepth 100000 in
theorem j_J14_length (l : Launch) (V : gh_V) (g0 : gh_G) (o k q n : Nat) (b : Nat → Nat) (arr cap : Nat) (f : Nat → Int32) (ml : Int32) (hS : sb_C V o k g0 q n b arr cap f ml) : MI l yJ14_length cJ14_length 1 (some .int) ({ frames := 1, cells := 0, slots := 0, locals := 20 } : Room) V [.ref q] g0 (fun r g1 => r = nI n ∧ g1 = g0) := by
  refine MG.of RJ14 (by decide) rfl (Nat.le_of_ble_eq_true rfl) (fun pp ee s mm args below meth c ls hC hg hr hlk hnm hl => ?_)
  have hx := hC.1.1
  have hb := hC.1.2.1
  have hml := hC.1.2.2.1
  have hown := hC.1.2.2.2.1
  have hts := hC.1.2.2.2.2
  have hl : lv_has ls 1 [(0, .ref q)] := hl
  obtain ⟨g, hg, hgg⟩ : ∃ g, gh_W V (gh_A g0 s.heap.size) s g s.heap [] ∧ g = g0 := ⟨g0, hg, rfl⟩
  have hS0 := hS
  have hS9 := hS
  obtain ⟨hqq, ha, hcap, hnc, hn60, hfit, hfb⟩ := hS
  rw [← hgg] at hqq ha
  have hS := hS9
  refine lv_aload_n hx hb dJ14_length_0 rfl (lv_at hl 0 rfl) ?_
  refine gh_calli hg (gh_runSU (As := []) (rest := []) (C := "java/lang/StringBuilder") hC hg (j_J13_length l V _ o k q n b arr cap f ml (by rw [hgg]; exact hS)) 0 (lw_SU q561 q557 q387 q556 q118 q562) hqq rfl hdS_J13_length ⟨Nat.le_of_ble_eq_true rfl, Nat.le_of_ble_eq_true rfl⟩ rfl hl.1 rfl (Nat.le_of_ble_eq_true rfl) dJ14_length_1 ⟨Nat.le_of_ble_eq_true rfl, Nat.le_of_ble_eq_true rfl⟩) (fun r_1 g H locs hg hp => ?_)
  obtain ⟨hp, hq⟩ := hp
  replace hp : (nI n) = r_1 := hp.symm
  subst hp
  rw [hq] at hg
  exact gh_reti hC hg hr hlk (⟨rfl, hgg⟩) dJ14_length_4 (Nat.le_of_ble_eq_true rfl) (Nat.le_of_ble_eq_true rfl)
set_option maxHeartbeats 1000000 in
set_option maxRecDepth 100000 in
theorem j_J13_isLatin1 (l : Launch) (V : gh_V) (g0 : gh_G) (o k q n : Nat) (b : Nat → Nat) (arr cap : Nat) (f : Nat → Int32) (ml : Int32) (hS : sb_C V o k g0 q n b arr cap f ml) : MI l yJ13_isLatin1 cJ13_isLatin1 1 (some .boolean) ({ frames := 0, cells := 0, slots := 0, locals := 0 } : Room) V [.ref q] g0 (fun r g1 => r = 1 ∧ g1 = g0) := by
  refine MG.of RJ13 (by decide) rfl (Nat.le_of_ble_eq_true rfl) (fun pp ee s mm args below meth c ls hC hg hr hlk hnm hl => ?_)
  have hx := hC.1.1
  have hb := hC.1.2.1
  have hml := hC.1.2.2.1
  have hown := hC.1.2.2.2.1
  have hts := hC.1.2.2.2.2
  have hl : lv_has ls 1 [(0, .ref q)] := hl
  obtain ⟨g, hg, hgg⟩ : ∃ g, gh_W V (gh_A g0 s.heap.size) s g s.heap [] ∧ g = g0 := ⟨g0, hg, rfl⟩
  obtain ⟨hqq, ha, hcap, hnc, hn60, hfit, hfb⟩ := hS
  rw [← hgg] at hqq ha
  refine gh_getsI (C := "java/lang/String") (n := "COMPACT_STRINGS") (d := "Z") (v := 1) hC hg (by decide +kernel) q365 (fun _ _ _ _ h => h) dJ13_isLatin1_0 ?_
  refine lv_if_eq (tgt := 17) hx hb dJ13_isLatin1_3 (by decide) (fun c_1 => (absurd c_1 (by decide))) (fun _ => ?_)
  refine lv_aload_n hx hb dJ13_isLatin1_6 rfl (lv_at hl 0 rfl) ?_
  refine gh_get (v := .int 0) hC hg hqq fJ13_22_18 rfl dJ13_isLatin1_7 ?_
  refine lv_if_ne (tgt := 17) hx hb dJ13_isLatin1_10 (by decide) (fun c_2 => (absurd rfl c_2)) (fun _ => ?_)
  refine lv_iconst (v := 1) hx hb dJ13_isLatin1_13 (by decide) ?_
  refine lv_goto (tgt := 18) hx hb dJ13_isLatin1_14 (by decide) ?_
  exact gh_retz rfl hC hg hr hlk (⟨rfl, hgg⟩) dJ13_isLatin1_18 (Nat.le_of_ble_eq_true rfl) (Nat.le_of_ble_eq_true rfl)
set_option maxHeartbeats 1000000 in
set_option maxRecDepth 100000 in
theorem j_J13_newCapacity (l : Launch) (V : gh_V) (g0 : gh_G) (o k q n : Nat) (b : Nat → Nat) (arr cap : Nat) (f : Nat → Int32) (ml : Int32) (hS : sb_C V o k g0 q n b arr cap f ml) (hc70 : cap < 70) : MI l yJ13_newCapacity cJ13_newCapacity 6 (some .int) ({ frames := 2, cells := 0, slots := 0, locals := 37 } : Room) V [.ref q, .int (nI (cap + 1))] g0 (fun r g1 => r = nI (2 * cap + 2) ∧ g1 = g0) := by
  refine MG.of RJ13 (by decide) rfl (Nat.le_of_ble_eq_true rfl) (fun pp ee s mm args below meth c ls hC hg hr hlk hnm hl => ?_)
  have hx := hC.1.1
  have hb := hC.1.2.1
  have hml := hC.1.2.2.1
  have hown := hC.1.2.2.2.1
  have hts := hC.1.2.2.2.2
  have hl : lv_has ls 6 [(0, .ref q), (1, .int (nI (cap + 1)))] := hl
  obtain ⟨g, hg, hgg⟩ : ∃ g, gh_W V (gh_A g0 s.heap.size) s g s.heap [] ∧ g = g0 := ⟨g0, hg, rfl⟩
  obtain ⟨hqq, ha, hcap, hnc, hn60, hfit, hfb⟩ := hS
  rw [← hgg] at hqq ha
  have hcs : nI (cap + 1) <<< ((0 : Int32) &&& 31) = nI (cap + 1) := (sb_fit (cap + 1) (by omega)).2.2.2.2.2.2.1
  refine lv_aload_n hx hb dJ13_newCapacity_0 rfl (lv_at hl 0 rfl) ?_
  refine gh_get (v := .ref arr) hC hg hqq fJ13_15_18 rfl dJ13_newCapacity_1 ?_
  refine gh_alen hC hg ha rfl dJ13_newCapacity_4 ?_
  refine lv_istore_n (lv' := [(2, .int (nI cap)), (0, .ref q), (1, .int (nI (cap + 1)))]) hx hb dJ13_newCapacity_5 rfl hl (by decide) rfl (fun ls hl => ?_)
  refine lv_iload_n hx hb dJ13_newCapacity_6 rfl (lv_at hl 2 rfl) ?_
  refine lv_aload_n hx hb dJ13_newCapacity_7 rfl (lv_at hl 1 rfl) ?_
  refine gh_get (v := .int 0) hC hg hqq fJ13_22_18 rfl dJ13_newCapacity_8 ?_
  refine lv_ishl hx hb dJ13_newCapacity_11 ?_
  refine W.eq (g2 := F0 mm 12 ls [.int (nI (cap + 1))]) (by rw [(sb_fit (cap + 1) (by omega)).2.2.2.2.2.2.1] <;> rfl) ?_
  refine lv_istore_n (lv' := [(3, .int (nI (cap + 1))), (2, .int (nI cap)), (0, .ref q), (1, .int (nI (cap + 1)))]) hx hb dJ13_newCapacity_12 rfl hl (by decide) rfl (fun ls hl => ?_)
  refine lv_iload_n hx hb dJ13_newCapacity_13 rfl (lv_at hl 0 rfl) ?_
  refine lv_iload_n hx hb dJ13_newCapacity_14 rfl (lv_at hl 1 rfl) ?_
  refine lv_isub hx hb dJ13_newCapacity_15 ?_
  refine lv_istore (lv' := [(4, .int ((nI (cap + 1)) - (nI cap))), (3, .int (nI (cap + 1))), (2, .int (nI cap)), (0, .ref q), (1, .int (nI (cap + 1)))]) hx hb dJ13_newCapacity_16 hl (by decide) rfl (fun ls hl => ?_)
  refine lv_iload_n hx hb dJ13_newCapacity_18 rfl (lv_at hl 2 rfl) ?_
  refine lv_iload hx hb dJ13_newCapacity_19 (lv_at hl 0 rfl) ?_
  refine lv_iload_n hx hb dJ13_newCapacity_21 rfl (lv_at hl 2 rfl) ?_
  refine lv_iconst (v := 2) hx hb dJ13_newCapacity_22 (by decide) ?_
  refine lv_aload_n hx hb dJ13_newCapacity_23 rfl (lv_at hl 3 rfl) ?_
  refine gh_get (v := .int 0) hC hg hqq fJ13_22_18 rfl dJ13_newCapacity_24 ?_
  refine lv_ishl hx hb dJ13_newCapacity_27 ?_
  refine W.eq (g2 := F0 mm 28 ls [.int 2, .int (nI cap), .int ((nI (cap + 1)) - (nI cap)), .int (nI cap)]) (by rw [(show (2 : Int32) <<< ((0 : Int32) &&& 31) = 2 from by decide)] <;> rfl) ?_
  refine lv_iadd hx hb dJ13_newCapacity_28 ?_
  refine gh_calli hg (gh_runS (As := [.int (nI cap), .int ((nI (cap + 1)) - (nI cap)), .int ((nI cap) + 2)]) (rest := []) hC hg (j_J17_newLength l V _ (nI cap) ((nI (cap + 1)) - (nI cap)) ((nI cap) + 2) cap ((cap + 1) - cap) (cap + 2) rfl (nx_sub rfl rfl (by omega)) (nx_add rfl (show ((2 : Int32)) = nI 2 from rfl)) (by omega) (by omega)) 3 (lw_S q411 q412 q122 q413) hd_J17_newLength.2 ⟨Nat.le_of_ble_eq_true rfl, Nat.le_of_ble_eq_true rfl⟩ rfl hl.1 rfl (Nat.le_of_ble_eq_true rfl) dJ13_newCapacity_29 ⟨Nat.le_of_ble_eq_true rfl, Nat.le_of_ble_eq_true rfl⟩) (fun r_1 g H locs hg hp => ?_)
  obtain ⟨hp, hq⟩ := hp
  replace hp : (nI (cap + max ((cap + 1) - cap) (cap + 2))) = r_1 := hp.symm
  subst hp
  rw [hq] at hg
  refine lv_istore (lv' := [(5, .int (nI (cap + max ((cap + 1) - cap) (cap + 2)))), (4, .int ((nI (cap + 1)) - (nI cap))), (3, .int (nI (cap + 1))), (2, .int (nI cap)), (0, .ref q), (1, .int (nI (cap + 1)))]) hx hb dJ13_newCapacity_32 hl (by decide) rfl (fun ls hl => ?_)
  refine lv_iload hx hb dJ13_newCapacity_34 (lv_at hl 0 rfl) ?_
  refine lv_ldc (v := 2147483647) hx hb hown (hts _ q421) dJ13_newCapacity_36 ?_
  refine lv_icmp_ne (tgt := 51) hx hb dJ13_newCapacity_38 (by decide) (fun _ => ?_) (fun c_2 => (absurd ((nx_eq rfl (show ((2147483647 : Int32)) = nI 2147483647 from rfl) (by omega) (by omega)).mp c_2) (by omega)))
  refine lv_iload hx hb dJ13_newCapacity_51 (lv_at hl 0 rfl) ?_
  refine lv_aload_n hx hb dJ13_newCapacity_53 rfl (lv_at hl 4 rfl) ?_
  refine gh_get (v := .int 0) hC hg hqq fJ13_22_18 rfl dJ13_newCapacity_54 ?_
  refine lv_ishr hx hb dJ13_newCapacity_57 ?_
  refine W.eq (g2 := F0 mm 58 ls [.int (nI (cap + max ((cap + 1) - cap) (cap + 2)))]) (by rw [(sb_fit (cap + max (cap + 1 - cap) (cap + 2)) (by omega)).2.2.2.2.2.2.2] <;> rfl) ?_
  exact gh_reti hC hg hr hlk (⟨(rfl).trans (congrArg nI (by omega)), hgg⟩) dJ13_newCapacity_58 (Nat.le_of_ble_eq_true rfl) (Nat.le_of_ble_eq_true rfl)
set_option maxHeartbeats 1000000 in
set_option maxRecDepth 100000 in
theorem j_J19_copyOf (l : Launch) (V : gh_V) (g0 : gh_G) (arr o k cap : Nat) (f : Nat → Int32) (t9 : gh_T) (hc70 : cap < 70) (hfit : ∀ i, i < cap → ∃ c, c < 128 ∧ f i = nI c) (ha : g0 arr = some (t9, ai V 4 cap f)) : MR l yJ19_copyOf cJ19_copyOf 3 (some (.array .byte)) ({ frames := 1, cells := 1, slots := (2 * cap + 2), locals := 30 } : Room) V [.ref arr, .int (nI (2 * cap + 2))] g0 (fun r g1 => ∃ (q : Nat) (f1 : Nat → Int32), r = some q ∧ g1 q = some ((o, k, 1), ai V 4 (2 * cap + 2) f1) ∧ (∀ i, i < cap → f1 i = f i) ∧ (∀ i, i < 2 * cap + 2 → ∃ c, c < 128 ∧ f1 i = nI c) ∧ g0 q = none ∧ ∀ b, b ≠ q → g1 b = g0 b) := by
  refine MG.of RJ19 (by decide) rfl (Nat.le_of_ble_eq_true rfl) (fun pp ee s mm args below meth c ls hC hg hr hlk hnm hl => ?_)
  have hx := hC.1.1
  have hb := hC.1.2.1
  have hml := hC.1.2.2.1
  have hown := hC.1.2.2.2.1
  have hts := hC.1.2.2.2.2
  have hl : lv_has ls 3 [(0, .ref arr), (1, .int (nI (2 * cap + 2)))] := hl
  obtain ⟨g, hg, hgg⟩ : ∃ g, gh_W V (gh_A g0 s.heap.size) s g s.heap [] ∧ g = g0 := ⟨g0, hg, rfl⟩
  rw [← hgg] at ha
  have h0a := ha
  rw [hgg] at h0a
  refine lv_iload_n hx hb dJ19_copyOf_0 rfl (lv_at hl 1 rfl) ?_
  refine lv_aload_n hx hb dJ19_copyOf_1 rfl (lv_at hl 0 rfl) ?_
  refine gh_alen hC hg ha rfl dJ19_copyOf_2 ?_
  refine lv_icmp_ne (tgt := 14) hx hb dJ19_copyOf_3 (by decide) (fun _ => ?_) (fun c_1 => (absurd ((nx_eq rfl rfl (by omega) (by omega)).mp c_1) (by omega)))
  refine lv_iload_n hx hb dJ19_copyOf_14 rfl (lv_at hl 1 rfl) ?_
  refine gh_newaB hC hg (fun q9 => (o, k, 1)) q390 rfl (by omega) ((by first | exact Nat.le_of_ble_eq_true rfl | omega | (dsimp only; omega))) (by first | exact (by first | exact Nat.le_of_ble_eq_true rfl | omega | (dsimp only; omega)) | omega | (dsimp only; omega)) dJ19_copyOf_15 (fun q_2 g H hg h0 hw hn => ?_)
  have ha : g arr = some ((t9.1, t9.2.1, t9.2.2), ai V 4 cap f) := (hn _ (gh_neN ha h0)).trans ha
  have c_3 : g q_2 = some ((o, k, 1), ai V 4 (2 * cap + 2) (fun _ => 0)) := hw
  have hh0 : g0 q_2 = none := by rw [← hgg]; exact h0
  have hfr : ∀ b, b ≠ q_2 → g b = g0 b := fun b h1 => (hn b h1).trans (by rw [hgg])
  refine lv_astore_n (lv' := [(2, .ref q_2), (0, .ref arr), (1, .int (nI (2 * cap + 2)))]) hx hb dJ19_copyOf_17 rfl hl (by decide) rfl (fun ls hl => ?_)
  refine lv_aload_n hx hb dJ19_copyOf_18 rfl (lv_at hl 1 rfl) ?_
  refine lv_iconst (v := 0) hx hb dJ19_copyOf_19 (by decide) ?_
  refine lv_aload_n hx hb dJ19_copyOf_20 rfl (lv_at hl 0 rfl) ?_
  refine lv_iconst (v := 0) hx hb dJ19_copyOf_21 (by decide) ?_
  refine lv_aload_n hx hb dJ19_copyOf_22 rfl (lv_at hl 1 rfl) ?_
  refine gh_alen hC hg ha rfl dJ19_copyOf_23 ?_
  refine lv_iload_n hx hb dJ19_copyOf_24 rfl (lv_at hl 2 rfl) ?_
  refine va_mmin hx hb (hml.trans hl.1.symm) hown (hts _ q432) (hts _ q433) (hts _ q123) (hts _ q434) ((by first | exact Nat.le_of_ble_eq_true rfl | omega | (dsimp only; omega))) ((by first | exact Nat.le_of_ble_eq_true rfl | omega | (dsimp only; omega))) ((by first | exact Nat.le_of_ble_eq_true rfl | omega | (dsimp only; omega))) ((by first | exact Nat.le_of_ble_eq_true rfl | omega | (dsimp only; omega))) dJ19_copyOf_25 ?_
  refine W.eq (g2 := F0 mm 28 ls [.int (nI (min cap (2 * cap + 2))), .int 0, .ref q_2, .int 0, .ref arr]) (by rw [nx_min rfl rfl (by omega) (by omega)] <;> rfl) ?_
  refine gh_copyi (sp := 0) (dp := 0) (n := (min cap (2 * cap + 2))) hC hg hl.1 ha c_3 rfl rfl q435 q437 q436 q125 (show ((0 : Int32)) = nI 0 from rfl) (show ((0 : Int32)) = nI 0 from rfl) rfl (by omega) (by omega) (by omega) (by omega) (fun i hi => by obtain ⟨c, h1, h2⟩ := hfit (0 + i) (by omega); rw [h2]; exact (sb_fit c h1).1) ((by first | exact Nat.le_of_ble_eq_true rfl | omega | (dsimp only; omega))) ((by first | exact Nat.le_of_ble_eq_true rfl | omega | (dsimp only; omega))) dJ19_copyOf_28 (fun g H locs hg hw hn => ?_)
  have ha : g arr = some ((t9.1, t9.2.1, t9.2.2), ai V 4 cap f) := (hn _ (fun e9 => by have h9 := h0a; rw [e9, hh0] at h9; cases h9)).trans ha
  have hfr : ∀ b, b ≠ q_2 → g b = g0 b := fun b h1 => (hn b h1).trans (hfr b h1)
  have c_3 : g q_2 = some ((o, k, 1), ai V 4 (2 * cap + 2) (va_cpy f (fun _ => 0) 0 0 (min cap (2 * cap + 2)))) := hw
  refine lv_aload_n hx hb dJ19_copyOf_31 rfl (lv_at hl 0 rfl) ?_
  exact gh_retq (r := some q_2) (Or.inr ⟨_, rfl⟩) hC hg hr hlk (⟨q_2, _, rfl, c_3, (fun i hi => sb_cpy1 hi), (fun i hi => sb_cpy2 hfit), hh0, hfr⟩) dJ19_copyOf_32 ((by first | exact Nat.le_of_ble_eq_true rfl | omega | (dsimp only; omega))) ((by first | exact Nat.le_of_ble_eq_true rfl | omega | (dsimp only; omega)))
set_option maxHeartbeats 1000000 in
set_option maxRecDepth 100000 in
theorem j_J13_ensureCapacityInternal (l : Launch) (V : gh_V) (g0 : gh_G) (o k q n : Nat) (b : Nat → Nat) (arr cap : Nat) (f : Nat → Int32) (ml : Int32) (hS : sb_C V o k g0 q n b arr cap f ml) (m : Nat) (hm60 : m ≤ 60) (hmn : m ≤ n + 1) : MV l yJ13_ensureCapacityInternal cJ13_ensureCapacityInternal 3 ({ frames := 3, cells := 1, slots := 70, locals := 62 } : Room) V [.ref q, .int (nI m)] g0 (fun g1 => ∃ (arr1 cap1 : Nat) (f1 : Nat → Int32) (ml1 : Int32), sb_C V o k g1 q n b arr1 cap1 f1 ml1 ∧ m ≤ cap1 ∧ gh_fk o k g0 g1) := by
  refine MG.of RJ13 (by decide) rfl (Nat.le_of_ble_eq_true rfl) (fun pp ee s mm args below meth c ls hC hg hr hlk hnm hl => ?_)
  have hx := hC.1.1
  have hb := hC.1.2.1
  have hml := hC.1.2.2.1
  have hown := hC.1.2.2.2.1
  have hts := hC.1.2.2.2.2
  have hl : lv_has ls 3 [(0, .ref q), (1, .int (nI m))] := hl
  obtain ⟨g, hg, hgg⟩ : ∃ g, gh_W V (gh_A g0 s.heap.size) s g s.heap [] ∧ g = g0 := ⟨g0, hg, rfl⟩
  have hSS := hS
  have hSg : sb_C V o k g q n b arr cap f ml := by rw [hgg]; exact hSS
  obtain ⟨hqq, ha, hcap, hnc, hn60, hfit, hfb⟩ := hS
  rw [← hgg] at hqq ha
  have hF : gh_fk o k g0 g := by rw [hgg]; exact gh_fk.rf
  by_cases hmc : m ≤ cap
  · skip
    refine lv_aload_n hx hb dJ13_ensureCapacityInternal_0 rfl (lv_at hl 0 rfl) ?_
    refine gh_get (v := .ref arr) hC hg hqq fJ13_15_18 rfl dJ13_ensureCapacityInternal_1 ?_
    refine gh_alen hC hg ha rfl dJ13_ensureCapacityInternal_4 ?_
    refine lv_aload_n hx hb dJ13_ensureCapacityInternal_5 rfl (lv_at hl 0 rfl) ?_
    refine gh_get (v := .int 0) hC hg hqq fJ13_22_18 rfl dJ13_ensureCapacityInternal_6 ?_
    refine lv_ishr hx hb dJ13_ensureCapacityInternal_9 ?_
    refine W.eq (g2 := F0 mm 10 ls [.int (nI cap)]) (by rw [(sb_fit cap (by omega)).2.2.2.2.2.2.2] <;> rfl) ?_
    refine lv_istore_n (lv' := [(2, .int (nI cap)), (0, .ref q), (1, .int (nI m))]) hx hb dJ13_ensureCapacityInternal_10 rfl hl (by decide) rfl (fun ls hl => ?_)
    refine lv_iload_n hx hb dJ13_ensureCapacityInternal_11 rfl (lv_at hl 2 rfl) ?_
    refine lv_iload_n hx hb dJ13_ensureCapacityInternal_12 rfl (lv_at hl 0 rfl) ?_
    refine lv_isub hx hb dJ13_ensureCapacityInternal_13 ?_
    refine lv_if_le (tgt := 38) hx hb dJ13_ensureCapacityInternal_14 (by decide) (fun _ => ?_) (fun c_1 => (absurd (sb_le hmc (by omega)) c_1))
    exact gh_retv hC hg hr hlk (⟨arr, cap, f, ml, hgg ▸ hSS, hmc, by rw [hgg]; exact gh_fk.rf⟩) dJ13_ensureCapacityInternal_38 ((by first | exact Nat.le_of_ble_eq_true rfl | omega | (dsimp only; omega))) ((by first | exact Nat.le_of_ble_eq_true rfl | omega | (dsimp only; omega)))
  have hme : m = cap + 1 := by omega
  have hne : n = cap := by omega
  refine lv_aload_n hx hb dJ13_ensureCapacityInternal_0 rfl (lv_at hl 0 rfl) ?_
  refine gh_get (v := .ref arr) hC hg hqq fJ13_15_18 rfl dJ13_ensureCapacityInternal_1 ?_
  refine gh_alen hC hg ha rfl dJ13_ensureCapacityInternal_4 ?_
  refine lv_aload_n hx hb dJ13_ensureCapacityInternal_5 rfl (lv_at hl 0 rfl) ?_
  refine gh_get (v := .int 0) hC hg hqq fJ13_22_18 rfl dJ13_ensureCapacityInternal_6 ?_
  refine lv_ishr hx hb dJ13_ensureCapacityInternal_9 ?_
  refine W.eq (g2 := F0 mm 10 ls [.int (nI cap)]) (by rw [(sb_fit cap (by omega)).2.2.2.2.2.2.2] <;> rfl) ?_
  refine lv_istore_n (lv' := [(2, .int (nI cap)), (0, .ref q), (1, .int (nI m))]) hx hb dJ13_ensureCapacityInternal_10 rfl hl (by decide) rfl (fun ls hl => ?_)
  refine lv_iload_n hx hb dJ13_ensureCapacityInternal_11 rfl (lv_at hl 2 rfl) ?_
  refine lv_iload_n hx hb dJ13_ensureCapacityInternal_12 rfl (lv_at hl 0 rfl) ?_
  refine lv_isub hx hb dJ13_ensureCapacityInternal_13 ?_
  refine lv_if_le (tgt := 38) hx hb dJ13_ensureCapacityInternal_14 (by decide) (fun c_2 => (absurd ((nx_le (nx_sub rfl rfl (by omega)) (show ((0 : Int32)) = nI 0 from rfl) (by omega) (by omega)).mp c_2) (by omega))) (fun _ => ?_)
  refine lv_aload_n hx hb dJ13_ensureCapacityInternal_17 rfl (lv_at hl 1 rfl) ?_
  refine lv_aload_n hx hb dJ13_ensureCapacityInternal_18 rfl (lv_at hl 1 rfl) ?_
  refine gh_get (v := .ref arr) hC hg hqq fJ13_15_18 rfl dJ13_ensureCapacityInternal_19 ?_
  refine lv_aload_n hx hb dJ13_ensureCapacityInternal_22 rfl (lv_at hl 1 rfl) ?_
  refine lv_iload_n hx hb dJ13_ensureCapacityInternal_23 rfl (lv_at hl 2 rfl) ?_
  refine W.eq (g2 := F0 mm 24 ls [.int (nI (cap + 1)), .ref q, .ref arr, .ref q]) (by rw [(congrArg nI hme : _ = nI (cap + 1))] <;> rfl) ?_
  refine gh_calli hg (gh_runP (As := [.int (nI (cap + 1))]) (rest := [.ref arr, .ref q]) (C := "java/lang/StringBuilder") hC hg (j_J13_newCapacity l V _ o k q n b arr cap f ml hSg (by omega)) 1 q407 q409 q441 q118 q410 (Cond.privateMethod_at (hC.2.2.1.2.2.2.2.1 _ (by decide +kernel))) rfl hqq rfl hd_J13_newCapacity.2 ⟨(by first | exact Nat.le_of_ble_eq_true rfl | omega | (dsimp only; omega)), (by first | exact Nat.le_of_ble_eq_true rfl | omega | (dsimp only; omega))⟩ rfl hl.1 rfl ((by first | exact Nat.le_of_ble_eq_true rfl | omega | (dsimp only; omega))) dJ13_ensureCapacityInternal_24 ⟨(by first | exact Nat.le_of_ble_eq_true rfl | omega | (dsimp only; omega)), (by first | exact Nat.le_of_ble_eq_true rfl | omega | (dsimp only; omega))⟩) (fun r_3 g H locs hg hp => ?_)
  obtain ⟨hp, hq⟩ := hp
  replace hp : (nI (2 * cap + 2)) = r_3 := hp.symm
  subst hp
  rw [hq] at hg
  refine lv_aload_n hx hb dJ13_ensureCapacityInternal_27 rfl (lv_at hl 1 rfl) ?_
  refine gh_get (v := .int 0) hC hg hqq fJ13_22_18 rfl dJ13_ensureCapacityInternal_28 ?_
  refine lv_ishl hx hb dJ13_ensureCapacityInternal_31 ?_
  refine W.eq (g2 := F0 mm 32 ls [.int (nI (2 * cap + 2)), .ref arr, .ref q]) (by rw [(sb_fit (2 * cap + 2) (by omega)).2.2.2.2.2.2.1] <;> rfl) ?_
  refine gh_callq hg (gh_runS (As := [.ref arr, .int (nI (2 * cap + 2))]) (rest := [.ref q]) hC hg (j_J19_copyOf l V _ arr o k cap f (o, k, 1) (by omega) hfit ha) 2 (lw_S q422 q423 q124 q424) hd_J19_copyOf.2 ⟨(by first | exact Nat.le_of_ble_eq_true rfl | omega | (dsimp only; omega)), (by first | exact Nat.le_of_ble_eq_true rfl | omega | (dsimp only; omega))⟩ rfl hl.1 rfl ((by first | exact Nat.le_of_ble_eq_true rfl | omega | (dsimp only; omega))) dJ13_ensureCapacityInternal_32 ⟨(by first | exact Nat.le_of_ble_eq_true rfl | omega | (dsimp only; omega)), (by first | exact Nat.le_of_ble_eq_true rfl | omega | (dsimp only; omega))⟩) (fun r_4 g H locs hg hp => ?_)
  obtain ⟨q9, f1, rfl, hq9, hf1, hf2, hq0, hfr9⟩ := hp
  have hqo := hqq
  have hqq := (hfr9 _ (gh_neN hqo hq0)).trans hqo
  have hF := hF.new hq0 hfr9
  refine W.eq (g2 := F0 mm 35 ls [.ref q9, .ref q]) rfl ?_
  refine gh_put (v := .ref q9) hC hg hqq fJ13_15_18 rfl rfl ((by first | exact Nat.le_of_ble_eq_true rfl | omega | (dsimp only; omega))) dJ13_ensureCapacityInternal_35 (fun g H locs hg hw hn => ?_)
  have hq9 : g q9 = some ((o, k, 1), ai V 4 (2 * cap + 2) f1) := (hn _ (gh_neI hq9 hqq rfl)).trans hq9
  have hF : gh_fk o k g0 g := hF.set hqq hn
  have hqq : g q = some ((o, k, 0), oo 18 [.ref q9, .int 0, .int ml, .int (nI n)]) := hw
  exact gh_retv hC hg hr hlk (⟨q9, 2 * cap + 2, f1, ml, ⟨hqq, hq9, by omega, by omega, hn60, hf2, fun i hi => by rw [hf1 i (by omega)]; exact hfb i hi⟩, by omega, hF⟩) dJ13_ensureCapacityInternal_38 ((by first | exact Nat.le_of_ble_eq_true rfl | omega | (dsimp only; omega))) ((by first | exact Nat.le_of_ble_eq_true rfl | omega | (dsimp only; omega)))
set_option maxHeartbeats 1000000 in
set_option maxRecDepth 100000 in
theorem j_J21_canEncode (l : Launch) (V : gh_V) (g0 : gh_G) (c9 : Nat) (hc9 : c9 < 128) : MI l yJ21_canEncode cJ21_canEncode 1 (some .boolean) ({ frames := 0, cells := 0, slots := 0, locals := 0 } : Room) V [.int (nI c9)] g0 (fun r g1 => r = 1 ∧ g1 = g0) := by
  refine MG.of RJ21 (by decide) rfl (Nat.le_of_ble_eq_true rfl) (fun pp ee s mm args below meth c ls hC hg hr hlk hnm hl => ?_)
  have hx := hC.1.1
  have hb := hC.1.2.1
  have hml := hC.1.2.2.1
  have hown := hC.1.2.2.2.1
  have hts := hC.1.2.2.2.2
  have hl : lv_has ls 1 [(0, .int (nI c9))] := hl
  obtain ⟨g, hg, hgg⟩ : ∃ g, gh_W V (gh_A g0 s.heap.size) s g s.heap [] ∧ g = g0 := ⟨g0, hg, rfl⟩
  refine lv_iload_n hx hb dJ21_canEncode_0 rfl (lv_at hl 0 rfl) ?_
  refine lv_sipush (v := 255) hx hb dJ21_canEncode_1 (by decide) ?_
  refine lv_icmp_gt (tgt := 11) hx hb dJ21_canEncode_4 (by decide) (fun c_1 => (absurd ((nx_lt (show ((255 : Int32)) = nI 255 from rfl) rfl (by omega) (by omega)).mp c_1) (by omega))) (fun _ => ?_)
  refine lv_iconst (v := 1) hx hb dJ21_canEncode_7 (by decide) ?_
  refine lv_goto (tgt := 12) hx hb dJ21_canEncode_8 (by decide) ?_
  exact gh_retz rfl hC hg hr hlk (⟨rfl, hgg⟩) dJ21_canEncode_12 (Nat.le_of_ble_eq_true rfl) (Nat.le_of_ble_eq_true rfl)
set_option maxHeartbeats 1000000 in
set_option maxRecDepth 100000 in
theorem j_J13_append_5 (l : Launch) (V : gh_V) (g0 : gh_G) (o k q n : Nat) (b : Nat → Nat) (arr cap : Nat) (f : Nat → Int32) (ml : Int32) (hS : sb_C V o k g0 q n b arr cap f ml) (c9 : Nat) (hc9 : c9 < 128) (hn6 : n < 60) : MR l yJ13_append_5 cJ13_append_5 2 (some (.object "java/lang/AbstractStringBuilder")) ({ frames := 4, cells := 1, slots := 70, locals := 84 } : Room) V [.ref q, .int (nI c9)] g0 (fun r g1 => r = some q ∧ sb_P V o k g1 q (n + 1) (fun i => if i = n then c9 else b i) ∧ gh_fk o k g0 g1) := by
  refine MG.of RJ13 (by decide) rfl (Nat.le_of_ble_eq_true rfl) (fun pp ee s mm args below meth c ls hC hg hr hlk hnm hl => ?_)
  have hx := hC.1.1
  have hb := hC.1.2.1
  have hml := hC.1.2.2.1
  have hown := hC.1.2.2.2.1
  have hts := hC.1.2.2.2.2
  have hl : lv_has ls 2 [(0, .ref q), (1, .int (nI c9))] := hl
  obtain ⟨g, hg, hgg⟩ : ∃ g, gh_W V (gh_A g0 s.heap.size) s g s.heap [] ∧ g = g0 := ⟨g0, hg, rfl⟩
  have hSS := hS
  have hSg : sb_C V o k g q n b arr cap f ml := by rw [hgg]; exact hSS
  obtain ⟨hqq, ha, hcap, hnc, hn60, hfit, hfb⟩ := hS
  rw [← hgg] at hqq ha
  have hF : gh_fk o k g0 g := by rw [hgg]; exact gh_fk.rf
  refine lv_aload_n hx hb dJ13_append_5_0 rfl (lv_at hl 0 rfl) ?_
  refine lv_aload_n hx hb dJ13_append_5_1 rfl (lv_at hl 0 rfl) ?_
  refine gh_get (v := .int (nI n)) hC hg hqq fJ13_79_18 rfl dJ13_append_5_2 ?_
  refine lv_iconst (v := 1) hx hb dJ13_append_5_5 (by decide) ?_
  refine lv_iadd hx hb dJ13_append_5_6 ?_
  refine W.eq (g2 := F0 mm 7 ls [.int (nI (n + 1)), .ref q]) (by rw [(nx_add rfl (show ((1 : Int32)) = nI 1 from rfl))] <;> rfl) ?_
  refine gh_callv hg (gh_runP (As := [.int (nI (n + 1))]) (rest := []) (C := "java/lang/StringBuilder") hC hg (j_J13_ensureCapacityInternal l V _ o k q n b arr cap f ml hSg (n + 1) (by omega) (by omega)) 1 q403 q405 q441 q118 q406 (Cond.privateMethod_at (hC.2.2.1.2.2.2.2.1 _ (by decide +kernel))) rfl hqq rfl hd_J13_ensureCapacityInternal.2 ⟨Nat.le_of_ble_eq_true rfl, Nat.le_of_ble_eq_true rfl⟩ rfl hl.1 rfl (Nat.le_of_ble_eq_true rfl) dJ13_append_5_7 ⟨Nat.le_of_ble_eq_true rfl, Nat.le_of_ble_eq_true rfl⟩) (fun g H locs hg hp => ?_)
  obtain ⟨arr1, cap1, f1, ml1, hS1, hm1, hF1⟩ := hp
  have hF := hF.tr hF1
  obtain ⟨hqq, ha, hcap, hnc, hn60, hfit, hfb⟩ := id hS1
  refine lv_aload_n hx hb dJ13_append_5_10 rfl (lv_at hl 0 rfl) ?_
  refine gh_calli hg (gh_runU (x := ⟨"java/lang/AbstractStringBuilder", "isLatin1", "()Z"⟩) (C := "java/lang/StringBuilder") (owner := "java/lang/AbstractStringBuilder") (As := []) (rest := []) hC hg (j_J13_isLatin1 l V _ o k q n b arr1 cap1 f1 ml1 hS1) 0 (va_cwU 0 hts (lw_U q438 q440 q439 q441 q118 q442) rfl rfl rfl rfl hdF_AbstractStringBuilder_isLatin1_0 ⟨Nat.le_of_ble_eq_true rfl, Nat.le_of_ble_eq_true rfl⟩) (gh_recv (C := "java/lang/StringBuilder") hC hg hqq rfl) rfl hl.1 rfl (Nat.le_of_ble_eq_true rfl) dJ13_append_5_11 ⟨Nat.le_of_ble_eq_true rfl, Nat.le_of_ble_eq_true rfl⟩) (fun r_1 g H locs hg hp => ?_)
  obtain ⟨hp, hq⟩ := hp
  replace hp : 1 = r_1 := hp.symm
  subst hp
  rw [hq] at hg
  refine lv_if_eq (tgt := 45) hx hb dJ13_append_5_14 (by decide) (fun c_2 => (absurd c_2 (by decide))) (fun _ => ?_)
  refine lv_iload_n hx hb dJ13_append_5_17 rfl (lv_at hl 1 rfl) ?_
  refine gh_calli hg (gh_runS (As := [.int (nI c9)]) (rest := []) hC hg (j_J21_canEncode l V _ c9 (by omega)) 1 (lw_S q769 q770 q127 q771) hd_J21_canEncode.2 ⟨Nat.le_of_ble_eq_true rfl, Nat.le_of_ble_eq_true rfl⟩ rfl hl.1 rfl (Nat.le_of_ble_eq_true rfl) dJ13_append_5_18 ⟨Nat.le_of_ble_eq_true rfl, Nat.le_of_ble_eq_true rfl⟩) (fun r_3 g H locs hg hp => ?_)
  obtain ⟨hp, hq⟩ := hp
  replace hp : 1 = r_3 := hp.symm
  subst hp
  rw [hq] at hg
  refine lv_if_eq (tgt := 45) hx hb dJ13_append_5_21 (by decide) (fun c_4 => (absurd c_4 (by decide))) (fun _ => ?_)
  refine lv_aload_n hx hb dJ13_append_5_24 rfl (lv_at hl 0 rfl) ?_
  refine gh_get (v := .ref arr1) hC hg hqq fJ13_15_18 rfl dJ13_append_5_25 ?_
  refine lv_aload_n hx hb dJ13_append_5_28 rfl (lv_at hl 0 rfl) ?_
  refine lv_dup hx hb dJ13_append_5_29 rfl ?_
  refine gh_get (v := .int (nI n)) hC hg hqq fJ13_79_18 rfl dJ13_append_5_30 ?_
  refine lv_dup_x1 hx hb dJ13_append_5_33 rfl rfl ?_
  refine lv_iconst (v := 1) hx hb dJ13_append_5_34 (by decide) ?_
  refine lv_iadd hx hb dJ13_append_5_35 ?_
  refine gh_put (v := .int ((nI n) + 1)) hC hg hqq fJ13_79_18 rfl rfl (Nat.le_of_ble_eq_true rfl) dJ13_append_5_36 (fun g H locs hg hw hn => ?_)
  have ha : g arr1 = some ((o, k, 1), ai V 4 cap1 f1) := (hn _ (gh_neI ha hqq rfl)).trans ha
  have hF : gh_fk o k g0 g := hF.set hqq hn
  have hqq : g q = some ((o, k, 0), oo 18 [.ref arr1, .int 0, .int ml1, .int ((nI n) + 1)]) := hw
  refine lv_iload_n hx hb dJ13_append_5_39 rfl (lv_at hl 1 rfl) ?_
  refine lv_i2b (v := nI c9) hx hb dJ13_append_5_40 (sb_fit c9 hc9).2.1 ?_
  refine gh_bast (n := cap1) (f := f1) hC hg ha rfl (by omega) (by omega) dJ13_append_5_41 (fun g H locs hg hw hn => ?_)
  have hqq : g q = some ((o, k, 0), oo 18 [.ref arr1, .int 0, .int ml1, .int ((nI n) + 1)]) := (hn _ (gh_neI hqq ha rfl)).trans hqq
  have hF : gh_fk o k g0 g := hF.set ha hn
  have ha : g arr1 = some ((o, k, 1), ai V 4 cap1 (upd f1 n (vp_nar .byte (nI c9)))) := hw
  refine lv_goto (tgt := 75) hx hb dJ13_append_5_42 (by decide) ?_
  refine lv_aload_n hx hb dJ13_append_5_75 rfl (lv_at hl 0 rfl) ?_
  exact gh_retq (r := some q) (Or.inl ⟨_, rfl⟩) hC hg hr hlk (⟨rfl, ⟨arr1, cap1, _, ml1, (nx_add (a := n) (b := 1) rfl (show (1 : Int32) = nI 1 from rfl)) ▸ hqq, ha, hcap, (by omega), (by omega), (fun i hi => sb_put1 hc9 (hfit i hi)), (fun i hi => sb_put2 hc9 hfb hi)⟩, hF⟩) dJ13_append_5_76 (Nat.le_of_ble_eq_true rfl) (Nat.le_of_ble_eq_true rfl)
set_option maxHeartbeats 1000000 in
set_option maxRecDepth 100000 in
theorem j_J14_append_6 (l : Launch) (V : gh_V) (g0 : gh_G) (o k q n : Nat) (b : Nat → Nat) (arr cap : Nat) (f : Nat → Int32) (ml : Int32) (hS : sb_C V o k g0 q n b arr cap f ml) (c9 : Nat) (hc9 : c9 < 128) (hn6 : n < 60) : MR l yJ14_append_6 cJ14_append_6 2 (some (.object "java/lang/StringBuilder")) ({ frames := 5, cells := 1, slots := 70, locals := 105 } : Room) V [.ref q, .int (nI c9)] g0 (fun r g1 => r = some q ∧ sb_P V o k g1 q (n + 1) (fun i => if i = n then c9 else b i) ∧ gh_fk o k g0 g1) := by
  refine MG.of RJ14 (by decide) rfl (Nat.le_of_ble_eq_true rfl) (fun pp ee s mm args below meth c ls hC hg hr hlk hnm hl => ?_)
  have hx := hC.1.1
  have hb := hC.1.2.1
  have hml := hC.1.2.2.1
  have hown := hC.1.2.2.2.1
  have hts := hC.1.2.2.2.2
  have hl : lv_has ls 2 [(0, .ref q), (1, .int (nI c9))] := hl
  obtain ⟨g, hg, hgg⟩ : ∃ g, gh_W V (gh_A g0 s.heap.size) s g s.heap [] ∧ g = g0 := ⟨g0, hg, rfl⟩
  have hSS := hS
  have hSg : sb_C V o k g q n b arr cap f ml := by rw [hgg]; exact hSS
  obtain ⟨hqq, ha, hcap, hnc, hn60, hfit, hfb⟩ := hS
  rw [← hgg] at hqq ha
  refine lv_aload_n hx hb dJ14_append_6_0 rfl (lv_at hl 0 rfl) ?_
  refine lv_iload_n hx hb dJ14_append_6_1 rfl (lv_at hl 1 rfl) ?_
  refine gh_callq hg (gh_runSU (As := [.int (nI c9)]) (rest := []) (C := "java/lang/StringBuilder") hC hg (j_J13_append_5 l V _ o k q n b arr cap f ml hSg c9 (by omega) (by omega)) 1 (lw_SU q799 q4375 q387 q800 q118 q801) hqq rfl hdS_J13_append_5 ⟨Nat.le_of_ble_eq_true rfl, Nat.le_of_ble_eq_true rfl⟩ rfl hl.1 rfl (Nat.le_of_ble_eq_true rfl) dJ14_append_6_2 ⟨Nat.le_of_ble_eq_true rfl, Nat.le_of_ble_eq_true rfl⟩) (fun r_1 g H locs hg hp => ?_)
  obtain ⟨hr, hP9, hF9⟩ := hp
  subst hr
  refine W.eq (g2 := F0 mm 5 ls [.ref q]) rfl ?_
  rw [hgg] at hF9
  refine lv_pop hx hb dJ14_append_6_5 rfl ?_
  refine lv_aload_n hx hb dJ14_append_6_6 rfl (lv_at hl 0 rfl) ?_
  exact gh_retq (r := some q) (Or.inl ⟨_, rfl⟩) hC hg hr hlk (⟨rfl, hP9, hF9⟩) dJ14_append_6_7 (Nat.le_of_ble_eq_true rfl) (Nat.le_of_ble_eq_true rfl)
set_option maxHeartbeats 1000000 in
set_option maxRecDepth 100000 in
theorem j_J15_checkIndex (l : Launch) (V : gh_V) (g0 : gh_G) (i n : Nat) (hi : i < n) (hn9 : n < 1000) : MV l yJ15_checkIndex cJ15_checkIndex 2 ({ frames := 1, cells := 0, slots := 0, locals := 22 } : Room) V [.int (nI i), .int (nI n)] g0 (fun g1 => g1 = g0) := by
  refine MG.of RJ15 (by decide) rfl (Nat.le_of_ble_eq_true rfl) (fun pp ee s mm args below meth c ls hC hg hr hlk hnm hl => ?_)
  have hx := hC.1.1
  have hb := hC.1.2.1
  have hml := hC.1.2.2.1
  have hown := hC.1.2.2.2.1
  have hts := hC.1.2.2.2.2
  have hl : lv_has ls 2 [(0, .int (nI i)), (1, .int (nI n))] := hl
  obtain ⟨g, hg, hgg⟩ : ∃ g, gh_W V (gh_A g0 s.heap.size) s g s.heap [] ∧ g = g0 := ⟨g0, hg, rfl⟩
  refine lv_iload_n hx hb dJ15_checkIndex_0 rfl (lv_at hl 0 rfl) ?_
  refine lv_iload_n hx hb dJ15_checkIndex_1 rfl (lv_at hl 1 rfl) ?_
  refine gh_getsR (C := "jdk/internal/util/Preconditions") (n := "SIOOBE_FORMATTER") (d := "Ljava/util/function/BiFunction;") (k := 8) hC hg (by decide +kernel) q455 (fun _ _ _ _ h => h) dJ15_checkIndex_2 ?_
  refine gh_calli hg (gh_runS (As := [.int (nI i), .int (nI n), .ref (V.2.2 8)]) (rest := []) hC hg (j_J20_checkIndexA l V _ (nI i) (nI n) i n rfl rfl (by omega) (by omega) (V.2.2 8)) 3 (lw_S q811 q812 q126 q813) hd_J20_checkIndex.2 ⟨Nat.le_of_ble_eq_true rfl, Nat.le_of_ble_eq_true rfl⟩ rfl hl.1 rfl (Nat.le_of_ble_eq_true rfl) dJ15_checkIndex_5 ⟨Nat.le_of_ble_eq_true rfl, Nat.le_of_ble_eq_true rfl⟩) (fun r_1 g H locs hg hp => ?_)
  obtain ⟨hp, hq⟩ := hp
  replace hp : (nI i) = r_1 := hp.symm
  subst hp
  rw [hq] at hg
  refine lv_pop hx hb dJ15_checkIndex_8 rfl ?_
  exact gh_retv hC hg hr hlk hgg dJ15_checkIndex_9 (Nat.le_of_ble_eq_true rfl) (Nat.le_of_ble_eq_true rfl)
set_option maxHeartbeats 1000000 in
set_option maxRecDepth 100000 in
theorem j_J13_charAt (l : Launch) (V : gh_V) (g0 : gh_G) (o k q n : Nat) (b : Nat → Nat) (arr cap : Nat) (f : Nat → Int32) (ml : Int32) (hS : sb_C V o k g0 q n b arr cap f ml) (i : Nat) (hi : i < n) : MI l yJ13_charAt cJ13_charAt 5 (some .char) ({ frames := 2, cells := 0, slots := 0, locals := 43 } : Room) V [.ref q, .int (nI i)] g0 (fun r g1 => r = nI (b i) ∧ g1 = g0) := by
  refine MG.of RJ13 (by decide) rfl (Nat.le_of_ble_eq_true rfl) (fun pp ee s mm args below meth c ls hC hg hr hlk hnm hl => ?_)
  have hx := hC.1.1
  have hb := hC.1.2.1
  have hml := hC.1.2.2.1
  have hown := hC.1.2.2.2.1
  have hts := hC.1.2.2.2.2
  have hl : lv_has ls 5 [(0, .ref q), (1, .int (nI i))] := hl
  obtain ⟨g, hg, hgg⟩ : ∃ g, gh_W V (gh_A g0 s.heap.size) s g s.heap [] ∧ g = g0 := ⟨g0, hg, rfl⟩
  obtain ⟨hqq, ha, hcap, hnc, hn60, hfit, hfb⟩ := hS
  rw [← hgg] at hqq ha
  refine lv_aload_n hx hb dJ13_charAt_0 rfl (lv_at hl 0 rfl) ?_
  refine gh_get (v := .int 0) hC hg hqq fJ13_22_18 rfl dJ13_charAt_1 ?_
  refine lv_istore_n (lv' := [(2, .int 0), (0, .ref q), (1, .int (nI i))]) hx hb dJ13_charAt_4 rfl hl (by decide) rfl (fun ls hl => ?_)
  refine lv_aload_n hx hb dJ13_charAt_5 rfl (lv_at hl 1 rfl) ?_
  refine gh_get (v := .ref arr) hC hg hqq fJ13_15_18 rfl dJ13_charAt_6 ?_
  refine lv_astore_n (lv' := [(3, .ref arr), (2, .int 0), (0, .ref q), (1, .int (nI i))]) hx hb dJ13_charAt_9 rfl hl (by decide) rfl (fun ls hl => ?_)
  refine lv_aload_n hx hb dJ13_charAt_10 rfl (lv_at hl 2 rfl) ?_
  refine gh_get (v := .int (nI n)) hC hg hqq fJ13_79_18 rfl dJ13_charAt_11 ?_
  refine lv_aload_n hx hb dJ13_charAt_14 rfl (lv_at hl 0 rfl) ?_
  refine gh_alen hC hg ha rfl dJ13_charAt_15 ?_
  refine lv_iload_n hx hb dJ13_charAt_16 rfl (lv_at hl 1 rfl) ?_
  refine lv_ishr hx hb dJ13_charAt_17 ?_
  refine W.eq (g2 := F0 mm 18 ls [.int (nI cap), .int (nI n)]) (by rw [(sb_fit cap (by omega)).2.2.2.2.2.2.2] <;> rfl) ?_
  refine va_mmin hx hb (hml.trans hl.1.symm) hown (hts _ q928) (hts _ q433) (hts _ q123) (hts _ q434) (Nat.le_of_ble_eq_true rfl) (Nat.le_of_ble_eq_true rfl) (Nat.le_of_ble_eq_true rfl) (Nat.le_of_ble_eq_true rfl) dJ13_charAt_18 ?_
  refine W.eq (g2 := F0 mm 21 ls [.int (nI (min n cap))]) (by rw [nx_min rfl rfl (by omega) (by omega)] <;> rfl) ?_
  refine lv_istore (lv' := [(4, .int (nI (min n cap))), (3, .ref arr), (2, .int 0), (0, .ref q), (1, .int (nI i))]) hx hb dJ13_charAt_21 hl (by decide) rfl (fun ls hl => ?_)
  refine lv_iload_n hx hb dJ13_charAt_23 rfl (lv_at hl 4 rfl) ?_
  refine lv_iload hx hb dJ13_charAt_24 (lv_at hl 0 rfl) ?_
  refine gh_callv hg (gh_runS (As := [.int (nI i), .int (nI (min n cap))]) (rest := []) hC hg (j_J15_checkIndex l V _ i (min n cap) (by omega) (by omega)) 2 (lw_S q929 q809 q120 q810) hd_J15_checkIndex.2 ⟨Nat.le_of_ble_eq_true rfl, Nat.le_of_ble_eq_true rfl⟩ rfl hl.1 rfl (Nat.le_of_ble_eq_true rfl) dJ13_charAt_26 ⟨Nat.le_of_ble_eq_true rfl, Nat.le_of_ble_eq_true rfl⟩) (fun g H locs hg hp => ?_)
  rw [hp] at hg
  refine lv_iload_n hx hb dJ13_charAt_29 rfl (lv_at hl 2 rfl) ?_
  refine lv_if_ne (tgt := 42) hx hb dJ13_charAt_30 (by decide) (fun c_1 => (absurd rfl c_1)) (fun _ => ?_)
  refine lv_aload_n hx hb dJ13_charAt_33 rfl (lv_at hl 1 rfl) ?_
  refine lv_iload_n hx hb dJ13_charAt_34 rfl (lv_at hl 4 rfl) ?_
  refine gh_bald (n := cap) (f := f) hC hg ha rfl (by omega) (by omega) dJ13_charAt_35 ?_
  refine W.eq (g2 := F0 mm 36 ls [.int (nI (b i))]) (by rw [(hfb i hi).1] <;> rfl) ?_
  refine lv_sipush (v := 255) hx hb dJ13_charAt_36 (by decide) ?_
  refine lv_iand hx hb dJ13_charAt_39 ?_
  refine W.eq (g2 := F0 mm 40 ls [.int (nI (b i))]) (by rw [(sb_fit (b i) (hfb i hi).2).2.2.2.1] <;> rfl) ?_
  refine lv_i2c (v := (nI (b i))) hx hb dJ13_charAt_40 (sb_fit (b i) (hfb i hi).2).2.2.2.2.1 ?_
  exact gh_retz ((sb_fit (b i) (hfb i hi).2).2.2.2.2.2.1) hC hg hr hlk (⟨rfl, hgg⟩) dJ13_charAt_41 (Nat.le_of_ble_eq_true rfl) (Nat.le_of_ble_eq_true rfl)
set_option maxHeartbeats 1000000 in
set_option maxRecDepth 100000 in
theorem j_J14_charAt (l : Launch) (V : gh_V) (g0 : gh_G) (o k q n : Nat) (b : Nat → Nat) (arr cap : Nat) (f : Nat → Int32) (ml : Int32) (hS : sb_C V o k g0 q n b arr cap f ml) (i : Nat) (hi : i < n) : MI l yJ14_charAt cJ14_charAt 2 (some .char) ({ frames := 3, cells := 0, slots := 0, locals := 67 } : Room) V [.ref q, .int (nI i)] g0 (fun r g1 => r = nI (b i) ∧ g1 = g0) := by
  refine MG.of RJ14 (by decide) rfl (Nat.le_of_ble_eq_true rfl) (fun pp ee s mm args below meth c ls hC hg hr hlk hnm hl => ?_)
  have hx := hC.1.1
  have hb := hC.1.2.1
  have hml := hC.1.2.2.1
  have hown := hC.1.2.2.2.1
  have hts := hC.1.2.2.2.2
  have hl : lv_has ls 2 [(0, .ref q), (1, .int (nI i))] := hl
  obtain ⟨g, hg, hgg⟩ : ∃ g, gh_W V (gh_A g0 s.heap.size) s g s.heap [] ∧ g = g0 := ⟨g0, hg, rfl⟩
  have hSS := hS
  have hSg : sb_C V o k g q n b arr cap f ml := by rw [hgg]; exact hSS
  obtain ⟨hqq, ha, hcap, hnc, hn60, hfit, hfb⟩ := hS
  rw [← hgg] at hqq ha
  refine lv_aload_n hx hb dJ14_charAt_0 rfl (lv_at hl 0 rfl) ?_
  refine lv_iload_n hx hb dJ14_charAt_1 rfl (lv_at hl 1 rfl) ?_
  refine gh_calli hg (gh_runSU (As := [.int (nI i)]) (rest := []) (C := "java/lang/StringBuilder") hC hg (j_J13_charAt l V _ o k q n b arr cap f ml hSg i (by omega)) 1 (lw_SU q925 q4380 q387 q926 q118 q927) hqq rfl hdS_J13_charAt ⟨Nat.le_of_ble_eq_true rfl, Nat.le_of_ble_eq_true rfl⟩ rfl hl.1 rfl (Nat.le_of_ble_eq_true rfl) dJ14_charAt_2 ⟨Nat.le_of_ble_eq_true rfl, Nat.le_of_ble_eq_true rfl⟩) (fun r_1 g H locs hg hp => ?_)
  obtain ⟨hp, hq⟩ := hp
  replace hp : (nI (b i)) = r_1 := hp.symm
  subst hp
  rw [hq] at hg
  exact gh_retz ((sb_fit (b i) (hfb i hi).2).2.2.2.2.2.1) hC hg hr hlk (⟨rfl, hgg⟩) dJ14_charAt_5 (Nat.le_of_ble_eq_true rfl) (Nat.le_of_ble_eq_true rfl)
set_option maxHeartbeats 1000000 in
set_option maxRecDepth 100000 in
theorem j_J13_setLength (l : Launch) (V : gh_V) (g0 : gh_G) (o k q n : Nat) (b : Nat → Nat) (arr cap : Nat) (f : Nat → Int32) (ml : Int32) (hS : sb_C V o k g0 q n b arr cap f ml) : MV l yJ13_setLength cJ13_setLength 2 ({ frames := 4, cells := 1, slots := 70, locals := 84 } : Room) V [.ref q, .int 0] g0 (fun g1 => sb_P V o k g1 q 0 b ∧ gh_fk o k g0 g1) := by
  refine MG.of RJ13 (by decide) rfl (Nat.le_of_ble_eq_true rfl) (fun pp ee s mm args below meth c ls hC hg hr hlk hnm hl => ?_)
  have hx := hC.1.1
  have hb := hC.1.2.1
  have hml := hC.1.2.2.1
  have hown := hC.1.2.2.2.1
  have hts := hC.1.2.2.2.2
  have hl : lv_has ls 2 [(0, .ref q), (1, .int 0)] := hl
  obtain ⟨g, hg, hgg⟩ : ∃ g, gh_W V (gh_A g0 s.heap.size) s g s.heap [] ∧ g = g0 := ⟨g0, hg, rfl⟩
  have hSS := hS
  have hSg : sb_C V o k g q n b arr cap f ml := by rw [hgg]; exact hSS
  obtain ⟨hqq, ha, hcap, hnc, hn60, hfit, hfb⟩ := hS
  rw [← hgg] at hqq ha
  have hF : gh_fk o k g0 g := by rw [hgg]; exact gh_fk.rf
  refine lv_iload_n hx hb dJ13_setLength_0 rfl (lv_at hl 1 rfl) ?_
  refine lv_if_ge (tgt := 13) hx hb dJ13_setLength_1 (by decide) (fun _ => ?_) (fun c_1 => (absurd ((nx_le (show ((0 : Int32)) = nI 0 from rfl) (show ((0 : Int32)) = nI 0 from rfl) (by omega) (by omega)).mpr (by omega)) c_1))
  refine lv_aload_n hx hb dJ13_setLength_13 rfl (lv_at hl 0 rfl) ?_
  refine lv_iload_n hx hb dJ13_setLength_14 rfl (lv_at hl 1 rfl) ?_
  refine gh_callv hg (gh_runP (As := [.int 0]) (rest := []) (C := "java/lang/StringBuilder") hC hg (j_J13_ensureCapacityInternal l V _ o k q n b arr cap f ml hSg 0 (by omega) (by omega)) 1 q403 q405 q441 q118 q406 (Cond.privateMethod_at (hC.2.2.1.2.2.2.2.1 _ (by decide +kernel))) rfl hqq rfl hd_J13_ensureCapacityInternal.2 ⟨Nat.le_of_ble_eq_true rfl, Nat.le_of_ble_eq_true rfl⟩ rfl hl.1 rfl (Nat.le_of_ble_eq_true rfl) dJ13_setLength_15 ⟨Nat.le_of_ble_eq_true rfl, Nat.le_of_ble_eq_true rfl⟩) (fun g H locs hg hp => ?_)
  obtain ⟨arr1, cap1, f1, ml1, hS1, hm1, hF1⟩ := hp
  have hF := hF.tr hF1
  obtain ⟨hqq, ha, hcap, hnc, hn60, hfit, hfb⟩ := id hS1
  refine lv_aload_n hx hb dJ13_setLength_18 rfl (lv_at hl 0 rfl) ?_
  refine gh_get (v := .int (nI n)) hC hg hqq fJ13_79_18 rfl dJ13_setLength_19 ?_
  refine lv_iload_n hx hb dJ13_setLength_22 rfl (lv_at hl 1 rfl) ?_
  refine lv_icmp_ge (tgt := 63) hx hb dJ13_setLength_23 (by decide) (fun _ => ?_) (fun c_2 => (absurd ((nx_le (show ((0 : Int32)) = nI 0 from rfl) rfl (by omega) (by omega)).mpr (by omega)) c_2))
  refine lv_aload_n hx hb dJ13_setLength_63 rfl (lv_at hl 0 rfl) ?_
  refine gh_get (v := .int (nI n)) hC hg hqq fJ13_79_18 rfl dJ13_setLength_64 ?_
  refine lv_iload_n hx hb dJ13_setLength_67 rfl (lv_at hl 1 rfl) ?_
  refine lv_icmp_le (tgt := 76) hx hb dJ13_setLength_68 (by decide) (fun c_3 => ?_) (fun c_3 => ?_)
  · skip
    have c_3 : n ≤ 0 := (nx_le rfl (show ((0 : Int32)) = nI 0 from rfl) (by omega) (by omega)).mp c_3
    refine lv_aload_n hx hb dJ13_setLength_76 rfl (lv_at hl 0 rfl) ?_
    refine lv_iload_n hx hb dJ13_setLength_77 rfl (lv_at hl 1 rfl) ?_
    refine gh_put (v := .int 0) hC hg hqq fJ13_79_18 rfl rfl (Nat.le_of_ble_eq_true rfl) dJ13_setLength_78 (fun g H locs hg hw hn => ?_)
    have ha : g arr1 = some ((o, k, 1), ai V 4 cap1 f1) := (hn _ (gh_neI ha hqq rfl)).trans ha
    have hF : gh_fk o k g0 g := hF.set hqq hn
    have hqq : g q = some ((o, k, 0), oo 18 [.ref arr1, .int 0, .int ml1, .int 0]) := hw
    exact gh_retv hC hg hr hlk (⟨⟨arr1, cap1, f1, _, hqq, ha, hcap, (by omega), (by omega), hfit, fun i hi => absurd hi (Nat.not_lt_zero _)⟩, hF⟩) dJ13_setLength_81 (Nat.le_of_ble_eq_true rfl) (Nat.le_of_ble_eq_true rfl)
  have c_3 : ¬ n ≤ 0 := fun h9 => c_3 ((nx_le rfl (show ((0 : Int32)) = nI 0 from rfl) (by omega) (by omega)).mpr h9)
  refine lv_aload_n hx hb dJ13_setLength_71 rfl (lv_at hl 0 rfl) ?_
  refine lv_iconst (v := 1) hx hb dJ13_setLength_72 (by decide) ?_
  refine gh_put (v := .int 1) hC hg hqq fJ13_73_18 rfl rfl (Nat.le_of_ble_eq_true rfl) dJ13_setLength_73 (fun g H locs hg hw hn => ?_)
  have ha : g arr1 = some ((o, k, 1), ai V 4 cap1 f1) := (hn _ (gh_neI ha hqq rfl)).trans ha
  have hF : gh_fk o k g0 g := hF.set hqq hn
  have hqq : g q = some ((o, k, 0), oo 18 [.ref arr1, .int 0, .int 1, .int (nI n)]) := hw
  refine lv_aload_n hx hb dJ13_setLength_76 rfl (lv_at hl 0 rfl) ?_
  refine lv_iload_n hx hb dJ13_setLength_77 rfl (lv_at hl 1 rfl) ?_
  refine gh_put (v := .int 0) hC hg hqq fJ13_79_18 rfl rfl (Nat.le_of_ble_eq_true rfl) dJ13_setLength_78 (fun g H locs hg hw hn => ?_)
  have ha : g arr1 = some ((o, k, 1), ai V 4 cap1 f1) := (hn _ (gh_neI ha hqq rfl)).trans ha
  have hF : gh_fk o k g0 g := hF.set hqq hn
  have hqq : g q = some ((o, k, 0), oo 18 [.ref arr1, .int 0, .int 1, .int 0]) := hw
  exact gh_retv hC hg hr hlk (⟨⟨arr1, cap1, f1, _, hqq, ha, hcap, (by omega), (by omega), hfit, fun i hi => absurd hi (Nat.not_lt_zero _)⟩, hF⟩) dJ13_setLength_81 (Nat.le_of_ble_eq_true rfl) (Nat.le_of_ble_eq_true rfl)
set_option maxHeartbeats 1000000 in
set_option maxRecDepth 100000 in
theorem j_J14_setLength (l : Launch) (V : gh_V) (g0 : gh_G) (o k q n : Nat) (b : Nat → Nat) (arr cap : Nat) (f : Nat → Int32) (ml : Int32) (hS : sb_C V o k g0 q n b arr cap f ml) : MV l yJ14_setLength cJ14_setLength 2 ({ frames := 5, cells := 1, slots := 70, locals := 105 } : Room) V [.ref q, .int 0] g0 (fun g1 => sb_P V o k g1 q 0 b ∧ gh_fk o k g0 g1) := by
  refine MG.of RJ14 (by decide) rfl (Nat.le_of_ble_eq_true rfl) (fun pp ee s mm args below meth c ls hC hg hr hlk hnm hl => ?_)
  have hx := hC.1.1
  have hb := hC.1.2.1
  have hml := hC.1.2.2.1
  have hown := hC.1.2.2.2.1
  have hts := hC.1.2.2.2.2
  have hl : lv_has ls 2 [(0, .ref q), (1, .int 0)] := hl
  obtain ⟨g, hg, hgg⟩ : ∃ g, gh_W V (gh_A g0 s.heap.size) s g s.heap [] ∧ g = g0 := ⟨g0, hg, rfl⟩
  have hSS := hS
  have hSg : sb_C V o k g q n b arr cap f ml := by rw [hgg]; exact hSS
  obtain ⟨hqq, ha, hcap, hnc, hn60, hfit, hfb⟩ := hS
  rw [← hgg] at hqq ha
  refine lv_aload_n hx hb dJ14_setLength_0 rfl (lv_at hl 0 rfl) ?_
  refine lv_iload_n hx hb dJ14_setLength_1 rfl (lv_at hl 1 rfl) ?_
  refine gh_callv hg (gh_runSU (As := [.int 0]) (rest := []) (C := "java/lang/StringBuilder") hC hg (j_J13_setLength l V _ o k q n b arr cap f ml hSg) 1 (lw_SU q1396 q4383 q387 q1397 q118 q1398) hqq rfl hdS_J13_setLength ⟨Nat.le_of_ble_eq_true rfl, Nat.le_of_ble_eq_true rfl⟩ rfl hl.1 rfl (Nat.le_of_ble_eq_true rfl) dJ14_setLength_2 ⟨Nat.le_of_ble_eq_true rfl, Nat.le_of_ble_eq_true rfl⟩) (fun g H locs hg hp => ?_)
  obtain ⟨hP9, hF9⟩ := hp
  rw [hgg] at hF9
  exact gh_retv hC hg hr hlk (⟨hP9, hF9⟩) dJ14_setLength_5 (Nat.le_of_ble_eq_true rfl) (Nat.le_of_ble_eq_true rfl)
