theorem nx_max {x y : Int32} {a b : Nat} (h : x = nI a) (k : y = nI b) (ha : a < 2 ^ 31) (hb : b < 2 ^ 31) : (if x < y then y else x) = nI (max a b) := by
  by_cases c : a < b
  · rw [if_pos ((nx_lt h k ha hb).mpr c), k, Nat.max_eq_right (Nat.le_of_lt c)]
  · rw [if_neg (fun q => c ((nx_lt h k ha hb).mp q)), h, Nat.max_eq_left (Nat.le_of_not_lt c)]
theorem nx_min {x y : Int32} {a b : Nat} (h : x = nI a) (k : y = nI b) (ha : a < 2 ^ 31) (hb : b < 2 ^ 31) : (if y < x then y else x) = nI (min a b) := by
  by_cases c : b < a
  · rw [if_pos ((nx_lt k h hb ha).mpr c), k, Nat.min_eq_right (Nat.le_of_lt c)]
  · rw [if_neg (fun q => c ((nx_lt k h hb ha).mp q)), h, Nat.min_eq_left (Nat.le_of_not_lt c)]
/-! ARRAYLIST: n elements es, all of class number ce -/
def al_C (V : gh_V) (o k : Nat) (g : gh_G) (l n : Nat) (es : Nat → Nat) (mc : Int32) (cap arr : Nat) (f : Nat → Option Nat) : Prop :=
  g l = some ((o, k, 0), oo 12 [.int mc, .ref arr, .int (nI n)]) ∧ n ≤ cap ∧ (∀ i, i < n → f i = some (es i)) ∧ ((cap = 0 ∧ arr = V.2.2 0) ∨ ((cap = 10 ∨ cap = 15) ∧ g arr = some ((o, k, 1), aq V 5 cap f)))
def al_P (V : gh_V) (o k : Nat) (g : gh_G) (l n : Nat) (es : Nat → Nat) : Prop := ∃ mc cap arr f, al_C V o k g l n es mc cap arr f
theorem al_P.keep {V : gh_V} {o k : Nat} {g g1 : gh_G} {l n : Nat} {es : Nat → Nat} (h : al_P V o k g l n es) (hf : ∀ a t x, g a = some (t, x) → t.1 = o → t.2.1 = k → g1 a = some (t, x)) : al_P V o k g1 l n es := by
  obtain ⟨mc, cap, arr, f, h1, h2, h3, h4⟩ := h
  refine ⟨mc, cap, arr, f, hf _ _ _ h1 rfl rfl, h2, h3, ?_⟩
  rcases h4 with h4 | h4
  · exact Or.inl h4
  · exact Or.inr ⟨h4.1, hf _ _ _ h4.2 rfl rfl⟩
theorem al_P.congr {V : gh_V} {o k : Nat} {g : gh_G} {l n : Nat} {es es' : Nat → Nat} (h : al_P V o k g l n es) (he : ∀ i, i < n → es i = es' i) : al_P V o k g l n es' := by
  obtain ⟨mc, cap, arr, f, h1, h2, h3, h4⟩ := h
  exact ⟨mc, cap, arr, f, h1, h2, fun i hi => by rw [h3 i hi, he i hi], h4⟩
/-- all elements are objects of class number ce -/
def al_E (g : gh_G) (n : Nat) (es : Nat → Nat) (ce : Nat) : Prop := ∀ i, i < n → ∃ t vs, g (es i) = some (t, oo ce vs)
def upd9 (es : Nat → Nat) (n x : Nat) : Nat → Nat := fun i => if i = n then x else es i
theorem upd9_self {es : Nat → Nat} {n x : Nat} : upd9 es n x n = x := if_pos rfl
theorem upd9_ne {es : Nat → Nat} {n i : Nat} (x : Nat) (h : i ≠ n) : upd9 es n x i = es i := if_neg h
theorem al_up {f : Nat → Option Nat} {es : Nat → Nat} {n x : Nat} (h : ∀ i, i < n → f i = some (es i)) : ∀ i, i < n + 1 → va_up f n (some x) i = some (upd9 es n x i) := fun i hi => by
  by_cases e : i = n
  · rw [e, va_up_self, upd9_self]
  · rw [va_up_ne _ _ e, upd9_ne _ e]; exact h i (by omega)
theorem al_full {V : gh_V} {o k : Nat} {g : gh_G} {l n : Nat} {es : Nat → Nat} {mc : Int32} {cap arr : Nat} {f : Nat → Option Nat} (h : al_C V o k g l n es mc cap arr f) (hf : n = cap) (hn : n < 15) : (cap = 0 ∧ arr = V.2.2 0) ∨ (cap = 10 ∧ g arr = some ((o, k, 1), aq V 5 10 f)) := by
  rcases h.2.2.2 with h | ⟨h, h8⟩
  · exact Or.inl h
  · rcases h with h | h
    · subst h; exact Or.inr ⟨rfl, h8⟩
    · omega
set_option maxRecDepth 100000
theorem fJ1_7_12 : gh_fd RJ1 7 12 0 .int false := gh_fd.own (T := TJ2) tyJ2 rfl in_J2 tyJ2_ok nmJ2 (by decide) q213 rfl rfl (fun h => by cases h)
theorem fJ2_48_12 : gh_fd RJ2 48 12 2 .int false := gh_fd.own (T := TJ2) tyJ2 rfl in_J2 tyJ2_ok nmJ2 (by decide) q212 rfl rfl (fun h => by cases h)
theorem fJ2_63_12 : gh_fd RJ2 63 12 0 .int false := gh_fd.ref (ref := "java/util/ArrayList") (T := TJ2) tyJ2 rfl in_J2 tyJ2_ok nmJ2 (by decide) q216 (fun _ _ h x hq => u_same (h _ q215) x hq) rfl rfl (fun h => by cases h)
theorem fJ2_9_12 : gh_fd RJ2 9 12 1 (.array (.object "java/lang/Object")) false := gh_fd.own (T := TJ2) tyJ2 rfl in_J2 tyJ2_ok nmJ2 (by decide) q209 rfl rfl (fun h => by cases h)
theorem hd_J0_init : yJ0_init.cls = RJ0 ∧ yJ0_init.cls ≠ "java/lang/invoke/MethodHandle" ∧ yJ0_init.cls ≠ "java/lang/invoke/VarHandle" ∧ (parseMethodDescriptor yJ0_init.desc).map (fun d => d.parameters.length) = some 0 := by decide +kernel
theorem hd_J17_newLength : yJ17_newLength.cls = RJ17 ∧ yJ17_newLength.cls ≠ "java/lang/invoke/MethodHandle" ∧ yJ17_newLength.cls ≠ "java/lang/invoke/VarHandle" ∧ (parseMethodDescriptor yJ17_newLength.desc).map (fun d => d.parameters.length) = some 3 := by decide +kernel
theorem hd_J19_copyOf_2 : yJ19_copyOf_2.cls = RJ19 ∧ yJ19_copyOf_2.cls ≠ "java/lang/invoke/MethodHandle" ∧ yJ19_copyOf_2.cls ≠ "java/lang/invoke/VarHandle" ∧ (parseMethodDescriptor yJ19_copyOf_2.desc).map (fun d => d.parameters.length) = some 2 := by decide +kernel
theorem hd_J19_copyOf_3 : yJ19_copyOf_3.cls = RJ19 ∧ yJ19_copyOf_3.cls ≠ "java/lang/invoke/MethodHandle" ∧ yJ19_copyOf_3.cls ≠ "java/lang/invoke/VarHandle" ∧ (parseMethodDescriptor yJ19_copyOf_3.desc).map (fun d => d.parameters.length) = some 3 := by decide +kernel
theorem hd_J1_init : yJ1_init.cls = RJ1 ∧ yJ1_init.cls ≠ "java/lang/invoke/MethodHandle" ∧ yJ1_init.cls ≠ "java/lang/invoke/VarHandle" ∧ (parseMethodDescriptor yJ1_init.desc).map (fun d => d.parameters.length) = some 0 := by decide +kernel
theorem hd_J20_checkIndex : yJ20_checkIndex.cls = RJ20 ∧ yJ20_checkIndex.cls ≠ "java/lang/invoke/MethodHandle" ∧ yJ20_checkIndex.cls ≠ "java/lang/invoke/VarHandle" ∧ (parseMethodDescriptor yJ20_checkIndex.desc).map (fun d => d.parameters.length) = some 3 := by decide +kernel
theorem hd_J2_add_2 : yJ2_add_2.cls = RJ2 ∧ yJ2_add_2.cls ≠ "java/lang/invoke/MethodHandle" ∧ yJ2_add_2.cls ≠ "java/lang/invoke/VarHandle" ∧ (parseMethodDescriptor yJ2_add_2.desc).map (fun d => d.parameters.length) = some 3 := by decide +kernel
theorem hd_J2_elementData : yJ2_elementData.cls = RJ2 ∧ yJ2_elementData.cls ≠ "java/lang/invoke/MethodHandle" ∧ yJ2_elementData.cls ≠ "java/lang/invoke/VarHandle" ∧ (parseMethodDescriptor yJ2_elementData.desc).map (fun d => d.parameters.length) = some 1 := by decide +kernel
theorem hd_J2_grow : yJ2_grow.cls = RJ2 ∧ yJ2_grow.cls ≠ "java/lang/invoke/MethodHandle" ∧ yJ2_grow.cls ≠ "java/lang/invoke/VarHandle" ∧ (parseMethodDescriptor yJ2_grow.desc).map (fun d => d.parameters.length) = some 0 := by decide +kernel
theorem hd_J2_grow_2 : yJ2_grow_2.cls = RJ2 ∧ yJ2_grow_2.cls ≠ "java/lang/invoke/MethodHandle" ∧ yJ2_grow_2.cls ≠ "java/lang/invoke/VarHandle" ∧ (parseMethodDescriptor yJ2_grow_2.desc).map (fun d => d.parameters.length) = some 1 := by decide +kernel
theorem hd_J30_checkIndex : yJ30_checkIndex.cls = RJ30 ∧ yJ30_checkIndex.cls ≠ "java/lang/invoke/MethodHandle" ∧ yJ30_checkIndex.cls ≠ "java/lang/invoke/VarHandle" ∧ (parseMethodDescriptor yJ30_checkIndex.desc).map (fun d => d.parameters.length) = some 2 := by decide +kernel
set_option maxHeartbeats 1000000 in
set_option maxRecDepth 100000 in
theorem j_J0_init (l : Launch) (V : gh_V) (g0 : gh_G) (a : Nat) : MV l yJ0_init cJ0_init 1 ({ frames := 1, cells := 0, slots := 0, locals := 12 } : Room) V [.ref a] g0 (fun g1 => g1 = g0) := by
  refine MG.of RJ0 (by decide) rfl (Nat.le_of_ble_eq_true rfl) (fun pp ee s mm args below meth c ls hC hg hr hlk hnm hl => ?_)
  have hx := hC.1.1
  have hb := hC.1.2.1
  have hml := hC.1.2.2.1
  have hown := hC.1.2.2.2.1
  have hts := hC.1.2.2.2.2
  have hl : lv_has ls 1 [(0, .ref a)] := hl
  obtain ⟨g, hg, hgg⟩ : ∃ g, gh_W V (gh_A g0 s.heap.size) s g s.heap [] ∧ g = g0 := ⟨g0, hg, rfl⟩
  refine lv_aload_n hx hb dJ0_init_0 rfl (lv_at hl 0 rfl) ?_
  refine W.objInit hx hb hown (hts _ q206) (hts _ q185) (hts _ q186) rfl (by rw [hml]; exact hl.1) rfl dJ0_init_1 (Nat.le_of_ble_eq_true rfl) (Nat.le_of_ble_eq_true rfl) ?_
  refine W.eq (g2 := F0 mm 4 ls []) rfl ?_
  exact gh_retv hC hg hr hlk hgg dJ0_init_4 (Nat.le_of_ble_eq_true rfl) (Nat.le_of_ble_eq_true rfl)
set_option maxHeartbeats 1000000 in
set_option maxRecDepth 100000 in
theorem j_J20_checkIndexN (l : Launch) (V : gh_V) (g0 : gh_G) (x y : Int32) (i n : Nat) (hx9 : x = nI i) (hy9 : y = nI n) (hi : i < n) (hn9 : n < 2147483648) : MI l yJ20_checkIndex cJ20_checkIndex 3 (some .int) ({ frames := 0, cells := 0, slots := 0, locals := 0 } : Room) V [.int x, .int y, .null] g0 (fun r g1 => r = x ∧ g1 = g0) := by
  refine MG.of RJ20 (by decide) rfl (Nat.le_of_ble_eq_true rfl) (fun pp ee s mm args below meth c ls hC hg hr hlk hnm hl => ?_)
  have hx := hC.1.1
  have hb := hC.1.2.1
  have hml := hC.1.2.2.1
  have hown := hC.1.2.2.2.1
  have hts := hC.1.2.2.2.2
  have hl : lv_has ls 3 [(0, .int x), (1, .int y), (2, .null)] := hl
  obtain ⟨g, hg, hgg⟩ : ∃ g, gh_W V (gh_A g0 s.heap.size) s g s.heap [] ∧ g = g0 := ⟨g0, hg, rfl⟩
  refine lv_iload_n hx hb dJ20_checkIndex_0 rfl (lv_at hl 0 rfl) ?_
  refine lv_if_lt (tgt := 9) hx hb dJ20_checkIndex_1 (by decide) (fun c_1 => (absurd ((nx_lt hx9 (show ((0 : Int32)) = nI 0 from rfl) (by omega) (by omega)).mp c_1) (by omega))) (fun _ => ?_)
  refine lv_iload_n hx hb dJ20_checkIndex_4 rfl (lv_at hl 0 rfl) ?_
  refine lv_iload_n hx hb dJ20_checkIndex_5 rfl (lv_at hl 1 rfl) ?_
  refine lv_icmp_lt (tgt := 16) hx hb dJ20_checkIndex_6 (by decide) (fun _ => ?_) (fun c_2 => (absurd ((nx_lt hx9 hy9 (by omega) (by omega)).mpr (by omega)) c_2))
  refine lv_iload_n hx hb dJ20_checkIndex_16 rfl (lv_at hl 0 rfl) ?_
  exact gh_reti hC hg hr hlk (⟨rfl, hgg⟩) dJ20_checkIndex_17 (Nat.le_of_ble_eq_true rfl) (Nat.le_of_ble_eq_true rfl)
set_option maxHeartbeats 1000000 in
set_option maxRecDepth 100000 in
theorem j_J20_checkIndexA (l : Launch) (V : gh_V) (g0 : gh_G) (x y : Int32) (i n : Nat) (hx9 : x = nI i) (hy9 : y = nI n) (hi : i < n) (hn9 : n < 2147483648) (q : Nat) : MI l yJ20_checkIndex cJ20_checkIndex 3 (some .int) ({ frames := 0, cells := 0, slots := 0, locals := 0 } : Room) V [.int x, .int y, .ref q] g0 (fun r g1 => r = x ∧ g1 = g0) := by
  refine MG.of RJ20 (by decide) rfl (Nat.le_of_ble_eq_true rfl) (fun pp ee s mm args below meth c ls hC hg hr hlk hnm hl => ?_)
  have hx := hC.1.1
  have hb := hC.1.2.1
  have hml := hC.1.2.2.1
  have hown := hC.1.2.2.2.1
  have hts := hC.1.2.2.2.2
  have hl : lv_has ls 3 [(0, .int x), (1, .int y), (2, .ref q)] := hl
  obtain ⟨g, hg, hgg⟩ : ∃ g, gh_W V (gh_A g0 s.heap.size) s g s.heap [] ∧ g = g0 := ⟨g0, hg, rfl⟩
  refine lv_iload_n hx hb dJ20_checkIndex_0 rfl (lv_at hl 0 rfl) ?_
  refine lv_if_lt (tgt := 9) hx hb dJ20_checkIndex_1 (by decide) (fun c_1 => (absurd ((nx_lt hx9 (show ((0 : Int32)) = nI 0 from rfl) (by omega) (by omega)).mp c_1) (by omega))) (fun _ => ?_)
  refine lv_iload_n hx hb dJ20_checkIndex_4 rfl (lv_at hl 0 rfl) ?_
  refine lv_iload_n hx hb dJ20_checkIndex_5 rfl (lv_at hl 1 rfl) ?_
  refine lv_icmp_lt (tgt := 16) hx hb dJ20_checkIndex_6 (by decide) (fun _ => ?_) (fun c_2 => (absurd ((nx_lt hx9 hy9 (by omega) (by omega)).mpr (by omega)) c_2))
  refine lv_iload_n hx hb dJ20_checkIndex_16 rfl (lv_at hl 0 rfl) ?_
  exact gh_reti hC hg hr hlk (⟨rfl, hgg⟩) dJ20_checkIndex_17 (Nat.le_of_ble_eq_true rfl) (Nat.le_of_ble_eq_true rfl)
set_option maxHeartbeats 1000000 in
set_option maxRecDepth 100000 in
theorem j_J30_checkIndex (l : Launch) (V : gh_V) (g0 : gh_G) (x y : Int32) (i n : Nat) (hx9 : x = nI i) (hy9 : y = nI n) (hi : i < n) (hn9 : n < 2147483648) : MI l yJ30_checkIndex cJ30_checkIndex 2 (some .int) ({ frames := 1, cells := 0, slots := 0, locals := 22 } : Room) V [.int x, .int y] g0 (fun r g1 => r = x ∧ g1 = g0) := by
  refine MG.of RJ30 (by decide) rfl (Nat.le_of_ble_eq_true rfl) (fun pp ee s mm args below meth c ls hC hg hr hlk hnm hl => ?_)
  have hx := hC.1.1
  have hb := hC.1.2.1
  have hml := hC.1.2.2.1
  have hown := hC.1.2.2.2.1
  have hts := hC.1.2.2.2.2
  have hl : lv_has ls 2 [(0, .int x), (1, .int y)] := hl
  obtain ⟨g, hg, hgg⟩ : ∃ g, gh_W V (gh_A g0 s.heap.size) s g s.heap [] ∧ g = g0 := ⟨g0, hg, rfl⟩
  refine lv_iload_n hx hb dJ30_checkIndex_0 rfl (lv_at hl 0 rfl) ?_
  refine lv_iload_n hx hb dJ30_checkIndex_1 rfl (lv_at hl 1 rfl) ?_
  refine lv_null hx hb dJ30_checkIndex_2 ?_
  refine gh_calli hg (gh_runS (As := [.int x, .int y, .null]) (rest := []) hC hg (j_J20_checkIndexN l V _ x y i n hx9 hy9 (by omega) (by omega)) 3 (lw_S q1344 q812 q126 q813) hd_J20_checkIndex.2 ⟨Nat.le_of_ble_eq_true rfl, Nat.le_of_ble_eq_true rfl⟩ rfl hl.1 rfl (Nat.le_of_ble_eq_true rfl) dJ30_checkIndex_3 ⟨Nat.le_of_ble_eq_true rfl, Nat.le_of_ble_eq_true rfl⟩) (fun r_1 g H locs hg hp => ?_)
  obtain ⟨hp, hq⟩ := hp
  replace hp : x = r_1 := hp.symm
  subst hp
  rw [hq] at hg
  exact gh_reti hC hg hr hlk (⟨rfl, hgg⟩) dJ30_checkIndex_6 (Nat.le_of_ble_eq_true rfl) (Nat.le_of_ble_eq_true rfl)
set_option maxHeartbeats 1000000 in
set_option maxRecDepth 100000 in
theorem j_J1_init (l : Launch) (V : gh_V) (g0 : gh_G) (a o k j : Nat) (mc n9 : Int32) (q9 : Value) (hp9 : g0 a = some ((o, k, j), oo 12 [.int mc, q9, .int n9])) : MV l yJ1_init cJ1_init 1 ({ frames := 2, cells := 0, slots := 0, locals := 32 } : Room) V [.ref a] g0 (fun g1 => g1 a = some ((o, k, j), oo 12 [.int 0, q9, .int n9]) ∧ gh_fk o k g0 g1) := by
  refine MG.of RJ1 (by decide) rfl (Nat.le_of_ble_eq_true rfl) (fun pp ee s mm args below meth c ls hC hg hr hlk hnm hl => ?_)
  have hx := hC.1.1
  have hb := hC.1.2.1
  have hml := hC.1.2.2.1
  have hown := hC.1.2.2.2.1
  have hts := hC.1.2.2.2.2
  have hl : lv_has ls 1 [(0, .ref a)] := hl
  obtain ⟨g, hg, hgg⟩ : ∃ g, gh_W V (gh_A g0 s.heap.size) s g s.heap [] ∧ g = g0 := ⟨g0, hg, rfl⟩
  rw [← hgg] at hp9
  have hf : gh_fk o k g0 g := by rw [hgg]; exact gh_fk.rf
  refine lv_aload_n hx hb dJ1_init_0 rfl (lv_at hl 0 rfl) ?_
  refine gh_callv hg (gh_runI (As := []) (rest := []) hC hg (j_J0_init l V _ a) 0 (lw_meth q205) q105 q203 q204 rfl hd_J0_init.2 ⟨Nat.le_of_ble_eq_true rfl, Nat.le_of_ble_eq_true rfl⟩ rfl hl.1 rfl (Nat.le_of_ble_eq_true rfl) dJ1_init_1 ⟨Nat.le_of_ble_eq_true rfl, Nat.le_of_ble_eq_true rfl⟩) (fun g H locs hg hp => ?_)
  rw [hp] at hg
  refine lv_aload_n hx hb dJ1_init_4 rfl (lv_at hl 0 rfl) ?_
  refine lv_iconst (v := 0) hx hb dJ1_init_5 (by decide) ?_
  refine gh_put (v := .int 0) hC hg hp9 fJ1_7_12 rfl rfl (Nat.le_of_ble_eq_true rfl) dJ1_init_6 (fun g H locs hg hw hn => ?_)
  have hf : gh_fk o k g0 g := hf.set hp9 hn
  have hp9 : g a = some ((o, k, j), oo 12 [.int 0, q9, .int n9]) := hw
  exact gh_retv hC hg hr hlk (⟨hp9, hf⟩) dJ1_init_9 (Nat.le_of_ble_eq_true rfl) (Nat.le_of_ble_eq_true rfl)
set_option maxHeartbeats 1000000 in
set_option maxRecDepth 100000 in
theorem j_J2_init (l : Launch) (V : gh_V) (g0 : gh_G) (a o k : Nat) (hp9 : g0 a = some ((o, k, 0), oo 12 [.int 0, .null, .int 0])) : MV l yJ2_init cJ2_init 1 ({ frames := 3, cells := 0, slots := 0, locals := 52 } : Room) V [.ref a] g0 (fun g1 => al_P V o k g1 a 0 (fun _ => 0) ∧ gh_fk o k g0 g1) := by
  refine MG.of RJ2 (by decide) rfl (Nat.le_of_ble_eq_true rfl) (fun pp ee s mm args below meth c ls hC hg hr hlk hnm hl => ?_)
  have hx := hC.1.1
  have hb := hC.1.2.1
  have hml := hC.1.2.2.1
  have hown := hC.1.2.2.2.1
  have hts := hC.1.2.2.2.2
  have hl : lv_has ls 1 [(0, .ref a)] := hl
  obtain ⟨g, hg, hgg⟩ : ∃ g, gh_W V (gh_A g0 s.heap.size) s g s.heap [] ∧ g = g0 := ⟨g0, hg, rfl⟩
  rw [← hgg] at hp9
  have hf : gh_fk o k g0 g := by rw [hgg]; exact gh_fk.rf
  refine lv_aload_n hx hb dJ2_init_0 rfl (lv_at hl 0 rfl) ?_
  refine gh_callv hg (gh_runI (As := []) (rest := []) hC hg (j_J1_init l V _ a o k 0 _ _ _ hp9) 0 (lw_meth q202) q106 q200 q201 rfl hd_J1_init.2 ⟨Nat.le_of_ble_eq_true rfl, Nat.le_of_ble_eq_true rfl⟩ rfl hl.1 rfl (Nat.le_of_ble_eq_true rfl) dJ2_init_1 ⟨Nat.le_of_ble_eq_true rfl, Nat.le_of_ble_eq_true rfl⟩) (fun g H locs hg hp => ?_)
  obtain ⟨hp, hf9⟩ := hp
  have hf : gh_fk o k g0 g := hf.tr hf9
  have hp9 : g a = some ((o, k, 0), oo 12 [.int 0, .null, .int 0]) := hp
  refine lv_aload_n hx hb dJ2_init_4 rfl (lv_at hl 0 rfl) ?_
  refine gh_getsR (C := "java/util/ArrayList") (n := "DEFAULTCAPACITY_EMPTY_ELEMENTDATA") (d := "[Ljava/lang/Object;") (k := 0) hC hg (by decide +kernel) q207 (fun _ _ _ _ h => h) dJ2_init_5 ?_
  refine gh_put (v := .ref (V.2.2 0)) hC hg hp9 fJ2_9_12 rfl rfl (Nat.le_of_ble_eq_true rfl) dJ2_init_8 (fun g H locs hg hw hn => ?_)
  have hf : gh_fk o k g0 g := hf.set hp9 hn
  have hp9 : g a = some ((o, k, 0), oo 12 [.int 0, .ref (V.2.2 0), .int 0]) := hw
  exact gh_retv hC hg hr hlk (⟨⟨0, 0, V.2.2 0, (fun _ => none), hp9, Nat.le_refl _, (fun i hi => absurd hi (Nat.not_lt_zero _)), Or.inl ⟨rfl, rfl⟩⟩, hf⟩) dJ2_init_11 (Nat.le_of_ble_eq_true rfl) (Nat.le_of_ble_eq_true rfl)
set_option maxHeartbeats 1000000 in
set_option maxRecDepth 100000 in
theorem j_J2_size (l : Launch) (V : gh_V) (g0 : gh_G) (a o k n : Nat) (es : Nat → Nat) (hp9 : al_P V o k g0 a n es) : MI l yJ2_size cJ2_size 1 (some .int) ({ frames := 0, cells := 0, slots := 0, locals := 0 } : Room) V [.ref a] g0 (fun r g1 => r = nI n ∧ g1 = g0) := by
  refine MG.of RJ2 (by decide) rfl (Nat.le_of_ble_eq_true rfl) (fun pp ee s mm args below meth c ls hC hg hr hlk hnm hl => ?_)
  have hx := hC.1.1
  have hb := hC.1.2.1
  have hml := hC.1.2.2.1
  have hown := hC.1.2.2.2.1
  have hts := hC.1.2.2.2.2
  have hl : lv_has ls 1 [(0, .ref a)] := hl
  obtain ⟨g, hg, hgg⟩ : ∃ g, gh_W V (gh_A g0 s.heap.size) s g s.heap [] ∧ g = g0 := ⟨g0, hg, rfl⟩
  rw [← hgg] at hp9
  obtain ⟨mc, cap, arr, f, hcl, hcap, hes, hca⟩ := hp9
  refine lv_aload_n hx hb dJ2_size_0 rfl (lv_at hl 0 rfl) ?_
  refine gh_get (v := .int (nI n)) hC hg hcl fJ2_48_12 rfl dJ2_size_1 ?_
  exact gh_reti hC hg hr hlk (⟨rfl, hgg⟩) dJ2_size_4 (Nat.le_of_ble_eq_true rfl) (Nat.le_of_ble_eq_true rfl)
set_option maxHeartbeats 1000000 in
set_option maxRecDepth 100000 in
theorem j_J2_elementData (l : Launch) (V : gh_V) (g0 : gh_G) (a o k n : Nat) (es : Nat → Nat) (hp9 : al_P V o k g0 a n es) (x : Int32) (i : Nat) (hx9 : x = nI i) (hi : i < n) : MR l yJ2_elementData cJ2_elementData 2 (some (.object "java/lang/Object")) ({ frames := 0, cells := 0, slots := 0, locals := 0 } : Room) V [.ref a, .int x] g0 (fun r g1 => r = some (es i) ∧ g1 = g0) := by
  refine MG.of RJ2 (by decide) rfl (Nat.le_of_ble_eq_true rfl) (fun pp ee s mm args below meth c ls hC hg hr hlk hnm hl => ?_)
  have hx := hC.1.1
  have hb := hC.1.2.1
  have hml := hC.1.2.2.1
  have hown := hC.1.2.2.2.1
  have hts := hC.1.2.2.2.2
  have hl : lv_has ls 2 [(0, .ref a), (1, .int x)] := hl
  obtain ⟨g, hg, hgg⟩ : ∃ g, gh_W V (gh_A g0 s.heap.size) s g s.heap [] ∧ g = g0 := ⟨g0, hg, rfl⟩
  rw [← hgg] at hp9
  obtain ⟨mc, cap, arr, f, hcl, hcap, hes, hca⟩ := hp9
  rcases hca with ⟨e0, e1⟩ | ⟨hc2, hca⟩
  · omega
  have hel := hes i hi
  refine lv_aload_n hx hb dJ2_elementData_0 rfl (lv_at hl 0 rfl) ?_
  refine gh_get (v := .ref arr) hC hg hcl fJ2_9_12 rfl dJ2_elementData_1 ?_
  refine lv_iload_n hx hb dJ2_elementData_4 rfl (lv_at hl 1 rfl) ?_
  refine gh_qald (n := cap) (f := f) hC hg hca rfl hx9 (by omega) (by omega) dJ2_elementData_5 ?_
  refine W.eq (g2 := F0 mm 6 ls [.ref (es i)]) (by rw [hel] <;> rfl) ?_
  exact gh_retq (r := some (es i)) (Or.inl ⟨_, rfl⟩) hC hg hr hlk (⟨rfl, hgg⟩) dJ2_elementData_6 (Nat.le_of_ble_eq_true rfl) (Nat.le_of_ble_eq_true rfl)
set_option maxHeartbeats 1000000 in
set_option maxRecDepth 100000 in
theorem j_J2_get (l : Launch) (V : gh_V) (g0 : gh_G) (a o k n : Nat) (es : Nat → Nat) (hp9 : al_P V o k g0 a n es) (x : Int32) (i : Nat) (hx9 : x = nI i) (hi : i < n) : MR l yJ2_get cJ2_get 2 (some (.object "java/lang/Object")) ({ frames := 2, cells := 0, slots := 0, locals := 43 } : Room) V [.ref a, .int x] g0 (fun r g1 => r = some (es i) ∧ g1 = g0) := by
  refine MG.of RJ2 (by decide) rfl (Nat.le_of_ble_eq_true rfl) (fun pp ee s mm args below meth c ls hC hg hr hlk hnm hl => ?_)
  have hx := hC.1.1
  have hb := hC.1.2.1
  have hml := hC.1.2.2.1
  have hown := hC.1.2.2.2.1
  have hts := hC.1.2.2.2.2
  have hl : lv_has ls 2 [(0, .ref a), (1, .int x)] := hl
  obtain ⟨g, hg, hgg⟩ : ∃ g, gh_W V (gh_A g0 s.heap.size) s g s.heap [] ∧ g = g0 := ⟨g0, hg, rfl⟩
  have hq9 := hp9
  rw [← hgg] at hq9
  rw [← hgg] at hp9
  obtain ⟨mc, cap, arr, f, hcl, hcap, hes, hca⟩ := hp9
  have hn9 : n < 2147483648 := by rcases hca with h | h <;> omega
  refine lv_iload_n hx hb dJ2_get_0 rfl (lv_at hl 1 rfl) ?_
  refine lv_aload_n hx hb dJ2_get_1 rfl (lv_at hl 0 rfl) ?_
  refine gh_get (v := .int (nI n)) hC hg hcl fJ2_48_12 rfl dJ2_get_2 ?_
  refine gh_calli hg (gh_runS (As := [.int x, .int (nI n)]) (rest := []) hC hg (j_J30_checkIndex l V _ x (nI n) i n hx9 rfl (by omega) (by omega)) 2 (lw_S q1341 q1342 q136 q1343) hd_J30_checkIndex.2 ⟨Nat.le_of_ble_eq_true rfl, Nat.le_of_ble_eq_true rfl⟩ rfl hl.1 rfl (Nat.le_of_ble_eq_true rfl) dJ2_get_5 ⟨Nat.le_of_ble_eq_true rfl, Nat.le_of_ble_eq_true rfl⟩) (fun r_1 g H locs hg hp => ?_)
  obtain ⟨hp, hq⟩ := hp
  replace hp : x = r_1 := hp.symm
  subst hp
  rw [hq] at hg
  refine lv_pop hx hb dJ2_get_8 rfl ?_
  refine lv_aload_n hx hb dJ2_get_9 rfl (lv_at hl 0 rfl) ?_
  refine lv_iload_n hx hb dJ2_get_10 rfl (lv_at hl 1 rfl) ?_
  refine gh_callq hg (gh_runV (As := [.int x]) (rest := []) hC hg (j_J2_elementData l V _ a o k n es hq9 x i hx9 (by omega)) 1 (lw_V q1345 q1346 q1347 q107 q1348) hcl rfl hd_J2_elementData ⟨Nat.le_of_ble_eq_true rfl, Nat.le_of_ble_eq_true rfl⟩ rfl hl.1 rfl (Nat.le_of_ble_eq_true rfl) dJ2_get_11 ⟨Nat.le_of_ble_eq_true rfl, Nat.le_of_ble_eq_true rfl⟩) (fun r_2 g H locs hg hp => ?_)
  obtain ⟨hp, hq⟩ := hp
  subst hp
  rw [hq] at hg
  refine W.eq (g2 := F0 mm 14 ls [.ref (es i)]) rfl ?_
  exact gh_retq (r := some (es i)) (Or.inl ⟨_, rfl⟩) hC hg hr hlk (⟨rfl, hgg⟩) dJ2_get_14 (Nat.le_of_ble_eq_true rfl) (Nat.le_of_ble_eq_true rfl)
set_option maxHeartbeats 1000000 in
set_option maxRecDepth 100000 in
theorem j_J17_newLength (l : Launch) (V : gh_V) (g0 : gh_G) (x y z : Int32) (a b e9 : Nat) (hx9 : x = nI a) (hy9 : y = nI b) (hz9 : z = nI e9) (h0 : 0 < a + max b e9) (h1 : a + max b e9 < 2147483639) : MI l yJ17_newLength cJ17_newLength 4 (some .int) ({ frames := 1, cells := 0, slots := 0, locals := 14 } : Room) V [.int x, .int y, .int z] g0 (fun r g1 => r = nI (a + max b e9) ∧ g1 = g0) := by
  refine MG.of RJ17 (by decide) rfl (Nat.le_of_ble_eq_true rfl) (fun pp ee s mm args below meth c ls hC hg hr hlk hnm hl => ?_)
  have hx := hC.1.1
  have hb := hC.1.2.1
  have hml := hC.1.2.2.1
  have hown := hC.1.2.2.2.1
  have hts := hC.1.2.2.2.2
  have hl : lv_has ls 4 [(0, .int x), (1, .int y), (2, .int z)] := hl
  obtain ⟨g, hg, hgg⟩ : ∃ g, gh_W V (gh_A g0 s.heap.size) s g s.heap [] ∧ g = g0 := ⟨g0, hg, rfl⟩
  refine lv_iload_n hx hb dJ17_newLength_0 rfl (lv_at hl 0 rfl) ?_
  refine lv_iload_n hx hb dJ17_newLength_1 rfl (lv_at hl 1 rfl) ?_
  refine lv_iload_n hx hb dJ17_newLength_2 rfl (lv_at hl 2 rfl) ?_
  refine va_mmax hx hb (hml.trans hl.1.symm) hown (hts _ q414) (hts _ q415) (hts _ q123) (hts _ q416) (Nat.le_of_ble_eq_true rfl) (Nat.le_of_ble_eq_true rfl) (Nat.le_of_ble_eq_true rfl) (Nat.le_of_ble_eq_true rfl) dJ17_newLength_3 ?_
  refine W.eq (g2 := F0 mm 6 ls [.int (nI (max b e9)), .int x]) (by rw [nx_max hy9 hz9 (by omega) (by omega)] <;> rfl) ?_
  refine lv_iadd hx hb dJ17_newLength_6 ?_
  refine lv_istore_n (lv' := [(3, .int (x + (nI (max b e9)))), (0, .int x), (1, .int y), (2, .int z)]) hx hb dJ17_newLength_7 rfl hl (by decide) rfl (fun ls hl => ?_)
  refine lv_iconst (v := 0) hx hb dJ17_newLength_8 (by decide) ?_
  refine lv_iload_n hx hb dJ17_newLength_9 rfl (lv_at hl 0 rfl) ?_
  refine lv_icmp_ge (tgt := 21) hx hb dJ17_newLength_10 (by decide) (fun c_1 => (absurd ((nx_le (nx_add hx9 rfl) (show ((0 : Int32)) = nI 0 from rfl) (by omega) (by omega)).mp c_1) (by omega))) (fun _ => ?_)
  refine lv_iload_n hx hb dJ17_newLength_13 rfl (lv_at hl 0 rfl) ?_
  refine lv_ldc (v := 2147483639) hx hb hown (hts _ q417) dJ17_newLength_14 ?_
  refine lv_icmp_gt (tgt := 21) hx hb dJ17_newLength_16 (by decide) (fun c_2 => (absurd ((nx_lt (show ((2147483639 : Int32)) = nI 2147483639 from rfl) (nx_add hx9 rfl) (by omega) (by omega)).mp c_2) (by omega))) (fun _ => ?_)
  refine lv_iload_n hx hb dJ17_newLength_19 rfl (lv_at hl 0 rfl) ?_
  exact gh_reti hC hg hr hlk (⟨by rw [hx9]; exact nI_add _ _, hgg⟩) dJ17_newLength_20 (Nat.le_of_ble_eq_true rfl) (Nat.le_of_ble_eq_true rfl)
set_option maxHeartbeats 1000000 in
set_option maxRecDepth 100000 in
theorem j_J19_copyOf_3 (l : Launch) (V : gh_V) (g0 : gh_G) (a o k ce : Nat) (t : gh_T) (f : Nat → Option Nat) {C : String} (hce : (CL[ce]?).map (fun q => q.1) = some C) (hcast : Cond.castable C "java/lang/Object" ∈ lw_tbl) (hel : ∀ i, i < 10 → ∀ y, f i = some y → ∃ tv vs, g0 y = some (tv, oo ce vs)) (hp9 : g0 a = some (t, aq V 5 10 f)) : MR l yJ19_copyOf_3 cJ19_copyOf_3 4 (some (.array (.object "java/lang/Object"))) ({ frames := 1, cells := 1, slots := 15, locals := 30 } : Room) V [.ref a, .int (nI 15), .ref (V.2.2 7)] g0 (fun r g1 => ∃ q f1, r = some q ∧ g1 q = some ((o, k, 1), aq V 5 15 f1) ∧ (∀ i, i < 10 → f1 i = f i) ∧ g0 q = none ∧ ∀ b, b ≠ q → g1 b = g0 b) := by
  refine MG.of RJ19 (by decide) rfl (Nat.le_of_ble_eq_true rfl) (fun pp ee s mm args below meth c ls hC hg hr hlk hnm hl => ?_)
  have hx := hC.1.1
  have hb := hC.1.2.1
  have hml := hC.1.2.2.1
  have hown := hC.1.2.2.2.1
  have hts := hC.1.2.2.2.2
  have hl : lv_has ls 4 [(0, .ref a), (1, .int (nI 15)), (2, .ref (V.2.2 7))] := hl
  obtain ⟨g, hg, hgg⟩ : ∃ g, gh_W V (gh_A g0 s.heap.size) s g s.heap [] ∧ g = g0 := ⟨g0, hg, rfl⟩
  rw [← hgg] at hp9
  have hp0 : g0 a = some (t, aq V 5 10 f) := by rw [← hgg]; exact hp9
  refine lv_aload_n hx hb dJ19_copyOf_3_0 rfl (lv_at hl 2 rfl) ?_
  refine gh_ldcM hC q1174 dJ19_copyOf_3_1 ?_
  refine lv_acmp_ne (rx := (some (V.2.2 7))) (ry := (some (V.2.2 7))) (tgt := 13) hx hb dJ19_copyOf_3_3 (by decide) (fun c_1 => absurd rfl c_1) (fun _ => ?_)
  refine lv_iload_n hx hb dJ19_copyOf_3_6 rfl (lv_at hl 1 rfl) ?_
  refine gh_newq (k := 5) hC hg (fun q9 => (o, k, 1)) rfl q1176 (hC.2.2.1.1 _ (gh_nwm q1175 rfl)) rfl (by omega) (Nat.le_of_ble_eq_true rfl) (Nat.le_of_ble_eq_true rfl) dJ19_copyOf_3_7 (fun q_2 g H hg h0 hw hn => ?_)
  have hp9 : g a = some ((t.1, t.2.1, t.2.2), aq V 5 10 f) := (hn _ (gh_neN hp9 h0)).trans hp9
  have c_3 : g q_2 = some ((o, k, 1), aq V 5 15 (fun _ => none)) := hw
  have hh0 : g0 q_2 = none := by rw [← hgg]; exact h0
  have hh1 : ∀ b, b ≠ q_2 → g b = g0 b := by rw [← hgg]; exact hn
  refine lv_goto (tgt := 24) hx hb dJ19_copyOf_3_10 (by decide) ?_
  refine lv_astore_n (lv' := [(3, .ref q_2), (0, .ref a), (1, .int (nI 15)), (2, .ref (V.2.2 7))]) hx hb dJ19_copyOf_3_24 rfl hl (by decide) rfl (fun ls hl => ?_)
  refine lv_aload_n hx hb dJ19_copyOf_3_25 rfl (lv_at hl 1 rfl) ?_
  refine lv_iconst (v := 0) hx hb dJ19_copyOf_3_26 (by decide) ?_
  refine lv_aload_n hx hb dJ19_copyOf_3_27 rfl (lv_at hl 0 rfl) ?_
  refine lv_iconst (v := 0) hx hb dJ19_copyOf_3_28 (by decide) ?_
  refine lv_aload_n hx hb dJ19_copyOf_3_29 rfl (lv_at hl 1 rfl) ?_
  refine gh_alen hC hg hp9 rfl dJ19_copyOf_3_30 ?_
  refine lv_iload_n hx hb dJ19_copyOf_3_31 rfl (lv_at hl 2 rfl) ?_
  refine va_mmin hx hb (hml.trans hl.1.symm) hown (hts _ q432) (hts _ q433) (hts _ q123) (hts _ q434) (Nat.le_of_ble_eq_true rfl) (Nat.le_of_ble_eq_true rfl) (Nat.le_of_ble_eq_true rfl) (Nat.le_of_ble_eq_true rfl) dJ19_copyOf_3_32 ?_
  refine W.eq (g2 := F0 mm 35 ls [.int (nI 10), .int 0, .ref q_2, .int 0, .ref a]) (by rw [nx_min rfl rfl (by omega) (by omega)] <;> rfl) ?_
  have hna : a ≠ q_2 := fun e9 => by have h9 := hp0; rw [e9, hh0] at h9; cases h9
  refine gh_copyq (sp := 0) (dp := 0) (n := 10) hC hg hl.1 hp9 c_3 rfl rfl q435 q437 q436 q125 (show ((0 : Int32)) = nI 0 from rfl) (show ((0 : Int32)) = nI 0 from rfl) rfl (by omega) (by omega) (by omega) (by omega) (ce := ce) hce hcast (fun i hi y hy => by obtain ⟨tv, vs, hv⟩ := hel i hi y (by rw [Nat.zero_add] at hy; exact hy); exact ⟨tv, vs, (hh1 _ (fun e9 => by rw [e9, hh0] at hv; cases hv)).trans hv⟩) (Nat.le_of_ble_eq_true rfl) (Nat.le_of_ble_eq_true rfl) dJ19_copyOf_3_35 (fun g H locs hg hw hn => ?_)
  have hp9 : g a = some ((t.1, t.2.1, t.2.2), aq V 5 10 f) := (hn _ hna).trans hp9
  have c_3 : g q_2 = some ((o, k, 1), aq V 5 15 (va_cpy f (fun _ => none) 0 0 10)) := hw
  have hh2 : ∀ b, b ≠ q_2 → g b = g0 b := fun b hb => (hn b hb).trans (hh1 b hb)
  refine lv_aload_n hx hb dJ19_copyOf_3_38 rfl (lv_at hl 0 rfl) ?_
  exact gh_retq (r := some q_2) (Or.inr ⟨_, rfl⟩) hC hg hr hlk (⟨q_2, _, rfl, c_3, (fun i hi => by simp [va_cpy, hi]), hh0, hh2⟩) dJ19_copyOf_3_39 (Nat.le_of_ble_eq_true rfl) (Nat.le_of_ble_eq_true rfl)
set_option maxHeartbeats 1000000 in
set_option maxRecDepth 100000 in
theorem j_J19_copyOf_2 (l : Launch) (V : gh_V) (g0 : gh_G) (a o k ce : Nat) (t : gh_T) (f : Nat → Option Nat) {C : String} (hce : (CL[ce]?).map (fun q => q.1) = some C) (hcast : Cond.castable C "java/lang/Object" ∈ lw_tbl) (hel : ∀ i, i < 10 → ∀ y, f i = some y → ∃ tv vs, g0 y = some (tv, oo ce vs)) (hp9 : g0 a = some (t, aq V 5 10 f)) : MR l yJ19_copyOf_2 cJ19_copyOf_2 2 (some (.array (.object "java/lang/Object"))) ({ frames := 2, cells := 1, slots := 15, locals := 53 } : Room) V [.ref a, .int (nI 15)] g0 (fun r g1 => ∃ q f1, r = some q ∧ g1 q = some ((o, k, 1), aq V 5 15 f1) ∧ (∀ i, i < 10 → f1 i = f i) ∧ g0 q = none ∧ ∀ b, b ≠ q → g1 b = g0 b) := by
  refine MG.of RJ19 (by decide) rfl (Nat.le_of_ble_eq_true rfl) (fun pp ee s mm args below meth c ls hC hg hr hlk hnm hl => ?_)
  have hx := hC.1.1
  have hb := hC.1.2.1
  have hml := hC.1.2.2.1
  have hown := hC.1.2.2.2.1
  have hts := hC.1.2.2.2.2
  have hl : lv_has ls 2 [(0, .ref a), (1, .int (nI 15))] := hl
  obtain ⟨g, hg, hgg⟩ : ∃ g, gh_W V (gh_A g0 s.heap.size) s g s.heap [] ∧ g = g0 := ⟨g0, hg, rfl⟩
  rw [← hgg] at hp9 hel
  refine lv_aload_n hx hb dJ19_copyOf_2_0 rfl (lv_at hl 0 rfl) ?_
  refine lv_iload_n hx hb dJ19_copyOf_2_1 rfl (lv_at hl 1 rfl) ?_
  refine lv_aload_n hx hb dJ19_copyOf_2_2 rfl (lv_at hl 0 rfl) ?_
  refine gh_getCA hC hg hl.1 hp9 q1170 q4476 q985 q1032 (Nat.le_of_ble_eq_true rfl) (Nat.le_of_ble_eq_true rfl) dJ19_copyOf_2_3 ?_
  refine gh_callq hg (gh_runS (As := [.ref a, .int (nI 15), .ref (V.2.2 7)]) (rest := []) hC hg (j_J19_copyOf_3 l V _ a o k ce _ _ hce hcast hel hp9) 3 (lw_S q1171 q1172 q124 q1173) hd_J19_copyOf_3.2 ⟨Nat.le_of_ble_eq_true rfl, Nat.le_of_ble_eq_true rfl⟩ rfl hl.1 rfl (Nat.le_of_ble_eq_true rfl) dJ19_copyOf_2_6 ⟨Nat.le_of_ble_eq_true rfl, Nat.le_of_ble_eq_true rfl⟩) (fun r_1 g H locs hg hp => ?_)
  obtain ⟨q, f1, rfl, hq1, hq2, hq3, hq4⟩ := hp
  refine W.eq (g2 := F0 mm 9 ls [.ref q]) rfl ?_
  exact gh_retq (r := some q) (Or.inr ⟨_, rfl⟩) hC hg hr hlk (⟨q, f1, rfl, hq1, hq2, (hgg ▸ hq3), (hgg ▸ hq4)⟩) dJ19_copyOf_2_9 (Nat.le_of_ble_eq_true rfl) (Nat.le_of_ble_eq_true rfl)
set_option maxHeartbeats 1000000 in
set_option maxRecDepth 100000 in
theorem j_J2_grow_2 (l : Launch) (V : gh_V) (g0 : gh_G) (x : Int32) (a o k n ce : Nat) (es : Nat → Nat) (mc : Int32) (cap arr : Nat) (f : Nat → Option Nat) {C : String} (hx9 : x = nI (n + 1)) (hce : (CL[ce]?).map (fun q => q.1) = some C) (hcast : Cond.castable C "java/lang/Object" ∈ lw_tbl) (hel : al_E g0 n es ce) (hp9 : al_C V o k g0 a n es mc cap arr f) (hfull : n = cap) (hn15 : n < 15) : MR l yJ2_grow_2 cJ2_grow_2 4 (some (.array (.object "java/lang/Object"))) ({ frames := 3, cells := 1, slots := 15, locals := 74 } : Room) V [.ref a, .int x] g0 (fun r g1 => ∃ q cap1 f1, r = some q ∧ g1 a = some ((o, k, 0), oo 12 [.int mc, .ref q, .int (nI n)]) ∧ (cap1 = 10 ∨ cap1 = 15) ∧ n < cap1 ∧ (∀ i, i < n → f1 i = some (es i)) ∧ g1 q = some ((o, k, 1), aq V 5 cap1 f1) ∧ gh_fk o k g0 g1) := by
  refine MG.of RJ2 (by decide) rfl (Nat.le_of_ble_eq_true rfl) (fun pp ee s mm args below meth c ls hC hg hr hlk hnm hl => ?_)
  have hx := hC.1.1
  have hb := hC.1.2.1
  have hml := hC.1.2.2.1
  have hown := hC.1.2.2.2.1
  have hts := hC.1.2.2.2.2
  have hl : lv_has ls 4 [(0, .ref a), (1, .int x)] := hl
  obtain ⟨g, hg, hgg⟩ : ∃ g, gh_W V (gh_A g0 s.heap.size) s g s.heap [] ∧ g = g0 := ⟨g0, hg, rfl⟩
  rw [← hgg] at hp9 hel
  have hf : gh_fk o k g0 g := by rw [hgg]; exact gh_fk.rf
  obtain ⟨hcl, hcap, hes, hca⟩ := hp9
  subst hx9
  subst hfull
  rcases hca with ⟨e0, e1⟩ | ⟨hc2, hca⟩
  · skip
    subst e1
    subst e0
    have hx1 : nI (0 + 1) = nI 1 := rfl
    refine lv_aload_n hx hb dJ2_grow_2_0 rfl (lv_at hl 0 rfl) ?_
    refine gh_get (v := .ref (V.2.2 0)) hC hg hcl fJ2_9_12 rfl dJ2_grow_2_1 ?_
    refine gh_cempty hC hg dJ2_grow_2_4 ?_
    refine lv_istore_n (lv' := [(2, .int (nI 0)), (0, .ref a), (1, .int (nI (0 + 1)))]) hx hb dJ2_grow_2_5 rfl hl (by decide) rfl (fun ls hl => ?_)
    refine lv_iload_n hx hb dJ2_grow_2_6 rfl (lv_at hl 0 rfl) ?_
    refine lv_if_gt (tgt := 20) hx hb dJ2_grow_2_7 (by decide) (fun c_1 => (absurd ((nx_lt (show ((0 : Int32)) = nI 0 from rfl) rfl (by omega) (by omega)).mp c_1) (by omega))) (fun _ => ?_)
    refine lv_aload_n hx hb dJ2_grow_2_10 rfl (lv_at hl 1 rfl) ?_
    refine gh_get (v := .ref (V.2.2 0)) hC hg hcl fJ2_9_12 rfl dJ2_grow_2_11 ?_
    refine gh_getsR (C := "java/util/ArrayList") (n := "DEFAULTCAPACITY_EMPTY_ELEMENTDATA") (d := "[Ljava/lang/Object;") (k := 0) hC hg (by decide +kernel) q207 (fun _ _ _ _ h => h) dJ2_grow_2_14 ?_
    refine lv_acmp_eq (rx := (some (V.2.2 0))) (ry := (some (V.2.2 0))) (tgt := 45) hx hb dJ2_grow_2_17 (by decide) (fun _ => ?_) (fun c_2 => absurd rfl c_2)
    refine lv_aload_n hx hb dJ2_grow_2_45 rfl (lv_at hl 1 rfl) ?_
    refine lv_bipush (v := 10) hx hb dJ2_grow_2_46 (by decide) ?_
    refine lv_iload_n hx hb dJ2_grow_2_48 rfl (lv_at hl 2 rfl) ?_
    refine va_mmax hx hb (hml.trans hl.1.symm) hown (hts _ q1177) (hts _ q415) (hts _ q123) (hts _ q416) (Nat.le_of_ble_eq_true rfl) (Nat.le_of_ble_eq_true rfl) (Nat.le_of_ble_eq_true rfl) (Nat.le_of_ble_eq_true rfl) dJ2_grow_2_49 ?_
    refine W.eq (g2 := F0 mm 52 ls [.int (nI 10), .ref a]) (by rw [nx_max (show ((10 : Int32)) = nI 10 from rfl) rfl (by omega) (by omega)] <;> rfl) ?_
    refine gh_newq (k := 5) hC hg (fun q9 => (o, k, 1)) rfl q1178 (hC.2.2.1.1 _ (gh_nwm q1175 rfl)) rfl (by omega) (Nat.le_of_ble_eq_true rfl) (Nat.le_of_ble_eq_true rfl) dJ2_grow_2_52 (fun q_3 g H hg h0 hw hn => ?_)
    have hf : gh_fk o k g0 g := hf.new h0 hn
    have hcl : g a = some ((o, k, 0), oo 12 [.int mc, .ref (V.2.2 0), .int (nI 0)]) := (hn _ (gh_neN hcl h0)).trans hcl
    have c_4 : g q_3 = some ((o, k, 1), aq V 5 10 (fun _ => none)) := hw
    refine lv_dup_x1 hx hb dJ2_grow_2_55 rfl rfl ?_
    refine gh_put (v := .ref q_3) hC hg hcl fJ2_9_12 rfl rfl (Nat.le_of_ble_eq_true rfl) dJ2_grow_2_56 (fun g H locs hg hw hn => ?_)
    have hf : gh_fk o k g0 g := hf.set hcl hn
    have c_4 : g q_3 = some ((o, k, 1), aq V 5 10 (fun _ => none)) := (hn _ (gh_neI c_4 hcl rfl)).trans c_4
    have hcl : g a = some ((o, k, 0), oo 12 [.int mc, .ref q_3, .int (nI 0)]) := hw
    exact gh_retq (r := some q_3) (Or.inr ⟨_, rfl⟩) hC hg hr hlk (⟨q_3, 10, _, rfl, hcl, Or.inl rfl, by decide, (fun i hi => absurd hi (Nat.not_lt_zero _)), c_4, hf⟩) dJ2_grow_2_59 (Nat.le_of_ble_eq_true rfl) (Nat.le_of_ble_eq_true rfl)
  have e10 : n = 10 := by omega
  subst e10
  refine lv_aload_n hx hb dJ2_grow_2_0 rfl (lv_at hl 0 rfl) ?_
  refine gh_get (v := .ref arr) hC hg hcl fJ2_9_12 rfl dJ2_grow_2_1 ?_
  refine gh_alen hC hg hca rfl dJ2_grow_2_4 ?_
  refine lv_istore_n (lv' := [(2, .int (nI 10)), (0, .ref a), (1, .int (nI (10 + 1)))]) hx hb dJ2_grow_2_5 rfl hl (by decide) rfl (fun ls hl => ?_)
  refine lv_iload_n hx hb dJ2_grow_2_6 rfl (lv_at hl 0 rfl) ?_
  refine lv_if_gt (tgt := 20) hx hb dJ2_grow_2_7 (by decide) (fun _ => ?_) (fun c_5 => (absurd ((nx_lt (show ((0 : Int32)) = nI 0 from rfl) rfl (by omega) (by omega)).mpr (by omega)) c_5))
  refine lv_iload_n hx hb dJ2_grow_2_20 rfl (lv_at hl 0 rfl) ?_
  refine lv_iload_n hx hb dJ2_grow_2_21 rfl (lv_at hl 2 rfl) ?_
  refine lv_iload_n hx hb dJ2_grow_2_22 rfl (lv_at hl 0 rfl) ?_
  refine lv_isub hx hb dJ2_grow_2_23 ?_
  refine lv_iload_n hx hb dJ2_grow_2_24 rfl (lv_at hl 0 rfl) ?_
  refine lv_iconst (v := 1) hx hb dJ2_grow_2_25 (by decide) ?_
  refine lv_ishr hx hb dJ2_grow_2_26 ?_
  refine W.eq (g2 := F0 mm 27 ls [.int (nI 5), .int ((nI (10 + 1)) - (nI 10)), .int (nI 10)]) (by rw [(show (nI 10 : Int32) >>> ((1 : Int32) &&& 31) = nI 5 from by decide)] <;> rfl) ?_
  refine gh_calli hg (gh_runS (As := [.int (nI 10), .int ((nI (10 + 1)) - (nI 10)), .int (nI 5)]) (rest := []) hC hg (j_J17_newLength l V _ (nI 10) ((nI (10 + 1)) - (nI 10)) (nI 5) 10 1 5 rfl (nx_sub rfl rfl (by omega)) rfl (by omega) (by omega)) 3 (lw_S q1166 q412 q122 q413) hd_J17_newLength.2 ⟨Nat.le_of_ble_eq_true rfl, Nat.le_of_ble_eq_true rfl⟩ rfl hl.1 rfl (Nat.le_of_ble_eq_true rfl) dJ2_grow_2_27 ⟨Nat.le_of_ble_eq_true rfl, Nat.le_of_ble_eq_true rfl⟩) (fun r_6 g H locs hg hp => ?_)
  obtain ⟨hp, hq⟩ := hp
  replace hp : (nI 15) = r_6 := hp.symm
  subst hp
  rw [hq] at hg
  refine lv_istore_n (lv' := [(3, .int (nI 15)), (2, .int (nI 10)), (0, .ref a), (1, .int (nI (10 + 1)))]) hx hb dJ2_grow_2_30 rfl hl (by decide) rfl (fun ls hl => ?_)
  refine lv_aload_n hx hb dJ2_grow_2_31 rfl (lv_at hl 2 rfl) ?_
  refine lv_aload_n hx hb dJ2_grow_2_32 rfl (lv_at hl 2 rfl) ?_
  refine gh_get (v := .ref arr) hC hg hcl fJ2_9_12 rfl dJ2_grow_2_33 ?_
  refine lv_iload_n hx hb dJ2_grow_2_36 rfl (lv_at hl 0 rfl) ?_
  refine gh_callq hg (gh_runS (As := [.ref arr, .int (nI 15)]) (rest := [.ref a]) hC hg (j_J19_copyOf_2 l V _ arr o k ce _ _ hce hcast (fun i hi y hy => by rw [hes i hi] at hy; cases hy; exact (hel i hi).elim fun tv h => h.elim fun vs h => ⟨tv, vs, h⟩) hca) 2 (lw_S q1167 q1168 q124 q1169) hd_J19_copyOf_2.2 ⟨Nat.le_of_ble_eq_true rfl, Nat.le_of_ble_eq_true rfl⟩ rfl hl.1 rfl (Nat.le_of_ble_eq_true rfl) dJ2_grow_2_37 ⟨Nat.le_of_ble_eq_true rfl, Nat.le_of_ble_eq_true rfl⟩) (fun r_7 g H locs hg hp => ?_)
  obtain ⟨q, f1, rfl, hq1, hq2, hq3, hq4⟩ := hp
  have hf : gh_fk o k g0 g := hf.new hq3 hq4
  have hcl : g a = some ((o, k, 0), oo 12 [.int mc, .ref arr, .int (nI 10)]) := (hq4 _ (gh_neN hcl hq3)).trans hcl
  refine W.eq (g2 := F0 mm 40 ls [.ref q, .ref a]) rfl ?_
  refine lv_dup_x1 hx hb dJ2_grow_2_40 rfl rfl ?_
  refine gh_put (v := .ref q) hC hg hcl fJ2_9_12 rfl rfl (Nat.le_of_ble_eq_true rfl) dJ2_grow_2_41 (fun g H locs hg hw hn => ?_)
  have hf : gh_fk o k g0 g := hf.set hcl hn
  have hq1 : g q = some ((o, k, 1), aq V 5 15 f1) := (hn _ (gh_neI hq1 hcl rfl)).trans hq1
  have hcl : g a = some ((o, k, 0), oo 12 [.int mc, .ref q, .int (nI 10)]) := hw
  exact gh_retq (r := some q) (Or.inr ⟨_, rfl⟩) hC hg hr hlk (⟨q, 15, f1, rfl, hcl, Or.inr rfl, by decide, (fun i hi => (hq2 i hi).trans (hes i hi)), hq1, hf⟩) dJ2_grow_2_44 (Nat.le_of_ble_eq_true rfl) (Nat.le_of_ble_eq_true rfl)
set_option maxHeartbeats 1000000 in
set_option maxRecDepth 100000 in
theorem j_J2_grow (l : Launch) (V : gh_V) (g0 : gh_G) (a o k n ce : Nat) (es : Nat → Nat) (mc : Int32) (cap arr : Nat) (f : Nat → Option Nat) {C : String} (hce : (CL[ce]?).map (fun q => q.1) = some C) (hcast : Cond.castable C "java/lang/Object" ∈ lw_tbl) (hel : al_E g0 n es ce) (hp9 : al_C V o k g0 a n es mc cap arr f) (hfull : n = cap) (hn15 : n < 15) : MR l yJ2_grow cJ2_grow 1 (some (.array (.object "java/lang/Object"))) ({ frames := 4, cells := 1, slots := 15, locals := 97 } : Room) V [.ref a] g0 (fun r g1 => ∃ q cap1 f1, r = some q ∧ g1 a = some ((o, k, 0), oo 12 [.int mc, .ref q, .int (nI n)]) ∧ (cap1 = 10 ∨ cap1 = 15) ∧ n < cap1 ∧ (∀ i, i < n → f1 i = some (es i)) ∧ g1 q = some ((o, k, 1), aq V 5 cap1 f1) ∧ gh_fk o k g0 g1) := by
  refine MG.of RJ2 (by decide) rfl (Nat.le_of_ble_eq_true rfl) (fun pp ee s mm args below meth c ls hC hg hr hlk hnm hl => ?_)
  have hx := hC.1.1
  have hb := hC.1.2.1
  have hml := hC.1.2.2.1
  have hown := hC.1.2.2.2.1
  have hts := hC.1.2.2.2.2
  have hl : lv_has ls 1 [(0, .ref a)] := hl
  obtain ⟨g, hg, hgg⟩ : ∃ g, gh_W V (gh_A g0 s.heap.size) s g s.heap [] ∧ g = g0 := ⟨g0, hg, rfl⟩
  rw [← hgg] at hp9 hel
  have hp8 := hp9
  obtain ⟨hcl, hcap, hes, hca⟩ := hp9
  refine lv_aload_n hx hb dJ2_grow_0 rfl (lv_at hl 0 rfl) ?_
  refine lv_aload_n hx hb dJ2_grow_1 rfl (lv_at hl 0 rfl) ?_
  refine gh_get (v := .int (nI n)) hC hg hcl fJ2_48_12 rfl dJ2_grow_2 ?_
  refine lv_iconst (v := 1) hx hb dJ2_grow_5 (by decide) ?_
  refine lv_iadd hx hb dJ2_grow_6 ?_
  refine gh_callq hg (gh_runV (As := [.int ((nI n) + 1)]) (rest := []) hC hg (j_J2_grow_2 l V _ ((nI n) + 1) a o k n ce es mc cap arr f (nx_add rfl (show ((1 : Int32)) = nI 1 from rfl)) hce hcast hel hp8 hfull hn15) 1 (lw_V q1162 q1164 qs16 q107 q1165) hcl rfl hd_J2_grow_2 ⟨Nat.le_of_ble_eq_true rfl, Nat.le_of_ble_eq_true rfl⟩ rfl hl.1 rfl (Nat.le_of_ble_eq_true rfl) dJ2_grow_7 ⟨Nat.le_of_ble_eq_true rfl, Nat.le_of_ble_eq_true rfl⟩) (fun r_1 g H locs hg hp => ?_)
  obtain ⟨q, cap1, f1, rfl, hp1, hp2, hp3, hp4, hp5, hp6⟩ := hp
  refine W.eq (g2 := F0 mm 10 ls [.ref q]) rfl ?_
  exact gh_retq (r := some q) (Or.inr ⟨_, rfl⟩) hC hg hr hlk (⟨q, cap1, f1, rfl, hp1, hp2, hp3, hp4, hp5, hgg ▸ hp6⟩) dJ2_grow_10 (Nat.le_of_ble_eq_true rfl) (Nat.le_of_ble_eq_true rfl)
set_option maxHeartbeats 1000000 in
set_option maxRecDepth 100000 in
theorem j_J2_add_2 (l : Launch) (V : gh_V) (g0 : gh_G) (a o k n ce x : Nat) (es : Nat → Nat) (mc : Int32) (cap arr : Nat) (f : Nat → Option Nat) {C : String} (hce : (CL[ce]?).map (fun q => q.1) = some C) (hcast : Cond.castable C "java/lang/Object" ∈ lw_tbl) (hel : al_E g0 n es ce) (hex : ∃ t vs, g0 x = some (t, oo ce vs) ∧ ¬ (t.1 = o ∧ t.2.1 = k)) (hp9 : al_C V o k g0 a n es mc cap arr f) (hn15 : n < 15) : MV l yJ2_add_2 cJ2_add_2 4 ({ frames := 5, cells := 1, slots := 15, locals := 117 } : Room) V [.ref a, .ref x, .ref arr, .int (nI n)] g0 (fun g1 => al_P V o k g1 a (n + 1) (upd9 es n x) ∧ gh_fk o k g0 g1) := by
  refine MG.of RJ2 (by decide) rfl (Nat.le_of_ble_eq_true rfl) (fun pp ee s mm args below meth c ls hC hg hr hlk hnm hl => ?_)
  have hx := hC.1.1
  have hb := hC.1.2.1
  have hml := hC.1.2.2.1
  have hown := hC.1.2.2.2.1
  have hts := hC.1.2.2.2.2
  have hl : lv_has ls 4 [(0, .ref a), (1, .ref x), (2, .ref arr), (3, .int (nI n))] := hl
  obtain ⟨g, hg, hgg⟩ : ∃ g, gh_W V (gh_A g0 s.heap.size) s g s.heap [] ∧ g = g0 := ⟨g0, hg, rfl⟩
  rw [← hgg] at hp9 hel hex
  have hf : gh_fk o k g0 g := by rw [hgg]; exact gh_fk.rf
  have hp8 := hp9
  obtain ⟨hcl, hcap, hes, hca⟩ := hp9
  obtain ⟨tx, vx, hvx, hnx⟩ := hex
  obtain ⟨r9, hr9, rfl⟩ : ∃ r9, CL[ce]? = some r9 ∧ r9.1 = C := by
    cases hq9 : CL[ce]? with
    | none => rw [hq9] at hce; cases hce
    | some r9 => rw [hq9] at hce; cases hce; exact ⟨r9, rfl, rfl⟩
  rcases Nat.lt_or_ge n cap with hlt | hge
  · rcases hca with ⟨e0, e1⟩ | ⟨hc2, hca⟩
    · omega
    refine lv_iload_n hx hb dJ2_add_2_0 rfl (lv_at hl 3 rfl) ?_
    refine lv_aload_n hx hb dJ2_add_2_1 rfl (lv_at hl 2 rfl) ?_
    refine gh_alen hC hg hca rfl dJ2_add_2_2 ?_
    refine lv_icmp_ne (tgt := 11) hx hb dJ2_add_2_3 (by decide) (fun _ => ?_) (fun c_1 => (absurd ((nx_eq rfl rfl (by omega) (by omega)).mp c_1) (by omega)))
    refine lv_aload_n hx hb dJ2_add_2_11 rfl (lv_at hl 2 rfl) ?_
    refine lv_iload_n hx hb dJ2_add_2_12 rfl (lv_at hl 3 rfl) ?_
    refine lv_aload_n hx hb dJ2_add_2_13 rfl (lv_at hl 1 rfl) ?_
    refine gh_qastO (n := cap) (f := f) hC hg hca rfl hvx hr9 (hC.2.2.1.1 _ (gh_nwm hcast rfl)) rfl (by omega) (by omega) dJ2_add_2_14 (fun g H locs hg hw hn => ?_)
    have hf : gh_fk o k g0 g := hf.set hca hn
    have hvx : g x = some ((tx.1, tx.2.1, tx.2.2), oo ce vx) := (hn _ (gh_ne hvx hca (fun e9 => hnx ⟨congrArg (fun z => z.1) e9, congrArg (fun z => z.2.1) e9⟩))).trans hvx
    have hcl : g a = some ((o, k, 0), oo 12 [.int mc, .ref arr, .int (nI n)]) := (hn _ (gh_neI hcl hca rfl)).trans hcl
    have hca : g arr = some ((o, k, 1), aq V 5 cap (va_up f n (some x))) := hw
    refine lv_aload_n hx hb dJ2_add_2_15 rfl (lv_at hl 0 rfl) ?_
    refine lv_iload_n hx hb dJ2_add_2_16 rfl (lv_at hl 3 rfl) ?_
    refine lv_iconst (v := 1) hx hb dJ2_add_2_17 (by decide) ?_
    refine lv_iadd hx hb dJ2_add_2_18 ?_
    refine gh_put (v := .int ((nI n) + 1)) hC hg hcl fJ2_48_12 rfl rfl (Nat.le_of_ble_eq_true rfl) dJ2_add_2_19 (fun g H locs hg hw hn => ?_)
    have hf : gh_fk o k g0 g := hf.set hcl hn
    have hvx : g x = some ((tx.1, tx.2.1, tx.2.2), oo ce vx) := (hn _ (gh_ne hvx hcl (fun e9 => hnx ⟨congrArg (fun z => z.1) e9, congrArg (fun z => z.2.1) e9⟩))).trans hvx
    have hca : g arr = some ((o, k, 1), aq V 5 cap (va_up f n (some x))) := (hn _ (gh_neI hca hcl rfl)).trans hca
    have hcl : g a = some ((o, k, 0), oo 12 [.int mc, .ref arr, .int ((nI n) + 1)]) := hw
    rw [nI_1] at hcl
    exact gh_retv hC hg hr hlk (⟨⟨mc, cap, arr, _, hcl, hlt, al_up hes, Or.inr ⟨hc2, hca⟩⟩, hf⟩) dJ2_add_2_22 (Nat.le_of_ble_eq_true rfl) (Nat.le_of_ble_eq_true rfl)
  have hfull : n = cap := Nat.le_antisymm hcap hge
  have hbig : cap < 2147483648 := by rcases hca with h | h <;> omega
  rcases al_full hp8 hfull hn15 with ⟨e0, e1⟩ | ⟨e0, h10⟩
  · skip
    rw [e1] at hl
    refine lv_iload_n hx hb dJ2_add_2_0 rfl (lv_at hl 3 rfl) ?_
    refine lv_aload_n hx hb dJ2_add_2_1 rfl (lv_at hl 2 rfl) ?_
    refine gh_cempty hC hg dJ2_add_2_2 ?_
    refine lv_icmp_ne (tgt := 11) hx hb dJ2_add_2_3 (by decide) (fun c_2 => (absurd ((nx_eq rfl rfl (by omega) (by omega)).mpr (by omega)) c_2)) (fun _ => ?_)
    refine lv_aload_n hx hb dJ2_add_2_6 rfl (lv_at hl 0 rfl) ?_
    refine gh_callq hg (gh_runV (As := []) (rest := []) hC hg (j_J2_grow l V _ a o k n ce es mc cap arr f hce hcast hel hp8 hfull hn15) 0 (lw_V q1158 q1160 qs15 q107 q1161) hcl rfl hd_J2_grow ⟨Nat.le_of_ble_eq_true rfl, Nat.le_of_ble_eq_true rfl⟩ rfl hl.1 rfl (Nat.le_of_ble_eq_true rfl) dJ2_add_2_7 ⟨Nat.le_of_ble_eq_true rfl, Nat.le_of_ble_eq_true rfl⟩) (fun r_3 g H locs hg hp => ?_)
    obtain ⟨q, cap1, f1, rfl, hcl, hc2, hlt, hes, hca, hf9⟩ := hp
    have hf : gh_fk o k g0 g := hf.tr hf9
    have hvx : g x = some (tx, oo ce vx) := hf9 _ _ _ hvx hnx
    refine W.eq (g2 := F0 mm 10 ls [.ref q]) rfl ?_
    refine lv_astore_n (lv' := [(2, .ref q), (0, .ref a), (1, .ref x), (3, .int (nI n))]) hx hb dJ2_add_2_10 rfl hl (by decide) rfl (fun ls hl => ?_)
    refine lv_aload_n hx hb dJ2_add_2_11 rfl (lv_at hl 0 rfl) ?_
    refine lv_iload_n hx hb dJ2_add_2_12 rfl (lv_at hl 3 rfl) ?_
    refine lv_aload_n hx hb dJ2_add_2_13 rfl (lv_at hl 2 rfl) ?_
    refine gh_qastO (n := cap1) (f := f1) hC hg hca rfl hvx hr9 (hC.2.2.1.1 _ (gh_nwm hcast rfl)) rfl (by omega) (by omega) dJ2_add_2_14 (fun g H locs hg hw hn => ?_)
    have hf : gh_fk o k g0 g := hf.set hca hn
    have hvx : g x = some ((tx.1, tx.2.1, tx.2.2), oo ce vx) := (hn _ (gh_ne hvx hca (fun e9 => hnx ⟨congrArg (fun z => z.1) e9, congrArg (fun z => z.2.1) e9⟩))).trans hvx
    have hcl : g a = some ((o, k, 0), oo 12 [.int mc, .ref q, .int (nI n)]) := (hn _ (gh_neI hcl hca rfl)).trans hcl
    have hca : g q = some ((o, k, 1), aq V 5 cap1 (va_up f1 n (some x))) := hw
    refine lv_aload_n hx hb dJ2_add_2_15 rfl (lv_at hl 1 rfl) ?_
    refine lv_iload_n hx hb dJ2_add_2_16 rfl (lv_at hl 3 rfl) ?_
    refine lv_iconst (v := 1) hx hb dJ2_add_2_17 (by decide) ?_
    refine lv_iadd hx hb dJ2_add_2_18 ?_
    refine gh_put (v := .int ((nI n) + 1)) hC hg hcl fJ2_48_12 rfl rfl (Nat.le_of_ble_eq_true rfl) dJ2_add_2_19 (fun g H locs hg hw hn => ?_)
    have hf : gh_fk o k g0 g := hf.set hcl hn
    have hvx : g x = some ((tx.1, tx.2.1, tx.2.2), oo ce vx) := (hn _ (gh_ne hvx hcl (fun e9 => hnx ⟨congrArg (fun z => z.1) e9, congrArg (fun z => z.2.1) e9⟩))).trans hvx
    have hca : g q = some ((o, k, 1), aq V 5 cap1 (va_up f1 n (some x))) := (hn _ (gh_neI hca hcl rfl)).trans hca
    have hcl : g a = some ((o, k, 0), oo 12 [.int mc, .ref q, .int ((nI n) + 1)]) := hw
    rw [nI_1] at hcl
    exact gh_retv hC hg hr hlk (⟨⟨mc, cap1, q, _, hcl, hlt, al_up hes, Or.inr ⟨hc2, hca⟩⟩, hf⟩) dJ2_add_2_22 (Nat.le_of_ble_eq_true rfl) (Nat.le_of_ble_eq_true rfl)
  refine lv_iload_n hx hb dJ2_add_2_0 rfl (lv_at hl 3 rfl) ?_
  refine lv_aload_n hx hb dJ2_add_2_1 rfl (lv_at hl 2 rfl) ?_
  refine gh_alen hC hg h10 rfl dJ2_add_2_2 ?_
  refine lv_icmp_ne (tgt := 11) hx hb dJ2_add_2_3 (by decide) (fun c_4 => (absurd ((nx_eq rfl rfl (by omega) (by omega)).mpr (by omega)) c_4)) (fun _ => ?_)
  refine lv_aload_n hx hb dJ2_add_2_6 rfl (lv_at hl 0 rfl) ?_
  refine gh_callq hg (gh_runV (As := []) (rest := []) hC hg (j_J2_grow l V _ a o k n ce es mc cap arr f hce hcast hel hp8 hfull hn15) 0 (lw_V q1158 q1160 qs15 q107 q1161) hcl rfl hd_J2_grow ⟨Nat.le_of_ble_eq_true rfl, Nat.le_of_ble_eq_true rfl⟩ rfl hl.1 rfl (Nat.le_of_ble_eq_true rfl) dJ2_add_2_7 ⟨Nat.le_of_ble_eq_true rfl, Nat.le_of_ble_eq_true rfl⟩) (fun r_5 g H locs hg hp => ?_)
  obtain ⟨q, cap1, f1, rfl, hcl, hc2, hlt, hes, hca, hf9⟩ := hp
  have hf : gh_fk o k g0 g := hf.tr hf9
  have hvx : g x = some (tx, oo ce vx) := hf9 _ _ _ hvx hnx
  refine W.eq (g2 := F0 mm 10 ls [.ref q]) rfl ?_
  refine lv_astore_n (lv' := [(2, .ref q), (0, .ref a), (1, .ref x), (3, .int (nI n))]) hx hb dJ2_add_2_10 rfl hl (by decide) rfl (fun ls hl => ?_)
  refine lv_aload_n hx hb dJ2_add_2_11 rfl (lv_at hl 0 rfl) ?_
  refine lv_iload_n hx hb dJ2_add_2_12 rfl (lv_at hl 3 rfl) ?_
  refine lv_aload_n hx hb dJ2_add_2_13 rfl (lv_at hl 2 rfl) ?_
  refine gh_qastO (n := cap1) (f := f1) hC hg hca rfl hvx hr9 (hC.2.2.1.1 _ (gh_nwm hcast rfl)) rfl (by omega) (by omega) dJ2_add_2_14 (fun g H locs hg hw hn => ?_)
  have hf : gh_fk o k g0 g := hf.set hca hn
  have hvx : g x = some ((tx.1, tx.2.1, tx.2.2), oo ce vx) := (hn _ (gh_ne hvx hca (fun e9 => hnx ⟨congrArg (fun z => z.1) e9, congrArg (fun z => z.2.1) e9⟩))).trans hvx
  have hcl : g a = some ((o, k, 0), oo 12 [.int mc, .ref q, .int (nI n)]) := (hn _ (gh_neI hcl hca rfl)).trans hcl
  have hca : g q = some ((o, k, 1), aq V 5 cap1 (va_up f1 n (some x))) := hw
  refine lv_aload_n hx hb dJ2_add_2_15 rfl (lv_at hl 1 rfl) ?_
  refine lv_iload_n hx hb dJ2_add_2_16 rfl (lv_at hl 3 rfl) ?_
  refine lv_iconst (v := 1) hx hb dJ2_add_2_17 (by decide) ?_
  refine lv_iadd hx hb dJ2_add_2_18 ?_
  refine gh_put (v := .int ((nI n) + 1)) hC hg hcl fJ2_48_12 rfl rfl (Nat.le_of_ble_eq_true rfl) dJ2_add_2_19 (fun g H locs hg hw hn => ?_)
  have hf : gh_fk o k g0 g := hf.set hcl hn
  have hvx : g x = some ((tx.1, tx.2.1, tx.2.2), oo ce vx) := (hn _ (gh_ne hvx hcl (fun e9 => hnx ⟨congrArg (fun z => z.1) e9, congrArg (fun z => z.2.1) e9⟩))).trans hvx
  have hca : g q = some ((o, k, 1), aq V 5 cap1 (va_up f1 n (some x))) := (hn _ (gh_neI hca hcl rfl)).trans hca
  have hcl : g a = some ((o, k, 0), oo 12 [.int mc, .ref q, .int ((nI n) + 1)]) := hw
  rw [nI_1] at hcl
  exact gh_retv hC hg hr hlk (⟨⟨mc, cap1, q, _, hcl, hlt, al_up hes, Or.inr ⟨hc2, hca⟩⟩, hf⟩) dJ2_add_2_22 (Nat.le_of_ble_eq_true rfl) (Nat.le_of_ble_eq_true rfl)
set_option maxHeartbeats 1000000 in
set_option maxRecDepth 100000 in
theorem j_J2_add (l : Launch) (V : gh_V) (g0 : gh_G) (a o k n ce x : Nat) (es : Nat → Nat) {C : String} (hce : (CL[ce]?).map (fun q => q.1) = some C) (hcast : Cond.castable C "java/lang/Object" ∈ lw_tbl) (hel : al_E g0 n es ce) (hne : ∀ i, i < n → ∀ t e, g0 (es i) = some (t, e) → ¬ (t.1 = o ∧ t.2.1 = k)) (hex : ∃ t vs, g0 x = some (t, oo ce vs) ∧ ¬ (t.1 = o ∧ t.2.1 = k)) (hp9 : al_P V o k g0 a n es) (hn15 : n < 15) : MI l yJ2_add cJ2_add 2 (some .boolean) ({ frames := 6, cells := 1, slots := 15, locals := 140 } : Room) V [.ref a, .ref x] g0 (fun r g1 => r = 1 ∧ al_P V o k g1 a (n + 1) (upd9 es n x) ∧ gh_fk o k g0 g1) := by
  refine MG.of RJ2 (by decide) rfl (Nat.le_of_ble_eq_true rfl) (fun pp ee s mm args below meth c ls hC hg hr hlk hnm hl => ?_)
  have hx := hC.1.1
  have hb := hC.1.2.1
  have hml := hC.1.2.2.1
  have hown := hC.1.2.2.2.1
  have hts := hC.1.2.2.2.2
  have hl : lv_has ls 2 [(0, .ref a), (1, .ref x)] := hl
  obtain ⟨g, hg, hgg⟩ : ∃ g, gh_W V (gh_A g0 s.heap.size) s g s.heap [] ∧ g = g0 := ⟨g0, hg, rfl⟩
  rw [← hgg] at hp9 hel hex hne
  have hf : gh_fk o k g0 g := by rw [hgg]; exact gh_fk.rf
  obtain ⟨mc, cap, arr, f, hp8⟩ := hp9
  obtain ⟨hcl, hcap, hes, hca⟩ := hp8
  obtain ⟨tx, vx, hvx, hnx⟩ := hex
  have hcl0 := hcl
  refine lv_aload_n hx hb dJ2_add_0 rfl (lv_at hl 0 rfl) ?_
  refine lv_dup hx hb dJ2_add_1 rfl ?_
  refine gh_get (v := .int mc) hC hg hcl fJ2_63_12 rfl dJ2_add_2 ?_
  refine lv_iconst (v := 1) hx hb dJ2_add_5 (by decide) ?_
  refine lv_iadd hx hb dJ2_add_6 ?_
  refine gh_put (v := .int (mc + 1)) hC hg hcl fJ2_63_12 rfl rfl (Nat.le_of_ble_eq_true rfl) dJ2_add_7 (fun g H locs hg hw hn => ?_)
  have hf : gh_fk o k g0 g := hf.set hcl hn
  have hvx : g x = some ((tx.1, tx.2.1, tx.2.2), oo ce vx) := (hn _ (gh_ne hvx hcl (fun e9 => hnx ⟨congrArg (fun z => z.1) e9, congrArg (fun z => z.2.1) e9⟩))).trans hvx
  have hcl : g a = some ((o, k, 0), oo 12 [.int (mc + 1), .ref arr, .int (nI n)]) := hw
  have hel : al_E g n es ce := fun i hi => by
    obtain ⟨t, vs, hv⟩ := hel i hi
    exact ⟨t, vs, (hn _ (fun e9 => by have h9 := hne i hi t _ hv; rw [e9] at hv; rw [hcl0] at hv; cases hv; exact h9 ⟨rfl, rfl⟩)).trans hv⟩
  have hca : (cap = 0 ∧ arr = V.2.2 0) ∨ ((cap = 10 ∨ cap = 15) ∧ g arr = some ((o, k, 1), aq V 5 cap f)) := by
    rcases hca with h | ⟨h, h8⟩
    · exact Or.inl h
    · exact Or.inr ⟨h, (hn _ (gh_neI h8 hcl0 rfl)).trans h8⟩
  refine lv_aload_n hx hb dJ2_add_10 rfl (lv_at hl 0 rfl) ?_
  refine lv_aload_n hx hb dJ2_add_11 rfl (lv_at hl 1 rfl) ?_
  refine lv_aload_n hx hb dJ2_add_12 rfl (lv_at hl 0 rfl) ?_
  refine gh_get (v := .ref arr) hC hg hcl fJ2_9_12 rfl dJ2_add_13 ?_
  refine lv_aload_n hx hb dJ2_add_16 rfl (lv_at hl 0 rfl) ?_
  refine gh_get (v := .int (nI n)) hC hg hcl fJ2_48_12 rfl dJ2_add_17 ?_
  refine gh_callv hg (gh_runV (As := [.ref x, .ref arr, .int (nI n)]) (rest := []) hC hg (j_J2_add_2 l V _ a o k n ce x es (mc + 1) cap arr f hce hcast hel ⟨tx, vx, hvx, hnx⟩ ⟨hcl, hcap, hes, hca⟩ hn15) 3 (lw_V q1154 q1156 qs14 q107 q1157) hcl rfl hd_J2_add_2 ⟨Nat.le_of_ble_eq_true rfl, Nat.le_of_ble_eq_true rfl⟩ rfl hl.1 rfl (Nat.le_of_ble_eq_true rfl) dJ2_add_20 ⟨Nat.le_of_ble_eq_true rfl, Nat.le_of_ble_eq_true rfl⟩) (fun g H locs hg hp => ?_)
  obtain ⟨hp1, hf9⟩ := hp
  have hf : gh_fk o k g0 g := hf.tr hf9
  refine lv_iconst (v := 1) hx hb dJ2_add_23 (by decide) ?_
  exact gh_retz rfl hC hg hr hlk (⟨rfl, hp1, hf⟩) dJ2_add_24 (Nat.le_of_ble_eq_true rfl) (Nat.le_of_ble_eq_true rfl)
