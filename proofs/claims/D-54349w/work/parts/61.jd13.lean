def hd_ks (D : HD) (q : Nat) : HD := ((D.1.1, D.1.2.1, D.1.2.2.1, D.1.2.2.2.1, D.1.2.2.2.2.1, some q, D.1.2.2.2.2.2.2), D.2)
theorem hm_ks {V : gh_V} {o k : Nat} {g g1 : gh_G} {m ck : Nat} {D : HD} (h : lm_D V o k g m ck D) {q : Nat} (hq0 : g q = none) (hm : g1 m = some ((o, k, 0), oo 13 [va_rf (hm_tab D), va_rf D.es, .int (nI D.L.length), .int D.mc, .int (nI D.th), .float 1061158912, .ref q, va_rf D.vs, va_rf D.L.head?, va_rf D.L.getLast?, .int 0, .int 0])) (hq : g1 q = some ((o, k, 5), oo 22 [.int 0, .ref m])) (hfr : ∀ b, b ≠ m → b ≠ q → g1 b = g b) : lm_D V o k g1 m ck (hd_ks D q) ∧ gh_fk o k g g1 := by
  have hG := h.1.1
  have e0 : ∀ {a n x}, g a = some ((o, k, n), x) → n ≠ 0 → g1 a = some ((o, k, n), x) := fun {a n x} ha hn => by
    rw [hfr a (fun e => by rw [e, hG.cm] at ha; cases ha; exact hn rfl) (fun e => by rw [e, hq0] at ha; cases ha)]; exact ha
  have hf : gh_fk o k g g1 := fun a t x ha ht => by
    rw [hfr a (fun e => by rw [e, hG.cm] at ha; cases ha; exact ht ⟨rfl, rfl⟩) (fun e => by rw [e, hq0] at ha; cases ha)]; exact ha
  exact ⟨⟨⟨⟨hm, fun hn => e0 (hG.ct hn) (by decide), fun a ha => e0 (hG.cn a ha) (by decide), fun a ha => (hG.ky a ha).fk hf hG.k10, hG.nd, hG.inj, hG.ch, hG.bn, hG.bm, hG.z, hG.pw, hG.bin, hG.md, hG.len, hG.k10, (fun x e => e0 (hG.vw.1 x e) (by decide)), (fun x e => by cases e; exact hq), (fun x e => e0 (hG.vw.2.2 x e) (by decide))⟩, h.1.2⟩, h.2⟩, hf⟩
def hd_vs (D : HD) (q : Nat) : HD := ((D.1.1, D.1.2.1, D.1.2.2.1, D.1.2.2.2.1, D.1.2.2.2.2.1, D.1.2.2.2.2.2.1, some q), D.2)
theorem hm_vs {V : gh_V} {o k : Nat} {g g1 : gh_G} {m ck : Nat} {D : HD} (h : lm_D V o k g m ck D) {q : Nat} (hq0 : g q = none) (hm : g1 m = some ((o, k, 0), oo 13 [va_rf (hm_tab D), va_rf D.es, .int (nI D.L.length), .int D.mc, .int (nI D.th), .float 1061158912, va_rf D.ks, .ref q, va_rf D.L.head?, va_rf D.L.getLast?, .int 0, .int 0])) (hq : g1 q = some ((o, k, 6), oo 23 [.int 0, .ref m])) (hfr : ∀ b, b ≠ m → b ≠ q → g1 b = g b) : lm_D V o k g1 m ck (hd_vs D q) ∧ gh_fk o k g g1 := by
  have hG := h.1.1
  have e0 : ∀ {a n x}, g a = some ((o, k, n), x) → n ≠ 0 → g1 a = some ((o, k, n), x) := fun {a n x} ha hn => by
    rw [hfr a (fun e => by rw [e, hG.cm] at ha; cases ha; exact hn rfl) (fun e => by rw [e, hq0] at ha; cases ha)]; exact ha
  have hf : gh_fk o k g g1 := fun a t x ha ht => by
    rw [hfr a (fun e => by rw [e, hG.cm] at ha; cases ha; exact ht ⟨rfl, rfl⟩) (fun e => by rw [e, hq0] at ha; cases ha)]; exact ha
  exact ⟨⟨⟨⟨hm, fun hn => e0 (hG.ct hn) (by decide), fun a ha => e0 (hG.cn a ha) (by decide), fun a ha => (hG.ky a ha).fk hf hG.k10, hG.nd, hG.inj, hG.ch, hG.bn, hG.bm, hG.z, hG.pw, hG.bin, hG.md, hG.len, hG.k10, (fun x e => e0 (hG.vw.1 x e) (by decide)), (fun x e => e0 (hG.vw.2.1 x e) (by decide)), (fun x e => by cases e; exact hq)⟩, h.1.2⟩, h.2⟩, hf⟩
def hd_es (D : HD) (q : Nat) : HD := ((D.1.1, D.1.2.1, D.1.2.2.1, D.1.2.2.2.1, some q, D.1.2.2.2.2.2.1, D.1.2.2.2.2.2.2), D.2)
theorem hm_es {V : gh_V} {o k : Nat} {g g1 : gh_G} {m ck : Nat} {D : HD} (h : lm_D V o k g m ck D) {q : Nat} (hq0 : g q = none) (hm : g1 m = some ((o, k, 0), oo 13 [va_rf (hm_tab D), .ref q, .int (nI D.L.length), .int D.mc, .int (nI D.th), .float 1061158912, va_rf D.ks, va_rf D.vs, va_rf D.L.head?, va_rf D.L.getLast?, .int 0, .int 0])) (hq : g1 q = some ((o, k, 4), oo 24 [.int 0, .ref m])) (hfr : ∀ b, b ≠ m → b ≠ q → g1 b = g b) : lm_D V o k g1 m ck (hd_es D q) ∧ gh_fk o k g g1 := by
  have hG := h.1.1
  have e0 : ∀ {a n x}, g a = some ((o, k, n), x) → n ≠ 0 → g1 a = some ((o, k, n), x) := fun {a n x} ha hn => by
    rw [hfr a (fun e => by rw [e, hG.cm] at ha; cases ha; exact hn rfl) (fun e => by rw [e, hq0] at ha; cases ha)]; exact ha
  have hf : gh_fk o k g g1 := fun a t x ha ht => by
    rw [hfr a (fun e => by rw [e, hG.cm] at ha; cases ha; exact ht ⟨rfl, rfl⟩) (fun e => by rw [e, hq0] at ha; cases ha)]; exact ha
  exact ⟨⟨⟨⟨hm, fun hn => e0 (hG.ct hn) (by decide), fun a ha => e0 (hG.cn a ha) (by decide), fun a ha => (hG.ky a ha).fk hf hG.k10, hG.nd, hG.inj, hG.ch, hG.bn, hG.bm, hG.z, hG.pw, hG.bin, hG.md, hG.len, hG.k10, (fun x e => by cases e; exact hq), (fun x e => e0 (hG.vw.2.1 x e) (by decide)), (fun x e => e0 (hG.vw.2.2 x e) (by decide))⟩, h.1.2⟩, h.2⟩, hf⟩
set_option maxRecDepth 100000
theorem fJ40_13_24 : gh_fd RJ40 13 24 0 .boolean true := gh_fd.own (T := TJ40) tyJ40 rfl in_J40 tyJ40_ok nmJ40 (by decide) q2922 rfl rfl (fun h => rfl)
theorem fJ40_1_24 : gh_fd RJ40 1 24 1 (.object "java/util/LinkedHashMap") true := gh_fd.own (T := TJ40) tyJ40 rfl in_J40 tyJ40_ok nmJ40 (by decide) q2923 rfl rfl (fun h => rfl)
theorem fJ47_13_22 : gh_fd RJ47 13 22 0 .boolean true := gh_fd.own (T := TJ47) tyJ47 rfl in_J47 tyJ47_ok nmJ47 (by decide) q2408 rfl rfl (fun h => rfl)
theorem fJ47_1_22 : gh_fd RJ47 1 22 1 (.object "java/util/LinkedHashMap") true := gh_fd.own (T := TJ47) tyJ47 rfl in_J47 tyJ47_ok nmJ47 (by decide) q2409 rfl rfl (fun h => rfl)
theorem fJ48_13_23 : gh_fd RJ48 13 23 0 .boolean true := gh_fd.own (T := TJ48) tyJ48 rfl in_J48 tyJ48_ok nmJ48 (by decide) q3022 rfl rfl (fun h => rfl)
theorem fJ48_1_23 : gh_fd RJ48 1 23 1 (.object "java/util/LinkedHashMap") true := gh_fd.own (T := TJ48) tyJ48 rfl in_J48 tyJ48_ok nmJ48 (by decide) q3023 rfl rfl (fun h => rfl)
theorem fJ5_117_13 : gh_fd RJ5 117 13 6 (.object "java/util/Set") false := gh_fd.ref (ref := "java/util/LinkedHashMap") (T := TJ5) tyJ5 rfl in_J5 tyJ5_ok nmJ5 (by decide) q263 (fun _ _ h x hq => u_same (h _ q264) x hq) rfl rfl (fun h => by cases h)
theorem fJ5_139_13 : gh_fd RJ5 139 13 7 (.object "java/util/Collection") false := gh_fd.ref (ref := "java/util/LinkedHashMap") (T := TJ5) tyJ5 rfl in_J5 tyJ5_ok nmJ5 (by decide) q265 (fun _ _ h x hq => u_same (h _ q266) x hq) rfl rfl (fun h => by cases h)
theorem fJ5_151_13 : gh_fd RJ5 151 13 1 (.object "java/util/Set") false := gh_fd.ref (ref := "java/util/LinkedHashMap") (T := TJ5) tyJ5 rfl in_J5 tyJ5_ok nmJ5 (by decide) q245 (fun _ _ h x hq => u_same (h _ q246) x hq) rfl rfl (fun h => by cases h)
theorem hd_J40_init : yJ40_init.cls = RJ40 ∧ yJ40_init.cls ≠ "java/lang/invoke/MethodHandle" ∧ yJ40_init.cls ≠ "java/lang/invoke/VarHandle" ∧ (parseMethodDescriptor yJ40_init.desc).map (fun d => d.parameters.length) = some 2 := by decide +kernel
theorem hd_J44_init : yJ44_init.cls = RJ44 ∧ yJ44_init.cls ≠ "java/lang/invoke/MethodHandle" ∧ yJ44_init.cls ≠ "java/lang/invoke/VarHandle" ∧ (parseMethodDescriptor yJ44_init.desc).map (fun d => d.parameters.length) = some 2 := by decide +kernel
theorem hd_J45_init : yJ45_init.cls = RJ45 ∧ yJ45_init.cls ≠ "java/lang/invoke/MethodHandle" ∧ yJ45_init.cls ≠ "java/lang/invoke/VarHandle" ∧ (parseMethodDescriptor yJ45_init.desc).map (fun d => d.parameters.length) = some 2 := by decide +kernel
theorem hd_J47_init : yJ47_init.cls = RJ47 ∧ yJ47_init.cls ≠ "java/lang/invoke/MethodHandle" ∧ yJ47_init.cls ≠ "java/lang/invoke/VarHandle" ∧ (parseMethodDescriptor yJ47_init.desc).map (fun d => d.parameters.length) = some 2 := by decide +kernel
theorem hd_J48_init : yJ48_init.cls = RJ48 ∧ yJ48_init.cls ≠ "java/lang/invoke/MethodHandle" ∧ yJ48_init.cls ≠ "java/lang/invoke/VarHandle" ∧ (parseMethodDescriptor yJ48_init.desc).map (fun d => d.parameters.length) = some 2 := by decide +kernel
theorem hd_J51_init : yJ51_init.cls = RJ51 ∧ yJ51_init.cls ≠ "java/lang/invoke/MethodHandle" ∧ yJ51_init.cls ≠ "java/lang/invoke/VarHandle" ∧ (parseMethodDescriptor yJ51_init.desc).map (fun d => d.parameters.length) = some 2 := by decide +kernel
theorem hd_J5_sequencedEntrySet : yJ5_sequencedEntrySet.cls = RJ5 ∧ yJ5_sequencedEntrySet.cls ≠ "java/lang/invoke/MethodHandle" ∧ yJ5_sequencedEntrySet.cls ≠ "java/lang/invoke/VarHandle" ∧ (parseMethodDescriptor yJ5_sequencedEntrySet.desc).map (fun d => d.parameters.length) = some 0 := by decide +kernel
theorem hd_J5_sequencedKeySet : yJ5_sequencedKeySet.cls = RJ5 ∧ yJ5_sequencedKeySet.cls ≠ "java/lang/invoke/MethodHandle" ∧ yJ5_sequencedKeySet.cls ≠ "java/lang/invoke/VarHandle" ∧ (parseMethodDescriptor yJ5_sequencedKeySet.desc).map (fun d => d.parameters.length) = some 0 := by decide +kernel
theorem hd_J5_sequencedValues : yJ5_sequencedValues.cls = RJ5 ∧ yJ5_sequencedValues.cls ≠ "java/lang/invoke/MethodHandle" ∧ yJ5_sequencedValues.cls ≠ "java/lang/invoke/VarHandle" ∧ (parseMethodDescriptor yJ5_sequencedValues.desc).map (fun d => d.parameters.length) = some 0 := by decide +kernel
theorem hd_J6_init : yJ6_init.cls = RJ6 ∧ yJ6_init.cls ≠ "java/lang/invoke/MethodHandle" ∧ yJ6_init.cls ≠ "java/lang/invoke/VarHandle" ∧ (parseMethodDescriptor yJ6_init.desc).map (fun d => d.parameters.length) = some 0 := by decide +kernel
set_option maxHeartbeats 1000000 in
set_option maxRecDepth 100000 in
theorem j_J6_init (l : Launch) (V : gh_V) (g0 : gh_G) (a : Nat) : MV l yJ6_init cJ6_init 1 ({ frames := 2, cells := 0, slots := 0, locals := 32 } : Room) V [.ref a] g0 (fun g1 => g1 = g0) := by
  refine MG.of RJ6 (by decide) rfl (Nat.le_of_ble_eq_true rfl) (fun pp ee s mm args below meth c ls hC hg hr hlk hnm hl => ?_)
  have hx := hC.1.1
  have hb := hC.1.2.1
  have hml := hC.1.2.2.1
  have hown := hC.1.2.2.2.1
  have hts := hC.1.2.2.2.2
  have hl : lv_has ls 1 [(0, .ref a)] := hl
  obtain ⟨g, hg, hgg⟩ : ∃ g, gh_W V (gh_A g0 s.heap.size) s g s.heap [] ∧ g = g0 := ⟨g0, hg, rfl⟩
  refine lv_aload_n hx hb dJ6_init_0 rfl (lv_at hl 0 rfl) ?_
  refine gh_callv hg (gh_runI (As := []) (rest := []) hC hg (j_J0_init l V _ a) 0 (lw_meth q205) q105 q304 q204 rfl hd_J0_init.2 ⟨Nat.le_of_ble_eq_true rfl, Nat.le_of_ble_eq_true rfl⟩ rfl hl.1 rfl (Nat.le_of_ble_eq_true rfl) dJ6_init_1 ⟨Nat.le_of_ble_eq_true rfl, Nat.le_of_ble_eq_true rfl⟩) (fun g H locs hg hp => ?_)
  rw [hp] at hg
  exact gh_retv hC hg hr hlk hgg dJ6_init_4 (Nat.le_of_ble_eq_true rfl) (Nat.le_of_ble_eq_true rfl)
set_option maxHeartbeats 1000000 in
set_option maxRecDepth 100000 in
theorem j_J47_init (l : Launch) (V : gh_V) (g0 : gh_G) (q m : Nat) (t : gh_T) (hq : g0 q = some (t, oo 22 [.int 0, .null])) : MV l yJ47_init cJ47_init 3 ({ frames := 3, cells := 0, slots := 0, locals := 52 } : Room) V [.ref q, .ref m, .int 0] g0 (fun g1 => g1 q = some (t, oo 22 [.int 0, .ref m]) ∧ ∀ b, b ≠ q → g1 b = g0 b) := by
  refine MG.of RJ47 (by decide) rfl (Nat.le_of_ble_eq_true rfl) (fun pp ee s mm args below meth c ls hC hg hr hlk hnm hl => ?_)
  have hx := hC.1.1
  have hb := hC.1.2.1
  have hml := hC.1.2.2.1
  have hown := hC.1.2.2.2.1
  have hts := hC.1.2.2.2.2
  have hl : lv_has ls 3 [(0, .ref q), (1, .ref m), (2, .int 0)] := hl
  obtain ⟨g, hg, hgg⟩ : ∃ g, gh_W V (gh_A g0 s.heap.size) s g s.heap [] ∧ g = g0 := ⟨g0, hg, rfl⟩
  rw [← hgg] at hq
  have hfr : ∀ b, b ≠ q → g b = g0 b := fun b _ => by rw [hgg]
  refine lv_aload_n hx hb dJ47_init_0 rfl (lv_at hl 0 rfl) ?_
  refine lv_aload_n hx hb dJ47_init_1 rfl (lv_at hl 1 rfl) ?_
  refine gh_putF (v := .ref m) hC hg hnm hq fJ47_1_22 rfl rfl (Nat.le_of_ble_eq_true rfl) dJ47_init_2 (fun g H locs hg hw hn => ?_)
  have hfr : ∀ b, b ≠ q → g b = g0 b := fun b h1 => (hn b h1).trans (hfr b h1)
  have hq : g q = some ((t.1, t.2.1, t.2.2), oo 22 [.int 0, .ref m]) := hw
  refine lv_aload_n hx hb dJ47_init_5 rfl (lv_at hl 0 rfl) ?_
  refine gh_callv hg (gh_runI (As := []) (rest := []) hC hg (j_J6_init l V _ q) 0 (lw_meth q303) q111 q2407 q302 rfl hd_J6_init.2 ⟨Nat.le_of_ble_eq_true rfl, Nat.le_of_ble_eq_true rfl⟩ rfl hl.1 rfl (Nat.le_of_ble_eq_true rfl) dJ47_init_6 ⟨Nat.le_of_ble_eq_true rfl, Nat.le_of_ble_eq_true rfl⟩) (fun g H locs hg hp => ?_)
  rw [hp] at hg
  refine lv_aload_n hx hb dJ47_init_9 rfl (lv_at hl 0 rfl) ?_
  refine lv_iload_n hx hb dJ47_init_10 rfl (lv_at hl 2 rfl) ?_
  refine gh_putF (v := .int 0) hC hg hnm hq fJ47_13_22 rfl rfl (Nat.le_of_ble_eq_true rfl) dJ47_init_11 (fun g H locs hg hw hn => ?_)
  have hfr : ∀ b, b ≠ q → g b = g0 b := fun b h1 => (hn b h1).trans (hfr b h1)
  have hq : g q = some ((t.1, t.2.1, t.2.2), oo 22 [.int 0, .ref m]) := hw
  exact gh_retv hC hg hr hlk (⟨hq, hfr⟩) dJ47_init_14 (Nat.le_of_ble_eq_true rfl) (Nat.le_of_ble_eq_true rfl)
set_option maxHeartbeats 1000000 in
set_option maxRecDepth 100000 in
theorem j_J5_sequencedKeySet (l : Launch) (V : gh_V) (g0 : gh_G) (o k m ck : Nat) (D : HD) (hD : lm_D V o k g0 m ck D) : MR l yJ5_sequencedKeySet cJ5_sequencedKeySet 3 (some (.object "java/util/SequencedSet")) ({ frames := 4, cells := 1, slots := 2, locals := 74 } : Room) V [.ref m] g0 (fun r g1 => ∃ (q : Nat) (D1 : HD), r = some q ∧ lm_D V o k g1 m ck D1 ∧ D1.2 = D.2 ∧ g1 q = some ((o, k, 5), oo 22 [.int 0, .ref m]) ∧ gh_fk o k g0 g1) := by
  refine MG.of RJ5 (by decide) rfl (Nat.le_of_ble_eq_true rfl) (fun pp ee s mm args below meth c ls hC hg hr hlk hnm hl => ?_)
  have hx := hC.1.1
  have hb := hC.1.2.1
  have hml := hC.1.2.2.1
  have hown := hC.1.2.2.2.1
  have hts := hC.1.2.2.2.2
  have hl : lv_has ls 3 [(0, .ref m)] := hl
  obtain ⟨g, hg, hgg⟩ : ∃ g, gh_W V (gh_A g0 s.heap.size) s g s.heap [] ∧ g = g0 := ⟨g0, hg, rfl⟩
  have hG := hD.1.1
  rw [← hgg] at hG
  have hm := hG.cm
  refine lv_aload_n hx hb dJ5_sequencedKeySet_0 rfl (lv_at hl 0 rfl) ?_
  refine gh_get (v := va_rf D.ks) hC hg hm fJ5_117_13 rfl dJ5_sequencedKeySet_1 ?_
  refine lv_astore_nQ (lv' := [(1, va_rf D.ks), (0, .ref m)]) hx hb dJ5_sequencedKeySet_4 rfl hl (by decide) rfl (fun ls hl => ?_)
  refine lv_aload_nQ hx hb dJ5_sequencedKeySet_5 rfl (lv_at hl 0 rfl) ?_
  refine lv_ifnonnullQ (tgt := 26) hx hb dJ5_sequencedKeySet_6 (by decide) (fun y_2 hq_1 => ?_) (fun hq_1 => ?_)
  · skip
    rw [hq_1] at hl
    have hl : lv_has ls 3 [(1, .ref y_2), (0, .ref m)] := hl
    have hvq := hG.vw.2.1 y_2 hq_1
    refine lv_aload_n hx hb dJ5_sequencedKeySet_26 rfl (lv_at hl 0 rfl) ?_
    refine gh_castY hC hg hvq rfl q2415 q4409 dJ5_sequencedKeySet_27 ?_
    exact gh_retq (r := some y_2) (Or.inl ⟨_, rfl⟩) hC hg hr hlk (⟨y_2, D, rfl, (by rw [hgg]; exact hD), rfl, hvq, (by rw [hgg]; exact gh_fk.rf)⟩) dJ5_sequencedKeySet_30 (Nat.le_of_ble_eq_true rfl) (Nat.le_of_ble_eq_true rfl)
  rw [hq_1] at hl
  have hl : lv_has ls 3 [(1, .null), (0, .ref m)] := hl
  refine gh_new (ci := 22) (fs := [.int 0, .null]) hC hg (fun q9 => (o, k, 5)) rfl in_J47 tyJ47 tyJ47_ok q2402 q2403 q156 (by decide +kernel) (Nat.le_of_ble_eq_true rfl) (Nat.le_of_ble_eq_true rfl) dJ5_sequencedKeySet_9 (fun q_3 g H hg h0 hw hn => ?_)
  have hm : g m = some ((o, k, 0), oo 13 [va_rf (hm_tab D), va_rf D.es, .int (nI D.L.length), .int D.mc, .int (nI D.th), .float 1061158912, va_rf D.ks, va_rf D.vs, va_rf (D.L.head?), va_rf (D.L.getLast?), .int 0, .int 0]) := (hn _ (gh_neN hm h0)).trans hm
  have c_4 : g q_3 = some ((o, k, 5), oo 22 [.int 0, .null]) := hw
  have hq00 : g0 q_3 = none := by rw [← hgg]; exact h0
  have hmq : m ≠ q_3 := fun e => by have h9 := hD.1.1.cm; rw [e, hq00] at h9; cases h9
  have hfr : ∀ b, b ≠ q_3 → g b = g0 b := fun b h1 => (hn b h1).trans (by rw [hgg])
  refine lv_dup hx hb dJ5_sequencedKeySet_12 rfl ?_
  refine lv_aload_n hx hb dJ5_sequencedKeySet_13 rfl (lv_at hl 1 rfl) ?_
  refine lv_iconst (v := 0) hx hb dJ5_sequencedKeySet_14 (by decide) ?_
  refine gh_callv hg (gh_runI (As := [.ref m, .int 0]) (rest := [.ref q_3]) hC hg (j_J47_init l V _ q_3 m _ c_4) 2 (lw_meth q2406) q156 q2404 q2405 rfl hd_J47_init.2 ⟨Nat.le_of_ble_eq_true rfl, Nat.le_of_ble_eq_true rfl⟩ rfl hl.1 rfl (Nat.le_of_ble_eq_true rfl) dJ5_sequencedKeySet_15 ⟨Nat.le_of_ble_eq_true rfl, Nat.le_of_ble_eq_true rfl⟩) (fun g H locs hg hp => ?_)
  obtain ⟨hq, hfr2⟩ := hp
  have hm := (hfr2 m hmq).trans hm
  have hfr : ∀ b, b ≠ m → b ≠ q_3 → g b = g0 b := fun b _ h2 => (hfr2 b h2).trans (hfr b h2)
  refine lv_astore_n (lv' := [(2, .ref q_3), (1, .null), (0, .ref m)]) hx hb dJ5_sequencedKeySet_18 rfl hl (by decide) rfl (fun ls hl => ?_)
  refine lv_aload_n hx hb dJ5_sequencedKeySet_19 rfl (lv_at hl 2 rfl) ?_
  refine lv_aload_n hx hb dJ5_sequencedKeySet_20 rfl (lv_at hl 0 rfl) ?_
  refine gh_put (v := .ref q_3) hC hg hm fJ5_117_13 rfl rfl (Nat.le_of_ble_eq_true rfl) dJ5_sequencedKeySet_21 (fun g H locs hg hw hn => ?_)
  have hq : g q_3 = some ((o, k, 5), oo 22 [.int 0, .ref m]) := (hn _ (gh_neI hq hm rfl)).trans hq
  have hfr : ∀ b, b ≠ m → b ≠ q_3 → g b = g0 b := fun b h1 h2 => (hn b h1).trans (hfr b h1 h2)
  have hm : g m = some ((o, k, 0), oo 13 [va_rf (hm_tab D), va_rf D.es, .int (nI D.L.length), .int D.mc, .int (nI D.th), .float 1061158912, .ref q_3, va_rf D.vs, va_rf (D.L.head?), va_rf (D.L.getLast?), .int 0, .int 0]) := hw
  refine lv_aload_n hx hb dJ5_sequencedKeySet_24 rfl (lv_at hl 0 rfl) ?_
  obtain ⟨hD1, hF1⟩ := hm_ks hD hq00 hm hq hfr
  exact gh_retq (r := some q_3) (Or.inl ⟨_, rfl⟩) hC hg hr hlk (⟨q_3, hd_ks D q_3, rfl, hD1, rfl, hq, hF1⟩) dJ5_sequencedKeySet_25 (Nat.le_of_ble_eq_true rfl) (Nat.le_of_ble_eq_true rfl)
set_option maxHeartbeats 1000000 in
set_option maxRecDepth 100000 in
theorem j_J5_keySet (l : Launch) (V : gh_V) (g0 : gh_G) (o k m ck : Nat) (D : HD) (hD : lm_D V o k g0 m ck D) : MR l yJ5_keySet cJ5_keySet 1 (some (.object "java/util/Set")) ({ frames := 5, cells := 1, slots := 2, locals := 96 } : Room) V [.ref m] g0 (fun r g1 => ∃ (q : Nat) (D1 : HD), r = some q ∧ lm_D V o k g1 m ck D1 ∧ D1.2 = D.2 ∧ g1 q = some ((o, k, 5), oo 22 [.int 0, .ref m]) ∧ gh_fk o k g0 g1) := by
  refine MG.of RJ5 (by decide) rfl (Nat.le_of_ble_eq_true rfl) (fun pp ee s mm args below meth c ls hC hg hr hlk hnm hl => ?_)
  have hx := hC.1.1
  have hb := hC.1.2.1
  have hml := hC.1.2.2.1
  have hown := hC.1.2.2.2.1
  have hts := hC.1.2.2.2.2
  have hl : lv_has ls 1 [(0, .ref m)] := hl
  obtain ⟨g, hg, hgg⟩ : ∃ g, gh_W V (gh_A g0 s.heap.size) s g s.heap [] ∧ g = g0 := ⟨g0, hg, rfl⟩
  have hG := hD.1.1
  rw [← hgg] at hG
  have hm := hG.cm
  refine lv_aload_n hx hb dJ5_keySet_0 rfl (lv_at hl 0 rfl) ?_
  refine gh_callq hg (gh_runV (As := []) (rest := []) hC hg (j_J5_sequencedKeySet l V _ o k m ck D (by rw [hgg]; exact hD)) 0 (lw_V q2398 q2399 q2400 q110 q2401) hm rfl hd_J5_sequencedKeySet ⟨Nat.le_of_ble_eq_true rfl, Nat.le_of_ble_eq_true rfl⟩ rfl hl.1 rfl (Nat.le_of_ble_eq_true rfl) dJ5_keySet_1 ⟨Nat.le_of_ble_eq_true rfl, Nat.le_of_ble_eq_true rfl⟩) (fun r_1 g H locs hg hp => ?_)
  obtain ⟨q, D1, rfl, hD1, hM1, hq, hF1⟩ := hp
  refine W.eq (g2 := F0 mm 4 ls [.ref q]) rfl ?_
  exact gh_retq (r := some q) (Or.inl ⟨_, rfl⟩) hC hg hr hlk (⟨q, D1, rfl, hD1, hM1, hq, hgg ▸ hF1⟩) dJ5_keySet_4 (Nat.le_of_ble_eq_true rfl) (Nat.le_of_ble_eq_true rfl)
set_option maxHeartbeats 1000000 in
set_option maxRecDepth 100000 in
theorem j_J47_iterator (l : Launch) (V : gh_V) (g0 : gh_G) (o k m ck v9 : Nat) (D : HD) (hD : lm_D V o k g0 m ck D) (hv : g0 v9 = some ((o, k, 5), oo 22 [.int 0, .ref m])) : MR l yJ47_iterator cJ47_iterator 1 (some (.object "java/util/Iterator")) ({ frames := 3, cells := 1, slots := 5, locals := 56 } : Room) V [.ref v9] g0 (fun r g1 => ∃ it : Nat, r = some it ∧ g0 it = none ∧ it_P o k g1 it m D 19 0 ∧ ∀ b, b ≠ it → g1 b = g0 b) := by
  refine MG.of RJ47 (by decide) rfl (Nat.le_of_ble_eq_true rfl) (fun pp ee s mm args below meth c ls hC hg hr hlk hnm hl => ?_)
  have hx := hC.1.1
  have hb := hC.1.2.1
  have hml := hC.1.2.2.1
  have hown := hC.1.2.2.2.1
  have hts := hC.1.2.2.2.2
  have hl : lv_has ls 1 [(0, .ref v9)] := hl
  obtain ⟨g, hg, hgg⟩ : ∃ g, gh_W V (gh_A g0 s.heap.size) s g s.heap [] ∧ g = g0 := ⟨g0, hg, rfl⟩
  rw [← hgg] at hv
  refine gh_new (ci := 19) (fs := [.null, .null, .int 0, .int 0, .null]) hC hg (fun q9 => (o, k, 7)) rfl in_J45 tyJ45 tyJ45_ok q2488 q2489 q154 (by decide +kernel) (Nat.le_of_ble_eq_true rfl) (Nat.le_of_ble_eq_true rfl) dJ47_iterator_0 (fun q_1 g H hg h0 hw hn => ?_)
  have hv : g v9 = some ((o, k, 5), oo 22 [.int 0, .ref m]) := (hn _ (gh_neN hv h0)).trans hv
  have c_2 : g q_1 = some ((o, k, 7), oo 19 [.null, .null, .int 0, .int 0, .null]) := hw
  have hq00 : g0 q_1 = none := by rw [← hgg]; exact h0
  have hfr : ∀ b, b ≠ q_1 → g b = g0 b := fun b h1 => (hn b h1).trans (by rw [hgg])
  have hD1 : lm_D V o k g m ck D := hD.keep (fun a t x ha _ => by rw [hfr a (fun e => by rw [e, hq00] at ha; cases ha)]; exact ha)
  refine lv_dup hx hb dJ47_iterator_3 rfl ?_
  refine lv_aload_n hx hb dJ47_iterator_4 rfl (lv_at hl 0 rfl) ?_
  refine gh_get (v := .ref m) hC hg hv fJ47_1_22 rfl dJ47_iterator_5 ?_
  refine lv_aload_n hx hb dJ47_iterator_8 rfl (lv_at hl 0 rfl) ?_
  refine gh_get (v := .int 0) hC hg hv fJ47_13_22 rfl dJ47_iterator_9 ?_
  refine gh_callv hg (gh_runI (As := [.ref m, .int 0]) (rest := [.ref q_1]) hC hg (j_J45_init l V _ o k m ck q_1 D hD1 c_2) 2 (lw_meth q2492) q154 q2490 q2491 rfl hd_J45_init.2 ⟨Nat.le_of_ble_eq_true rfl, Nat.le_of_ble_eq_true rfl⟩ rfl hl.1 rfl (Nat.le_of_ble_eq_true rfl) dJ47_iterator_12 ⟨Nat.le_of_ble_eq_true rfl, Nat.le_of_ble_eq_true rfl⟩) (fun g H locs hg hp => ?_)
  obtain ⟨hit, hfr2⟩ := hp
  exact gh_retq (r := some q_1) (Or.inl ⟨_, rfl⟩) hC hg hr hlk (⟨q_1, rfl, hq00, ⟨none, by rw [← List.head?_eq_getElem?]; exact hit⟩, fun b h1 => (hfr2 b h1).trans (hfr b h1)⟩) dJ47_iterator_15 (Nat.le_of_ble_eq_true rfl) (Nat.le_of_ble_eq_true rfl)
set_option maxHeartbeats 1000000 in
set_option maxRecDepth 100000 in
theorem j_J48_init (l : Launch) (V : gh_V) (g0 : gh_G) (q m : Nat) (t : gh_T) (hq : g0 q = some (t, oo 23 [.int 0, .null])) : MV l yJ48_init cJ48_init 3 ({ frames := 2, cells := 0, slots := 0, locals := 32 } : Room) V [.ref q, .ref m, .int 0] g0 (fun g1 => g1 q = some (t, oo 23 [.int 0, .ref m]) ∧ ∀ b, b ≠ q → g1 b = g0 b) := by
  refine MG.of RJ48 (by decide) rfl (Nat.le_of_ble_eq_true rfl) (fun pp ee s mm args below meth c ls hC hg hr hlk hnm hl => ?_)
  have hx := hC.1.1
  have hb := hC.1.2.1
  have hml := hC.1.2.2.1
  have hown := hC.1.2.2.2.1
  have hts := hC.1.2.2.2.2
  have hl : lv_has ls 3 [(0, .ref q), (1, .ref m), (2, .int 0)] := hl
  obtain ⟨g, hg, hgg⟩ : ∃ g, gh_W V (gh_A g0 s.heap.size) s g s.heap [] ∧ g = g0 := ⟨g0, hg, rfl⟩
  rw [← hgg] at hq
  have hfr : ∀ b, b ≠ q → g b = g0 b := fun b _ => by rw [hgg]
  refine lv_aload_n hx hb dJ48_init_0 rfl (lv_at hl 0 rfl) ?_
  refine lv_aload_n hx hb dJ48_init_1 rfl (lv_at hl 1 rfl) ?_
  refine gh_putF (v := .ref m) hC hg hnm hq fJ48_1_23 rfl rfl (Nat.le_of_ble_eq_true rfl) dJ48_init_2 (fun g H locs hg hw hn => ?_)
  have hfr : ∀ b, b ≠ q → g b = g0 b := fun b h1 => (hn b h1).trans (hfr b h1)
  have hq : g q = some ((t.1, t.2.1, t.2.2), oo 23 [.int 0, .ref m]) := hw
  refine lv_aload_n hx hb dJ48_init_5 rfl (lv_at hl 0 rfl) ?_
  refine gh_callv hg (gh_runI (As := []) (rest := []) hC hg (j_J0_init l V _ q) 0 (lw_meth q205) q105 q3021 q204 rfl hd_J0_init.2 ⟨Nat.le_of_ble_eq_true rfl, Nat.le_of_ble_eq_true rfl⟩ rfl hl.1 rfl (Nat.le_of_ble_eq_true rfl) dJ48_init_6 ⟨Nat.le_of_ble_eq_true rfl, Nat.le_of_ble_eq_true rfl⟩) (fun g H locs hg hp => ?_)
  rw [hp] at hg
  refine lv_aload_n hx hb dJ48_init_9 rfl (lv_at hl 0 rfl) ?_
  refine lv_iload_n hx hb dJ48_init_10 rfl (lv_at hl 2 rfl) ?_
  refine gh_putF (v := .int 0) hC hg hnm hq fJ48_13_23 rfl rfl (Nat.le_of_ble_eq_true rfl) dJ48_init_11 (fun g H locs hg hw hn => ?_)
  have hfr : ∀ b, b ≠ q → g b = g0 b := fun b h1 => (hn b h1).trans (hfr b h1)
  have hq : g q = some ((t.1, t.2.1, t.2.2), oo 23 [.int 0, .ref m]) := hw
  exact gh_retv hC hg hr hlk (⟨hq, hfr⟩) dJ48_init_14 (Nat.le_of_ble_eq_true rfl) (Nat.le_of_ble_eq_true rfl)
set_option maxHeartbeats 1000000 in
set_option maxRecDepth 100000 in
theorem j_J5_sequencedValues (l : Launch) (V : gh_V) (g0 : gh_G) (o k m ck : Nat) (D : HD) (hD : lm_D V o k g0 m ck D) : MR l yJ5_sequencedValues cJ5_sequencedValues 3 (some (.object "java/util/SequencedCollection")) ({ frames := 3, cells := 1, slots := 2, locals := 54 } : Room) V [.ref m] g0 (fun r g1 => ∃ (q : Nat) (D1 : HD), r = some q ∧ lm_D V o k g1 m ck D1 ∧ D1.2 = D.2 ∧ g1 q = some ((o, k, 6), oo 23 [.int 0, .ref m]) ∧ gh_fk o k g0 g1) := by
  refine MG.of RJ5 (by decide) rfl (Nat.le_of_ble_eq_true rfl) (fun pp ee s mm args below meth c ls hC hg hr hlk hnm hl => ?_)
  have hx := hC.1.1
  have hb := hC.1.2.1
  have hml := hC.1.2.2.1
  have hown := hC.1.2.2.2.1
  have hts := hC.1.2.2.2.2
  have hl : lv_has ls 3 [(0, .ref m)] := hl
  obtain ⟨g, hg, hgg⟩ : ∃ g, gh_W V (gh_A g0 s.heap.size) s g s.heap [] ∧ g = g0 := ⟨g0, hg, rfl⟩
  have hG := hD.1.1
  rw [← hgg] at hG
  have hm := hG.cm
  refine lv_aload_n hx hb dJ5_sequencedValues_0 rfl (lv_at hl 0 rfl) ?_
  refine gh_get (v := va_rf D.vs) hC hg hm fJ5_139_13 rfl dJ5_sequencedValues_1 ?_
  refine lv_astore_nQ (lv' := [(1, va_rf D.vs), (0, .ref m)]) hx hb dJ5_sequencedValues_4 rfl hl (by decide) rfl (fun ls hl => ?_)
  refine lv_aload_nQ hx hb dJ5_sequencedValues_5 rfl (lv_at hl 0 rfl) ?_
  refine lv_ifnonnullQ (tgt := 26) hx hb dJ5_sequencedValues_6 (by decide) (fun y_2 hq_1 => ?_) (fun hq_1 => ?_)
  · skip
    rw [hq_1] at hl
    have hl : lv_has ls 3 [(1, .ref y_2), (0, .ref m)] := hl
    have hvq := hG.vw.2.2 y_2 hq_1
    refine lv_aload_n hx hb dJ5_sequencedValues_26 rfl (lv_at hl 0 rfl) ?_
    refine gh_castY hC hg hvq rfl q3029 q4423 dJ5_sequencedValues_27 ?_
    exact gh_retq (r := some y_2) (Or.inl ⟨_, rfl⟩) hC hg hr hlk (⟨y_2, D, rfl, (by rw [hgg]; exact hD), rfl, hvq, (by rw [hgg]; exact gh_fk.rf)⟩) dJ5_sequencedValues_30 (Nat.le_of_ble_eq_true rfl) (Nat.le_of_ble_eq_true rfl)
  rw [hq_1] at hl
  have hl : lv_has ls 3 [(1, .null), (0, .ref m)] := hl
  refine gh_new (ci := 23) (fs := [.int 0, .null]) hC hg (fun q9 => (o, k, 6)) rfl in_J48 tyJ48 tyJ48_ok q3016 q3017 q159 (by decide +kernel) (Nat.le_of_ble_eq_true rfl) (Nat.le_of_ble_eq_true rfl) dJ5_sequencedValues_9 (fun q_3 g H hg h0 hw hn => ?_)
  have hm : g m = some ((o, k, 0), oo 13 [va_rf (hm_tab D), va_rf D.es, .int (nI D.L.length), .int D.mc, .int (nI D.th), .float 1061158912, va_rf D.ks, va_rf D.vs, va_rf (D.L.head?), va_rf (D.L.getLast?), .int 0, .int 0]) := (hn _ (gh_neN hm h0)).trans hm
  have c_4 : g q_3 = some ((o, k, 6), oo 23 [.int 0, .null]) := hw
  have hq00 : g0 q_3 = none := by rw [← hgg]; exact h0
  have hmq : m ≠ q_3 := fun e => by have h9 := hD.1.1.cm; rw [e, hq00] at h9; cases h9
  have hfr : ∀ b, b ≠ q_3 → g b = g0 b := fun b h1 => (hn b h1).trans (by rw [hgg])
  refine lv_dup hx hb dJ5_sequencedValues_12 rfl ?_
  refine lv_aload_n hx hb dJ5_sequencedValues_13 rfl (lv_at hl 1 rfl) ?_
  refine lv_iconst (v := 0) hx hb dJ5_sequencedValues_14 (by decide) ?_
  refine gh_callv hg (gh_runI (As := [.ref m, .int 0]) (rest := [.ref q_3]) hC hg (j_J48_init l V _ q_3 m _ c_4) 2 (lw_meth q3020) q159 q3018 q3019 rfl hd_J48_init.2 ⟨Nat.le_of_ble_eq_true rfl, Nat.le_of_ble_eq_true rfl⟩ rfl hl.1 rfl (Nat.le_of_ble_eq_true rfl) dJ5_sequencedValues_15 ⟨Nat.le_of_ble_eq_true rfl, Nat.le_of_ble_eq_true rfl⟩) (fun g H locs hg hp => ?_)
  obtain ⟨hq, hfr2⟩ := hp
  have hm := (hfr2 m hmq).trans hm
  have hfr : ∀ b, b ≠ m → b ≠ q_3 → g b = g0 b := fun b _ h2 => (hfr2 b h2).trans (hfr b h2)
  refine lv_astore_n (lv' := [(2, .ref q_3), (1, .null), (0, .ref m)]) hx hb dJ5_sequencedValues_18 rfl hl (by decide) rfl (fun ls hl => ?_)
  refine lv_aload_n hx hb dJ5_sequencedValues_19 rfl (lv_at hl 2 rfl) ?_
  refine lv_aload_n hx hb dJ5_sequencedValues_20 rfl (lv_at hl 0 rfl) ?_
  refine gh_put (v := .ref q_3) hC hg hm fJ5_139_13 rfl rfl (Nat.le_of_ble_eq_true rfl) dJ5_sequencedValues_21 (fun g H locs hg hw hn => ?_)
  have hq : g q_3 = some ((o, k, 6), oo 23 [.int 0, .ref m]) := (hn _ (gh_neI hq hm rfl)).trans hq
  have hfr : ∀ b, b ≠ m → b ≠ q_3 → g b = g0 b := fun b h1 h2 => (hn b h1).trans (hfr b h1 h2)
  have hm : g m = some ((o, k, 0), oo 13 [va_rf (hm_tab D), va_rf D.es, .int (nI D.L.length), .int D.mc, .int (nI D.th), .float 1061158912, va_rf D.ks, .ref q_3, va_rf (D.L.head?), va_rf (D.L.getLast?), .int 0, .int 0]) := hw
  refine lv_aload_n hx hb dJ5_sequencedValues_24 rfl (lv_at hl 0 rfl) ?_
  obtain ⟨hD1, hF1⟩ := hm_vs hD hq00 hm hq hfr
  exact gh_retq (r := some q_3) (Or.inl ⟨_, rfl⟩) hC hg hr hlk (⟨q_3, hd_vs D q_3, rfl, hD1, rfl, hq, hF1⟩) dJ5_sequencedValues_25 (Nat.le_of_ble_eq_true rfl) (Nat.le_of_ble_eq_true rfl)
set_option maxHeartbeats 1000000 in
set_option maxRecDepth 100000 in
theorem j_J5_values (l : Launch) (V : gh_V) (g0 : gh_G) (o k m ck : Nat) (D : HD) (hD : lm_D V o k g0 m ck D) : MR l yJ5_values cJ5_values 1 (some (.object "java/util/Collection")) ({ frames := 4, cells := 1, slots := 2, locals := 76 } : Room) V [.ref m] g0 (fun r g1 => ∃ (q : Nat) (D1 : HD), r = some q ∧ lm_D V o k g1 m ck D1 ∧ D1.2 = D.2 ∧ g1 q = some ((o, k, 6), oo 23 [.int 0, .ref m]) ∧ gh_fk o k g0 g1) := by
  refine MG.of RJ5 (by decide) rfl (Nat.le_of_ble_eq_true rfl) (fun pp ee s mm args below meth c ls hC hg hr hlk hnm hl => ?_)
  have hx := hC.1.1
  have hb := hC.1.2.1
  have hml := hC.1.2.2.1
  have hown := hC.1.2.2.2.1
  have hts := hC.1.2.2.2.2
  have hl : lv_has ls 1 [(0, .ref m)] := hl
  obtain ⟨g, hg, hgg⟩ : ∃ g, gh_W V (gh_A g0 s.heap.size) s g s.heap [] ∧ g = g0 := ⟨g0, hg, rfl⟩
  have hG := hD.1.1
  rw [← hgg] at hG
  have hm := hG.cm
  refine lv_aload_n hx hb dJ5_values_0 rfl (lv_at hl 0 rfl) ?_
  refine gh_callq hg (gh_runV (As := []) (rest := []) hC hg (j_J5_sequencedValues l V _ o k m ck D (by rw [hgg]; exact hD)) 0 (lw_V q3012 q3013 q3014 q110 q3015) hm rfl hd_J5_sequencedValues ⟨Nat.le_of_ble_eq_true rfl, Nat.le_of_ble_eq_true rfl⟩ rfl hl.1 rfl (Nat.le_of_ble_eq_true rfl) dJ5_values_1 ⟨Nat.le_of_ble_eq_true rfl, Nat.le_of_ble_eq_true rfl⟩) (fun r_1 g H locs hg hp => ?_)
  obtain ⟨q, D1, rfl, hD1, hM1, hq, hF1⟩ := hp
  refine W.eq (g2 := F0 mm 4 ls [.ref q]) rfl ?_
  exact gh_retq (r := some q) (Or.inl ⟨_, rfl⟩) hC hg hr hlk (⟨q, D1, rfl, hD1, hM1, hq, hgg ▸ hF1⟩) dJ5_values_4 (Nat.le_of_ble_eq_true rfl) (Nat.le_of_ble_eq_true rfl)
set_option maxHeartbeats 1000000 in
set_option maxRecDepth 100000 in
theorem j_J48_iterator (l : Launch) (V : gh_V) (g0 : gh_G) (o k m ck v9 : Nat) (D : HD) (hD : lm_D V o k g0 m ck D) (hv : g0 v9 = some ((o, k, 6), oo 23 [.int 0, .ref m])) : MR l yJ48_iterator cJ48_iterator 1 (some (.object "java/util/Iterator")) ({ frames := 3, cells := 1, slots := 5, locals := 56 } : Room) V [.ref v9] g0 (fun r g1 => ∃ it : Nat, r = some it ∧ g0 it = none ∧ it_P o k g1 it m D 20 0 ∧ ∀ b, b ≠ it → g1 b = g0 b) := by
  refine MG.of RJ48 (by decide) rfl (Nat.le_of_ble_eq_true rfl) (fun pp ee s mm args below meth c ls hC hg hr hlk hnm hl => ?_)
  have hx := hC.1.1
  have hb := hC.1.2.1
  have hml := hC.1.2.2.1
  have hown := hC.1.2.2.2.1
  have hts := hC.1.2.2.2.2
  have hl : lv_has ls 1 [(0, .ref v9)] := hl
  obtain ⟨g, hg, hgg⟩ : ∃ g, gh_W V (gh_A g0 s.heap.size) s g s.heap [] ∧ g = g0 := ⟨g0, hg, rfl⟩
  rw [← hgg] at hv
  refine gh_new (ci := 20) (fs := [.null, .null, .int 0, .int 0, .null]) hC hg (fun q9 => (o, k, 7)) rfl in_J51 tyJ51 tyJ51_ok q3097 q3098 q162 (by decide +kernel) (Nat.le_of_ble_eq_true rfl) (Nat.le_of_ble_eq_true rfl) dJ48_iterator_0 (fun q_1 g H hg h0 hw hn => ?_)
  have hv : g v9 = some ((o, k, 6), oo 23 [.int 0, .ref m]) := (hn _ (gh_neN hv h0)).trans hv
  have c_2 : g q_1 = some ((o, k, 7), oo 20 [.null, .null, .int 0, .int 0, .null]) := hw
  have hq00 : g0 q_1 = none := by rw [← hgg]; exact h0
  have hfr : ∀ b, b ≠ q_1 → g b = g0 b := fun b h1 => (hn b h1).trans (by rw [hgg])
  have hD1 : lm_D V o k g m ck D := hD.keep (fun a t x ha _ => by rw [hfr a (fun e => by rw [e, hq00] at ha; cases ha)]; exact ha)
  refine lv_dup hx hb dJ48_iterator_3 rfl ?_
  refine lv_aload_n hx hb dJ48_iterator_4 rfl (lv_at hl 0 rfl) ?_
  refine gh_get (v := .ref m) hC hg hv fJ48_1_23 rfl dJ48_iterator_5 ?_
  refine lv_aload_n hx hb dJ48_iterator_8 rfl (lv_at hl 0 rfl) ?_
  refine gh_get (v := .int 0) hC hg hv fJ48_13_23 rfl dJ48_iterator_9 ?_
  refine gh_callv hg (gh_runI (As := [.ref m, .int 0]) (rest := [.ref q_1]) hC hg (j_J51_init l V _ o k m ck q_1 D hD1 c_2) 2 (lw_meth q3101) q162 q3099 q3100 rfl hd_J51_init.2 ⟨Nat.le_of_ble_eq_true rfl, Nat.le_of_ble_eq_true rfl⟩ rfl hl.1 rfl (Nat.le_of_ble_eq_true rfl) dJ48_iterator_12 ⟨Nat.le_of_ble_eq_true rfl, Nat.le_of_ble_eq_true rfl⟩) (fun g H locs hg hp => ?_)
  obtain ⟨hit, hfr2⟩ := hp
  exact gh_retq (r := some q_1) (Or.inl ⟨_, rfl⟩) hC hg hr hlk (⟨q_1, rfl, hq00, ⟨none, by rw [← List.head?_eq_getElem?]; exact hit⟩, fun b h1 => (hfr2 b h1).trans (hfr b h1)⟩) dJ48_iterator_15 (Nat.le_of_ble_eq_true rfl) (Nat.le_of_ble_eq_true rfl)
set_option maxHeartbeats 1000000 in
set_option maxRecDepth 100000 in
theorem j_J40_init (l : Launch) (V : gh_V) (g0 : gh_G) (q m : Nat) (t : gh_T) (hq : g0 q = some (t, oo 24 [.int 0, .null])) : MV l yJ40_init cJ40_init 3 ({ frames := 3, cells := 0, slots := 0, locals := 52 } : Room) V [.ref q, .ref m, .int 0] g0 (fun g1 => g1 q = some (t, oo 24 [.int 0, .ref m]) ∧ ∀ b, b ≠ q → g1 b = g0 b) := by
  refine MG.of RJ40 (by decide) rfl (Nat.le_of_ble_eq_true rfl) (fun pp ee s mm args below meth c ls hC hg hr hlk hnm hl => ?_)
  have hx := hC.1.1
  have hb := hC.1.2.1
  have hml := hC.1.2.2.1
  have hown := hC.1.2.2.2.1
  have hts := hC.1.2.2.2.2
  have hl : lv_has ls 3 [(0, .ref q), (1, .ref m), (2, .int 0)] := hl
  obtain ⟨g, hg, hgg⟩ : ∃ g, gh_W V (gh_A g0 s.heap.size) s g s.heap [] ∧ g = g0 := ⟨g0, hg, rfl⟩
  rw [← hgg] at hq
  have hfr : ∀ b, b ≠ q → g b = g0 b := fun b _ => by rw [hgg]
  refine lv_aload_n hx hb dJ40_init_0 rfl (lv_at hl 0 rfl) ?_
  refine lv_aload_n hx hb dJ40_init_1 rfl (lv_at hl 1 rfl) ?_
  refine gh_putF (v := .ref m) hC hg hnm hq fJ40_1_24 rfl rfl (Nat.le_of_ble_eq_true rfl) dJ40_init_2 (fun g H locs hg hw hn => ?_)
  have hfr : ∀ b, b ≠ q → g b = g0 b := fun b h1 => (hn b h1).trans (hfr b h1)
  have hq : g q = some ((t.1, t.2.1, t.2.2), oo 24 [.int 0, .ref m]) := hw
  refine lv_aload_n hx hb dJ40_init_5 rfl (lv_at hl 0 rfl) ?_
  refine gh_callv hg (gh_runI (As := []) (rest := []) hC hg (j_J6_init l V _ q) 0 (lw_meth q303) q111 q2921 q302 rfl hd_J6_init.2 ⟨Nat.le_of_ble_eq_true rfl, Nat.le_of_ble_eq_true rfl⟩ rfl hl.1 rfl (Nat.le_of_ble_eq_true rfl) dJ40_init_6 ⟨Nat.le_of_ble_eq_true rfl, Nat.le_of_ble_eq_true rfl⟩) (fun g H locs hg hp => ?_)
  rw [hp] at hg
  refine lv_aload_n hx hb dJ40_init_9 rfl (lv_at hl 0 rfl) ?_
  refine lv_iload_n hx hb dJ40_init_10 rfl (lv_at hl 2 rfl) ?_
  refine gh_putF (v := .int 0) hC hg hnm hq fJ40_13_24 rfl rfl (Nat.le_of_ble_eq_true rfl) dJ40_init_11 (fun g H locs hg hw hn => ?_)
  have hfr : ∀ b, b ≠ q → g b = g0 b := fun b h1 => (hn b h1).trans (hfr b h1)
  have hq : g q = some ((t.1, t.2.1, t.2.2), oo 24 [.int 0, .ref m]) := hw
  exact gh_retv hC hg hr hlk (⟨hq, hfr⟩) dJ40_init_14 (Nat.le_of_ble_eq_true rfl) (Nat.le_of_ble_eq_true rfl)
set_option maxHeartbeats 1000000 in
set_option maxRecDepth 100000 in
theorem j_J5_sequencedEntrySet (l : Launch) (V : gh_V) (g0 : gh_G) (o k m ck : Nat) (D : HD) (hD : lm_D V o k g0 m ck D) : MR l yJ5_sequencedEntrySet cJ5_sequencedEntrySet 3 (some (.object "java/util/SequencedSet")) ({ frames := 4, cells := 1, slots := 2, locals := 74 } : Room) V [.ref m] g0 (fun r g1 => ∃ (q : Nat) (D1 : HD), r = some q ∧ lm_D V o k g1 m ck D1 ∧ D1.2 = D.2 ∧ g1 q = some ((o, k, 4), oo 24 [.int 0, .ref m]) ∧ gh_fk o k g0 g1) := by
  refine MG.of RJ5 (by decide) rfl (Nat.le_of_ble_eq_true rfl) (fun pp ee s mm args below meth c ls hC hg hr hlk hnm hl => ?_)
  have hx := hC.1.1
  have hb := hC.1.2.1
  have hml := hC.1.2.2.1
  have hown := hC.1.2.2.2.1
  have hts := hC.1.2.2.2.2
  have hl : lv_has ls 3 [(0, .ref m)] := hl
  obtain ⟨g, hg, hgg⟩ : ∃ g, gh_W V (gh_A g0 s.heap.size) s g s.heap [] ∧ g = g0 := ⟨g0, hg, rfl⟩
  have hG := hD.1.1
  rw [← hgg] at hG
  have hm := hG.cm
  refine lv_aload_n hx hb dJ5_sequencedEntrySet_0 rfl (lv_at hl 0 rfl) ?_
  refine gh_get (v := va_rf D.es) hC hg hm fJ5_151_13 rfl dJ5_sequencedEntrySet_1 ?_
  refine lv_astore_nQ (lv' := [(1, va_rf D.es), (0, .ref m)]) hx hb dJ5_sequencedEntrySet_4 rfl hl (by decide) rfl (fun ls hl => ?_)
  refine lv_aload_nQ hx hb dJ5_sequencedEntrySet_5 rfl (lv_at hl 0 rfl) ?_
  refine lv_ifnonnullQ (tgt := 26) hx hb dJ5_sequencedEntrySet_6 (by decide) (fun y_2 hq_1 => ?_) (fun hq_1 => ?_)
  · skip
    rw [hq_1] at hl
    have hl : lv_has ls 3 [(1, .ref y_2), (0, .ref m)] := hl
    have hvq := hG.vw.1 y_2 hq_1
    refine lv_aload_n hx hb dJ5_sequencedEntrySet_26 rfl (lv_at hl 0 rfl) ?_
    refine gh_castY hC hg hvq rfl q2415 q4408 dJ5_sequencedEntrySet_27 ?_
    exact gh_retq (r := some y_2) (Or.inl ⟨_, rfl⟩) hC hg hr hlk (⟨y_2, D, rfl, (by rw [hgg]; exact hD), rfl, hvq, (by rw [hgg]; exact gh_fk.rf)⟩) dJ5_sequencedEntrySet_30 (Nat.le_of_ble_eq_true rfl) (Nat.le_of_ble_eq_true rfl)
  rw [hq_1] at hl
  have hl : lv_has ls 3 [(1, .null), (0, .ref m)] := hl
  refine gh_new (ci := 24) (fs := [.int 0, .null]) hC hg (fun q9 => (o, k, 4)) rfl in_J40 tyJ40 tyJ40_ok q2916 q2917 q149 (by decide +kernel) (Nat.le_of_ble_eq_true rfl) (Nat.le_of_ble_eq_true rfl) dJ5_sequencedEntrySet_9 (fun q_3 g H hg h0 hw hn => ?_)
  have hm : g m = some ((o, k, 0), oo 13 [va_rf (hm_tab D), va_rf D.es, .int (nI D.L.length), .int D.mc, .int (nI D.th), .float 1061158912, va_rf D.ks, va_rf D.vs, va_rf (D.L.head?), va_rf (D.L.getLast?), .int 0, .int 0]) := (hn _ (gh_neN hm h0)).trans hm
  have c_4 : g q_3 = some ((o, k, 4), oo 24 [.int 0, .null]) := hw
  have hq00 : g0 q_3 = none := by rw [← hgg]; exact h0
  have hmq : m ≠ q_3 := fun e => by have h9 := hD.1.1.cm; rw [e, hq00] at h9; cases h9
  have hfr : ∀ b, b ≠ q_3 → g b = g0 b := fun b h1 => (hn b h1).trans (by rw [hgg])
  refine lv_dup hx hb dJ5_sequencedEntrySet_12 rfl ?_
  refine lv_aload_n hx hb dJ5_sequencedEntrySet_13 rfl (lv_at hl 1 rfl) ?_
  refine lv_iconst (v := 0) hx hb dJ5_sequencedEntrySet_14 (by decide) ?_
  refine gh_callv hg (gh_runI (As := [.ref m, .int 0]) (rest := [.ref q_3]) hC hg (j_J40_init l V _ q_3 m _ c_4) 2 (lw_meth q2920) q149 q2918 q2919 rfl hd_J40_init.2 ⟨Nat.le_of_ble_eq_true rfl, Nat.le_of_ble_eq_true rfl⟩ rfl hl.1 rfl (Nat.le_of_ble_eq_true rfl) dJ5_sequencedEntrySet_15 ⟨Nat.le_of_ble_eq_true rfl, Nat.le_of_ble_eq_true rfl⟩) (fun g H locs hg hp => ?_)
  obtain ⟨hq, hfr2⟩ := hp
  have hm := (hfr2 m hmq).trans hm
  have hfr : ∀ b, b ≠ m → b ≠ q_3 → g b = g0 b := fun b _ h2 => (hfr2 b h2).trans (hfr b h2)
  refine lv_astore_n (lv' := [(2, .ref q_3), (1, .null), (0, .ref m)]) hx hb dJ5_sequencedEntrySet_18 rfl hl (by decide) rfl (fun ls hl => ?_)
  refine lv_aload_n hx hb dJ5_sequencedEntrySet_19 rfl (lv_at hl 2 rfl) ?_
  refine lv_aload_n hx hb dJ5_sequencedEntrySet_20 rfl (lv_at hl 0 rfl) ?_
  refine gh_put (v := .ref q_3) hC hg hm fJ5_151_13 rfl rfl (Nat.le_of_ble_eq_true rfl) dJ5_sequencedEntrySet_21 (fun g H locs hg hw hn => ?_)
  have hq : g q_3 = some ((o, k, 4), oo 24 [.int 0, .ref m]) := (hn _ (gh_neI hq hm rfl)).trans hq
  have hfr : ∀ b, b ≠ m → b ≠ q_3 → g b = g0 b := fun b h1 h2 => (hn b h1).trans (hfr b h1 h2)
  have hm : g m = some ((o, k, 0), oo 13 [va_rf (hm_tab D), .ref q_3, .int (nI D.L.length), .int D.mc, .int (nI D.th), .float 1061158912, va_rf D.ks, va_rf D.vs, va_rf (D.L.head?), va_rf (D.L.getLast?), .int 0, .int 0]) := hw
  refine lv_aload_n hx hb dJ5_sequencedEntrySet_24 rfl (lv_at hl 0 rfl) ?_
  obtain ⟨hD1, hF1⟩ := hm_es hD hq00 hm hq hfr
  exact gh_retq (r := some q_3) (Or.inl ⟨_, rfl⟩) hC hg hr hlk (⟨q_3, hd_es D q_3, rfl, hD1, rfl, hq, hF1⟩) dJ5_sequencedEntrySet_25 (Nat.le_of_ble_eq_true rfl) (Nat.le_of_ble_eq_true rfl)
set_option maxHeartbeats 1000000 in
set_option maxRecDepth 100000 in
theorem j_J5_entrySet (l : Launch) (V : gh_V) (g0 : gh_G) (o k m ck : Nat) (D : HD) (hD : lm_D V o k g0 m ck D) : MR l yJ5_entrySet cJ5_entrySet 1 (some (.object "java/util/Set")) ({ frames := 5, cells := 1, slots := 2, locals := 96 } : Room) V [.ref m] g0 (fun r g1 => ∃ (q : Nat) (D1 : HD), r = some q ∧ lm_D V o k g1 m ck D1 ∧ D1.2 = D.2 ∧ g1 q = some ((o, k, 4), oo 24 [.int 0, .ref m]) ∧ gh_fk o k g0 g1) := by
  refine MG.of RJ5 (by decide) rfl (Nat.le_of_ble_eq_true rfl) (fun pp ee s mm args below meth c ls hC hg hr hlk hnm hl => ?_)
  have hx := hC.1.1
  have hb := hC.1.2.1
  have hml := hC.1.2.2.1
  have hown := hC.1.2.2.2.1
  have hts := hC.1.2.2.2.2
  have hl : lv_has ls 1 [(0, .ref m)] := hl
  obtain ⟨g, hg, hgg⟩ : ∃ g, gh_W V (gh_A g0 s.heap.size) s g s.heap [] ∧ g = g0 := ⟨g0, hg, rfl⟩
  have hG := hD.1.1
  rw [← hgg] at hG
  have hm := hG.cm
  refine lv_aload_n hx hb dJ5_entrySet_0 rfl (lv_at hl 0 rfl) ?_
  refine gh_callq hg (gh_runV (As := []) (rest := []) hC hg (j_J5_sequencedEntrySet l V _ o k m ck D (by rw [hgg]; exact hD)) 0 (lw_V q2912 q2913 q2914 q110 q2915) hm rfl hd_J5_sequencedEntrySet ⟨Nat.le_of_ble_eq_true rfl, Nat.le_of_ble_eq_true rfl⟩ rfl hl.1 rfl (Nat.le_of_ble_eq_true rfl) dJ5_entrySet_1 ⟨Nat.le_of_ble_eq_true rfl, Nat.le_of_ble_eq_true rfl⟩) (fun r_1 g H locs hg hp => ?_)
  obtain ⟨q, D1, rfl, hD1, hM1, hq, hF1⟩ := hp
  refine W.eq (g2 := F0 mm 4 ls [.ref q]) rfl ?_
  exact gh_retq (r := some q) (Or.inl ⟨_, rfl⟩) hC hg hr hlk (⟨q, D1, rfl, hD1, hM1, hq, hgg ▸ hF1⟩) dJ5_entrySet_4 (Nat.le_of_ble_eq_true rfl) (Nat.le_of_ble_eq_true rfl)
set_option maxHeartbeats 1000000 in
set_option maxRecDepth 100000 in
theorem j_J40_iterator (l : Launch) (V : gh_V) (g0 : gh_G) (o k m ck v9 : Nat) (D : HD) (hD : lm_D V o k g0 m ck D) (hv : g0 v9 = some ((o, k, 4), oo 24 [.int 0, .ref m])) : MR l yJ40_iterator cJ40_iterator 1 (some (.object "java/util/Iterator")) ({ frames := 3, cells := 1, slots := 5, locals := 56 } : Room) V [.ref v9] g0 (fun r g1 => ∃ it : Nat, r = some it ∧ g0 it = none ∧ it_P o k g1 it m D 21 0 ∧ ∀ b, b ≠ it → g1 b = g0 b) := by
  refine MG.of RJ40 (by decide) rfl (Nat.le_of_ble_eq_true rfl) (fun pp ee s mm args below meth c ls hC hg hr hlk hnm hl => ?_)
  have hx := hC.1.1
  have hb := hC.1.2.1
  have hml := hC.1.2.2.1
  have hown := hC.1.2.2.2.1
  have hts := hC.1.2.2.2.2
  have hl : lv_has ls 1 [(0, .ref v9)] := hl
  obtain ⟨g, hg, hgg⟩ : ∃ g, gh_W V (gh_A g0 s.heap.size) s g s.heap [] ∧ g = g0 := ⟨g0, hg, rfl⟩
  rw [← hgg] at hv
  refine gh_new (ci := 21) (fs := [.null, .null, .int 0, .int 0, .null]) hC hg (fun q9 => (o, k, 7)) rfl in_J44 tyJ44 tyJ44_ok q2457 q2458 q153 (by decide +kernel) (Nat.le_of_ble_eq_true rfl) (Nat.le_of_ble_eq_true rfl) dJ40_iterator_0 (fun q_1 g H hg h0 hw hn => ?_)
  have hv : g v9 = some ((o, k, 4), oo 24 [.int 0, .ref m]) := (hn _ (gh_neN hv h0)).trans hv
  have c_2 : g q_1 = some ((o, k, 7), oo 21 [.null, .null, .int 0, .int 0, .null]) := hw
  have hq00 : g0 q_1 = none := by rw [← hgg]; exact h0
  have hfr : ∀ b, b ≠ q_1 → g b = g0 b := fun b h1 => (hn b h1).trans (by rw [hgg])
  have hD1 : lm_D V o k g m ck D := hD.keep (fun a t x ha _ => by rw [hfr a (fun e => by rw [e, hq00] at ha; cases ha)]; exact ha)
  refine lv_dup hx hb dJ40_iterator_3 rfl ?_
  refine lv_aload_n hx hb dJ40_iterator_4 rfl (lv_at hl 0 rfl) ?_
  refine gh_get (v := .ref m) hC hg hv fJ40_1_24 rfl dJ40_iterator_5 ?_
  refine lv_aload_n hx hb dJ40_iterator_8 rfl (lv_at hl 0 rfl) ?_
  refine gh_get (v := .int 0) hC hg hv fJ40_13_24 rfl dJ40_iterator_9 ?_
  refine gh_callv hg (gh_runI (As := [.ref m, .int 0]) (rest := [.ref q_1]) hC hg (j_J44_init l V _ o k m ck q_1 D hD1 c_2) 2 (lw_meth q2461) q153 q2459 q2460 rfl hd_J44_init.2 ⟨Nat.le_of_ble_eq_true rfl, Nat.le_of_ble_eq_true rfl⟩ rfl hl.1 rfl (Nat.le_of_ble_eq_true rfl) dJ40_iterator_12 ⟨Nat.le_of_ble_eq_true rfl, Nat.le_of_ble_eq_true rfl⟩) (fun g H locs hg hp => ?_)
  obtain ⟨hit, hfr2⟩ := hp
  exact gh_retq (r := some q_1) (Or.inl ⟨_, rfl⟩) hC hg hr hlk (⟨q_1, rfl, hq00, ⟨none, by rw [← List.head?_eq_getElem?]; exact hit⟩, fun b h1 => (hfr2 b h1).trans (hfr b h1)⟩) dJ40_iterator_15 (Nat.le_of_ble_eq_true rfl) (Nat.le_of_ble_eq_true rfl)
