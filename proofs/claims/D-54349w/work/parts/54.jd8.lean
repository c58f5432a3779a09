theorem gh_joinW {V : gh_V} {p : Program} {l : Launch} {e : Env} {R : Room} {s : State} {m : MethodId} {args : Array Value} {below : List Frame} {meth : Method} {c : Code} {H : Heap} {locs : List Loc} {cells slots : Nat} {Q : State → Prop} {A : Nat → Prop} {st0 : JFrame} (pc : Nat) (st : List Value) (cJ sJ : Nat) (X : gh_G → Array Slot → Prop)
    (h1 : (∀ (g : gh_G) (H : Heap) (locs : List Loc) (ls : Array Slot), gh_W V A s g H locs → X g ls → W p l e R s m args below meth c H locs cJ sJ Q (F0 m pc ls st)) → W p l e R s m args below meth c H locs cells slots Q st0)
    (h2 : ∀ (g : gh_G) (H : Heap) (locs : List Loc) (ls : Array Slot), gh_W V A s g H locs → X g ls → W p l e R s m args below meth c H locs cJ sJ Q (F0 m pc ls st)) : W p l e R s m args below meth c H locs cells slots Q st0 := h1 h2
theorem hm_G.plain {V : gh_V} {o k : Nat} {g : gh_G} {m ck : Nat} {D : HD} {sz : Nat} (h : hm_G V o k g m ck D sz none) (hn : D.n ≠ 0) (h64 : D.n < 64) : ∀ a, a ∈ D.L → D.ci a = 14 := fun a ha => by
  have hi : hm_sp (D.C a) % D.n < D.n := hm_idxlt hn
  have hb := (h.bm _ hi a).mpr ⟨ha, (fun e => by cases e), rfl⟩
  rcases h.bin _ hi with h1 | h1
  · exact (h1 a hb).1
  · have := h1.1; omega
theorem hm_G.absent {V : gh_V} {o k : Nat} {g : gh_G} {m ck : Nat} {D : HD} {sz : Nat} (h : hm_G V o k g m ck D sz none) {i c : Nat} (hi : i < D.n) (hc : hm_sp c % D.n = i) (hb : ∀ a, a ∈ D.B i → D.C a ≠ c) : ∀ b, b ∈ D.L → D.C b ≠ c := fun b hb9 e => hb b ((h.bm i hi b).mpr ⟨hb9, (fun e => by cases e), by rw [e, hc]⟩) e
/-- what a new element leaves -/
def hm_N (V : gh_V) (o k : Nat) (g0 g1 : gh_G) (m ck sz c x : Nat) (vv : Option Nat) (D D1 : HD) : Prop := hm_G V o k g1 m ck D1 sz none ∧ hm_M D1 = hm_M D ++ [(c, x, vv)] ∧ (D1.n ≠ 0 ∧ D.n ≤ D1.n) ∧ gh_fk o k g0 g1 ∧ (ck = 9 → ∀ a, a ∈ D1.L → D1.ci a = 14)
theorem hm_N.len {V : gh_V} {o k : Nat} {g0 g1 : gh_G} {m ck sz c x : Nat} {vv : Option Nat} {D D1 : HD} (h : hm_N V o k g0 g1 m ck sz c x vv D D1) : D1.L.length = D.L.length + 1 := by
  rw [← hm_M_len, h.2.1, List.length_append, hm_M_len]; rfl
theorem hm_G.szset {V : gh_V} {o k : Nat} {g g1 : gh_G} {m ck : Nat} {D : HD} {sz sz1 : Nat} {X : Option Nat} {mc1 : Int32} (h : hm_G V o k g m ck D sz X) (hm : g1 m = some ((o, k, 0), oo 13 [va_rf (hm_tab D), va_rf D.es, .int (nI sz1), .int mc1, .int (nI D.th), .float 1061158912, va_rf D.ks, va_rf D.vs, va_rf D.L.head?, va_rf D.L.getLast?, .int 0, .int 0])) (hfr : ∀ b, b ≠ m → g1 b = g b) :
    hm_G V o k g1 m ck ((D.1.1, D.1.2.1, D.1.2.2.1, mc1, D.1.2.2.2.2), D.2) sz1 X ∧ gh_fk o k g g1 := by
  have e0 : ∀ {a n x}, g a = some ((o, k, n), x) → n ≠ 0 → g1 a = some ((o, k, n), x) := fun {a n x} ha hn => by
    rw [hfr a (fun e => by rw [e, h.cm] at ha; cases ha; exact hn rfl)]; exact ha
  have hf : gh_fk o k g g1 := fun a t x ha ht => by
    rw [hfr a (fun e => by rw [e, h.cm] at ha; cases ha; exact ht ⟨rfl, rfl⟩)]; exact ha
  exact ⟨⟨hm, fun hn => e0 (h.ct hn) (by decide), fun a ha => e0 (h.cn a ha) (by decide), fun a ha => (h.ky a ha).fk hf h.k10, h.nd, h.inj, h.ch, h.bn, h.bm, h.z, h.pw, h.bin, h.md, h.len, h.k10, fun x e => e0 (h.vw.1 x e) (by decide), fun x e => e0 (h.vw.2.1 x e) (by decide), fun x e => e0 (h.vw.2.2 x e) (by decide)⟩, hf⟩
/-- a table's length by its threshold -/
theorem hm_th64 {n j : Nat} (hj : j ≤ 9) (hn : n = 2 ^ j) (h : 3 * n / 4 < 64) : n ≤ 64 := by
  rcases Nat.lt_or_ge j 7 with h1 | h1
  · have := Nat.pow_le_pow_right (n := 2) (by decide) (show j ≤ 6 by omega)
    have e : (2 : Nat) ^ 6 = 64 := by decide
    omega
  · have := Nat.pow_le_pow_right (n := 2) (by decide) h1
    have e : (2 : Nat) ^ 7 = 128 := by decide
    omega
/-- what making a tree of a bin must do -/
def tb_S (l : Launch) (V : gh_V) : Prop := ∀ (g0 : gh_G) (o k m sz : Nat) (D : HD) (i h : Nat), hm_G V o k g0 m 10 D sz none → 64 ≤ D.n → i < D.n → h % D.n = i → h < 131072 → (∀ a, a ∈ D.B i → D.ci a = 14 ∧ D.ex a = []) → D.B i ≠ [] → D.L.length ≤ 16 →
  MV l yJ4_treeifyBin cJ4_treeifyBin 9 ({ frames := 8, cells := 16, slots := 176, locals := 300 } : Room) V [.ref m, .ref D.tb, .int (nI h)] g0 (fun g1 => ∃ D1 : HD, hm_G V o k g1 m 10 D1 sz none ∧ hm_M D1 = hm_M D ∧ D1.n = D.n ∧ gh_fk o k g0 g1)
/-- what putting into a tree must do -/
def pt_S (l : Launch) (V : gh_V) : Prop := ∀ (g0 : gh_G) (o k m sz : Nat) (D : HD) (i a c x vv : Nat), hm_G V o k g0 m 10 D sz none → i < D.n → (D.B i).head? = some a → hm_tr D i → hm_sp c % D.n = i → ky_P V g0 10 x c → (D.L.length < 16 ∨ ∃ b, b ∈ D.L ∧ D.C b = c) →
  MR l yJ39_putTreeVal cJ39_putTreeVal 16 (some (.object "java/util/HashMap$TreeNode")) ({ frames := 8, cells := 1, slots := 11, locals := 300 } : Room) V [.ref a, .ref m, .ref D.tb, .int (nI (hm_sp c)), .ref x, .ref vv] g0 (fun r g1 => (∃ b, b ∈ D.L ∧ D.C b = c ∧ r = some b ∧ g1 = g0) ∨ (r = none ∧ (∀ b, b ∈ D.L → D.C b ≠ c) ∧ ∃ D1 : HD, hm_N V o k g0 g1 m 10 sz c x (some vv) D D1))
def lm_get (M : List (Nat × Nat × Option Nat)) (c : Nat) : Option Nat := (M.find? (fun e => e.1 == c)).bind (fun e => e.2.2)
theorem lm_get_none {D : HD} {c : Nat} (h : ∀ b, b ∈ D.L → D.C b ≠ c) : lm_get (hm_M D) c = none := by
  unfold lm_get
  rw [List.find?_eq_none.mpr (fun e he => by obtain ⟨a, ha, rfl⟩ := List.mem_map.mp he; simp [h a ha])]
  rfl
theorem lm_get_some {D : HD} {b c : Nat} (h : b ∈ D.L) (hc : D.C b = c) (hinj : ∀ a, a ∈ D.L → ∀ b, b ∈ D.L → D.C a = D.C b → a = b) : lm_get (hm_M D) c = D.v b := by
  unfold lm_get
  cases hf : (hm_M D).find? (fun e => e.1 == c) with
  | none => have := List.find?_eq_none.mp hf _ (List.mem_map.mpr ⟨b, h, rfl⟩); simp [hc] at this
  | some e =>
    have h1 := List.find?_some hf
    obtain ⟨a, ha, rfl⟩ := List.mem_map.mp (List.mem_of_find?_eq_some hf)
    have e1 : D.C a = c := by simpa using h1
    rw [hinj a ha b h (e1.trans hc.symm)]
    rfl
theorem lm_put_none {D : HD} {c ka : Nat} {v : Option Nat} (h : ∀ b, b ∈ D.L → D.C b ≠ c) : lm_put (hm_M D) c ka v = hm_M D ++ [(c, ka, v)] := by
  unfold lm_put; rw [hm_M_none h]; rfl
/-- what putting answers -/
def pv_R (V : gh_V) (o k : Nat) (g0 : gh_G) (m ck c x : Nat) (vv : Option Nat) (D : HD) (r : Option Nat) (g1 : gh_G) : Prop := ∃ D1 : HD, hm_I V o k g1 m ck D1 ∧ (ck = 9 → ∀ a, a ∈ D1.L → D1.ci a = 14) ∧ gh_fk o k g0 g1 ∧ hm_M D1 = lm_put (hm_M D) c x vv ∧ r = lm_get (hm_M D) c
theorem hm_n32 {n j : Nat} (hn : n = 2 ^ j) (h : n < 64) : n ≤ 32 := by
  rcases Nat.lt_or_ge j 6 with h1 | h1
  · have := Nat.pow_le_pow_right (n := 2) (by decide) (show j ≤ 5 by omega)
    have e : (2 : Nat) ^ 5 = 32 := by decide
    omega
  · have := Nat.pow_le_pow_right (n := 2) (by decide) h1
    have e : (2 : Nat) ^ 6 = 64 := by decide
    omega
def pv_16 (ck c : Nat) (D : HD) : Prop := ck = 10 → D.L.length < 16 ∨ ∃ b, b ∈ D.L ∧ D.C b = c
theorem pv_16.or {ck c : Nat} {D : HD} (h : pv_16 ck c D) (hc : ck = 10) : D.L.length < 16 ∨ ∃ b, b ∈ D.L ∧ D.C b = c := h hc
set_option maxRecDepth 100000
theorem fJ4_156_13 : gh_fd RJ4 156 13 2 .int false := gh_fd.own (T := TJ5) tyJ5 rfl in_J5 tyJ5_ok nmJ5 (by decide) q253 rfl rfl (fun h => by cases h)
theorem fJ4_162_14 : gh_fd RJ4 162 14 2 (.object "java/lang/Object") false := gh_fd.own (T := TJ36) tyJ36 rfl in_J36 tyJ36_ok nmJ36 (by decide) q1868 rfl rfl (fun h => by cases h)
theorem fJ4_162_15 : gh_fd RJ4 162 15 2 (.object "java/lang/Object") false := gh_fd.own (T := TJ39) tyJ39 rfl in_J39 tyJ39_ok nmJ39 (by decide) q1868 rfl rfl (fun h => by cases h)
theorem fJ4_202_13 : gh_fd RJ4 202 13 3 .int false := gh_fd.own (T := TJ5) tyJ5 rfl in_J5 tyJ5_ok nmJ5 (by decide) q258 rfl rfl (fun h => by cases h)
theorem fNJ4_162 {ci : Nat} (h : ci = 14 ∨ ci = 15) : gh_fd RJ4 162 ci 2 (.object "java/lang/Object") false := by
  rcases h with rfl | rfl
  · exact fJ4_162_14
  · exact fJ4_162_15
theorem hd_J39_putTreeVal : yJ39_putTreeVal.cls = RJ39 ∧ yJ39_putTreeVal.cls ≠ "java/lang/invoke/MethodHandle" ∧ yJ39_putTreeVal.cls ≠ "java/lang/invoke/VarHandle" ∧ (parseMethodDescriptor yJ39_putTreeVal.desc).map (fun d => d.parameters.length) = some 5 := by decide +kernel
theorem hd_J5_removeEldestEntry : yJ5_removeEldestEntry.cls = RJ5 ∧ yJ5_removeEldestEntry.cls ≠ "java/lang/invoke/MethodHandle" ∧ yJ5_removeEldestEntry.cls ≠ "java/lang/invoke/VarHandle" ∧ (parseMethodDescriptor yJ5_removeEldestEntry.desc).map (fun d => d.parameters.length) = some 1 := by decide +kernel
theorem hdF_HashMap_afterNodeAccess_1 : (⟨"java/util/HashMap", "afterNodeAccess", "(Ljava/util/HashMap$Node;)V"⟩ : MethodName).cls ≠ "java/lang/invoke/MethodHandle" ∧ (⟨"java/util/HashMap", "afterNodeAccess", "(Ljava/util/HashMap$Node;)V"⟩ : MethodName).cls ≠ "java/lang/invoke/VarHandle" ∧ (parseMethodDescriptor (⟨"java/util/HashMap", "afterNodeAccess", "(Ljava/util/HashMap$Node;)V"⟩ : MethodName).desc).map (fun d => d.parameters.length) = some 1 := by decide +kernel
theorem hdF_HashMap_afterNodeInsertion_1 : (⟨"java/util/HashMap", "afterNodeInsertion", "(Z)V"⟩ : MethodName).cls ≠ "java/lang/invoke/MethodHandle" ∧ (⟨"java/util/HashMap", "afterNodeInsertion", "(Z)V"⟩ : MethodName).cls ≠ "java/lang/invoke/VarHandle" ∧ (parseMethodDescriptor (⟨"java/util/HashMap", "afterNodeInsertion", "(Z)V"⟩ : MethodName).desc).map (fun d => d.parameters.length) = some 1 := by decide +kernel
theorem hdF_HashMap_newNode_4 : (⟨"java/util/HashMap", "newNode", "(ILjava/lang/Object;Ljava/lang/Object;Ljava/util/HashMap$Node;)Ljava/util/HashMap$Node;"⟩ : MethodName).cls ≠ "java/lang/invoke/MethodHandle" ∧ (⟨"java/util/HashMap", "newNode", "(ILjava/lang/Object;Ljava/lang/Object;Ljava/util/HashMap$Node;)Ljava/util/HashMap$Node;"⟩ : MethodName).cls ≠ "java/lang/invoke/VarHandle" ∧ (parseMethodDescriptor (⟨"java/util/HashMap", "newNode", "(ILjava/lang/Object;Ljava/lang/Object;Ljava/util/HashMap$Node;)Ljava/util/HashMap$Node;"⟩ : MethodName).desc).map (fun d => d.parameters.length) = some 4 := by decide +kernel
theorem hdF_HashMap_resize_0 : (⟨"java/util/HashMap", "resize", "()[Ljava/util/HashMap$Node;"⟩ : MethodName).cls ≠ "java/lang/invoke/MethodHandle" ∧ (⟨"java/util/HashMap", "resize", "()[Ljava/util/HashMap$Node;"⟩ : MethodName).cls ≠ "java/lang/invoke/VarHandle" ∧ (parseMethodDescriptor (⟨"java/util/HashMap", "resize", "()[Ljava/util/HashMap$Node;"⟩ : MethodName).desc).map (fun d => d.parameters.length) = some 0 := by decide +kernel
theorem hdF_HashMap_treeifyBin_2 : (⟨"java/util/HashMap", "treeifyBin", "([Ljava/util/HashMap$Node;I)V"⟩ : MethodName).cls ≠ "java/lang/invoke/MethodHandle" ∧ (⟨"java/util/HashMap", "treeifyBin", "([Ljava/util/HashMap$Node;I)V"⟩ : MethodName).cls ≠ "java/lang/invoke/VarHandle" ∧ (parseMethodDescriptor (⟨"java/util/HashMap", "treeifyBin", "([Ljava/util/HashMap$Node;I)V"⟩ : MethodName).desc).map (fun d => d.parameters.length) = some 2 := by decide +kernel
set_option maxHeartbeats 1000000 in
set_option maxRecDepth 100000 in
theorem j_J5_removeEldestEntry (l : Launch) (V : gh_V) (g0 : gh_G) (m e9 : Nat) : MI l yJ5_removeEldestEntry cJ5_removeEldestEntry 2 (some .boolean) ({ frames := 0, cells := 0, slots := 0, locals := 0 } : Room) V [.ref m, .ref e9] g0 (fun r g1 => r = 0 ∧ g1 = g0) := by
  refine MG.of RJ5 (by decide) rfl (Nat.le_of_ble_eq_true rfl) (fun pp ee s mm args below meth c ls hC hg hr hlk hnm hl => ?_)
  have hx := hC.1.1
  have hb := hC.1.2.1
  have hml := hC.1.2.2.1
  have hown := hC.1.2.2.2.1
  have hts := hC.1.2.2.2.2
  have hl : lv_has ls 2 [(0, .ref m), (1, .ref e9)] := hl
  obtain ⟨g, hg, hgg⟩ : ∃ g, gh_W V (gh_A g0 s.heap.size) s g s.heap [] ∧ g = g0 := ⟨g0, hg, rfl⟩
  refine lv_iconst (v := 0) hx hb dJ5_removeEldestEntry_0 (by decide) ?_
  exact gh_retz rfl hC hg hr hlk (⟨rfl, hgg⟩) dJ5_removeEldestEntry_1 (Nat.le_of_ble_eq_true rfl) (Nat.le_of_ble_eq_true rfl)
set_option maxHeartbeats 1000000 in
set_option maxRecDepth 100000 in
theorem j_J5_afterNodeInsertion (l : Launch) (V : gh_V) (g0 : gh_G) (o k m ck sz : Nat) (D : HD) (X : Option Nat) (hI : hm_G V o k g0 m ck D sz X) (ev : Int32) : MV l yJ5_afterNodeInsertion cJ5_afterNodeInsertion 4 ({ frames := 1, cells := 0, slots := 0, locals := 21 } : Room) V [.ref m, .int ev] g0 (fun g1 => g1 = g0) := by
  refine MG.of RJ5 (by decide) rfl (Nat.le_of_ble_eq_true rfl) (fun pp ee s mm args below meth c ls hC hg hr hlk hnm hl => ?_)
  have hx := hC.1.1
  have hb := hC.1.2.1
  have hml := hC.1.2.2.1
  have hown := hC.1.2.2.2.1
  have hts := hC.1.2.2.2.2
  have hl : lv_has ls 4 [(0, .ref m), (1, .int ev)] := hl
  obtain ⟨g, hg, hgg⟩ : ∃ g, gh_W V (gh_A g0 s.heap.size) s g s.heap [] ∧ g = g0 := ⟨g0, hg, rfl⟩
  have hm := hI.cm
  rw [← hgg] at hm
  refine lv_iload_n hx hb dJ5_afterNodeInsertion_0 rfl (lv_at hl 1 rfl) ?_
  refine lv_if_eq (tgt := 39) hx hb dJ5_afterNodeInsertion_1 (by decide) (fun c_1 => ?_) (fun c_1 => ?_)
  · skip
    exact gh_retv hC hg hr hlk hgg dJ5_afterNodeInsertion_39 (Nat.le_of_ble_eq_true rfl) (Nat.le_of_ble_eq_true rfl)
  refine lv_aload_n hx hb dJ5_afterNodeInsertion_4 rfl (lv_at hl 0 rfl) ?_
  refine gh_get (v := va_rf (D.L.head?)) hC hg hm fJ5_7_13 rfl dJ5_afterNodeInsertion_5 ?_
  refine lv_dup hx hb dJ5_afterNodeInsertion_8 (gh_cQ _) ?_
  refine lv_astore_nQ (lv' := [(2, va_rf (D.L.head?)), (0, .ref m), (1, .int ev)]) hx hb dJ5_afterNodeInsertion_9 rfl hl (by decide) rfl (fun ls hl => ?_)
  refine lv_ifnullQ (tgt := 39) hx hb dJ5_afterNodeInsertion_10 (by decide) (fun hq_2 => ?_) (fun y_3 hq_2 => ?_)
  · skip
    rw [hq_2] at hl
    have hl : lv_has ls 4 [(2, .null), (0, .ref m), (1, .int ev)] := hl
    exact gh_retv hC hg hr hlk hgg dJ5_afterNodeInsertion_39 (Nat.le_of_ble_eq_true rfl) (Nat.le_of_ble_eq_true rfl)
  rw [hq_2] at hl
  have hl : lv_has ls 4 [(2, .ref y_3), (0, .ref m), (1, .int ev)] := hl
  refine lv_aload_n hx hb dJ5_afterNodeInsertion_13 rfl (lv_at hl 1 rfl) ?_
  refine lv_aload_n hx hb dJ5_afterNodeInsertion_14 rfl (lv_at hl 0 rfl) ?_
  refine gh_calli hg (gh_runV (As := [.ref y_3]) (rest := []) hC hg (j_J5_removeEldestEntry l V _ m y_3) 1 (lw_V q2287 q2288 q2289 q110 q2290) hm rfl hd_J5_removeEldestEntry ⟨Nat.le_of_ble_eq_true rfl, Nat.le_of_ble_eq_true rfl⟩ rfl hl.1 rfl (Nat.le_of_ble_eq_true rfl) dJ5_afterNodeInsertion_15 ⟨Nat.le_of_ble_eq_true rfl, Nat.le_of_ble_eq_true rfl⟩) (fun r_4 g H locs hg hp => ?_)
  obtain ⟨hp, hq⟩ := hp
  replace hp : 0 = r_4 := hp.symm
  subst hp
  rw [hq] at hg
  refine lv_if_eq (tgt := 39) hx hb dJ5_afterNodeInsertion_18 (by decide) (fun _ => ?_) (fun c_5 => (absurd ((nx_eq (show ((0 : Int32)) = nI 0 from rfl) (show ((0 : Int32)) = nI 0 from rfl) (by omega) (by omega)).mpr (by omega)) c_5))
  exact gh_retv hC hg hr hlk hgg dJ5_afterNodeInsertion_39 (Nat.le_of_ble_eq_true rfl) (Nat.le_of_ble_eq_true rfl)
set_option maxHeartbeats 1000000 in
set_option maxRecDepth 100000 in
theorem j_J5_afterNodeAccess (l : Launch) (V : gh_V) (g0 : gh_G) (o k m ck sz : Nat) (D : HD) (X : Option Nat) (hI : hm_G V o k g0 m ck D sz X) (e9 : Nat) : MV l yJ5_afterNodeAccess cJ5_afterNodeAccess 7 ({ frames := 0, cells := 0, slots := 0, locals := 0 } : Room) V [.ref m, .ref e9] g0 (fun g1 => g1 = g0) := by
  refine MG.of RJ5 (by decide) rfl (Nat.le_of_ble_eq_true rfl) (fun pp ee s mm args below meth c ls hC hg hr hlk hnm hl => ?_)
  have hx := hC.1.1
  have hb := hC.1.2.1
  have hml := hC.1.2.2.1
  have hown := hC.1.2.2.2.1
  have hts := hC.1.2.2.2.2
  have hl : lv_has ls 7 [(0, .ref m), (1, .ref e9)] := hl
  obtain ⟨g, hg, hgg⟩ : ∃ g, gh_W V (gh_A g0 s.heap.size) s g s.heap [] ∧ g = g0 := ⟨g0, hg, rfl⟩
  have hm := hI.cm
  rw [← hgg] at hm
  refine lv_aload_n hx hb dJ5_afterNodeAccess_0 rfl (lv_at hl 0 rfl) ?_
  refine gh_get (v := .int 0) hC hg hm fJ5_1_13 rfl dJ5_afterNodeAccess_1 ?_
  refine lv_iconst (v := 2) hx hb dJ5_afterNodeAccess_4 (by decide) ?_
  refine lv_icmp_eq (tgt := 22) hx hb dJ5_afterNodeAccess_5 (by decide) (fun c_1 => (absurd ((nx_eq (show ((0 : Int32)) = nI 0 from rfl) (show ((2 : Int32)) = nI 2 from rfl) (by omega) (by omega)).mp c_1) (by omega))) (fun _ => ?_)
  refine lv_aload_n hx hb dJ5_afterNodeAccess_8 rfl (lv_at hl 0 rfl) ?_
  refine gh_get (v := .int 0) hC hg hm fJ5_1_13 rfl dJ5_afterNodeAccess_9 ?_
  refine lv_if_ne (tgt := 141) hx hb dJ5_afterNodeAccess_12 (by decide) (fun c_2 => (absurd ((nx_eq (show ((0 : Int32)) = nI 0 from rfl) (show ((0 : Int32)) = nI 0 from rfl) (by omega) (by omega)).mpr (by omega)) c_2)) (fun _ => ?_)
  refine lv_aload_n hx hb dJ5_afterNodeAccess_15 rfl (lv_at hl 0 rfl) ?_
  refine gh_get (v := .int 0) hC hg hm fJ5_64_13 rfl dJ5_afterNodeAccess_16 ?_
  refine lv_if_eq (tgt := 141) hx hb dJ5_afterNodeAccess_19 (by decide) (fun _ => ?_) (fun c_3 => (absurd ((nx_eq (show ((0 : Int32)) = nI 0 from rfl) (show ((0 : Int32)) = nI 0 from rfl) (by omega) (by omega)).mpr (by omega)) c_3))
  refine lv_aload_n hx hb dJ5_afterNodeAccess_141 rfl (lv_at hl 0 rfl) ?_
  refine gh_get (v := .int 0) hC hg hm fJ5_1_13 rfl dJ5_afterNodeAccess_142 ?_
  refine lv_iconst (v := 1) hx hb dJ5_afterNodeAccess_145 (by decide) ?_
  refine lv_icmp_ne (tgt := 265) hx hb dJ5_afterNodeAccess_146 (by decide) (fun _ => ?_) (fun c_4 => (absurd ((nx_eq (show ((0 : Int32)) = nI 0 from rfl) (show ((1 : Int32)) = nI 1 from rfl) (by omega) (by omega)).mp c_4) (by omega)))
  exact gh_retv hC hg hr hlk hgg dJ5_afterNodeAccess_265 (Nat.le_of_ble_eq_true rfl) (Nat.le_of_ble_eq_true rfl)
set_option maxHeartbeats 1000000 in
set_option maxRecDepth 100000 in
theorem j_J4_treeifyBin (l : Launch) (V : gh_V) (g0 : gh_G) (o k m ck sz : Nat) (D : HD) (h9 : Int32) (hI : hm_G V o k g0 m ck D sz none) (hn0 : D.n ≠ 0) (h64 : D.n < 64) : MV l yJ4_treeifyBin cJ4_treeifyBin 9 ({ frames := 1, cells := 1, slots := 64, locals := 33 } : Room) V [.ref m, .ref D.tb, .int h9] g0 (fun g1 => ∃ D1 : HD, hm_G V o k g1 m ck D1 sz none ∧ rz_R D D1 ∧ gh_fk o k g0 g1) := by
  refine MG.of RJ4 (by decide) rfl (Nat.le_of_ble_eq_true rfl) (fun pp ee s mm args below meth c ls hC hg hr hlk hnm hl => ?_)
  have hx := hC.1.1
  have hb := hC.1.2.1
  have hml := hC.1.2.2.1
  have hown := hC.1.2.2.2.1
  have hts := hC.1.2.2.2.2
  have hl : lv_has ls 9 [(0, .ref m), (1, .ref D.tb), (2, .int h9)] := hl
  obtain ⟨g, hg, hgg⟩ : ∃ g, gh_W V (gh_A g0 s.heap.size) s g s.heap [] ∧ g = g0 := ⟨g0, hg, rfl⟩
  have hm := hI.cm
  rw [← hgg] at hm
  have htb := hI.ct hn0
  rw [← hgg] at htb
  obtain ⟨⟨j, -, -, hj⟩, -⟩ := hI.pw hn0
  have h32 := hm_n32 hj h64
  refine lv_aload_n hx hb dJ4_treeifyBin_0 rfl (lv_at hl 1 rfl) ?_
  refine lv_ifnull hx hb dJ4_treeifyBin_1 ?_
  refine lv_aload_n hx hb dJ4_treeifyBin_4 rfl (lv_at hl 1 rfl) ?_
  refine gh_alen hC hg htb rfl dJ4_treeifyBin_5 ?_
  refine lv_dup hx hb dJ4_treeifyBin_6 rfl ?_
  refine lv_istore_n (lv' := [(3, .int (nI D.n)), (0, .ref m), (1, .ref D.tb), (2, .int h9)]) hx hb dJ4_treeifyBin_7 rfl hl (by decide) rfl (fun ls hl => ?_)
  refine lv_bipush (v := 64) hx hb dJ4_treeifyBin_8 (by decide) ?_
  refine lv_icmp_ge (tgt := 21) hx hb dJ4_treeifyBin_10 (by decide) (fun c_1 => (absurd ((nx_le (show ((64 : Int32)) = nI 64 from rfl) rfl (by omega) (by omega)).mp c_1) (by omega))) (fun _ => ?_)
  refine lv_aload_n hx hb dJ4_treeifyBin_13 rfl (lv_at hl 1 rfl) ?_
  refine gh_callq hg (gh_runU (x := ⟨"java/util/HashMap", "resize", "()[Ljava/util/HashMap$Node;"⟩) (C := "java/util/LinkedHashMap") (owner := "java/util/HashMap") (As := []) (rest := []) hC hg (j_J4_resize l V _ o k m ck sz 64 D (by rw [hgg]; exact hI) (hI.plain hn0 h64) (by omega) ⟨by omega, (fun e => absurd e hn0)⟩) 0 (va_cwU 0 hts (lw_U q1813 q1815 q1814 q1816 q109 q1817) rfl rfl rfl rfl hdF_HashMap_resize_0 ⟨Nat.le_of_ble_eq_true rfl, Nat.le_of_ble_eq_true rfl⟩) (gh_recv (C := "java/util/LinkedHashMap") hC hg hm rfl) rfl hl.1 rfl (Nat.le_of_ble_eq_true rfl) dJ4_treeifyBin_14 ⟨Nat.le_of_ble_eq_true rfl, Nat.le_of_ble_eq_true rfl⟩) (fun r_2 g H locs hg hp => ?_)
  obtain ⟨D1, rfl, hG1, hR, hF1⟩ := hp
  refine lv_pop hx hb dJ4_treeifyBin_17 rfl ?_
  refine lv_goto (tgt := 109) hx hb dJ4_treeifyBin_18 (by decide) ?_
  exact gh_retv hC hg hr hlk (⟨D1, hG1, hR, hgg ▸ hF1⟩) dJ4_treeifyBin_109 (Nat.le_of_ble_eq_true rfl) (Nat.le_of_ble_eq_true rfl)
set_option maxHeartbeats 2000000 in
set_option maxRecDepth 100000 in
theorem j_J4_putVal (l : Launch) (V : gh_V) (g0 : gh_G) (hTB : tb_S l V) (hPT : pt_S l V) (o k m ck x vv c9 : Nat) (D : HD) (ev : Int32) (hI : hm_I V o k g0 m ck D) (hk9 : ky_P V g0 ck x c9) (hck : ck = 9 ∨ ck = 10) (h9 : ck = 9 → ∀ a, a ∈ D.L → D.ci a = 14) (h16 : pv_16 ck c9 D) (h63 : D.L.length < 63) (hth0 : D.n = 0 → D.th ≤ 128) : MR l yJ4_putVal cJ4_putVal 13 (some (.object "java/lang/Object")) ({ frames := 9, cells := 20, slots := 200, locals := 335 } : Room) V [.ref m, .int (nI (hm_sp c9)), .ref x, .ref vv, .int 0, .int ev] g0 (pv_R V o k g0 m ck c9 x (some vv) D) := by
  refine MG.of RJ4 (by decide) rfl (Nat.le_of_ble_eq_true rfl) (fun pp ee s mm args below meth c ls hC hg hr hlk hnm hl => ?_)
  have hx := hC.1.1
  have hb := hC.1.2.1
  have hml := hC.1.2.2.1
  have hown := hC.1.2.2.2.1
  have hts := hC.1.2.2.2.2
  have hl : lv_has ls 13 [(0, .ref m), (1, .int (nI (hm_sp c9))), (2, .ref x), (3, .ref vv), (4, .int 0), (5, .int ev)] := hl
  obtain ⟨g, hg, hgg⟩ : ∃ g, gh_W V (gh_A g0 s.heap.size) s g s.heap [] ∧ g = g0 := ⟨g0, hg, rfl⟩
  have hG := hI.1
  have hk90 := hk9
  rw [← hgg] at hG hk9
  have bc := hk9.lt
  have hnl := hG.nlt
  have hspc : hm_sp c9 < 131072 := hm_sp_lt (by omega)
  have hm := hG.cm
  rcases Nat.eq_zero_or_pos D.n with hn0 | hn0
  · skip
    have hL0 := (hG.z hn0).1
    have hno : ∀ b, b ∈ D.L → D.C b ≠ c9 := fun b hb9 => by rw [hL0] at hb9; cases hb9
    refine lv_aload_n hx hb dJ4_putVal_0 rfl (lv_at hl 0 rfl) ?_
    refine gh_get (v := va_rf (hm_tab D)) hC hg hm fJ4_105_13 rfl dJ4_putVal_1 ?_
    refine lv_dup hx hb dJ4_putVal_4 (gh_cQ _) ?_
    refine lv_astoreQ (lv' := [(6, va_rf (hm_tab D)), (0, .ref m), (1, .int (nI (hm_sp c9))), (2, .ref x), (3, .ref vv), (4, .int 0), (5, .int ev)]) hx hb dJ4_putVal_5 hl (by decide) rfl (fun ls hl => ?_)
    refine lv_ifnullQ (tgt := 19) hx hb dJ4_putVal_7 (by decide) (fun _ => ?_) (fun y_2 hq_1 => absurd (hq_1.symm.trans (show hm_tab D = none from if_pos hn0)) (by simp))
    rw [(show hm_tab D = none from if_pos hn0)] at hl
    have hl : lv_has ls 13 [(6, .null), (0, .ref m), (1, .int (nI (hm_sp c9))), (2, .ref x), (3, .ref vv), (4, .int 0), (5, .int ev)] := hl
    refine lv_aload_n hx hb dJ4_putVal_19 rfl (lv_at hl 1 rfl) ?_
    refine gh_callq hg (gh_runU (x := ⟨"java/util/HashMap", "resize", "()[Ljava/util/HashMap$Node;"⟩) (C := "java/util/LinkedHashMap") (owner := "java/util/HashMap") (As := []) (rest := []) hC hg (j_J4_resize l V _ o k m ck D.L.length 128 D hG (fun a ha => by rw [hL0] at ha; cases ha) (by omega) ⟨by omega, (fun e => ⟨hth0 e, by omega⟩)⟩) 0 (va_cwU 0 hts (lw_U q1813 q1815 q1814 q1816 q109 q1817) rfl rfl rfl rfl hdF_HashMap_resize_0 ⟨Nat.le_of_ble_eq_true rfl, Nat.le_of_ble_eq_true rfl⟩) (gh_recv (C := "java/util/LinkedHashMap") hC hg hm rfl) rfl hl.1 rfl (Nat.le_of_ble_eq_true rfl) dJ4_putVal_20 ⟨Nat.le_of_ble_eq_true rfl, Nat.le_of_ble_eq_true rfl⟩) (fun r_3 g H locs hg hp => ?_)
    obtain ⟨D1, rfl, hG1, hR, hF1⟩ := hp
    have hn10 := hR.1
    have hL1 : D1.L = [] := (show D1.L = D.L from congrArg (fun z => z.1) hR.2.2.1).trans hL0
    rw [hgg] at hk9 hF1
    have hk9 : ky_P V g ck x c9 := hk9.fk hF1 hG1.k10
    have htb1 := hG1.ct hn10
    obtain ⟨⟨j, hj1, hj2, hj⟩, hth⟩ := hG1.pw hn10
    have hnl := hG1.nlt
    have hi := hm_idxlt (c := c9) hn10
    generalize hie : hm_sp c9 % D1.n = i at hi
    have hB0 : D1.B i = [] := by
      cases hb9 : D1.B i with
      | nil => rfl
      | cons a l9 => have h9 := hG1.mem hi (show a ∈ D1.B i by rw [hb9]; exact List.mem_cons_self); rw [hL1] at h9; cases h9
    have hT0 : D1.T i = none := by have h9 := hG1.ch i hi; rw [hB0] at h9; exact h9
    have hno1 : ∀ a, a ∈ D1.L → D1.C a ≠ c9 := fun b hb9 => by rw [hL1] at hb9; cases hb9
    have hl1 : D1.L.length = 0 := by rw [hL1]; rfl
    have hl0 : D.L.length = 0 := by rw [hL0]; rfl
    have hmd1 : (∀ a, a ∈ D1.L → D1.ci a = 14) ∨ D1.L.length < 16 := Or.inr (by omega)
    refine lv_dup hx hb dJ4_putVal_23 rfl ?_
    refine lv_astore (lv' := [(6, .ref D1.tb), (0, .ref m), (1, .int (nI (hm_sp c9))), (2, .ref x), (3, .ref vv), (4, .int 0), (5, .int ev)]) hx hb dJ4_putVal_24 hl (by decide) rfl (fun ls hl => ?_)
    refine gh_alen hC hg htb1 rfl dJ4_putVal_26 ?_
    refine lv_istore (lv' := [(8, .int (nI D1.n)), (6, .ref D1.tb), (0, .ref m), (1, .int (nI (hm_sp c9))), (2, .ref x), (3, .ref vv), (4, .int 0), (5, .int ev)]) hx hb dJ4_putVal_27 hl (by decide) rfl (fun ls hl => ?_)
    refine lv_aload hx hb dJ4_putVal_29 (lv_at hl 1 rfl) ?_
    refine lv_iload hx hb dJ4_putVal_31 (lv_at hl 0 rfl) ?_
    refine lv_iconst (v := 1) hx hb dJ4_putVal_33 (by decide) ?_
    refine lv_isub hx hb dJ4_putVal_34 ?_
    refine lv_iload_n hx hb dJ4_putVal_35 rfl (lv_at hl 3 rfl) ?_
    refine lv_iand hx hb dJ4_putVal_36 ?_
    refine W.eq (g2 := F0 mm 37 ls [.int (nI i), .ref D1.tb]) (by rw [(hm_idx9 (nx_sub rfl (show ((1 : Int32)) = nI 1 from rfl) (by omega)) rfl hj hie)] <;> rfl) ?_
    refine lv_dup hx hb dJ4_putVal_37 rfl ?_
    refine lv_istore (lv' := [(9, .int (nI i)), (8, .int (nI D1.n)), (6, .ref D1.tb), (0, .ref m), (1, .int (nI (hm_sp c9))), (2, .ref x), (3, .ref vv), (4, .int 0), (5, .int ev)]) hx hb dJ4_putVal_38 hl (by decide) rfl (fun ls hl => ?_)
    refine gh_qald (n := D1.n) (f := D1.T) hC hg htb1 rfl rfl (by omega) (by omega) dJ4_putVal_40 ?_
    refine W.eq (g2 := F0 mm 41 ls [.null]) (by rw [hT0] <;> rfl) ?_
    refine lv_dup hx hb dJ4_putVal_41 rfl ?_
    refine lv_astoreN (lv' := [(7, .null), (9, .int (nI i)), (8, .int (nI D1.n)), (6, .ref D1.tb), (0, .ref m), (1, .int (nI (hm_sp c9))), (2, .ref x), (3, .ref vv), (4, .int 0), (5, .int ev)]) hx hb dJ4_putVal_42 hl (by decide) rfl (fun ls hl => ?_)
    refine lv_ifnonnullN hx hb dJ4_putVal_44 ?_
    refine lv_aload hx hb dJ4_putVal_47 (lv_at hl 3 rfl) ?_
    refine lv_iload hx hb dJ4_putVal_49 (lv_at hl 1 rfl) ?_
    refine lv_aload_n hx hb dJ4_putVal_51 rfl (lv_at hl 4 rfl) ?_
    refine lv_iload_n hx hb dJ4_putVal_52 rfl (lv_at hl 5 rfl) ?_
    refine lv_aload_n hx hb dJ4_putVal_53 rfl (lv_at hl 6 rfl) ?_
    refine lv_aload_n hx hb dJ4_putVal_54 rfl (lv_at hl 7 rfl) ?_
    refine lv_null hx hb dJ4_putVal_55 ?_
    refine gh_callq hg (gh_runU (x := ⟨"java/util/HashMap", "newNode", "(ILjava/lang/Object;Ljava/lang/Object;Ljava/util/HashMap$Node;)Ljava/util/HashMap$Node;"⟩) (C := "java/util/LinkedHashMap") (owner := "java/util/HashMap") (As := [.int (nI (hm_sp c9)), .ref x, .ref vv, .null]) (rest := [.int (nI i), .ref D1.tb]) hC hg (j_J5_newNode l V _ o k m ck x vv c9 D.L.length D1 hG1 hn10 hk9 hno1 (by omega) hmd1) 4 (va_cwA 4 hts (lw_U q2149 q2151 q2153 q2152 q110 q2154) rfl rfl rfl (hC.2.2.1.1 _ (gh_nwm q2159 rfl)) hdF_HashMap_newNode_4 ⟨Nat.le_of_ble_eq_true rfl, Nat.le_of_ble_eq_true rfl⟩) (gh_recv (C := "java/util/LinkedHashMap") hC hg hG1.cm rfl) rfl hl.1 rfl (Nat.le_of_ble_eq_true rfl) dJ4_putVal_56 ⟨Nat.le_of_ble_eq_true rfl, Nat.le_of_ble_eq_true rfl⟩) (fun r_4 g H locs hg hp => ?_)
    obtain ⟨q, rfl, hq0, hG2, hF2⟩ := hp
    have hqL : q ∉ D1.L := fun e9 => by have h9 := hG1.cn q e9; rw [hq0] at h9; cases h9
    have hM2 : hm_M (hd_app D1 q c9 x (some vv) none 14 []) = hm_M D1 ++ [(c9, x, some vv)] := hm_M_app hqL
    obtain ⟨D2, hD2⟩ : ∃ D2 : HD, D2 = hd_app D1 q c9 x (some vv) none 14 [] := ⟨_, rfl⟩
    rw [← hD2] at hG2 hM2
    have hn2 : D2.n = D1.n := by rw [hD2]; rfl
    have htb2 : D2.tb = D1.tb := by rw [hD2]; rfl
    have hT2 : D2.T = D1.T := by rw [hD2]; rfl
    have hB2 : D2.B = D1.B := by rw [hD2]; rfl
    have hnx2 : D2.nx = fuN D1.nx q none := by rw [hD2]; rfl
    have hC2 : D2.C = fuN D1.C q c9 := by rw [hD2]; rfl
    have hci2 : D2.ci = fuN D1.ci q 14 := by rw [hD2]; rfl
    have hex2 : D2.ex = fuN D1.ex q [] := by rw [hD2]; rfl
    have hL2 : D2.L = D1.L ++ [q] := by rw [hD2]; rfl
    have hqm : q ∈ D2.L := by rw [hL2]; exact List.mem_append_right _ (List.mem_singleton.mpr rfl)
    have hn20 : D2.n ≠ 0 := by rw [hn2]; exact hn10
    have hqi : hm_sp (D2.C q) % D2.n = i := by rw [hC2, fuN_self, hn2]; exact hie
    have hq14 : D2.ci q = 14 ∧ D2.ex q = [] := by rw [hci2, hex2]; exact ⟨fuN_self, fuN_self⟩
    obtain ⟨gB, hgB⟩ : ∃ gB, gB = g := ⟨_, rfl⟩
    have hGB := hG2
    rw [← hgB] at hGB
    have hm := hG2.cm
    have htb := hG2.ct hn20
    have hN := hG2.cn
    rw [htb2] at htb
    have hfr : ∀ b, b ≠ D2.tb → b ∉ D2.L → g b = gB b := fun b _ _ => by rw [hgB]
    have hme : g m = gB m := by rw [hgB]
    have hmt : m ≠ D1.tb := gh_neI hm htb rfl
    refine gh_qastO (n := D2.n) (f := D2.T) (r := (RJ36, TJ36, 6)) hC hg htb rfl (hN q hqm) (by rw [hq14.1]; rfl) (hC.2.2.1.1 _ (gh_nwm q4473 rfl)) rfl ((by rw [hn2]; exact hi)) (by omega) dJ4_putVal_59 (fun g H locs hg hw hn => ?_)
    have hm : g m = some ((o, k, 0), oo 13 [va_rf (hm_tab D2), va_rf D2.es, .int (nI D.L.length), .int D2.mc, .int (nI D2.th), .float 1061158912, va_rf D2.ks, va_rf D2.vs, va_rf (D2.L.head?), va_rf (D2.L.getLast?), .int 0, .int 0]) := (hn _ (gh_neI hm htb rfl)).trans hm
    have hN : ∀ a, a ∈ D2.L → g a = some ((o, k, 2), oo (D2.ci a) (.int (nI (hm_sp (D2.C a))) :: .ref (D2.K a) :: va_rf (D2.v a) :: va_rf (D2.nx a) :: va_rf (pvL D2.L a) :: va_rf (scL D2.L a) :: D2.ex a)) := fun a ha => (hn _ (gh_neI (hN a ha) htb rfl)).trans (hN a ha)
    have hfr : ∀ b, b ≠ D2.tb → b ∉ D2.L → g b = gB b := fun b h1 h2 => (hn b (by rw [htb2] at h1; exact h1)).trans (hfr b h1 h2)
    have hme : g m = gB m := (hn _ hmt).trans hme
    have htb : g D1.tb = some ((o, k, 1), aq V 9 D2.n (va_up D2.T i (some q))) := hw
    refine lv_goto (tgt := 259) hx hb dJ4_putVal_60 (by decide) ?_
    have htb3 : g D2.tb = some ((o, k, 1), aq V 9 D2.n (va_up D2.T i (some q))) := by rw [htb2]; exact htb
    obtain ⟨hG6, hF6⟩ := hGB.inb (g1 := g) (nx := D2.nx) (T := (va_up D2.T i (some q))) hn20 hqi hqm hq14 (fun a ha => by rw [hB2, hB0] at ha; cases ha) (fun j9 h9 => va_up_ne _ _ h9) (fun _ _ _ _ => rfl) (by rw [hB2, hB0, va_up_self]; exact ⟨rfl, by rw [hnx2]; exact fuN_self⟩) hme htb3 hN hfr
    obtain ⟨D3, hD3⟩ : ∃ D3 : HD, D3 = hd_in D2 i q D2.nx (va_up D2.T i (some q)) := ⟨_, rfl⟩
    rw [← hD3] at hG6
    have hn3 : D3.n ≠ 0 := by rw [hD3]; exact hn20
    have hn3e : D3.n = D2.n := by rw [hD3]; rfl
    have hNw : hm_N V o k g0 g m ck D.L.length c9 x (some vv) D1 D3 := by
      refine ⟨hG6, by rw [hD3]; exact hM2, ⟨hn3, Nat.le_of_eq (hn3e.trans hn2).symm⟩, (hF1.tr hF2).tr (hgB ▸ hF6), fun h8 a ha => ?_⟩
      have ha : a ∈ D2.L := by rw [hD3] at ha; exact ha
      rw [hD3]; show D2.ci a = 14
      rw [hL2, hL1] at ha; rw [List.mem_singleton.mp ha]; exact hq14.1
    have hMb : hm_M D1 = hm_M D := hm_M_congr hR.2.2.1
    have hlb : D1.L.length = D.L.length := by omega
    have hG3 := hNw.1
    have hl3 : D3.L.length = D.L.length + 1 := by rw [hNw.len, hlb]
    have hm := hG3.cm
    obtain ⟨g3, hg3⟩ : ∃ g3, g3 = g := ⟨_, rfl⟩
    have hfr : ∀ b, b ≠ m → g b = g3 b := fun b _ => by rw [hg3]
    obtain ⟨⟨j3, hj31, hj32, hj3⟩, hth3⟩ := hG3.pw hn3
    have hnl3 := hG3.nlt
    have hge2 := Nat.pow_le_pow_right (n := 2) (by decide) hj31
    refine lv_aload_n hx hb dJ4_putVal_259 rfl (lv_at hl 4 rfl) ?_
    refine lv_dup hx hb dJ4_putVal_260 rfl ?_
    refine gh_get (v := .int D3.mc) hC hg hm fJ4_202_13 rfl dJ4_putVal_261 ?_
    refine lv_iconst (v := 1) hx hb dJ4_putVal_264 (by decide) ?_
    refine lv_iadd hx hb dJ4_putVal_265 ?_
    refine gh_put (v := .int (D3.mc + 1)) hC hg hm fJ4_202_13 rfl rfl (Nat.le_of_ble_eq_true rfl) dJ4_putVal_266 (fun g H locs hg hw hn => ?_)
    have hfr : ∀ b, b ≠ m → g b = g3 b := fun b h1 => (hn b h1).trans (hfr b h1)
    have hm : g m = some ((o, k, 0), oo 13 [va_rf (hm_tab D3), va_rf D3.es, .int (nI D.L.length), .int (D3.mc + 1), .int (nI D3.th), .float 1061158912, va_rf D3.ks, va_rf D3.vs, va_rf (D3.L.head?), va_rf (D3.L.getLast?), .int 0, .int 0]) := hw
    refine lv_aload_n hx hb dJ4_putVal_269 rfl (lv_at hl 4 rfl) ?_
    refine lv_dup hx hb dJ4_putVal_270 rfl ?_
    refine gh_get (v := .int (nI D.L.length)) hC hg hm fJ4_156_13 rfl dJ4_putVal_271 ?_
    refine lv_iconst (v := 1) hx hb dJ4_putVal_274 (by decide) ?_
    refine lv_iadd hx hb dJ4_putVal_275 ?_
    refine lv_dup_x1 hx hb dJ4_putVal_276 rfl rfl ?_
    refine gh_put (v := .int ((nI D.L.length) + 1)) hC hg hm fJ4_156_13 rfl rfl (Nat.le_of_ble_eq_true rfl) dJ4_putVal_277 (fun g H locs hg hw hn => ?_)
    have hfr : ∀ b, b ≠ m → g b = g3 b := fun b h1 => (hn b h1).trans (hfr b h1)
    have hm : g m = some ((o, k, 0), oo 13 [va_rf (hm_tab D3), va_rf D3.es, .int ((nI D.L.length) + 1), .int (D3.mc + 1), .int (nI D3.th), .float 1061158912, va_rf D3.ks, va_rf D3.vs, va_rf (D3.L.head?), va_rf (D3.L.getLast?), .int 0, .int 0]) := hw
    rw [nI_1] at hm
    rw [← hg3] at hG3 hNw
    obtain ⟨hG4, hF4⟩ := hG3.szset (g1 := g) (sz1 := D.L.length + 1) (mc1 := (D3.mc + 1)) hm hfr
    obtain ⟨D4, hD4⟩ : ∃ D4 : HD, D4 = ((D3.1.1, D3.1.2.1, D3.1.2.2.1, (D3.mc + 1), D3.1.2.2.2.2), D3.2) := ⟨_, rfl⟩
    rw [← hD4] at hG4
    have hl4 : D4.L.length = D.L.length + 1 := by rw [hD4]; exact hl3
    have hM4 : hm_M D4 = hm_M D ++ [(c9, x, some vv)] := by rw [hD4, ← hMb]; exact hNw.2.1
    have h14 : ck = 9 → ∀ a, a ∈ D4.L → D4.ci a = 14 := by rw [hD4]; exact hNw.2.2.2.2
    have hn4 : D4.n = D3.n := by rw [hD4]
    have ht4 : D4.th = D3.th := by rw [hD4]
    have hF : gh_fk o k g0 g := hNw.2.2.2.1.tr hF4
    refine lv_aload_n hx hb dJ4_putVal_280 rfl (lv_at hl 4 rfl) ?_
    refine gh_get (v := .int (nI D3.th)) hC hg hm fJ4_88_13 rfl dJ4_putVal_281 ?_
    refine lv_icmp_le (tgt := 292) hx hb dJ4_putVal_284 (by decide) (fun _ => ?_) (fun c_5 => (absurd ((nx_le (nx_add rfl (show ((1 : Int32)) = nI 1 from rfl)) rfl (by omega) (by omega)).mpr (by omega)) c_5))
    have hI5 : hm_I V o k g m ck D4 := ⟨by rw [hl4]; exact hG4, fun _ => by omega⟩
    refine lv_aload_n hx hb dJ4_putVal_292 rfl (lv_at hl 4 rfl) ?_
    refine lv_iload hx hb dJ4_putVal_293 (lv_at hl 9 rfl) ?_
    refine gh_callv hg (gh_runU (x := ⟨"java/util/HashMap", "afterNodeInsertion", "(Z)V"⟩) (C := "java/util/LinkedHashMap") (owner := "java/util/HashMap") (As := [.int ev]) (rest := []) hC hg (j_J5_afterNodeInsertion l V _ o k m ck (D.L.length + 1) D4 none hG4 ev) 1 (va_cwA 1 hts (lw_U q2281 q2283 q2285 q2284 q110 q2286) rfl rfl rfl (hC.2.2.1.1 _ (gh_nwm q2291 rfl)) hdF_HashMap_afterNodeInsertion_1 ⟨Nat.le_of_ble_eq_true rfl, Nat.le_of_ble_eq_true rfl⟩) (gh_recv (C := "java/util/LinkedHashMap") hC hg hm rfl) rfl hl.1 rfl (Nat.le_of_ble_eq_true rfl) dJ4_putVal_295 ⟨Nat.le_of_ble_eq_true rfl, Nat.le_of_ble_eq_true rfl⟩) (fun g H locs hg hp => ?_)
    rw [hp] at hg
    refine lv_null hx hb dJ4_putVal_298 ?_
    exact gh_retq (r := none) (Or.inl ⟨_, rfl⟩) hC hg hr hlk (⟨D4, hI5, h14, hF, by rw [hM4, lm_put_none hno], (lm_get_none hno).symm⟩) dJ4_putVal_299 (Nat.le_of_ble_eq_true rfl) (Nat.le_of_ble_eq_true rfl)
  replace hn0 : D.n ≠ 0 := by omega
  obtain ⟨⟨j, hj1, hj2, hj⟩, hth⟩ := hG.pw hn0
  have hle := hI.2 hn0
  have htb := hG.ct hn0
  have hi := hm_idxlt (c := c9) hn0
  generalize hie : hm_sp c9 % D.n = i at hi
  refine gh_joinW (V := V) (A := gh_A g0 s.heap.size) 259 [] 2 70 (fun g ls => ∃ D3 : HD, hm_N V o k g0 g m ck D.L.length c9 x (some vv) D D3 ∧ (∀ b, b ∈ D.L → D.C b ≠ c9) ∧ lv_has ls 13 [(0, .ref m), (5, .int ev)]) (fun hjn => ?_) (fun g H locs ls hg hX => ?_)
  · skip
    have hN := hG.cn
    have hlen1 : D.L.length < 240 := by omega
    have hmd : (∀ b, b ∈ D.L → D.C b ≠ c9) → (∀ a, a ∈ D.L → D.ci a = 14) ∨ D.L.length < 16 := by
      intro hno
      rcases hck with h8 | h8
      · exact Or.inl (h9 h8)
      · rcases h16.or h8 with h7 | ⟨b, h71, h72⟩
        · exact Or.inr h7
        · exact absurd h72 (hno b h71)
    have hgc : g = g0 := hgg
    have hgg0 : g = g0 := hgg
    refine lv_aload_n hx hb dJ4_putVal_0 rfl (lv_at hl 0 rfl) ?_
    refine gh_get (v := va_rf (hm_tab D)) hC hg hm fJ4_105_13 rfl dJ4_putVal_1 ?_
    refine lv_dup hx hb dJ4_putVal_4 (gh_cQ _) ?_
    refine lv_astoreQ (lv' := [(6, va_rf (hm_tab D)), (0, .ref m), (1, .int (nI (hm_sp c9))), (2, .ref x), (3, .ref vv), (4, .int 0), (5, .int ev)]) hx hb dJ4_putVal_5 hl (by decide) rfl (fun ls hl => ?_)
    refine lv_ifnullQ (tgt := 19) hx hb dJ4_putVal_7 (by decide) (fun hq_6 => absurd (hq_6.symm.trans (show hm_tab D = some D.tb from if_neg hn0)) (by simp)) (fun _ _ => ?_)
    rw [(show hm_tab D = some D.tb from if_neg hn0)] at hl
    have hl : lv_has ls 13 [(6, .ref D.tb), (0, .ref m), (1, .int (nI (hm_sp c9))), (2, .ref x), (3, .ref vv), (4, .int 0), (5, .int ev)] := hl
    refine lv_aload hx hb dJ4_putVal_10 (lv_at hl 0 rfl) ?_
    refine gh_alen hC hg htb rfl dJ4_putVal_12 ?_
    refine lv_dup hx hb dJ4_putVal_13 rfl ?_
    refine lv_istore (lv' := [(8, .int (nI D.n)), (6, .ref D.tb), (0, .ref m), (1, .int (nI (hm_sp c9))), (2, .ref x), (3, .ref vv), (4, .int 0), (5, .int ev)]) hx hb dJ4_putVal_14 hl (by decide) rfl (fun ls hl => ?_)
    refine lv_if_ne (tgt := 29) hx hb dJ4_putVal_16 (by decide) (fun _ => ?_) (fun c_8 => (absurd ((nx_eq rfl (show ((0 : Int32)) = nI 0 from rfl) (by omega) (by omega)).mp c_8) (by omega)))
    refine lv_aload hx hb dJ4_putVal_29 (lv_at hl 1 rfl) ?_
    refine lv_iload hx hb dJ4_putVal_31 (lv_at hl 0 rfl) ?_
    refine lv_iconst (v := 1) hx hb dJ4_putVal_33 (by decide) ?_
    refine lv_isub hx hb dJ4_putVal_34 ?_
    refine lv_iload_n hx hb dJ4_putVal_35 rfl (lv_at hl 3 rfl) ?_
    refine lv_iand hx hb dJ4_putVal_36 ?_
    refine W.eq (g2 := F0 mm 37 ls [.int (nI i), .ref D.tb]) (by rw [(hm_idx9 (nx_sub rfl (show ((1 : Int32)) = nI 1 from rfl) (by omega)) rfl hj hie)] <;> rfl) ?_
    refine lv_dup hx hb dJ4_putVal_37 rfl ?_
    refine lv_istore (lv' := [(9, .int (nI i)), (8, .int (nI D.n)), (6, .ref D.tb), (0, .ref m), (1, .int (nI (hm_sp c9))), (2, .ref x), (3, .ref vv), (4, .int 0), (5, .int ev)]) hx hb dJ4_putVal_38 hl (by decide) rfl (fun ls hl => ?_)
    refine gh_qald (n := D.n) (f := D.T) hC hg htb rfl rfl (by omega) (by omega) dJ4_putVal_40 ?_
    refine lv_dup hx hb dJ4_putVal_41 (gh_cQ _) ?_
    refine lv_astoreQ (lv' := [(7, va_rf (D.T i)), (9, .int (nI i)), (8, .int (nI D.n)), (6, .ref D.tb), (0, .ref m), (1, .int (nI (hm_sp c9))), (2, .ref x), (3, .ref vv), (4, .int 0), (5, .int ev)]) hx hb dJ4_putVal_42 hl (by decide) rfl (fun ls hl => ?_)
    refine lv_ifnonnullQ (tgt := 63) hx hb dJ4_putVal_44 (by decide) (fun y_10 hq_9 => ?_) (fun hq_9 => ?_)
    · skip
      rw [hq_9] at hl
      have hl : lv_has ls 13 [(7, .ref y_10), (9, .int (nI i)), (8, .int (nI D.n)), (6, .ref D.tb), (0, .ref m), (1, .int (nI (hm_sp c9))), (2, .ref x), (3, .ref vv), (4, .int 0), (5, .int ev)] := hl
      obtain ⟨l1, hB1, hnx1⟩ := rz_cons (hG.ch i hi) hq_9
      have hm1 : y_10 ∈ D.B i := by rw [hB1]; exact List.mem_cons_self
      have hmL : y_10 ∈ D.L := hG.mem hi hm1
      have hs0 := hG.spl hmL
      have hc0 := hG.clt hmL
      refine lv_aload hx hb dJ4_putVal_63 (lv_at hl 0 rfl) ?_
      refine gh_getr (v := .int (nI (hm_sp (D.C y_10)))) hC hg (hN y_10 hmL) (rfNJ4_168 (hG.len.2 y_10 hmL)) rfl dJ4_putVal_65 ?_
      refine lv_iload_n hx hb dJ4_putVal_68 rfl (lv_at hl 5 rfl) ?_
      refine lv_icmp_ne (tgt := 104) hx hb dJ4_putVal_69 (by decide) (fun c_11 => ?_) (fun c_11 => ?_)
      · skip
        have c_11 : ¬ (hm_sp (D.C y_10)) = (hm_sp c9) := fun h9 => c_11 ((nx_eq rfl rfl (by omega) (by omega)).mpr h9)
        have hcn : D.C y_10 ≠ c9 := fun h9 => c_11 (by rw [h9])
        rcases hG.bin i hi with h14 | h15
        · skip
          refine lv_aload hx hb dJ4_putVal_104 (lv_at hl 0 rfl) ?_
          refine gh_instNo (C := "java/util/LinkedHashMap$Entry") (ci := D.ci y_10) hC hg (hN y_10 hmL) (by rw [(h14 _ hm1).1]; rfl) q1822 (by decide +kernel) dJ4_putVal_106 ?_
          refine lv_if_eq (tgt := 131) hx hb dJ4_putVal_109 (by decide) (fun _ => ?_) (fun c_12 => (absurd ((nx_eq (show ((0 : Int32)) = nI 0 from rfl) (show ((0 : Int32)) = nI 0 from rfl) (by omega) (by omega)).mpr (by omega)) c_12))
          refine lv_iconst (v := 0) hx hb dJ4_putVal_131 (by decide) ?_
          refine lv_istore (lv' := [(12, .int 0), (7, .ref y_10), (9, .int (nI i)), (8, .int (nI D.n)), (6, .ref D.tb), (0, .ref m), (1, .int (nI (hm_sp c9))), (2, .ref x), (3, .ref vv), (4, .int 0), (5, .int ev)]) hx hb dJ4_putVal_132 hl (by decide) rfl (fun ls hl => ?_)
          refine gh_while (α := List Nat × Nat × List Nat) (μ := fun q => q.2.2.length) (X := fun q9 g ls => ∃ pre p l9, q9 = (pre, p, l9) ∧ D.B i = pre ++ p :: l9 ∧ (∀ b, b ∈ pre ++ [p] → D.C b ≠ c9) ∧ g = g0 ∧ lv_has ls 13 [(0, .ref m), (1, .int (nI (hm_sp c9))), (2, .ref x), (3, .ref vv), (4, .int 0), (5, .int ev), (6, .ref D.tb), (7, .ref p), (12, .int (nI pre.length))]) ?_ ([], y_10, l1) hg ⟨[], y_10, l1, rfl, hB1, (fun b hb9 => by cases List.mem_singleton.mp hb9; exact hcn), hgg, lv_sub hl [5, 6, 7, 8, 9, 10, 4, 1, 0] rfl⟩
          intro q9 ih134 g H locs ls hg hX
          obtain ⟨pre, p, l9, rfl, hX134_0, hX134_1, hX134_2, hl⟩ := hX
          have hG : hm_G V o k g m ck D D.L.length none := by rw [hX134_2]; exact hI.1
          have hk9 : ky_P V g ck x c9 := by rw [hX134_2]; exact hk90
          have hgg0 := hX134_2
          have hgc := hX134_2
          have hm := hG.cm
          have htb := hG.ct hn0
          have hN := hG.cn
          have hpB : p ∈ D.B i := by rw [hX134_0]; exact List.mem_append_right _ List.mem_cons_self
          have hpL : p ∈ D.L := hG.mem hi hpB
          have hnx1 : hm_ch D.nx (D.nx p) l9 := by have h9 := hG.ch i hi; rw [hX134_0] at h9; exact h9.next
          have hplen : pre.length < 240 := by have h9 := (hG.bn i hi).length_le_of_subset (fun a ha => hG.mem hi ha); rw [hX134_0] at h9; simp at h9; omega
          refine lv_aload hx hb dJ4_putVal_134 (lv_at hl 7 rfl) ?_
          refine gh_get (v := va_rf (D.nx p)) hC hg (hN p hpL) (fNJ4_177 (hG.len.2 p hpL)) rfl dJ4_putVal_136 ?_
          refine lv_dup hx hb dJ4_putVal_139 (gh_cQ _) ?_
          refine lv_astoreQ (lv' := [(10, va_rf (D.nx p)), (0, .ref m), (1, .int (nI (hm_sp c9))), (2, .ref x), (3, .ref vv), (4, .int 0), (5, .int ev), (6, .ref D.tb), (7, .ref p), (12, .int (nI pre.length))]) hx hb dJ4_putVal_140 hl (by decide) rfl (fun ls hl => ?_)
          refine lv_ifnonnullQ (tgt := 175) hx hb dJ4_putVal_142 (by decide) (fun y_14 hq_13 => ?_) (fun hq_13 => ?_)
          · skip
            rw [hq_13] at hl
            have hl : lv_has ls 13 [(10, .ref y_14), (0, .ref m), (1, .int (nI (hm_sp c9))), (2, .ref x), (3, .ref vv), (4, .int 0), (5, .int ev), (6, .ref D.tb), (7, .ref p), (12, .int (nI pre.length))] := hl
            obtain ⟨l2, hl2, hnx2⟩ := rz_cons hnx1 hq_13
            have heB : y_14 ∈ D.B i := by rw [hX134_0, hl2]; exact List.mem_append_right _ (List.mem_cons_of_mem _ List.mem_cons_self)
            have heL : y_14 ∈ D.L := hG.mem hi heB
            have hse := hG.spl heL
            refine lv_aload hx hb dJ4_putVal_175 (lv_at hl 0 rfl) ?_
            refine gh_getr (v := .int (nI (hm_sp (D.C y_14)))) hC hg (hN y_14 heL) (rfNJ4_168 (hG.len.2 y_14 heL)) rfl dJ4_putVal_177 ?_
            refine lv_iload_n hx hb dJ4_putVal_180 rfl (lv_at hl 2 rfl) ?_
            refine lv_icmp_ne (tgt := 212) hx hb dJ4_putVal_181 (by decide) (fun c_15 => ?_) (fun c_15 => ?_)
            · skip
              have c_15 : ¬ (hm_sp (D.C y_14)) = (hm_sp c9) := fun h9 => c_15 ((nx_eq rfl rfl (by omega) (by omega)).mpr h9)
              have hcn : D.C y_14 ≠ c9 := fun h9 => c_15 (by rw [h9])
              refine lv_aload hx hb dJ4_putVal_212 (lv_at hl 0 rfl) ?_
              refine lv_astore (lv' := [(7, .ref y_14), (10, .ref y_14), (0, .ref m), (1, .int (nI (hm_sp c9))), (2, .ref x), (3, .ref vv), (4, .int 0), (5, .int ev), (6, .ref D.tb), (12, .int (nI pre.length))]) hx hb dJ4_putVal_214 hl (by decide) rfl (fun ls hl => ?_)
              refine lv_iinc (v := (nI (pre.length + 1))) (lv' := [(12, .int (nI (pre.length + 1))), (7, .ref y_14), (10, .ref y_14), (0, .ref m), (1, .int (nI (hm_sp c9))), (2, .ref x), (3, .ref vv), (4, .int 0), (5, .int ev), (6, .ref D.tb)]) hx hb dJ4_putVal_216 hl (k := 9) rfl (nx_iinc rfl) (by decide) rfl (fun ls hl => ?_)
              refine lv_goto (tgt := 134) hx hb dJ4_putVal_219 (by decide) ?_
              exact ih134 (pre ++ [p], y_14, l2) (by rw [hl2]; exact Nat.lt_succ_self _) _ _ _ _ hg ⟨pre ++ [p], y_14, l2, rfl, (by rw [hX134_0, hl2]; simp), (fun b hb9 => by rcases List.mem_append.mp hb9 with hb9 | hb9; exact hX134_1 b hb9; cases List.mem_singleton.mp hb9; exact hcn), hgg0, (by rw [List.length_append, List.length_singleton]; exact lv_sub hl [3, 4, 5, 6, 7, 8, 9, 1, 0] rfl)⟩
            have c_15 : (hm_sp (D.C y_14)) = (hm_sp c9) := (nx_eq rfl rfl (by omega) (by omega)).mp c_15
            have hce : D.C y_14 = c9 := hm_sp_inj (by have := hG.clt heL; omega) (by omega) c_15
            refine lv_aload hx hb dJ4_putVal_184 (lv_at hl 0 rfl) ?_
            refine gh_getr (v := .ref (D.K y_14)) hC hg (hN y_14 heL) (rfNJ4_170 (hG.len.2 y_14 heL)) rfl dJ4_putVal_186 ?_
            refine lv_dup hx hb dJ4_putVal_189 rfl ?_
            refine lv_astore (lv' := [(11, .ref (D.K y_14)), (10, .ref y_14), (0, .ref m), (1, .int (nI (hm_sp c9))), (2, .ref x), (3, .ref vv), (4, .int 0), (5, .int ev), (6, .ref D.tb), (7, .ref p), (12, .int (nI pre.length))]) hx hb dJ4_putVal_190 hl (by decide) rfl (fun ls hl => ?_)
            refine lv_aload_n hx hb dJ4_putVal_192 rfl (lv_at hl 4 rfl) ?_
            refine lv_acmp_eq (rx := (some (D.K y_14))) (ry := (some x)) (tgt := 222) hx hb dJ4_putVal_193 (by decide) (fun c_16 => ?_) (fun c_16 => ?_)
            · skip
              obtain ⟨gV, hgV⟩ : ∃ gV, gV = g := ⟨_, rfl⟩
              have hGV := hG
              rw [← hgV] at hGV
              have hfr : ∀ b9, b9 ≠ y_14 → g b9 = gV b9 := fun b9 _ => by rw [hgV]
              refine lv_aload hx hb dJ4_putVal_222 (lv_at hl 1 rfl) ?_
              refine lv_ifnull hx hb dJ4_putVal_224 ?_
              refine lv_aload hx hb dJ4_putVal_227 (lv_at hl 1 rfl) ?_
              refine gh_get (v := va_rf (D.v y_14)) hC hg (hN y_14 heL) (fNJ4_162 (hG.len.2 y_14 heL)) rfl dJ4_putVal_229 ?_
              refine lv_astoreQ (lv' := [(12, va_rf (D.v y_14)), (11, .ref (D.K y_14)), (10, .ref y_14), (0, .ref m), (1, .int (nI (hm_sp c9))), (2, .ref x), (3, .ref vv), (4, .int 0), (5, .int ev), (6, .ref D.tb), (7, .ref p)]) hx hb dJ4_putVal_232 hl (by decide) rfl (fun ls hl => ?_)
              refine lv_iload hx hb dJ4_putVal_234 (lv_at hl 7 rfl) ?_
              refine lv_if_eq (tgt := 244) hx hb dJ4_putVal_236 (by decide) (fun _ => ?_) (fun c_17 => (absurd ((nx_eq (show ((0 : Int32)) = nI 0 from rfl) (show ((0 : Int32)) = nI 0 from rfl) (by omega) (by omega)).mpr (by omega)) c_17))
              refine lv_aload hx hb dJ4_putVal_244 (lv_at hl 2 rfl) ?_
              refine lv_aload_n hx hb dJ4_putVal_246 rfl (lv_at hl 6 rfl) ?_
              refine gh_put (v := .ref vv) hC hg (hN y_14 heL) (fNJ4_162 (hG.len.2 y_14 heL)) rfl rfl (gh_len (by decide)) dJ4_putVal_247 (fun g H locs hg hw hn => ?_)
              have hm : g m = some ((o, k, 0), oo 13 [va_rf (hm_tab D), va_rf D.es, .int (nI D.L.length), .int D.mc, .int (nI D.th), .float 1061158912, va_rf D.ks, va_rf D.vs, va_rf (D.L.head?), va_rf (D.L.getLast?), .int 0, .int 0]) := (hn _ (gh_neI hm (hN y_14 heL) rfl)).trans hm
              have htb : g D.tb = some ((o, k, 1), aq V 9 D.n D.T) := (hn _ (gh_neI htb (hN y_14 heL) rfl)).trans htb
              have hfr : ∀ b9, b9 ≠ y_14 → g b9 = gV b9 := fun b9 h1 => (hn b9 h1).trans (hfr b9 h1)
              have hN : ∀ a, a ∈ D.L → g a = some ((o, k, 2), oo (D.ci a) (.int (nI (hm_sp (D.C a))) :: .ref (D.K a) :: va_rf ((va_up D.v y_14 (some vv)) a) :: va_rf (D.nx a) :: va_rf (pvL D.L a) :: va_rf (scL D.L a) :: D.ex a)) := by
                intro a ha
                by_cases e9 : a = y_14
                · rw [e9, va_up_self]; exact hw
                · rw [va_up_ne _ _ e9]; exact (hn _ e9).trans (hN a ha)
              obtain ⟨hG7, hF7⟩ := hGV.val (g1 := g) (y := some vv) heL hN hfr
              refine lv_aload_n hx hb dJ4_putVal_250 rfl (lv_at hl 3 rfl) ?_
              refine lv_aload hx hb dJ4_putVal_251 (lv_at hl 2 rfl) ?_
              refine gh_callv hg (gh_runU (x := ⟨"java/util/HashMap", "afterNodeAccess", "(Ljava/util/HashMap$Node;)V"⟩) (C := "java/util/LinkedHashMap") (owner := "java/util/HashMap") (As := [.ref y_14]) (rest := []) hC hg (j_J5_afterNodeAccess l V _ o k m ck D.L.length (hd_val D y_14 (some vv)) none hG7 y_14) 1 (va_cwA 1 hts (lw_U q2274 q2276 q2278 q2277 q110 q2279) rfl rfl rfl (hC.2.2.1.1 _ (gh_nwm q2280 rfl)) hdF_HashMap_afterNodeAccess_1 ⟨Nat.le_of_ble_eq_true rfl, Nat.le_of_ble_eq_true rfl⟩) (gh_recv (C := "java/util/LinkedHashMap") hC hg hm rfl) rfl hl.1 rfl (Nat.le_of_ble_eq_true rfl) dJ4_putVal_253 ⟨Nat.le_of_ble_eq_true rfl, Nat.le_of_ble_eq_true rfl⟩) (fun g H locs hg hp => ?_)
              rw [hp] at hg
              refine lv_aloadQ hx hb dJ4_putVal_256 (lv_at hl 0 rfl) ?_
              exact gh_retq (r := (D.v y_14)) (Or.inl ⟨_, rfl⟩) hC hg hr hlk (⟨hd_val D y_14 (some vv), ⟨hG7, hI.2⟩, h9, (show gh_fk o k g0 gV from by rw [hgV, hgc]; exact gh_fk.rf).tr hF7, hm_M_val heL hce hG.inj, (lm_get_some heL hce hG.inj).symm⟩) dJ4_putVal_258 (Nat.le_of_ble_eq_true rfl) (Nat.le_of_ble_eq_true rfl)
            refine lv_aload_n hx hb dJ4_putVal_196 rfl (lv_at hl 4 rfl) ?_
            refine lv_ifnull hx hb dJ4_putVal_197 ?_
            refine lv_aload_n hx hb dJ4_putVal_200 rfl (lv_at hl 4 rfl) ?_
            refine lv_aload hx hb dJ4_putVal_201 (lv_at hl 0 rfl) ?_
            refine gh_keq4 hk9 (hG.ky y_14 heL) hC hg hl.1 (Nat.le_of_ble_eq_true rfl) dJ4_putVal_203 ⟨Nat.le_of_ble_eq_true rfl, Nat.le_of_ble_eq_true rfl⟩ ⟨Nat.le_of_ble_eq_true rfl, Nat.le_of_ble_eq_true rfl⟩ (fun H locs hg => ?_)
            rw [if_pos (hce.symm)]
            refine lv_if_eq (tgt := 212) hx hb dJ4_putVal_206 (by decide) (fun c_19 => (absurd ((nx_eq (show ((1 : Int32)) = nI 1 from rfl) (show ((0 : Int32)) = nI 0 from rfl) (by omega) (by omega)).mp c_19) (by omega))) (fun _ => ?_)
            refine lv_goto (tgt := 222) hx hb dJ4_putVal_209 (by decide) ?_
            obtain ⟨gV, hgV⟩ : ∃ gV, gV = g := ⟨_, rfl⟩
            have hGV := hG
            rw [← hgV] at hGV
            have hfr : ∀ b9, b9 ≠ y_14 → g b9 = gV b9 := fun b9 _ => by rw [hgV]
            refine lv_aload hx hb dJ4_putVal_222 (lv_at hl 1 rfl) ?_
            refine lv_ifnull hx hb dJ4_putVal_224 ?_
            refine lv_aload hx hb dJ4_putVal_227 (lv_at hl 1 rfl) ?_
            refine gh_get (v := va_rf (D.v y_14)) hC hg (hN y_14 heL) (fNJ4_162 (hG.len.2 y_14 heL)) rfl dJ4_putVal_229 ?_
            refine lv_astoreQ (lv' := [(12, va_rf (D.v y_14)), (11, .ref (D.K y_14)), (10, .ref y_14), (0, .ref m), (1, .int (nI (hm_sp c9))), (2, .ref x), (3, .ref vv), (4, .int 0), (5, .int ev), (6, .ref D.tb), (7, .ref p)]) hx hb dJ4_putVal_232 hl (by decide) rfl (fun ls hl => ?_)
            refine lv_iload hx hb dJ4_putVal_234 (lv_at hl 7 rfl) ?_
            refine lv_if_eq (tgt := 244) hx hb dJ4_putVal_236 (by decide) (fun _ => ?_) (fun c_20 => (absurd ((nx_eq (show ((0 : Int32)) = nI 0 from rfl) (show ((0 : Int32)) = nI 0 from rfl) (by omega) (by omega)).mpr (by omega)) c_20))
            refine lv_aload hx hb dJ4_putVal_244 (lv_at hl 2 rfl) ?_
            refine lv_aload_n hx hb dJ4_putVal_246 rfl (lv_at hl 6 rfl) ?_
            refine gh_put (v := .ref vv) hC hg (hN y_14 heL) (fNJ4_162 (hG.len.2 y_14 heL)) rfl rfl (gh_len (by decide)) dJ4_putVal_247 (fun g H locs hg hw hn => ?_)
            have hm : g m = some ((o, k, 0), oo 13 [va_rf (hm_tab D), va_rf D.es, .int (nI D.L.length), .int D.mc, .int (nI D.th), .float 1061158912, va_rf D.ks, va_rf D.vs, va_rf (D.L.head?), va_rf (D.L.getLast?), .int 0, .int 0]) := (hn _ (gh_neI hm (hN y_14 heL) rfl)).trans hm
            have htb : g D.tb = some ((o, k, 1), aq V 9 D.n D.T) := (hn _ (gh_neI htb (hN y_14 heL) rfl)).trans htb
            have hfr : ∀ b9, b9 ≠ y_14 → g b9 = gV b9 := fun b9 h1 => (hn b9 h1).trans (hfr b9 h1)
            have hN : ∀ a, a ∈ D.L → g a = some ((o, k, 2), oo (D.ci a) (.int (nI (hm_sp (D.C a))) :: .ref (D.K a) :: va_rf ((va_up D.v y_14 (some vv)) a) :: va_rf (D.nx a) :: va_rf (pvL D.L a) :: va_rf (scL D.L a) :: D.ex a)) := by
              intro a ha
              by_cases e9 : a = y_14
              · rw [e9, va_up_self]; exact hw
              · rw [va_up_ne _ _ e9]; exact (hn _ e9).trans (hN a ha)
            obtain ⟨hG7, hF7⟩ := hGV.val (g1 := g) (y := some vv) heL hN hfr
            refine lv_aload_n hx hb dJ4_putVal_250 rfl (lv_at hl 3 rfl) ?_
            refine lv_aload hx hb dJ4_putVal_251 (lv_at hl 2 rfl) ?_
            refine gh_callv hg (gh_runU (x := ⟨"java/util/HashMap", "afterNodeAccess", "(Ljava/util/HashMap$Node;)V"⟩) (C := "java/util/LinkedHashMap") (owner := "java/util/HashMap") (As := [.ref y_14]) (rest := []) hC hg (j_J5_afterNodeAccess l V _ o k m ck D.L.length (hd_val D y_14 (some vv)) none hG7 y_14) 1 (va_cwA 1 hts (lw_U q2274 q2276 q2278 q2277 q110 q2279) rfl rfl rfl (hC.2.2.1.1 _ (gh_nwm q2280 rfl)) hdF_HashMap_afterNodeAccess_1 ⟨Nat.le_of_ble_eq_true rfl, Nat.le_of_ble_eq_true rfl⟩) (gh_recv (C := "java/util/LinkedHashMap") hC hg hm rfl) rfl hl.1 rfl (Nat.le_of_ble_eq_true rfl) dJ4_putVal_253 ⟨Nat.le_of_ble_eq_true rfl, Nat.le_of_ble_eq_true rfl⟩) (fun g H locs hg hp => ?_)
            rw [hp] at hg
            refine lv_aloadQ hx hb dJ4_putVal_256 (lv_at hl 0 rfl) ?_
            exact gh_retq (r := (D.v y_14)) (Or.inl ⟨_, rfl⟩) hC hg hr hlk (⟨hd_val D y_14 (some vv), ⟨hG7, hI.2⟩, h9, (show gh_fk o k g0 gV from by rw [hgV, hgc]; exact gh_fk.rf).tr hF7, hm_M_val heL hce hG.inj, (lm_get_some heL hce hG.inj).symm⟩) dJ4_putVal_258 (Nat.le_of_ble_eq_true rfl) (Nat.le_of_ble_eq_true rfl)
          rw [hq_13] at hl
          have hl : lv_has ls 13 [(10, .null), (0, .ref m), (1, .int (nI (hm_sp c9))), (2, .ref x), (3, .ref vv), (4, .int 0), (5, .int ev), (6, .ref D.tb), (7, .ref p), (12, .int (nI pre.length))] := hl
          have hl0 := rz_nil hnx1 hq_13
          have hBp : D.B i = pre ++ [p] := by rw [hX134_0, hl0]
          have hno : ∀ b, b ∈ D.L → D.C b ≠ c9 := hG.absent hi hie (fun a ha => by rw [hBp] at ha; rcases List.mem_append.mp ha with ha | ha; exact hX134_1 a (List.mem_append_left _ ha); exact hX134_1 a (List.mem_append_right _ ha))
          have hno1 := hno
          have hmd1 := hmd hno
          refine lv_aload hx hb dJ4_putVal_145 (lv_at hl 8 rfl) ?_
          refine lv_aload_n hx hb dJ4_putVal_147 rfl (lv_at hl 1 rfl) ?_
          refine lv_iload_n hx hb dJ4_putVal_148 rfl (lv_at hl 2 rfl) ?_
          refine lv_aload_n hx hb dJ4_putVal_149 rfl (lv_at hl 3 rfl) ?_
          refine lv_aload_n hx hb dJ4_putVal_150 rfl (lv_at hl 4 rfl) ?_
          refine lv_null hx hb dJ4_putVal_151 ?_
          refine gh_callq hg (gh_runU (x := ⟨"java/util/HashMap", "newNode", "(ILjava/lang/Object;Ljava/lang/Object;Ljava/util/HashMap$Node;)Ljava/util/HashMap$Node;"⟩) (C := "java/util/LinkedHashMap") (owner := "java/util/HashMap") (As := [.int (nI (hm_sp c9)), .ref x, .ref vv, .null]) (rest := [.ref p]) hC hg (j_J5_newNode l V _ o k m ck x vv c9 D.L.length D hG hn0 hk9 hno1 (by omega) hmd1) 4 (va_cwA 4 hts (lw_U q2149 q2151 q2153 q2152 q110 q2154) rfl rfl rfl (hC.2.2.1.1 _ (gh_nwm q2159 rfl)) hdF_HashMap_newNode_4 ⟨Nat.le_of_ble_eq_true rfl, Nat.le_of_ble_eq_true rfl⟩) (gh_recv (C := "java/util/LinkedHashMap") hC hg hm rfl) rfl hl.1 rfl (Nat.le_of_ble_eq_true rfl) dJ4_putVal_152 ⟨Nat.le_of_ble_eq_true rfl, Nat.le_of_ble_eq_true rfl⟩) (fun r_21 g H locs hg hp => ?_)
          obtain ⟨q, rfl, hq0, hG2, hF2⟩ := hp
          have hqL : q ∉ D.L := fun e9 => by have h9 := hG.cn q e9; rw [hq0] at h9; cases h9
          have hM2 : hm_M (hd_app D q c9 x (some vv) none 14 []) = hm_M D ++ [(c9, x, some vv)] := hm_M_app hqL
          obtain ⟨D2, hD2⟩ : ∃ D2 : HD, D2 = hd_app D q c9 x (some vv) none 14 [] := ⟨_, rfl⟩
          rw [← hD2] at hG2 hM2
          have hn2 : D2.n = D.n := by rw [hD2]; rfl
          have htb2 : D2.tb = D.tb := by rw [hD2]; rfl
          have hT2 : D2.T = D.T := by rw [hD2]; rfl
          have hB2 : D2.B = D.B := by rw [hD2]; rfl
          have hnx2 : D2.nx = fuN D.nx q none := by rw [hD2]; rfl
          have hC2 : D2.C = fuN D.C q c9 := by rw [hD2]; rfl
          have hci2 : D2.ci = fuN D.ci q 14 := by rw [hD2]; rfl
          have hex2 : D2.ex = fuN D.ex q [] := by rw [hD2]; rfl
          have hL2 : D2.L = D.L ++ [q] := by rw [hD2]; rfl
          have hqm : q ∈ D2.L := by rw [hL2]; exact List.mem_append_right _ (List.mem_singleton.mpr rfl)
          have hn20 : D2.n ≠ 0 := by rw [hn2]; exact hn0
          have hqi : hm_sp (D2.C q) % D2.n = i := by rw [hC2, fuN_self, hn2]; exact hie
          have hq14 : D2.ci q = 14 ∧ D2.ex q = [] := by rw [hci2, hex2]; exact ⟨fuN_self, fuN_self⟩
          obtain ⟨gB, hgB⟩ : ∃ gB, gB = g := ⟨_, rfl⟩
          have hGB := hG2
          rw [← hgB] at hGB
          have hm := hG2.cm
          have htb := hG2.ct hn20
          have hN := hG2.cn
          rw [htb2] at htb
          have hfr : ∀ b, b ≠ D2.tb → b ∉ D2.L → g b = gB b := fun b _ _ => by rw [hgB]
          have hme : g m = gB m := by rw [hgB]
          have hmt : m ≠ D.tb := gh_neI hm htb rfl
          have hpL2 : p ∈ D2.L := by rw [hL2]; exact List.mem_append_left _ hpL
          have hpq : p ≠ q := hm_ne_last hqL hpL
          have hmp : m ≠ p := gh_neI hm (hN p hpL2) rfl
          refine gh_put (v := .ref q) hC hg (hN p hpL2) (fNJ4_177 (hG2.len.2 p hpL2)) rfl rfl (gh_len (by decide)) dJ4_putVal_155 (fun g H locs hg hw hn => ?_)
          have htb : g D.tb = some ((o, k, 1), aq V 9 D2.n D2.T) := (hn _ (gh_neI htb (hN p hpL2) rfl)).trans htb
          have hm : g m = some ((o, k, 0), oo 13 [va_rf (hm_tab D2), va_rf D2.es, .int (nI D.L.length), .int D2.mc, .int (nI D2.th), .float 1061158912, va_rf D2.ks, va_rf D2.vs, va_rf (D2.L.head?), va_rf (D2.L.getLast?), .int 0, .int 0]) := (hn _ (gh_neI hm (hN p hpL2) rfl)).trans hm
          have hfr : ∀ b, b ≠ D2.tb → b ∉ D2.L → g b = gB b := fun b h1 h2 => (hn b (fun e => h2 (e ▸ hpL2))).trans (hfr b h1 h2)
          have hme : g m = gB m := (hn _ hmp).trans hme
          have hN : ∀ a, a ∈ D2.L → g a = some ((o, k, 2), oo (D2.ci a) (.int (nI (hm_sp (D2.C a))) :: .ref (D2.K a) :: va_rf (D2.v a) :: va_rf ((va_up D2.nx p (some q)) a) :: va_rf (pvL D2.L a) :: va_rf (scL D2.L a) :: D2.ex a)) := by
            intro a ha
            by_cases e9 : a = p
            · rw [e9, va_up_self]; exact hw
            · rw [va_up_ne _ _ e9]; exact (hn _ e9).trans (hN a ha)
          have hch9 : hm_ch (va_up D2.nx p (some q)) (D2.T i) (D2.B i ++ [q]) := by
            rw [hB2, hBp, hT2]
            have h8 := hG.ch i hi
            rw [hBp] at h8
            refine h8.snoc (fun a ha => ?_) (va_up_self _ _ _) ?_
            · have hap : a ≠ p := fun e9 => by have h7 := hG.bn i hi; rw [hBp] at h7; exact (List.nodup_append.mp h7).2.2 a ha p (List.mem_singleton.mpr rfl) e9
              have haq : a ≠ q := hm_ne_last hqL (hG.mem hi (by rw [hBp]; exact List.mem_append_left _ ha))
              rw [va_up_ne _ _ hap, hnx2, fuN_ne haq]
            · rw [va_up_ne _ _ (fun e9 => hpq e9.symm), hnx2]; exact fuN_self
          have htb3 : g D2.tb = some ((o, k, 1), aq V 9 D2.n D2.T) := by rw [htb2]; exact htb
          obtain ⟨hG6, hF6⟩ := hGB.inb (g1 := g) (nx := (va_up D2.nx p (some q))) (T := D2.T) hn20 hqi hqm hq14 (fun a ha => by rw [hB2] at ha; rw [hci2, hex2, fuN_ne (hm_ne_last hqL (hG.mem hi ha)), fuN_ne (hm_ne_last hqL (hG.mem hi ha))]; exact h14 a ha) (fun _ _ => rfl) (fun a h1 h2 h3 => by rw [va_up_ne _ _ (fun e9 => h2 (by rw [e9, hB2]; exact hpB))]) hch9 hme htb3 hN hfr
          obtain ⟨D3, hD3⟩ : ∃ D3 : HD, D3 = hd_in D2 i q (va_up D2.nx p (some q)) D2.T := ⟨_, rfl⟩
          rw [← hD3] at hG6
          have hn3 : D3.n ≠ 0 := by rw [hD3]; exact hn20
          have hn3e : D3.n = D2.n := by rw [hD3]; rfl
          have hNw : hm_N V o k g0 g m ck D.L.length c9 x (some vv) D D3 := by
            refine ⟨hG6, by rw [hD3]; exact hM2, ⟨hn3, Nat.le_of_eq (hn3e.trans hn2).symm⟩, (show gh_fk o k g0 gB from by rw [hgB, ← hgg0]; exact hF2).tr hF6, fun h8 a ha => ?_⟩
            have ha : a ∈ D2.L := by rw [hD3] at ha; exact ha
            rw [hD3]; show D2.ci a = 14
            rw [hL2] at ha; rw [hci2]
            rcases List.mem_append.mp ha with ha | ha
            · rw [fuN_ne (hm_ne_last hqL ha)]; exact h9 h8 a ha
            · rw [List.mem_singleton.mp ha]; exact fuN_self
          have hn3t : D3.tb = D.tb := by rw [hD3]; exact htb2
          refine lv_iload hx hb dJ4_putVal_158 (lv_at hl 9 rfl) ?_
          refine lv_bipush (v := 7) hx hb dJ4_putVal_160 (by decide) ?_
          refine lv_icmp_lt (tgt := 222) hx hb dJ4_putVal_162 (by decide) (fun c_22 => ?_) (fun c_22 => ?_)
          · skip
            have c_22 : pre.length < 7 := (nx_lt rfl (show ((7 : Int32)) = nI 7 from rfl) (by omega) (by omega)).mp c_22
            refine lv_aloadN hx hb dJ4_putVal_222 (lv_at hl 0 rfl) ?_
            refine lv_ifnullN (tgt := 259) hx hb dJ4_putVal_224 (by decide) ?_
            exact W.widen (by decide) (by decide) (hjn _ _ _ _ hg ⟨D3, hNw, hno, lv_sub hl [1, 6] rfl⟩)
          have c_22 : ¬ pre.length < 7 := fun h9 => c_22 ((nx_lt rfl (show ((7 : Int32)) = nI 7 from rfl) (by omega) (by omega)).mpr h9)
          have hspi : hm_sp c9 % D3.n = i := by rw [hn3e, hn2]; exact hie
          rcases Nat.lt_or_ge D3.n 64 with h64 | h64
          · skip
            have hlt3 := hn3t
            refine lv_aload_n hx hb dJ4_putVal_165 rfl (lv_at hl 1 rfl) ?_
            refine lv_aload hx hb dJ4_putVal_166 (lv_at hl 7 rfl) ?_
            refine lv_iload_n hx hb dJ4_putVal_168 rfl (lv_at hl 2 rfl) ?_
            refine gh_callv hg (gh_runU (x := ⟨"java/util/HashMap", "treeifyBin", "([Ljava/util/HashMap$Node;I)V"⟩) (C := "java/util/LinkedHashMap") (owner := "java/util/HashMap") (As := [.ref D.tb, .int (nI (hm_sp c9))]) (rest := []) hC hg (by have h9 := j_J4_treeifyBin l V g o k m ck D.L.length D3 (nI (hm_sp c9)) hG6 hn3 h64; rw [hn3t] at h9; exact h9) 2 (va_cwU 2 hts (lw_U q2261 q2263 q2262 q2264 q109 q2265) rfl rfl rfl rfl hdF_HashMap_treeifyBin_2 ⟨Nat.le_of_ble_eq_true rfl, Nat.le_of_ble_eq_true rfl⟩) (gh_recv (C := "java/util/LinkedHashMap") hC hg hG6.cm rfl) rfl hl.1 rfl (Nat.le_of_ble_eq_true rfl) dJ4_putVal_169 ⟨Nat.le_of_ble_eq_true rfl, Nat.le_of_ble_eq_true rfl⟩) (fun g H locs hg hp => ?_)
            obtain ⟨D6, hG8, hR8, hF8⟩ := hp
            have hN6 : hm_N V o k g0 g m ck D.L.length c9 x (some vv) D D6 := ⟨hG8, (hm_M_congr hR8.2.2.1).trans hNw.2.1, ⟨hR8.1, (by have h5 := hR8.2.1; rw [if_neg hn3] at h5; have h6 := hNw.2.2.1.2; omega)⟩, hNw.2.2.2.1.tr hF8, fun h7 a ha => by rw [show D6.L = D3.L from congrArg (fun z => z.1) hR8.2.2.1] at ha; rw [hR8.2.2.2.1]; exact hNw.2.2.2.2 h7 a ha⟩
            refine lv_goto (tgt := 222) hx hb dJ4_putVal_172 (by decide) ?_
            refine lv_aloadN hx hb dJ4_putVal_222 (lv_at hl 0 rfl) ?_
            refine lv_ifnullN (tgt := 259) hx hb dJ4_putVal_224 (by decide) ?_
            exact W.widen (by decide) (by decide) (hjn _ _ _ _ hg ⟨D6, hN6, hno, lv_sub hl [1, 6] rfl⟩)
          have hck0 : ck = 10 := by
            rcases hck with h8 | h8
            · subst h8
              have h7 := pg_9 hG hi (by rw [← hn2, ← hn3e]; exact h64)
              rw [hBp, List.length_append, List.length_singleton] at h7
              omega
            · exact h8
          have hl16 : D.L.length < 16 := by
            rcases h16.or hck0 with h7 | ⟨b, h71, h72⟩
            · exact h7
            · exact absurd h72 (hno b h71)
          have hB3 : D3.B i = pre ++ [p] ++ [q] := by rw [hD3]; show fuN D2.B i (D2.B i ++ [q]) i = _; rw [fuN_self, hB2, hBp]
          have hpl3 : ∀ a, a ∈ D3.B i → D3.ci a = 14 ∧ D3.ex a = [] := by
            intro a ha
            rcases hG6.bin i (by rw [hn3e, hn2]; exact hi) with h7 | h7
            · exact h7 a ha
            · have h6 := h7.2.1 q (by rw [hB3]; exact List.mem_append_right _ (List.mem_singleton.mpr rfl))
              have h5 : D3.ci q = 14 := by rw [hD3]; exact hq14.1
              omega
          refine lv_aload_n hx hb dJ4_putVal_165 rfl (lv_at hl 1 rfl) ?_
          refine lv_aload hx hb dJ4_putVal_166 (lv_at hl 7 rfl) ?_
          refine lv_iload_n hx hb dJ4_putVal_168 rfl (lv_at hl 2 rfl) ?_
          refine gh_callv hg (gh_runU (x := ⟨"java/util/HashMap", "treeifyBin", "([Ljava/util/HashMap$Node;I)V"⟩) (C := "java/util/LinkedHashMap") (owner := "java/util/HashMap") (As := [.ref D.tb, .int (nI (hm_sp c9))]) (rest := []) hC hg (by have h9 := hTB g o k m D.L.length D3 i (hm_sp c9) (by rw [← hck0]; exact hG6) h64 (by rw [hn3e, hn2]; exact hi) hspi hspc hpl3 (by rw [hB3]; simp) (by have := hNw.len; omega); rw [hn3t] at h9; exact h9) 2 (va_cwU 2 hts (lw_U q2261 q2263 q2262 q2264 q109 q2265) rfl rfl rfl rfl hdF_HashMap_treeifyBin_2 ⟨Nat.le_of_ble_eq_true rfl, Nat.le_of_ble_eq_true rfl⟩) (gh_recv (C := "java/util/LinkedHashMap") hC hg hG6.cm rfl) rfl hl.1 rfl (Nat.le_of_ble_eq_true rfl) dJ4_putVal_169 ⟨Nat.le_of_ble_eq_true rfl, Nat.le_of_ble_eq_true rfl⟩) (fun g H locs hg hp => ?_)
          obtain ⟨D6, hG8, hM8, hn8, hF8⟩ := hp
          rw [← hck0] at hG8
          have hNw : hm_N V o k g0 g m ck D.L.length c9 x (some vv) D D6 := ⟨hG8, hM8.trans hNw.2.1, ⟨(by rw [hn8]; exact hn3), (by rw [hn8]; exact hNw.2.2.1.2)⟩, hNw.2.2.2.1.tr hF8, (fun h7 => by omega)⟩
          have hn3 : D6.n ≠ 0 := by rw [hn8]; exact hn3
          have hbig : 64 ≤ D6.n := by rw [hn8]; exact h64
          refine lv_goto (tgt := 222) hx hb dJ4_putVal_172 (by decide) ?_
          refine lv_aloadN hx hb dJ4_putVal_222 (lv_at hl 0 rfl) ?_
          refine lv_ifnullN (tgt := 259) hx hb dJ4_putVal_224 (by decide) ?_
          have hG3 := hNw.1
          have hl3 := hNw.len
          have hm := hG3.cm
          have hMb : hm_M D = hm_M D := rfl
          obtain ⟨g3, hg3⟩ : ∃ g3, g3 = g := ⟨_, rfl⟩
          have hfr : ∀ b, b ≠ m → g b = g3 b := fun b _ => by rw [hg3]
          obtain ⟨⟨j3, hj31, hj32, hj3⟩, hth3⟩ := hG3.pw hn3
          have hnl3 := hG3.nlt
          have hge2 := Nat.pow_le_pow_right (n := 2) (by decide) hj31
          refine lv_aload_n hx hb dJ4_putVal_259 rfl (lv_at hl 1 rfl) ?_
          refine lv_dup hx hb dJ4_putVal_260 rfl ?_
          refine gh_get (v := .int D6.mc) hC hg hm fJ4_202_13 rfl dJ4_putVal_261 ?_
          refine lv_iconst (v := 1) hx hb dJ4_putVal_264 (by decide) ?_
          refine lv_iadd hx hb dJ4_putVal_265 ?_
          refine gh_put (v := .int (D6.mc + 1)) hC hg hm fJ4_202_13 rfl rfl (Nat.le_of_ble_eq_true rfl) dJ4_putVal_266 (fun g H locs hg hw hn => ?_)
          have hfr : ∀ b, b ≠ m → g b = g3 b := fun b h1 => (hn b h1).trans (hfr b h1)
          have hm : g m = some ((o, k, 0), oo 13 [va_rf (hm_tab D6), va_rf D6.es, .int (nI D.L.length), .int (D6.mc + 1), .int (nI D6.th), .float 1061158912, va_rf D6.ks, va_rf D6.vs, va_rf (D6.L.head?), va_rf (D6.L.getLast?), .int 0, .int 0]) := hw
          refine lv_aload_n hx hb dJ4_putVal_269 rfl (lv_at hl 1 rfl) ?_
          refine lv_dup hx hb dJ4_putVal_270 rfl ?_
          refine gh_get (v := .int (nI D.L.length)) hC hg hm fJ4_156_13 rfl dJ4_putVal_271 ?_
          refine lv_iconst (v := 1) hx hb dJ4_putVal_274 (by decide) ?_
          refine lv_iadd hx hb dJ4_putVal_275 ?_
          refine lv_dup_x1 hx hb dJ4_putVal_276 rfl rfl ?_
          refine gh_put (v := .int ((nI D.L.length) + 1)) hC hg hm fJ4_156_13 rfl rfl (Nat.le_of_ble_eq_true rfl) dJ4_putVal_277 (fun g H locs hg hw hn => ?_)
          have hfr : ∀ b, b ≠ m → g b = g3 b := fun b h1 => (hn b h1).trans (hfr b h1)
          have hm : g m = some ((o, k, 0), oo 13 [va_rf (hm_tab D6), va_rf D6.es, .int ((nI D.L.length) + 1), .int (D6.mc + 1), .int (nI D6.th), .float 1061158912, va_rf D6.ks, va_rf D6.vs, va_rf (D6.L.head?), va_rf (D6.L.getLast?), .int 0, .int 0]) := hw
          rw [nI_1] at hm
          rw [← hg3] at hG3 hNw
          obtain ⟨hG4, hF4⟩ := hG3.szset (g1 := g) (sz1 := D.L.length + 1) (mc1 := (D6.mc + 1)) hm hfr
          obtain ⟨D4, hD4⟩ : ∃ D4 : HD, D4 = ((D6.1.1, D6.1.2.1, D6.1.2.2.1, (D6.mc + 1), D6.1.2.2.2.2), D6.2) := ⟨_, rfl⟩
          rw [← hD4] at hG4
          have hl4 : D4.L.length = D.L.length + 1 := by rw [hD4]; exact hl3
          have hM4 : hm_M D4 = hm_M D ++ [(c9, x, some vv)] := by rw [hD4, ← hMb]; exact hNw.2.1
          have h14 : ck = 9 → ∀ a, a ∈ D4.L → D4.ci a = 14 := by rw [hD4]; exact hNw.2.2.2.2
          have hn4 : D4.n = D6.n := by rw [hD4]
          have ht4 : D4.th = D6.th := by rw [hD4]
          have hF : gh_fk o k g0 g := hNw.2.2.2.1.tr hF4
          refine lv_aload_n hx hb dJ4_putVal_280 rfl (lv_at hl 1 rfl) ?_
          refine gh_get (v := .int (nI D6.th)) hC hg hm fJ4_88_13 rfl dJ4_putVal_281 ?_
          refine lv_icmp_le (tgt := 292) hx hb dJ4_putVal_284 (by decide) (fun _ => ?_) (fun c_23 => (absurd ((nx_le (nx_add rfl (show ((1 : Int32)) = nI 1 from rfl)) rfl (by omega) (by omega)).mpr (by omega)) c_23))
          have hI5 : hm_I V o k g m ck D4 := ⟨by rw [hl4]; exact hG4, fun _ => by omega⟩
          refine lv_aload_n hx hb dJ4_putVal_292 rfl (lv_at hl 1 rfl) ?_
          refine lv_iload hx hb dJ4_putVal_293 (lv_at hl 6 rfl) ?_
          refine gh_callv hg (gh_runU (x := ⟨"java/util/HashMap", "afterNodeInsertion", "(Z)V"⟩) (C := "java/util/LinkedHashMap") (owner := "java/util/HashMap") (As := [.int ev]) (rest := []) hC hg (j_J5_afterNodeInsertion l V _ o k m ck (D.L.length + 1) D4 none hG4 ev) 1 (va_cwA 1 hts (lw_U q2281 q2283 q2285 q2284 q110 q2286) rfl rfl rfl (hC.2.2.1.1 _ (gh_nwm q2291 rfl)) hdF_HashMap_afterNodeInsertion_1 ⟨Nat.le_of_ble_eq_true rfl, Nat.le_of_ble_eq_true rfl⟩) (gh_recv (C := "java/util/LinkedHashMap") hC hg hm rfl) rfl hl.1 rfl (Nat.le_of_ble_eq_true rfl) dJ4_putVal_295 ⟨Nat.le_of_ble_eq_true rfl, Nat.le_of_ble_eq_true rfl⟩) (fun g H locs hg hp => ?_)
          rw [hp] at hg
          refine lv_null hx hb dJ4_putVal_298 ?_
          exact gh_retq (r := none) (Or.inl ⟨_, rfl⟩) hC hg hr hlk (⟨D4, hI5, h14, hF, by rw [hM4, lm_put_none hno], (lm_get_none hno).symm⟩) dJ4_putVal_299 (Nat.le_of_ble_eq_true rfl) (Nat.le_of_ble_eq_true rfl)
        have hci15 := h15.2.1 _ hm1
        have hck0 : ck = 10 := by
          rcases hck with h8 | h8
          · have h7 := h9 h8 _ hmL; omega
          · exact h8
        have hG10 : hm_G V o k g m 10 D D.L.length none := by rw [← hck0]; exact hG
        have hk10 : ky_P V g 10 x c9 := by rw [← hck0]; exact hk9
        refine lv_aload hx hb dJ4_putVal_104 (lv_at hl 0 rfl) ?_
        refine gh_instS (C := "java/util/HashMap$TreeNode") (ci := (D.ci y_10)) hC hg (hN y_10 hmL) (by rw [hci15]; rfl) q1822 dJ4_putVal_106 ?_
        refine lv_if_eq (tgt := 131) hx hb dJ4_putVal_109 (by decide) (fun c_24 => (absurd ((nx_eq (show ((1 : Int32)) = nI 1 from rfl) (show ((0 : Int32)) = nI 0 from rfl) (by omega) (by omega)).mp c_24) (by omega))) (fun _ => ?_)
        refine lv_aload hx hb dJ4_putVal_112 (lv_at hl 0 rfl) ?_
        refine gh_castS (C := "java/util/HashMap$TreeNode") (ci := (D.ci y_10)) hC hg (hN y_10 hmL) (by rw [hci15]; rfl) q1822 dJ4_putVal_114 ?_
        refine lv_aload_n hx hb dJ4_putVal_117 rfl (lv_at hl 4 rfl) ?_
        refine lv_aload hx hb dJ4_putVal_118 (lv_at hl 3 rfl) ?_
        refine lv_iload_n hx hb dJ4_putVal_120 rfl (lv_at hl 5 rfl) ?_
        refine lv_aload_n hx hb dJ4_putVal_121 rfl (lv_at hl 6 rfl) ?_
        refine lv_aload_n hx hb dJ4_putVal_122 rfl (lv_at hl 7 rfl) ?_
        refine gh_callq hg (gh_runVr (As := [.ref m, .ref D.tb, .int (nI (hm_sp c9)), .ref x, .ref vv]) (rest := []) hC hg (hPT _ o k m D.L.length D i y_10 c9 x vv hG10 hi (by rw [hB1]; rfl) h15 hie hk10 (h16.or hck0)) 5 (lw_V q2212 q2213 q2214 q148 q2215) (gh_recv (C := "java/util/HashMap$TreeNode") (ci := (D.ci y_10)) hC hg (hN y_10 hmL) (by rw [hci15]; rfl)) hd_J39_putTreeVal ⟨Nat.le_of_ble_eq_true rfl, Nat.le_of_ble_eq_true rfl⟩ rfl hl.1 rfl (Nat.le_of_ble_eq_true rfl) dJ4_putVal_123 ⟨Nat.le_of_ble_eq_true rfl, Nat.le_of_ble_eq_true rfl⟩) (fun r_25 g H locs hg hp => ?_)
        rcases hp with ⟨b, hbL, hbc, hr, hq⟩ | ⟨hr, hno, D3, hNw⟩
        · subst hr
          rw [← hq] at hG hN hm htb hgg hgc hgg0 hk9
          refine W.eq (g2 := F0 mm 126 ls [.ref b]) rfl ?_
          refine lv_astore (lv' := [(10, .ref b), (7, .ref y_10), (9, .int (nI i)), (8, .int (nI D.n)), (6, .ref D.tb), (0, .ref m), (1, .int (nI (hm_sp c9))), (2, .ref x), (3, .ref vv), (4, .int 0), (5, .int ev)]) hx hb dJ4_putVal_126 hl (by decide) rfl (fun ls hl => ?_)
          refine lv_goto (tgt := 222) hx hb dJ4_putVal_128 (by decide) ?_
          obtain ⟨gV, hgV⟩ : ∃ gV, gV = g := ⟨_, rfl⟩
          have hGV := hG
          rw [← hgV] at hGV
          have hfr : ∀ b9, b9 ≠ b → g b9 = gV b9 := fun b9 _ => by rw [hgV]
          refine lv_aload hx hb dJ4_putVal_222 (lv_at hl 0 rfl) ?_
          refine lv_ifnull hx hb dJ4_putVal_224 ?_
          refine lv_aload hx hb dJ4_putVal_227 (lv_at hl 0 rfl) ?_
          refine gh_get (v := va_rf (D.v b)) hC hg (hN b hbL) (fNJ4_162 (hG.len.2 b hbL)) rfl dJ4_putVal_229 ?_
          refine lv_astoreQ (lv' := [(12, va_rf (D.v b)), (10, .ref b), (7, .ref y_10), (9, .int (nI i)), (8, .int (nI D.n)), (6, .ref D.tb), (0, .ref m), (1, .int (nI (hm_sp c9))), (2, .ref x), (3, .ref vv), (4, .int 0), (5, .int ev)]) hx hb dJ4_putVal_232 hl (by decide) rfl (fun ls hl => ?_)
          refine lv_iload hx hb dJ4_putVal_234 (lv_at hl 10 rfl) ?_
          refine lv_if_eq (tgt := 244) hx hb dJ4_putVal_236 (by decide) (fun _ => ?_) (fun c_26 => (absurd ((nx_eq (show ((0 : Int32)) = nI 0 from rfl) (show ((0 : Int32)) = nI 0 from rfl) (by omega) (by omega)).mpr (by omega)) c_26))
          refine lv_aload hx hb dJ4_putVal_244 (lv_at hl 1 rfl) ?_
          refine lv_aload_n hx hb dJ4_putVal_246 rfl (lv_at hl 9 rfl) ?_
          refine gh_put (v := .ref vv) hC hg (hN b hbL) (fNJ4_162 (hG.len.2 b hbL)) rfl rfl (gh_len (by decide)) dJ4_putVal_247 (fun g H locs hg hw hn => ?_)
          have hm : g m = some ((o, k, 0), oo 13 [va_rf (hm_tab D), va_rf D.es, .int (nI D.L.length), .int D.mc, .int (nI D.th), .float 1061158912, va_rf D.ks, va_rf D.vs, va_rf (D.L.head?), va_rf (D.L.getLast?), .int 0, .int 0]) := (hn _ (gh_neI hm (hN b hbL) rfl)).trans hm
          have htb : g D.tb = some ((o, k, 1), aq V 9 D.n D.T) := (hn _ (gh_neI htb (hN b hbL) rfl)).trans htb
          have hfr : ∀ b9, b9 ≠ b → g b9 = gV b9 := fun b9 h1 => (hn b9 h1).trans (hfr b9 h1)
          have hN : ∀ a, a ∈ D.L → g a = some ((o, k, 2), oo (D.ci a) (.int (nI (hm_sp (D.C a))) :: .ref (D.K a) :: va_rf ((va_up D.v b (some vv)) a) :: va_rf (D.nx a) :: va_rf (pvL D.L a) :: va_rf (scL D.L a) :: D.ex a)) := by
            intro a ha
            by_cases e9 : a = b
            · rw [e9, va_up_self]; exact hw
            · rw [va_up_ne _ _ e9]; exact (hn _ e9).trans (hN a ha)
          obtain ⟨hG7, hF7⟩ := hGV.val (g1 := g) (y := some vv) hbL hN hfr
          refine lv_aload_n hx hb dJ4_putVal_250 rfl (lv_at hl 6 rfl) ?_
          refine lv_aload hx hb dJ4_putVal_251 (lv_at hl 1 rfl) ?_
          refine gh_callv hg (gh_runU (x := ⟨"java/util/HashMap", "afterNodeAccess", "(Ljava/util/HashMap$Node;)V"⟩) (C := "java/util/LinkedHashMap") (owner := "java/util/HashMap") (As := [.ref b]) (rest := []) hC hg (j_J5_afterNodeAccess l V _ o k m ck D.L.length (hd_val D b (some vv)) none hG7 b) 1 (va_cwA 1 hts (lw_U q2274 q2276 q2278 q2277 q110 q2279) rfl rfl rfl (hC.2.2.1.1 _ (gh_nwm q2280 rfl)) hdF_HashMap_afterNodeAccess_1 ⟨Nat.le_of_ble_eq_true rfl, Nat.le_of_ble_eq_true rfl⟩) (gh_recv (C := "java/util/LinkedHashMap") hC hg hm rfl) rfl hl.1 rfl (Nat.le_of_ble_eq_true rfl) dJ4_putVal_253 ⟨Nat.le_of_ble_eq_true rfl, Nat.le_of_ble_eq_true rfl⟩) (fun g H locs hg hp => ?_)
          rw [hp] at hg
          refine lv_aloadQ hx hb dJ4_putVal_256 (lv_at hl 0 rfl) ?_
          exact gh_retq (r := (D.v b)) (Or.inl ⟨_, rfl⟩) hC hg hr hlk (⟨hd_val D b (some vv), ⟨hG7, hI.2⟩, h9, (show gh_fk o k g0 gV from by rw [hgV, hgc]; exact gh_fk.rf).tr hF7, hm_M_val hbL hbc hG.inj, (lm_get_some hbL hbc hG.inj).symm⟩) dJ4_putVal_258 (Nat.le_of_ble_eq_true rfl) (Nat.le_of_ble_eq_true rfl)
        subst hr
        rw [hgg, ← hck0] at hNw
        have hn3 := hNw.2.2.1.1
        refine W.eq (g2 := F0 mm 126 ls [.null]) rfl ?_
        refine lv_astoreN (lv' := [(10, .null), (7, .ref y_10), (9, .int (nI i)), (8, .int (nI D.n)), (6, .ref D.tb), (0, .ref m), (1, .int (nI (hm_sp c9))), (2, .ref x), (3, .ref vv), (4, .int 0), (5, .int ev)]) hx hb dJ4_putVal_126 hl (by decide) rfl (fun ls hl => ?_)
        refine lv_goto (tgt := 222) hx hb dJ4_putVal_128 (by decide) ?_
        refine lv_aloadN hx hb dJ4_putVal_222 (lv_at hl 0 rfl) ?_
        refine lv_ifnullN (tgt := 259) hx hb dJ4_putVal_224 (by decide) ?_
        exact W.widen (by decide) (by decide) (hjn _ _ _ _ hg ⟨D3, hNw, hno, lv_sub hl [5, 10] rfl⟩)
      have c_11 : (hm_sp (D.C y_10)) = (hm_sp c9) := (nx_eq rfl rfl (by omega) (by omega)).mp c_11
      have hce : D.C y_10 = c9 := hm_sp_inj (by have := hG.clt hmL; omega) (by omega) c_11
      refine lv_aload hx hb dJ4_putVal_72 (lv_at hl 0 rfl) ?_
      refine gh_getr (v := .ref (D.K y_10)) hC hg (hN y_10 hmL) (rfNJ4_170 (hG.len.2 y_10 hmL)) rfl dJ4_putVal_74 ?_
      refine lv_dup hx hb dJ4_putVal_77 rfl ?_
      refine lv_astore (lv' := [(11, .ref (D.K y_10)), (7, .ref y_10), (9, .int (nI i)), (8, .int (nI D.n)), (6, .ref D.tb), (0, .ref m), (1, .int (nI (hm_sp c9))), (2, .ref x), (3, .ref vv), (4, .int 0), (5, .int ev)]) hx hb dJ4_putVal_78 hl (by decide) rfl (fun ls hl => ?_)
      refine lv_aload_n hx hb dJ4_putVal_80 rfl (lv_at hl 7 rfl) ?_
      refine lv_acmp_eq (rx := (some (D.K y_10))) (ry := (some x)) (tgt := 97) hx hb dJ4_putVal_81 (by decide) (fun c_27 => ?_) (fun c_27 => ?_)
      · skip
        refine lv_aload hx hb dJ4_putVal_97 (lv_at hl 1 rfl) ?_
        refine lv_astore (lv' := [(10, .ref y_10), (11, .ref (D.K y_10)), (7, .ref y_10), (9, .int (nI i)), (8, .int (nI D.n)), (6, .ref D.tb), (0, .ref m), (1, .int (nI (hm_sp c9))), (2, .ref x), (3, .ref vv), (4, .int 0), (5, .int ev)]) hx hb dJ4_putVal_99 hl (by decide) rfl (fun ls hl => ?_)
        refine lv_goto (tgt := 222) hx hb dJ4_putVal_101 (by decide) ?_
        obtain ⟨gV, hgV⟩ : ∃ gV, gV = g := ⟨_, rfl⟩
        have hGV := hG
        rw [← hgV] at hGV
        have hfr : ∀ b9, b9 ≠ y_10 → g b9 = gV b9 := fun b9 _ => by rw [hgV]
        refine lv_aload hx hb dJ4_putVal_222 (lv_at hl 0 rfl) ?_
        refine lv_ifnull hx hb dJ4_putVal_224 ?_
        refine lv_aload hx hb dJ4_putVal_227 (lv_at hl 0 rfl) ?_
        refine gh_get (v := va_rf (D.v y_10)) hC hg (hN y_10 hmL) (fNJ4_162 (hG.len.2 y_10 hmL)) rfl dJ4_putVal_229 ?_
        refine lv_astoreQ (lv' := [(12, va_rf (D.v y_10)), (10, .ref y_10), (11, .ref (D.K y_10)), (7, .ref y_10), (9, .int (nI i)), (8, .int (nI D.n)), (6, .ref D.tb), (0, .ref m), (1, .int (nI (hm_sp c9))), (2, .ref x), (3, .ref vv), (4, .int 0), (5, .int ev)]) hx hb dJ4_putVal_232 hl (by decide) rfl (fun ls hl => ?_)
        refine lv_iload hx hb dJ4_putVal_234 (lv_at hl 11 rfl) ?_
        refine lv_if_eq (tgt := 244) hx hb dJ4_putVal_236 (by decide) (fun _ => ?_) (fun c_28 => (absurd ((nx_eq (show ((0 : Int32)) = nI 0 from rfl) (show ((0 : Int32)) = nI 0 from rfl) (by omega) (by omega)).mpr (by omega)) c_28))
        refine lv_aload hx hb dJ4_putVal_244 (lv_at hl 1 rfl) ?_
        refine lv_aload_n hx hb dJ4_putVal_246 rfl (lv_at hl 10 rfl) ?_
        refine gh_put (v := .ref vv) hC hg (hN y_10 hmL) (fNJ4_162 (hG.len.2 y_10 hmL)) rfl rfl (gh_len (by decide)) dJ4_putVal_247 (fun g H locs hg hw hn => ?_)
        have hm : g m = some ((o, k, 0), oo 13 [va_rf (hm_tab D), va_rf D.es, .int (nI D.L.length), .int D.mc, .int (nI D.th), .float 1061158912, va_rf D.ks, va_rf D.vs, va_rf (D.L.head?), va_rf (D.L.getLast?), .int 0, .int 0]) := (hn _ (gh_neI hm (hN y_10 hmL) rfl)).trans hm
        have htb : g D.tb = some ((o, k, 1), aq V 9 D.n D.T) := (hn _ (gh_neI htb (hN y_10 hmL) rfl)).trans htb
        have hfr : ∀ b9, b9 ≠ y_10 → g b9 = gV b9 := fun b9 h1 => (hn b9 h1).trans (hfr b9 h1)
        have hN : ∀ a, a ∈ D.L → g a = some ((o, k, 2), oo (D.ci a) (.int (nI (hm_sp (D.C a))) :: .ref (D.K a) :: va_rf ((va_up D.v y_10 (some vv)) a) :: va_rf (D.nx a) :: va_rf (pvL D.L a) :: va_rf (scL D.L a) :: D.ex a)) := by
          intro a ha
          by_cases e9 : a = y_10
          · rw [e9, va_up_self]; exact hw
          · rw [va_up_ne _ _ e9]; exact (hn _ e9).trans (hN a ha)
        obtain ⟨hG7, hF7⟩ := hGV.val (g1 := g) (y := some vv) hmL hN hfr
        refine lv_aload_n hx hb dJ4_putVal_250 rfl (lv_at hl 7 rfl) ?_
        refine lv_aload hx hb dJ4_putVal_251 (lv_at hl 1 rfl) ?_
        refine gh_callv hg (gh_runU (x := ⟨"java/util/HashMap", "afterNodeAccess", "(Ljava/util/HashMap$Node;)V"⟩) (C := "java/util/LinkedHashMap") (owner := "java/util/HashMap") (As := [.ref y_10]) (rest := []) hC hg (j_J5_afterNodeAccess l V _ o k m ck D.L.length (hd_val D y_10 (some vv)) none hG7 y_10) 1 (va_cwA 1 hts (lw_U q2274 q2276 q2278 q2277 q110 q2279) rfl rfl rfl (hC.2.2.1.1 _ (gh_nwm q2280 rfl)) hdF_HashMap_afterNodeAccess_1 ⟨Nat.le_of_ble_eq_true rfl, Nat.le_of_ble_eq_true rfl⟩) (gh_recv (C := "java/util/LinkedHashMap") hC hg hm rfl) rfl hl.1 rfl (Nat.le_of_ble_eq_true rfl) dJ4_putVal_253 ⟨Nat.le_of_ble_eq_true rfl, Nat.le_of_ble_eq_true rfl⟩) (fun g H locs hg hp => ?_)
        rw [hp] at hg
        refine lv_aloadQ hx hb dJ4_putVal_256 (lv_at hl 0 rfl) ?_
        exact gh_retq (r := (D.v y_10)) (Or.inl ⟨_, rfl⟩) hC hg hr hlk (⟨hd_val D y_10 (some vv), ⟨hG7, hI.2⟩, h9, (show gh_fk o k g0 gV from by rw [hgV, hgc]; exact gh_fk.rf).tr hF7, hm_M_val hmL hce hG.inj, (lm_get_some hmL hce hG.inj).symm⟩) dJ4_putVal_258 (Nat.le_of_ble_eq_true rfl) (Nat.le_of_ble_eq_true rfl)
      refine lv_aload_n hx hb dJ4_putVal_84 rfl (lv_at hl 7 rfl) ?_
      refine lv_ifnull hx hb dJ4_putVal_85 ?_
      refine lv_aload_n hx hb dJ4_putVal_88 rfl (lv_at hl 7 rfl) ?_
      refine lv_aload hx hb dJ4_putVal_89 (lv_at hl 0 rfl) ?_
      refine gh_keq4 hk9 (hG.ky y_10 hmL) hC hg hl.1 (Nat.le_of_ble_eq_true rfl) dJ4_putVal_91 ⟨Nat.le_of_ble_eq_true rfl, Nat.le_of_ble_eq_true rfl⟩ ⟨Nat.le_of_ble_eq_true rfl, Nat.le_of_ble_eq_true rfl⟩ (fun H locs hg => ?_)
      rw [if_pos (hce.symm)]
      refine lv_if_eq (tgt := 104) hx hb dJ4_putVal_94 (by decide) (fun c_30 => (absurd ((nx_eq (show ((1 : Int32)) = nI 1 from rfl) (show ((0 : Int32)) = nI 0 from rfl) (by omega) (by omega)).mp c_30) (by omega))) (fun _ => ?_)
      refine lv_aload hx hb dJ4_putVal_97 (lv_at hl 1 rfl) ?_
      refine lv_astore (lv' := [(10, .ref y_10), (11, .ref (D.K y_10)), (7, .ref y_10), (9, .int (nI i)), (8, .int (nI D.n)), (6, .ref D.tb), (0, .ref m), (1, .int (nI (hm_sp c9))), (2, .ref x), (3, .ref vv), (4, .int 0), (5, .int ev)]) hx hb dJ4_putVal_99 hl (by decide) rfl (fun ls hl => ?_)
      refine lv_goto (tgt := 222) hx hb dJ4_putVal_101 (by decide) ?_
      obtain ⟨gV, hgV⟩ : ∃ gV, gV = g := ⟨_, rfl⟩
      have hGV := hG
      rw [← hgV] at hGV
      have hfr : ∀ b9, b9 ≠ y_10 → g b9 = gV b9 := fun b9 _ => by rw [hgV]
      refine lv_aload hx hb dJ4_putVal_222 (lv_at hl 0 rfl) ?_
      refine lv_ifnull hx hb dJ4_putVal_224 ?_
      refine lv_aload hx hb dJ4_putVal_227 (lv_at hl 0 rfl) ?_
      refine gh_get (v := va_rf (D.v y_10)) hC hg (hN y_10 hmL) (fNJ4_162 (hG.len.2 y_10 hmL)) rfl dJ4_putVal_229 ?_
      refine lv_astoreQ (lv' := [(12, va_rf (D.v y_10)), (10, .ref y_10), (11, .ref (D.K y_10)), (7, .ref y_10), (9, .int (nI i)), (8, .int (nI D.n)), (6, .ref D.tb), (0, .ref m), (1, .int (nI (hm_sp c9))), (2, .ref x), (3, .ref vv), (4, .int 0), (5, .int ev)]) hx hb dJ4_putVal_232 hl (by decide) rfl (fun ls hl => ?_)
      refine lv_iload hx hb dJ4_putVal_234 (lv_at hl 11 rfl) ?_
      refine lv_if_eq (tgt := 244) hx hb dJ4_putVal_236 (by decide) (fun _ => ?_) (fun c_31 => (absurd ((nx_eq (show ((0 : Int32)) = nI 0 from rfl) (show ((0 : Int32)) = nI 0 from rfl) (by omega) (by omega)).mpr (by omega)) c_31))
      refine lv_aload hx hb dJ4_putVal_244 (lv_at hl 1 rfl) ?_
      refine lv_aload_n hx hb dJ4_putVal_246 rfl (lv_at hl 10 rfl) ?_
      refine gh_put (v := .ref vv) hC hg (hN y_10 hmL) (fNJ4_162 (hG.len.2 y_10 hmL)) rfl rfl (gh_len (by decide)) dJ4_putVal_247 (fun g H locs hg hw hn => ?_)
      have hm : g m = some ((o, k, 0), oo 13 [va_rf (hm_tab D), va_rf D.es, .int (nI D.L.length), .int D.mc, .int (nI D.th), .float 1061158912, va_rf D.ks, va_rf D.vs, va_rf (D.L.head?), va_rf (D.L.getLast?), .int 0, .int 0]) := (hn _ (gh_neI hm (hN y_10 hmL) rfl)).trans hm
      have htb : g D.tb = some ((o, k, 1), aq V 9 D.n D.T) := (hn _ (gh_neI htb (hN y_10 hmL) rfl)).trans htb
      have hfr : ∀ b9, b9 ≠ y_10 → g b9 = gV b9 := fun b9 h1 => (hn b9 h1).trans (hfr b9 h1)
      have hN : ∀ a, a ∈ D.L → g a = some ((o, k, 2), oo (D.ci a) (.int (nI (hm_sp (D.C a))) :: .ref (D.K a) :: va_rf ((va_up D.v y_10 (some vv)) a) :: va_rf (D.nx a) :: va_rf (pvL D.L a) :: va_rf (scL D.L a) :: D.ex a)) := by
        intro a ha
        by_cases e9 : a = y_10
        · rw [e9, va_up_self]; exact hw
        · rw [va_up_ne _ _ e9]; exact (hn _ e9).trans (hN a ha)
      obtain ⟨hG7, hF7⟩ := hGV.val (g1 := g) (y := some vv) hmL hN hfr
      refine lv_aload_n hx hb dJ4_putVal_250 rfl (lv_at hl 7 rfl) ?_
      refine lv_aload hx hb dJ4_putVal_251 (lv_at hl 1 rfl) ?_
      refine gh_callv hg (gh_runU (x := ⟨"java/util/HashMap", "afterNodeAccess", "(Ljava/util/HashMap$Node;)V"⟩) (C := "java/util/LinkedHashMap") (owner := "java/util/HashMap") (As := [.ref y_10]) (rest := []) hC hg (j_J5_afterNodeAccess l V _ o k m ck D.L.length (hd_val D y_10 (some vv)) none hG7 y_10) 1 (va_cwA 1 hts (lw_U q2274 q2276 q2278 q2277 q110 q2279) rfl rfl rfl (hC.2.2.1.1 _ (gh_nwm q2280 rfl)) hdF_HashMap_afterNodeAccess_1 ⟨Nat.le_of_ble_eq_true rfl, Nat.le_of_ble_eq_true rfl⟩) (gh_recv (C := "java/util/LinkedHashMap") hC hg hm rfl) rfl hl.1 rfl (Nat.le_of_ble_eq_true rfl) dJ4_putVal_253 ⟨Nat.le_of_ble_eq_true rfl, Nat.le_of_ble_eq_true rfl⟩) (fun g H locs hg hp => ?_)
      rw [hp] at hg
      refine lv_aloadQ hx hb dJ4_putVal_256 (lv_at hl 0 rfl) ?_
      exact gh_retq (r := (D.v y_10)) (Or.inl ⟨_, rfl⟩) hC hg hr hlk (⟨hd_val D y_10 (some vv), ⟨hG7, hI.2⟩, h9, (show gh_fk o k g0 gV from by rw [hgV, hgc]; exact gh_fk.rf).tr hF7, hm_M_val hmL hce hG.inj, (lm_get_some hmL hce hG.inj).symm⟩) dJ4_putVal_258 (Nat.le_of_ble_eq_true rfl) (Nat.le_of_ble_eq_true rfl)
    rw [hq_9] at hl
    have hl : lv_has ls 13 [(7, .null), (9, .int (nI i)), (8, .int (nI D.n)), (6, .ref D.tb), (0, .ref m), (1, .int (nI (hm_sp c9))), (2, .ref x), (3, .ref vv), (4, .int 0), (5, .int ev)] := hl
    have hB0 := rz_nil (hG.ch i hi) hq_9
    have hno : ∀ b, b ∈ D.L → D.C b ≠ c9 := hG.absent hi hie (fun a ha => by rw [hB0] at ha; cases ha)
    have hno1 := hno
    have hmd1 := hmd hno
    refine lv_aload hx hb dJ4_putVal_47 (lv_at hl 3 rfl) ?_
    refine lv_iload hx hb dJ4_putVal_49 (lv_at hl 1 rfl) ?_
    refine lv_aload_n hx hb dJ4_putVal_51 rfl (lv_at hl 4 rfl) ?_
    refine lv_iload_n hx hb dJ4_putVal_52 rfl (lv_at hl 5 rfl) ?_
    refine lv_aload_n hx hb dJ4_putVal_53 rfl (lv_at hl 6 rfl) ?_
    refine lv_aload_n hx hb dJ4_putVal_54 rfl (lv_at hl 7 rfl) ?_
    refine lv_null hx hb dJ4_putVal_55 ?_
    refine gh_callq hg (gh_runU (x := ⟨"java/util/HashMap", "newNode", "(ILjava/lang/Object;Ljava/lang/Object;Ljava/util/HashMap$Node;)Ljava/util/HashMap$Node;"⟩) (C := "java/util/LinkedHashMap") (owner := "java/util/HashMap") (As := [.int (nI (hm_sp c9)), .ref x, .ref vv, .null]) (rest := [.int (nI i), .ref D.tb]) hC hg (j_J5_newNode l V _ o k m ck x vv c9 D.L.length D hG hn0 hk9 hno1 (by omega) hmd1) 4 (va_cwA 4 hts (lw_U q2149 q2151 q2153 q2152 q110 q2154) rfl rfl rfl (hC.2.2.1.1 _ (gh_nwm q2159 rfl)) hdF_HashMap_newNode_4 ⟨Nat.le_of_ble_eq_true rfl, Nat.le_of_ble_eq_true rfl⟩) (gh_recv (C := "java/util/LinkedHashMap") hC hg hm rfl) rfl hl.1 rfl (Nat.le_of_ble_eq_true rfl) dJ4_putVal_56 ⟨Nat.le_of_ble_eq_true rfl, Nat.le_of_ble_eq_true rfl⟩) (fun r_32 g H locs hg hp => ?_)
    obtain ⟨q, rfl, hq0, hG2, hF2⟩ := hp
    have hqL : q ∉ D.L := fun e9 => by have h9 := hG.cn q e9; rw [hq0] at h9; cases h9
    have hM2 : hm_M (hd_app D q c9 x (some vv) none 14 []) = hm_M D ++ [(c9, x, some vv)] := hm_M_app hqL
    obtain ⟨D2, hD2⟩ : ∃ D2 : HD, D2 = hd_app D q c9 x (some vv) none 14 [] := ⟨_, rfl⟩
    rw [← hD2] at hG2 hM2
    have hn2 : D2.n = D.n := by rw [hD2]; rfl
    have htb2 : D2.tb = D.tb := by rw [hD2]; rfl
    have hT2 : D2.T = D.T := by rw [hD2]; rfl
    have hB2 : D2.B = D.B := by rw [hD2]; rfl
    have hnx2 : D2.nx = fuN D.nx q none := by rw [hD2]; rfl
    have hC2 : D2.C = fuN D.C q c9 := by rw [hD2]; rfl
    have hci2 : D2.ci = fuN D.ci q 14 := by rw [hD2]; rfl
    have hex2 : D2.ex = fuN D.ex q [] := by rw [hD2]; rfl
    have hL2 : D2.L = D.L ++ [q] := by rw [hD2]; rfl
    have hqm : q ∈ D2.L := by rw [hL2]; exact List.mem_append_right _ (List.mem_singleton.mpr rfl)
    have hn20 : D2.n ≠ 0 := by rw [hn2]; exact hn0
    have hqi : hm_sp (D2.C q) % D2.n = i := by rw [hC2, fuN_self, hn2]; exact hie
    have hq14 : D2.ci q = 14 ∧ D2.ex q = [] := by rw [hci2, hex2]; exact ⟨fuN_self, fuN_self⟩
    obtain ⟨gB, hgB⟩ : ∃ gB, gB = g := ⟨_, rfl⟩
    have hGB := hG2
    rw [← hgB] at hGB
    have hm := hG2.cm
    have htb := hG2.ct hn20
    have hN := hG2.cn
    rw [htb2] at htb
    have hfr : ∀ b, b ≠ D2.tb → b ∉ D2.L → g b = gB b := fun b _ _ => by rw [hgB]
    have hme : g m = gB m := by rw [hgB]
    have hmt : m ≠ D.tb := gh_neI hm htb rfl
    refine gh_qastO (n := D2.n) (f := D2.T) (r := (RJ36, TJ36, 6)) hC hg htb rfl (hN q hqm) (by rw [hq14.1]; rfl) (hC.2.2.1.1 _ (gh_nwm q4473 rfl)) rfl ((by rw [hn2]; exact hi)) (by omega) dJ4_putVal_59 (fun g H locs hg hw hn => ?_)
    have hm : g m = some ((o, k, 0), oo 13 [va_rf (hm_tab D2), va_rf D2.es, .int (nI D.L.length), .int D2.mc, .int (nI D2.th), .float 1061158912, va_rf D2.ks, va_rf D2.vs, va_rf (D2.L.head?), va_rf (D2.L.getLast?), .int 0, .int 0]) := (hn _ (gh_neI hm htb rfl)).trans hm
    have hN : ∀ a, a ∈ D2.L → g a = some ((o, k, 2), oo (D2.ci a) (.int (nI (hm_sp (D2.C a))) :: .ref (D2.K a) :: va_rf (D2.v a) :: va_rf (D2.nx a) :: va_rf (pvL D2.L a) :: va_rf (scL D2.L a) :: D2.ex a)) := fun a ha => (hn _ (gh_neI (hN a ha) htb rfl)).trans (hN a ha)
    have hfr : ∀ b, b ≠ D2.tb → b ∉ D2.L → g b = gB b := fun b h1 h2 => (hn b (by rw [htb2] at h1; exact h1)).trans (hfr b h1 h2)
    have hme : g m = gB m := (hn _ hmt).trans hme
    have htb : g D.tb = some ((o, k, 1), aq V 9 D2.n (va_up D2.T i (some q))) := hw
    refine lv_goto (tgt := 259) hx hb dJ4_putVal_60 (by decide) ?_
    have htb3 : g D2.tb = some ((o, k, 1), aq V 9 D2.n (va_up D2.T i (some q))) := by rw [htb2]; exact htb
    obtain ⟨hG6, hF6⟩ := hGB.inb (g1 := g) (nx := D2.nx) (T := (va_up D2.T i (some q))) hn20 hqi hqm hq14 (fun a ha => by rw [hB2, hB0] at ha; cases ha) (fun j9 h9 => va_up_ne _ _ h9) (fun _ _ _ _ => rfl) (by rw [hB2, hB0, va_up_self]; exact ⟨rfl, by rw [hnx2]; exact fuN_self⟩) hme htb3 hN hfr
    obtain ⟨D3, hD3⟩ : ∃ D3 : HD, D3 = hd_in D2 i q D2.nx (va_up D2.T i (some q)) := ⟨_, rfl⟩
    rw [← hD3] at hG6
    have hn3 : D3.n ≠ 0 := by rw [hD3]; exact hn20
    have hn3e : D3.n = D2.n := by rw [hD3]; rfl
    have hNw : hm_N V o k g0 g m ck D.L.length c9 x (some vv) D D3 := by
      refine ⟨hG6, by rw [hD3]; exact hM2, ⟨hn3, Nat.le_of_eq (hn3e.trans hn2).symm⟩, (show gh_fk o k g0 gB from by rw [hgB, ← hgg0]; exact hF2).tr hF6, fun h8 a ha => ?_⟩
      have ha : a ∈ D2.L := by rw [hD3] at ha; exact ha
      rw [hD3]; show D2.ci a = 14
      rw [hL2] at ha; rw [hci2]
      rcases List.mem_append.mp ha with ha | ha
      · rw [fuN_ne (hm_ne_last hqL ha)]; exact h9 h8 a ha
      · rw [List.mem_singleton.mp ha]; exact fuN_self
    exact W.widen (by decide) (by decide) (hjn _ _ _ _ hg ⟨D3, hNw, hno, lv_sub hl [4, 9] rfl⟩)
  obtain ⟨D3, hNw, hno, hl⟩ := hX
  have hn3 := hNw.2.2.1.1
  have hnle := hNw.2.2.1.2
  have hG3 := hNw.1
  have hl3 := hNw.len
  have hm := hG3.cm
  have hMb : hm_M D = hm_M D := rfl
  obtain ⟨g3, hg3⟩ : ∃ g3, g3 = g := ⟨_, rfl⟩
  have hfr : ∀ b, b ≠ m → g b = g3 b := fun b _ => by rw [hg3]
  obtain ⟨⟨j3, hj31, hj32, hj3⟩, hth3⟩ := hG3.pw hn3
  have hnl3 := hG3.nlt
  have hge2 := Nat.pow_le_pow_right (n := 2) (by decide) hj31
  refine lv_aload_n hx hb dJ4_putVal_259 rfl (lv_at hl 0 rfl) ?_
  refine lv_dup hx hb dJ4_putVal_260 rfl ?_
  refine gh_get (v := .int D3.mc) hC hg hm fJ4_202_13 rfl dJ4_putVal_261 ?_
  refine lv_iconst (v := 1) hx hb dJ4_putVal_264 (by decide) ?_
  refine lv_iadd hx hb dJ4_putVal_265 ?_
  refine gh_put (v := .int (D3.mc + 1)) hC hg hm fJ4_202_13 rfl rfl (Nat.le_of_ble_eq_true rfl) dJ4_putVal_266 (fun g H locs hg hw hn => ?_)
  have hfr : ∀ b, b ≠ m → g b = g3 b := fun b h1 => (hn b h1).trans (hfr b h1)
  have hm : g m = some ((o, k, 0), oo 13 [va_rf (hm_tab D3), va_rf D3.es, .int (nI D.L.length), .int (D3.mc + 1), .int (nI D3.th), .float 1061158912, va_rf D3.ks, va_rf D3.vs, va_rf (D3.L.head?), va_rf (D3.L.getLast?), .int 0, .int 0]) := hw
  refine lv_aload_n hx hb dJ4_putVal_269 rfl (lv_at hl 0 rfl) ?_
  refine lv_dup hx hb dJ4_putVal_270 rfl ?_
  refine gh_get (v := .int (nI D.L.length)) hC hg hm fJ4_156_13 rfl dJ4_putVal_271 ?_
  refine lv_iconst (v := 1) hx hb dJ4_putVal_274 (by decide) ?_
  refine lv_iadd hx hb dJ4_putVal_275 ?_
  refine lv_dup_x1 hx hb dJ4_putVal_276 rfl rfl ?_
  refine gh_put (v := .int ((nI D.L.length) + 1)) hC hg hm fJ4_156_13 rfl rfl (Nat.le_of_ble_eq_true rfl) dJ4_putVal_277 (fun g H locs hg hw hn => ?_)
  have hfr : ∀ b, b ≠ m → g b = g3 b := fun b h1 => (hn b h1).trans (hfr b h1)
  have hm : g m = some ((o, k, 0), oo 13 [va_rf (hm_tab D3), va_rf D3.es, .int ((nI D.L.length) + 1), .int (D3.mc + 1), .int (nI D3.th), .float 1061158912, va_rf D3.ks, va_rf D3.vs, va_rf (D3.L.head?), va_rf (D3.L.getLast?), .int 0, .int 0]) := hw
  rw [nI_1] at hm
  rw [← hg3] at hG3 hNw
  obtain ⟨hG4, hF4⟩ := hG3.szset (g1 := g) (sz1 := D.L.length + 1) (mc1 := (D3.mc + 1)) hm hfr
  obtain ⟨D4, hD4⟩ : ∃ D4 : HD, D4 = ((D3.1.1, D3.1.2.1, D3.1.2.2.1, (D3.mc + 1), D3.1.2.2.2.2), D3.2) := ⟨_, rfl⟩
  rw [← hD4] at hG4
  have hl4 : D4.L.length = D.L.length + 1 := by rw [hD4]; exact hl3
  have hM4 : hm_M D4 = hm_M D ++ [(c9, x, some vv)] := by rw [hD4, ← hMb]; exact hNw.2.1
  have h14 : ck = 9 → ∀ a, a ∈ D4.L → D4.ci a = 14 := by rw [hD4]; exact hNw.2.2.2.2
  have hn4 : D4.n = D3.n := by rw [hD4]
  have ht4 : D4.th = D3.th := by rw [hD4]
  have hF : gh_fk o k g0 g := hNw.2.2.2.1.tr hF4
  refine lv_aload_n hx hb dJ4_putVal_280 rfl (lv_at hl 0 rfl) ?_
  refine gh_get (v := .int (nI D3.th)) hC hg hm fJ4_88_13 rfl dJ4_putVal_281 ?_
  refine lv_icmp_le (tgt := 292) hx hb dJ4_putVal_284 (by decide) (fun c_33 => ?_) (fun c_33 => ?_)
  · skip
    have c_33 : (D.L.length + 1) ≤ D3.th := (nx_le (nx_add rfl (show ((1 : Int32)) = nI 1 from rfl)) rfl (by omega) (by omega)).mp c_33
    have hI5 : hm_I V o k g m ck D4 := ⟨by rw [hl4]; exact hG4, fun _ => by omega⟩
    refine lv_aload_n hx hb dJ4_putVal_292 rfl (lv_at hl 0 rfl) ?_
    refine lv_iload hx hb dJ4_putVal_293 (lv_at hl 1 rfl) ?_
    refine gh_callv hg (gh_runU (x := ⟨"java/util/HashMap", "afterNodeInsertion", "(Z)V"⟩) (C := "java/util/LinkedHashMap") (owner := "java/util/HashMap") (As := [.int ev]) (rest := []) hC hg (j_J5_afterNodeInsertion l V _ o k m ck (D.L.length + 1) D4 none hG4 ev) 1 (va_cwA 1 hts (lw_U q2281 q2283 q2285 q2284 q110 q2286) rfl rfl rfl (hC.2.2.1.1 _ (gh_nwm q2291 rfl)) hdF_HashMap_afterNodeInsertion_1 ⟨Nat.le_of_ble_eq_true rfl, Nat.le_of_ble_eq_true rfl⟩) (gh_recv (C := "java/util/LinkedHashMap") hC hg hm rfl) rfl hl.1 rfl (Nat.le_of_ble_eq_true rfl) dJ4_putVal_295 ⟨Nat.le_of_ble_eq_true rfl, Nat.le_of_ble_eq_true rfl⟩) (fun g H locs hg hp => ?_)
    rw [hp] at hg
    refine lv_null hx hb dJ4_putVal_298 ?_
    exact gh_retq (r := none) (Or.inl ⟨_, rfl⟩) hC hg hr hlk (⟨D4, hI5, h14, hF, by rw [hM4, lm_put_none hno], (lm_get_none hno).symm⟩) dJ4_putVal_299 (Nat.le_of_ble_eq_true rfl) (Nat.le_of_ble_eq_true rfl)
  have c_33 : ¬ (D.L.length + 1) ≤ D3.th := fun h9 => c_33 ((nx_le (nx_add rfl (show ((1 : Int32)) = nI 1 from rfl)) rfl (by omega) (by omega)).mpr h9)
  have h64 : D3.n ≤ 64 := hm_th64 hj32 hj3 (by omega)
  have hpl : ∀ a, a ∈ D4.L → D4.ci a = 14 := by
    rcases hck with h8 | h8
    · exact h14 h8
    · have h7 := h16.or h8
      rcases Nat.lt_or_ge D4.n 64 with h6 | h6
      · exact hG4.plain (by omega) h6
      · rcases h7 with h7 | ⟨b, h71, h72⟩
        · omega
        · exact absurd h72 (hno b h71)
  refine lv_aload_n hx hb dJ4_putVal_287 rfl (lv_at hl 0 rfl) ?_
  refine gh_callq hg (gh_runU (x := ⟨"java/util/HashMap", "resize", "()[Ljava/util/HashMap$Node;"⟩) (C := "java/util/LinkedHashMap") (owner := "java/util/HashMap") (As := []) (rest := []) hC hg (j_J4_resize l V _ o k m ck (D.L.length + 1) 128 D4 hG4 hpl (by omega) ⟨by omega, (fun e => by omega)⟩) 0 (va_cwU 0 hts (lw_U q1813 q1815 q1814 q1816 q109 q1817) rfl rfl rfl rfl hdF_HashMap_resize_0 ⟨Nat.le_of_ble_eq_true rfl, Nat.le_of_ble_eq_true rfl⟩) (gh_recv (C := "java/util/LinkedHashMap") hC hg hm rfl) rfl hl.1 rfl (Nat.le_of_ble_eq_true rfl) dJ4_putVal_288 ⟨Nat.le_of_ble_eq_true rfl, Nat.le_of_ble_eq_true rfl⟩) (fun r_34 g H locs hg hp => ?_)
  obtain ⟨D5, rfl, hG5, hR5, hF5⟩ := hp
  have hF : gh_fk o k g0 g := hF.tr hF5
  have hl5 : D5.L.length = D.L.length + 1 := by rw [show D5.L = D4.L from congrArg (fun z => z.1) hR5.2.2.1]; exact hl4
  have hM5 : hm_M D5 = hm_M D ++ [(c9, x, some vv)] := (hm_M_congr hR5.2.2.1).trans hM4
  have h145 : ck = 9 → ∀ a, a ∈ D5.L → D5.ci a = 14 := by rw [show D5.L = D4.L from congrArg (fun z => z.1) hR5.2.2.1, hR5.2.2.2.1]; exact h14
  have hn5 : D5.n = 2 * D4.n := hR5.2.1.trans (if_neg (by omega))
  have ht5 := (hG5.pw hR5.1).2
  obtain ⟨⟨j5, -, -, hj5⟩, -⟩ := hG4.pw (by omega)
  have hI5 : hm_I V o k g m ck D5 := ⟨by rw [hl5]; exact hG5, fun _ => by have h9 := (hG4.pw (by omega)).1; obtain ⟨j9, h91, -, h92⟩ := h9; have := Nat.pow_le_pow_right (n := 2) (by decide) h91; omega⟩
  refine lv_pop hx hb dJ4_putVal_291 rfl ?_
  refine lv_aload_n hx hb dJ4_putVal_292 rfl (lv_at hl 0 rfl) ?_
  refine lv_iload hx hb dJ4_putVal_293 (lv_at hl 1 rfl) ?_
  refine gh_callv hg (gh_runU (x := ⟨"java/util/HashMap", "afterNodeInsertion", "(Z)V"⟩) (C := "java/util/LinkedHashMap") (owner := "java/util/HashMap") (As := [.int ev]) (rest := []) hC hg (j_J5_afterNodeInsertion l V _ o k m ck (D.L.length + 1) D5 none hG5 ev) 1 (va_cwA 1 hts (lw_U q2281 q2283 q2285 q2284 q110 q2286) rfl rfl rfl (hC.2.2.1.1 _ (gh_nwm q2291 rfl)) hdF_HashMap_afterNodeInsertion_1 ⟨Nat.le_of_ble_eq_true rfl, Nat.le_of_ble_eq_true rfl⟩) (gh_recv (C := "java/util/LinkedHashMap") hC hg hG5.cm rfl) rfl hl.1 rfl (Nat.le_of_ble_eq_true rfl) dJ4_putVal_295 ⟨Nat.le_of_ble_eq_true rfl, Nat.le_of_ble_eq_true rfl⟩) (fun g H locs hg hp => ?_)
  rw [hp] at hg
  refine lv_null hx hb dJ4_putVal_298 ?_
  exact gh_retq (r := none) (Or.inl ⟨_, rfl⟩) hC hg hr hlk (⟨D5, hI5, h145, hF, by rw [hM5, lm_put_none hno], (lm_get_none hno).symm⟩) dJ4_putVal_299 (Nat.le_of_ble_eq_true rfl) (Nat.le_of_ble_eq_true rfl)
