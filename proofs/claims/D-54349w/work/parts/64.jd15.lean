section GhLoopC
variable {V : gh_V} {p : Program} {l : Launch} {e : Env} {R : Room} {s : State} {m : MethodId} {args : Array Value} {below : List Frame} {meth : Method} {c : Code} {H : Heap} {locs : List Loc} {cells slots : Nat} {Q : State → Prop} {A : Nat → Prop} {g : gh_G} {pc : Nat} {ls : Array Slot} {st : List Value}
/-- a loop whose every turn makes cells -/
theorem gh_loopC {N : Nat} (c0 s0 dc ds : Nat) (X : Nat → gh_G → Array Slot → Prop)
    (hexit : ∀ (g : gh_G) (H : Heap) (locs : List Loc) (ls : Array Slot), gh_W V A s g H locs → X N g ls → W p l e R s m args below meth c H locs (c0 + N * dc) (s0 + N * ds) Q (F0 m pc ls st))
    (hstep : ∀ i, i < N → (∀ (g : gh_G) (H : Heap) (locs : List Loc) (ls : Array Slot), gh_W V A s g H locs → X (i + 1) g ls → W p l e R s m args below meth c H locs (c0 + (i + 1) * dc) (s0 + (i + 1) * ds) Q (F0 m pc ls st)) →
      ∀ (g : gh_G) (H : Heap) (locs : List Loc) (ls : Array Slot), gh_W V A s g H locs → X i g ls → W p l e R s m args below meth c H locs (c0 + i * dc) (s0 + i * ds) Q (F0 m pc ls st))
    (hc : cells ≤ c0) (hs : slots ≤ s0) (hg : gh_W V A s g H locs) (hX : X 0 g ls) : W p l e R s m args below meth c H locs cells slots Q (F0 m pc ls st) := by
  have key : ∀ n i, i + n = N → ∀ (g : gh_G) (H : Heap) (locs : List Loc) (ls : Array Slot), gh_W V A s g H locs → X i g ls → W p l e R s m args below meth c H locs (c0 + i * dc) (s0 + i * ds) Q (F0 m pc ls st) := by
    intro n
    induction n with
    | zero =>
      intro i hi g H locs ls hg hX
      have hi : i = N := hi
      subst hi
      exact hexit g H locs ls hg hX
    | succ n ih =>
      intro i hi g H locs ls hg hX
      exact hstep i (by omega) (ih (i + 1) (by omega)) g H locs ls hg hX
  exact W.widen (by rw [Nat.zero_mul]; omega) (by rw [Nat.zero_mul]; omega) (key N 0 (by omega) g H locs ls hg hX)
end GhLoopC
/-- frame: all cells but those of two owners' kinds -/
def gh_f2 (o1 k1 o k : Nat) (g g1 : gh_G) : Prop := ∀ a t x, g a = some (t, x) → ¬ (t.1 = o1 ∧ t.2.1 = k1) → ¬ (t.1 = o ∧ t.2.1 = k) → g1 a = some (t, x)
theorem gh_f2.rf {o1 k1 o k : Nat} {g : gh_G} : gh_f2 o1 k1 o k g g := fun _ _ _ h _ _ => h
theorem gh_f2.a {o1 k1 o k : Nat} {g g1 g2 : gh_G} (h : gh_f2 o1 k1 o k g g1) (h2 : gh_fk o1 k1 g1 g2) : gh_f2 o1 k1 o k g g2 := fun a t x q n n2 => h2 a t x (h a t x q n n2) n
theorem gh_f2.b {o1 k1 o k : Nat} {g g1 g2 : gh_G} (h : gh_f2 o1 k1 o k g g1) (h2 : gh_fk o k g1 g2) : gh_f2 o1 k1 o k g g2 := fun a t x q n n2 => h2 a t x (h a t x q n n2) n2
theorem gh_f2.tr {o1 k1 o k : Nat} {g g1 g2 : gh_G} (h : gh_f2 o1 k1 o k g g1) (h2 : gh_f2 o1 k1 o k g1 g2) : gh_f2 o1 k1 o k g g2 := fun a t x q n n2 => h2 a t x (h a t x q n n2) n n2
theorem gh_f2.fo {o1 k1 o k : Nat} {g g1 : gh_G} (h : gh_f2 o1 k1 o k g g1) (e : o1 = o) : gh_fo o g g1 := fun a t x q n => h a t x q (fun u => n (u.1.trans e)) (fun u => n u.1)
theorem lm_D.fk2 {V : gh_V} {o1 k1 o k : Nat} {g g1 : gh_G} {m1 ck : Nat} {D1 : HD} (h : lm_D V o1 k1 g m1 ck D1) (hne : ¬ (o1 = o ∧ k1 = k)) (hk : 10 ≤ k) (hf : gh_fk o k g g1) : lm_D V o1 k1 g1 m1 ck D1 :=
  h.keep (fun a t x ha hc => hf a t x ha (fun e => by
    rcases hc with ⟨h1, h2⟩ | ⟨h1, -⟩
    · exact hne ⟨h1.symm.trans e.1, h2.symm.trans e.2⟩
    · omega))
theorem it_P.fk2 {o1 k1 o k : Nat} {g g1 : gh_G} {it m : Nat} {D : HD} {ci i : Nat} (h : it_P o1 k1 g it m D ci i) (hne : ¬ (o1 = o ∧ k1 = k)) (hf : gh_fk o k g g1) : it_P o1 k1 g1 it m D ci i := by
  obtain ⟨cur, h⟩ := h
  exact ⟨cur, hf _ _ _ h hne⟩
theorem it_P.fk {o1 k1 : Nat} {g g1 : gh_G} {it m : Nat} {D : HD} {ci i : Nat} (h : it_P o1 k1 g it m D ci i) (hf : ∀ b, b ≠ it → g1 b = g b) : gh_fk o1 k1 g g1 := by
  obtain ⟨cur, h⟩ := h
  intro a t x ha ht
  rw [hf a (fun e => by rw [e, h] at ha; cases ha; exact ht ⟨rfl, rfl⟩)]; exact ha
theorem lm_take {D : HD} (hnd : D.L.Nodup) (hinj : ∀ a, a ∈ D.L → ∀ b, b ∈ D.L → D.C a = D.C b → a = b) {i : Nat} (hi : i < D.L.length) : lm_put ((hm_M D).take i) (D.C D.L[i]) (D.K D.L[i]) (D.v D.L[i]) = (hm_M D).take (i + 1) := by
  have h1 : D.L = D.L.take i ++ D.L[i] :: D.L.drop (i + 1) := by rw [List.getElem_cons_drop, List.take_append_drop]
  have hno : ((hm_M D).take i).any (fun e => e.1 == D.C D.L[i]) = false := by
    rw [List.any_eq_false]
    intro e he
    have he : e ∈ (D.L.take i).map (fun a => (D.C a, D.K a, D.v a)) := by rw [List.map_take]; exact he
    obtain ⟨a, ha, rfl⟩ := List.mem_map.mp he
    intro h2
    have h2 : D.C a = D.C D.L[i] := by simpa using h2
    have h3 := hinj a (List.mem_of_mem_take ha) _ (List.getElem_mem hi) h2
    have hn2 := hnd
    rw [h1] at hn2
    exact (List.nodup_append.mp hn2).2.2 a ha _ List.mem_cons_self h3
  unfold lm_put
  rw [if_neg (by rw [hno]; decide)]
  have hiM : i < (hm_M D).length := by rw [hm_M_len]; exact hi
  rw [List.take_succ_eq_append_getElem hiM]
  rw [show (hm_M D)[i] = (D.C D.L[i], D.K D.L[i], D.v D.L[i]) by simp [hm_M]]
theorem cl_nn : ∀ n, n < 64 → vf_n64 (cl_Q n) := by
  unfold vf_n64 cl_Q
  decide +kernel
theorem f2d_75 : FP.f2d 1061158912 = 0x3FE8000000000000 := by decide +kernel
theorem cl_eq (n : Nat) : FP.ddiv (FP.i2d (nI n)) (FP.f2d 1061158912) = cl_Q n := by rw [f2d_75]; rfl
theorem gh_castME {V : gh_V} {p : Program} {l : Launch} {e : Env} {R : Room} {s : State} {m : MethodId} {args : Array Value} {below : List Frame} {meth : Method} {c : Code} {H : Heap} {locs : List Loc} {cells slots : Nat} {Q : State → Prop} {cc : ByteArray} {nL : Nat} {own : String} {A : Nat → Prop} {g : gh_G} {pc : Nat} {ls : Array Slot} {rest : List Value} (hC : gh_C V p s m args c cc nL own A) (hg : gh_W V A s g H locs) {index a : Nat} {t : gh_T} {cq : Nat} {fs : List Value} (hcq : cq = 14 ∨ cq = 15) (ha : g a = some (t, oo cq fs)) (hlink : Cond.classLink own index "java/util/Map$Entry" ∈ lw_all) (hdg : decode cc pc = .ok (.checkcast index, 3))
    (kk : W p l e R s m args below meth c H locs cells slots Q (F0 m (pc + 3) ls (.ref a :: rest))) : W p l e R s m args below meth c H locs cells slots Q (F0 m pc ls (.ref a :: rest)) := by
  rcases hcq with rfl | rfl
  · exact gh_castY (C := "java/util/LinkedHashMap$Entry") hC hg ha rfl hlink q2947 hdg kk
  · exact gh_castY (C := "java/util/HashMap$TreeNode") hC hg ha rfl hlink q2944 hdg kk
/-! sets -/
def st_any (S : List (Nat × Nat)) (c : Nat) : Bool := S.any (fun e => e.1 == c)
def st_add (S : List (Nat × Nat)) (c x : Nat) : List (Nat × Nat) := if st_any S c then S else S ++ [(c, x)]
abbrev st_M (V : gh_V) (S : List (Nat × Nat)) : List (Nat × Nat × Option Nat) := S.map (fun e => (e.1, e.2, some (V.2.2 1)))
theorem st_any_M {V : gh_V} {S : List (Nat × Nat)} {c : Nat} : (st_M V S).any (fun e => e.1 == c) = st_any S c := by
  unfold st_M st_any
  rw [List.any_map]; rfl
theorem st_put {V : gh_V} {S : List (Nat × Nat)} {c x : Nat} : lm_put (st_M V S) c x (some (V.2.2 1)) = st_M V (st_add S c x) := by
  unfold lm_put st_add
  rw [st_any_M]
  split
  · unfold st_M
    rw [List.map_map]
    apply List.map_congr_left
    intro e he
    show (if e.1 = c then _ else _) = _
    split <;> rfl
  · unfold st_M
    rw [List.map_append]; rfl
theorem st_put_len {S : List (Nat × Nat)} {c x : Nat} : (st_add S c x).length ≤ S.length + 1 := by
  unfold st_add
  split
  · omega
  · simp
theorem st_M_inj {V : gh_V} {S S1 : List (Nat × Nat)} (h : st_M V S = st_M V S1) : S = S1 := by
  have h2 := congrArg (fun M => M.map (fun e : Nat × Nat × Option Nat => (e.1, e.2.1))) h
  simpa [st_M, List.map_map, Function.comp_def] using h2
theorem hM_len2 {D D1 : HD} (h : hm_M D = hm_M D1) : (hm_M D1).length = D.L.length := by rw [← h, hm_M_len]
theorem it_P.ne9 {V : gh_V} {o k : Nat} {g g1 : gh_G} {it m ck : Nat} {D : HD} {ci i : Nat} (h : it_P o k g1 it m D ci i) (h0 : g it = none) (hD : lm_D V o k g m ck D) (hf : ∀ b, b ≠ it → g1 b = g b) : lm_D V o k g1 m ck D :=
  hD.keep (fun a t x ha _ => by rw [hf a (fun e => by rw [e, h0] at ha; cases ha)]; exact ha)
set_option maxRecDepth 100000
theorem hdF_Iterator_hasNext_0 : (⟨"java/util/Iterator", "hasNext", "()Z"⟩ : MethodName).cls ≠ "java/lang/invoke/MethodHandle" ∧ (⟨"java/util/Iterator", "hasNext", "()Z"⟩ : MethodName).cls ≠ "java/lang/invoke/VarHandle" ∧ (parseMethodDescriptor (⟨"java/util/Iterator", "hasNext", "()Z"⟩ : MethodName).desc).map (fun d => d.parameters.length) = some 0 := by decide +kernel
theorem hdF_Iterator_next_0 : (⟨"java/util/Iterator", "next", "()Ljava/lang/Object;"⟩ : MethodName).cls ≠ "java/lang/invoke/MethodHandle" ∧ (⟨"java/util/Iterator", "next", "()Ljava/lang/Object;"⟩ : MethodName).cls ≠ "java/lang/invoke/VarHandle" ∧ (parseMethodDescriptor (⟨"java/util/Iterator", "next", "()Ljava/lang/Object;"⟩ : MethodName).desc).map (fun d => d.parameters.length) = some 0 := by decide +kernel
theorem hdF_Map_entrySet_0 : (⟨"java/util/Map", "entrySet", "()Ljava/util/Set;"⟩ : MethodName).cls ≠ "java/lang/invoke/MethodHandle" ∧ (⟨"java/util/Map", "entrySet", "()Ljava/util/Set;"⟩ : MethodName).cls ≠ "java/lang/invoke/VarHandle" ∧ (parseMethodDescriptor (⟨"java/util/Map", "entrySet", "()Ljava/util/Set;"⟩ : MethodName).desc).map (fun d => d.parameters.length) = some 0 := by decide +kernel
theorem hdF_Map_size_0 : (⟨"java/util/Map", "size", "()I"⟩ : MethodName).cls ≠ "java/lang/invoke/MethodHandle" ∧ (⟨"java/util/Map", "size", "()I"⟩ : MethodName).cls ≠ "java/lang/invoke/VarHandle" ∧ (parseMethodDescriptor (⟨"java/util/Map", "size", "()I"⟩ : MethodName).desc).map (fun d => d.parameters.length) = some 0 := by decide +kernel
theorem hdF_Set_iterator_0 : (⟨"java/util/Set", "iterator", "()Ljava/util/Iterator;"⟩ : MethodName).cls ≠ "java/lang/invoke/MethodHandle" ∧ (⟨"java/util/Set", "iterator", "()Ljava/util/Iterator;"⟩ : MethodName).cls ≠ "java/lang/invoke/VarHandle" ∧ (parseMethodDescriptor (⟨"java/util/Set", "iterator", "()Ljava/util/Iterator;"⟩ : MethodName).desc).map (fun d => d.parameters.length) = some 0 := by decide +kernel
set_option maxHeartbeats 1000000 in
set_option maxRecDepth 100000 in
theorem j_J4_calculateHashMapCapacity (l : Launch) (V : gh_V) (g0 : gh_G) (hCE : ce_S l) (n9 : Nat) (hn1 : 1 ≤ n9) (hn63 : n9 ≤ 63) : MI l yJ4_calculateHashMapCapacity cJ4_calculateHashMapCapacity 1 (some .int) ({ frames := 5, cells := 0, slots := 0, locals := 1300 } : Room) V [.int (nI n9)] g0 (fun r g1 => r = nI ((4 * n9 + 2) / 3) ∧ g1 = g0) := by
  refine MG.of RJ4 (by decide) rfl (Nat.le_of_ble_eq_true rfl) (fun pp ee s mm args below meth c ls hC hg hr hlk hnm hl => ?_)
  have hx := hC.1.1
  have hb := hC.1.2.1
  have hml := hC.1.2.2.1
  have hown := hC.1.2.2.2.1
  have hts := hC.1.2.2.2.2
  have hl : lv_has ls 1 [(0, .int (nI n9))] := hl
  obtain ⟨g, hg, hgg⟩ : ∃ g, gh_W V (gh_A g0 s.heap.size) s g s.heap [] ∧ g = g0 := ⟨g0, hg, rfl⟩
  refine lv_iload_n hx hb dJ4_calculateHashMapCapacity_0 rfl (lv_at hl 0 rfl) ?_
  refine lv_i2d hx hb dJ4_calculateHashMapCapacity_1 ?_
  refine lv_ldc2d (v := 4604930618986332160) hx hb hown (hts _ q3159) dJ4_calculateHashMapCapacity_2 ?_
  refine lv_ddiv hx hb dJ4_calculateHashMapCapacity_5 (cl_nn n9 (by omega)) ?_
  refine W.eq (g2 := F0 mm 6 ls [.double (cl_Q n9)]) rfl ?_
  refine hCE V _ _ _ _ _ _ _ _ _ _ _ _ _ _ _ _ _ _ _ _ _ _ _ n9 (by omega) (by omega) hC hg hl.1 q2876 dJ4_calculateHashMapCapacity_6 (Nat.le_of_ble_eq_true rfl) ⟨Nat.le_of_ble_eq_true rfl, Nat.le_of_ble_eq_true rfl⟩ ⟨Nat.le_of_ble_eq_true rfl, Nat.le_of_ble_eq_true rfl⟩ (fun r9 H locs hc9 hg => ?_)
  refine lv_d2i hx hb dJ4_calculateHashMapCapacity_9 ?_
  refine W.eq (g2 := F0 mm 10 ls [.int (nI ((4 * n9 + 2) / 3))]) (by rw [hc9.1] <;> rfl) ?_
  exact gh_reti hC hg hr hlk (⟨rfl, hgg⟩) dJ4_calculateHashMapCapacity_10 (Nat.le_of_ble_eq_true rfl) (Nat.le_of_ble_eq_true rfl)
set_option maxHeartbeats 2000000 in
set_option maxRecDepth 100000 in
theorem j_J4_putMapEntries (l : Launch) (V : gh_V) (g0 : gh_G) (hTR : tr_S l V) (hCE : ce_S l) (o k m ck o1 k1 m1 : Nat) (ev : Int32) (D1 : HD) (hD1 : lm_D V o1 k1 g0 m1 ck D1) (hne : ¬ (o1 = o ∧ k1 = k)) (hk : 10 ≤ k) (hk1 : 10 ≤ k1) (hck : ck = 9 ∨ ck = 10) (hvals : ∀ e, e ∈ hm_M D1 → ∃ y, e.2.2 = some y) (h63 : (hm_M D1).length < 63) (h16 : ck = 10 → (hm_M D1).length ≤ 16) (hm : g0 m = some ((o, k, 0), oo 13 [.null, .null, .int 0, .int 0, .int 0, .float 1061158912, .null, .null, .null, .null, .int 0, .int 0])) : MV l yJ4_putMapEntries cJ4_putMapEntries 8 ({ frames := 10, cells := (2 + (hm_M D1).length * 20), slots := (7 + (hm_M D1).length * 200), locals := 1300 } : Room) V [.ref m, .ref m1, .int ev] g0 (fun g1 => lm_P V o k g1 m ck (hm_M D1) ∧ (∃ D2 : HD, lm_D V o1 k1 g1 m1 ck D2 ∧ D2.2 = D1.2) ∧ gh_f2 o1 k1 o k g0 g1) := by
  refine MG.of RJ4 (by decide) rfl (Nat.le_of_ble_eq_true rfl) (fun pp ee s mm args below meth c ls hC hg hr hlk hnm hl => ?_)
  have hx := hC.1.1
  have hb := hC.1.2.1
  have hml := hC.1.2.2.1
  have hown := hC.1.2.2.2.1
  have hts := hC.1.2.2.2.2
  have hl : lv_has ls 8 [(0, .ref m), (1, .ref m1), (2, .int ev)] := hl
  obtain ⟨g, hg, hgg⟩ : ∃ g, gh_W V (gh_A g0 s.heap.size) s g s.heap [] ∧ g = g0 := ⟨g0, hg, rfl⟩
  rw [← hgg] at hm hD1
  have hF : gh_f2 o1 k1 o k g0 g := by rw [hgg]; exact gh_f2.rf
  have hm1 := hD1.1.1.cm
  have hm1 := (hD1).1.1.cm
  obtain ⟨N, hN⟩ : ∃ N, (hm_M D1).length = N := ⟨_, rfl⟩
  have hN63 : N < 63 := by omega
  refine lv_aload_n hx hb dJ4_putMapEntries_0 rfl (lv_at hl 1 rfl) ?_
  refine gh_callFi hg (gh_runF (x := ⟨"java/util/Map", "size", "()I"⟩) (As := []) (rest := []) hC hg (j_J4_size l V _ o1 k1 m1 ck D1 hD1) 0 (lw_F q2875 q1308 q1306 q109 q1310) hm1 rfl (by decide +kernel) q1309 q1307 q1305 hdF_Map_size_0 ⟨(by first | exact Nat.le_of_ble_eq_true rfl | omega | (dsimp only; omega)), (by first | exact Nat.le_of_ble_eq_true rfl | omega | (dsimp only; omega))⟩ rfl hl.1 rfl ((by first | exact Nat.le_of_ble_eq_true rfl | omega | (dsimp only; omega))) dJ4_putMapEntries_1 ⟨(by first | exact Nat.le_of_ble_eq_true rfl | omega | (dsimp only; omega)), (by first | exact Nat.le_of_ble_eq_true rfl | omega | (dsimp only; omega))⟩) (fun r_1 g H locs hg hp => ?_)
  obtain ⟨hp, hq⟩ := hp
  replace hp : (nI (hm_M D1).length) = r_1 := hp.symm
  subst hp
  rw [hq] at hg
  refine W.eq (g2 := F0 mm 6 ls [.int (nI N)]) (by rw [(congrArg nI hN : _ = nI N)] <;> rfl) ?_
  refine lv_istore_n (lv' := [(3, .int (nI N)), (0, .ref m), (1, .ref m1), (2, .int ev)]) hx hb dJ4_putMapEntries_6 rfl hl (by decide) rfl (fun ls hl => ?_)
  refine lv_iload_n hx hb dJ4_putMapEntries_7 rfl (lv_at hl 0 rfl) ?_
  refine lv_if_le (tgt := 169) hx hb dJ4_putMapEntries_8 (by decide) (fun c_2 => ?_) (fun c_2 => ?_)
  · skip
    have c_2 : N ≤ 0 := (nx_le rfl (show ((0 : Int32)) = nI 0 from rfl) (by omega) (by omega)).mp c_2
    have hM0 : hm_M D1 = [] := List.eq_nil_of_length_eq_zero (by omega)
    exact gh_retv hC hg hr hlk (⟨by obtain ⟨D, h1, h2, -, -⟩ := hm_new hm hk hck (Or.inl rfl); exact ⟨D, h1, h2.trans hM0.symm⟩, ⟨D1, hD1, rfl⟩, hF⟩) dJ4_putMapEntries_169 ((by first | exact Nat.le_of_ble_eq_true rfl | omega | (dsimp only; omega))) ((by first | exact Nat.le_of_ble_eq_true rfl | omega | (dsimp only; omega)))
  have c_2 : ¬ N ≤ 0 := fun h9 => c_2 ((nx_le rfl (show ((0 : Int32)) = nI 0 from rfl) (by omega) (by omega)).mpr h9)
  refine lv_aload_n hx hb dJ4_putMapEntries_11 rfl (lv_at hl 1 rfl) ?_
  refine gh_get (v := .null) hC hg hm fJ4_105_13 rfl dJ4_putMapEntries_12 ?_
  refine lv_ifnonnullN hx hb dJ4_putMapEntries_15 ?_
  refine lv_iload_n hx hb dJ4_putMapEntries_18 rfl (lv_at hl 0 rfl) ?_
  refine lv_i2d hx hb dJ4_putMapEntries_19 ?_
  refine lv_aload_n hx hb dJ4_putMapEntries_20 rfl (lv_at hl 1 rfl) ?_
  refine gh_get (v := .float 1061158912) hC hg hm fJ4_81_13 rfl dJ4_putMapEntries_21 ?_
  refine lv_f2d hx hb dJ4_putMapEntries_24 (by rw [f2d_75]; unfold vf_n64; decide +kernel) ?_
  refine lv_ddiv hx hb dJ4_putMapEntries_25 (by rw [cl_eq]; exact cl_nn N (by omega)) ?_
  refine W.eq (g2 := F0 mm 26 ls [.double (cl_Q N)]) (by rw [cl_eq N] <;> rfl) ?_
  refine hCE V _ _ _ _ _ _ _ _ _ _ _ _ _ _ _ _ _ _ _ _ _ _ _ N (by omega) (by omega) hC hg hl.1 q2876 dJ4_putMapEntries_26 ((by first | exact Nat.le_of_ble_eq_true rfl | omega | (dsimp only; omega))) ⟨(by first | exact Nat.le_of_ble_eq_true rfl | omega | (dsimp only; omega)), (by first | exact Nat.le_of_ble_eq_true rfl | omega | (dsimp only; omega))⟩ ⟨(by first | exact Nat.le_of_ble_eq_true rfl | omega | (dsimp only; omega)), (by first | exact Nat.le_of_ble_eq_true rfl | omega | (dsimp only; omega))⟩ (fun r9 H locs hc9 hg => ?_)
  refine lv_dstore (lv' := [(4, .double r9), (3, .int (nI N)), (0, .ref m), (1, .ref m1), (2, .int ev)]) hx hb dJ4_putMapEntries_29 hl (by decide) rfl (fun ls hl => ?_)
  refine lv_dload hx hb dJ4_putMapEntries_31 (lv_at hl 0 rfl) ?_
  refine lv_ldc2d (v := 4742290407621132288) hx hb hown (hts _ q2902) dJ4_putMapEntries_33 ?_
  refine lv_dcmp hx hb dJ4_putMapEntries_36 ?_
  refine W.eq (g2 := F0 mm 37 ls [.int (-1)]) (by rw [hc9.2] <;> rfl) ?_
  refine lv_if_ge (tgt := 46) hx hb dJ4_putMapEntries_37 (by decide) (fun c_3 => (absurd c_3 (by decide))) (fun _ => ?_)
  refine lv_dload hx hb dJ4_putMapEntries_40 (lv_at hl 0 rfl) ?_
  refine lv_d2i hx hb dJ4_putMapEntries_42 ?_
  refine W.eq (g2 := F0 mm 43 ls [.int (nI ((4 * N + 2) / 3))]) (by rw [hc9.1] <;> rfl) ?_
  refine lv_goto (tgt := 48) hx hb dJ4_putMapEntries_43 (by decide) ?_
  refine lv_istore (lv' := [(6, .int (nI ((4 * N + 2) / 3))), (4, .double r9), (3, .int (nI N)), (0, .ref m), (1, .ref m1), (2, .int ev)]) hx hb dJ4_putMapEntries_48 hl (by decide) rfl (fun ls hl => ?_)
  refine lv_iload hx hb dJ4_putMapEntries_50 (lv_at hl 0 rfl) ?_
  refine lv_aload_n hx hb dJ4_putMapEntries_52 rfl (lv_at hl 3 rfl) ?_
  refine gh_get (v := .int 0) hC hg hm fJ4_88_13 rfl dJ4_putMapEntries_53 ?_
  refine lv_icmp_le (tgt := 68) hx hb dJ4_putMapEntries_56 (by decide) (fun c_4 => (absurd ((nx_le rfl (show ((0 : Int32)) = nI 0 from rfl) (by omega) (by omega)).mp c_4) (by omega))) (fun _ => ?_)
  refine lv_aload_n hx hb dJ4_putMapEntries_59 rfl (lv_at hl 3 rfl) ?_
  refine lv_iload hx hb dJ4_putMapEntries_60 (lv_at hl 0 rfl) ?_
  refine gh_calli hg (gh_runS (As := [.int (nI ((4 * N + 2) / 3))]) (rest := [.ref m]) hC hg (j_J4_tableSizeFor l V _ ((4 * N + 2) / 3) (by omega) (by omega)) 1 (lw_S q1136 q1137 q109 q1138) hd_J4_tableSizeFor.2 ⟨(by first | exact Nat.le_of_ble_eq_true rfl | omega | (dsimp only; omega)), (by first | exact Nat.le_of_ble_eq_true rfl | omega | (dsimp only; omega))⟩ rfl hl.1 rfl ((by first | exact Nat.le_of_ble_eq_true rfl | omega | (dsimp only; omega))) dJ4_putMapEntries_62 ⟨(by first | exact Nat.le_of_ble_eq_true rfl | omega | (dsimp only; omega)), (by first | exact Nat.le_of_ble_eq_true rfl | omega | (dsimp only; omega))⟩) (fun r_5 g H locs hg hp => ?_)
  obtain ⟨hp, hq⟩ := hp
  replace hp : (nI (tsf ((4 * N + 2) / 3))) = r_5 := hp.symm
  subst hp
  rw [hq] at hg
  refine gh_put (v := .int (nI (tsf ((4 * N + 2) / 3)))) hC hg hm fJ4_88_13 rfl rfl ((by first | exact Nat.le_of_ble_eq_true rfl | omega | (dsimp only; omega))) dJ4_putMapEntries_65 (fun g H locs hg hw hn => ?_)
  have hm1 : g m1 = some ((o1, k1, 0), oo 13 [va_rf (hm_tab D1), va_rf D1.es, .int (nI D1.L.length), .int D1.mc, .int (nI D1.th), .float 1061158912, va_rf D1.ks, va_rf D1.vs, va_rf (D1.L.head?), va_rf (D1.L.getLast?), .int 0, .int 0]) := (hn _ (fun e9 => hne (by have h9 := hm1; rw [e9, hm] at h9; have h8 := congrArg Prod.fst (Option.some.inj h9); cases h8; exact ⟨rfl, rfl⟩))).trans hm1
  have hF : gh_f2 o1 k1 o k g0 g := hF.b (gh_fk.rf.set hm hn)
  have hD1 : lm_D V o1 k1 g m1 ck D1 := hD1.fk2 (hne) hk (gh_fk.rf.set hm hn)
  have hm : g m = some ((o, k, 0), oo 13 [.null, .null, .int 0, .int 0, .int (nI (tsf ((4 * N + 2) / 3))), .float 1061158912, .null, .null, .null, .null, .int 0, .int 0]) := hw
  refine lv_goto (tgt := 97) hx hb dJ4_putMapEntries_68 (by decide) ?_
  obtain ⟨D, hD, hM0, -, -⟩ := hm_new hm hk hck (Or.inr (tsf_pw ((4 * N + 2) / 3) (by omega) (by omega)))
  have hm1 := (hD1).1.1.cm
  refine lv_aload_n hx hb dJ4_putMapEntries_97 rfl (lv_at hl 4 rfl) ?_
  refine gh_callFq hg (gh_runF (x := ⟨"java/util/Map", "entrySet", "()Ljava/util/Set;"⟩) (As := []) (rest := []) hC hg (j_J5_entrySet l V _ o1 k1 m1 ck D1 hD1) 0 (lw_F q2904 q2909 q2907 q110 q2911) hm1 rfl (by decide +kernel) q2910 q2908 q1305 hdF_Map_entrySet_0 ⟨(by first | exact Nat.le_of_ble_eq_true rfl | omega | (dsimp only; omega)), (by first | exact Nat.le_of_ble_eq_true rfl | omega | (dsimp only; omega))⟩ rfl hl.1 rfl ((by first | exact Nat.le_of_ble_eq_true rfl | omega | (dsimp only; omega))) dJ4_putMapEntries_98 ⟨(by first | exact Nat.le_of_ble_eq_true rfl | omega | (dsimp only; omega)), (by first | exact Nat.le_of_ble_eq_true rfl | omega | (dsimp only; omega))⟩) (fun r_6 g H locs hg hp => ?_)
  obtain ⟨q9, D2, rfl, hD2, hM2, hq9, hF9⟩ := hp
  have hF := hF.a hF9
  have hD : lm_D V o k g m ck D := hD.fk2 (fun e => hne ⟨e.1.symm, e.2.symm⟩) hk1 hF9
  have hMM : hm_M D2 = hm_M D1 := hm_M_congr (congrArg (fun z => z.1) hM2)
  refine W.eq (g2 := F0 mm 103 ls [.ref q9]) rfl ?_
  refine gh_callFq hg (gh_runF (x := ⟨"java/util/Set", "iterator", "()Ljava/util/Iterator;"⟩) (As := []) (rest := []) hC hg (j_J40_iterator l V _ o1 k1 m1 ck q9 D2 hD2 hq9) 0 (lw_F q2930 q2454 q2452 q149 q2456) hq9 rfl (by decide +kernel) q2455 q2453 q2451 hdF_Set_iterator_0 ⟨(by first | exact Nat.le_of_ble_eq_true rfl | omega | (dsimp only; omega)), (by first | exact Nat.le_of_ble_eq_true rfl | omega | (dsimp only; omega))⟩ rfl hl.1 rfl ((by first | exact Nat.le_of_ble_eq_true rfl | omega | (dsimp only; omega))) dJ4_putMapEntries_103 ⟨(by first | exact Nat.le_of_ble_eq_true rfl | omega | (dsimp only; omega)), (by first | exact Nat.le_of_ble_eq_true rfl | omega | (dsimp only; omega))⟩) (fun r_7 g H locs hg hp => ?_)
  obtain ⟨it, rfl, hit0, hit, hfr9⟩ := hp
  have hF9 : gh_fk o1 k1 _ g := gh_fk.rf.new hit0 hfr9
  have hF := hF.a hF9
  have hD : lm_D V o k g m ck D := hD.fk2 (fun e => hne ⟨e.1.symm, e.2.symm⟩) hk1 hF9
  have hD2 : lm_D V o1 k1 g m1 ck D2 := hit.ne9 hit0 hD2 hfr9
  refine W.eq (g2 := F0 mm 108 ls [.ref it]) rfl ?_
  refine lv_astore (lv' := [(4, .ref it), (6, .int (nI ((4 * N + 2) / 3))), (3, .int (nI N)), (0, .ref m), (1, .ref m1), (2, .int ev)]) hx hb dJ4_putMapEntries_108 hl (by decide) rfl (fun ls hl => ?_)
  have hLN : D2.L.length = N := by rw [← hM_len2 hMM]; exact hN
  refine gh_loopC (N := D2.L.length) 2 7 20 200 (X := fun i g ls => ∃ (D : HD), lm_D V o k g m ck D ∧ hm_M D = (hm_M D2).take i ∧ lm_D V o1 k1 g m1 ck D2 ∧ it_P o1 k1 g it m1 D2 21 i ∧ gh_f2 o1 k1 o k g0 g ∧ lv_has ls 8 [(0, .ref m), (2, .int ev), (4, .ref it)]) ?_ ?_ (by first | exact (by first | exact Nat.le_of_ble_eq_true rfl | omega | (dsimp only; omega)) | omega | (dsimp only; omega)) (by first | exact (by first | exact Nat.le_of_ble_eq_true rfl | omega | (dsimp only; omega)) | omega | (dsimp only; omega)) hg ⟨D, hD, (by rw [hM0, List.take_zero]), hD2, hit, hF, lv_sub hl [3, 5, 0] rfl⟩
  · intro g H locs ls hg hX
    obtain ⟨D, hX0, hX1, hX2, hX3, hX4, hl⟩ := hX
    have hD := hX0
    have hMi := hX1
    have hD2 := hX2
    have hit := hX3
    have hF := hX4
    refine lv_aload hx hb dJ4_putMapEntries_110 (lv_at hl 2 rfl) ?_
    refine gh_callFi hg (gh_runF (x := ⟨"java/util/Iterator", "hasNext", "()Z"⟩) (As := []) (rest := []) hC hg (j_J43_hasNext_21 l V _ o1 k1 m1 it D2.L.length D2 hit) 0 (lw_F q2932 q2538 q2536 q152 q2540) hit.choose_spec rfl (by decide +kernel) q2539 q2537 q2535 hdF_Iterator_hasNext_0 ⟨(by first | exact Nat.le_of_ble_eq_true rfl | omega | (dsimp only; omega)), (by first | exact Nat.le_of_ble_eq_true rfl | omega | (dsimp only; omega))⟩ rfl hl.1 rfl ((by first | exact Nat.le_of_ble_eq_true rfl | omega | (dsimp only; omega))) dJ4_putMapEntries_112 ⟨(by first | exact Nat.le_of_ble_eq_true rfl | omega | (dsimp only; omega)), (by first | exact Nat.le_of_ble_eq_true rfl | omega | (dsimp only; omega))⟩) (fun r_8 g H locs hg hp => ?_)
    obtain ⟨hp, hq⟩ := hp
    replace hp : (if D2.L.length < D2.L.length then 1 else 0) = r_8 := hp.symm
    subst hp
    rw [hq] at hg
    refine W.eq (g2 := F0 mm 117 ls [.int 0]) (by rw [if_neg (Nat.lt_irrefl _)] <;> rfl) ?_
    refine lv_if_eq (tgt := 169) hx hb dJ4_putMapEntries_117 (by decide) (fun _ => ?_) (fun c_9 => (absurd rfl c_9))
    exact gh_retv hC hg hr hlk (⟨⟨D, hD, by rw [hMi, ← hM_len2 rfl, List.take_length, hMM]⟩, ⟨D2, hD2, hM2⟩, hF⟩) dJ4_putMapEntries_169 ((by first | exact Nat.le_of_ble_eq_true rfl | omega | (dsimp only; omega))) ((by first | exact Nat.le_of_ble_eq_true rfl | omega | (dsimp only; omega)))
  · intro i hi ih110 g H locs ls hg hX
    obtain ⟨D, hX0, hX1, hX2, hX3, hX4, hl⟩ := hX
    have hD := hX0
    have hMi := hX1
    have hD2 := hX2
    have hit := hX3
    have hF := hX4
    refine lv_aload hx hb dJ4_putMapEntries_110 (lv_at hl 2 rfl) ?_
    refine gh_callFi hg (gh_runF (x := ⟨"java/util/Iterator", "hasNext", "()Z"⟩) (As := []) (rest := []) hC hg (j_J43_hasNext_21 l V _ o1 k1 m1 it i D2 hit) 0 (lw_F q2932 q2538 q2536 q152 q2540) hit.choose_spec rfl (by decide +kernel) q2539 q2537 q2535 hdF_Iterator_hasNext_0 ⟨(by first | exact Nat.le_of_ble_eq_true rfl | omega | (dsimp only; omega)), (by first | exact Nat.le_of_ble_eq_true rfl | omega | (dsimp only; omega))⟩ rfl hl.1 rfl ((by first | exact Nat.le_of_ble_eq_true rfl | omega | (dsimp only; omega))) dJ4_putMapEntries_112 ⟨(by first | exact Nat.le_of_ble_eq_true rfl | omega | (dsimp only; omega)), (by first | exact Nat.le_of_ble_eq_true rfl | omega | (dsimp only; omega))⟩) (fun r_10 g H locs hg hp => ?_)
    obtain ⟨hp, hq⟩ := hp
    replace hp : (if i < D2.L.length then 1 else 0) = r_10 := hp.symm
    subst hp
    rw [hq] at hg
    refine W.eq (g2 := F0 mm 117 ls [.int 1]) (by rw [if_pos hi] <;> rfl) ?_
    refine lv_if_eq (tgt := 169) hx hb dJ4_putMapEntries_117 (by decide) (fun c_11 => (absurd c_11 (by decide))) (fun _ => ?_)
    refine lv_aload hx hb dJ4_putMapEntries_120 (lv_at hl 2 rfl) ?_
    refine gh_callFq hg (gh_runF (x := ⟨"java/util/Iterator", "next", "()Ljava/lang/Object;"⟩) (As := []) (rest := []) hC hg (j_J44_next l V _ o1 k1 m1 ck it i D2 hD2 hit hi) 0 (lw_F q2934 q2584 q2582 q153 q2586) hit.choose_spec rfl (by decide +kernel) q2585 q2583 q2535 hdF_Iterator_next_0 ⟨(by first | exact Nat.le_of_ble_eq_true rfl | omega | (dsimp only; omega)), (by first | exact Nat.le_of_ble_eq_true rfl | omega | (dsimp only; omega))⟩ rfl hl.1 rfl ((by first | exact Nat.le_of_ble_eq_true rfl | omega | (dsimp only; omega))) dJ4_putMapEntries_122 ⟨(by first | exact Nat.le_of_ble_eq_true rfl | omega | (dsimp only; omega)), (by first | exact Nat.le_of_ble_eq_true rfl | omega | (dsimp only; omega))⟩) (fun r_12 g H locs hg hp => ?_)
    obtain ⟨hr, hit, hfr9⟩ := hp
    have haL : D2.L[i] ∈ D2.L := List.getElem_mem hi
    have hF9 : gh_fk o1 k1 _ g := hX3.fk hfr9
    have hF := hF.a hF9
    have hD : lm_D V o k g m ck D := hD.fk2 (fun e => hne ⟨e.1.symm, e.2.symm⟩) hk1 hF9
    have hD2 : lm_D V o1 k1 g m1 ck D2 := hX3.ne hX2 hfr9
    have hcn := hD2.1.1.cn _ haL
    have hcq := hD2.1.1.len.2 _ haL
    have hky := hD2.1.1.ky _ haL
    subst hr
    refine W.eq (g2 := F0 mm 127 ls [.ref (D2.L[i])]) rfl ?_
    refine gh_castME hC hg hcq hcn q2935 dJ4_putMapEntries_127 ?_
    refine lv_astore (lv' := [(5, .ref (D2.L[i])), (0, .ref m), (2, .int ev), (4, .ref it)]) hx hb dJ4_putMapEntries_130 hl (by decide) rfl (fun ls hl => ?_)
    refine lv_aload hx hb dJ4_putMapEntries_132 (lv_at hl 0 rfl) ?_
    refine gh_nkF hcq hcn hC hg hl.1 ((by first | exact Nat.le_of_ble_eq_true rfl | omega | (dsimp only; omega))) dJ4_putMapEntries_134 ⟨(by first | exact Nat.le_of_ble_eq_true rfl | omega | (dsimp only; omega)), (by first | exact Nat.le_of_ble_eq_true rfl | omega | (dsimp only; omega))⟩ ⟨(by first | exact Nat.le_of_ble_eq_true rfl | omega | (dsimp only; omega)), (by first | exact Nat.le_of_ble_eq_true rfl | omega | (dsimp only; omega))⟩ (fun H locs hg => ?_)
    refine lv_astore (lv' := [(6, .ref (D2.K D2.L[i])), (5, .ref (D2.L[i])), (0, .ref m), (2, .int ev), (4, .ref it)]) hx hb dJ4_putMapEntries_139 hl (by decide) rfl (fun ls hl => ?_)
    refine lv_aload hx hb dJ4_putMapEntries_141 (lv_at hl 1 rfl) ?_
    refine gh_nvF hcq hcn hC hg hl.1 ((by first | exact Nat.le_of_ble_eq_true rfl | omega | (dsimp only; omega))) dJ4_putMapEntries_143 ⟨(by first | exact Nat.le_of_ble_eq_true rfl | omega | (dsimp only; omega)), (by first | exact Nat.le_of_ble_eq_true rfl | omega | (dsimp only; omega))⟩ ⟨(by first | exact Nat.le_of_ble_eq_true rfl | omega | (dsimp only; omega)), (by first | exact Nat.le_of_ble_eq_true rfl | omega | (dsimp only; omega))⟩ (fun H locs hg => ?_)
    obtain ⟨y9, hy9⟩ : ∃ y, D2.v D2.L[i] = some y := hvals _ (by rw [← hMM]; exact List.mem_map.mpr ⟨_, haL, rfl⟩)
    refine W.eq (g2 := F0 mm 148 ls [.ref y9]) (by rw [hy9] <;> rfl) ?_
    refine lv_astore (lv' := [(7, .ref y9), (6, .ref (D2.K D2.L[i])), (5, .ref (D2.L[i])), (0, .ref m), (2, .int ev), (4, .ref it)]) hx hb dJ4_putMapEntries_148 hl (by decide) rfl (fun ls hl => ?_)
    have hm9 := (hD).1.1.cm
    refine lv_aload_n hx hb dJ4_putMapEntries_150 rfl (lv_at hl 3 rfl) ?_
    refine lv_aload hx hb dJ4_putMapEntries_151 (lv_at hl 1 rfl) ?_
    refine gh_calli hg (gh_runS (As := [.ref (D2.K D2.L[i])]) (rest := [.ref m]) hC hg (j_J4_hash l V _ (D2.K D2.L[i]) ck (D2.C D2.L[i]) hky) 1 (lw_S q1703 q1704 q109 q1705) hd_J4_hash.2 ⟨(by first | exact Nat.le_of_ble_eq_true rfl | omega | (dsimp only; omega)), (by first | exact Nat.le_of_ble_eq_true rfl | omega | (dsimp only; omega))⟩ rfl hl.1 rfl ((by first | exact Nat.le_of_ble_eq_true rfl | omega | (dsimp only; omega))) dJ4_putMapEntries_153 ⟨(by first | exact Nat.le_of_ble_eq_true rfl | omega | (dsimp only; omega)), (by first | exact Nat.le_of_ble_eq_true rfl | omega | (dsimp only; omega))⟩) (fun r_13 g H locs hg hp => ?_)
    obtain ⟨hp, hq⟩ := hp
    replace hp : (nI (hm_sp (D2.C D2.L[i]))) = r_13 := hp.symm
    subst hp
    rw [hq] at hg
    refine lv_aload hx hb dJ4_putMapEntries_156 (lv_at hl 1 rfl) ?_
    refine lv_aload hx hb dJ4_putMapEntries_158 (lv_at hl 0 rfl) ?_
    refine lv_iconst (v := 0) hx hb dJ4_putMapEntries_160 (by decide) ?_
    refine lv_iload_n hx hb dJ4_putMapEntries_161 rfl (lv_at hl 4 rfl) ?_
    refine gh_callq hg (gh_runU (x := ⟨"java/util/HashMap", "putVal", "(ILjava/lang/Object;Ljava/lang/Object;ZZ)Ljava/lang/Object;"⟩) (C := "java/util/LinkedHashMap") (owner := "java/util/HashMap") (As := [.int (nI (hm_sp (D2.C D2.L[i]))), .ref (D2.K D2.L[i]), .ref y9, .int 0, .int ev]) (rest := []) hC hg (j_J4_putVal l V _ hTR.2.1 hTR.2.2.1 o k m ck (D2.K D2.L[i]) y9 (D2.C D2.L[i]) D ev hD.1 hky hck hD.2.2.1 (hm_16 (fun h9 => Or.inl (by rw [hMi, List.length_take]; have := h16 h9; omega))) (by rw [← hM_len2 rfl, hMi, List.length_take]; omega) hD.2.2.2) 5 (va_cwU 5 hts (lw_U q1808 q1810 q1809 q1811 q109 q1812) rfl rfl rfl rfl hdF_HashMap_putVal_5 ⟨(by first | exact Nat.le_of_ble_eq_true rfl | omega | (dsimp only; omega)), (by first | exact Nat.le_of_ble_eq_true rfl | omega | (dsimp only; omega))⟩) (gh_recv (C := "java/util/LinkedHashMap") hC hg hm9 rfl) rfl hl.1 rfl ((by first | exact Nat.le_of_ble_eq_true rfl | omega | (dsimp only; omega))) dJ4_putMapEntries_162 ⟨(by first | exact Nat.le_of_ble_eq_true rfl | omega | (dsimp only; omega)), (by first | exact Nat.le_of_ble_eq_true rfl | omega | (dsimp only; omega))⟩) (fun r_14 g H locs hg hp => ?_)
    have hp9 := pv_lm hp hck
    obtain ⟨-, ⟨D3, hD3, hM3⟩, hF9⟩ := hp9
    have hF := hF.b hF9
    have hD2 := hD2.fk2 hne hk hF9
    have hit := hit.fk2 hne hF9
    have hM3 : hm_M D3 = (hm_M D2).take (i + 1) := by rw [hM3, hMi, ← hy9]; exact lm_take hD2.1.1.nd hD2.1.1.inj hi
    refine lv_pop hx hb dJ4_putMapEntries_165 (gh_cQ _) ?_
    refine lv_goto (tgt := 110) hx hb dJ4_putMapEntries_166 (by decide) ?_
    exact W.widen (by first | exact (by first | exact Nat.le_of_ble_eq_true rfl | omega | (dsimp only; omega)) | omega | (dsimp only; omega)) (by first | exact (by first | exact Nat.le_of_ble_eq_true rfl | omega | (dsimp only; omega)) | omega | (dsimp only; omega)) (ih110 _ _ _ _ hg ⟨D3, hD3, hM3, hD2, hit, hF, lv_sub hl [3, 4, 5] rfl⟩)
