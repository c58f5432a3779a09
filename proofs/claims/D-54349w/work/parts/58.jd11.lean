theorem MI.imp {l : Launch} {y : MethodName} {cc : ByteArray} {nL : Nat} {ret : Option FieldType} {rm : Room} {V : gh_V} {av : List Value} {g : gh_G} {post post' : Int32 → gh_G → Prop} (h : MI l y cc nL ret rm V av g post) (hp : ∀ r g1, post r g1 → post' r g1) : MI l y cc nL ret rm V av g post' := by
  intro sz p e a1 a2 a3 s m args below hf hap hP hK
  obtain ⟨n, o, h1, h2, h3, ⟨⟨r, u, e9, pp, bb⟩, hF⟩, hL⟩ := h sz p e a1 a2 a3 s m args below hf hap hP hK
  exact ⟨n, o, h1, h2, h3, ⟨⟨r, u, e9, hp r u pp, bb⟩, hF⟩, hL⟩
theorem MR.imp {l : Launch} {y : MethodName} {cc : ByteArray} {nL : Nat} {ret : Option FieldType} {rm : Room} {V : gh_V} {av : List Value} {g : gh_G} {post post' : Option Nat → gh_G → Prop} (h : MR l y cc nL ret rm V av g post) (hp : ∀ r g1, post r g1 → post' r g1) : MR l y cc nL ret rm V av g post' := by
  intro sz p e a1 a2 a3 s m args below hf hap hP hK
  obtain ⟨n, o, h1, h2, h3, ⟨⟨r, u, e9, pp, bb⟩, hF⟩, hL⟩ := h sz p e a1 a2 a3 s m args below hf hap hP hK
  exact ⟨n, o, h1, h2, h3, ⟨⟨r, u, e9, hp r u pp, bb⟩, hF⟩, hL⟩
theorem MV.imp {l : Launch} {y : MethodName} {cc : ByteArray} {nL : Nat} {rm : Room} {V : gh_V} {av : List Value} {g : gh_G} {post post' : gh_G → Prop} (h : MV l y cc nL rm V av g post) (hp : ∀ g1, post g1 → post' g1) : MV l y cc nL rm V av g post' := by
  intro sz p e a1 a2 a3 s m args below hf hap hP hK
  obtain ⟨n, o, h1, h2, h3, ⟨⟨u, e9, pp, bb⟩, hF⟩, hL⟩ := h sz p e a1 a2 a3 s m args below hf hap hP hK
  exact ⟨n, o, h1, h2, h3, ⟨⟨u, e9, hp u pp, bb⟩, hF⟩, hL⟩
/-! the map as its users see it -/
/-- map m holds D -/
def lm_D (V : gh_V) (o k : Nat) (g : gh_G) (m ck : Nat) (D : HD) : Prop := hm_I V o k g m ck D ∧ (ck = 9 ∨ ck = 10) ∧ (ck = 9 → ∀ a, a ∈ D.L → D.ci a = 14) ∧ (D.n = 0 → D.th ≤ 128)
def lm_P (V : gh_V) (o k : Nat) (g : gh_G) (m ck : Nat) (M : List (Nat × Nat × Option Nat)) : Prop := ∃ D : HD, lm_D V o k g m ck D ∧ hm_M D = M
theorem hm_G.keep {V : gh_V} {o k : Nat} {g g1 : gh_G} {m ck : Nat} {D : HD} {sz : Nat} {X : Option Nat} (h : hm_G V o k g m ck D sz X) (hf : ∀ a t x, g a = some (t, x) → (t.1 = o ∧ t.2.1 = k) ∨ t.2.1 = 1 ∧ t.1 = V.2.2 9 → g1 a = some (t, x)) : hm_G V o k g1 m ck D sz X := by
  have e0 : ∀ {a n x}, g a = some ((o, k, n), x) → g1 a = some ((o, k, n), x) := fun ha => hf _ _ _ ha (Or.inl ⟨rfl, rfl⟩)
  refine ⟨e0 h.cm, fun hn => e0 (h.ct hn), fun a ha => e0 (h.cn a ha), fun a ha => ?_, h.nd, h.inj, h.ch, h.bn, h.bm, h.z, h.pw, h.bin, h.md, h.len, h.k10, fun x e => e0 (h.vw.1 x e), fun x e => e0 (h.vw.2.1 x e), fun x e => e0 (h.vw.2.2 x e)⟩
  obtain ⟨u, w, h1, h2⟩ := h.ky a ha
  exact ⟨u, w, hf _ _ _ h1 (Or.inr ⟨rfl, rfl⟩), h2⟩
theorem lm_D.keep {V : gh_V} {o k : Nat} {g g1 : gh_G} {m ck : Nat} {D : HD} (h : lm_D V o k g m ck D) (hf : ∀ a t x, g a = some (t, x) → (t.1 = o ∧ t.2.1 = k) ∨ t.2.1 = 1 ∧ t.1 = V.2.2 9 → g1 a = some (t, x)) : lm_D V o k g1 m ck D := ⟨⟨h.1.1.keep hf, h.1.2⟩, h.2⟩
theorem lm_P.keep {V : gh_V} {o k : Nat} {g g1 : gh_G} {m ck : Nat} {M : List (Nat × Nat × Option Nat)} (h : lm_P V o k g m ck M) (hf : ∀ a t x, g a = some (t, x) → (t.1 = o ∧ t.2.1 = k) ∨ t.2.1 = 1 ∧ t.1 = V.2.2 9 → g1 a = some (t, x)) : lm_P V o k g1 m ck M := by
  obtain ⟨D, h1, h2⟩ := h
  exact ⟨D, h1.keep hf, h2⟩
/-- what is still owed for tree bins -/
def tr_S (l : Launch) (V : gh_V) : Prop := tg_S l V ∧ tb_S l V ∧ pt_S l V ∧ rm_S l V
theorem hm_16 {ck c : Nat} {D : HD} (h : ck = 10 → (hm_M D).length < 16 ∨ (hm_M D).any (fun e => e.1 == c) = true) : pv_16 ck c D := fun hc => by
  rcases h hc with h | h
  · rw [hm_M_len] at h; exact Or.inl h
  · obtain ⟨e, he, h1⟩ := List.any_eq_true.mp h
    obtain ⟨a, ha, rfl⟩ := List.mem_map.mp he
    exact Or.inr ⟨a, ha, by simpa using h1⟩
theorem pv_lm {V : gh_V} {o k : Nat} {g0 g1 : gh_G} {m ck c x : Nat} {vv r : Option Nat} {D : HD} (h : pv_R V o k g0 m ck c x vv D r g1) (hck : ck = 9 ∨ ck = 10) : r = lm_get (hm_M D) c ∧ lm_P V o k g1 m ck (lm_put (hm_M D) c x vv) ∧ gh_fk o k g0 g1 := by
  obtain ⟨D1, h1, h2, h3, h4, h5⟩ := h
  refine ⟨h5, ⟨D1, ⟨h1, hck, h2, fun hn => ?_⟩, h4⟩, h3⟩
  have e1 := (h1.1.z hn).1
  have e2 : (hm_M D1).length = 0 := by rw [hm_M_len, e1]; rfl
  rw [h4] at e2
  unfold lm_put at e2
  split at e2
  · rename_i h9
    rw [List.length_map] at e2
    rw [List.length_eq_zero_iff.mp e2] at h9
    cases h9
  · rw [List.length_append] at e2; simp at e2
set_option maxRecDepth 100000
theorem hdF_HashMap_putVal_5 : (⟨"java/util/HashMap", "putVal", "(ILjava/lang/Object;Ljava/lang/Object;ZZ)Ljava/lang/Object;"⟩ : MethodName).cls ≠ "java/lang/invoke/MethodHandle" ∧ (⟨"java/util/HashMap", "putVal", "(ILjava/lang/Object;Ljava/lang/Object;ZZ)Ljava/lang/Object;"⟩ : MethodName).cls ≠ "java/lang/invoke/VarHandle" ∧ (parseMethodDescriptor (⟨"java/util/HashMap", "putVal", "(ILjava/lang/Object;Ljava/lang/Object;ZZ)Ljava/lang/Object;"⟩ : MethodName).desc).map (fun d => d.parameters.length) = some 5 := by decide +kernel
theorem hdF_HashMap_removeNode_5 : (⟨"java/util/HashMap", "removeNode", "(ILjava/lang/Object;Ljava/lang/Object;ZZ)Ljava/util/HashMap$Node;"⟩ : MethodName).cls ≠ "java/lang/invoke/MethodHandle" ∧ (⟨"java/util/HashMap", "removeNode", "(ILjava/lang/Object;Ljava/lang/Object;ZZ)Ljava/util/HashMap$Node;"⟩ : MethodName).cls ≠ "java/lang/invoke/VarHandle" ∧ (parseMethodDescriptor (⟨"java/util/HashMap", "removeNode", "(ILjava/lang/Object;Ljava/lang/Object;ZZ)Ljava/util/HashMap$Node;"⟩ : MethodName).desc).map (fun d => d.parameters.length) = some 5 := by decide +kernel
set_option maxHeartbeats 1000000 in
set_option maxRecDepth 100000 in
theorem j_J4_put (l : Launch) (V : gh_V) (g0 : gh_G) (hTR : tr_S l V) (o k m ck x vv c9 : Nat) (D : HD) (hD : lm_D V o k g0 m ck D) (hk9 : ky_P V g0 ck x c9) (h16 : ck = 10 → (hm_M D).length < 16 ∨ (hm_M D).any (fun e => e.1 == c9) = true) (h63 : (hm_M D).length < 63) : MR l yJ4_put cJ4_put 3 (some (.object "java/lang/Object")) ({ frames := 10, cells := 20, slots := 200, locals := 367 } : Room) V [.ref m, .ref x, .ref vv] g0 (fun r g1 => r = lm_get (hm_M D) c9 ∧ lm_P V o k g1 m ck (lm_put (hm_M D) c9 x (some vv)) ∧ gh_fk o k g0 g1) := by
  refine MG.of RJ4 (by decide) rfl (Nat.le_of_ble_eq_true rfl) (fun pp ee s mm args below meth c ls hC hg hr hlk hnm hl => ?_)
  have hx := hC.1.1
  have hb := hC.1.2.1
  have hml := hC.1.2.2.1
  have hown := hC.1.2.2.2.1
  have hts := hC.1.2.2.2.2
  have hl : lv_has ls 3 [(0, .ref m), (1, .ref x), (2, .ref vv)] := hl
  obtain ⟨g, hg, hgg⟩ : ∃ g, gh_W V (gh_A g0 s.heap.size) s g s.heap [] ∧ g = g0 := ⟨g0, hg, rfl⟩
  have hk90 := hk9
  rw [← hgg] at hk9
  have hm := hD.1.1.cm
  rw [← hgg] at hm
  have hl63 : D.L.length < 63 := by rw [hm_M_len] at h63; exact h63
  refine lv_aload_n hx hb dJ4_put_0 rfl (lv_at hl 0 rfl) ?_
  refine lv_aload_n hx hb dJ4_put_1 rfl (lv_at hl 1 rfl) ?_
  refine gh_calli hg (gh_runS (As := [.ref x]) (rest := [.ref m]) hC hg (j_J4_hash l V _ x ck c9 hk9) 1 (lw_S q1703 q1704 q109 q1705) hd_J4_hash.2 ⟨Nat.le_of_ble_eq_true rfl, Nat.le_of_ble_eq_true rfl⟩ rfl hl.1 rfl (Nat.le_of_ble_eq_true rfl) dJ4_put_2 ⟨Nat.le_of_ble_eq_true rfl, Nat.le_of_ble_eq_true rfl⟩) (fun r_1 g H locs hg hp => ?_)
  obtain ⟨hp, hq⟩ := hp
  replace hp : (nI (hm_sp c9)) = r_1 := hp.symm
  subst hp
  rw [hq] at hg
  refine lv_aload_n hx hb dJ4_put_5 rfl (lv_at hl 1 rfl) ?_
  refine lv_aload_n hx hb dJ4_put_6 rfl (lv_at hl 2 rfl) ?_
  refine lv_iconst (v := 0) hx hb dJ4_put_7 (by decide) ?_
  refine lv_iconst (v := 1) hx hb dJ4_put_8 (by decide) ?_
  refine gh_callq hg (gh_runU (x := ⟨"java/util/HashMap", "putVal", "(ILjava/lang/Object;Ljava/lang/Object;ZZ)Ljava/lang/Object;"⟩) (C := "java/util/LinkedHashMap") (owner := "java/util/HashMap") (As := [.int (nI (hm_sp c9)), .ref x, .ref vv, .int 0, .int 1]) (rest := []) hC hg (j_J4_putVal l V _ hTR.2.1 hTR.2.2.1 o k m ck x vv c9 D 1 (by rw [hgg]; exact hD.1) (by rw [hgg]; exact hk90) hD.2.1 hD.2.2.1 (hm_16 h16) hl63 hD.2.2.2) 5 (va_cwU 5 hts (lw_U q1808 q1810 q1809 q1811 q109 q1812) rfl rfl rfl rfl hdF_HashMap_putVal_5 ⟨Nat.le_of_ble_eq_true rfl, Nat.le_of_ble_eq_true rfl⟩) (gh_recv (C := "java/util/LinkedHashMap") hC hg hm rfl) rfl hl.1 rfl (Nat.le_of_ble_eq_true rfl) dJ4_put_9 ⟨Nat.le_of_ble_eq_true rfl, Nat.le_of_ble_eq_true rfl⟩) (fun r_2 g H locs hg hp => ?_)
  rw [hgg] at hp
  exact gh_retq (r := r_2) (Or.inl ⟨_, rfl⟩) hC hg hr hlk (pv_lm hp hD.2.1) dJ4_put_12 (Nat.le_of_ble_eq_true rfl) (Nat.le_of_ble_eq_true rfl)
set_option maxHeartbeats 1000000 in
set_option maxRecDepth 100000 in
theorem j_J4_remove (l : Launch) (V : gh_V) (g0 : gh_G) (hTR : tr_S l V) (o k m ck x c9 : Nat) (D : HD) (hD : lm_D V o k g0 m ck D) (hk9 : ky_P V g0 ck x c9) : MR l yJ4_remove cJ4_remove 3 (some (.object "java/lang/Object")) ({ frames := 10, cells := 16, slots := 96, locals := 373 } : Room) V [.ref m, .ref x] g0 (fun r g1 => r = lm_get (hm_M D) c9 ∧ lm_P V o k g1 m ck (lm_del (hm_M D) c9) ∧ gh_fk o k g0 g1) := by
  refine MG.of RJ4 (by decide) rfl (Nat.le_of_ble_eq_true rfl) (fun pp ee s mm args below meth c ls hC hg hr hlk hnm hl => ?_)
  have hx := hC.1.1
  have hb := hC.1.2.1
  have hml := hC.1.2.2.1
  have hown := hC.1.2.2.2.1
  have hts := hC.1.2.2.2.2
  have hl : lv_has ls 3 [(0, .ref m), (1, .ref x)] := hl
  obtain ⟨g, hg, hgg⟩ : ∃ g, gh_W V (gh_A g0 s.heap.size) s g s.heap [] ∧ g = g0 := ⟨g0, hg, rfl⟩
  have hk90 := hk9
  rw [← hgg] at hk9
  have hm := hD.1.1.cm
  rw [← hgg] at hm
  refine lv_aload_n hx hb dJ4_remove_0 rfl (lv_at hl 0 rfl) ?_
  refine lv_aload_n hx hb dJ4_remove_1 rfl (lv_at hl 1 rfl) ?_
  refine gh_calli hg (gh_runS (As := [.ref x]) (rest := [.ref m]) hC hg (j_J4_hash l V _ x ck c9 hk9) 1 (lw_S q1703 q1704 q109 q1705) hd_J4_hash.2 ⟨Nat.le_of_ble_eq_true rfl, Nat.le_of_ble_eq_true rfl⟩ rfl hl.1 rfl (Nat.le_of_ble_eq_true rfl) dJ4_remove_2 ⟨Nat.le_of_ble_eq_true rfl, Nat.le_of_ble_eq_true rfl⟩) (fun r_1 g H locs hg hp => ?_)
  obtain ⟨hp, hq⟩ := hp
  replace hp : (nI (hm_sp c9)) = r_1 := hp.symm
  subst hp
  rw [hq] at hg
  refine lv_aload_n hx hb dJ4_remove_5 rfl (lv_at hl 1 rfl) ?_
  refine lv_null hx hb dJ4_remove_6 ?_
  refine lv_iconst (v := 0) hx hb dJ4_remove_7 (by decide) ?_
  refine lv_iconst (v := 1) hx hb dJ4_remove_8 (by decide) ?_
  refine gh_callq hg (gh_runU (x := ⟨"java/util/HashMap", "removeNode", "(ILjava/lang/Object;Ljava/lang/Object;ZZ)Ljava/util/HashMap$Node;"⟩) (C := "java/util/LinkedHashMap") (owner := "java/util/HashMap") (As := [.int (nI (hm_sp c9)), .ref x, .null, .int 0, .int 1]) (rest := []) hC hg (j_J4_removeNode l V _ hTR.1 hTR.2.2.2 o k m ck x c9 D (by rw [hgg]; exact hD.1) (by rw [hgg]; exact hk90) hD.2.1 hD.2.2.1) 5 (va_cwU 5 hts (lw_U q2360 q2362 q2361 q2363 q109 q2364) rfl rfl rfl rfl hdF_HashMap_removeNode_5 ⟨Nat.le_of_ble_eq_true rfl, Nat.le_of_ble_eq_true rfl⟩) (gh_recv (C := "java/util/LinkedHashMap") hC hg hm rfl) rfl hl.1 rfl (Nat.le_of_ble_eq_true rfl) dJ4_remove_9 ⟨Nat.le_of_ble_eq_true rfl, Nat.le_of_ble_eq_true rfl⟩) (fun r_2 g H locs hg hp => ?_)
  obtain ⟨D1, hI1, h141, hF1, hM1, hz1, hr1⟩ := hp; rw [hgg] at hF1; have hP1 : lm_P V o k g m ck (lm_del (hm_M D) c9) := ⟨D1, ⟨hI1, hD.2.1, h141, (fun hn => (hz1 hn).2 ▸ hD.2.2.2 (hz1 hn).1)⟩, hM1⟩
  refine lv_dup hx hb dJ4_remove_12 (gh_cQ _) ?_
  refine lv_astore_nQ (lv' := [(2, va_rf r_2), (0, .ref m), (1, .ref x)]) hx hb dJ4_remove_13 rfl hl (by decide) rfl (fun ls hl => ?_)
  refine lv_ifnonnullQ (tgt := 21) hx hb dJ4_remove_14 (by decide) (fun y_4 hq_3 => ?_) (fun hq_3 => ?_)
  · skip
    rw [hq_3] at hl
    have hl : lv_has ls 3 [(2, .ref y_4), (0, .ref m), (1, .ref x)] := hl
    obtain ⟨ci9, t9, h9, ka9, re9, hci9, hcb⟩ : ∃ (ci : Nat) (t : gh_T) (h : Int32) (ka : Nat) (rest : List Value), (ci = 14 ∨ ci = 15) ∧ g y_4 = some (t, oo ci (.int h :: .ref ka :: va_rf (lm_get (hm_M D) c9) :: rest)) := by
        rcases hr1 with h | ⟨b, ci, t, h9, ka, re, h, h7, h8⟩
        · rw [hq_3] at h; cases h.1
        · rw [hq_3] at h; cases h; exact ⟨ci, t, h9, ka, re, h7, h8⟩
    refine lv_aload_n hx hb dJ4_remove_21 rfl (lv_at hl 0 rfl) ?_
    refine gh_get (v := va_rf (lm_get (hm_M D) c9)) hC hg hcb (fNJ4_162 hci9) rfl dJ4_remove_22 ?_
    exact gh_retq (r := (lm_get (hm_M D) c9)) (Or.inl ⟨_, rfl⟩) hC hg hr hlk (⟨rfl, hP1, hF1⟩) dJ4_remove_25 (Nat.le_of_ble_eq_true rfl) (Nat.le_of_ble_eq_true rfl)
  rw [hq_3] at hl
  have hl : lv_has ls 3 [(2, .null), (0, .ref m), (1, .ref x)] := hl
  have hr2 : lm_get (hm_M D) c9 = none := by
      rcases hr1 with h | ⟨b, _, _, _, _, _, h, _⟩
      · exact h.2
      · rw [hq_3] at h; cases h
  refine lv_null hx hb dJ4_remove_17 ?_
  refine lv_goto (tgt := 25) hx hb dJ4_remove_18 (by decide) ?_
  exact gh_retq (r := none) (Or.inl ⟨_, rfl⟩) hC hg hr hlk (⟨hr2.symm, hP1, hF1⟩) dJ4_remove_25 (Nat.le_of_ble_eq_true rfl) (Nat.le_of_ble_eq_true rfl)
set_option maxHeartbeats 1000000 in
set_option maxRecDepth 100000 in
theorem j_J4_size (l : Launch) (V : gh_V) (g0 : gh_G) (o k m ck : Nat) (D : HD) (hD : lm_D V o k g0 m ck D) : MI l yJ4_size cJ4_size 1 (some .int) ({ frames := 0, cells := 0, slots := 0, locals := 0 } : Room) V [.ref m] g0 (fun r g1 => r = nI (hm_M D).length ∧ g1 = g0) := by
  refine MG.of RJ4 (by decide) rfl (Nat.le_of_ble_eq_true rfl) (fun pp ee s mm args below meth c ls hC hg hr hlk hnm hl => ?_)
  have hx := hC.1.1
  have hb := hC.1.2.1
  have hml := hC.1.2.2.1
  have hown := hC.1.2.2.2.1
  have hts := hC.1.2.2.2.2
  have hl : lv_has ls 1 [(0, .ref m)] := hl
  obtain ⟨g, hg, hgg⟩ : ∃ g, gh_W V (gh_A g0 s.heap.size) s g s.heap [] ∧ g = g0 := ⟨g0, hg, rfl⟩
  have hm := hD.1.1.cm
  rw [← hgg] at hm
  refine lv_aload_n hx hb dJ4_size_0 rfl (lv_at hl 0 rfl) ?_
  refine gh_get (v := .int (nI D.L.length)) hC hg hm fJ4_156_13 rfl dJ4_size_1 ?_
  exact gh_reti hC hg hr hlk (⟨by rw [hm_M_len], hgg⟩) dJ4_size_4 (Nat.le_of_ble_eq_true rfl) (Nat.le_of_ble_eq_true rfl)
/-- containsKey as users see it -/
theorem m_containsKey (l : Launch) (V : gh_V) (g0 : gh_G) (hTR : tr_S l V) (o k m ck : Nat) (D : HD) (hD : lm_D V o k g0 m ck D) (x c9 : Nat) (hk9 : ky_P V g0 ck x c9) : MI l yJ4_containsKey cJ4_containsKey 2 (some .boolean) ({ frames := 10, cells := 0, slots := 0, locals := 349 } : Room) V [.ref m, .ref x] g0 (fun r g1 => r = (if (hm_M D).any (fun e => e.1 == c9) then 1 else 0) ∧ g1 = g0) :=
  (j_J4_containsKey l V g0 hTR.1 o k m ck D hD.1 x c9 hk9).imp (fun r g1 h => by
    refine ⟨?_, h.2⟩
    rcases h.1 with ⟨h1, b, h2, h3⟩ | ⟨h1, h2⟩
    · rw [h1, if_pos (hm_M_some h2 h3)]
    · rw [h1, hm_M_none h2]; rfl)
theorem m_get (l : Launch) (V : gh_V) (g0 : gh_G) (hTR : tr_S l V) (o k m ck : Nat) (D : HD) (hD : lm_D V o k g0 m ck D) (x c9 : Nat) (hk9 : ky_P V g0 ck x c9) : MR l yJ5_get cJ5_get 3 (some (.object "java/lang/Object")) ({ frames := 10, cells := 0, slots := 0, locals := 349 } : Room) V [.ref m, .ref x] g0 (fun r g1 => r = lm_get (hm_M D) c9 ∧ g1 = g0) :=
  (j_J5_get l V g0 hTR.1 o k m ck D hD.1 x c9 hk9).imp (fun r g1 h => by
    refine ⟨?_, h.2⟩
    rcases h.1 with ⟨b, h2, h3, h4⟩ | ⟨h1, h2⟩
    · rw [h4, lm_get_some h2 h3 hD.1.inj]
    · rw [h2, lm_get_none h1])
