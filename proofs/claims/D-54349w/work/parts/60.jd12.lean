theorem scL_get {l : List Nat} {i : Nat} (hn : l.Nodup) (hi : i < l.length) : scL l l[i] = l[i + 1]? := by
  have h1 : l = l.take i ++ l[i] :: l.drop (i + 1) := by rw [List.getElem_cons_drop, List.take_append_drop]
  have h2 : scL l l[i] = (l.drop (i + 1)).head? := by
    have hn2 := hn
    rw [h1] at hn2
    have h3 := (List.nodup_append.mp hn2).2.2
    calc scL l l[i] = scL (l.take i ++ l[i] :: l.drop (i + 1)) l[i] := by rw [← h1]
      _ = (l.drop (i + 1)).head? := scL_at (fun q => h3 l[i] q l[i] List.mem_cons_self rfl)
  rw [h2, List.head?_drop]
/-- an iterator of class number ci over D stands ahead of element i -/
def it_P (o k : Nat) (g : gh_G) (it m : Nat) (D : HD) (ci i : Nat) : Prop := ∃ cur : Option Nat, g it = some ((o, k, 7), oo ci [va_rf D.L[i]?, va_rf cur, .int D.mc, .int 0, .ref m])
theorem it_P.ne {V : gh_V} {o k : Nat} {g : gh_G} {it m ck : Nat} {D : HD} {ci i : Nat} (h : it_P o k g it m D ci i) (hD : lm_D V o k g m ck D) {g1 : gh_G} (hf : ∀ b, b ≠ it → g1 b = g b) : lm_D V o k g1 m ck D := by
  obtain ⟨cur, hc⟩ := h
  have ne : ∀ {a n x}, g a = some ((o, k, n), x) → n ≠ 7 → g1 a = some ((o, k, n), x) := fun {a n x} ha hn => by
    rw [hf a (fun e => by rw [e, hc] at ha; cases ha; exact hn rfl)]; exact ha
  have hG := hD.1.1
  refine ⟨⟨⟨ne hG.cm (by decide), fun hn => ne (hG.ct hn) (by decide), fun a ha => ne (hG.cn a ha) (by decide), fun a ha => ?_, hG.nd, hG.inj, hG.ch, hG.bn, hG.bm, hG.z, hG.pw, hG.bin, hG.md, hG.len, hG.k10, fun x e => ne (hG.vw.1 x e) (by decide), fun x e => ne (hG.vw.2.1 x e) (by decide), fun x e => ne (hG.vw.2.2 x e) (by decide)⟩, hD.1.2⟩, hD.2⟩
  obtain ⟨u, w, h1, h2⟩ := hG.ky a ha
  refine ⟨u, w, ?_, h2⟩
  rw [hf _ (fun e => by rw [e, hc] at h1; cases h1)]; exact h1
set_option maxRecDepth 100000
theorem fJ43_13_19 : gh_fd RJ43 13 19 3 .boolean false := gh_fd.own (T := TJ45) tyJ45 rfl in_J45 tyJ45_ok nmJ45 (by decide) q2469 rfl rfl (fun h => by cases h)
theorem fJ43_13_20 : gh_fd RJ43 13 20 3 .boolean false := gh_fd.own (T := TJ51) tyJ51 rfl in_J51 tyJ51_ok nmJ51 (by decide) q2469 rfl rfl (fun h => by cases h)
theorem fJ43_13_21 : gh_fd RJ43 13 21 3 .boolean false := gh_fd.own (T := TJ44) tyJ44 rfl in_J44 tyJ44_ok nmJ44 (by decide) q2469 rfl rfl (fun h => by cases h)
theorem fJ43_1_19 : gh_fd RJ43 1 19 4 (.object "java/util/LinkedHashMap") true := gh_fd.own (T := TJ45) tyJ45 rfl in_J45 tyJ45_ok nmJ45 (by decide) q2470 rfl rfl (fun h => rfl)
theorem fJ43_1_20 : gh_fd RJ43 1 20 4 (.object "java/util/LinkedHashMap") true := gh_fd.own (T := TJ51) tyJ51 rfl in_J51 tyJ51_ok nmJ51 (by decide) q2470 rfl rfl (fun h => rfl)
theorem fJ43_1_21 : gh_fd RJ43 1 21 4 (.object "java/util/LinkedHashMap") true := gh_fd.own (T := TJ44) tyJ44 rfl in_J44 tyJ44_ok nmJ44 (by decide) q2470 rfl rfl (fun h => rfl)
theorem fJ43_23_13 : gh_fd RJ43 23 13 8 (.object "java/util/LinkedHashMap$Entry") false := gh_fd.own (T := TJ5) tyJ5 rfl in_J5 tyJ5_ok nmJ5 (by decide) q238 rfl rfl (fun h => by cases h)
theorem fJ43_26_19 : gh_fd RJ43 26 19 0 (.object "java/util/LinkedHashMap$Entry") false := gh_fd.own (T := TJ45) tyJ45 rfl in_J45 tyJ45_ok nmJ45 (by decide) q2466 rfl rfl (fun h => by cases h)
theorem fJ43_26_20 : gh_fd RJ43 26 20 0 (.object "java/util/LinkedHashMap$Entry") false := gh_fd.own (T := TJ51) tyJ51 rfl in_J51 tyJ51_ok nmJ51 (by decide) q2466 rfl rfl (fun h => by cases h)
theorem fJ43_26_21 : gh_fd RJ43 26 21 0 (.object "java/util/LinkedHashMap$Entry") false := gh_fd.own (T := TJ44) tyJ44 rfl in_J44 tyJ44_ok nmJ44 (by decide) q2466 rfl rfl (fun h => by cases h)
theorem fJ43_29_13 : gh_fd RJ43 29 13 3 .int false := gh_fd.ref (ref := "java/util/LinkedHashMap") (T := TJ5) tyJ5 rfl in_J5 tyJ5_ok nmJ5 (by decide) q255 (fun _ _ h x hq => u_same (h _ q256) x hq) rfl rfl (fun h => by cases h)
theorem fJ43_33_19 : gh_fd RJ43 33 19 2 .int false := gh_fd.own (T := TJ45) tyJ45 rfl in_J45 tyJ45_ok nmJ45 (by decide) q2468 rfl rfl (fun h => by cases h)
theorem fJ43_33_20 : gh_fd RJ43 33 20 2 .int false := gh_fd.own (T := TJ51) tyJ51 rfl in_J51 tyJ51_ok nmJ51 (by decide) q2468 rfl rfl (fun h => by cases h)
theorem fJ43_33_21 : gh_fd RJ43 33 21 2 .int false := gh_fd.own (T := TJ44) tyJ44 rfl in_J44 tyJ44_ok nmJ44 (by decide) q2468 rfl rfl (fun h => by cases h)
theorem fJ43_36_19 : gh_fd RJ43 36 19 1 (.object "java/util/LinkedHashMap$Entry") false := gh_fd.own (T := TJ45) tyJ45 rfl in_J45 tyJ45_ok nmJ45 (by decide) q2467 rfl rfl (fun h => by cases h)
theorem fJ43_36_20 : gh_fd RJ43 36 20 1 (.object "java/util/LinkedHashMap$Entry") false := gh_fd.own (T := TJ51) tyJ51 rfl in_J51 tyJ51_ok nmJ51 (by decide) q2467 rfl rfl (fun h => by cases h)
theorem fJ43_36_21 : gh_fd RJ43 36 21 1 (.object "java/util/LinkedHashMap$Entry") false := gh_fd.own (T := TJ44) tyJ44 rfl in_J44 tyJ44_ok nmJ44 (by decide) q2467 rfl rfl (fun h => by cases h)
theorem fJ43_50_14 : gh_fd RJ43 50 14 5 (.object "java/util/LinkedHashMap$Entry") false := gh_fd.own (T := TJ36) tyJ36 rfl in_J36 tyJ36_ok nmJ36 (by decide) q1850 rfl rfl (fun h => by cases h)
theorem fJ43_50_15 : gh_fd RJ43 50 15 5 (.object "java/util/LinkedHashMap$Entry") false := gh_fd.own (T := TJ39) tyJ39 rfl in_J39 tyJ39_ok nmJ39 (by decide) q1850 rfl rfl (fun h => by cases h)
theorem fJ51_13_14 : gh_fd RJ51 13 14 2 (.object "java/lang/Object") false := gh_fd.ref (ref := "java/util/LinkedHashMap$Entry") (T := TJ36) tyJ36 rfl in_J36 tyJ36_ok nmJ36 (by decide) q1865 (fun _ _ h x hq => u_same (h _ q1866) x hq) rfl rfl (fun h => by cases h)
theorem fJ51_13_15 : gh_fd RJ51 13 15 2 (.object "java/lang/Object") false := gh_fd.ref (ref := "java/util/LinkedHashMap$Entry") (T := TJ39) tyJ39 rfl in_J39 tyJ39_ok nmJ39 (by decide) q1865 (fun _ _ h x hq => u_same (h _ q1866) x hq) rfl rfl (fun h => by cases h)
theorem fNJ43_50 {ci : Nat} (h : ci = 14 ∨ ci = 15) : gh_fd RJ43 50 ci 5 (.object "java/util/LinkedHashMap$Entry") false := by
  rcases h with rfl | rfl
  · exact fJ43_50_14
  · exact fJ43_50_15
theorem fNJ51_13 {ci : Nat} (h : ci = 14 ∨ ci = 15) : gh_fd RJ51 13 ci 2 (.object "java/lang/Object") false := by
  rcases h with rfl | rfl
  · exact fJ51_13_14
  · exact fJ51_13_15
theorem hd_J43_init : yJ43_init.cls = RJ43 ∧ yJ43_init.cls ≠ "java/lang/invoke/MethodHandle" ∧ yJ43_init.cls ≠ "java/lang/invoke/VarHandle" ∧ (parseMethodDescriptor yJ43_init.desc).map (fun d => d.parameters.length) = some 2 := by decide +kernel
theorem hd_J44_next_2 : yJ44_next_2.cls = RJ44 ∧ yJ44_next_2.cls ≠ "java/lang/invoke/MethodHandle" ∧ yJ44_next_2.cls ≠ "java/lang/invoke/VarHandle" ∧ (parseMethodDescriptor yJ44_next_2.desc).map (fun d => d.parameters.length) = some 0 := by decide +kernel
theorem hdF_HashMap_Node_getKey_0 : (⟨"java/util/HashMap$Node", "getKey", "()Ljava/lang/Object;"⟩ : MethodName).cls ≠ "java/lang/invoke/MethodHandle" ∧ (⟨"java/util/HashMap$Node", "getKey", "()Ljava/lang/Object;"⟩ : MethodName).cls ≠ "java/lang/invoke/VarHandle" ∧ (parseMethodDescriptor (⟨"java/util/HashMap$Node", "getKey", "()Ljava/lang/Object;"⟩ : MethodName).desc).map (fun d => d.parameters.length) = some 0 := by decide +kernel
theorem hdF_LinkedHashMap_LinkedHashIterator_nextNode_0 : (⟨"java/util/LinkedHashMap$LinkedHashIterator", "nextNode", "()Ljava/util/LinkedHashMap$Entry;"⟩ : MethodName).cls ≠ "java/lang/invoke/MethodHandle" ∧ (⟨"java/util/LinkedHashMap$LinkedHashIterator", "nextNode", "()Ljava/util/LinkedHashMap$Entry;"⟩ : MethodName).cls ≠ "java/lang/invoke/VarHandle" ∧ (parseMethodDescriptor (⟨"java/util/LinkedHashMap$LinkedHashIterator", "nextNode", "()Ljava/util/LinkedHashMap$Entry;"⟩ : MethodName).desc).map (fun d => d.parameters.length) = some 0 := by decide +kernel
theorem hdF_Map_Entry_getKey_0 : (⟨"java/util/Map$Entry", "getKey", "()Ljava/lang/Object;"⟩ : MethodName).cls ≠ "java/lang/invoke/MethodHandle" ∧ (⟨"java/util/Map$Entry", "getKey", "()Ljava/lang/Object;"⟩ : MethodName).cls ≠ "java/lang/invoke/VarHandle" ∧ (parseMethodDescriptor (⟨"java/util/Map$Entry", "getKey", "()Ljava/lang/Object;"⟩ : MethodName).desc).map (fun d => d.parameters.length) = some 0 := by decide +kernel
theorem hdF_Map_Entry_getValue_0 : (⟨"java/util/Map$Entry", "getValue", "()Ljava/lang/Object;"⟩ : MethodName).cls ≠ "java/lang/invoke/MethodHandle" ∧ (⟨"java/util/Map$Entry", "getValue", "()Ljava/lang/Object;"⟩ : MethodName).cls ≠ "java/lang/invoke/VarHandle" ∧ (parseMethodDescriptor (⟨"java/util/Map$Entry", "getValue", "()Ljava/lang/Object;"⟩ : MethodName).desc).map (fun d => d.parameters.length) = some 0 := by decide +kernel
set_option maxHeartbeats 1000000 in
set_option maxRecDepth 100000 in
theorem j_J35_getKey (l : Launch) (V : gh_V) (g0 : gh_G) (q cq ka : Nat) (vv : Option Nat) (t : gh_T) (hh : Int32) (rest9 : List Value) (hcq : cq = 14 ∨ cq = 15) (hq : g0 q = some (t, oo cq (.int hh :: .ref ka :: va_rf vv :: rest9))) : MR l yJ35_getKey cJ35_getKey 1 (some (.object "java/lang/Object")) ({ frames := 0, cells := 0, slots := 0, locals := 0 } : Room) V [.ref q] g0 (fun r g1 => r = some ka ∧ g1 = g0) := by
  refine MG.of RJ35 (by decide) rfl (Nat.le_of_ble_eq_true rfl) (fun pp ee s mm args below meth c ls hC hg hr hlk hnm hl => ?_)
  have hx := hC.1.1
  have hb := hC.1.2.1
  have hml := hC.1.2.2.1
  have hown := hC.1.2.2.2.1
  have hts := hC.1.2.2.2.2
  have hl : lv_has ls 1 [(0, .ref q)] := hl
  obtain ⟨g, hg, hgg⟩ : ∃ g, gh_W V (gh_A g0 s.heap.size) s g s.heap [] ∧ g = g0 := ⟨g0, hg, rfl⟩
  rw [← hgg] at hq
  refine lv_aload_n hx hb dJ35_getKey_0 rfl (lv_at hl 0 rfl) ?_
  refine gh_get (v := .ref ka) hC hg hq (fNJ35_13 hcq) rfl dJ35_getKey_1 ?_
  exact gh_retq (r := some ka) (Or.inl ⟨_, rfl⟩) hC hg hr hlk (⟨rfl, hgg⟩) dJ35_getKey_4 (Nat.le_of_ble_eq_true rfl) (Nat.le_of_ble_eq_true rfl)
set_option maxHeartbeats 1000000 in
set_option maxRecDepth 100000 in
theorem j_J35_getValue (l : Launch) (V : gh_V) (g0 : gh_G) (q cq ka : Nat) (vv : Option Nat) (t : gh_T) (hh : Int32) (rest9 : List Value) (hcq : cq = 14 ∨ cq = 15) (hq : g0 q = some (t, oo cq (.int hh :: .ref ka :: va_rf vv :: rest9))) : MR l yJ35_getValue cJ35_getValue 1 (some (.object "java/lang/Object")) ({ frames := 0, cells := 0, slots := 0, locals := 0 } : Room) V [.ref q] g0 (fun r g1 => r = vv ∧ g1 = g0) := by
  refine MG.of RJ35 (by decide) rfl (Nat.le_of_ble_eq_true rfl) (fun pp ee s mm args below meth c ls hC hg hr hlk hnm hl => ?_)
  have hx := hC.1.1
  have hb := hC.1.2.1
  have hml := hC.1.2.2.1
  have hown := hC.1.2.2.2.1
  have hts := hC.1.2.2.2.2
  have hl : lv_has ls 1 [(0, .ref q)] := hl
  obtain ⟨g, hg, hgg⟩ : ∃ g, gh_W V (gh_A g0 s.heap.size) s g s.heap [] ∧ g = g0 := ⟨g0, hg, rfl⟩
  rw [← hgg] at hq
  refine lv_aload_n hx hb dJ35_getValue_0 rfl (lv_at hl 0 rfl) ?_
  refine gh_get (v := va_rf vv) hC hg hq (fNJ35_17 hcq) rfl dJ35_getValue_1 ?_
  exact gh_retq (r := vv) (Or.inl ⟨_, rfl⟩) hC hg hr hlk (⟨rfl, hgg⟩) dJ35_getValue_4 (Nat.le_of_ble_eq_true rfl) (Nat.le_of_ble_eq_true rfl)
theorem gh_nkV {V : gh_V} {p : Program} {l : Launch} {e : Env} {R : Room} {s : State} {m : MethodId} {args : Array Value} {below : List Frame} {meth : Method} {c0 : Code} {H : Heap} {locs : List Loc} {cells slots : Nat} {Q : State → Prop} {cc : ByteArray} {nL : Nat} {A : Nat → Prop} {g : gh_G} {pc : Nat} {ls : Array Slot} {rest : List Value} {q cq ka : Nat} {vv : Option Nat} {t : gh_T} {hh : Int32} {rest9 : List Value} (hcq : cq = 14 ∨ cq = 15) (hq : g q = some (t, oo cq (.int hh :: .ref ka :: va_rf vv :: rest9)))
    (hC : gh_C V p s m args c0 cc nL RJ45 A) (hg : gh_W V A s g H locs) (hl : ls.size = nL) (hW : (rest.map fun v => v.category).sum ≤ 8) (hdg : decode cc pc = .ok (.invokevirtual 13, 3)) (hR : 0 + 1 ≤ R.frames ∧ 8 + (1 + 11) + 0 ≤ R.locals) (hf : cells + 0 ≤ R.cells ∧ slots + 0 ≤ R.slots)
    (kk : ∀ (H1 : Heap) (locs1 : List Loc), gh_W V A s g H1 locs1 → W p l e R s m args below meth c0 H1 locs1 cells slots Q (F0 m (pc + 3) ls (.ref ka :: rest))) : W p l e R s m args below meth c0 H locs cells slots Q (F0 m pc ls (.ref q :: rest)) := by
  have hts := hC.1.2.2.2.2
  rcases hcq with rfl | rfl
  · refine gh_callq hg (gh_runU (x := ⟨"java/util/LinkedHashMap$Entry", "getKey", "()Ljava/lang/Object;"⟩) (C := "java/util/LinkedHashMap$Entry") (owner := "java/util/HashMap$Node") (As := []) (rest := rest) hC hg (j_J35_getKey l V _ q 14 ka vv t hh rest9 (Or.inl rfl) hq) 0 (va_cwU 0 hts (lw_U q2605 q2606 q2610 q2609 q143 q2611) rfl rfl rfl rfl hdF_HashMap_Node_getKey_0 ⟨Nat.le_trans (by decide) hR.1, Nat.le_trans (by decide) hR.2⟩) (gh_recv (C := "java/util/LinkedHashMap$Entry") hC hg hq rfl) rfl hl rfl hW hdg hf) (fun r9 g1 H1 locs1 hg1 hp => ?_)
    obtain ⟨rfl, rfl⟩ := hp
    exact kk H1 locs1 hg1
  · refine gh_callq hg (gh_runU (x := ⟨"java/util/LinkedHashMap$Entry", "getKey", "()Ljava/lang/Object;"⟩) (C := "java/util/HashMap$TreeNode") (owner := "java/util/HashMap$Node") (As := []) (rest := rest) hC hg (j_J35_getKey l V _ q 15 ka vv t hh rest9 (Or.inr rfl) hq) 0 (va_cwU 0 hts (lw_U q2605 q2606 q2610 q2608 q143 q2611) rfl rfl rfl rfl hdF_HashMap_Node_getKey_0 ⟨Nat.le_trans (by decide) hR.1, Nat.le_trans (by decide) hR.2⟩) (gh_recv (C := "java/util/HashMap$TreeNode") hC hg hq rfl) rfl hl rfl hW hdg hf) (fun r9 g1 H1 locs1 hg1 hp => ?_)
    obtain ⟨rfl, rfl⟩ := hp
    exact kk H1 locs1 hg1
theorem gh_nkF {V : gh_V} {p : Program} {l : Launch} {e : Env} {R : Room} {s : State} {m : MethodId} {args : Array Value} {below : List Frame} {meth : Method} {c0 : Code} {H : Heap} {locs : List Loc} {cells slots : Nat} {Q : State → Prop} {cc : ByteArray} {nL : Nat} {A : Nat → Prop} {g : gh_G} {pc : Nat} {ls : Array Slot} {rest : List Value} {q cq ka : Nat} {vv : Option Nat} {t : gh_T} {hh : Int32} {rest9 : List Value} (hcq : cq = 14 ∨ cq = 15) (hq : g q = some (t, oo cq (.int hh :: .ref ka :: va_rf vv :: rest9)))
    (hC : gh_C V p s m args c0 cc nL RJ4 A) (hg : gh_W V A s g H locs) (hl : ls.size = nL) (hW : (rest.map fun v => v.category).sum ≤ 8) (hdg : decode cc pc = .ok (.invokeinterface 143 1, 5)) (hR : 0 + 1 ≤ R.frames ∧ 8 + (1 + 11) + 0 ≤ R.locals) (hf : cells + 0 ≤ R.cells ∧ slots + 0 ≤ R.slots)
    (kk : ∀ (H1 : Heap) (locs1 : List Loc), gh_W V A s g H1 locs1 → W p l e R s m args below meth c0 H1 locs1 cells slots Q (F0 m (pc + 5) ls (.ref ka :: rest))) : W p l e R s m args below meth c0 H locs cells slots Q (F0 m pc ls (.ref q :: rest)) := by
  have hts := hC.1.2.2.2.2
  rcases hcq with rfl | rfl
  · refine gh_callFq hg (gh_runF (x := ⟨"java/util/Map$Entry", "getKey", "()Ljava/lang/Object;"⟩) (C := "java/util/LinkedHashMap$Entry") (As := []) (rest := rest) hC hg (j_J35_getKey l V _ q 14 ka vv t hh rest9 (Or.inl rfl) hq) 0 (lw_F q2937 q2610 q2948 q143 q2611) hq rfl (by decide +kernel) q2943 q2949 q2947 hdF_Map_Entry_getKey_0 ⟨Nat.le_trans (by decide) hR.1, Nat.le_trans (by decide) hR.2⟩ rfl hl rfl hW hdg hf) (fun r9 g1 H1 locs1 hg1 hp => ?_)
    obtain ⟨rfl, rfl⟩ := hp
    exact kk H1 locs1 hg1
  · refine gh_callFq hg (gh_runF (x := ⟨"java/util/Map$Entry", "getKey", "()Ljava/lang/Object;"⟩) (C := "java/util/HashMap$TreeNode") (As := []) (rest := rest) hC hg (j_J35_getKey l V _ q 15 ka vv t hh rest9 (Or.inr rfl) hq) 0 (lw_F q2937 q2610 q2945 q143 q2611) hq rfl (by decide +kernel) q2943 q2946 q2944 hdF_Map_Entry_getKey_0 ⟨Nat.le_trans (by decide) hR.1, Nat.le_trans (by decide) hR.2⟩ rfl hl rfl hW hdg hf) (fun r9 g1 H1 locs1 hg1 hp => ?_)
    obtain ⟨rfl, rfl⟩ := hp
    exact kk H1 locs1 hg1
theorem gh_nvF {V : gh_V} {p : Program} {l : Launch} {e : Env} {R : Room} {s : State} {m : MethodId} {args : Array Value} {below : List Frame} {meth : Method} {c0 : Code} {H : Heap} {locs : List Loc} {cells slots : Nat} {Q : State → Prop} {cc : ByteArray} {nL : Nat} {A : Nat → Prop} {g : gh_G} {pc : Nat} {ls : Array Slot} {rest : List Value} {q cq ka : Nat} {vv : Option Nat} {t : gh_T} {hh : Int32} {rest9 : List Value} (hcq : cq = 14 ∨ cq = 15) (hq : g q = some (t, oo cq (.int hh :: .ref ka :: va_rf vv :: rest9)))
    (hC : gh_C V p s m args c0 cc nL RJ4 A) (hg : gh_W V A s g H locs) (hl : ls.size = nL) (hW : (rest.map fun v => v.category).sum ≤ 8) (hdg : decode cc pc = .ok (.invokeinterface 146 1, 5)) (hR : 0 + 1 ≤ R.frames ∧ 8 + (1 + 11) + 0 ≤ R.locals) (hf : cells + 0 ≤ R.cells ∧ slots + 0 ≤ R.slots)
    (kk : ∀ (H1 : Heap) (locs1 : List Loc), gh_W V A s g H1 locs1 → W p l e R s m args below meth c0 H1 locs1 cells slots Q (F0 m (pc + 5) ls (va_rf vv :: rest))) : W p l e R s m args below meth c0 H locs cells slots Q (F0 m pc ls (.ref q :: rest)) := by
  have hts := hC.1.2.2.2.2
  rcases hcq with rfl | rfl
  · refine gh_callFq hg (gh_runF (x := ⟨"java/util/Map$Entry", "getValue", "()Ljava/lang/Object;"⟩) (C := "java/util/LinkedHashMap$Entry") (As := []) (rest := rest) hC hg (j_J35_getValue l V _ q 14 ka vv t hh rest9 (Or.inl rfl) hq) 0 (lw_F q2951 q2956 q2961 q143 q2958) hq rfl (by decide +kernel) q2957 q2962 q2947 hdF_Map_Entry_getValue_0 ⟨Nat.le_trans (by decide) hR.1, Nat.le_trans (by decide) hR.2⟩ rfl hl rfl hW hdg hf) (fun r9 g1 H1 locs1 hg1 hp => ?_)
    obtain ⟨rfl, rfl⟩ := hp
    exact kk H1 locs1 hg1
  · refine gh_callFq hg (gh_runF (x := ⟨"java/util/Map$Entry", "getValue", "()Ljava/lang/Object;"⟩) (C := "java/util/HashMap$TreeNode") (As := []) (rest := rest) hC hg (j_J35_getValue l V _ q 15 ka vv t hh rest9 (Or.inr rfl) hq) 0 (lw_F q2951 q2956 q2959 q143 q2958) hq rfl (by decide +kernel) q2957 q2960 q2944 hdF_Map_Entry_getValue_0 ⟨Nat.le_trans (by decide) hR.1, Nat.le_trans (by decide) hR.2⟩ rfl hl rfl hW hdg hf) (fun r9 g1 H1 locs1 hg1 hp => ?_)
    obtain ⟨rfl, rfl⟩ := hp
    exact kk H1 locs1 hg1
set_option maxHeartbeats 1000000 in
set_option maxRecDepth 100000 in
theorem j_J43_init_19 (l : Launch) (V : gh_V) (g0 : gh_G) (o k m ck it : Nat) (D : HD) (hD : lm_D V o k g0 m ck D) (hit : g0 it = some ((o, k, 7), oo 19 [.null, .null, .int 0, .int 0, .null])) : MV l yJ43_init cJ43_init 3 ({ frames := 1, cells := 0, slots := 0, locals := 12 } : Room) V [.ref it, .ref m, .int 0] g0 (fun g1 => g1 it = some ((o, k, 7), oo 19 [va_rf D.L.head?, .null, .int D.mc, .int 0, .ref m]) ∧ ∀ b, b ≠ it → g1 b = g0 b) := by
  refine MG.of RJ43 (by decide) rfl (Nat.le_of_ble_eq_true rfl) (fun pp ee s mm args below meth c ls hC hg hr hlk hnm hl => ?_)
  have hx := hC.1.1
  have hb := hC.1.2.1
  have hml := hC.1.2.2.1
  have hown := hC.1.2.2.2.1
  have hts := hC.1.2.2.2.2
  have hl : lv_has ls 3 [(0, .ref it), (1, .ref m), (2, .int 0)] := hl
  obtain ⟨g, hg, hgg⟩ : ∃ g, gh_W V (gh_A g0 s.heap.size) s g s.heap [] ∧ g = g0 := ⟨g0, hg, rfl⟩
  rw [← hgg] at hit
  have hG := hD.1.1
  rw [← hgg] at hG
  have hm := hG.cm
  have hfr : ∀ b, b ≠ it → g b = g0 b := fun b _ => by rw [hgg]
  refine lv_aload_n hx hb dJ43_init_0 rfl (lv_at hl 0 rfl) ?_
  refine lv_aload_n hx hb dJ43_init_1 rfl (lv_at hl 1 rfl) ?_
  refine gh_putF (v := .ref m) hC hg hnm hit fJ43_1_19 rfl rfl (Nat.le_of_ble_eq_true rfl) dJ43_init_2 (fun g H locs hg hw hn => ?_)
  have hm : g m = some ((o, k, 0), oo 13 [va_rf (hm_tab D), va_rf D.es, .int (nI D.L.length), .int D.mc, .int (nI D.th), .float 1061158912, va_rf D.ks, va_rf D.vs, va_rf (D.L.head?), va_rf (D.L.getLast?), .int 0, .int 0]) := (hn _ (gh_neI hm hit rfl)).trans hm
  have hfr : ∀ b, b ≠ it → g b = g0 b := fun b h1 => (hn b h1).trans (hfr b h1)
  have hit : g it = some ((o, k, 7), oo 19 [.null, .null, .int 0, .int 0, .ref m]) := hw
  refine lv_aload_n hx hb dJ43_init_5 rfl (lv_at hl 0 rfl) ?_
  refine W.objInit hx hb hown (hts _ q2465) (hts _ q185) (hts _ q186) rfl (by rw [hml]; exact hl.1) rfl dJ43_init_6 (Nat.le_of_ble_eq_true rfl) (Nat.le_of_ble_eq_true rfl) ?_
  refine W.eq (g2 := F0 mm 9 ls []) rfl ?_
  refine lv_aload_n hx hb dJ43_init_9 rfl (lv_at hl 0 rfl) ?_
  refine lv_iload_n hx hb dJ43_init_10 rfl (lv_at hl 2 rfl) ?_
  refine gh_put (v := .int 0) hC hg hit fJ43_13_19 rfl rfl (Nat.le_of_ble_eq_true rfl) dJ43_init_11 (fun g H locs hg hw hn => ?_)
  have hm : g m = some ((o, k, 0), oo 13 [va_rf (hm_tab D), va_rf D.es, .int (nI D.L.length), .int D.mc, .int (nI D.th), .float 1061158912, va_rf D.ks, va_rf D.vs, va_rf (D.L.head?), va_rf (D.L.getLast?), .int 0, .int 0]) := (hn _ (gh_neI hm hit rfl)).trans hm
  have hfr : ∀ b, b ≠ it → g b = g0 b := fun b h1 => (hn b h1).trans (hfr b h1)
  have hit : g it = some ((o, k, 7), oo 19 [.null, .null, .int 0, .int 0, .ref m]) := hw
  refine lv_aload_n hx hb dJ43_init_14 rfl (lv_at hl 0 rfl) ?_
  refine lv_iload_n hx hb dJ43_init_15 rfl (lv_at hl 2 rfl) ?_
  refine lv_if_eq (tgt := 26) hx hb dJ43_init_16 (by decide) (fun _ => ?_) (fun c_1 => (absurd ((nx_eq (show ((0 : Int32)) = nI 0 from rfl) (show ((0 : Int32)) = nI 0 from rfl) (by omega) (by omega)).mpr (by omega)) c_1))
  refine lv_aload_n hx hb dJ43_init_26 rfl (lv_at hl 1 rfl) ?_
  refine gh_get (v := va_rf (D.L.head?)) hC hg hm fJ43_23_13 rfl dJ43_init_27 ?_
  refine gh_put (v := va_rf (D.L.head?)) hC hg hit fJ43_26_19 (gh_nQ _) (gh_fQ _) (Nat.le_of_ble_eq_true rfl) dJ43_init_30 (fun g H locs hg hw hn => ?_)
  have hm : g m = some ((o, k, 0), oo 13 [va_rf (hm_tab D), va_rf D.es, .int (nI D.L.length), .int D.mc, .int (nI D.th), .float 1061158912, va_rf D.ks, va_rf D.vs, va_rf (D.L.head?), va_rf (D.L.getLast?), .int 0, .int 0]) := (hn _ (gh_neI hm hit rfl)).trans hm
  have hfr : ∀ b, b ≠ it → g b = g0 b := fun b h1 => (hn b h1).trans (hfr b h1)
  have hit : g it = some ((o, k, 7), oo 19 [va_rf (D.L.head?), .null, .int 0, .int 0, .ref m]) := hw
  refine lv_aload_n hx hb dJ43_init_33 rfl (lv_at hl 0 rfl) ?_
  refine lv_aload_n hx hb dJ43_init_34 rfl (lv_at hl 1 rfl) ?_
  refine gh_get (v := .int D.mc) hC hg hm fJ43_29_13 rfl dJ43_init_35 ?_
  refine gh_put (v := .int D.mc) hC hg hit fJ43_33_19 rfl rfl (Nat.le_of_ble_eq_true rfl) dJ43_init_38 (fun g H locs hg hw hn => ?_)
  have hm : g m = some ((o, k, 0), oo 13 [va_rf (hm_tab D), va_rf D.es, .int (nI D.L.length), .int D.mc, .int (nI D.th), .float 1061158912, va_rf D.ks, va_rf D.vs, va_rf (D.L.head?), va_rf (D.L.getLast?), .int 0, .int 0]) := (hn _ (gh_neI hm hit rfl)).trans hm
  have hfr : ∀ b, b ≠ it → g b = g0 b := fun b h1 => (hn b h1).trans (hfr b h1)
  have hit : g it = some ((o, k, 7), oo 19 [va_rf (D.L.head?), .null, .int D.mc, .int 0, .ref m]) := hw
  refine lv_aload_n hx hb dJ43_init_41 rfl (lv_at hl 0 rfl) ?_
  refine lv_null hx hb dJ43_init_42 ?_
  refine gh_put (v := .null) hC hg hit fJ43_36_19 rfl rfl (Nat.le_of_ble_eq_true rfl) dJ43_init_43 (fun g H locs hg hw hn => ?_)
  have hm : g m = some ((o, k, 0), oo 13 [va_rf (hm_tab D), va_rf D.es, .int (nI D.L.length), .int D.mc, .int (nI D.th), .float 1061158912, va_rf D.ks, va_rf D.vs, va_rf (D.L.head?), va_rf (D.L.getLast?), .int 0, .int 0]) := (hn _ (gh_neI hm hit rfl)).trans hm
  have hfr : ∀ b, b ≠ it → g b = g0 b := fun b h1 => (hn b h1).trans (hfr b h1)
  have hit : g it = some ((o, k, 7), oo 19 [va_rf (D.L.head?), .null, .int D.mc, .int 0, .ref m]) := hw
  exact gh_retv hC hg hr hlk (⟨hit, hfr⟩) dJ43_init_46 (Nat.le_of_ble_eq_true rfl) (Nat.le_of_ble_eq_true rfl)
set_option maxHeartbeats 1000000 in
set_option maxRecDepth 100000 in
theorem j_J45_init (l : Launch) (V : gh_V) (g0 : gh_G) (o k m ck it : Nat) (D : HD) (hD : lm_D V o k g0 m ck D) (hit : g0 it = some ((o, k, 7), oo 19 [.null, .null, .int 0, .int 0, .null])) : MV l yJ45_init cJ45_init 3 ({ frames := 2, cells := 0, slots := 0, locals := 34 } : Room) V [.ref it, .ref m, .int 0] g0 (fun g1 => g1 it = some ((o, k, 7), oo 19 [va_rf D.L.head?, .null, .int D.mc, .int 0, .ref m]) ∧ ∀ b, b ≠ it → g1 b = g0 b) := by
  refine MG.of RJ45 (by decide) rfl (Nat.le_of_ble_eq_true rfl) (fun pp ee s mm args below meth c ls hC hg hr hlk hnm hl => ?_)
  have hx := hC.1.1
  have hb := hC.1.2.1
  have hml := hC.1.2.2.1
  have hown := hC.1.2.2.2.1
  have hts := hC.1.2.2.2.2
  have hl : lv_has ls 3 [(0, .ref it), (1, .ref m), (2, .int 0)] := hl
  obtain ⟨g, hg, hgg⟩ : ∃ g, gh_W V (gh_A g0 s.heap.size) s g s.heap [] ∧ g = g0 := ⟨g0, hg, rfl⟩
  rw [← hgg] at hit
  refine lv_aload_n hx hb dJ45_init_0 rfl (lv_at hl 0 rfl) ?_
  refine lv_aload_n hx hb dJ45_init_1 rfl (lv_at hl 1 rfl) ?_
  refine lv_iload_n hx hb dJ45_init_2 rfl (lv_at hl 2 rfl) ?_
  refine gh_callv hg (gh_runI (As := [.ref m, .int 0]) (rest := []) hC hg (j_J43_init_19 l V _ o k m ck it D (by rw [hgg]; exact hD) hit) 2 (lw_meth q2464) q152 q2493 q2463 rfl hd_J43_init.2 ⟨Nat.le_of_ble_eq_true rfl, Nat.le_of_ble_eq_true rfl⟩ rfl hl.1 rfl (Nat.le_of_ble_eq_true rfl) dJ45_init_3 ⟨Nat.le_of_ble_eq_true rfl, Nat.le_of_ble_eq_true rfl⟩) (fun g H locs hg hp => ?_)
  exact gh_retv hC hg hr hlk (by rw [hgg] at hp; exact hp) dJ45_init_6 (Nat.le_of_ble_eq_true rfl) (Nat.le_of_ble_eq_true rfl)
set_option maxHeartbeats 1000000 in
set_option maxRecDepth 100000 in
theorem j_J43_hasNext_19 (l : Launch) (V : gh_V) (g0 : gh_G) (o k m it i : Nat) (D : HD) (hit : it_P o k g0 it m D 19 i) : MI l yJ43_hasNext cJ43_hasNext 1 (some .boolean) ({ frames := 0, cells := 0, slots := 0, locals := 0 } : Room) V [.ref it] g0 (fun r g1 => r = (if i < D.L.length then 1 else 0) ∧ g1 = g0) := by
  refine MG.of RJ43 (by decide) rfl (Nat.le_of_ble_eq_true rfl) (fun pp ee s mm args below meth c ls hC hg hr hlk hnm hl => ?_)
  have hx := hC.1.1
  have hb := hC.1.2.1
  have hml := hC.1.2.2.1
  have hown := hC.1.2.2.2.1
  have hts := hC.1.2.2.2.2
  have hl : lv_has ls 1 [(0, .ref it)] := hl
  obtain ⟨g, hg, hgg⟩ : ∃ g, gh_W V (gh_A g0 s.heap.size) s g s.heap [] ∧ g = g0 := ⟨g0, hg, rfl⟩
  rw [← hgg] at hit
  obtain ⟨cur, hit⟩ := hit
  refine lv_aload_n hx hb dJ43_hasNext_0 rfl (lv_at hl 0 rfl) ?_
  refine gh_get (v := va_rf (D.L[i]?)) hC hg hit fJ43_26_19 rfl dJ43_hasNext_1 ?_
  refine lv_ifnullQ (tgt := 11) hx hb dJ43_hasNext_4 (by decide) (fun hq_1 => ?_) (fun y_2 hq_1 => ?_)
  · skip
    have hge := List.getElem?_eq_none_iff.mp hq_1
    refine lv_iconst (v := 0) hx hb dJ43_hasNext_11 (by decide) ?_
    exact gh_retz rfl hC hg hr hlk (⟨(if_neg (by omega)).symm, hgg⟩) dJ43_hasNext_12 (Nat.le_of_ble_eq_true rfl) (Nat.le_of_ble_eq_true rfl)
  obtain ⟨hlt, -⟩ := List.getElem?_eq_some_iff.mp hq_1
  refine lv_iconst (v := 1) hx hb dJ43_hasNext_7 (by decide) ?_
  refine lv_goto (tgt := 12) hx hb dJ43_hasNext_8 (by decide) ?_
  exact gh_retz rfl hC hg hr hlk (⟨(if_pos hlt).symm, hgg⟩) dJ43_hasNext_12 (Nat.le_of_ble_eq_true rfl) (Nat.le_of_ble_eq_true rfl)
set_option maxHeartbeats 1000000 in
set_option maxRecDepth 100000 in
theorem j_J43_nextNode_19 (l : Launch) (V : gh_V) (g0 : gh_G) (o k m ck it i : Nat) (D : HD) (hD : lm_D V o k g0 m ck D) (hit : it_P o k g0 it m D 19 i) (hi : i < D.L.length) : MR l yJ43_nextNode cJ43_nextNode 2 (some (.object "java/util/LinkedHashMap$Entry")) ({ frames := 0, cells := 0, slots := 0, locals := 0 } : Room) V [.ref it] g0 (fun r g1 => r = some D.L[i] ∧ it_P o k g1 it m D 19 (i + 1) ∧ ∀ b, b ≠ it → g1 b = g0 b) := by
  refine MG.of RJ43 (by decide) rfl (Nat.le_of_ble_eq_true rfl) (fun pp ee s mm args below meth c ls hC hg hr hlk hnm hl => ?_)
  have hx := hC.1.1
  have hb := hC.1.2.1
  have hml := hC.1.2.2.1
  have hown := hC.1.2.2.2.1
  have hts := hC.1.2.2.2.2
  have hl : lv_has ls 2 [(0, .ref it)] := hl
  obtain ⟨g, hg, hgg⟩ : ∃ g, gh_W V (gh_A g0 s.heap.size) s g s.heap [] ∧ g = g0 := ⟨g0, hg, rfl⟩
  have hG := hD.1.1
  rw [← hgg] at hG
  have hm := hG.cm
  rw [← hgg] at hit
  obtain ⟨cur, hit⟩ := hit
  have hle : D.L[i]? = some D.L[i] := List.getElem?_eq_getElem hi
  have haL : D.L[i] ∈ D.L := List.getElem_mem hi
  have hsc := scL_get hG.nd hi
  generalize hae : D.L[i] = a9 at hle haL hsc
  rw [hle] at hit
  have hcn := hG.cn a9 haL
  rw [hsc] at hcn
  have hfr : ∀ b, b ≠ it → g b = g0 b := fun b _ => by rw [hgg]
  refine lv_aload_n hx hb dJ43_nextNode_0 rfl (lv_at hl 0 rfl) ?_
  refine gh_get (v := .ref a9) hC hg hit fJ43_26_19 rfl dJ43_nextNode_1 ?_
  refine lv_astore_n (lv' := [(1, .ref a9), (0, .ref it)]) hx hb dJ43_nextNode_4 rfl hl (by decide) rfl (fun ls hl => ?_)
  refine lv_aload_n hx hb dJ43_nextNode_5 rfl (lv_at hl 1 rfl) ?_
  refine gh_get (v := .ref m) hC hg hit fJ43_1_19 rfl dJ43_nextNode_6 ?_
  refine gh_get (v := .int D.mc) hC hg hm fJ43_29_13 rfl dJ43_nextNode_9 ?_
  refine lv_aload_n hx hb dJ43_nextNode_12 rfl (lv_at hl 1 rfl) ?_
  refine gh_get (v := .int D.mc) hC hg hit fJ43_33_19 rfl dJ43_nextNode_13 ?_
  refine lv_icmp_eq (tgt := 27) hx hb dJ43_nextNode_16 (by decide) (fun _ => ?_) (fun c_1 => (absurd rfl c_1))
  refine lv_aload_n hx hb dJ43_nextNode_27 rfl (lv_at hl 0 rfl) ?_
  refine lv_ifnonnull (tgt := 39) hx hb dJ43_nextNode_28 (by decide) ?_
  refine lv_aload_n hx hb dJ43_nextNode_39 rfl (lv_at hl 1 rfl) ?_
  refine lv_aload_n hx hb dJ43_nextNode_40 rfl (lv_at hl 0 rfl) ?_
  refine gh_put (v := .ref a9) hC hg hit fJ43_36_19 rfl rfl (Nat.le_of_ble_eq_true rfl) dJ43_nextNode_41 (fun g H locs hg hw hn => ?_)
  have hm : g m = some ((o, k, 0), oo 13 [va_rf (hm_tab D), va_rf D.es, .int (nI D.L.length), .int D.mc, .int (nI D.th), .float 1061158912, va_rf D.ks, va_rf D.vs, va_rf (D.L.head?), va_rf (D.L.getLast?), .int 0, .int 0]) := (hn _ (gh_neI hm hit rfl)).trans hm
  have hcn : g a9 = some ((o, k, 2), oo (D.ci a9) (.int (nI (hm_sp (D.C a9))) :: .ref (D.K a9) :: (va_rf (D.v a9)) :: (va_rf (D.nx a9)) :: (va_rf (pvL D.L a9)) :: (va_rf (D.L[i + 1]?)) :: D.ex a9)) := (hn _ (gh_neI hcn hit rfl)).trans hcn
  have hfr : ∀ b, b ≠ it → g b = g0 b := fun b h1 => (hn b h1).trans (hfr b h1)
  have hit : g it = some ((o, k, 7), oo 19 [.ref a9, .ref a9, .int D.mc, .int 0, .ref m]) := hw
  refine lv_aload_n hx hb dJ43_nextNode_44 rfl (lv_at hl 1 rfl) ?_
  refine lv_aload_n hx hb dJ43_nextNode_45 rfl (lv_at hl 1 rfl) ?_
  refine gh_get (v := .int 0) hC hg hit fJ43_13_19 rfl dJ43_nextNode_46 ?_
  refine lv_if_eq (tgt := 59) hx hb dJ43_nextNode_49 (by decide) (fun _ => ?_) (fun c_2 => (absurd ((nx_eq (show ((0 : Int32)) = nI 0 from rfl) (show ((0 : Int32)) = nI 0 from rfl) (by omega) (by omega)).mpr (by omega)) c_2))
  refine lv_aload_n hx hb dJ43_nextNode_59 rfl (lv_at hl 0 rfl) ?_
  refine gh_get (v := va_rf (D.L[i + 1]?)) hC hg hcn (fNJ43_50 (hG.len.2 a9 haL)) rfl dJ43_nextNode_60 ?_
  refine gh_put (v := va_rf (D.L[i + 1]?)) hC hg hit fJ43_26_19 (gh_nQ _) (gh_fQ _) (Nat.le_of_ble_eq_true rfl) dJ43_nextNode_63 (fun g H locs hg hw hn => ?_)
  have hm : g m = some ((o, k, 0), oo 13 [va_rf (hm_tab D), va_rf D.es, .int (nI D.L.length), .int D.mc, .int (nI D.th), .float 1061158912, va_rf D.ks, va_rf D.vs, va_rf (D.L.head?), va_rf (D.L.getLast?), .int 0, .int 0]) := (hn _ (gh_neI hm hit rfl)).trans hm
  have hcn : g a9 = some ((o, k, 2), oo (D.ci a9) (.int (nI (hm_sp (D.C a9))) :: .ref (D.K a9) :: (va_rf (D.v a9)) :: (va_rf (D.nx a9)) :: (va_rf (pvL D.L a9)) :: (va_rf (D.L[i + 1]?)) :: D.ex a9)) := (hn _ (gh_neI hcn hit rfl)).trans hcn
  have hfr : ∀ b, b ≠ it → g b = g0 b := fun b h1 => (hn b h1).trans (hfr b h1)
  have hit : g it = some ((o, k, 7), oo 19 [va_rf (D.L[i + 1]?), .ref a9, .int D.mc, .int 0, .ref m]) := hw
  refine lv_aload_n hx hb dJ43_nextNode_66 rfl (lv_at hl 0 rfl) ?_
  exact gh_retq (r := some a9) (Or.inl ⟨_, rfl⟩) hC hg hr hlk (⟨rfl, ⟨some a9, hit⟩, hfr⟩) dJ43_nextNode_67 (Nat.le_of_ble_eq_true rfl) (Nat.le_of_ble_eq_true rfl)
set_option maxHeartbeats 1000000 in
set_option maxRecDepth 100000 in
theorem j_J45_next (l : Launch) (V : gh_V) (g0 : gh_G) (o k m ck it i : Nat) (D : HD) (hD : lm_D V o k g0 m ck D) (hit : it_P o k g0 it m D 19 i) (hi : i < D.L.length) : MR l yJ45_next cJ45_next 1 (some (.object "java/lang/Object")) ({ frames := 1, cells := 0, slots := 0, locals := 21 } : Room) V [.ref it] g0 (fun r g1 => r = some (D.K D.L[i]) ∧ it_P o k g1 it m D 19 (i + 1) ∧ ∀ b, b ≠ it → g1 b = g0 b) := by
  refine MG.of RJ45 (by decide) rfl (Nat.le_of_ble_eq_true rfl) (fun pp ee s mm args below meth c ls hC hg hr hlk hnm hl => ?_)
  have hx := hC.1.1
  have hb := hC.1.2.1
  have hml := hC.1.2.2.1
  have hown := hC.1.2.2.2.1
  have hts := hC.1.2.2.2.2
  have hl : lv_has ls 1 [(0, .ref it)] := hl
  obtain ⟨g, hg, hgg⟩ : ∃ g, gh_W V (gh_A g0 s.heap.size) s g s.heap [] ∧ g = g0 := ⟨g0, hg, rfl⟩
  have hI0 := hit
  rw [← hgg] at hit
  obtain ⟨cur, hit⟩ := hit
  refine lv_aload_n hx hb dJ45_next_0 rfl (lv_at hl 0 rfl) ?_
  refine gh_callq hg (gh_runU (x := ⟨"java/util/LinkedHashMap$LinkedKeyIterator", "nextNode", "()Ljava/util/LinkedHashMap$Entry;"⟩) (C := "java/util/LinkedHashMap$LinkedKeyIterator") (owner := "java/util/LinkedHashMap$LinkedHashIterator") (As := []) (rest := []) hC hg (j_J43_nextNode_19 l V _ o k m ck it i D (by rw [hgg]; exact hD) (by rw [hgg]; exact hI0) hi) 0 (va_cwU 0 hts (lw_U q2602 q2603 q2595 q2604 q152 q2596) rfl rfl rfl rfl hdF_LinkedHashMap_LinkedHashIterator_nextNode_0 ⟨Nat.le_of_ble_eq_true rfl, Nat.le_of_ble_eq_true rfl⟩) (gh_recv (C := "java/util/LinkedHashMap$LinkedKeyIterator") hC hg hit rfl) rfl hl.1 rfl (Nat.le_of_ble_eq_true rfl) dJ45_next_1 ⟨Nat.le_of_ble_eq_true rfl, Nat.le_of_ble_eq_true rfl⟩) (fun r_1 g H locs hg hp => ?_)
  obtain ⟨hr, hitp, hfr⟩ := hp
  rw [hgg] at hfr
  have haL : D.L[i] ∈ D.L := List.getElem_mem hi
  have hD1 : lm_D V o k g m ck D := hI0.ne hD hfr
  have hcn := hD1.1.1.cn _ haL
  subst hr
  refine W.eq (g2 := F0 mm 4 ls [.ref (D.L[i])]) rfl ?_
  refine gh_nkV (hD1.1.1.len.2 _ haL) hcn hC hg hl.1 (Nat.le_of_ble_eq_true rfl) dJ45_next_4 ⟨Nat.le_of_ble_eq_true rfl, Nat.le_of_ble_eq_true rfl⟩ ⟨Nat.le_of_ble_eq_true rfl, Nat.le_of_ble_eq_true rfl⟩ (fun H locs hg => ?_)
  exact gh_retq (r := some (D.K D.L[i])) (Or.inl ⟨_, rfl⟩) hC hg hr hlk (⟨rfl, hitp, hfr⟩) dJ45_next_7 (Nat.le_of_ble_eq_true rfl) (Nat.le_of_ble_eq_true rfl)
set_option maxHeartbeats 1000000 in
set_option maxRecDepth 100000 in
theorem j_J43_init_20 (l : Launch) (V : gh_V) (g0 : gh_G) (o k m ck it : Nat) (D : HD) (hD : lm_D V o k g0 m ck D) (hit : g0 it = some ((o, k, 7), oo 20 [.null, .null, .int 0, .int 0, .null])) : MV l yJ43_init cJ43_init 3 ({ frames := 1, cells := 0, slots := 0, locals := 12 } : Room) V [.ref it, .ref m, .int 0] g0 (fun g1 => g1 it = some ((o, k, 7), oo 20 [va_rf D.L.head?, .null, .int D.mc, .int 0, .ref m]) ∧ ∀ b, b ≠ it → g1 b = g0 b) := by
  refine MG.of RJ43 (by decide) rfl (Nat.le_of_ble_eq_true rfl) (fun pp ee s mm args below meth c ls hC hg hr hlk hnm hl => ?_)
  have hx := hC.1.1
  have hb := hC.1.2.1
  have hml := hC.1.2.2.1
  have hown := hC.1.2.2.2.1
  have hts := hC.1.2.2.2.2
  have hl : lv_has ls 3 [(0, .ref it), (1, .ref m), (2, .int 0)] := hl
  obtain ⟨g, hg, hgg⟩ : ∃ g, gh_W V (gh_A g0 s.heap.size) s g s.heap [] ∧ g = g0 := ⟨g0, hg, rfl⟩
  rw [← hgg] at hit
  have hG := hD.1.1
  rw [← hgg] at hG
  have hm := hG.cm
  have hfr : ∀ b, b ≠ it → g b = g0 b := fun b _ => by rw [hgg]
  refine lv_aload_n hx hb dJ43_init_0 rfl (lv_at hl 0 rfl) ?_
  refine lv_aload_n hx hb dJ43_init_1 rfl (lv_at hl 1 rfl) ?_
  refine gh_putF (v := .ref m) hC hg hnm hit fJ43_1_20 rfl rfl (Nat.le_of_ble_eq_true rfl) dJ43_init_2 (fun g H locs hg hw hn => ?_)
  have hm : g m = some ((o, k, 0), oo 13 [va_rf (hm_tab D), va_rf D.es, .int (nI D.L.length), .int D.mc, .int (nI D.th), .float 1061158912, va_rf D.ks, va_rf D.vs, va_rf (D.L.head?), va_rf (D.L.getLast?), .int 0, .int 0]) := (hn _ (gh_neI hm hit rfl)).trans hm
  have hfr : ∀ b, b ≠ it → g b = g0 b := fun b h1 => (hn b h1).trans (hfr b h1)
  have hit : g it = some ((o, k, 7), oo 20 [.null, .null, .int 0, .int 0, .ref m]) := hw
  refine lv_aload_n hx hb dJ43_init_5 rfl (lv_at hl 0 rfl) ?_
  refine W.objInit hx hb hown (hts _ q2465) (hts _ q185) (hts _ q186) rfl (by rw [hml]; exact hl.1) rfl dJ43_init_6 (Nat.le_of_ble_eq_true rfl) (Nat.le_of_ble_eq_true rfl) ?_
  refine W.eq (g2 := F0 mm 9 ls []) rfl ?_
  refine lv_aload_n hx hb dJ43_init_9 rfl (lv_at hl 0 rfl) ?_
  refine lv_iload_n hx hb dJ43_init_10 rfl (lv_at hl 2 rfl) ?_
  refine gh_put (v := .int 0) hC hg hit fJ43_13_20 rfl rfl (Nat.le_of_ble_eq_true rfl) dJ43_init_11 (fun g H locs hg hw hn => ?_)
  have hm : g m = some ((o, k, 0), oo 13 [va_rf (hm_tab D), va_rf D.es, .int (nI D.L.length), .int D.mc, .int (nI D.th), .float 1061158912, va_rf D.ks, va_rf D.vs, va_rf (D.L.head?), va_rf (D.L.getLast?), .int 0, .int 0]) := (hn _ (gh_neI hm hit rfl)).trans hm
  have hfr : ∀ b, b ≠ it → g b = g0 b := fun b h1 => (hn b h1).trans (hfr b h1)
  have hit : g it = some ((o, k, 7), oo 20 [.null, .null, .int 0, .int 0, .ref m]) := hw
  refine lv_aload_n hx hb dJ43_init_14 rfl (lv_at hl 0 rfl) ?_
  refine lv_iload_n hx hb dJ43_init_15 rfl (lv_at hl 2 rfl) ?_
  refine lv_if_eq (tgt := 26) hx hb dJ43_init_16 (by decide) (fun _ => ?_) (fun c_1 => (absurd ((nx_eq (show ((0 : Int32)) = nI 0 from rfl) (show ((0 : Int32)) = nI 0 from rfl) (by omega) (by omega)).mpr (by omega)) c_1))
  refine lv_aload_n hx hb dJ43_init_26 rfl (lv_at hl 1 rfl) ?_
  refine gh_get (v := va_rf (D.L.head?)) hC hg hm fJ43_23_13 rfl dJ43_init_27 ?_
  refine gh_put (v := va_rf (D.L.head?)) hC hg hit fJ43_26_20 (gh_nQ _) (gh_fQ _) (Nat.le_of_ble_eq_true rfl) dJ43_init_30 (fun g H locs hg hw hn => ?_)
  have hm : g m = some ((o, k, 0), oo 13 [va_rf (hm_tab D), va_rf D.es, .int (nI D.L.length), .int D.mc, .int (nI D.th), .float 1061158912, va_rf D.ks, va_rf D.vs, va_rf (D.L.head?), va_rf (D.L.getLast?), .int 0, .int 0]) := (hn _ (gh_neI hm hit rfl)).trans hm
  have hfr : ∀ b, b ≠ it → g b = g0 b := fun b h1 => (hn b h1).trans (hfr b h1)
  have hit : g it = some ((o, k, 7), oo 20 [va_rf (D.L.head?), .null, .int 0, .int 0, .ref m]) := hw
  refine lv_aload_n hx hb dJ43_init_33 rfl (lv_at hl 0 rfl) ?_
  refine lv_aload_n hx hb dJ43_init_34 rfl (lv_at hl 1 rfl) ?_
  refine gh_get (v := .int D.mc) hC hg hm fJ43_29_13 rfl dJ43_init_35 ?_
  refine gh_put (v := .int D.mc) hC hg hit fJ43_33_20 rfl rfl (Nat.le_of_ble_eq_true rfl) dJ43_init_38 (fun g H locs hg hw hn => ?_)
  have hm : g m = some ((o, k, 0), oo 13 [va_rf (hm_tab D), va_rf D.es, .int (nI D.L.length), .int D.mc, .int (nI D.th), .float 1061158912, va_rf D.ks, va_rf D.vs, va_rf (D.L.head?), va_rf (D.L.getLast?), .int 0, .int 0]) := (hn _ (gh_neI hm hit rfl)).trans hm
  have hfr : ∀ b, b ≠ it → g b = g0 b := fun b h1 => (hn b h1).trans (hfr b h1)
  have hit : g it = some ((o, k, 7), oo 20 [va_rf (D.L.head?), .null, .int D.mc, .int 0, .ref m]) := hw
  refine lv_aload_n hx hb dJ43_init_41 rfl (lv_at hl 0 rfl) ?_
  refine lv_null hx hb dJ43_init_42 ?_
  refine gh_put (v := .null) hC hg hit fJ43_36_20 rfl rfl (Nat.le_of_ble_eq_true rfl) dJ43_init_43 (fun g H locs hg hw hn => ?_)
  have hm : g m = some ((o, k, 0), oo 13 [va_rf (hm_tab D), va_rf D.es, .int (nI D.L.length), .int D.mc, .int (nI D.th), .float 1061158912, va_rf D.ks, va_rf D.vs, va_rf (D.L.head?), va_rf (D.L.getLast?), .int 0, .int 0]) := (hn _ (gh_neI hm hit rfl)).trans hm
  have hfr : ∀ b, b ≠ it → g b = g0 b := fun b h1 => (hn b h1).trans (hfr b h1)
  have hit : g it = some ((o, k, 7), oo 20 [va_rf (D.L.head?), .null, .int D.mc, .int 0, .ref m]) := hw
  exact gh_retv hC hg hr hlk (⟨hit, hfr⟩) dJ43_init_46 (Nat.le_of_ble_eq_true rfl) (Nat.le_of_ble_eq_true rfl)
set_option maxHeartbeats 1000000 in
set_option maxRecDepth 100000 in
theorem j_J51_init (l : Launch) (V : gh_V) (g0 : gh_G) (o k m ck it : Nat) (D : HD) (hD : lm_D V o k g0 m ck D) (hit : g0 it = some ((o, k, 7), oo 20 [.null, .null, .int 0, .int 0, .null])) : MV l yJ51_init cJ51_init 3 ({ frames := 2, cells := 0, slots := 0, locals := 34 } : Room) V [.ref it, .ref m, .int 0] g0 (fun g1 => g1 it = some ((o, k, 7), oo 20 [va_rf D.L.head?, .null, .int D.mc, .int 0, .ref m]) ∧ ∀ b, b ≠ it → g1 b = g0 b) := by
  refine MG.of RJ51 (by decide) rfl (Nat.le_of_ble_eq_true rfl) (fun pp ee s mm args below meth c ls hC hg hr hlk hnm hl => ?_)
  have hx := hC.1.1
  have hb := hC.1.2.1
  have hml := hC.1.2.2.1
  have hown := hC.1.2.2.2.1
  have hts := hC.1.2.2.2.2
  have hl : lv_has ls 3 [(0, .ref it), (1, .ref m), (2, .int 0)] := hl
  obtain ⟨g, hg, hgg⟩ : ∃ g, gh_W V (gh_A g0 s.heap.size) s g s.heap [] ∧ g = g0 := ⟨g0, hg, rfl⟩
  rw [← hgg] at hit
  refine lv_aload_n hx hb dJ51_init_0 rfl (lv_at hl 0 rfl) ?_
  refine lv_aload_n hx hb dJ51_init_1 rfl (lv_at hl 1 rfl) ?_
  refine lv_iload_n hx hb dJ51_init_2 rfl (lv_at hl 2 rfl) ?_
  refine gh_callv hg (gh_runI (As := [.ref m, .int 0]) (rest := []) hC hg (j_J43_init_20 l V _ o k m ck it D (by rw [hgg]; exact hD) hit) 2 (lw_meth q2464) q152 q3102 q2463 rfl hd_J43_init.2 ⟨Nat.le_of_ble_eq_true rfl, Nat.le_of_ble_eq_true rfl⟩ rfl hl.1 rfl (Nat.le_of_ble_eq_true rfl) dJ51_init_3 ⟨Nat.le_of_ble_eq_true rfl, Nat.le_of_ble_eq_true rfl⟩) (fun g H locs hg hp => ?_)
  exact gh_retv hC hg hr hlk (by rw [hgg] at hp; exact hp) dJ51_init_6 (Nat.le_of_ble_eq_true rfl) (Nat.le_of_ble_eq_true rfl)
set_option maxHeartbeats 1000000 in
set_option maxRecDepth 100000 in
theorem j_J43_hasNext_20 (l : Launch) (V : gh_V) (g0 : gh_G) (o k m it i : Nat) (D : HD) (hit : it_P o k g0 it m D 20 i) : MI l yJ43_hasNext cJ43_hasNext 1 (some .boolean) ({ frames := 0, cells := 0, slots := 0, locals := 0 } : Room) V [.ref it] g0 (fun r g1 => r = (if i < D.L.length then 1 else 0) ∧ g1 = g0) := by
  refine MG.of RJ43 (by decide) rfl (Nat.le_of_ble_eq_true rfl) (fun pp ee s mm args below meth c ls hC hg hr hlk hnm hl => ?_)
  have hx := hC.1.1
  have hb := hC.1.2.1
  have hml := hC.1.2.2.1
  have hown := hC.1.2.2.2.1
  have hts := hC.1.2.2.2.2
  have hl : lv_has ls 1 [(0, .ref it)] := hl
  obtain ⟨g, hg, hgg⟩ : ∃ g, gh_W V (gh_A g0 s.heap.size) s g s.heap [] ∧ g = g0 := ⟨g0, hg, rfl⟩
  rw [← hgg] at hit
  obtain ⟨cur, hit⟩ := hit
  refine lv_aload_n hx hb dJ43_hasNext_0 rfl (lv_at hl 0 rfl) ?_
  refine gh_get (v := va_rf (D.L[i]?)) hC hg hit fJ43_26_20 rfl dJ43_hasNext_1 ?_
  refine lv_ifnullQ (tgt := 11) hx hb dJ43_hasNext_4 (by decide) (fun hq_1 => ?_) (fun y_2 hq_1 => ?_)
  · skip
    have hge := List.getElem?_eq_none_iff.mp hq_1
    refine lv_iconst (v := 0) hx hb dJ43_hasNext_11 (by decide) ?_
    exact gh_retz rfl hC hg hr hlk (⟨(if_neg (by omega)).symm, hgg⟩) dJ43_hasNext_12 (Nat.le_of_ble_eq_true rfl) (Nat.le_of_ble_eq_true rfl)
  obtain ⟨hlt, -⟩ := List.getElem?_eq_some_iff.mp hq_1
  refine lv_iconst (v := 1) hx hb dJ43_hasNext_7 (by decide) ?_
  refine lv_goto (tgt := 12) hx hb dJ43_hasNext_8 (by decide) ?_
  exact gh_retz rfl hC hg hr hlk (⟨(if_pos hlt).symm, hgg⟩) dJ43_hasNext_12 (Nat.le_of_ble_eq_true rfl) (Nat.le_of_ble_eq_true rfl)
set_option maxHeartbeats 1000000 in
set_option maxRecDepth 100000 in
theorem j_J43_nextNode_20 (l : Launch) (V : gh_V) (g0 : gh_G) (o k m ck it i : Nat) (D : HD) (hD : lm_D V o k g0 m ck D) (hit : it_P o k g0 it m D 20 i) (hi : i < D.L.length) : MR l yJ43_nextNode cJ43_nextNode 2 (some (.object "java/util/LinkedHashMap$Entry")) ({ frames := 0, cells := 0, slots := 0, locals := 0 } : Room) V [.ref it] g0 (fun r g1 => r = some D.L[i] ∧ it_P o k g1 it m D 20 (i + 1) ∧ ∀ b, b ≠ it → g1 b = g0 b) := by
  refine MG.of RJ43 (by decide) rfl (Nat.le_of_ble_eq_true rfl) (fun pp ee s mm args below meth c ls hC hg hr hlk hnm hl => ?_)
  have hx := hC.1.1
  have hb := hC.1.2.1
  have hml := hC.1.2.2.1
  have hown := hC.1.2.2.2.1
  have hts := hC.1.2.2.2.2
  have hl : lv_has ls 2 [(0, .ref it)] := hl
  obtain ⟨g, hg, hgg⟩ : ∃ g, gh_W V (gh_A g0 s.heap.size) s g s.heap [] ∧ g = g0 := ⟨g0, hg, rfl⟩
  have hG := hD.1.1
  rw [← hgg] at hG
  have hm := hG.cm
  rw [← hgg] at hit
  obtain ⟨cur, hit⟩ := hit
  have hle : D.L[i]? = some D.L[i] := List.getElem?_eq_getElem hi
  have haL : D.L[i] ∈ D.L := List.getElem_mem hi
  have hsc := scL_get hG.nd hi
  generalize hae : D.L[i] = a9 at hle haL hsc
  rw [hle] at hit
  have hcn := hG.cn a9 haL
  rw [hsc] at hcn
  have hfr : ∀ b, b ≠ it → g b = g0 b := fun b _ => by rw [hgg]
  refine lv_aload_n hx hb dJ43_nextNode_0 rfl (lv_at hl 0 rfl) ?_
  refine gh_get (v := .ref a9) hC hg hit fJ43_26_20 rfl dJ43_nextNode_1 ?_
  refine lv_astore_n (lv' := [(1, .ref a9), (0, .ref it)]) hx hb dJ43_nextNode_4 rfl hl (by decide) rfl (fun ls hl => ?_)
  refine lv_aload_n hx hb dJ43_nextNode_5 rfl (lv_at hl 1 rfl) ?_
  refine gh_get (v := .ref m) hC hg hit fJ43_1_20 rfl dJ43_nextNode_6 ?_
  refine gh_get (v := .int D.mc) hC hg hm fJ43_29_13 rfl dJ43_nextNode_9 ?_
  refine lv_aload_n hx hb dJ43_nextNode_12 rfl (lv_at hl 1 rfl) ?_
  refine gh_get (v := .int D.mc) hC hg hit fJ43_33_20 rfl dJ43_nextNode_13 ?_
  refine lv_icmp_eq (tgt := 27) hx hb dJ43_nextNode_16 (by decide) (fun _ => ?_) (fun c_1 => (absurd rfl c_1))
  refine lv_aload_n hx hb dJ43_nextNode_27 rfl (lv_at hl 0 rfl) ?_
  refine lv_ifnonnull (tgt := 39) hx hb dJ43_nextNode_28 (by decide) ?_
  refine lv_aload_n hx hb dJ43_nextNode_39 rfl (lv_at hl 1 rfl) ?_
  refine lv_aload_n hx hb dJ43_nextNode_40 rfl (lv_at hl 0 rfl) ?_
  refine gh_put (v := .ref a9) hC hg hit fJ43_36_20 rfl rfl (Nat.le_of_ble_eq_true rfl) dJ43_nextNode_41 (fun g H locs hg hw hn => ?_)
  have hm : g m = some ((o, k, 0), oo 13 [va_rf (hm_tab D), va_rf D.es, .int (nI D.L.length), .int D.mc, .int (nI D.th), .float 1061158912, va_rf D.ks, va_rf D.vs, va_rf (D.L.head?), va_rf (D.L.getLast?), .int 0, .int 0]) := (hn _ (gh_neI hm hit rfl)).trans hm
  have hcn : g a9 = some ((o, k, 2), oo (D.ci a9) (.int (nI (hm_sp (D.C a9))) :: .ref (D.K a9) :: (va_rf (D.v a9)) :: (va_rf (D.nx a9)) :: (va_rf (pvL D.L a9)) :: (va_rf (D.L[i + 1]?)) :: D.ex a9)) := (hn _ (gh_neI hcn hit rfl)).trans hcn
  have hfr : ∀ b, b ≠ it → g b = g0 b := fun b h1 => (hn b h1).trans (hfr b h1)
  have hit : g it = some ((o, k, 7), oo 20 [.ref a9, .ref a9, .int D.mc, .int 0, .ref m]) := hw
  refine lv_aload_n hx hb dJ43_nextNode_44 rfl (lv_at hl 1 rfl) ?_
  refine lv_aload_n hx hb dJ43_nextNode_45 rfl (lv_at hl 1 rfl) ?_
  refine gh_get (v := .int 0) hC hg hit fJ43_13_20 rfl dJ43_nextNode_46 ?_
  refine lv_if_eq (tgt := 59) hx hb dJ43_nextNode_49 (by decide) (fun _ => ?_) (fun c_2 => (absurd ((nx_eq (show ((0 : Int32)) = nI 0 from rfl) (show ((0 : Int32)) = nI 0 from rfl) (by omega) (by omega)).mpr (by omega)) c_2))
  refine lv_aload_n hx hb dJ43_nextNode_59 rfl (lv_at hl 0 rfl) ?_
  refine gh_get (v := va_rf (D.L[i + 1]?)) hC hg hcn (fNJ43_50 (hG.len.2 a9 haL)) rfl dJ43_nextNode_60 ?_
  refine gh_put (v := va_rf (D.L[i + 1]?)) hC hg hit fJ43_26_20 (gh_nQ _) (gh_fQ _) (Nat.le_of_ble_eq_true rfl) dJ43_nextNode_63 (fun g H locs hg hw hn => ?_)
  have hm : g m = some ((o, k, 0), oo 13 [va_rf (hm_tab D), va_rf D.es, .int (nI D.L.length), .int D.mc, .int (nI D.th), .float 1061158912, va_rf D.ks, va_rf D.vs, va_rf (D.L.head?), va_rf (D.L.getLast?), .int 0, .int 0]) := (hn _ (gh_neI hm hit rfl)).trans hm
  have hcn : g a9 = some ((o, k, 2), oo (D.ci a9) (.int (nI (hm_sp (D.C a9))) :: .ref (D.K a9) :: (va_rf (D.v a9)) :: (va_rf (D.nx a9)) :: (va_rf (pvL D.L a9)) :: (va_rf (D.L[i + 1]?)) :: D.ex a9)) := (hn _ (gh_neI hcn hit rfl)).trans hcn
  have hfr : ∀ b, b ≠ it → g b = g0 b := fun b h1 => (hn b h1).trans (hfr b h1)
  have hit : g it = some ((o, k, 7), oo 20 [va_rf (D.L[i + 1]?), .ref a9, .int D.mc, .int 0, .ref m]) := hw
  refine lv_aload_n hx hb dJ43_nextNode_66 rfl (lv_at hl 0 rfl) ?_
  exact gh_retq (r := some a9) (Or.inl ⟨_, rfl⟩) hC hg hr hlk (⟨rfl, ⟨some a9, hit⟩, hfr⟩) dJ43_nextNode_67 (Nat.le_of_ble_eq_true rfl) (Nat.le_of_ble_eq_true rfl)
set_option maxHeartbeats 1000000 in
set_option maxRecDepth 100000 in
theorem j_J51_next (l : Launch) (V : gh_V) (g0 : gh_G) (o k m ck it i : Nat) (D : HD) (hD : lm_D V o k g0 m ck D) (hit : it_P o k g0 it m D 20 i) (hi : i < D.L.length) : MR l yJ51_next cJ51_next 1 (some (.object "java/lang/Object")) ({ frames := 1, cells := 0, slots := 0, locals := 21 } : Room) V [.ref it] g0 (fun r g1 => r = D.v D.L[i] ∧ it_P o k g1 it m D 20 (i + 1) ∧ ∀ b, b ≠ it → g1 b = g0 b) := by
  refine MG.of RJ51 (by decide) rfl (Nat.le_of_ble_eq_true rfl) (fun pp ee s mm args below meth c ls hC hg hr hlk hnm hl => ?_)
  have hx := hC.1.1
  have hb := hC.1.2.1
  have hml := hC.1.2.2.1
  have hown := hC.1.2.2.2.1
  have hts := hC.1.2.2.2.2
  have hl : lv_has ls 1 [(0, .ref it)] := hl
  obtain ⟨g, hg, hgg⟩ : ∃ g, gh_W V (gh_A g0 s.heap.size) s g s.heap [] ∧ g = g0 := ⟨g0, hg, rfl⟩
  have hI0 := hit
  rw [← hgg] at hit
  obtain ⟨cur, hit⟩ := hit
  refine lv_aload_n hx hb dJ51_next_0 rfl (lv_at hl 0 rfl) ?_
  refine gh_callq hg (gh_runU (x := ⟨"java/util/LinkedHashMap$LinkedValueIterator", "nextNode", "()Ljava/util/LinkedHashMap$Entry;"⟩) (C := "java/util/LinkedHashMap$LinkedValueIterator") (owner := "java/util/LinkedHashMap$LinkedHashIterator") (As := []) (rest := []) hC hg (j_J43_nextNode_20 l V _ o k m ck it i D (by rw [hgg]; exact hD) (by rw [hgg]; exact hI0) hi) 0 (va_cwU 0 hts (lw_U q2617 q2618 q2595 q2619 q152 q2596) rfl rfl rfl rfl hdF_LinkedHashMap_LinkedHashIterator_nextNode_0 ⟨Nat.le_of_ble_eq_true rfl, Nat.le_of_ble_eq_true rfl⟩) (gh_recv (C := "java/util/LinkedHashMap$LinkedValueIterator") hC hg hit rfl) rfl hl.1 rfl (Nat.le_of_ble_eq_true rfl) dJ51_next_1 ⟨Nat.le_of_ble_eq_true rfl, Nat.le_of_ble_eq_true rfl⟩) (fun r_1 g H locs hg hp => ?_)
  obtain ⟨hr, hitp, hfr⟩ := hp
  rw [hgg] at hfr
  have haL : D.L[i] ∈ D.L := List.getElem_mem hi
  have hD1 : lm_D V o k g m ck D := hI0.ne hD hfr
  have hcn := hD1.1.1.cn _ haL
  subst hr
  refine W.eq (g2 := F0 mm 4 ls [.ref (D.L[i])]) rfl ?_
  refine gh_get (v := va_rf (D.v D.L[i])) hC hg hcn (fNJ51_13 (hD1.1.1.len.2 _ haL)) rfl dJ51_next_4 ?_
  exact gh_retq (r := (D.v D.L[i])) (Or.inl ⟨_, rfl⟩) hC hg hr hlk (⟨rfl, hitp, hfr⟩) dJ51_next_7 (Nat.le_of_ble_eq_true rfl) (Nat.le_of_ble_eq_true rfl)
set_option maxHeartbeats 1000000 in
set_option maxRecDepth 100000 in
theorem j_J43_init_21 (l : Launch) (V : gh_V) (g0 : gh_G) (o k m ck it : Nat) (D : HD) (hD : lm_D V o k g0 m ck D) (hit : g0 it = some ((o, k, 7), oo 21 [.null, .null, .int 0, .int 0, .null])) : MV l yJ43_init cJ43_init 3 ({ frames := 1, cells := 0, slots := 0, locals := 12 } : Room) V [.ref it, .ref m, .int 0] g0 (fun g1 => g1 it = some ((o, k, 7), oo 21 [va_rf D.L.head?, .null, .int D.mc, .int 0, .ref m]) ∧ ∀ b, b ≠ it → g1 b = g0 b) := by
  refine MG.of RJ43 (by decide) rfl (Nat.le_of_ble_eq_true rfl) (fun pp ee s mm args below meth c ls hC hg hr hlk hnm hl => ?_)
  have hx := hC.1.1
  have hb := hC.1.2.1
  have hml := hC.1.2.2.1
  have hown := hC.1.2.2.2.1
  have hts := hC.1.2.2.2.2
  have hl : lv_has ls 3 [(0, .ref it), (1, .ref m), (2, .int 0)] := hl
  obtain ⟨g, hg, hgg⟩ : ∃ g, gh_W V (gh_A g0 s.heap.size) s g s.heap [] ∧ g = g0 := ⟨g0, hg, rfl⟩
  rw [← hgg] at hit
  have hG := hD.1.1
  rw [← hgg] at hG
  have hm := hG.cm
  have hfr : ∀ b, b ≠ it → g b = g0 b := fun b _ => by rw [hgg]
  refine lv_aload_n hx hb dJ43_init_0 rfl (lv_at hl 0 rfl) ?_
  refine lv_aload_n hx hb dJ43_init_1 rfl (lv_at hl 1 rfl) ?_
  refine gh_putF (v := .ref m) hC hg hnm hit fJ43_1_21 rfl rfl (Nat.le_of_ble_eq_true rfl) dJ43_init_2 (fun g H locs hg hw hn => ?_)
  have hm : g m = some ((o, k, 0), oo 13 [va_rf (hm_tab D), va_rf D.es, .int (nI D.L.length), .int D.mc, .int (nI D.th), .float 1061158912, va_rf D.ks, va_rf D.vs, va_rf (D.L.head?), va_rf (D.L.getLast?), .int 0, .int 0]) := (hn _ (gh_neI hm hit rfl)).trans hm
  have hfr : ∀ b, b ≠ it → g b = g0 b := fun b h1 => (hn b h1).trans (hfr b h1)
  have hit : g it = some ((o, k, 7), oo 21 [.null, .null, .int 0, .int 0, .ref m]) := hw
  refine lv_aload_n hx hb dJ43_init_5 rfl (lv_at hl 0 rfl) ?_
  refine W.objInit hx hb hown (hts _ q2465) (hts _ q185) (hts _ q186) rfl (by rw [hml]; exact hl.1) rfl dJ43_init_6 (Nat.le_of_ble_eq_true rfl) (Nat.le_of_ble_eq_true rfl) ?_
  refine W.eq (g2 := F0 mm 9 ls []) rfl ?_
  refine lv_aload_n hx hb dJ43_init_9 rfl (lv_at hl 0 rfl) ?_
  refine lv_iload_n hx hb dJ43_init_10 rfl (lv_at hl 2 rfl) ?_
  refine gh_put (v := .int 0) hC hg hit fJ43_13_21 rfl rfl (Nat.le_of_ble_eq_true rfl) dJ43_init_11 (fun g H locs hg hw hn => ?_)
  have hm : g m = some ((o, k, 0), oo 13 [va_rf (hm_tab D), va_rf D.es, .int (nI D.L.length), .int D.mc, .int (nI D.th), .float 1061158912, va_rf D.ks, va_rf D.vs, va_rf (D.L.head?), va_rf (D.L.getLast?), .int 0, .int 0]) := (hn _ (gh_neI hm hit rfl)).trans hm
  have hfr : ∀ b, b ≠ it → g b = g0 b := fun b h1 => (hn b h1).trans (hfr b h1)
  have hit : g it = some ((o, k, 7), oo 21 [.null, .null, .int 0, .int 0, .ref m]) := hw
  refine lv_aload_n hx hb dJ43_init_14 rfl (lv_at hl 0 rfl) ?_
  refine lv_iload_n hx hb dJ43_init_15 rfl (lv_at hl 2 rfl) ?_
  refine lv_if_eq (tgt := 26) hx hb dJ43_init_16 (by decide) (fun _ => ?_) (fun c_1 => (absurd ((nx_eq (show ((0 : Int32)) = nI 0 from rfl) (show ((0 : Int32)) = nI 0 from rfl) (by omega) (by omega)).mpr (by omega)) c_1))
  refine lv_aload_n hx hb dJ43_init_26 rfl (lv_at hl 1 rfl) ?_
  refine gh_get (v := va_rf (D.L.head?)) hC hg hm fJ43_23_13 rfl dJ43_init_27 ?_
  refine gh_put (v := va_rf (D.L.head?)) hC hg hit fJ43_26_21 (gh_nQ _) (gh_fQ _) (Nat.le_of_ble_eq_true rfl) dJ43_init_30 (fun g H locs hg hw hn => ?_)
  have hm : g m = some ((o, k, 0), oo 13 [va_rf (hm_tab D), va_rf D.es, .int (nI D.L.length), .int D.mc, .int (nI D.th), .float 1061158912, va_rf D.ks, va_rf D.vs, va_rf (D.L.head?), va_rf (D.L.getLast?), .int 0, .int 0]) := (hn _ (gh_neI hm hit rfl)).trans hm
  have hfr : ∀ b, b ≠ it → g b = g0 b := fun b h1 => (hn b h1).trans (hfr b h1)
  have hit : g it = some ((o, k, 7), oo 21 [va_rf (D.L.head?), .null, .int 0, .int 0, .ref m]) := hw
  refine lv_aload_n hx hb dJ43_init_33 rfl (lv_at hl 0 rfl) ?_
  refine lv_aload_n hx hb dJ43_init_34 rfl (lv_at hl 1 rfl) ?_
  refine gh_get (v := .int D.mc) hC hg hm fJ43_29_13 rfl dJ43_init_35 ?_
  refine gh_put (v := .int D.mc) hC hg hit fJ43_33_21 rfl rfl (Nat.le_of_ble_eq_true rfl) dJ43_init_38 (fun g H locs hg hw hn => ?_)
  have hm : g m = some ((o, k, 0), oo 13 [va_rf (hm_tab D), va_rf D.es, .int (nI D.L.length), .int D.mc, .int (nI D.th), .float 1061158912, va_rf D.ks, va_rf D.vs, va_rf (D.L.head?), va_rf (D.L.getLast?), .int 0, .int 0]) := (hn _ (gh_neI hm hit rfl)).trans hm
  have hfr : ∀ b, b ≠ it → g b = g0 b := fun b h1 => (hn b h1).trans (hfr b h1)
  have hit : g it = some ((o, k, 7), oo 21 [va_rf (D.L.head?), .null, .int D.mc, .int 0, .ref m]) := hw
  refine lv_aload_n hx hb dJ43_init_41 rfl (lv_at hl 0 rfl) ?_
  refine lv_null hx hb dJ43_init_42 ?_
  refine gh_put (v := .null) hC hg hit fJ43_36_21 rfl rfl (Nat.le_of_ble_eq_true rfl) dJ43_init_43 (fun g H locs hg hw hn => ?_)
  have hm : g m = some ((o, k, 0), oo 13 [va_rf (hm_tab D), va_rf D.es, .int (nI D.L.length), .int D.mc, .int (nI D.th), .float 1061158912, va_rf D.ks, va_rf D.vs, va_rf (D.L.head?), va_rf (D.L.getLast?), .int 0, .int 0]) := (hn _ (gh_neI hm hit rfl)).trans hm
  have hfr : ∀ b, b ≠ it → g b = g0 b := fun b h1 => (hn b h1).trans (hfr b h1)
  have hit : g it = some ((o, k, 7), oo 21 [va_rf (D.L.head?), .null, .int D.mc, .int 0, .ref m]) := hw
  exact gh_retv hC hg hr hlk (⟨hit, hfr⟩) dJ43_init_46 (Nat.le_of_ble_eq_true rfl) (Nat.le_of_ble_eq_true rfl)
set_option maxHeartbeats 1000000 in
set_option maxRecDepth 100000 in
theorem j_J44_init (l : Launch) (V : gh_V) (g0 : gh_G) (o k m ck it : Nat) (D : HD) (hD : lm_D V o k g0 m ck D) (hit : g0 it = some ((o, k, 7), oo 21 [.null, .null, .int 0, .int 0, .null])) : MV l yJ44_init cJ44_init 3 ({ frames := 2, cells := 0, slots := 0, locals := 34 } : Room) V [.ref it, .ref m, .int 0] g0 (fun g1 => g1 it = some ((o, k, 7), oo 21 [va_rf D.L.head?, .null, .int D.mc, .int 0, .ref m]) ∧ ∀ b, b ≠ it → g1 b = g0 b) := by
  refine MG.of RJ44 (by decide) rfl (Nat.le_of_ble_eq_true rfl) (fun pp ee s mm args below meth c ls hC hg hr hlk hnm hl => ?_)
  have hx := hC.1.1
  have hb := hC.1.2.1
  have hml := hC.1.2.2.1
  have hown := hC.1.2.2.2.1
  have hts := hC.1.2.2.2.2
  have hl : lv_has ls 3 [(0, .ref it), (1, .ref m), (2, .int 0)] := hl
  obtain ⟨g, hg, hgg⟩ : ∃ g, gh_W V (gh_A g0 s.heap.size) s g s.heap [] ∧ g = g0 := ⟨g0, hg, rfl⟩
  rw [← hgg] at hit
  refine lv_aload_n hx hb dJ44_init_0 rfl (lv_at hl 0 rfl) ?_
  refine lv_aload_n hx hb dJ44_init_1 rfl (lv_at hl 1 rfl) ?_
  refine lv_iload_n hx hb dJ44_init_2 rfl (lv_at hl 2 rfl) ?_
  refine gh_callv hg (gh_runI (As := [.ref m, .int 0]) (rest := []) hC hg (j_J43_init_21 l V _ o k m ck it D (by rw [hgg]; exact hD) hit) 2 (lw_meth q2464) q152 q2462 q2463 rfl hd_J43_init.2 ⟨Nat.le_of_ble_eq_true rfl, Nat.le_of_ble_eq_true rfl⟩ rfl hl.1 rfl (Nat.le_of_ble_eq_true rfl) dJ44_init_3 ⟨Nat.le_of_ble_eq_true rfl, Nat.le_of_ble_eq_true rfl⟩) (fun g H locs hg hp => ?_)
  exact gh_retv hC hg hr hlk (by rw [hgg] at hp; exact hp) dJ44_init_6 (Nat.le_of_ble_eq_true rfl) (Nat.le_of_ble_eq_true rfl)
set_option maxHeartbeats 1000000 in
set_option maxRecDepth 100000 in
theorem j_J43_hasNext_21 (l : Launch) (V : gh_V) (g0 : gh_G) (o k m it i : Nat) (D : HD) (hit : it_P o k g0 it m D 21 i) : MI l yJ43_hasNext cJ43_hasNext 1 (some .boolean) ({ frames := 0, cells := 0, slots := 0, locals := 0 } : Room) V [.ref it] g0 (fun r g1 => r = (if i < D.L.length then 1 else 0) ∧ g1 = g0) := by
  refine MG.of RJ43 (by decide) rfl (Nat.le_of_ble_eq_true rfl) (fun pp ee s mm args below meth c ls hC hg hr hlk hnm hl => ?_)
  have hx := hC.1.1
  have hb := hC.1.2.1
  have hml := hC.1.2.2.1
  have hown := hC.1.2.2.2.1
  have hts := hC.1.2.2.2.2
  have hl : lv_has ls 1 [(0, .ref it)] := hl
  obtain ⟨g, hg, hgg⟩ : ∃ g, gh_W V (gh_A g0 s.heap.size) s g s.heap [] ∧ g = g0 := ⟨g0, hg, rfl⟩
  rw [← hgg] at hit
  obtain ⟨cur, hit⟩ := hit
  refine lv_aload_n hx hb dJ43_hasNext_0 rfl (lv_at hl 0 rfl) ?_
  refine gh_get (v := va_rf (D.L[i]?)) hC hg hit fJ43_26_21 rfl dJ43_hasNext_1 ?_
  refine lv_ifnullQ (tgt := 11) hx hb dJ43_hasNext_4 (by decide) (fun hq_1 => ?_) (fun y_2 hq_1 => ?_)
  · skip
    have hge := List.getElem?_eq_none_iff.mp hq_1
    refine lv_iconst (v := 0) hx hb dJ43_hasNext_11 (by decide) ?_
    exact gh_retz rfl hC hg hr hlk (⟨(if_neg (by omega)).symm, hgg⟩) dJ43_hasNext_12 (Nat.le_of_ble_eq_true rfl) (Nat.le_of_ble_eq_true rfl)
  obtain ⟨hlt, -⟩ := List.getElem?_eq_some_iff.mp hq_1
  refine lv_iconst (v := 1) hx hb dJ43_hasNext_7 (by decide) ?_
  refine lv_goto (tgt := 12) hx hb dJ43_hasNext_8 (by decide) ?_
  exact gh_retz rfl hC hg hr hlk (⟨(if_pos hlt).symm, hgg⟩) dJ43_hasNext_12 (Nat.le_of_ble_eq_true rfl) (Nat.le_of_ble_eq_true rfl)
set_option maxHeartbeats 1000000 in
set_option maxRecDepth 100000 in
theorem j_J43_nextNode_21 (l : Launch) (V : gh_V) (g0 : gh_G) (o k m ck it i : Nat) (D : HD) (hD : lm_D V o k g0 m ck D) (hit : it_P o k g0 it m D 21 i) (hi : i < D.L.length) : MR l yJ43_nextNode cJ43_nextNode 2 (some (.object "java/util/LinkedHashMap$Entry")) ({ frames := 0, cells := 0, slots := 0, locals := 0 } : Room) V [.ref it] g0 (fun r g1 => r = some D.L[i] ∧ it_P o k g1 it m D 21 (i + 1) ∧ ∀ b, b ≠ it → g1 b = g0 b) := by
  refine MG.of RJ43 (by decide) rfl (Nat.le_of_ble_eq_true rfl) (fun pp ee s mm args below meth c ls hC hg hr hlk hnm hl => ?_)
  have hx := hC.1.1
  have hb := hC.1.2.1
  have hml := hC.1.2.2.1
  have hown := hC.1.2.2.2.1
  have hts := hC.1.2.2.2.2
  have hl : lv_has ls 2 [(0, .ref it)] := hl
  obtain ⟨g, hg, hgg⟩ : ∃ g, gh_W V (gh_A g0 s.heap.size) s g s.heap [] ∧ g = g0 := ⟨g0, hg, rfl⟩
  have hG := hD.1.1
  rw [← hgg] at hG
  have hm := hG.cm
  rw [← hgg] at hit
  obtain ⟨cur, hit⟩ := hit
  have hle : D.L[i]? = some D.L[i] := List.getElem?_eq_getElem hi
  have haL : D.L[i] ∈ D.L := List.getElem_mem hi
  have hsc := scL_get hG.nd hi
  generalize hae : D.L[i] = a9 at hle haL hsc
  rw [hle] at hit
  have hcn := hG.cn a9 haL
  rw [hsc] at hcn
  have hfr : ∀ b, b ≠ it → g b = g0 b := fun b _ => by rw [hgg]
  refine lv_aload_n hx hb dJ43_nextNode_0 rfl (lv_at hl 0 rfl) ?_
  refine gh_get (v := .ref a9) hC hg hit fJ43_26_21 rfl dJ43_nextNode_1 ?_
  refine lv_astore_n (lv' := [(1, .ref a9), (0, .ref it)]) hx hb dJ43_nextNode_4 rfl hl (by decide) rfl (fun ls hl => ?_)
  refine lv_aload_n hx hb dJ43_nextNode_5 rfl (lv_at hl 1 rfl) ?_
  refine gh_get (v := .ref m) hC hg hit fJ43_1_21 rfl dJ43_nextNode_6 ?_
  refine gh_get (v := .int D.mc) hC hg hm fJ43_29_13 rfl dJ43_nextNode_9 ?_
  refine lv_aload_n hx hb dJ43_nextNode_12 rfl (lv_at hl 1 rfl) ?_
  refine gh_get (v := .int D.mc) hC hg hit fJ43_33_21 rfl dJ43_nextNode_13 ?_
  refine lv_icmp_eq (tgt := 27) hx hb dJ43_nextNode_16 (by decide) (fun _ => ?_) (fun c_1 => (absurd rfl c_1))
  refine lv_aload_n hx hb dJ43_nextNode_27 rfl (lv_at hl 0 rfl) ?_
  refine lv_ifnonnull (tgt := 39) hx hb dJ43_nextNode_28 (by decide) ?_
  refine lv_aload_n hx hb dJ43_nextNode_39 rfl (lv_at hl 1 rfl) ?_
  refine lv_aload_n hx hb dJ43_nextNode_40 rfl (lv_at hl 0 rfl) ?_
  refine gh_put (v := .ref a9) hC hg hit fJ43_36_21 rfl rfl (Nat.le_of_ble_eq_true rfl) dJ43_nextNode_41 (fun g H locs hg hw hn => ?_)
  have hm : g m = some ((o, k, 0), oo 13 [va_rf (hm_tab D), va_rf D.es, .int (nI D.L.length), .int D.mc, .int (nI D.th), .float 1061158912, va_rf D.ks, va_rf D.vs, va_rf (D.L.head?), va_rf (D.L.getLast?), .int 0, .int 0]) := (hn _ (gh_neI hm hit rfl)).trans hm
  have hcn : g a9 = some ((o, k, 2), oo (D.ci a9) (.int (nI (hm_sp (D.C a9))) :: .ref (D.K a9) :: (va_rf (D.v a9)) :: (va_rf (D.nx a9)) :: (va_rf (pvL D.L a9)) :: (va_rf (D.L[i + 1]?)) :: D.ex a9)) := (hn _ (gh_neI hcn hit rfl)).trans hcn
  have hfr : ∀ b, b ≠ it → g b = g0 b := fun b h1 => (hn b h1).trans (hfr b h1)
  have hit : g it = some ((o, k, 7), oo 21 [.ref a9, .ref a9, .int D.mc, .int 0, .ref m]) := hw
  refine lv_aload_n hx hb dJ43_nextNode_44 rfl (lv_at hl 1 rfl) ?_
  refine lv_aload_n hx hb dJ43_nextNode_45 rfl (lv_at hl 1 rfl) ?_
  refine gh_get (v := .int 0) hC hg hit fJ43_13_21 rfl dJ43_nextNode_46 ?_
  refine lv_if_eq (tgt := 59) hx hb dJ43_nextNode_49 (by decide) (fun _ => ?_) (fun c_2 => (absurd ((nx_eq (show ((0 : Int32)) = nI 0 from rfl) (show ((0 : Int32)) = nI 0 from rfl) (by omega) (by omega)).mpr (by omega)) c_2))
  refine lv_aload_n hx hb dJ43_nextNode_59 rfl (lv_at hl 0 rfl) ?_
  refine gh_get (v := va_rf (D.L[i + 1]?)) hC hg hcn (fNJ43_50 (hG.len.2 a9 haL)) rfl dJ43_nextNode_60 ?_
  refine gh_put (v := va_rf (D.L[i + 1]?)) hC hg hit fJ43_26_21 (gh_nQ _) (gh_fQ _) (Nat.le_of_ble_eq_true rfl) dJ43_nextNode_63 (fun g H locs hg hw hn => ?_)
  have hm : g m = some ((o, k, 0), oo 13 [va_rf (hm_tab D), va_rf D.es, .int (nI D.L.length), .int D.mc, .int (nI D.th), .float 1061158912, va_rf D.ks, va_rf D.vs, va_rf (D.L.head?), va_rf (D.L.getLast?), .int 0, .int 0]) := (hn _ (gh_neI hm hit rfl)).trans hm
  have hcn : g a9 = some ((o, k, 2), oo (D.ci a9) (.int (nI (hm_sp (D.C a9))) :: .ref (D.K a9) :: (va_rf (D.v a9)) :: (va_rf (D.nx a9)) :: (va_rf (pvL D.L a9)) :: (va_rf (D.L[i + 1]?)) :: D.ex a9)) := (hn _ (gh_neI hcn hit rfl)).trans hcn
  have hfr : ∀ b, b ≠ it → g b = g0 b := fun b h1 => (hn b h1).trans (hfr b h1)
  have hit : g it = some ((o, k, 7), oo 21 [va_rf (D.L[i + 1]?), .ref a9, .int D.mc, .int 0, .ref m]) := hw
  refine lv_aload_n hx hb dJ43_nextNode_66 rfl (lv_at hl 0 rfl) ?_
  exact gh_retq (r := some a9) (Or.inl ⟨_, rfl⟩) hC hg hr hlk (⟨rfl, ⟨some a9, hit⟩, hfr⟩) dJ43_nextNode_67 (Nat.le_of_ble_eq_true rfl) (Nat.le_of_ble_eq_true rfl)
set_option maxHeartbeats 1000000 in
set_option maxRecDepth 100000 in
theorem j_J44_next_2 (l : Launch) (V : gh_V) (g0 : gh_G) (o k m ck it i : Nat) (D : HD) (hD : lm_D V o k g0 m ck D) (hit : it_P o k g0 it m D 21 i) (hi : i < D.L.length) : MR l yJ44_next_2 cJ44_next_2 1 (some (.object "java/util/Map$Entry")) ({ frames := 1, cells := 0, slots := 0, locals := 21 } : Room) V [.ref it] g0 (fun r g1 => r = some D.L[i] ∧ it_P o k g1 it m D 21 (i + 1) ∧ ∀ b, b ≠ it → g1 b = g0 b) := by
  refine MG.of RJ44 (by decide) rfl (Nat.le_of_ble_eq_true rfl) (fun pp ee s mm args below meth c ls hC hg hr hlk hnm hl => ?_)
  have hx := hC.1.1
  have hb := hC.1.2.1
  have hml := hC.1.2.2.1
  have hown := hC.1.2.2.2.1
  have hts := hC.1.2.2.2.2
  have hl : lv_has ls 1 [(0, .ref it)] := hl
  obtain ⟨g, hg, hgg⟩ : ∃ g, gh_W V (gh_A g0 s.heap.size) s g s.heap [] ∧ g = g0 := ⟨g0, hg, rfl⟩
  have hI0 := hit
  rw [← hgg] at hit
  obtain ⟨cur, hit⟩ := hit
  refine lv_aload_n hx hb dJ44_next_2_0 rfl (lv_at hl 0 rfl) ?_
  refine gh_callq hg (gh_runU (x := ⟨"java/util/LinkedHashMap$LinkedEntryIterator", "nextNode", "()Ljava/util/LinkedHashMap$Entry;"⟩) (C := "java/util/LinkedHashMap$LinkedEntryIterator") (owner := "java/util/LinkedHashMap$LinkedHashIterator") (As := []) (rest := []) hC hg (j_J43_nextNode_21 l V _ o k m ck it i D (by rw [hgg]; exact hD) (by rw [hgg]; exact hI0) hi) 0 (va_cwU 0 hts (lw_U q2591 q2592 q2595 q2594 q152 q2596) rfl rfl rfl rfl hdF_LinkedHashMap_LinkedHashIterator_nextNode_0 ⟨Nat.le_of_ble_eq_true rfl, Nat.le_of_ble_eq_true rfl⟩) (gh_recv (C := "java/util/LinkedHashMap$LinkedEntryIterator") hC hg hit rfl) rfl hl.1 rfl (Nat.le_of_ble_eq_true rfl) dJ44_next_2_1 ⟨Nat.le_of_ble_eq_true rfl, Nat.le_of_ble_eq_true rfl⟩) (fun r_1 g H locs hg hp => ?_)
  obtain ⟨hr, hitp, hfr⟩ := hp
  rw [hgg] at hfr
  have haL : D.L[i] ∈ D.L := List.getElem_mem hi
  have hD1 : lm_D V o k g m ck D := hI0.ne hD hfr
  have hcn := hD1.1.1.cn _ haL
  subst hr
  refine W.eq (g2 := F0 mm 4 ls [.ref (D.L[i])]) rfl ?_
  exact gh_retq (r := some (D.L[i])) (Or.inl ⟨_, rfl⟩) hC hg hr hlk (⟨rfl, hitp, hfr⟩) dJ44_next_2_4 (Nat.le_of_ble_eq_true rfl) (Nat.le_of_ble_eq_true rfl)
set_option maxHeartbeats 1000000 in
set_option maxRecDepth 100000 in
theorem j_J44_next (l : Launch) (V : gh_V) (g0 : gh_G) (o k m ck it i : Nat) (D : HD) (hD : lm_D V o k g0 m ck D) (hit : it_P o k g0 it m D 21 i) (hi : i < D.L.length) : MR l yJ44_next cJ44_next 1 (some (.object "java/lang/Object")) ({ frames := 2, cells := 0, slots := 0, locals := 41 } : Room) V [.ref it] g0 (fun r g1 => r = some D.L[i] ∧ it_P o k g1 it m D 21 (i + 1) ∧ ∀ b, b ≠ it → g1 b = g0 b) := by
  refine MG.of RJ44 (by decide) rfl (Nat.le_of_ble_eq_true rfl) (fun pp ee s mm args below meth c ls hC hg hr hlk hnm hl => ?_)
  have hx := hC.1.1
  have hb := hC.1.2.1
  have hml := hC.1.2.2.1
  have hown := hC.1.2.2.2.1
  have hts := hC.1.2.2.2.2
  have hl : lv_has ls 1 [(0, .ref it)] := hl
  obtain ⟨g, hg, hgg⟩ : ∃ g, gh_W V (gh_A g0 s.heap.size) s g s.heap [] ∧ g = g0 := ⟨g0, hg, rfl⟩
  have hI0 := hit
  rw [← hgg] at hit
  obtain ⟨cur, hit⟩ := hit
  refine lv_aload_n hx hb dJ44_next_0 rfl (lv_at hl 0 rfl) ?_
  refine gh_callq hg (gh_runV (As := []) (rest := []) hC hg (j_J44_next_2 l V _ o k m ck it i D (by rw [hgg]; exact hD) (by rw [hgg]; exact hI0) hi) 0 (lw_V q2587 q2588 q2589 q153 q2590) hit rfl hd_J44_next_2 ⟨Nat.le_of_ble_eq_true rfl, Nat.le_of_ble_eq_true rfl⟩ rfl hl.1 rfl (Nat.le_of_ble_eq_true rfl) dJ44_next_1 ⟨Nat.le_of_ble_eq_true rfl, Nat.le_of_ble_eq_true rfl⟩) (fun r_1 g H locs hg hp => ?_)
  obtain ⟨hr, hitp, hfr⟩ := hp
  rw [hgg] at hfr
  have haL : D.L[i] ∈ D.L := List.getElem_mem hi
  have hD1 : lm_D V o k g m ck D := hI0.ne hD hfr
  have hcn := hD1.1.1.cn _ haL
  subst hr
  refine W.eq (g2 := F0 mm 4 ls [.ref (D.L[i])]) rfl ?_
  exact gh_retq (r := some (D.L[i])) (Or.inl ⟨_, rfl⟩) hC hg hr hlk (⟨rfl, hitp, hfr⟩) dJ44_next_4 (Nat.le_of_ble_eq_true rfl) (Nat.le_of_ble_eq_true rfl)
