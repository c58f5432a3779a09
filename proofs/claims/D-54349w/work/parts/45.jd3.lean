theorem nI_xor (a b : Nat) : nI a ^^^ nI b = nI (a ^^^ b) := by
  unfold nI
  apply Int32.toBitVec_inj.mp
  rw [Int32.toBitVec_xor]
  show BitVec.ofNat 32 a ^^^ BitVec.ofNat 32 b = BitVec.ofNat 32 (a ^^^ b)
  exact BitVec.ofNat_xor.symm
theorem nI_and (a b : Nat) : nI a &&& nI b = nI (a &&& b) := by
  unfold nI
  apply Int32.toBitVec_inj.mp
  rw [Int32.toBitVec_and]
  show BitVec.ofNat 32 a &&& BitVec.ofNat 32 b = BitVec.ofNat 32 (a &&& b)
  exact BitVec.ofNat_and.symm
theorem hm_mixs {c : Nat} (h : c < 80000) : ((nI c).toUInt32 >>> ((16 : Int32).toUInt32 &&& Int32.toUInt32 31)).toInt32 = nI (c / 65536) := by
  rw [pk_ushrN (Nat.lt_trans h (by decide)) 16 16 (by decide)]
theorem hm_idx {n j h : Nat} (hn : n = 2 ^ j) : nI (n - 1) &&& nI h = nI (h % n) := by rw [nI_and, hm_and hn]
section GhVr
variable {V : gh_V} {p : Program} {l : Launch} {e : Env} {R : Room} {s : State} {m : MethodId} {args : Array Value} {below : List Frame} {meth : Method} {c : Code} {H : Heap} {locs : List Loc} {cells slots : Nat} {Q : State → Prop} {cc : ByteArray} {nL : Nat} {own : String} {A : Nat → Prop} {g : gh_G} {pc : Nat} {ls : Array Slot} {rest st : List Value}
theorem gh_runVr (hC : gh_C V p s m args c cc nL own A) (hg : gh_W V A s g H locs) {y : MethodName} {bytes : ByteArray} {maxL : Nat} {ret : Option FieldType} {rm : Room} {b : Nat} {As : List Value} {Qp : gh_Q} (hM : MG l y bytes maxL ret rm V (.ref b :: As) g Qp) (n : Nat) {C : String} {index : Nat} (hT : GoodIn lw_all (wsV own index C y (ws_ y bytes maxL ret)))
    (hrec : ∃ cellB : Cell, H[b]? = some cellB ∧ cellB.vm.isStatics = false ∧ s.vm.findClass C = some cellB.cls)
    (hd : y.cls = C ∧ y.cls ≠ "java/lang/invoke/MethodHandle" ∧ y.cls ≠ "java/lang/invoke/VarHandle" ∧ (parseMethodDescriptor y.desc).map (fun d => d.parameters.length) = some n) (hR : rm.frames + 1 ≤ R.frames ∧ 8 + (maxL + 11) + rm.locals ≤ R.locals)
    (hn : As.length = n) (hls : ls.size = nL) (hst : st = As.reverse ++ .ref b :: rest) (hW : (rest.map fun v => v.category).sum ≤ 8) (hdg : decode cc pc = .ok (.invokevirtual index, 3)) (hf : cells + rm.cells ≤ R.cells ∧ slots + rm.slots ≤ R.slots) :
    va_Run p l e R s m args below meth c H locs cells slots rm.cells rm.slots (F0 m pc ls st) rest (Qp (gh_B V g H.size) (gh_A g H.size) (Value.ref b :: As).toArray) (gh_A g H.size) :=
  va_runV hC.1 (hM H.size) (cwV n hC.1.2.2.2.2 hT rfl rfl rfl hd hR) ⟨(gh_preS hC hg (.ref b :: As)).1, hrec, (gh_preS hC hg (.ref b :: As)).2⟩ rfl hn hls hst (lv_room hW) hdg hf
end GhVr
set_option maxRecDepth 100000
theorem hdF_Object_equals_1 : (⟨"java/lang/Object", "equals", "(Ljava/lang/Object;)Z"⟩ : MethodName).cls ≠ "java/lang/invoke/MethodHandle" ∧ (⟨"java/lang/Object", "equals", "(Ljava/lang/Object;)Z"⟩ : MethodName).cls ≠ "java/lang/invoke/VarHandle" ∧ (parseMethodDescriptor (⟨"java/lang/Object", "equals", "(Ljava/lang/Object;)Z"⟩ : MethodName).desc).map (fun d => d.parameters.length) = some 1 := by decide +kernel
theorem hdF_Object_hashCode_0 : (⟨"java/lang/Object", "hashCode", "()I"⟩ : MethodName).cls ≠ "java/lang/invoke/MethodHandle" ∧ (⟨"java/lang/Object", "hashCode", "()I"⟩ : MethodName).cls ≠ "java/lang/invoke/VarHandle" ∧ (parseMethodDescriptor (⟨"java/lang/Object", "hashCode", "()I"⟩ : MethodName).desc).map (fun d => d.parameters.length) = some 0 := by decide +kernel
theorem gh_kh {V : gh_V} {p : Program} {l : Launch} {e : Env} {R : Room} {s : State} {m : MethodId} {args : Array Value} {below : List Frame} {meth : Method} {c0 : Code} {H : Heap} {locs : List Loc} {cells slots : Nat} {Q : State → Prop} {cc : ByteArray} {nL : Nat} {A : Nat → Prop} {g : gh_G} {pc : Nat} {ls : Array Slot} {rest : List Value} {ck : Nat} {x c : Nat} (hk1 : ky_P V g ck x c)
    (hC : gh_C V p s m args c0 cc nL RJ4 A) (hg : gh_W V A s g H locs) (hl : ls.size = nL) (hW : (rest.map fun v => v.category).sum ≤ 8) (hdg : decode cc pc = .ok (.invokevirtual 1, 3)) (hR : 0 + 1 ≤ R.frames ∧ 8 + (3 + 11) + 0 ≤ R.locals) (hf : cells + 0 ≤ R.cells ∧ slots + 0 ≤ R.slots)
    (kk : ∀ (H1 : Heap) (locs1 : List Loc), gh_W V A s g H1 locs1 → W p l e R s m args below meth c0 H1 locs1 cells slots Q (F0 m (pc + 3) ls (.int (nI c) :: rest))) : W p l e R s m args below meth c0 H locs cells slots Q (F0 m pc ls (.ref x :: rest)) := by
  have hts := hC.1.2.2.2.2
  obtain ⟨u, w, h1, h2⟩ := hk1
  rcases h2 with ⟨rfl, b1, b2, b3⟩ | ⟨rfl, b1, b2, b3⟩
  · refine gh_calli hg (gh_runU (x := ⟨"java/lang/Object", "hashCode", "()I"⟩) (C := "AnnealingLehr$PieceKey") (owner := "java/lang/Object") (As := []) (rest := rest) hC hg (j_X11_hashCode l V _ x u w h1) 0 (va_cwA 0 hts (lw_U q1707 q1709 q1727 q1726 q168 q1728) rfl rfl rfl (hC.2.2.1.1 _ (gh_nwm q1706 rfl)) hdF_Object_hashCode_0 ⟨Nat.le_trans (by decide) hR.1, Nat.le_trans (by decide) hR.2⟩) (gh_recv (C := "AnnealingLehr$PieceKey") hC hg h1 rfl) rfl hl rfl hW hdg hf) (fun r9 g1 H1 locs1 hg1 hp => ?_)
    obtain ⟨hp, rfl⟩ := hp
    have e9 : r9 = nI c := hp.trans (by rw [b3])
    subst e9
    exact kk H1 locs1 hg1
  · refine gh_calli hg (gh_runU (x := ⟨"java/lang/Object", "hashCode", "()I"⟩) (C := "AnnealingLehr$PlanKey") (owner := "java/lang/Object") (As := []) (rest := rest) hC hg (j_X12_hashCode l V _ x u w h1) 0 (va_cwA 0 hts (lw_U q1707 q1709 q1730 q1729 q169 q1731) rfl rfl rfl (hC.2.2.1.1 _ (gh_nwm q1706 rfl)) hdF_Object_hashCode_0 ⟨Nat.le_trans (by decide) hR.1, Nat.le_trans (by decide) hR.2⟩) (gh_recv (C := "AnnealingLehr$PlanKey") hC hg h1 rfl) rfl hl rfl hW hdg hf) (fun r9 g1 H1 locs1 hg1 hp => ?_)
    obtain ⟨hp, rfl⟩ := hp
    have e9 : r9 = nI c := hp.trans (by rw [b3])
    subst e9
    exact kk H1 locs1 hg1
theorem gh_keq4 {V : gh_V} {p : Program} {l : Launch} {e : Env} {R : Room} {s : State} {m : MethodId} {args : Array Value} {below : List Frame} {meth : Method} {c0 : Code} {H : Heap} {locs : List Loc} {cells slots : Nat} {Q : State → Prop} {cc : ByteArray} {nL : Nat} {A : Nat → Prop} {g : gh_G} {pc : Nat} {ls : Array Slot} {rest : List Value} {ck : Nat} {x c : Nat} (hk1 : ky_P V g ck x c) {y c2 : Nat} (hk2 : ky_P V g ck y c2)
    (hC : gh_C V p s m args c0 cc nL RJ4 A) (hg : gh_W V A s g H locs) (hl : ls.size = nL) (hW : (rest.map fun v => v.category).sum ≤ 8) (hdg : decode cc pc = .ok (.invokevirtual 173, 3)) (hR : 0 + 1 ≤ R.frames ∧ 8 + (3 + 11) + 0 ≤ R.locals) (hf : cells + 0 ≤ R.cells ∧ slots + 0 ≤ R.slots)
    (kk : ∀ (H1 : Heap) (locs1 : List Loc), gh_W V A s g H1 locs1 → W p l e R s m args below meth c0 H1 locs1 cells slots Q (F0 m (pc + 3) ls (.int ((if c = c2 then 1 else 0)) :: rest))) : W p l e R s m args below meth c0 H locs cells slots Q (F0 m pc ls (.ref y :: .ref x :: rest)) := by
  have hts := hC.1.2.2.2.2
  obtain ⟨u, w, h1, h2⟩ := hk1
  obtain ⟨u2, w2, h3, h4⟩ := hk2
  rcases h2 with ⟨rfl, b1, b2, b3⟩ | ⟨rfl, b1, b2, b3⟩
  · rcases h4 with ⟨b4, b5, b6, b7⟩ | ⟨b4, b5, b6, b7⟩
    · refine gh_calli hg (gh_runU (x := ⟨"java/lang/Object", "equals", "(Ljava/lang/Object;)Z"⟩) (C := "AnnealingLehr$PieceKey") (owner := "java/lang/Object") (As := [.ref y]) (rest := rest) hC hg (j_X11_equals l V _ x y u w u2 w2 (by omega) (by omega) (by omega) (by omega) h1 h3) 1 (va_cwA 1 hts (lw_U q2161 q2163 q2178 q2177 q168 q2179) rfl rfl rfl (hC.2.2.1.1 _ (gh_nwm q2160 rfl)) hdF_Object_equals_1 ⟨Nat.le_trans (by decide) hR.1, Nat.le_trans (by decide) hR.2⟩) (gh_recv (C := "AnnealingLehr$PieceKey") hC hg h1 rfl) rfl hl rfl hW hdg hf) (fun r9 g1 H1 locs1 hg1 hp => ?_)
      obtain ⟨hp, rfl⟩ := hp
      have e9 : r9 = (if c = c2 then 1 else 0) := by
        rw [hp]
        by_cases e : u = u2 ∧ w = w2
        · rw [if_pos e, if_pos (by omega)]
        · rw [if_neg e, if_neg (by omega)]
      subst e9
      exact kk H1 locs1 hg1
    · exact absurd b4 (by decide)
  · rcases h4 with ⟨b4, b5, b6, b7⟩ | ⟨b4, b5, b6, b7⟩
    · exact absurd b4 (by decide)
    · refine gh_calli hg (gh_runU (x := ⟨"java/lang/Object", "equals", "(Ljava/lang/Object;)Z"⟩) (C := "AnnealingLehr$PlanKey") (owner := "java/lang/Object") (As := [.ref y]) (rest := rest) hC hg (j_X12_equals l V _ x y u w u2 w2 (by omega) (by omega) (by omega) (by omega) h1 h3) 1 (va_cwA 1 hts (lw_U q2161 q2163 q2182 q2181 q169 q2183) rfl rfl rfl (hC.2.2.1.1 _ (gh_nwm q2160 rfl)) hdF_Object_equals_1 ⟨Nat.le_trans (by decide) hR.1, Nat.le_trans (by decide) hR.2⟩) (gh_recv (C := "AnnealingLehr$PlanKey") hC hg h1 rfl) rfl hl rfl hW hdg hf) (fun r9 g1 H1 locs1 hg1 hp => ?_)
      obtain ⟨hp, rfl⟩ := hp
      have e9 : r9 = (if c = c2 then 1 else 0) := by
        rw [hp]
        by_cases e : u = u2 ∧ w = w2
        · rw [if_pos e, if_pos (by omega)]
        · rw [if_neg e, if_neg (by omega)]
      subst e9
      exact kk H1 locs1 hg1
set_option maxHeartbeats 1000000 in
set_option maxRecDepth 100000 in
theorem j_J4_hash (l : Launch) (V : gh_V) (g0 : gh_G) (x ck c9 : Nat) (hk9 : ky_P V g0 ck x c9) : MI l yJ4_hash cJ4_hash 2 (some .int) ({ frames := 1, cells := 0, slots := 0, locals := 22 } : Room) V [.ref x] g0 (fun r g1 => r = nI (hm_sp c9) ∧ g1 = g0) := by
  refine MG.of RJ4 (by decide) rfl (Nat.le_of_ble_eq_true rfl) (fun pp ee s mm args below meth c ls hC hg hr hlk hnm hl => ?_)
  have hx := hC.1.1
  have hb := hC.1.2.1
  have hml := hC.1.2.2.1
  have hown := hC.1.2.2.2.1
  have hts := hC.1.2.2.2.2
  have hl : lv_has ls 2 [(0, .ref x)] := hl
  obtain ⟨g, hg, hgg⟩ : ∃ g, gh_W V (gh_A g0 s.heap.size) s g s.heap [] ∧ g = g0 := ⟨g0, hg, rfl⟩
  rw [← hgg] at hk9
  have bc := hk9.lt
  refine lv_aload_n hx hb dJ4_hash_0 rfl (lv_at hl 0 rfl) ?_
  refine lv_ifnonnull (tgt := 8) hx hb dJ4_hash_1 (by decide) ?_
  refine lv_aload_n hx hb dJ4_hash_8 rfl (lv_at hl 0 rfl) ?_
  refine gh_kh hk9 hC hg hl.1 (Nat.le_of_ble_eq_true rfl) dJ4_hash_9 ⟨Nat.le_of_ble_eq_true rfl, Nat.le_of_ble_eq_true rfl⟩ ⟨Nat.le_of_ble_eq_true rfl, Nat.le_of_ble_eq_true rfl⟩ (fun H locs hg => ?_)
  refine lv_dup hx hb dJ4_hash_12 rfl ?_
  refine lv_istore_n (lv' := [(1, .int (nI c9)), (0, .ref x)]) hx hb dJ4_hash_13 rfl hl (by decide) rfl (fun ls hl => ?_)
  refine lv_iload_n hx hb dJ4_hash_14 rfl (lv_at hl 0 rfl) ?_
  refine lv_bipush (v := 16) hx hb dJ4_hash_15 (by decide) ?_
  refine lv_iushr (v := (nI (c9 / 65536))) hx hb dJ4_hash_17 (hm_mixs bc) ?_
  refine lv_ixor hx hb dJ4_hash_18 ?_
  exact gh_reti hC hg hr hlk (⟨by rw [nI_xor]; rfl, hgg⟩) dJ4_hash_19 (Nat.le_of_ble_eq_true rfl) (Nat.le_of_ble_eq_true rfl)
