/-- what removing from a tree must do -/
def rm_S (l : Launch) (V : gh_V) : Prop := ∀ (g0 : gh_G) (o k m sz : Nat) (D : HD) (i b : Nat), hm_G V o k g0 m 10 D sz none → i < D.n → hm_tr D i → b ∈ D.B i →
  MV l yJ39_removeTreeNode cJ39_removeTreeNode 21 ({ frames := 8, cells := 16, slots := 96, locals := 300 } : Room) V [.ref b, .ref m, .ref D.tb, .int 1] g0 (fun g1 => ∃ D1 : HD, hm_G V o k g1 m 10 D1 sz (some b) ∧ b ∈ D1.L ∧ hm_M D1 = hm_M D ∧ D1.C b = D.C b ∧ D1.v b = D.v b ∧ D1.n = D.n ∧ gh_fk o k g0 g1)
/-- what removing answers -/
def rn_R (V : gh_V) (o k : Nat) (g0 : gh_G) (m ck c : Nat) (D : HD) (r : Option Nat) (g1 : gh_G) : Prop := ∃ D1 : HD, hm_I V o k g1 m ck D1 ∧ (ck = 9 → ∀ a, a ∈ D1.L → D1.ci a = 14) ∧ gh_fk o k g0 g1 ∧ hm_M D1 = lm_del (hm_M D) c ∧ (D1.n = 0 → D.n = 0 ∧ D1.th = D.th) ∧
  ((r = none ∧ lm_get (hm_M D) c = none) ∨ ∃ (b ci : Nat) (t : gh_T) (h : Int32) (ka : Nat) (rest : List Value), r = some b ∧ (ci = 14 ∨ ci = 15) ∧ g1 b = some (t, oo ci (.int h :: .ref ka :: va_rf (lm_get (hm_M D) c) :: rest)))
/-- what leaves its bin -/
def hm_O (V : gh_V) (o k : Nat) (g0 g1 : gh_G) (m ck : Nat) (D D1 : HD) (b c : Nat) : Prop := hm_G V o k g1 m ck D1 D.L.length (some b) ∧ b ∈ D1.L ∧ hm_M D1 = hm_M D ∧ D1.C b = c ∧ D1.v b = lm_get (hm_M D) c ∧ D1.n = D.n ∧ gh_fk o k g0 g1 ∧ (ck = 9 → ∀ a, a ∈ D1.L → D1.ci a = 14)
set_option maxRecDepth 100000
theorem hd_J39_removeTreeNode : yJ39_removeTreeNode.cls = RJ39 ∧ yJ39_removeTreeNode.cls ≠ "java/lang/invoke/MethodHandle" ∧ yJ39_removeTreeNode.cls ≠ "java/lang/invoke/VarHandle" ∧ (parseMethodDescriptor yJ39_removeTreeNode.desc).map (fun d => d.parameters.length) = some 3 := by decide +kernel
theorem hdF_HashMap_afterNodeRemoval_1 : (⟨"java/util/HashMap", "afterNodeRemoval", "(Ljava/util/HashMap$Node;)V"⟩ : MethodName).cls ≠ "java/lang/invoke/MethodHandle" ∧ (⟨"java/util/HashMap", "afterNodeRemoval", "(Ljava/util/HashMap$Node;)V"⟩ : MethodName).cls ≠ "java/lang/invoke/VarHandle" ∧ (parseMethodDescriptor (⟨"java/util/HashMap", "afterNodeRemoval", "(Ljava/util/HashMap$Node;)V"⟩ : MethodName).desc).map (fun d => d.parameters.length) = some 1 := by decide +kernel
set_option maxHeartbeats 2000000 in
set_option maxRecDepth 100000 in
theorem j_J4_removeNode (l : Launch) (V : gh_V) (g0 : gh_G) (hTG : tg_S l V) (hRM : rm_S l V) (o k m ck x c9 : Nat) (D : HD) (hI : hm_I V o k g0 m ck D) (hk9 : ky_P V g0 ck x c9) (hck : ck = 9 ∨ ck = 10) (h9 : ck = 9 → ∀ a, a ∈ D.L → D.ci a = 14) : MR l yJ4_removeNode cJ4_removeNode 14 (some (.object "java/util/HashMap$Node")) ({ frames := 9, cells := 16, slots := 96, locals := 340 } : Room) V [.ref m, .int (nI (hm_sp c9)), .ref x, .null, .int 0, .int 1] g0 (rn_R V o k g0 m ck c9 D) := by
  refine MG.of RJ4 (by decide) rfl (Nat.le_of_ble_eq_true rfl) (fun pp ee s mm args below meth c ls hC hg hr hlk hnm hl => ?_)
  have hx := hC.1.1
  have hb := hC.1.2.1
  have hml := hC.1.2.2.1
  have hown := hC.1.2.2.2.1
  have hts := hC.1.2.2.2.2
  have hl : lv_has ls 14 [(0, .ref m), (1, .int (nI (hm_sp c9))), (2, .ref x), (3, .null), (4, .int 0), (5, .int 1)] := hl
  obtain ⟨g, hg, hgg⟩ : ∃ g, gh_W V (gh_A g0 s.heap.size) s g s.heap [] ∧ g = g0 := ⟨g0, hg, rfl⟩
  have hG := hI.1
  have hk90 := hk9
  rw [← hgg] at hG hk9
  have bc := hk9.lt
  have hnl := hG.nlt
  have hspc : hm_sp c9 < 131072 := hm_sp_lt (by omega)
  have hm := hG.cm
  have hgc := hgg
  rcases Nat.eq_zero_or_pos D.n with hn0 | hn0
  · skip
    have hL0 := (hG.z hn0).1
    have hno : ∀ b, b ∈ D.L → D.C b ≠ c9 := fun b hb9 => by rw [hL0] at hb9; cases hb9
    refine lv_aload_n hx hb dJ4_removeNode_0 rfl (lv_at hl 0 rfl) ?_
    refine gh_get (v := va_rf (hm_tab D)) hC hg hm fJ4_105_13 rfl dJ4_removeNode_1 ?_
    refine lv_dup hx hb dJ4_removeNode_4 (gh_cQ _) ?_
    refine lv_astoreQ (lv' := [(6, va_rf (hm_tab D)), (0, .ref m), (1, .int (nI (hm_sp c9))), (2, .ref x), (3, .null), (4, .int 0), (5, .int 1)]) hx hb dJ4_removeNode_5 hl (by decide) rfl (fun ls hl => ?_)
    refine lv_ifnullQ (tgt := 289) hx hb dJ4_removeNode_7 (by decide) (fun _ => ?_) (fun y_2 hq_1 => absurd (hq_1.symm.trans (show hm_tab D = none from if_pos hn0)) (by simp))
    rw [(show hm_tab D = none from if_pos hn0)] at hl
    have hl : lv_has ls 14 [(6, .null), (0, .ref m), (1, .int (nI (hm_sp c9))), (2, .ref x), (3, .null), (4, .int 0), (5, .int 1)] := hl
    refine lv_null hx hb dJ4_removeNode_289 ?_
    exact gh_retq (r := none) (Or.inl ⟨_, rfl⟩) hC hg hr hlk (⟨D, (by rw [hgc]; exact hI), h9, (by rw [hgc]; exact gh_fk.rf), (lm_del_none hno).symm, (fun h8 => ⟨h8, rfl⟩), Or.inl ⟨rfl, lm_get_none hno⟩⟩) dJ4_removeNode_290 (Nat.le_of_ble_eq_true rfl) (Nat.le_of_ble_eq_true rfl)
  replace hn0 : D.n ≠ 0 := by omega
  obtain ⟨⟨j, hj1, hj2, hj⟩, hth⟩ := hG.pw hn0
  have hle := hI.2 hn0
  have htb := hG.ct hn0
  have hN := hG.cn
  have hi := hm_idxlt (c := c9) hn0
  generalize hie : hm_sp c9 % D.n = i at hi
  refine gh_joinW (V := V) (A := gh_A g0 s.heap.size) 260 [] 16 96 (fun g ls => ∃ (b : Nat) (D3 : HD), hm_O V o k g0 g m ck D D3 b c9 ∧ lv_has ls 14 [(0, .ref m), (10, .ref b)]) (fun hjn => ?_) (fun g H locs ls hg hX => ?_)
  · skip
    have hgg0 : g = g0 := hgg
    refine lv_aload_n hx hb dJ4_removeNode_0 rfl (lv_at hl 0 rfl) ?_
    refine gh_get (v := va_rf (hm_tab D)) hC hg hm fJ4_105_13 rfl dJ4_removeNode_1 ?_
    refine lv_dup hx hb dJ4_removeNode_4 (gh_cQ _) ?_
    refine lv_astoreQ (lv' := [(6, va_rf (hm_tab D)), (0, .ref m), (1, .int (nI (hm_sp c9))), (2, .ref x), (3, .null), (4, .int 0), (5, .int 1)]) hx hb dJ4_removeNode_5 hl (by decide) rfl (fun ls hl => ?_)
    refine lv_ifnullQ (tgt := 289) hx hb dJ4_removeNode_7 (by decide) (fun hq_3 => absurd (hq_3.symm.trans (show hm_tab D = some D.tb from if_neg hn0)) (by simp)) (fun _ _ => ?_)
    rw [(show hm_tab D = some D.tb from if_neg hn0)] at hl
    have hl : lv_has ls 14 [(6, .ref D.tb), (0, .ref m), (1, .int (nI (hm_sp c9))), (2, .ref x), (3, .null), (4, .int 0), (5, .int 1)] := hl
    refine lv_aload hx hb dJ4_removeNode_10 (lv_at hl 0 rfl) ?_
    refine gh_alen hC hg htb rfl dJ4_removeNode_12 ?_
    refine lv_dup hx hb dJ4_removeNode_13 rfl ?_
    refine lv_istore (lv' := [(8, .int (nI D.n)), (6, .ref D.tb), (0, .ref m), (1, .int (nI (hm_sp c9))), (2, .ref x), (3, .null), (4, .int 0), (5, .int 1)]) hx hb dJ4_removeNode_14 hl (by decide) rfl (fun ls hl => ?_)
    refine lv_if_le (tgt := 289) hx hb dJ4_removeNode_16 (by decide) (fun c_5 => (absurd ((nx_le rfl (show ((0 : Int32)) = nI 0 from rfl) (by omega) (by omega)).mp c_5) (by omega))) (fun _ => ?_)
    refine lv_aload hx hb dJ4_removeNode_19 (lv_at hl 1 rfl) ?_
    refine lv_iload hx hb dJ4_removeNode_21 (lv_at hl 0 rfl) ?_
    refine lv_iconst (v := 1) hx hb dJ4_removeNode_23 (by decide) ?_
    refine lv_isub hx hb dJ4_removeNode_24 ?_
    refine lv_iload_n hx hb dJ4_removeNode_25 rfl (lv_at hl 3 rfl) ?_
    refine lv_iand hx hb dJ4_removeNode_26 ?_
    refine W.eq (g2 := F0 mm 27 ls [.int (nI i), .ref D.tb]) (by rw [(hm_idx9 (nx_sub rfl (show ((1 : Int32)) = nI 1 from rfl) (by omega)) rfl hj hie)] <;> rfl) ?_
    refine lv_dup hx hb dJ4_removeNode_27 rfl ?_
    refine lv_istore (lv' := [(9, .int (nI i)), (8, .int (nI D.n)), (6, .ref D.tb), (0, .ref m), (1, .int (nI (hm_sp c9))), (2, .ref x), (3, .null), (4, .int 0), (5, .int 1)]) hx hb dJ4_removeNode_28 hl (by decide) rfl (fun ls hl => ?_)
    refine gh_qald (n := D.n) (f := D.T) hC hg htb rfl rfl (by omega) (by omega) dJ4_removeNode_30 ?_
    refine lv_dup hx hb dJ4_removeNode_31 (gh_cQ _) ?_
    refine lv_astoreQ (lv' := [(7, va_rf (D.T i)), (9, .int (nI i)), (8, .int (nI D.n)), (6, .ref D.tb), (0, .ref m), (1, .int (nI (hm_sp c9))), (2, .ref x), (3, .null), (4, .int 0), (5, .int 1)]) hx hb dJ4_removeNode_32 hl (by decide) rfl (fun ls hl => ?_)
    refine lv_ifnullQ (tgt := 289) hx hb dJ4_removeNode_34 (by decide) (fun hq_6 => ?_) (fun y_7 hq_6 => ?_)
    · skip
      rw [hq_6] at hl
      have hl : lv_has ls 14 [(7, .null), (9, .int (nI i)), (8, .int (nI D.n)), (6, .ref D.tb), (0, .ref m), (1, .int (nI (hm_sp c9))), (2, .ref x), (3, .null), (4, .int 0), (5, .int 1)] := hl
      have hB0 := rz_nil (hG.ch i hi) hq_6
      have hno : ∀ b, b ∈ D.L → D.C b ≠ c9 := hG.absent hi hie (fun a ha => by rw [hB0] at ha; cases ha)
      refine lv_null hx hb dJ4_removeNode_289 ?_
      exact gh_retq (r := none) (Or.inl ⟨_, rfl⟩) hC hg hr hlk (⟨D, (by rw [hgc]; exact hI), h9, (by rw [hgc]; exact gh_fk.rf), (lm_del_none hno).symm, (fun h8 => ⟨h8, rfl⟩), Or.inl ⟨rfl, lm_get_none hno⟩⟩) dJ4_removeNode_290 (Nat.le_of_ble_eq_true rfl) (Nat.le_of_ble_eq_true rfl)
    rw [hq_6] at hl
    have hl : lv_has ls 14 [(7, .ref y_7), (9, .int (nI i)), (8, .int (nI D.n)), (6, .ref D.tb), (0, .ref m), (1, .int (nI (hm_sp c9))), (2, .ref x), (3, .null), (4, .int 0), (5, .int 1)] := hl
    obtain ⟨l1, hB1, hnx1⟩ := rz_cons (hG.ch i hi) hq_6
    have hm1 : y_7 ∈ D.B i := by rw [hB1]; exact List.mem_cons_self
    have hmL : y_7 ∈ D.L := hG.mem hi hm1
    have hs0 := hG.spl hmL
    have hc0 := hG.clt hmL
    refine lv_null hx hb dJ4_removeNode_37 ?_
    refine lv_astoreN (lv' := [(10, .null), (7, .ref y_7), (9, .int (nI i)), (8, .int (nI D.n)), (6, .ref D.tb), (0, .ref m), (1, .int (nI (hm_sp c9))), (2, .ref x), (3, .null), (4, .int 0), (5, .int 1)]) hx hb dJ4_removeNode_38 hl (by decide) rfl (fun ls hl => ?_)
    refine lv_aload hx hb dJ4_removeNode_40 (lv_at hl 1 rfl) ?_
    refine gh_getr (v := .int (nI (hm_sp (D.C y_7)))) hC hg (hN y_7 hmL) (rfNJ4_168 (hG.len.2 y_7 hmL)) rfl dJ4_removeNode_42 ?_
    refine lv_iload_n hx hb dJ4_removeNode_45 rfl (lv_at hl 6 rfl) ?_
    refine lv_icmp_ne (tgt := 81) hx hb dJ4_removeNode_46 (by decide) (fun c_8 => ?_) (fun c_8 => ?_)
    · skip
      have c_8 : ¬ (hm_sp (D.C y_7)) = (hm_sp c9) := fun h9 => c_8 ((nx_eq rfl rfl (by omega) (by omega)).mpr h9)
      have hcn : D.C y_7 ≠ c9 := fun h9 => c_8 (by rw [h9])
      refine lv_aload hx hb dJ4_removeNode_81 (lv_at hl 1 rfl) ?_
      refine gh_get (v := va_rf (D.nx y_7)) hC hg (hN y_7 hmL) (fNJ4_177 (hG.len.2 y_7 hmL)) rfl dJ4_removeNode_83 ?_
      refine lv_dup hx hb dJ4_removeNode_86 (gh_cQ _) ?_
      refine lv_astoreQ (lv' := [(11, va_rf (D.nx y_7)), (10, .null), (7, .ref y_7), (9, .int (nI i)), (8, .int (nI D.n)), (6, .ref D.tb), (0, .ref m), (1, .int (nI (hm_sp c9))), (2, .ref x), (3, .null), (4, .int 0), (5, .int 1)]) hx hb dJ4_removeNode_87 hl (by decide) rfl (fun ls hl => ?_)
      refine lv_ifnullQ (tgt := 171) hx hb dJ4_removeNode_89 (by decide) (fun hq_9 => ?_) (fun y_10 hq_9 => ?_)
      · skip
        rw [hq_9] at hl
        have hl : lv_has ls 14 [(11, .null), (10, .null), (7, .ref y_7), (9, .int (nI i)), (8, .int (nI D.n)), (6, .ref D.tb), (0, .ref m), (1, .int (nI (hm_sp c9))), (2, .ref x), (3, .null), (4, .int 0), (5, .int 1)] := hl
        have hl1 := rz_nil hnx1 hq_9
        have hno : ∀ b, b ∈ D.L → D.C b ≠ c9 := hG.absent hi hie (fun a ha => by rw [hB1, hl1] at ha; cases List.mem_singleton.mp ha; exact hcn)
        refine lv_aloadN hx hb dJ4_removeNode_171 (lv_at hl 1 rfl) ?_
        refine lv_ifnullN (tgt := 289) hx hb dJ4_removeNode_173 (by decide) ?_
        refine lv_null hx hb dJ4_removeNode_289 ?_
        exact gh_retq (r := none) (Or.inl ⟨_, rfl⟩) hC hg hr hlk (⟨D, (by rw [hgc]; exact hI), h9, (by rw [hgc]; exact gh_fk.rf), (lm_del_none hno).symm, (fun h8 => ⟨h8, rfl⟩), Or.inl ⟨rfl, lm_get_none hno⟩⟩) dJ4_removeNode_290 (Nat.le_of_ble_eq_true rfl) (Nat.le_of_ble_eq_true rfl)
      rw [hq_9] at hl
      have hl : lv_has ls 14 [(11, .ref y_10), (10, .null), (7, .ref y_7), (9, .int (nI i)), (8, .int (nI D.n)), (6, .ref D.tb), (0, .ref m), (1, .int (nI (hm_sp c9))), (2, .ref x), (3, .null), (4, .int 0), (5, .int 1)] := hl
      obtain ⟨l2, hl2, hnx2⟩ := rz_cons hnx1 hq_9
      rcases hG.bin i hi with h14 | h15
      · skip
        refine lv_aload hx hb dJ4_removeNode_92 (lv_at hl 2 rfl) ?_
        refine gh_instNo (C := "java/util/LinkedHashMap$Entry") (ci := D.ci y_7) hC hg (hN y_7 hmL) (by rw [(h14 _ hm1).1]; rfl) q1822 (by decide +kernel) dJ4_removeNode_94 ?_
        refine lv_if_eq (tgt := 115) hx hb dJ4_removeNode_97 (by decide) (fun _ => ?_) (fun c_11 => (absurd ((nx_eq (show ((0 : Int32)) = nI 0 from rfl) (show ((0 : Int32)) = nI 0 from rfl) (by omega) (by omega)).mpr (by omega)) c_11))
        refine gh_while (α := List Nat × Nat × Nat × List Nat) (μ := fun q => q.2.2.2.length) (X := fun q9 g ls => ∃ pre p e9 l9, q9 = (pre, p, e9, l9) ∧ D.B i = pre ++ p :: e9 :: l9 ∧ (∀ b, b ∈ pre ++ [p] → D.C b ≠ c9) ∧ g = g0 ∧ lv_has ls 14 [(0, .ref m), (1, .int (nI (hm_sp c9))), (2, .ref x), (3, .null), (4, .int 0), (5, .int 1), (6, .ref D.tb), (7, .ref p), (8, .int (nI D.n)), (9, .int (nI i)), (10, .null), (11, .ref e9)]) ?_ ([], y_7, y_10, l2) hg ⟨[], y_7, y_10, l2, rfl, (by rw [hB1, hl2]; rfl), (fun b hb9 => by cases List.mem_singleton.mp hb9; exact hcn), hgg, lv_sub hl [6, 7, 8, 9, 10, 11, 5, 2, 4, 3, 1, 0] rfl⟩
        intro q9 ih115 g H locs ls hg hX
        obtain ⟨pre, p, e9, l9, rfl, hX115_0, hX115_1, hX115_2, hl⟩ := hX
        have hG : hm_G V o k g m ck D D.L.length none := by rw [hX115_2]; exact hI.1
        have hk9 : ky_P V g ck x c9 := by rw [hX115_2]; exact hk90
        have hgg0 := hX115_2
        have hgc := hX115_2
        have hm := hG.cm
        have htb := hG.ct hn0
        have hN := hG.cn
        have hpB : p ∈ D.B i := by rw [hX115_0]; exact List.mem_append_right _ List.mem_cons_self
        have hpL : p ∈ D.L := hG.mem hi hpB
        have heB : e9 ∈ D.B i := by rw [hX115_0]; exact List.mem_append_right _ (List.mem_cons_of_mem _ List.mem_cons_self)
        have heL : e9 ∈ D.L := hG.mem hi heB
        have hse := hG.spl heL
        have hpe : p ≠ e9 := fun e8 => by have h7 := hG.bn i hi; rw [hX115_0] at h7; have h6 := (List.nodup_append.mp h7).2.1; rw [e8] at h6; exact (List.nodup_cons.mp h6).1 List.mem_cons_self
        have hnx1 : hm_ch D.nx (D.nx e9) l9 := by have h9 := hG.ch i hi; rw [hX115_0, show pre ++ p :: e9 :: l9 = (pre ++ [p]) ++ e9 :: l9 by simp] at h9; exact h9.next
        refine lv_aload hx hb dJ4_removeNode_115 (lv_at hl 11 rfl) ?_
        refine gh_getr (v := .int (nI (hm_sp (D.C e9)))) hC hg (hN e9 heL) (rfNJ4_168 (hG.len.2 e9 heL)) rfl dJ4_removeNode_117 ?_
        refine lv_iload_n hx hb dJ4_removeNode_120 rfl (lv_at hl 1 rfl) ?_
        refine lv_icmp_ne (tgt := 156) hx hb dJ4_removeNode_121 (by decide) (fun c_12 => ?_) (fun c_12 => ?_)
        · skip
          have c_12 : ¬ (hm_sp (D.C e9)) = (hm_sp c9) := fun h9 => c_12 ((nx_eq rfl rfl (by omega) (by omega)).mpr h9)
          have hcn : D.C e9 ≠ c9 := fun h9 => c_12 (by rw [h9])
          refine lv_aload hx hb dJ4_removeNode_156 (lv_at hl 11 rfl) ?_
          refine lv_astore (lv' := [(7, .ref e9), (0, .ref m), (1, .int (nI (hm_sp c9))), (2, .ref x), (3, .null), (4, .int 0), (5, .int 1), (6, .ref D.tb), (8, .int (nI D.n)), (9, .int (nI i)), (10, .null), (11, .ref e9)]) hx hb dJ4_removeNode_158 hl (by decide) rfl (fun ls hl => ?_)
          refine lv_aload hx hb dJ4_removeNode_160 (lv_at hl 11 rfl) ?_
          refine gh_get (v := va_rf (D.nx e9)) hC hg (hN e9 heL) (fNJ4_177 (hG.len.2 e9 heL)) rfl dJ4_removeNode_162 ?_
          refine lv_dup hx hb dJ4_removeNode_165 (gh_cQ _) ?_
          refine lv_astoreQ (lv' := [(11, va_rf (D.nx e9)), (7, .ref e9), (0, .ref m), (1, .int (nI (hm_sp c9))), (2, .ref x), (3, .null), (4, .int 0), (5, .int 1), (6, .ref D.tb), (8, .int (nI D.n)), (9, .int (nI i)), (10, .null)]) hx hb dJ4_removeNode_166 hl (by decide) rfl (fun ls hl => ?_)
          refine lv_ifnonnullQ (tgt := 115) hx hb dJ4_removeNode_168 (by decide) (fun y_14 hq_13 => ?_) (fun hq_13 => ?_)
          · skip
            rw [hq_13] at hl
            have hl : lv_has ls 14 [(11, .ref y_14), (7, .ref e9), (0, .ref m), (1, .int (nI (hm_sp c9))), (2, .ref x), (3, .null), (4, .int 0), (5, .int 1), (6, .ref D.tb), (8, .int (nI D.n)), (9, .int (nI i)), (10, .null)] := hl
            obtain ⟨l2, hl2, hnx2⟩ := rz_cons hnx1 hq_13
            exact ih115 (pre ++ [p], e9, y_14, l2) (by rw [hl2]; exact Nat.lt_succ_self _) _ _ _ _ hg ⟨pre ++ [p], e9, y_14, l2, rfl, (by rw [hX115_0, hl2]; simp), (fun b hb9 => by rcases List.mem_append.mp hb9 with hb9 | hb9; exact hX115_1 b hb9; cases List.mem_singleton.mp hb9; exact hcn), hgg0, lv_sub hl [2, 3, 4, 5, 6, 7, 8, 1, 9, 10, 11, 0] rfl⟩
          rw [hq_13] at hl
          have hl : lv_has ls 14 [(11, .null), (7, .ref e9), (0, .ref m), (1, .int (nI (hm_sp c9))), (2, .ref x), (3, .null), (4, .int 0), (5, .int 1), (6, .ref D.tb), (8, .int (nI D.n)), (9, .int (nI i)), (10, .null)] := hl
          have hl0 := rz_nil hnx1 hq_13
          have hno : ∀ b, b ∈ D.L → D.C b ≠ c9 := hG.absent hi hie (fun a ha => by rw [hX115_0, hl0] at ha; rcases List.mem_append.mp ha with ha | ha; exact hX115_1 a (List.mem_append_left _ ha); rcases List.mem_cons.mp ha with ha | ha; exact hX115_1 a (List.mem_append_right _ (by rw [ha]; exact List.mem_cons_self)); cases List.mem_singleton.mp ha; exact hcn)
          refine lv_aloadN hx hb dJ4_removeNode_171 (lv_at hl 11 rfl) ?_
          refine lv_ifnullN (tgt := 289) hx hb dJ4_removeNode_173 (by decide) ?_
          refine lv_null hx hb dJ4_removeNode_289 ?_
          exact gh_retq (r := none) (Or.inl ⟨_, rfl⟩) hC hg hr hlk (⟨D, (by rw [hgc]; exact hI), h9, (by rw [hgc]; exact gh_fk.rf), (lm_del_none hno).symm, (fun h8 => ⟨h8, rfl⟩), Or.inl ⟨rfl, lm_get_none hno⟩⟩) dJ4_removeNode_290 (Nat.le_of_ble_eq_true rfl) (Nat.le_of_ble_eq_true rfl)
        have c_12 : (hm_sp (D.C e9)) = (hm_sp c9) := (nx_eq rfl rfl (by omega) (by omega)).mp c_12
        have hce : D.C e9 = c9 := hm_sp_inj (by have := hG.clt heL; omega) (by omega) c_12
        refine lv_aload hx hb dJ4_removeNode_124 (lv_at hl 11 rfl) ?_
        refine gh_getr (v := .ref (D.K e9)) hC hg (hN e9 heL) (rfNJ4_170 (hG.len.2 e9 heL)) rfl dJ4_removeNode_126 ?_
        refine lv_dup hx hb dJ4_removeNode_129 rfl ?_
        refine lv_astore (lv' := [(12, .ref (D.K e9)), (0, .ref m), (1, .int (nI (hm_sp c9))), (2, .ref x), (3, .null), (4, .int 0), (5, .int 1), (6, .ref D.tb), (7, .ref p), (8, .int (nI D.n)), (9, .int (nI i)), (10, .null), (11, .ref e9)]) hx hb dJ4_removeNode_130 hl (by decide) rfl (fun ls hl => ?_)
        refine lv_aload_n hx hb dJ4_removeNode_132 rfl (lv_at hl 3 rfl) ?_
        refine lv_acmp_eq (rx := (some (D.K e9))) (ry := (some x)) (tgt := 149) hx hb dJ4_removeNode_133 (by decide) (fun c_15 => ?_) (fun c_15 => ?_)
        · skip
          refine lv_aload hx hb dJ4_removeNode_149 (lv_at hl 12 rfl) ?_
          refine lv_astore (lv' := [(10, .ref e9), (12, .ref (D.K e9)), (0, .ref m), (1, .int (nI (hm_sp c9))), (2, .ref x), (3, .null), (4, .int 0), (5, .int 1), (6, .ref D.tb), (7, .ref p), (8, .int (nI D.n)), (9, .int (nI i)), (11, .ref e9)]) hx hb dJ4_removeNode_151 hl (by decide) rfl (fun ls hl => ?_)
          refine lv_goto (tgt := 171) hx hb dJ4_removeNode_153 (by decide) ?_
          refine lv_aload hx hb dJ4_removeNode_171 (lv_at hl 0 rfl) ?_
          refine lv_ifnull hx hb dJ4_removeNode_173 ?_
          refine lv_iload hx hb dJ4_removeNode_176 (lv_at hl 6 rfl) ?_
          refine lv_if_eq (tgt := 206) hx hb dJ4_removeNode_178 (by decide) (fun _ => ?_) (fun c_16 => (absurd ((nx_eq (show ((0 : Int32)) = nI 0 from rfl) (show ((0 : Int32)) = nI 0 from rfl) (by omega) (by omega)).mpr (by omega)) c_16))
          rcases hG.bin i hi with h14 | h15
          · skip
            obtain ⟨gB, hgB⟩ : ∃ gB, gB = g := ⟨_, rfl⟩
            have hGB := hG
            rw [← hgB] at hGB
            have hfr : ∀ b, b ≠ D.tb → b ∉ D.L → g b = gB b := fun b _ _ => by rw [hgB]
            have hme : g m = gB m := by rw [hgB]
            have hmt : m ≠ D.tb := gh_neI hm htb rfl
            have hmp : m ≠ p := gh_neI hm (hN p hpL) rfl
            have hbi := heB
            refine lv_aload hx hb dJ4_removeNode_206 (lv_at hl 0 rfl) ?_
            refine gh_instNo (C := "java/util/LinkedHashMap$Entry") (ci := D.ci e9) hC hg (hN e9 heL) (by rw [(h14 _ heB).1]; rfl) q1822 (by decide +kernel) dJ4_removeNode_208 ?_
            refine lv_if_eq (tgt := 230) hx hb dJ4_removeNode_211 (by decide) (fun _ => ?_) (fun c_17 => (absurd ((nx_eq (show ((0 : Int32)) = nI 0 from rfl) (show ((0 : Int32)) = nI 0 from rfl) (by omega) (by omega)).mpr (by omega)) c_17))
            refine lv_aload hx hb dJ4_removeNode_230 (lv_at hl 0 rfl) ?_
            refine lv_aload hx hb dJ4_removeNode_232 (lv_at hl 9 rfl) ?_
            refine lv_acmp_ne (rx := (some e9)) (ry := (some p)) (tgt := 250) hx hb dJ4_removeNode_234 (by decide) (fun _ => ?_) (fun c_18 => absurd c_18 (fun e9 => hpe (Option.some.inj e9).symm))
            refine lv_aload hx hb dJ4_removeNode_250 (lv_at hl 9 rfl) ?_
            refine lv_aload hx hb dJ4_removeNode_252 (lv_at hl 0 rfl) ?_
            refine gh_get (v := va_rf (D.nx e9)) hC hg (hN e9 heL) (fNJ4_177 (hG.len.2 e9 heL)) rfl dJ4_removeNode_254 ?_
            refine gh_put (v := va_rf (D.nx e9)) hC hg (hN p hpL) (fNJ4_177 (hG.len.2 p hpL)) (gh_nQ _) (gh_fQ _) (gh_len (by decide)) dJ4_removeNode_257 (fun g H locs hg hw hn => ?_)
            have hm : g m = some ((o, k, 0), oo 13 [va_rf (hm_tab D), va_rf D.es, .int (nI D.L.length), .int D.mc, .int (nI D.th), .float 1061158912, va_rf D.ks, va_rf D.vs, va_rf (D.L.head?), va_rf (D.L.getLast?), .int 0, .int 0]) := (hn _ (gh_neI hm (hN p hpL) rfl)).trans hm
            have htb : g D.tb = some ((o, k, 1), aq V 9 D.n D.T) := (hn _ (gh_neI htb (hN p hpL) rfl)).trans htb
            have hfr : ∀ b, b ≠ D.tb → b ∉ D.L → g b = gB b := fun b h1 h2 => (hn b (fun e => h2 (e ▸ hpL))).trans (hfr b h1 h2)
            have hme : g m = gB m := (hn _ hmp).trans hme
            have hN : ∀ a, a ∈ D.L → g a = some ((o, k, 2), oo (D.ci a) (.int (nI (hm_sp (D.C a))) :: .ref (D.K a) :: va_rf (D.v a) :: va_rf ((va_up D.nx p (D.nx e9)) a) :: va_rf (pvL D.L a) :: va_rf (scL D.L a) :: D.ex a)) := by
              intro a ha
              by_cases e9 : a = p
              · rw [e9, va_up_self]; exact hw
              · rw [va_up_ne _ _ e9]; exact (hn _ e9).trans (hN a ha)
            have hch9 : hm_ch (va_up D.nx p (D.nx e9)) (D.T i) ((D.B i).erase e9) := by
              have hnd := hG.bn i hi
              rw [hX115_0] at hnd ⊢
              have h8 := hG.ch i hi
              rw [hX115_0] at h8
              have hpre : pre ++ p :: e9 :: l9 = (pre ++ [p]) ++ e9 :: l9 := by simp
              rw [hpre, er_mid (fun q => by have h7 := hnd; rw [hpre] at h7; exact (List.nodup_append.mp h7).2.2 e9 q e9 List.mem_cons_self rfl), List.append_assoc]
              refine h8.cut (fun a ha => va_up_ne _ _ (fun e8 => ?_)) (va_up_self _ _ _)
              rw [e8] at ha
              have h6 := List.nodup_append.mp hnd
              rcases List.mem_append.mp ha with ha | ha
              · exact h6.2.2 p ha p List.mem_cons_self rfl
              · exact (List.nodup_cons.mp h6.2.1).1 (List.mem_cons_of_mem _ ha)
            obtain ⟨hG6, hF6⟩ := hGB.outb (g1 := g) (nx := (va_up D.nx p (D.nx e9))) (T := D.T) hn0 hi hbi h14 (fun _ _ => rfl) (fun a h1 h2 => va_up_ne _ _ (fun e8 => h2 (by rw [e8]; exact hpB))) hch9 hme htb hN hfr
            have hO : hm_O V o k g0 g m ck D (hd_out D i e9 (va_up D.nx p (D.nx e9)) D.T) e9 c9 := ⟨hG6, heL, rfl, hce, (lm_get_some heL hce hG.inj).symm, rfl, (show gh_fk o k g0 gB from by rw [hgB, hgc]; exact gh_fk.rf).tr hF6, h9⟩
            exact W.widen (by decide) (by decide) (hjn _ _ _ _ hg ⟨e9, (hd_out D i e9 (va_up D.nx p (D.nx e9)) D.T), hO, lv_sub hl [2, 0] rfl⟩)
          have hci15 := h15.2.1 _ heB
          have hck0 : ck = 10 := by
            rcases hck with h8 | h8
            · have h7 := h9 h8 _ heL; omega
            · exact h8
          refine lv_aload hx hb dJ4_removeNode_206 (lv_at hl 0 rfl) ?_
          refine gh_instS (C := "java/util/HashMap$TreeNode") (ci := (D.ci e9)) hC hg (hN e9 heL) (by rw [hci15]; rfl) q1822 dJ4_removeNode_208 ?_
          refine lv_if_eq (tgt := 230) hx hb dJ4_removeNode_211 (by decide) (fun c_19 => (absurd ((nx_eq (show ((1 : Int32)) = nI 1 from rfl) (show ((0 : Int32)) = nI 0 from rfl) (by omega) (by omega)).mp c_19) (by omega))) (fun _ => ?_)
          refine lv_aload hx hb dJ4_removeNode_214 (lv_at hl 0 rfl) ?_
          refine gh_castS (C := "java/util/HashMap$TreeNode") (ci := (D.ci e9)) hC hg (hN e9 heL) (by rw [hci15]; rfl) q1822 dJ4_removeNode_216 ?_
          refine lv_aload_n hx hb dJ4_removeNode_219 rfl (lv_at hl 2 rfl) ?_
          refine lv_aload hx hb dJ4_removeNode_220 (lv_at hl 8 rfl) ?_
          refine lv_iload hx hb dJ4_removeNode_222 (lv_at hl 7 rfl) ?_
          refine gh_callv hg (gh_runVr (As := [.ref m, .ref D.tb, .int 1]) (rest := []) hC hg (hRM _ o k m D.L.length D i e9 (by rw [← hck0]; exact hG) hi h15 heB) 3 (lw_V q2369 q2370 q2371 q148 q2372) (gh_recv (C := "java/util/HashMap$TreeNode") (ci := (D.ci e9)) hC hg (hN e9 heL) (by rw [hci15]; rfl)) hd_J39_removeTreeNode ⟨Nat.le_of_ble_eq_true rfl, Nat.le_of_ble_eq_true rfl⟩ rfl hl.1 rfl (Nat.le_of_ble_eq_true rfl) dJ4_removeNode_224 ⟨Nat.le_of_ble_eq_true rfl, Nat.le_of_ble_eq_true rfl⟩) (fun g H locs hg hp => ?_)
          obtain ⟨D6, hG6, hb6, hM6, hC6, hv6, hn6, hF6⟩ := hp
          rw [← hck0] at hG6
          have hO : hm_O V o k g0 g m ck D D6 e9 c9 := ⟨hG6, hb6, hM6, hC6.trans hce, hv6.trans (lm_get_some heL hce hG.inj).symm, hn6, (show gh_fk o k g0 _ from by rw [hgc]; exact gh_fk.rf).tr hF6, (fun h7 => by omega)⟩
          refine lv_goto (tgt := 260) hx hb dJ4_removeNode_227 (by decide) ?_
          exact W.widen (by decide) (by decide) (hjn _ _ _ _ hg ⟨e9, D6, hO, lv_sub hl [2, 0] rfl⟩)
        refine lv_aload_n hx hb dJ4_removeNode_136 rfl (lv_at hl 3 rfl) ?_
        refine lv_ifnull hx hb dJ4_removeNode_137 ?_
        refine lv_aload_n hx hb dJ4_removeNode_140 rfl (lv_at hl 3 rfl) ?_
        refine lv_aload hx hb dJ4_removeNode_141 (lv_at hl 0 rfl) ?_
        refine gh_keq4 hk9 (hG.ky e9 heL) hC hg hl.1 (Nat.le_of_ble_eq_true rfl) dJ4_removeNode_143 ⟨Nat.le_of_ble_eq_true rfl, Nat.le_of_ble_eq_true rfl⟩ ⟨Nat.le_of_ble_eq_true rfl, Nat.le_of_ble_eq_true rfl⟩ (fun H locs hg => ?_)
        rw [if_pos (hce.symm)]
        refine lv_if_eq (tgt := 156) hx hb dJ4_removeNode_146 (by decide) (fun c_21 => (absurd ((nx_eq (show ((1 : Int32)) = nI 1 from rfl) (show ((0 : Int32)) = nI 0 from rfl) (by omega) (by omega)).mp c_21) (by omega))) (fun _ => ?_)
        refine lv_aload hx hb dJ4_removeNode_149 (lv_at hl 12 rfl) ?_
        refine lv_astore (lv' := [(10, .ref e9), (12, .ref (D.K e9)), (0, .ref m), (1, .int (nI (hm_sp c9))), (2, .ref x), (3, .null), (4, .int 0), (5, .int 1), (6, .ref D.tb), (7, .ref p), (8, .int (nI D.n)), (9, .int (nI i)), (11, .ref e9)]) hx hb dJ4_removeNode_151 hl (by decide) rfl (fun ls hl => ?_)
        refine lv_goto (tgt := 171) hx hb dJ4_removeNode_153 (by decide) ?_
        refine lv_aload hx hb dJ4_removeNode_171 (lv_at hl 0 rfl) ?_
        refine lv_ifnull hx hb dJ4_removeNode_173 ?_
        refine lv_iload hx hb dJ4_removeNode_176 (lv_at hl 6 rfl) ?_
        refine lv_if_eq (tgt := 206) hx hb dJ4_removeNode_178 (by decide) (fun _ => ?_) (fun c_22 => (absurd ((nx_eq (show ((0 : Int32)) = nI 0 from rfl) (show ((0 : Int32)) = nI 0 from rfl) (by omega) (by omega)).mpr (by omega)) c_22))
        rcases hG.bin i hi with h14 | h15
        · skip
          obtain ⟨gB, hgB⟩ : ∃ gB, gB = g := ⟨_, rfl⟩
          have hGB := hG
          rw [← hgB] at hGB
          have hfr : ∀ b, b ≠ D.tb → b ∉ D.L → g b = gB b := fun b _ _ => by rw [hgB]
          have hme : g m = gB m := by rw [hgB]
          have hmt : m ≠ D.tb := gh_neI hm htb rfl
          have hmp : m ≠ p := gh_neI hm (hN p hpL) rfl
          have hbi := heB
          refine lv_aload hx hb dJ4_removeNode_206 (lv_at hl 0 rfl) ?_
          refine gh_instNo (C := "java/util/LinkedHashMap$Entry") (ci := D.ci e9) hC hg (hN e9 heL) (by rw [(h14 _ heB).1]; rfl) q1822 (by decide +kernel) dJ4_removeNode_208 ?_
          refine lv_if_eq (tgt := 230) hx hb dJ4_removeNode_211 (by decide) (fun _ => ?_) (fun c_23 => (absurd ((nx_eq (show ((0 : Int32)) = nI 0 from rfl) (show ((0 : Int32)) = nI 0 from rfl) (by omega) (by omega)).mpr (by omega)) c_23))
          refine lv_aload hx hb dJ4_removeNode_230 (lv_at hl 0 rfl) ?_
          refine lv_aload hx hb dJ4_removeNode_232 (lv_at hl 9 rfl) ?_
          refine lv_acmp_ne (rx := (some e9)) (ry := (some p)) (tgt := 250) hx hb dJ4_removeNode_234 (by decide) (fun _ => ?_) (fun c_24 => absurd c_24 (fun e9 => hpe (Option.some.inj e9).symm))
          refine lv_aload hx hb dJ4_removeNode_250 (lv_at hl 9 rfl) ?_
          refine lv_aload hx hb dJ4_removeNode_252 (lv_at hl 0 rfl) ?_
          refine gh_get (v := va_rf (D.nx e9)) hC hg (hN e9 heL) (fNJ4_177 (hG.len.2 e9 heL)) rfl dJ4_removeNode_254 ?_
          refine gh_put (v := va_rf (D.nx e9)) hC hg (hN p hpL) (fNJ4_177 (hG.len.2 p hpL)) (gh_nQ _) (gh_fQ _) (gh_len (by decide)) dJ4_removeNode_257 (fun g H locs hg hw hn => ?_)
          have hm : g m = some ((o, k, 0), oo 13 [va_rf (hm_tab D), va_rf D.es, .int (nI D.L.length), .int D.mc, .int (nI D.th), .float 1061158912, va_rf D.ks, va_rf D.vs, va_rf (D.L.head?), va_rf (D.L.getLast?), .int 0, .int 0]) := (hn _ (gh_neI hm (hN p hpL) rfl)).trans hm
          have htb : g D.tb = some ((o, k, 1), aq V 9 D.n D.T) := (hn _ (gh_neI htb (hN p hpL) rfl)).trans htb
          have hfr : ∀ b, b ≠ D.tb → b ∉ D.L → g b = gB b := fun b h1 h2 => (hn b (fun e => h2 (e ▸ hpL))).trans (hfr b h1 h2)
          have hme : g m = gB m := (hn _ hmp).trans hme
          have hN : ∀ a, a ∈ D.L → g a = some ((o, k, 2), oo (D.ci a) (.int (nI (hm_sp (D.C a))) :: .ref (D.K a) :: va_rf (D.v a) :: va_rf ((va_up D.nx p (D.nx e9)) a) :: va_rf (pvL D.L a) :: va_rf (scL D.L a) :: D.ex a)) := by
            intro a ha
            by_cases e9 : a = p
            · rw [e9, va_up_self]; exact hw
            · rw [va_up_ne _ _ e9]; exact (hn _ e9).trans (hN a ha)
          have hch9 : hm_ch (va_up D.nx p (D.nx e9)) (D.T i) ((D.B i).erase e9) := by
            have hnd := hG.bn i hi
            rw [hX115_0] at hnd ⊢
            have h8 := hG.ch i hi
            rw [hX115_0] at h8
            have hpre : pre ++ p :: e9 :: l9 = (pre ++ [p]) ++ e9 :: l9 := by simp
            rw [hpre, er_mid (fun q => by have h7 := hnd; rw [hpre] at h7; exact (List.nodup_append.mp h7).2.2 e9 q e9 List.mem_cons_self rfl), List.append_assoc]
            refine h8.cut (fun a ha => va_up_ne _ _ (fun e8 => ?_)) (va_up_self _ _ _)
            rw [e8] at ha
            have h6 := List.nodup_append.mp hnd
            rcases List.mem_append.mp ha with ha | ha
            · exact h6.2.2 p ha p List.mem_cons_self rfl
            · exact (List.nodup_cons.mp h6.2.1).1 (List.mem_cons_of_mem _ ha)
          obtain ⟨hG6, hF6⟩ := hGB.outb (g1 := g) (nx := (va_up D.nx p (D.nx e9))) (T := D.T) hn0 hi hbi h14 (fun _ _ => rfl) (fun a h1 h2 => va_up_ne _ _ (fun e8 => h2 (by rw [e8]; exact hpB))) hch9 hme htb hN hfr
          have hO : hm_O V o k g0 g m ck D (hd_out D i e9 (va_up D.nx p (D.nx e9)) D.T) e9 c9 := ⟨hG6, heL, rfl, hce, (lm_get_some heL hce hG.inj).symm, rfl, (show gh_fk o k g0 gB from by rw [hgB, hgc]; exact gh_fk.rf).tr hF6, h9⟩
          exact W.widen (by decide) (by decide) (hjn _ _ _ _ hg ⟨e9, (hd_out D i e9 (va_up D.nx p (D.nx e9)) D.T), hO, lv_sub hl [2, 0] rfl⟩)
        have hci15 := h15.2.1 _ heB
        have hck0 : ck = 10 := by
          rcases hck with h8 | h8
          · have h7 := h9 h8 _ heL; omega
          · exact h8
        refine lv_aload hx hb dJ4_removeNode_206 (lv_at hl 0 rfl) ?_
        refine gh_instS (C := "java/util/HashMap$TreeNode") (ci := (D.ci e9)) hC hg (hN e9 heL) (by rw [hci15]; rfl) q1822 dJ4_removeNode_208 ?_
        refine lv_if_eq (tgt := 230) hx hb dJ4_removeNode_211 (by decide) (fun c_25 => (absurd ((nx_eq (show ((1 : Int32)) = nI 1 from rfl) (show ((0 : Int32)) = nI 0 from rfl) (by omega) (by omega)).mp c_25) (by omega))) (fun _ => ?_)
        refine lv_aload hx hb dJ4_removeNode_214 (lv_at hl 0 rfl) ?_
        refine gh_castS (C := "java/util/HashMap$TreeNode") (ci := (D.ci e9)) hC hg (hN e9 heL) (by rw [hci15]; rfl) q1822 dJ4_removeNode_216 ?_
        refine lv_aload_n hx hb dJ4_removeNode_219 rfl (lv_at hl 2 rfl) ?_
        refine lv_aload hx hb dJ4_removeNode_220 (lv_at hl 8 rfl) ?_
        refine lv_iload hx hb dJ4_removeNode_222 (lv_at hl 7 rfl) ?_
        refine gh_callv hg (gh_runVr (As := [.ref m, .ref D.tb, .int 1]) (rest := []) hC hg (hRM _ o k m D.L.length D i e9 (by rw [← hck0]; exact hG) hi h15 heB) 3 (lw_V q2369 q2370 q2371 q148 q2372) (gh_recv (C := "java/util/HashMap$TreeNode") (ci := (D.ci e9)) hC hg (hN e9 heL) (by rw [hci15]; rfl)) hd_J39_removeTreeNode ⟨Nat.le_of_ble_eq_true rfl, Nat.le_of_ble_eq_true rfl⟩ rfl hl.1 rfl (Nat.le_of_ble_eq_true rfl) dJ4_removeNode_224 ⟨Nat.le_of_ble_eq_true rfl, Nat.le_of_ble_eq_true rfl⟩) (fun g H locs hg hp => ?_)
        obtain ⟨D6, hG6, hb6, hM6, hC6, hv6, hn6, hF6⟩ := hp
        rw [← hck0] at hG6
        have hO : hm_O V o k g0 g m ck D D6 e9 c9 := ⟨hG6, hb6, hM6, hC6.trans hce, hv6.trans (lm_get_some heL hce hG.inj).symm, hn6, (show gh_fk o k g0 _ from by rw [hgc]; exact gh_fk.rf).tr hF6, (fun h7 => by omega)⟩
        refine lv_goto (tgt := 260) hx hb dJ4_removeNode_227 (by decide) ?_
        exact W.widen (by decide) (by decide) (hjn _ _ _ _ hg ⟨e9, D6, hO, lv_sub hl [2, 0] rfl⟩)
      have hci15 := h15.2.1 _ hm1
      refine lv_aload hx hb dJ4_removeNode_92 (lv_at hl 2 rfl) ?_
      refine gh_instS (C := "java/util/HashMap$TreeNode") (ci := (D.ci y_7)) hC hg (hN y_7 hmL) (by rw [hci15]; rfl) q1822 dJ4_removeNode_94 ?_
      refine lv_if_eq (tgt := 115) hx hb dJ4_removeNode_97 (by decide) (fun c_26 => (absurd ((nx_eq (show ((1 : Int32)) = nI 1 from rfl) (show ((0 : Int32)) = nI 0 from rfl) (by omega) (by omega)).mp c_26) (by omega))) (fun _ => ?_)
      refine lv_aload hx hb dJ4_removeNode_100 (lv_at hl 2 rfl) ?_
      refine gh_castS (C := "java/util/HashMap$TreeNode") (ci := (D.ci y_7)) hC hg (hN y_7 hmL) (by rw [hci15]; rfl) q1822 dJ4_removeNode_102 ?_
      refine lv_iload_n hx hb dJ4_removeNode_105 rfl (lv_at hl 7 rfl) ?_
      refine lv_aload_n hx hb dJ4_removeNode_106 rfl (lv_at hl 8 rfl) ?_
      refine gh_callq hg (gh_runVr (As := [.int (nI (hm_sp c9)), .ref x]) (rest := []) hC hg (hTG _ o k m ck D i y_7 c9 x (by rw [hgc]; exact hI) hi (by rw [hB1]; rfl) hci15 hie hk9) 2 (lw_V q2365 q2366 q2367 q148 q2368) (gh_recv (C := "java/util/HashMap$TreeNode") (ci := (D.ci y_7)) hC hg (hN y_7 hmL) (by rw [hci15]; rfl)) hd_J39_getTreeNode ⟨Nat.le_of_ble_eq_true rfl, Nat.le_of_ble_eq_true rfl⟩ rfl hl.1 rfl (Nat.le_of_ble_eq_true rfl) dJ4_removeNode_107 ⟨Nat.le_of_ble_eq_true rfl, Nat.le_of_ble_eq_true rfl⟩) (fun r_27 g H locs hg hp => ?_)
      obtain ⟨hfd, hq⟩ := hp
      rw [hq] at hg
      refine lv_astoreQ (lv' := [(10, va_rf r_27), (11, .ref y_10), (7, .ref y_7), (9, .int (nI i)), (8, .int (nI D.n)), (6, .ref D.tb), (0, .ref m), (1, .int (nI (hm_sp c9))), (2, .ref x), (3, .null), (4, .int 0), (5, .int 1)]) hx hb dJ4_removeNode_110 hl (by decide) rfl (fun ls hl => ?_)
      refine lv_goto (tgt := 171) hx hb dJ4_removeNode_112 (by decide) ?_
      refine lv_aloadQ hx hb dJ4_removeNode_171 (lv_at hl 0 rfl) ?_
      refine lv_ifnullQ (tgt := 289) hx hb dJ4_removeNode_173 (by decide) (fun hq_28 => ?_) (fun y_29 hq_28 => ?_)
      · skip
        rw [hq_28] at hl
        have hl : lv_has ls 14 [(10, .null), (11, .ref y_10), (7, .ref y_7), (9, .int (nI i)), (8, .int (nI D.n)), (6, .ref D.tb), (0, .ref m), (1, .int (nI (hm_sp c9))), (2, .ref x), (3, .null), (4, .int 0), (5, .int 1)] := hl
        have hno : ∀ b, b ∈ D.L → D.C b ≠ c9 := by
            rcases hfd with ⟨b, h7, h8, h9⟩ | h9
            · rw [hq_28] at h9; cases h9
            · exact h9.1
        refine lv_null hx hb dJ4_removeNode_289 ?_
        exact gh_retq (r := none) (Or.inl ⟨_, rfl⟩) hC hg hr hlk (⟨D, (by rw [hgc]; exact hI), h9, (by rw [hgc]; exact gh_fk.rf), (lm_del_none hno).symm, (fun h8 => ⟨h8, rfl⟩), Or.inl ⟨rfl, lm_get_none hno⟩⟩) dJ4_removeNode_290 (Nat.le_of_ble_eq_true rfl) (Nat.le_of_ble_eq_true rfl)
      rw [hq_28] at hl
      have hl : lv_has ls 14 [(10, .ref y_29), (11, .ref y_10), (7, .ref y_7), (9, .int (nI i)), (8, .int (nI D.n)), (6, .ref D.tb), (0, .ref m), (1, .int (nI (hm_sp c9))), (2, .ref x), (3, .null), (4, .int 0), (5, .int 1)] := hl
      obtain ⟨hbm, hce⟩ : y_29 ∈ D.L ∧ D.C y_29 = c9 := by
          rcases hfd with ⟨b, h7, h8, h9⟩ | h9
          · rw [hq_28] at h9; cases h9; exact ⟨h7, h8⟩
          · rw [hq_28] at h9; cases h9.2
      have hbB : y_29 ∈ D.B i := (hG.bm i hi y_29).mpr ⟨hbm, (fun e => by cases e), by rw [hce]; exact hie⟩
      have hci15 := h15.2.1 _ hbB
      have hck0 : ck = 10 := by
        rcases hck with h8 | h8
        · have h7 := h9 h8 _ hbm; omega
        · exact h8
      refine lv_iload hx hb dJ4_removeNode_176 (lv_at hl 10 rfl) ?_
      refine lv_if_eq (tgt := 206) hx hb dJ4_removeNode_178 (by decide) (fun _ => ?_) (fun c_30 => (absurd ((nx_eq (show ((0 : Int32)) = nI 0 from rfl) (show ((0 : Int32)) = nI 0 from rfl) (by omega) (by omega)).mpr (by omega)) c_30))
      refine lv_aload hx hb dJ4_removeNode_206 (lv_at hl 0 rfl) ?_
      refine gh_instS (C := "java/util/HashMap$TreeNode") (ci := (D.ci y_29)) hC hg (hN y_29 hbm) (by rw [hci15]; rfl) q1822 dJ4_removeNode_208 ?_
      refine lv_if_eq (tgt := 230) hx hb dJ4_removeNode_211 (by decide) (fun c_31 => (absurd ((nx_eq (show ((1 : Int32)) = nI 1 from rfl) (show ((0 : Int32)) = nI 0 from rfl) (by omega) (by omega)).mp c_31) (by omega))) (fun _ => ?_)
      refine lv_aload hx hb dJ4_removeNode_214 (lv_at hl 0 rfl) ?_
      refine gh_castS (C := "java/util/HashMap$TreeNode") (ci := (D.ci y_29)) hC hg (hN y_29 hbm) (by rw [hci15]; rfl) q1822 dJ4_removeNode_216 ?_
      refine lv_aload_n hx hb dJ4_removeNode_219 rfl (lv_at hl 6 rfl) ?_
      refine lv_aload hx hb dJ4_removeNode_220 (lv_at hl 5 rfl) ?_
      refine lv_iload hx hb dJ4_removeNode_222 (lv_at hl 11 rfl) ?_
      refine gh_callv hg (gh_runVr (As := [.ref m, .ref D.tb, .int 1]) (rest := []) hC hg (hRM _ o k m D.L.length D i y_29 (by rw [← hck0]; exact hG) hi h15 hbB) 3 (lw_V q2369 q2370 q2371 q148 q2372) (gh_recv (C := "java/util/HashMap$TreeNode") (ci := (D.ci y_29)) hC hg (hN y_29 hbm) (by rw [hci15]; rfl)) hd_J39_removeTreeNode ⟨Nat.le_of_ble_eq_true rfl, Nat.le_of_ble_eq_true rfl⟩ rfl hl.1 rfl (Nat.le_of_ble_eq_true rfl) dJ4_removeNode_224 ⟨Nat.le_of_ble_eq_true rfl, Nat.le_of_ble_eq_true rfl⟩) (fun g H locs hg hp => ?_)
      obtain ⟨D6, hG6, hb6, hM6, hC6, hv6, hn6, hF6⟩ := hp
      rw [← hck0] at hG6
      have hO : hm_O V o k g0 g m ck D D6 y_29 c9 := ⟨hG6, hb6, hM6, hC6.trans hce, hv6.trans (lm_get_some hbm hce hG.inj).symm, hn6, (show gh_fk o k g0 _ from by rw [hgc]; exact gh_fk.rf).tr hF6, (fun h7 => by omega)⟩
      refine lv_goto (tgt := 260) hx hb dJ4_removeNode_227 (by decide) ?_
      exact W.widen (by decide) (by decide) (hjn _ _ _ _ hg ⟨y_29, D6, hO, lv_sub hl [6, 0] rfl⟩)
    have c_8 : (hm_sp (D.C y_7)) = (hm_sp c9) := (nx_eq rfl rfl (by omega) (by omega)).mp c_8
    have hce : D.C y_7 = c9 := hm_sp_inj (by have := hG.clt hmL; omega) (by omega) c_8
    refine lv_aload hx hb dJ4_removeNode_49 (lv_at hl 1 rfl) ?_
    refine gh_getr (v := .ref (D.K y_7)) hC hg (hN y_7 hmL) (rfNJ4_170 (hG.len.2 y_7 hmL)) rfl dJ4_removeNode_51 ?_
    refine lv_dup hx hb dJ4_removeNode_54 rfl ?_
    refine lv_astore (lv' := [(12, .ref (D.K y_7)), (10, .null), (7, .ref y_7), (9, .int (nI i)), (8, .int (nI D.n)), (6, .ref D.tb), (0, .ref m), (1, .int (nI (hm_sp c9))), (2, .ref x), (3, .null), (4, .int 0), (5, .int 1)]) hx hb dJ4_removeNode_55 hl (by decide) rfl (fun ls hl => ?_)
    refine lv_aload_n hx hb dJ4_removeNode_57 rfl (lv_at hl 8 rfl) ?_
    refine lv_acmp_eq (rx := (some (D.K y_7))) (ry := (some x)) (tgt := 74) hx hb dJ4_removeNode_58 (by decide) (fun c_32 => ?_) (fun c_32 => ?_)
    · skip
      refine lv_aload hx hb dJ4_removeNode_74 (lv_at hl 2 rfl) ?_
      refine lv_astore (lv' := [(10, .ref y_7), (12, .ref (D.K y_7)), (7, .ref y_7), (9, .int (nI i)), (8, .int (nI D.n)), (6, .ref D.tb), (0, .ref m), (1, .int (nI (hm_sp c9))), (2, .ref x), (3, .null), (4, .int 0), (5, .int 1)]) hx hb dJ4_removeNode_76 hl (by decide) rfl (fun ls hl => ?_)
      refine lv_goto (tgt := 171) hx hb dJ4_removeNode_78 (by decide) ?_
      refine lv_aload hx hb dJ4_removeNode_171 (lv_at hl 0 rfl) ?_
      refine lv_ifnull hx hb dJ4_removeNode_173 ?_
      refine lv_iload hx hb dJ4_removeNode_176 (lv_at hl 10 rfl) ?_
      refine lv_if_eq (tgt := 206) hx hb dJ4_removeNode_178 (by decide) (fun _ => ?_) (fun c_33 => (absurd ((nx_eq (show ((0 : Int32)) = nI 0 from rfl) (show ((0 : Int32)) = nI 0 from rfl) (by omega) (by omega)).mpr (by omega)) c_33))
      rcases hG.bin i hi with h14 | h15
      · skip
        obtain ⟨gB, hgB⟩ : ∃ gB, gB = g := ⟨_, rfl⟩
        have hGB := hG
        rw [← hgB] at hGB
        have hfr : ∀ b, b ≠ D.tb → b ∉ D.L → g b = gB b := fun b _ _ => by rw [hgB]
        have hme : g m = gB m := by rw [hgB]
        have hmt : m ≠ D.tb := gh_neI hm htb rfl
        have hbi := hm1
        refine lv_aload hx hb dJ4_removeNode_206 (lv_at hl 0 rfl) ?_
        refine gh_instNo (C := "java/util/LinkedHashMap$Entry") (ci := D.ci y_7) hC hg (hN y_7 hmL) (by rw [(h14 _ hm1).1]; rfl) q1822 (by decide +kernel) dJ4_removeNode_208 ?_
        refine lv_if_eq (tgt := 230) hx hb dJ4_removeNode_211 (by decide) (fun _ => ?_) (fun c_34 => (absurd ((nx_eq (show ((0 : Int32)) = nI 0 from rfl) (show ((0 : Int32)) = nI 0 from rfl) (by omega) (by omega)).mpr (by omega)) c_34))
        refine lv_aload hx hb dJ4_removeNode_230 (lv_at hl 0 rfl) ?_
        refine lv_aload hx hb dJ4_removeNode_232 (lv_at hl 2 rfl) ?_
        refine lv_acmp_ne (rx := (some y_7)) (ry := (some y_7)) (tgt := 250) hx hb dJ4_removeNode_234 (by decide) (fun c_35 => absurd rfl c_35) (fun _ => ?_)
        refine lv_aload hx hb dJ4_removeNode_237 (lv_at hl 5 rfl) ?_
        refine lv_iload hx hb dJ4_removeNode_239 (lv_at hl 3 rfl) ?_
        refine lv_aload hx hb dJ4_removeNode_241 (lv_at hl 0 rfl) ?_
        refine gh_get (v := va_rf (D.nx y_7)) hC hg (hN y_7 hmL) (fNJ4_177 (hG.len.2 y_7 hmL)) rfl dJ4_removeNode_243 ?_
        refine gh_qastQ (n := D.n) (f := D.T) hC hg htb rfl (fun y9 hy9 => by obtain ⟨l9, hl9, -⟩ := rz_cons hnx1 hy9; have h8 : y9 ∈ D.B i := by { rw [hB1, hl9]; exact List.mem_cons_of_mem _ List.mem_cons_self }; have h7 := hN y9 (hG.mem hi h8); rw [(h14 y9 h8).1] at h7; exact ⟨_, _, h7⟩) rfl (hC.2.2.1.1 _ (gh_nwm q4473 rfl)) rfl (by omega) (by omega) dJ4_removeNode_246 (fun g H locs hg hw hn => ?_)
        have hm : g m = some ((o, k, 0), oo 13 [va_rf (hm_tab D), va_rf D.es, .int (nI D.L.length), .int D.mc, .int (nI D.th), .float 1061158912, va_rf D.ks, va_rf D.vs, va_rf (D.L.head?), va_rf (D.L.getLast?), .int 0, .int 0]) := (hn _ (gh_neI hm htb rfl)).trans hm
        have hN : ∀ a, a ∈ D.L → g a = some ((o, k, 2), oo (D.ci a) (.int (nI (hm_sp (D.C a))) :: .ref (D.K a) :: va_rf (D.v a) :: va_rf (D.nx a) :: va_rf (pvL D.L a) :: va_rf (scL D.L a) :: D.ex a)) := fun a ha => (hn _ (gh_neI (hN a ha) htb rfl)).trans (hN a ha)
        have hfr : ∀ b, b ≠ D.tb → b ∉ D.L → g b = gB b := fun b h1 h2 => (hn b h1).trans (hfr b h1 h2)
        have hme : g m = gB m := (hn _ hmt).trans hme
        have htb : g D.tb = some ((o, k, 1), aq V 9 D.n (va_up D.T i (D.nx y_7))) := hw
        refine lv_goto (tgt := 260) hx hb dJ4_removeNode_247 (by decide) ?_
        have hch9 : hm_ch D.nx ((va_up D.T i (D.nx y_7)) i) ((D.B i).erase y_7) := by
          rw [hB1, List.erase_cons_head, va_up_self]
          exact hnx1
        obtain ⟨hG6, hF6⟩ := hGB.outb (g1 := g) (nx := D.nx) (T := (va_up D.T i (D.nx y_7))) hn0 hi hbi h14 (fun j9 h9 => va_up_ne _ _ h9) (fun _ _ _ => rfl) hch9 hme htb hN hfr
        have hO : hm_O V o k g0 g m ck D (hd_out D i y_7 D.nx (va_up D.T i (D.nx y_7))) y_7 c9 := ⟨hG6, hmL, rfl, hce, (lm_get_some hmL hce hG.inj).symm, rfl, (show gh_fk o k g0 gB from by rw [hgB, hgc]; exact gh_fk.rf).tr hF6, h9⟩
        exact W.widen (by decide) (by decide) (hjn _ _ _ _ hg ⟨y_7, (hd_out D i y_7 D.nx (va_up D.T i (D.nx y_7))), hO, lv_sub hl [6, 0] rfl⟩)
      have hci15 := h15.2.1 _ hm1
      have hck0 : ck = 10 := by
        rcases hck with h8 | h8
        · have h7 := h9 h8 _ hmL; omega
        · exact h8
      refine lv_aload hx hb dJ4_removeNode_206 (lv_at hl 0 rfl) ?_
      refine gh_instS (C := "java/util/HashMap$TreeNode") (ci := (D.ci y_7)) hC hg (hN y_7 hmL) (by rw [hci15]; rfl) q1822 dJ4_removeNode_208 ?_
      refine lv_if_eq (tgt := 230) hx hb dJ4_removeNode_211 (by decide) (fun c_36 => (absurd ((nx_eq (show ((1 : Int32)) = nI 1 from rfl) (show ((0 : Int32)) = nI 0 from rfl) (by omega) (by omega)).mp c_36) (by omega))) (fun _ => ?_)
      refine lv_aload hx hb dJ4_removeNode_214 (lv_at hl 0 rfl) ?_
      refine gh_castS (C := "java/util/HashMap$TreeNode") (ci := (D.ci y_7)) hC hg (hN y_7 hmL) (by rw [hci15]; rfl) q1822 dJ4_removeNode_216 ?_
      refine lv_aload_n hx hb dJ4_removeNode_219 rfl (lv_at hl 6 rfl) ?_
      refine lv_aload hx hb dJ4_removeNode_220 (lv_at hl 5 rfl) ?_
      refine lv_iload hx hb dJ4_removeNode_222 (lv_at hl 11 rfl) ?_
      refine gh_callv hg (gh_runVr (As := [.ref m, .ref D.tb, .int 1]) (rest := []) hC hg (hRM _ o k m D.L.length D i y_7 (by rw [← hck0]; exact hG) hi h15 hm1) 3 (lw_V q2369 q2370 q2371 q148 q2372) (gh_recv (C := "java/util/HashMap$TreeNode") (ci := (D.ci y_7)) hC hg (hN y_7 hmL) (by rw [hci15]; rfl)) hd_J39_removeTreeNode ⟨Nat.le_of_ble_eq_true rfl, Nat.le_of_ble_eq_true rfl⟩ rfl hl.1 rfl (Nat.le_of_ble_eq_true rfl) dJ4_removeNode_224 ⟨Nat.le_of_ble_eq_true rfl, Nat.le_of_ble_eq_true rfl⟩) (fun g H locs hg hp => ?_)
      obtain ⟨D6, hG6, hb6, hM6, hC6, hv6, hn6, hF6⟩ := hp
      rw [← hck0] at hG6
      have hO : hm_O V o k g0 g m ck D D6 y_7 c9 := ⟨hG6, hb6, hM6, hC6.trans hce, hv6.trans (lm_get_some hmL hce hG.inj).symm, hn6, (show gh_fk o k g0 _ from by rw [hgc]; exact gh_fk.rf).tr hF6, (fun h7 => by omega)⟩
      refine lv_goto (tgt := 260) hx hb dJ4_removeNode_227 (by decide) ?_
      exact W.widen (by decide) (by decide) (hjn _ _ _ _ hg ⟨y_7, D6, hO, lv_sub hl [6, 0] rfl⟩)
    refine lv_aload_n hx hb dJ4_removeNode_61 rfl (lv_at hl 8 rfl) ?_
    refine lv_ifnull hx hb dJ4_removeNode_62 ?_
    refine lv_aload_n hx hb dJ4_removeNode_65 rfl (lv_at hl 8 rfl) ?_
    refine lv_aload hx hb dJ4_removeNode_66 (lv_at hl 0 rfl) ?_
    refine gh_keq4 hk9 (hG.ky y_7 hmL) hC hg hl.1 (Nat.le_of_ble_eq_true rfl) dJ4_removeNode_68 ⟨Nat.le_of_ble_eq_true rfl, Nat.le_of_ble_eq_true rfl⟩ ⟨Nat.le_of_ble_eq_true rfl, Nat.le_of_ble_eq_true rfl⟩ (fun H locs hg => ?_)
    rw [if_pos (hce.symm)]
    refine lv_if_eq (tgt := 81) hx hb dJ4_removeNode_71 (by decide) (fun c_38 => (absurd ((nx_eq (show ((1 : Int32)) = nI 1 from rfl) (show ((0 : Int32)) = nI 0 from rfl) (by omega) (by omega)).mp c_38) (by omega))) (fun _ => ?_)
    refine lv_aload hx hb dJ4_removeNode_74 (lv_at hl 2 rfl) ?_
    refine lv_astore (lv' := [(10, .ref y_7), (12, .ref (D.K y_7)), (7, .ref y_7), (9, .int (nI i)), (8, .int (nI D.n)), (6, .ref D.tb), (0, .ref m), (1, .int (nI (hm_sp c9))), (2, .ref x), (3, .null), (4, .int 0), (5, .int 1)]) hx hb dJ4_removeNode_76 hl (by decide) rfl (fun ls hl => ?_)
    refine lv_goto (tgt := 171) hx hb dJ4_removeNode_78 (by decide) ?_
    refine lv_aload hx hb dJ4_removeNode_171 (lv_at hl 0 rfl) ?_
    refine lv_ifnull hx hb dJ4_removeNode_173 ?_
    refine lv_iload hx hb dJ4_removeNode_176 (lv_at hl 10 rfl) ?_
    refine lv_if_eq (tgt := 206) hx hb dJ4_removeNode_178 (by decide) (fun _ => ?_) (fun c_39 => (absurd ((nx_eq (show ((0 : Int32)) = nI 0 from rfl) (show ((0 : Int32)) = nI 0 from rfl) (by omega) (by omega)).mpr (by omega)) c_39))
    rcases hG.bin i hi with h14 | h15
    · skip
      obtain ⟨gB, hgB⟩ : ∃ gB, gB = g := ⟨_, rfl⟩
      have hGB := hG
      rw [← hgB] at hGB
      have hfr : ∀ b, b ≠ D.tb → b ∉ D.L → g b = gB b := fun b _ _ => by rw [hgB]
      have hme : g m = gB m := by rw [hgB]
      have hmt : m ≠ D.tb := gh_neI hm htb rfl
      have hbi := hm1
      refine lv_aload hx hb dJ4_removeNode_206 (lv_at hl 0 rfl) ?_
      refine gh_instNo (C := "java/util/LinkedHashMap$Entry") (ci := D.ci y_7) hC hg (hN y_7 hmL) (by rw [(h14 _ hm1).1]; rfl) q1822 (by decide +kernel) dJ4_removeNode_208 ?_
      refine lv_if_eq (tgt := 230) hx hb dJ4_removeNode_211 (by decide) (fun _ => ?_) (fun c_40 => (absurd ((nx_eq (show ((0 : Int32)) = nI 0 from rfl) (show ((0 : Int32)) = nI 0 from rfl) (by omega) (by omega)).mpr (by omega)) c_40))
      refine lv_aload hx hb dJ4_removeNode_230 (lv_at hl 0 rfl) ?_
      refine lv_aload hx hb dJ4_removeNode_232 (lv_at hl 2 rfl) ?_
      refine lv_acmp_ne (rx := (some y_7)) (ry := (some y_7)) (tgt := 250) hx hb dJ4_removeNode_234 (by decide) (fun c_41 => absurd rfl c_41) (fun _ => ?_)
      refine lv_aload hx hb dJ4_removeNode_237 (lv_at hl 5 rfl) ?_
      refine lv_iload hx hb dJ4_removeNode_239 (lv_at hl 3 rfl) ?_
      refine lv_aload hx hb dJ4_removeNode_241 (lv_at hl 0 rfl) ?_
      refine gh_get (v := va_rf (D.nx y_7)) hC hg (hN y_7 hmL) (fNJ4_177 (hG.len.2 y_7 hmL)) rfl dJ4_removeNode_243 ?_
      refine gh_qastQ (n := D.n) (f := D.T) hC hg htb rfl (fun y9 hy9 => by obtain ⟨l9, hl9, -⟩ := rz_cons hnx1 hy9; have h8 : y9 ∈ D.B i := by { rw [hB1, hl9]; exact List.mem_cons_of_mem _ List.mem_cons_self }; have h7 := hN y9 (hG.mem hi h8); rw [(h14 y9 h8).1] at h7; exact ⟨_, _, h7⟩) rfl (hC.2.2.1.1 _ (gh_nwm q4473 rfl)) rfl (by omega) (by omega) dJ4_removeNode_246 (fun g H locs hg hw hn => ?_)
      have hm : g m = some ((o, k, 0), oo 13 [va_rf (hm_tab D), va_rf D.es, .int (nI D.L.length), .int D.mc, .int (nI D.th), .float 1061158912, va_rf D.ks, va_rf D.vs, va_rf (D.L.head?), va_rf (D.L.getLast?), .int 0, .int 0]) := (hn _ (gh_neI hm htb rfl)).trans hm
      have hN : ∀ a, a ∈ D.L → g a = some ((o, k, 2), oo (D.ci a) (.int (nI (hm_sp (D.C a))) :: .ref (D.K a) :: va_rf (D.v a) :: va_rf (D.nx a) :: va_rf (pvL D.L a) :: va_rf (scL D.L a) :: D.ex a)) := fun a ha => (hn _ (gh_neI (hN a ha) htb rfl)).trans (hN a ha)
      have hfr : ∀ b, b ≠ D.tb → b ∉ D.L → g b = gB b := fun b h1 h2 => (hn b h1).trans (hfr b h1 h2)
      have hme : g m = gB m := (hn _ hmt).trans hme
      have htb : g D.tb = some ((o, k, 1), aq V 9 D.n (va_up D.T i (D.nx y_7))) := hw
      refine lv_goto (tgt := 260) hx hb dJ4_removeNode_247 (by decide) ?_
      have hch9 : hm_ch D.nx ((va_up D.T i (D.nx y_7)) i) ((D.B i).erase y_7) := by
        rw [hB1, List.erase_cons_head, va_up_self]
        exact hnx1
      obtain ⟨hG6, hF6⟩ := hGB.outb (g1 := g) (nx := D.nx) (T := (va_up D.T i (D.nx y_7))) hn0 hi hbi h14 (fun j9 h9 => va_up_ne _ _ h9) (fun _ _ _ => rfl) hch9 hme htb hN hfr
      have hO : hm_O V o k g0 g m ck D (hd_out D i y_7 D.nx (va_up D.T i (D.nx y_7))) y_7 c9 := ⟨hG6, hmL, rfl, hce, (lm_get_some hmL hce hG.inj).symm, rfl, (show gh_fk o k g0 gB from by rw [hgB, hgc]; exact gh_fk.rf).tr hF6, h9⟩
      exact W.widen (by decide) (by decide) (hjn _ _ _ _ hg ⟨y_7, (hd_out D i y_7 D.nx (va_up D.T i (D.nx y_7))), hO, lv_sub hl [6, 0] rfl⟩)
    have hci15 := h15.2.1 _ hm1
    have hck0 : ck = 10 := by
      rcases hck with h8 | h8
      · have h7 := h9 h8 _ hmL; omega
      · exact h8
    refine lv_aload hx hb dJ4_removeNode_206 (lv_at hl 0 rfl) ?_
    refine gh_instS (C := "java/util/HashMap$TreeNode") (ci := (D.ci y_7)) hC hg (hN y_7 hmL) (by rw [hci15]; rfl) q1822 dJ4_removeNode_208 ?_
    refine lv_if_eq (tgt := 230) hx hb dJ4_removeNode_211 (by decide) (fun c_42 => (absurd ((nx_eq (show ((1 : Int32)) = nI 1 from rfl) (show ((0 : Int32)) = nI 0 from rfl) (by omega) (by omega)).mp c_42) (by omega))) (fun _ => ?_)
    refine lv_aload hx hb dJ4_removeNode_214 (lv_at hl 0 rfl) ?_
    refine gh_castS (C := "java/util/HashMap$TreeNode") (ci := (D.ci y_7)) hC hg (hN y_7 hmL) (by rw [hci15]; rfl) q1822 dJ4_removeNode_216 ?_
    refine lv_aload_n hx hb dJ4_removeNode_219 rfl (lv_at hl 6 rfl) ?_
    refine lv_aload hx hb dJ4_removeNode_220 (lv_at hl 5 rfl) ?_
    refine lv_iload hx hb dJ4_removeNode_222 (lv_at hl 11 rfl) ?_
    refine gh_callv hg (gh_runVr (As := [.ref m, .ref D.tb, .int 1]) (rest := []) hC hg (hRM _ o k m D.L.length D i y_7 (by rw [← hck0]; exact hG) hi h15 hm1) 3 (lw_V q2369 q2370 q2371 q148 q2372) (gh_recv (C := "java/util/HashMap$TreeNode") (ci := (D.ci y_7)) hC hg (hN y_7 hmL) (by rw [hci15]; rfl)) hd_J39_removeTreeNode ⟨Nat.le_of_ble_eq_true rfl, Nat.le_of_ble_eq_true rfl⟩ rfl hl.1 rfl (Nat.le_of_ble_eq_true rfl) dJ4_removeNode_224 ⟨Nat.le_of_ble_eq_true rfl, Nat.le_of_ble_eq_true rfl⟩) (fun g H locs hg hp => ?_)
    obtain ⟨D6, hG6, hb6, hM6, hC6, hv6, hn6, hF6⟩ := hp
    rw [← hck0] at hG6
    have hO : hm_O V o k g0 g m ck D D6 y_7 c9 := ⟨hG6, hb6, hM6, hC6.trans hce, hv6.trans (lm_get_some hmL hce hG.inj).symm, hn6, (show gh_fk o k g0 _ from by rw [hgc]; exact gh_fk.rf).tr hF6, (fun h7 => by omega)⟩
    refine lv_goto (tgt := 260) hx hb dJ4_removeNode_227 (by decide) ?_
    exact W.widen (by decide) (by decide) (hjn _ _ _ _ hg ⟨y_7, D6, hO, lv_sub hl [6, 0] rfl⟩)
  obtain ⟨b, D3, ⟨hG3, hb3, hM3, hC3, hv3, hn3, hF3, h143⟩, hl⟩ := hX
  have hm := hG3.cm
  have hn30 : D3.n ≠ 0 := by rw [hn3]; exact hn0
  have hl3 : D3.L.length = D.L.length := by rw [← hm_M_len, hM3, hm_M_len]
  have hLp : 1 ≤ D.L.length := by rw [← hl3]; exact List.length_pos_of_mem hb3
  obtain ⟨g3, hg3⟩ : ∃ g3, g3 = g := ⟨_, rfl⟩
  have hfr : ∀ b, b ≠ m → g b = g3 b := fun b _ => by rw [hg3]
  refine lv_aload_n hx hb dJ4_removeNode_260 rfl (lv_at hl 0 rfl) ?_
  refine lv_dup hx hb dJ4_removeNode_261 rfl ?_
  refine gh_get (v := .int D3.mc) hC hg hm fJ4_202_13 rfl dJ4_removeNode_262 ?_
  refine lv_iconst (v := 1) hx hb dJ4_removeNode_265 (by decide) ?_
  refine lv_iadd hx hb dJ4_removeNode_266 ?_
  refine gh_put (v := .int (D3.mc + 1)) hC hg hm fJ4_202_13 rfl rfl (Nat.le_of_ble_eq_true rfl) dJ4_removeNode_267 (fun g H locs hg hw hn => ?_)
  have hfr : ∀ b, b ≠ m → g b = g3 b := fun b h1 => (hn b h1).trans (hfr b h1)
  have hm : g m = some ((o, k, 0), oo 13 [va_rf (hm_tab D3), va_rf D3.es, .int (nI D.L.length), .int (D3.mc + 1), .int (nI D3.th), .float 1061158912, va_rf D3.ks, va_rf D3.vs, va_rf (D3.L.head?), va_rf (D3.L.getLast?), .int 0, .int 0]) := hw
  refine lv_aload_n hx hb dJ4_removeNode_270 rfl (lv_at hl 0 rfl) ?_
  refine lv_dup hx hb dJ4_removeNode_271 rfl ?_
  refine gh_get (v := .int (nI D.L.length)) hC hg hm fJ4_156_13 rfl dJ4_removeNode_272 ?_
  refine lv_iconst (v := 1) hx hb dJ4_removeNode_275 (by decide) ?_
  refine lv_isub hx hb dJ4_removeNode_276 ?_
  refine gh_put (v := .int ((nI D.L.length) - 1)) hC hg hm fJ4_156_13 rfl rfl (Nat.le_of_ble_eq_true rfl) dJ4_removeNode_277 (fun g H locs hg hw hn => ?_)
  have hfr : ∀ b, b ≠ m → g b = g3 b := fun b h1 => (hn b h1).trans (hfr b h1)
  have hm : g m = some ((o, k, 0), oo 13 [va_rf (hm_tab D3), va_rf D3.es, .int ((nI D.L.length) - 1), .int (D3.mc + 1), .int (nI D3.th), .float 1061158912, va_rf D3.ks, va_rf D3.vs, va_rf (D3.L.head?), va_rf (D3.L.getLast?), .int 0, .int 0]) := hw
  rw [show nI D.L.length - 1 = nI (D.L.length - 1) from nx_sub rfl (show ((1 : Int32)) = nI 1 from rfl) hLp] at hm
  rw [← hg3] at hG3 hF3
  obtain ⟨hG4, hF4⟩ := hG3.szset (g1 := g) (sz1 := D.L.length - 1) (mc1 := (D3.mc + 1)) hm hfr
  obtain ⟨D4, hD4⟩ : ∃ D4 : HD, D4 = ((D3.1.1, D3.1.2.1, D3.1.2.2.1, (D3.mc + 1), D3.1.2.2.2.2), D3.2) := ⟨_, rfl⟩
  rw [← hD4] at hG4
  have hb4 : b ∈ D4.L := by rw [hD4]; exact hb3
  have hn40 : D4.n ≠ 0 := by rw [hD4]; exact hn30
  refine lv_aload_n hx hb dJ4_removeNode_280 rfl (lv_at hl 0 rfl) ?_
  refine lv_aload hx hb dJ4_removeNode_281 (lv_at hl 1 rfl) ?_
  refine gh_callv hg (gh_runU (x := ⟨"java/util/HashMap", "afterNodeRemoval", "(Ljava/util/HashMap$Node;)V"⟩) (C := "java/util/LinkedHashMap") (owner := "java/util/HashMap") (As := [.ref b]) (rest := []) hC hg (j_J5_afterNodeRemoval l V _ o k m ck (D.L.length - 1) b D4 hG4 hn40 hb4) 1 (va_cwA 1 hts (lw_U q2376 q2378 q2380 q2379 q110 q2381) rfl rfl rfl (hC.2.2.1.1 _ (gh_nwm q2382 rfl)) hdF_HashMap_afterNodeRemoval_1 ⟨Nat.le_of_ble_eq_true rfl, Nat.le_of_ble_eq_true rfl⟩) (gh_recv (C := "java/util/LinkedHashMap") hC hg hm rfl) rfl hl.1 rfl (Nat.le_of_ble_eq_true rfl) dJ4_removeNode_283 ⟨Nat.le_of_ble_eq_true rfl, Nat.le_of_ble_eq_true rfl⟩) (fun g H locs hg hp => ?_)
  obtain ⟨⟨hG5, hF5⟩, hcb⟩ := hp
  refine lv_aload hx hb dJ4_removeNode_286 (lv_at hl 1 rfl) ?_
  have hl5 : (hd_del D4 b).L.length = D.L.length - 1 := by
    show (D4.L.erase b).length = _
    rw [List.length_erase_of_mem hb4, show D4.L = D3.L by rw [hD4], hl3]
  have hI5 : hm_I V o k g m ck (hd_del D4 b) := by
    refine ⟨by rw [hl5]; exact hG5, fun _ => ?_⟩
    rw [hl5]
    have h8 := (hG5.pw hn40).2
    have h7 : (hd_del D4 b).n = D.n := by show D4.n = D.n; rw [hD4]; exact hn3
    rw [h8, h7]
    rw [hth] at hle
    omega
  have hM5 : hm_M (hd_del D4 b) = lm_del (hm_M D) c9 := by rw [hm_M_del hG4.nd hb4 hG4.inj, show hm_M D4 = hm_M D by rw [hD4]; exact hM3, show D4.C b = c9 by rw [hD4]; exact hC3]
  rw [show D4.v b = lm_get (hm_M D) c9 by rw [hD4]; exact hv3] at hcb
  exact gh_retq (r := some b) (Or.inl ⟨_, rfl⟩) hC hg hr hlk (⟨hd_del D4 b, hI5, (fun h8 a ha => by have h7 : D4.ci a = 14 := by { rw [hD4]; exact h143 h8 a (by have h6 := List.mem_of_mem_erase ha; rw [hD4] at h6; exact h6) }; exact h7), (hF3.tr hF4).tr hF5, hM5, (fun h8 => absurd h8 hn40), Or.inr ⟨b, _, _, _, _, _, rfl, hG4.len.2 b hb4, hcb⟩⟩) dJ4_removeNode_288 (Nat.le_of_ble_eq_true rfl) (Nat.le_of_ble_eq_true rfl)
