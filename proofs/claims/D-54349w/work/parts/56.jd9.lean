set_option maxRecDepth 100000

set_option maxHeartbeats 1000000 in
set_option maxRecDepth 100000 in
theorem j_J5_afterNodeRemoval (l : Launch) (V : gh_V) (g0 : gh_G) (o k m ck sz p9 : Nat) (D : HD) (hI : hm_G V o k g0 m ck D sz (some p9)) (hn0 : D.n ≠ 0) (hb9 : p9 ∈ D.L) : MV l yJ5_afterNodeRemoval cJ5_afterNodeRemoval 5 ({ frames := 0, cells := 0, slots := 0, locals := 0 } : Room) V [.ref m, .ref p9] g0 (fun g1 => (hm_G V o k g1 m ck (hd_del D p9) sz none ∧ gh_fk o k g0 g1) ∧ g1 p9 = some ((o, k, 2), oo (D.ci p9) (.int (nI (hm_sp (D.C p9))) :: .ref (D.K p9) :: va_rf (D.v p9) :: va_rf (D.nx p9) :: .null :: .null :: D.ex p9))) := by
  refine MG.of RJ5 (by decide) rfl (Nat.le_of_ble_eq_true rfl) (fun pp ee s mm args below meth c ls hC hg hr hlk hnm hl => ?_)
  have hx := hC.1.1
  have hb := hC.1.2.1
  have hml := hC.1.2.2.1
  have hown := hC.1.2.2.2.1
  have hts := hC.1.2.2.2.2
  have hl : lv_has ls 5 [(0, .ref m), (1, .ref p9)] := hl
  obtain ⟨g, hg, hgg⟩ : ∃ g, gh_W V (gh_A g0 s.heap.size) s g s.heap [] ∧ g = g0 := ⟨g0, hg, rfl⟩
  obtain ⟨l1, l2, hL⟩ := List.append_of_mem hb9
  have hnd := hI.nd
  rw [hL] at hnd
  have hpv : pvL D.L p9 = l1.getLast? := by rw [hL]; exact pv_mid hnd
  have hsc : scL D.L p9 = l2.head? := by rw [hL]; exact sc_mid hnd
  have her : D.L.erase p9 = l1 ++ l2 := by rw [hL]; exact er_mid (fun q => (List.nodup_append.mp hnd).2.2 p9 q p9 List.mem_cons_self rfl)
  have hcp := hI.cn p9 hb9
  rw [hpv, hsc, ← hgg] at hcp
  have hm := hI.cm
  rw [← hgg] at hm
  have hm0 := hm
  have hN : ∀ a, a ∈ D.L → a ≠ p9 → g a = some ((o, k, 2), oo (D.ci a) (.int (nI (hm_sp (D.C a))) :: .ref (D.K a) :: va_rf (D.v a) :: va_rf (D.nx a) :: va_rf (pvL D.L a) :: va_rf (scL D.L a) :: D.ex a)) := fun a ha _ => by rw [hgg]; exact hI.cn a ha
  have hfr : ∀ b, b ≠ m → b ∉ D.L → g b = g0 b := fun b _ _ => by rw [hgg]
  refine lv_aload_n hx hb dJ5_afterNodeRemoval_0 rfl (lv_at hl 1 rfl) ?_
  refine gh_castE hC hg hcp (hI.len.2 p9 hb9) q1838 q4418 dJ5_afterNodeRemoval_1 ?_
  refine lv_astore_n (lv' := [(2, .ref p9), (0, .ref m), (1, .ref p9)]) hx hb dJ5_afterNodeRemoval_4 rfl hl (by decide) rfl (fun ls hl => ?_)
  refine lv_aload_n hx hb dJ5_afterNodeRemoval_5 rfl (lv_at hl 0 rfl) ?_
  refine gh_get (v := va_rf (l1.getLast?)) hC hg hcp (fNJ5_19 (hI.len.2 p9 hb9)) rfl dJ5_afterNodeRemoval_6 ?_
  refine lv_astore_nQ (lv' := [(3, va_rf (l1.getLast?)), (2, .ref p9), (0, .ref m), (1, .ref p9)]) hx hb dJ5_afterNodeRemoval_9 rfl hl (by decide) rfl (fun ls hl => ?_)
  refine lv_aload_n hx hb dJ5_afterNodeRemoval_10 rfl (lv_at hl 1 rfl) ?_
  refine gh_get (v := va_rf (l2.head?)) hC hg hcp (fNJ5_14 (hI.len.2 p9 hb9)) rfl dJ5_afterNodeRemoval_11 ?_
  refine lv_astoreQ (lv' := [(4, va_rf (l2.head?)), (3, va_rf (l1.getLast?)), (2, .ref p9), (0, .ref m), (1, .ref p9)]) hx hb dJ5_afterNodeRemoval_14 hl (by decide) (by simp [gh_cQ]) (fun ls hl => ?_)
  refine lv_aload_n hx hb dJ5_afterNodeRemoval_16 rfl (lv_at hl 2 rfl) ?_
  refine lv_aload_n hx hb dJ5_afterNodeRemoval_17 rfl (lv_at hl 2 rfl) ?_
  refine lv_null hx hb dJ5_afterNodeRemoval_18 ?_
  refine lv_dup_x1 hx hb dJ5_afterNodeRemoval_19 rfl rfl ?_
  refine gh_put (v := .null) hC hg hcp (fNJ5_14 (hI.len.2 p9 hb9)) rfl rfl (gh_len (by decide)) dJ5_afterNodeRemoval_20 (fun g H locs hg hw hn => ?_)
  have hm : g m = some ((o, k, 0), oo 13 [va_rf (hm_tab D), va_rf D.es, .int (nI sz), .int D.mc, .int (nI D.th), .float 1061158912, va_rf D.ks, va_rf D.vs, va_rf (D.L.head?), va_rf (D.L.getLast?), .int 0, .int 0]) := (hn _ (gh_neI hm hcp rfl)).trans hm
  have hN : ∀ a, a ∈ D.L → a ≠ p9 → g a = some ((o, k, 2), oo (D.ci a) (.int (nI (hm_sp (D.C a))) :: .ref (D.K a) :: va_rf (D.v a) :: va_rf (D.nx a) :: va_rf (pvL D.L a) :: va_rf (scL D.L a) :: D.ex a)) := fun a ha h1 => (hn _ h1).trans (hN a ha h1)
  have hfr : ∀ b, b ≠ m → b ∉ D.L → g b = g0 b := fun b h1 h2 => (hn b (fun e => h2 (e ▸ hb9))).trans (hfr b h1 h2)
  have hcp : g p9 = some ((o, k, 2), oo (D.ci p9) (.int (nI (hm_sp (D.C p9))) :: .ref (D.K p9) :: (va_rf (D.v p9)) :: (va_rf (D.nx p9)) :: (va_rf (l1.getLast?)) :: .null :: D.ex p9)) := hw
  refine gh_put (v := .null) hC hg hcp (fNJ5_19 (hI.len.2 p9 hb9)) rfl rfl (gh_len (by decide)) dJ5_afterNodeRemoval_23 (fun g H locs hg hw hn => ?_)
  have hm : g m = some ((o, k, 0), oo 13 [va_rf (hm_tab D), va_rf D.es, .int (nI sz), .int D.mc, .int (nI D.th), .float 1061158912, va_rf D.ks, va_rf D.vs, va_rf (D.L.head?), va_rf (D.L.getLast?), .int 0, .int 0]) := (hn _ (gh_neI hm hcp rfl)).trans hm
  have hN : ∀ a, a ∈ D.L → a ≠ p9 → g a = some ((o, k, 2), oo (D.ci a) (.int (nI (hm_sp (D.C a))) :: .ref (D.K a) :: va_rf (D.v a) :: va_rf (D.nx a) :: va_rf (pvL D.L a) :: va_rf (scL D.L a) :: D.ex a)) := fun a ha h1 => (hn _ h1).trans (hN a ha h1)
  have hfr : ∀ b, b ≠ m → b ∉ D.L → g b = g0 b := fun b h1 h2 => (hn b (fun e => h2 (e ▸ hb9))).trans (hfr b h1 h2)
  have hcp : g p9 = some ((o, k, 2), oo (D.ci p9) (.int (nI (hm_sp (D.C p9))) :: .ref (D.K p9) :: (va_rf (D.v p9)) :: (va_rf (D.nx p9)) :: .null :: .null :: D.ex p9)) := hw
  refine lv_aload_nQ hx hb dJ5_afterNodeRemoval_26 rfl (lv_at hl 1 rfl) ?_
  refine lv_ifnonnullQ (tgt := 39) hx hb dJ5_afterNodeRemoval_27 (by decide) (fun y_2 hq_1 => ?_) (fun hq_1 => ?_)
  · skip
    rw [hq_1] at hl
    have hl : lv_has ls 5 [(4, va_rf (l2.head?)), (3, .ref y_2), (2, .ref p9), (0, .ref m), (1, .ref p9)] := hl
    have hy1 : y_2 ∈ l1 := List.mem_of_getLast? hq_1
    have hyL : y_2 ∈ D.L := by rw [hL]; exact List.mem_append_left _ hy1
    have hyp : y_2 ≠ p9 := fun e => (List.nodup_append.mp hnd).2.2 y_2 hy1 p9 List.mem_cons_self e
    have hcy_2 := hN y_2 hyL hyp
    have hN : ∀ a, a ∈ D.L → a ≠ p9 → a ≠ y_2 → g a = some ((o, k, 2), oo (D.ci a) (.int (nI (hm_sp (D.C a))) :: .ref (D.K a) :: va_rf (D.v a) :: va_rf (D.nx a) :: va_rf (pvL D.L a) :: va_rf (scL D.L a) :: D.ex a)) := fun a ha h1 _ => hN a ha h1
    refine lv_aload_n hx hb dJ5_afterNodeRemoval_39 rfl (lv_at hl 1 rfl) ?_
    refine lv_aloadQ hx hb dJ5_afterNodeRemoval_40 (lv_at hl 0 rfl) ?_
    refine gh_put (v := va_rf (l2.head?)) hC hg hcy_2 (fNJ5_14 (hI.len.2 y_2 hyL)) (gh_nQ _) (gh_fQ _) (gh_len (by decide)) dJ5_afterNodeRemoval_42 (fun g H locs hg hw hn => ?_)
    have hm : g m = some ((o, k, 0), oo 13 [va_rf (hm_tab D), va_rf D.es, .int (nI sz), .int D.mc, .int (nI D.th), .float 1061158912, va_rf D.ks, va_rf D.vs, va_rf (D.L.head?), va_rf (D.L.getLast?), .int 0, .int 0]) := (hn _ (gh_neI hm hcy_2 rfl)).trans hm
    have hcp : g p9 = some ((o, k, 2), oo (D.ci p9) (.int (nI (hm_sp (D.C p9))) :: .ref (D.K p9) :: (va_rf (D.v p9)) :: (va_rf (D.nx p9)) :: .null :: .null :: D.ex p9)) := (hn _ hyp.symm).trans hcp
    have hN : ∀ a, a ∈ D.L → a ≠ p9 → a ≠ y_2 → g a = some ((o, k, 2), oo (D.ci a) (.int (nI (hm_sp (D.C a))) :: .ref (D.K a) :: va_rf (D.v a) :: va_rf (D.nx a) :: va_rf (pvL D.L a) :: va_rf (scL D.L a) :: D.ex a)) := fun a ha h1 h2 => (hn _ h2).trans (hN a ha h1 h2)
    have hfr : ∀ b, b ≠ m → b ∉ D.L → g b = g0 b := fun b h1 h2 => (hn b (fun e => h2 (e ▸ hyL))).trans (hfr b h1 h2)
    have hcy_2 : g y_2 = some ((o, k, 2), oo (D.ci y_2) (.int (nI (hm_sp (D.C y_2))) :: .ref (D.K y_2) :: (va_rf (D.v y_2)) :: (va_rf (D.nx y_2)) :: (va_rf (pvL D.L y_2)) :: (va_rf (l2.head?)) :: D.ex y_2)) := hw
    refine lv_aloadQ hx hb dJ5_afterNodeRemoval_45 (lv_at hl 0 rfl) ?_
    refine lv_ifnonnullQ (tgt := 58) hx hb dJ5_afterNodeRemoval_47 (by decide) (fun y_4 hq_3 => ?_) (fun hq_3 => ?_)
    · skip
      rw [hq_3] at hl
      have hl : lv_has ls 5 [(4, .ref y_4), (3, .ref y_2), (2, .ref p9), (0, .ref m), (1, .ref p9)] := hl
      have hz2 : y_4 ∈ l2 := List.mem_of_head? hq_3
      have hzL : y_4 ∈ D.L := by rw [hL]; exact List.mem_append_right _ (List.mem_cons_of_mem _ hz2)
      have hzp : y_4 ≠ p9 := fun e => (List.nodup_cons.mp (List.nodup_append.mp hnd).2.1).1 (e ▸ hz2)
      have hzy : y_4 ≠ y_2 := fun e => (List.nodup_append.mp hnd).2.2 y_2 hy1 y_4 (List.mem_cons_of_mem _ hz2) e.symm
      have hcy_4 := hN y_4 hzL hzp hzy
      have hN : ∀ a, a ∈ D.L → a ≠ p9 → a ≠ y_2 → a ≠ y_4 → g a = some ((o, k, 2), oo (D.ci a) (.int (nI (hm_sp (D.C a))) :: .ref (D.K a) :: va_rf (D.v a) :: va_rf (D.nx a) :: va_rf (pvL D.L a) :: va_rf (scL D.L a) :: D.ex a)) := fun a ha h1 h2 _ => hN a ha h1 h2
      refine lv_aload hx hb dJ5_afterNodeRemoval_58 (lv_at hl 0 rfl) ?_
      refine lv_aload_n hx hb dJ5_afterNodeRemoval_60 rfl (lv_at hl 1 rfl) ?_
      refine gh_put (v := .ref y_2) hC hg hcy_4 (fNJ5_19 (hI.len.2 y_4 hzL)) rfl rfl (gh_len (by decide)) dJ5_afterNodeRemoval_61 (fun g H locs hg hw hn => ?_)
      have hm : g m = some ((o, k, 0), oo 13 [va_rf (hm_tab D), va_rf D.es, .int (nI sz), .int D.mc, .int (nI D.th), .float 1061158912, va_rf D.ks, va_rf D.vs, va_rf (D.L.head?), va_rf (D.L.getLast?), .int 0, .int 0]) := (hn _ (gh_neI hm hcy_4 rfl)).trans hm
      have hcp : g p9 = some ((o, k, 2), oo (D.ci p9) (.int (nI (hm_sp (D.C p9))) :: .ref (D.K p9) :: (va_rf (D.v p9)) :: (va_rf (D.nx p9)) :: .null :: .null :: D.ex p9)) := (hn _ hzp.symm).trans hcp
      have hcy_2 : g y_2 = some ((o, k, 2), oo (D.ci y_2) (.int (nI (hm_sp (D.C y_2))) :: .ref (D.K y_2) :: (va_rf (D.v y_2)) :: (va_rf (D.nx y_2)) :: (va_rf (pvL D.L y_2)) :: (va_rf (l2.head?)) :: D.ex y_2)) := (hn _ hzy.symm).trans hcy_2
      have hN : ∀ a, a ∈ D.L → a ≠ p9 → a ≠ y_2 → a ≠ y_4 → g a = some ((o, k, 2), oo (D.ci a) (.int (nI (hm_sp (D.C a))) :: .ref (D.K a) :: va_rf (D.v a) :: va_rf (D.nx a) :: va_rf (pvL D.L a) :: va_rf (scL D.L a) :: D.ex a)) := fun a ha h1 h2 h3 => (hn _ h3).trans (hN a ha h1 h2 h3)
      have hfr : ∀ b, b ≠ m → b ∉ D.L → g b = g0 b := fun b h1 h2 => (hn b (fun e => h2 (e ▸ hzL))).trans (hfr b h1 h2)
      have hcy_4 : g y_4 = some ((o, k, 2), oo (D.ci y_4) (.int (nI (hm_sp (D.C y_4))) :: .ref (D.K y_4) :: (va_rf (D.v y_4)) :: (va_rf (D.nx y_4)) :: .ref y_2 :: (va_rf (scL D.L y_4)) :: D.ex y_4)) := hw
      have hmem : ∀ {a}, a ∈ D.L → a ≠ p9 → a ∈ l1 ++ l2 := fun ha hp => by rw [hL] at ha; rcases List.mem_append.mp ha with h | h; exact List.mem_append_left _ h; rcases List.mem_cons.mp h with h | h; exact absurd h hp; exact List.mem_append_right _ h
      have hall : ∀ a, a ∈ D.L → a ≠ p9 → g a = some ((o, k, 2), oo (D.ci a) (.int (nI (hm_sp (D.C a))) :: .ref (D.K a) :: va_rf (D.v a) :: va_rf (D.nx a) :: va_rf (pvL (D.L.erase p9) a) :: va_rf (scL (D.L.erase p9) a) :: D.ex a)) := by
        intro a ha h1
        rw [her]
        rw [pvL_del hnd (hmem ha h1), scL_del hnd (hmem ha h1), ← hL]
        by_cases e1 : a = y_2
        · have e3 : ¬ l2.head? = some a := fun h9 => (List.nodup_append.mp hnd).2.2 a (e1 ▸ hy1) a (List.mem_cons_of_mem _ (List.mem_of_head? h9)) rfl
          rw [if_neg e3, e1, if_pos hq_1]; exact hcy_2
        by_cases e2 : a = y_4
        · have e3 : ¬ l1.getLast? = some a := fun h9 => (List.nodup_append.mp hnd).2.2 a (List.mem_of_getLast? h9) a (List.mem_cons_of_mem _ (e2 ▸ hz2)) rfl
          rw [if_neg e3, e2, if_pos hq_3]; rw [hq_1]; exact hcy_4
        rw [if_neg (fun h9 => e2 (Option.some.inj (h9.symm.trans hq_3))), if_neg (fun h9 => e1 (Option.some.inj (h9.symm.trans hq_1)))]
        exact hN a ha h1 e1 e2
      have hme : g m = some ((o, k, 0), oo 13 [va_rf (hm_tab D), va_rf D.es, .int (nI sz), .int D.mc, .int (nI D.th), .float 1061158912, va_rf D.ks, va_rf D.vs, va_rf (D.L.erase p9).head?, va_rf (D.L.erase p9).getLast?, .int 0, .int 0]) := by
        rw [her, er_hd (p := p9) hq_1, er_la (p := p9) hq_3, ← hL]
        first | exact hm | (rw [hq_1, hq_3]; exact hm) | (rw [hq_1]; exact hm) | (rw [hq_3]; exact hm)
      exact gh_retv hC hg hr hlk (⟨hI.del hn0 hb9 hme hall hfr, hcp⟩) dJ5_afterNodeRemoval_64 (Nat.le_of_ble_eq_true rfl) (Nat.le_of_ble_eq_true rfl)
    rw [hq_3] at hl
    have hl : lv_has ls 5 [(4, .null), (3, .ref y_2), (2, .ref p9), (0, .ref m), (1, .ref p9)] := hl
    refine lv_aload_n hx hb dJ5_afterNodeRemoval_50 rfl (lv_at hl 3 rfl) ?_
    refine lv_aload_n hx hb dJ5_afterNodeRemoval_51 rfl (lv_at hl 1 rfl) ?_
    refine gh_put (v := .ref y_2) hC hg hm fJ5_11_13 rfl rfl (Nat.le_of_ble_eq_true rfl) dJ5_afterNodeRemoval_52 (fun g H locs hg hw hn => ?_)
    have hcp : g p9 = some ((o, k, 2), oo (D.ci p9) (.int (nI (hm_sp (D.C p9))) :: .ref (D.K p9) :: (va_rf (D.v p9)) :: (va_rf (D.nx p9)) :: .null :: .null :: D.ex p9)) := (hn _ (gh_neI hcp hm rfl)).trans hcp
    have hcy_2 : g y_2 = some ((o, k, 2), oo (D.ci y_2) (.int (nI (hm_sp (D.C y_2))) :: .ref (D.K y_2) :: (va_rf (D.v y_2)) :: (va_rf (D.nx y_2)) :: (va_rf (pvL D.L y_2)) :: (va_rf (l2.head?)) :: D.ex y_2)) := (hn _ (gh_neI hcy_2 hm rfl)).trans hcy_2
    have hN : ∀ a, a ∈ D.L → a ≠ p9 → a ≠ y_2 → g a = some ((o, k, 2), oo (D.ci a) (.int (nI (hm_sp (D.C a))) :: .ref (D.K a) :: va_rf (D.v a) :: va_rf (D.nx a) :: va_rf (pvL D.L a) :: va_rf (scL D.L a) :: D.ex a)) := fun a ha h1 h2 => (hn _ (gh_neI (hN a ha h1 h2) hm rfl)).trans (hN a ha h1 h2)
    have hfr : ∀ b, b ≠ m → b ∉ D.L → g b = g0 b := fun b h1 h2 => (hn b h1).trans (hfr b h1 h2)
    have hm : g m = some ((o, k, 0), oo 13 [va_rf (hm_tab D), va_rf D.es, .int (nI sz), .int D.mc, .int (nI D.th), .float 1061158912, va_rf D.ks, va_rf D.vs, va_rf (D.L.head?), .ref y_2, .int 0, .int 0]) := hw
    refine lv_goto (tgt := 64) hx hb dJ5_afterNodeRemoval_55 (by decide) ?_
    have hmem : ∀ {a}, a ∈ D.L → a ≠ p9 → a ∈ l1 ++ l2 := fun ha hp => by rw [hL] at ha; rcases List.mem_append.mp ha with h | h; exact List.mem_append_left _ h; rcases List.mem_cons.mp h with h | h; exact absurd h hp; exact List.mem_append_right _ h
    have hall : ∀ a, a ∈ D.L → a ≠ p9 → g a = some ((o, k, 2), oo (D.ci a) (.int (nI (hm_sp (D.C a))) :: .ref (D.K a) :: va_rf (D.v a) :: va_rf (D.nx a) :: va_rf (pvL (D.L.erase p9) a) :: va_rf (scL (D.L.erase p9) a) :: D.ex a)) := by
      intro a ha h1
      rw [her]
      rw [pvL_del hnd (hmem ha h1), scL_del hnd (hmem ha h1), ← hL]
      by_cases e1 : a = y_2
      · have e3 : ¬ l2.head? = some a := fun h9 => (List.nodup_append.mp hnd).2.2 a (e1 ▸ hy1) a (List.mem_cons_of_mem _ (List.mem_of_head? h9)) rfl
        rw [if_neg e3, e1, if_pos hq_1]; exact hcy_2
      rw [if_neg (fun h9 => by rw [hq_3] at h9; cases h9), if_neg (fun h9 => e1 (Option.some.inj (h9.symm.trans hq_1)))]
      exact hN a ha h1 e1
    have hme : g m = some ((o, k, 0), oo 13 [va_rf (hm_tab D), va_rf D.es, .int (nI sz), .int D.mc, .int (nI D.th), .float 1061158912, va_rf D.ks, va_rf D.vs, va_rf (D.L.erase p9).head?, va_rf (D.L.erase p9).getLast?, .int 0, .int 0]) := by
      rw [her, er_hd (p := p9) hq_1, er_la0 hq_3, ← hL]
      first | exact hm | (rw [hq_1, hq_3]; exact hm) | (rw [hq_1]; exact hm) | (rw [hq_3]; exact hm)
    exact gh_retv hC hg hr hlk (⟨hI.del hn0 hb9 hme hall hfr, hcp⟩) dJ5_afterNodeRemoval_64 (Nat.le_of_ble_eq_true rfl) (Nat.le_of_ble_eq_true rfl)
  rw [hq_1] at hl
  have hl : lv_has ls 5 [(4, va_rf (l2.head?)), (3, .null), (2, .ref p9), (0, .ref m), (1, .ref p9)] := hl
  refine lv_aload_n hx hb dJ5_afterNodeRemoval_30 rfl (lv_at hl 3 rfl) ?_
  refine lv_aloadQ hx hb dJ5_afterNodeRemoval_31 (lv_at hl 0 rfl) ?_
  refine gh_put (v := va_rf (l2.head?)) hC hg hm fJ5_7_13 (gh_nQ _) (gh_fQ _) (Nat.le_of_ble_eq_true rfl) dJ5_afterNodeRemoval_33 (fun g H locs hg hw hn => ?_)
  have hcp : g p9 = some ((o, k, 2), oo (D.ci p9) (.int (nI (hm_sp (D.C p9))) :: .ref (D.K p9) :: (va_rf (D.v p9)) :: (va_rf (D.nx p9)) :: .null :: .null :: D.ex p9)) := (hn _ (gh_neI hcp hm rfl)).trans hcp
  have hN : ∀ a, a ∈ D.L → a ≠ p9 → g a = some ((o, k, 2), oo (D.ci a) (.int (nI (hm_sp (D.C a))) :: .ref (D.K a) :: va_rf (D.v a) :: va_rf (D.nx a) :: va_rf (pvL D.L a) :: va_rf (scL D.L a) :: D.ex a)) := fun a ha h1 => (hn _ (gh_neI (hN a ha h1) hm rfl)).trans (hN a ha h1)
  have hfr : ∀ b, b ≠ m → b ∉ D.L → g b = g0 b := fun b h1 h2 => (hn b h1).trans (hfr b h1 h2)
  have hm : g m = some ((o, k, 0), oo 13 [va_rf (hm_tab D), va_rf D.es, .int (nI sz), .int D.mc, .int (nI D.th), .float 1061158912, va_rf D.ks, va_rf D.vs, va_rf (l2.head?), va_rf (D.L.getLast?), .int 0, .int 0]) := hw
  refine lv_goto (tgt := 45) hx hb dJ5_afterNodeRemoval_36 (by decide) ?_
  refine lv_aloadQ hx hb dJ5_afterNodeRemoval_45 (lv_at hl 0 rfl) ?_
  refine lv_ifnonnullQ (tgt := 58) hx hb dJ5_afterNodeRemoval_47 (by decide) (fun y_6 hq_5 => ?_) (fun hq_5 => ?_)
  · skip
    rw [hq_5] at hl
    have hl : lv_has ls 5 [(4, .ref y_6), (3, .null), (2, .ref p9), (0, .ref m), (1, .ref p9)] := hl
    have hz2 : y_6 ∈ l2 := List.mem_of_head? hq_5
    have hzL : y_6 ∈ D.L := by rw [hL]; exact List.mem_append_right _ (List.mem_cons_of_mem _ hz2)
    have hzp : y_6 ≠ p9 := fun e => (List.nodup_cons.mp (List.nodup_append.mp hnd).2.1).1 (e ▸ hz2)
    have hcy_6 := hN y_6 hzL hzp
    have hN : ∀ a, a ∈ D.L → a ≠ p9 → a ≠ y_6 → g a = some ((o, k, 2), oo (D.ci a) (.int (nI (hm_sp (D.C a))) :: .ref (D.K a) :: va_rf (D.v a) :: va_rf (D.nx a) :: va_rf (pvL D.L a) :: va_rf (scL D.L a) :: D.ex a)) := fun a ha h1 _ => hN a ha h1
    refine lv_aload hx hb dJ5_afterNodeRemoval_58 (lv_at hl 0 rfl) ?_
    refine lv_aload_nN hx hb dJ5_afterNodeRemoval_60 rfl (lv_at hl 1 rfl) ?_
    refine gh_put (v := .null) hC hg hcy_6 (fNJ5_19 (hI.len.2 y_6 hzL)) rfl rfl (gh_len (by decide)) dJ5_afterNodeRemoval_61 (fun g H locs hg hw hn => ?_)
    have hm : g m = some ((o, k, 0), oo 13 [va_rf (hm_tab D), va_rf D.es, .int (nI sz), .int D.mc, .int (nI D.th), .float 1061158912, va_rf D.ks, va_rf D.vs, va_rf (l2.head?), va_rf (D.L.getLast?), .int 0, .int 0]) := (hn _ (gh_neI hm hcy_6 rfl)).trans hm
    have hcp : g p9 = some ((o, k, 2), oo (D.ci p9) (.int (nI (hm_sp (D.C p9))) :: .ref (D.K p9) :: (va_rf (D.v p9)) :: (va_rf (D.nx p9)) :: .null :: .null :: D.ex p9)) := (hn _ hzp.symm).trans hcp
    have hN : ∀ a, a ∈ D.L → a ≠ p9 → a ≠ y_6 → g a = some ((o, k, 2), oo (D.ci a) (.int (nI (hm_sp (D.C a))) :: .ref (D.K a) :: va_rf (D.v a) :: va_rf (D.nx a) :: va_rf (pvL D.L a) :: va_rf (scL D.L a) :: D.ex a)) := fun a ha h1 h2 => (hn _ h2).trans (hN a ha h1 h2)
    have hfr : ∀ b, b ≠ m → b ∉ D.L → g b = g0 b := fun b h1 h2 => (hn b (fun e => h2 (e ▸ hzL))).trans (hfr b h1 h2)
    have hcy_6 : g y_6 = some ((o, k, 2), oo (D.ci y_6) (.int (nI (hm_sp (D.C y_6))) :: .ref (D.K y_6) :: (va_rf (D.v y_6)) :: (va_rf (D.nx y_6)) :: .null :: (va_rf (scL D.L y_6)) :: D.ex y_6)) := hw
    have hmem : ∀ {a}, a ∈ D.L → a ≠ p9 → a ∈ l1 ++ l2 := fun ha hp => by rw [hL] at ha; rcases List.mem_append.mp ha with h | h; exact List.mem_append_left _ h; rcases List.mem_cons.mp h with h | h; exact absurd h hp; exact List.mem_append_right _ h
    have hall : ∀ a, a ∈ D.L → a ≠ p9 → g a = some ((o, k, 2), oo (D.ci a) (.int (nI (hm_sp (D.C a))) :: .ref (D.K a) :: va_rf (D.v a) :: va_rf (D.nx a) :: va_rf (pvL (D.L.erase p9) a) :: va_rf (scL (D.L.erase p9) a) :: D.ex a)) := by
      intro a ha h1
      rw [her]
      rw [pvL_del hnd (hmem ha h1), scL_del hnd (hmem ha h1), ← hL]
      by_cases e2 : a = y_6
      · have e3 : ¬ l1.getLast? = some a := fun h9 => (List.nodup_append.mp hnd).2.2 a (List.mem_of_getLast? h9) a (List.mem_cons_of_mem _ (e2 ▸ hz2)) rfl
        rw [if_neg e3, e2, if_pos hq_5]; rw [hq_1]; exact hcy_6
      rw [if_neg (fun h9 => e2 (Option.some.inj (h9.symm.trans hq_5))), if_neg (fun h9 => by rw [hq_1] at h9; cases h9)]
      exact hN a ha h1 e2
    have hme : g m = some ((o, k, 0), oo 13 [va_rf (hm_tab D), va_rf D.es, .int (nI sz), .int D.mc, .int (nI D.th), .float 1061158912, va_rf D.ks, va_rf D.vs, va_rf (D.L.erase p9).head?, va_rf (D.L.erase p9).getLast?, .int 0, .int 0]) := by
      rw [her, er_hd0 hq_1, er_la (p := p9) hq_5, ← hL]
      first | exact hm | (rw [hq_1, hq_5]; exact hm) | (rw [hq_1]; exact hm) | (rw [hq_5]; exact hm)
    exact gh_retv hC hg hr hlk (⟨hI.del hn0 hb9 hme hall hfr, hcp⟩) dJ5_afterNodeRemoval_64 (Nat.le_of_ble_eq_true rfl) (Nat.le_of_ble_eq_true rfl)
  rw [hq_5] at hl
  have hl : lv_has ls 5 [(4, .null), (3, .null), (2, .ref p9), (0, .ref m), (1, .ref p9)] := hl
  refine lv_aload_n hx hb dJ5_afterNodeRemoval_50 rfl (lv_at hl 3 rfl) ?_
  refine lv_aload_nN hx hb dJ5_afterNodeRemoval_51 rfl (lv_at hl 1 rfl) ?_
  refine gh_put (v := .null) hC hg hm fJ5_11_13 rfl rfl (Nat.le_of_ble_eq_true rfl) dJ5_afterNodeRemoval_52 (fun g H locs hg hw hn => ?_)
  have hcp : g p9 = some ((o, k, 2), oo (D.ci p9) (.int (nI (hm_sp (D.C p9))) :: .ref (D.K p9) :: (va_rf (D.v p9)) :: (va_rf (D.nx p9)) :: .null :: .null :: D.ex p9)) := (hn _ (gh_neI hcp hm rfl)).trans hcp
  have hN : ∀ a, a ∈ D.L → a ≠ p9 → g a = some ((o, k, 2), oo (D.ci a) (.int (nI (hm_sp (D.C a))) :: .ref (D.K a) :: va_rf (D.v a) :: va_rf (D.nx a) :: va_rf (pvL D.L a) :: va_rf (scL D.L a) :: D.ex a)) := fun a ha h1 => (hn _ (gh_neI (hN a ha h1) hm rfl)).trans (hN a ha h1)
  have hfr : ∀ b, b ≠ m → b ∉ D.L → g b = g0 b := fun b h1 h2 => (hn b h1).trans (hfr b h1 h2)
  have hm : g m = some ((o, k, 0), oo 13 [va_rf (hm_tab D), va_rf D.es, .int (nI sz), .int D.mc, .int (nI D.th), .float 1061158912, va_rf D.ks, va_rf D.vs, va_rf (l2.head?), .null, .int 0, .int 0]) := hw
  refine lv_goto (tgt := 64) hx hb dJ5_afterNodeRemoval_55 (by decide) ?_
  have hmem : ∀ {a}, a ∈ D.L → a ≠ p9 → a ∈ l1 ++ l2 := fun ha hp => by rw [hL] at ha; rcases List.mem_append.mp ha with h | h; exact List.mem_append_left _ h; rcases List.mem_cons.mp h with h | h; exact absurd h hp; exact List.mem_append_right _ h
  have hall : ∀ a, a ∈ D.L → a ≠ p9 → g a = some ((o, k, 2), oo (D.ci a) (.int (nI (hm_sp (D.C a))) :: .ref (D.K a) :: va_rf (D.v a) :: va_rf (D.nx a) :: va_rf (pvL (D.L.erase p9) a) :: va_rf (scL (D.L.erase p9) a) :: D.ex a)) := by
    intro a ha h1
    rw [her]
    rw [pvL_del hnd (hmem ha h1), scL_del hnd (hmem ha h1), ← hL]
    rw [if_neg (fun h9 => by rw [hq_5] at h9; cases h9), if_neg (fun h9 => by rw [hq_1] at h9; cases h9)]
    exact hN a ha h1
  have hme : g m = some ((o, k, 0), oo 13 [va_rf (hm_tab D), va_rf D.es, .int (nI sz), .int D.mc, .int (nI D.th), .float 1061158912, va_rf D.ks, va_rf D.vs, va_rf (D.L.erase p9).head?, va_rf (D.L.erase p9).getLast?, .int 0, .int 0]) := by
    rw [her, er_hd0 hq_1, er_la0 hq_5]
    first | exact hm | (rw [hq_1, hq_5]; exact hm) | (rw [hq_1]; exact hm) | (rw [hq_5]; exact hm)
  exact gh_retv hC hg hr hlk (⟨hI.del hn0 hb9 hme hall hfr, hcp⟩) dJ5_afterNodeRemoval_64 (Nat.le_of_ble_eq_true rfl) (Nat.le_of_ble_eq_true rfl)
