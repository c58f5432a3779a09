/-! READING a text -/
def pz (b : Nat → Int32) (N : Nat) : Nat → Nat
  | 0 => 0
  | i + 1 => (ptE b N (pz b N i)).2 + 1
/-- the parts 0 .. i are read: right, and with a sign between; their works lie in f -/
def rd_I (V : gh_V) (g : gh_G) (L : Nat) (b : Nat → Int32) (N i : Nat) (f : Nat → Option Nat) : Prop :=
  2 * i ≤ pz b N i ∧ (∀ j, j ≤ i → (ptE b N (pz b N j)).1 = true) ∧ (∀ j, j < i → (ptE b N (pz b N j)).2 < N ∧ isC b N (ptE b N (pz b N j)).2 59 59) ∧
  ∀ j, j ≤ i → ∃ qw, f j = some qw ∧ g qw = some ((L, 3, 2), wob V (b (pz b N j)) (ptO b N (pz b N j)) (ptT b N (pz b N j)))
section Rd
variable {V : gh_V} {g g1 : gh_G} {L N i : Nat} {b : Nat → Int32} {f : Nat → Option Nat}
theorem rd_I.kp (h : rd_I V g L b N i f) (hf : ∀ q x, g q = some ((L, 3, 2), x) → g1 q = some ((L, 3, 2), x)) : rd_I V g1 L b N i f :=
  ⟨h.1, h.2.1, h.2.2.1, fun j hj => by obtain ⟨qw, h1, h2⟩ := h.2.2.2 j hj; exact ⟨qw, h1, hf _ _ h2⟩⟩
theorem rd_0 (h1 : (ptE b N 0).1 = true) {qw : Nat} (h2 : g qw = some ((L, 3, 2), wob V (b 0) (ptO b N 0) (ptT b N 0))) : rd_I V g L b N 0 (va_up f 0 (some qw)) :=
  ⟨Nat.zero_le _, fun j hj => by rw [show j = 0 by omega]; exact h1, fun j hj => absurd hj (Nat.not_lt_zero _), fun j hj => by rw [show j = 0 by omega]; exact ⟨qw, if_pos rfl, h2⟩⟩
theorem rd_s (h : rd_I V g L b N i f) (h1 : (ptE b N (pz b N i)).2 < N) (h2 : isC b N (ptE b N (pz b N i)).2 59 59) (h3 : (ptE b N (pz b N (i + 1))).1 = true) {qw : Nat} (h4 : g qw = some ((L, 3, 2), wob V (b (pz b N (i + 1))) (ptO b N (pz b N (i + 1))) (ptT b N (pz b N (i + 1))))) : rd_I V g L b N (i + 1) (va_up f (i + 1) (some qw)) := by
  have hle := (ptE_le (h.2.1 i (Nat.le_refl _))).1
  refine ⟨?_, fun j hj => ?_, fun j hj => ?_, fun j hj => ?_⟩
  · have := h.1
    show 2 * (i + 1) ≤ (ptE b N (pz b N i)).2 + 1
    omega
  · by_cases c : j = i + 1
    · rw [c]; exact h3
    · exact h.2.1 j (by omega)
  · by_cases c : j = i
    · rw [c]; exact ⟨h1, h2⟩
    · exact h.2.2.1 j (by omega)
  · by_cases c : j = i + 1
    · rw [c]; exact ⟨qw, if_pos rfl, h4⟩
    · obtain ⟨q, a1, a2⟩ := h.2.2.2 j (by omega)
      exact ⟨q, (if_neg c).trans a1, a2⟩
theorem rd_le (h : rd_I V g L b N i f) : 2 * i < N ∧ (ptE b N (pz b N i)).2 ≤ N ∧ pz b N i < (ptE b N (pz b N i)).2 := by
  obtain ⟨h1, h2⟩ := ptE_le (h.2.1 i (Nat.le_refl _))
  have := h.1
  exact ⟨by omega, h2, h1⟩
theorem rd_tx (h : rd_I V g L b N i f) (hN : N ≤ 60) : ∀ j, j ≤ i → txE b N 61 0 = txE b N (61 - j) (pz b N j)
  | 0, _ => rfl
  | j + 1, hj => by
    have hi := (rd_le h).1
    rw [rd_tx h hN j (by omega), txE_s (by omega), if_pos (h.2.1 j (by omega)), if_pos (h.2.2.1 j (by omega)).1, if_pos (h.2.2.1 j (by omega)).2]
    rfl
theorem rd_end (h : rd_I V g L b N i f) (hN : N ≤ 60) (h1 : ¬ (ptE b N (pz b N i)).2 < N) : txE b N 61 0 = (true, (ptE b N (pz b N i)).2) := by
  have hi := (rd_le h).1
  rw [rd_tx h hN i (Nat.le_refl _), txE_s (by omega), if_pos (h.2.1 i (Nat.le_refl _)), if_neg h1]
theorem rd_sep (h : rd_I V g L b N i f) (hN : N ≤ 60) (h1 : (ptE b N (pz b N i)).2 < N) (h2 : ¬ isC b N (ptE b N (pz b N i)).2 59 59) : txE b N 61 0 = (false, (ptE b N (pz b N i)).2) := by
  have hi := (rd_le h).1
  rw [rd_tx h hN i (Nat.le_refl _), txE_s (by omega), if_pos (h.2.1 i (Nat.le_refl _)), if_pos h1, if_neg h2]
theorem rd_bad (h : rd_I V g L b N i f) (hN : N ≤ 60) (h1 : (ptE b N (pz b N i)).2 < N) (h2 : isC b N (ptE b N (pz b N i)).2 59 59) (h3 : ¬ (ptE b N (pz b N (i + 1))).1 = true) : txE b N 61 0 = (false, (ptE b N (pz b N (i + 1))).2) := by
  have hi := (rd_le h).1
  rw [rd_tx h hN i (Nat.le_refl _), txE_s (by omega), if_pos (h.2.1 i (Nat.le_refl _)), if_pos h1, if_pos h2, txE_s (by omega)]
  exact if_neg h3
theorem tx_bad0 (h : ¬ (ptE b N 0).1 = true) : txE b N 61 0 = (false, (ptE b N 0).2) := by
  rw [txE_s (by omega)]
  exact if_neg h
end Rd
theorem nI_nc {k c : Nat} {x : Int32} (hk : k < 2 ^ 31) (hx : x = nI c) (h : k ≠ c ∧ c < 2 ^ 31) : nI k ≠ x := fun e => h.1 (nI_inj hk h.2 (e.trans hx))
theorem nx_code {bc : Nat → Nat} {n sp : Nat} (h : ∀ i, i < n → bc i < 128) : ∃ k, k < 128 ∧ nxC bc n sp = nI k := by
  unfold nxC
  by_cases hs : sp < n
  · rw [if_pos hs]; exact ⟨bc sp, h sp hs, rfl⟩
  · rw [if_neg hs]; exact ⟨32, by decide, rfl⟩
set_option maxRecDepth 100000

set_option maxHeartbeats 1000000 in
set_option maxRecDepth 100000 in
theorem j_X18_partO (l : Launch) (V : gh_V) (g0 : gh_G) (L q n : Nat) (bc : Nat → Nat) (arr cap : Nat) (f0 : Nat → Int32) (ml : Int32) (hS0 : sb_C V L 2 g0 q n bc arr cap f0 ml) (u1 u2 u3 : Value) (hL0 : g0 L = some ((L, 0, 0), oo 1 [u1, u2, u3, .ref q])) (o wk many sp : Nat) (wr : Int32) (hsp : sp ≤ 61) (ho0 : g0 o = some ((L, 3, 0), oo 11 [.int (nI sp), .int wr, .ref wk, .int (nI many), .ref L])) (hwr : wr = 0) (f : Nat → Option Nat) (hk0 : g0 wk = some ((L, 3, 1), aq V 7 60 f)) (hm60 : many < 60) (k9 : Nat) (hk128 : k9 < 128) (hk9 : k9 < 98 ∨ 114 < k9) (hlet : nxC bc n sp = nI k9) : MV l yX18_part cX18_part 3 ({ frames := 8, cells := 1, slots := 2, locals := 3103 } : Room) V [.ref o] g0 (fun g1 => ∃ qw : Nat, g1 o = some ((L, 3, 0), oo 11 [.int (nI ((ptE (cB bc) n sp).2)), .int (if (ptE (cB bc) n sp).1 = true then 0 else 1), .ref wk, .int (nI (if (ptE (cB bc) n sp).1 = true then many + 1 else many)), .ref L]) ∧ g1 wk = some ((L, 3, 1), aq V 7 60 (if (ptE (cB bc) n sp).1 = true then va_up f many (some qw) else f)) ∧ ((ptE (cB bc) n sp).1 = true → g1 qw = some ((L, 3, 2), wob V (cB bc sp) (ptO (cB bc) n sp) (ptT (cB bc) n sp)) ∧ g0 qw = none) ∧ ∀ b x, g0 b = some x → b ≠ o → b ≠ wk → g1 b = some x) := by
  refine MG.of RX18 (by decide) rfl (Nat.le_of_ble_eq_true rfl) (fun pp ee s mm args below meth c ls hC hg hr hlk hnm hl => ?_)
  have hx := hC.1.1
  have hb := hC.1.2.1
  have hml := hC.1.2.2.1
  have hown := hC.1.2.2.2.1
  have hts := hC.1.2.2.2.2
  have hl : lv_has ls 3 [(0, .ref o)] := hl
  obtain ⟨g, hg, hgg⟩ : ∃ g, gh_W V (gh_A g0 s.heap.size) s g s.heap [] ∧ g = g0 := ⟨g0, hg, rfl⟩
  have hS := hS0
  have hL := hL0
  have ho := ho0
  rw [← hgg] at hS hL ho
  have hn60 := hS0.2.2.2.2.1
  have hbc := fun i hi => (hS0.2.2.2.2.2.2 i hi).2
  rw [hwr] at ho
  have hqq := hS.1
  have hk := hk0
  rw [← hgg] at hk
  have hex : ∀ b x, g0 b = some x → b ≠ o → b ≠ wk → g b = some x := fun b x h _ _ => by rw [hgg]; exact h
  have hz : (ptE (cB bc) n sp) = (false, sp) := pt_other hlet (nI_nc (c := 98) (by omega) rfl (by omega)) (nI_nc (c := 102) (by omega) rfl (by omega)) (nI_nc (c := 114) (by omega) rfl (by omega)) (nI_nc (c := 111) (by omega) rfl (by omega)) (nI_nc (c := 108) (by omega) rfl (by omega)) (nI_nc (c := 99) (by omega) rfl (by omega)) (nI_nc (c := 109) (by omega) rfl (by omega))
  have hE1 : ¬ (ptE (cB bc) n sp).1 = true := by rw [hz]; exact Bool.false_ne_true
  refine lv_aload_n hx hb dX18_part_0 rfl (lv_at hl 0 rfl) ?_
  refine gh_get (v := .int 0) hC hg ho fX18_24_11 rfl dX18_part_1 ?_
  refine lv_if_eq (tgt := 8) hx hb dX18_part_4 (by decide) (fun _ => ?_) (fun c_1 => (absurd ((nx_eq (show ((0 : Int32)) = nI 0 from rfl) (show ((0 : Int32)) = nI 0 from rfl) (by omega) (by omega)).mpr (by omega)) c_1))
  refine lv_aload_n hx hb dX18_part_8 rfl (lv_at hl 0 rfl) ?_
  refine gh_calli hg (gh_runV (As := []) (rest := []) hC hg (j_X18_next l V _ L q n bc arr cap f0 ml hS u1 u2 u3 hL o wk many sp 0 (by omega) ho) 0 (lw_V q1497 q1499 qs18 q178 q1500) ho rfl hd_X18_next ⟨Nat.le_of_ble_eq_true rfl, Nat.le_of_ble_eq_true rfl⟩ rfl hl.1 rfl (Nat.le_of_ble_eq_true rfl) dX18_part_9 ⟨Nat.le_of_ble_eq_true rfl, Nat.le_of_ble_eq_true rfl⟩) (fun r_2 g H locs hg hp => ?_)
  obtain ⟨hp, hq⟩ := hp
  replace hp : (nxC bc n sp) = r_2 := hp.symm
  subst hp
  rw [hq] at hg
  refine W.eq (g2 := F0 mm 12 ls [.int (nI k9)]) (by rw [hlet] <;> rfl) ?_
  refine lv_istore_n (lv' := [(1, .int (nI k9)), (0, .ref o)]) hx hb dX18_part_12 rfl hl (by decide) rfl (fun ls hl => ?_)
  refine lv_null hx hb dX18_part_13 ?_
  refine lv_astore_nN (lv' := [(2, .null), (1, .int (nI k9)), (0, .ref o)]) hx hb dX18_part_14 rfl hl (by decide) rfl (fun ls hl => ?_)
  refine lv_iload_n hx hb dX18_part_15 rfl (lv_at hl 1 rfl) ?_
  refine lv_tableOut (tgt := 221) hx hb dX18_part_16 (by rw [nI_toInt (by omega)]; omega) (by decide) ?_
  refine lv_aload_n hx hb dX18_part_221 rfl (lv_at hl 2 rfl) ?_
  refine lv_iconst (v := 1) hx hb dX18_part_222 (by decide) ?_
  refine gh_put (v := .int 1) hC hg ho fX18_24_11 rfl rfl (Nat.le_of_ble_eq_true rfl) dX18_part_223 (fun g H locs hg hw hn => ?_)
  have hL : g L = some ((L, 0, 0), oo 1 [u1, u2, u3, .ref q]) := (hn _ (gh_neK hL ho rfl)).trans hL
  have hqq : g q = some ((L, 2, 0), oo 18 [.ref arr, .int 0, .int ml, .int (nI n)]) := (hn _ (gh_neK hqq ho rfl)).trans hqq
  have hk : g wk = some ((L, 3, 1), aq V 7 60 f) := (hn _ (gh_neI hk ho rfl)).trans hk
  have hS : sb_C V L 2 g q n bc arr cap f0 ml := sb_C.keep hS (fun a t x h1 h2 h3 => (hn a (fun e9 => by rw [e9, ho] at h1; cases h1; exact absurd (show 3 = 2 from h3) (by decide))).trans h1)
  have hex : ∀ b x, g0 b = some x → b ≠ o → b ≠ wk → g b = some x := fun b x h1 h2 h3 => (hn b h2).trans (hex b x h1 h2 h3)
  have ho : g o = some ((L, 3, 0), oo 11 [.int (nI sp), .int 1, .ref wk, .int (nI many), .ref L]) := hw
  refine lv_aload_n hx hb dX18_part_226 rfl (lv_at hl 2 rfl) ?_
  refine gh_get (v := .int 1) hC hg ho fX18_24_11 rfl dX18_part_227 ?_
  refine lv_if_ne (tgt := 253) hx hb dX18_part_230 (by decide) (fun _ => ?_) (fun c_3 => (absurd c_3 (by decide)))
  exact gh_retv hC hg hr hlk (⟨0, by rw [if_neg hE1, if_neg hE1, hz]; exact ho, by rw [if_neg hE1]; exact hk, fun h9 => absurd h9 hE1, hex⟩) dX18_part_253 (Nat.le_of_ble_eq_true rfl) (Nat.le_of_ble_eq_true rfl)
set_option maxHeartbeats 1000000 in
set_option maxRecDepth 100000 in
theorem j_X18_partI (l : Launch) (V : gh_V) (g0 : gh_G) (L q n : Nat) (bc : Nat → Nat) (arr cap : Nat) (f0 : Nat → Int32) (ml : Int32) (hS0 : sb_C V L 2 g0 q n bc arr cap f0 ml) (u1 u2 u3 : Value) (hL0 : g0 L = some ((L, 0, 0), oo 1 [u1, u2, u3, .ref q])) (o wk many sp : Nat) (wr : Int32) (hsp : sp ≤ 61) (ho0 : g0 o = some ((L, 3, 0), oo 11 [.int (nI sp), .int wr, .ref wk, .int (nI many), .ref L])) (hwr : wr = 0) (f : Nat → Option Nat) (hk0 : g0 wk = some ((L, 3, 1), aq V 7 60 f)) (hm60 : many < 60) (k9 : Nat) (hk128 : k9 < 128) (hk9 : k9 = 100 ∨ k9 = 101 ∨ k9 = 103 ∨ k9 = 104 ∨ k9 = 105 ∨ k9 = 106 ∨ k9 = 107 ∨ k9 = 110 ∨ k9 = 112 ∨ k9 = 113) (hlet : nxC bc n sp = nI k9) : MV l yX18_part cX18_part 3 ({ frames := 8, cells := 1, slots := 2, locals := 3103 } : Room) V [.ref o] g0 (fun g1 => ∃ qw : Nat, g1 o = some ((L, 3, 0), oo 11 [.int (nI ((ptE (cB bc) n sp).2)), .int (if (ptE (cB bc) n sp).1 = true then 0 else 1), .ref wk, .int (nI (if (ptE (cB bc) n sp).1 = true then many + 1 else many)), .ref L]) ∧ g1 wk = some ((L, 3, 1), aq V 7 60 (if (ptE (cB bc) n sp).1 = true then va_up f many (some qw) else f)) ∧ ((ptE (cB bc) n sp).1 = true → g1 qw = some ((L, 3, 2), wob V (cB bc sp) (ptO (cB bc) n sp) (ptT (cB bc) n sp)) ∧ g0 qw = none) ∧ ∀ b x, g0 b = some x → b ≠ o → b ≠ wk → g1 b = some x) := by
  refine MG.of RX18 (by decide) rfl (Nat.le_of_ble_eq_true rfl) (fun pp ee s mm args below meth c ls hC hg hr hlk hnm hl => ?_)
  have hx := hC.1.1
  have hb := hC.1.2.1
  have hml := hC.1.2.2.1
  have hown := hC.1.2.2.2.1
  have hts := hC.1.2.2.2.2
  have hl : lv_has ls 3 [(0, .ref o)] := hl
  obtain ⟨g, hg, hgg⟩ : ∃ g, gh_W V (gh_A g0 s.heap.size) s g s.heap [] ∧ g = g0 := ⟨g0, hg, rfl⟩
  have hS := hS0
  have hL := hL0
  have ho := ho0
  rw [← hgg] at hS hL ho
  have hn60 := hS0.2.2.2.2.1
  have hbc := fun i hi => (hS0.2.2.2.2.2.2 i hi).2
  rw [hwr] at ho
  have hqq := hS.1
  have hk := hk0
  rw [← hgg] at hk
  have hex : ∀ b x, g0 b = some x → b ≠ o → b ≠ wk → g b = some x := fun b x h _ _ => by rw [hgg]; exact h
  have hz : (ptE (cB bc) n sp) = (false, sp) := pt_other hlet (nI_nc (c := 98) (by omega) rfl (by omega)) (nI_nc (c := 102) (by omega) rfl (by omega)) (nI_nc (c := 114) (by omega) rfl (by omega)) (nI_nc (c := 111) (by omega) rfl (by omega)) (nI_nc (c := 108) (by omega) rfl (by omega)) (nI_nc (c := 99) (by omega) rfl (by omega)) (nI_nc (c := 109) (by omega) rfl (by omega))
  have hE1 : ¬ (ptE (cB bc) n sp).1 = true := by rw [hz]; exact Bool.false_ne_true
  refine lv_aload_n hx hb dX18_part_0 rfl (lv_at hl 0 rfl) ?_
  refine gh_get (v := .int 0) hC hg ho fX18_24_11 rfl dX18_part_1 ?_
  refine lv_if_eq (tgt := 8) hx hb dX18_part_4 (by decide) (fun _ => ?_) (fun c_1 => (absurd ((nx_eq (show ((0 : Int32)) = nI 0 from rfl) (show ((0 : Int32)) = nI 0 from rfl) (by omega) (by omega)).mpr (by omega)) c_1))
  refine lv_aload_n hx hb dX18_part_8 rfl (lv_at hl 0 rfl) ?_
  refine gh_calli hg (gh_runV (As := []) (rest := []) hC hg (j_X18_next l V _ L q n bc arr cap f0 ml hS u1 u2 u3 hL o wk many sp 0 (by omega) ho) 0 (lw_V q1497 q1499 qs18 q178 q1500) ho rfl hd_X18_next ⟨Nat.le_of_ble_eq_true rfl, Nat.le_of_ble_eq_true rfl⟩ rfl hl.1 rfl (Nat.le_of_ble_eq_true rfl) dX18_part_9 ⟨Nat.le_of_ble_eq_true rfl, Nat.le_of_ble_eq_true rfl⟩) (fun r_2 g H locs hg hp => ?_)
  obtain ⟨hp, hq⟩ := hp
  replace hp : (nxC bc n sp) = r_2 := hp.symm
  subst hp
  rw [hq] at hg
  refine W.eq (g2 := F0 mm 12 ls [.int (nI k9)]) (by rw [hlet] <;> rfl) ?_
  refine lv_istore_n (lv' := [(1, .int (nI k9)), (0, .ref o)]) hx hb dX18_part_12 rfl hl (by decide) rfl (fun ls hl => ?_)
  refine lv_null hx hb dX18_part_13 ?_
  refine lv_astore_nN (lv' := [(2, .null), (1, .int (nI k9)), (0, .ref o)]) hx hb dX18_part_14 rfl hl (by decide) rfl (fun ls hl => ?_)
  refine lv_iload_n hx hb dX18_part_15 rfl (lv_at hl 1 rfl) ?_
  refine lv_tableIn (off := 205) (tgt := 221) hx hb dX18_part_16 (by rcases hk9 with rfl | rfl | rfl | rfl | rfl | rfl | rfl | rfl | rfl | rfl <;> decide) (by rcases hk9 with rfl | rfl | rfl | rfl | rfl | rfl | rfl | rfl | rfl | rfl <;> decide) (by rcases hk9 with rfl | rfl | rfl | rfl | rfl | rfl | rfl | rfl | rfl | rfl <;> decide) (by decide) ?_
  refine lv_aload_n hx hb dX18_part_221 rfl (lv_at hl 2 rfl) ?_
  refine lv_iconst (v := 1) hx hb dX18_part_222 (by decide) ?_
  refine gh_put (v := .int 1) hC hg ho fX18_24_11 rfl rfl (Nat.le_of_ble_eq_true rfl) dX18_part_223 (fun g H locs hg hw hn => ?_)
  have hL : g L = some ((L, 0, 0), oo 1 [u1, u2, u3, .ref q]) := (hn _ (gh_neK hL ho rfl)).trans hL
  have hqq : g q = some ((L, 2, 0), oo 18 [.ref arr, .int 0, .int ml, .int (nI n)]) := (hn _ (gh_neK hqq ho rfl)).trans hqq
  have hk : g wk = some ((L, 3, 1), aq V 7 60 f) := (hn _ (gh_neI hk ho rfl)).trans hk
  have hS : sb_C V L 2 g q n bc arr cap f0 ml := sb_C.keep hS (fun a t x h1 h2 h3 => (hn a (fun e9 => by rw [e9, ho] at h1; cases h1; exact absurd (show 3 = 2 from h3) (by decide))).trans h1)
  have hex : ∀ b x, g0 b = some x → b ≠ o → b ≠ wk → g b = some x := fun b x h1 h2 h3 => (hn b h2).trans (hex b x h1 h2 h3)
  have ho : g o = some ((L, 3, 0), oo 11 [.int (nI sp), .int 1, .ref wk, .int (nI many), .ref L]) := hw
  refine lv_aload_n hx hb dX18_part_226 rfl (lv_at hl 2 rfl) ?_
  refine gh_get (v := .int 1) hC hg ho fX18_24_11 rfl dX18_part_227 ?_
  refine lv_if_ne (tgt := 253) hx hb dX18_part_230 (by decide) (fun _ => ?_) (fun c_3 => (absurd c_3 (by decide)))
  exact gh_retv hC hg hr hlk (⟨0, by rw [if_neg hE1, if_neg hE1, hz]; exact ho, by rw [if_neg hE1]; exact hk, fun h9 => absurd h9 hE1, hex⟩) dX18_part_253 (Nat.le_of_ble_eq_true rfl) (Nat.le_of_ble_eq_true rfl)
theorem j_X18_part0 (l : Launch) (V : gh_V) (g0 : gh_G) (L q n : Nat) (bc : Nat → Nat) (arr cap : Nat) (f0 : Nat → Int32) (ml : Int32) (hS0 : sb_C V L 2 g0 q n bc arr cap f0 ml) (u1 u2 u3 : Value) (hL0 : g0 L = some ((L, 0, 0), oo 1 [u1, u2, u3, .ref q])) (o wk many sp : Nat) (wr : Int32) (hsp : sp ≤ 61) (ho0 : g0 o = some ((L, 3, 0), oo 11 [.int (nI sp), .int wr, .ref wk, .int (nI many), .ref L])) (hwr : wr = 0) (f : Nat → Option Nat) (hk0 : g0 wk = some ((L, 3, 1), aq V 7 60 f)) (hm60 : many < 60) : MV l yX18_part cX18_part 3 ({ frames := 8, cells := 1, slots := 2, locals := 3103 } : Room) V [.ref o] g0 (fun g1 => ∃ qw : Nat, g1 o = some ((L, 3, 0), oo 11 [.int (nI ((ptE (cB bc) n sp).2)), .int (if (ptE (cB bc) n sp).1 = true then 0 else 1), .ref wk, .int (nI (if (ptE (cB bc) n sp).1 = true then many + 1 else many)), .ref L]) ∧ g1 wk = some ((L, 3, 1), aq V 7 60 (if (ptE (cB bc) n sp).1 = true then va_up f many (some qw) else f)) ∧ ((ptE (cB bc) n sp).1 = true → g1 qw = some ((L, 3, 2), wob V (cB bc sp) (ptO (cB bc) n sp) (ptT (cB bc) n sp)) ∧ g0 qw = none) ∧ ∀ b x, g0 b = some x → b ≠ o → b ≠ wk → g1 b = some x) := by
  obtain ⟨k9, hk128, hlet⟩ := nx_code (sp := sp) (n := n) (bc := bc) (fun i hi => (hS0.2.2.2.2.2.2 i hi).2)
  by_cases h98 : k9 = 98
  · exact j_X18_part98 l V g0 L q n bc arr cap f0 ml hS0 u1 u2 u3 hL0 o wk many sp wr hsp ho0 hwr f hk0 hm60 (by rw [hlet, h98]; rfl)
  by_cases h102 : k9 = 102
  · exact j_X18_part102 l V g0 L q n bc arr cap f0 ml hS0 u1 u2 u3 hL0 o wk many sp wr hsp ho0 hwr f hk0 hm60 (by rw [hlet, h102]; rfl)
  by_cases h114 : k9 = 114
  · exact j_X18_part114 l V g0 L q n bc arr cap f0 ml hS0 u1 u2 u3 hL0 o wk many sp wr hsp ho0 hwr f hk0 hm60 (by rw [hlet, h114]; rfl)
  by_cases h111 : k9 = 111
  · exact j_X18_part111 l V g0 L q n bc arr cap f0 ml hS0 u1 u2 u3 hL0 o wk many sp wr hsp ho0 hwr f hk0 hm60 (by rw [hlet, h111]; rfl)
  by_cases h108 : k9 = 108
  · exact j_X18_part108 l V g0 L q n bc arr cap f0 ml hS0 u1 u2 u3 hL0 o wk many sp wr hsp ho0 hwr f hk0 hm60 (by rw [hlet, h108]; rfl)
  by_cases h99 : k9 = 99
  · exact j_X18_part99 l V g0 L q n bc arr cap f0 ml hS0 u1 u2 u3 hL0 o wk many sp wr hsp ho0 hwr f hk0 hm60 (by rw [hlet, h99]; rfl)
  by_cases h109 : k9 = 109
  · exact j_X18_part109 l V g0 L q n bc arr cap f0 ml hS0 u1 u2 u3 hL0 o wk many sp wr hsp ho0 hwr f hk0 hm60 (by rw [hlet, h109]; rfl)
  by_cases ho9 : k9 < 98 ∨ 114 < k9
  · exact j_X18_partO l V g0 L q n bc arr cap f0 ml hS0 u1 u2 u3 hL0 o wk many sp wr hsp ho0 hwr f hk0 hm60 k9 hk128 ho9 hlet
  · exact j_X18_partI l V g0 L q n bc arr cap f0 ml hS0 u1 u2 u3 hL0 o wk many sp wr hsp ho0 hwr f hk0 hm60 k9 hk128 (by omega) hlet
set_option maxHeartbeats 1000000 in
set_option maxRecDepth 100000 in
theorem j_X18_partW (l : Launch) (V : gh_V) (g0 : gh_G) (L q n : Nat) (bc : Nat → Nat) (arr cap : Nat) (f0 : Nat → Int32) (ml : Int32) (hS0 : sb_C V L 2 g0 q n bc arr cap f0 ml) (u1 u2 u3 : Value) (hL0 : g0 L = some ((L, 0, 0), oo 1 [u1, u2, u3, .ref q])) (o wk many sp : Nat) (wr : Int32) (hsp : sp ≤ 61) (ho0 : g0 o = some ((L, 3, 0), oo 11 [.int (nI sp), .int wr, .ref wk, .int (nI many), .ref L])) (hwr : wr = 1) : MV l yX18_part cX18_part 3 ({ frames := 8, cells := 1, slots := 2, locals := 3103 } : Room) V [.ref o] g0 (fun g1 => g1 = g0) := by
  refine MG.of RX18 (by decide) rfl (Nat.le_of_ble_eq_true rfl) (fun pp ee s mm args below meth c ls hC hg hr hlk hnm hl => ?_)
  have hx := hC.1.1
  have hb := hC.1.2.1
  have hml := hC.1.2.2.1
  have hown := hC.1.2.2.2.1
  have hts := hC.1.2.2.2.2
  have hl : lv_has ls 3 [(0, .ref o)] := hl
  obtain ⟨g, hg, hgg⟩ : ∃ g, gh_W V (gh_A g0 s.heap.size) s g s.heap [] ∧ g = g0 := ⟨g0, hg, rfl⟩
  have hS := hS0
  have hL := hL0
  have ho := ho0
  rw [← hgg] at hS hL ho
  have hn60 := hS0.2.2.2.2.1
  have hbc := fun i hi => (hS0.2.2.2.2.2.2 i hi).2
  rw [hwr] at ho
  have hqq := hS.1
  refine lv_aload_n hx hb dX18_part_0 rfl (lv_at hl 0 rfl) ?_
  refine gh_get (v := .int 1) hC hg ho fX18_24_11 rfl dX18_part_1 ?_
  refine lv_if_eq (tgt := 8) hx hb dX18_part_4 (by decide) (fun c_1 => (absurd c_1 (by decide))) (fun _ => ?_)
  exact gh_retv hC hg hr hlk hgg dX18_part_7 (Nat.le_of_ble_eq_true rfl) (Nat.le_of_ble_eq_true rfl)
