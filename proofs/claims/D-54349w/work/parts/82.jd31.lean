/-! A MINUTE -/
theorem ht2_v {s : Nat → Int32} (j : Nat) : ht2 s 8 j = if 3 ≤ j ∧ j < 3 + 5 * 8 ∧ (j - 3) % 5 = 3 then exz s ((j - 3) / 5) else if j = 2 then s 2 + gsum s 8 else if 3 ≤ j ∧ j < 3 + 5 * 8 ∧ (j - 3) % 5 = 4 then s j + 3 * nI (bn s ((j - 3) / 5)) else s j := rfl
theorem ht2_o {s : Nat → Int32} {j : Nat} (h : j ≠ 2) (h2 : j < 3 ∨ 43 ≤ j ∨ (j - 3) % 5 < 3) : ht2 s 8 j = s j := by
  rw [ht2_v, if_neg (by omega), if_neg h, if_neg (by omega)]
theorem ht2_3 {s : Nat → Int32} {z : Nat} (hz : z < 8) : zn (ht2 s 8) z 3 = exz s z := by
  unfold zn
  rw [ht2_v, if_pos (by omega), show (3 + 5 * z + 3 - 3) / 5 = z by omega]
theorem ht2_4 {s : Nat → Int32} {z : Nat} (hz : z < 8) : zn (ht2 s 8) z 4 = zn s z 4 + 3 * nI (bn s z) := by
  unfold zn
  rw [ht2_v, if_neg (by omega), if_neg (by omega), if_pos (by omega), show (3 + 5 * z + 4 - 3) / 5 = z by omega]
theorem ht_V {s : Nat → Int32} {I : Nat → Int32} {A : Nat → Nat → Int32} (hV : st_V s I A) : st_V (ht2 s 8) (va_up I 2 (s 2 + gsum s 8)) (va_up (va_up (va_up A 4 (cpn (gq9 s (A 4)) (A 4) 8)) 3 (cpn (wm s) (A 3) 8)) 3 (exN (cpn (wm s) (A 3) 8) 7)) := by
  obtain ⟨v0, v1, v2, hz, hs, hc⟩ := hV
  refine ⟨v0.trans (ht2_o (j := 0) (by omega) (by omega)).symm, v1.trans (ht2_o (j := 1) (by omega) (by omega)).symm, ?_, fun z hzz => ?_, fun p hp => ?_, fun c hcc => ?_⟩
  · show s 2 + gsum s 8 = _
    rw [ht2_v, if_neg (by omega), if_pos rfl]
  · obtain ⟨z0, z1, z2, z3, z4⟩ := hz z hzz
    refine ⟨z0.trans (ht2_o (j := 3 + 5 * z + 0) (by omega) (by omega)).symm, z1.trans (ht2_o (j := 3 + 5 * z + 1) (by omega) (by omega)).symm, z2.trans (ht2_o (j := 3 + 5 * z + 2) (by omega) (by omega)).symm, ?_, ?_⟩
    · show exN (cpn (wm s) (A 3) 8) 7 z = _
      rw [ht2_3 hzz, exN_z (fun j hj => cpn_lt hj) hzz]
    · show cpn (gq9 s (A 4)) (A 4) 8 z = _
      rw [ht2_4 hzz, cpn_lt hzz, ← z4]
      show A 4 z + nI (3 * bn s z) = _
      rw [show (3 : Int32) * nI (bn s z) = nI (3 * bn s z) from nx_mul rfl rfl]
  · exact (hs p hp).trans (ht2_o (j := 43 + 5 * p + 4) (by omega) (by omega)).symm
  · exact ⟨(hc c hcc).1.trans (ht2_o (j := 525 + 2 * c + 0) (by omega) (by omega)).symm, (hc c hcc).2.trans (ht2_o (j := 525 + 2 * c + 1) (by omega) (by omega)).symm⟩
/-- the pieces before i heated or cooled -/
def hsS (s : Nat → Int32) (i : Nat) : Nat → Int32 := fun j => if 43 ≤ j ∧ j < 43 + 5 * i ∧ (j - 43) % 5 = 2 ∧ ¬ pl s ((j - 43) / 5) 0 = -1 then coolB s s ((j - 43) / 5) else s j
def hsF (s : Nat → Int32) (F : Nat → UInt32) (i : Nat) : Nat → UInt32 := fun p => if p < i ∧ ¬ pl s p 0 = -1 then coolT s s F p p else F p
theorem hsS_ne {s : Nat → Int32} {i j : Nat} (h : j < 43 ∨ 163 ≤ j ∨ (j - 43) % 5 ≠ 2) (hi : i ≤ 24) : hsS s i j = s j := if_neg (by omega)
theorem hsS_pl {s : Nat → Int32} {i p k : Nat} (hk : k < 5) (h : k ≠ 2 ∨ i ≤ p ∨ pl s p 0 = -1) : pl (hsS s i) p k = pl s p k := by
  unfold pl hsS
  rw [if_neg]
  rintro ⟨h1, h2, h3, h4⟩
  rw [show (43 + 5 * p + k - 43) / 5 = p by omega] at h4
  rcases h with h | h | h
  · omega
  · omega
  · exact h4 h
theorem hsS_2 {s : Nat → Int32} {i p : Nat} (hp : p < i) (ho : oc s p) : pl (hsS s i) p 2 = coolB s s p := by
  show hsS s i (43 + 5 * p + 2) = _
  unfold hsS
  have e : (43 + 5 * p + 2 - 43) / 5 = p := by omega
  rw [e, if_pos ⟨by omega, by omega, by omega, ho⟩]
theorem hsS_0 (s : Nat → Int32) : hsS s 0 = s := by
  funext j; unfold hsS; rw [if_neg (by omega)]
theorem hsF_0 (s : Nat → Int32) (F : Nat → UInt32) : hsF s F 0 = F := by
  funext j; unfold hsF; rw [if_neg (by omega)]
theorem hsS_no {s : Nat → Int32} {i : Nat} (h : pl s i 0 = -1) : hsS s (i + 1) = hsS s i := by
  funext j
  unfold hsS
  by_cases c : 43 ≤ j ∧ j < 43 + 5 * i ∧ (j - 43) % 5 = 2 ∧ ¬ pl s ((j - 43) / 5) 0 = -1
  · rw [if_pos c, if_pos ⟨c.1, by omega, c.2.2⟩]
  · rw [if_neg c, if_neg]
    rintro ⟨h1, h2, h3, h4⟩
    by_cases e : (j - 43) / 5 = i
    · rw [e] at h4; exact h4 h
    · exact c ⟨h1, by omega, h3, h4⟩
theorem hsF_no {s : Nat → Int32} {F : Nat → UInt32} {i : Nat} (h : pl s i 0 = -1) : hsF s F (i + 1) = hsF s F i := by
  funext p
  unfold hsF
  by_cases c : p < i ∧ ¬ pl s p 0 = -1
  · rw [if_pos c, if_pos ⟨by omega, c.2⟩]
  · rw [if_neg c, if_neg]
    rintro ⟨h1, h2⟩
    by_cases e : p = i
    · rw [e] at h2; exact h2 h
    · exact c ⟨by omega, h2⟩
/-- what cools does, place by place -/
theorem coolT_at {s0 s : Nat → Int32} {F : Nat → UInt32} {p q : Nat} (h : q ≠ p) : coolT s0 s F p q = F q := by
  unfold coolT
  split
  · split
    · rfl
    · split
      · exact va_up_ne _ _ h
      · exact va_up_ne _ _ h
  · exact va_up_ne _ _ h
theorem cool_all {s : Nat → Int32} {F : Nat → UInt32} {L D P : Nat} (h : tw_wf s L D P) : ∀ p, p ≤ 24 → (∀ j, (j < 3 ∨ 163 ≤ j ∨ (43 ≤ j ∧ j < 163 ∧ ((j - 43) % 5 ≠ 2 ∨ 43 + 5 * p ≤ j ∨ pl s ((j - 43) / 5) 0 = -1)) ∨ (3 ≤ j ∧ j < 43 ∧ (j - 3) % 5 ≠ 3)) → (cool s F p).1 j = s j) ∧ (∀ q, q < p → oc s q → pl (cool s F p).1 q 2 = coolB s s q) ∧ (∀ q, (cool s F p).2 q = if q < p ∧ oc s q then coolT s s F q q else F q)
  | 0, _ => ⟨fun _ _ => rfl, fun q hq => absurd hq (Nat.not_lt_zero _), fun q => by rw [if_neg (by omega)]; rfl⟩
  | p + 1, hp => by
    obtain ⟨h1, h2, h3⟩ := cool_all h p (by omega)
    rw [cool_s]
    unfold cool1
    have e0 : ∀ k, k < 5 → pl (cool s F p).1 p k = pl s p k := fun k hk => h1 _ (by
      refine Or.inr (Or.inr (Or.inl ⟨by omega, by omega, ?_⟩))
      by_cases c : k = 2
      · exact Or.inr (Or.inl (by omega))
      · exact Or.inl (by omega))
    by_cases c : pl s p 0 = -1
    · rw [if_pos ((e0 0 (by omega)).trans c)]
      refine ⟨fun j hj => h1 j ?_, fun q hq ho => ?_, fun q => ?_⟩
      · rcases hj with hj | hj | hj | hj
        · exact Or.inl hj
        · exact Or.inr (Or.inl hj)
        · refine Or.inr (Or.inr (Or.inl ⟨hj.1, hj.2.1, ?_⟩))
          rcases hj.2.2 with u | u | u
          · exact Or.inl u
          · exact Or.inr (Or.inl (by omega))
          · exact Or.inr (Or.inr u)
        · exact Or.inr (Or.inr (Or.inr hj))
      · have hne : q ≠ p := fun e => by rw [e] at ho; exact ho c
        exact h2 q (by omega) ho
      · rw [h3 q]
        by_cases e : q = p
        · rw [if_neg (by omega), if_neg (fun u => by rw [e] at u; exact u.2 c)]
        · by_cases u : q < p ∧ oc s q
          · rw [if_pos u, if_pos ⟨by omega, u.2⟩]
          · rw [if_neg u, if_neg (fun v => u ⟨by omega, v.2⟩)]
    · rw [if_neg (fun u => c ((e0 0 (by omega)).symm.trans u))]
      have hkp : (pl s p 0).toNatClampNeg < 12 := by
        obtain ⟨⟨-, a⟩, -⟩ := wf_pc h (by omega : p < 24) c
        have := h.1.2
        omega
      have elt : ∀ i, i < 25 → lt (cool s F p).1 (pl (cool s F p).1 p 0).toNatClampNeg i = lt s (pl s p 0).toNatClampNeg i := fun i hi => by
        rw [e0 0 (by omega)]; exact h1 _ (by omega)
      have eB : coolB s (cool s F p).1 p = coolB s s p := by unfold coolB; rw [e0 2 (by omega), elt 1 (by omega)]
      refine ⟨fun j hj => ?_, fun q hq ho => ?_, fun q => ?_⟩
      · have hne1 : j ≠ 43 + 5 * p + 2 := fun e => by
          rcases hj with hj | hj | hj | hj
          · omega
          · omega
          · rcases hj.2.2 with u | u | u
            · omega
            · omega
            · rw [e, show (43 + 5 * p + 2 - 43) / 5 = p by omega] at u; exact c u
          · omega
        show (if j = 3 + 5 * (p / 3) + 3 then _ else if j = 43 + 5 * p + 2 then _ else (cool s F p).1 j) = s j
        rw [if_neg (by omega), if_neg hne1]
        refine h1 j ?_
        rcases hj with hj | hj | hj | hj
        · exact Or.inl hj
        · exact Or.inr (Or.inl hj)
        · refine Or.inr (Or.inr (Or.inl ⟨hj.1, hj.2.1, ?_⟩))
          rcases hj.2.2 with u | u | u
          · exact Or.inl u
          · exact Or.inr (Or.inl (by omega))
          · exact Or.inr (Or.inr u)
        · exact Or.inr (Or.inr (Or.inr hj))
      · show (if 43 + 5 * q + 2 = 3 + 5 * (p / 3) + 3 then _ else if 43 + 5 * q + 2 = 43 + 5 * p + 2 then coolB s (cool s F p).1 p else (cool s F p).1 (43 + 5 * q + 2)) = _
        rw [if_neg (by omega)]
        by_cases e : q = p
        · subst e; rw [if_pos rfl, eB]
        · rw [if_neg (by omega)]; exact h2 q (by omega) ho
      · have hFp : (cool s F p).2 p = F p := by rw [h3 p, if_neg (by omega)]
        show coolT s (cool s F p).1 (cool s F p).2 p q = _
        by_cases e : q = p
        · subst e
          rw [if_pos ⟨by omega, c⟩]
          unfold coolT
          rw [eB, e0 2 (by omega), elt 0 (by omega), elt 1 (by omega), hFp]
          split
          · split
            · exact hFp
            · split
              · rw [va_up_self, va_up_self]
              · rw [va_up_self, va_up_self]
          · rw [va_up_self, va_up_self]
        · rw [coolT_at e, h3 q]
          by_cases u : q < p ∧ oc s q
          · rw [if_pos u, if_pos ⟨by omega, u.2⟩]
          · rw [if_neg u, if_neg (fun v => u ⟨by omega, v.2⟩)]
/-- the zones' heat behind giveHeat's places 0 .. i - 1 -/
def gv9 (s : Nat → Int32) (b a : Nat → Int32) : Nat → Nat → Int32
  | 0 => a
  | i + 1 => if pl s i 0 = -1 then gv9 s b a i else upd (gv9 s b a i) (i / 3) (gv9 s b a i (i / 3) + sgnI (pl s i 2 - b (i / 3)))
theorem gv9_no {s : Nat → Int32} {b a : Nat → Int32} {i : Nat} (h : pl s i 0 = -1) : gv9 s b a (i + 1) = gv9 s b a i := if_pos h
theorem gv9_yes {s : Nat → Int32} {b a : Nat → Int32} {i : Nat} (h : oc s i) : gv9 s b a (i + 1) = upd (gv9 s b a i) (i / 3) (gv9 s b a i (i / 3) + sgnI (pl s i 2 - b (i / 3))) := if_neg h
theorem sgn_G {x y : Int32} {B : Int} (hx : bd x B) (hy : bd y B) (hB : B ≤ 1000000) : sgnI (x - y) = if x ≤ y then (if y ≤ x then 0 else -1) else 1 := by
  unfold bd at *
  have e := i32_sub (x := x) (y := y) (by omega) (by omega)
  have e0 : (0 : Int32).toInt = 0 := rfl
  have h1 : x - y < 0 ↔ x.toInt < y.toInt := by rw [Int32.lt_iff_toInt_lt, e, e0]; omega
  have h2 : x - y = 0 ↔ x.toInt = y.toInt := by rw [← Int32.toInt_inj, e, e0]; omega
  have h3 : x ≤ y ↔ x.toInt ≤ y.toInt := Int32.le_iff_toInt_le
  have h4 : y ≤ x ↔ y.toInt ≤ x.toInt := Int32.le_iff_toInt_le
  unfold sgnI
  by_cases c : x.toInt < y.toInt
  · rw [if_pos (h1.mpr c), if_pos (h3.mpr (by omega)), if_neg (fun u => by have := h4.mp u; omega)]
  · rw [if_neg (fun u => c (h1.mp u))]
    by_cases d : x.toInt = y.toInt
    · rw [if_pos (h2.mpr d), if_pos (h3.mpr (by omega)), if_pos (h4.mpr (by omega))]
    · rw [if_neg (fun u => d (h2.mp u)), if_neg (fun u => by have := h3.mp u; omega)]
theorem cool_gv {s t b a : Nat → Int32} {F : Nat → UInt32} {L D P : Nat} {B : Int} (h : tw_wf s L D P) (hb : ∀ z, z < 8 → b z = zn s z 3) (ha : ∀ z, z < 8 → a z = zn s z 3) (ht0 : ∀ p, p < 24 → pl t p 0 = pl s p 0) (ht : ∀ p, p < 24 → oc s p → pl t p 2 = coolB s s p) (hB : B ≤ 1000000) (hz : ∀ z, z < 8 → bd (zn s z 3) B) (hc : ∀ p, p < 24 → oc s p → bd (coolB s s p) B) : ∀ i, i ≤ 24 → ∀ z, z < 8 → gv9 t b a i z = zn (cool s F i).1 z 3
  | 0, _, z, hzz => ha z hzz
  | i + 1, hi, z, hzz => by
    have ih := cool_gv (F := F) h hb ha ht0 ht hB hz hc i (by omega)
    obtain ⟨h1, h2, h3⟩ := cool_all (F := F) h i (by omega)
    have e0 : ∀ k, k < 5 → pl (cool s F i).1 i k = pl s i k := fun k hk => h1 _ (by
      refine Or.inr (Or.inr (Or.inl ⟨by omega, by omega, ?_⟩))
      by_cases c : k = 2
      · exact Or.inr (Or.inl (by omega))
      · exact Or.inl (by omega))
    rw [cool_s]
    unfold cool1
    by_cases c : pl s i 0 = -1
    · rw [if_pos ((e0 0 (by omega)).trans c), gv9_no ((ht0 i (by omega)).trans c)]
      exact ih z hzz
    · rw [if_neg (fun u => c ((e0 0 (by omega)).symm.trans u)), gv9_yes (fun u => c ((ht0 i (by omega)).symm.trans u)), ht i (by omega) c, hb _ (by omega)]
      have hkp : (pl s i 0).toNatClampNeg < 12 := by
        obtain ⟨⟨-, a⟩, -⟩ := wf_pc h (by omega : i < 24) c
        have := h.1.2
        omega
      have elt : ∀ k, k < 25 → lt (cool s F i).1 (pl (cool s F i).1 i 0).toNatClampNeg k = lt s (pl s i 0).toNatClampNeg k := fun k hk => by
        rw [e0 0 (by omega)]; exact h1 _ (by omega)
      have eB : coolB s (cool s F i).1 i = coolB s s i := by unfold coolB; rw [e0 2 (by omega), elt 1 (by omega)]
      have eG : coolG s (cool s F i).1 i = sgnI (coolB s s i - zn s (i / 3) 3) := by
        unfold coolG
        rw [eB, sgn_G (hc i (by omega) c) (hz (i / 3) (by omega)) hB]
      have hzn : ∀ w, w < 8 → zn (ps (cool s F i).1 i 2 (coolB s (cool s F i).1 i)) w 3 = zn (cool s F i).1 w 3 := fun w hw => by
        show (if 3 + 5 * w + 3 = 43 + 5 * i + 2 then _ else _) = _
        rw [if_neg (by omega)]
        rfl
      show upd _ _ _ z = (if 3 + 5 * z + 3 = 3 + 5 * (i / 3) + 3 then zn (ps (cool s F i).1 i 2 (coolB s (cool s F i).1 i)) (i / 3) 3 + coolG s (cool s F i).1 i else zn (ps (cool s F i).1 i 2 (coolB s (cool s F i).1 i)) z 3)
      rw [hzn _ (by omega), hzn _ hzz, eG, ← ih z hzz, ← ih (i / 3) (by omega)]
      unfold upd
      by_cases e : z = i / 3
      · rw [if_pos e, if_pos (by omega)]
      · rw [if_neg e, if_neg (by omega)]
/-! A MINUTE: what stays true -/
def jw (s : Nat → Int32) (B : Int) : Prop := ∀ p, p < 24 → oc s p → bd (pl s p 2) B
def fzr (j : Nat) : Prop := j < 43 ∨ j = 163 ∨ j = 464 ∨ 529 ≤ j
/-- s is s0 but for places, lots, orders, cleaners; pieces and kinds are right -/
def jx (s0 : Nat → Int32) (B : Int) (s : Nat → Int32) : Prop := jp s ∧ jk s ∧ jw s B ∧ ∀ j, fzr j → s j = s0 j
section Jx
variable {s s0 : Nat → Int32} {B : Int} {p : Nat} {F : Nat → UInt32}
theorem jx.rf (h1 : jp s) (h2 : jk s) (h3 : jw s B) : jx s B s := ⟨h1, h2, h3, fun _ _ => rfl⟩
theorem jx_tick (h : jx s0 B s) (hp : p < 24) : jx s0 B (tick s p) := by
  obtain ⟨h1, h2, h3, h4⟩ := h
  refine ⟨jp_tick h1 hp, jk_cg h2 h1.2.2.1 (fun j _ _ => tick_o hp (by omega)), fun r hr ho => ?_, fun j hj => ?_⟩
  · rw [tick_pl (by omega) (by omega)]
    exact h3 r hr (fun u => ho ((tick_pl (by omega) (by omega)).trans u))
  · rw [tick_ne (by unfold fzr at hj; omega)]; exact h4 j hj
theorem jx_ps4 {v : Int32} (h : jx s0 B s) (hp : p < 24) : jx s0 B (ps s p 4 v) := by
  obtain ⟨h1, h2, h3, h4⟩ := h
  have e : ∀ r k, k < 4 → pl (ps s p 4 v) r k = pl s r k := fun r k hk => ps4_o (by omega)
  refine ⟨jp_ps4 h1 hp, jk_cg h2 h1.2.2.1 (fun j _ _ => ps4_o (by omega)), fun r hr ho => ?_, fun j hj => ?_⟩
  · rw [e r 2 (by omega)]
    exact h3 r hr (fun u => ho ((e r 0 (by omega)).trans u))
  · rw [ps4_o (by unfold fzr at hj; omega)]; exact h4 j hj
theorem jx_end {f : Nat} (h : jx s0 B s) (hp : p < 24) (ho : oc s p) : jx s0 B (endS s p (nI f)) := by
  obtain ⟨h1, h2, h3, h4⟩ := h
  obtain ⟨a1, a2, -⟩ := h1.1 p hp ho
  have h12 := h1.2.2.1
  have h20 := h1.2.2.2 _ a1
  refine ⟨jp_end h1 hp ho, jk_end h2 h1 hp ho, fun r hr hor => ?_, fun j hj => ?_⟩
  · have hne : r ≠ p := fun e => hor (by rw [e]; exact endS_0)
    rw [endS_pl hp hr hne (by omega)]
    exact h3 r hr (fun u => hor ((endS_pl hp hr hne (by omega)).trans u))
  · rw [endS_o (by omega) (by omega) hp (by unfold fzr at hj; omega)]; exact h4 j hj
theorem ag_jk (h : ag34 s0 s) (h12 : nL s0 ≤ 12) (hK : jk s0) : jk s := fun k hk => by
  rw [h.nL] at hk
  have e : lt s k 0 = lt s0 k 0 := h.lt (by omega) (by omega) (by omega) (by omega)
  unfold kd
  rw [e]; exact hK k hk
theorem jx_ag {s1 : Nat → Int32} (h : jx s0 B s) (ha : ag34 s s1) : jx s0 B s1 := by
  obtain ⟨h1, h2, h3, h4⟩ := h
  have e : ∀ r k, r < 24 → k < 5 → pl s1 r k = pl s r k := fun r k hr hk => ha _ (by omega)
  refine ⟨ha.jp h1, ag_jk ha h1.2.2.1 h2, fun r hr ho => ?_, fun j hj => ?_⟩
  · rw [e r 2 hr (by omega)]
    exact h3 r hr (fun u => ho ((e r 0 hr (by omega)).trans u))
  · have : s1 j = s j := by
      unfold fzr at hj
      by_cases c : j = 163
      · exact ha _ (by omega)
      · exact ha _ (by omega)
    rw [this]; exact h4 j hj
theorem jx_shift (h : jx s0 B s) (hp : p < 23) (ho : oc s p) (hf : pl s (p + 1) 0 = -1) : jx s0 B (shiftS s p) := by
  obtain ⟨h1, h2, h3, h4⟩ := h
  refine ⟨jp_shift h1 hp ho hf, jk_cg h2 h1.2.2.1 (fun j _ _ => shift_o hp (by omega)), fun r hr hor => ?_, fun j hj => ?_⟩
  · rw [shift_v hp r 2 hr (by omega)]
    rcases (shift_oc hp hf hr).mp hor with ⟨c, -⟩ | ⟨c, c2, ho3⟩
    · rw [if_neg (by omega), if_pos c, if_pos (by omega)]; exact h3 p (by omega) ho
    · rw [if_neg c2, if_neg c]; exact h3 r hr ho3
  · rw [shift_o hp (by unfold fzr at hj; omega)]; exact h4 j hj
theorem jx_cout {D : Nat} (h : jx s0 B s) (ho : oc s 23) (hD : D ≤ 10) : jx s0 B (coutS s F D) := by
  obtain ⟨f, hf, h1, h4⟩ := fateN_nat s F 23
  obtain ⟨a1, -⟩ := h.1.1 23 (by omega) ho
  have h12 := h.1.2.2.1
  unfold coutS
  rw [hf]
  have he := jx_end (f := f) h (by omega) ho
  split
  · exact jx_ag he (ag34_good (show (pl s 23 0).toNatClampNeg < 12 from by have : pk s 23 < nL s := a1; unfold pk at this; omega) hD)
  · exact he
theorem jx_mv1 {D : Nat} {n : Int32} (h : jx s0 B s) (hp : p < 24) (hD : D ≤ 10) : jx s0 B (mv1 D (s, F, n) p).1 := by
  have ht := jx_tick h hp
  unfold mv1
  split
  · exact h
  · rename_i ho
    have hot : oc (tick s p) p := fun u => ho ((tick_pl (by omega) (by omega)).symm.trans u)
    split
    · exact ht
    · split
      · exact ht
      · split
        · rename_i h23
          subst h23
          exact jx_cout ht hot hD
        · rename_i h23
          split
          · rename_i hf
            exact jx_shift ht (by omega) hot hf.1
          · exact ht
theorem jx_mv {D : Nat} (h : jx s0 B s) (hD : D ≤ 10) : ∀ i, i ≤ 24 → jx s0 B (mv s F D i).1
  | 0, _ => h
  | i + 1, hi => by
    rw [mv_s]
    exact jx_mv1 (F := (mv s F D i).2.1) (n := (mv s F D i).2.2) (jx_mv h hD i (by omega)) (by omega) hD
theorem jx_brk (h : jx s0 B s) : ∀ i, i ≤ 24 → jx s0 B (brk s F i).1
  | 0, _ => h
  | i + 1, hi => by
    have ih := jx_brk h i (by omega)
    by_cases c : pl (brk s F i).1 i 0 = -1
    · rw [brk_0 c]; exact ih
    · by_cases c2 : stress (brk s F i).1 (brk s F i).2.1 i
      · rw [brk_1 c c2]; exact ih
      · rw [brk_2 c c2]
        exact jx_ps4 (jx_end (f := 4) ih (by omega) c) (by omega)
theorem cls_o {c : Nat} {v : Int32} {j : Nat} (h : j ≠ 525 + 2 * c + 1) : upd s (525 + 2 * c + 1) v j = s j := if_neg h
theorem jx_clm {c : Nat} {v : Int32} (h : jx s0 B s) (hc : c < 2) : jx s0 B (upd s (525 + 2 * c + 1) v) := by
  obtain ⟨h1, h2, h3, h4⟩ := h
  have e : ∀ r k, r < 24 → k < 5 → pl (upd s (525 + 2 * c + 1) v) r k = pl s r k := fun r k hr hk => cls_o (by omega)
  refine ⟨jp_cg h1 (fun r k hr hk => e r k hr (by omega)) (fun j _ _ => cls_o (by omega)), jk_cg h2 h1.2.2.1 (fun j _ _ => cls_o (by omega)), fun r hr ho => ?_, fun j hj => ?_⟩
  · rw [e r 2 hr (by omega)]
    exact h3 r hr (fun u => ho ((e r 0 hr (by omega)).trans u))
  · rw [cls_o (by unfold fzr at hj; omega)]; exact h4 j hj
theorem jx_cln1 {L D P c : Nat} (h : jx s0 B s) (hE : tw_wf s L D P) (hc : c < 2) : jx s0 B (cln1 s c) := by
  unfold cln1
  split
  · exact h
  · split
    · exact jx_ps4 (jx_clm h hc) (wf_cl hE hc).2
    · exact jx_clm h hc
end Jx
/-! bounds of the zones -/
theorem tq16 (x : Int) : (0 ≤ x → 0 ≤ x.tdiv 16 ∧ 16 * x.tdiv 16 ≤ x) ∧ (x ≤ 0 → x ≤ 16 * x.tdiv 16 ∧ x.tdiv 16 ≤ 0) := by
  refine ⟨fun h => ?_, fun h => ?_⟩
  · rw [Int.tdiv_eq_ediv_of_nonneg h]; omega
  · have a : (-x).tdiv 16 = -(x.tdiv 16) := Int.neg_tdiv ..
    rw [Int.tdiv_eq_ediv_of_nonneg (by omega)] at a
    omega
theorem tq50 (x : Int) : (0 ≤ x → 0 ≤ x.tdiv 50 ∧ 50 * x.tdiv 50 ≤ x) ∧ (x ≤ 0 → x ≤ 50 * x.tdiv 50 ∧ x.tdiv 50 ≤ 0) := by
  refine ⟨fun h => ?_, fun h => ?_⟩
  · rw [Int.tdiv_eq_ediv_of_nonneg h]; omega
  · have a : (-x).tdiv 50 = -(x.tdiv 50) := Int.neg_tdiv ..
    rw [Int.tdiv_eq_ediv_of_nonneg (by omega)] at a
    omega
theorem i32_16 : (16 : Int32).toInt = 16 := by decide
theorem i32_50 : (50 : Int32).toInt = 50 := by decide
theorem i32_20 : (20 : Int32).toInt = 20 := by decide
theorem i32_8 : (8 : Int32).toInt = 8 := by decide
theorem tg_bd (b : Nat) (h : b < 4) : 20 ≤ (sp_target (nI b)).toInt ∧ (sp_target (nI b)).toInt ≤ 580 := by
  obtain rfl | rfl | rfl | rfl : b = 0 ∨ b = 1 ∨ b = 2 ∨ b = 3 := by omega
  all_goals decide
theorem wm_bd {s : Nat → Int32} {z f : Nat} {B : Int} (hb : bn s z < 4) (hf : f ≤ 3) (ef : zn s z 1 = nI f) (ht : bd (zn s z 3) B) (h6 : 600 ≤ B) (hB : B ≤ 1000000) : bd (wm s z) B := by
  unfold wm
  rw [ef]
  have htg := tg_bd (bn s z) hb
  generalize sp_target (nI (bn s z)) = g at htg
  generalize zn s z 3 = t at ht
  unfold bd at *
  have hd := i32_sub (x := g) (y := t) (by omega) (by omega)
  have hs := step_bd (d := g - t) (b := 8) (by rw [i32_8]; omega)
  generalize sp_step (g - t) 8 = st at hs
  have ha := i32_add (x := t) (y := st) (by omega) (by omega)
  generalize t + st = u at ha
  have hu := i32_sub (x := u) (y := 20) (by rw [i32_20]; omega) (by rw [i32_20]; omega)
  rw [i32_20] at hu
  generalize u - 20 = d at hu
  have hfi : (nI f).toInt = f := nI_toInt (by omega)
  have hm : (nI f * d).toInt = f * d.toInt := by
    have h3 : (f : Int) = 0 ∨ (f : Int) = 1 ∨ (f : Int) = 2 ∨ (f : Int) = 3 := by omega
    have := i32_mul (x := nI f) (y := d) (by rw [hfi]; rcases h3 with h | h | h | h <;> rw [h] <;> omega) (by rw [hfi]; rcases h3 with h | h | h | h <;> rw [h] <;> omega)
    rw [this, hfi]
  have hq := i32_div (x := nI f * d) (y := 50) (by rw [i32_50]; omega)
  rw [hm, i32_50] at hq
  have ht5 := tq50 ((f : Int) * d.toInt)
  have h3 : (f : Int) = 0 ∨ (f : Int) = 1 ∨ (f : Int) = 2 ∨ (f : Int) = 3 := by omega
  have hk : (0 ≤ d.toInt → 0 ≤ (nI f * d / 50).toInt ∧ (nI f * d / 50).toInt ≤ d.toInt) ∧ (d.toInt ≤ 0 → d.toInt ≤ (nI f * d / 50).toInt ∧ (nI f * d / 50).toInt ≤ 0) := by
    rw [hq]
    generalize ((f : Int) * d.toInt).tdiv 50 = e at ht5
    rcases h3 with h | h | h | h <;> rw [h] at ht5 <;> omega
  generalize nI f * d / 50 = w at hk
  have hw := i32_sub (x := u) (y := w) (by omega) (by omega)
  omega
theorem exz_bd {s : Nat → Int32} {z : Nat} {B : Int} (hw : ∀ z, z < 8 → bd (wm s z) B) (hz : z < 8) (h6 : 600 ≤ B) (hB : B ≤ 1000000) : bd (exz s z) B := by
  have hfl : ∀ x y : Int32, bd x B → bd y B → (x - y).toInt = x.toInt - y.toInt ∧ ((x - y) / 16).toInt = (x.toInt - y.toInt).tdiv 16 := fun x y hx hy => by
    unfold bd at *
    have e := i32_sub (x := x) (y := y) (by omega) (by omega)
    refine ⟨e, ?_⟩
    rw [i32_div (by rw [i32_16]; omega), e, i32_16]
  have e0 : (0 : Int32).toInt = 0 := rfl
  have q1 : ∃ q : Int, (if 7 ≤ z then (0 : Int32) else (wm s z - wm s (z + 1)) / 16).toInt = q ∧ ∃ y, -B ≤ y ∧ y ≤ B ∧ (0 ≤ (wm s z).toInt - y → 0 ≤ q ∧ 16 * q ≤ (wm s z).toInt - y) ∧ ((wm s z).toInt - y ≤ 0 → (wm s z).toInt - y ≤ 16 * q ∧ q ≤ 0) := by
    by_cases c : 7 ≤ z
    · rw [if_pos c, e0]
      have := hw z hz
      unfold bd at this
      exact ⟨0, rfl, (wm s z).toInt, this.1, this.2, fun _ => by omega, fun _ => by omega⟩
    · rw [if_neg c]
      have h1 := hw z hz
      have h2 := hw (z + 1) (by omega)
      have := tq16 ((wm s z).toInt - (wm s (z + 1)).toInt)
      exact ⟨_, (hfl _ _ h1 h2).2, _, h2.1, h2.2, this.1, this.2⟩
  have q2 : ∃ q : Int, (if z ≤ 0 then (0 : Int32) else (wm s (z - 1) - wm s z) / 16).toInt = q ∧ ∃ y, -B ≤ y ∧ y ≤ B ∧ (0 ≤ y - (wm s z).toInt → 0 ≤ q ∧ 16 * q ≤ y - (wm s z).toInt) ∧ (y - (wm s z).toInt ≤ 0 → y - (wm s z).toInt ≤ 16 * q ∧ q ≤ 0) := by
    by_cases c : z ≤ 0
    · rw [if_pos c, e0]
      have := hw z hz
      unfold bd at this
      exact ⟨0, rfl, (wm s z).toInt, this.1, this.2, fun _ => by omega, fun _ => by omega⟩
    · rw [if_neg c]
      have h1 := hw z hz
      have h2 := hw (z - 1) (by omega)
      have := tq16 ((wm s (z - 1)).toInt - (wm s z).toInt)
      exact ⟨_, (hfl _ _ h2 h1).2, _, h2.1, h2.2, this.1, this.2⟩
  obtain ⟨q1, e1, y1, a1, a2, a3, a4⟩ := q1
  obtain ⟨q2, e2, y2, b1, b2, b3, b4⟩ := q2
  have h1 := hw z hz
  unfold exz
  generalize (if 7 ≤ z then (0 : Int32) else (wm s z - wm s (z + 1)) / 16) = x1 at e1
  generalize (if z ≤ 0 then (0 : Int32) else (wm s (z - 1) - wm s z) / 16) = x2 at e2
  generalize wm s z = w at *
  unfold bd at *
  have f1 := i32_sub (x := w) (y := x1) (by omega) (by omega)
  generalize w - x1 = v at f1
  have f2 := i32_add (x := v) (y := x2) (by omega) (by omega)
  omega
/-- what a minute wants of the places: t minutes have gone by -/
def jm (s : Nat → Int32) (t : Nat) (B : Int) : Prop :=
  jp s ∧ jk s ∧ jn s ∧ (∀ z, z < 8 → ∃ r, r ≤ 9 ∧ zn s z 2 = nI r) ∧ (∀ z, z < 8 → ∃ f, f ≤ 3 ∧ zn s z 1 = nI f) ∧ (∀ z, z < 8 → bd (zn s z 3) B) ∧ jw s B ∧ s 0 = nI t ∧ ∀ i, i < nP s → t < (pn s i 0).toNatClampNeg
theorem jn_cg {s s1 : Nat → Int32} (h : jn s) (e : ∀ j, 529 ≤ j → s1 j = s j) : jn s1 := by
  have e1 : nP s1 = nP s := nP_cg (e 529 (by omega))
  have e2 : ∀ i j, pn s1 i j = pn s i j := fun i j => e _ (by omega)
  refine ⟨by rw [e1]; exact h.1, fun i hi => ?_, fun i j hi hj => ?_⟩
  · rw [e1] at hi
    rw [e2, e2, e2]; exact h.2.1 i hi
  · rw [e1] at hi hj
    unfold pcode
    rw [e2, e2, e2, e2]; exact h.2.2 i j hi hj
section Mn
variable {s : Nat → Int32} {F : Nat → UInt32} {L D P t : Nat} {B : Int}
theorem t1_o {j : Nat} (h : j ≠ 0) : time1 s j = s j := if_neg h
theorem t1_0 : time1 s 0 = s 0 + 1 := rfl
theorem t1_nP : nP (time1 s) = nP s := nP_cg (t1_o (by omega))
theorem t1_jn (h : jn s) : jn (time1 s) := jn_cg h (fun j hj => t1_o (by omega))
theorem t1_t (h : s 0 = nI t) : time1 s 0 = nI (t + 1) := by rw [t1_0]; exact nx_add (b := 1) h rfl
/-- behind carrying out -/
theorem mA_1 (hE : tw_wf s L D P) (h : jm s t B) (ht : t < 19999) : jn (carryS (time1 s) (nP s)) ∧ carryS (time1 s) (nP s) 0 = nI (t + 1) ∧ (∀ i, i < nP (carryS (time1 s) (nP s)) → t + 1 < (pn (carryS (time1 s) (nP s)) i 0).toNatClampNeg) ∧ (∀ j, (j = 1 ∨ j = 2 ∨ (43 ≤ j ∧ j < 529) ∨ (3 ≤ j ∧ j < 43 ∧ (j - 3) % 5 ≠ 0)) → carryS (time1 s) (nP s) j = s j) := by
  obtain ⟨h1, h2, h3, h4, h5, h6, h7, h8, h9⟩ := h
  have hE1 := wf_time hE
  have hP := nP_of hE
  rw [hP]
  have hj := carry_jn hE1 (t1_jn h3) (t1_nP.trans hP)
  have e0 : carryS (time1 s) P 0 = nI (t + 1) := (carry_ne hE1 (by omega)).trans (t1_t h8)
  refine ⟨hj.1, e0, fun i hi => ?_, fun j hj => (carry_ne hE1 (by omega)).trans (t1_o (by omega))⟩
  obtain ⟨k, hk, e, hne⟩ := hj.2 i hi
  have e1 : pn (carryS (time1 s) P) i 0 = pn (time1 s) k 0 := congrArg (fun q => q.1) e
  have e2 : pn (time1 s) k 0 = pn s k 0 := t1_o (by omega)
  obtain ⟨t', z', b', g1, -, -, p0, -, -⟩ := h3.2.1 k (by omega)
  have h10 := h9 k (by omega)
  rw [e1, e2]
  rw [t1_t h8, e2, p0] at hne
  rw [p0, nI_clamp (by omega)] at h10 ⊢
  have : t' ≠ t + 1 := fun u => hne (by rw [u])
  omega
theorem mA_2 (hE : tw_wf s L D P) (h : jm s t B) (ht : t < 19999) (h6 : 600 ≤ B) (hB : B ≤ 1000000) : jx (minA s) B (minA s) ∧ jn (minA s) ∧ minA s 0 = nI (t + 1) ∧ (∀ i, i < nP (minA s) → t + 1 < (pn (minA s) i 0).toNatClampNeg) ∧ (∀ z, z < 8 → bd (zn (minA s) z 3) B) ∧ (∀ z, z < 8 → zn (minA s) z 1 = zn s z 1 ∧ zn (minA s) z 2 = zn s z 2) ∧ (∀ j, 43 ≤ j → j < 529 → minA s j = s j) := by
  obtain ⟨c1, c2, c3, c4⟩ := mA_1 hE h ht
  obtain ⟨h1, h2, h3, h4, h5, h6', h7, h8, h9⟩ := h
  have hw1 := wf_carry (wf_time hE)
  rw [← nP_of hE] at hw1
  unfold minA
  generalize carryS (time1 s) (nP s) = s1 at c1 c2 c3 c4 hw1
  have eo : ∀ j, 43 ≤ j → j < 529 → ht2 s1 8 j = s j := fun j a b => (ht2_o (by omega) (by omega)).trans (c4 j (by omega))
  have epl : ∀ p k, p < 24 → k < 5 → pl (ht2 s1 8) p k = pl s p k := fun p k hp hk => eo _ (by omega) (by omega)
  have e9 : ∀ j, 529 ≤ j → ht2 s1 8 j = s1 j := fun j hj => ht2_o (by omega) (by omega)
  have eP : nP (ht2 s1 8) = nP s1 := nP_cg (e9 529 (by omega))
  refine ⟨jx.rf (jp_cg h1 (fun p k hp hk => epl p k hp (by omega)) (fun j a b => eo j (by omega) (by omega))) (jk_cg h2 h1.2.2.1 (fun j a b => eo j (by omega) (by omega))) (fun p hp ho => ?_), jn_cg c1 e9, (ht2_o (by omega) (by omega)).trans c2, fun i hi => ?_, fun z hz => ?_, fun z hz => ?_, eo⟩
  · rw [epl p 2 hp (by omega)]
    exact h7 p hp (fun u => ho ((epl p 0 hp (by omega)).trans u))
  · rw [eP] at hi
    rw [show pn (ht2 s1 8) i 0 = pn s1 i 0 from e9 _ (by omega)]
    exact c3 i hi
  · rw [ht2_3 hz]
    refine exz_bd (fun z hz => ?_) hz h6 hB
    obtain ⟨f, hf, ef⟩ := h5 z hz
    have e3 : zn s1 z 3 = zn s z 3 := c4 _ (by omega)
    have e1 : zn s1 z 1 = zn s z 1 := c4 _ (by omega)
    have hb : bn s1 z < 4 := by have := bnU_le (lf s1 z) (bz s1 z); have := (wf_bz hw1 hz).2; unfold bn; omega
    exact wm_bd hb hf (e1.trans ef) (by rw [e3]; exact h6' z hz) h6 hB
  · exact ⟨(ht2_o (j := 3 + 5 * z + 1) (by omega) (by omega)).trans (c4 _ (by omega)), (ht2_o (j := 3 + 5 * z + 2) (by omega) (by omega)).trans (c4 _ (by omega))⟩
theorem cB_bd (hE : tw_wf s L D P) (hz : ∀ z, z < 8 → bd (zn s z 3) B) (hw : jw s B) (hB : B ≤ 1000000) : ∀ p, p < 24 → oc s p → bd (coolB s s p) B := fun p hp ho => by
  obtain ⟨⟨-, a⟩, -⟩ := wf_pc hE hp ho
  obtain ⟨w, w1, w9, e⟩ := hE.2.2.2.2.2.2.2.2.2 _ a
  unfold coolB
  exact gt_go (hz (p / 3) (by omega)) (hw p hp ho) hB (show w < 10 by omega) e
theorem sgn_bd (x : Int32) : -1 ≤ (sgnI x).toInt ∧ (sgnI x).toInt ≤ 1 := by
  unfold sgnI
  split
  · decide
  · split
    · decide
    · decide
theorem cG_bd (s0 s : Nat → Int32) (p : Nat) : -1 ≤ (coolG s0 s p).toInt ∧ (coolG s0 s p).toInt ≤ 1 := by
  unfold coolG
  split
  · split
    · decide
    · decide
  · decide
theorem cool_zbd (hz : ∀ z, z < 8 → bd (zn s z 3) B) (hB : B ≤ 1000000) (h0 : 0 ≤ B) : ∀ i, i ≤ 24 → ∀ z, z < 8 → bd (zn (cool s F i).1 z 3) (B + min 3 (max 0 ((i : Int) - 3 * z)))
  | 0, _, z, hzz => by
    have := hz z hzz
    unfold bd at this ⊢
    show _ ≤ (zn s z 3).toInt ∧ (zn s z 3).toInt ≤ _
    omega
  | i + 1, hi, z, hzz => by
    have ih := cool_zbd hz hB h0 i (by omega)
    rw [cool_s]
    unfold cool1
    split
    · have := ih z hzz
      unfold bd at this ⊢
      omega
    · have hzn : ∀ w, w < 8 → zn (ps (cool s F i).1 i 2 (coolB s (cool s F i).1 i)) w 3 = zn (cool s F i).1 w 3 := fun w hw => by
        show (if 3 + 5 * w + 3 = 43 + 5 * i + 2 then _ else _) = _
        rw [if_neg (by omega)]
        rfl
      have hG := cG_bd s (cool s F i).1 i
      show bd (if 3 + 5 * z + 3 = 3 + 5 * (i / 3) + 3 then zn (ps (cool s F i).1 i 2 (coolB s (cool s F i).1 i)) (i / 3) 3 + coolG s (cool s F i).1 i else zn (ps (cool s F i).1 i 2 (coolB s (cool s F i).1 i)) z 3) _
      rw [hzn _ (by omega), hzn _ hzz]
      by_cases e : z = i / 3
      · rw [if_pos (by omega)]
        have h1 := ih (i / 3) (by omega)
        generalize zn (cool s F i).1 (i / 3) 3 = x at h1
        generalize coolG s (cool s F i).1 i = y at hG
        unfold bd at h1 ⊢
        have e3 := i32_add (x := x) (y := y) (by omega) (by omega)
        rw [e3]
        omega
      · rw [if_neg (by omega)]
        have := ih z hzz
        unfold bd at this ⊢
        omega
/-- behind cools -/
theorem mB_1 (hE : tw_wf s L D P) (h : jx s B s) (hz : ∀ z, z < 8 → bd (zn s z 3) B) (h6 : 600 ≤ B) (hB : B ≤ 900000) : jx (coolF s F).1 (B + 3) (coolF s F).1 ∧ (∀ z, z < 8 → bd (zn (coolF s F).1 z 3) (B + 3)) ∧ (∀ j, (j < 3 ∨ 163 ≤ j ∨ (3 ≤ j ∧ j < 43 ∧ (j - 3) % 5 ≠ 3)) → (coolF s F).1 j = s j) ∧ (∀ p k, p < 24 → k < 5 → pl (coolF s F).1 p k = pl (hsS s 24) p k) ∧ (∀ p, p < 24 → (coolF s F).2 p = hsF s F 24 p) := by
  obtain ⟨c1, c2, c3⟩ := cool_all (F := F) hE 24 (Nat.le_refl _)
  have c4 := cool_zbd (F := F) hz (by omega) (by omega) 24 (Nat.le_refl _)
  rw [← coolF_eq] at c1 c2 c3 c4
  obtain ⟨h1, h2, h3, -⟩ := h
  have epl : ∀ p k, p < 24 → k < 5 → pl (coolF s F).1 p k = pl (hsS s 24) p k := fun p k hp hk => by
    by_cases c : k = 2 ∧ oc s p
    · rw [c.1, c2 p hp c.2, hsS_2 hp c.2]
    · have : k ≠ 2 ∨ pl s p 0 = -1 := by
        by_cases d : k = 2
        · exact Or.inr (Decidable.byContradiction (fun u => c ⟨d, u⟩))
        · exact Or.inl d
      rw [hsS_pl hk (by rcases this with u | u; exact Or.inl u; exact Or.inr (Or.inr u))]
      refine c1 _ (Or.inr (Or.inr (Or.inl ⟨by omega, by omega, ?_⟩)))
      rcases this with u | u
      · exact Or.inl (by omega)
      · exact Or.inr (Or.inr (by rw [show (43 + 5 * p + k - 43) / 5 = p by omega]; exact u))
  have ep0 : ∀ p k, p < 24 → k < 2 → pl (coolF s F).1 p k = pl s p k := fun p k hp hk => (epl p k hp (by omega)).trans (hsS_pl (by omega) (Or.inl (by omega)))
  have hb := cB_bd hE hz h3 (by omega)
  refine ⟨jx.rf (jp_cg h1 ep0 (fun j a b => c1 j (by omega))) (jk_cg h2 h1.2.2.1 (fun j a b => c1 j (by omega))) (fun p hp ho => ?_), fun z hzz => ?_, fun j hj => c1 j (by omega), epl, fun p hp => ?_⟩
  · have ho2 : oc s p := fun u => ho ((ep0 p 0 hp (by omega)).trans u)
    rw [c2 p hp ho2]
    have := hb p hp ho2
    unfold bd at this ⊢
    omega
  · have := c4 z hzz
    unfold bd at this ⊢
    omega
  · rw [c3 p]; rfl
/-- a minute keeps jm -/
theorem jm_min (hE : tw_wf s L D P) (hn : nnS F) (h : jm s t B) (ht : t < 19999) (h6 : 600 ≤ B) (hB : B ≤ 900000) : jm (minS s F) (t + 1) (B + 3) := by
  obtain ⟨a1, a2, a3, a4, a5, a6, a7⟩ := mA_2 hE h ht h6 (by omega)
  have wA := wf_minA hE
  obtain ⟨b1, b2, b3, -, -⟩ := mB_1 (F := F) wA a1 a5 h6 hB
  have wB := wf_minB hE hn
  have wD := wf_minD hE hn
  have hD := wB.1.2.1.2
  have x1 : jx (minB s F).1 (B + 3) (minC s F).1 := by
    unfold minC
    rw [brkF_eq]
    exact jx_brk b1 24 (Nat.le_refl _)
  have x2 : jx (minB s F).1 (B + 3) (minD s F).1 := by
    unfold minD
    rw [mvF_eq]
    exact jx_mv x1 (by rw [nD_of hE]; exact hE.2.1.2) 24 (Nat.le_refl _)
  have x3 : jx (minB s F).1 (B + 3) (minS s F) := by
    unfold minS
    exact jx_cln1 (c := 1) (jx_cln1 (c := 0) x2 wD.1 (by omega)) (wf_cln1 (c := 0) wD.1 (by omega)) (by omega)
  obtain ⟨y1, y2, y3, y4⟩ := x3
  have eb : ∀ j, fzr j → minS s F j = (minB s F).1 j := y4
  have ec : ∀ j, (j < 3 ∨ j = 163 ∨ j = 464 ∨ 529 ≤ j ∨ (3 ≤ j ∧ j < 43 ∧ (j - 3) % 5 ≠ 3)) → minS s F j = minA s j := fun j hj => (eb j (by unfold fzr; omega)).trans (b3 j (by omega))
  have ez : ∀ z k, z < 8 → k < 5 → k ≠ 3 → zn (minS s F) z k = zn (minA s) z k := fun z k hz hk h3 => ec _ (by omega)
  have eP : nP (minS s F) = nP (minA s) := nP_cg (ec 529 (by omega))
  refine ⟨y1, y2, jn_cg a2 (fun j hj => ec j (by omega)), fun z hz => ?_, fun z hz => ?_, fun z hz => ?_, y3, (ec 0 (by omega)).trans a3, fun i hi => ?_⟩
  · rw [ez z 2 hz (by omega) (by omega), (a6 z hz).2]; exact h.2.2.2.1 z hz
  · rw [ez z 1 hz (by omega) (by omega), (a6 z hz).1]; exact h.2.2.2.2.1 z hz
  · rw [show zn (minS s F) z 3 = zn (minB s F).1 z 3 from eb _ (by unfold fzr; omega)]
    exact b2 z hz
  · rw [eP] at hi
    rw [show pn (minS s F) i 0 = pn (minA s) i 0 from ec _ (by omega)]
    exact a4 i hi
end Mn
theorem coolT_gt {s : Nat → Int32} {F : Nat → UInt32} {p : Nat} (h : lt s (pk s p) 0 = nI (kd s (pk s p))) : coolT s s F p p = gtS (zn s (p / 3) 3) (pl s p 2) (F p) (kd s (pk s p)) (lt s (pk s p) 1) := by
  unfold coolT gtS
  rw [show (pl s p 0).toNatClampNeg = pk s p from rfl, h, show gtB (zn s (p / 3) 3) (pl s p 2) (lt s (pk s p) 1) = coolB s s p from rfl]
  split
  · split
    · rfl
    · split
      · exact va_up_self _ _ _
      · exact va_up_self _ _ _
  · exact va_up_self _ _ _
theorem hs_back {V : gh_V} {g : gh_G} {S i q : Nat} {s : Nat → Int32} {F : Nat → UInt32} {P : Nat → Option Nat} {kx pw : Nat → Nat} (h : px_P V g S P kx pw (hsS s i) (hsF s F i) i) (hi : i < 24) (hJ : jp s) (ho : oc s i) (hPq : P i = some q) (hkk : lt s (pk s i) 0 = nI (kd s (pk s i)))
    (hq : g q = some ((S, 7, cd s i), oo 5 [.ref (kx i), .ref (pw i), .int (nI i), .int (pl s i 3), .int (gtB (zn s (i / 3) 3) (pl s i 2) (lt s (pk s i) 1)), .float (gtS (zn s (i / 3) 3) (pl s i 2) (F i) (kd s (pk s i)) (lt s (pk s i) 1))])) (hk : ky_P V g 9 (kx i) (cd s i)) (hw : wa_P V g (pw i) (kd s (pk s i)) (lt s (pk s i) 1)) : pc_P V g S P kx pw (hsS s (i + 1)) (hsF s F (i + 1)) := by
  have e0 : ∀ k, k < 2 → pl (hsS s i) i k = pl s i k := fun k hk => hsS_pl (by omega) (Or.inl (by omega))
  have ek : pk (hsS s i) i = pk s i := by unfold pk; rw [e0 0 (by omega)]
  have ec : cd (hsS s i) i = cd s i := by unfold cd; rw [ek, e0 1 (by omega)]
  have hJ1 : jp (hsS s i) := jp_cg hJ (fun p k _ hk => hsS_pl (by omega) (Or.inl (by omega))) (fun j a b => hsS_ne (by omega) (by omega))
  have el : ∀ k j, lt (hsS s i) k j = lt s k j := fun k j => hsS_ne (by omega) (by omega)
  refine h.back hi hJ1 (fun u => ho ((e0 0 (by omega)).symm.trans u)) hPq (fun r k hr hk hne => ?_) (fun r hr => ?_) (fun k j hk hj => ?_) ?_ (by rw [ec]; exact hk) (by rw [ek, el, show kd (hsS s i) (pk s i) = kd s (pk s i) from congrArg Int32.toNatClampNeg (el _ 0)]; exact hw)
  · by_cases c : k = 2
    · by_cases d : r < i
      · by_cases o : pl s r 0 = -1
        · rw [hsS_pl (by omega) (Or.inr (Or.inr o)), hsS_pl (by omega) (Or.inr (Or.inr o))]
        · rw [c, hsS_2 (by omega) o, hsS_2 d o]
      · rw [hsS_pl (by omega) (Or.inr (Or.inl (by omega))), hsS_pl (by omega) (Or.inr (Or.inl (by omega)))]
    · rw [hsS_pl (by omega) (Or.inl c), hsS_pl (by omega) (Or.inl c)]
  · unfold hsF
    by_cases c : r < i ∧ ¬ pl s r 0 = -1
    · rw [if_pos c, if_pos ⟨by omega, c.2⟩]
    · rw [if_neg c, if_neg (fun u => c ⟨by omega, u.2⟩)]
  · rw [el]; exact hsS_ne (by omega) (by omega)
  · rw [ec, hsS_pl (by omega) (Or.inl (by omega)), hsS_2 (by omega) ho]
    unfold hsF
    rw [if_pos ⟨by omega, ho⟩, coolT_gt hkk]
    exact hq
theorem hs_V {s : Nat → Int32} {F : Nat → UInt32} {I : Nat → Int32} {A : Nat → Nat → Int32} {a : Nat → Int32} (hV : st_V s I A) (ha : ∀ z, z < 8 → a z = zn (coolF s F).1 z 3) (e : ∀ j, (j < 3 ∨ 163 ≤ j ∨ (3 ≤ j ∧ j < 43 ∧ (j - 3) % 5 ≠ 3)) → (coolF s F).1 j = s j) (e4 : ∀ p, p < 24 → pl (coolF s F).1 p 4 = pl s p 4) : st_V (coolF s F).1 I (va_up A 3 a) := by
  obtain ⟨v0, v1, v2, hz, hs, hc⟩ := hV
  refine ⟨v0.trans (e 0 (by omega)).symm, v1.trans (e 1 (by omega)).symm, v2.trans (e 2 (by omega)).symm, fun z hzz => ?_, fun p hp => (hs p hp).trans (e4 p hp).symm, fun c hcc => ⟨(hc c hcc).1.trans (e _ (by omega)).symm, (hc c hcc).2.trans (e _ (by omega)).symm⟩⟩
  obtain ⟨z0, z1, z2, z3, z4⟩ := hz z hzz
  exact ⟨z0.trans (e _ (by omega)).symm, z1.trans (e _ (by omega)).symm, z2.trans (e _ (by omega)).symm, ha z hzz, z4.trans (e _ (by omega)).symm⟩
theorem cln_V {s : Nat → Int32} {L D P : Nat} {I : Nat → Int32} {A : Nat → Nat → Int32} {c q : Nat} (hE : tw_wf s L D P) (hc2 : c < 2) (hV : st_V s I A) (hq : A 6 c = nI q) (hq24 : q < 24) : st_V (cln1 s c) I (clA9 A c q) := by
  have hV0 := hV
  obtain ⟨v0, v1, v2, hz, hs, hc⟩ := hV
  have e6 : s (525 + 2 * c) = nI q := (hc c hc2).1.symm.trans hq
  have e7 : A 7 c = s (525 + 2 * c + 1) := (hc c hc2).2
  have hup : st_V (upd s (525 + 2 * c + 1) (s (525 + 2 * c + 1) - 1)) I (va_up A 7 (upd (A 7) c (A 7 c - 1))) := by
    refine ⟨v0.trans (cls_o (by omega)).symm, v1.trans (cls_o (by omega)).symm, v2.trans (cls_o (by omega)).symm, fun z hzz => ?_, fun p hp => (hs p hp).trans (cls_o (j := 43 + 5 * p + 4) (by omega)).symm, fun d hd => ⟨(hc d hd).1.trans (cls_o (j := 525 + 2 * d + 0) (by omega)).symm, ?_⟩⟩
    · have e : ∀ k, k < 5 → zn (upd s (525 + 2 * c + 1) (s (525 + 2 * c + 1) - 1)) z k = zn s z k := fun k hk => cls_o (by omega)
      rw [e 0 (by omega), e 1 (by omega), e 2 (by omega), e 3 (by omega), e 4 (by omega)]; exact hz z hzz
    · show upd (A 7) c (A 7 c - 1) d = upd s _ _ (525 + 2 * d + 1)
      unfold upd
      by_cases e : d = c
      · rw [if_pos e, e, if_pos rfl, e7]
      · rw [if_neg e, if_neg (by omega)]; exact (hc d hd).2
  unfold cln1 clA9
  rw [e7]
  split
  · exact hV0
  · split
    · rw [e6, nI_clamp (by omega), ← e7]
      have hup2 := hup
      rw [← e7] at hup2
      exact ps4_V hq24 hup2
    · rw [← e7]; rw [e7] at hup ⊢; exact hup
noncomputable def gvF (s b a : Nat → Int32) : Nat → Int32 := frz (gv9 s b a 24)
theorem gvF_eq (s b a : Nat → Int32) : gvF s b a = gv9 s b a 24 := frz_eq _
theorem gvF_N {N : Nat} (h : N = 24) (s b a : Nat → Int32) : gv9 s b a N = gvF s b a := by rw [h, gvF_eq]
set_option maxRecDepth 100000
theorem fX2_319_5 : gh_fd RX2 319 5 4 .int false := gh_fd.own (T := TX6) tyX6 rfl in_X6 tyX6_ok nmX6 (by decide) q1677 rfl rfl (fun h => by cases h)
set_option maxHeartbeats 1000000 in
set_option maxRecDepth 100000 in
theorem j_X2_giveHeat (l : Launch) (V : gh_V) (g0 : gh_G) (S : Nat) (ad : Nat → Nat) (I : Nat → Int32) (A : Nat → Nat → Int32) (P : Nat → Option Nat) (hT0 : st_C V g0 S ad I A P) (s : Nat → Int32) (F : Nat → UInt32) (kx pw : Nat → Nat) (hPc0 : pc_P V g0 S P kx pw s F) (b9 n9 : Nat) (fb : Nat → Int32) (hb0 : g0 b9 = some ((S, 3, n9), ai V 0 8 fb)) : MV l yX2_giveHeat cX2_giveHeat 4 ({ frames := 1, cells := 0, slots := 0, locals := 20 } : Room) V [.ref S, .ref b9] g0 (fun g1 => st_C V g1 S ad I (va_up A 3 (gvF s fb (A 3))) P ∧ gh_fw S [0] g0 g1) := by
  refine MG.of RX2 (by decide) rfl (Nat.le_of_ble_eq_true rfl) (fun pp ee s9 mm args below meth c ls hC hg hr hlk hnm hl => ?_)
  have hx := hC.1.1
  have hb := hC.1.2.1
  have hml := hC.1.2.2.1
  have hown := hC.1.2.2.2.1
  have hts := hC.1.2.2.2.2
  have hl : lv_has ls 4 [(0, .ref S), (1, .ref b9)] := hl
  obtain ⟨g, hg, hgg⟩ : ∃ g, gh_W V (gh_A g0 s9.heap.size) s9 g s9.heap [] ∧ g = g0 := ⟨g0, hg, rfl⟩
  have hT := hT0
  rw [← hgg] at hT
  have hF : gh_fw S [0] g0 g := by rw [hgg]; exact gh_fw.rf
  have hPc := hPc0
  have hbb := hb0
  rw [← hgg] at hPc hbb
  obtain ⟨N9, hN9⟩ : ∃ n : Nat, n = 24 := ⟨24, rfl⟩
  refine lv_iconst (v := 0) hx hb dX2_giveHeat_0 (by decide) ?_
  refine lv_istore_n (lv' := [(2, .int 0), (0, .ref S), (1, .ref b9)]) hx hb dX2_giveHeat_1 rfl hl (by decide) rfl (fun ls hl => ?_)
  refine gh_loop (N := N9) (X := fun i_1 g ls => (st_C V g S ad I (va_up A 3 (gv9 s fb (A 3) i_1)) P) ∧ (gh_fw S [0] g0 g) ∧ (pc_P V g S P kx pw s F) ∧ (g b9 = some ((S, 3, n9), ai V 0 8 fb)) ∧ lv_has ls 4 [(0, .ref S), (1, .ref b9), (2, .int (nI i_1))]) ?_ ?_ 0 (by omega) hg ⟨(hT.eqA (fam8 rfl rfl rfl rfl rfl rfl rfl rfl (fun _ => rfl))), hF, hPc, hbb, lv_sub hl [1, 2, 0] rfl⟩
  · intro g H locs ls hg hX
    obtain ⟨hT, hF, hPc, hbb, hl⟩ := hX
    refine lv_iload_n hx hb dX2_giveHeat_2 rfl (lv_at hl 2 rfl) ?_
    refine lv_bipush (v := 24) hx hb dX2_giveHeat_3 (by decide) ?_
    refine lv_icmp_ge (tgt := 53) hx hb dX2_giveHeat_5 (by decide) (fun _ => ?_) (fun c_2 => (absurd ((nx_le (show ((24 : Int32)) = nI 24 from rfl) rfl (by omega) (by omega)).mpr (by omega)) c_2))
    exact gh_retv hC hg hr hlk (⟨by rw [← gvF_N hN9]; exact hT, hF⟩) dX2_giveHeat_53 (Nat.le_of_ble_eq_true rfl) (Nat.le_of_ble_eq_true rfl)
  · intro i_1 hi2 ih2 g H locs ls hg hX
    obtain ⟨hT, hF, hPc, hbb, hl⟩ := hX
    have hi24 : i_1 < 24 := by omega
    refine lv_iload_n hx hb dX2_giveHeat_2 rfl (lv_at hl 2 rfl) ?_
    refine lv_bipush (v := 24) hx hb dX2_giveHeat_3 (by decide) ?_
    refine lv_icmp_ge (tgt := 53) hx hb dX2_giveHeat_5 (by decide) (fun c_3 => (absurd ((nx_le (show ((24 : Int32)) = nI 24 from rfl) rfl (by omega) (by omega)).mp c_3) (by omega))) (fun _ => ?_)
    refine lv_aload_n hx hb dX2_giveHeat_8 rfl (lv_at hl 0 rfl) ?_
    refine gh_get (v := .ref (ad 8)) hC hg hT.1 fX2_17_2 rfl dX2_giveHeat_9 ?_
    refine lv_iload_n hx hb dX2_giveHeat_12 rfl (lv_at hl 2 rfl) ?_
    refine gh_qald (n := 24) (f := P) hC hg hT.2.2 rfl rfl (by omega) (by omega) dX2_giveHeat_13 ?_
    refine lv_ifnullQ (tgt := 47) hx hb dX2_giveHeat_14 (by decide) (fun hq_4 => ?_) (fun y_5 hq_4 => ?_)
    · skip
      have hno := (pc_free hPc hi24).mp hq_4
      refine lv_iinc (v := (nI (i_1 + 1))) (lv' := [(2, .int (nI (i_1 + 1))), (0, .ref S), (1, .ref b9)]) hx hb dX2_giveHeat_47 hl (k := 2) rfl (nx_iinc rfl) (by decide) rfl (fun ls hl => ?_)
      refine lv_goto (tgt := 2) hx hb dX2_giveHeat_50 (by decide) ?_
      exact ih2 _ _ _ _ hg ⟨(hT.eqA (fam8 rfl rfl rfl (gv9_no hno).symm rfl rfl rfl rfl (fun _ => rfl))), hF, hPc, hbb, lv_sub hl [1, 2, 0] rfl⟩
    have ho9 : oc s i_1 := fun h9 => by have h8 := (hPc i_1 hi24).1 h9; rw [h8] at hq_4; cases hq_4
    obtain ⟨q9, hPq, hqc, hky, hwa⟩ := (hPc i_1 hi24).2 ho9
    obtain rfl : q9 = y_5 := Option.some.inj (hPq.symm.trans hq_4)
    refine lv_iload_n hx hb dX2_giveHeat_17 rfl (lv_at hl 2 rfl) ?_
    refine gh_calli hg (gh_runS (As := [.int (nI i_1)]) (rest := []) hC hg (j_X2_zoneOf l V _ i_1 (by omega)) 1 (lw_S q2712 q2713 q104 q2714) hd_X2_zoneOf.2 ⟨Nat.le_of_ble_eq_true rfl, Nat.le_of_ble_eq_true rfl⟩ rfl hl.1 rfl (Nat.le_of_ble_eq_true rfl) dX2_giveHeat_18 ⟨Nat.le_of_ble_eq_true rfl, Nat.le_of_ble_eq_true rfl⟩) (fun r_6 g H locs hg hp => ?_)
    obtain ⟨hp, hq⟩ := hp
    replace hp : (nI (i_1 / 3)) = r_6 := hp.symm
    subst hp
    rw [← hq] at hT hF hPc hbb hqc
    try rw [← hq] at hgg
    refine lv_istore_n (lv' := [(3, .int (nI (i_1 / 3))), (0, .ref S), (1, .ref b9), (2, .int (nI i_1))]) hx hb dX2_giveHeat_21 rfl hl (by decide) rfl (fun ls hl => ?_)
    refine lv_aload_n hx hb dX2_giveHeat_22 rfl (lv_at hl 1 rfl) ?_
    refine gh_get (v := .ref (ad 3)) hC hg hT.1 fX2_54_2 rfl dX2_giveHeat_23 ?_
    refine lv_iload_n hx hb dX2_giveHeat_26 rfl (lv_at hl 0 rfl) ?_
    refine lv_dup2_11 hx hb dX2_giveHeat_27 rfl rfl ?_
    refine gh_iald (n := 8) (f := (gv9 s fb (A 3) i_1)) hC hg hT.a3 rfl (by omega) (by omega) dX2_giveHeat_28 ?_
    refine lv_aload_n hx hb dX2_giveHeat_29 rfl (lv_at hl 1 rfl) ?_
    refine gh_get (v := .ref (ad 8)) hC hg hT.1 fX2_17_2 rfl dX2_giveHeat_30 ?_
    refine lv_iload_n hx hb dX2_giveHeat_33 rfl (lv_at hl 3 rfl) ?_
    refine gh_qald (n := 24) (f := P) hC hg hT.2.2 rfl rfl (by omega) (by omega) dX2_giveHeat_34 ?_
    refine W.eq (g2 := F0 mm 35 ls [.ref q9, .int ((gv9 s fb (A 3) i_1) (i_1 / 3)), .int (nI (i_1 / 3)), .ref (ad 3)]) (by rw [hPq] <;> rfl) ?_
    refine gh_get (v := .int (pl s i_1 2)) hC hg hqc fX2_319_5 rfl dX2_giveHeat_35 ?_
    refine lv_aload_n hx hb dX2_giveHeat_38 rfl (lv_at hl 2 rfl) ?_
    refine lv_iload_n hx hb dX2_giveHeat_39 rfl (lv_at hl 0 rfl) ?_
    refine gh_iald (n := 8) (f := fb) hC hg hbb rfl (by omega) (by omega) dX2_giveHeat_40 ?_
    refine lv_isub hx hb dX2_giveHeat_41 ?_
    refine gh_calli hg (gh_runS (As := [.int ((pl s i_1 2) - (fb (i_1 / 3)))]) (rest := [.int ((gv9 s fb (A 3) i_1) (i_1 / 3)), .int (nI (i_1 / 3)), .ref (ad 3)]) hC hg (j_J23_signum l V _ ((pl s i_1 2) - (fb (i_1 / 3)))) 1 (lw_S q2758 q2701 q129 q2702) hd_J23_signum.2 ⟨Nat.le_of_ble_eq_true rfl, Nat.le_of_ble_eq_true rfl⟩ rfl hl.1 rfl (Nat.le_of_ble_eq_true rfl) dX2_giveHeat_42 ⟨Nat.le_of_ble_eq_true rfl, Nat.le_of_ble_eq_true rfl⟩) (fun r_7 g H locs hg hp => ?_)
    obtain ⟨hp, hq⟩ := hp
    replace hp : (sgnI ((pl s i_1 2) - (fb (i_1 / 3)))) = r_7 := hp.symm
    subst hp
    rw [← hq] at hT hF hPc hbb hqc
    try rw [← hq] at hgg
    refine lv_iadd hx hb dX2_giveHeat_45 ?_
    refine gh_iast (n := 8) (f := (gv9 s fb (A 3) i_1)) hC hg hT.a3 rfl (by omega) (by omega) dX2_giveHeat_46 (fun g H locs hg hw hn => ?_)
    have hbb : g b9 = some ((S, 3, n9), ai V 0 8 fb) := (hn _ (gh_neK hbb hT.a3 rfl)).trans hbb
    have hqc : g q9 = some ((S, 7, (cd s i_1)), oo 5 [.ref (kx i_1), .ref (pw i_1), .int (nI i_1), .int (pl s i_1 3), .int (pl s i_1 2), .float (F i_1)]) := (hn _ (gh_neK hqc hT.a3 rfl)).trans hqc
    have hf9 : gh_fv S [0] _ g := (gh_fw.st hT.a3 hn).v
    have hF : gh_fw S [0] g0 g := hF.set hT.a3 (by decide) hn
    have hPc : pc_P V g S P kx pw s F := hPc.kp hf9 (by decide)
    have hT : st_C V g S ad I (va_up (va_up A 3 (gv9 s fb (A 3) i_1)) 3 (upd (gv9 s fb (A 3) i_1) (i_1 / 3) (((gv9 s fb (A 3) i_1) (i_1 / 3)) + (sgnI ((pl s i_1 2) - (fb (i_1 / 3))))))) P := hT.setA 3 (by decide) hw hn
    refine lv_iinc (v := (nI (i_1 + 1))) (lv' := [(2, .int (nI (i_1 + 1))), (3, .int (nI (i_1 / 3))), (0, .ref S), (1, .ref b9)]) hx hb dX2_giveHeat_47 hl (k := 3) rfl (nx_iinc rfl) (by decide) rfl (fun ls hl => ?_)
    refine lv_goto (tgt := 2) hx hb dX2_giveHeat_50 (by decide) ?_
    exact ih2 _ _ _ _ hg ⟨(hT.eqA (fam8 rfl rfl rfl (gv9_yes ho9).symm rfl rfl rfl rfl (fun _ => rfl))), hF, hPc, hbb, lv_sub hl [2, 3, 0] rfl⟩
