/-! carriesOut -/
def mvj (s : Nat → Int32) (lft k : Nat) : Nat → (Nat → Int32)
  | 0 => s
  | j + 1 => upd (mvj s lft k j) (530 + 3 * lft + j) (mvj s lft k j (530 + 3 * k + j))
def co (s : Nat → Int32) : Nat → (Nat → Int32) × Nat
  | 0 => (s, 0)
  | k + 1 => if (co s k).1 (530 + 3 * k) = (co s k).1 0 then (zs (co s k).1 ((co s k).1 (530 + 3 * k + 1)).toNatClampNeg 0 ((co s k).1 (530 + 3 * k + 2)), (co s k).2) else (mvj (co s k).1 (co s k).2 k 3, (co s k).2 + 1)
theorem co_s (s : Nat → Int32) (k : Nat) : co s (k + 1) = if (co s k).1 (530 + 3 * k) = (co s k).1 0 then (zs (co s k).1 ((co s k).1 (530 + 3 * k + 1)).toNatClampNeg 0 ((co s k).1 (530 + 3 * k + 2)), (co s k).2) else (mvj (co s k).1 (co s k).2 k 3, (co s k).2 + 1) := rfl
theorem mvj_ne {s : Nat → Int32} {lft k j : Nat} (h : j < 530 + 3 * lft ∨ 530 + 3 * lft + 3 ≤ j) : ∀ n, n ≤ 3 → mvj s lft k n j = s j
  | 0, _ => rfl
  | n + 1, hn => by
    show upd _ _ _ j = _
    unfold upd
    rw [if_neg (by omega)]
    exact mvj_ne h n (by omega)
theorem mvj_529 {s : Nat → Int32} {lft k : Nat} (n : Nat) (hn : n ≤ 3) {v : Int32} (h : s 529 = v) : mvj s lft k n 529 = v := (mvj_ne (Or.inl (by omega)) n hn).trans h
/-- behind k plans: no more left than read; what isn't read is as it was -/
theorem co_inv {s : Nat → Int32} {L D P : Nat} (h : tw_wf s L D P) : ∀ k, k ≤ P → (co s k).2 ≤ k ∧ (∀ j, (j < 3 ∨ 43 ≤ j) → (j < 530 ∨ 530 + 3 * k ≤ j) → (co s k).1 j = s j) ∧ (∀ j, 3 ≤ j → j < 43 → (j - 3) % 5 ≠ 0 → (co s k).1 j = s j)
  | 0, _ => ⟨Nat.le_refl _, fun _ _ _ => rfl, fun _ _ _ _ => rfl⟩
  | k + 1, hk => by
    obtain ⟨i1, i2, i3⟩ := co_inv h k (by omega)
    have hz : ∃ z, z < 8 ∧ (co s k).1 (530 + 3 * k + 1) = nI z := by
      rw [i2 _ (by omega) (by omega)]
      exact (h.2.2.2.2.2.2.1 k (by omega)).1
    obtain ⟨z, hz, ez⟩ := hz
    rw [co_s]
    split
    · refine ⟨by show (co s k).2 ≤ k + 1; omega, fun j h1 h2 => ?_, fun j h1 h2 h3 => ?_⟩
      · show zs _ _ _ _ j = _
        unfold zs upd
        rw [ez, nI_clamp (by omega), if_neg (by omega)]
        exact i2 j h1 (by omega)
      · show zs _ _ _ _ j = _
        unfold zs upd
        rw [ez, nI_clamp (by omega), if_neg (by omega)]
        exact i3 j h1 h2 h3
    · refine ⟨by show (co s k).2 + 1 ≤ k + 1; omega, fun j h1 h2 => ?_, fun j h1 h2 h3 => ?_⟩
      · show mvj _ _ _ 3 j = _
        rw [mvj_ne (by omega) 3 (by omega)]
        exact i2 j h1 (by omega)
      · show mvj _ _ _ 3 j = _
        rw [mvj_ne (by omega) 3 (by omega)]
        exact i3 j h1 h2 h3
theorem co_529 {s : Nat → Int32} {L D P : Nat} (h : tw_wf s L D P) {k : Nat} (hk : k ≤ P) : (co s k).1 529 = nI P := by
  rw [(co_inv h k hk).2.1 529 (by omega) (by omega)]; exact h.2.2.1.1
theorem co_zone {s : Nat → Int32} {L D P : Nat} (h : tw_wf s L D P) {k : Nat} (hk : k < P) : (co s k).1 (530 + 3 * k + 1) = nI ((co s k).1 (530 + 3 * k + 1)).toNatClampNeg ∧ ((co s k).1 (530 + 3 * k + 1)).toNatClampNeg < 8 := by
  rw [(co_inv h k (by omega)).2.1 _ (by omega) (by omega)]
  obtain ⟨z, hz, e⟩ := (h.2.2.2.2.2.2.1 k hk).1
  have e : s (530 + 3 * k + 1) = nI z := e
  rw [e, nI_clamp (by omega)]
  exact ⟨rfl, hz⟩
def carryS (s : Nat → Int32) (P : Nat) : Nat → Int32 := upd (clr (co s P).1 (530 + 3 * (co s P).2) (530 + 3 * P - (530 + 3 * (co s P).2))) 529 (nI (co s P).2)
/-- what the plans hold behind k -/
theorem co_pl {s : Nat → Int32} {L D P : Nat} (h : tw_wf s L D P) : ∀ k, k ≤ P → (∀ j, j < (co s k).2 → ∃ i, i < P ∧ ∀ q, q < 3 → pn (co s k).1 j q = pn s i q) ∧ ∀ z, z < 8 → zn (co s k).1 z 0 = zn s z 0 ∨ ∃ i, i < P ∧ zn (co s k).1 z 0 = pn s i 2
  | 0, _ => ⟨fun j hj => absurd hj (Nat.not_lt_zero _), fun z hz => Or.inl rfl⟩
  | k + 1, hk => by
    obtain ⟨j1, j2⟩ := co_pl h k (by omega)
    obtain ⟨i1, i2, i3⟩ := co_inv h k (by omega)
    have hrd : ∀ q, q < 3 → (co s k).1 (530 + 3 * k + q) = pn s k q := fun q hq => i2 _ (by omega) (by omega)
    have hz := co_zone h (k := k) (by omega)
    rw [co_s]
    split
    · refine ⟨fun j hj => ?_, fun z hz' => ?_⟩
      · obtain ⟨i, hi, e⟩ := j1 j hj
        refine ⟨i, hi, fun q hq => ?_⟩
        rw [← e q hq]
        show zs _ _ _ _ (530 + 3 * j + q) = _
        unfold zs upd
        rw [if_neg (by omega)]
        rfl
      · by_cases hzz : z = ((co s k).1 (530 + 3 * k + 1)).toNatClampNeg
        · refine Or.inr ⟨k, by omega, ?_⟩
          show zs _ _ _ _ (3 + 5 * z + 0) = _
          unfold zs upd
          rw [← hzz, if_pos rfl]
          exact hrd 2 (by omega)
        · have e : zn (zs (co s k).1 ((co s k).1 (530 + 3 * k + 1)).toNatClampNeg 0 ((co s k).1 (530 + 3 * k + 2))) z 0 = zn (co s k).1 z 0 := by
            show zs _ _ _ _ (3 + 5 * z + 0) = _
            unfold zs upd
            rw [if_neg (by omega)]
            rfl
          rcases j2 z hz' with e1 | ⟨i, hi, e1⟩
          · exact Or.inl (e.trans e1)
          · exact Or.inr ⟨i, hi, e.trans e1⟩
    · refine ⟨fun j hj => ?_, fun z hz' => ?_⟩
      · have hj : j < (co s k).2 + 1 := hj
        by_cases hjl : j = (co s k).2
        · refine ⟨k, by omega, fun q hq => ?_⟩
          rw [← hrd q hq]
          subst hjl
          show mvj _ _ _ 3 (530 + 3 * (co s k).2 + q) = _
          generalize (co s k).1 = s1 at *
          generalize (co s k).2 = l1 at *
          have hq : q = 0 ∨ q = 1 ∨ q = 2 := by omega
          rcases hq with rfl | rfl | rfl
          · simp only [mvj, upd]
            rw [if_neg (by omega), if_neg (by omega), if_pos True.intro]
          · simp only [mvj, upd]
            rw [if_neg (by omega), if_pos True.intro]
            by_cases hk2 : k = l1
            · subst hk2; rw [if_neg (by omega)]
            · rw [if_neg (by omega)]
          · simp only [mvj, upd]
            rw [if_pos True.intro, if_neg (by omega), if_neg (by omega)]
        · obtain ⟨i, hi, e⟩ := j1 j (by omega)
          refine ⟨i, hi, fun q hq => ?_⟩
          rw [← e q hq]
          exact mvj_ne (by omega) 3 (by omega)
      · have e : zn (mvj (co s k).1 (co s k).2 k 3) z 0 = zn (co s k).1 z 0 := mvj_ne (by omega) 3 (by omega)
        rcases j2 z hz' with e1 | ⟨i, hi, e1⟩
        · exact Or.inl (e.trans e1)
        · exact Or.inr ⟨i, hi, e.trans e1⟩
theorem carry_ne {s : Nat → Int32} {L D P : Nat} (h : tw_wf s L D P) {j : Nat} (h1 : j < 3 ∨ (43 ≤ j ∧ j < 529) ∨ (3 ≤ j ∧ j < 43 ∧ (j - 3) % 5 ≠ 0)) : carryS s P j = s j := by
  obtain ⟨i1, i2, i3⟩ := co_inv h P (Nat.le_refl _)
  unfold carryS upd clr
  rw [if_neg (by omega), if_neg (by omega)]
  rcases h1 with h1 | h1 | h1
  · exact i2 j (by omega) (by omega)
  · exact i2 j (by omega) (by omega)
  · exact i3 j h1.1 h1.2.1 h1.2.2
theorem wf_carry {s : Nat → Int32} {L D P : Nat} (h : tw_wf s L D P) : tw_wf (carryS s P) L D (co s P).2 := by
  obtain ⟨i1, i2, i3⟩ := co_inv h P (Nat.le_refl _)
  obtain ⟨j1, j2⟩ := co_pl h P (Nat.le_refl _)
  have hh := h
  obtain ⟨⟨h1, h2⟩, ⟨h3, h4⟩, ⟨h5, h6⟩, h7, h8, h9, h10, h11, h12, h13⟩ := h
  have ne := fun (j : Nat) (q : j < 3 ∨ (43 ≤ j ∧ j < 529) ∨ (3 ≤ j ∧ j < 43 ∧ (j - 3) % 5 ≠ 0)) => carry_ne hh q
  refine ⟨⟨(ne _ (by omega)).trans h1, h2⟩, ⟨(ne _ (by omega)).trans h3, h4⟩, ⟨by unfold carryS; exact upd_self _ _ _, by omega⟩, fun q hq hn => ?_, fun i hi => ?_, fun z hz => ?_, fun k hk => ?_, fun c hc => ?_, ?_, fun i hi => ?_⟩
  · have a0 : pl (carryS s P) q 0 = pl s q 0 := ne _ (by omega)
    have a1 : pl (carryS s P) q 1 = pl s q 1 := ne _ (by omega)
    rw [a0] at hn ⊢; rw [a1]; exact h7 q hq hn
  · have a : lt (carryS s P) i 2 = lt s i 2 := ne _ (by omega)
    rw [a]; exact h8 i hi
  · have a : zn (carryS s P) z 0 = zn (co s P).1 z 0 := by
      show carryS s P (3 + 5 * z + 0) = _
      unfold carryS upd clr
      rw [if_neg (by omega), if_neg (by omega)]
      rfl
    rw [a]
    rcases j2 z hz with e | ⟨i, hi, e⟩
    · rw [e]; exact h9 z hz
    · rw [e]; exact (h10 i hi).2
  · obtain ⟨i, hi, e⟩ := j1 k hk
    have a : ∀ q, q < 3 → pn (carryS s P) k q = pn s i q := fun q hq => by
      rw [← e q hq]
      show carryS s P (530 + 3 * k + q) = _
      unfold carryS upd clr
      rw [if_neg (by omega), if_neg (by omega)]
      rfl
    rw [a 1 (by omega), a 2 (by omega)]
    exact h10 i hi
  · have a : cl (carryS s P) c 0 = cl s c 0 := ne _ (by omega)
    rw [a]; exact h11 c hc
  · rw [ne 1 (by omega)]; exact h12
  · have a : lt (carryS s P) i 1 = lt s i 1 := ne _ (by omega)
    rw [a]; exact h13 i hi
/-! comesOut, moves -/
def fateN (s : Nat → Int32) (st : Nat → UInt32) (p : Nat) : Int32 := if pl s p 2 ≤ 150 then (if Op.cmpValue (FP.fcmp (st p) (FP.fdiv (FP.i2f (sp_limit (lt s (pl s p 0).toNatClampNeg 0))) FP.fconst2)) .l ≤ 0 then 1 else 2) else 3
def coutS (s : Nat → Int32) (st : Nat → UInt32) (D : Nat) : Nat → Int32 := if fateN s st 23 = 1 then goodS (endS s 23 (fateN s st 23)) (pl s 23 0).toNatClampNeg D else endS s 23 (fateN s st 23)
def shS (s : Nat → Int32) (p : Nat) : Nat → (Nat → Int32)
  | 0 => s
  | k + 1 => ps (ps (shS s p k) (p + 1) k (pl (shS s p k) p k)) p k 0
def shiftS (s : Nat → Int32) (p : Nat) : Nat → Int32 := ps (ps (ps (shS s p 3) (p + 1) 3 0) p 3 0) p 0 (-1)
def shiftT (st : Nat → UInt32) (p : Nat) : Nat → UInt32 := va_up (va_up st (p + 1) (st p)) p FP.fconst0
def tick (s : Nat → Int32) (p : Nat) : Nat → Int32 := ps s p 3 (pl s p 3 + 1)
def mv1 (D : Nat) (x : (Nat → Int32) × (Nat → UInt32) × Int32) (p : Nat) : (Nat → Int32) × (Nat → UInt32) × Int32 :=
  if pl x.1 p 0 = -1 then x else
  if zn (tick x.1 p) (p / 3) 2 ≤ 0 then (tick x.1 p, x.2) else
  if pl (tick x.1 p) p 3 < zn (tick x.1 p) (p / 3) 2 then (tick x.1 p, x.2) else
  if p = 23 then (coutS (tick x.1 p) x.2.1 D, va_up x.2.1 23 FP.fconst0, x.2.2 + 1) else
  if pl (tick x.1 p) (p + 1) 0 = -1 ∧ pl (tick x.1 p) (p + 1) 4 = 0 then (shiftS (tick x.1 p) p, shiftT x.2.1 p, x.2.2) else (tick x.1 p, x.2)
/-- behind the places 23 .. 24 - i -/
def mv (s : Nat → Int32) (st : Nat → UInt32) (D : Nat) : Nat → (Nat → Int32) × (Nat → UInt32) × Int32
  | 0 => (s, st, 0)
  | i + 1 => mv1 D (mv s st D i) (24 - i - 1)
theorem mv_s (s : Nat → Int32) (st : Nat → UInt32) (D i : Nat) : mv s st D (i + 1) = mv1 D (mv s st D i) (24 - i - 1) := rfl
noncomputable def mvF (s : Nat → Int32) (st : Nat → UInt32) (D : Nat) : (Nat → Int32) × (Nat → UInt32) × Int32 := frz (mv s st D 24)
theorem mvF_eq (s : Nat → Int32) (st : Nat → UInt32) (D : Nat) : mvF s st D = mv s st D 24 := frz_eq _
theorem mvF_N {N : Nat} (h : N = 24) (s : Nat → Int32) (st : Nat → UInt32) (D : Nat) : mv s st D N = mvF s st D := by rw [h, mvF_eq]
/-! cleans -/
def cln1 (s : Nat → Int32) (c : Nat) : Nat → Int32 :=
  if s (525 + 2 * c + 1) ≤ 0 then s else
  if s (525 + 2 * c + 1) - 1 = 0 then ps (upd s (525 + 2 * c + 1) (s (525 + 2 * c + 1) - 1)) (s (525 + 2 * c)).toNatClampNeg 4 0 else upd s (525 + 2 * c + 1) (s (525 + 2 * c + 1) - 1)
def cln (s : Nat → Int32) : Nat → (Nat → Int32)
  | 0 => s
  | c + 1 => cln1 (cln s c) c
theorem cln_s (s : Nat → Int32) (c : Nat) : cln s (c + 1) = cln1 (cln s c) c := rfl
theorem wf_cl {s : Nat → Int32} {L D P c : Nat} (h : tw_wf s L D P) (hc : c < 2) : s (525 + 2 * c) = nI (s (525 + 2 * c)).toNatClampNeg ∧ (s (525 + 2 * c)).toNatClampNeg < 24 := by
  obtain ⟨q, hq, e⟩ := h.2.2.2.2.2.2.2.1 c hc
  have e : s (525 + 2 * c) = nI q := e
  rw [e, nI_clamp (by omega)]
  exact ⟨rfl, hq⟩
theorem wf_cln1 {s : Nat → Int32} {L D P c : Nat} (h : tw_wf s L D P) (hc : c < 2) : tw_wf (cln1 s c) L D P := by
  unfold cln1
  split
  · exact h
  · split
    · exact wf_upd (wf_upd h (nJ_cl hc) _) (nJ_pl (wf_cl h hc).2 (by omega) (by omega)) _
    · exact wf_upd h (nJ_cl hc) _
theorem wf_cln {s : Nat → Int32} {L D P : Nat} (h : tw_wf s L D P) : ∀ c, c ≤ 2 → tw_wf (cln s c) L D P
  | 0, _ => h
  | c + 1, hc => wf_cln1 (wf_cln h c (by omega)) (by omega)
theorem wf_dlv {s : Nat → Int32} {L D P i d : Nat} (h : tw_wf s L D P) (hi : i < 12) (hd : d < 10) : tw_wf (dlv s i d) L D P :=
  wf_upd (wf_upd (wf_upd h (nJ_lt hi (by omega) (by omega)) _) (nJ_od hd (by omega)) _) (nJ_od hd (by omega)) _
theorem wf_good {s : Nat → Int32} {L D P i : Nat} (h : tw_wf s L D P) (hi : i < 12) : tw_wf (goodS s i D) L D P := by
  have hD := h.2.1.2
  unfold goodS
  split
  · exact wf_upd h (nJ_lt hi (by omega) (by omega)) _
  · rename_i hb
    exact wf_dlv h hi (by have := (bo_nat (by omega) hb).1; omega)
theorem wf_tick {s : Nat → Int32} {L D P p : Nat} (h : tw_wf s L D P) (hp : p < 24) : tw_wf (tick s p) L D P := wf_upd h (nJ_pl hp (by omega) (by omega)) _
theorem wf_cout {s : Nat → Int32} {st : Nat → UInt32} {L D P : Nat} (h : tw_wf s L D P) (hn : ¬ pl s 23 0 = -1) : tw_wf (coutS s st D) L D P := by
  obtain ⟨⟨-, hi⟩, -⟩ := wf_pc h (q := 23) (by omega) hn
  have hL := h.1.2
  unfold coutS
  split
  · exact wf_good (wf_endS h (by omega) hn) (by omega)
  · exact wf_endS h (by omega) hn
theorem shift_ne {s : Nat → Int32} {p j : Nat} (h : j < 43 + 5 * p ∨ 43 + 5 * p + 10 ≤ j) : shiftS s p j = s j := by
  simp only [shiftS, shS, ps, upd, pl]
  rw [if_neg (by omega), if_neg (by omega), if_neg (by omega), if_neg (by omega), if_neg (by omega), if_neg (by omega), if_neg (by omega), if_neg (by omega), if_neg (by omega)]
theorem shift_p0 {s : Nat → Int32} {p : Nat} : pl (shiftS s p) p 0 = -1 := by
  show shiftS s p (43 + 5 * p + 0) = -1
  simp only [shiftS, ps, upd]
  simp
theorem shift_q {s : Nat → Int32} {p k : Nat} (hk : k < 3) : pl (shiftS s p) (p + 1) k = pl s p k := by
  have hk : k = 0 ∨ k = 1 ∨ k = 2 := by omega
  rcases hk with rfl | rfl | rfl
  · show shiftS s p (43 + 5 * (p + 1) + 0) = s (43 + 5 * p + 0)
    simp only [shiftS, shS, ps, upd, pl]
    rw [if_neg (by omega), if_neg (by omega), if_neg (by omega), if_neg (by omega), if_neg (by omega), if_neg (by omega), if_neg (by omega), if_neg (by omega), if_pos True.intro]
  · show shiftS s p (43 + 5 * (p + 1) + 1) = s (43 + 5 * p + 1)
    simp only [shiftS, shS, ps, upd, pl]
    rw [if_neg (by omega), if_neg (by omega), if_neg (by omega), if_neg (by omega), if_neg (by omega), if_neg (by omega), if_pos True.intro, if_neg (by omega), if_neg (by omega)]
  · show shiftS s p (43 + 5 * (p + 1) + 2) = s (43 + 5 * p + 2)
    simp only [shiftS, shS, ps, upd, pl]
    rw [if_neg (by omega), if_neg (by omega), if_neg (by omega), if_neg (by omega), if_pos True.intro, if_neg (by omega), if_neg (by omega), if_neg (by omega), if_neg (by omega)]
theorem wf_shift {s : Nat → Int32} {L D P p : Nat} (h : tw_wf s L D P) (hp : p < 23) (hn : ¬ pl s p 0 = -1) : tw_wf (shiftS s p) L D P := by
  have hp0 := h.2.2.2.1 p (by omega) hn
  obtain ⟨h1, h3, h5, h7, h8, h9, h10, h11, h12, h13⟩ := h
  have ne := fun (j : Nat) (q : j < 43 + 5 * p ∨ 43 + 5 * p + 10 ≤ j) => shift_ne (s := s) q
  refine ⟨⟨(ne _ (by omega)).trans h1.1, h1.2⟩, ⟨(ne _ (by omega)).trans h3.1, h3.2⟩, ⟨(ne _ (by omega)).trans h5.1, h5.2⟩, fun q hq hn => ?_, fun i hi => ?_, fun z hz => ?_, fun k hk => ?_, fun c hc => ?_, ?_, fun i hi => ?_⟩
  · by_cases hqp : q = p
    · subst hqp; exact absurd shift_p0 hn
    · by_cases hq1 : q = p + 1
      · subst hq1
        rw [shift_q (by omega), shift_q (by omega)]
        exact hp0
      · have a0 : pl (shiftS s p) q 0 = pl s q 0 := ne _ (by omega)
        have a1 : pl (shiftS s p) q 1 = pl s q 1 := ne _ (by omega)
        rw [a0] at hn ⊢; rw [a1]; exact h7 q hq hn
  · have a : lt (shiftS s p) i 2 = lt s i 2 := ne _ (by omega)
    rw [a]; exact h8 i hi
  · have a : zn (shiftS s p) z 0 = zn s z 0 := ne _ (by omega)
    rw [a]; exact h9 z hz
  · have a1 : pn (shiftS s p) k 1 = pn s k 1 := ne _ (by omega)
    have a2 : pn (shiftS s p) k 2 = pn s k 2 := ne _ (by omega)
    rw [a1, a2]; exact h10 k hk
  · have a : cl (shiftS s p) c 0 = cl s c 0 := ne _ (by omega)
    rw [a]; exact h11 c hc
  · rw [ne 1 (by omega)]; exact h12
  · have a : lt (shiftS s p) i 1 = lt s i 1 := ne _ (by omega)
    rw [a]; exact h13 i hi
theorem tick_p0 {s : Nat → Int32} {p : Nat} : pl (tick s p) p 0 = pl s p 0 := by
  show tick s p (43 + 5 * p + 0) = _
  unfold tick ps upd
  rw [if_neg (by omega)]
  rfl
theorem mv_wf {s : Nat → Int32} {st : Nat → UInt32} {L D P : Nat} (h : tw_wf s L D P) (hn : nnS st) : ∀ i, i ≤ 24 → tw_wf (mv s st D i).1 L D P ∧ nnS (mv s st D i).2.1
  | 0, _ => ⟨h, hn⟩
  | i + 1, hi => by
    have ih := mv_wf h hn i (by omega)
    rw [mv_s]
    unfold mv1
    split
    · exact ih
    · rename_i hq
      have ht := wf_tick ih.1 (p := 24 - i - 1) (by omega)
      split
      · exact ⟨ht, ih.2⟩
      · split
        · exact ⟨ht, ih.2⟩
        · split
          · rename_i hp
            exact ⟨wf_cout ht (by rw [hp] at hq ⊢; rw [tick_p0]; exact hq), nnS_up ih.2 _ fp_zero⟩
          · split
            · exact ⟨wf_shift ht (by omega) (by rw [tick_p0]; exact hq), nnS_up (nnS_up ih.2 _ (ih.2 _ (by omega))) _ fp_zero⟩
            · exact ⟨ht, ih.2⟩
theorem fp_lim2 (k : Int32) : vf_n32 (FP.fdiv (FP.i2f (sp_limit k)) FP.fconst2) := by
  unfold sp_limit
  split
  · unfold vf_n32; decide +kernel
  · split
    · unfold vf_n32; decide +kernel
    · unfold vf_n32; decide +kernel
theorem dn_step {i : Nat} (h : i < 24) : (nI (24 - i) - 1) + Int32.ofInt (-1) = nI (24 - (i + 1)) - 1 := by
  obtain ⟨k, hk⟩ : ∃ k, 24 - i = k + 1 := ⟨23 - i, by omega⟩
  have e : Int32.ofInt (-1) = -1 := rfl
  rw [hk, show 24 - (i + 1) = k by omega, nI_pred, e]
  first | exact (Int32.sub_eq_add_neg _ _).symm | grind
theorem dn_nat {i : Nat} (h : i < 24) : nI (24 - i) - 1 = nI (24 - i - 1) := nx_sub rfl (rfl : (1 : Int32) = nI 1) (by omega)
set_option maxRecDepth 100000
theorem hd_X3_good : yX3_good.cls = RX3 ∧ yX3_good.cls ≠ "java/lang/invoke/MethodHandle" ∧ yX3_good.cls ≠ "java/lang/invoke/VarHandle" ∧ (parseMethodDescriptor yX3_good.desc).map (fun d => d.parameters.length) = some 1 := by decide +kernel
set_option maxHeartbeats 1000000 in
set_option maxRecDepth 100000 in
theorem t_carriesOut (l : Launch) (V : gh_V) (o : Nat) (ad : Nat → Nat) (I : Nat → Int32) (A : Nat → Nat → Int32) (F : Nat → Nat → UInt32) (g0 : gh_G) (hP : tw_P V g0 o ad I A F) (L D P : Nat) (hE : tw_wf (A 0) L D P) : MV l yX3_carriesOut cX3_carriesOut 5 ({ frames := 1, cells := 0, slots := 0, locals := 23 } : Room) V [.ref o] g0 (fun g1 => tw_W V g0 g1 o ad I (va_up A 0 (carryS (A 0) P)) F) := by
  refine MG.of RX3 (by decide) rfl (Nat.le_of_ble_eq_true rfl) (fun pp ee s mm args below meth c ls hC hg hr hlk hnm hl => ?_)
  have hx := hC.1.1
  have hb := hC.1.2.1
  have hml := hC.1.2.2.1
  have hown := hC.1.2.2.2.1
  have hts := hC.1.2.2.2.2
  have hl : lv_has ls 5 [(0, .ref o)] := hl
  have hT := hP.W
  have hP16 := hE.2.2.1.2
  refine lv_iconst (v := 0) hx hb dX3_carriesOut_0 (by decide) ?_
  refine lv_istore_n (lv' := [(1, .int 0), (0, .ref o)]) hx hb dX3_carriesOut_1 rfl hl (by decide) rfl (fun ls hl => ?_)
  refine lv_iconst (v := 0) hx hb dX3_carriesOut_2 (by decide) ?_
  refine lv_istore_n (lv' := [(2, .int 0), (1, .int 0), (0, .ref o)]) hx hb dX3_carriesOut_3 rfl hl (by decide) rfl (fun ls hl => ?_)
  refine gh_loop (N := P) (X := fun i_1 g ls => tw_W V g0 g o ad I (va_up A 0 ((co (A 0) i_1).1)) F ∧ lv_has ls 5 [(0, .ref o), (1, .int (nI (co (A 0) i_1).2)), (2, .int (nI i_1))]) ?_ ?_ 0 (by omega) hg ⟨(hT.eqA (fam8 rfl rfl rfl rfl rfl rfl rfl rfl (fun _ => rfl))), lv_sub hl [2, 1, 0] rfl⟩
  · intro g H locs ls hg hX
    obtain ⟨hT, hl⟩ := hX
    have hi9 := co_inv hE P (Nat.le_refl _)
    refine lv_iload_n hx hb dX3_carriesOut_4 rfl (lv_at hl 2 rfl) ?_
    refine lv_aload_n hx hb dX3_carriesOut_5 rfl (lv_at hl 0 rfl) ?_
    refine gh_get (v := .ref (ad 0)) hC hg hT.1.1 fX3_7_0 rfl dX3_carriesOut_6 ?_
    refine lv_sipush (v := 529) hx hb dX3_carriesOut_9 (by decide) ?_
    refine gh_iald (n := 578) (f := ((co (A 0) P).1)) hC hg (hT.1.2.1 0 (by decide)) (show ((529 : Int32)) = nI 529 from rfl) (by omega) (by omega) dX3_carriesOut_12 ?_
    refine lv_icmp_ge (tgt := 111) hx hb dX3_carriesOut_13 (by decide) (fun _ => ?_) (fun c_2 => (absurd ((nx_le (co_529 hE (by omega)) rfl (by omega) (by omega)).mpr (by omega)) c_2))
    refine lv_sipush (v := 530) hx hb dX3_carriesOut_111 (by decide) ?_
    refine lv_iconst (v := 3) hx hb dX3_carriesOut_114 (by decide) ?_
    refine lv_iload_n hx hb dX3_carriesOut_115 rfl (lv_at hl 1 rfl) ?_
    refine lv_imul hx hb dX3_carriesOut_116 ?_
    refine lv_iadd hx hb dX3_carriesOut_117 ?_
    refine W.eq (g2 := F0 mm 118 ls [.int (nI (530 + (3 * (co (A 0) P).2)))]) (by rw [(nx_add (show ((530 : Int32)) = nI 530 from rfl) (nx_mul (show ((3 : Int32)) = nI 3 from rfl) rfl))] <;> rfl) ?_
    refine lv_istore_n (lv' := [(2, .int (nI (530 + (3 * (co (A 0) P).2)))), (0, .ref o), (1, .int (nI (co (A 0) P).2))]) hx hb dX3_carriesOut_118 rfl hl (by decide) rfl (fun ls hl => ?_)
    refine gh_loop (N := (530 + 3 * P - (530 + 3 * (co (A 0) P).2))) (X := fun i_3 g ls => tw_W V g0 g o ad I (va_up A 0 (clr (co (A 0) P).1 (530 + 3 * (co (A 0) P).2) i_3)) F ∧ lv_has ls 5 [(0, .ref o), (1, .int (nI (co (A 0) P).2)), (2, .int (nI ((530 + 3 * (co (A 0) P).2) + i_3)))]) ?_ ?_ 0 (by omega) hg ⟨(hT.eqA (fam8 (clr_0 _ _).symm rfl rfl rfl rfl rfl rfl rfl (fun _ => rfl))), lv_sub hl [1, 2, 0] rfl⟩
    · intro g H locs ls hg hX
      obtain ⟨hT, hl⟩ := hX
      refine lv_iload_n hx hb dX3_carriesOut_119 rfl (lv_at hl 2 rfl) ?_
      refine lv_sipush (v := 530) hx hb dX3_carriesOut_120 (by decide) ?_
      refine lv_iconst (v := 3) hx hb dX3_carriesOut_123 (by decide) ?_
      refine lv_aload_n hx hb dX3_carriesOut_124 rfl (lv_at hl 0 rfl) ?_
      refine gh_get (v := .ref (ad 0)) hC hg hT.1.1 fX3_7_0 rfl dX3_carriesOut_125 ?_
      refine lv_sipush (v := 529) hx hb dX3_carriesOut_128 (by decide) ?_
      refine gh_iald (n := 578) (f := (clr (co (A 0) P).1 (530 + 3 * (co (A 0) P).2) (530 + 3 * P - (530 + 3 * (co (A 0) P).2)))) hC hg (hT.1.2.1 0 (by decide)) (show ((529 : Int32)) = nI 529 from rfl) (by omega) (by omega) dX3_carriesOut_131 ?_
      refine lv_imul hx hb dX3_carriesOut_132 ?_
      refine lv_iadd hx hb dX3_carriesOut_133 ?_
      refine lv_icmp_ge (tgt := 150) hx hb dX3_carriesOut_134 (by decide) (fun _ => ?_) (fun c_4 => (absurd ((nx_le (nx_add (show ((530 : Int32)) = nI 530 from rfl) (nx_mul (show ((3 : Int32)) = nI 3 from rfl) (clr_529 (by omega) (co_529 hE (Nat.le_refl _))))) rfl (by omega) (by omega)).mpr (by omega)) c_4))
      refine lv_aload_n hx hb dX3_carriesOut_150 rfl (lv_at hl 0 rfl) ?_
      refine gh_get (v := .ref (ad 0)) hC hg hT.1.1 fX3_7_0 rfl dX3_carriesOut_151 ?_
      refine lv_sipush (v := 529) hx hb dX3_carriesOut_154 (by decide) ?_
      refine lv_iload_n hx hb dX3_carriesOut_157 rfl (lv_at hl 1 rfl) ?_
      refine gh_iast (n := 578) (f := (clr (co (A 0) P).1 (530 + 3 * (co (A 0) P).2) (530 + 3 * P - (530 + 3 * (co (A 0) P).2)))) hC hg (hT.1.2.1 0 (by decide)) (show ((529 : Int32)) = nI 529 from rfl) (by omega) (by omega) dX3_carriesOut_158 (fun g H locs hg hw hn => ?_)
      have hT : tw_W V g0 g o ad I (va_up (va_up A 0 (clr (co (A 0) P).1 (530 + 3 * (co (A 0) P).2) (530 + 3 * P - (530 + 3 * (co (A 0) P).2)))) 0 (upd (clr (co (A 0) P).1 (530 + 3 * (co (A 0) P).2) (530 + 3 * P - (530 + 3 * (co (A 0) P).2))) 529 (nI (co (A 0) P).2))) F := hT.putA 0 (by decide) hw hn
      exact gh_retv hC hg hr hlk (hT.eqA (fam8 rfl rfl rfl rfl rfl rfl rfl rfl (fun _ => rfl))) dX3_carriesOut_159 (Nat.le_of_ble_eq_true rfl) (Nat.le_of_ble_eq_true rfl)
    · intro i_3 h_5 ih119 g H locs ls hg hX
      obtain ⟨hT, hl⟩ := hX
      refine lv_iload_n hx hb dX3_carriesOut_119 rfl (lv_at hl 2 rfl) ?_
      refine lv_sipush (v := 530) hx hb dX3_carriesOut_120 (by decide) ?_
      refine lv_iconst (v := 3) hx hb dX3_carriesOut_123 (by decide) ?_
      refine lv_aload_n hx hb dX3_carriesOut_124 rfl (lv_at hl 0 rfl) ?_
      refine gh_get (v := .ref (ad 0)) hC hg hT.1.1 fX3_7_0 rfl dX3_carriesOut_125 ?_
      refine lv_sipush (v := 529) hx hb dX3_carriesOut_128 (by decide) ?_
      refine gh_iald (n := 578) (f := (clr (co (A 0) P).1 (530 + 3 * (co (A 0) P).2) i_3)) hC hg (hT.1.2.1 0 (by decide)) (show ((529 : Int32)) = nI 529 from rfl) (by omega) (by omega) dX3_carriesOut_131 ?_
      refine lv_imul hx hb dX3_carriesOut_132 ?_
      refine lv_iadd hx hb dX3_carriesOut_133 ?_
      refine lv_icmp_ge (tgt := 150) hx hb dX3_carriesOut_134 (by decide) (fun c_6 => (absurd ((nx_le (nx_add (show ((530 : Int32)) = nI 530 from rfl) (nx_mul (show ((3 : Int32)) = nI 3 from rfl) (clr_529 (by omega) (co_529 hE (Nat.le_refl _))))) rfl (by omega) (by omega)).mp c_6) (by omega))) (fun _ => ?_)
      refine lv_aload_n hx hb dX3_carriesOut_137 rfl (lv_at hl 0 rfl) ?_
      refine gh_get (v := .ref (ad 0)) hC hg hT.1.1 fX3_7_0 rfl dX3_carriesOut_138 ?_
      refine lv_iload_n hx hb dX3_carriesOut_141 rfl (lv_at hl 2 rfl) ?_
      refine lv_iconst (v := 0) hx hb dX3_carriesOut_142 (by decide) ?_
      refine gh_iast (n := 578) (f := (clr (co (A 0) P).1 (530 + 3 * (co (A 0) P).2) i_3)) hC hg (hT.1.2.1 0 (by decide)) rfl (by omega) (by omega) dX3_carriesOut_143 (fun g H locs hg hw hn => ?_)
      have hT : tw_W V g0 g o ad I (va_up (va_up A 0 (clr (co (A 0) P).1 (530 + 3 * (co (A 0) P).2) i_3)) 0 (upd (clr (co (A 0) P).1 (530 + 3 * (co (A 0) P).2) i_3) ((530 + 3 * (co (A 0) P).2) + i_3) 0)) F := hT.putA 0 (by decide) hw hn
      refine lv_iinc (v := (nI (((530 + 3 * (co (A 0) P).2) + i_3) + 1))) (lv' := [(2, .int (nI (((530 + 3 * (co (A 0) P).2) + i_3) + 1))), (0, .ref o), (1, .int (nI (co (A 0) P).2))]) hx hb dX3_carriesOut_144 hl (k := 2) rfl (nx_iinc rfl) (by decide) rfl (fun ls hl => ?_)
      refine lv_goto (tgt := 119) hx hb dX3_carriesOut_147 (by decide) ?_
      exact ih119 _ _ _ _ hg ⟨(hT.eqA (fam8 (clr_s _ _ _) rfl rfl rfl rfl rfl rfl rfl (fun _ => rfl))), lv_sub hl [1, 2, 0] rfl⟩
  · intro i_1 h_7 ih4 g H locs ls hg hX
    obtain ⟨hT, hl⟩ := hX
    refine lv_iload_n hx hb dX3_carriesOut_4 rfl (lv_at hl 2 rfl) ?_
    have hi9 := co_inv hE i_1 (by omega)
    have hz9 := co_zone hE h_7
    refine lv_aload_n hx hb dX3_carriesOut_5 rfl (lv_at hl 0 rfl) ?_
    refine gh_get (v := .ref (ad 0)) hC hg hT.1.1 fX3_7_0 rfl dX3_carriesOut_6 ?_
    refine lv_sipush (v := 529) hx hb dX3_carriesOut_9 (by decide) ?_
    refine gh_iald (n := 578) (f := ((co (A 0) i_1).1)) hC hg (hT.1.2.1 0 (by decide)) (show ((529 : Int32)) = nI 529 from rfl) (by omega) (by omega) dX3_carriesOut_12 ?_
    refine lv_icmp_ge (tgt := 111) hx hb dX3_carriesOut_13 (by decide) (fun c_8 => (absurd ((nx_le (co_529 hE (by omega)) rfl (by omega) (by omega)).mp c_8) (by omega))) (fun _ => ?_)
    refine lv_sipush (v := 530) hx hb dX3_carriesOut_16 (by decide) ?_
    refine lv_iconst (v := 3) hx hb dX3_carriesOut_19 (by decide) ?_
    refine lv_iload_n hx hb dX3_carriesOut_20 rfl (lv_at hl 2 rfl) ?_
    refine lv_imul hx hb dX3_carriesOut_21 ?_
    refine lv_iadd hx hb dX3_carriesOut_22 ?_
    refine lv_istore_n (lv' := [(3, .int (530 + (3 * (nI i_1)))), (0, .ref o), (1, .int (nI (co (A 0) i_1).2)), (2, .int (nI i_1))]) hx hb dX3_carriesOut_23 rfl hl (by decide) rfl (fun ls hl => ?_)
    refine lv_aload_n hx hb dX3_carriesOut_24 rfl (lv_at hl 1 rfl) ?_
    refine gh_get (v := .ref (ad 0)) hC hg hT.1.1 fX3_7_0 rfl dX3_carriesOut_25 ?_
    refine lv_iload_n hx hb dX3_carriesOut_28 rfl (lv_at hl 0 rfl) ?_
    refine gh_iald (n := 578) (f := ((co (A 0) i_1).1)) hC hg (hT.1.2.1 0 (by decide)) (nx_add (show ((530 : Int32)) = nI 530 from rfl) (nx_mul (show ((3 : Int32)) = nI 3 from rfl) rfl)) (by omega) (by omega) dX3_carriesOut_29 ?_
    refine lv_aload_n hx hb dX3_carriesOut_30 rfl (lv_at hl 1 rfl) ?_
    refine gh_get (v := .ref (ad 0)) hC hg hT.1.1 fX3_7_0 rfl dX3_carriesOut_31 ?_
    refine lv_iconst (v := 0) hx hb dX3_carriesOut_34 (by decide) ?_
    refine gh_iald (n := 578) (f := ((co (A 0) i_1).1)) hC hg (hT.1.2.1 0 (by decide)) (show ((0 : Int32)) = nI 0 from rfl) (by omega) (by omega) dX3_carriesOut_35 ?_
    refine lv_icmp_ne (tgt := 63) hx hb dX3_carriesOut_36 (by decide) (fun c_9 => ?_) (fun c_9 => ?_)
    · skip
      refine lv_iconst (v := 0) hx hb dX3_carriesOut_63 (by decide) ?_
      refine lv_istore (lv' := [(4, .int 0), (3, .int (530 + (3 * (nI i_1)))), (0, .ref o), (1, .int (nI (co (A 0) i_1).2)), (2, .int (nI i_1))]) hx hb dX3_carriesOut_64 hl (by decide) rfl (fun ls hl => ?_)
      refine gh_loop (N := 3) (X := fun i_10 g ls => tw_W V g0 g o ad I (va_up A 0 (mvj (co (A 0) i_1).1 (co (A 0) i_1).2 i_1 i_10)) F ∧ lv_has ls 5 [(0, .ref o), (1, .int (nI (co (A 0) i_1).2)), (2, .int (nI i_1)), (3, .int (530 + (3 * (nI i_1)))), (4, .int (nI i_10))]) ?_ ?_ 0 (by omega) hg ⟨(hT.eqA (fam8 rfl rfl rfl rfl rfl rfl rfl rfl (fun _ => rfl))), lv_sub hl [2, 3, 4, 1, 0] rfl⟩
      · intro g H locs ls hg hX
        obtain ⟨hT, hl⟩ := hX
        refine lv_iload hx hb dX3_carriesOut_66 (lv_at hl 4 rfl) ?_
        refine lv_iconst (v := 3) hx hb dX3_carriesOut_68 (by decide) ?_
        refine lv_icmp_ge (tgt := 102) hx hb dX3_carriesOut_69 (by decide) (fun _ => ?_) (fun c_11 => (absurd ((nx_le (show ((3 : Int32)) = nI 3 from rfl) rfl (by omega) (by omega)).mpr (by omega)) c_11))
        refine lv_iinc (v := (nI ((co (A 0) i_1).2 + 1))) (lv' := [(1, .int (nI ((co (A 0) i_1).2 + 1))), (0, .ref o), (2, .int (nI i_1)), (3, .int (530 + (3 * (nI i_1)))), (4, .int (nI 3))]) hx hb dX3_carriesOut_102 hl (k := 1) rfl (nx_iinc rfl) (by decide) rfl (fun ls hl => ?_)
        refine lv_iinc (v := (nI (i_1 + 1))) (lv' := [(2, .int (nI (i_1 + 1))), (1, .int (nI ((co (A 0) i_1).2 + 1))), (0, .ref o), (3, .int (530 + (3 * (nI i_1)))), (4, .int (nI 3))]) hx hb dX3_carriesOut_105 hl (k := 2) rfl (nx_iinc rfl) (by decide) rfl (fun ls hl => ?_)
        refine lv_goto (tgt := 4) hx hb dX3_carriesOut_108 (by decide) ?_
        exact ih4 _ _ _ _ hg ⟨(hT.eqA (fam8 (show (mvj (co (A 0) i_1).1 (co (A 0) i_1).2 i_1 3) = (co (A 0) (i_1 + 1)).1 from by rw [co_s, if_neg c_9]) rfl rfl rfl rfl rfl rfl rfl (fun _ => rfl))), (by rw [show nI (co (A 0) (i_1 + 1)).2 = (nI ((co (A 0) i_1).2 + 1)) from by rw [co_s, if_neg c_9]]; exact lv_sub hl [2, 1, 0] rfl)⟩
      · intro i_10 h_12 ih66 g H locs ls hg hX
        obtain ⟨hT, hl⟩ := hX
        refine lv_iload hx hb dX3_carriesOut_66 (lv_at hl 4 rfl) ?_
        refine lv_iconst (v := 3) hx hb dX3_carriesOut_68 (by decide) ?_
        refine lv_icmp_ge (tgt := 102) hx hb dX3_carriesOut_69 (by decide) (fun c_13 => (absurd ((nx_le (show ((3 : Int32)) = nI 3 from rfl) rfl (by omega) (by omega)).mp c_13) (by omega))) (fun _ => ?_)
        refine lv_aload_n hx hb dX3_carriesOut_72 rfl (lv_at hl 0 rfl) ?_
        refine gh_get (v := .ref (ad 0)) hC hg hT.1.1 fX3_7_0 rfl dX3_carriesOut_73 ?_
        refine lv_sipush (v := 530) hx hb dX3_carriesOut_76 (by decide) ?_
        refine lv_iconst (v := 3) hx hb dX3_carriesOut_79 (by decide) ?_
        refine lv_iload_n hx hb dX3_carriesOut_80 rfl (lv_at hl 1 rfl) ?_
        refine lv_imul hx hb dX3_carriesOut_81 ?_
        refine lv_iadd hx hb dX3_carriesOut_82 ?_
        refine lv_iload hx hb dX3_carriesOut_83 (lv_at hl 4 rfl) ?_
        refine lv_iadd hx hb dX3_carriesOut_85 ?_
        refine lv_aload_n hx hb dX3_carriesOut_86 rfl (lv_at hl 0 rfl) ?_
        refine gh_get (v := .ref (ad 0)) hC hg hT.1.1 fX3_7_0 rfl dX3_carriesOut_87 ?_
        refine lv_iload_n hx hb dX3_carriesOut_90 rfl (lv_at hl 3 rfl) ?_
        refine lv_iload hx hb dX3_carriesOut_91 (lv_at hl 4 rfl) ?_
        refine lv_iadd hx hb dX3_carriesOut_93 ?_
        refine gh_iald (n := 578) (f := (mvj (co (A 0) i_1).1 (co (A 0) i_1).2 i_1 i_10)) hC hg (hT.1.2.1 0 (by decide)) (nx_add (nx_add (show ((530 : Int32)) = nI 530 from rfl) (nx_mul (show ((3 : Int32)) = nI 3 from rfl) rfl)) rfl) (by omega) (by omega) dX3_carriesOut_94 ?_
        refine gh_iast (n := 578) (f := (mvj (co (A 0) i_1).1 (co (A 0) i_1).2 i_1 i_10)) hC hg (hT.1.2.1 0 (by decide)) (nx_add (nx_add (show ((530 : Int32)) = nI 530 from rfl) (nx_mul (show ((3 : Int32)) = nI 3 from rfl) rfl)) rfl) (by omega) (by omega) dX3_carriesOut_95 (fun g H locs hg hw hn => ?_)
        have hT : tw_W V g0 g o ad I (va_up (va_up A 0 (mvj (co (A 0) i_1).1 (co (A 0) i_1).2 i_1 i_10)) 0 (upd (mvj (co (A 0) i_1).1 (co (A 0) i_1).2 i_1 i_10) ((530 + (3 * (co (A 0) i_1).2)) + i_10) ((mvj (co (A 0) i_1).1 (co (A 0) i_1).2 i_1 i_10) ((530 + (3 * i_1)) + i_10)))) F := hT.putA 0 (by decide) hw hn
        refine lv_iinc (v := (nI (i_10 + 1))) (lv' := [(4, .int (nI (i_10 + 1))), (0, .ref o), (1, .int (nI (co (A 0) i_1).2)), (2, .int (nI i_1)), (3, .int (530 + (3 * (nI i_1))))]) hx hb dX3_carriesOut_96 hl (k := 4) rfl (nx_iinc rfl) (by decide) rfl (fun ls hl => ?_)
        refine lv_goto (tgt := 66) hx hb dX3_carriesOut_99 (by decide) ?_
        exact ih66 _ _ _ _ hg ⟨(hT.eqA (fam8 rfl rfl rfl rfl rfl rfl rfl rfl (fun _ => rfl))), lv_sub hl [1, 2, 3, 4, 0] rfl⟩
    refine lv_aload_n hx hb dX3_carriesOut_39 rfl (lv_at hl 1 rfl) ?_
    refine lv_aload_n hx hb dX3_carriesOut_40 rfl (lv_at hl 1 rfl) ?_
    refine gh_get (v := .ref (ad 0)) hC hg hT.1.1 fX3_7_0 rfl dX3_carriesOut_41 ?_
    refine lv_iload_n hx hb dX3_carriesOut_44 rfl (lv_at hl 0 rfl) ?_
    refine lv_iconst (v := 1) hx hb dX3_carriesOut_45 (by decide) ?_
    refine lv_iadd hx hb dX3_carriesOut_46 ?_
    refine gh_iald (n := 578) (f := ((co (A 0) i_1).1)) hC hg (hT.1.2.1 0 (by decide)) (nx_add (nx_add (show ((530 : Int32)) = nI 530 from rfl) (nx_mul (show ((3 : Int32)) = nI 3 from rfl) rfl)) (show ((1 : Int32)) = nI 1 from rfl)) (by omega) (by omega) dX3_carriesOut_47 ?_
    refine lv_iconst (v := 0) hx hb dX3_carriesOut_48 (by decide) ?_
    refine lv_aload_n hx hb dX3_carriesOut_49 rfl (lv_at hl 1 rfl) ?_
    refine gh_get (v := .ref (ad 0)) hC hg hT.1.1 fX3_7_0 rfl dX3_carriesOut_50 ?_
    refine lv_iload_n hx hb dX3_carriesOut_53 rfl (lv_at hl 0 rfl) ?_
    refine lv_iconst (v := 2) hx hb dX3_carriesOut_54 (by decide) ?_
    refine lv_iadd hx hb dX3_carriesOut_55 ?_
    refine gh_iald (n := 578) (f := ((co (A 0) i_1).1)) hC hg (hT.1.2.1 0 (by decide)) (nx_add (nx_add (show ((530 : Int32)) = nI 530 from rfl) (nx_mul (show ((3 : Int32)) = nI 3 from rfl) rfl)) (show ((2 : Int32)) = nI 2 from rfl)) (by omega) (by omega) dX3_carriesOut_56 ?_
    refine gh_callv hg (gh_runV (As := [.int (((co (A 0) i_1).1) ((530 + (3 * i_1)) + 1)), .int 0, .int (((co (A 0) i_1).1) ((530 + (3 * i_1)) + 2))]) (rest := []) hC hg (t_putZone l V o ad I (va_up A 0 ((co (A 0) i_1).1)) F _ hT.1 (((co (A 0) i_1).1) ((530 + (3 * i_1)) + 1)) 0 (((co (A 0) i_1).1) ((530 + (3 * i_1)) + 2)) ((((co (A 0) i_1).1) ((530 + (3 * i_1)) + 1)).toNatClampNeg) 0 hz9.1 (show ((0 : Int32)) = nI 0 from rfl) (by omega) (by omega)) 3 (lw_V q3822 q3824 qs52 q138 q3825) hT.1.1 rfl hd_X3_putZone ⟨Nat.le_of_ble_eq_true rfl, Nat.le_of_ble_eq_true rfl⟩ rfl hl.1 rfl (Nat.le_of_ble_eq_true rfl) dX3_carriesOut_57 ⟨Nat.le_of_ble_eq_true rfl, Nat.le_of_ble_eq_true rfl⟩) (fun g H locs hg hp => ?_)
    have hT : tw_W V g0 g o ad I (va_up (va_up A 0 ((co (A 0) i_1).1)) 0 (zs ((co (A 0) i_1).1) ((((co (A 0) i_1).1) ((530 + (3 * i_1)) + 1)).toNatClampNeg) 0 (((co (A 0) i_1).1) ((530 + (3 * i_1)) + 2)))) F := hT.call hp
    refine lv_goto (tgt := 105) hx hb dX3_carriesOut_60 (by decide) ?_
    refine lv_iinc (v := (nI (i_1 + 1))) (lv' := [(2, .int (nI (i_1 + 1))), (3, .int (530 + (3 * (nI i_1)))), (0, .ref o), (1, .int (nI (co (A 0) i_1).2))]) hx hb dX3_carriesOut_105 hl (k := 3) rfl (nx_iinc rfl) (by decide) rfl (fun ls hl => ?_)
    refine lv_goto (tgt := 4) hx hb dX3_carriesOut_108 (by decide) ?_
    exact ih4 _ _ _ _ hg ⟨(hT.eqA (fam8 (show (zs ((co (A 0) i_1).1) ((((co (A 0) i_1).1) ((530 + (3 * i_1)) + 1)).toNatClampNeg) 0 (((co (A 0) i_1).1) ((530 + (3 * i_1)) + 2))) = (co (A 0) (i_1 + 1)).1 from by rw [co_s, if_pos c_9]) rfl rfl rfl rfl rfl rfl rfl (fun _ => rfl))), (by rw [show nI (co (A 0) (i_1 + 1)).2 = (nI (co (A 0) i_1).2) from by rw [co_s, if_pos c_9]]; exact lv_sub hl [2, 3, 0] rfl)⟩
set_option maxHeartbeats 1000000 in
set_option maxRecDepth 100000 in
theorem t_comesOut (l : Launch) (V : gh_V) (o : Nat) (ad : Nat → Nat) (I : Nat → Int32) (A : Nat → Nat → Int32) (F : Nat → Nat → UInt32) (g0 : gh_G) (hP : tw_P V g0 o ad I A F) (L D P : Nat) (hE : tw_wf (A 0) L D P) (hn9 : ¬ pl (A 0) 23 0 = -1) : MV l yX3_comesOut cX3_comesOut 4 ({ frames := 3, cells := 0, slots := 0, locals := 71 } : Room) V [.ref o] g0 (fun g1 => tw_W V g0 g1 o ad I (va_up A 0 (coutS (A 0) (F 0) D)) (va_up F 0 (va_up (F 0) 23 FP.fconst0))) := by
  refine MG.of RX3 (by decide) rfl (Nat.le_of_ble_eq_true rfl) (fun pp ee s mm args below meth c ls hC hg hr hlk hnm hl => ?_)
  have hx := hC.1.1
  have hb := hC.1.2.1
  have hml := hC.1.2.2.1
  have hown := hC.1.2.2.2.1
  have hts := hC.1.2.2.2.2
  have hl : lv_has ls 4 [(0, .ref o)] := hl
  have hT := hP.W
  have hq9 := wf_pc hE (q := 23) (by omega) hn9
  have hL9 := hE.1.2
  have hD10 := hE.2.1.2
  refine lv_bipush (v := 23) hx hb dX3_comesOut_0 (by decide) ?_
  refine lv_istore_n (lv' := [(1, .int 23), (0, .ref o)]) hx hb dX3_comesOut_2 rfl hl (by decide) rfl (fun ls hl => ?_)
  refine lv_aload_n hx hb dX3_comesOut_3 rfl (lv_at hl 1 rfl) ?_
  refine lv_iload_n hx hb dX3_comesOut_4 rfl (lv_at hl 0 rfl) ?_
  refine lv_iconst (v := 0) hx hb dX3_comesOut_5 (by decide) ?_
  refine gh_calli hg (gh_runV (As := [.int 23, .int 0]) (rest := []) hC hg (t_at l V o ad I A F _ hT.1 23 0 23 0 (show ((23 : Int32)) = nI 23 from rfl) (show ((0 : Int32)) = nI 0 from rfl) (by omega) (by omega)) 2 (lw_V q3964 q3966 qs65 q138 q3967) hT.1.1 rfl hd_X3_at ⟨Nat.le_of_ble_eq_true rfl, Nat.le_of_ble_eq_true rfl⟩ rfl hl.1 rfl (Nat.le_of_ble_eq_true rfl) dX3_comesOut_6 ⟨Nat.le_of_ble_eq_true rfl, Nat.le_of_ble_eq_true rfl⟩) (fun r_1 g H locs hg hp => ?_)
  obtain ⟨hp, hq⟩ := hp
  replace hp : r_1 = (pl (A 0) 23 0) := hp
  subst hp
  rw [hq] at hg
  refine lv_istore_n (lv' := [(2, .int (pl (A 0) 23 0)), (1, .int 23), (0, .ref o)]) hx hb dX3_comesOut_9 rfl hl (by decide) rfl (fun ls hl => ?_)
  refine lv_aload_n hx hb dX3_comesOut_10 rfl (lv_at hl 2 rfl) ?_
  refine lv_iload_n hx hb dX3_comesOut_11 rfl (lv_at hl 1 rfl) ?_
  refine lv_iconst (v := 2) hx hb dX3_comesOut_12 (by decide) ?_
  refine gh_calli hg (gh_runV (As := [.int 23, .int 2]) (rest := []) hC hg (t_at l V o ad I A F _ hT.1 23 2 23 2 (show ((23 : Int32)) = nI 23 from rfl) (show ((2 : Int32)) = nI 2 from rfl) (by omega) (by omega)) 2 (lw_V q3964 q3966 qs65 q138 q3967) hT.1.1 rfl hd_X3_at ⟨Nat.le_of_ble_eq_true rfl, Nat.le_of_ble_eq_true rfl⟩ rfl hl.1 rfl (Nat.le_of_ble_eq_true rfl) dX3_comesOut_13 ⟨Nat.le_of_ble_eq_true rfl, Nat.le_of_ble_eq_true rfl⟩) (fun r_2 g H locs hg hp => ?_)
  obtain ⟨hp, hq⟩ := hp
  replace hp : r_2 = (pl (A 0) 23 2) := hp
  subst hp
  rw [hq] at hg
  refine lv_sipush (v := 150) hx hb dX3_comesOut_16 (by decide) ?_
  refine lv_icmp_le (tgt := 26) hx hb dX3_comesOut_19 (by decide) (fun c_3 => ?_) (fun c_3 => ?_)
  · skip
    refine lv_aload_n hx hb dX3_comesOut_26 rfl (lv_at hl 2 rfl) ?_
    refine gh_get (v := .ref (ad 8)) hC hg hT.1.1 fX3_13_0 rfl dX3_comesOut_27 ?_
    refine lv_iload_n hx hb dX3_comesOut_30 rfl (lv_at hl 1 rfl) ?_
    refine gh_fald (n := 24) (f := (F 0)) hC hg (hT.1.2.2 0 (by decide)) (show ((23 : Int32)) = nI 23 from rfl) (by omega) (by omega) dX3_comesOut_31 ?_
    refine lv_aload_n hx hb dX3_comesOut_32 rfl (lv_at hl 2 rfl) ?_
    refine lv_iload_n hx hb dX3_comesOut_33 rfl (lv_at hl 1 rfl) ?_
    refine gh_calli hg (gh_runV (As := [.int 23]) (rest := [.float ((F 0) 23)]) hC hg (t_kindAt l V o ad I A F _ hT.1 23 23 ((pl (A 0) 23 0).toNatClampNeg) (show ((23 : Int32)) = nI 23 from rfl) (by omega) hq9.1.1 (by omega)) 1 (lw_V q4046 q4048 qs80 q138 q4049) hT.1.1 rfl hd_X3_kindAt ⟨Nat.le_of_ble_eq_true rfl, Nat.le_of_ble_eq_true rfl⟩ rfl hl.1 rfl (Nat.le_of_ble_eq_true rfl) dX3_comesOut_34 ⟨Nat.le_of_ble_eq_true rfl, Nat.le_of_ble_eq_true rfl⟩) (fun r_4 g H locs hg hp => ?_)
    obtain ⟨hp, hq⟩ := hp
    replace hp : r_4 = (lt (A 0) ((pl (A 0) 23 0).toNatClampNeg) 0) := hp
    subst hp
    rw [hq] at hg
    refine gh_calli hg (gh_runS (As := [.int (lt (A 0) ((pl (A 0) 23 0).toNatClampNeg) 0)]) (rest := [.float ((F 0) 23)]) hC hg (t_limit l V _ (lt (A 0) ((pl (A 0) 23 0).toNatClampNeg) 0)) 1 (lw_S q4063 q4064 q138 q4065) hd_X3_limit.2 ⟨Nat.le_of_ble_eq_true rfl, Nat.le_of_ble_eq_true rfl⟩ rfl hl.1 rfl (Nat.le_of_ble_eq_true rfl) dX3_comesOut_37 ⟨Nat.le_of_ble_eq_true rfl, Nat.le_of_ble_eq_true rfl⟩) (fun r_5 g H locs hg hp => ?_)
    obtain ⟨hp, hq⟩ := hp
    replace hp : r_5 = (sp_limit (lt (A 0) ((pl (A 0) 23 0).toNatClampNeg) 0)) := hp
    subst hp
    rw [hq] at hg
    refine lv_i2f hx hb dX3_comesOut_40 ?_
    refine lv_fconst2 hx hb dX3_comesOut_41 ?_
    refine lv_fdiv hx hb dX3_comesOut_42 (fp_lim2 _) ?_
    refine lv_fcmp hx hb dX3_comesOut_43 ?_
    refine lv_if_le (tgt := 51) hx hb dX3_comesOut_44 (by decide) (fun c_6 => ?_) (fun c_6 => ?_)
    · skip
      refine lv_iconst (v := 1) hx hb dX3_comesOut_51 (by decide) ?_
      refine lv_istore_n (lv' := [(3, .int 1), (2, .int (pl (A 0) 23 0)), (1, .int 23), (0, .ref o)]) hx hb dX3_comesOut_52 rfl hl (by decide) rfl (fun ls hl => ?_)
      refine lv_aload_n hx hb dX3_comesOut_53 rfl (lv_at hl 3 rfl) ?_
      refine lv_iload_n hx hb dX3_comesOut_54 rfl (lv_at hl 2 rfl) ?_
      refine lv_iload_n hx hb dX3_comesOut_55 rfl (lv_at hl 0 rfl) ?_
      refine gh_callv hg (gh_runV (As := [.int 23, .int 1]) (rest := []) hC hg (t_ends l V o ad I A F _ hT.1 23 1 23 L D P (show ((23 : Int32)) = nI 23 from rfl) (by omega) hE hn9) 2 (lw_V q4066 q4068 qs82 q138 q4069) hT.1.1 rfl hd_X3_ends ⟨Nat.le_of_ble_eq_true rfl, Nat.le_of_ble_eq_true rfl⟩ rfl hl.1 rfl (Nat.le_of_ble_eq_true rfl) dX3_comesOut_56 ⟨Nat.le_of_ble_eq_true rfl, Nat.le_of_ble_eq_true rfl⟩) (fun g H locs hg hp => ?_)
      have hT : tw_W V g0 g o ad I (va_up A 0 (endS (A 0) 23 1)) (va_up F 0 (va_up (F 0) 23 FP.fconst0)) := hT.call hp
      refine lv_iload_n hx hb dX3_comesOut_59 rfl (lv_at hl 0 rfl) ?_
      refine lv_iconst (v := 1) hx hb dX3_comesOut_60 (by decide) ?_
      refine lv_icmp_ne (tgt := 69) hx hb dX3_comesOut_61 (by decide) (fun c_7 => (absurd ((nx_eq (show ((1 : Int32)) = nI 1 from rfl) (show ((1 : Int32)) = nI 1 from rfl) (by omega) (by omega)).mpr (by omega)) c_7)) (fun _ => ?_)
      refine lv_aload_n hx hb dX3_comesOut_64 rfl (lv_at hl 3 rfl) ?_
      refine lv_iload_n hx hb dX3_comesOut_65 rfl (lv_at hl 1 rfl) ?_
      refine gh_callv hg (gh_runV (As := [.int (pl (A 0) 23 0)]) (rest := []) hC hg (t_good l V o ad I (va_up A 0 (endS (A 0) 23 1)) (va_up F 0 (va_up (F 0) 23 FP.fconst0)) _ hT.1 (pl (A 0) 23 0) ((pl (A 0) 23 0).toNatClampNeg) D hq9.1.1 (by omega) (wf_endS hE (by omega) hn9).2.1.1 hD10) 1 (lw_V q4078 q4080 qs85 q138 q4081) hT.1.1 rfl hd_X3_good ⟨Nat.le_of_ble_eq_true rfl, Nat.le_of_ble_eq_true rfl⟩ rfl hl.1 rfl (Nat.le_of_ble_eq_true rfl) dX3_comesOut_66 ⟨Nat.le_of_ble_eq_true rfl, Nat.le_of_ble_eq_true rfl⟩) (fun g H locs hg hp => ?_)
      have hT : tw_W V g0 g o ad I (va_up (va_up A 0 (endS (A 0) 23 1)) 0 (goodS (endS (A 0) 23 1) ((pl (A 0) 23 0).toNatClampNeg) D)) (va_up F 0 (va_up (F 0) 23 FP.fconst0)) := hT.call hp
      have e9 : fateN (A 0) (F 0) 23 = 1 := by unfold fateN; simp only [if_pos c_3, if_pos c_6]
      exact gh_retv hC hg hr hlk (hT.eqAF (fam8 (by unfold coutS; rw [e9]; first | rfl | (rw [if_pos rfl]; rfl) | (rw [if_neg (by decide)]; rfl)) rfl rfl rfl rfl rfl rfl rfl (fun _ => rfl)) (fam4 rfl rfl rfl rfl (fun _ => rfl))) dX3_comesOut_69 (Nat.le_of_ble_eq_true rfl) (Nat.le_of_ble_eq_true rfl)
    refine lv_iconst (v := 2) hx hb dX3_comesOut_47 (by decide) ?_
    refine lv_goto (tgt := 52) hx hb dX3_comesOut_48 (by decide) ?_
    refine lv_istore_n (lv' := [(3, .int 2), (2, .int (pl (A 0) 23 0)), (1, .int 23), (0, .ref o)]) hx hb dX3_comesOut_52 rfl hl (by decide) rfl (fun ls hl => ?_)
    refine lv_aload_n hx hb dX3_comesOut_53 rfl (lv_at hl 3 rfl) ?_
    refine lv_iload_n hx hb dX3_comesOut_54 rfl (lv_at hl 2 rfl) ?_
    refine lv_iload_n hx hb dX3_comesOut_55 rfl (lv_at hl 0 rfl) ?_
    refine gh_callv hg (gh_runV (As := [.int 23, .int 2]) (rest := []) hC hg (t_ends l V o ad I A F _ hT.1 23 2 23 L D P (show ((23 : Int32)) = nI 23 from rfl) (by omega) hE hn9) 2 (lw_V q4066 q4068 qs82 q138 q4069) hT.1.1 rfl hd_X3_ends ⟨Nat.le_of_ble_eq_true rfl, Nat.le_of_ble_eq_true rfl⟩ rfl hl.1 rfl (Nat.le_of_ble_eq_true rfl) dX3_comesOut_56 ⟨Nat.le_of_ble_eq_true rfl, Nat.le_of_ble_eq_true rfl⟩) (fun g H locs hg hp => ?_)
    have hT : tw_W V g0 g o ad I (va_up A 0 (endS (A 0) 23 2)) (va_up F 0 (va_up (F 0) 23 FP.fconst0)) := hT.call hp
    refine lv_iload_n hx hb dX3_comesOut_59 rfl (lv_at hl 0 rfl) ?_
    refine lv_iconst (v := 1) hx hb dX3_comesOut_60 (by decide) ?_
    refine lv_icmp_ne (tgt := 69) hx hb dX3_comesOut_61 (by decide) (fun _ => ?_) (fun c_8 => (absurd ((nx_eq (show ((2 : Int32)) = nI 2 from rfl) (show ((1 : Int32)) = nI 1 from rfl) (by omega) (by omega)).mp c_8) (by omega)))
    have e9 : fateN (A 0) (F 0) 23 = 2 := by unfold fateN; simp only [if_pos c_3, if_neg c_6]
    exact gh_retv hC hg hr hlk (hT.eqAF (fam8 (by unfold coutS; rw [e9]; first | rfl | (rw [if_pos rfl]; rfl) | (rw [if_neg (by decide)]; rfl)) rfl rfl rfl rfl rfl rfl rfl (fun _ => rfl)) (fam4 rfl rfl rfl rfl (fun _ => rfl))) dX3_comesOut_69 (Nat.le_of_ble_eq_true rfl) (Nat.le_of_ble_eq_true rfl)
  refine lv_iconst (v := 3) hx hb dX3_comesOut_22 (by decide) ?_
  refine lv_goto (tgt := 52) hx hb dX3_comesOut_23 (by decide) ?_
  refine lv_istore_n (lv' := [(3, .int 3), (2, .int (pl (A 0) 23 0)), (1, .int 23), (0, .ref o)]) hx hb dX3_comesOut_52 rfl hl (by decide) rfl (fun ls hl => ?_)
  refine lv_aload_n hx hb dX3_comesOut_53 rfl (lv_at hl 3 rfl) ?_
  refine lv_iload_n hx hb dX3_comesOut_54 rfl (lv_at hl 2 rfl) ?_
  refine lv_iload_n hx hb dX3_comesOut_55 rfl (lv_at hl 0 rfl) ?_
  refine gh_callv hg (gh_runV (As := [.int 23, .int 3]) (rest := []) hC hg (t_ends l V o ad I A F _ hT.1 23 3 23 L D P (show ((23 : Int32)) = nI 23 from rfl) (by omega) hE hn9) 2 (lw_V q4066 q4068 qs82 q138 q4069) hT.1.1 rfl hd_X3_ends ⟨Nat.le_of_ble_eq_true rfl, Nat.le_of_ble_eq_true rfl⟩ rfl hl.1 rfl (Nat.le_of_ble_eq_true rfl) dX3_comesOut_56 ⟨Nat.le_of_ble_eq_true rfl, Nat.le_of_ble_eq_true rfl⟩) (fun g H locs hg hp => ?_)
  have hT : tw_W V g0 g o ad I (va_up A 0 (endS (A 0) 23 3)) (va_up F 0 (va_up (F 0) 23 FP.fconst0)) := hT.call hp
  refine lv_iload_n hx hb dX3_comesOut_59 rfl (lv_at hl 0 rfl) ?_
  refine lv_iconst (v := 1) hx hb dX3_comesOut_60 (by decide) ?_
  refine lv_icmp_ne (tgt := 69) hx hb dX3_comesOut_61 (by decide) (fun _ => ?_) (fun c_9 => (absurd ((nx_eq (show ((3 : Int32)) = nI 3 from rfl) (show ((1 : Int32)) = nI 1 from rfl) (by omega) (by omega)).mp c_9) (by omega)))
  have e9 : fateN (A 0) (F 0) 23 = 3 := by unfold fateN; simp only [if_neg c_3]
  exact gh_retv hC hg hr hlk (hT.eqAF (fam8 (by unfold coutS; rw [e9]; first | rfl | (rw [if_pos rfl]; rfl) | (rw [if_neg (by decide)]; rfl)) rfl rfl rfl rfl rfl rfl rfl (fun _ => rfl)) (fam4 rfl rfl rfl rfl (fun _ => rfl))) dX3_comesOut_69 (Nat.le_of_ble_eq_true rfl) (Nat.le_of_ble_eq_true rfl)
