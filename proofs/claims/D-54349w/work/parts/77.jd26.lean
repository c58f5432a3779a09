/-! MOVES -/
section Cg
variable {V : gh_V} {g g1 : gh_G} {S l m n0 n1 : Nat} {s s1 : Nat → Int32} {F F1 : Nat → UInt32} {P : Nat → Option Nat} {kx pw : Nat → Nat}
theorem pc1.cg {p q a b : Nat} (h : pc1 V g S s F p q a b) (hF : F1 p = F p) (e : ∀ i, i < 4 → pl s1 p i = pl s p i) (el : ∀ i, i < 2 → lt s1 (pk s p) i = lt s (pk s p) i) : pc1 V g S s1 F1 p q a b := by
  have ek : pk s1 p = pk s p := by unfold pk; rw [e 0 (by omega)]
  have ec : cd s1 p = cd s p := by unfold cd; rw [ek, e 1 (by omega)]
  unfold pc1 kd
  rw [ek, ec, e 2 (by omega), e 3 (by omega), el 0 (by omega), el 1 (by omega), hF]
  exact h
theorem pc_P.cg (h : pc_P V g S P kx pw s F) (hF : ∀ p, p < 24 → F1 p = F p) (e : ∀ p i, p < 24 → i < 4 → pl s1 p i = pl s p i) (el : ∀ p i, p < 24 → oc s p → i < 2 → lt s1 (pk s p) i = lt s (pk s p) i) : pc_P V g S P kx pw s1 F1 := fun p hp => by
  refine ⟨fun h9 => (h p hp).1 ((e p 0 hp (by omega)).symm.trans h9), fun h9 => ?_⟩
  have ho : oc s p := fun h8 => h9 ((e p 0 hp (by omega)).trans h8)
  obtain ⟨q, h1, h2⟩ := (h p hp).2 ho
  exact ⟨q, h1, h2.cg (hF p hp) (fun i hi => e p i hp hi) (fun i hi => el p i hp ho hi)⟩
theorem ot_P.cg (h : ot_P V g S m P kx s n0) (e : ∀ p i, p < 24 → i < 2 → pl s1 p i = pl s p i) : ot_P V g S m P kx s1 n0 := by
  obtain ⟨M, h1, h2, h3, h4⟩ := h
  have ec : ∀ p, p < 24 → cd s1 p = cd s p := fun p hp => by unfold cd pk; rw [e p 0 hp (by omega), e p 1 hp (by omega)]
  have eo : ∀ p, p < 24 → (oc s1 p ↔ oc s p) := fun p hp => by unfold oc; rw [e p 0 hp (by omega)]
  refine ⟨M, h1, h2, fun p hp ho => by rw [ec p hp]; exact h3 p hp ((eo p hp).mp ho), fun x hx => ?_⟩
  obtain ⟨p, hp, ho, hxe⟩ := h4 x hx
  exact ⟨p, hp, (eo p hp).mpr ho, by rw [ec p hp]; exact hxe⟩
theorem go_P.cg (h : go_P V g S l s n1) (h12 : nL s ≤ 12) (eL : nL s1 = nL s) (e : ∀ k n, k < nL s → n < 20 → lt s1 k (5 + n) = lt s k (5 + n)) : go_P V g S l s1 n1 := by
  obtain ⟨gq, SS, h1, h2, h3, h4⟩ := h
  refine ⟨gq, SS, h1, h2, h3, fun i k n hi hk hn => ?_⟩
  rw [h4 i k n hi hk hn, eL]
  constructor
  · rintro ⟨a, b⟩; exact ⟨a, by rw [e k n a hn]; exact b⟩
  · rintro ⟨a, b⟩; exact ⟨a, by rw [← e k n a hn]; exact b⟩
/-- s1 is s but for the lots' stock and income and the demands -/
def ag34 (s s1 : Nat → Int32) : Prop := ∀ j, (j < 164 ∨ 525 ≤ j ∨ j = 464 ∨ (∃ k i, k < 12 ∧ i < 25 ∧ i ≠ 3 ∧ i ≠ 4 ∧ j = 164 + 25 * k + i)) → s1 j = s j
theorem ag34.lt (h : ag34 s s1) {k i : Nat} (hk : k < 12) (hi : i < 25) (h3 : i ≠ 3) (h4 : i ≠ 4) : lt s1 k i = lt s k i := h _ (Or.inr (Or.inr (Or.inr ⟨k, i, hk, hi, h3, h4, rfl⟩)))
theorem ag34.tr {s2 : Nat → Int32} (h : ag34 s s1) (h2 : ag34 s1 s2) : ag34 s s2 := fun j hj => (h2 j hj).trans (h j hj)
theorem ag34.rf : ag34 s s := fun _ _ => rfl
theorem ag34_lts {k a : Nat} {v : Int32} (hk : k < 12) (ha : a = 3 ∨ a = 4) : ag34 s (lts s k a v) := fun j hj => lts_ne (by
  rcases hj with h | h | h | ⟨k', i, h1, h2, h3, h4, h5⟩ <;> omega)
theorem ag34_dlv {k d : Nat} (hk : k < 12) (hd : d < 10) : ag34 s (dlv s k d) := fun j hj => by
  have : j ≠ 164 + 25 * k + 4 ∧ j ≠ 465 + 6 * d + 5 ∧ j ≠ 465 + 6 * d + 2 := by
    rcases hj with h | h | h | ⟨k', i, h1, h2, h3, h4, h5⟩ <;> omega
  exact dlv_ne this.1 this.2.1 this.2.2
theorem ag34_good {k D : Nat} (hk : k < 12) (hD : D ≤ 10) : ag34 s (goodS s k D) := by
  unfold goodS
  split
  · exact ag34_lts hk (Or.inl rfl)
  · rename_i h
    exact ag34_dlv hk (by have := (bo_nat (by omega) h).1; omega)
theorem ag34.vv {I : Nat → Int32} {A : Nat → Nat → Int32} (h : ag34 s s1) (hV : st_V s I A) : st_V s1 I A := hV.cg (fun j hj => h j (by omega)) (fun p hp => h _ (by omega)) (fun j h1 _ => h j (by omega))
theorem ag34.pc (h : ag34 s s1) (hJ : jp s) (hP : pc_P V g S P kx pw s F) : pc_P V g S P kx pw s1 F := hP.cg (fun _ _ => rfl) (fun p i hp hi => h _ (by omega)) (fun p i hp ho hi => h.lt (by have := (hJ.1 p hp ho).1; have := hJ.2.2.1; omega) (by omega) (by omega) (by omega))
theorem ag34.ot (h : ag34 s s1) (hP : ot_P V g S m P kx s n0) : ot_P V g S m P kx s1 n0 := hP.cg (fun p i hp hi => h _ (by omega))
theorem ag34.nL (h : ag34 s s1) : nL s1 = nL s := nL_cg (h _ (by omega))
theorem ag34.nD (h : ag34 s s1) : nD s1 = nD s := nD_cg (h _ (by omega))
theorem ag34.go (h : ag34 s s1) (h12 : CAnnealingLehrLaw_law_r3166_64f5e3.nL s ≤ 12) (hP : go_P V g S l s n1) : go_P V g S l s1 n1 := hP.cg h12 h.nL (fun k n hk hn => h.lt (by omega) (by omega) (by omega) (by omega))
theorem ag34.pn {nx : Int32} (h : ag34 s s1) (hP : pn_P V g S m nx s) : pn_P V g S m nx s1 := hP.cg (fun j hj => h j (by omega))
theorem ag34.jp (h : ag34 s s1) (hJ : jp s) : jp s1 := by
  have e : ∀ p i, p < 24 → i < 5 → pl s1 p i = pl s p i := fun p i hp hi => h _ (by omega)
  have ek : ∀ p, p < 24 → pk s1 p = pk s p := fun p hp => by unfold pk; rw [e p 0 hp (by omega)]
  have en : ∀ p, p < 24 → qn s1 p = qn s p := fun p hp => by unfold qn; rw [e p 1 hp (by omega)]
  have eo : ∀ p, p < 24 → (oc s1 p → oc s p) := fun p hp => by unfold oc; rw [e p 0 hp (by omega)]; exact id
  have h12 := hJ.2.2.1
  have el : ∀ k, k < CAnnealingLehrLaw_law_r3166_64f5e3.nL s → ldN s1 k = ldN s k := fun k hk => by unfold ldN; rw [h.lt (by omega) (by omega) (by omega) (by omega)]
  refine ⟨fun p hp ho => ?_, fun p q hp hq h1 h2 => ?_, by rw [h.nL]; exact h12, fun k hk => ?_⟩
  · obtain ⟨a1, a2, a3, a4, a5⟩ := hJ.1 p hp (eo p hp ho)
    rw [ek p hp, en p hp, h.nL, el _ a1, e p 0 hp (by omega), e p 1 hp (by omega), h.lt (by omega) (by have := hJ.2.2.2 _ a1; omega) (by omega) (by omega)]
    exact ⟨a1, a2, a3, a4, a5⟩
  · rw [ek p hp, ek q hq, en p hp, en q hq]; exact hJ.2.1 p q hp hq (eo p hp h1) (eo q hq h2)
  · rw [h.nL] at hk; rw [el k hk]; exact hJ.2.2.2 k hk
end Cg
/-- kinds are kinds -/
def jk (s : Nat → Int32) : Prop := ∀ k, k < nL s → lt s k 0 = nI (kd s k)
theorem fateP_N {s : Nat → Int32} {F : Nat → UInt32} {p : Nat} (h : lt s (pk s p) 0 = nI (kd s (pk s p))) : fateP (pl s p 2) (F p) (kd s (pk s p)) = fateN s F p := by
  unfold fateP fateN
  rw [show (pl s p 0).toNatClampNeg = pk s p from rfl, h]
theorem fateN_nat (s : Nat → Int32) (F : Nat → UInt32) (p : Nat) : ∃ f, fateN s F p = nI f ∧ 1 ≤ f ∧ f < 4 := by
  unfold fateN
  split
  · split
    · exact ⟨1, rfl, by omega, by omega⟩
    · exact ⟨2, rfl, by omega, by omega⟩
  · exact ⟨3, rfl, by omega, by omega⟩
/-- the pieces but the one at p -/
def px_P (V : gh_V) (g : gh_G) (S : Nat) (P : Nat → Option Nat) (kx pw : Nat → Nat) (s : Nat → Int32) (F : Nat → UInt32) (p : Nat) : Prop := ∀ r, r < 24 → r ≠ p → (pl s r 0 = -1 → P r = none) ∧ (oc s r → ∃ q, P r = some q ∧ pc1 V g S s F r q (kx r) (pw r))
section Px
variable {V : gh_V} {g g1 : gh_G} {S p q : Nat} {s : Nat → Int32} {F : Nat → UInt32} {P : Nat → Option Nat} {kx pw : Nat → Nat} {ks : List Nat}
theorem pc_P.px (h : pc_P V g S P kx pw s F) : px_P V g S P kx pw s F p := fun r hr _ => h r hr
theorem px_P.kp (h : px_P V g S P kx pw s F p) (hf : gh_fv S ks g g1) (hk : ∀ j, j ∈ [1, 2, 7] → j ∉ ks) : px_P V g1 S P kx pw s F p := fun r hr hne =>
  ⟨(h r hr hne).1, fun ho => by obtain ⟨q, h1, h2⟩ := (h r hr hne).2 ho; exact ⟨q, h1, h2.kp hf hk⟩⟩
theorem px_P.ow (h : px_P V g S P kx pw s F p) (hJ : jp s) (hp : p < 24) (ho : oc s p) {x : gh_E} (ha : g q = some ((S, 7, cd s p), x)) (hn : ∀ b, b ≠ q → g1 b = g b) : px_P V g1 S P kx pw s F p := fun r hr hne => by
  refine ⟨(h r hr hne).1, fun ho2 => ?_⟩
  obtain ⟨q1, h1, h2, h3, h4⟩ := (h r hr hne).2 ho2
  have e1 : q1 ≠ q := fun e => by
    rw [e, ha] at h2
    have := congrArg (fun z => z.1.2.2) (Option.some.inj h2)
    exact hne (cd_inj hJ hp hr ho ho2 this).symm
  refine ⟨q1, h1, (hn _ e1).trans h2, h3.keep (fun t y hb ht => ?_), h4.keep (fun b t y hb ht => ?_)⟩
  · rw [hn _ (fun e => by rw [e, ha] at hb; cases hb; exact absurd (show 7 = 1 from ht) (by decide))]; exact hb
  · rw [hn _ (fun e => by rw [e, ha] at hb; cases hb; exact absurd (show 7 = 2 from ht.2) (by decide))]; exact hb
/-- back: the piece at p has new fields -/
theorem px_P.back {s1 : Nat → Int32} {F1 : Nat → UInt32} (h : px_P V g S P kx pw s F p) (hp : p < 24) (hJ : jp s) (ho : oc s p) (hPq : P p = some q) (e : ∀ r i, r < 24 → i < 4 → ¬ (r = p ∧ 2 ≤ i) → pl s1 r i = pl s r i) (eF : ∀ r, r ≠ p → F1 r = F r) (el : ∀ k i, k < 12 → i < 2 → lt s1 k i = lt s k i)
    (hq : g q = some ((S, 7, cd s p), oo 5 [.ref (kx p), .ref (pw p), .int (nI p), .int (pl s1 p 3), .int (pl s1 p 2), .float (F1 p)])) (hk : ky_P V g 9 (kx p) (cd s p)) (hw : wa_P V g (pw p) (kd s (pk s p)) (lt s (pk s p) 1)) : pc_P V g S P kx pw s1 F1 := fun r hr => by
  have h12 := hJ.2.2.1
  by_cases c : r = p
  · subst c
    refine ⟨fun h9 => absurd ((e r 0 hr (by omega) (by omega)).symm.trans h9) ho, fun h9 => ⟨q, hPq, ?_⟩⟩
    have ek : pk s1 r = pk s r := by unfold pk; rw [e r 0 hr (by omega) (by omega)]
    have ec : cd s1 r = cd s r := by unfold cd; rw [ek, e r 1 hr (by omega) (by omega)]
    have hkl := (hJ.1 r hr ho).1
    unfold pc1 kd
    rw [ek, ec, el _ 0 (by omega) (by omega), el _ 1 (by omega) (by omega)]
    exact ⟨hq, hk, hw⟩
  · refine ⟨fun h9 => (h r hr c).1 ((e r 0 hr (by omega) (by omega)).symm.trans h9), fun h9 => ?_⟩
    have ho2 : oc s r := fun h8 => h9 ((e r 0 hr (by omega) (by omega)).trans h8)
    obtain ⟨q1, h1, h2⟩ := (h r hr c).2 ho2
    exact ⟨q1, h1, h2.cg (eF r c) (fun i hi => e r i hr hi (by omega)) (fun i hi => el _ _ (by have := (hJ.1 r hr ho2).1; omega) hi)⟩
end Px
theorem tick_ne {s : Nat → Int32} {p j : Nat} (h : j ≠ 43 + 5 * p + 3) : tick s p j = s j := if_neg h
theorem tick_3 {s : Nat → Int32} {p : Nat} : pl (tick s p) p 3 = pl s p 3 + 1 := if_pos rfl
theorem tick_pl {s : Nat → Int32} {p r i : Nat} (hi : i < 5) (h : ¬ (r = p ∧ i = 3)) : pl (tick s p) r i = pl s r i := tick_ne (by omega)
theorem jp_cg {s s1 : Nat → Int32} (hJ : jp s) (e : ∀ p i, p < 24 → i < 2 → pl s1 p i = pl s p i) (el : ∀ j, 163 ≤ j → j < 464 → s1 j = s j) : jp s1 := by
  have ek : ∀ p, p < 24 → pk s1 p = pk s p := fun p hp => by unfold pk; rw [e p 0 hp (by omega)]
  have en : ∀ p, p < 24 → qn s1 p = qn s p := fun p hp => by unfold qn; rw [e p 1 hp (by omega)]
  have eo : ∀ p, p < 24 → (oc s1 p → oc s p) := fun p hp => by unfold oc; rw [e p 0 hp (by omega)]; exact id
  have h12 := hJ.2.2.1
  have eL : nL s1 = nL s := nL_cg (el _ (by omega) (by omega))
  have elt : ∀ k i, k < nL s → i < 25 → lt s1 k i = lt s k i := fun k i hk hi => el _ (by omega) (by omega)
  have eld : ∀ k, k < nL s → ldN s1 k = ldN s k := fun k hk => by unfold ldN; rw [elt k 2 hk (by omega)]
  refine ⟨fun p hp ho => ?_, fun p q hp hq h1 h2 => ?_, by rw [eL]; exact h12, fun k hk => ?_⟩
  · obtain ⟨a1, a2, a3, a4, a5⟩ := hJ.1 p hp (eo p hp ho)
    rw [ek p hp, en p hp, eL, eld _ a1, e p 0 hp (by omega), e p 1 hp (by omega), elt _ _ a1 (by have := hJ.2.2.2 _ a1; omega)]
    exact ⟨a1, a2, a3, a4, a5⟩
  · rw [ek p hp, ek q hq, en p hp, en q hq]; exact hJ.2.1 p q hp hq (eo p hp h1) (eo q hq h2)
  · rw [eL] at hk; rw [eld k hk]; exact hJ.2.2.2 k hk
theorem jp_end {s : Nat → Int32} {p f : Nat} (hJ : jp s) (hp : p < 24) (ho : oc s p) : jp (endS s p (nI f)) := by
  obtain ⟨a1, a2, a3, a4, a5⟩ := hJ.1 p hp ho
  have h12 := hJ.2.2.1
  have h20 := hJ.2.2.2 _ a1
  have eL : nL (endS s p (nI f)) = nL s := nL_cg (endS_o (by omega) (by omega) hp (by omega))
  have e0 : ∀ q, q < 24 → oc (endS s p (nI f)) q → q ≠ p ∧ oc s q ∧ pk (endS s p (nI f)) q = pk s q ∧ qn (endS s p (nI f)) q = qn s q ∧ pl (endS s p (nI f)) q 0 = pl s q 0 ∧ pl (endS s p (nI f)) q 1 = pl s q 1 := fun q hq h9 => by
    have hne : q ≠ p := fun e => h9 (by rw [e]; exact endS_0)
    have e1 := endS_pl (s := s) (f := nI f) (i := 0) hp hq hne (by omega)
    have e2 := endS_pl (s := s) (f := nI f) (i := 1) hp hq hne (by omega)
    exact ⟨hne, fun h8 => h9 (e1.trans h8), by unfold pk; rw [e1], by unfold qn; rw [e2], e1, e2⟩
  have eld : ∀ k, ldN (endS s p (nI f)) k = ldN s k := fun k => by unfold ldN; rw [endS_lt (by omega) hp (by omega), if_neg (by omega)]
  refine ⟨fun q hq h9 => ?_, fun q r hq hr h1 h2 => ?_, by rw [eL]; exact h12, fun k hk => by rw [eld]; rw [eL] at hk; exact hJ.2.2.2 k hk⟩
  · obtain ⟨hne, ho2, ek, en, e1, e2⟩ := e0 q hq h9
    obtain ⟨b1, b2, b3, b4, b5⟩ := hJ.1 q hq ho2
    have hb := hJ.2.2.2 _ b1
    rw [ek, en, eL, eld, e1, e2, endS_lt (by omega) hp (by omega), if_neg (fun u => hne (hJ.2.1 q p hq hp ho2 ho u.1 (by omega)))]
    exact ⟨b1, b2, b3, b4, b5⟩
  · obtain ⟨-, o1, k1, m1, -⟩ := e0 q hq h1
    obtain ⟨-, o2, k2, m2, -⟩ := e0 r hr h2
    rw [k1, k2, m1, m2]
    exact hJ.2.1 q r hq hr o1 o2
/-! SHIFT -/
theorem shS_1 {s : Nat → Int32} {p : Nat} : pl (shS s p 1) p 1 = pl s p 1 := by
  show upd (upd s (43 + 5 * (p + 1) + 0) _) (43 + 5 * p + 0) _ (43 + 5 * p + 1) = s (43 + 5 * p + 1)
  unfold upd
  rw [if_neg (by omega), if_neg (by omega)]
theorem shS_2 {s : Nat → Int32} {p : Nat} : pl (shS s p 2) p 2 = pl s p 2 := by
  show upd (upd (shS s p 1) (43 + 5 * (p + 1) + 1) _) (43 + 5 * p + 1) _ (43 + 5 * p + 2) = s (43 + 5 * p + 2)
  unfold upd
  rw [if_neg (by omega), if_neg (by omega)]
  show upd (upd s (43 + 5 * (p + 1) + 0) _) (43 + 5 * p + 0) _ (43 + 5 * p + 2) = s (43 + 5 * p + 2)
  unfold upd
  rw [if_neg (by omega), if_neg (by omega)]
theorem shiftS_v {s : Nat → Int32} {p : Nat} (j : Nat) : shiftS s p j = if j = 43 + 5 * p + 0 then -1 else if j = 43 + 5 * p + 3 then 0 else if j = 43 + 5 * (p + 1) + 3 then 0 else if j = 43 + 5 * p + 2 then 0 else if j = 43 + 5 * (p + 1) + 2 then pl s p 2 else if j = 43 + 5 * p + 1 then 0 else if j = 43 + 5 * (p + 1) + 1 then pl s p 1 else if j = 43 + 5 * p + 0 then 0 else if j = 43 + 5 * (p + 1) + 0 then pl s p 0 else s j := by
  rw [← shS_1 (s := s) (p := p), ← shS_2 (s := s) (p := p)]; rfl
theorem shift_v {s : Nat → Int32} {p : Nat} (hp : p < 23) (r i : Nat) (hr : r < 24) (hi : i < 5) : pl (shiftS s p) r i = if r = p then (if i = 0 then -1 else if i < 4 then 0 else pl s r i) else if r = p + 1 then (if i < 3 then pl s p i else if i = 3 then 0 else pl s r i) else pl s r i := by
  have e9 : pl s r i = s (43 + 5 * r + i) := rfl
  rw [show pl (shiftS s p) r i = shiftS s p (43 + 5 * r + i) from rfl, shiftS_v, e9]
  have : i = 0 ∨ i = 1 ∨ i = 2 ∨ i = 3 ∨ i = 4 := by omega
  by_cases h1 : r = p
  · subst h1
    rw [if_pos (rfl : r = r)]
    rcases this with rfl | rfl | rfl | rfl | rfl
    all_goals (repeat (first | rw [if_neg (by omega)] | rw [if_pos (by omega)]))
  · rw [if_neg h1]
    by_cases h2 : r = p + 1
    · subst h2
      rw [if_pos (rfl : p + 1 = p + 1)]
      rcases this with rfl | rfl | rfl | rfl | rfl
      all_goals (repeat (first | rw [if_neg (by omega)] | rw [if_pos (by omega)]))
    · rw [if_neg h2]
      rw [if_neg (by omega), if_neg (by omega), if_neg (by omega), if_neg (by omega), if_neg (by omega), if_neg (by omega), if_neg (by omega), if_neg (by omega), if_neg (by omega)]
theorem shift_o {s : Nat → Int32} {p j : Nat} (hp : p < 23) (hj : j < 43 ∨ 163 ≤ j) : shiftS s p j = s j := by
  unfold shiftS shS shS shS shS ps upd
  rw [if_neg (by omega), if_neg (by omega), if_neg (by omega), if_neg (by omega), if_neg (by omega), if_neg (by omega), if_neg (by omega), if_neg (by omega), if_neg (by omega)]
theorem shift_4 {s : Nat → Int32} {p : Nat} (hp : p < 23) (r : Nat) (hr : r < 24) : pl (shiftS s p) r 4 = pl s r 4 := by
  rw [shift_v hp r 4 hr (by omega)]
  by_cases h1 : r = p
  · rw [if_pos h1]; rfl
  · rw [if_neg h1]
    by_cases h2 : r = p + 1
    · rw [if_pos h2]; rfl
    · rw [if_neg h2]
theorem shift_V {s : Nat → Int32} {p : Nat} (hp : p < 23) {I : Nat → Int32} {A : Nat → Nat → Int32} (h : st_V s I A) : st_V (shiftS s p) I A := h.cg (fun j hj => shift_o hp (Or.inl hj)) (fun r hr => shift_4 hp r hr) (fun j h1 _ => shift_o hp (by omega))
section Shift
variable {V : gh_V} {g : gh_G} {S p q m n0 : Nat} {s : Nat → Int32} {F : Nat → UInt32} {P : Nat → Option Nat} {kx pw : Nat → Nat}
theorem shift_at (hp : p < 23) : ¬ (p + 1 = p) := by omega
theorem shift_oc (hp : p < 23) (hf : pl s (p + 1) 0 = -1) {r : Nat} (hr : r < 24) : oc (shiftS s p) r ↔ (r = p + 1 ∧ oc s p) ∨ (r ≠ p + 1 ∧ r ≠ p ∧ oc s r) := by
  unfold oc
  rw [shift_v hp r 0 hr (by omega)]
  by_cases h1 : r = p
  · subst h1
    rw [if_pos rfl, if_pos rfl]
    constructor
    · intro h; exact absurd rfl h
    · rintro (⟨h, -⟩ | ⟨-, h, -⟩)
      · omega
      · exact absurd rfl h
  · rw [if_neg h1]
    by_cases h2 : r = p + 1
    · subst h2
      rw [if_pos rfl, if_pos (by omega)]
      constructor
      · intro h; exact Or.inl ⟨rfl, h⟩
      · rintro (⟨-, h⟩ | ⟨h, -⟩)
        · exact h
        · exact absurd rfl h
    · rw [if_neg h2]
      constructor
      · intro h; exact Or.inr ⟨h2, h1, h⟩
      · rintro (⟨h, -⟩ | ⟨-, -, h⟩)
        · exact absurd h h2
        · exact h
theorem shift_cd (hp : p < 23) {r : Nat} (hr : r < 24) (hne : r ≠ p) : pk (shiftS s p) r = (if r = p + 1 then pk s p else pk s r) ∧ qn (shiftS s p) r = if r = p + 1 then qn s p else qn s r := by
  unfold pk qn
  rw [shift_v hp r 0 hr (by omega), shift_v hp r 1 hr (by omega), if_neg hne, if_neg hne]
  by_cases h2 : r = p + 1
  · subst h2; simp
  · simp only [if_neg h2]; exact ⟨trivial, trivial⟩
theorem shift_lt (hp : p < 23) {k i : Nat} : lt (shiftS s p) k i = lt s k i := shift_o hp (by omega)
theorem shift_pc (h : px_P V g S P kx pw s F p) (hp : p < 23) (hJ : jp s) (ho : oc s p) (hf : pl s (p + 1) 0 = -1)
    (hq : g q = some ((S, 7, cd s p), oo 5 [.ref (kx p), .ref (pw p), .int (nI (p + 1)), .int 0, .int (pl s p 2), .float (F p)])) (hk : ky_P V g 9 (kx p) (cd s p)) (hw : wa_P V g (pw p) (kd s (pk s p)) (lt s (pk s p) 1)) : pc_P V g S (va_up (va_up P p none) (p + 1) (some q)) (va_up kx (p + 1) (kx p)) (va_up pw (p + 1) (pw p)) (shiftS s p) (shiftT F p) := fun r hr => by
  by_cases c : r = p + 1
  · subst c
    refine ⟨fun h9 => absurd h9 ((shift_oc hp hf hr).mpr (Or.inl ⟨rfl, ho⟩)), fun _ => ⟨q, va_up_self _ _ _, ?_⟩⟩
    obtain ⟨e1, e2⟩ := shift_cd (s := s) hp hr (by omega)
    rw [if_pos rfl] at e1 e2
    have e3 : pl (shiftS s p) (p + 1) 3 = 0 := by rw [shift_v hp (p + 1) 3 hr (by omega), if_neg (by omega), if_pos rfl]; rfl
    have e4 : pl (shiftS s p) (p + 1) 2 = pl s p 2 := by rw [shift_v hp (p + 1) 2 hr (by omega), if_neg (by omega), if_pos rfl]; rfl
    unfold pc1 cd kd
    rw [e1, show (pl (shiftS s p) (p + 1) 1).toNatClampNeg = qn (shiftS s p) (p + 1) from rfl, e2, shift_lt hp, shift_lt hp, e3, e4, va_up_self, va_up_self]
    unfold shiftT
    rw [va_up_ne _ _ (by omega), va_up_self]
    exact ⟨hq, hk, hw⟩
  · rw [va_up_ne _ _ c, va_up_ne _ _ c, va_up_ne _ _ c]
    by_cases c2 : r = p
    · subst c2
      rw [va_up_self]
      exact ⟨fun _ => rfl, fun h9 => by rcases (shift_oc hp hf hr).mp h9 with ⟨h, -⟩ | ⟨-, h, -⟩; exact absurd h c; exact absurd rfl h⟩
    · rw [va_up_ne _ _ c2]
      have e0 : ∀ i, i < 5 → pl (shiftS s p) r i = pl s r i := fun i hi => by rw [shift_v hp r i hr hi, if_neg c2, if_neg c]
      refine ⟨fun h9 => (h r hr c2).1 ((e0 0 (by omega)).symm.trans h9), fun h9 => ?_⟩
      obtain ⟨q1, h1, h2⟩ := (h r hr c2).2 (fun h8 => h9 ((e0 0 (by omega)).trans h8))
      refine ⟨q1, h1, h2.cg ?_ (fun i hi => e0 i (by omega)) (fun i _ => shift_lt hp)⟩
      unfold shiftT
      rw [va_up_ne _ _ c2, va_up_ne _ _ c]
theorem shift_ot (h : ot_P V g S m P kx s n0) (hp : p < 23) (ho : oc s p) (hf : pl s (p + 1) 0 = -1) (hq : P p = some q) : ot_P V g S m (va_up (va_up P p none) (p + 1) (some q)) (va_up kx (p + 1) (kx p)) (shiftS s p) n0 := by
  obtain ⟨M, h1, h2, h3, h4⟩ := h
  have ecd : ∀ r, r < 24 → r ≠ p → cd (shiftS s p) r = if r = p + 1 then cd s p else cd s r := fun r hr hne => by
    obtain ⟨e1, e2⟩ := shift_cd (s := s) hp hr hne
    rw [cd_eq, e1, e2, cd_eq, cd_eq]
    split <;> rfl
  refine ⟨M, h1, h2, fun r hr ho2 => ?_, fun e he => ?_⟩
  · rcases (shift_oc hp hf hr).mp ho2 with ⟨c, -⟩ | ⟨c, c2, ho3⟩
    · rw [ecd r hr (by omega), if_pos c, c, va_up_self, va_up_self, ← hq]; exact h3 p (by omega) ho
    · rw [ecd r hr c2, if_neg c, va_up_ne _ _ c, va_up_ne _ _ c, va_up_ne _ _ c2]; exact h3 r hr ho3
  · obtain ⟨r, hr, ho2, rfl⟩ := h4 e he
    by_cases c : r = p
    · subst c
      refine ⟨r + 1, by omega, (shift_oc hp hf (by omega)).mpr (Or.inl ⟨rfl, ho⟩), ?_⟩
      rw [ecd _ (by omega) (by omega), if_pos rfl, va_up_self, va_up_self, hq]
    · have c1 : r ≠ p + 1 := fun e => by subst e; exact ho2 hf
      refine ⟨r, hr, (shift_oc hp hf hr).mpr (Or.inr ⟨c1, c, ho2⟩), ?_⟩
      rw [ecd r hr c, if_neg c1, va_up_ne _ _ c1, va_up_ne _ _ c1, va_up_ne _ _ c]
theorem jp_shift (hJ : jp s) (hp : p < 23) (ho : oc s p) (hf : pl s (p + 1) 0 = -1) : jp (shiftS s p) := by
  have eL : nL (shiftS s p) = nL s := nL_cg (shift_o hp (by omega))
  have eld : ∀ k, ldN (shiftS s p) k = ldN s k := fun k => by unfold ldN; rw [shift_lt hp]
  have src : ∀ r, r < 24 → oc (shiftS s p) r → ∃ r', r' < 24 ∧ oc s r' ∧ pk (shiftS s p) r = pk s r' ∧ qn (shiftS s p) r = qn s r' ∧ pl (shiftS s p) r 0 = pl s r' 0 ∧ pl (shiftS s p) r 1 = pl s r' 1 ∧ (r = p + 1 ∧ r' = p ∨ r ≠ p + 1 ∧ r' = r ∧ r ≠ p) := fun r hr h9 => by
    rcases (shift_oc hp hf hr).mp h9 with ⟨c, -⟩ | ⟨c, c2, ho3⟩
    · obtain ⟨e1, e2⟩ := shift_cd (s := s) hp hr (by omega)
      rw [if_pos c] at e1 e2
      exact ⟨p, by omega, ho, e1, e2, by rw [shift_v hp r 0 hr (by omega), if_neg (by omega), if_pos c, if_pos (by omega)], by rw [shift_v hp r 1 hr (by omega), if_neg (by omega), if_pos c, if_pos (by omega)], Or.inl ⟨c, rfl⟩⟩
    · obtain ⟨e1, e2⟩ := shift_cd (s := s) hp hr c2
      rw [if_neg c] at e1 e2
      exact ⟨r, hr, ho3, e1, e2, by rw [shift_v hp r 0 hr (by omega), if_neg c2, if_neg c], by rw [shift_v hp r 1 hr (by omega), if_neg c2, if_neg c], Or.inr ⟨c, rfl, c2⟩⟩
  refine ⟨fun r hr h9 => ?_, fun r r2 hr hr2 h1 h2 => ?_, by rw [eL]; exact hJ.2.2.1, fun k hk => by rw [eld]; rw [eL] at hk; exact hJ.2.2.2 k hk⟩
  · obtain ⟨r', hr', ho', e1, e2, e3, e4, -⟩ := src r hr h9
    rw [e1, e2, e3, e4, eL, eld, shift_lt hp]
    exact hJ.1 r' hr' ho'
  · obtain ⟨r', hr', ho', e1, e2, -, -, c⟩ := src r hr h1
    obtain ⟨r2', hr2', ho2', f1, f2, -, -, c'⟩ := src r2 hr2 h2
    rw [e1, e2, f1, f2]
    intro u v
    have := hJ.2.1 r' r2' hr' hr2' ho' ho2' u v
    omega
end Shift
/-! movePiece, breakPieces: the plain law -/
section Mv
variable {s : Nat → Int32} {F : Nat → UInt32} {n : Int32} {p D : Nat}
theorem mv1_0 (h : pl s p 0 = -1) : mv1 D (s, F, n) p = (s, F, n) := if_pos h
theorem mv1_1 (h : oc s p) (h1 : zn s (p / 3) 2 = 0) (hp : p < 24) : mv1 D (s, F, n) p = (tick s p, F, n) := by
  have e : zn (tick s p) (p / 3) 2 = zn s (p / 3) 2 := tick_ne (by omega)
  exact (if_neg h).trans (if_pos (show zn (tick s p) (p / 3) 2 ≤ 0 by rw [e, h1]; decide))
theorem mv1_ge {r : Nat} (hr : zn s (p / 3) 2 = nI r) (h9 : r ≤ 9) (h1 : ¬ zn s (p / 3) 2 = 0) (hp : p < 24) : ¬ zn (tick s p) (p / 3) 2 ≤ 0 := by
  have e : zn (tick s p) (p / 3) 2 = zn s (p / 3) 2 := tick_ne (by omega)
  rw [e, hr]
  rw [hr] at h1
  intro h
  have := (nx_le (a := r) (b := 0) rfl rfl (by omega) (by omega)).mp h
  exact h1 (by rw [show r = 0 by omega]; rfl)
theorem mv1_2 (h : oc s p) (h1 : ¬ zn (tick s p) (p / 3) 2 ≤ 0) (h2 : pl s p 3 + 1 < zn s (p / 3) 2) (hp : p < 24) : mv1 D (s, F, n) p = (tick s p, F, n) := by
  have e : zn (tick s p) (p / 3) 2 = zn s (p / 3) 2 := tick_ne (by omega)
  exact (if_neg h).trans ((if_neg h1).trans (if_pos (show pl (tick s p) p 3 < _ by rw [e, tick_3]; exact h2)))
theorem mv1_3 (h : oc s p) (h1 : ¬ zn (tick s p) (p / 3) 2 ≤ 0) (h2 : ¬ pl s p 3 + 1 < zn s (p / 3) 2) (h3 : p = 23) (hp : p < 24) : mv1 D (s, F, n) p = (coutS (tick s p) F D, va_up F 23 FP.fconst0, n + 1) := by
  have e : zn (tick s p) (p / 3) 2 = zn s (p / 3) 2 := tick_ne (by omega)
  exact (if_neg h).trans ((if_neg h1).trans ((if_neg (show ¬ pl (tick s p) p 3 < _ by rw [e, tick_3]; exact h2)).trans (if_pos h3)))
theorem mv1_4 (h : oc s p) (h1 : ¬ zn (tick s p) (p / 3) 2 ≤ 0) (h2 : ¬ pl s p 3 + 1 < zn s (p / 3) 2) (h3 : ¬ p = 23) (h4 : pl (tick s p) (p + 1) 0 = -1 ∧ pl (tick s p) (p + 1) 4 = 0) (hp : p < 24) : mv1 D (s, F, n) p = (shiftS (tick s p) p, shiftT F p, n) := by
  have e : zn (tick s p) (p / 3) 2 = zn s (p / 3) 2 := tick_ne (by omega)
  exact (if_neg h).trans ((if_neg h1).trans ((if_neg (show ¬ pl (tick s p) p 3 < _ by rw [e, tick_3]; exact h2)).trans ((if_neg h3).trans (if_pos h4))))
theorem mv1_5 (h : oc s p) (h1 : ¬ zn (tick s p) (p / 3) 2 ≤ 0) (h2 : ¬ pl s p 3 + 1 < zn s (p / 3) 2) (h3 : ¬ p = 23) (h4 : ¬ (pl (tick s p) (p + 1) 0 = -1 ∧ pl (tick s p) (p + 1) 4 = 0)) (hp : p < 24) : mv1 D (s, F, n) p = (tick s p, F, n) := by
  have e : zn (tick s p) (p / 3) 2 = zn s (p / 3) 2 := tick_ne (by omega)
  exact (if_neg h).trans ((if_neg h1).trans ((if_neg (show ¬ pl (tick s p) p 3 < _ by rw [e, tick_3]; exact h2)).trans ((if_neg h3).trans (if_neg h4))))
end Mv
section Tk
variable {V : gh_V} {g : gh_G} {S p q l m n0 n1 : Nat} {s : Nat → Int32} {F : Nat → UInt32} {P : Nat → Option Nat} {kx pw : Nat → Nat}
theorem px_free (h : px_P V g S P kx pw s F p) {r : Nat} (hr : r < 24) (hne : r ≠ p) : P r = none ↔ pl s r 0 = -1 := by
  constructor
  · intro h1
    by_cases c : pl s r 0 = -1
    · exact c
    · obtain ⟨q, h2, -⟩ := (h r hr hne).2 c
      rw [h1] at h2; cases h2
  · exact (h r hr hne).1
theorem pc_free (h : pc_P V g S P kx pw s F) {r : Nat} (hr : r < 24) : P r = none ↔ pl s r 0 = -1 := px_free (p := 24) (fun r hr _ => h r hr) hr (by omega)
theorem tick_o {j : Nat} (hp : p < 24) (h : j < 43 ∨ 163 ≤ j) : tick s p j = s j := tick_ne (by omega)
theorem jp_tick (hJ : jp s) (hp : p < 24) : jp (tick s p) := jp_cg hJ (fun r i _ hi => tick_pl (by omega) (by omega)) (fun j h1 _ => tick_o hp (by omega))
theorem jk_cg {s1 : Nat → Int32} (h : jk s) (h12 : nL s ≤ 12) (e : ∀ j, 163 ≤ j → j < 464 → s1 j = s j) : jk s1 := fun k hk => by
  rw [nL_cg (e 163 (by omega) (by omega))] at hk
  have : lt s1 k 0 = lt s k 0 := e _ (by omega) (by omega)
  unfold kd
  rw [this]; exact h k hk
theorem tick_V {I : Nat → Int32} {A : Nat → Nat → Int32} (hp : p < 24) (h : st_V s I A) : st_V (tick s p) I A := h.cg (fun j hj => tick_o hp (by omega)) (fun r hr => tick_pl (by omega) (by omega)) (fun j h1 _ => tick_o hp (by omega))
theorem px_P.tick (h : px_P V g S P kx pw s F p) (hp : p < 24) : px_P V g S P kx pw (tick s p) F p := fun r hr hne => by
  have e : ∀ i, i < 5 → pl (CAnnealingLehrLaw_law_r3166_64f5e3.tick s p) r i = pl s r i := fun i hi => tick_pl hi (by omega)
  refine ⟨fun h9 => (h r hr hne).1 ((e 0 (by omega)).symm.trans h9), fun h9 => ?_⟩
  obtain ⟨q, h1, h2⟩ := (h r hr hne).2 (fun h8 => h9 ((e 0 (by omega)).trans h8))
  exact ⟨q, h1, h2.cg rfl (fun i hi => e i (by omega)) (fun i hi => tick_o hp (by omega))⟩
end Tk
/-! breaks -/
theorem endS_ps {s : Nat → Int32} {p : Nat} {v f : Int32} (hp : p < 24) (hk : pk s p < 12) (hn : qn s p < 20) : endS (ps s p 4 v) p f = ps (endS s p f) p 4 v := by
  have e0 : pk (ps s p 4 v) p = pk s p := by unfold pk pl ps upd; rw [if_neg (by omega)]
  have e1 : qn (ps s p 4 v) p = qn s p := by unfold qn pl ps upd; rw [if_neg (by omega)]
  funext j
  rw [endS_v, e0, e1]
  show _ = (if j = 43 + 5 * p + 4 then v else endS s p f j)
  rw [endS_v]
  show (if _ then _ else if _ then _ else if _ then _ else if _ then _ else if _ then _ else (if j = 43 + 5 * p + 4 then v else s j)) = _
  by_cases h : j = 43 + 5 * p + 4
  · rw [if_pos h, if_pos h, if_neg (by omega), if_neg (by omega), if_neg (by omega), if_neg (by omega), if_neg (by omega)]
  · rw [if_neg h, if_neg h]
theorem ps4_o {s : Nat → Int32} {p : Nat} {v : Int32} {j : Nat} (h : j ≠ 43 + 5 * p + 4) : ps s p 4 v j = s j := if_neg h
theorem jp_ps4 {s : Nat → Int32} {p : Nat} {v : Int32} (hJ : jp s) (hp : p < 24) : jp (ps s p 4 v) := jp_cg hJ (fun r i _ hi => ps4_o (by omega)) (fun j h1 _ => ps4_o (by omega))
abbrev stress (s : Nat → Int32) (F : Nat → UInt32) (p : Nat) : Prop := Op.cmpValue (FP.fcmp (F p) (FP.i2f (sp_limit (lt s (pl s p 0).toNatClampNeg 0)))) .l ≤ 0
theorem brk_0 {s : Nat → Int32} {F : Nat → UInt32} {i : Nat} (h : pl (brk s F i).1 i 0 = -1) : brk s F (i + 1) = brk s F i := (brk_s s F i).trans (if_pos h)
theorem brk_1 {s : Nat → Int32} {F : Nat → UInt32} {i : Nat} (h : oc (brk s F i).1 i) (h1 : stress (brk s F i).1 (brk s F i).2.1 i) : brk s F (i + 1) = brk s F i := (brk_s s F i).trans ((if_neg h).trans (if_pos h1))
theorem brk_2 {s : Nat → Int32} {F : Nat → UInt32} {i : Nat} (h : oc (brk s F i).1 i) (h1 : ¬ stress (brk s F i).1 (brk s F i).2.1 i) : brk s F (i + 1) = (ps (endS (brk s F i).1 i 4) i 4 1, va_up (brk s F i).2.1 i FP.fconst0, (brk s F i).2.2 + 1) := (brk_s s F i).trans ((if_neg h).trans (if_neg h1))
def bkN (s : Nat → Int32) (F : Nat → UInt32) : Nat → Nat
  | 0 => 0
  | i + 1 => bkN s F i + (if pl (brk s F i).1 i 0 = -1 then 0 else if stress (brk s F i).1 (brk s F i).2.1 i then 0 else 1)
theorem bkN_0 {s : Nat → Int32} {F : Nat → UInt32} {i : Nat} (h : pl (brk s F i).1 i 0 = -1) : bkN s F (i + 1) = bkN s F i := by
  show bkN s F i + _ = _
  rw [if_pos h]; rfl
theorem bkN_1 {s : Nat → Int32} {F : Nat → UInt32} {i : Nat} (h : oc (brk s F i).1 i) (h1 : stress (brk s F i).1 (brk s F i).2.1 i) : bkN s F (i + 1) = bkN s F i := by
  show bkN s F i + _ = _
  rw [if_neg h, if_pos h1]; rfl
theorem bkN_2 {s : Nat → Int32} {F : Nat → UInt32} {i : Nat} (h : oc (brk s F i).1 i) (h1 : ¬ stress (brk s F i).1 (brk s F i).2.1 i) : bkN s F (i + 1) = bkN s F i + 1 := by
  show bkN s F i + _ = _
  rw [if_neg h, if_neg h1]
theorem jk_end {s : Nat → Int32} {p f : Nat} (hK : jk s) (hJ : jp s) (hp : p < 24) (ho : oc s p) : jk (endS s p (nI f)) := fun k hk => by
  obtain ⟨a1, a2, -⟩ := hJ.1 p hp ho
  have h12 := hJ.2.2.1
  have h20 := hJ.2.2.2 _ a1
  rw [nL_cg (endS_o (by omega) (by omega) hp (by omega))] at hk
  have : lt (endS s p (nI f)) k 0 = lt s k 0 := by rw [endS_lt (by omega) hp (by omega), if_neg (by omega)]
  unfold kd
  rw [this]; exact hK k hk
theorem brk_j {s : Nat → Int32} {F : Nat → UInt32} (hJ : jp s) (hK : jk s) : ∀ i, i ≤ 24 → jp (brk s F i).1 ∧ jk (brk s F i).1 ∧ nL (brk s F i).1 = nL s
  | 0, _ => ⟨hJ, hK, rfl⟩
  | i + 1, hi => by
    obtain ⟨h1, h2, h3⟩ := brk_j hJ hK i (by omega)
    by_cases c : pl (brk s F i).1 i 0 = -1
    · rw [brk_0 c]; exact ⟨h1, h2, h3⟩
    · by_cases c2 : stress (brk s F i).1 (brk s F i).2.1 i
      · rw [brk_1 c c2]; exact ⟨h1, h2, h3⟩
      · rw [brk_2 c c2]
        have e4 : (4 : Int32) = nI 4 := rfl
        obtain ⟨a1, a2, -⟩ := h1.1 i (by omega) c
        have h12 := h1.2.2.1
        have h20 := h1.2.2.2 _ a1
        have j1 := jp_end (f := 4) h1 (show i < 24 by omega) c
        have k1 := jk_end (f := 4) h2 h1 (show i < 24 by omega) c
        rw [← e4] at j1 k1
        refine ⟨jp_ps4 j1 (by omega), jk_cg k1 (j1.2.2.1) (fun j _ _ => ps4_o (by omega)), ?_⟩
        have e5 : nL (ps (endS (brk s F i).1 i 4) i 4 1) = nL (endS (brk s F i).1 i 4) := nL_cg (ps4_o (by omega))
        have e6 : nL (endS (brk s F i).1 i 4) = nL (brk s F i).1 := nL_cg (endS_o (by omega) (by omega) (by omega) (by omega))
        show nL (ps (endS (brk s F i).1 i 4) i 4 1) = nL s
        rw [e5, e6, h3]
set_option maxRecDepth 100000
theorem fX2_149_5 : gh_fd RX2 149 5 2 .int false := gh_fd.own (T := TX6) tyX6 rfl in_X6 tyX6_ok nmX6 (by decide) q1671 rfl rfl (fun h => by cases h)
theorem hd_X2_deliver : yX2_deliver.cls = RX2 ∧ yX2_deliver.cls ≠ "java/lang/invoke/MethodHandle" ∧ yX2_deliver.cls ≠ "java/lang/invoke/VarHandle" ∧ (parseMethodDescriptor yX2_deliver.desc).map (fun d => d.parameters.length) = some 1 := by decide +kernel
theorem hd_X2_leave : yX2_leave.cls = RX2 ∧ yX2_leave.cls ≠ "java/lang/invoke/MethodHandle" ∧ yX2_leave.cls ≠ "java/lang/invoke/VarHandle" ∧ (parseMethodDescriptor yX2_leave.desc).map (fun d => d.parameters.length) = some 2 := by decide +kernel
theorem hd_X6_fate : yX6_fate.cls = RX6 ∧ yX6_fate.cls ≠ "java/lang/invoke/MethodHandle" ∧ yX6_fate.cls ≠ "java/lang/invoke/VarHandle" ∧ (parseMethodDescriptor yX6_fate.desc).map (fun d => d.parameters.length) = some 0 := by decide +kernel
set_option maxHeartbeats 1000000 in
set_option maxRecDepth 100000 in
theorem j_X2_comeOut (l : Launch) (V : gh_V) (g0 : gh_G) (S N : Nat) (s : Nat → Int32) (F : Nat → UInt32) (ad : Nat → Nat) (I : Nat → Int32) (A : Nat → Nat → Int32) (P : Nat → Option Nat) (kx pw : Nat → Nat) (n0 n1 : Nat) (hQ : cw_Q V g0 S s F N ad I A P kx pw n0 n1) (L D Pn : Nat) (hE : tw_wf s L D Pn) (hJ : jp s) (hK : jk s) (hTR : tr_S l V) (hN63 : N < 63) (q : Nat) (hPq : P 23 = some q) (ho9 : oc s 23) : MV l yX2_comeOut cX2_comeOut 3 ({ frames := 13, cells := 36, slots := 296, locals := 433 } : Room) V [.ref S, .ref q] g0 (fun g1 => cw_R V g1 S (coutS s F (nD s)) (va_up F 23 FP.fconst0) N ∧ gh_fS S g0 g1) := by
  refine MG.of RX2 (by decide) rfl (Nat.le_of_ble_eq_true rfl) (fun pp ee s9 mm args below meth c ls hC hg hr hlk hnm hl => ?_)
  have hx := hC.1.1
  have hb := hC.1.2.1
  have hml := hC.1.2.2.1
  have hown := hC.1.2.2.2.1
  have hts := hC.1.2.2.2.2
  have hl : lv_has ls 3 [(0, .ref S), (1, .ref q)] := hl
  obtain ⟨g, hg, hgg⟩ : ∃ g, gh_W V (gh_A g0 s9.heap.size) s9 g s9.heap [] ∧ g = g0 := ⟨g0, hg, rfl⟩
  have hQ9 := hQ
  obtain ⟨hT, hV, hL, hD, hPc, hO, hG, hPl, hN⟩ := hQ
  rw [← hgg] at hT hL hD hPc hO hG hPl
  have hF : gh_fS S g0 g := by rw [hgg]; exact gh_fS.rf
  obtain ⟨q1, hPq1, hqc, hky, hwa⟩ := (hPc 23 (by omega)).2 ho9
  obtain rfl : q1 = q := Option.some.inj (hPq1.symm.trans hPq)
  obtain ⟨a1, a2, a3, a4, a5⟩ := hJ.1 23 (by omega) ho9
  have h12 := hJ.2.2.1
  have h20 := hJ.2.2.2 _ a1
  have hD10 : nD s ≤ 10 := by rw [nD_of hE]; exact hE.2.1.2
  obtain ⟨f9, hf9e, hf1, hf4⟩ := fateN_nat s F 23
  refine lv_aload_n hx hb dX2_comeOut_0 rfl (lv_at hl 1 rfl) ?_
  refine gh_calli hg (gh_runV (As := []) (rest := []) hC hg (j_X6_fate l V _ q1 (kx 23) (pw 23) (nI 23) (pl s 23 3) (pl s 23 2) (F 23) (S, 7, (cd s 23)) (kd s (pk s 23)) (lt s (pk s 23) 1) hwa hqc) 0 (lw_V q2807 q2808 q2809 q163 q2810) hqc rfl hd_X6_fate ⟨Nat.le_of_ble_eq_true rfl, Nat.le_of_ble_eq_true rfl⟩ rfl hl.1 rfl (Nat.le_of_ble_eq_true rfl) dX2_comeOut_1 ⟨Nat.le_of_ble_eq_true rfl, Nat.le_of_ble_eq_true rfl⟩) (fun r_1 g H locs hg hp => ?_)
  obtain ⟨hp, hq⟩ := hp
  replace hp : (fateP (pl s 23 2) (F 23) (kd s (pk s 23))) = r_1 := hp.symm
  subst hp
  rw [← hq] at hT hL hD hPc hO hG hPl hF hky hwa hqc
  try rw [← hq] at hgg
  refine W.eq (g2 := F0 mm 4 ls [.int (nI f9)]) (by rw [((fateP_N (hK _ a1)).trans hf9e)] <;> rfl) ?_
  refine lv_istore_n (lv' := [(2, .int (nI f9)), (0, .ref S), (1, .ref q1)]) hx hb dX2_comeOut_4 rfl hl (by decide) rfl (fun ls hl => ?_)
  refine lv_aload_n hx hb dX2_comeOut_5 rfl (lv_at hl 1 rfl) ?_
  refine lv_aload_n hx hb dX2_comeOut_6 rfl (lv_at hl 2 rfl) ?_
  refine gh_get (v := .int (nI 23)) hC hg hqc fX2_149_5 rfl dX2_comeOut_7 ?_
  refine lv_iload_n hx hb dX2_comeOut_10 rfl (lv_at hl 0 rfl) ?_
  refine gh_callv hg (gh_runV (As := [.int (nI 23), .int (nI f9)]) (rest := []) hC hg (j_X2_leave l V _ S N s F (by rw [hgg]; exact ⟨ad, I, A, P, kx, pw, n0, n1, hQ9⟩) L D Pn hE hJ hTR 23 f9 FP.fconst0 (by omega) ho9 hf1 (by omega) hN63) 2 (lw_V q2773 q2775 qs40 q104 q2776) hT.1 rfl hd_X2_leave ⟨Nat.le_of_ble_eq_true rfl, Nat.le_of_ble_eq_true rfl⟩ rfl hl.1 rfl (Nat.le_of_ble_eq_true rfl) dX2_comeOut_11 ⟨Nat.le_of_ble_eq_true rfl, Nat.le_of_ble_eq_true rfl⟩) (fun g H locs hg hp => ?_)
  obtain ⟨hR, hF9⟩ := hp
  have hc9 := hky
  have hfw9 : gh_fw S [0, 5, 10, 20, 21, 22, 23] _ g := hF9
  have hf9 := hfw9.v
  have hqc : g q1 = some ((S, 7, (cd s 23)), oo 5 [.ref (kx 23), .ref (pw 23), .int (nI 23), .int (pl s 23 3), .int (pl s 23 2), .float (F 23)]) := hfw9 _ _ _ hqc (fun h9 => absurd (show 7 ∈ [0, 5, 10, 20, 21, 22, 23] from h9.2) (by decide))
  have hF : gh_fS S g0 g := hF.tr (hfw9.fS (by decide))
  have hky : ky_P V g 9 (kx 23) (cd s 23) := hf9.ky (by decide) hky
  have hwa : wa_P V g (pw 23) (kd s (pk s 23)) (lt s (pk s 23) 1) := hf9.wa (by decide) hwa
  obtain ⟨s1, hs1⟩ : ∃ x, x = endS s 23 (nI f9) := ⟨_, rfl⟩
  rw [← hs1] at hR
  obtain ⟨F1, hF1⟩ : ∃ x, x = va_up F 23 FP.fconst0 := ⟨_, rfl⟩
  rw [← hF1] at hR
  refine lv_iload_n hx hb dX2_comeOut_14 rfl (lv_at hl 0 rfl) ?_
  refine lv_iconst (v := 1) hx hb dX2_comeOut_15 (by decide) ?_
  refine lv_icmp_ne (tgt := 42) hx hb dX2_comeOut_16 (by decide) (fun c_2 => ?_) (fun c_2 => ?_)
  · skip
    have c_2 : ¬ f9 = 1 := fun h9 => c_2 ((nx_eq rfl (show ((1 : Int32)) = nI 1 from rfl) (by omega) (by omega)).mpr h9)
    exact gh_retv hC hg hr hlk (⟨by unfold coutS; rw [hf9e, if_neg (fun h : nI f9 = 1 => c_2 (nI_inj (b := 1) (by omega) (by omega) h)), ← hs1, ← hF1]; exact hR, hF⟩) dX2_comeOut_42 (Nat.le_of_ble_eq_true rfl) (Nat.le_of_ble_eq_true rfl)
  have c_2 : f9 = 1 := (nx_eq rfl (show ((1 : Int32)) = nI 1 from rfl) (by omega) (by omega)).mp c_2
  have eL : nL s1 = nL s := by rw [hs1]; exact nL_cg (endS_o (by omega) (by omega) (by omega) (by omega))
  have eD : nD s1 = nD s := by rw [hs1]; exact nD_cg (endS_o (by omega) (by omega) (by omega) (by omega))
  have hJ1 : jp s1 := by rw [hs1]; exact jp_end hJ (by omega) ho9
  have hK1 : lt s1 (pk s 23) 0 = nI (kd s1 (pk s 23)) := by have h9 : lt s1 (pk s 23) 0 = lt s (pk s 23) 0 := (by rw [hs1, endS_lt (by omega) (by omega) (by omega), if_neg (by omega)]); unfold kd; rw [h9]; exact hK _ a1
  obtain ⟨ad2, I2, A2, P2, kx2, pw2, n02, n12, hT, hV, hL, hD, hPc, hO, hG, hPl, hN⟩ := hR
  refine lv_aload_n hx hb dX2_comeOut_19 rfl (lv_at hl 1 rfl) ?_
  refine lv_aload_n hx hb dX2_comeOut_20 rfl (lv_at hl 1 rfl) ?_
  refine gh_get (v := .ref (ad2 9)) hC hg hT.1 fX2_24_2 rfl dX2_comeOut_21 ?_
  refine lv_aload_n hx hb dX2_comeOut_24 rfl (lv_at hl 2 rfl) ?_
  refine gh_getr (v := .ref (kx 23)) hC hg hqc rfX2_141_5 rfl dX2_comeOut_25 ?_
  have hkc9 := hky.f9 (k := pk s 23) (n := qn s 23) (by omega)
  refine gh_getr (v := .int (nI (pk s 23))) hC hg hkc9 rfX2_332_9 rfl dX2_comeOut_28 ?_
  obtain ⟨es, la, lw, fa, hAL, hLo⟩ := hL
  obtain ⟨vs_hlc, hlc⟩ := hAL.c
  refine gh_callFq hg (gh_runF (x := ⟨"java/util/List", "get", "(I)Ljava/lang/Object;"⟩) (As := [.int (nI (pk s 23))]) (rest := [.ref S]) hC hg (j_J2_get l V _ (ad2 9) S 12 (nL s1) es hAL (nI (pk s 23)) (pk s 23) rfl (by omega)) 1 (lw_F q1361 q1338 q1336 q107 q1340) hlc rfl (by decide +kernel) q1339 q1337 q1148 hdF_List_get_1 ⟨Nat.le_of_ble_eq_true rfl, Nat.le_of_ble_eq_true rfl⟩ rfl hl.1 rfl (Nat.le_of_ble_eq_true rfl) dX2_comeOut_31 ⟨Nat.le_of_ble_eq_true rfl, Nat.le_of_ble_eq_true rfl⟩) (fun r_3 g H locs hg hp => ?_)
  obtain ⟨hp, hq⟩ := hp
  subst hp
  rw [← hq] at hT hF hky hwa hD hPc hO hG hPl hAL hLo hqc hkc9 hlc
  try rw [← hq] at hgg
  refine W.eq (g2 := F0 mm 36 ls [.ref (es (pk s 23)), .ref S]) rfl ?_
  have hlq := (hLo (pk s 23) (by omega)).1
  refine gh_castS hC hg hlq rfl q1362 dX2_comeOut_36 ?_
  refine gh_callv hg (gh_runV (As := [.ref (es (pk s 23))]) (rest := []) hC hg (j_X2_deliver l V _ S ad2 I2 A2 P2 hT s1 es la lw fa (pk s 23) (by omega) (by omega) (by omega) hJ1.2.2.2 hV.1 hK1 hLo hD) 1 (lw_V q2811 q2813 qs43 q104 q2814) hT.1 rfl hd_X2_deliver ⟨Nat.le_of_ble_eq_true rfl, Nat.le_of_ble_eq_true rfl⟩ rfl hl.1 rfl (Nat.le_of_ble_eq_true rfl) dX2_comeOut_39 ⟨Nat.le_of_ble_eq_true rfl, Nat.le_of_ble_eq_true rfl⟩) (fun g H locs hg hp => ?_)
  obtain ⟨hLo, hD, hF9⟩ := hp
  have hfw9 : gh_fw S [4, 6] _ g := hF9
  have hf9 := hfw9.v
  have hqc : g q1 = some ((S, 7, (cd s 23)), oo 5 [.ref (kx 23), .ref (pw 23), .int (nI 23), .int (pl s 23 3), .int (pl s 23 2), .float (F 23)]) := hfw9 _ _ _ hqc (fun h9 => absurd (show 7 ∈ [4, 6] from h9.2) (by decide))
  have hkc9 : g (kx 23) = some (((V.2.2 9), 1, 0), oo 9 [.int (nI (pk s 23)), .int (nI (qn s 23))]) := hfw9 _ _ _ hkc9 (fun h9 => absurd (show 1 ∈ [4, 6] from h9.2) (by decide))
  have hlc : g (ad2 9) = some ((S, 12, 0), oo 12 vs_hlc) := hfw9 _ _ _ hlc (fun h9 => absurd (show 12 ∈ [4, 6] from h9.2) (by decide))
  have hF : gh_fS S g0 g := hF.tr (hfw9.fS (by decide))
  have hky : ky_P V g 9 (kx 23) (cd s 23) := hf9.ky (by decide) hky
  have hwa : wa_P V g (pw 23) (kd s (pk s 23)) (lt s (pk s 23) 1) := hf9.wa (by decide) hwa
  have hPc : pc_P V g S P2 kx2 pw2 s1 F1 := hPc.kp hf9 (by decide)
  have hO : ot_P V g S (ad2 11) P2 kx2 s1 n02 := hO.kp hf9 (by decide)
  have hG : go_P V g S (ad2 12) s1 n12 := hG.kp hf9 (by decide)
  have hPl : pn_P V g S (ad2 13) (I2 3) s1 := hPl.kp hf9 (by decide)
  have hAL : al_P V S 12 g (ad2 9) (nL s1) es := hf9.al (by decide) hAL
  have hT : st_C V g S ad2 I2 A2 P2 := hT.kp hf9 (by decide)
  have hag : ag34 s1 (goodS s1 (pk s 23) (nD s1)) := ag34_good (by omega) (by omega)
  exact gh_retv hC hg hr hlk (⟨by unfold coutS; rw [hf9e, if_pos (show nI f9 = 1 from congrArg nI (show f9 = 1 by omega)), ← hs1, ← hF1, show (pl s 23 0).toNatClampNeg = pk s 23 from rfl, ← eD]; exact ⟨ad2, I2, A2, P2, _, _, _, _, hT, hag.vv hV, ⟨es, la, lw, fa, by rw [hag.nL]; exact hAL, hLo⟩, hD, hag.pc hJ1 hPc, hag.ot hO, hag.go (by omega) hG, hag.pn hPl, hN⟩, hF⟩) dX2_comeOut_42 (Nat.le_of_ble_eq_true rfl) (Nat.le_of_ble_eq_true rfl)
set_option maxRecDepth 100000
theorem fX2_338_5 : gh_fd RX2 338 5 3 .int false := gh_fd.own (T := TX6) tyX6 rfl in_X6 tyX6_ok nmX6 (by decide) q1674 rfl rfl (fun h => by cases h)
theorem hd_X2_comeOut : yX2_comeOut.cls = RX2 ∧ yX2_comeOut.cls ≠ "java/lang/invoke/MethodHandle" ∧ yX2_comeOut.cls ≠ "java/lang/invoke/VarHandle" ∧ (parseMethodDescriptor yX2_comeOut.desc).map (fun d => d.parameters.length) = some 1 := by decide +kernel
theorem hd_X2_isFree : yX2_isFree.cls = RX2 ∧ yX2_isFree.cls ≠ "java/lang/invoke/MethodHandle" ∧ yX2_isFree.cls ≠ "java/lang/invoke/VarHandle" ∧ (parseMethodDescriptor yX2_isFree.desc).map (fun d => d.parameters.length) = some 1 := by decide +kernel
theorem hd_X2_zoneOf : yX2_zoneOf.cls = RX2 ∧ yX2_zoneOf.cls ≠ "java/lang/invoke/MethodHandle" ∧ yX2_zoneOf.cls ≠ "java/lang/invoke/VarHandle" ∧ (parseMethodDescriptor yX2_zoneOf.desc).map (fun d => d.parameters.length) = some 1 := by decide +kernel
set_option maxHeartbeats 1000000 in
set_option maxRecDepth 100000 in
theorem j_X2_movePiece (l : Launch) (V : gh_V) (g0 : gh_G) (S N : Nat) (s : Nat → Int32) (F : Nat → UInt32) (hR : cw_R V g0 S s F N) (L D Pn : Nat) (hE : tw_wf s L D Pn) (hJ : jp s) (hK : jk s) (hTR : tr_S l V) (hN63 : N < 63) (hrl : ∀ z, z < 8 → ∃ r, r ≤ 9 ∧ zn s z 2 = nI r) (n9 : Int32) (p9 cm9 sm9 : Nat) (hp24 : p9 < 24) (hcm9 : p9 = 23 → 36 ≤ cm9) (hsm9 : p9 = 23 → 296 ≤ sm9) : MV l yX2_movePiece cX2_movePiece 4 ({ frames := 14, cells := cm9, slots := sm9, locals := 455 } : Room) V [.ref S, .int (nI p9)] g0 (fun g1 => cw_R V g1 S (mv1 (nD s) (s, F, n9) p9).1 (mv1 (nD s) (s, F, n9) p9).2.1 N ∧ gh_fS S g0 g1) := by
  refine MG.of RX2 (by decide) rfl (Nat.le_of_ble_eq_true rfl) (fun pp ee s9 mm args below meth c ls hC hg hr hlk hnm hl => ?_)
  have hx := hC.1.1
  have hb := hC.1.2.1
  have hml := hC.1.2.2.1
  have hown := hC.1.2.2.2.1
  have hts := hC.1.2.2.2.2
  have hl : lv_has ls 4 [(0, .ref S), (1, .int (nI p9))] := hl
  obtain ⟨g, hg, hgg⟩ : ∃ g, gh_W V (gh_A g0 s9.heap.size) s9 g s9.heap [] ∧ g = g0 := ⟨g0, hg, rfl⟩
  obtain ⟨ad, I, A, P, kx, pw, n0, n1, hT, hV, hL, hD, hPc, hO, hG, hPl, hN⟩ := hR
  rw [← hgg] at hT hL hD hPc hO hG hPl
  have hF : gh_fS S g0 g := by rw [hgg]; exact gh_fS.rf
  refine lv_aload_n hx hb dX2_movePiece_0 rfl (lv_at hl 0 rfl) ?_
  refine gh_get (v := .ref (ad 8)) hC hg hT.1 fX2_17_2 rfl dX2_movePiece_1 ?_
  refine lv_iload_n hx hb dX2_movePiece_4 rfl (lv_at hl 1 rfl) ?_
  refine gh_qald (n := 24) (f := P) hC hg hT.2.2 rfl rfl (by omega) (by omega) dX2_movePiece_5 ?_
  refine lv_astore_nQ (lv' := [(2, va_rf (P p9)), (0, .ref S), (1, .int (nI p9))]) hx hb dX2_movePiece_6 rfl hl (by decide) rfl (fun ls hl => ?_)
  refine lv_aload_nQ hx hb dX2_movePiece_7 rfl (lv_at hl 0 rfl) ?_
  refine lv_ifnonnullQ (tgt := 12) hx hb dX2_movePiece_8 (by decide) (fun y_2 hq_1 => ?_) (fun hq_1 => ?_)
  · skip
    rw [hq_1] at hl
    have hl : lv_has ls 4 [(2, .ref y_2), (0, .ref S), (1, .int (nI p9))] := hl
    have ho9 : oc s p9 := fun h9 => by have h8 := (hPc p9 hp24).1 h9; rw [h8] at hq_1; cases hq_1
    obtain ⟨q9, hPq, hqc, hky, hwa⟩ := (hPc p9 hp24).2 ho9
    obtain rfl : q9 = y_2 := Option.some.inj (hPq.symm.trans hq_1)
    have hPx := pc_P.px (p := p9) hPc
    obtain ⟨a1, a2, a3, a4, a5⟩ := hJ.1 p9 hp24 ho9
    have h12 := hJ.2.2.1
    have h20 := hJ.2.2.2 _ a1
    have hD10 : nD s ≤ 10 := by rw [nD_of hE]; exact hE.2.1.2
    obtain ⟨r9, hr9, hre⟩ := hrl (p9 / 3) (by omega)
    refine lv_aload_n hx hb dX2_movePiece_12 rfl (lv_at hl 0 rfl) ?_
    refine lv_dup hx hb dX2_movePiece_13 rfl ?_
    refine gh_get (v := .int (pl s p9 3)) hC hg hqc fX2_338_5 rfl dX2_movePiece_14 ?_
    refine lv_iconst (v := 1) hx hb dX2_movePiece_17 (by decide) ?_
    refine lv_iadd hx hb dX2_movePiece_18 ?_
    refine gh_put (v := .int ((pl s p9 3) + 1)) hC hg hqc fX2_338_5 rfl rfl ((by first | exact Nat.le_of_ble_eq_true rfl | omega | (dsimp only; omega))) dX2_movePiece_19 (fun g H locs hg hw hn => ?_)
    have hf9 : gh_fv S [7] _ g := (gh_fw.st hqc hn).v
    have hL : lo_P V g S (ad 9) s := hL.kp hf9 (by decide)
    have hD : de_P V g S (ad 10) s := hD.kp hf9 (by decide)
    have hO : ot_P V g S (ad 11) P kx s n0 := hO.kp hf9 (by decide)
    have hG : go_P V g S (ad 12) s n1 := hG.kp hf9 (by decide)
    have hPl : pn_P V g S (ad 13) (I 3) s := hPl.kp hf9 (by decide)
    have hF : gh_fS S g0 g := hF.set hqc (by decide) hn
    have hPx : px_P V g S P kx pw s F p9 := hPx.ow hJ hp24 ho9 hqc hn
    have hky : ky_P V g 9 (kx p9) (cd s p9) := hf9.ky (by decide) hky
    have hwa : wa_P V g (pw p9) (kd s (pk s p9)) (lt s (pk s p9) 1) := hf9.wa (by decide) hwa
    have hT : st_C V g S ad I A P := hT.ne hqc (fun h9 => absurd (show 7 = 0 from h9.2) (by decide)) hn
    have hqc : g q9 = some ((S, 7, (cd s p9)), oo 5 [.ref (kx p9), .ref (pw p9), .int (nI p9), .int ((pl s p9 3) + 1), .int (pl s p9 2), .float (F p9)]) := hw
    refine lv_aload_n hx hb dX2_movePiece_22 rfl (lv_at hl 1 rfl) ?_
    refine gh_get (v := .ref (ad 2)) hC hg hT.1 fX2_51_2 rfl dX2_movePiece_23 ?_
    refine lv_iload_n hx hb dX2_movePiece_26 rfl (lv_at hl 2 rfl) ?_
    refine gh_calli hg (gh_runS (As := [.int (nI p9)]) (rest := [.ref (ad 2)]) hC hg (j_X2_zoneOf l V _ p9 (by omega)) 1 (lw_S q2712 q2713 q104 q2714) hd_X2_zoneOf.2 ⟨(by first | exact Nat.le_of_ble_eq_true rfl | omega | (dsimp only; omega)), (by first | exact Nat.le_of_ble_eq_true rfl | omega | (dsimp only; omega))⟩ rfl hl.1 rfl ((by first | exact Nat.le_of_ble_eq_true rfl | omega | (dsimp only; omega))) dX2_movePiece_27 ⟨(by first | exact Nat.le_of_ble_eq_true rfl | omega | (dsimp only; omega)), (by first | exact Nat.le_of_ble_eq_true rfl | omega | (dsimp only; omega))⟩) (fun r_3 g H locs hg hp => ?_)
    obtain ⟨hp, hq⟩ := hp
    replace hp : (nI (p9 / 3)) = r_3 := hp.symm
    subst hp
    rw [← hq] at hT hL hD hO hG hPl hF hPx hky hwa hqc
    try rw [← hq] at hgg
    refine gh_iald (n := 8) (f := (A 2)) hC hg hT.a2 rfl (by omega) (by omega) dX2_movePiece_30 ?_
    refine W.eq (g2 := F0 mm 31 ls [.int (zn s (p9 / 3) 2)]) (by rw [(hV.2.2.2.1 _ (by omega)).2.2.1] <;> rfl) ?_
    refine lv_istore_n (lv' := [(3, .int (zn s (p9 / 3) 2)), (2, .ref q9), (0, .ref S), (1, .int (nI p9))]) hx hb dX2_movePiece_31 rfl hl (by decide) rfl (fun ls hl => ?_)
    refine lv_iload_n hx hb dX2_movePiece_32 rfl (lv_at hl 0 rfl) ?_
    refine lv_if_eq (tgt := 44) hx hb dX2_movePiece_33 (by decide) (fun c_4 => ?_) (fun c_4 => ?_)
    · skip
      exact gh_retv hC hg hr hlk (⟨by rw [mv1_1 ho9 c_4 hp24]; exact ⟨ad, I, A, P, _, _, _, _, hT, (tick_V hp24 hV), (hL.cg h12 hJ.2.2.2 (fun j h1 _ => tick_o hp24 (by omega))), (hD.cg hD10 (fun j h1 _ => tick_o hp24 (by omega))), (hPx.back (s1 := tick s p9) (F1 := F) hp24 hJ ho9 hPq (fun r i _ hi h => tick_pl (by omega) (by omega)) (fun _ _ => rfl) (fun k i hk hi => tick_o hp24 (by omega)) (by rw [tick_3, tick_pl (by omega) (by omega)]; exact hqc) hky hwa), (hO.cg (fun r i _ hi => tick_pl (by omega) (by omega))), (hG.cg h12 (nL_cg (tick_o hp24 (by omega))) (fun k n _ _ => tick_o hp24 (by omega))), (hPl.cg (fun j h => tick_o hp24 (by omega))), hN⟩, hF⟩) dX2_movePiece_44 ((by first | exact Nat.le_of_ble_eq_true rfl | omega | (dsimp only; omega))) ((by first | exact Nat.le_of_ble_eq_true rfl | omega | (dsimp only; omega)))
    have hge := mv1_ge hre hr9 c_4 hp24
    refine lv_aload_n hx hb dX2_movePiece_36 rfl (lv_at hl 1 rfl) ?_
    refine gh_get (v := .int ((pl s p9 3) + 1)) hC hg hqc fX2_338_5 rfl dX2_movePiece_37 ?_
    refine lv_iload_n hx hb dX2_movePiece_40 rfl (lv_at hl 0 rfl) ?_
    refine lv_icmp_ge (tgt := 45) hx hb dX2_movePiece_41 (by decide) (fun c_5 => ?_) (fun c_5 => ?_)
    · skip
      refine lv_iload_n hx hb dX2_movePiece_45 rfl (lv_at hl 3 rfl) ?_
      refine lv_bipush (v := 23) hx hb dX2_movePiece_46 (by decide) ?_
      refine lv_icmp_ne (tgt := 59) hx hb dX2_movePiece_48 (by decide) (fun c_6 => ?_) (fun c_6 => ?_)
      · skip
        have c_6 : ¬ p9 = 23 := fun h9 => c_6 ((nx_eq rfl (show ((23 : Int32)) = nI 23 from rfl) (by omega) (by omega)).mpr h9)
        have hp23 : p9 < 23 := by omega
        refine lv_aload_n hx hb dX2_movePiece_59 rfl (lv_at hl 2 rfl) ?_
        refine lv_iload_n hx hb dX2_movePiece_60 rfl (lv_at hl 3 rfl) ?_
        refine lv_iconst (v := 1) hx hb dX2_movePiece_61 (by decide) ?_
        refine lv_iadd hx hb dX2_movePiece_62 ?_
        refine W.eq (g2 := F0 mm 63 ls [.int (nI (p9 + 1)), .ref S]) (by rw [(nx_add rfl (show ((1 : Int32)) = nI 1 from rfl))] <;> rfl) ?_
        refine gh_calli hg (gh_runV (As := [.int (nI (p9 + 1))]) (rest := []) hC hg (j_X2_isFree l V _ S ad I A P hT (p9 + 1) (by omega)) 1 (lw_V q2829 q2831 qs44 q104 q2832) hT.1 rfl hd_X2_isFree ⟨(by first | exact Nat.le_of_ble_eq_true rfl | omega | (dsimp only; omega)), (by first | exact Nat.le_of_ble_eq_true rfl | omega | (dsimp only; omega))⟩ rfl hl.1 rfl ((by first | exact Nat.le_of_ble_eq_true rfl | omega | (dsimp only; omega))) dX2_movePiece_63 ⟨(by first | exact Nat.le_of_ble_eq_true rfl | omega | (dsimp only; omega)), (by first | exact Nat.le_of_ble_eq_true rfl | omega | (dsimp only; omega))⟩) (fun r_7 g H locs hg hp => ?_)
        obtain ⟨hp, hq⟩ := hp
        replace hp : (if P (p9 + 1) = none ∧ (A 5) (p9 + 1) = 0 then 1 else 0) = r_7 := hp.symm
        subst hp
        rw [← hq] at hT hL hD hO hG hPl hF hPx hky hwa hqc
        try rw [← hq] at hgg
        refine lv_if_eq (tgt := 97) hx hb dX2_movePiece_66 (by decide) (fun c_8 => ?_) (fun c_8 => ?_)
        · skip
          have hnf : ¬ (P (p9 + 1) = none ∧ A 5 (p9 + 1) = 0) := fun h9 => by rw [if_pos h9] at c_8; exact absurd c_8 (by decide)
          exact gh_retv hC hg hr hlk (⟨by rw [mv1_5 ho9 hge (Int32.not_lt.mpr c_5) c_6 (fun h9 => hnf ⟨(px_free hPx (by omega) (by omega)).mpr ((tick_pl (by omega) (by omega)).symm.trans h9.1), (hV.2.2.2.2.1 _ (by omega)).trans ((tick_pl (by omega) (by omega)).symm.trans h9.2)⟩) hp24]; exact ⟨ad, I, A, P, _, _, _, _, hT, (tick_V hp24 hV), (hL.cg h12 hJ.2.2.2 (fun j h1 _ => tick_o hp24 (by omega))), (hD.cg hD10 (fun j h1 _ => tick_o hp24 (by omega))), (hPx.back (s1 := tick s p9) (F1 := F) hp24 hJ ho9 hPq (fun r i _ hi h => tick_pl (by omega) (by omega)) (fun _ _ => rfl) (fun k i hk hi => tick_o hp24 (by omega)) (by rw [tick_3, tick_pl (by omega) (by omega)]; exact hqc) hky hwa), (hO.cg (fun r i _ hi => tick_pl (by omega) (by omega))), (hG.cg h12 (nL_cg (tick_o hp24 (by omega))) (fun k n _ _ => tick_o hp24 (by omega))), (hPl.cg (fun j h => tick_o hp24 (by omega))), hN⟩, hF⟩) dX2_movePiece_97 ((by first | exact Nat.le_of_ble_eq_true rfl | omega | (dsimp only; omega))) ((by first | exact Nat.le_of_ble_eq_true rfl | omega | (dsimp only; omega)))
        have hfr : P (p9 + 1) = none ∧ A 5 (p9 + 1) = 0 := by by_cases h9 : P (p9 + 1) = none ∧ A 5 (p9 + 1) = 0; exact h9; rw [if_neg h9] at c_8; exact absurd rfl c_8
        have hpf : pl (tick s p9) (p9 + 1) 0 = -1 := (tick_pl (by omega) (by omega)).trans ((px_free hPx (by omega) (by omega)).mp hfr.1)
        have hp4 : pl (tick s p9) (p9 + 1) 4 = 0 := (tick_pl (by omega) (by omega)).trans ((hV.2.2.2.2.1 _ (by omega)).symm.trans hfr.2)
        have hcdt : cd (tick s p9) p9 = cd s p9 := by unfold cd pk; rw [tick_pl (s := s) (i := 0) (by omega) (by omega), tick_pl (s := s) (i := 1) (by omega) (by omega)]
        have hJt := jp_tick hJ hp24
        have hot : oc (tick s p9) p9 := fun h9 => ho9 ((tick_pl (by omega) (by omega)).symm.trans h9)
        refine lv_aload_n hx hb dX2_movePiece_69 rfl (lv_at hl 2 rfl) ?_
        refine gh_get (v := .ref (ad 8)) hC hg hT.1 fX2_17_2 rfl dX2_movePiece_70 ?_
        refine lv_iload_n hx hb dX2_movePiece_73 rfl (lv_at hl 3 rfl) ?_
        refine lv_null hx hb dX2_movePiece_74 ?_
        refine gh_qastN (n := 24) (f := P) hC hg hT.2.2 rfl rfl (by omega) (by omega) dX2_movePiece_75 (fun g H locs hg hw hn => ?_)
        have hqc : g q9 = some ((S, 7, (cd s p9)), oo 5 [.ref (kx p9), .ref (pw p9), .int (nI p9), .int ((pl s p9 3) + 1), .int (pl s p9 2), .float (F p9)]) := (hn _ (gh_neK hqc hT.2.2 rfl)).trans hqc
        have hf9 : gh_fv S [0] _ g := (gh_fw.st hT.2.2 hn).v
        have hL : lo_P V g S (ad 9) s := hL.kp hf9 (by decide)
        have hD : de_P V g S (ad 10) s := hD.kp hf9 (by decide)
        have hO : ot_P V g S (ad 11) P kx s n0 := hO.kp hf9 (by decide)
        have hG : go_P V g S (ad 12) s n1 := hG.kp hf9 (by decide)
        have hPl : pn_P V g S (ad 13) (I 3) s := hPl.kp hf9 (by decide)
        have hF : gh_fS S g0 g := hF.set hT.2.2 (by decide) hn
        have hPx : px_P V g S P kx pw s F p9 := hPx.kp hf9 (by decide)
        have hky : ky_P V g 9 (kx p9) (cd s p9) := hf9.ky (by decide) hky
        have hwa : wa_P V g (pw p9) (kd s (pk s p9)) (lt s (pk s p9) 1) := hf9.wa (by decide) hwa
        have hT : st_C V g S ad I A (va_up P p9 none) := hT.setP hw hn
        refine lv_aload_n hx hb dX2_movePiece_76 rfl (lv_at hl 2 rfl) ?_
        refine gh_get (v := .ref (ad 8)) hC hg hT.1 fX2_17_2 rfl dX2_movePiece_77 ?_
        refine lv_iload_n hx hb dX2_movePiece_80 rfl (lv_at hl 3 rfl) ?_
        refine lv_iconst (v := 1) hx hb dX2_movePiece_81 (by decide) ?_
        refine lv_iadd hx hb dX2_movePiece_82 ?_
        refine lv_aload_n hx hb dX2_movePiece_83 rfl (lv_at hl 1 rfl) ?_
        refine gh_qast (n := 24) (f := (va_up P p9 none)) hC hg hT.2.2 rfl hqc rfl (nx_add rfl (show ((1 : Int32)) = nI 1 from rfl)) (by omega) (by omega) dX2_movePiece_84 (fun g H locs hg hw hn => ?_)
        have hqc : g q9 = some ((S, 7, (cd s p9)), oo 5 [.ref (kx p9), .ref (pw p9), .int (nI p9), .int ((pl s p9 3) + 1), .int (pl s p9 2), .float (F p9)]) := (hn _ (gh_neK hqc hT.2.2 rfl)).trans hqc
        have hf9 : gh_fv S [0] _ g := (gh_fw.st hT.2.2 hn).v
        have hL : lo_P V g S (ad 9) s := hL.kp hf9 (by decide)
        have hD : de_P V g S (ad 10) s := hD.kp hf9 (by decide)
        have hO : ot_P V g S (ad 11) P kx s n0 := hO.kp hf9 (by decide)
        have hG : go_P V g S (ad 12) s n1 := hG.kp hf9 (by decide)
        have hPl : pn_P V g S (ad 13) (I 3) s := hPl.kp hf9 (by decide)
        have hF : gh_fS S g0 g := hF.set hT.2.2 (by decide) hn
        have hPx : px_P V g S P kx pw s F p9 := hPx.kp hf9 (by decide)
        have hky : ky_P V g 9 (kx p9) (cd s p9) := hf9.ky (by decide) hky
        have hwa : wa_P V g (pw p9) (kd s (pk s p9)) (lt s (pk s p9) 1) := hf9.wa (by decide) hwa
        have hT : st_C V g S ad I A (va_up (va_up P p9 none) (p9 + 1) (some q9)) := hT.setP hw hn
        refine lv_aload_n hx hb dX2_movePiece_85 rfl (lv_at hl 1 rfl) ?_
        refine lv_iload_n hx hb dX2_movePiece_86 rfl (lv_at hl 3 rfl) ?_
        refine lv_iconst (v := 1) hx hb dX2_movePiece_87 (by decide) ?_
        refine lv_iadd hx hb dX2_movePiece_88 ?_
        refine W.eq (g2 := F0 mm 89 ls [.int (nI (p9 + 1)), .ref q9]) (by rw [(nx_add rfl (show ((1 : Int32)) = nI 1 from rfl))] <;> rfl) ?_
        refine gh_put (v := .int (nI (p9 + 1))) hC hg hqc fX2_149_5 rfl rfl ((by first | exact Nat.le_of_ble_eq_true rfl | omega | (dsimp only; omega))) dX2_movePiece_89 (fun g H locs hg hw hn => ?_)
        have hf9 : gh_fv S [7] _ g := (gh_fw.st hqc hn).v
        have hL : lo_P V g S (ad 9) s := hL.kp hf9 (by decide)
        have hD : de_P V g S (ad 10) s := hD.kp hf9 (by decide)
        have hO : ot_P V g S (ad 11) P kx s n0 := hO.kp hf9 (by decide)
        have hG : go_P V g S (ad 12) s n1 := hG.kp hf9 (by decide)
        have hPl : pn_P V g S (ad 13) (I 3) s := hPl.kp hf9 (by decide)
        have hF : gh_fS S g0 g := hF.set hqc (by decide) hn
        have hPx : px_P V g S P kx pw s F p9 := hPx.ow hJ hp24 ho9 hqc hn
        have hky : ky_P V g 9 (kx p9) (cd s p9) := hf9.ky (by decide) hky
        have hwa : wa_P V g (pw p9) (kd s (pk s p9)) (lt s (pk s p9) 1) := hf9.wa (by decide) hwa
        have hT : st_C V g S ad I A (va_up (va_up P p9 none) (p9 + 1) (some q9)) := hT.ne hqc (fun h9 => absurd (show 7 = 0 from h9.2) (by decide)) hn
        have hqc : g q9 = some ((S, 7, (cd s p9)), oo 5 [.ref (kx p9), .ref (pw p9), .int (nI (p9 + 1)), .int ((pl s p9 3) + 1), .int (pl s p9 2), .float (F p9)]) := hw
        refine lv_aload_n hx hb dX2_movePiece_92 rfl (lv_at hl 1 rfl) ?_
        refine lv_iconst (v := 0) hx hb dX2_movePiece_93 (by decide) ?_
        refine gh_put (v := .int 0) hC hg hqc fX2_338_5 rfl rfl ((by first | exact Nat.le_of_ble_eq_true rfl | omega | (dsimp only; omega))) dX2_movePiece_94 (fun g H locs hg hw hn => ?_)
        have hf9 : gh_fv S [7] _ g := (gh_fw.st hqc hn).v
        have hL : lo_P V g S (ad 9) s := hL.kp hf9 (by decide)
        have hD : de_P V g S (ad 10) s := hD.kp hf9 (by decide)
        have hO : ot_P V g S (ad 11) P kx s n0 := hO.kp hf9 (by decide)
        have hG : go_P V g S (ad 12) s n1 := hG.kp hf9 (by decide)
        have hPl : pn_P V g S (ad 13) (I 3) s := hPl.kp hf9 (by decide)
        have hF : gh_fS S g0 g := hF.set hqc (by decide) hn
        have hPx : px_P V g S P kx pw s F p9 := hPx.ow hJ hp24 ho9 hqc hn
        have hky : ky_P V g 9 (kx p9) (cd s p9) := hf9.ky (by decide) hky
        have hwa : wa_P V g (pw p9) (kd s (pk s p9)) (lt s (pk s p9) 1) := hf9.wa (by decide) hwa
        have hT : st_C V g S ad I A (va_up (va_up P p9 none) (p9 + 1) (some q9)) := hT.ne hqc (fun h9 => absurd (show 7 = 0 from h9.2) (by decide)) hn
        have hqc : g q9 = some ((S, 7, (cd s p9)), oo 5 [.ref (kx p9), .ref (pw p9), .int (nI (p9 + 1)), .int 0, .int (pl s p9 2), .float (F p9)]) := hw
        have hwat : wa_P V g (pw p9) (kd (tick s p9) (pk (tick s p9) p9)) (lt (tick s p9) (pk (tick s p9) p9) 1) := by rw [show pk (tick s p9) p9 = pk s p9 from congrArg Int32.toNatClampNeg (tick_pl (s := s) (p := p9) (r := p9) (i := 0) (by omega) (by omega)), show kd (tick s p9) (pk s p9) = kd s (pk s p9) from congrArg Int32.toNatClampNeg (tick_o (s := s) hp24 (by omega)), show lt (tick s p9) (pk s p9) 1 = lt s (pk s p9) 1 from tick_o hp24 (by omega)]; exact hwa
        exact gh_retv hC hg hr hlk (⟨by rw [mv1_4 ho9 hge (Int32.not_lt.mpr c_5) c_6 ⟨hpf, hp4⟩ hp24]; exact ⟨ad, I, A, (va_up (va_up P p9 none) (p9 + 1) (some q9)), _, _, _, _, hT, (shift_V hp23 (tick_V hp24 hV)), (hL.cg h12 hJ.2.2.2 (fun j h1 _ => (shift_o hp23 (by omega)).trans (tick_o hp24 (by omega)))), (hD.cg hD10 (fun j h1 _ => (shift_o hp23 (by omega)).trans (tick_o hp24 (by omega)))), (shift_pc (hPx.tick hp24) hp23 hJt hot hpf (by rw [hcdt, tick_pl (by omega) (by omega)]; exact hqc) (by rw [hcdt]; exact hky) hwat), (shift_ot (hO.cg (fun r i _ hi => tick_pl (by omega) (by omega))) hp23 hot hpf hPq), (hG.cg h12 (nL_cg ((shift_o hp23 (by omega)).trans (tick_o hp24 (by omega)))) (fun k n _ _ => (shift_o hp23 (by omega)).trans (tick_o hp24 (by omega)))), (hPl.cg (fun j h => (shift_o hp23 (by omega)).trans (tick_o hp24 (by omega)))), hN⟩, hF⟩) dX2_movePiece_97 ((by first | exact Nat.le_of_ble_eq_true rfl | omega | (dsimp only; omega))) ((by first | exact Nat.le_of_ble_eq_true rfl | omega | (dsimp only; omega)))
      have c_6 : p9 = 23 := (nx_eq rfl (show ((23 : Int32)) = nI 23 from rfl) (by omega) (by omega)).mp c_6
      refine lv_aload_n hx hb dX2_movePiece_51 rfl (lv_at hl 2 rfl) ?_
      refine lv_aload_n hx hb dX2_movePiece_52 rfl (lv_at hl 1 rfl) ?_
      refine gh_callv hg (gh_runV (As := [.ref q9]) (rest := []) hC hg (j_X2_comeOut l V _ S N (tick s p9) F ad I A P kx pw n0 n1 (show cw_Q V g S (tick s p9) F N ad I A P kx pw n0 n1 from ⟨hT, (tick_V hp24 hV), (hL.cg h12 hJ.2.2.2 (fun j h1 _ => tick_o hp24 (by omega))), (hD.cg hD10 (fun j h1 _ => tick_o hp24 (by omega))), (hPx.back (s1 := tick s p9) (F1 := F) hp24 hJ ho9 hPq (fun r i _ hi h => tick_pl (by omega) (by omega)) (fun _ _ => rfl) (fun k i hk hi => tick_o hp24 (by omega)) (by rw [tick_3, tick_pl (by omega) (by omega)]; exact hqc) hky hwa), (hO.cg (fun r i _ hi => tick_pl (by omega) (by omega))), (hG.cg h12 (nL_cg (tick_o hp24 (by omega))) (fun k n _ _ => tick_o hp24 (by omega))), (hPl.cg (fun j h => tick_o hp24 (by omega))), hN⟩) L D Pn (wf_upd hE (nJ_pl hp24 (by omega) (by omega)) _) (jp_tick hJ hp24) (jk_cg hK h12 (fun j h1 _ => tick_o hp24 (by omega))) hTR hN63 q9 (by rw [← c_6]; exact hPq) (by rw [← c_6]; exact fun h9 => ho9 ((tick_pl (by omega) (by omega)).symm.trans h9))) 1 (lw_V q2803 q2805 qs42 q104 q2806) hT.1 rfl hd_X2_comeOut ⟨(by first | exact Nat.le_of_ble_eq_true rfl | omega | (dsimp only; omega)), (by first | exact Nat.le_of_ble_eq_true rfl | omega | (dsimp only; omega))⟩ rfl hl.1 rfl ((by first | exact Nat.le_of_ble_eq_true rfl | omega | (dsimp only; omega))) dX2_movePiece_53 ⟨(by first | exact Nat.le_of_ble_eq_true rfl | omega | (dsimp only; omega)), (by first | exact Nat.le_of_ble_eq_true rfl | omega | (dsimp only; omega))⟩) (fun g H locs hg hp => ?_)
      obtain ⟨hR, hF9⟩ := hp
      rw [show nD (tick s p9) = nD s from nD_cg (tick_o hp24 (by omega))] at hR
      have hF : gh_fS S g0 g := hF.tr hF9
      refine lv_goto (tgt := 97) hx hb dX2_movePiece_56 (by decide) ?_
      exact gh_retv hC hg hr hlk (⟨by rw [mv1_3 ho9 hge (Int32.not_lt.mpr c_5) c_6 hp24]; exact hR, hF⟩) dX2_movePiece_97 ((by first | exact Nat.le_of_ble_eq_true rfl | omega | (dsimp only; omega))) ((by first | exact Nat.le_of_ble_eq_true rfl | omega | (dsimp only; omega)))
    exact gh_retv hC hg hr hlk (⟨by rw [mv1_2 ho9 hge (Int32.not_le.mp c_5) hp24]; exact ⟨ad, I, A, P, _, _, _, _, hT, (tick_V hp24 hV), (hL.cg h12 hJ.2.2.2 (fun j h1 _ => tick_o hp24 (by omega))), (hD.cg hD10 (fun j h1 _ => tick_o hp24 (by omega))), (hPx.back (s1 := tick s p9) (F1 := F) hp24 hJ ho9 hPq (fun r i _ hi h => tick_pl (by omega) (by omega)) (fun _ _ => rfl) (fun k i hk hi => tick_o hp24 (by omega)) (by rw [tick_3, tick_pl (by omega) (by omega)]; exact hqc) hky hwa), (hO.cg (fun r i _ hi => tick_pl (by omega) (by omega))), (hG.cg h12 (nL_cg (tick_o hp24 (by omega))) (fun k n _ _ => tick_o hp24 (by omega))), (hPl.cg (fun j h => tick_o hp24 (by omega))), hN⟩, hF⟩) dX2_movePiece_44 ((by first | exact Nat.le_of_ble_eq_true rfl | omega | (dsimp only; omega))) ((by first | exact Nat.le_of_ble_eq_true rfl | omega | (dsimp only; omega)))
  rw [hq_1] at hl
  have hl : lv_has ls 4 [(2, .null), (0, .ref S), (1, .int (nI p9))] := hl
  exact gh_retv hC hg hr hlk (⟨by rw [mv1_0 ((pc_free hPc hp24).mp hq_1)]; exact ⟨ad, I, A, P, _, _, _, _, hT, hV, hL, hD, hPc, hO, hG, hPl, hN⟩, hF⟩) dX2_movePiece_11 ((by first | exact Nat.le_of_ble_eq_true rfl | omega | (dsimp only; omega))) ((by first | exact Nat.le_of_ble_eq_true rfl | omega | (dsimp only; omega)))
