/-! SHARDS and UNLOADED PIECES: what stays true -/
def jl (s : Nat → Int32) : Prop := ∀ k, k < nL s → ∀ n, ldN s k ≤ n → n < 20 → lt s k (5 + n) = 0
def jy (s : Nat → Int32) : Prop := js s ∧ jl s
section Jy
variable {s s0 : Nat → Int32} {F : Nat → UInt32} {p : Nat} {B : Int}
theorem jy_cg {s1 : Nat → Int32} (h : jy s) (h12 : nL s ≤ 12) (e : ∀ p i, p < 24 → (i = 0 ∨ i = 4) → pl s1 p i = pl s p i) (eL : nL s1 = nL s) (el : ∀ k i, k < nL s → i < 25 → (i = 2 ∨ 5 ≤ i) → lt s1 k i = lt s k i) : jy s1 := by
  refine ⟨⟨fun p hp => by rw [e p 4 hp (Or.inr rfl)]; exact h.1.1 p hp, fun p hp ho => by rw [e p 4 hp (Or.inr rfl)]; exact h.1.2 p hp (fun u => ho ((e p 0 hp (Or.inl rfl)).trans u))⟩, fun k hk n h1 h2 => ?_⟩
  rw [eL] at hk
  have e2 : ldN s1 k = ldN s k := by unfold ldN; rw [el k 2 hk (by omega) (Or.inl rfl)]
  rw [el k (5 + n) hk (by omega) (Or.inr (by omega))]
  exact h.2 k hk n (by omega) h2
theorem jy_cgj {s1 : Nat → Int32} (h : jy s) (h12 : nL s ≤ 12) (e : ∀ p i, p < 24 → (i = 0 ∨ i = 4) → pl s1 p i = pl s p i) (el : ∀ j, 163 ≤ j → j < 464 → s1 j = s j) : jy s1 :=
  jy_cg h h12 e (nL_cg (el _ (by omega) (by omega))) (fun k i hk hi _ => el _ (by omega) (by omega))
theorem jy_tick (h : jy s) (h12 : nL s ≤ 12) (hp : p < 24) : jy (tick s p) := jy_cgj h h12 (fun r i hr hi => tick_pl (by omega) (by omega)) (fun j _ _ => tick_o hp (by omega))
theorem jl_end {f : Int32} (h : jl s) (hJ : jp s) (hp : p < 24) (ho : oc s p) : jl (endS s p f) := fun k hk n h1 h2 => by
  obtain ⟨a1, a2, -⟩ := hJ.1 p hp ho
  have h12 := hJ.2.2.1
  have h20 := hJ.2.2.2 _ a1
  have eL : nL (endS s p f) = nL s := nL_cg (endS_o (by omega) (by omega) hp (by omega))
  rw [eL] at hk
  have e2 : ldN (endS s p f) k = ldN s k := by unfold ldN; rw [endS_lt (by omega) hp (by omega), if_neg (by omega)]
  rw [e2] at h1
  rw [endS_lt (by omega) hp (by omega), if_neg (fun u => by obtain ⟨u1, u2⟩ := u; rw [u1] at h1; omega)]
  exact h k hk n h1 h2
theorem jy_end {f : Int32} (h : jy s) (hJ : jp s) (hp : p < 24) (ho : oc s p) : jy (endS s p f) := by
  have e4 : ∀ r, r < 24 → pl (endS s p f) r 4 = pl s r 4 := fun r hr => by
    by_cases c : r = p
    · subst c
      obtain ⟨a1, a2, -⟩ := hJ.1 r hp ho
      have h12 := hJ.2.2.1
      have h20 := hJ.2.2.2 _ a1
      unfold pl
      rw [endS_v, if_neg (by omega), if_neg (by omega), if_neg (by omega), if_neg (by omega), if_neg (by omega)]
    · exact endS_pl hp hr c (by omega)
  refine ⟨⟨fun r hr => by rw [e4 r hr]; exact h.1.1 r hr, fun r hr hor => ?_⟩, jl_end h.2 hJ hp ho⟩
  have hne : r ≠ p := fun e => hor (by rw [e]; exact endS_0)
  rw [e4 r hr]
  exact h.1.2 r hr (fun u => hor ((endS_pl hp hr hne (by omega)).trans u))
theorem jy_ps4 {v : Int32} (h : jy s) (h12 : nL s ≤ 12) (hp : p < 24) (hv : v = 0 ∨ (v = 1 ∧ pl s p 0 = -1)) : jy (ps s p 4 v) := by
  have e : ∀ r i, (i = 0 ∨ i = 4) → pl (ps s p 4 v) r i = if r = p ∧ i = 4 then v else pl s r i := fun r i hi => by
    unfold pl ps upd
    by_cases c : r = p ∧ i = 4
    · rw [if_pos (by omega), if_pos c]
    · rw [if_neg (by omega), if_neg c]
  have el : ∀ j, 163 ≤ j → ps s p 4 v j = s j := fun j hj => if_neg (by omega)
  refine ⟨⟨fun r hr => ?_, fun r hr ho => ?_⟩, fun k hk n h1 h2 => ?_⟩
  · rw [e r 4 (Or.inr rfl)]
    by_cases c : r = p
    · rw [if_pos ⟨c, rfl⟩]; rcases hv with u | u; exact Or.inl u; exact Or.inr u.1
    · rw [if_neg (fun u => c u.1)]; exact h.1.1 r hr
  · have ho2 : oc s r := fun u => ho ((e r 0 (Or.inl rfl)).trans ((if_neg (by omega)).trans u))
    rw [e r 4 (Or.inr rfl)]
    by_cases c : r = p
    · rw [if_pos ⟨c, rfl⟩]
      rcases hv with u | u
      · exact u
      · exact absurd (by rw [c]; exact u.2) ho2
    · rw [if_neg (fun u => c u.1)]; exact h.1.2 r hr ho2
  · rw [nL_cg (el 163 (by omega))] at hk
    have e2 : ldN (ps s p 4 v) k = ldN s k := by unfold ldN lt; rw [el _ (by omega)]
    unfold lt
    rw [el _ (by omega)]
    exact h.2 k hk n (by omega) h2
theorem jy_ag {s1 : Nat → Int32} (h : jy s) (h12 : nL s ≤ 12) (ha : ag34 s s1) : jy s1 :=
  jy_cg h h12 (fun r i hr hi => ha _ (by omega)) ha.nL (fun k i hk hi h2 => ha.lt (by omega) hi (by omega) (by omega))
theorem jy_shift (h : jy s) (h12 : nL s ≤ 12) (hp : p < 23) (hf : pl s (p + 1) 4 = 0) : jy (shiftS s p) := by
  refine ⟨⟨fun r hr => ?_, fun r hr ho => ?_⟩, fun k hk n h1 h2 => ?_⟩
  · have : pl (shiftS s p) r 4 = pl s r 4 := by
      rw [shift_v hp r 4 hr (by omega)]
      by_cases c : r = p
      · rw [if_pos c, if_neg (by omega), if_neg (by omega)]
      · rw [if_neg c]
        by_cases c2 : r = p + 1
        · rw [if_pos c2, if_neg (by omega), if_neg (by omega)]
        · rw [if_neg c2]
    rw [this]; exact h.1.1 r hr
  · have e4 : pl (shiftS s p) r 4 = pl s r 4 := by
      rw [shift_v hp r 4 hr (by omega)]
      by_cases c : r = p
      · rw [if_pos c, if_neg (by omega), if_neg (by omega)]
      · rw [if_neg c]
        by_cases c2 : r = p + 1
        · rw [if_pos c2, if_neg (by omega), if_neg (by omega)]
        · rw [if_neg c2]
    rw [e4]
    by_cases c2 : r = p + 1
    · rw [c2]; exact hf
    · have c : r ≠ p := fun c => ho (by rw [shift_v hp r 0 hr (by omega), if_pos c, if_pos rfl])
      refine h.1.2 r hr (fun u => ho ?_)
      rw [shift_v hp r 0 hr (by omega), if_neg c, if_neg c2]; exact u
  · have el : ∀ j, 163 ≤ j → shiftS s p j = s j := fun j hj => shift_o hp (by omega)
    rw [nL_cg (el 163 (by omega))] at hk
    have e2 : ldN (shiftS s p) k = ldN s k := by unfold ldN lt; rw [el _ (by omega)]
    unfold lt
    rw [el _ (by omega)]
    exact h.2 k hk n (by omega) h2
theorem jy_cout {D : Nat} (h : jy s) (hJ : jp s) (ho : oc s 23) (hD : D ≤ 10) : jy (coutS s F D) := by
  obtain ⟨f, hf, h1, h4⟩ := fateN_nat s F 23
  obtain ⟨a1, -⟩ := hJ.1 23 (by omega) ho
  have h12 := hJ.2.2.1
  unfold coutS
  rw [hf]
  have he := jy_end (f := nI f) h hJ (by omega) ho
  have e12 : nL (endS s 23 (nI f)) ≤ 12 := (jp_end (f := f) hJ (by omega) ho).2.2.1
  split
  · exact jy_ag he e12 (ag34_good (show (pl s 23 0).toNatClampNeg < 12 from by have : pk s 23 < nL s := a1; unfold pk at this; omega) hD)
  · exact he
theorem jy_mv1 {D : Nat} {n : Int32} (h : jy s) (hJ : jp s) (hp : p < 24) (hD : D ≤ 10) : jy (mv1 D (s, F, n) p).1 := by
  have h12 := hJ.2.2.1
  have ht := jy_tick h h12 hp
  have hJt := jp_tick hJ hp
  unfold mv1
  split
  · exact h
  · rename_i ho
    have hot : oc (tick s p) p := fun u => ho ((tick_pl (by omega) (by omega)).symm.trans u)
    split
    · exact ht
    · split
      · exact ht
      · split
        · rename_i h23
          subst h23
          exact jy_cout ht hJt hot hD
        · rename_i h23
          split
          · rename_i hf
            exact jy_shift ht hJt.2.2.1 (by omega) hf.2
          · exact ht
theorem jy_mv {D : Nat} (h : jy s) (hx : jx s0 B s) (hD : D ≤ 10) : ∀ i, i ≤ 24 → jy (mv s F D i).1
  | 0, _ => h
  | i + 1, hi => by
    rw [mv_s]
    exact jy_mv1 (F := (mv s F D i).2.1) (n := (mv s F D i).2.2) (jy_mv h hx hD i (by omega)) (jx_mv hx hD i (by omega)).1 (by omega) hD
theorem jy_brk (h : jy s) (hx : jx s0 B s) : ∀ i, i ≤ 24 → jy (brk s F i).1
  | 0, _ => h
  | i + 1, hi => by
    have ih := jy_brk h hx i (by omega)
    have jh := jx_brk (F := F) hx i (by omega)
    by_cases c : pl (brk s F i).1 i 0 = -1
    · rw [brk_0 c]; exact ih
    · by_cases c2 : stress (brk s F i).1 (brk s F i).2.1 i
      · rw [brk_1 c c2]; exact ih
      · rw [brk_2 c c2]
        exact jy_ps4 (jy_end ih jh.1 (by omega) c) (jx_end (f := 4) jh (by omega) c).1.2.2.1 (by omega) (Or.inr ⟨rfl, endS_0⟩)
theorem jy_cln1 {L D P c : Nat} (h : jy s) (h12 : nL s ≤ 12) (hE : tw_wf s L D P) (hc : c < 2) : jy (cln1 s c) := by
  have hm : ∀ v, jy (upd s (525 + 2 * c + 1) v) := fun v => jy_cgj h h12 (fun r i hr hi => cls_o (by omega)) (fun j _ _ => cls_o (by omega))
  unfold cln1
  split
  · exact h
  · split
    · exact jy_ps4 (hm _) (by rw [nL_cg (cls_o (by omega))]; exact h12) (wf_cl hE hc).2 (Or.inl rfl)
    · exact hm _
/-- a minute keeps jy -/
theorem jy_min {L D P t : Nat} (hE : tw_wf s L D P) (hn : nnS F) (h : jm s t B) (hy : jy s) (ht : t < 19999) (h6 : 600 ≤ B) (hB : B ≤ 900000) : jy (minS s F) := by
  obtain ⟨a1, a2, a3, a4, a5, a6, a7⟩ := mA_2 hE h ht h6 (by omega)
  have wA := wf_minA hE
  obtain ⟨b1, b2, b3, b4, -⟩ := mB_1 (F := F) wA a1 a5 h6 hB
  have wD := wf_minD hE hn
  have h12 := h.1.2.2.1
  have y1 : jy (minA s) := jy_cgj hy h12 (fun r i hr hi => a7 _ (by omega) (by omega)) (fun j c1 c2 => a7 j (by omega) (by omega))
  have y2 : jy (minB s F).1 := jy_cgj y1 a1.1.2.2.1 (fun r i hr hi => (b4 r i hr (by omega)).trans (hsS_pl (by omega) (Or.inl (by omega)))) (fun j c1 c2 => b3 j (by omega))
  have x1 : jx (minB s F).1 (B + 3) (minC s F).1 := by
    unfold minC
    rw [brkF_eq]
    exact jx_brk b1 24 (Nat.le_refl _)
  have y3 : jy (minC s F).1 := by
    unfold minC
    rw [brkF_eq]
    exact jy_brk y2 b1 24 (Nat.le_refl _)
  have x2 : jx (minB s F).1 (B + 3) (minD s F).1 := by
    unfold minD
    rw [mvF_eq]
    exact jx_mv x1 (by rw [nD_of hE]; exact hE.2.1.2) 24 (Nat.le_refl _)
  have y4 : jy (minD s F).1 := by
    unfold minD
    rw [mvF_eq]
    exact jy_mv y3 x1 (by rw [nD_of hE]; exact hE.2.1.2) 24 (Nat.le_refl _)
  unfold minS
  have x3 := jx_cln1 (c := 0) x2 wD.1 (by omega)
  exact jy_cln1 (c := 1) (jy_cln1 (c := 0) y4 x2.1.2.2.1 wD.1 (by omega)) x3.1.2.2.1 (wf_cln1 (c := 0) wD.1 (by omega)) (by omega)
theorem jy_runs {L D P t : Nat} (hE : tw_wf s L D P) (hn : nnS F) (h : jm s t B) (hy : jy s) (h6 : 600 ≤ B) : ∀ n : Nat, t + n < 20000 → B + 3 * n ≤ 900003 → jy (runs s F n).1
  | 0, _, _ => hy
  | n + 1, h1, h2 => by
    obtain ⟨⟨P', e1⟩, e2, e3⟩ := runs_all hE hn h h6 n (by omega) (by omega)
    rw [runs_s]
    exact jy_min e1 e2 e3 (jy_runs hE hn h hy h6 n (by omega) (by omega)) (by omega) (by omega) (by omega)
end Jy
/-! THE WHOLE INVARIANT of a state -/
def jz (s : Nat → Int32) (F : Nat → UInt32) (t : Nat) : Prop := (∃ L D P, tw_wf s L D P) ∧ nnS F ∧ jm s t (600 + 3 * (t : Int)) ∧ jy s ∧ t ≤ 9999
/-- the kinds of a right part -/
theorem pt_case {b : Nat → Int32} {N sp : Nat} (h : (ptE b N sp).1 = true) :
    (b sp = 98 ∧ ptO b N sp < 8 ∧ ptT b N sp ≤ 3) ∨ (b sp = 102 ∧ ptO b N sp < 8 ∧ ptT b N sp ≤ 3) ∨ (b sp = 114 ∧ ptO b N sp < 8 ∧ ptT b N sp ≤ 9) ∨ (b sp = 111 ∧ ptO b N sp < 3 ∧ 1 ≤ ptT b N sp ∧ ptT b N sp ≤ 9) ∨
    (b sp = 108 ∧ ptO b N sp ≤ 11) ∨ (b sp = 99 ∧ ptO b N sp < 2 ∧ ptT b N sp < 24) ∨ (b sp = 109 ∧ 1 ≤ ptO b N sp ∧ ptO b N sp ≤ 60) := by
  have hsp : sp < N := by have := ptE_le h; omega
  by_cases h1 : b sp = 98
  · obtain ⟨e1, e2, e3⟩ := pt_98 ⟨hsp, h1⟩
    rw [e1] at h
    have b1 := zP_b (b := b) (N := N) (sp := sp) (c := 51) rfl (by omega) h
    exact Or.inl ⟨h1, by rw [e2]; exact b1.1, by rw [e3]; exact b1.2.1⟩
  by_cases h2 : b sp = 102
  · obtain ⟨e1, e2, e3⟩ := pt_102 ⟨hsp, h2⟩
    rw [e1] at h
    have b1 := zP_b (b := b) (N := N) (sp := sp) (c := 51) rfl (by omega) h
    exact Or.inr (Or.inl ⟨h2, by rw [e2]; exact b1.1, by rw [e3]; exact b1.2.1⟩)
  by_cases h3 : b sp = 114
  · obtain ⟨e1, e2, e3⟩ := pt_114 ⟨hsp, h3⟩
    rw [e1] at h
    have b1 := zP_b (b := b) (N := N) (sp := sp) (c := 57) rfl (by omega) h
    exact Or.inr (Or.inr (Or.inl ⟨h3, by rw [e2]; exact b1.1, by rw [e3]; exact b1.2.1⟩))
  by_cases h4 : b sp = 111
  · obtain ⟨e1, e2, e3⟩ := pt_111 ⟨hsp, h4⟩
    rw [e1] at h
    have b1 := oP_b h
    exact Or.inr (Or.inr (Or.inr (Or.inl ⟨h4, by rw [e2]; omega, by rw [e3]; omega, by rw [e3]; omega⟩)))
  by_cases h5 : b sp = 108
  · obtain ⟨e1, e2, e3⟩ := pt_108 ⟨hsp, h5⟩
    rw [e1] at h
    have b1 := nuP_b (a := 48) rfl (Or.inl rfl) (by omega) h
    exact Or.inr (Or.inr (Or.inr (Or.inr (Or.inl ⟨h5, by rw [e2]; omega⟩))))
  by_cases h6 : b sp = 99
  · obtain ⟨e1, e2, e3⟩ := pt_99 ⟨hsp, h6⟩
    rw [e1] at h
    have b1 := cP_b (b := b) (N := N) (sp := sp) h
    exact Or.inr (Or.inr (Or.inr (Or.inr (Or.inr (Or.inl ⟨h6, by rw [e2]; exact b1.1, by rw [e3]; exact b1.2.1⟩)))))
  by_cases h7 : b sp = 109
  · obtain ⟨e1, e2, e3⟩ := pt_109 ⟨hsp, h7⟩
    rw [e1] at h
    have b1 := nuP_b (a := 49) rfl (Or.inr rfl) (by omega) h
    exact Or.inr (Or.inr (Or.inr (Or.inr (Or.inr (Or.inr ⟨h7, by rw [e2]; omega, by rw [e2]; omega⟩)))))
  unfold ptE at h
  rw [if_neg (fun u => u hsp), if_neg h1, if_neg h2, if_neg h3, if_neg h4, if_neg h5, if_neg h6, if_neg h7] at h
  exact absurd h Bool.false_ne_true
section Jz
variable {s : Nat → Int32} {F : Nat → UInt32} {t : Nat} {B : Int}
/-- jm from its parts, when zones are alike but for rows 0 .. 2 -/
theorem jm_of {s1 : Nat → Int32} (h : jm s t B) (hp : jp s1) (hk : jk s1) (hw : jw s1 B) (h1 : ∀ z, z < 8 → ∃ f, f ≤ 3 ∧ zn s1 z 1 = nI f) (h2 : ∀ z, z < 8 → ∃ r, r ≤ 9 ∧ zn s1 z 2 = nI r) (h3 : ∀ z, z < 8 → zn s1 z 3 = zn s z 3) (h0 : s1 0 = s 0) (e : ∀ j, 529 ≤ j → s1 j = s j) : jm s1 t B := by
  obtain ⟨a1, a2, a3, a4, a5, a6, a7, a8, a9⟩ := h
  refine ⟨hp, hk, jn_cg a3 e, h2, h1, fun z hz => by rw [h3 z hz]; exact a6 z hz, hw, h0.trans a8, fun i hi => ?_⟩
  rw [nP_cg (e 529 (by omega))] at hi
  rw [show pn s1 i 0 = pn s i 0 from e _ (by omega)]
  exact a9 i hi
theorem jm_zs {z k : Nat} {b : Nat} (h : jm s t B) (hz : z < 8) (hk : k = 0 ∨ (k = 1 ∧ b ≤ 3) ∨ (k = 2 ∧ b ≤ 9)) : jm (zs s z k (nI b)) t B := by
  have e : ∀ j, j ≠ 3 + 5 * z + k → zs s z k (nI b) j = s j := fun j hj => if_neg hj
  have ev : zs s z k (nI b) (3 + 5 * z + k) = nI b := if_pos rfl
  have h12 := h.1.2.2.1
  refine jm_of h (jp_cg h.1 (fun r i hr hi => e _ (by omega)) (fun j c1 c2 => e _ (by omega))) (jk_cg h.2.1 h12 (fun j c1 c2 => e _ (by omega))) (fun r hr ho => ?_) (fun y hy => ?_) (fun y hy => ?_) (fun y hy => e _ (by omega)) (e _ (by omega)) (fun j hj => e _ (by omega))
  · rw [show pl (zs s z k (nI b)) r 2 = pl s r 2 from e _ (by omega)]
    exact h.2.2.2.2.2.2.1 r hr (fun u => ho ((show pl (zs s z k (nI b)) r 0 = pl s r 0 from e _ (by omega)).trans u))
  · by_cases c : y = z ∧ k = 1
    · obtain ⟨rfl, rfl⟩ := c
      exact ⟨b, by omega, ev⟩
    · rw [show zn (zs s z k (nI b)) y 1 = zn s y 1 from e _ (by omega)]; exact h.2.2.2.2.1 y hy
  · by_cases c : y = z ∧ k = 2
    · obtain ⟨rfl, rfl⟩ := c
      exact ⟨b, by omega, ev⟩
    · rw [show zn (zs s z k (nI b)) y 2 = zn s y 2 from e _ (by omega)]; exact h.2.2.2.1 y hy
theorem jy_zs {z k : Nat} {v : Int32} (h : jy s) (h12 : nL s ≤ 12) (hz : z < 8) (hk : k < 5) : jy (zs s z k v) :=
  jy_cgj h h12 (fun r i hr hi => if_neg (by omega)) (fun j c1 c2 => if_neg (by omega))
theorem jm_sends {c : Nat} {y : Int32} (h : jm s t B) (hc : c < 2) : jm (sendsS s c y) t B := by
  have h12 := h.1.2.2.1
  refine jm_of h (jp_cg h.1 (fun r i hr hi => sendsS_o hc (by omega)) (fun j c1 c2 => sendsS_o hc (by omega))) (jk_cg h.2.1 h12 (fun j c1 c2 => sendsS_o hc (by omega))) (fun r hr ho => ?_) (fun z hz => ?_) (fun z hz => ?_) (fun z hz => sendsS_o hc (by omega)) (sendsS_o hc (by omega)) (fun j hj => sendsS_o hc (by omega))
  · rw [show pl (sendsS s c y) r 2 = pl s r 2 from sendsS_o hc (by omega)]
    exact h.2.2.2.2.2.2.1 r hr (fun u => ho ((show pl (sendsS s c y) r 0 = pl s r 0 from sendsS_o hc (by omega)).trans u))
  · rw [show zn (sendsS s c y) z 1 = zn s z 1 from sendsS_o hc (by omega)]; exact h.2.2.2.2.1 z hz
  · rw [show zn (sendsS s c y) z 2 = zn s z 2 from sendsS_o hc (by omega)]; exact h.2.2.2.1 z hz
theorem jy_sends {c : Nat} {y : Int32} (h : jy s) (h12 : nL s ≤ 12) (hc : c < 2) : jy (sendsS s c y) :=
  jy_cgj h h12 (fun r i hr hi => sendsS_o hc (by omega)) (fun j c1 c2 => sendsS_o hc (by omega))
theorem op_lt {k i : Nat} {x y : Int32} (hk : k < nL s) (hi : i < 25) : lt (opensS s (nL s) x y) k i = lt s k i := opensS_o (by omega)
theorem op_new {i : Nat} {x y : Int32} (h2 : 2 ≤ i) (hi : i < 25) : lt (opensS s (nL s) x y) (nL s) i = 0 := by
  unfold lt
  rw [opensS_v, if_neg (by omega), if_neg (by omega), if_pos (by omega)]
theorem jp_opens {x y : Int32} (hJ : jp s) (h : s 163 = nI (nL s)) (h12 : nL s < 12) : jp (opensS s (nL s) x y) := by
  have eL := opensS_L (x := x) (y := y) h h12
  have e : ∀ p i, p < 24 → i < 5 → pl (opensS s (nL s) x y) p i = pl s p i := fun p i hp hi => opensS_o (by omega)
  have ek : ∀ p, p < 24 → pk (opensS s (nL s) x y) p = pk s p := fun p hp => by unfold pk; rw [e p 0 hp (by omega)]
  have en : ∀ p, p < 24 → qn (opensS s (nL s) x y) p = qn s p := fun p hp => by unfold qn; rw [e p 1 hp (by omega)]
  have eo : ∀ p, p < 24 → (oc (opensS s (nL s) x y) p → oc s p) := fun p hp => by unfold oc; rw [e p 0 hp (by omega)]; exact id
  have eld : ∀ k, k < nL s → ldN (opensS s (nL s) x y) k = ldN s k := fun k hk => by unfold ldN; rw [op_lt hk (by omega)]
  refine ⟨fun p hp ho => ?_, fun p q hp hq h1 h2 => ?_, by rw [eL]; omega, fun k hk => ?_⟩
  · obtain ⟨a1, a2, a3, a4, a5⟩ := hJ.1 p hp (eo p hp ho)
    have := hJ.2.2.2 _ a1
    rw [ek p hp, en p hp, eL, eld _ a1, e p 0 hp (by omega), e p 1 hp (by omega), op_lt a1 (by omega)]
    exact ⟨by omega, a2, a3, a4, a5⟩
  · rw [ek p hp, ek q hq, en p hp, en q hq]; exact hJ.2.1 p q hp hq (eo p hp h1) (eo q hq h2)
  · rw [eL] at hk
    by_cases c : k = nL s
    · rw [c]; unfold ldN; rw [op_new (by omega) (by omega)]; decide
    · rw [eld k (by omega)]; exact hJ.2.2.2 k (by omega)
theorem jm_opens {k : Nat} {y : Int32} (h : jm s t B) (h1 : s 163 = nI (nL s)) (h12 : nL s < 12) (hk : k < 3) : jm (opensS s (nL s) (nI k) y) t B := by
  have eL := opensS_L (x := nI k) (y := y) h1 h12
  refine jm_of h (jp_opens h.1 h1 h12) (fun j hj => ?_) (fun r hr ho => ?_) (fun z hz => ?_) (fun z hz => ?_) (fun z hz => opensS_o (by omega)) (opensS_o (by omega)) (fun j hj => opensS_o (by omega))
  · rw [eL] at hj
    by_cases c : j = nL s
    · have e0 : lt (opensS s (nL s) (nI k) y) j 0 = nI k := by unfold lt; rw [c, opensS_v, if_neg (by omega), if_pos rfl]
      unfold kd
      rw [e0, nI_clamp (by omega)]
    · unfold kd
      rw [op_lt (by omega) (by omega)]; exact h.2.1 j (by omega)
  · rw [show pl (opensS s (nL s) (nI k) y) r 2 = pl s r 2 from opensS_o (by omega)]
    exact h.2.2.2.2.2.2.1 r hr (fun u => ho ((show pl (opensS s (nL s) (nI k) y) r 0 = pl s r 0 from opensS_o (by omega)).trans u))
  · rw [show zn (opensS s (nL s) (nI k) y) z 1 = zn s z 1 from opensS_o (by omega)]; exact h.2.2.2.2.1 z hz
  · rw [show zn (opensS s (nL s) (nI k) y) z 2 = zn s z 2 from opensS_o (by omega)]; exact h.2.2.2.1 z hz
theorem jy_opens {x y : Int32} (h : jy s) (h1 : s 163 = nI (nL s)) (h12 : nL s < 12) : jy (opensS s (nL s) x y) := by
  have eL := opensS_L (x := x) (y := y) h1 h12
  have e : ∀ p i, p < 24 → i < 5 → pl (opensS s (nL s) x y) p i = pl s p i := fun p i hp hi => opensS_o (by omega)
  refine ⟨⟨fun p hp => by rw [e p 4 hp (by omega)]; exact h.1.1 p hp, fun p hp ho => by rw [e p 4 hp (by omega)]; exact h.1.2 p hp (fun u => ho ((e p 0 hp (by omega)).trans u))⟩, fun k hk n n1 n2 => ?_⟩
  rw [eL] at hk
  by_cases c : k = nL s
  · rw [c]; exact op_new (by omega) (by omega)
  · have e2 : ldN (opensS s (nL s) x y) k = ldN s k := by unfold ldN; rw [op_lt (by omega) (by omega)]
    rw [op_lt (by omega) (by omega)]
    exact h.2 k (by omega) n (by omega) n2
theorem jp_loads {k : Nat} (hJ : jp s) (hk : k < nL s) (hnn : lt s k 2 = nI (ldN s k)) (h19 : ldN s k < 20) (hz : lt s k (5 + ldN s k) = 0) : jp (loadsS s k (nI k)) := by
  have h12 := hJ.2.2.1
  have e2 : lt (loadsS s k (nI k)) k 2 = nI (ldN s k + 1) := by rw [ld_lt2]; exact nx_add (b := 1) hnn rfl
  have el : ∀ j, ldN (loadsS s k (nI k)) j = if j = k then ldN s k + 1 else ldN s j := fun j => by
    unfold ldN
    by_cases c : j = k
    · rw [if_pos c, c, e2, nI_clamp (by omega)]; rfl
    · rw [if_neg c, ld_lt (by omega) (by omega)]
  have en0 : qn (loadsS s k (nI k)) 0 = ldN s k := by unfold qn; rw [ld_p0.2.1]; rfl
  have en : ∀ p, p < 24 → p ≠ 0 → qn (loadsS s k (nI k)) p = qn s p := fun p hp h0 => by unfold qn; rw [ld_pl (Or.inl h0) hp (by omega)]
  refine ⟨fun p hp ho => ?_, fun p q hp hq h1 h2 => ?_, by rw [ld_L]; exact h12, fun j hj => ?_⟩
  · by_cases c : p = 0
    · subst c
      rw [ld_pk0 (by omega), en0, ld_L, el, if_pos rfl, ld_lt (by omega) (by omega), ld_p0.1, ld_p0.2.1]
      exact ⟨hk, by omega, hz, rfl, hnn⟩
    · obtain ⟨a1, a2, a3, a4, a5⟩ := hJ.1 p hp ((ld_oc p hp c).mp ho)
      have h20 := hJ.2.2.2 _ a1
      rw [ld_pk p hp c, en p hp c, ld_L, el, ld_lt (by omega) (by omega), ld_pl (Or.inl c) hp (by omega), ld_pl (Or.inl c) hp (by omega)]
      refine ⟨a1, ?_, a3, a4, a5⟩
      split
      · next e => rw [e] at a2; omega
      · exact a2
  · intro e1 e3
    by_cases c : p = 0
    · by_cases d : q = 0
      · rw [c, d]
      · subst c
        obtain ⟨a1, a2, -⟩ := hJ.1 q hq ((ld_oc q hq d).mp h2)
        rw [ld_pk0 (by omega), ld_pk q hq d] at e1
        rw [en0, en q hq d] at e3
        rw [← e1] at a2; omega
    · by_cases d : q = 0
      · subst d
        obtain ⟨a1, a2, -⟩ := hJ.1 p hp ((ld_oc p hp c).mp h1)
        rw [ld_pk0 (by omega), ld_pk p hp c] at e1
        rw [en0, en p hp c] at e3
        rw [e1] at a2; omega
      · rw [ld_pk p hp c, ld_pk q hq d] at e1
        rw [en p hp c, en q hq d] at e3
        exact hJ.2.1 p q hp hq ((ld_oc p hp c).mp h1) ((ld_oc q hq d).mp h2) e1 e3
  · rw [ld_L] at hj
    rw [el]
    split
    · omega
    · exact hJ.2.2.2 j hj
theorem jm_loads {k : Nat} (h : jm s t B) (hB : 600 ≤ B) (hk : k < nL s) (hnn : lt s k 2 = nI (ldN s k)) (h19 : ldN s k < 20) (hz : lt s k (5 + ldN s k) = 0) : jm (loadsS s k (nI k)) t B := by
  have h12 := h.1.2.2.1
  refine jm_of h (jp_loads h.1 hk hnn h19 hz) (fun j hj => ?_) (fun r hr ho => ?_) (fun z hz => ?_) (fun z hz => ?_) (fun z hz => ld_o (by omega)) (ld_o (by omega)) (fun j hj => ld_o (by omega))
  · rw [ld_L] at hj
    unfold kd
    rw [ld_lt (by omega) (by omega)]; exact h.2.1 j hj
  · by_cases c : r = 0
    · subst c
      rw [ld_p0.2.2.1]
      have : (600 : Int32).toInt = 600 := by decide
      unfold bd
      rw [this]; omega
    · rw [ld_pl (Or.inl c) hr (by omega)]
      exact h.2.2.2.2.2.2.1 r hr ((ld_oc r hr c).mp ho)
  · rw [show zn (loadsS s k (nI k)) z 1 = zn s z 1 from ld_o (by omega)]; exact h.2.2.2.2.1 z hz
  · rw [show zn (loadsS s k (nI k)) z 2 = zn s z 2 from ld_o (by omega)]; exact h.2.2.2.1 z hz
theorem jy_loads {k : Nat} (h : jy s) (h12 : nL s ≤ 12) (hk : k < nL s) (hnn : lt s k 2 = nI (ldN s k)) (h19 : ldN s k < 20) (h4 : ¬ pl s 0 4 = 1) : jy (loadsS s k (nI k)) := by
  have e4 : ∀ r, r < 24 → pl (loadsS s k (nI k)) r 4 = pl s r 4 := fun r hr => ld_pl (Or.inr rfl) hr (by omega)
  refine ⟨⟨fun r hr => by rw [e4 r hr]; exact h.1.1 r hr, fun r hr ho => ?_⟩, fun j hj n n1 n2 => ?_⟩
  · rw [e4 r hr]
    by_cases c : r = 0
    · rw [c]
      rcases h.1.1 0 (by omega) with u | u
      · exact u
      · exact absurd u h4
    · exact h.1.2 r hr ((ld_oc r hr c).mp ho)
  · rw [ld_L] at hj
    rw [ld_lt (by omega) (by omega)]
    refine h.2 j hj n ?_ n2
    by_cases c : j = k
    · subst c
      have : ldN (loadsS s j (nI j)) j = ldN s j + 1 := by
        unfold ldN
        rw [ld_lt2, show lt s j 2 + 1 = nI (ldN s j + 1) from nx_add (b := 1) hnn rfl, nI_clamp (by omega)]; rfl
      omega
    · have : ldN (loadsS s k (nI k)) j = ldN s j := by unfold ldN; rw [ld_lt (by omega) (by omega)]
      omega
theorem wf_hln {L D P : Nat} (hE : tw_wf s L D P) : ∀ k, k < nL s → lt s k 2 = nI (ldN s k) := fun k hk => by
  rw [nL_of hE] at hk
  obtain ⟨n, hn, e⟩ := hE.2.2.2.2.1 k hk
  unfold ldN
  rw [e, nI_clamp (by omega)]
theorem wf_163 {L D P : Nat} (hE : tw_wf s L D P) : s 163 = nI (nL s) := by rw [nL_of hE]; exact hE.1.1
/-- a right part that can be done keeps the invariant -/
theorem jz_did {b : Nat → Int32} {N sp : Nat} (h : jz s F t) (hv : (ptE b N sp).1 = true) (hc : canB s (b sp) (ptO b N sp) (ptT b N sp) = true) : ∃ t', jz (didS s F (b sp) (ptO b N sp) (ptT b N sp)).1 (didS s F (b sp) (ptO b N sp) (ptT b N sp)).2 t' := by
  obtain ⟨⟨L, D, P, hE⟩, hn, hm, hy, ht⟩ := h
  obtain ⟨L', P', w1, w2⟩ := wf_pt hE hn hv hc
  have h12 := hm.1.2.2.1
  suffices hs : ∃ t', jm (didS s F (b sp) (ptO b N sp) (ptT b N sp)).1 t' (600 + 3 * (t' : Int)) ∧ jy (didS s F (b sp) (ptO b N sp) (ptT b N sp)).1 ∧ t' ≤ 9999 by
    obtain ⟨t', a1, a2, a3⟩ := hs
    exact ⟨t', ⟨L', D, P', w1⟩, w2, a1, a2, a3⟩
  rcases pt_case hv with ⟨h1, i1, i2⟩ | ⟨h1, i1, i2⟩ | ⟨h1, i1, i2⟩ | ⟨h1, i1, i2, i3⟩ | ⟨h1, i1⟩ | ⟨h1, i1, i2⟩ | ⟨h1, i1, i2⟩
  · rw [h1, didS_98]; exact ⟨t, jm_zs hm i1 (Or.inl rfl), jy_zs hy h12 i1 (by omega), ht⟩
  · rw [h1, didS_102]; exact ⟨t, jm_zs hm i1 (Or.inr (Or.inl ⟨rfl, i2⟩)), jy_zs hy h12 i1 (by omega), ht⟩
  · rw [h1, didS_114]; exact ⟨t, jm_zs hm i1 (Or.inr (Or.inr ⟨rfl, i2⟩)), jy_zs hy h12 i1 (by omega), ht⟩
  · rw [h1, canB_111] at hc
    have hc := of_decide_eq_true hc
    rw [h1, didS_111]; exact ⟨t, jm_opens hm (wf_163 hE) hc i1, jy_opens hy (wf_163 hE) hc, ht⟩
  · rw [h1, canB_108] at hc
    have hc := Bool.and_eq_true_iff.mp hc
    have hi := of_decide_eq_true hc.1
    obtain ⟨c1, c2, c3⟩ := ld_can (of_decide_eq_true hc.2)
    have hnn := wf_hln hE _ hi
    have h19 := ld_19 hnn (hm.1.2.2.2 _ hi) c1
    rw [h1, didS_108]; exact ⟨t, jm_loads hm (by omega) hi hnn h19 (hy.2 _ hi _ (Nat.le_refl _) h19), jy_loads hy h12 hi hnn h19 c3, ht⟩
  · rw [h1, didS_99]; exact ⟨t, jm_sends hm i1, jy_sends hy h12 i1, ht⟩
  · rw [h1, canB_109, hm.2.2.2.2.2.2.2.1, nI_add] at hc
    have hc := (nI_leI (b := 9999) (by omega) (by omega)).mp (of_decide_eq_true hc)
    rw [h1, didS_109, runsF_eq]
    have hr := runs_all hE hn hm (by omega) (ptO b N sp) (by omega) (by omega)
    refine ⟨t + ptO b N sp, ?_, jy_runs hE hn hm hy (by omega) _ (by omega) (by omega), hc⟩
    have h9 := hr.2.2
    rw [show (600 : Int) + 3 * ((t + ptO b N sp : Nat) : Int) = 600 + 3 * (t : Int) + 3 * ((ptO b N sp : Nat) : Int) by omega]
    exact h9
end Jz
