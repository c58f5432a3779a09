/-! well-formedness under the changes -/
theorem wf_zs {s : Nat → Int32} {L D P z k : Nat} (h : tw_wf s L D P) (hz : z < 8) (h1 : 1 ≤ k) (h5 : k < 5) (v : Int32) : tw_wf (zs s z k v) L D P := wf_upd h (nJ_zn hz h1 h5) v
theorem wf_sends {s : Nat → Int32} {L D P c q : Nat} (h : tw_wf s L D P) (hc : c < 2) (hq : q < 24) : tw_wf (sendsS s c (nI q)) L D P := by
  unfold sendsS
  refine wf_upd ?_ (nJ_cl hc) _
  obtain ⟨h1, h3, h5, h7, h8, h9, h10, h11, h12, h13⟩ := h
  have ne : ∀ j, j ≠ 525 + 2 * c → cls s c 0 (nI q) j = s j := fun j h => if_neg h
  refine ⟨⟨(ne _ (by omega)).trans h1.1, h1.2⟩, ⟨(ne _ (by omega)).trans h3.1, h3.2⟩, ⟨(ne _ (by omega)).trans h5.1, h5.2⟩, fun q hq hn => ?_, fun i hi => ?_, fun z hz => ?_, fun k hk => ?_, fun c' hc' => ?_, ?_, fun i hi => ?_⟩
  · have a0 : pl (cls s c 0 (nI _)) q 0 = pl s q 0 := ne _ (by omega)
    have a1 : pl (cls s c 0 (nI _)) q 1 = pl s q 1 := ne _ (by omega)
    rw [a0] at hn ⊢; rw [a1]; exact h7 q hq hn
  · have a : lt (cls s c 0 (nI q)) i 2 = lt s i 2 := ne _ (by omega)
    rw [a]; exact h8 i hi
  · have a : zn (cls s c 0 (nI q)) z 0 = zn s z 0 := ne _ (by omega)
    rw [a]; exact h9 z hz
  · have a1 : pn (cls s c 0 (nI q)) k 1 = pn s k 1 := ne _ (by omega)
    have a2 : pn (cls s c 0 (nI q)) k 2 = pn s k 2 := ne _ (by omega)
    rw [a1, a2]; exact h10 k hk
  · by_cases hcc : c' = c
    · subst hcc
      exact ⟨q, hq, if_pos rfl⟩
    · have a : cl (cls s c 0 (nI q)) c' 0 = cl s c' 0 := ne _ (by omega)
      rw [a]; exact h11 c' hc'
  · rw [ne 1 (by omega)]; exact h12
  · have a : lt (cls s c 0 (nI q)) i 1 = lt s i 1 := ne _ (by omega)
    rw [a]; exact h13 i hi
theorem opens_ne {s : Nat → Int32} {L j : Nat} {x y : Int32} (h : j < 163 ∨ (164 ≤ j ∧ j < 164 + 25 * L) ∨ 164 + 25 * L + 25 ≤ j) : opensS s L x y j = s j := by
  unfold opensS lts clr upd
  rw [if_neg (by omega)]
  show (if j = 164 + 25 * L + 0 then x else _) = s j
  rw [if_neg (by omega)]
  show (if 164 + 25 * L ≤ j ∧ j < 164 + 25 * L + 25 then (0 : Int32) else if j = 163 then _ else s j) = s j
  rw [if_neg (by omega), if_neg (by omega)]
theorem opens_163 {s : Nat → Int32} {L : Nat} {x y : Int32} : opensS s L x y 163 = s 163 + 1 := by
  unfold opensS lts clr upd
  rw [if_neg (by omega)]
  show (if 163 = 164 + 25 * L + 0 then x else _) = _
  rw [if_neg (by omega)]
  show (if 164 + 25 * L ≤ 163 ∧ 163 < 164 + 25 * L + 25 then (0 : Int32) else if 163 = 163 then s 163 + 1 else s 163) = _
  rw [if_neg (by omega), if_pos rfl]
theorem opens_k {s : Nat → Int32} {L k : Nat} {x y : Int32} (h1 : 2 ≤ k) (h2 : k < 25) : lt (opensS s L x y) L k = 0 := by
  unfold lt opensS lts clr upd
  rw [if_neg (by omega)]
  show (if 164 + 25 * L + k = 164 + 25 * L + 0 then x else _) = _
  rw [if_neg (by omega)]
  show (if 164 + 25 * L ≤ 164 + 25 * L + k ∧ 164 + 25 * L + k < 164 + 25 * L + 25 then (0 : Int32) else _) = _
  rw [if_pos (by omega)]
theorem opens_1 {s : Nat → Int32} {L : Nat} {x y : Int32} : lt (opensS s L x y) L 1 = y := if_pos rfl
theorem opens_0 {s : Nat → Int32} {L : Nat} {x y : Int32} : lt (opensS s L x y) L 0 = x := by
  unfold lt opensS lts upd
  rw [if_neg (by omega)]
  exact if_pos rfl
theorem wf_opens {s : Nat → Int32} {L D P w : Nat} {x : Int32} (h : tw_wf s L D P) (hL : L < 12) (h1 : 1 ≤ w) (h9 : w ≤ 9) : tw_wf (opensS s L x (nI w)) (L + 1) D P := by
  obtain ⟨h1', h3, h5, h7, h8, h9', h10, h11, h12, h13⟩ := h
  refine ⟨⟨?_, by omega⟩, ⟨(opens_ne (by omega)).trans h3.1, h3.2⟩, ⟨(opens_ne (by omega)).trans h5.1, h5.2⟩, fun q hq hn => ?_, fun i hi => ?_, fun z hz => ?_, fun k hk => ?_, fun c hc => ?_, ?_, fun i hi => ?_⟩
  · rw [opens_163, h1'.1]; exact nx_iinc rfl
  · have a0 : pl (opensS s L x (nI w)) q 0 = pl s q 0 := opens_ne (by omega)
    have a1 : pl (opensS s L x (nI w)) q 1 = pl s q 1 := opens_ne (by omega)
    rw [a0] at hn ⊢; rw [a1]
    obtain ⟨i, n, b1, b2, b3, b4⟩ := h7 q hq hn
    exact ⟨i, n, by omega, b2, b3, b4⟩
  · by_cases hiL : i = L
    · subst hiL
      exact ⟨0, by omega, opens_k (by omega) (by omega)⟩
    · have a : lt (opensS s L x (nI w)) i 2 = lt s i 2 := opens_ne (by omega)
      rw [a]; exact h8 i (by omega)
  · have a : zn (opensS s L x (nI w)) z 0 = zn s z 0 := opens_ne (by omega)
    rw [a]; exact h9' z hz
  · have a1 : pn (opensS s L x (nI w)) k 1 = pn s k 1 := opens_ne (by omega)
    have a2 : pn (opensS s L x (nI w)) k 2 = pn s k 2 := opens_ne (by omega)
    rw [a1, a2]; exact h10 k hk
  · have a : cl (opensS s L x (nI w)) c 0 = cl s c 0 := opens_ne (by omega)
    rw [a]; exact h11 c hc
  · rw [opens_ne (by omega)]; exact h12
  · by_cases hiL : i = L
    · subst hiL
      exact ⟨w, h1, h9, opens_1⟩
    · have a : lt (opensS s L x (nI w)) i 1 = lt s i 1 := opens_ne (by omega)
      rw [a]; exact h13 i (by omega)
theorem loads_ne {s : Nat → Int32} {i j : Nat} {x : Int32} (h : j < 43 ∨ 47 ≤ j) (h2 : j ≠ 166 + 25 * i) : loadsS s i x j = s j := by
  simp only [loadsS, ps, lts, upd]
  rw [if_neg (by omega), if_neg (by omega), if_neg (by omega), if_neg (by omega), if_neg (by omega)]
theorem loads_2 {s : Nat → Int32} {i : Nat} {x : Int32} : lt (loadsS s i x) i 2 = lt s i 2 + 1 := by
  simp only [lt, loadsS, ps, lts, upd]
  rw [if_neg (by omega), if_neg (by omega), if_neg (by omega), if_neg (by omega), if_pos True.intro]
theorem loads_p0 {s : Nat → Int32} {i : Nat} {x : Int32} : pl (loadsS s i x) 0 0 = x := by
  simp only [pl, loadsS, ps, lts, upd]
  rw [if_neg (by omega), if_neg (by omega), if_neg (by omega), if_pos True.intro]
theorem loads_p1 {s : Nat → Int32} {i : Nat} {x : Int32} : pl (loadsS s i x) 0 1 = lt s i 2 := by
  simp only [pl, loadsS, ps, lts, upd]
  rw [if_neg (by omega), if_neg (by omega), if_pos True.intro]
theorem noLoad_20 {s : Nat → Int32} {i : Nat} (h : noLoad s i ≤ 0) : ¬ lt s i 2 = 20 := by
  intro e; unfold noLoad at h; rw [if_pos e] at h; exact absurd h (by decide)
theorem wf_loads {s : Nat → Int32} {L D P i : Nat} (h : tw_wf s L D P) (hi : i < L) (hk : ¬ lt s i 2 = 20) : tw_wf (loadsS s i (nI i)) L D P := by
  obtain ⟨h1, h3, h5, h7, h8, h9, h10, h11, h12, h13⟩ := h
  obtain ⟨k, hk20, hk9⟩ := h8 i hi
  have hk19 : k < 20 := by
    by_cases e : k = 20
    · subst e; exact absurd hk9 hk
    · omega
  refine ⟨⟨(loads_ne (by omega) (by omega)).trans h1.1, h1.2⟩, ⟨(loads_ne (by omega) (by omega)).trans h3.1, h3.2⟩, ⟨(loads_ne (by omega) (by omega)).trans h5.1, h5.2⟩, fun q hq hn => ?_, fun j hj => ?_, fun z hz => ?_, fun k hk => ?_, fun c hc => ?_, ?_, fun j hj => ?_⟩
  · by_cases hq0 : q = 0
    · subst hq0
      exact ⟨i, k, hi, hk19, loads_p0, loads_p1.trans hk9⟩
    · have a0 : pl (loadsS s i (nI i)) q 0 = pl s q 0 := loads_ne (by omega) (by omega)
      have a1 : pl (loadsS s i (nI i)) q 1 = pl s q 1 := loads_ne (by omega) (by omega)
      rw [a0] at hn ⊢; rw [a1]; exact h7 q hq hn
  · by_cases hji : j = i
    · subst hji
      exact ⟨k + 1, by omega, loads_2.trans (nx_iinc hk9)⟩
    · have a : lt (loadsS s i (nI i)) j 2 = lt s j 2 := loads_ne (by omega) (by omega)
      rw [a]; exact h8 j hj
  · have a : zn (loadsS s i (nI i)) z 0 = zn s z 0 := loads_ne (by omega) (by omega)
    rw [a]; exact h9 z hz
  · have a1 : pn (loadsS s i (nI i)) k 1 = pn s k 1 := loads_ne (by omega) (by omega)
    have a2 : pn (loadsS s i (nI i)) k 2 = pn s k 2 := loads_ne (by omega) (by omega)
    rw [a1, a2]; exact h10 k hk
  · have a : cl (loadsS s i (nI i)) c 0 = cl s c 0 := loads_ne (by omega) (by omega)
    rw [a]; exact h11 c hc
  · rw [loads_ne (by omega) (by omega)]; exact h12
  · have a : lt (loadsS s i (nI i)) j 1 = lt s j 1 := loads_ne (by omega) (by omega)
    rw [a]; exact h13 j hj
/-! what a part of a text does -/
def nL (s : Nat → Int32) : Nat := (s 163).toNatClampNeg
theorem nL_of {s : Nat → Int32} {L D P : Nat} (h : tw_wf s L D P) : nL s = L := cl_of h.1.1 (by have := h.1.2; omega)
def canB (s : Nat → Int32) (c : Int32) (i j : Nat) : Bool :=
  if c = 111 then decide (nL s < 12) else if c = 108 then decide (i < nL s) && decide (noLoad s i = 0) else if c = 99 then decide (noCln s i j = 0) else if c = 109 then decide (s 0 + nI i ≤ 9999) else true
noncomputable def didS (s : Nat → Int32) (st : Nat → UInt32) (c : Int32) (i j : Nat) : (Nat → Int32) × (Nat → UInt32) :=
  if c = 98 then (zs s i 0 (nI j), st) else if c = 102 then (zs s i 1 (nI j), st) else if c = 114 then (zs s i 2 (nI j), st) else if c = 111 then (opensS s (nL s) (nI i) (nI j), st) else if c = 108 then (loadsS s i (nI i), va_up st 0 FP.fconst0) else if c = 99 then (sendsS s i (nI j), st) else ((runsF s st i).1, (runsF s st i).2.1)
set_option maxRecDepth 100000


