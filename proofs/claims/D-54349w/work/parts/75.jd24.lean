/-! LEAVE -/
def qn (s : Nat → Int32) (p : Nat) : Nat := (pl s p 1).toNatClampNeg
/-- the pieces on their places: each a piece of its lot that is on the way; no two alike-/
def jp (s : Nat → Int32) : Prop :=
  (∀ p, p < 24 → oc s p → pk s p < nL s ∧ qn s p < ldN s (pk s p) ∧ lt s (pk s p) (5 + qn s p) = 0 ∧ pl s p 0 = nI (pk s p) ∧ pl s p 1 = nI (qn s p)) ∧
  (∀ p q, p < 24 → q < 24 → oc s p → oc s q → pk s p = pk s q → qn s p = qn s q → p = q) ∧ nL s ≤ 12 ∧ ∀ k, k < nL s → ldN s k ≤ 20
theorem cd_eq (s : Nat → Int32) (p : Nat) : cd s p = 20 * pk s p + qn s p := rfl
theorem cd_inj {s : Nat → Int32} (h : jp s) {p q : Nat} (hp : p < 24) (hq : q < 24) (h1 : oc s p) (h2 : oc s q) (e : cd s p = cd s q) : p = q := by
  obtain ⟨a1, a2, -⟩ := h.1 p hp h1
  obtain ⟨b1, b2, -⟩ := h.1 q hq h2
  have a3 := h.2.2.2 _ a1
  have b3 := h.2.2.2 _ b1
  rw [cd_eq, cd_eq] at e
  exact h.2.1 p q hp hq h1 h2 (by omega) (by omega)
theorem endS_v {s : Nat → Int32} {p : Nat} {f : Int32} (j : Nat) : endS s p f j = if j = 43 + 5 * p + 3 then 0 else if j = 43 + 5 * p + 2 then 0 else if j = 43 + 5 * p + 1 then 0 else if j = 43 + 5 * p + 0 then -1 else if j = 164 + 25 * pk s p + 5 + qn s p then f else s j := rfl
theorem endS_pl {s : Nat → Int32} {p q i : Nat} {f : Int32} (hp : p < 24) (hq : q < 24) (hne : q ≠ p) (hi : i < 5) : pl (endS s p f) q i = pl s q i := by
  unfold pl
  rw [endS_v, if_neg (by omega), if_neg (by omega), if_neg (by omega), if_neg (by omega), if_neg (by omega)]
theorem endS_0 {s : Nat → Int32} {p : Nat} {f : Int32} : pl (endS s p f) p 0 = -1 := by
  unfold pl
  rw [endS_v, if_neg (by omega), if_neg (by omega), if_neg (by omega), if_pos (by omega)]
theorem endS_4 {s : Nat → Int32} {p : Nat} {f : Int32} (hp : p < 24) : pl (endS s p f) p 4 = pl s p 4 := by
  unfold pl
  rw [endS_v, if_neg (by omega), if_neg (by omega), if_neg (by omega), if_neg (by omega), if_neg (by omega)]
theorem endS_o {s : Nat → Int32} {p j : Nat} {f : Int32} (hk : pk s p < 12) (hn : qn s p < 20) (hp : p < 24) (hj : j < 43 ∨ j = 163 ∨ 464 ≤ j) : endS s p f j = s j := by
  rw [endS_v, if_neg (by omega), if_neg (by omega), if_neg (by omega), if_neg (by omega), if_neg (by omega)]
theorem endS_lt {s : Nat → Int32} {p k i : Nat} {f : Int32} (hn : qn s p < 20) (hp : p < 24) (hi : i < 25) : lt (endS s p f) k i = if k = pk s p ∧ i = 5 + qn s p then f else lt s k i := by
  unfold lt
  rw [endS_v, if_neg (by omega), if_neg (by omega), if_neg (by omega), if_neg (by omega)]
  by_cases h : k = pk s p ∧ i = 5 + qn s p
  · rw [if_pos h, if_pos (by omega)]
  · rw [if_neg h, if_neg (by omega)]
theorem endS_4p {s : Nat → Int32} {p q : Nat} {f : Int32} (hp : p < 24) (hq : q < 24) : pl (endS s p f) q 4 = pl s q 4 := by
  by_cases e : q = p
  · rw [e]; exact endS_4 hp
  · exact endS_pl hp hq e (by omega)
theorem sm_cg {f g : Nat → Int32} : ∀ n, (∀ i, i < n → f i = g i) → sm f n = sm g n
  | 0, _ => rfl
  | n + 1, h => by
    show sm f n + f n = sm g n + g n
    rw [sm_cg n (fun i hi => h i (by omega)), h n (by omega)]
theorem sm_one {f g : Nat → Int32} {q : Nat} : ∀ n, q < n → (∀ i, i < n → i ≠ q → f i = g i) → f q = 0 → g q = 1 → sm g n = sm f n + 1
  | 0, h, _, _, _ => absurd h (Nat.not_lt_zero _)
  | n + 1, h, e, h0, h1 => by
    show sm g n + g n = sm f n + f n + 1
    by_cases hq : q = n
    · subst hq
      rw [h0, h1, Int32.add_zero, sm_cg q (fun i hi => (e i (by omega) (by omega)).symm)]
    · rw [sm_one n (by omega) (fun i hi hne => e i (by omega) hne) h0 h1, e n (by omega) (fun u => hq u.symm), Int32.add_assoc, Int32.add_comm 1, Int32.add_assoc]
theorem nI_inj {a b : Nat} (ha : a < 2 ^ 31) (hb : b < 2 ^ 31) (h : nI a = nI b) : a = b := by
  have h1 := congrArg Int32.toNatClampNeg h
  rwa [nI_clamp ha, nI_clamp hb] at h1
/-- what agrees on a lot's row gives the same lot -/
theorem fated_cg {s s1 : Nat → Int32} {k : Nat} {f : Int32} (h2 : lt s1 k 2 = lt s k 2) (h20 : ldN s k ≤ 20) (e : ∀ n, n < 20 → lt s1 k (5 + n) = lt s k (5 + n)) : fated s1 k f = fated s k f := by
  unfold fated
  rw [h2]
  exact sm_cg _ (fun i hi => by unfold fatedN; rw [e i (by unfold ldN at h20; omega)])
theorem lo1.cg {V : gh_V} {g : gh_G} {S k q la lw : Nat} {s s1 : Nat → Int32} {fa : Nat → Int32} (h : lo1 V g S s k q la lw fa) (h20 : ldN s k ≤ 20) (e : ∀ j, j < 25 → lt s1 k j = lt s k j) : lo1 V g S s1 k q la lw fa := by
  obtain ⟨h1, h2, h3, h4⟩ := h
  unfold lo1 kd
  rw [e 0 (by omega), e 1 (by omega), e 2 (by omega), e 3 (by omega), e 4 (by omega)]
  exact ⟨h1, h2, h3, fun f a b => by rw [h4 f a b, fated_cg (e 2 (by omega)) h20 (fun n hn => e _ (by omega))]⟩
theorem nL_cg {s s1 : Nat → Int32} (e : s1 163 = s 163) : nL s1 = nL s := by unfold nL; rw [e]
theorem lo_P.cg {V : gh_V} {g : gh_G} {S l : Nat} {s s1 : Nat → Int32} (h : lo_P V g S l s) (h12 : nL s ≤ 12) (h20 : ∀ k, k < nL s → ldN s k ≤ 20) (e : ∀ j, 163 ≤ j → j < 464 → s1 j = s j) : lo_P V g S l s1 := by
  obtain ⟨es, la, lw, fa, h1, h2⟩ := h
  refine ⟨es, la, lw, fa, by rw [nL_cg (e 163 (by omega) (by omega))]; exact h1, fun k hk => ?_⟩
  rw [nL_cg (e 163 (by omega) (by omega))] at hk
  exact (h2 k hk).cg (h20 k hk) (fun j hj => e _ (by omega) (by omega))
theorem nD_cg {s s1 : Nat → Int32} (e : s1 464 = s 464) : nD s1 = nD s := by unfold nD; rw [e]
theorem de_P.cg {V : gh_V} {g : gh_G} {S l : Nat} {s s1 : Nat → Int32} (h : de_P V g S l s) (h10 : nD s ≤ 10) (e : ∀ j, 464 ≤ j → j < 525 → s1 j = s j) : de_P V g S l s1 := by
  obtain ⟨es, h1, h2⟩ := h
  have e1 := nD_cg (e 464 (by omega) (by omega))
  refine ⟨es, by rw [e1]; exact h1, fun d hd => ?_⟩
  rw [e1] at hd
  have e2 : ∀ i, i < 6 → od s1 d i = od s d i := fun i hi => e _ (by omega) (by omega)
  unfold de1
  rw [e2 0 (by omega), e2 1 (by omega), e2 2 (by omega), e2 3 (by omega), e2 4 (by omega), e2 5 (by omega)]
  exact h2 d hd
theorem nP_cg {s s1 : Nat → Int32} (e : s1 529 = s 529) : nP s1 = nP s := by unfold nP; rw [e]
theorem npF_cg {s s1 : Nat → Int32} : ∀ n, (∀ i, i < n → pn s1 i 0 = pn s i 0) → npF s1 n = npF s n
  | 0, _ => rfl
  | n + 1, e => by
    show (if npF s1 n = -1 then pn s1 n 0 else if pn s1 n 0 < npF s1 n then pn s1 n 0 else npF s1 n) = (if npF s n = -1 then pn s n 0 else if pn s n 0 < npF s n then pn s n 0 else npF s n)
    rw [npF_cg n (fun i hi => e i (by omega)), e n (by omega)]
theorem pn_P.cg {V : gh_V} {g : gh_G} {S m : Nat} {nx : Int32} {s s1 : Nat → Int32} (h : pn_P V g S m nx s) (e : ∀ j, 529 ≤ j → s1 j = s j) : pn_P V g S m nx s1 := by
  obtain ⟨M, h1, h2, h3⟩ := h
  have e1 := nP_cg (e 529 (by omega))
  have e2 : ∀ i j, pn s1 i j = pn s i j := fun i j => e _ (by omega)
  refine ⟨M, h1, ?_, ?_⟩
  · rw [e1, h2]
    unfold pls
    apply List.map_congr_left
    intro i _
    unfold pcode pval
    rw [e2, e2, e2]
  · rw [e1, h3, npF_cg _ (fun i _ => e2 i 0)]
theorem st_V.cg {s s1 : Nat → Int32} {I : Nat → Int32} {A : Nat → Nat → Int32} (h : st_V s I A) (e : ∀ j, j < 43 → s1 j = s j) (e4 : ∀ p, p < 24 → pl s1 p 4 = pl s p 4) (ec : ∀ j, 525 ≤ j → j < 529 → s1 j = s j) : st_V s1 I A := by
  obtain ⟨h0, h1, h2, hz, hp, hc⟩ := h
  have ez : ∀ z, z < 8 → ∀ k, k < 5 → zn s1 z k = zn s z k := fun z hz k hk => e _ (by omega)
  have ecl : ∀ c, c < 2 → ∀ k, k < 2 → cl s1 c k = cl s c k := fun c hc k hk => ec _ (by omega) (by omega)
  refine ⟨h0.trans (e 0 (by omega)).symm, h1.trans (e 1 (by omega)).symm, h2.trans (e 2 (by omega)).symm, fun z h => ?_, fun p h => (hp p h).trans (e4 p h).symm, fun c h => ?_⟩
  · rw [ez z h 0 (by omega), ez z h 1 (by omega), ez z h 2 (by omega), ez z h 3 (by omega), ez z h 4 (by omega)]; exact hz z h
  · rw [ecl c h 0 (by omega), ecl c h 1 (by omega)]; exact hc c h
theorem al_P.c {V : gh_V} {o k : Nat} {g : gh_G} {l n : Nat} {es : Nat → Nat} (h : al_P V o k g l n es) : ∃ vs, g l = some ((o, k, 0), oo 12 vs) := by
  obtain ⟨mc, cap, arr, f, h1, -⟩ := h
  exact ⟨_, h1⟩
theorem gh_fw.g4 {S i : Nat} {g g1 : gh_G} (h : gh_fk S (20 + i) g g1) (hi : i < 4) : gh_fw S [20, 21, 22, 23] g g1 := (gh_fw.fk h).mn (fun k hk => by
  rw [List.mem_singleton.mp hk]
  have : i = 0 ∨ i = 1 ∨ i = 2 ∨ i = 3 := by omega
  rcases this with rfl | rfl | rfl | rfl <;> decide)
theorem gh_fv.g41 {V : gh_V} {S i q : Nat} {ks : List Nat} {g g1 : gh_G} {L : List (Nat × Nat)} (hf : gh_fv S ks g g1) (hk : ∀ j, j ∈ [1, 8, 20, 21, 22, 23] → j ∉ ks) (hi : i < 4) (h : hs_P V S (20 + i) g q L) : hs_P V S (20 + i) g1 q L :=
  hf.hs (hk (20 + i) (by have h9 : i = 0 ∨ i = 1 ∨ i = 2 ∨ i = 3 := (by omega); (rcases h9 with rfl | rfl | rfl | rfl <;> decide))) (hk 1 (by decide)) (hk 8 (by decide)) h
theorem gh_fv.g4s {V : gh_V} {S : Nat} {ks : List Nat} {g g1 : gh_G} {gq : Nat → Nat} {SS : Nat → List (Nat × Nat)} (hf : gh_fv S ks g g1) (hk : ∀ j, j ∈ [1, 8, 20, 21, 22, 23] → j ∉ ks) (h : ∀ i, i < 4 → hs_P V S (20 + i) g (gq i) (SS i)) : ∀ i, i < 4 → hs_P V S (20 + i) g1 (gq i) (SS i) := fun i hi => hf.g41 hk hi (h i hi)
theorem gh_fv.g4x {V : gh_V} {S k : Nat} {ks : List Nat} {g g1 : gh_G} {gq : Nat → Nat} {SS : Nat → List (Nat × Nat)} (hf : gh_fv S ks g g1) (hk : ∀ j, j ∈ [1, 8, 20, 21, 22, 23] → j ∉ ks) (h : ∀ i, i < 4 → i ≠ k → hs_P V S (20 + i) g (gq i) (SS i)) : ∀ i, i < 4 → i ≠ k → hs_P V S (20 + i) g1 (gq i) (SS i) := fun i hi hne => hf.g41 hk hi (h i hi hne)
theorem go_len {SS : Nat → List (Nat × Nat)} {n i : Nat} (h : (SS 0).length + (SS 1).length + (SS 2).length + (SS 3).length = n) (hi : i < 4) : (SS i).length ≤ n := by
  have : i = 0 ∨ i = 1 ∨ i = 2 ∨ i = 3 := by omega
  rcases this with rfl | rfl | rfl | rfl <;> omega
theorem lo1.ow {V : gh_V} {g g1 : gh_G} {S k q la lw a j k1 : Nat} {s : Nat → Int32} {fa : Nat → Int32} {x : gh_E} (h : lo1 V g S s k q la lw fa) (ha : g a = some ((S, j, k1), x)) (hne : k ≠ k1) (hj : j ≠ 2) (hn : ∀ q, q ≠ a → g1 q = g q) : lo1 V g1 S s k q la lw fa := by
  obtain ⟨h1, h2, h3, h4⟩ := h
  refine ⟨?_, ?_, h3.keep (fun b t y hb ht => ?_), h4⟩
  · rw [hn _ (fun e => by rw [e, ha] at h1; cases h1; exact hne rfl)]; exact h1
  · rw [hn _ (fun e => by rw [e, ha] at h2; cases h2; exact hne rfl)]; exact h2
  · rw [hn _ (fun e => by rw [e, ha] at hb; cases hb; exact hj ht.2)]; exact hb
/-- a key object's fields -/
theorem ky_P.f9 {V : gh_V} {g : gh_G} {x k n : Nat} (h : ky_P V g 9 x (20 * k + n)) (hn : n < 20) : g x = some ((V.2.2 9, 1, 0), oo 9 [.int (nI k), .int (nI n)]) := by
  obtain ⟨u, w, h1, h2⟩ := h
  have : u = k ∧ w = n := by omega
  rw [h1, this.1, this.2]
theorem lm_del_len {M : List (Nat × Nat × Option Nat)} {c : Nat} {e : Nat × Nat × Option Nat} (he : e ∈ M) (hc : e.1 = c) : (lm_del M c).length + 1 ≤ M.length := by
  unfold lm_del
  have h := List.length_filter_lt_length_iff_exists (l := M) (p := fun e => !(e.1 == c))
  have := h.mpr ⟨e, he, by simp [hc]⟩
  omega
section Leave
variable {V : gh_V} {g : gh_G} {S l m p f n0 n1 : Nat} {s : Nat → Int32} {F F1 : Nat → UInt32} {P : Nat → Option Nat} {kx pw : Nat → Nat} {nx : Int32}
theorem lv_lo {es la lw : Nat → Nat} {fa : Nat → Nat → Int32} (hJ : jp s) (hp : p < 24) (ho : oc s p) (hf1 : 1 ≤ f) (hf4 : f < 5) (hA : al_P V S 12 g l (nL s) es) (hx : ∀ k, k < nL s → k ≠ pk s p → lo1 V g S s k (es k) (la k) (lw k) (fa k))
    (hq : g (es (pk s p)) = some ((S, 4, pk s p), oo 3 [.ref (lw (pk s p)), .ref (la (pk s p)), .int (lt s (pk s p) 2), .int (lt s (pk s p) 3), .int (lt s (pk s p) 4)])) (ha : g (la (pk s p)) = some ((S, 5, pk s p), ai V 0 5 (upd (fa (pk s p)) f (fa (pk s p) f + 1)))) (hw : wa_P V g (lw (pk s p)) (kd s (pk s p)) (lt s (pk s p) 1)) (hf : ∀ f, 1 ≤ f → f < 5 → fa (pk s p) f = fated s (pk s p) (nI f)) : lo_P V g S l (endS s p (nI f)) := by
  obtain ⟨a1, a2, a3, a4, a5⟩ := hJ.1 p hp ho
  have h12 := hJ.2.2.1
  have h20 := hJ.2.2.2 _ a1
  have eL : nL (endS s p (nI f)) = nL s := nL_cg (endS_o (by omega) (by omega) hp (by omega))
  have el : ∀ k i, i < 25 → lt (endS s p (nI f)) k i = if k = pk s p ∧ i = 5 + qn s p then nI f else lt s k i := fun k i hi => endS_lt (by omega) hp hi
  refine ⟨es, la, lw, fun k => if k = pk s p then upd (fa k) f (fa k f + 1) else fa k, by rw [eL]; exact hA, fun k hk => ?_⟩
  rw [eL] at hk
  show lo1 V g S (endS s p (nI f)) k (es k) (la k) (lw k) (if k = pk s p then upd (fa k) f (fa k f + 1) else fa k)
  by_cases e : k = pk s p
  · subst e
    rw [if_pos rfl]
    have e0 : ∀ j, j < 5 → lt (endS s p (nI f)) (pk s p) j = lt s (pk s p) j := fun j hj => by rw [el _ _ (by omega), if_neg (by omega)]
    unfold lo1 kd
    rw [e0 0 (by omega), e0 1 (by omega), e0 2 (by omega), e0 3 (by omega), e0 4 (by omega)]
    refine ⟨hq, ha, hw, fun f' h1 h4 => ?_⟩
    have e2 := e0 2 (by omega)
    have hne : ∀ i, i < 20 → i ≠ qn s p → lt (endS s p (nI f)) (pk s p) (5 + i) = lt s (pk s p) (5 + i) := fun i hi hn => by rw [el _ _ (by omega), if_neg (by omega)]
    have heq : lt (endS s p (nI f)) (pk s p) (5 + qn s p) = nI f := by rw [el _ _ (by omega), if_pos ⟨rfl, rfl⟩]
    by_cases e3 : f' = f
    · subst e3
      rw [upd, if_pos rfl, hf f' h1 h4]
      unfold fated
      rw [e2]
      refine (sm_one (q := qn s p) _ a2 (fun i hi hn => ?_) ?_ ?_).symm
      · unfold fatedN; rw [hne i (Nat.lt_of_lt_of_le hi h20) hn]
      · unfold fatedN; rw [a3, if_neg (fun h => by have := nI_inj (a := 0) (by omega) (by omega) h; omega)]
      · unfold fatedN; rw [heq, if_pos rfl]
    · rw [upd, if_neg e3, hf f' h1 h4]
      unfold fated
      rw [e2]
      refine sm_cg _ (fun i hi => ?_)
      unfold fatedN
      by_cases hn : i = qn s p
      · rw [hn, a3, heq, if_neg (fun h => by have := nI_inj (a := 0) (by omega) (by omega) h; omega), if_neg (fun h => e3 (nI_inj (by omega) (by omega) h.symm))]
      · rw [hne i (by unfold ldN at h20; omega) hn]
  · rw [if_neg e]
    exact (hx k hk e).cg (hJ.2.2.2 k hk) (fun j hj => by rw [el _ _ hj, if_neg (fun h => e h.1)])
theorem lv_pc (hJ : jp s) (hp : p < 24) (ho : oc s p) (h : pc_P V g S P kx pw s F) (hF : ∀ q, q ≠ p → F1 q = F q) : pc_P V g S (va_up P p none) kx pw (endS s p (nI f)) F1 := by
  obtain ⟨a1, a2, a3, a4, a5⟩ := hJ.1 p hp ho
  have h12 := hJ.2.2.1
  have h20 := hJ.2.2.2 _ a1
  intro q hq
  by_cases e : q = p
  · subst e
    exact ⟨fun _ => va_up_self _ _ _, fun h9 => absurd endS_0 h9⟩
  · have e0 : ∀ i, i < 5 → pl (endS s p (nI f)) q i = pl s q i := fun i hi => endS_pl hp hq e hi
    rw [va_up_ne _ _ e]
    refine ⟨fun h9 => (h q hq).1 (by rw [← e0 0 (by omega)]; exact h9), fun h9 => ?_⟩
    obtain ⟨x, h1, h2, h3, h4⟩ := (h q hq).2 (fun h8 => h9 (by rw [e0 0 (by omega)]; exact h8))
    have ek : pk (endS s p (nI f)) q = pk s q := by unfold pk; rw [e0 0 (by omega)]
    have ec : cd (endS s p (nI f)) q = cd s q := by unfold cd; rw [ek, e0 1 (by omega)]
    have el : ∀ j, j < 5 → lt (endS s p (nI f)) (pk s q) j = lt s (pk s q) j := fun j hj => by rw [endS_lt (by omega) hp (by omega), if_neg (by omega)]
    refine ⟨x, h1, ?_⟩
    unfold pc1 kd
    rw [ek, ec, e0 2 (by omega), e0 3 (by omega), el 0 (by omega), el 1 (by omega), hF q e]
    exact ⟨h2, h3, h4⟩
theorem lv_ot {M : List (Nat × Nat × Option Nat)} (hJ : jp s) (hp : p < 24) (ho : oc s p) (hM : lm_P V S 10 g m 9 (lm_del M (cd s p))) (h1 : ∀ q, q < 24 → oc s q → (cd s q, kx q, P q) ∈ M) (h2 : ∀ e, e ∈ M → ∃ q, q < 24 ∧ oc s q ∧ e = (cd s q, kx q, P q)) : ot_P V g S m (va_up P p none) kx (endS s p (nI f)) (lm_del M (cd s p)).length := by
  obtain ⟨a1, a2, a3, a4, a5⟩ := hJ.1 p hp ho
  have e0 : ∀ q, q < 24 → q ≠ p → ∀ i, i < 5 → pl (endS s p (nI f)) q i = pl s q i := fun q hq e i hi => endS_pl hp hq e hi
  have ec : ∀ q, q < 24 → q ≠ p → cd (endS s p (nI f)) q = cd s q := fun q hq e => by unfold cd pk; rw [e0 q hq e 0 (by omega), e0 q hq e 1 (by omega)]
  refine ⟨_, hM, rfl, fun q hq h9 => ?_, fun e he => ?_⟩
  · have e : q ≠ p := fun h => by subst h; exact h9 endS_0
    have ho2 : oc s q := fun h8 => h9 (by rw [e0 q hq e 0 (by omega)]; exact h8)
    rw [ec q hq e, va_up_ne _ _ e]
    unfold lm_del
    refine List.mem_filter.mpr ⟨h1 q hq ho2, ?_⟩
    have : cd s q ≠ cd s p := fun h => e (cd_inj hJ hq hp ho2 ho h)
    simpa using this
  · unfold lm_del at he
    obtain ⟨he, hne⟩ := List.mem_filter.mp he
    obtain ⟨q, hq, hoq, rfl⟩ := h2 e he
    have e : q ≠ p := fun h => by subst h; simp at hne
    exact ⟨q, hq, fun h => hoq (by rw [← e0 q hq e 0 (by omega)]; exact h), by rw [ec q hq e, va_up_ne _ _ e]⟩
theorem lv_go {gq : Nat → Nat} {SS : Nat → List (Nat × Nat)} (hJ : jp s) (hp : p < 24) (ho : oc s p) (hf1 : 1 ≤ f) (hf4 : f < 5) (hA : al_P V S 14 g l 4 gq) (hx : ∀ i, i < 4 → i ≠ f - 1 → hs_P V S (20 + i) g (gq i) (SS i)) (hn : hs_P V S (20 + (f - 1)) g (gq (f - 1)) (st_add (SS (f - 1)) (cd s p) (kx p))) (hl : (SS 0).length + (SS 1).length + (SS 2).length + (SS 3).length = n1)
    (ha : ∀ i k n, i < 4 → k < 12 → n < 20 → (st_any (SS i) (20 * k + n) = true ↔ k < nL s ∧ lt s k (5 + n) = nI (i + 1))) : ∃ n2, go_P V g S l (endS s p (nI f)) n2 ∧ n2 ≤ n1 + 1 := by
  obtain ⟨a1, a2, a3, a4, a5⟩ := hJ.1 p hp ho
  have h12 := hJ.2.2.1
  have h20 := hJ.2.2.2 _ a1
  have eL : nL (endS s p (nI f)) = nL s := nL_cg (endS_o (by omega) (by omega) hp (by omega))
  refine ⟨_, ⟨gq, fun i => if i = f - 1 then st_add (SS i) (cd s p) (kx p) else SS i, hA, fun i hi => ?_, rfl, fun i k n hi hk hn => ?_⟩, ?_⟩
  · show hs_P V S (20 + i) g (gq i) (if i = f - 1 then st_add (SS i) (cd s p) (kx p) else SS i)
    by_cases e : i = f - 1
    · rw [if_pos e, e]; exact hn
    · rw [if_neg e]; exact hx i hi e
  · show st_any (if i = f - 1 then st_add (SS i) (cd s p) (kx p) else SS i) (20 * k + n) = true ↔ _
    rw [eL, endS_lt (by omega) hp (by omega)]
    by_cases ec : k = pk s p ∧ n = qn s p
    · obtain ⟨rfl, rfl⟩ := ec
      rw [if_pos (⟨rfl, rfl⟩ : pk s p = pk s p ∧ 5 + qn s p = 5 + qn s p)]
      by_cases e : i = f - 1
      · rw [if_pos e]
        have h9 : st_any (st_add (SS i) (cd s p) (kx p)) (20 * pk s p + qn s p) = true := by
          unfold st_add
          split
          · assumption
          · unfold st_any; rw [List.any_append]; simp [cd_eq]
        rw [h9]
        exact ⟨fun _ => ⟨a1, by rw [e]; congr 1; omega⟩, fun _ => rfl⟩
      · rw [if_neg e, ha i _ _ hi hk hn, a3]
        constructor
        · intro h9
          have := nI_inj (a := 0) (by omega) (by omega) h9.2
          omega
        · intro h9
          have := nI_inj (by omega) (by omega) h9.2
          omega
    · rw [if_neg (show ¬ (k = pk s p ∧ 5 + n = 5 + qn s p) by omega), ← ha i k n hi hk hn]
      by_cases e : i = f - 1
      · rw [if_pos e]
        unfold st_add
        split
        · exact Iff.rfl
        · unfold st_any
          rw [List.any_append]
          have : (cd s p == 20 * k + n) = false := by
            rw [beq_eq_false_iff_ne, cd_eq]; omega
          simp [this]
      · rw [if_neg e]
  · have h9 : ∀ i, (if i = f - 1 then st_add (SS i) (cd s p) (kx p) else SS i).length ≤ (SS i).length + (if i = f - 1 then 1 else 0) := fun i => by
      split
      · exact st_put_len
      · omega
    have q0 := h9 0
    have q1 := h9 1
    have q2 := h9 2
    have q3 := h9 3
    have : f - 1 = 0 ∨ f - 1 = 1 ∨ f - 1 = 2 ∨ f - 1 = 3 := by omega
    rcases this with e | e | e | e <;> rw [e] at q0 q1 q2 q3 ⊢ <;> simp at q0 q1 q2 q3 ⊢ <;> omega
end Leave
set_option maxRecDepth 100000
theorem fX2_24_2 : gh_fd RX2 24 2 12 (.object "java/util/List") true := gh_fd.own (T := TX2) tyX2 rfl in_X2 tyX2_ok nmX2 (by decide) q1203 rfl rfl (fun h => rfl)
theorem fX2_34_2 : gh_fd RX2 34 2 14 (.object "java/util/Map") true := gh_fd.own (T := TX2) tyX2 rfl in_X2 tyX2_ok nmX2 (by decide) q1207 rfl rfl (fun h => rfl)
theorem fX2_38_2 : gh_fd RX2 38 2 15 (.object "java/util/List") true := gh_fd.own (T := TX2) tyX2 rfl in_X2 tyX2_ok nmX2 (by decide) q1209 rfl rfl (fun h => rfl)
theorem rfX2_141_5 : gh_fdr RX2 141 5 0 := gh_fdr.own (T := TX6) rfl in_X6 (by decide) q1667
theorem rfX2_332_9 : gh_fdr RX2 332 9 0 := gh_fdr.own (T := TX11) rfl in_X11 (by decide) q1653
theorem rfX2_335_3 : gh_fdr RX2 335 3 1 := gh_fdr.own (T := TX4) rfl in_X4 (by decide) q1589
theorem hdF_List_get_1 : (⟨"java/util/List", "get", "(I)Ljava/lang/Object;"⟩ : MethodName).cls ≠ "java/lang/invoke/MethodHandle" ∧ (⟨"java/util/List", "get", "(I)Ljava/lang/Object;"⟩ : MethodName).cls ≠ "java/lang/invoke/VarHandle" ∧ (parseMethodDescriptor (⟨"java/util/List", "get", "(I)Ljava/lang/Object;"⟩ : MethodName).desc).map (fun d => d.parameters.length) = some 1 := by decide +kernel
theorem hdF_Map_remove_1 : (⟨"java/util/Map", "remove", "(Ljava/lang/Object;)Ljava/lang/Object;"⟩ : MethodName).cls ≠ "java/lang/invoke/MethodHandle" ∧ (⟨"java/util/Map", "remove", "(Ljava/lang/Object;)Ljava/lang/Object;"⟩ : MethodName).cls ≠ "java/lang/invoke/VarHandle" ∧ (parseMethodDescriptor (⟨"java/util/Map", "remove", "(Ljava/lang/Object;)Ljava/lang/Object;"⟩ : MethodName).desc).map (fun d => d.parameters.length) = some 1 := by decide +kernel
theorem hdF_Set_add_1 : (⟨"java/util/Set", "add", "(Ljava/lang/Object;)Z"⟩ : MethodName).cls ≠ "java/lang/invoke/MethodHandle" ∧ (⟨"java/util/Set", "add", "(Ljava/lang/Object;)Z"⟩ : MethodName).cls ≠ "java/lang/invoke/VarHandle" ∧ (parseMethodDescriptor (⟨"java/util/Set", "add", "(Ljava/lang/Object;)Z"⟩ : MethodName).desc).map (fun d => d.parameters.length) = some 1 := by decide +kernel
set_option maxHeartbeats 1000000 in
set_option maxRecDepth 100000 in
theorem j_X2_leave (l : Launch) (V : gh_V) (g0 : gh_G) (S N : Nat) (s : Nat → Int32) (F : Nat → UInt32) (hR : cw_R V g0 S s F N) (L D Pn : Nat) (hE : tw_wf s L D Pn) (hJ : jp s) (hTR : tr_S l V) (p9 f9 : Nat) (st9 : UInt32) (hp24 : p9 < 24) (ho9 : oc s p9) (hf1 : 1 ≤ f9) (hf4 : f9 < 5) (hN63 : N < 63) : MV l yX2_leave cX2_leave 4 ({ frames := 12, cells := 36, slots := 296, locals := 410 } : Room) V [.ref S, .int (nI p9), .int (nI f9)] g0 (fun g1 => cw_R V g1 S (endS s p9 (nI f9)) (va_up F p9 st9) N ∧ gh_fw S [0, 5, 10, 20, 21, 22, 23] g0 g1) := by
  refine MG.of RX2 (by decide) rfl (Nat.le_of_ble_eq_true rfl) (fun pp ee s9 mm args below meth c ls hC hg hr hlk hnm hl => ?_)
  have hx := hC.1.1
  have hb := hC.1.2.1
  have hml := hC.1.2.2.1
  have hown := hC.1.2.2.2.1
  have hts := hC.1.2.2.2.2
  have hl : lv_has ls 4 [(0, .ref S), (1, .int (nI p9)), (2, .int (nI f9))] := hl
  obtain ⟨g, hg, hgg⟩ : ∃ g, gh_W V (gh_A g0 s9.heap.size) s9 g s9.heap [] ∧ g = g0 := ⟨g0, hg, rfl⟩
  obtain ⟨ad, I, A, P, kx, pw, n0, n1, hT, hV, hL, hD, hPc, hO, hG, hPl, hN⟩ := hR
  rw [← hgg] at hT hL hD hPc hO hG hPl
  have hF : gh_fw S [0, 5, 10, 20, 21, 22, 23] g0 g := by rw [hgg]; exact gh_fw.rf
  obtain ⟨q, hPq, hqc, hky, hwa⟩ := (hPc p9 hp24).2 ho9
  obtain ⟨a1, a2, a3, a4, a5⟩ := hJ.1 p9 hp24 ho9
  have h12 := hJ.2.2.1
  have h20 := hJ.2.2.2 _ a1
  refine lv_aload_n hx hb dX2_leave_0 rfl (lv_at hl 0 rfl) ?_
  refine gh_get (v := .ref (ad 8)) hC hg hT.1 fX2_17_2 rfl dX2_leave_1 ?_
  refine lv_iload_n hx hb dX2_leave_4 rfl (lv_at hl 1 rfl) ?_
  refine gh_qald (n := 24) (f := P) hC hg hT.2.2 rfl rfl (by omega) (by omega) dX2_leave_5 ?_
  refine W.eq (g2 := F0 mm 6 ls [.ref q]) (by rw [hPq] <;> rfl) ?_
  refine lv_astore_n (lv' := [(3, .ref q), (0, .ref S), (1, .int (nI p9)), (2, .int (nI f9))]) hx hb dX2_leave_6 rfl hl (by decide) rfl (fun ls hl => ?_)
  refine lv_aload_n hx hb dX2_leave_7 rfl (lv_at hl 1 rfl) ?_
  refine gh_get (v := .ref (ad 8)) hC hg hT.1 fX2_17_2 rfl dX2_leave_8 ?_
  refine lv_iload_n hx hb dX2_leave_11 rfl (lv_at hl 2 rfl) ?_
  refine lv_null hx hb dX2_leave_12 ?_
  refine gh_qastN (n := 24) (f := P) hC hg hT.2.2 rfl rfl (by omega) (by omega) dX2_leave_13 (fun g H locs hg hw hn => ?_)
  have hqc : g q = some ((S, 7, (cd s p9)), oo 5 [.ref (kx p9), .ref (pw p9), .int (nI p9), .int (pl s p9 3), .int (pl s p9 2), .float (F p9)]) := (hn _ (gh_neK hqc hT.2.2 rfl)).trans hqc
  have hf9 : gh_fv S [0] _ g := (gh_fw.st hT.2.2 hn).v
  have hL : lo_P V g S (ad 9) s := hL.kp hf9 (by decide)
  have hD : de_P V g S (ad 10) s := hD.kp hf9 (by decide)
  have hPc : pc_P V g S P kx pw s F := hPc.kp hf9 (by decide)
  have hO : ot_P V g S (ad 11) P kx s n0 := hO.kp hf9 (by decide)
  have hG : go_P V g S (ad 12) s n1 := hG.kp hf9 (by decide)
  have hPl : pn_P V g S (ad 13) (I 3) s := hPl.kp hf9 (by decide)
  have hF : gh_fw S [0, 5, 10, 20, 21, 22, 23] g0 g := hF.set hT.2.2 (by decide) hn
  have hky : ky_P V g 9 (kx p9) (cd s p9) := hf9.ky (by decide) hky
  have hT : st_C V g S ad I A (va_up P p9 none) := hT.setP hw hn
  refine lv_aload_n hx hb dX2_leave_14 rfl (lv_at hl 1 rfl) ?_
  refine gh_get (v := .ref (ad 11)) hC hg hT.1 fX2_34_2 rfl dX2_leave_15 ?_
  refine lv_aload_n hx hb dX2_leave_18 rfl (lv_at hl 0 rfl) ?_
  refine gh_getr (v := .ref (kx p9)) hC hg hqc rfX2_141_5 rfl dX2_leave_19 ?_
  obtain ⟨M, ⟨Dm, hDm, hMm⟩, hMl, hM1, hM2⟩ := hO
  have hm9 := (hDm).1.1.cm
  have hkc9 := hky.f9 (k := pk s p9) (n := qn s p9) (by omega)
  refine gh_callFq hg (gh_runF (x := ⟨"java/util/Map", "remove", "(Ljava/lang/Object;)Ljava/lang/Object;"⟩) (As := [.ref (kx p9)]) (rest := []) hC hg (j_J4_remove l V _ hTR S 10 (ad 11) 9 (kx p9) (cd s p9) Dm hDm hky) 1 (lw_F q2352 q2357 q2355 q109 q2359) hm9 rfl (by decide +kernel) q2358 q2356 q1305 hdF_Map_remove_1 ⟨Nat.le_of_ble_eq_true rfl, Nat.le_of_ble_eq_true rfl⟩ rfl hl.1 rfl (Nat.le_of_ble_eq_true rfl) dX2_leave_22 ⟨Nat.le_of_ble_eq_true rfl, Nat.le_of_ble_eq_true rfl⟩) (fun r_1 g H locs hg hp => ?_)
  obtain ⟨-, hO1, hF9⟩ := hp
  rw [hMm] at hO1
  have hfw9 : gh_fw S [10] _ g := gh_fw.fk hF9
  have hf9 := hfw9.v
  have hqc : g q = some ((S, 7, (cd s p9)), oo 5 [.ref (kx p9), .ref (pw p9), .int (nI p9), .int (pl s p9 3), .int (pl s p9 2), .float (F p9)]) := hfw9 _ _ _ hqc (fun h9 => absurd (show 7 ∈ [10] from h9.2) (by decide))
  have hkc9 : g (kx p9) = some (((V.2.2 9), 1, 0), oo 9 [.int (nI (pk s p9)), .int (nI (qn s p9))]) := hfw9 _ _ _ hkc9 (fun h9 => absurd (show 1 ∈ [10] from h9.2) (by decide))
  have hL : lo_P V g S (ad 9) s := hL.kp hf9 (by decide)
  have hD : de_P V g S (ad 10) s := hD.kp hf9 (by decide)
  have hPc : pc_P V g S P kx pw s F := hPc.kp hf9 (by decide)
  have hG : go_P V g S (ad 12) s n1 := hG.kp hf9 (by decide)
  have hPl : pn_P V g S (ad 13) (I 3) s := hPl.kp hf9 (by decide)
  have hF : gh_fw S [0, 5, 10, 20, 21, 22, 23] g0 g := hF.tr hfw9 (fun _ u => u) (by decide)
  have hky : ky_P V g 9 (kx p9) (cd s p9) := hf9.ky (by decide) hky
  have hT : st_C V g S ad I A (va_up P p9 none) := hT.kp hf9 (by decide)
  refine lv_pop hx hb dX2_leave_27 (gh_cQ _) ?_
  refine lv_aload_n hx hb dX2_leave_28 rfl (lv_at hl 1 rfl) ?_
  refine gh_get (v := .ref (ad 12)) hC hg hT.1 fX2_38_2 rfl dX2_leave_29 ?_
  refine lv_iload_n hx hb dX2_leave_32 rfl (lv_at hl 3 rfl) ?_
  refine lv_iconst (v := 1) hx hb dX2_leave_33 (by decide) ?_
  refine lv_isub hx hb dX2_leave_34 ?_
  obtain ⟨gq, SS, hGl, hGs, hGn, hGa⟩ := hG
  obtain ⟨vs_hgc, hgc⟩ := hGl.c
  refine gh_callFq hg (gh_runF (x := ⟨"java/util/List", "get", "(I)Ljava/lang/Object;"⟩) (As := [.int ((nI f9) - 1)]) (rest := []) hC hg (j_J2_get l V _ (ad 12) S 14 4 gq hGl ((nI f9) - 1) (f9 - 1) (nx_sub rfl (show ((1 : Int32)) = nI 1 from rfl) (by omega)) (by omega)) 1 (lw_F q1361 q1338 q1336 q107 q1340) hgc rfl (by decide +kernel) q1339 q1337 q1148 hdF_List_get_1 ⟨Nat.le_of_ble_eq_true rfl, Nat.le_of_ble_eq_true rfl⟩ rfl hl.1 rfl (Nat.le_of_ble_eq_true rfl) dX2_leave_35 ⟨Nat.le_of_ble_eq_true rfl, Nat.le_of_ble_eq_true rfl⟩) (fun r_2 g H locs hg hp => ?_)
  obtain ⟨hp, hq⟩ := hp
  subst hp
  rw [← hq] at hT hL hD hPc hPl hF hky hO1 hGl hGs hqc hkc9 hgc
  try rw [← hq] at hgg
  refine W.eq (g2 := F0 mm 40 ls [.ref (gq (f9 - 1))]) rfl ?_
  obtain ⟨mg, Dg, hSg, hMg⟩ := hGs (f9 - 1) (by omega)
  have hsc := hSg.1
  refine gh_castY hC hg hsc rfl q2777 q2500 dX2_leave_40 ?_
  refine lv_aload_n hx hb dX2_leave_43 rfl (lv_at hl 0 rfl) ?_
  refine gh_getr (v := .ref (kx p9)) hC hg hqc rfX2_141_5 rfl dX2_leave_44 ?_
  refine gh_callFi hg (gh_runF (x := ⟨"java/util/Set", "add", "(Ljava/lang/Object;)Z"⟩) (As := [.ref (kx p9)]) (rest := []) hC hg (j_J7_add l V _ hTR S (20 + (f9 - 1)) (gq (f9 - 1)) mg Dg hSg (SS (f9 - 1)) hMg (kx p9) (cd s p9) hky (by rw [hMg, st_M_len]; have := go_len hGn (show f9 - 1 < 4 by omega); omega)) 1 (lw_F q2779 q2793 q2791 q112 q2795) hsc rfl (by decide +kernel) q2794 q2792 q2500 hdF_Set_add_1 ⟨Nat.le_of_ble_eq_true rfl, Nat.le_of_ble_eq_true rfl⟩ rfl hl.1 rfl (Nat.le_of_ble_eq_true rfl) dX2_leave_47 ⟨Nat.le_of_ble_eq_true rfl, Nat.le_of_ble_eq_true rfl⟩) (fun r_3 g H locs hg hp => ?_)
  obtain ⟨hGf, hF9⟩ := hp
  have hGx : ∀ i, i < 4 → i ≠ f9 - 1 → hs_P V S (20 + i) g (gq i) (SS i) := fun i hi hne => (gh_fw.fk hF9).v.hs (by simp; omega) (by simp; omega) (by simp; omega) (hGs i hi)
  have hfw9 : gh_fw S [20, 21, 22, 23] _ g := gh_fw.g4 hF9 (by omega)
  have hf9 := hfw9.v
  have hqc : g q = some ((S, 7, (cd s p9)), oo 5 [.ref (kx p9), .ref (pw p9), .int (nI p9), .int (pl s p9 3), .int (pl s p9 2), .float (F p9)]) := hfw9 _ _ _ hqc (fun h9 => absurd (show 7 ∈ [20, 21, 22, 23] from h9.2) (by decide))
  have hkc9 : g (kx p9) = some (((V.2.2 9), 1, 0), oo 9 [.int (nI (pk s p9)), .int (nI (qn s p9))]) := hfw9 _ _ _ hkc9 (fun h9 => absurd (show 1 ∈ [20, 21, 22, 23] from h9.2) (by decide))
  have hgc : g (ad 12) = some ((S, 14, 0), oo 12 vs_hgc) := hfw9 _ _ _ hgc (fun h9 => absurd (show 14 ∈ [20, 21, 22, 23] from h9.2) (by decide))
  have hL : lo_P V g S (ad 9) s := hL.kp hf9 (by decide)
  have hD : de_P V g S (ad 10) s := hD.kp hf9 (by decide)
  have hPc : pc_P V g S P kx pw s F := hPc.kp hf9 (by decide)
  have hPl : pn_P V g S (ad 13) (I 3) s := hPl.kp hf9 (by decide)
  have hF : gh_fw S [0, 5, 10, 20, 21, 22, 23] g0 g := hF.tr hfw9 (fun _ u => u) (by decide)
  have hky : ky_P V g 9 (kx p9) (cd s p9) := hf9.ky (by decide) hky
  have hO1 : lm_P V S 10 g (ad 11) 9 (lm_del M (cd s p9)) := hf9.lm (by decide) (by decide) hO1
  have hGl : al_P V S 14 g (ad 12) 4 gq := hf9.al (by decide) hGl
  have hT : st_C V g S ad I A (va_up P p9 none) := hT.kp hf9 (by decide)
  refine lv_pop hx hb dX2_leave_52 rfl ?_
  refine lv_aload_n hx hb dX2_leave_53 rfl (lv_at hl 1 rfl) ?_
  refine gh_get (v := .ref (ad 9)) hC hg hT.1 fX2_24_2 rfl dX2_leave_54 ?_
  refine lv_aload_n hx hb dX2_leave_57 rfl (lv_at hl 0 rfl) ?_
  refine gh_getr (v := .ref (kx p9)) hC hg hqc rfX2_141_5 rfl dX2_leave_58 ?_
  refine gh_getr (v := .int (nI (pk s p9))) hC hg hkc9 rfX2_332_9 rfl dX2_leave_61 ?_
  obtain ⟨es, la, lw, fa, hAL, hLo⟩ := hL
  obtain ⟨vs_hlc, hlc⟩ := hAL.c
  refine gh_callFq hg (gh_runF (x := ⟨"java/util/List", "get", "(I)Ljava/lang/Object;"⟩) (As := [.int (nI (pk s p9))]) (rest := []) hC hg (j_J2_get l V _ (ad 9) S 12 (nL s) es hAL (nI (pk s p9)) (pk s p9) rfl (by omega)) 1 (lw_F q1361 q1338 q1336 q107 q1340) hlc rfl (by decide +kernel) q1339 q1337 q1148 hdF_List_get_1 ⟨Nat.le_of_ble_eq_true rfl, Nat.le_of_ble_eq_true rfl⟩ rfl hl.1 rfl (Nat.le_of_ble_eq_true rfl) dX2_leave_64 ⟨Nat.le_of_ble_eq_true rfl, Nat.le_of_ble_eq_true rfl⟩) (fun r_4 g H locs hg hp => ?_)
  obtain ⟨hp, hq⟩ := hp
  subst hp
  rw [← hq] at hT hD hPc hPl hF hky hO1 hGl hGx hGf hAL hLo hqc hkc9 hgc hlc
  try rw [← hq] at hgg
  refine W.eq (g2 := F0 mm 69 ls [.ref (es (pk s p9))]) rfl ?_
  obtain ⟨hlq, hla, hlw, hlf⟩ := hLo (pk s p9) a1
  have hLx : ∀ j, j < nL s → j ≠ (pk s p9) → lo1 V g S s j (es j) (la j) (lw j) (fa j) := fun j h _ => hLo j h
  refine gh_castS hC hg hlq rfl q1362 dX2_leave_69 ?_
  refine gh_getr (v := .ref (la (pk s p9))) hC hg hlq rfX2_335_3 rfl dX2_leave_72 ?_
  refine lv_iload_n hx hb dX2_leave_75 rfl (lv_at hl 3 rfl) ?_
  refine lv_dup2_11 hx hb dX2_leave_76 rfl rfl ?_
  refine gh_iald (n := 5) (f := (fa (pk s p9))) hC hg hla rfl (by omega) (by omega) dX2_leave_77 ?_
  refine lv_iconst (v := 1) hx hb dX2_leave_78 (by decide) ?_
  refine lv_iadd hx hb dX2_leave_79 ?_
  refine gh_iast (n := 5) (f := (fa (pk s p9))) hC hg hla rfl (by omega) (by omega) dX2_leave_80 (fun g H locs hg hw hn => ?_)
  have hqc : g q = some ((S, 7, (cd s p9)), oo 5 [.ref (kx p9), .ref (pw p9), .int (nI p9), .int (pl s p9 3), .int (pl s p9 2), .float (F p9)]) := (hn _ (gh_neK hqc hla rfl)).trans hqc
  have hkc9 : g (kx p9) = some (((V.2.2 9), 1, 0), oo 9 [.int (nI (pk s p9)), .int (nI (qn s p9))]) := (hn _ (gh_neK hkc9 hla rfl)).trans hkc9
  have hgc : g (ad 12) = some ((S, 14, 0), oo 12 vs_hgc) := (hn _ (gh_neK hgc hla rfl)).trans hgc
  have hlc : g (ad 9) = some ((S, 12, 0), oo 12 vs_hlc) := (hn _ (gh_neK hlc hla rfl)).trans hlc
  have hlq : g (es (pk s p9)) = some ((S, 4, (pk s p9)), oo 3 [.ref (lw (pk s p9)), .ref (la (pk s p9)), .int (lt s (pk s p9) 2), .int (lt s (pk s p9) 3), .int (lt s (pk s p9) 4)]) := (hn _ (gh_neK hlq hla rfl)).trans hlq
  have hf9 : gh_fv S [5] _ g := (gh_fw.st hla hn).v
  have hD : de_P V g S (ad 10) s := hD.kp hf9 (by decide)
  have hPc : pc_P V g S P kx pw s F := hPc.kp hf9 (by decide)
  have hPl : pn_P V g S (ad 13) (I 3) s := hPl.kp hf9 (by decide)
  have hF : gh_fw S [0, 5, 10, 20, 21, 22, 23] g0 g := hF.set hla (by decide) hn
  have hky : ky_P V g 9 (kx p9) (cd s p9) := hf9.ky (by decide) hky
  have hO1 : lm_P V S 10 g (ad 11) 9 (lm_del M (cd s p9)) := hf9.lm (by decide) (by decide) hO1
  have hGl : al_P V S 14 g (ad 12) 4 gq := hf9.al (by decide) hGl
  have hGx : ∀ i, i < 4 → i ≠ f9 - 1 → hs_P V S (20 + i) g (gq i) (SS i) := hf9.g4x (by decide) hGx
  have hGf : hs_P V S (20 + (f9 - 1)) g (gq (f9 - 1)) (st_add (SS (f9 - 1)) (cd s p9) (kx p9)) := hf9.g41 (by decide) (by omega) hGf
  have hAL : al_P V S 12 g (ad 9) (nL s) es := hf9.al (by decide) hAL
  have hlw : wa_P V g (lw (pk s p9)) (kd s (pk s p9)) (lt s (pk s p9) 1) := hf9.wa (by decide) hlw
  have hLx : ∀ j, j < nL s → j ≠ (pk s p9) → lo1 V g S s j (es j) (la j) (lw j) (fa j) := fun j h1 h2 => (hLx j h1 h2).ow hla h2 (by decide) hn
  have hT : st_C V g S ad I A (va_up P p9 none) := hT.ne hla (fun h9 => absurd (show 5 = 0 from h9.2) (by decide)) hn
  have hla : g (la (pk s p9)) = some ((S, 5, (pk s p9)), ai V 0 5 (upd (fa (pk s p9)) f9 (((fa (pk s p9)) f9) + 1))) := hw
  have hD10 : nD s ≤ 10 := by rw [nD_of hE]; exact hE.2.1.2
  obtain ⟨n2, hG2, hn2⟩ := lv_go (f := f9) hJ hp24 ho9 hf1 hf4 hGl hGx hGf hGn hGa
  have hml : (lm_del M (cd s p9)).length + 1 ≤ M.length := lm_del_len (hM1 p9 hp24 ho9) rfl
  have hL2 := lv_lo hJ hp24 ho9 hf1 hf4 hAL hLx hlq hla hlw hlf
  have ho2 : ∀ j, (j < 43 ∨ j = 163 ∨ 464 ≤ j) → endS s p9 (nI f9) j = s j := fun j hj => endS_o (by omega) (by omega) hp24 hj
  exact gh_retv hC hg hr hlk (⟨⟨ad, I, A, _, kx, pw, _, n2, hT, hV.cg (fun j h => ho2 j (Or.inl h)) (fun p h => endS_4p hp24 h) (fun j h _ => ho2 j (by omega)), hL2, hD.cg hD10 (fun j h _ => ho2 j (by omega)), lv_pc (F1 := va_up F p9 st9) hJ hp24 ho9 hPc (fun q h => va_up_ne _ _ h), lv_ot hJ hp24 ho9 hO1 hM1 hM2, hG2, hPl.cg (fun j h => ho2 j (by omega)), by omega⟩, hF⟩) dX2_leave_81 (Nat.le_of_ble_eq_true rfl) (Nat.le_of_ble_eq_true rfl)
