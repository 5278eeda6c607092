set_option maxRecDepth 100000
/-! what the numbers say of each other stays so -/
theorem WF.st {F : Nat → Nat} {N : Nat → Nat → Nat} {w v : Nat} (h : WF F N) (hv : v ≤ 2) : WF F (up2 N 25 w v) := by
  refine ⟨h.1, h.2.1, h.2.2.1, fun x => ?_⟩
  unfold up2
  split
  · exact hv
  · exact h.2.2.2 x
theorem WF.pop {F : Nat → Nat} {N : Nat → Nat → Nat} {w n : Nat} (h : WF F N) (hn : n ≤ N 24 w) : WF F (up2 N 24 w n) := by
  refine ⟨h.1, h.2.1, fun x i hx hi => h.2.2.1 x i hx ?_, h.2.2.2⟩
  by_cases e : x = w
  · subst e
    rw [up2_eq] at hi
    omega
  · rw [up2_ne (Or.inr e)] at hi
    exact hi
theorem addL_27 {N : Nat → Nat → Nat} {w x : Nat} {q : Nat × Nat × Nat} (k v : Nat) (hk : k = 27 ∧ v = q.1 ∨ k = 28 ∧ v = q.2.1 ∨ k = 29 ∧ v = q.2.2) : addL w N q k x = if x = 3 * w + N 24 w then v else N k x := by
  unfold addL
  by_cases e : x = 3 * w + N 24 w
  · rw [if_pos e, e]
    rcases hk with ⟨rfl, rfl⟩ | ⟨rfl, rfl⟩ | ⟨rfl, rfl⟩
    · rw [up2_ne (Or.inl (by decide)), up2_ne (Or.inl (by decide)), up2_ne (Or.inl (by decide)), up2_eq]
    · rw [up2_ne (Or.inl (by decide)), up2_ne (Or.inl (by decide)), up2_eq]
    · rw [up2_ne (Or.inl (by decide)), up2_eq]
  · rw [if_neg e]
    rcases hk with ⟨rfl, rfl⟩ | ⟨rfl, rfl⟩ | ⟨rfl, rfl⟩
    · rw [up2_ne (Or.inl (by decide)), up2_ne (Or.inl (by decide)), up2_ne (Or.inl (by decide)), up2_ne (Or.inr e)]
    · rw [up2_ne (Or.inl (by decide)), up2_ne (Or.inl (by decide)), up2_ne (Or.inr e), up2_ne (Or.inl (by decide))]
    · rw [up2_ne (Or.inl (by decide)), up2_ne (Or.inr e), up2_ne (Or.inl (by decide)), up2_ne (Or.inl (by decide))]
theorem addL_row {N : Nat → Nat → Nat} {w : Nat} {q : Nat × Nat × Nat} {k : Nat} (h1 : k ≠ 24) (h2 : k < 27) : addL w N q k = N k := by
  unfold addL
  rw [up2_row h1, up2_row (by omega), up2_row (by omega), up2_row (by omega)]
theorem addL_24x {N : Nat → Nat → Nat} {w x : Nat} {q : Nat × Nat × Nat} : addL w N q 24 x = if x = w then N 24 w + 1 else N 24 x := by
  unfold addL
  by_cases e : x = w
  · rw [if_pos e, e, up2_eq]
  · rw [if_neg e, up2_ne (Or.inr e), up2_ne (Or.inl (by decide)), up2_ne (Or.inl (by decide)), up2_ne (Or.inl (by decide))]
theorem WF.addL {F : Nat → Nat} {N : Nat → Nat → Nat} {w : Nat} {q : Nat × Nat × Nat} (h : WF F N) (hN : NB N) (h3 : N 24 w < 3) (h1 : q.1 < F 3) (h2 : q.2.1 < q.2.2) (h4 : q.2.2 < N 8 q.1) : WF F (addL w N q) := by
  refine ⟨h.1, h.2.1, fun x i hx hi => ?_, h.2.2.2⟩
  rw [addL_27 27 q.1 (Or.inl ⟨rfl, rfl⟩), addL_27 28 q.2.1 (Or.inr (Or.inl ⟨rfl, rfl⟩)), addL_27 29 q.2.2 (Or.inr (Or.inr ⟨rfl, rfl⟩)), addL_row (by decide) (by decide)]
  rw [addL_24x] at hi
  have hx3 : N 24 x ≤ 3 := hN 24 x
  by_cases e : 3 * x + i = 3 * w + N 24 w
  · rw [if_pos e, if_pos e, if_pos e]
    exact ⟨h1, h2, h4⟩
  · rw [if_neg e, if_neg e, if_neg e]
    refine h.2.2.1 x i hx ?_
    by_cases e2 : x = w
    · subst e2
      rw [if_pos rfl] at hi
      omega
    · rw [if_neg e2] at hi
      exact hi
theorem NB.addL {N : Nat → Nat → Nat} {w : Nat} {q : Nat × Nat × Nat} (hN : NB N) (h3 : N 24 w < 3) (h1 : q.1 ≤ 15) (h2 : q.2.1 ≤ 9) (h4 : q.2.2 ≤ 9) : NB (addL w N q) := (((hN.up h1).up h2).up h4).up (by show _ ≤ 3; omega)
/-- rows that legs added to a way leave -/
def eqR (N N' : Nat → Nat → Nat) : Prop := ∀ k, k ≠ 24 → k < 27 → N' k = N k
theorem eqR.rf (N : Nat → Nat → Nat) : eqR N N := fun _ _ _ => rfl
theorem eqR.T {N N' : Nat → Nat → Nat} (h : eqR N N') : eqT N N' := ⟨h 6 (by decide) (by decide), h 7 (by decide) (by decide), h 8 (by decide) (by decide), h 9 (by decide) (by decide), h 10 (by decide) (by decide), h 13 (by decide) (by decide)⟩
theorem eqR.addL {N N' : Nat → Nat → Nat} (h : eqR N N') (w : Nat) (q : Nat × Nat × Nat) : eqR N (addL w N' q) := fun k h1 h2 => (addL_row h1 h2).trans (h k h1 h2)
theorem eqR.TL {F : Nat → Nat} {N N' : Nat → Nat → Nat} (h : eqR N N') {w : Nat} (hw : TL F N w) : TL F N' w := ⟨hw.1, by rw [h 21 (by decide) (by decide)]; exact hw.2⟩
theorem eqR.to {N N' : Nat → Nat → Nat} (h : eqR N N') (w : Nat) : toW N' w = toW N w := by
  unfold toW
  rw [h 14 (by decide) (by decide), h 17 (by decide) (by decide)]
/-- trains whose legs are taken are used -/
def usN (N : Nat → Nat → Nat) (w a : Nat) : Nat → Nat → Nat → Nat
  | 0 => N
  | n + 1 => up2 (usN N w a n) 23 (N 27 (3 * w + (a + n))) 1
theorem usN_row {N : Nat → Nat → Nat} {w a : Nat} {k : Nat} (hk : k ≠ 23) : ∀ n, usN N w a n k = N k
  | 0 => rfl
  | n + 1 => (up2_row hk).trans (usN_row hk n)
theorem usN_NB {N : Nat → Nat → Nat} {w a : Nat} (h : NB N) : ∀ n, NB (usN N w a n)
  | 0 => h
  | n + 1 => (usN_NB h n).up (Nat.le_refl _)
theorem usN_WF {F : Nat → Nat} {N : Nat → Nat → Nat} {w a : Nat} (h : WF F N) (n : Nat) : WF F (usN N w a n) := by
  unfold WF TL
  rw [usN_row (by decide), usN_row (by decide), usN_row (by decide), usN_row (by decide), usN_row (by decide), usN_row (by decide), usN_row (by decide), usN_row (by decide), usN_row (by decide), usN_row (by decide)]
  exact h
theorem usN_TL {F : Nat → Nat} {N : Nat → Nat → Nat} {w a x : Nat} (h : TL F N x) (n : Nat) : TL F (usN N w a n) x := ⟨h.1, by rw [usN_row (by decide)]; exact h.2⟩
theorem usN_le {N : Nat → Nat → Nat} {w a t : Nat} (hN : NB N) : ∀ n, N 23 t ≤ usN N w a n 23 t
  | 0 => Nat.le_refl _
  | n + 1 => by
    have ih := usN_le (w := w) (a := a) (t := t) hN n
    have h1 : N 23 t ≤ 1 := hN 23 t
    unfold usN up2
    split
    · exact h1
    · exact ih
theorem usN_1 {N : Nat → Nat → Nat} {w a : Nat} : ∀ (n i : Nat), i < n → usN N w a n 23 (N 27 (3 * w + (a + i))) = 1
  | 0, i, h => absurd h (Nat.not_lt_zero _)
  | n + 1, i, h => by
    unfold usN up2
    split
    · rfl
    · rename_i q
      refine usN_1 n i ?_
      by_cases e : i = n
      · subst e; exact absurd ⟨rfl, rfl⟩ q
      · omega
theorem adZ_comm (Z : Nat → Int) (v v' : Int) (a b c d : Nat) : adZ (adZ Z v a b) v' c d = adZ (adZ Z v' c d) v a b := by
  funext x
  unfold adZ
  omega
theorem ldZ_last {N : Nat → Nat → Nat} {w : Nat} {v : Int} {a : Nat} (lo hi : Nat) : ∀ (n : Nat) (Z : Nat → Int), ldZ N w v a n (adZ Z v lo hi) = adZ (ldZ N w v a n Z) v lo hi
  | 0, Z => rfl
  | n + 1, Z => by
    unfold ldZ
    rw [ldZ_last lo hi n Z, adZ_comm]
/-- the loads of a way depend on its legs alone -/
theorem ldZ_to {N N' : Nat → Nat → Nat} {w : Nat} {v : Int} {a : Nat} (h27 : N' 27 = N 27) (h28 : N' 28 = N 28) (h29 : N' 29 = N 29) : ∀ (n : Nat) (Z : Nat → Int), ldZ N' w v a n Z = ldZ N w v a n Z
  | 0, Z => rfl
  | n + 1, Z => by
    unfold ldZ
    rw [ldZ_to h27 h28 h29 n Z, h27, h28, h29]
