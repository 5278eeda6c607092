set_option maxRecDepth 100000
/-! ways of just so many legs; the reference's best is the first of them by time, then by legs -/
abbrev q9 (N : Nat → Nat → Nat) (q : Nat × Nat × Nat) : Nat := N 9 (10 * q.1 + q.2.2)
abbrev qb (N : Nat → Nat → Nat) (q : Nat × Nat × Nat) : Nat := behN N (10 * q.1 + q.2.2)
def wy (T : Nat) (N : Nat → Nat → Nat) (Z : Nat → Int) : Nat → Nat → Nat → Nat → Nat → Prop
  | 0, s, m, s', m' => s' = s ∧ m' = m
  | n + 1, s, m, s', m' => ∃ q, q ∈ legsA N Z s m T 0 ∧ wy T N Z n (q9 N q) (qb N q) s' m'
theorem wy_snoc {T : Nat} {N : Nat → Nat → Nat} {Z : Nat → Int} : ∀ (n s m s' m' : Nat), wy T N Z (n + 1) s m s' m' ↔ ∃ s1 m1 q, wy T N Z n s m s1 m1 ∧ q ∈ legsA N Z s1 m1 T 0 ∧ s' = q9 N q ∧ m' = qb N q
  | 0, s, m, s', m' => by
    constructor
    · rintro ⟨q, hq, h1, h2⟩
      exact ⟨s, m, q, ⟨rfl, rfl⟩, hq, h1, h2⟩
    · rintro ⟨s1, m1, q, ⟨e1, e2⟩, hq, h1, h2⟩
      subst e1; subst e2
      exact ⟨q, hq, h1, h2⟩
  | n + 1, s, m, s', m' => by
    constructor
    · rintro ⟨q, hq, h⟩
      obtain ⟨s1, m1, q', h1, h2⟩ := (wy_snoc n _ _ s' m').mp h
      exact ⟨s1, m1, q', ⟨q, hq, h1⟩, h2⟩
    · rintro ⟨s1, m1, q', ⟨q, hq, h1⟩, h2⟩
      exact ⟨q, hq, (wy_snoc n _ _ s' m').mpr ⟨s1, m1, q', h1, h2⟩⟩
theorem wy_le {T : Nat} {N : Nat → Nat → Nat} {Z : Nat → Int} (hN : NB N) : ∀ (n s m s' m' : Nat), wy T N Z n s m s' m' → m ≤ 2000 → m' ≤ 2000
  | 0, s, m, s', m', h, hm => by rw [h.2]; exact hm
  | n + 1, s, m, s', m', ⟨q, hq, h⟩, hm => wy_le hN n _ _ s' m' h (by have := behN_le hN (10 * q.1 + q.2.2); show behN N (10 * q.1 + q.2.2) ≤ 2000; omega)
theorem find_congr {α : Type} {P P' : α → Bool} : ∀ (L : List α), (∀ q ∈ L, P q = P' q) → L.find? P = L.find? P'
  | [], _ => rfl
  | q :: L, h => by
    rw [List.find?_cons, List.find?_cons, h q List.mem_cons_self, find_congr L (fun x hx => h x (List.mem_cons_of_mem _ hx))]
/-- ahead of: earlier, or by fewer legs -/
def ahd (a b : Nat × Nat) : Prop := a.1 < b.1 ∨ (a.1 = b.1 ∧ a.2 < b.2)
def bp (b : Bst) : Nat × Nat := (b.1, b.2.1)
theorem vst_no {b v : Bst} {q : Nat × Nat × Nat} (h : ¬ (v.1 < 268435456 ∧ ahd (v.1, v.2.1 + 1) (bp b))) : vst b v q = b := by
  unfold vst
  rw [if_pos]
  simp only [ahd, bp] at h
  omega
theorem vst_yes {b v : Bst} {q : Nat × Nat × Nat} (h : v.1 < 268435456 ∧ ahd (v.1, v.2.1 + 1) (bp b)) : vst b v q = (v.1, v.2.1 + 1, q.1 + 1, q.2.1, q.2.2) := by
  unfold vst
  rw [if_neg]
  simp only [ahd, bp] at h
  omega
/-- what a fold over legs ends with -/
theorem vst_fold (V : Nat × Nat × Nat → Bst) : ∀ (L : List (Nat × Nat × Nat)) (b : Bst),
    (L.foldl (fun b q => vst b (V q) q) b = b ∧ ∀ q ∈ L, ¬ ((V q).1 < 268435456 ∧ ahd ((V q).1, (V q).2.1 + 1) (bp b))) ∨
    (∃ q, L.find? (fun x => decide ((V x).1 = (V q).1 ∧ (V x).2.1 = (V q).2.1)) = some q ∧ L.foldl (fun b q => vst b (V q) q) b = ((V q).1, (V q).2.1 + 1, q.1 + 1, q.2.1, q.2.2) ∧ (V q).1 < 268435456 ∧ ahd ((V q).1, (V q).2.1 + 1) (bp b) ∧ ∀ x ∈ L, ¬ ((V x).1 < 268435456 ∧ ahd ((V x).1, (V x).2.1 + 1) ((V q).1, (V q).2.1 + 1)))
  | [], b => Or.inl ⟨rfl, fun q h => by cases h⟩
  | q :: L, b => by
    rw [List.foldl_cons]
    by_cases h : (V q).1 < 268435456 ∧ ahd ((V q).1, (V q).2.1 + 1) (bp b)
    · rw [vst_yes h]
      rcases vst_fold V L ((V q).1, (V q).2.1 + 1, q.1 + 1, q.2.1, q.2.2) with ⟨h1, h2⟩ | ⟨x, h1, h2, h3, h4, h5⟩
      · refine Or.inr ⟨q, ?_, h1, h.1, h.2, fun x hx => ?_⟩
        · rw [List.find?_cons, decide_eq_true ⟨rfl, rfl⟩]
        · rcases List.mem_cons.mp hx with e | e
          · subst e
            rintro ⟨-, q1 | q1⟩
            · exact Nat.lt_irrefl _ q1
            · exact Nat.lt_irrefl _ q1.2
          · exact h2 x e
      · refine Or.inr ⟨x, ?_, h2, h3, ?_, fun y hy => ?_⟩
        · rw [List.find?_cons, decide_eq_false, h1]
          rintro ⟨e1, e2⟩
          simp only [ahd, bp] at h4
          omega
        · have h6 := h.2
          simp only [ahd, bp] at h4 h6 ⊢
          omega
        · rcases List.mem_cons.mp hy with e | e
          · subst e
            rintro ⟨-, h7⟩
            simp only [ahd, bp] at h4 h7
            omega
          · exact h5 y e
    · rw [vst_no h]
      rcases vst_fold V L b with ⟨h1, h2⟩ | ⟨x, h1, h2, h3, h4, h5⟩
      · refine Or.inl ⟨h1, fun x hx => ?_⟩
        rcases List.mem_cons.mp hx with e | e
        · subst e; exact h
        · exact h2 x e
      · refine Or.inr ⟨x, ?_, h2, h3, h4, fun y hy => ?_⟩
        · rw [List.find?_cons, decide_eq_false, h1]
          rintro ⟨e1, e2⟩
          rw [e1, e2] at h
          exact h ⟨h3, h4⟩
        · rcases List.mem_cons.mp hy with e | e
          · subst e
            rintro ⟨h6, h7⟩
            refine h ⟨h6, ?_⟩
            simp only [ahd, bp] at h4 h7 ⊢
            omega
          · exact h5 y e
/-- the reference's best: a way; none is ahead of it -/
theorem lkV_way {T : Nat} {N : Nat → Nat → Nat} {Z : Nat → Int} {to : Nat} : ∀ (l s m : Nat), (lkV T N Z to l s m).1 < 268435456 → wy T N Z (lkV T N Z to l s m).2.1 s m to (lkV T N Z to l s m).1
  | 0, s, m, h => by
    unfold lkV at h ⊢
    dsimp only at h ⊢
    by_cases e : s = to
    · rw [if_pos e]; exact ⟨e.symm, rfl⟩
    · rw [if_neg e] at h; exact absurd h (Nat.lt_irrefl _)
  | l + 1, s, m, h => by
    unfold lkV at h ⊢
    rcases vst_fold (fun q => lkV T N Z to l (q9 N q) (qb N q)) (legsA N Z s m T 0) (if s = to then m else 268435456, 0, 0, 0, 0) with ⟨h1, h2⟩ | ⟨x, h1, h2, h3, h4, h5⟩
    · rw [h1] at h ⊢
      dsimp only at h ⊢
      by_cases e : s = to
      · rw [if_pos e]; exact ⟨e.symm, rfl⟩
      · rw [if_neg e] at h; exact absurd h (Nat.lt_irrefl _)
    · rw [h2]
      exact ⟨x, List.mem_of_find?_eq_some h1, lkV_way l _ _ h3⟩
theorem lkV_legs {T : Nat} {N : Nat → Nat → Nat} {Z : Nat → Int} {to : Nat} : ∀ (l s m : Nat), (lkV T N Z to l s m).2.1 ≤ l
  | 0, s, m => Nat.le_refl _
  | l + 1, s, m => by
    unfold lkV
    rcases vst_fold (fun q => lkV T N Z to l (q9 N q) (qb N q)) (legsA N Z s m T 0) (if s = to then m else 268435456, 0, 0, 0, 0) with ⟨h1, h2⟩ | ⟨x, h1, h2, h3, h4, h5⟩
    · rw [h1]; exact Nat.zero_le _
    · rw [h2]
      have := lkV_legs (T := T) (N := N) (Z := Z) (to := to) l (q9 N x) (qb N x)
      show _ + 1 ≤ _
      omega
theorem lkV_min {T : Nat} {N : Nat → Nat → Nat} {Z : Nat → Int} {to : Nat} : ∀ (l s m n m' : Nat), n ≤ l → wy T N Z n s m to m' → m' < 268435456 → ¬ ahd (m', n) (bp (lkV T N Z to l s m))
  | 0, s, m, n, m', hn, h, hm => by
    have e : n = 0 := by omega
    subst e
    obtain ⟨h1, h2⟩ := h
    unfold lkV
    simp only [ahd, bp]
    rw [if_pos h1.symm]
    omega
  | l + 1, s, m, n, m', hn, h, hm => by
    unfold lkV
    have h0 : n = 0 → ¬ ahd (m', n) (bp (if s = to then m else 268435456, 0, 0, 0, 0)) := fun e => by
      subst e
      obtain ⟨h1, h2⟩ := h
      simp only [ahd, bp]
      rw [if_pos h1.symm]
      omega
    rcases vst_fold (fun q => lkV T N Z to l (q9 N q) (qb N q)) (legsA N Z s m T 0) (if s = to then m else 268435456, 0, 0, 0, 0) with ⟨h1, h2⟩ | ⟨x, h1, h2, h3, h4, h5⟩
    · rw [h1]
      cases n with
      | zero => exact h0 rfl
      | succ n =>
        obtain ⟨q, hq, hw⟩ := h
        have h6 := lkV_min l _ _ n m' (by omega) hw hm
        have h7 := h2 q hq
        intro h8
        apply h7
        simp only [ahd, bp] at h6 h8 ⊢
        omega
    · rw [h2]
      cases n with
      | zero =>
        have := h0 rfl
        intro h8
        simp only [ahd, bp] at h4 h8 this
        omega
      | succ n =>
        obtain ⟨q, hq, hw⟩ := h
        have h6 := lkV_min l _ _ n m' (by omega) hw hm
        have h7 := h5 q hq
        intro h8
        apply h7
        simp only [ahd, bp] at h6 h8 ⊢
        omega
theorem lkV_0 {T : Nat} {N : Nat → Nat → Nat} {Z : Nat → Int} {to l s m : Nat} (h : (lkV T N Z to l s m).2.1 = 0) : (lkV T N Z to l s m).2.2.1 = 0 := by
  cases l with
  | zero => rfl
  | succ l =>
    unfold lkV at h ⊢
    rcases vst_fold (fun q => lkV T N Z to l (q9 N q) (qb N q)) (legsA N Z s m T 0) (if s = to then m else 268435456, 0, 0, 0, 0) with ⟨h1, h2⟩ | ⟨x, h1, h2, h3, h4, h5⟩
    · rw [h1]
    · rw [h2] at h
      exact absurd h (Nat.succ_ne_zero _)
/-- the first leg: the first from which, with just one leg less, it is come to in time -/
theorem lkV_first {T : Nat} {N : Nat → Nat → Nat} {Z : Nat → Int} {to l s m n : Nat} (ht : (lkV T N Z to l s m).1 < 268435456) (hn : (lkV T N Z to l s m).2.1 = n + 1) (P : Nat × Nat × Nat → Bool)
    (hP : ∀ q, P q = true ↔ ∃ m', m' ≤ (lkV T N Z to l s m).1 ∧ wy T N Z n (q9 N q) (qb N q) to m') :
    ∃ q, (legsA N Z s m T 0).find? P = some q ∧ (lkV T N Z to l s m).2.2.1 = q.1 + 1 ∧ (lkV T N Z to l s m).2.2.2.1 = q.2.1 ∧ (lkV T N Z to l s m).2.2.2.2 = q.2.2 ∧ 1 ≤ l ∧
      (lkV T N Z to (l - 1) (q9 N q) (qb N q)).1 = (lkV T N Z to l s m).1 ∧ (lkV T N Z to (l - 1) (q9 N q) (qb N q)).2.1 = n := by
  cases l with
  | zero => exact absurd hn.symm (Nat.succ_ne_zero _)
  | succ l =>
    have hle := lkV_legs (T := T) (N := N) (Z := Z) (to := to) (l + 1) s m
    rw [hn] at hle
    have hmin := lkV_min (T := T) (N := N) (Z := Z) (to := to) (l + 1) s m
    rw [show l + 1 - 1 = l by omega]
    rcases vst_fold (fun q => lkV T N Z to l (q9 N q) (qb N q)) (legsA N Z s m T 0) (if s = to then m else 268435456, 0, 0, 0, 0) with ⟨h1, h2⟩ | ⟨x, h1, h2, h3, h4, h5⟩
    · exfalso
      unfold lkV at hn
      rw [h1] at hn
      exact absurd hn.symm (Nat.succ_ne_zero _)
    · have e : lkV T N Z to (l + 1) s m = ((lkV T N Z to l (q9 N x) (qb N x)).1, (lkV T N Z to l (q9 N x) (qb N x)).2.1 + 1, x.1 + 1, x.2.1, x.2.2) := by
        conv => lhs; unfold lkV
        exact h2
      rw [e] at hn hP hmin ⊢
      dsimp only at hn hP hmin ⊢
      have hn : (lkV T N Z to l (q9 N x) (qb N x)).2.1 = n := by omega
      refine ⟨x, ?_, rfl, rfl, rfl, by omega, rfl, hn⟩
      have hpe : ∀ q ∈ legsA N Z s m T 0, P q = decide ((lkV T N Z to l (q9 N q) (qb N q)).1 = (lkV T N Z to l (q9 N x) (qb N x)).1 ∧ (lkV T N Z to l (q9 N q) (qb N q)).2.1 = (lkV T N Z to l (q9 N x) (qb N x)).2.1) := by
        intro q hq
        rw [Bool.eq_iff_iff, hP q, decide_eq_true_iff]
        constructor
        · rintro ⟨m', h6, h7⟩
          have h8 := lkV_min l _ _ n m' (by omega) h7 (by omega)
          have h9 := h5 q hq
          simp only [ahd, bp] at h8 h9
          omega
        · rintro ⟨h6, h7⟩
          have h8 := lkV_way (T := T) (N := N) (Z := Z) (to := to) l (q9 N q) (qb N q) (by omega)
          rw [h6, h7, hn] at h8
          exact ⟨_, Nat.le_refl _, h8⟩
      rw [← h1]
      exact find_congr _ hpe
