set_option maxRecDepth 100000
/-! cancel, second pass -/
theorem canc2_step {P : Nat → Prop} {F : Nat → Nat} {M C : Nat → Nat → Nat} {Z : Nat → Int} {b : Nat} (h : RelP P F M C Z) (hF : FB F) (hb : b < F 4) (hp : P (wayN C b)) :
    (c2Step F (M, Z) b).2 = (x2Step F (C, Z) (wayN C b)).2 ∧ (x2Step F (C, Z) (wayN C b)).1 21 = C 21 ∧ RelP (fun x => P x ∧ x ≠ wayN C b) F (c2Step F (M, Z) b).1 (x2Step F (C, Z) (wayN C b)).1 (x2Step F (C, Z) (wayN C b)).2 := by
  have hN := h.1.1.2.1
  have hL := h.2.2.1
  have hF1 : F 1 ≤ 1439 := hF 1
  have hth := thW_le hN (wayN C b)
  have hmx : max (F 1) (thW C (wayN C b)) = max (thW C (wayN C b)) (F 1) := Nat.max_comm _ _
  have h21 : (ldC (F 3) C Z (wayN C b) (F 1)).1 21 = C 21 := ldC_eqC 21 (by decide)
  unfold c2Step x2Step
  dsimp only
  rw [br_en hL hN, br_way hL, br_th hL hN, hmx]
  by_cases hh : (lkV (F 3) C Z (toW C (wayN C b)) (3 - C 24 (wayN C b)) (enW C (wayN C b)) (max (thW C (wayN C b)) (F 1))).1 < 268435456
  · obtain ⟨a, b1, c, d⟩ := lead_yes h hF hb hh
    rw [if_neg (by rw [b1]; decide), if_neg (by rw [c]; decide)]
    exact ⟨a, h21, d⟩
  · obtain ⟨a, b1⟩ := lead_no h hh
    rw [a, b1, if_pos rfl, if_pos rfl]
    refine ⟨rfl, ?_, stand_rel h hp (Nat.le_max_left _ _) (by omega)⟩
    dsimp only
    rw [up2_row (by decide), up2_row (by decide)]
theorem canc2 {F : Nat → Nat} {g : Nat → Nat} {L : List Nat} {M C : Nat → Nat → Nat} {Z : Nat → Int} (hF : FB F) (hL : ∀ b, b < F 4 → g b ≠ 0 → L.getD (gvN g b) 0 = wayN C b) (h : RelP (Pg g C 0 (F 4)) F M C Z) : ∀ n, n ≤ F 4 →
    (c2It F g M Z n).2 = (x2It F L C Z (gvN g n)).2 ∧ (x2It F L C Z (gvN g n)).1 21 = C 21 ∧ RelP (Pg g C n (F 4)) F (c2It F g M Z n).1 (x2It F L C Z (gvN g n)).1 (x2It F L C Z (gvN g n)).2
  | 0, _ => ⟨rfl, rfl, h⟩
  | n + 1, hn => by
    obtain ⟨a1, a2, a3⟩ := canc2 hF hL h n (by omega)
    have hNC := h.1.1.2.1
    by_cases hg : g n = 0
    · have e1 : c2It F g M Z (n + 1) = c2It F g M Z n := if_pos hg
      have e2 : gvN g (n + 1) = gvN g n := by
        show cntB _ n + (if decide (g n ≠ 0) = true then 1 else 0) = _
        rw [if_neg (by simp [hg])]
        rfl
      rw [e1, e2]
      refine ⟨a1, a2, a3.cg (fun w => ⟨fun ⟨b, b1, b2⟩ => ⟨b, by omega, b2⟩, fun ⟨b, b1, b2, b3, b4⟩ => ⟨b, ?_, b2, b3, b4⟩⟩)⟩
      by_cases e : b = n
      · subst e; exact absurd hg b3
      · omega
    · have e1 : c2It F g M Z (n + 1) = c2Step F (c2It F g M Z n) n := if_neg hg
      have e2 : gvN g (n + 1) = gvN g n + 1 := by
        show cntB _ n + (if decide (g n ≠ 0) = true then 1 else 0) = _
        rw [if_pos (decide_eq_true hg)]
        rfl
      have e3 : x2It F L C Z (gvN g n + 1) = x2Step F (x2It F L C Z (gvN g n)) (L.getD (gvN g n) 0) := rfl
      rw [e1, e2, e3, hL n (by omega) hg]
      generalize c2It F g M Z n = p at *
      generalize x2It F L C Z (gvN g n) = q at *
      obtain ⟨pM, pZ⟩ := p
      obtain ⟨qC, qZ⟩ := q
      dsimp only at a1 a2 a3
      subst a1
      have hw : ∀ b, wayN qC b = wayN C b := fun b => by unfold wayN; rw [a2]
      obtain ⟨c1, c2, c3⟩ := canc2_step a3 hF (show n < F 4 by omega) (by rw [hw]; exact ⟨n, Nat.le_refl _, by omega, hg, rfl⟩)
      rw [hw] at c1 c2 c3
      refine ⟨c1, c2.trans a2, c3.cg (fun w => ⟨fun ⟨b, b1, b2, b3, b4⟩ => ⟨⟨b, by omega, b2, b3, b4⟩, fun e => ?_⟩, fun ⟨⟨b, b1, b2, b3, b4⟩, e⟩ => ⟨b, ?_, b2, b3, b4⟩⟩)⟩
      · rw [b4] at e
        have := way_inj hNC e
        omega
      · by_cases e5 : b = n
        · subst e5; exact absurd b4 e
        · omega
theorem Rel.up13 {F : Nat → Nat} {M C : Nat → Nat → Nat} {Z : Nat → Int} {t : Nat} (h : Rel F M C Z) (ht : t < F 3) : Rel F (up2 M 13 t 1) (up2 C 13 t 1) Z := by
  obtain ⟨⟨⟨i1, i2, i3, i4, i5, i6, i7⟩, i8⟩, hU, hL, hS, hP, hZ⟩ := h
  refine ⟨⟨⟨i1, i2.up (by show 1 ≤ 1; omega), i3, i4, fun x hx => ⟨(i5 x hx).1, ?_⟩, i6, i7⟩, i8⟩, hU, hL.up _ _ _, fun x hx q => ?_, hP, hZ⟩
  · rw [up2_ne (Or.inr (by omega))]; exact (i5 x hx).2
  · have e1 : enW (up2 C 13 t 1) x = enW C x := rfl
    have e2 : thW (up2 C 13 t 1) x = thW C x := rfl
    exact hS x hx q
theorem canc_eq {F : Nat → Nat} {M C : Nat → Nat → Nat} {Z : Nat → Int} {t : Nat} (g : Nat → Nat) (h : Rel F M C Z) (hF : FB F) (ht : t < F 3) :
    (c1It t (up2 M 13 t 1) Z g (F 4)).2.2.2 = (x1It t (up2 C 13 t 1) Z (F 4)).2.2.length ∧
    (c2It F (c1It t (up2 M 13 t 1) Z g (F 4)).2.2.1 (c1It t (up2 M 13 t 1) Z g (F 4)).1 (c1It t (up2 M 13 t 1) Z g (F 4)).2.1 (F 4)).2 = (x2It F (x1It t (up2 C 13 t 1) Z (F 4)).2.2 (x1It t (up2 C 13 t 1) Z (F 4)).1 (x1It t (up2 C 13 t 1) Z (F 4)).2.1 (x1It t (up2 C 13 t 1) Z (F 4)).2.2.length).2 ∧
    Rel F (c2It F (c1It t (up2 M 13 t 1) Z g (F 4)).2.2.1 (c1It t (up2 M 13 t 1) Z g (F 4)).1 (c1It t (up2 M 13 t 1) Z g (F 4)).2.1 (F 4)).1 (x2It F (x1It t (up2 C 13 t 1) Z (F 4)).2.2 (x1It t (up2 C 13 t 1) Z (F 4)).1 (x1It t (up2 C 13 t 1) Z (F 4)).2.1 (x1It t (up2 C 13 t 1) Z (F 4)).2.2.length).1 (x2It F (x1It t (up2 C 13 t 1) Z (F 4)).2.2 (x1It t (up2 C 13 t 1) Z (F 4)).1 (x1It t (up2 C 13 t 1) Z (F 4)).2.1 (x1It t (up2 C 13 t 1) Z (F 4)).2.2.length).2 := by
  obtain ⟨a1, a2, a3, a4, a5, a6⟩ := canc1 (t := t) g (h.up13 ht) hF (F 4) (Nat.le_refl _)
  generalize c1It t (up2 M 13 t 1) Z g (F 4) = p at *
  generalize x1It t (up2 C 13 t 1) Z (F 4) = q at *
  obtain ⟨pM, pZ, pg, pk⟩ := p
  obtain ⟨qC, qZ, qL⟩ := q
  dsimp only at a1 a2 a3 a4 a5 a6 ⊢
  subst a1; subst a2
  have hw : ∀ b, wayN (up2 C 13 t 1) b = wayN qC b := fun b => by unfold wayN; rw [a4]
  obtain ⟨b1, b2, b3⟩ := canc2 (L := qL) hF (fun b hb hg => (a5 b hb hg).trans (hw b)) (a6.cg (fun w => by unfold Pg; simp only [hw])) (F 4) (Nat.le_refl _)
  rw [← a3] at b1 b3
  exact ⟨rfl, b1, b3.cg (fun w => ⟨fun q => q.elim, fun ⟨b, q1, q2, _⟩ => absurd q1 (by omega)⟩)⟩
