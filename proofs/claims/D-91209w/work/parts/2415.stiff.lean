set_option maxRecDepth 100000
theorem st_iff {F : Nat → Nat} {M C : Nat → Nat → Nat} {Z : Nat → Int} (h : Rel F M C Z) (hF : FB F) (t : Nat) (s m : Int) : (okStop F M t s m ∧ anyB (fun k => decide (0 < Z (10 * t + k))) (M 8 t) = false) ↔ (C 8 t ≠ 10 ∧ 0 ≤ s ∧ s < F 2 ∧ 0 ≤ m ∧ m ≤ 1439 ∧ ¬ (C 23 t ≠ 0 ∧ plB F C t = true) ∧ ¬ (0 < C 8 t ∧ (m ≤ C 10 (10 * t + (C 8 t - 1)) ∨ (C 9 (10 * t + (C 8 t - 1)) : Int) = s))) := by
  have r8 : M 8 = C 8 := h.2.2.1 8 (by decide) (by decide) (by decide)
  have r9 : M 9 = C 9 := h.2.2.1 9 (by decide) (by decide) (by decide)
  have r10 : M 10 = C 10 := h.2.2.1 10 (by decide) (by decide) (by decide)
  have e := rd_plan h hF (t := t)
  unfold okStop
  rw [r8, r9, r10]
  constructor
  · rintro ⟨⟨a1, a2, a3, a4, a5, a6⟩, a7⟩
    exact ⟨a1, a2, a3, a4, a5, fun q => by rw [e.mpr q] at a7; exact Bool.noConfusion a7, a6⟩
  · rintro ⟨a1, a2, a3, a4, a5, a7, a6⟩
    refine ⟨⟨a1, a2, a3, a4, a5, a6⟩, ?_⟩
    cases q : anyB (fun k => decide (0 < Z (10 * t + k))) (C 8 t)
    · rfl
    · exact absurd (e.mp q) a7
