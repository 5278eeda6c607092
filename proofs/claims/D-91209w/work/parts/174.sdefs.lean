set_option maxRecDepth 100000
theorem gT_back {N : Nat → Nat → Nat} {Z : Nat → Int} {n t i : Nat} {e3 e4 : Nat → Int} (h : N 8 t ≤ i ∨ N 13 t ≠ 0) (hc : N 13 t ≠ 0 → i = 0 ∧ e4 = e3) (hf : gIs N Z n t (N 8 t - i) i e4 = gIs N Z n t (N 8 t) 0 e3) : gT N Z n t e3 = e4 := by
  unfold gT
  by_cases q : N 13 t = 0
  · rw [if_pos q, ← hf, show N 8 t - i = 0 by omega]
    rfl
  · rw [if_neg q, (hc q).2]
theorem cT_back {N : Nat → Nat → Nat} {Z : Nat → Int} {n t i : Nat} {e3 e4 : Nat → Int} (h : N 8 t ≤ i ∨ N 13 t ≠ 0) (hc : N 13 t ≠ 0 → i = 0 ∧ e4 = e3) (hf : cIs N Z n t (N 8 t - i) i e4 = cIs N Z n t (N 8 t) 0 e3) : cT N Z n t e3 = e4 := by
  unfold cT
  by_cases q : N 13 t = 0
  · rw [if_pos q, ← hf, show N 8 t - i = 0 by omega]
    rfl
  · rw [if_neg q, (hc q).2]
theorem gJ_eb {N : Nat → Nat → Nat} (hN : NB N) {n t j : Nat} {e : Nat → Int} (h : eb e) : eb (gJ N n t e j) := by
  have h1 := behN_le hN (10 * t + j)
  have h2 := h (10 * n + N 9 (10 * t + j))
  exact h.up (by split <;> omega) (by split <;> omega)
theorem cI_eb {N : Nat → Nat → Nat} {Z : Nat → Int} (hN : NB N) {n t i : Nat} {e : Nat → Int} (h : eb e) : eb (cI N Z n t e i) := by
  have h1 : N 10 (10 * t + i) ≤ 1439 := hN 10 _
  have h2 := h (10 * n + N 9 (10 * t + i))
  unfold cI
  split
  · exact h.up (by split <;> omega) (by split <;> omega)
  · exact h
theorem ldF_rng (N : Nat → Nat → Nat) (Z : Nat → Int) (e : Nat → Int) (n t i : Nat) : -1 ≤ ldF N Z e n t i ∧ ldF N Z e n t i ≤ (N 8 t : Int) := by
  rcases ldF_cases (N := N) (Z := Z) (e := e) (n := n) (t := t) (i := i) with h | ⟨j, h1, h2, h3⟩
  · omega
  · omega
