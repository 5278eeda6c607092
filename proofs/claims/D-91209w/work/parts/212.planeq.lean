set_option maxRecDepth 100000
/-! plan: both sides go the same way -/
theorem RelP.out {F : Nat → Nat} {M C : Nat → Nat → Nat} {Z : Nat → Int} {w : Nat} (h : RelP (fun x => (fun _ => False) x ∧ x ≠ w) F M C Z) : Rel F M C Z :=
  ⟨h.1, h.2.1, h.2.2.1, fun x hx _ => h.2.2.2.1 x hx (fun q => q.1), fun x hx => hx.elim, h.2.2.2.2.2⟩
theorem plan_lead {F : Nat → Nat} {M C : Nat → Nat → Nat} {Z : Nat → Int} {b na s m : Nat} (h : Rel F M C Z) (hF : FB F) (hb : b < F 4) (hs : s = enW C (wayN C b)) (hm : m = max (thW C (wayN C b)) na) :
    (ldOn (F 3) M Z b s m).2.1 = (ldC (F 3) C Z (wayN C b) na).2.1 ∧ (ldOn (F 3) M Z b s m).2.2 = (ldC (F 3) C Z (wayN C b) na).2.2 ∧ Rel F (ldOn (F 3) M Z b s m).1 (ldC (F 3) C Z (wayN C b) na).1 (ldC (F 3) C Z (wayN C b) na).2.1 := by
  subst hs; subst hm
  by_cases hh : (lkV (F 3) C Z (toW C (wayN C b)) (3 - C 24 (wayN C b)) (enW C (wayN C b)) (max (thW C (wayN C b)) na)).1 < 268435456
  · obtain ⟨a, b1, c, d⟩ := lead_yes h hF hb hh
    exact ⟨a, b1.trans c.symm, d.out⟩
  · obtain ⟨a, b1⟩ := lead_no h hh
    rw [a, b1]
    exact ⟨rfl, rfl, h⟩
theorem plan_step {F : Nat → Nat} {M C : Nat → Nat → Nat} {Z : Nat → Int} {b k : Nat} (h : Rel F M C Z) (hF : FB F) (hb : b < F 4) :
    (pStep F (M, Z, k) b).2.1 = (pcStep F (C, Z, k) b).2.1 ∧ (pStep F (M, Z, k) b).2.2 = (pcStep F (C, Z, k) b).2.2 ∧ Rel F (pStep F (M, Z, k) b).1 (pcStep F (C, Z, k) b).1 (pcStep F (C, Z, k) b).2.1 := by
  have hL := h.2.2.1
  have hN := h.1.1.2.1
  have hw := br_way hL b
  have hst := h.2.2.2.1 (wayN C b) (tl_lt (tl_way hN hb)) (fun q => q)
  have h26 : M 26 = C 26 := hL 26 (by decide) (by decide) (by decide)
  unfold pStep pcStep
  dsimp only
  rw [hw, br_rd hL hN, br_fr hL hN, br_srt hL hN, h26]
  rcases hst with ⟨s1, s2, s3, s4, s5⟩ | ⟨s1, s2, s3, s4⟩ | ⟨s1, s2, s3, s4, s5⟩
  · rw [if_neg (show ¬ (M 25 (wayN C b) ≠ 0) from fun q => q s4)]
    by_cases hr : F 1 ≤ rdW C (wayN C b)
    · rw [if_pos ⟨s2, hr⟩, if_neg (show ¬ (C 25 (wayN C b) = 1 ∨ C 25 (wayN C b) = 0 ∧ rdW C (wayN C b) < F 1) by omega)]
      have he : frW C (wayN C b) = enW C (wayN C b) := by unfold enW; rw [if_pos s5]
      have hm : bgW C (wayN C b) = max (thW C (wayN C b)) (naC F C (wayN C b)) := by unfold thW naC; rw [if_pos s5, if_pos s1]; omega
      obtain ⟨a, b1, c⟩ := plan_lead h hF hb he hm
      exact ⟨a, by rw [b1], c⟩
    · rw [if_neg (fun q => hr q.2), if_pos (show (C 25 (wayN C b) = 1 ∨ C 25 (wayN C b) = 0 ∧ rdW C (wayN C b) < F 1) by omega)]
      exact ⟨rfl, rfl, h⟩
  · rw [if_neg (show ¬ (M 25 (wayN C b) ≠ 0) from fun q => q s4), if_neg (fun q => absurd (s2.symm.trans q.1) (by decide)), if_pos (Or.inl s1)]
    exact ⟨rfl, rfl, h⟩
  · rw [if_pos (show M 25 (wayN C b) ≠ 0 by omega), if_neg (show ¬ (C 25 (wayN C b) = 1 ∨ C 25 (wayN C b) = 0 ∧ rdW C (wayN C b) < F 1) by omega)]
    have hm : max (F 1) (C 26 (wayN C b)) = max (thW C (wayN C b)) (naC F C (wayN C b)) := by unfold naC; rw [if_neg (by omega)]; omega
    obtain ⟨a, b1, c⟩ := plan_lead h hF hb (show M 25 (wayN C b) - 1 = enW C (wayN C b) by omega) hm
    exact ⟨a, by rw [b1], c⟩
theorem plan_eq {F : Nat → Nat} {M C : Nat → Nat → Nat} {Z : Nat → Int} (h : Rel F M C Z) (hF : FB F) : ∀ n, n ≤ F 4 →
    (pIt F M Z n).2.1 = (pcIt F C Z n).2.1 ∧ (pIt F M Z n).2.2 = (pcIt F C Z n).2.2 ∧ Rel F (pIt F M Z n).1 (pcIt F C Z n).1 (pcIt F C Z n).2.1
  | 0, _ => ⟨rfl, rfl, h⟩
  | n + 1, hn => by
    obtain ⟨a, b, c⟩ := plan_eq h hF n (by omega)
    have := plan_step (k := (pcIt F C Z n).2.2) c hF (show n < F 4 by omega)
    have e : pIt F M Z n = ((pIt F M Z n).1, (pcIt F C Z n).2.1, (pcIt F C Z n).2.2) := by rw [← a, ← b]
    show (pStep F (pIt F M Z n) n).2.1 = (pcStep F (pcIt F C Z n) n).2.1 ∧ (pStep F (pIt F M Z n) n).2.2 = (pcStep F (pcIt F C Z n) n).2.2 ∧ Rel F (pStep F (pIt F M Z n) n).1 (pcStep F (pcIt F C Z n) n).1 (pcStep F (pcIt F C Z n) n).2.1
    rw [e]
    exact this
