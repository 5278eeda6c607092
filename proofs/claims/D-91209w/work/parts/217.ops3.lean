set_option maxRecDepth 100000
theorem op_stop {F : Nat → Nat} {M C : Nat → Nat → Nat} {Z : Nat → Int} (h : Rel F M C Z) (hF : FB F) {t s mi : Nat} (ht : t < F 3) (h8 : C 8 t ≠ 10) (hs : s < F 2) (hmi : mi ≤ 1439) (hlast : ¬ (0 < C 8 t ∧ (mi ≤ C 10 (10 * t + (C 8 t - 1)) ∨ C 9 (10 * t + (C 8 t - 1)) = s))) : Rel F (stopN M t s mi) (stopN C t s mi) Z := by
  obtain ⟨hI, hU, hL, hS, hP, hZ⟩ := id h
  obtain ⟨⟨i1, i2, i3, i4, i5, i6, i7⟩, i8⟩ := id hI
  have hF2 : F 2 ≤ 10 := hF 2
  have h8b : ∀ t, C 8 t ≤ 10 := fun t => i2 8 t
  have h8t := h8b t
  have e8 : M 8 t = C 8 t := by rw [hL 8 (by decide) (by decide) (by decide)]
  have r8 : ∀ x, stopN C t s mi 8 x = if x = t then C 8 t + 1 else C 8 x := fun x => by
    unfold stopN
    by_cases e : x = t
    · rw [if_pos e, e, up2_eq]
    · rw [if_neg e, up2_ne (Or.inr e), up2_row (by decide), up2_row (by decide)]
  have r9 : ∀ x, stopN C t s mi 9 x = if x = 10 * t + C 8 t then s else C 9 x := fun x => by
    unfold stopN
    rw [up2_row (by decide), up2_row (by decide)]
    by_cases e : x = 10 * t + C 8 t
    · rw [if_pos e, e, up2_eq]
    · rw [if_neg e, up2_ne (Or.inr e)]
  have r10 : ∀ x, stopN C t s mi 10 x = if x = 10 * t + C 8 t then mi else C 10 x := fun x => by
    unfold stopN
    rw [up2_row (by decide)]
    by_cases e : x = 10 * t + C 8 t
    · rw [if_pos e, e, up2_eq]
    · rw [if_neg e, up2_ne (Or.inr e), up2_row (by decide)]
  have hold : ∀ t' k, t' < F 3 → k < C 8 t' → stopN C t s mi 9 (10 * t' + k) = C 9 (10 * t' + k) ∧ stopN C t s mi 10 (10 * t' + k) = C 10 (10 * t' + k) := fun t' k h1 h2 => by
    have h3 := h8b t'
    have hne : 10 * t' + k ≠ 10 * t + C 8 t := by
      by_cases e : t' = t
      · subst e; omega
      · omega
    rw [r9, r10, if_neg hne, if_neg hne]
    exact ⟨rfl, rfl⟩
  refine h.chg rfl rfl rfl rfl rfl rfl rfl rfl rfl (by unfold stopN; rw [e8]; exact ((hL.up _ _ _).up _ _ _).up _ _ _) (fun t' k h1 h2 => ?_) i1.2.1 (fun x => ?_) (((i2.up (by show s ≤ 9; omega)).up (by show mi ≤ 1439; omega)).up (by show C 8 t + 1 ≤ 10; omega)) (fun w q => q) i4 (fun x hx => ?_) (fun t' i j h1 h2 h3 => ?_) (lg_on hI rfl rfl rfl hold (fun _ _ => rfl)) (Nat.le_refl _) (Nat.le_refl _) (h25_same rfl rfl) (en_th hI rfl rfl rfl hold (fun _ _ => rfl) (fun _ _ => ⟨rfl, rfl, rfl⟩))
  · rw [r8] at h2
    by_cases e : t' = t
    · subst e
      rw [if_pos rfl] at h2
      by_cases l : k < C 8 t'
      · rw [(hold t' k h1 l).1]; exact i1.1 t' k h1 l
      · rw [r9, if_pos (by omega)]; exact hs
    · rw [if_neg e] at h2
      rw [(hold t' k h1 h2).1]; exact i1.1 t' k h1 h2
  · rw [r8]
    by_cases e : x = t
    · subst e; rw [if_pos rfl]; omega
    · rw [if_neg e]; exact Nat.le_refl _
  · rw [r8, if_neg (by omega)]
    exact i5 x hx
  · rw [r8] at h3
    by_cases e : t' = t
    · subst e
      rw [if_pos rfl] at h3
      by_cases l : j < C 8 t'
      · rw [(hold t' i h1 (by omega)).2, (hold t' j h1 l).2]; exact i6 t' i j h1 h2 l
      · rw [(hold t' i h1 (by omega)).2, r10, if_pos (by omega)]
        have hl : C 10 (10 * t' + (C 8 t' - 1)) < mi := by
          by_cases q : mi ≤ C 10 (10 * t' + (C 8 t' - 1))
          · exact absurd ⟨by omega, Or.inl q⟩ hlast
          · omega
        by_cases e2 : i = C 8 t' - 1
        · rw [e2]; exact hl
        · have := i6 t' i (C 8 t' - 1) h1 (by omega) (by omega)
          omega
    · rw [if_neg e] at h3
      rw [(hold t' i h1 (by omega)).2, (hold t' j h1 h3).2]; exact i6 t' i j h1 h2 h3
theorem op_box {F : Nat → Nat} {M C : Nat → Nat → Nat} {Z : Nat → Int} (h : Rel F M C Z) (hF : FB F) {hm wk rd dk wt du : Nat} (b1 : hm < F 2) (b2 : wk ≤ 120) (b3 : rd ≤ 1439) (b4 : dk < F 2) (b5 : wt ≤ 120) (b6 : du ≤ 1439) :
    Rel (va_up F 4 (F 4 + 1)) (up2 (up2 (boxN M (F 4) hm wk rd dk wt du) 25 (2 * F 4) 0) 25 (2 * F 4 + 1) 0) (boxN C (F 4) hm wk rd dk wt du) Z := by
  obtain ⟨hI, hU, hL, hS, hP, hZ⟩ := id h
  obtain ⟨⟨i1, i2, i3, i4, i5, i6, i7⟩, i8⟩ := id hI
  have hF2 : F 2 ≤ 10 := hF 2
  have f2 : va_up F 4 (F 4 + 1) 2 = F 2 := va_ne (by decide)
  have f3 : va_up F 4 (F 4 + 1) 3 = F 3 := va_ne (by decide)
  have f4 : va_up F 4 (F 4 + 1) 4 = F 4 + 1 := va_eq
  have hr : ∀ (k x : Nat), x ≠ F 4 → boxN C (F 4) hm wk rd dk wt du k x = C k x := fun k x hx => by
    unfold boxN
    rw [up2_ne (Or.inr hx), up2_ne (Or.inr hx), up2_ne (Or.inr hx), up2_ne (Or.inr hx), up2_ne (Or.inr hx), up2_ne (Or.inr hx)]
  have hrow : ∀ (k : Nat), (k < 14 ∨ 19 < k) → boxN C (F 4) hm wk rd dk wt du k = C k := fun k hk => by
    unfold boxN
    rw [up2_row (by omega), up2_row (by omega), up2_row (by omega), up2_row (by omega), up2_row (by omega), up2_row (by omega)]
  have hLk : Lk (up2 (up2 (boxN M (F 4) hm wk rd dk wt du) 25 (2 * F 4) 0) 25 (2 * F 4 + 1) 0) (boxN C (F 4) hm wk rd dk wt du) := by
    unfold boxN
    exact (((((((hL.up _ _ _).up _ _ _).up _ _ _).up _ _ _).up _ _ _).up _ _ _).upM (Or.inr (Or.inr rfl))).upM (Or.inr (Or.inr rfl))
  refine h.chg (hrow 23 (by omega)) (hrow 24 (by omega)) (hrow 25 (by omega)) (hrow 26 (by omega)) (hrow 27 (by omega)) (hrow 28 (by omega)) (hrow 29 (by omega)) rfl rfl hLk (fun t k ht hk => ?_) (fun b hb => ?_) (fun t => by rw [hrow 8 (by omega)]; exact Nat.le_refl _)
    ((((((i2.up (by show hm ≤ 9; omega)).up (by show wk ≤ 120; omega)).up (by show rd ≤ 1439; omega)).up (by show dk ≤ 9; omega)).up (by show wt ≤ 120; omega)).up (by show du ≤ 1439; omega)) (fun w q => ?_) (fun b hb => ?_) (fun t ht => ?_) (fun t i j ht h1 h2 => ?_)
    (lg_on hI (hrow 27 (by omega)) (hrow 28 (by omega)) (hrow 29 (by omega)) (fun _ _ _ _ => ⟨by rw [hrow 9 (by omega)], by rw [hrow 10 (by omega)]⟩) (fun _ _ => by rw [hrow 6 (by omega)])) (by omega) (by omega) (fun w hw => ?_) (en_th hI (hrow 24 (by omega)) (hrow 27 (by omega)) (hrow 29 (by omega)) (fun _ _ _ _ => ⟨by rw [hrow 9 (by omega)], by rw [hrow 10 (by omega)]⟩) (fun _ _ => by rw [hrow 6 (by omega)]) (fun w q => ?_))
  · rw [hrow 8 (by omega)] at hk
    rw [hrow 9 (by omega), f2]; exact i1.1 t k (by omega) hk
  · rw [f2]
    by_cases e : b = F 4
    · subst e
      unfold boxN
      rw [up2_row (k' := 14) (by decide), up2_row (k' := 14) (by decide), up2_row (k' := 14) (by decide), up2_row (k' := 14) (by decide), up2_row (k' := 14) (by decide), up2_eq, up2_row (k' := 17) (by decide), up2_row (k' := 17) (by decide), up2_eq]
      exact ⟨b1, b4⟩
    · rw [hr 14 b e, hr 17 b e]; exact i1.2.1 b (by omega)
  · unfold TL
    rw [hrow 21 (by omega), f4]
    exact ⟨by have := q.1; omega, q.2⟩
  · rw [hrow 21 (by omega)]; exact i4 b (by omega)
  · rw [hrow 8 (by omega), hrow 13 (by omega)]; exact i5 t (by omega)
  · rw [hrow 8 (by omega)] at h2
    rw [hrow 10 (by omega)]; exact i6 t i j (by omega) h1 h2
  · by_cases l : w < 2 * F 4
    · rw [if_pos l, up2_ne (Or.inr (by omega)), up2_ne (Or.inr (by omega))]
      unfold boxN
      rw [up2_row (by decide), up2_row (by decide), up2_row (by decide), up2_row (by decide), up2_row (by decide), up2_row (by decide)]
    · rw [if_neg l]
      rw [f4] at hw
      by_cases e : w = 2 * F 4 + 1
      · rw [e, up2_eq]
      · rw [up2_ne (Or.inr e), show w = 2 * F 4 by omega, up2_eq]
  · have hlt := q.1
    unfold frW rdW wfW
    rw [hr 14 _ (by omega), hr 17 _ (by omega), hr 16 _ (by omega), hr 20 _ (by omega), hr 15 _ (by omega), hr 18 _ (by omega)]
    exact ⟨rfl, rfl, rfl⟩
theorem op_empty {F : Nat → Nat} {M C : Nat → Nat → Nat} {Z : Nat → Int} (h : Rel F M C Z) {b r : Nat} (hb : b < F 4) (h21 : C 21 b = 0) (hr : r ≤ 1439) : Rel F (up2 (up2 M 21 b 1) 20 b r) (up2 (up2 C 21 b 1) 20 b r) Z := by
  obtain ⟨hI, hU, hL, hS, hP, hZ⟩ := id h
  obtain ⟨⟨i1, i2, i3, i4, i5, i6, i7⟩, i8⟩ := id hI
  have r21 : ∀ x, up2 (up2 C 21 b 1) 20 b r 21 x = if x = b then 1 else C 21 x := fun x => by
    rw [up2_row (by decide)]
    by_cases e : x = b
    · rw [if_pos e, e, up2_eq]
    · rw [if_neg e, up2_ne (Or.inr e)]
  refine h.chg rfl rfl rfl rfl rfl rfl rfl rfl rfl ((hL.up _ _ _).up _ _ _) i1.1 i1.2.1 (fun t => Nat.le_refl _) ((i2.up (by show 1 ≤ 1; omega)).up (by show r ≤ 1439; omega)) (fun w q => ?_) (fun x hx => ?_) i5 i6 (lg_on hI rfl rfl rfl (fun _ _ _ _ => ⟨rfl, rfl⟩) (fun _ _ => rfl)) (Nat.le_refl _) (Nat.le_refl _) (h25_same rfl rfl) (en_th hI rfl rfl rfl (fun _ _ _ _ => ⟨rfl, rfl⟩) (fun _ _ => rfl) (fun w q => ⟨rfl, ?_, rfl⟩))
  · refine ⟨q.1, ?_⟩
    rcases q.2 with z | z
    · exact Or.inl z
    · refine Or.inr ?_
      rw [r21]
      split
      · decide
      · exact z
  · rw [r21, if_neg (by omega)]; exact i4 x hx
  · unfold rdW
    by_cases e : w % 2 = 0
    · rw [if_pos e, if_pos e]; rfl
    · rw [if_neg e, if_neg e]
      rcases q.2 with z | z
      · exact absurd z e
      · have hne : w / 2 ≠ b := fun e2 => z (by rw [e2]; exact h21)
        rw [up2_ne (Or.inr hne), up2_row (by decide)]
theorem op_init : Rel (fun _ => 0) N0 (fun _ _ => 0) (fun _ => 0) := by
  have hc : ∀ n x, cvS (fun _ _ => 0) x n = 0 := by
    intro n x
    induction n with
    | zero => rfl
    | succ n ih => unfold cvS; rw [ih]; rfl
  refine ⟨⟨⟨⟨fun t k h => absurd h (Nat.not_lt_zero _), fun b h => absurd h (Nat.not_lt_zero _), fun w i _ h => absurd h (Nat.not_lt_zero _), fun w => Nat.zero_le _⟩, fun k j => Nat.zero_le _, fun w _ => ⟨rfl, rfl, rfl⟩, fun b _ => rfl, fun t _ => ⟨rfl, rfl⟩, fun t i j h => absurd h (Nat.not_lt_zero _), fun w i h => absurd h (Nat.not_lt_zero _)⟩, fun x => (hc 120 x).symm⟩, ⟨fun t _ => rfl, fun w i h => absurd h (Nat.not_lt_zero _)⟩, ?_, fun w h => absurd h (Nat.not_lt_zero _), fun w q => q.elim, fun w _ => ⟨rfl, rfl⟩⟩
  intro k h1 h2 h3
  funext j
  unfold N0
  rw [if_neg h3]
