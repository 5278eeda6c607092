set_option maxRecDepth 100000
/-! the other calls -/
theorem RelP.F {P : Nat → Prop} {F F' : Nat → Nat} {M C : Nat → Nat → Nat} {Z : Nat → Int} (h : RelP P F M C Z) (h2 : F' 2 = F 2) (h3 : F' 3 = F 3) (h4 : F' 4 = F 4) : RelP P F' M C Z := by
  unfold RelP Iv Iv1 WF Us at *
  unfold TL at *
  rw [h2, h3, h4]
  exact h
theorem Rel.chg {F F' : Nat → Nat} {M C M' C' : Nat → Nat → Nat} {Z : Nat → Int} (h : Rel F M C Z) (r23 : C' 23 = C 23) (r24 : C' 24 = C 24) (r25 : C' 25 = C 25) (r26 : C' 26 = C 26) (r27 : C' 27 = C 27) (r28 : C' 28 = C 28) (r29 : C' 29 = C 29) (m22 : M' 22 = M 22) (m23 : M' 23 = M 23) (hL : Lk M' C')
    (hW1 : ∀ t k, t < F' 3 → k < C' 8 t → C' 9 (10 * t + k) < F' 2) (hW2 : ∀ b, b < F' 4 → C' 14 b < F' 2 ∧ C' 17 b < F' 2) (h8 : ∀ t, C 8 t ≤ C' 8 t) (hNB : NB C') (hTL : ∀ w, TL F C w → TL F' C' w) (h21 : ∀ b, F' 4 ≤ b → C' 21 b = 0) (h5 : ∀ t, F' 3 ≤ t → C' 8 t = 0 ∧ C' 13 t = 0)
    (h6 : ∀ t i j, t < F' 3 → i < j → j < C' 8 t → C' 10 (10 * t + i) < C' 10 (10 * t + j)) (hlg : ∀ w i, i < C 24 w → legB C' (3 * w + i) = legB C (3 * w + i) ∧ onM C' w i = onM C w i) (h3 : F 3 ≤ F' 3) (h4 : F 4 ≤ F' 4)
    (h25 : ∀ w, w < 2 * F' 4 → M' 25 w = if w < 2 * F 4 then M 25 w else 0) (hen : ∀ w, TL F C w → enW C' w = enW C w ∧ thW C' w = thW C w) : Rel F' M' C' Z := by
  obtain ⟨hI, hU, -, hS, hP, hZ⟩ := id h
  obtain ⟨⟨i1, i2, i3, i4, i5, i6, i7⟩, i8⟩ := id hI
  refine ⟨⟨⟨⟨hW1, hW2, fun w i _ hi => ?_, by rw [r25]; exact i1.2.2.2⟩, hNB, fun w hw => ?_, h21, h5, h6, fun w i hi => ?_⟩, fun x => ?_⟩, ⟨fun t ht => ?_, by rw [r23, r24, r27]; exact hU.2⟩, hL, fun w hw _ => ?_, fun w q => q.elim, fun w hw => ?_⟩
  · rw [r24] at hi
    have := i1.2.2.1 w i (leg_TL hI hi) hi
    have h9 := h8 (C 27 (3 * w + i))
    rw [r27, r28, r29]
    omega
  · rw [r24, r25, r26]
    exact i3 w (fun q => hw (hTL w q))
  · rw [r24] at hi
    rw [(hlg w i (by omega)).1, (hlg w (i + 1) (by omega)).2]
    exact i7 w i hi
  · rw [i8 x, cvS_rows r24 r27 r28 r29]
  · rw [r23]; exact hU.1 t (by omega)
  · have h25w := h25 w hw
    by_cases l : w < 2 * F 4
    · rw [if_pos l] at h25w
      have s := h.st l
      unfold St at s ⊢
      rw [r24, r25, r26, m22, m23, h25w]
      rcases s with s | s | s
      · exact Or.inl s
      · exact Or.inr (Or.inl s)
      · have hT : TL F C w := by
          by_cases q : TL F C w
          · exact q
          · have := (i3 w q).2.1
            omega
        rw [(hen w hT).1, (hen w hT).2]
        exact Or.inr (Or.inr s)
    · rw [if_neg l] at h25w
      have hnt : ¬ TL F C w := fun q => l (tl_lt q)
      obtain ⟨a, b, c⟩ := i3 w hnt
      obtain ⟨d, e⟩ := hZ w (by omega)
      exact Or.inl ⟨by rw [r25]; exact b, by rw [m22]; exact d, by rw [m23]; exact e, h25w, by rw [r24]; exact a⟩
  · rw [m22, m23]; exact hZ w (by omega)
/-- where a way ends: what it looks at -/
theorem en_th {F : Nat → Nat} {C C' : Nat → Nat → Nat} {Z : Nat → Int} (hI : Iv F C Z) (r24 : C' 24 = C 24) (r27 : C' 27 = C 27) (r29 : C' 29 = C 29) (h9 : ∀ t k, t < F 3 → k < C 8 t → C' 9 (10 * t + k) = C 9 (10 * t + k) ∧ C' 10 (10 * t + k) = C 10 (10 * t + k)) (h6 : ∀ s, s < F 2 → C' 6 s = C 6 s) (hb : ∀ w, TL F C w → frW C' w = frW C w ∧ rdW C' w = rdW C w ∧ wfW C' w = wfW C w) : ∀ w, TL F C w → enW C' w = enW C w ∧ thW C' w = thW C w := by
  intro w hT
  obtain ⟨b1, b2, b3⟩ := hb w hT
  unfold enW thW bgW legB behN
  rw [r24, r27, r29, b1, b2, b3]
  by_cases e : C 24 w = 0
  · rw [if_pos e, if_pos e, if_pos e, if_pos e, h6 _ (frW_lt hI.1.1 hT)]
    exact ⟨rfl, rfl⟩
  · obtain ⟨a1, a2, a3⟩ := hI.1.1.2.2.1 w (C 24 w - 1) hT (by omega)
    obtain ⟨d1, d2⟩ := h9 _ _ a1 a3
    rw [if_neg e, if_neg e, if_neg e, if_neg e, d1, d2, h6 _ (hI.1.1.1 _ _ a1 a3)]
    exact ⟨rfl, rfl⟩
theorem lg_on {F : Nat → Nat} {C C' : Nat → Nat → Nat} {Z : Nat → Int} (hI : Iv F C Z) (r27 : C' 27 = C 27) (r28 : C' 28 = C 28) (r29 : C' 29 = C 29) (h9 : ∀ t k, t < F 3 → k < C 8 t → C' 9 (10 * t + k) = C 9 (10 * t + k) ∧ C' 10 (10 * t + k) = C 10 (10 * t + k)) (h6 : ∀ s, s < F 2 → C' 6 s = C 6 s) : ∀ w i, i < C 24 w → legB C' (3 * w + i) = legB C (3 * w + i) ∧ onM C' w i = onM C w i := by
  intro w i hi
  obtain ⟨a1, a2, a3⟩ := hI.1.1.2.2.1 w i (leg_TL hI hi) hi
  unfold legB behN onM
  rw [r27, r28, r29, (h9 _ _ a1 a3).1, (h9 _ _ a1 a3).2, (h9 _ _ a1 (Nat.lt_trans a2 a3)).2, h6 _ (hI.1.1.1 _ _ a1 a3)]
  exact ⟨rfl, rfl⟩
theorem va_eq {F : Nat → Nat} {k v : Nat} : va_up F k v k = v := by unfold va_up; rw [if_pos rfl]
theorem va_ne {F : Nat → Nat} {k v j : Nat} (h : j ≠ k) : va_up F k v j = F j := by unfold va_up; rw [if_neg h]
theorem h25_same {F F' : Nat → Nat} {M M' : Nat → Nat → Nat} (h4 : F' 4 = F 4) (m25 : M' 25 = M 25) : ∀ w, w < 2 * F' 4 → M' 25 w = if w < 2 * F 4 then M 25 w else 0 := fun w hw => by
  rw [m25, if_pos (by omega)]
theorem op_station {F : Nat → Nat} {M C : Nat → Nat → Nat} {Z : Nat → Int} (h : Rel F M C Z) (hF : FB F) {v : Nat} (hv : v ≤ 60) : Rel (va_up F 2 (F 2 + 1)) (up2 M 6 (F 2) v) (up2 C 6 (F 2) v) Z := by
  obtain ⟨hI, hU, hL, hS, hP, hZ⟩ := id h
  obtain ⟨⟨i1, i2, i3, i4, i5, i6, i7⟩, i8⟩ := id hI
  have f2 : va_up F 2 (F 2 + 1) 2 = F 2 + 1 := va_eq
  have f3 : va_up F 2 (F 2 + 1) 3 = F 3 := va_ne (by decide)
  have f4 : va_up F 2 (F 2 + 1) 4 = F 4 := va_ne (by decide)
  have h6 : ∀ s, s < F 2 → up2 C 6 (F 2) v 6 s = C 6 s := fun s hs => up2_ne (Or.inr (by omega))
  refine h.chg rfl rfl rfl rfl rfl rfl rfl rfl rfl (hL.up _ _ _) (fun t k ht hk => ?_) (fun b hb => ?_) (fun t => Nat.le_refl _) (i2.up (by show v ≤ 60; omega)) (fun w q => ?_) (fun b hb => ?_) (fun t ht => ?_) (fun t i j ht => ?_) (lg_on hI rfl rfl rfl (fun _ _ _ _ => ⟨rfl, rfl⟩) h6) (by omega) (by omega) (h25_same f4 rfl) (en_th hI rfl rfl rfl (fun _ _ _ _ => ⟨rfl, rfl⟩) h6 (fun _ _ => ⟨rfl, rfl, rfl⟩))
  · have : C 9 (10 * t + k) < F 2 := i1.1 t k (by omega) hk
    show C 9 (10 * t + k) < _
    omega
  · have : C 14 b < F 2 ∧ C 17 b < F 2 := i1.2.1 b (by omega)
    show C 14 b < _ ∧ C 17 b < _
    omega
  · exact ⟨by rw [f4]; exact q.1, q.2⟩
  · exact i4 b (by omega)
  · exact i5 t (by omega)
  · exact i6 t i j (by omega)
theorem op_train {F : Nat → Nat} {M C : Nat → Nat → Nat} {Z : Nat → Int} (h : Rel F M C Z) (hF : FB F) {v : Nat} (hv : v ≤ 40) : Rel (va_up F 3 (F 3 + 1)) (up2 M 7 (F 3) v) (up2 C 7 (F 3) v) Z := by
  obtain ⟨hI, hU, hL, hS, hP, hZ⟩ := id h
  obtain ⟨⟨i1, i2, i3, i4, i5, i6, i7⟩, i8⟩ := id hI
  have f2 : va_up F 3 (F 3 + 1) 2 = F 2 := va_ne (by decide)
  have f3 : va_up F 3 (F 3 + 1) 3 = F 3 + 1 := va_eq
  have f4 : va_up F 3 (F 3 + 1) 4 = F 4 := va_ne (by decide)
  refine h.chg rfl rfl rfl rfl rfl rfl rfl rfl rfl (hL.up _ _ _) (fun t k ht hk => ?_) (fun b hb => ?_) (fun t => Nat.le_refl _) (i2.up (by show v ≤ 40; omega)) (fun w q => ?_) (fun b hb => ?_) (fun t ht => ?_) (fun t i j ht h1 h2 => ?_) (lg_on hI rfl rfl rfl (fun _ _ _ _ => ⟨rfl, rfl⟩) (fun _ _ => rfl)) (by omega) (by omega) (h25_same f4 rfl) (en_th hI rfl rfl rfl (fun _ _ _ _ => ⟨rfl, rfl⟩) (fun _ _ => rfl) (fun _ _ => ⟨rfl, rfl, rfl⟩))
  · rw [f2]
    by_cases l : t < F 3
    · exact i1.1 t k l hk
    · have hk' : k < C 8 t := hk
      rw [(i5 t (by omega)).1] at hk'
      exact absurd hk' (Nat.not_lt_zero _)
  · rw [f2]; exact i1.2.1 b (by omega)
  · exact ⟨by rw [f4]; exact q.1, q.2⟩
  · exact i4 b (by omega)
  · exact i5 t (by omega)
  · by_cases l : t < F 3
    · exact i6 t i j l h1 h2
    · have h2' : j < C 8 t := h2
      rw [(i5 t (by omega)).1] at h2'
      exact absurd h2' (Nat.not_lt_zero _)
theorem op_carrier {F : Nat → Nat} {M C : Nat → Nat → Nat} {Z : Nat → Int} (h : Rel F M C Z) {v : Nat} (hv : v ≤ 31) : Rel (va_up F 5 (F 5 + 1)) (up2 M 12 (F 5) v) (up2 C 12 (F 5) v) Z := by
  obtain ⟨hI, hU, hL, hS, hP, hZ⟩ := id h
  obtain ⟨⟨i1, i2, i3, i4, i5, i6, i7⟩, i8⟩ := id hI
  refine RelP.F (F := F) ?_ (va_ne (by decide)) (va_ne (by decide)) (va_ne (by decide))
  exact h.chg rfl rfl rfl rfl rfl rfl rfl rfl rfl (hL.up _ _ _) i1.1 i1.2.1 (fun t => Nat.le_refl _) (i2.up (by show v ≤ 31; omega)) (fun w q => q) i4 i5 i6 (lg_on hI rfl rfl rfl (fun _ _ _ _ => ⟨rfl, rfl⟩) (fun _ _ => rfl)) (Nat.le_refl _) (Nat.le_refl _) (h25_same rfl rfl) (en_th hI rfl rfl rfl (fun _ _ _ _ => ⟨rfl, rfl⟩) (fun _ _ => rfl) (fun _ _ => ⟨rfl, rfl, rfl⟩))
