set_option maxRecDepth 100000
def nn (e : Nat → Int) : Prop := ∀ x, 0 ≤ e x
theorem gJ_nn {N : Nat → Nat → Nat} {n t j : Nat} {e : Nat → Int} (h : nn e) : nn (gJ N n t e j) := by
  intro x
  unfold gJ va_up
  split
  · split
    · omega
    · exact h _
  · exact h x
theorem gJs_nn {N : Nat → Nat → Nat} {n t : Nat} : ∀ (L : List Nat) (e : Nat → Int), nn e → nn (L.foldl (gJ N n t) e)
  | [], _, h => h
  | j :: L, e, h => gJs_nn L _ (gJ_nn h)
theorem gI_nn {N : Nat → Nat → Nat} {Z : Nat → Int} {n t i : Nat} {e : Nat → Int} (h : nn e) : nn (gI N Z n t e i) := by
  unfold gI
  split
  · exact h
  · exact gJs_nn _ _ h
theorem gIs_nn {N : Nat → Nat → Nat} {Z : Nat → Int} {n t : Nat} : ∀ (r i : Nat) (e : Nat → Int), nn e → nn (gIs N Z n t r i e)
  | 0, _, _, h => h
  | r + 1, i, e, h => gIs_nn r (i + 1) _ (gI_nn h)
theorem gTs_nn {N : Nat → Nat → Nat} {Z : Nat → Int} {n : Nat} : ∀ (r t : Nat) (e : Nat → Int), nn e → nn (gTs N Z n r t e)
  | 0, _, _, h => h
  | r + 1, t, e, h => gTs_nn r (t + 1) _ (by
    unfold gT
    split
    · exact gIs_nn _ _ _ h
    · exact h)
theorem gNs_nn {N : Nat → Nat → Nat} {Z : Nat → Int} {T : Nat} : ∀ (r n : Nat) (e : Nat → Int), nn e → nn (gNs N Z T r n e)
  | 0, _, _, h => h
  | r + 1, n, e, h => gNs_nn r (n + 1) _ (gTs_nn _ _ _ h)
theorem gAll_nn (T : Nat) (N : Nat → Nat → Nat) (Z : Nat → Int) (f mi most : Nat) : nn (gAll T N Z f mi most) := gNs_nn _ _ _ (fun x => by
  unfold va_up
  split
  · omega
  · show (0 : Int) ≤ 1000000
    decide)
theorem best_no {T : Nat} {N : Nat → Nat → Nat} {Z : Nat → Int} {s m to l few : Nat} {e : Nat → Int} (hN : NB N) (hm : m ≤ 2000) (hto : to < 10) (hEA : ∀ x, x ≤ l → EA T N Z s m e x) (hmin : ∀ x, x ≤ l → e (10 * few + to) ≤ e (10 * x + to)) (h : e (10 * few + to) = 1000000) : ¬ (lkV T N Z to l s m).1 < 268435456 := by
  intro q
  have hw := lkV_way l s m q
  have hle := wy_le hN _ _ _ _ _ hw hm
  have hl := lkV_legs (T := T) (N := N) (Z := Z) (to := to) l s m
  have h1 := (hEA _ hl to (lkV T N Z to l s m).1 hto (by omega)).mpr ⟨_, Nat.le_refl _, hw⟩
  have h2 := hmin _ hl
  omega
theorem best_yes {T : Nat} {N : Nat → Nat → Nat} {Z : Nat → Int} {s m to l few : Nat} {e : Nat → Int} (hN : NB N) (hm : m ≤ 2000) (hto : to < 10) (hEA : ∀ x, x ≤ l → EA T N Z s m e x) (heb : eb e) (hnn : nn e) (hfl : few ≤ l) (hmin : ∀ x, x ≤ l → e (10 * few + to) ≤ e (10 * x + to)) (hst : ∀ x, x < few → e (10 * few + to) < e (10 * x + to)) (h : e (10 * few + to) ≠ 1000000) :
    e (10 * few + to) = ((lkV T N Z to l s m).1 : Int) ∧ (lkV T N Z to l s m).1 ≤ 2000 ∧ (lkV T N Z to l s m).2.1 = few := by
  have h0 := hnn (10 * few + to)
  have h1 := (heb (10 * few + to)).2
  obtain ⟨b, hb⟩ : ∃ b : Nat, e (10 * few + to) = (b : Int) := ⟨(e (10 * few + to)).toNat, by omega⟩
  obtain ⟨m', hm', hw⟩ := (hEA few hfl to b hto (by omega)).mp (by omega)
  have hbm : m' = b := by
    rcases Nat.lt_or_ge m' b with q | q
    · have := (hEA few hfl to m' hto (by omega)).mpr ⟨m', Nat.le_refl _, hw⟩
      omega
    · omega
  subst hbm
  have hb2 := wy_le hN _ _ _ _ _ hw hm
  have h2 := lkV_min l s m few m' hfl hw (by omega)
  simp only [ahd, bp] at h2
  have hq : (lkV T N Z to l s m).1 < 268435456 := by omega
  have hw2 := lkV_way l s m hq
  have hle := wy_le hN _ _ _ _ _ hw2 hm
  have hl := lkV_legs (T := T) (N := N) (Z := Z) (to := to) l s m
  have h3 := (hEA _ hl to (lkV T N Z to l s m).1 hto (by omega)).mpr ⟨_, Nat.le_refl _, hw2⟩
  have h4 := hmin _ hl
  have h5 : (lkV T N Z to l s m).1 = m' := by omega
  refine ⟨by omega, by omega, ?_⟩
  rcases Nat.lt_trichotomy (lkV T N Z to l s m).2.1 few with q | q | q
  · have := hst _ q
    omega
  · exact q
  · omega
/-- the first leg as the component looks for it -/
def fP (N : Nat → Nat → Nat) (e : Nat → Int) (n : Nat) (q : Nat × Nat × Nat) : Bool := decide ((qb N q : Int) ≤ e (10 * (n - 1) + q9 N q))
theorem fP_eq {N N' : Nat → Nat → Nat} (h : eqT N N') (e : Nat → Int) (n : Nat) : fP N' e n = fP N e n := by
  funext q
  unfold fP q9 qb
  rw [h.beh, h.2.2.2.1]
theorem legsT_cn {N : Nat → Nat → Nat} {Z : Nat → Int} {s m t : Nat} (h : N 13 t ≠ 0) : ∀ (n on : Nat), legsT N Z s m t n on = []
  | 0, _ => rfl
  | n + 1, on => by
    unfold legsT
    rw [legsT_cn h n (on + 1), List.append_nil]
    unfold legsO
    split
    · have e : offL (freeB N Z t) (N 8 t - (on + 1)) (on + 1) = [] := by
        cases N 8 t - (on + 1) with
        | zero => rfl
        | succ r =>
          unfold offL
          rw [if_neg]
          unfold freeB
          rw [decide_eq_false (fun q => h q.1)]
          exact Bool.false_ne_true
      rw [e]
      rfl
    · rfl
theorem legsO_no {N : Nat → Nat → Nat} {Z : Nat → Int} {s m t i n : Nat} {e : Nat → Int} (h : ldF N Z e n t i = -1) : (legsO N Z s m t i).find? (fP N e n) = none := by
  unfold legsO
  split
  · rw [List.find?_map]
    unfold ldF ldR at h
    cases hc : (offL (freeB N Z t) (N 8 t - (i + 1)) (i + 1)).find? (fun j => decide ((behN N (10 * t + j) : Int) ≤ e (10 * (n - 1) + N 9 (10 * t + j)))) with
    | none =>
      have e2 : (fP N e n) ∘ (fun off => (t, i, off)) = (fun j => decide ((behN N (10 * t + j) : Int) ≤ e (10 * (n - 1) + N 9 (10 * t + j)))) := rfl
      rw [e2, hc]
      rfl
    | some j =>
      rw [hc] at h
      dsimp only at h
      omega
  · rfl
theorem legsO_yes {N : Nat → Nat → Nat} {Z : Nat → Int} {s m t i n : Nat} {e : Nat → Int} (h1 : N 9 (10 * t + i) = s) (h2 : m ≤ N 10 (10 * t + i)) (h : ldF N Z e n t i ≠ -1) : ∃ j : Nat, ldF N Z e n t i = j ∧ i < j ∧ j < N 8 t ∧ (legsO N Z s m t i).find? (fP N e n) = some (t, i, j) := by
  unfold legsO
  rw [if_pos ⟨h1, h2⟩, List.find?_map]
  unfold ldF ldR at h ⊢
  cases hc : (offL (freeB N Z t) (N 8 t - (i + 1)) (i + 1)).find? (fun j => decide ((behN N (10 * t + j) : Int) ≤ e (10 * (n - 1) + N 9 (10 * t + j)))) with
  | none =>
    rw [hc] at h
    exact absurd rfl h
  | some j =>
    have e2 : (fP N e n) ∘ (fun off => (t, i, off)) = (fun j => decide ((behN N (10 * t + j) : Int) ≤ e (10 * (n - 1) + N 9 (10 * t + j)))) := rfl
    have h3 := mem_offL _ _ _ (List.mem_of_find?_eq_some hc)
    refine ⟨j, rfl, by omega, by omega, ?_⟩
    rw [e2, hc]
    rfl
/-- the component's first leg is the reference's -/
theorem first_is {T : Nat} {N : Nat → Nat → Nat} {Z : Nat → Int} {to l s m n best : Nat} {e : Nat → Int} (hN : NB N) (hb : (lkV T N Z to l s m).1 = best) (hb2 : best ≤ 2000) (hn : (lkV T N Z to l s m).2.1 = n + 1) (hLA : LA T N Z to best e n) :
    ∃ q, (legsA N Z s m T 0).find? (fP N e (n + 1)) = some q ∧ (lkV T N Z to l s m).2.2.1 = q.1 + 1 ∧ (lkV T N Z to l s m).2.2.2.1 = q.2.1 ∧ (lkV T N Z to l s m).2.2.2.2 = q.2.2 ∧ 1 ≤ l ∧ (lkV T N Z to (l - 1) (q9 N q) (qb N q)).1 = best ∧ (lkV T N Z to (l - 1) (q9 N q) (qb N q)).2.1 = n := by
  obtain ⟨q, h1, h2, h3, h4, h5, h6, h7⟩ := lkV_first (T := T) (N := N) (Z := Z) (to := to) (l := l) (s := s) (m := m) (n := n) (by omega) hn (fP N e (n + 1)) (fun q => by
    have h9 : N 9 (10 * q.1 + q.2.2) ≤ 9 := hN 9 _
    unfold fP
    rw [decide_eq_true_iff, show n + 1 - 1 = n by omega, hLA _ _ (by show N 9 (10 * q.1 + q.2.2) < 10; omega), hb])
  exact ⟨q, h1, h2, h3, h4, h5, by rw [h6, hb], h7⟩
/-- all but lists' arrays and legs lie where they lay -/
def agr (ad ad' : Nat → Nat → Nat) (F : Nat → Nat) (N : Nat → Nat → Nat) : Prop := ∀ k i, Lv F N k i → k ≠ 2 → k ≠ 9 → ad' k i = ad k i
theorem agr.rf (ad : Nat → Nat → Nat) (F : Nat → Nat) (N : Nat → Nat → Nat) : agr ad ad F N := fun _ _ _ _ _ => rfl
theorem adZ_B {K : Nat} {Z : Nat → Int} (h : ZB K Z) {v : Int} (h1 : -1 ≤ v) (h2 : v ≤ 1) (lo hi : Nat) : ZB (K + 1) (adZ Z v lo hi) := by
  intro x
  have := h x
  unfold adZ
  split <;> omega
