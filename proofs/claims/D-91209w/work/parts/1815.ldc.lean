set_option maxRecDepth 100000
/-- a trip led on: numbers, loads, whether there is a way -/
def ldC (T : Nat) (N : Nat → Nat → Nat) (Z : Nat → Int) (w na : Nat) : (Nat → Nat → Nat) × (Nat → Int) × Nat :=
  if (lkV T N Z (toW N w) (3 - N 24 w) (enW N w) (max (thW N w) na)).1 < 268435456 then
    (up2 (usN ((wayL T N Z (toW N w) (3 - N 24 w) (enW N w) (max (thW N w) na)).foldl (addL w) N) w (N 24 w) (lkV T N Z (toW N w) (3 - N 24 w) (enW N w) (max (thW N w) na)).2.1) 25 w 1,
     ldZ ((wayL T N Z (toW N w) (3 - N 24 w) (enW N w) (max (thW N w) na)).foldl (addL w) N) w 1 (N 24 w) (lkV T N Z (toW N w) (3 - N 24 w) (enW N w) (max (thW N w) na)).2.1 Z, 1)
  else (N, Z, 0)
theorem ldC_le {T : Nat} {N : Nat → Nat → Nat} {Z : Nat → Int} {w na : Nat} : (ldC T N Z w na).2.2 ≤ 1 := by
  unfold ldC
  split
  · exact Nat.le_refl _
  · exact Nat.zero_le _
def naC (F : Nat → Nat) (N : Nat → Nat → Nat) (w : Nat) : Nat := if N 25 w = 0 then 0 else max (N 26 w) (F 1)
def pcStep (F : Nat → Nat) (q : (Nat → Nat → Nat) × (Nat → Int) × Nat) (b : Nat) : (Nat → Nat → Nat) × (Nat → Int) × Nat :=
  if q.1 25 (wayN q.1 b) = 1 ∨ (q.1 25 (wayN q.1 b) = 0 ∧ rdW q.1 (wayN q.1 b) < F 1) then q
  else ((ldC (F 3) q.1 q.2.1 (wayN q.1 b) (naC F q.1 (wayN q.1 b))).1, (ldC (F 3) q.1 q.2.1 (wayN q.1 b) (naC F q.1 (wayN q.1 b))).2.1, q.2.2 + (ldC (F 3) q.1 q.2.1 (wayN q.1 b) (naC F q.1 (wayN q.1 b))).2.2)
def pcIt (F : Nat → Nat) (N : Nat → Nat → Nat) (Z : Nat → Int) : Nat → (Nat → Nat → Nat) × (Nat → Int) × Nat
  | 0 => (N, Z, 0)
  | n + 1 => pcStep F (pcIt F N Z n) n
/-- the first leg on a train -/
def foC (N : Nat → Nat → Nat) (w t : Nat) : Nat := lst (fun i => decide (N 27 (3 * w + i) = t)) (N 24 w)
/-- a train falls away: the legs from it on go; which trips give up some -/
def x1Step (t : Nat) (q : (Nat → Nat → Nat) × (Nat → Int) × List Nat) (b : Nat) : (Nat → Nat → Nat) × (Nat → Int) × List Nat :=
  if usB q.1 (wayN q.1 b) t = true then (up2 q.1 24 (wayN q.1 b) (foC q.1 (wayN q.1 b) t), ldZ q.1 (wayN q.1 b) (-1) (foC q.1 (wayN q.1 b) t) (q.1 24 (wayN q.1 b) - foC q.1 (wayN q.1 b) t) q.2.1, q.2.2 ++ [wayN q.1 b])
  else q
def x1It (t : Nat) (N : Nat → Nat → Nat) (Z : Nat → Int) : Nat → (Nat → Nat → Nat) × (Nat → Int) × List Nat
  | 0 => (N, Z, [])
  | n + 1 => x1Step t (x1It t N Z n) n
/-- second pass: led on from where they end, or standing there -/
def x2Step (F : Nat → Nat) (q : (Nat → Nat → Nat) × (Nat → Int)) (w : Nat) : (Nat → Nat → Nat) × (Nat → Int) :=
  if (ldC (F 3) q.1 q.2 w (F 1)).2.2 = 0 then (up2 (up2 (ldC (F 3) q.1 q.2 w (F 1)).1 25 w 2) 26 w (max (thW (ldC (F 3) q.1 q.2 w (F 1)).1 w) (F 1)), (ldC (F 3) q.1 q.2 w (F 1)).2.1)
  else ((ldC (F 3) q.1 q.2 w (F 1)).1, (ldC (F 3) q.1 q.2 w (F 1)).2.1)
def x2It (F : Nat → Nat) (L : List Nat) (N : Nat → Nat → Nat) (Z : Nat → Int) : Nat → (Nat → Nat → Nat) × (Nat → Int)
  | 0 => (N, Z)
  | n + 1 => x2Step F (x2It F L N Z n) (L.getD n 0)
theorem lst_spec : ∀ (n : Nat) (P : Nat → Bool), anyB P n = true → lst P n < n ∧ P (lst P n) = true ∧ ∀ i, i < lst P n → P i = false
  | 0, P, h => by simp [anyB] at h
  | n + 1, P, h => by
    by_cases h0 : P 0 = true
    · have e : lst P (n + 1) = 0 := by unfold lst; rw [if_pos h0]
      rw [e]
      exact ⟨by omega, h0, fun i hi => absurd hi (Nat.not_lt_zero _)⟩
    · have e : lst P (n + 1) = lst (fun i => P (i + 1)) n + 1 := by conv => lhs; unfold lst; rw [if_neg h0]
      have h1 : anyB (fun i => P (i + 1)) n = true := by
        obtain ⟨k, hk, hp⟩ := (anyB_iff P (n + 1)).mp h
        refine (anyB_iff _ n).mpr ⟨k - 1, ?_, ?_⟩
        · by_cases q : k = 0
          · subst q; exact absurd hp h0
          · omega
        · by_cases q : k = 0
          · subst q; exact absurd hp h0
          · show P (k - 1 + 1) = true
            rw [show k - 1 + 1 = k by omega]; exact hp
      obtain ⟨a, b, c⟩ := lst_spec n _ h1
      rw [e]
      refine ⟨by omega, b, fun i hi => ?_⟩
      cases i with
      | zero => exact Bool.eq_false_iff.mpr h0
      | succ i => exact c i (by omega)
theorem foC_spec {N : Nat → Nat → Nat} {w t : Nat} (h : usB N w t = true) : foC N w t < N 24 w ∧ N 27 (3 * w + foC N w t) = t ∧ ∀ i, i < foC N w t → N 27 (3 * w + i) ≠ t := by
  obtain ⟨a, b, c⟩ := lst_spec _ _ h
  exact ⟨a, of_decide_eq_true b, fun i hi => of_decide_eq_false (c i hi)⟩
theorem Lv_not9 {F : Nat → Nat} {N N' : Nat → Nat → Nat} (h8 : N' 8 = N 8) (h21 : N' 21 = N 21) : ∀ (k i : Nat), k ≠ 9 → Lv F N k i → Lv F N' k i
  | 0, _, _, h => h
  | 1, _, _, h => by unfold Lv TL at h ⊢; rw [h21]; exact h
  | 2, _, _, h => by unfold Lv TL at h ⊢; rw [h21]; exact h
  | 3, _, _, h => h
  | 4, _, _, h => h
  | 5, _, _, h => h
  | 6, _, _, h => by unfold Lv at h ⊢; rw [h8]; exact h
  | 7, _, _, h => h
  | 8, _, _, h => by unfold Lv TL at h ⊢; rw [h21]; exact h
  | 9, _, q, _ => absurd rfl q
  | _ + 10, _, _, h => h.elim
theorem agr.tr {ad ad' ad'' : Nat → Nat → Nat} {F : Nat → Nat} {N N' : Nat → Nat → Nat} (h : agr ad ad' F N) (h' : agr ad' ad'' F N') (h8 : N' 8 = N 8) (h21 : N' 21 = N 21) : agr ad ad'' F N := fun k i hl h2 h9 => (h' k i (Lv_not9 h8 h21 k i h9 hl) h2 h9).trans (h k i hl h2 h9)
/-- rows that a search leaves -/
def eqC (N N' : Nat → Nat → Nat) : Prop := ∀ k, k < 22 → N' k = N k
theorem eqC.rf (N : Nat → Nat → Nat) : eqC N N := fun _ _ => rfl
theorem eqC.tr {N N' N'' : Nat → Nat → Nat} (h : eqC N N') (h' : eqC N' N'') : eqC N N'' := fun k hk => (h' k hk).trans (h k hk)
theorem foldL_row {w k : Nat} (h1 : k ≠ 24) (h2 : k < 27) : ∀ (L : List (Nat × Nat × Nat)) (N : Nat → Nat → Nat), (L.foldl (addL w) N) k = N k
  | [], N => rfl
  | q :: L, N => by rw [List.foldl_cons, foldL_row h1 h2 L, addL_row h1 h2]
theorem ldC_eqC {T : Nat} {N : Nat → Nat → Nat} {Z : Nat → Int} {w na : Nat} : eqC N (ldC T N Z w na).1 := by
  intro k hk
  unfold ldC
  split
  · show up2 _ 25 w 1 k = N k
    rw [up2_row (by omega), usN_row (by omega), foldL_row (by omega) (by omega)]
  · rfl
theorem eqC.way {N N' : Nat → Nat → Nat} (h : eqC N N') (b : Nat) : wayN N' b = wayN N b := by
  unfold wayN
  rw [h 21 (by decide)]
