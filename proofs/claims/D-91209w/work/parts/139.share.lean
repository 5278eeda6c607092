set_option maxRecDepth 100000
theorem smB_div (s D : Nat) (d : Nat → Nat) : ∀ n, smB (fun i => s * d i / D) n * D ≤ s * smB d n
  | 0 => by simp [smB]
  | n + 1 => by
    have h1 := smB_div s D d n
    have h2 := Nat.div_mul_le_self (s * d n) D
    unfold smB
    rw [Nat.add_mul, Nat.mul_add]
    omega
theorem smB_one : ∀ n, smB (fun _ => 1) n = n
  | 0 => rfl
  | n + 1 => by unfold smB; rw [smB_one n]
theorem smB_dz (F : Nat → Nat) (N : Nat → Nat → Nat) : smB (dzN F N) (F 5) = dsN F N := by
  unfold dsN
  by_cases h : smB (N 12) (F 5) = 0
  · rw [if_pos h]
    have e : dzN F N = fun _ => 1 := by funext i; unfold dzN; exact if_pos h
    rw [e, smB_one]
  · rw [if_neg h]
    have e : dzN F N = N 12 := by funext i; unfold dzN; exact if_neg h
    rw [e]
theorem left_le {F : Nat → Nat} {N : Nat → Nat → Nat} (s : Nat) (h : 0 < dsN F N) : smB (fun i => s * dzN F N i / dsN F N) (F 5) ≤ s := by
  have h1 := smB_div s (dsN F N) (dzN F N) (F 5)
  rw [smB_dz] at h1
  exact Nat.le_of_mul_le_mul_right h1 h
theorem dsN_le {F : Nat → Nat} {N : Nat → Nat → Nat} (hF : FB F) (hN : NB N) : dsN F N ≤ 1240 := by
  have h1 : F 5 ≤ 40 := hF 5
  have h2 := smB_le (N 12) 31 (fun i => hN 12 i) (F 5)
  unfold dsN
  split <;> omega
theorem dsN_pos {F : Nat → Nat} {N : Nat → Nat → Nat} (h : 0 < F 5) : 0 < dsN F N := by
  unfold dsN
  split <;> omega
theorem shP_yes {F : Nat → Nat} {N : Nat → Nat → Nat} {c sum i : Nat} (h : sum * dzN F N c % dsN F N < sum * dzN F N i % dsN F N ∨ (sum * dzN F N i % dsN F N = sum * dzN F N c % dsN F N ∧ i < c)) : shP F N c sum i = true := decide_eq_true h
theorem shP_no {F : Nat → Nat} {N : Nat → Nat → Nat} {c sum i : Nat} (h : ¬ (sum * dzN F N c % dsN F N < sum * dzN F N i % dsN F N ∨ (sum * dzN F N i % dsN F N = sum * dzN F N c % dsN F N ∧ i < c))) : ¬ shP F N c sum i = true := by
  unfold shP
  rw [decide_eq_false h]
  exact Bool.false_ne_true
/-! the reference as it is made -/
def rkA (k : Nat) : Nat := if k = 37 then 26 else k - 6
def IA (D : va_G) (cA : Nat → ClassId) (A : Nat → Prop) (o sz n : Nat) (ad : Nat → Nat) (H : Heap) : Prop :=
  (∀ k, isA k → rkA k < n → va_at D CL (ad k, .inl (cA (mz k), mlen k, .inl (fun _ => iI 0))) H ∧ A (ad k) ∧ ad k ≠ o ∧ sz ≤ ad k) ∧ ∀ k k', isA k → isA k' → rkA k < n → rkA k' < n → ad k = ad k' → k = k'
theorem IA.kept {D : va_G} {cA : Nat → ClassId} {A : Nat → Prop} {o sz n : Nat} {ad : Nat → Nat} {H H1 : Heap} (h : IA D cA A o sz n ad H) (oq : ∀ q, q ≠ o → H1[q]? = H[q]?) : IA D cA A o sz n ad H1 :=
  ⟨fun k hk hr => ⟨(h.1 k hk hr).1.kept (oq _ (h.1 k hk hr).2.2.1), (h.1 k hk hr).2⟩, h.2⟩
theorem rkA_inj {k k' : Nat} (h : isA k) (h' : isA k') (e : rkA k = rkA k') : k = k' := by
  unfold isA at h h'
  unfold rkA at e
  split at e <;> split at e <;> omega
theorem IA.add {D : va_G} {cA : Nat → ClassId} {A : Nat → Prop} {o sz n k q : Nat} {ad : Nat → Nat} {H H1 : Heap} (h : IA D cA A o sz n ad H) (hk : isA k) (hr : rkA k = n) (hq : q = H.size) (hz : sz ≤ H.size) (ho : o < H.size) (hA : A q) (o1 : ∀ x, x < H.size → H1[x]? = H[x]?) (hP : va_at D CL (q, .inl (cA (mz k), mlen k, .inl (fun _ => iI 0))) H1) : IA D cA A o sz (n + 1) (va_up ad k q) H1 := by
  have hlt : ∀ k', isA k' → rkA k' < n → ad k' < H.size := fun k' h1 h2 => (h.1 k' h1 h2).1.lt
  refine ⟨fun k' hk' hr' => ?_, fun k1 k2 h1 h2 r1 r2 e => ?_⟩
  · unfold va_up
    by_cases e : k' = k
    · rw [if_pos e]
      subst e
      exact ⟨hP, hA, by omega, by omega⟩
    · rw [if_neg e]
      have r : rkA k' < n := by
        have : rkA k' ≠ n := fun z => e (rkA_inj hk' hk (z.trans hr.symm))
        omega
      have h1 := h.1 k' hk' r
      exact ⟨h1.1.kept (o1 _ h1.1.lt), h1.2⟩
  · by_cases e1 : k1 = k
    · by_cases e2 : k2 = k
      · rw [e1, e2]
      · exfalso
        have r : rkA k2 < n := by
          have : rkA k2 ≠ n := fun z => e2 (rkA_inj h2 hk (z.trans hr.symm))
          omega
        have := hlt k2 h2 r
        simp only [va_up, if_pos e1, if_neg e2] at e
        omega
    · have r : rkA k1 < n := by
        have : rkA k1 ≠ n := fun z => e1 (rkA_inj h1 hk (z.trans hr.symm))
        omega
      by_cases e2 : k2 = k
      · exfalso
        have := hlt k1 h1 r
        simp only [va_up, if_neg e1, if_pos e2] at e
        omega
      · have r' : rkA k2 < n := by
          have : rkA k2 ≠ n := fun z => e2 (rkA_inj h2 hk (z.trans hr.symm))
          omega
        simp only [va_up, if_neg e1, if_neg e2] at e
        exact h.2 k1 k2 h1 h2 r r' e
def G0 : Nat → Nat := fun k => if k = 34 then 1 else 0
def N0 : Nat → Nat → Nat := fun k _ => if k = 25 then 1 else 0
theorem mval_0 (k j : Nat) : mval N0 (fun _ _ => 0) (fun _ => 0) k j = 0 := by
  unfold mval N0
  split <;> simp_all
theorem IA.done {D : va_G} {cA : Nat → ClassId} {A : Nat → Prop} {o sz : Nat} {ad : Nat → Nat} {H : Heap} (h : IA D cA A o sz 27 ad H) (hA : A o) (hP : va_at D CL (o, .inr (0, mfs ad (fun _ => 0) G0)) H) : MW D cA A o ad (fun _ => 0) G0 N0 (fun _ _ => 0) (fun _ => 0) H := by
  have hr : ∀ k, isA k → rkA k < 27 := fun k hk => by unfold isA at hk; unfold rkA; split <;> omega
  refine ⟨hP, hA, fun k hk => ?_, fun k k' h1 h2 e => h.2 k k' h1 h2 (hr k h1) (hr k' h2) e⟩
  have h1 := h.1 k hk (hr k hk)
  refine ⟨?_, h1.2.1, h1.2.2.1⟩
  have e : (fun j => iI (mval N0 (fun _ _ => 0) (fun _ => 0) k j)) = fun _ => iI 0 := by
    funext j
    rw [mval_0]
  rw [e]
  exact h1.1
