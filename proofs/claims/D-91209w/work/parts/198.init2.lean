set_option maxRecDepth 100000
/-! the component's world at its start -/
def ad0 (z q1 q2 l0 l1 l2 l3 e0 e1 e2 e3 : Nat) : Nat → Nat → Nat := fun k i => if k = 0 then (if i = 0 then z else if i = 1 then q1 else q2) else if k = 1 then (if i = 0 then l0 else if i = 1 then l1 else if i = 2 then l2 else l3) else (if i = 0 then e0 else if i = 1 then e1 else if i = 2 then e2 else e3)
theorem TL_none {N : Nat → Nat → Nat} {w : Nat} : ¬ TL (fun _ => 0) N w := fun h => absurd h.1 (Nat.not_lt_zero _)
theorem Lv_none {N : Nat → Nat → Nat} {k i : Nat} (h : Lv (fun _ => 0) N k i) : (k = 0 ∧ i < 3) ∨ (k = 1 ∧ i < 4) ∨ (k = 2 ∧ i < 4) := by
  match k, h with
  | 0, h => exact Or.inl ⟨rfl, h⟩
  | 1, h =>
    rcases h with h | h | h
    · exact Or.inr (Or.inl ⟨rfl, h⟩)
    · have h1 := h.1
      have h2 : i < 10 + 0 := h.2.1
      omega
    · exact absurd h.2 TL_none
  | 2, h =>
    rcases h with h | h | h
    · exact Or.inr (Or.inr ⟨rfl, h⟩)
    · have h1 := h.1
      have h2 : i < 10 + 0 := h.2.1
      omega
    · exact absurd h.2 TL_none
  | 3, h => exact absurd h (Nat.not_lt_zero _)
  | 4, h => exact absurd h (Nat.not_lt_zero _)
  | 5, h => exact absurd h (Nat.not_lt_zero _)
  | 6, h => exact absurd h.1 (Nat.not_lt_zero _)
  | 7, h => exact absurd h (Nat.not_lt_zero _)
  | 8, h => exact absurd h TL_none
  | 9, h => exact absurd h.1 TL_none
  | _ + 10, h => exact h.elim
theorem cw_init {D : va_G} {cA : Nat → ClassId} {A : Nat → Prop} {sa : Nat → Nat} {n0 z l0 e0 l1 e1 l2 e2 l3 e3 q1 q2 : Nat} {H : Heap} (h0 : n0 ≤ l0) (c1 : z < l0) (c2 : l0 < e0) (c3 : e0 < l1) (c4 : l1 < e1) (c5 : e1 < l2) (c6 : l2 < e2) (c7 : e2 < l3) (c8 : l3 < e3) (c9 : e3 < q1) (c10 : q1 < q2)
    (g0 : LiS D cA l0 0 e0 0 2 (fun _ => 0) H) (g1 : LiS D cA l1 0 e1 0 2 (fun _ => 0) H) (g2 : LiS D cA l2 0 e2 0 2 (fun _ => 0) H) (g3 : LiS D cA l3 0 e3 0 2 (fun _ => 0) H) (k1 : va_at D CL (q1, eI cA 40 (fun _ => 0)) H) (k2 : va_at D CL (q2, eI cA 40 (fun _ => 0)) H)
    (ho : va_at D CL (z, .inr (1, [.ref l0, .ref l1, .ref l2, .ref l3, .int (iI 0), .ref q1, .ref q2])) H) (hz : A z) (hA : ∀ q, n0 ≤ q → A q) :
    CW D cA A sa (ad0 z q1 q2 l0 l1 l2 l3 e0 e1 e2 e3) (fun _ => 0) (fun _ _ => 0) (fun _ => 0) (fun _ _ => 0) H := by
  have hlt := k2.lt
  have hlt : q2 < H.size := hlt
  have hl : ∀ (i : Nat) (f : Nat → Nat), i < 4 → Lst D cA (ad0 z q1 q2 l0 l1 l2 l3 e0 e1 e2 e3) i 0 f H := fun i f hi => by
    have : Lst D cA (ad0 z q1 q2 l0 l1 l2 l3 e0 e1 e2 e3) i 0 (fun _ => 0) H := by
      rcases (by omega : i = 0 ∨ i = 1 ∨ i = 2 ∨ i = 3) with rfl | rfl | rfl | rfl
      · exact ⟨0, 2, by omega, by omega, g0⟩
      · exact ⟨0, 2, by omega, by omega, g1⟩
      · exact ⟨0, 2, by omega, by omega, g2⟩
      · exact ⟨0, 2, by omega, by omega, g3⟩
    exact this.to rfl rfl (fun j h => absurd h (Nat.not_lt_zero _))
  refine ⟨⟨ho, k1, k2, hl 0 _ (by omega), hl 1 _ (by omega), hl 2 _ (by omega), hl 3 _ (by omega), fun j h => absurd h (Nat.not_lt_zero _), fun t h => absurd h (Nat.not_lt_zero _), fun t h => absurd h (Nat.not_lt_zero _), fun t h => absurd h (Nat.not_lt_zero _), fun t k h => absurd h (Nat.not_lt_zero _), fun b h => absurd h (Nat.not_lt_zero _), fun w h => absurd h TL_none, fun w h => absurd h TL_none, fun w i h => absurd h TL_none⟩, fun k i h => ?_, fun k i k' i' h h' e => ?_, fun q h => hA q (by omega)⟩
  · rcases Lv_none h with ⟨rfl, hi⟩ | ⟨rfl, hi⟩ | ⟨rfl, hi⟩
    · rcases (by omega : i = 0 ∨ i = 1 ∨ i = 2) with rfl | rfl | rfl
      · exact hz
      · exact hA _ (by show n0 ≤ q1; omega)
      · exact hA _ (by show n0 ≤ q2; omega)
    · rcases (by omega : i = 0 ∨ i = 1 ∨ i = 2 ∨ i = 3) with rfl | rfl | rfl | rfl
      · exact hA _ (by show n0 ≤ l0; omega)
      · exact hA _ (by show n0 ≤ l1; omega)
      · exact hA _ (by show n0 ≤ l2; omega)
      · exact hA _ (by show n0 ≤ l3; omega)
    · rcases (by omega : i = 0 ∨ i = 1 ∨ i = 2 ∨ i = 3) with rfl | rfl | rfl | rfl
      · exact hA _ (by show n0 ≤ e0; omega)
      · exact hA _ (by show n0 ≤ e1; omega)
      · exact hA _ (by show n0 ≤ e2; omega)
      · exact hA _ (by show n0 ≤ e3; omega)
  · have rk : ∀ k i, Lv (fun _ => 0) (fun _ _ => 0) k i → ∃ r, r < 11 ∧ ad0 z q1 q2 l0 l1 l2 l3 e0 e1 e2 e3 k i = [z, q1, q2, l0, l1, l2, l3, e0, e1, e2, e3].getD r 0 ∧ ((k = 0 ∧ i < 3 ∧ r = i) ∨ (k = 1 ∧ i < 4 ∧ r = 3 + i) ∨ (k = 2 ∧ i < 4 ∧ r = 7 + i)) := fun k i h => by
      rcases Lv_none h with ⟨rfl, hi⟩ | ⟨rfl, hi⟩ | ⟨rfl, hi⟩
      · rcases (by omega : i = 0 ∨ i = 1 ∨ i = 2) with rfl | rfl | rfl
        · exact ⟨0, by omega, rfl, by omega⟩
        · exact ⟨1, by omega, rfl, by omega⟩
        · exact ⟨2, by omega, rfl, by omega⟩
      · rcases (by omega : i = 0 ∨ i = 1 ∨ i = 2 ∨ i = 3) with rfl | rfl | rfl | rfl
        · exact ⟨3, by omega, rfl, by omega⟩
        · exact ⟨4, by omega, rfl, by omega⟩
        · exact ⟨5, by omega, rfl, by omega⟩
        · exact ⟨6, by omega, rfl, by omega⟩
      · rcases (by omega : i = 0 ∨ i = 1 ∨ i = 2 ∨ i = 3) with rfl | rfl | rfl | rfl
        · exact ⟨7, by omega, rfl, by omega⟩
        · exact ⟨8, by omega, rfl, by omega⟩
        · exact ⟨9, by omega, rfl, by omega⟩
        · exact ⟨10, by omega, rfl, by omega⟩
    obtain ⟨r, r1, r2, r3⟩ := rk k i h
    obtain ⟨r', r1', r2', r3'⟩ := rk k' i' h'
    rw [r2, r2'] at e
    have hrr : r = r' := by
      rcases (by omega : r = 0 ∨ r = 1 ∨ r = 2 ∨ r = 3 ∨ r = 4 ∨ r = 5 ∨ r = 6 ∨ r = 7 ∨ r = 8 ∨ r = 9 ∨ r = 10) with rfl | rfl | rfl | rfl | rfl | rfl | rfl | rfl | rfl | rfl | rfl <;>
      rcases (by omega : r' = 0 ∨ r' = 1 ∨ r' = 2 ∨ r' = 3 ∨ r' = 4 ∨ r' = 5 ∨ r' = 6 ∨ r' = 7 ∨ r' = 8 ∨ r' = 9 ∨ r' = 10) with rfl | rfl | rfl | rfl | rfl | rfl | rfl | rfl | rfl | rfl | rfl <;>
      first | rfl | (simp only [List.getD, List.getElem?_cons_zero, List.getElem?_cons_succ, Option.getD_some] at e; omega)
    omega
