set_option maxRecDepth 100000
/-! the component's tables: how early by just so many legs, how late with just so many left -/
def gJ (N : Nat → Nat → Nat) (n t : Nat) (e : Nat → Int) (j : Nat) : Nat → Int := va_up e (10 * n + N 9 (10 * t + j)) (if (behN N (10 * t + j) : Int) < e (10 * n + N 9 (10 * t + j)) then (behN N (10 * t + j) : Int) else e (10 * n + N 9 (10 * t + j)))
def gI (N : Nat → Nat → Nat) (Z : Nat → Int) (n t : Nat) (e : Nat → Int) (i : Nat) : Nat → Int := if (N 10 (10 * t + i) : Int) < e (10 * (n - 1) + N 9 (10 * t + i)) then e else (offL (freeB N Z t) (N 8 t - (i + 1)) (i + 1)).foldl (gJ N n t) e
def gIs (N : Nat → Nat → Nat) (Z : Nat → Int) (n t : Nat) : Nat → Nat → (Nat → Int) → Nat → Int
  | 0, _, e => e
  | r + 1, i, e => gIs N Z n t r (i + 1) (gI N Z n t e i)
def gT (N : Nat → Nat → Nat) (Z : Nat → Int) (n t : Nat) (e : Nat → Int) : Nat → Int := if N 13 t = 0 then gIs N Z n t (N 8 t) 0 e else e
def gTs (N : Nat → Nat → Nat) (Z : Nat → Int) (n : Nat) : Nat → Nat → (Nat → Int) → Nat → Int
  | 0, _, e => e
  | r + 1, t, e => gTs N Z n r (t + 1) (gT N Z n t e)
def gNs (N : Nat → Nat → Nat) (Z : Nat → Int) (T : Nat) : Nat → Nat → (Nat → Int) → Nat → Int
  | 0, _, e => e
  | r + 1, n, e => gNs N Z T r (n + 1) (gTs N Z n T 0 e)
def gAll (T : Nat) (N : Nat → Nat → Nat) (Z : Nat → Int) (f mi most : Nat) : Nat → Int := gNs N Z T most 1 (va_up (fun _ => 1000000) f (mi : Int))
def eb (e : Nat → Int) : Prop := ∀ x, -1 ≤ e x ∧ e x ≤ 1000000
theorem eb.up {e : Nat → Int} (h : eb e) {x : Nat} {v : Int} (h1 : -1 ≤ v) (h2 : v ≤ 1000000) : eb (va_up e x v) := by
  intro y
  unfold va_up
  split
  · exact ⟨h1, h2⟩
  · exact h y
/-- filled up to a place -/
def fl (c : Int) (e : Nat → Int) (k : Nat) : Nat → Int := fun j => if j < k then c else e j
theorem fl_0 (c : Int) (e : Nat → Int) : fl c e 0 = e := by
  funext j
  unfold fl
  rw [if_neg (Nat.not_lt_zero _)]
theorem fl_up (c : Int) (e : Nat → Int) (k : Nat) : va_up (fl c e k) k c = fl c e (k + 1) := by
  funext j
  unfold va_up fl
  by_cases h : j = k
  · rw [if_pos h, if_pos (by omega)]
  · rw [if_neg h]
    by_cases h2 : j < k
    · rw [if_pos h2, if_pos (by omega)]
    · rw [if_neg h2, if_neg (by omega)]
theorem va_up_eta {α : Type} (E : Nat → α) (k : Nat) : va_up E k (E k) = E := by
  funext j
  unfold va_up
  split
  · rename_i h; rw [h]
  · rfl
/-- a level of the table of the earliest is made smaller: P says which ways are new -/
def Upd (n : Nat) (e e' : Nat → Int) (P : Nat → Int → Prop) : Prop := (∀ x, (x < 10 * n ∨ 10 * n + 10 ≤ x) → e' x = e x) ∧ ∀ s k, s < 10 → (e' (10 * n + s) ≤ k ↔ e (10 * n + s) ≤ k ∨ P s k)
theorem Upd.rf {n : Nat} {e : Nat → Int} : Upd n e e (fun _ _ => False) := ⟨fun _ _ => rfl, fun s k _ => by simp⟩
theorem Upd.tr {n : Nat} {e e1 e2 : Nat → Int} {P Q R : Nat → Int → Prop} (h : Upd n e e1 P) (h' : Upd n e1 e2 Q) (hR : ∀ s k, R s k ↔ P s k ∨ Q s k) : Upd n e e2 R :=
  ⟨fun x hx => (h'.1 x hx).trans (h.1 x hx), fun s k hs => by rw [h'.2 s k hs, h.2 s k hs, hR s k, or_assoc]⟩
theorem Upd.to {n : Nat} {e e1 : Nat → Int} {P R : Nat → Int → Prop} (h : Upd n e e1 P) (hR : ∀ s k, R s k ↔ P s k) : Upd n e e1 R := ⟨h.1, fun s k hs => by rw [h.2 s k hs, hR s k]⟩
theorem gJ_upd {N : Nat → Nat → Nat} (hN : NB N) (n t j : Nat) (e : Nat → Int) : Upd n e (gJ N n t e j) (fun s k => N 9 (10 * t + j) = s ∧ (behN N (10 * t + j) : Int) ≤ k) := by
  have h9 : N 9 (10 * t + j) ≤ 9 := hN 9 _
  refine ⟨fun x hx => ?_, fun s k hs => ?_⟩
  · unfold gJ va_up
    rw [if_neg (by omega)]
  · unfold gJ va_up
    by_cases h : s = N 9 (10 * t + j)
    · subst h
      rw [if_pos rfl]
      split <;> omega
    · rw [if_neg (by omega)]
      omega
theorem gJs_upd {N : Nat → Nat → Nat} (hN : NB N) (n t : Nat) : ∀ (L : List Nat) (e : Nat → Int), Upd n e (L.foldl (gJ N n t) e) (fun s k => ∃ j, j ∈ L ∧ N 9 (10 * t + j) = s ∧ (behN N (10 * t + j) : Int) ≤ k)
  | [], e => Upd.rf.to (fun s k => ⟨fun ⟨j, h, _⟩ => (List.not_mem_nil h).elim, fun h => h.elim⟩)
  | j :: L, e => by
    rw [List.foldl_cons]
    refine (gJ_upd hN n t j e).tr (gJs_upd hN n t L _) (fun s k => ?_)
    constructor
    · rintro ⟨x, hx, h⟩
      rcases List.mem_cons.mp hx with q | q
      · subst q; exact Or.inl h
      · exact Or.inr ⟨x, q, h⟩
    · rintro (h | ⟨x, hx, h⟩)
      · exact ⟨j, List.mem_cons_self, h⟩
      · exact ⟨x, List.mem_cons_of_mem _ hx, h⟩
/-- a leg of a train from a place on that the level below comes to in time -/
def gP (N : Nat → Nat → Nat) (Z : Nat → Int) (n t i : Nat) (e : Nat → Int) (s : Nat) (k : Int) : Prop := e (10 * (n - 1) + N 9 (10 * t + i)) ≤ (N 10 (10 * t + i) : Int) ∧ ∃ j, j ∈ offL (freeB N Z t) (N 8 t - (i + 1)) (i + 1) ∧ N 9 (10 * t + j) = s ∧ (behN N (10 * t + j) : Int) ≤ k
theorem gI_upd {N : Nat → Nat → Nat} {Z : Nat → Int} (hN : NB N) (n t i : Nat) (e : Nat → Int) : Upd n e (gI N Z n t e i) (gP N Z n t i e) := by
  unfold gI
  split
  · rename_i h
    exact Upd.rf.to (fun s k => ⟨fun ⟨q, _⟩ => by omega, fun q => q.elim⟩)
  · rename_i h
    exact (gJs_upd hN n t _ e).to (fun s k => ⟨fun ⟨_, q⟩ => q, fun q => ⟨by omega, q⟩⟩)
theorem gP_to {N : Nat → Nat → Nat} {Z : Nat → Int} (hN : NB N) {n t i : Nat} {e e' : Nat → Int} (hn : 1 ≤ n) (h : ∀ x, (x < 10 * n ∨ 10 * n + 10 ≤ x) → e' x = e x) (s : Nat) (k : Int) : gP N Z n t i e' s k ↔ gP N Z n t i e s k := by
  have h9 : N 9 (10 * t + i) ≤ 9 := hN 9 _
  unfold gP
  rw [h _ (Or.inl (by omega))]
theorem gIs_upd {N : Nat → Nat → Nat} {Z : Nat → Int} (hN : NB N) {n : Nat} (hn : 1 ≤ n) (t : Nat) : ∀ (r i : Nat) (e : Nat → Int), Upd n e (gIs N Z n t r i e) (fun s k => ∃ x, i ≤ x ∧ x < i + r ∧ gP N Z n t x e s k)
  | 0, i, e => Upd.rf.to (fun s k => ⟨fun ⟨x, h1, h2, _⟩ => by omega, fun h => h.elim⟩)
  | r + 1, i, e => by
    unfold gIs
    have h1 := gI_upd (Z := Z) hN n t i e
    refine h1.tr (gIs_upd hN hn t r (i + 1) _) (fun s k => ?_)
    constructor
    · rintro ⟨x, hx, hx2, h⟩
      by_cases q : x = i
      · subst q; exact Or.inl h
      · exact Or.inr ⟨x, by omega, by omega, (gP_to hN hn h1.1 s k).mpr h⟩
    · rintro (h | ⟨x, hx, hx2, h⟩)
      · exact ⟨i, by omega, by omega, h⟩
      · exact ⟨x, by omega, by omega, (gP_to hN hn h1.1 s k).mp h⟩
theorem gT_upd {N : Nat → Nat → Nat} {Z : Nat → Int} (hN : NB N) {n : Nat} (hn : 1 ≤ n) (t : Nat) (e : Nat → Int) : Upd n e (gT N Z n t e) (fun s k => N 13 t = 0 ∧ ∃ x, x < N 8 t ∧ gP N Z n t x e s k) := by
  unfold gT
  split
  · rename_i h
    exact (gIs_upd hN hn t _ 0 e).to (fun s k => ⟨fun ⟨_, x, h1, h2⟩ => ⟨x, by omega, by omega, h2⟩, fun ⟨x, h1, h2, h3⟩ => ⟨h, x, by omega, h3⟩⟩)
  · rename_i h
    exact Upd.rf.to (fun s k => ⟨fun ⟨q, _⟩ => h q, fun q => q.elim⟩)
theorem gTs_upd {N : Nat → Nat → Nat} {Z : Nat → Int} (hN : NB N) {n : Nat} (hn : 1 ≤ n) : ∀ (r t : Nat) (e : Nat → Int), Upd n e (gTs N Z n r t e) (fun s k => ∃ y, t ≤ y ∧ y < t + r ∧ N 13 y = 0 ∧ ∃ x, x < N 8 y ∧ gP N Z n y x e s k)
  | 0, t, e => Upd.rf.to (fun s k => ⟨fun ⟨x, h1, h2, _⟩ => by omega, fun h => h.elim⟩)
  | r + 1, t, e => by
    unfold gTs
    have h1 := gT_upd (Z := Z) hN hn t e
    refine h1.tr (gTs_upd hN hn r (t + 1) _) (fun s k => ?_)
    constructor
    · rintro ⟨y, hy, hy2, h3, x, h4, h⟩
      by_cases q : y = t
      · subst q; exact Or.inl ⟨h3, x, h4, h⟩
      · exact Or.inr ⟨y, by omega, by omega, h3, x, h4, (gP_to hN hn h1.1 s k).mpr h⟩
    · rintro (⟨h3, x, h4, h⟩ | ⟨y, hy, hy2, h3, x, h4, h⟩)
      · exact ⟨t, by omega, by omega, h3, x, h4, h⟩
      · exact ⟨y, by omega, by omega, h3, x, h4, (gP_to hN hn h1.1 s k).mp h⟩
/-- a level of the table is right -/
def EA (T : Nat) (N : Nat → Nat → Nat) (Z : Nat → Int) (f mi : Nat) (e : Nat → Int) (n : Nat) : Prop := ∀ s k : Nat, s < 10 → k < 1000000 → (e (10 * n + s) ≤ (k : Int) ↔ ∃ m', m' ≤ k ∧ wy T N Z n f mi s m')
theorem EA_step {T : Nat} {N : Nat → Nat → Nat} {Z : Nat → Int} {f mi n : Nat} {e : Nat → Int} (hN : NB N) (h : EA T N Z f mi e n) (h0 : ∀ s, s < 10 → e (10 * (n + 1) + s) = 1000000) : EA T N Z f mi (gTs N Z (n + 1) T 0 e) (n + 1) := by
  intro s k hs hk
  rw [(gTs_upd hN (by omega) T 0 e).2 s k hs, h0 s hs]
  constructor
  · rintro (q | ⟨t, h1, h2, h3, i, h4, h5, j, h6, h7, h8⟩)
    · omega
    · have h9 : N 9 (10 * t + i) ≤ 9 := hN 9 _
      have h10 : N 10 (10 * t + i) ≤ 1439 := hN 10 _
      rw [show n + 1 - 1 = n by omega] at h5
      obtain ⟨m1, hm1, hw⟩ := (h _ _ (by omega) (by omega)).mp h5
      refine ⟨behN N (10 * t + j), by omega, (wy_snoc n f mi s _).mpr ⟨_, m1, (t, i, j), hw, ?_, h7.symm, rfl⟩⟩
      obtain ⟨r1, r2, r3⟩ := mem_offL _ _ _ h6
      exact (mem_legsA T 0).mpr ⟨Nat.zero_le _, by show t < 0 + T; omega, by show i < j; omega, by show j < N 8 t; omega, rfl, hm1, fun x (q1 : i ≤ x) (q2 : x < j) => r3 x (by omega) q2⟩
  · rintro ⟨m', hm, hw⟩
    obtain ⟨s1, m1, ⟨t, i, j⟩, h1, h2, h3, h4⟩ := (wy_snoc n f mi s m').mp hw
    obtain ⟨r1, r2, r3, r4, r5, r6, r7⟩ := (mem_legsA T 0).mp h2
    dsimp only at r1 r2 r3 r4 r5 r6 r7
    have h9 : N 9 (10 * t + i) ≤ 9 := hN 9 _
    have h10 : N 10 (10 * t + i) ≤ 1439 := hN 10 _
    have hf := r7 i (Nat.le_refl _) r3
    unfold freeB at hf
    have hf := of_decide_eq_true hf
    refine Or.inr ⟨t, Nat.zero_le _, by omega, hf.1, i, by omega, ?_, j, in_offL _ _ _ (by omega) (by omega) (by omega) (fun x q1 q2 => r7 x (by omega) q2), h3.symm, ?_⟩
    · rw [show n + 1 - 1 = n by omega]
      exact (h _ _ (by omega) (by omega)).mpr ⟨m1, r6, by rw [r5]; exact h1⟩
    · have h4 : m' = behN N (10 * t + j) := h4
      omega
theorem EA_keep {T : Nat} {N : Nat → Nat → Nat} {Z : Nat → Int} {f mi n : Nat} {e e' : Nat → Int} (h : EA T N Z f mi e n) (he : ∀ s, s < 10 → e' (10 * n + s) = e (10 * n + s)) : EA T N Z f mi e' n := fun s k hs hk => by rw [he s hs]; exact h s k hs hk
theorem gNs_EA {T : Nat} {N : Nat → Nat → Nat} {Z : Nat → Int} {f mi : Nat} (hN : NB N) : ∀ (r n : Nat) (e : Nat → Int), (∀ x, x ≤ n → EA T N Z f mi e x) → (∀ x, 10 * (n + 1) ≤ x → e x = 1000000) → ∀ x, x ≤ n + r → EA T N Z f mi (gNs N Z T r (n + 1) e) x
  | 0, n, e, h, _, x, hx => h x hx
  | r + 1, n, e, h, h0, x, hx => by
    unfold gNs
    have hu := gTs_upd (Z := Z) hN (n := n + 1) (by omega) T 0 e
    refine gNs_EA hN r (n + 1) _ (fun y hy => ?_) (fun y hy => ?_) x (by omega)
    · by_cases q : y = n + 1
      · subst q
        exact EA_step hN (h n (Nat.le_refl _)) (fun s hs => h0 _ (by omega))
      · exact EA_keep (h y (by omega)) (fun s hs => hu.1 _ (Or.inl (by omega)))
    · rw [hu.1 y (Or.inr (by omega))]
      exact h0 y (by omega)
theorem gAll_EA {T : Nat} {N : Nat → Nat → Nat} {Z : Nat → Int} {f mi most : Nat} (hN : NB N) (hf : f < 10) (x : Nat) (hx : x ≤ most) : EA T N Z f mi (gAll T N Z f mi most) x := by
  refine gNs_EA hN most 0 _ (fun y hy => ?_) (fun y hy => ?_) x (by omega)
  · rw [show y = 0 by omega]
    intro s k hs hk
    unfold va_up
    constructor
    · intro h
      by_cases q : 10 * 0 + s = f
      · rw [if_pos q] at h
        exact ⟨mi, by omega, by omega, rfl⟩
      · rw [if_neg q] at h
        dsimp only at h
        omega
    · rintro ⟨m', h1, h2, h3⟩
      rw [if_pos (by omega)]
      omega
  · unfold va_up
    rw [if_neg (by omega)]
/-! the table of the latest -/
def ldR (N : Nat → Nat → Nat) (Z : Nat → Int) (e : Nat → Int) (n t r j : Nat) : Int := match (offL (freeB N Z t) r j).find? (fun j => decide ((behN N (10 * t + j) : Int) ≤ e (10 * (n - 1) + N 9 (10 * t + j)))) with
  | some j => (j : Int)
  | none => -1
def ldF (N : Nat → Nat → Nat) (Z : Nat → Int) (e : Nat → Int) (n t i : Nat) : Int := ldR N Z e n t (N 8 t - (i + 1)) (i + 1)
theorem ldR_0 {N : Nat → Nat → Nat} {Z : Nat → Int} {e : Nat → Int} {n t j : Nat} : ldR N Z e n t 0 j = -1 := rfl
theorem ldR_stop {N : Nat → Nat → Nat} {Z : Nat → Int} {e : Nat → Int} {n t r j : Nat} (h : ¬ freeB N Z t (j - 1) = true) : ldR N Z e n t (r + 1) j = -1 := by
  unfold ldR offL
  rw [if_neg h]
  rfl
theorem ldR_hit {N : Nat → Nat → Nat} {Z : Nat → Int} {e : Nat → Int} {n t r j : Nat} (h : freeB N Z t (j - 1) = true) (hc : (behN N (10 * t + j) : Int) ≤ e (10 * (n - 1) + N 9 (10 * t + j))) : ldR N Z e n t (r + 1) j = j := by
  unfold ldR offL
  rw [if_pos h, List.find?_cons, decide_eq_true hc]
theorem ldR_next {N : Nat → Nat → Nat} {Z : Nat → Int} {e : Nat → Int} {n t r j : Nat} (h : freeB N Z t (j - 1) = true) (hc : ¬ (behN N (10 * t + j) : Int) ≤ e (10 * (n - 1) + N 9 (10 * t + j))) : ldR N Z e n t (r + 1) j = ldR N Z e n t r (j + 1) := by
  conv => lhs; unfold ldR offL
  rw [if_pos h, List.find?_cons, decide_eq_false hc]
  rfl
theorem ldF_iff {N : Nat → Nat → Nat} {Z : Nat → Int} {e : Nat → Int} {n t i : Nat} : (i : Int) < ldF N Z e n t i ↔ ∃ j, j ∈ offL (freeB N Z t) (N 8 t - (i + 1)) (i + 1) ∧ (behN N (10 * t + j) : Int) ≤ e (10 * (n - 1) + N 9 (10 * t + j)) := by
  unfold ldF ldR
  cases hc : (offL (freeB N Z t) (N 8 t - (i + 1)) (i + 1)).find? (fun j => decide ((behN N (10 * t + j) : Int) ≤ e (10 * (n - 1) + N 9 (10 * t + j)))) with
  | none =>
    dsimp only
    constructor
    · intro h; omega
    · rintro ⟨j, h1, h2⟩
      have := List.find?_eq_none.mp hc j h1
      exact absurd (decide_eq_true h2) this
  | some j =>
    dsimp only
    have h1 := List.mem_of_find?_eq_some hc
    have h2 := List.find?_some hc
    have h3 := mem_offL _ _ _ h1
    constructor
    · intro _
      exact ⟨j, h1, of_decide_eq_true h2⟩
    · intro _
      omega
theorem ldF_cases {N : Nat → Nat → Nat} {Z : Nat → Int} {e : Nat → Int} {n t i : Nat} : ldF N Z e n t i = -1 ∨ ∃ j : Nat, ldF N Z e n t i = j ∧ i < j ∧ j < N 8 t := by
  unfold ldF ldR
  cases hc : (offL (freeB N Z t) (N 8 t - (i + 1)) (i + 1)).find? (fun j => decide ((behN N (10 * t + j) : Int) ≤ e (10 * (n - 1) + N 9 (10 * t + j)))) with
  | none => exact Or.inl rfl
  | some j =>
    have h3 := mem_offL _ _ _ (List.mem_of_find?_eq_some hc)
    exact Or.inr ⟨j, rfl, by omega, by omega⟩
def cI (N : Nat → Nat → Nat) (Z : Nat → Int) (n t : Nat) (e : Nat → Int) (i : Nat) : Nat → Int := if (i : Int) < ldF N Z e n t i then va_up e (10 * n + N 9 (10 * t + i)) (if e (10 * n + N 9 (10 * t + i)) < (N 10 (10 * t + i) : Int) then (N 10 (10 * t + i) : Int) else e (10 * n + N 9 (10 * t + i))) else e
def cIs (N : Nat → Nat → Nat) (Z : Nat → Int) (n t : Nat) : Nat → Nat → (Nat → Int) → Nat → Int
  | 0, _, e => e
  | r + 1, i, e => cIs N Z n t r (i + 1) (cI N Z n t e i)
def cT (N : Nat → Nat → Nat) (Z : Nat → Int) (n t : Nat) (e : Nat → Int) : Nat → Int := if N 13 t = 0 then cIs N Z n t (N 8 t) 0 e else e
def cTs (N : Nat → Nat → Nat) (Z : Nat → Int) (n : Nat) : Nat → Nat → (Nat → Int) → Nat → Int
  | 0, _, e => e
  | r + 1, t, e => cTs N Z n r (t + 1) (cT N Z n t e)
def cNs (N : Nat → Nat → Nat) (Z : Nat → Int) (T : Nat) : Nat → Nat → (Nat → Int) → Nat → Int
  | 0, _, e => e
  | r + 1, n, e => cNs N Z T r (n + 1) (cTs N Z n T 0 e)
def cAll (T : Nat) (N : Nat → Nat → Nat) (Z : Nat → Int) (to best few : Nat) : Nat → Int := cNs N Z T few 1 (va_up (fun _ => -1) to (best : Int))
def Ups (n : Nat) (e e' : Nat → Int) (P : Nat → Int → Prop) : Prop := (∀ x, (x < 10 * n ∨ 10 * n + 10 ≤ x) → e' x = e x) ∧ ∀ s k, s < 10 → (k ≤ e' (10 * n + s) ↔ k ≤ e (10 * n + s) ∨ P s k)
theorem Ups.rf {n : Nat} {e : Nat → Int} : Ups n e e (fun _ _ => False) := ⟨fun _ _ => rfl, fun s k _ => by simp⟩
theorem Ups.tr {n : Nat} {e e1 e2 : Nat → Int} {P Q R : Nat → Int → Prop} (h : Ups n e e1 P) (h' : Ups n e1 e2 Q) (hR : ∀ s k, R s k ↔ P s k ∨ Q s k) : Ups n e e2 R :=
  ⟨fun x hx => (h'.1 x hx).trans (h.1 x hx), fun s k hs => by rw [h'.2 s k hs, h.2 s k hs, hR s k, or_assoc]⟩
theorem Ups.to {n : Nat} {e e1 : Nat → Int} {P R : Nat → Int → Prop} (h : Ups n e e1 P) (hR : ∀ s k, R s k ↔ P s k) : Ups n e e1 R := ⟨h.1, fun s k hs => by rw [h.2 s k hs, hR s k]⟩
def cP (N : Nat → Nat → Nat) (Z : Nat → Int) (n t i : Nat) (e : Nat → Int) (s : Nat) (k : Int) : Prop := N 9 (10 * t + i) = s ∧ k ≤ (N 10 (10 * t + i) : Int) ∧ ∃ j, j ∈ offL (freeB N Z t) (N 8 t - (i + 1)) (i + 1) ∧ (behN N (10 * t + j) : Int) ≤ e (10 * (n - 1) + N 9 (10 * t + j))
theorem cI_ups {N : Nat → Nat → Nat} {Z : Nat → Int} (hN : NB N) (n t i : Nat) (e : Nat → Int) : Ups n e (cI N Z n t e i) (cP N Z n t i e) := by
  have h9 : N 9 (10 * t + i) ≤ 9 := hN 9 _
  unfold cI
  by_cases h : (i : Int) < ldF N Z e n t i
  · rw [if_pos h]
    have hx := ldF_iff.mp h
    refine ⟨fun x hx => ?_, fun s k hs => ?_⟩
    · unfold va_up
      rw [if_neg (by omega)]
    · unfold va_up cP
      by_cases q : s = N 9 (10 * t + i)
      · subst q
        rw [if_pos rfl]
        constructor
        · intro r
          split at r
          · rcases Int.lt_or_le (e (10 * n + N 9 (10 * t + i))) k with z | z
            · exact Or.inr ⟨rfl, r, hx⟩
            · exact Or.inl z
          · exact Or.inl r
        · rintro (r | ⟨_, r, _⟩)
          · split <;> omega
          · split <;> omega
      · rw [if_neg (by omega)]
        exact ⟨Or.inl, fun r => r.elim id (fun z => absurd z.1.symm q)⟩
  · rw [if_neg h]
    exact Ups.rf.to (fun s k => ⟨fun q => absurd (ldF_iff.mpr q.2.2) h, fun q => q.elim⟩)
theorem cP_to {N : Nat → Nat → Nat} {Z : Nat → Int} (hN : NB N) {n t i : Nat} {e e' : Nat → Int} (hn : 1 ≤ n) (h : ∀ x, (x < 10 * n ∨ 10 * n + 10 ≤ x) → e' x = e x) (s : Nat) (k : Int) : cP N Z n t i e' s k ↔ cP N Z n t i e s k := by
  unfold cP
  constructor
  · rintro ⟨a, b, j, h1, h2⟩
    have h9 : N 9 (10 * t + j) ≤ 9 := hN 9 _
    rw [h _ (Or.inl (by omega))] at h2
    exact ⟨a, b, j, h1, h2⟩
  · rintro ⟨a, b, j, h1, h2⟩
    have h9 : N 9 (10 * t + j) ≤ 9 := hN 9 _
    exact ⟨a, b, j, h1, by rw [h _ (Or.inl (by omega))]; exact h2⟩
theorem cIs_ups {N : Nat → Nat → Nat} {Z : Nat → Int} (hN : NB N) {n : Nat} (hn : 1 ≤ n) (t : Nat) : ∀ (r i : Nat) (e : Nat → Int), Ups n e (cIs N Z n t r i e) (fun s k => ∃ x, i ≤ x ∧ x < i + r ∧ cP N Z n t x e s k)
  | 0, i, e => Ups.rf.to (fun s k => ⟨fun ⟨x, h1, h2, _⟩ => by omega, fun h => h.elim⟩)
  | r + 1, i, e => by
    unfold cIs
    have h1 := cI_ups (Z := Z) hN n t i e
    refine h1.tr (cIs_ups hN hn t r (i + 1) _) (fun s k => ?_)
    constructor
    · rintro ⟨x, hx, hx2, h⟩
      by_cases q : x = i
      · subst q; exact Or.inl h
      · exact Or.inr ⟨x, by omega, by omega, (cP_to hN hn h1.1 s k).mpr h⟩
    · rintro (h | ⟨x, hx, hx2, h⟩)
      · exact ⟨i, by omega, by omega, h⟩
      · exact ⟨x, by omega, by omega, (cP_to hN hn h1.1 s k).mp h⟩
theorem cT_ups {N : Nat → Nat → Nat} {Z : Nat → Int} (hN : NB N) {n : Nat} (hn : 1 ≤ n) (t : Nat) (e : Nat → Int) : Ups n e (cT N Z n t e) (fun s k => N 13 t = 0 ∧ ∃ x, x < N 8 t ∧ cP N Z n t x e s k) := by
  unfold cT
  split
  · rename_i h
    exact (cIs_ups hN hn t _ 0 e).to (fun s k => ⟨fun ⟨_, x, h1, h2⟩ => ⟨x, by omega, by omega, h2⟩, fun ⟨x, h1, h2, h3⟩ => ⟨h, x, by omega, h3⟩⟩)
  · rename_i h
    exact Ups.rf.to (fun s k => ⟨fun ⟨q, _⟩ => h q, fun q => q.elim⟩)
theorem cTs_ups {N : Nat → Nat → Nat} {Z : Nat → Int} (hN : NB N) {n : Nat} (hn : 1 ≤ n) : ∀ (r t : Nat) (e : Nat → Int), Ups n e (cTs N Z n r t e) (fun s k => ∃ y, t ≤ y ∧ y < t + r ∧ N 13 y = 0 ∧ ∃ x, x < N 8 y ∧ cP N Z n y x e s k)
  | 0, t, e => Ups.rf.to (fun s k => ⟨fun ⟨x, h1, h2, _⟩ => by omega, fun h => h.elim⟩)
  | r + 1, t, e => by
    unfold cTs
    have h1 := cT_ups (Z := Z) hN hn t e
    refine h1.tr (cTs_ups hN hn r (t + 1) _) (fun s k => ?_)
    constructor
    · rintro ⟨y, hy, hy2, h3, x, h4, h⟩
      by_cases q : y = t
      · subst q; exact Or.inl ⟨h3, x, h4, h⟩
      · exact Or.inr ⟨y, by omega, by omega, h3, x, h4, (cP_to hN hn h1.1 s k).mpr h⟩
    · rintro (⟨h3, x, h4, h⟩ | ⟨y, hy, hy2, h3, x, h4, h⟩)
      · exact ⟨t, by omega, by omega, h3, x, h4, h⟩
      · exact ⟨y, by omega, by omega, h3, x, h4, (cP_to hN hn h1.1 s k).mp h⟩
def LA (T : Nat) (N : Nat → Nat → Nat) (Z : Nat → Int) (to best : Nat) (e : Nat → Int) (n : Nat) : Prop := ∀ s m : Nat, s < 10 → ((m : Int) ≤ e (10 * n + s) ↔ ∃ m', m' ≤ best ∧ wy T N Z n s m to m')
theorem LA_step {T : Nat} {N : Nat → Nat → Nat} {Z : Nat → Int} {to best n : Nat} {e : Nat → Int} (hN : NB N) (h : LA T N Z to best e n) (h0 : ∀ s, s < 10 → e (10 * (n + 1) + s) = -1) : LA T N Z to best (cTs N Z (n + 1) T 0 e) (n + 1) := by
  intro s m hs
  rw [(cTs_ups hN (by omega) T 0 e).2 s m hs, h0 s hs]
  constructor
  · rintro (q | ⟨t, h1, h2, h3, i, h4, h5, h6, j, h7, h8⟩)
    · omega
    · have h9 : N 9 (10 * t + j) ≤ 9 := hN 9 _
      rw [show n + 1 - 1 = n by omega] at h8
      obtain ⟨m', hm', hw⟩ := (h _ _ (by omega)).mp h8
      obtain ⟨r1, r2, r3⟩ := mem_offL _ _ _ h7
      exact ⟨m', hm', (t, i, j), (mem_legsA T 0).mpr ⟨Nat.zero_le _, by show t < 0 + T; omega, by show i < j; omega, by show j < N 8 t; omega, h5, by show m ≤ N 10 (10 * t + i); omega, fun x (q1 : i ≤ x) (q2 : x < j) => r3 x (by omega) q2⟩, hw⟩
  · rintro ⟨m', hm, ⟨t, i, j⟩, h2, hw⟩
    obtain ⟨r1, r2, r3, r4, r5, r6, r7⟩ := (mem_legsA T 0).mp h2
    dsimp only at r1 r2 r3 r4 r5 r6 r7
    have h9 : N 9 (10 * t + j) ≤ 9 := hN 9 _
    have hf := r7 i (Nat.le_refl _) r3
    unfold freeB at hf
    have hf := of_decide_eq_true hf
    refine Or.inr ⟨t, Nat.zero_le _, by omega, hf.1, i, by omega, r5, by omega, j, in_offL _ _ _ (by omega) (by omega) (by omega) (fun x q1 q2 => r7 x (by omega) q2), ?_⟩
    rw [show n + 1 - 1 = n by omega]
    exact (h _ _ (by omega)).mpr ⟨m', hm, hw⟩
theorem LA_keep {T : Nat} {N : Nat → Nat → Nat} {Z : Nat → Int} {to best n : Nat} {e e' : Nat → Int} (h : LA T N Z to best e n) (he : ∀ s, s < 10 → e' (10 * n + s) = e (10 * n + s)) : LA T N Z to best e' n := fun s m hs => by rw [he s hs]; exact h s m hs
theorem cNs_LA {T : Nat} {N : Nat → Nat → Nat} {Z : Nat → Int} {to best : Nat} (hN : NB N) : ∀ (r n : Nat) (e : Nat → Int), (∀ x, x ≤ n → LA T N Z to best e x) → (∀ x, 10 * (n + 1) ≤ x → e x = -1) → ∀ x, x ≤ n + r → LA T N Z to best (cNs N Z T r (n + 1) e) x
  | 0, n, e, h, _, x, hx => h x hx
  | r + 1, n, e, h, h0, x, hx => by
    unfold cNs
    have hu := cTs_ups (Z := Z) hN (n := n + 1) (by omega) T 0 e
    refine cNs_LA hN r (n + 1) _ (fun y hy => ?_) (fun y hy => ?_) x (by omega)
    · by_cases q : y = n + 1
      · subst q
        exact LA_step hN (h n (Nat.le_refl _)) (fun s hs => h0 _ (by omega))
      · exact LA_keep (h y (by omega)) (fun s hs => hu.1 _ (Or.inl (by omega)))
    · rw [hu.1 y (Or.inr (by omega))]
      exact h0 y (by omega)
theorem cAll_LA {T : Nat} {N : Nat → Nat → Nat} {Z : Nat → Int} {to best few : Nat} (hN : NB N) (hf : to < 10) (x : Nat) (hx : x ≤ few) : LA T N Z to best (cAll T N Z to best few) x := by
  refine cNs_LA hN few 0 _ (fun y hy => ?_) (fun y hy => ?_) x (by omega)
  · rw [show y = 0 by omega]
    intro s m hs
    unfold va_up
    constructor
    · intro h
      by_cases q : 10 * 0 + s = to
      · rw [if_pos q] at h
        exact ⟨m, by omega, by omega, rfl⟩
      · rw [if_neg q] at h
        dsimp only at h
        omega
    · rintro ⟨m', h1, h2, h3⟩
      rw [if_pos (by omega)]
      omega
  · unfold va_up
    rw [if_neg (by omega)]
