set_option maxRecDepth 100000
/-! the reference: words for what it reads -/
def wayN (N : Nat → Nat → Nat) (b : Nat) : Nat := 2 * b + N 21 b
def frN (N : Nat → Nat → Nat) (b : Nat) : Nat := if N 21 b = 0 then N 14 b else N 17 b
def toN (N : Nat → Nat → Nat) (b : Nat) : Nat := if N 21 b = 0 then N 17 b else N 14 b
def rdN (N : Nat → Nat → Nat) (b : Nat) : Nat := if N 21 b = 0 then N 16 b else N 20 b
def wkF (N : Nat → Nat → Nat) (b : Nat) : Nat := if N 21 b = 0 then N 15 b else N 18 b
def wkT (N : Nat → Nat → Nat) (b : Nat) : Nat := if N 21 b = 0 then N 18 b else N 15 b
/-- when what gets off at a node is sorted -/
def behN (N : Nat → Nat → Nat) (n : Nat) : Nat := N 10 n + N 6 (N 9 n)
def srtN (N : Nat → Nat → Nat) (b : Nat) : Nat := rdN N b + wkF N b + N 6 (frN N b)
def legB (N : Nat → Nat → Nat) (l : Nat) : Nat := behN N (10 * N 27 l + N 29 l)
def thrN (N : Nat → Nat → Nat) (w b : Nat) : Nat := if N 24 w = 0 then srtN N b else legB N (3 * w + (N 24 w - 1))
def arrN (N : Nat → Nat → Nat) (b : Nat) : Int := if N 23 (wayN N b) = 0 then -1 else (thrN N (wayN N b) b : Int) + wkT N b
theorem frN_lt {N : Nat → Nat → Nat} (h : NB N) (b : Nat) : frN N b ≤ 9 := by
  unfold frN
  split
  · exact h 14 b
  · exact h 17 b
theorem toN_lt {N : Nat → Nat → Nat} (h : NB N) (b : Nat) : toN N b ≤ 9 := by
  unfold toN
  split
  · exact h 17 b
  · exact h 14 b
theorem rdN_le {N : Nat → Nat → Nat} (h : NB N) (b : Nat) : rdN N b ≤ 1439 := by
  unfold rdN
  split
  · exact h 16 b
  · exact h 20 b
theorem wkF_le {N : Nat → Nat → Nat} (h : NB N) (b : Nat) : wkF N b ≤ 120 := by
  unfold wkF
  split
  · exact h 15 b
  · exact h 18 b
theorem wkT_le {N : Nat → Nat → Nat} (h : NB N) (b : Nat) : wkT N b ≤ 120 := by
  unfold wkT
  split
  · exact h 18 b
  · exact h 15 b
theorem behN_le {N : Nat → Nat → Nat} (h : NB N) (n : Nat) : behN N n ≤ 1499 := by
  have h1 : N 10 n ≤ 1439 := h 10 n
  have h2 : N 6 (N 9 n) ≤ 60 := h 6 _
  unfold behN
  omega
theorem srtN_le {N : Nat → Nat → Nat} (h : NB N) (b : Nat) : srtN N b ≤ 1619 := by
  have h1 := rdN_le h b
  have h2 := wkF_le h b
  have h3 : N 6 (frN N b) ≤ 60 := h 6 _
  unfold srtN
  omega
theorem thrN_le {N : Nat → Nat → Nat} (h : NB N) (w b : Nat) : thrN N w b ≤ 1619 := by
  unfold thrN
  split
  · exact srtN_le h b
  · exact Nat.le_trans (behN_le h _) (by decide)
theorem wayN_lt {N : Nat → Nat → Nat} (h : NB N) {b : Nat} (hb : b < 60) : wayN N b < 120 := by
  have h1 : N 21 b ≤ 1 := h 21 b
  unfold wayN
  omega
theorem arrN_le {N : Nat → Nat → Nat} (h : NB N) (b : Nat) : -1 ≤ arrN N b ∧ arrN N b ≤ 1739 := by
  unfold arrN
  split
  · omega
  · have h1 := thrN_le h (wayN N b) b
    have h2 := wkT_le h b
    omega
/-! the calls, as functions of what both sides hold -/
def opStation (F : Nat → Nat) (N : Nat → Nat → Nat) (s : Int) : Int × (Nat → Nat) × (Nat → Nat → Nat) := if F 2 = 10 ∨ s < 0 ∨ 60 < s then (-1, F, N) else ((F 2 : Int), va_up F 2 (F 2 + 1), up2 N 6 (F 2) s.toNat)
def opTrain (F : Nat → Nat) (N : Nat → Nat → Nat) (s : Int) : Int × (Nat → Nat) × (Nat → Nat → Nat) := if F 3 = 16 ∨ s < 1 ∨ 40 < s then (-1, F, N) else ((F 3 : Int), va_up F 3 (F 3 + 1), up2 N 7 (F 3) s.toNat)
def opCarrier (F : Nat → Nat) (N : Nat → Nat → Nat) (s : Int) : Int × (Nat → Nat) × (Nat → Nat → Nat) := if F 5 = 40 ∨ s < 0 ∨ 31 < s then (-1, F, N) else ((F 5 : Int), va_up F 5 (F 5 + 1), up2 N 12 (F 5) s.toNat)
def boxN (N : Nat → Nat → Nat) (b h w r d wt u : Nat) : Nat → Nat → Nat := up2 (up2 (up2 (up2 (up2 (up2 N 14 b h) 15 b w) 16 b r) 17 b d) 18 b wt) 19 b u
def okBox (F : Nat → Nat) (h w r d wt u : Int) : Prop := 0 ≤ h ∧ h < F 2 ∧ 0 ≤ d ∧ d < F 2 ∧ 0 ≤ w ∧ w ≤ 120 ∧ 0 ≤ wt ∧ wt ≤ 120 ∧ 0 ≤ r ∧ r ≤ 1439 ∧ 0 ≤ u ∧ u ≤ 1439 ∧ F 4 ≠ 60
/-- the i-th leg of a box: those there ahead of those back -/
def legI (N : Nat → Nat → Nat) (b i : Nat) : Nat := if i < N 24 (2 * b) then 3 * (2 * b) + i else 3 * (2 * b + 1) + (i - N 24 (2 * b))
def legW (N : Nat → Nat → Nat) (b i w : Nat) : Nat := if w = 0 then N 27 (legI N b i) else if w = 1 then N 28 (legI N b i) else N 29 (legI N b i)
/-! counting, the first of some, any of some -/
def lst (P : Nat → Bool) : Nat → Nat
  | 0 => 0
  | n + 1 => if P 0 = true then 0 else lst (fun i => P (i + 1)) n + 1
theorem lst_eq : ∀ (a n : Nat) (P : Nat → Bool), P a = true → (∀ i, i < a → P i = false) → a ≤ n → lst P n = a
  | 0, 0, P, h, _, _ => rfl
  | 0, n + 1, P, h, _, _ => by simp [lst, h]
  | a + 1, 0, P, _, _, h => by omega
  | a + 1, n + 1, P, h, hl, hn => by
    have h0 := hl 0 (by omega)
    have := lst_eq a n (fun i => P (i + 1)) h (fun i hi => hl (i + 1) (by omega)) (by omega)
    simp [lst, h0, this]
def cntB (P : Nat → Bool) : Nat → Nat
  | 0 => 0
  | n + 1 => cntB P n + (if P n = true then 1 else 0)
theorem cntB_le (P : Nat → Bool) : ∀ n, cntB P n ≤ n
  | 0 => Nat.le_refl _
  | n + 1 => by
    have := cntB_le P n
    unfold cntB
    split <;> omega
def anyB (P : Nat → Bool) : Nat → Bool
  | 0 => false
  | n + 1 => anyB P n || P n
theorem anyB_iff (P : Nat → Bool) : ∀ n, anyB P n = true ↔ ∃ k, k < n ∧ P k = true
  | 0 => by simp [anyB]
  | n + 1 => by
    have ih := anyB_iff P n
    unfold anyB
    rw [Bool.or_eq_true, ih]
    constructor
    · rintro (⟨k, h1, h2⟩ | h)
      · exact ⟨k, by omega, h2⟩
      · exact ⟨n, by omega, h⟩
    · rintro ⟨k, h1, h2⟩
      rcases Nat.lt_or_ge k n with q | q
      · exact Or.inl ⟨k, q, h2⟩
      · have : k = n := by omega
        exact Or.inr (this ▸ h2)
/-! the same way there -/
def eqL (N : Nat → Nat → Nat) (a b i : Nat) : Bool := decide (N 27 (3 * (2 * a) + i) = N 27 (3 * (2 * b) + i) ∧ N 28 (3 * (2 * a) + i) = N 28 (3 * (2 * b) + i) ∧ N 29 (3 * (2 * a) + i) = N 29 (3 * (2 * b) + i))
def alk (N : Nat → Nat → Nat) (a b : Nat) : Bool := decide (N 24 (2 * a) = N 24 (2 * b)) && !anyB (fun i => !eqL N a b i) (N 24 (2 * a))
theorem alk_self (N : Nat → Nat → Nat) (b : Nat) : alk N b b = true := by
  unfold alk
  have h : anyB (fun i => !eqL N b b i) (N 24 (2 * b)) = false := by
    rw [Bool.eq_false_iff]
    intro h
    obtain ⟨k, -, h2⟩ := (anyB_iff _ _).mp h
    simp [eqL] at h2
  simp [h]
theorem alk_no {N : Nat → Nat → Nat} {a b i : Nat} (hi : i < N 24 (2 * a)) (h : eqL N a b i = false) : alk N a b = false := by
  unfold alk
  have : anyB (fun i => !eqL N a b i) (N 24 (2 * a)) = true := (anyB_iff _ _).mpr ⟨i, hi, by simp [h]⟩
  simp [this]
theorem alk_yes {N : Nat → Nat → Nat} {a b : Nat} (h0 : N 24 (2 * a) = N 24 (2 * b)) (h : ∀ i, i < N 24 (2 * a) → eqL N a b i = true) : alk N a b = true := by
  unfold alk
  have : anyB (fun i => !eqL N a b i) (N 24 (2 * a)) = false := by
    rw [Bool.eq_false_iff]
    intro q
    obtain ⟨k, h1, h2⟩ := (anyB_iff _ _).mp q
    simp [h k h1] at h2
  rw [this, decide_eq_true h0]
  rfl
/-- the first box with a way there like that of b; how many such firsts there are -/
def flB (hs : Nat → Bool) (N : Nat → Nat → Nat) (b : Nat) : Nat := lst (fun a => hs a && alk N a b) b
def mkB (hs : Nat → Bool) (N : Nat → Nat → Nat) (a : Nat) : Bool := hs a && decide (flB hs N a = a)
def hsM (N : Nat → Nat → Nat) (a : Nat) : Bool := decide (N 23 (2 * a) ≠ 0)
/-! where a box is -/
def wlp (now : Nat) (a b : Nat → Nat) (z : Int) : Nat → Nat → Int
  | 0, _ => z
  | r + 1, i => if now < a i then 1 else if now < b i then 2 else wlp now a b z r (i + 1)
def onM (N : Nat → Nat → Nat) (w i : Nat) : Nat := N 10 (10 * N 27 (3 * w + i) + N 28 (3 * w + i))
def ofM (N : Nat → Nat → Nat) (w i : Nat) : Nat := N 10 (10 * N 27 (3 * w + i) + N 29 (3 * w + i))
def whM (F : Nat → Nat) (N : Nat → Nat → Nat) (b : Nat) : Int := if rdN N b ≤ F 1 ∧ N 22 (wayN N b) ≠ 0 then wlp (F 1) (onM N (wayN N b)) (ofM N (wayN N b)) (if N 23 (wayN N b) = 0 ∨ F 1 < thrN N (wayN N b) b then 1 else if (F 1 : Int) < arrN N b then 3 else 4) (N 24 (wayN N b)) 0 else 0
def ltB (N : Nat → Nat → Nat) (b : Nat) : Bool := decide ((if N 21 b = 0 then (N 19 b : Int) else 1439) < arrN N b)
def ofV (F : Nat → Nat) (N : Nat → Nat → Nat) (b w : Nat) : Int := if w = 0 then N 24 (wayN N b) else if w = 1 then arrN N b else if w = 2 then (if rdN N b ≤ F 1 ∧ N 22 (wayN N b) ≠ 0 then 1 else 0) else if w = 3 then (if (if N 21 b = 0 then (N 19 b : Int) else 1439) < arrN N b then 1 else 0) else if w = 4 then (N 25 (wayN N b) : Int) - 1 else if w = 5 then (if N 25 (wayN N b) = 0 then -1 else (N 26 (wayN N b) : Int)) else N 21 b
def okEmpty (F : Nat → Nat) (N : Nat → Nat → Nat) (b : Nat) (r : Int) : Prop := N 21 b = 0 ∧ arrN N b ≠ -1 ∧ arrN N b ≤ F 1 ∧ F 1 ≤ r ∧ r ≤ 1439
def cntV (F : Nat → Nat) (N : Nat → Nat → Nat) (w : Nat) : Nat := if w = 0 then F 2 else if w = 1 then F 3 else if w = 2 then F 4 else if w = 3 then F 1 else if w = 4 then cntB (fun b => decide (N 23 (wayN N b) ≠ 0)) (F 4) else if w = 5 then cntB (ltB N) (F 4) else if w = 6 then cntB (mkB (hsM N) N) (F 4) else F 5
/-! a stop more -/
def okStop (F : Nat → Nat) (N : Nat → Nat → Nat) (t : Nat) (s m : Int) : Prop := N 8 t ≠ 10 ∧ 0 ≤ s ∧ s < F 2 ∧ 0 ≤ m ∧ m ≤ 1439 ∧ ¬ (0 < N 8 t ∧ (m ≤ N 10 (10 * t + (N 8 t - 1)) ∨ (N 9 (10 * t + (N 8 t - 1)) : Int) = s))
def stopN (N : Nat → Nat → Nat) (t s m : Nat) : Nat → Nat → Nat := up2 (up2 (up2 N 9 (10 * t + N 8 t) s) 10 (10 * t + N 8 t) m) 8 t (N 8 t + 1)
/-! loads -/
def adZ (Z : Nat → Int) (v : Int) (lo hi : Nat) : Nat → Int := fun x => Z x + (if lo ≤ x ∧ x < hi then v else 0)
theorem adZ_0 (Z : Nat → Int) (v : Int) (lo : Nat) : adZ Z v lo lo = Z := by
  funext x
  unfold adZ
  rw [if_neg (by omega)]
  omega
theorem adZ_up (Z : Nat → Int) (v : Int) {lo n : Nat} (h : lo ≤ n) : va_up (adZ Z v lo n) n (Z n + v) = adZ Z v lo (n + 1) := by
  funext x
  unfold va_up adZ
  by_cases hx : x = n
  · subst hx
    rw [if_pos rfl, if_pos (by omega)]
  · rw [if_neg hx]
    by_cases hq : lo ≤ x ∧ x < n
    · rw [if_pos hq, if_pos (by omega)]
    · rw [if_neg hq, if_neg (by omega)]
theorem adZ_at (Z : Nat → Int) (v : Int) (lo n : Nat) : adZ Z v lo n n = Z n := by
  unfold adZ
  rw [if_neg (by omega)]
  omega
theorem adZ_no (Z : Nat → Int) (v : Int) {lo hi : Nat} (h : hi ≤ lo) : adZ Z v lo hi = Z := by
  funext x
  unfold adZ
  rw [if_neg (by omega)]
  omega
/-- the loads with those of the legs a, a + 1 .. (n of them) of a way -/
def ldZ (N : Nat → Nat → Nat) (w : Nat) (v : Int) (a : Nat) : Nat → (Nat → Int) → (Nat → Int)
  | 0, Z => Z
  | n + 1, Z => adZ (ldZ N w v a n Z) v (10 * N 27 (3 * w + (a + n)) + N 28 (3 * w + (a + n))) (10 * N 27 (3 * w + (a + n)) + N 29 (3 * w + (a + n)))
theorem ldZ_B {N : Nat → Nat → Nat} {w : Nat} {v : Int} (h1 : -1 ≤ v) (h2 : v ≤ 1) {a K : Nat} : ∀ (n : Nat) (Z : Nat → Int), ZB K Z → ZB (K + n) (ldZ N w v a n Z)
  | 0, Z, h => h
  | n + 1, Z, h => by
    intro x
    have ih := ldZ_B (N := N) (w := w) h1 h2 (a := a) n Z h x
    show _ ≤ adZ _ _ _ _ x ∧ adZ _ _ _ _ x ≤ _
    unfold adZ
    split <;> omega
/-! legs from a station and a minute on, in the order in which both sides look at them -/
def freeB (N : Nat → Nat → Nat) (Z : Nat → Int) (t k : Nat) : Bool := decide (N 13 t = 0 ∧ Z (10 * t + k) < N 7 t)
def offL (P : Nat → Bool) : Nat → Nat → List Nat
  | 0, _ => []
  | n + 1, j => if P (j - 1) = true then j :: offL P n (j + 1) else []
def legsO (N : Nat → Nat → Nat) (Z : Nat → Int) (s m t on : Nat) : List (Nat × Nat × Nat) := if N 9 (10 * t + on) = s ∧ m ≤ N 10 (10 * t + on) then (offL (freeB N Z t) (N 8 t - (on + 1)) (on + 1)).map (fun off => (t, on, off)) else []
def legsT (N : Nat → Nat → Nat) (Z : Nat → Int) (s m t : Nat) : Nat → Nat → List (Nat × Nat × Nat)
  | 0, _ => []
  | n + 1, on => legsO N Z s m t on ++ legsT N Z s m t n (on + 1)
def legsA (N : Nat → Nat → Nat) (Z : Nat → Int) (s m : Nat) : Nat → Nat → List (Nat × Nat × Nat)
  | 0, _ => []
  | n + 1, t => legsT N Z s m t (N 8 t) 0 ++ legsA N Z s m n (t + 1)
def lkG (X : Nat → Nat → Nat) (G : Nat → Nat) (a t on off : Nat) : Nat → Nat := if 268435456 ≤ X 30 a ∨ G 32 < X 30 a ∨ (X 30 a = G 32 ∧ G 33 ≤ X 31 a + 1) then G else va_up (va_up (va_up (va_up (va_up G 32 (X 30 a)) 33 (X 31 a + 1)) 34 (t + 1)) 35 on) 36 off
def lkL (X : Nat → Nat → Nat) (l : Nat) (G : Nat → Nat) (q : Nat × Nat × Nat) : Nat → Nat := lkG X G (160 * (l - 1) + (10 * q.1 + q.2.2)) q.1 q.2.1 q.2.2
def lk0 (G : Nat → Nat) (s m to : Nat) : Nat → Nat := va_up (va_up (va_up G 32 (if s = to then m else 268435456)) 33 0) 34 0
def lookG (F : Nat → Nat) (N X : Nat → Nat → Nat) (Z : Nat → Int) (G : Nat → Nat) (l s m to : Nat) : Nat → Nat := (if l = 0 then [] else legsA N Z s m (F 3) 0).foldl (lkL X l) (lk0 G s m to)
theorem lkG_B {X : Nat → Nat → Nat} {G : Nat → Nat} (hX : XB X) (hG : GB G) {a t on off : Nat} (ha : a < 480) (ht : t < 16) (hon : on < 10) (hoff : off < 10) : GB (lkG X G a t on off) := by
  unfold lkG
  split
  · exact hG
  · have h1 : X 30 a ≤ 268435456 := hX 30 a
    have h2 : X 31 a ≤ a / 160 := hX 31 a
    exact ((((hG.up (by show _ ≤ 268435456; omega)).up (by show _ ≤ 3; omega)).up (by show _ ≤ 16; omega)).up (by show _ ≤ 9; omega)).up (by show _ ≤ 9; omega)
theorem alk_step {N : Nat → Nat → Nat} {a b i : Nat} (h : ∀ j, j < i → eqL N a b j = true) (h1 : N 27 (3 * (2 * a) + i) = N 27 (3 * (2 * b) + i)) (h2 : N 28 (3 * (2 * a) + i) = N 28 (3 * (2 * b) + i)) (h3 : N 29 (3 * (2 * a) + i) = N 29 (3 * (2 * b) + i)) : ∀ j, j < i + 1 → eqL N a b j = true := by
  intro j hj
  rcases Nat.lt_or_ge j i with z | z
  · exact h j z
  · have : j = i := by omega
    subst this
    unfold eqL
    exact decide_eq_true ⟨h1, h2, h3⟩
theorem alk_ne {N : Nat → Nat → Nat} {a b : Nat} (h : N 24 (2 * a) ≠ N 24 (2 * b)) : alk N a b = false := by
  unfold alk
  simp [h]
theorem nar01 {v : Nat} (h : v ≤ 1) : narrow .boolean (.int (iI (v : Int))) = .int (iI (v : Int)) := by
  rcases (by omega : v = 0 ∨ v = 1) with h | h <;> subst h <;> rfl
theorem lkL_foldB {X : Nat → Nat → Nat} (hX : XB X) {l : Nat} (hl : l ≤ 3) : ∀ (L : List (Nat × Nat × Nat)) (G : Nat → Nat), (∀ q ∈ L, q.1 < 16 ∧ q.2.1 < 10 ∧ q.2.2 < 10) → GB G → GB (L.foldl (lkL X l) G)
  | [], G, _, h => h
  | q :: L, G, hL, h => by
    have h1 := hL q List.mem_cons_self
    exact lkL_foldB hX hl L _ (fun x hx => hL x (List.mem_cons_of_mem _ hx)) (lkG_B hX h (by omega) h1.1 h1.2.1 h1.2.2)
theorem mem_offL {P : Nat → Bool} : ∀ (n j x : Nat), x ∈ offL P n j → j ≤ x ∧ x < j + n ∧ ∀ k, j ≤ k + 1 → k < x → P k = true
  | 0, j, x, h => by cases h
  | n + 1, j, x, h => by
    unfold offL at h
    split at h
    · rename_i hp
      rcases List.mem_cons.mp h with e | e
      · subst e
        refine ⟨Nat.le_refl _, by omega, fun k h1 h2 => ?_⟩
        have : k = x - 1 := by omega
        rw [this]; exact hp
      · obtain ⟨h1, h2, h3⟩ := mem_offL n (j + 1) x e
        refine ⟨by omega, by omega, fun k q1 q2 => ?_⟩
        rcases Nat.lt_or_ge k j with z | z
        · have : k = j - 1 := by omega
          rw [this]; exact hp
        · exact h3 k (by omega) q2
    · cases h
theorem in_offL {P : Nat → Bool} : ∀ (n j x : Nat), 1 ≤ j → j ≤ x → x < j + n → (∀ k, j ≤ k + 1 → k < x → P k = true) → x ∈ offL P n j
  | 0, j, x, _, h1, h2, _ => by omega
  | n + 1, j, x, h0, h1, h2, h3 => by
    unfold offL
    by_cases e : x = j
    · subst e
      rw [if_pos (h3 (x - 1) (by omega) (by omega))]
      exact List.mem_cons_self
    · rw [if_pos (h3 (j - 1) (by omega) (by omega))]
      exact List.mem_cons_of_mem _ (in_offL n (j + 1) x (by omega) (by omega) (by omega) (fun k q1 q2 => h3 k (by omega) q2))
/-- what a leg from a station and a minute on is -/
def isLeg (N : Nat → Nat → Nat) (Z : Nat → Int) (s m : Nat) (q : Nat × Nat × Nat) : Prop := q.2.1 < q.2.2 ∧ q.2.2 < N 8 q.1 ∧ N 9 (10 * q.1 + q.2.1) = s ∧ m ≤ N 10 (10 * q.1 + q.2.1) ∧ ∀ k, q.2.1 ≤ k → k < q.2.2 → freeB N Z q.1 k = true
theorem mem_legsO {N : Nat → Nat → Nat} {Z : Nat → Int} {s m t on : Nat} {q : Nat × Nat × Nat} : q ∈ legsO N Z s m t on ↔ q.1 = t ∧ q.2.1 = on ∧ isLeg N Z s m q := by
  obtain ⟨t', on', off⟩ := q
  unfold legsO isLeg
  constructor
  · intro h
    split at h
    · rename_i hc
      obtain ⟨x, hx, e⟩ := List.mem_map.mp h
      cases e
      obtain ⟨h1, h2, h3⟩ := mem_offL _ _ _ hx
      exact ⟨rfl, rfl, by show on < off; omega, by show off < N 8 t; omega, hc.1, hc.2, fun k (q1 : on ≤ k) q2 => h3 k (by omega) q2⟩
    · cases h
  · rintro ⟨e1, e2, h1, h2, h3, h4, h5⟩
    dsimp only at e1 e2 h1 h2 h3 h4 h5
    subst e1; subst e2
    rw [if_pos ⟨h3, h4⟩]
    exact List.mem_map.mpr ⟨off, in_offL _ _ _ (by omega) (by omega) (by omega) (fun k q1 q2 => h5 k (by omega) q2), rfl⟩
theorem mem_legsT {N : Nat → Nat → Nat} {Z : Nat → Int} {s m t : Nat} {q : Nat × Nat × Nat} : ∀ (n on : Nat), q ∈ legsT N Z s m t n on ↔ q.1 = t ∧ on ≤ q.2.1 ∧ q.2.1 < on + n ∧ isLeg N Z s m q
  | 0, on => by
    unfold legsT
    constructor
    · intro h; cases h
    · intro h; omega
  | n + 1, on => by
    unfold legsT
    rw [List.mem_append, mem_legsO, mem_legsT n (on + 1)]
    constructor
    · rintro (⟨a, b, c⟩ | ⟨a, b, c, d⟩)
      · exact ⟨a, by omega, by omega, c⟩
      · exact ⟨a, by omega, by omega, d⟩
    · rintro ⟨a, b, c, d⟩
      by_cases e : q.2.1 = on
      · exact Or.inl ⟨a, e, d⟩
      · exact Or.inr ⟨a, by omega, by omega, d⟩
theorem mem_legsA {N : Nat → Nat → Nat} {Z : Nat → Int} {s m : Nat} {q : Nat × Nat × Nat} : ∀ (n t : Nat), q ∈ legsA N Z s m n t ↔ t ≤ q.1 ∧ q.1 < t + n ∧ isLeg N Z s m q
  | 0, t => by
    unfold legsA
    constructor
    · intro h; cases h
    · intro h; omega
  | n + 1, t => by
    unfold legsA
    rw [List.mem_append, mem_legsT, mem_legsA n (t + 1)]
    constructor
    · rintro (⟨a, b, c, d⟩ | ⟨a, b, c⟩)
      · exact ⟨by omega, by omega, d⟩
      · exact ⟨by omega, by omega, c⟩
    · rintro ⟨a, b, c⟩
      by_cases e : q.1 = t
      · refine Or.inl ⟨e, Nat.zero_le _, ?_, c⟩
        have h1 := c.1
        have h2 := c.2.1
        rw [e] at h2
        omega
      · exact Or.inr ⟨by omega, by omega, c⟩
theorem legsA_small {N : Nat → Nat → Nat} {Z : Nat → Int} (hN : NB N) {s m n t : Nat} (ht : t + n ≤ 16) : ∀ q ∈ legsA N Z s m n t, q.1 < 16 ∧ q.2.1 < 10 ∧ q.2.2 < 10 := by
  intro q hq
  obtain ⟨h1, h2, h3⟩ := (mem_legsA n t).mp hq
  have h4 : N 8 q.1 ≤ 10 := hN 8 _
  have h5 := h3.1
  have h6 := h3.2.1
  omega
theorem lst_le : ∀ (n : Nat) (P : Nat → Bool), lst P n ≤ n
  | 0, P => Nat.le_refl _
  | n + 1, P => by
    have := lst_le n (fun i => P (i + 1))
    unfold lst
    split <;> omega
theorem flB_le (hs : Nat → Bool) (N : Nat → Nat → Nat) (b : Nat) : flB hs N b ≤ b := lst_le b _
theorem mk_yes {hs : Nat → Bool} {N : Nat → Nat → Nat} {a : Nat} (h1 : hs a = true) (h2 : flB hs N a = a) : mkB hs N a = true := by
  unfold mkB
  rw [h1, decide_eq_true h2]
  rfl
theorem mk_no {hs : Nat → Bool} {N : Nat → Nat → Nat} {a : Nat} (h : hs a = false ∨ flB hs N a ≠ a) : ¬ mkB hs N a = true := by
  unfold mkB
  rw [Bool.and_eq_true]
  rintro ⟨q1, q2⟩
  rcases h with h | h
  · rw [h] at q1; cases q1
  · exact h (of_decide_eq_true q2)
theorem cnt_1 {P : Nat → Bool} {n : Nat} (h : P n = true) : ((cntB P n : Nat) : Int) + 1 = ((cntB P (n + 1) : Nat) : Int) := by
  rw [cntB, if_pos h]; omega
theorem cnt_0 {P : Nat → Bool} {n : Nat} (h : ¬ P n = true) : ((cntB P n : Nat) : Int) + 0 = ((cntB P (n + 1) : Nat) : Int) := by
  rw [cntB, if_neg h]; omega
/-- the first leg of a way on a train; -1 -/
def fOnR (N : Nat → Nat → Nat) (w t : Nat) : Nat → Nat → Int
  | 0, _ => -1
  | r + 1, i => if N 27 (3 * w + i) = t then (i : Int) else fOnR N w t r (i + 1)
def fOn (N : Nat → Nat → Nat) (w t : Nat) : Int := fOnR N w t (N 24 w) 0
/-! ways: the best from a station and a minute with at most so many legs: (time, legs, train + 1, on, off) -/
abbrev Bst : Type := Nat × Nat × Nat × Nat × Nat
def vst (b v : Bst) (q : Nat × Nat × Nat) : Bst := if 268435456 ≤ v.1 ∨ b.1 < v.1 ∨ (v.1 = b.1 ∧ b.2.1 ≤ v.2.1 + 1) then b else (v.1, v.2.1 + 1, q.1 + 1, q.2.1, q.2.2)
def lkV (T : Nat) (N : Nat → Nat → Nat) (Z : Nat → Int) (to : Nat) : Nat → Nat → Nat → Bst
  | 0, s, m => (if s = to then m else 268435456, 0, 0, 0, 0)
  | l + 1, s, m => (legsA N Z s m T 0).foldl (fun b q => vst b (lkV T N Z to l (N 9 (10 * q.1 + q.2.2)) (behN N (10 * q.1 + q.2.2))) q) (if s = to then m else 268435456, 0, 0, 0, 0)
def wayL (T : Nat) (N : Nat → Nat → Nat) (Z : Nat → Int) (to : Nat) : Nat → Nat → Nat → List (Nat × Nat × Nat)
  | 0, _, _ => []
  | l + 1, s, m => if (lkV T N Z to (l + 1) s m).2.2.1 = 0 then [] else
      ((lkV T N Z to (l + 1) s m).2.2.1 - 1, (lkV T N Z to (l + 1) s m).2.2.2.1, (lkV T N Z to (l + 1) s m).2.2.2.2) ::
        wayL T N Z to l (N 9 (10 * ((lkV T N Z to (l + 1) s m).2.2.1 - 1) + (lkV T N Z to (l + 1) s m).2.2.2.2)) (behN N (10 * ((lkV T N Z to (l + 1) s m).2.2.1 - 1) + (lkV T N Z to (l + 1) s m).2.2.2.2))
def addL (w : Nat) (N : Nat → Nat → Nat) (q : Nat × Nat × Nat) : Nat → Nat → Nat := up2 (up2 (up2 (up2 N 27 (3 * w + N 24 w) q.1) 28 (3 * w + N 24 w) q.2.1) 29 (3 * w + N 24 w) q.2.2) 24 w (N 24 w + 1)
/-- the arrays that ways depend on -/
def eqT (N N' : Nat → Nat → Nat) : Prop := N' 6 = N 6 ∧ N' 7 = N 7 ∧ N' 8 = N 8 ∧ N' 9 = N 9 ∧ N' 10 = N 10 ∧ N' 13 = N 13
theorem eqT.rf (N : Nat → Nat → Nat) : eqT N N := ⟨rfl, rfl, rfl, rfl, rfl, rfl⟩
theorem eqT.trans {N N' N'' : Nat → Nat → Nat} (h : eqT N N') (h' : eqT N' N'') : eqT N N'' := ⟨h'.1.trans h.1, h'.2.1.trans h.2.1, h'.2.2.1.trans h.2.2.1, h'.2.2.2.1.trans h.2.2.2.1, h'.2.2.2.2.1.trans h.2.2.2.2.1, h'.2.2.2.2.2.trans h.2.2.2.2.2⟩
theorem eqT.up {N N' : Nat → Nat → Nat} (h : eqT N N') {k j v : Nat} (hk : 13 < k) : eqT N (up2 N' k j v) := by
  obtain ⟨h1, h2, h3, h4, h5, h6⟩ := h
  exact ⟨(up2_row (by omega)).trans h1, (up2_row (by omega)).trans h2, (up2_row (by omega)).trans h3, (up2_row (by omega)).trans h4, (up2_row (by omega)).trans h5, (up2_row (by omega)).trans h6⟩
theorem eqT.addL {N N' : Nat → Nat → Nat} (h : eqT N N') (w : Nat) (q : Nat × Nat × Nat) : eqT N (addL w N' q) := (((h.up (by decide)).up (by decide)).up (by decide)).up (by decide)
theorem eqT.free {N N' : Nat → Nat → Nat} (h : eqT N N') (Z : Nat → Int) (t : Nat) : freeB N' Z t = freeB N Z t := by
  funext k
  unfold freeB
  rw [h.2.1, h.2.2.2.2.2]
theorem eqT.beh {N N' : Nat → Nat → Nat} (h : eqT N N') (n : Nat) : behN N' n = behN N n := by
  unfold behN
  rw [h.1, h.2.2.2.1, h.2.2.2.2.1]
theorem eqT.lO {N N' : Nat → Nat → Nat} (h : eqT N N') (Z : Nat → Int) (s m t on : Nat) : legsO N' Z s m t on = legsO N Z s m t on := by
  unfold legsO
  rw [h.free, h.2.2.1, h.2.2.2.1, h.2.2.2.2.1]
theorem eqT.lT {N N' : Nat → Nat → Nat} (h : eqT N N') (Z : Nat → Int) (s m t : Nat) : ∀ n on, legsT N' Z s m t n on = legsT N Z s m t n on
  | 0, on => rfl
  | n + 1, on => by
    unfold legsT
    rw [h.lO, eqT.lT h Z s m t n (on + 1)]
theorem eqT.lA {N N' : Nat → Nat → Nat} (h : eqT N N') (Z : Nat → Int) (s m : Nat) : ∀ n t, legsA N' Z s m n t = legsA N Z s m n t
  | 0, t => rfl
  | n + 1, t => by
    unfold legsA
    rw [h.lT, h.2.2.1, eqT.lA h Z s m n (t + 1)]
theorem eqT.lV {N N' : Nat → Nat → Nat} (h : eqT N N') (T : Nat) (Z : Nat → Int) (to : Nat) : ∀ l, lkV T N' Z to l = lkV T N Z to l
  | 0 => rfl
  | l + 1 => by
    funext s m
    unfold lkV
    rw [h.lA, eqT.lV h T Z to l]
    congr 1
    funext b q
    rw [h.2.2.2.1, h.beh]
theorem eqT.wL {N N' : Nat → Nat → Nat} (h : eqT N N') (T : Nat) (Z : Nat → Int) (to : Nat) : ∀ l, wayL T N' Z to l = wayL T N Z to l
  | 0 => rfl
  | l + 1 => by
    funext s m
    unfold wayL
    rw [h.lV, eqT.wL h T Z to l, h.2.2.2.1, h.beh]
theorem lk_time {T : Nat} {N : Nat → Nat → Nat} {Z : Nat → Int} {to : Nat} (L : List (Nat × Nat × Nat)) (V : Nat × Nat × Nat → Bst) (b : Bst) : (b.1 ≤ 268435456) → (L.foldl (fun b q => vst b (V q) q) b).1 ≤ 268435456 := by
  induction L generalizing b with
  | nil => exact fun h => h
  | cons q L ih =>
    intro h
    refine ih _ ?_
    show (vst b (V q) q).1 ≤ _
    unfold vst
    split
    · exact h
    · show (V q).1 ≤ _
      omega
/-- what the best* hold is the best of a list of legs -/
def isB (G : Nat → Nat) (b : Bst) : Prop := G 32 = b.1 ∧ G 33 = b.2.1 ∧ G 34 = b.2.2.1 ∧ (G 34 ≠ 0 → G 35 = b.2.2.2.1 ∧ G 36 = b.2.2.2.2)
/-- an entry of the scratch is right -/
def okE (T : Nat) (N X : Nat → Nat → Nat) (Z : Nat → Int) (to l t k : Nat) : Prop := X 30 (160 * l + (10 * t + k)) = (lkV T N Z to l (N 9 (10 * t + k)) (behN N (10 * t + k))).1 ∧ X 31 (160 * l + (10 * t + k)) = (lkV T N Z to l (N 9 (10 * t + k)) (behN N (10 * t + k))).2.1
/-- all entries up to a place are right -/
def RI (T : Nat) (N X : Nat → Nat → Nat) (Z : Nat → Int) (to n : Nat) : Prop := ∀ l t k, l ≤ 3 → t < T → k < N 8 t → 160 * l + (10 * t + k) < n → okE T N X Z to l t k
theorem isB_step {X : Nat → Nat → Nat} {G : Nat → Nat} {b v : Bst} {a : Nat} {q : Nat × Nat × Nat} (h : isB G b) (h1 : X 30 a = v.1) (h2 : X 31 a = v.2.1) : isB (lkG X G a q.1 q.2.1 q.2.2) (vst b v q) := by
  obtain ⟨g1, g2, g3, g4⟩ := h
  unfold lkG vst
  by_cases c : 268435456 ≤ v.1 ∨ b.1 < v.1 ∨ (v.1 = b.1 ∧ b.2.1 ≤ v.2.1 + 1)
  · rw [if_pos c, if_pos (by rw [h1, h2, g1, g2]; exact c)]
    exact ⟨g1, g2, g3, g4⟩
  · rw [if_neg c, if_neg (by rw [h1, h2, g1, g2]; exact c)]
    exact ⟨h1, by show X 31 a + 1 = v.2.1 + 1; rw [h2], rfl, fun _ => ⟨rfl, rfl⟩⟩
theorem isB_fold {X : Nat → Nat → Nat} {l : Nat} {V : Nat × Nat × Nat → Bst} : ∀ (L : List (Nat × Nat × Nat)) (G : Nat → Nat) (b : Bst), (∀ q ∈ L, X 30 (160 * (l - 1) + (10 * q.1 + q.2.2)) = (V q).1 ∧ X 31 (160 * (l - 1) + (10 * q.1 + q.2.2)) = (V q).2.1) → isB G b → isB (L.foldl (lkL X l) G) (L.foldl (fun b q => vst b (V q) q) b)
  | [], G, b, _, h => h
  | q :: L, G, b, hL, h => by
    have h1 := hL q List.mem_cons_self
    exact isB_fold L _ _ (fun x hx => hL x (List.mem_cons_of_mem _ hx)) (isB_step h h1.1 h1.2)
theorem lookG_is {F : Nat → Nat} {N X : Nat → Nat → Nat} {Z : Nat → Int} {G : Nat → Nat} {l s m to : Nat} (hl : l ≤ 4) (h : RI (F 3) N X Z to (160 * l)) (hN : NB N) (hT : F 3 ≤ 16) : isB (lookG F N X Z G l s m to) (lkV (F 3) N Z to l s m) := by
  have h0 : isB (lk0 G s m to) (if s = to then m else 268435456, 0, 0, 0, 0) := ⟨rfl, rfl, rfl, fun z => absurd rfl z⟩
  unfold lookG
  cases l with
  | zero => exact h0
  | succ l =>
    rw [if_neg (by omega)]
    unfold lkV
    refine isB_fold _ _ _ (fun q hq => ?_) h0
    obtain ⟨h1, h2, h3⟩ := (mem_legsA _ _).mp hq
    have h5 := legsA_small hN (by omega) q hq
    have h6 := h l q.1 q.2.2 (by omega) (by omega) h3.2.1 (by omega)
    rw [show l + 1 - 1 = l by omega]
    exact h6
theorem lookG_B {F : Nat → Nat} {N X : Nat → Nat → Nat} {Z : Nat → Int} {G : Nat → Nat} {l s m to : Nat} (hl : l ≤ 3) (hm : m ≤ 268435456) (hX : XB X) (hG : GB G) (hN : NB N) (hT : F 3 ≤ 16) : GB (lookG F N X Z G l s m to) := by
  unfold lookG
  have h0 : GB (lk0 G s m to) := ((hG.up (by show _ ≤ 268435456; split <;> omega)).up (Nat.zero_le _)).up (Nat.zero_le _)
  split
  · exact h0
  · exact lkL_foldB hX hl _ _ (legsA_small hN (by omega)) h0
theorem lkL_33 {X : Nat → Nat → Nat} (hX : XB X) {l : Nat} (hl : 1 ≤ l) : ∀ (L : List (Nat × Nat × Nat)) (G : Nat → Nat), (∀ q ∈ L, q.1 < 16 ∧ q.2.2 < 10) → G 33 ≤ l → (L.foldl (lkL X l) G) 33 ≤ l
  | [], G, _, h => h
  | q :: L, G, hL, h => by
    refine lkL_33 hX hl L _ (fun x hx => hL x (List.mem_cons_of_mem _ hx)) ?_
    have h1 := hL q List.mem_cons_self
    unfold lkL lkG
    split
    · exact h
    · show X 31 _ + 1 ≤ l
      have h2 : X 31 (160 * (l - 1) + (10 * q.1 + q.2.2)) ≤ (160 * (l - 1) + (10 * q.1 + q.2.2)) / 160 := hX 31 _
      omega
theorem lookG_33 {F : Nat → Nat} {N X : Nat → Nat → Nat} {Z : Nat → Int} {G : Nat → Nat} {l s m to : Nat} (hX : XB X) (hN : NB N) (hT : F 3 ≤ 16) : (lookG F N X Z G l s m to) 33 ≤ l := by
  unfold lookG
  split
  · exact Nat.zero_le _
  · exact lkL_33 hX (by omega) _ _ (fun q hq => by have := legsA_small hN (by omega) q hq; omega) (Nat.zero_le _)
theorem RI_put {T : Nat} {N X : Nat → Nat → Nat} {Z : Nat → Int} {to l t k a b : Nat} (h : RI T N X Z to (160 * l + (10 * t + k))) (hN : NB N) (hT : T ≤ 16) (ht : t < T) (hk : k < N 8 t)
    (ha : a = (lkV T N Z to l (N 9 (10 * t + k)) (behN N (10 * t + k))).1) (hb : b = (lkV T N Z to l (N 9 (10 * t + k)) (behN N (10 * t + k))).2.1) : RI T N (up2 (up2 X 30 (160 * l + (10 * t + k)) a) 31 (160 * l + (10 * t + k)) b) Z to (160 * l + (10 * t + (k + 1))) := by
  intro l' t' k' hl' ht' hk' hlt
  have h8 : N 8 t' ≤ 10 := hN 8 t'
  have h9 : N 8 t ≤ 10 := hN 8 t
  unfold okE
  by_cases e : 160 * l' + (10 * t' + k') = 160 * l + (10 * t + k)
  · have e1 : l' = l := by omega
    have e2 : t' = t := by omega
    have e3 : k' = k := by omega
    subst e1; subst e2; subst e3
    refine ⟨?_, ?_⟩
    · rw [up2_ne (Or.inl (by decide)), up2_eq]; exact ha
    · rw [up2_eq]; exact hb
  · have h1 := h l' t' k' hl' ht' hk' (by omega)
    refine ⟨?_, ?_⟩
    · rw [up2_ne (Or.inr e), up2_ne (Or.inr e)]; exact h1.1
    · rw [up2_ne (Or.inr e), up2_ne (Or.inr e)]; exact h1.2
theorem RI_t {T : Nat} {N X : Nat → Nat → Nat} {Z : Nat → Int} {to l t k : Nat} (h : RI T N X Z to (160 * l + (10 * t + k))) (hN : NB N) (hT : T ≤ 16) (ht : t < T) (hk : N 8 t ≤ k) : RI T N X Z to (160 * l + (10 * (t + 1) + 0)) := by
  intro l' t' k' hl' ht' hk' hlt
  have h8 : N 8 t' ≤ 10 := hN 8 t'
  by_cases e : 160 * l' + (10 * t' + k') < 160 * l + (10 * t + k)
  · exact h l' t' k' hl' ht' hk' e
  · exfalso
    have e2 : t' = t := by omega
    subst e2
    omega
theorem RI_l {T : Nat} {N X : Nat → Nat → Nat} {Z : Nat → Int} {to l t : Nat} (h : RI T N X Z to (160 * l + (10 * t + 0))) (hN : NB N) (hT : T ≤ 16) (ht : T ≤ t) : RI T N X Z to (160 * (l + 1)) := by
  intro l' t' k' hl' ht' hk' hlt
  have h8 : N 8 t' ≤ 10 := hN 8 t'
  exact h l' t' k' hl' ht' hk' (by omega)
theorem RI_0 {T : Nat} {N X : Nat → Nat → Nat} {Z : Nat → Int} {to : Nat} : RI T N X Z to 0 := fun _ _ _ _ _ _ h => absurd h (Nat.not_lt_zero _)
theorem RI_eqT {T : Nat} {N N' X : Nat → Nat → Nat} {Z : Nat → Int} {to n : Nat} (h : RI T N X Z to n) (e : eqT N N') : RI T N' X Z to n := by
  intro l t k h1 h2 h3 h4
  rw [e.2.2.1] at h3
  have := h l t k h1 h2 h3 h4
  unfold okE at this ⊢
  rw [e.lV, e.2.2.2.1, e.beh]
  exact this
theorem RI_mono {T : Nat} {N X : Nat → Nat → Nat} {Z : Nat → Int} {to n n' : Nat} (h : RI T N X Z to n) (hn : n' ≤ n) : RI T N X Z to n' := fun l t k h1 h2 h3 h4 => h l t k h1 h2 h3 (by omega)
/-- led on: the arrays, the loads, whether -/
def wayA (T : Nat) (N : Nat → Nat → Nat) (Z : Nat → Int) (b s m : Nat) : Nat → Nat → Nat := (wayL T N Z (toN N b) (3 - N 24 (wayN N b)) s m).foldl (addL (wayN N b)) N
def hasW (T : Nat) (N : Nat → Nat → Nat) (Z : Nat → Int) (b s m : Nat) : Prop := (lkV T N Z (toN N b) (3 - N 24 (wayN N b)) s m).1 < 268435456
def ledN (N : Nat → Nat → Nat) (w : Nat) : Nat → Nat → Nat := up2 (up2 (up2 N 22 w 1) 23 w 1) 25 w 0
theorem max_eq (a b : Nat) : (if (a : Int) < b then (b : Int) else a) = ((max a b : Nat) : Int) := by
  split <;> omega
