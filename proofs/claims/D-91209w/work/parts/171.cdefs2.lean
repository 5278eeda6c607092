set_option maxRecDepth 100000
def goC (F : Nat → Nat) (N : Nat → Nat → Nat) (w : Nat) : Prop := rdW N w ≤ F 1 ∧ N 25 w ≠ 0
def ofC (F : Nat → Nat) (N : Nat → Nat → Nat) (b v : Nat) : Int := if v = 0 then N 24 (wayN N b) else if v = 1 then arW N (wayN N b) else if v = 2 then (if rdW N (wayN N b) ≤ F 1 ∧ N 25 (wayN N b) ≠ 0 then 1 else 0) else if v = 3 then (if N 25 (wayN N b) = 1 ∧ (duW N (wayN N b) : Int) < arW N (wayN N b) then 1 else 0) else if v = 4 then (if N 25 (wayN N b) = 2 then (enW N (wayN N b) : Int) else -1) else if v = 5 then (if N 25 (wayN N b) = 2 then (N 26 (wayN N b) : Int) else -1) else N 21 b
def whC (F : Nat → Nat) (N : Nat → Nat → Nat) (w : Nat) : Int := if rdW N w ≤ F 1 ∧ N 25 w ≠ 0 then (if anyB (fun i => decide (onM N w i ≤ F 1 ∧ F 1 < ofM N w i)) (N 24 w) = true then 2 else if N 25 w = 2 ∨ F 1 < thW N w then 1 else if (F 1 : Int) < arW N w then 3 else 4) else 0
def ltC (N : Nat → Nat → Nat) (b : Nat) : Bool := decide (N 25 (wayN N b) = 1 ∧ (duW N (wayN N b) : Int) < arW N (wayN N b))
def cnC (F : Nat → Nat) (N : Nat → Nat → Nat) (v : Nat) : Nat := if v = 0 then F 2 else if v = 1 then F 3 else if v = 2 then F 4 else if v = 3 then F 1 else if v = 4 then cntB (fun b => decide (N 25 (wayN N b) = 1)) (F 4) else if v = 5 then cntB (ltC N) (F 4) else if v = 6 then cntB (mkB (hsC N) N) (F 4) else F 5
theorem anyB_no {P : Nat → Bool} {n : Nat} (h : ∀ j, j < n → P j = false) : anyB P n = false := by
  rw [Bool.eq_false_iff]
  intro q
  obtain ⟨k, h1, h2⟩ := (anyB_iff P n).mp q
  rw [h k h1] at h2
  cases h2
theorem anyB_ex {P : Nat → Bool} {n k : Nat} (hk : k < n) (h : P k = true) : anyB P n = true := (anyB_iff P n).mpr ⟨k, hk, h⟩
theorem smB_0 {f : Nat → Nat} : ∀ {n : Nat}, smB f n = 0 → ∀ i, i < n → f i = 0
  | 0, _, i, hi => absurd hi (Nat.not_lt_zero _)
  | n + 1, h, i, hi => by
    unfold smB at h
    rcases Nat.lt_or_ge i n with q | q
    · exact smB_0 (n := n) (by omega) i q
    · rw [show i = n by omega]; omega
theorem cnt_e {P : Nat → Bool} {n : Nat} (h : ¬ P n = true) : ((cntB P n : Nat) : Int) = ((cntB P (n + 1) : Nat) : Int) := by
  rw [cntB, if_neg h, Nat.add_zero]
