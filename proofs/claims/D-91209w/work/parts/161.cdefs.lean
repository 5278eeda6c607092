set_option maxRecDepth 100000
/-! the component: words for what it reads -/
theorem frW_lt {F : Nat → Nat} {N : Nat → Nat → Nat} (h : WF F N) {w : Nat} (hw : TL F N w) : frW N w < F 2 := by
  unfold frW
  split
  · exact (h.2.1 _ hw.1).1
  · exact (h.2.1 _ hw.1).2
theorem toW_lt {F : Nat → Nat} {N : Nat → Nat → Nat} (h : WF F N) {w : Nat} (hw : TL F N w) : toW N w < F 2 := by
  unfold toW
  split
  · exact (h.2.1 _ hw.1).2
  · exact (h.2.1 _ hw.1).1
theorem rdW_le {N : Nat → Nat → Nat} (h : NB N) (w : Nat) : rdW N w ≤ 1439 := by
  unfold rdW
  split
  · exact h 16 _
  · exact h 20 _
theorem wfW_le {N : Nat → Nat → Nat} (h : NB N) (w : Nat) : wfW N w ≤ 120 := by
  unfold wfW
  split
  · exact h 15 _
  · exact h 18 _
theorem wtW_le {N : Nat → Nat → Nat} (h : NB N) (w : Nat) : wtW N w ≤ 120 := by
  unfold wtW
  split
  · exact h 18 _
  · exact h 15 _
theorem duW_le {N : Nat → Nat → Nat} (h : NB N) (w : Nat) : duW N w ≤ 1439 := by
  unfold duW
  split
  · exact h 19 _
  · exact Nat.le_refl _
theorem bgW_le {N : Nat → Nat → Nat} (h : NB N) (w : Nat) : bgW N w ≤ 1619 := by
  have h1 := rdW_le h w
  have h2 := wfW_le h w
  have h3 : N 6 (frW N w) ≤ 60 := h 6 _
  unfold bgW
  omega
def thW (N : Nat → Nat → Nat) (w : Nat) : Nat := if N 24 w = 0 then bgW N w else legB N (3 * w + (N 24 w - 1))
def enW (N : Nat → Nat → Nat) (w : Nat) : Nat := if N 24 w = 0 then frW N w else N 9 (10 * N 27 (3 * w + (N 24 w - 1)) + N 29 (3 * w + (N 24 w - 1)))
theorem thW_le {N : Nat → Nat → Nat} (h : NB N) (w : Nat) : thW N w ≤ 1619 := by
  unfold thW
  split
  · exact bgW_le h w
  · exact Nat.le_trans (behN_le h _) (by decide)
theorem enW_lt {F : Nat → Nat} {N : Nat → Nat → Nat} (h : WF F N) {w : Nat} (hw : TL F N w) : enW N w < F 2 := by
  unfold enW
  split
  · exact frW_lt h hw
  · have q := h.2.2.1 w (N 24 w - 1) hw (by omega)
    exact h.1 _ _ q.1 q.2.2
def arW (N : Nat → Nat → Nat) (w : Nat) : Int := if N 25 w = 1 then (thW N w : Int) + wtW N w else -1
theorem arW_le {N : Nat → Nat → Nat} (h : NB N) (w : Nat) : -1 ≤ arW N w ∧ arW N w ≤ 1739 := by
  have h1 := thW_le h w
  have h2 := wtW_le h w
  unfold arW
  split <;> omega
def usB (N : Nat → Nat → Nat) (w t : Nat) : Bool := anyB (fun i => decide (N 27 (3 * w + i) = t)) (N 24 w)
def hsC (N : Nat → Nat → Nat) (a : Nat) : Bool := decide (N 25 (2 * a) = 1)
/-- a train that some box has a leg on -/
def plB (F : Nat → Nat) (N : Nat → Nat → Nat) (t : Nat) : Bool := anyB (fun b => usB N (2 * b) t || usB N (wayN N b) t) (F 4)
theorem anyB_succ (P : Nat → Bool) (n : Nat) : anyB P (n + 1) = (anyB P n || P n) := rfl
theorem anyB_1 {P : Nat → Bool} {n sv : Nat} (h : sv = if anyB P n = true then 1 else 0) (hP : sv ≠ 0 ∨ P n = true) : (1 : Nat) = if anyB P (n + 1) = true then 1 else 0 := by
  rw [anyB_succ]
  by_cases q : anyB P n = true
  · simp [q]
  · rw [if_neg q] at h
    rcases hP with r | r
    · exact absurd h r
    · simp [r]
theorem anyB_0 {P : Nat → Bool} {n sv : Nat} (h : sv = if anyB P n = true then 1 else 0) (h0 : sv = 0) (hP : P n = false) : (0 : Nat) = if anyB P (n + 1) = true then 1 else 0 := by
  rw [anyB_succ, hP]
  by_cases q : anyB P n = true
  · rw [if_pos q] at h; omega
  · simp [q]
theorem nar_ite {P : Prop} [Decidable P] : narrow .boolean (.int (iI (if P then 1 else 0))) = .int (iI (if P then 1 else 0)) := by
  by_cases h : P
  · rw [if_pos h]; rfl
  · rw [if_neg h]; rfl
theorem SX.isInt {D : va_G} {cA : Nat → ClassId} {A : Nat → Prop} {sa : Nat → Nat} {s : State} {H : Heap} {locs : List Loc} {n : Nat} (hK : Kx D cA s) (h : SX A sa s) (hS : va_S A s.heap H locs) (hn : n ≤ 127) : isO D 9 (sa (10 + (128 + n))) H := by
  obtain ⟨cell, h1, h2, h3, h4⟩ := h.2.2.2.1.1 (128 + n) (by omega)
  have hfc := (hK.1.1 9 _ rfl).2.1
  refine ⟨cell, by rw [hS.2.1 _ (Array.getElem?_eq_some_iff.mp h1).1 h4]; exact h1, h2, ?_⟩
  exact Option.some.inj (h3.symm.trans hfc)
theorem SX.recvI {D : va_G} {cA : Nat → ClassId} {A : Nat → Prop} {sa : Nat → Nat} {s : State} {H : Heap} {locs : List Loc} {n : Nat} (hK : Kx D cA s) (h : SX A sa s) (hS : va_S A s.heap H locs) (hn : n ≤ 127) : ∃ cell : Cell, H[sa (10 + (128 + n))]? = some cell ∧ cell.vm.isStatics = false ∧ s.vm.findClass "java/lang/Integer" = some cell.cls := isO.recv hK (q := (RJ17, TJ17, 1)) rfl (SX.isInt hK h hS hn)
