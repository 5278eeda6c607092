set_option maxRecDepth 100000
/-! bounds of what the fields and arrays hold -/
def bnd (k j : Nat) : Nat := match k with
  | 6 => 60
  | 7 => 40
  | 8 => 10
  | 9 => 9
  | 10 => 1439
  | 12 => 31
  | 13 => 1
  | 14 => 9
  | 15 => 120
  | 16 => 1439
  | 17 => 9
  | 18 => 120
  | 19 => 1439
  | 20 => 1439
  | 21 => 1
  | 22 => 1
  | 23 => 1
  | 24 => 3
  | 25 => 10
  | 26 => 2000
  | 27 => 15
  | 28 => 9
  | 29 => 9
  | _ => 0
def xbd (k j : Nat) : Nat := match k with
  | 30 => 268435456
  | 37 => 1
  | 31 => j / 160
  | _ => 0
def gbd (k : Nat) : Nat := match k with
  | 32 => 268435456
  | 33 => 3
  | 34 => 16
  | 35 => 9
  | 36 => 9
  | _ => 0
def fbd (k : Nat) : Nat := match k with
  | 0 => 2
  | 1 => 1439
  | 2 => 10
  | 3 => 16
  | 4 => 60
  | 5 => 40
  | _ => 0
def NB (N : Nat → Nat → Nat) : Prop := ∀ k j, N k j ≤ bnd k j
def FB (F : Nat → Nat) : Prop := ∀ k, F k ≤ fbd k
def ZB (K : Nat) (Z : Nat → Int) : Prop := ∀ j, -(K : Int) ≤ Z j ∧ Z j ≤ K
theorem NB.up {N : Nat → Nat → Nat} (h : NB N) {k j v : Nat} (hv : v ≤ bnd k j) : NB (up2 N k j v) := by
  intro k' j'
  unfold up2
  split
  · rename_i q; rw [q.1, q.2]; exact hv
  · exact h k' j'
def XB (X : Nat → Nat → Nat) : Prop := ∀ k j, X k j ≤ xbd k j
def GB (G : Nat → Nat) : Prop := ∀ k, G k ≤ gbd k
theorem XB.up {N : Nat → Nat → Nat} (h : XB N) {k j v : Nat} (hv : v ≤ xbd k j) : XB (up2 N k j v) := by
  intro k' j'
  unfold up2
  split
  · rename_i q; rw [q.1, q.2]; exact hv
  · exact h k' j'
theorem GB.up {F : Nat → Nat} (h : GB F) {k v : Nat} (hv : v ≤ gbd k) : GB (va_up F k v) := by
  intro k'
  unfold va_up
  split
  · rename_i q; rw [q]; exact hv
  · exact h k'
theorem FB.up {F : Nat → Nat} (h : FB F) {k v : Nat} (hv : v ≤ fbd k) : FB (va_up F k v) := by
  intro k'
  unfold va_up
  split
  · rename_i q; rw [q]; exact hv
  · exact h k'
theorem ZB.mono {K K' : Nat} {Z : Nat → Int} (h : ZB K Z) (hK : K ≤ K') : ZB K' Z := fun j => by
  have := h j
  omega
theorem ZB.up {K : Nat} {Z : Nat → Int} (h : ZB K Z) {j : Nat} {v : Int} (h1 : -(K : Int) ≤ v) (h2 : v ≤ K) : ZB K (va_up Z j v) := by
  intro j'
  unfold va_up
  split
  · exact ⟨h1, h2⟩
  · exact h j'
