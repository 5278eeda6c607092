set_option maxRecDepth 100000
/-! a list beside the world: what its cells are is kept, by calls that leave them -/
def Ax (A : Nat → Prop) (sl se : Nat) : Nat → Prop := fun q => A q ∧ q ≠ sl ∧ q ≠ se
section CX
variable {D : va_G} {cA : Nat → ClassId} {A : Nat → Prop} {sa : Nat → Nat} {ad : Nat → Nat → Nat} {F : Nat → Nat} {N : Nat → Nat → Nat} {Z : Nat → Int} {E : Nat → Nat → Int} {H H1 : Heap}
theorem CW.res {sl se : Nat} (h : CW D cA A sa ad F N Z E H) (hsl : ∀ k i, Lv F N k i → ad k i ≠ sl ∧ ad k i ≠ se) (h1 : sl < H.size) (h2 : se < H.size) : CW D cA (Ax A sl se) sa ad F N Z E H := ⟨h.1, fun k i hl => ⟨h.2.1 k i hl, hsl k i hl⟩, h.2.2.1, fun q hq => ⟨h.2.2.2 q hq, by omega, by omega⟩⟩
theorem CW.wid {B : Nat → Prop} (h : CW D cA B sa ad F N Z E H) (hAB : ∀ q, B q → A q) : CW D cA A sa ad F N Z E H := ⟨h.1, fun k i hl => hAB _ (h.2.1 k i hl), h.2.2.1, fun q hq => hAB _ (h.2.2.2 q hq)⟩
theorem CW.apart {sl se : Nat} (h : CW D cA (Ax A sl se) sa ad F N Z E H) (k i : Nat) (hl : Lv F N k i) : ad k i ≠ sl ∧ ad k i ≠ se := (h.2.1 k i hl).2
theorem preVX {B : Nat → Prop} {s : State} {locs : List Loc} {b ci : Nat} {q : vw_C} {fs : List Value} {As : List Value} (hK : Kx D cA s) (hSX : SX A sa s) (hS : va_S A s.heap H locs) (hAB : ∀ q, B q → A q) (hP : va_at D CL (b, .inr (ci, fs)) H) (hc : CL[ci]? = some q) (hW : CW D cA B sa ad F N Z E H) : PreV s H q.1 b (PC D cA B sa ad F N Z E (.ref b :: As)) As :=
  ⟨PC.blind, va_recv hK.1 (va_P1 hP) hc (q0 := 0) rfl, fun U hU hWm => ⟨rfl, hK.moved hWm, (hSX.call hS hU hWm.alike).narrow hAB, by rw [hU]; exact hW⟩⟩
end CX
theorem LiS.kept {D : va_G} {cA : Nat → ClassId} {a : Nat} {mc : Int} {ea sz cap : Nat} {f : Nat → Nat} {H H1 : Heap} (h : LiS D cA a mc ea sz cap f H) (h1 : H1[a]? = H[a]?) (h2 : H1[ea]? = H[ea]?) : LiS D cA a mc ea sz cap f H1 := ⟨h.1.kept h1, h.2.1.kept h2, h.2.2⟩
theorem LiS.to {D : va_G} {cA : Nat → ClassId} {a : Nat} {mc : Int} {ea sz cap : Nat} {f g : Nat → Nat} {H : Heap} (h : LiS D cA a mc ea sz cap f H) (hg : ∀ j, j < sz → f j = g j) : LiS D cA a mc ea sz cap g H := ⟨h.1, by rw [← gl_ext hg]; exact h.2.1, h.2.2⟩
theorem eqC.TL {F : Nat → Nat} {N N' : Nat → Nat → Nat} (h : eqC N N') {w : Nat} (hw : TL F N w) : TL F N' w := ⟨hw.1, by rw [h 21 (by decide)]; exact hw.2⟩
theorem getD_in (L : List Nat) (w j : Nat) (h : j < L.length) : (L ++ [w]).getD j 0 = L.getD j 0 := by
  simp [List.getD, List.getElem?_append_left h]
theorem getD_new (L : List Nat) (w : Nat) : (L ++ [w]).getD L.length 0 = w := by
  simp [List.getD]
theorem len_new (L : List Nat) (w : Nat) : (L ++ [w]).length = L.length + 1 := by simp
