set_option maxRecDepth 100000
/-- two classes of the program have two numbers -/
theorem cls_ne {D : va_G} {cA : Nat → ClassId} {s : State} {i j : Nat} (hK : Kx D cA s) (hi : i < 12) (hj : j < 12) (hn : (CL.getD i ("", TX1, 0)).1 ≠ (CL.getD j ("", TX1, 0)).1) : D.1 i ≠ D.1 j := by
  intro e
  obtain ⟨q, hq⟩ : ∃ q, CL[i]? = some q := ⟨_, List.getElem?_eq_getElem (show i < CL.length from hi)⟩
  obtain ⟨r, hr⟩ : ∃ r, CL[j]? = some r := ⟨_, List.getElem?_eq_getElem (show j < CL.length from hj)⟩
  have h1 := (hK.1.1 i q hq).2.1
  have h2 := (hK.1.1 j r hr).2.1
  rw [e] at h1
  obtain ⟨k1, a1, b1⟩ := Vm.findClass_spec h1
  obtain ⟨k2, a2, b2⟩ := Vm.findClass_spec h2
  rw [a1] at a2
  cases a2
  apply hn
  rw [List.getD_eq_getElem?_getD, List.getD_eq_getElem?_getD, hq, hr]
  exact b1.symm.trans b2
theorem SX.out {A : Nat → Prop} {sa : Nat → Nat} {s : State} (h : SX A sa s) {n : Nat} (hn : n ≤ 127) : ¬ A (sa (10 + (128 + n))) := by
  obtain ⟨cell, h1, h2, h3, h4⟩ := h.2.2.2.1.1 (128 + n) (by omega)
  exact h4
