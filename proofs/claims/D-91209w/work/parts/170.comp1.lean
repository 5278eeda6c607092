set_option maxRecDepth 100000
set_option maxHeartbeats 4000000 in
set_option maxRecDepth 100000 in
theorem cc_X1_at (l : Launch) (D : va_G) (cA : Nat → ClassId) (a b : Int) : Met l yX1_at (ws_ yX1_at cX1_at 2 (some .int)) ({ frames := 1, cells := 0, slots := 0, locals := 30 }) (Pk D cA [.int (iI (a)), .int (iI (b))] (fun _ => True)) (k2_QcV (.int (iI (10 * a + b)))) 0 0 (fun _ => False) := by
  refine Met.ofW (cc := cX1_at) (maxL := 2) (ret := (some .int)) (by decide) rfl ?_
  intro p e s m args below meth c s₁ B hml hv
  obtain ⟨rfl, hK, hW⟩ := hv
  have hx := B.exec
  have hb := B.bytes
  have hr := B.returns
  have hts := atoms_spec (ws := ws_ yX1_at cX1_at 2 (some .int)) B.pre
  have hts : ∀ w ∈ lw_all, w.before _ s = true := fun w h => hts w (List.mem_cons_of_mem _ h)
  have hown : s.vm.findClass RX1 = some m.cls := findClass_of_methodNamed B.named
  have hlocks := B.notSynchronized
  have hl := lv_entry ([.int (iI (a)), .int (iI (b))]) (n := 2) (Nat.le_of_ble_eq_true rfl)
  rw [lg_entry_eq]
  generalize (lg_sl ([.int (iI (a)), .int (iI (b))]) ++ List.replicate (2 - (lg_sl ([.int (iI (a)), .int (iI (b))])).length) Slot.unset).toArray = ls at hl ⊢
  have hl : lv_has ls 2 [(0, .int (iI (a))), (1, .int (iI (b)))] := hl
  refine lv_bipush (v := iI (10)) hx hb dX1_at_0 (by decide) ?_
  refine lv_iload_n hx hb dX1_at_2 rfl (lv_at hl 0 rfl) ?_
  refine ri_imul hx hb dX1_at_3 ?_
  refine lv_iload_n hx hb dX1_at_4 rfl (lv_at hl 1 rfl) ?_
  refine ri_iadd hx hb dX1_at_5 ?_
  exact W.iret hx hb hr (fun t ht hWm => ⟨rfl, ht⟩) (fun _ h => absurd h List.not_mem_nil) dX1_at_6

set_option maxHeartbeats 4000000 in
set_option maxRecDepth 100000 in
theorem cc_X1_isMinute (l : Launch) (D : va_G) (cA : Nat → ClassId) (a : Int) (ha : inR a) : Met l yX1_isMinute (ws_ yX1_isMinute cX1_isMinute 1 (some .boolean)) ({ frames := 1, cells := 0, slots := 0, locals := 30 }) (Pk D cA [.int (iI (a))] (fun _ => True)) (k2_QcV (.int (iI (if 0 ≤ a ∧ a ≤ 1439 then 1 else 0)))) 0 0 (fun _ => False) := by
  refine Met.ofW (cc := cX1_isMinute) (maxL := 1) (ret := (some .boolean)) (by decide) rfl ?_
  intro p e s m args below meth c s₁ B hml hv
  obtain ⟨rfl, hK, hW⟩ := hv
  have hx := B.exec
  have hb := B.bytes
  have hr := B.returns
  have hts := atoms_spec (ws := ws_ yX1_isMinute cX1_isMinute 1 (some .boolean)) B.pre
  have hts : ∀ w ∈ lw_all, w.before _ s = true := fun w h => hts w (List.mem_cons_of_mem _ h)
  have hown : s.vm.findClass RX1 = some m.cls := findClass_of_methodNamed B.named
  have hlocks := B.notSynchronized
  have hl := lv_entry ([.int (iI (a))]) (n := 1) (Nat.le_of_ble_eq_true rfl)
  rw [lg_entry_eq]
  generalize (lg_sl ([.int (iI (a))]) ++ List.replicate (1 - (lg_sl ([.int (iI (a))])).length) Slot.unset).toArray = ls at hl ⊢
  have hl : lv_has ls 1 [(0, .int (iI (a)))] := hl
  refine lv_iload_n hx hb dX1_isMinute_0 rfl (lv_at hl 0 rfl) ?_
  refine ri_if_lt (tgt := 15) hx hb ha dX1_isMinute_1 (by decide) (fun h1 => ?_) (fun h1 => ?_)
  · skip
    refine lv_iconst (v := iI (0)) hx hb dX1_isMinute_15 rfl ?_
    exact W.zret hx hb hr (by rfl) (fun t ht hWm => ⟨congrArg (fun z => Outcome.returned (some (Value.int (iI z)))) (by split <;> omega), ht⟩) (fun _ h => absurd h List.not_mem_nil) dX1_isMinute_16
  · skip
    refine lv_iload_n hx hb dX1_isMinute_4 rfl (lv_at hl 0 rfl) ?_
    refine lv_sipush (v := iI (1439)) hx hb dX1_isMinute_5 (by decide) ?_
    refine ri_icmp_gt (tgt := 15) hx hb ha (by unfold inR; omega) dX1_isMinute_8 (by decide) (fun h2 => ?_) (fun h2 => ?_)
    · skip
      refine lv_iconst (v := iI (0)) hx hb dX1_isMinute_15 rfl ?_
      exact W.zret hx hb hr (by rfl) (fun t ht hWm => ⟨congrArg (fun z => Outcome.returned (some (Value.int (iI z)))) (by split <;> omega), ht⟩) (fun _ h => absurd h List.not_mem_nil) dX1_isMinute_16
    · skip
      refine lv_iconst (v := iI (1)) hx hb dX1_isMinute_11 rfl ?_
      refine lv_goto (tgt := 16) hx hb dX1_isMinute_12 (by decide) ?_
      exact W.zret hx hb hr (by rfl) (fun t ht hWm => ⟨congrArg (fun z => Outcome.returned (some (Value.int (iI z)))) (by split <;> omega), ht⟩) (fun _ h => absurd h List.not_mem_nil) dX1_isMinute_16

set_option maxHeartbeats 4000000 in
set_option maxRecDepth 100000 in
theorem cc_X1_there (l : Launch) (D : va_G) (cA : Nat → ClassId)  : Met l yX1_there (ws_ yX1_there cX1_there 1 none) ({ frames := 1, cells := 0, slots := 0, locals := 30 }) (Pk D cA [.int (iI (1))] (fun _ => True)) (k2_Qv) 0 0 (fun _ => False) := by
  refine Met.ofW (cc := cX1_there) (maxL := 1) (ret := none) (by decide) rfl ?_
  intro p e s m args below meth c s₁ B hml hv
  obtain ⟨rfl, hK, hW⟩ := hv
  have hx := B.exec
  have hb := B.bytes
  have hr := B.returns
  have hts := atoms_spec (ws := ws_ yX1_there cX1_there 1 none) B.pre
  have hts : ∀ w ∈ lw_all, w.before _ s = true := fun w h => hts w (List.mem_cons_of_mem _ h)
  have hown : s.vm.findClass RX1 = some m.cls := findClass_of_methodNamed B.named
  have hlocks := B.notSynchronized
  have hl := lv_entry ([.int (iI (1))]) (n := 1) (Nat.le_of_ble_eq_true rfl)
  rw [lg_entry_eq]
  generalize (lg_sl ([.int (iI (1))]) ++ List.replicate (1 - (lg_sl ([.int (iI (1))])).length) Slot.unset).toArray = ls at hl ⊢
  have hl : lv_has ls 1 [(0, .int (iI (1)))] := hl
  refine lv_iload_n hx hb dX1_there_0 rfl (lv_at hl 0 rfl) ?_
  refine ri_if_ne (tgt := 12) hx hb (by unfold inR; omega) dX1_there_1 (by decide) (fun h1 => ?_) (fun h1 => ?_)
  · skip
    exact W.vret hx hb hr (fun t ht hWm => ⟨rfl, ht⟩) (fun _ h => absurd h List.not_mem_nil) dX1_there_12
  · skip
    exfalso; omega

set_option maxHeartbeats 4000000 in
set_option maxRecDepth 100000 in
theorem cc_X1_right (l : Launch) (D : va_G) (cA : Nat → ClassId)  : Met l yX1_right (ws_ yX1_right cX1_right 1 none) ({ frames := 1, cells := 0, slots := 0, locals := 30 }) (Pk D cA [.int (iI (1))] (fun _ => True)) (k2_Qv) 0 0 (fun _ => False) := by
  refine Met.ofW (cc := cX1_right) (maxL := 1) (ret := none) (by decide) rfl ?_
  intro p e s m args below meth c s₁ B hml hv
  obtain ⟨rfl, hK, hW⟩ := hv
  have hx := B.exec
  have hb := B.bytes
  have hr := B.returns
  have hts := atoms_spec (ws := ws_ yX1_right cX1_right 1 none) B.pre
  have hts : ∀ w ∈ lw_all, w.before _ s = true := fun w h => hts w (List.mem_cons_of_mem _ h)
  have hown : s.vm.findClass RX1 = some m.cls := findClass_of_methodNamed B.named
  have hlocks := B.notSynchronized
  have hl := lv_entry ([.int (iI (1))]) (n := 1) (Nat.le_of_ble_eq_true rfl)
  rw [lg_entry_eq]
  generalize (lg_sl ([.int (iI (1))]) ++ List.replicate (1 - (lg_sl ([.int (iI (1))])).length) Slot.unset).toArray = ls at hl ⊢
  have hl : lv_has ls 1 [(0, .int (iI (1)))] := hl
  refine lv_iload_n hx hb dX1_right_0 rfl (lv_at hl 0 rfl) ?_
  refine ri_if_ne (tgt := 12) hx hb (by unfold inR; omega) dX1_right_1 (by decide) (fun h1 => ?_) (fun h1 => ?_)
  · skip
    exact W.vret hx hb hr (fun t ht hWm => ⟨rfl, ht⟩) (fun _ h => absurd h List.not_mem_nil) dX1_right_12
  · skip
    exfalso; omega

set_option maxHeartbeats 4000000 in
set_option maxRecDepth 100000 in
theorem cc_X5_sorted (l : Launch) (D : va_G) (cA : Nat → ClassId) (A : Nat → Prop) (sa : Nat → Nat) (ad : Nat → Nat → Nat) (F : Nat → Nat) (N : Nat → Nat → Nat) (Z : Nat → Int) (E : Nat → Nat → Int) (K : Nat) (hKb : K ≤ 1000000) (hF : FB F) (hN : NB N) (hZ : ZB K Z) (hwf : WF F N) (t k : Nat) (ht : t < F 3) (hk : k < N 8 t) : Met l yX5_sorted (ws_ yX5_sorted cX5_sorted 1 (some .int)) ({ frames := 1, cells := 0, slots := 0, locals := 30 }) (PC D cA A sa ad F N Z E [.ref (ad 6 (10 * t + k))]) (k2_QcV (.int (iI (behN N (10 * t + k))))) 0 0 (fun _ => False) := by
  refine Met.ofW (cc := cX5_sorted) (maxL := 1) (ret := (some .int)) (by decide) rfl ?_
  intro p e s m args below meth c s₁ B hml hv
  obtain ⟨rfl, hK, hW⟩ := hv
  have hx := B.exec
  have hb := B.bytes
  have hr := B.returns
  have hts := atoms_spec (ws := ws_ yX5_sorted cX5_sorted 1 (some .int)) B.pre
  have hts : ∀ w ∈ lw_all, w.before _ s = true := fun w h => hts w (List.mem_cons_of_mem _ h)
  have hown : s.vm.findClass RX5 = some m.cls := findClass_of_methodNamed B.named
  have hlocks := B.notSynchronized
  have hl := lv_entry ([.ref (ad 6 (10 * t + k))]) (n := 1) (Nat.le_of_ble_eq_true rfl)
  rw [lg_entry_eq]
  generalize (lg_sl ([.ref (ad 6 (10 * t + k))]) ++ List.replicate (1 - (lg_sl ([.ref (ad 6 (10 * t + k))])).length) Slot.unset).toArray = ls at hl ⊢
  have hl : lv_has ls 1 [(0, .ref (ad 6 (10 * t + k)))] := hl
  obtain ⟨hSX, hW⟩ := hW
  have hS : va_S A s.heap s.heap [] := va_S.rf
  have hF2 : F 2 ≤ 10 := hF 2
  have hF3 : F 3 ≤ 16 := hF 3
  have hF4 : F 4 ≤ 60 := hF 4
  have hF5 : F 5 ≤ 40 := hF 5
  have hF1 : F 1 ≤ 1439 := hF 1
  refine lv_aload_n hx hb dX5_sorted_0 rfl (lv_at hl 0 rfl) ?_
  have b1 : N 10 (10 * t + k) ≤ 1439 := hN 10 _
  refine h_get hx hb hts in_X5 hown hK (hW.k6 (t) (k) (by omega) (by omega)) rfl 1 (by decide) (hts _ q820) rfl (v := .int (iI (N 10 (10 * t + k)))) rfl dX5_sorted_1 ?_
  refine lv_aload_n hx hb dX5_sorted_4 rfl (lv_at hl 0 rfl) ?_
  have b2 : N 9 (10 * t + k) < F 2 := hwf.1 _ _ (by omega) (by omega)
  refine h_get hx hb hts in_X5 hown hK (hW.k6 (t) (k) (by omega) (by omega)) rfl 0 (by decide) (hts _ q817) rfl (v := .ref (ad 3 (N 9 (10 * t + k)))) rfl dX5_sorted_5 ?_
  have b3 : N 6 (N 9 (10 * t + k)) ≤ 60 := hN 6 _
  refine h_getN hx hb hts in_X3 hown hK (hW.k3 (N 9 (10 * t + k)) (by omega)) rfl 1 (by decide) q462 rfl (v := .int (iI (N 6 (N 9 (10 * t + k))))) rfl dX5_sorted_8 ?_
  refine ri_iadd hx hb dX5_sorted_11 ?_
  exact W.iret hx hb hr (fun t ht hWm => ⟨congrArg (fun z => Outcome.returned (some (Value.int (iI z)))) (by unfold behN; omega), ht⟩) (fun _ h => absurd h List.not_mem_nil) dX5_sorted_12

set_option maxHeartbeats 4000000 in
set_option maxRecDepth 100000 in
theorem cc_X8_to (l : Launch) (D : va_G) (cA : Nat → ClassId) (A : Nat → Prop) (sa : Nat → Nat) (ad : Nat → Nat → Nat) (F : Nat → Nat) (N : Nat → Nat → Nat) (Z : Nat → Int) (E : Nat → Nat → Int) (K : Nat) (hKb : K ≤ 1000000) (hF : FB F) (hN : NB N) (hZ : ZB K Z) (hwf : WF F N) (w i : Nat) (hw : TL F N w) (hi : i < N 24 w) : Met l yX8_to (ws_ yX8_to cX8_to 1 (some (.object "LunchMarks$Stop"))) ({ frames := 4, cells := 0, slots := 0, locals := 104 }) (PC D cA A sa ad F N Z E [.ref (ad 9 (3 * w + i))]) (k2_QcV (.ref (ad 6 (10 * N 27 (3 * w + i) + N 29 (3 * w + i))))) 0 0 (fun _ => False) := by
  refine Met.ofW (cc := cX8_to) (maxL := 1) (ret := (some (.object "LunchMarks$Stop"))) (by decide) rfl ?_
  intro p e s m args below meth c s₁ B hml hv
  obtain ⟨rfl, hK, hW⟩ := hv
  have hx := B.exec
  have hb := B.bytes
  have hr := B.returns
  have hts := atoms_spec (ws := ws_ yX8_to cX8_to 1 (some (.object "LunchMarks$Stop"))) B.pre
  have hts : ∀ w ∈ lw_all, w.before _ s = true := fun w h => hts w (List.mem_cons_of_mem _ h)
  have hown : s.vm.findClass RX8 = some m.cls := findClass_of_methodNamed B.named
  have hlocks := B.notSynchronized
  have hl := lv_entry ([.ref (ad 9 (3 * w + i))]) (n := 1) (Nat.le_of_ble_eq_true rfl)
  rw [lg_entry_eq]
  generalize (lg_sl ([.ref (ad 9 (3 * w + i))]) ++ List.replicate (1 - (lg_sl ([.ref (ad 9 (3 * w + i))])).length) Slot.unset).toArray = ls at hl ⊢
  have hl : lv_has ls 1 [(0, .ref (ad 9 (3 * w + i)))] := hl
  obtain ⟨hSX, hW⟩ := hW
  have hS : va_S A s.heap s.heap [] := va_S.rf
  have hF2 : F 2 ≤ 10 := hF 2
  have hF3 : F 3 ≤ 16 := hF 3
  have hF4 : F 4 ≤ 60 := hF 4
  have hF5 : F 5 ≤ 40 := hF 5
  have hF1 : F 1 ≤ 1439 := hF 1
  have hm3 : N 24 w ≤ 3 := hN 24 w
  refine lv_aload_n hx hb dX8_to_0 rfl (lv_at hl 0 rfl) ?_
  have b1 : N 27 (3 * w + i) < F 3 ∧ N 28 (3 * w + i) < N 29 (3 * w + i) ∧ N 29 (3 * w + i) < N 8 (N 27 (3 * w + i)) := hwf.2.2.1 _ _ ‹TL F N (w)› (by omega)
  have b2 : N 8 (N 27 (3 * w + i)) ≤ 10 := hN 8 _
  refine h_get hx hb hts in_X8 hown hK (hW.k9 (w) (i) ‹TL F N (w)› (by omega)) rfl 0 (by decide) (hts _ q720) rfl (v := .ref (ad 4 (N 27 (3 * w + i)))) rfl dX8_to_1 ?_
  refine h_getN hx hb hts in_X4 hown hK (hW.k4 (N 27 (3 * w + i)) (by omega)) rfl 2 (by decide) q532 rfl (v := .ref (ad 1 (10 + (N 27 (3 * w + i))))) rfl dX8_to_4 ?_
  refine lv_aload_n hx hb dX8_to_7 rfl (lv_at hl 0 rfl) ?_
  refine h_get hx hb hts in_X8 hown hK (hW.k9 (w) (i) ‹TL F N (w)› (by omega)) rfl 2 (by decide) (hts _ q725) rfl (v := .int (iI (N 29 (3 * w + i)))) rfl dX8_to_8 ?_
  obtain ⟨mc3, cp3, cq3, cr3, hLi3⟩ := (hW.lp (N 27 (3 * w + i)) (by omega))
  refine rc_V (W.runV (As := [.int (iI (N 29 (3 * w + i)))]) (rest := []) ⟨hx, hb, hml, hown, hts⟩ (al_get l D cA (ad 1 (10 + (N 27 (3 * w + i)))) mc3 (ad 2 (10 + (N 27 (3 * w + i)))) (N 8 (N 27 (3 * w + i))) cp3 (fun j => ad 6 (10 * (N 27 (3 * w + i)) + j)) (N 29 (3 * w + i)) (by omega)) (cwV 1 hts (lw_V q681 q566 q567 q45 q568) rfl rfl rfl (by decide +kernel) ⟨Nat.le_of_ble_eq_true rfl, Nat.le_of_ble_eq_true rfl⟩) (preV hK hLi3.1 rfl hLi3) rfl rfl hl.1 rfl (lv_room (Nat.le_of_ble_eq_true rfl)) dX8_to_11 ⟨Nat.le_of_ble_eq_true rfl, Nat.le_of_ble_eq_true rfl⟩) ?_
  refine h_cast (ci := 4) (q := (RX5, TX5, 2)) hx hb hown (hts _ q682) hK rfl (isO.of (hW.k6 (N 27 (3 * w + i)) (N 29 (3 * w + i)) (by omega) (by omega))) dX8_to_14 ?_
  exact W.aret hx hb hr (by first | exact Or.inl ⟨_, rfl⟩ | exact Or.inr ⟨_, rfl⟩) (Or.inr ⟨_, rfl⟩) (fun t ht hWm => ⟨rfl, ht⟩) (fun _ h => absurd h List.not_mem_nil) dX8_to_17

set_option maxHeartbeats 4000000 in
set_option maxRecDepth 100000 in
theorem cc_X8_from (l : Launch) (D : va_G) (cA : Nat → ClassId) (A : Nat → Prop) (sa : Nat → Nat) (ad : Nat → Nat → Nat) (F : Nat → Nat) (N : Nat → Nat → Nat) (Z : Nat → Int) (E : Nat → Nat → Int) (K : Nat) (hKb : K ≤ 1000000) (hF : FB F) (hN : NB N) (hZ : ZB K Z) (hwf : WF F N) (w i : Nat) (hw : TL F N w) (hi : i < N 24 w) : Met l yX8_from (ws_ yX8_from cX8_from 1 (some (.object "LunchMarks$Stop"))) ({ frames := 4, cells := 0, slots := 0, locals := 104 }) (PC D cA A sa ad F N Z E [.ref (ad 9 (3 * w + i))]) (k2_QcV (.ref (ad 6 (10 * N 27 (3 * w + i) + N 28 (3 * w + i))))) 0 0 (fun _ => False) := by
  refine Met.ofW (cc := cX8_from) (maxL := 1) (ret := (some (.object "LunchMarks$Stop"))) (by decide) rfl ?_
  intro p e s m args below meth c s₁ B hml hv
  obtain ⟨rfl, hK, hW⟩ := hv
  have hx := B.exec
  have hb := B.bytes
  have hr := B.returns
  have hts := atoms_spec (ws := ws_ yX8_from cX8_from 1 (some (.object "LunchMarks$Stop"))) B.pre
  have hts : ∀ w ∈ lw_all, w.before _ s = true := fun w h => hts w (List.mem_cons_of_mem _ h)
  have hown : s.vm.findClass RX8 = some m.cls := findClass_of_methodNamed B.named
  have hlocks := B.notSynchronized
  have hl := lv_entry ([.ref (ad 9 (3 * w + i))]) (n := 1) (Nat.le_of_ble_eq_true rfl)
  rw [lg_entry_eq]
  generalize (lg_sl ([.ref (ad 9 (3 * w + i))]) ++ List.replicate (1 - (lg_sl ([.ref (ad 9 (3 * w + i))])).length) Slot.unset).toArray = ls at hl ⊢
  have hl : lv_has ls 1 [(0, .ref (ad 9 (3 * w + i)))] := hl
  obtain ⟨hSX, hW⟩ := hW
  have hS : va_S A s.heap s.heap [] := va_S.rf
  have hF2 : F 2 ≤ 10 := hF 2
  have hF3 : F 3 ≤ 16 := hF 3
  have hF4 : F 4 ≤ 60 := hF 4
  have hF5 : F 5 ≤ 40 := hF 5
  have hF1 : F 1 ≤ 1439 := hF 1
  have hm3 : N 24 w ≤ 3 := hN 24 w
  refine lv_aload_n hx hb dX8_from_0 rfl (lv_at hl 0 rfl) ?_
  have b1 : N 27 (3 * w + i) < F 3 ∧ N 28 (3 * w + i) < N 29 (3 * w + i) ∧ N 29 (3 * w + i) < N 8 (N 27 (3 * w + i)) := hwf.2.2.1 _ _ ‹TL F N (w)› (by omega)
  have b2 : N 8 (N 27 (3 * w + i)) ≤ 10 := hN 8 _
  refine h_get hx hb hts in_X8 hown hK (hW.k9 (w) (i) ‹TL F N (w)› (by omega)) rfl 0 (by decide) (hts _ q720) rfl (v := .ref (ad 4 (N 27 (3 * w + i)))) rfl dX8_from_1 ?_
  refine h_getN hx hb hts in_X4 hown hK (hW.k4 (N 27 (3 * w + i)) (by omega)) rfl 2 (by decide) q532 rfl (v := .ref (ad 1 (10 + (N 27 (3 * w + i))))) rfl dX8_from_4 ?_
  refine lv_aload_n hx hb dX8_from_7 rfl (lv_at hl 0 rfl) ?_
  refine h_get hx hb hts in_X8 hown hK (hW.k9 (w) (i) ‹TL F N (w)› (by omega)) rfl 1 (by decide) (hts _ q723) rfl (v := .int (iI (N 28 (3 * w + i)))) rfl dX8_from_8 ?_
  obtain ⟨mc3, cp3, cq3, cr3, hLi3⟩ := (hW.lp (N 27 (3 * w + i)) (by omega))
  refine rc_V (W.runV (As := [.int (iI (N 28 (3 * w + i)))]) (rest := []) ⟨hx, hb, hml, hown, hts⟩ (al_get l D cA (ad 1 (10 + (N 27 (3 * w + i)))) mc3 (ad 2 (10 + (N 27 (3 * w + i)))) (N 8 (N 27 (3 * w + i))) cp3 (fun j => ad 6 (10 * (N 27 (3 * w + i)) + j)) (N 28 (3 * w + i)) (by omega)) (cwV 1 hts (lw_V q681 q566 q567 q45 q568) rfl rfl rfl (by decide +kernel) ⟨Nat.le_of_ble_eq_true rfl, Nat.le_of_ble_eq_true rfl⟩) (preV hK hLi3.1 rfl hLi3) rfl rfl hl.1 rfl (lv_room (Nat.le_of_ble_eq_true rfl)) dX8_from_11 ⟨Nat.le_of_ble_eq_true rfl, Nat.le_of_ble_eq_true rfl⟩) ?_
  refine h_cast (ci := 4) (q := (RX5, TX5, 2)) hx hb hown (hts _ q682) hK rfl (isO.of (hW.k6 (N 27 (3 * w + i)) (N 28 (3 * w + i)) (by omega) (by omega))) dX8_from_14 ?_
  exact W.aret hx hb hr (by first | exact Or.inl ⟨_, rfl⟩ | exact Or.inr ⟨_, rfl⟩) (Or.inr ⟨_, rfl⟩) (fun t ht hWm => ⟨rfl, ht⟩) (fun _ h => absurd h List.not_mem_nil) dX8_from_17

set_option maxHeartbeats 4000000 in
set_option maxRecDepth 100000 in
theorem cc_X8_is (l : Launch) (D : va_G) (cA : Nat → ClassId) (A : Nat → Prop) (sa : Nat → Nat) (ad : Nat → Nat → Nat) (F : Nat → Nat) (N : Nat → Nat → Nat) (Z : Nat → Int) (E : Nat → Nat → Int) (K : Nat) (hKb : K ≤ 1000000) (hF : FB F) (hN : NB N) (hZ : ZB K Z) (hwf : WF F N) (w i v j : Nat) (hw : TL F N w) (hi : i < N 24 w) (hv : TL F N v) (hj : j < N 24 v) : Met l yX8_is (ws_ yX8_is cX8_is 2 (some .boolean)) ({ frames := 1, cells := 0, slots := 0, locals := 30 }) (PC D cA A sa ad F N Z E [.ref (ad 9 (3 * w + i)), .ref (ad 9 (3 * v + j))]) (k2_QcV (.int (iI (if N 27 (3 * w + i) = N 27 (3 * v + j) ∧ N 28 (3 * w + i) = N 28 (3 * v + j) ∧ N 29 (3 * w + i) = N 29 (3 * v + j) then 1 else 0)))) 0 0 (fun _ => False) := by
  refine Met.ofW (cc := cX8_is) (maxL := 2) (ret := (some .boolean)) (by decide) rfl ?_
  intro p e s m args below meth c s₁ B hml hv
  obtain ⟨rfl, hK, hW⟩ := hv
  have hx := B.exec
  have hb := B.bytes
  have hr := B.returns
  have hts := atoms_spec (ws := ws_ yX8_is cX8_is 2 (some .boolean)) B.pre
  have hts : ∀ w ∈ lw_all, w.before _ s = true := fun w h => hts w (List.mem_cons_of_mem _ h)
  have hown : s.vm.findClass RX8 = some m.cls := findClass_of_methodNamed B.named
  have hlocks := B.notSynchronized
  have hl := lv_entry ([.ref (ad 9 (3 * w + i)), .ref (ad 9 (3 * v + j))]) (n := 2) (Nat.le_of_ble_eq_true rfl)
  rw [lg_entry_eq]
  generalize (lg_sl ([.ref (ad 9 (3 * w + i)), .ref (ad 9 (3 * v + j))]) ++ List.replicate (2 - (lg_sl ([.ref (ad 9 (3 * w + i)), .ref (ad 9 (3 * v + j))])).length) Slot.unset).toArray = ls at hl ⊢
  have hl : lv_has ls 2 [(0, .ref (ad 9 (3 * w + i))), (1, .ref (ad 9 (3 * v + j)))] := hl
  obtain ⟨hSX, hW⟩ := hW
  have hS : va_S A s.heap s.heap [] := va_S.rf
  have hF2 : F 2 ≤ 10 := hF 2
  have hF3 : F 3 ≤ 16 := hF 3
  have hF4 : F 4 ≤ 60 := hF 4
  have hF5 : F 5 ≤ 40 := hF 5
  have hF1 : F 1 ≤ 1439 := hF 1
  refine lv_aload_n hx hb dX8_is_0 rfl (lv_at hl 0 rfl) ?_
  have b1 : N 27 (3 * w + i) < F 3 ∧ N 28 (3 * w + i) < N 29 (3 * w + i) ∧ N 29 (3 * w + i) < N 8 (N 27 (3 * w + i)) := hwf.2.2.1 _ _ ‹TL F N (w)› (by omega)
  have b2 : N 8 (N 27 (3 * w + i)) ≤ 10 := hN 8 _
  refine h_get hx hb hts in_X8 hown hK (hW.k9 (w) (i) ‹TL F N (w)› (by omega)) rfl 0 (by decide) (hts _ q720) rfl (v := .ref (ad 4 (N 27 (3 * w + i)))) rfl dX8_is_1 ?_
  refine lv_aload_n hx hb dX8_is_4 rfl (lv_at hl 1 rfl) ?_
  have b3 : N 27 (3 * v + j) < F 3 ∧ N 28 (3 * v + j) < N 29 (3 * v + j) ∧ N 29 (3 * v + j) < N 8 (N 27 (3 * v + j)) := hwf.2.2.1 _ _ ‹TL F N (v)› (by omega)
  have b4 : N 8 (N 27 (3 * v + j)) ≤ 10 := hN 8 _
  refine h_get hx hb hts in_X8 hown hK (hW.k9 (v) (j) ‹TL F N (v)› (by omega)) rfl 0 (by decide) (hts _ q720) rfl (v := .ref (ad 4 (N 27 (3 * v + j)))) rfl dX8_is_5 ?_
  refine r_acmp_ne (P := (N 27 (3 * w + i)) = (N 27 (3 * v + j))) (tgt := 37) hx hb (hW.inj (k := 4) (by show _ < _; omega) (by show _ < _; omega)) dX8_is_8 (by decide) (fun h5 => ?_) (fun h5 => ?_)
  · skip
    refine lv_iconst (v := iI (0)) hx hb dX8_is_37 rfl ?_
    exact W.zret hx hb hr (by rfl) (fun t ht hWm => ⟨congrArg (fun z => Outcome.returned (some (Value.int (iI z)))) (by split <;> omega), ht⟩) (fun _ h => absurd h List.not_mem_nil) dX8_is_38
  · skip
    refine lv_aload_n hx hb dX8_is_11 rfl (lv_at hl 0 rfl) ?_
    refine h_get hx hb hts in_X8 hown hK (hW.k9 (w) (i) ‹TL F N (w)› (by omega)) rfl 1 (by decide) (hts _ q723) rfl (v := .int (iI (N 28 (3 * w + i)))) rfl dX8_is_12 ?_
    refine lv_aload_n hx hb dX8_is_15 rfl (lv_at hl 1 rfl) ?_
    refine h_get hx hb hts in_X8 hown hK (hW.k9 (v) (j) ‹TL F N (v)› (by omega)) rfl 1 (by decide) (hts _ q723) rfl (v := .int (iI (N 28 (3 * v + j)))) rfl dX8_is_16 ?_
    refine ri_icmp_ne (tgt := 37) hx hb (by unfold inR; omega) (by unfold inR; omega) dX8_is_19 (by decide) (fun h6 => ?_) (fun h6 => ?_)
    · skip
      refine lv_iconst (v := iI (0)) hx hb dX8_is_37 rfl ?_
      exact W.zret hx hb hr (by rfl) (fun t ht hWm => ⟨congrArg (fun z => Outcome.returned (some (Value.int (iI z)))) (by split <;> omega), ht⟩) (fun _ h => absurd h List.not_mem_nil) dX8_is_38
    · skip
      refine lv_aload_n hx hb dX8_is_22 rfl (lv_at hl 0 rfl) ?_
      refine h_get hx hb hts in_X8 hown hK (hW.k9 (w) (i) ‹TL F N (w)› (by omega)) rfl 2 (by decide) (hts _ q725) rfl (v := .int (iI (N 29 (3 * w + i)))) rfl dX8_is_23 ?_
      refine lv_aload_n hx hb dX8_is_26 rfl (lv_at hl 1 rfl) ?_
      refine h_get hx hb hts in_X8 hown hK (hW.k9 (v) (j) ‹TL F N (v)› (by omega)) rfl 2 (by decide) (hts _ q725) rfl (v := .int (iI (N 29 (3 * v + j)))) rfl dX8_is_27 ?_
      refine ri_icmp_ne (tgt := 37) hx hb (by unfold inR; omega) (by unfold inR; omega) dX8_is_30 (by decide) (fun h7 => ?_) (fun h7 => ?_)
      · skip
        refine lv_iconst (v := iI (0)) hx hb dX8_is_37 rfl ?_
        exact W.zret hx hb hr (by rfl) (fun t ht hWm => ⟨congrArg (fun z => Outcome.returned (some (Value.int (iI z)))) (by split <;> omega), ht⟩) (fun _ h => absurd h List.not_mem_nil) dX8_is_38
      · skip
        refine lv_iconst (v := iI (1)) hx hb dX8_is_33 rfl ?_
        refine lv_goto (tgt := 38) hx hb dX8_is_34 (by decide) ?_
        exact W.zret hx hb hr (by rfl) (fun t ht hWm => ⟨congrArg (fun z => Outcome.returned (some (Value.int (iI z)))) (by split <;> omega), ht⟩) (fun _ h => absurd h List.not_mem_nil) dX8_is_38

set_option maxHeartbeats 4000000 in
set_option maxRecDepth 100000 in
theorem cc_X7_end (l : Launch) (D : va_G) (cA : Nat → ClassId) (A : Nat → Prop) (sa : Nat → Nat) (ad : Nat → Nat → Nat) (F : Nat → Nat) (N : Nat → Nat → Nat) (Z : Nat → Int) (E : Nat → Nat → Int) (K : Nat) (hKb : K ≤ 1000000) (hF : FB F) (hN : NB N) (hZ : ZB K Z) (hwf : WF F N) (w : Nat) (hw : TL F N w) : Met l yX7_end (ws_ yX7_end cX7_end 1 (some (.object "LunchMarks$Station"))) ({ frames := 5, cells := 0, slots := 0, locals := 124 }) (PC D cA A sa ad F N Z E [.ref (ad 8 (w))]) (k2_QcV (.ref (ad 3 (enW N w)))) 0 0 (fun _ => False) := by
  refine Met.ofW (cc := cX7_end) (maxL := 1) (ret := (some (.object "LunchMarks$Station"))) (by decide) rfl ?_
  intro p e s m args below meth c s₁ B hml hv
  obtain ⟨rfl, hK, hW⟩ := hv
  have hx := B.exec
  have hb := B.bytes
  have hr := B.returns
  have hts := atoms_spec (ws := ws_ yX7_end cX7_end 1 (some (.object "LunchMarks$Station"))) B.pre
  have hts : ∀ w ∈ lw_all, w.before _ s = true := fun w h => hts w (List.mem_cons_of_mem _ h)
  have hown : s.vm.findClass RX7 = some m.cls := findClass_of_methodNamed B.named
  have hlocks := B.notSynchronized
  have hl := lv_entry ([.ref (ad 8 (w))]) (n := 1) (Nat.le_of_ble_eq_true rfl)
  rw [lg_entry_eq]
  generalize (lg_sl ([.ref (ad 8 (w))]) ++ List.replicate (1 - (lg_sl ([.ref (ad 8 (w))])).length) Slot.unset).toArray = ls at hl ⊢
  have hl : lv_has ls 1 [(0, .ref (ad 8 (w)))] := hl
  obtain ⟨hSX, hW⟩ := hW
  have hS : va_S A s.heap s.heap [] := va_S.rf
  have hF2 : F 2 ≤ 10 := hF 2
  have hF3 : F 3 ≤ 16 := hF 3
  have hF4 : F 4 ≤ 60 := hF 4
  have hF5 : F 5 ≤ 40 := hF 5
  have hF1 : F 1 ≤ 1439 := hF 1
  refine lv_aload_n hx hb dX7_end_0 rfl (lv_at hl 0 rfl) ?_
  refine h_get hx hb hts in_X7 hown hK (hW.k8 (w) ‹TL F N (w)›) rfl 6 (by decide) (hts _ q601) rfl (v := .ref (ad 1 (100 + w))) rfl dX7_end_1 ?_
  have b2 : N 24 (w) ≤ 3 := hN 24 _
  obtain ⟨mc1, cp1, cq1, cr1, hLi1⟩ := (hW.lg (w) ‹TL F N (w)›)
  refine rc_V (W.runV (As := []) (rest := []) ⟨hx, hb, hml, hown, hts⟩ (al_isEmpty l D cA (ad 1 (100 + w)) mc1 (ad 2 (100 + w)) (N 24 (w)) (by omega)) (cwV 0 hts (lw_V q670 q671 q672 q45 q673) rfl rfl rfl (by decide +kernel) ⟨Nat.le_of_ble_eq_true rfl, Nat.le_of_ble_eq_true rfl⟩) (preV hK hLi1.1 rfl hLi1.1) rfl rfl hl.1 rfl (lv_room (Nat.le_of_ble_eq_true rfl)) dX7_end_4 ⟨Nat.le_of_ble_eq_true rfl, Nat.le_of_ble_eq_true rfl⟩) ?_
  by_cases h3 : N 24 (w) = 0
  · refine ri_top (b := 1) (if_pos h3) ?_
    refine ri_if_eq (tgt := 17) hx hb (by unfold inR; omega) dX7_end_7 (by decide) (fun h4 => ?_) (fun h4 => ?_)
    · skip
      exfalso; omega
    · skip
      refine lv_aload_n hx hb dX7_end_10 rfl (lv_at hl 0 rfl) ?_
      have b5 : frW N (w) < F 2 := frW_lt hwf ‹TL F N (w)›
      refine h_get hx hb hts in_X7 hown hK (hW.k8 (w) ‹TL F N (w)›) rfl 0 (by decide) (hts _ q593) rfl (v := .ref (ad 3 (frW N (w)))) rfl dX7_end_11 ?_
      refine lv_goto (tgt := 42) hx hb dX7_end_14 (by decide) ?_
      exact W.aret hx hb hr (by first | exact Or.inl ⟨_, rfl⟩ | exact Or.inr ⟨_, rfl⟩) (Or.inr ⟨_, rfl⟩) (fun t ht hWm => ⟨congrArg (fun z => Outcome.returned (some z)) (by unfold enW; first | rw [if_pos (by assumption)] | rw [if_neg (by assumption)]), ht⟩) (fun _ h => absurd h List.not_mem_nil) dX7_end_42
  · refine ri_top (b := 0) (if_neg h3) ?_
    refine ri_if_eq (tgt := 17) hx hb (by unfold inR; omega) dX7_end_7 (by decide) (fun h6 => ?_) (fun h6 => ?_)
    · skip
      refine lv_aload_n hx hb dX7_end_17 rfl (lv_at hl 0 rfl) ?_
      refine h_get hx hb hts in_X7 hown hK (hW.k8 (w) ‹TL F N (w)›) rfl 6 (by decide) (hts _ q601) rfl (v := .ref (ad 1 (100 + w))) rfl dX7_end_18 ?_
      refine lv_aload_n hx hb dX7_end_21 rfl (lv_at hl 0 rfl) ?_
      refine h_get hx hb hts in_X7 hown hK (hW.k8 (w) ‹TL F N (w)›) rfl 6 (by decide) (hts _ q601) rfl (v := .ref (ad 1 (100 + w))) rfl dX7_end_22 ?_
      obtain ⟨mc7, cp7, cq7, cr7, hLi7⟩ := (hW.lg (w) ‹TL F N (w)›)
      refine rc_V (W.runV (As := []) (rest := [.ref (ad 1 (100 + w))]) ⟨hx, hb, hml, hown, hts⟩ (al_size l D cA (ad 1 (100 + w)) mc7 (ad 2 (100 + w)) (N 24 (w))) (cwV 0 hts (lw_V q674 q449 q450 q45 q451) rfl rfl rfl (by decide +kernel) ⟨Nat.le_of_ble_eq_true rfl, Nat.le_of_ble_eq_true rfl⟩) (preV hK hLi7.1 rfl hLi7.1) rfl rfl hl.1 rfl (lv_room (Nat.le_of_ble_eq_true rfl)) dX7_end_25 ⟨Nat.le_of_ble_eq_true rfl, Nat.le_of_ble_eq_true rfl⟩) ?_
      refine lv_iconst (v := iI (1)) hx hb dX7_end_28 rfl ?_
      refine ri_isub hx hb dX7_end_29 ?_
      obtain ⟨mc8, cp8, cq8, cr8, hLi8⟩ := (hW.lg (w) ‹TL F N (w)›)
      refine ri_top (b := ((N 24 (w) - 1 : Nat) : Int)) (by omega) ?_
      refine rc_V (W.runV (As := [.int (iI ((N 24 (w) - 1 : Nat)))]) (rest := []) ⟨hx, hb, hml, hown, hts⟩ (al_get l D cA (ad 1 (100 + w)) mc8 (ad 2 (100 + w)) (N 24 (w)) cp8 (fun j => ad 9 (3 * w + j)) (N 24 (w) - 1) (by omega)) (cwV 1 hts (lw_V q675 q566 q567 q45 q568) rfl rfl rfl (by decide +kernel) ⟨Nat.le_of_ble_eq_true rfl, Nat.le_of_ble_eq_true rfl⟩) (preV hK hLi8.1 rfl hLi8) rfl rfl hl.1 rfl (lv_room (Nat.le_of_ble_eq_true rfl)) dX7_end_30 ⟨Nat.le_of_ble_eq_true rfl, Nat.le_of_ble_eq_true rfl⟩) ?_
      have b9 : N 27 (3 * w + (N 24 (w) - 1)) < F 3 ∧ N 28 (3 * w + (N 24 (w) - 1)) < N 29 (3 * w + (N 24 (w) - 1)) ∧ N 29 (3 * w + (N 24 (w) - 1)) < N 8 (N 27 (3 * w + (N 24 (w) - 1))) := hwf.2.2.1 _ _ ‹TL F N (w)› (by omega)
      have b10 : N 8 (N 27 (3 * w + (N 24 (w) - 1))) ≤ 10 := hN 8 _
      refine h_cast (ci := 7) (q := (RX8, TX8, 3)) hx hb hown (hts _ q676) hK rfl (isO.of (hW.k9 (w) (N 24 (w) - 1) ‹TL F N (w)› (by omega))) dX7_end_33 ?_
      refine rc_V (W.runV (As := []) (rest := []) ⟨hx, hb, hml, hown, hts⟩ (cc_X8_to l D cA A sa ad F N Z E K hKb hF hN hZ hwf w (N 24 (w) - 1) ‹_› (by omega)) (cwV 0 hts (lw_V q677 q678 q679 q72 q680) rfl rfl rfl (by decide +kernel) ⟨Nat.le_of_ble_eq_true rfl, Nat.le_of_ble_eq_true rfl⟩) (preVC hK hSX hS (hW.k9 (w) (N 24 (w) - 1) ‹TL F N (w)› (by omega)) rfl hW) rfl rfl hl.1 rfl (lv_room (Nat.le_of_ble_eq_true rfl)) dX7_end_36 ⟨Nat.le_of_ble_eq_true rfl, Nat.le_of_ble_eq_true rfl⟩) ?_
      have b11 : N 9 (10 * (N 27 (3 * w + (N 24 (w) - 1))) + (N 29 (3 * w + (N 24 (w) - 1)))) < F 2 := hwf.1 _ _ (by omega) (by omega)
      refine h_getN hx hb hts in_X5 hown hK (hW.k6 (N 27 (3 * w + (N 24 (w) - 1))) (N 29 (3 * w + (N 24 (w) - 1))) (by omega) (by omega)) rfl 0 (by decide) q818 rfl (v := .ref (ad 3 (N 9 (10 * (N 27 (3 * w + (N 24 (w) - 1))) + (N 29 (3 * w + (N 24 (w) - 1))))))) rfl dX7_end_39 ?_
      exact W.aret hx hb hr (by first | exact Or.inl ⟨_, rfl⟩ | exact Or.inr ⟨_, rfl⟩) (Or.inr ⟨_, rfl⟩) (fun t ht hWm => ⟨congrArg (fun z => Outcome.returned (some z)) (by unfold enW; first | rw [if_pos (by assumption)] | rw [if_neg (by assumption)]), ht⟩) (fun _ h => absurd h List.not_mem_nil) dX7_end_42
    · skip
      exfalso; omega

set_option maxHeartbeats 4000000 in
set_option maxRecDepth 100000 in
theorem cc_X7_sorted (l : Launch) (D : va_G) (cA : Nat → ClassId) (A : Nat → Prop) (sa : Nat → Nat) (ad : Nat → Nat → Nat) (F : Nat → Nat) (N : Nat → Nat → Nat) (Z : Nat → Int) (E : Nat → Nat → Int) (K : Nat) (hKb : K ≤ 1000000) (hF : FB F) (hN : NB N) (hZ : ZB K Z) (hwf : WF F N) (w : Nat) (hw : TL F N w) : Met l yX7_sorted (ws_ yX7_sorted cX7_sorted 1 (some .int)) ({ frames := 5, cells := 0, slots := 0, locals := 124 }) (PC D cA A sa ad F N Z E [.ref (ad 8 (w))]) (k2_QcV (.int (iI (thW N w)))) 0 0 (fun _ => False) := by
  refine Met.ofW (cc := cX7_sorted) (maxL := 1) (ret := (some .int)) (by decide) rfl ?_
  intro p e s m args below meth c s₁ B hml hv
  obtain ⟨rfl, hK, hW⟩ := hv
  have hx := B.exec
  have hb := B.bytes
  have hr := B.returns
  have hts := atoms_spec (ws := ws_ yX7_sorted cX7_sorted 1 (some .int)) B.pre
  have hts : ∀ w ∈ lw_all, w.before _ s = true := fun w h => hts w (List.mem_cons_of_mem _ h)
  have hown : s.vm.findClass RX7 = some m.cls := findClass_of_methodNamed B.named
  have hlocks := B.notSynchronized
  have hl := lv_entry ([.ref (ad 8 (w))]) (n := 1) (Nat.le_of_ble_eq_true rfl)
  rw [lg_entry_eq]
  generalize (lg_sl ([.ref (ad 8 (w))]) ++ List.replicate (1 - (lg_sl ([.ref (ad 8 (w))])).length) Slot.unset).toArray = ls at hl ⊢
  have hl : lv_has ls 1 [(0, .ref (ad 8 (w)))] := hl
  obtain ⟨hSX, hW⟩ := hW
  have hS : va_S A s.heap s.heap [] := va_S.rf
  have hF2 : F 2 ≤ 10 := hF 2
  have hF3 : F 3 ≤ 16 := hF 3
  have hF4 : F 4 ≤ 60 := hF 4
  have hF5 : F 5 ≤ 40 := hF 5
  have hF1 : F 1 ≤ 1439 := hF 1
  refine lv_aload_n hx hb dX7_sorted_0 rfl (lv_at hl 0 rfl) ?_
  refine h_get hx hb hts in_X7 hown hK (hW.k8 (w) ‹TL F N (w)›) rfl 6 (by decide) (hts _ q601) rfl (v := .ref (ad 1 (100 + w))) rfl dX7_sorted_1 ?_
  have b2 : N 24 (w) ≤ 3 := hN 24 _
  obtain ⟨mc1, cp1, cq1, cr1, hLi1⟩ := (hW.lg (w) ‹TL F N (w)›)
  refine rc_V (W.runV (As := []) (rest := []) ⟨hx, hb, hml, hown, hts⟩ (al_isEmpty l D cA (ad 1 (100 + w)) mc1 (ad 2 (100 + w)) (N 24 (w)) (by omega)) (cwV 0 hts (lw_V q670 q671 q672 q45 q673) rfl rfl rfl (by decide +kernel) ⟨Nat.le_of_ble_eq_true rfl, Nat.le_of_ble_eq_true rfl⟩) (preV hK hLi1.1 rfl hLi1.1) rfl rfl hl.1 rfl (lv_room (Nat.le_of_ble_eq_true rfl)) dX7_sorted_4 ⟨Nat.le_of_ble_eq_true rfl, Nat.le_of_ble_eq_true rfl⟩) ?_
  by_cases h3 : N 24 (w) = 0
  · refine ri_top (b := 1) (if_pos h3) ?_
    refine ri_if_eq (tgt := 17) hx hb (by unfold inR; omega) dX7_sorted_7 (by decide) (fun h4 => ?_) (fun h4 => ?_)
    · skip
      exfalso; omega
    · skip
      refine lv_aload_n hx hb dX7_sorted_10 rfl (lv_at hl 0 rfl) ?_
      have b5 : bgW N (w) ≤ 1619 := bgW_le hN _
      refine h_get hx hb hts in_X7 hown hK (hW.k8 (w) ‹TL F N (w)›) rfl 3 (by decide) (hts _ q598) rfl (v := .int (iI (bgW N (w)))) rfl dX7_sorted_11 ?_
      refine lv_goto (tgt := 42) hx hb dX7_sorted_14 (by decide) ?_
      exact W.iret hx hb hr (fun t ht hWm => ⟨congrArg (fun z => Outcome.returned (some (Value.int (iI z)))) (by unfold thW; first | rw [if_pos (by assumption)] | (rw [if_neg (by assumption)]; rfl)), ht⟩) (fun _ h => absurd h List.not_mem_nil) dX7_sorted_42
  · refine ri_top (b := 0) (if_neg h3) ?_
    refine ri_if_eq (tgt := 17) hx hb (by unfold inR; omega) dX7_sorted_7 (by decide) (fun h6 => ?_) (fun h6 => ?_)
    · skip
      refine lv_aload_n hx hb dX7_sorted_17 rfl (lv_at hl 0 rfl) ?_
      refine h_get hx hb hts in_X7 hown hK (hW.k8 (w) ‹TL F N (w)›) rfl 6 (by decide) (hts _ q601) rfl (v := .ref (ad 1 (100 + w))) rfl dX7_sorted_18 ?_
      refine lv_aload_n hx hb dX7_sorted_21 rfl (lv_at hl 0 rfl) ?_
      refine h_get hx hb hts in_X7 hown hK (hW.k8 (w) ‹TL F N (w)›) rfl 6 (by decide) (hts _ q601) rfl (v := .ref (ad 1 (100 + w))) rfl dX7_sorted_22 ?_
      obtain ⟨mc7, cp7, cq7, cr7, hLi7⟩ := (hW.lg (w) ‹TL F N (w)›)
      refine rc_V (W.runV (As := []) (rest := [.ref (ad 1 (100 + w))]) ⟨hx, hb, hml, hown, hts⟩ (al_size l D cA (ad 1 (100 + w)) mc7 (ad 2 (100 + w)) (N 24 (w))) (cwV 0 hts (lw_V q674 q449 q450 q45 q451) rfl rfl rfl (by decide +kernel) ⟨Nat.le_of_ble_eq_true rfl, Nat.le_of_ble_eq_true rfl⟩) (preV hK hLi7.1 rfl hLi7.1) rfl rfl hl.1 rfl (lv_room (Nat.le_of_ble_eq_true rfl)) dX7_sorted_25 ⟨Nat.le_of_ble_eq_true rfl, Nat.le_of_ble_eq_true rfl⟩) ?_
      refine lv_iconst (v := iI (1)) hx hb dX7_sorted_28 rfl ?_
      refine ri_isub hx hb dX7_sorted_29 ?_
      obtain ⟨mc8, cp8, cq8, cr8, hLi8⟩ := (hW.lg (w) ‹TL F N (w)›)
      refine ri_top (b := ((N 24 (w) - 1 : Nat) : Int)) (by omega) ?_
      refine rc_V (W.runV (As := [.int (iI ((N 24 (w) - 1 : Nat)))]) (rest := []) ⟨hx, hb, hml, hown, hts⟩ (al_get l D cA (ad 1 (100 + w)) mc8 (ad 2 (100 + w)) (N 24 (w)) cp8 (fun j => ad 9 (3 * w + j)) (N 24 (w) - 1) (by omega)) (cwV 1 hts (lw_V q675 q566 q567 q45 q568) rfl rfl rfl (by decide +kernel) ⟨Nat.le_of_ble_eq_true rfl, Nat.le_of_ble_eq_true rfl⟩) (preV hK hLi8.1 rfl hLi8) rfl rfl hl.1 rfl (lv_room (Nat.le_of_ble_eq_true rfl)) dX7_sorted_30 ⟨Nat.le_of_ble_eq_true rfl, Nat.le_of_ble_eq_true rfl⟩) ?_
      have b9 : N 27 (3 * w + (N 24 (w) - 1)) < F 3 ∧ N 28 (3 * w + (N 24 (w) - 1)) < N 29 (3 * w + (N 24 (w) - 1)) ∧ N 29 (3 * w + (N 24 (w) - 1)) < N 8 (N 27 (3 * w + (N 24 (w) - 1))) := hwf.2.2.1 _ _ ‹TL F N (w)› (by omega)
      have b10 : N 8 (N 27 (3 * w + (N 24 (w) - 1))) ≤ 10 := hN 8 _
      refine h_cast (ci := 7) (q := (RX8, TX8, 3)) hx hb hown (hts _ q676) hK rfl (isO.of (hW.k9 (w) (N 24 (w) - 1) ‹TL F N (w)› (by omega))) dX7_sorted_33 ?_
      refine rc_V (W.runV (As := []) (rest := []) ⟨hx, hb, hml, hown, hts⟩ (cc_X8_to l D cA A sa ad F N Z E K hKb hF hN hZ hwf w (N 24 (w) - 1) ‹_› (by omega)) (cwV 0 hts (lw_V q677 q678 q679 q72 q680) rfl rfl rfl (by decide +kernel) ⟨Nat.le_of_ble_eq_true rfl, Nat.le_of_ble_eq_true rfl⟩) (preVC hK hSX hS (hW.k9 (w) (N 24 (w) - 1) ‹TL F N (w)› (by omega)) rfl hW) rfl rfl hl.1 rfl (lv_room (Nat.le_of_ble_eq_true rfl)) dX7_sorted_36 ⟨Nat.le_of_ble_eq_true rfl, Nat.le_of_ble_eq_true rfl⟩) ?_
      refine rc_V (W.runV (As := []) (rest := []) ⟨hx, hb, hml, hown, hts⟩ (cc_X5_sorted l D cA A sa ad F N Z E K hKb hF hN hZ hwf (N 27 (3 * w + (N 24 (w) - 1))) (N 29 (3 * w + (N 24 (w) - 1))) (by omega) (by omega)) (cwV 0 hts (lw_V q687 q688 q689 q67 q690) rfl rfl rfl (by decide +kernel) ⟨Nat.le_of_ble_eq_true rfl, Nat.le_of_ble_eq_true rfl⟩) (preVC hK hSX hS (hW.k6 (N 27 (3 * w + (N 24 (w) - 1))) (N 29 (3 * w + (N 24 (w) - 1))) (by omega) (by omega)) rfl hW) rfl rfl hl.1 rfl (lv_room (Nat.le_of_ble_eq_true rfl)) dX7_sorted_39 ⟨Nat.le_of_ble_eq_true rfl, Nat.le_of_ble_eq_true rfl⟩) ?_
      have b11 : behN N (10 * (N 27 (3 * w + (N 24 (w) - 1))) + (N 29 (3 * w + (N 24 (w) - 1)))) ≤ 1499 := behN_le hN _
      exact W.iret hx hb hr (fun t ht hWm => ⟨congrArg (fun z => Outcome.returned (some (Value.int (iI z)))) (by unfold thW; first | rw [if_pos (by assumption)] | (rw [if_neg (by assumption)]; rfl)), ht⟩) (fun _ h => absurd h List.not_mem_nil) dX7_sorted_42
    · skip
      exfalso; omega

set_option maxHeartbeats 4000000 in
set_option maxRecDepth 100000 in
theorem cc_X7_arrives (l : Launch) (D : va_G) (cA : Nat → ClassId) (A : Nat → Prop) (sa : Nat → Nat) (ad : Nat → Nat → Nat) (F : Nat → Nat) (N : Nat → Nat → Nat) (Z : Nat → Int) (E : Nat → Nat → Int) (K : Nat) (hKb : K ≤ 1000000) (hF : FB F) (hN : NB N) (hZ : ZB K Z) (hwf : WF F N) (w : Nat) (hw : TL F N w) : Met l yX7_arrives (ws_ yX7_arrives cX7_arrives 1 (some .int)) ({ frames := 6, cells := 0, slots := 0, locals := 144 }) (PC D cA A sa ad F N Z E [.ref (ad 8 (w))]) (k2_QcV (.int (iI (arW N w)))) 0 0 (fun _ => False) := by
  refine Met.ofW (cc := cX7_arrives) (maxL := 1) (ret := (some .int)) (by decide) rfl ?_
  intro p e s m args below meth c s₁ B hml hv
  obtain ⟨rfl, hK, hW⟩ := hv
  have hx := B.exec
  have hb := B.bytes
  have hr := B.returns
  have hts := atoms_spec (ws := ws_ yX7_arrives cX7_arrives 1 (some .int)) B.pre
  have hts : ∀ w ∈ lw_all, w.before _ s = true := fun w h => hts w (List.mem_cons_of_mem _ h)
  have hown : s.vm.findClass RX7 = some m.cls := findClass_of_methodNamed B.named
  have hlocks := B.notSynchronized
  have hl := lv_entry ([.ref (ad 8 (w))]) (n := 1) (Nat.le_of_ble_eq_true rfl)
  rw [lg_entry_eq]
  generalize (lg_sl ([.ref (ad 8 (w))]) ++ List.replicate (1 - (lg_sl ([.ref (ad 8 (w))])).length) Slot.unset).toArray = ls at hl ⊢
  have hl : lv_has ls 1 [(0, .ref (ad 8 (w)))] := hl
  obtain ⟨hSX, hW⟩ := hW
  have hS : va_S A s.heap s.heap [] := va_S.rf
  have hF2 : F 2 ≤ 10 := hF 2
  have hF3 : F 3 ≤ 16 := hF 3
  have hF4 : F 4 ≤ 60 := hF 4
  have hF5 : F 5 ≤ 40 := hF 5
  have hF1 : F 1 ≤ 1439 := hF 1
  refine lv_aload_n hx hb dX7_arrives_0 rfl (lv_at hl 0 rfl) ?_
  have b1 : N 25 (w) ≤ 2 := hwf.2.2.2 _
  refine h_get hx hb hts in_X7 hown hK (hW.k8 (w) ‹TL F N (w)›) rfl 7 (by decide) (hts _ q603) rfl (v := .ref (sa (N 25 (w)))) rfl dX7_arrives_1 ?_
  refine va_gets (v := .ref (sa 1)) hx hb hSX.2.2.2.2.2.1 hS hown (hts _ q885) (fun _ h => h) dX7_arrives_4 ?_
  refine r_acmp_ne (P := (N 25 (w)) = 1) (tgt := 22) hx hb (hSX.ne (by omega) (by omega)) dX7_arrives_7 (by decide) (fun h2 => ?_) (fun h2 => ?_)
  · skip
    refine lv_iconst (v := iI (-1)) hx hb dX7_arrives_22 rfl ?_
    exact W.iret hx hb hr (fun t ht hWm => ⟨congrArg (fun z => Outcome.returned (some (Value.int (iI z)))) (by unfold arW; split <;> omega), ht⟩) (fun _ h => absurd h List.not_mem_nil) dX7_arrives_23
  · skip
    refine lv_aload_n hx hb dX7_arrives_10 rfl (lv_at hl 0 rfl) ?_
    refine rc_V (W.runV (As := []) (rest := []) ⟨hx, hb, hml, hown, hts⟩ (cc_X7_sorted l D cA A sa ad F N Z E K hKb hF hN hZ hwf w ‹_›) (cwV 0 hts (lw_V q886 q684 q685 q69 q686) rfl rfl rfl (by decide +kernel) ⟨Nat.le_of_ble_eq_true rfl, Nat.le_of_ble_eq_true rfl⟩) (preVC hK hSX hS (hW.k8 (w) ‹TL F N (w)›) rfl hW) rfl rfl hl.1 rfl (lv_room (Nat.le_of_ble_eq_true rfl)) dX7_arrives_11 ⟨Nat.le_of_ble_eq_true rfl, Nat.le_of_ble_eq_true rfl⟩) ?_
    have b3 : thW N w ≤ 1619 := thW_le hN _
    refine lv_aload_n hx hb dX7_arrives_14 rfl (lv_at hl 0 rfl) ?_
    have b4 : wtW N (w) ≤ 120 := wtW_le hN _
    refine h_get hx hb hts in_X7 hown hK (hW.k8 (w) ‹TL F N (w)›) rfl 4 (by decide) (hts _ q599) rfl (v := .int (iI (wtW N (w)))) rfl dX7_arrives_15 ?_
    refine ri_iadd hx hb dX7_arrives_18 ?_
    refine lv_goto (tgt := 23) hx hb dX7_arrives_19 (by decide) ?_
    exact W.iret hx hb hr (fun t ht hWm => ⟨congrArg (fun z => Outcome.returned (some (Value.int (iI z)))) (by unfold arW; split <;> omega), ht⟩) (fun _ h => absurd h List.not_mem_nil) dX7_arrives_23

set_option maxHeartbeats 4000000 in
set_option maxRecDepth 100000 in
theorem cc_X7_isLate (l : Launch) (D : va_G) (cA : Nat → ClassId) (A : Nat → Prop) (sa : Nat → Nat) (ad : Nat → Nat → Nat) (F : Nat → Nat) (N : Nat → Nat → Nat) (Z : Nat → Int) (E : Nat → Nat → Int) (K : Nat) (hKb : K ≤ 1000000) (hF : FB F) (hN : NB N) (hZ : ZB K Z) (hwf : WF F N) (w : Nat) (hw : TL F N w) : Met l yX7_isLate (ws_ yX7_isLate cX7_isLate 1 (some .boolean)) ({ frames := 7, cells := 0, slots := 0, locals := 164 }) (PC D cA A sa ad F N Z E [.ref (ad 8 (w))]) (k2_QcV (.int (iI (if N 25 w = 1 ∧ (duW N w : Int) < arW N w then 1 else 0)))) 0 0 (fun _ => False) := by
  refine Met.ofW (cc := cX7_isLate) (maxL := 1) (ret := (some .boolean)) (by decide) rfl ?_
  intro p e s m args below meth c s₁ B hml hv
  obtain ⟨rfl, hK, hW⟩ := hv
  have hx := B.exec
  have hb := B.bytes
  have hr := B.returns
  have hts := atoms_spec (ws := ws_ yX7_isLate cX7_isLate 1 (some .boolean)) B.pre
  have hts : ∀ w ∈ lw_all, w.before _ s = true := fun w h => hts w (List.mem_cons_of_mem _ h)
  have hown : s.vm.findClass RX7 = some m.cls := findClass_of_methodNamed B.named
  have hlocks := B.notSynchronized
  have hl := lv_entry ([.ref (ad 8 (w))]) (n := 1) (Nat.le_of_ble_eq_true rfl)
  rw [lg_entry_eq]
  generalize (lg_sl ([.ref (ad 8 (w))]) ++ List.replicate (1 - (lg_sl ([.ref (ad 8 (w))])).length) Slot.unset).toArray = ls at hl ⊢
  have hl : lv_has ls 1 [(0, .ref (ad 8 (w)))] := hl
  obtain ⟨hSX, hW⟩ := hW
  have hS : va_S A s.heap s.heap [] := va_S.rf
  have hF2 : F 2 ≤ 10 := hF 2
  have hF3 : F 3 ≤ 16 := hF 3
  have hF4 : F 4 ≤ 60 := hF 4
  have hF5 : F 5 ≤ 40 := hF 5
  have hF1 : F 1 ≤ 1439 := hF 1
  refine lv_aload_n hx hb dX7_isLate_0 rfl (lv_at hl 0 rfl) ?_
  have b1 : N 25 (w) ≤ 2 := hwf.2.2.2 _
  refine h_get hx hb hts in_X7 hown hK (hW.k8 (w) ‹TL F N (w)›) rfl 7 (by decide) (hts _ q603) rfl (v := .ref (sa (N 25 (w)))) rfl dX7_isLate_1 ?_
  refine va_gets (v := .ref (sa 1)) hx hb hSX.2.2.2.2.2.1 hS hown (hts _ q885) (fun _ h => h) dX7_isLate_4 ?_
  refine r_acmp_ne (P := (N 25 (w)) = 1) (tgt := 25) hx hb (hSX.ne (by omega) (by omega)) dX7_isLate_7 (by decide) (fun h2 => ?_) (fun h2 => ?_)
  · skip
    refine lv_iconst (v := iI (0)) hx hb dX7_isLate_25 rfl ?_
    exact W.zret hx hb hr (by rfl) (fun t ht hWm => ⟨congrArg (fun z => Outcome.returned (some (Value.int (iI z)))) (by split <;> omega), ht⟩) (fun _ h => absurd h List.not_mem_nil) dX7_isLate_26
  · skip
    refine lv_aload_n hx hb dX7_isLate_10 rfl (lv_at hl 0 rfl) ?_
    refine rc_V (W.runV (As := []) (rest := []) ⟨hx, hb, hml, hown, hts⟩ (cc_X7_arrives l D cA A sa ad F N Z E K hKb hF hN hZ hwf w ‹_›) (cwV 0 hts (lw_V q903 q882 q883 q69 q884) rfl rfl rfl (by decide +kernel) ⟨Nat.le_of_ble_eq_true rfl, Nat.le_of_ble_eq_true rfl⟩) (preVC hK hSX hS (hW.k8 (w) ‹TL F N (w)›) rfl hW) rfl rfl hl.1 rfl (lv_room (Nat.le_of_ble_eq_true rfl)) dX7_isLate_11 ⟨Nat.le_of_ble_eq_true rfl, Nat.le_of_ble_eq_true rfl⟩) ?_
    have b3 : -1 ≤ arW N w ∧ arW N w ≤ 1739 := arW_le hN _
    refine lv_aload_n hx hb dX7_isLate_14 rfl (lv_at hl 0 rfl) ?_
    have b4 : duW N (w) ≤ 1439 := duW_le hN _
    refine h_get hx hb hts in_X7 hown hK (hW.k8 (w) ‹TL F N (w)›) rfl 5 (by decide) (hts _ q600) rfl (v := .int (iI (duW N (w)))) rfl dX7_isLate_15 ?_
    refine ri_icmp_le (tgt := 25) hx hb (by unfold inR; omega) (by unfold inR; omega) dX7_isLate_18 (by decide) (fun h5 => ?_) (fun h5 => ?_)
    · skip
      refine lv_iconst (v := iI (0)) hx hb dX7_isLate_25 rfl ?_
      exact W.zret hx hb hr (by rfl) (fun t ht hWm => ⟨congrArg (fun z => Outcome.returned (some (Value.int (iI z)))) (by split <;> omega), ht⟩) (fun _ h => absurd h List.not_mem_nil) dX7_isLate_26
    · skip
      refine lv_iconst (v := iI (1)) hx hb dX7_isLate_21 rfl ?_
      refine lv_goto (tgt := 26) hx hb dX7_isLate_22 (by decide) ?_
      exact W.zret hx hb hr (by rfl) (fun t ht hWm => ⟨congrArg (fun z => Outcome.returned (some (Value.int (iI z)))) (by split <;> omega), ht⟩) (fun _ h => absurd h List.not_mem_nil) dX7_isLate_26

set_option maxHeartbeats 4000000 in
set_option maxRecDepth 100000 in
theorem cc_X7_uses (l : Launch) (D : va_G) (cA : Nat → ClassId) (A : Nat → Prop) (sa : Nat → Nat) (ad : Nat → Nat → Nat) (F : Nat → Nat) (N : Nat → Nat → Nat) (Z : Nat → Int) (E : Nat → Nat → Int) (K : Nat) (hKb : K ≤ 1000000) (hF : FB F) (hN : NB N) (hZ : ZB K Z) (hwf : WF F N) (w t : Nat) (hw : TL F N w) (ht : t < F 3) : Met l yX7_uses (ws_ yX7_uses cX7_uses 4 (some .boolean)) ({ frames := 4, cells := 0, slots := 0, locals := 104 }) (PC D cA A sa ad F N Z E [.ref (ad 8 (w)), .ref (ad 4 (t))]) (k2_QcV (.int (iI (if usB N w t = true then 1 else 0)))) 0 0 (fun _ => False) := by
  refine Met.ofW (cc := cX7_uses) (maxL := 4) (ret := (some .boolean)) (by decide) rfl ?_
  intro p e s m args below meth c s₁ B hml hv
  obtain ⟨rfl, hK, hW⟩ := hv
  have hx := B.exec
  have hb := B.bytes
  have hr := B.returns
  have hts := atoms_spec (ws := ws_ yX7_uses cX7_uses 4 (some .boolean)) B.pre
  have hts : ∀ w ∈ lw_all, w.before _ s = true := fun w h => hts w (List.mem_cons_of_mem _ h)
  have hown : s.vm.findClass RX7 = some m.cls := findClass_of_methodNamed B.named
  have hlocks := B.notSynchronized
  have hl := lv_entry ([.ref (ad 8 (w)), .ref (ad 4 (t))]) (n := 4) (Nat.le_of_ble_eq_true rfl)
  rw [lg_entry_eq]
  generalize (lg_sl ([.ref (ad 8 (w)), .ref (ad 4 (t))]) ++ List.replicate (4 - (lg_sl ([.ref (ad 8 (w)), .ref (ad 4 (t))])).length) Slot.unset).toArray = ls at hl ⊢
  have hl : lv_has ls 4 [(0, .ref (ad 8 (w))), (1, .ref (ad 4 (t)))] := hl
  obtain ⟨hSX, hW⟩ := hW
  have hS : va_S A s.heap s.heap [] := va_S.rf
  have hF2 : F 2 ≤ 10 := hF 2
  have hF3 : F 3 ≤ 16 := hF 3
  have hF4 : F 4 ≤ 60 := hF 4
  have hF5 : F 5 ≤ 40 := hF 5
  have hF1 : F 1 ≤ 1439 := hF 1
  refine lv_iconst (v := iI (0)) hx hb dX7_uses_0 rfl ?_
  refine lv_istore_n (lv' := [(2, .int (iI (0))), (0, .ref (ad 8 (w))), (1, .ref (ad 4 (t)))]) hx hb dX7_uses_1 rfl hl (by decide) rfl (fun ls hl => ?_)
  refine lv_iconst (v := iI (0)) hx hb dX7_uses_2 rfl ?_
  refine lv_istore_n (lv' := [(3, .int (iI (0))), (2, .int (iI (0))), (0, .ref (ad 8 (w))), (1, .ref (ad 4 (t)))]) hx hb dX7_uses_3 rfl hl (by decide) rfl (fun ls hl => ?_)
  have lp4 : ∀ (fuel : Nat) (sv i : Nat) (hi : i ≤ N 24 w) (hsv : sv = if anyB (fun i => decide (N 27 (3 * w + i) = t)) i = true then 1 else 0), N 24 w - i < fuel → ∀ (ls : Array Slot), lv_has ls 4 [(3, .int (iI (i))), (2, .int (iI (sv))), (0, .ref (ad 8 (w))), (1, .ref (ad 4 (t)))] → W p l e (headSpec (ws_ yX7_uses cX7_uses 4 (some .boolean)) ({ frames := 4, cells := 0, slots := 0, locals := 104 })).room s m ([.ref (ad 8 (w)), .ref (ad 4 (t))] : List Value).toArray below meth c s.heap [] 0 0 (MQ below (k2_QcV (.int (iI (if usB N w t = true then 1 else 0)))) ([.ref (ad 8 (w)), .ref (ad 4 (t))] : List Value).toArray s 0 0 (fun _ => False)) (F0 m 4 ls []) := by
    intro fuel
    induction fuel with
    | zero => intro sv i hi hsv hm; exact absurd hm (Nat.not_lt_zero _)
    | succ fuel ih4 =>
      intro sv i hi hsv hm4 ls hl
      have hm3 : N 24 w ≤ 3 := hN 24 w
      have hs1 : sv ≤ 1 := by rw [hsv]; split <;> omega
      refine lv_iload_n hx hb dX7_uses_4 rfl (lv_at hl 0 rfl) ?_
      refine lv_aload_n hx hb dX7_uses_5 rfl (lv_at hl 2 rfl) ?_
      refine h_get hx hb hts in_X7 hown hK (hW.k8 (w) ‹TL F N (w)›) rfl 6 (by decide) (hts _ q601) rfl (v := .ref (ad 1 (100 + w))) rfl dX7_uses_6 ?_
      have b2 : N 24 (w) ≤ 3 := hN 24 _
      obtain ⟨mc1, cp1, cq1, cr1, hLi1⟩ := (hW.lg (w) ‹TL F N (w)›)
      refine rc_V (W.runV (As := []) (rest := [.int (iI (i))]) ⟨hx, hb, hml, hown, hts⟩ (al_size l D cA (ad 1 (100 + w)) mc1 (ad 2 (100 + w)) (N 24 (w))) (cwV 0 hts (lw_V q674 q449 q450 q45 q451) rfl rfl rfl (by decide +kernel) ⟨Nat.le_of_ble_eq_true rfl, Nat.le_of_ble_eq_true rfl⟩) (preV hK hLi1.1 rfl hLi1.1) rfl rfl hl.1 rfl (lv_room (Nat.le_of_ble_eq_true rfl)) dX7_uses_9 ⟨Nat.le_of_ble_eq_true rfl, Nat.le_of_ble_eq_true rfl⟩) ?_
      refine ri_icmp_ge (tgt := 49) hx hb (by unfold inR; omega) (by unfold inR; omega) dX7_uses_12 (by decide) (fun h3 => ?_) (fun h3 => ?_)
      · skip
        refine lv_iload_n hx hb dX7_uses_49 rfl (lv_at hl 1 rfl) ?_
        rw [show i = N 24 w by omega] at hsv
        have hsv : sv = if usB N w t = true then 1 else 0 := hsv
        subst hsv
        have e : ((((if usB N w t = true then 1 else 0 : Nat)) : Nat) : Int) = if usB N w t = true then 1 else 0 := by split <;> rfl
        rw [e]
        exact W.zret hx hb hr nar_ite (fun t ht hWm => ⟨rfl, ht⟩) (fun _ h => absurd h List.not_mem_nil) dX7_uses_50
      · skip
        refine lv_iload_n hx hb dX7_uses_15 rfl (lv_at hl 1 rfl) ?_
        refine ri_if_ne (tgt := 37) hx hb (by unfold inR; omega) dX7_uses_16 (by decide) (fun h4 => ?_) (fun h4 => ?_)
        · skip
          refine lv_iconst (v := iI (1)) hx hb dX7_uses_37 rfl ?_
          refine lv_goto (tgt := 42) hx hb dX7_uses_38 (by decide) ?_
          refine lv_istore_n (lv' := [(2, .int (iI (1))), (3, .int (iI (i))), (0, .ref (ad 8 (w))), (1, .ref (ad 4 (t)))]) hx hb dX7_uses_42 rfl hl (by decide) rfl (fun ls hl => ?_)
          refine lv_iinc (v := iI ((i + 1 : Nat))) (lv' := [(3, .int (iI ((i + 1 : Nat)))), (2, .int (iI (1))), (0, .ref (ad 8 (w))), (1, .ref (ad 4 (t)))]) hx hb dX7_uses_43 hl (k := 1) rfl (iI_succ _) (by decide) rfl (fun ls hl => ?_)
          refine lv_goto (tgt := 4) hx hb dX7_uses_46 (by decide) ?_
          exact ih4 (1) (i + 1) (by omega) (anyB_1 hsv (by first | exact Or.inl (by omega) | exact Or.inr (decide_eq_true (by omega)))) (by omega) _ (lv_sub hl [0, 1, 2, 3] rfl)
        · skip
          refine lv_aload_n hx hb dX7_uses_19 rfl (lv_at hl 2 rfl) ?_
          refine h_get hx hb hts in_X7 hown hK (hW.k8 (w) ‹TL F N (w)›) rfl 6 (by decide) (hts _ q601) rfl (v := .ref (ad 1 (100 + w))) rfl dX7_uses_20 ?_
          refine lv_iload_n hx hb dX7_uses_23 rfl (lv_at hl 0 rfl) ?_
          obtain ⟨mc5, cp5, cq5, cr5, hLi5⟩ := (hW.lg (w) ‹TL F N (w)›)
          refine rc_V (W.runV (As := [.int (iI (i))]) (rest := []) ⟨hx, hb, hml, hown, hts⟩ (al_get l D cA (ad 1 (100 + w)) mc5 (ad 2 (100 + w)) (N 24 (w)) cp5 (fun j => ad 9 (3 * w + j)) (i) (by omega)) (cwV 1 hts (lw_V q675 q566 q567 q45 q568) rfl rfl rfl (by decide +kernel) ⟨Nat.le_of_ble_eq_true rfl, Nat.le_of_ble_eq_true rfl⟩) (preV hK hLi5.1 rfl hLi5) rfl rfl hl.1 rfl (lv_room (Nat.le_of_ble_eq_true rfl)) dX7_uses_24 ⟨Nat.le_of_ble_eq_true rfl, Nat.le_of_ble_eq_true rfl⟩) ?_
          have b6 : N 27 (3 * w + i) < F 3 ∧ N 28 (3 * w + i) < N 29 (3 * w + i) ∧ N 29 (3 * w + i) < N 8 (N 27 (3 * w + i)) := hwf.2.2.1 _ _ ‹TL F N (w)› (by omega)
          have b7 : N 8 (N 27 (3 * w + i)) ≤ 10 := hN 8 _
          refine h_cast (ci := 7) (q := (RX8, TX8, 3)) hx hb hown (hts _ q676) hK rfl (isO.of (hW.k9 (w) (i) ‹TL F N (w)› (by omega))) dX7_uses_27 ?_
          refine h_getN hx hb hts in_X8 hown hK (hW.k9 (w) (i) ‹TL F N (w)› (by omega)) rfl 0 (by decide) q721 rfl (v := .ref (ad 4 (N 27 (3 * w + i)))) rfl dX7_uses_30 ?_
          refine lv_aload_n hx hb dX7_uses_33 rfl (lv_at hl 3 rfl) ?_
          refine r_acmp_ne (P := (N 27 (3 * w + i)) = t) (tgt := 41) hx hb (hW.inj (k := 4) (by show _ < _; omega) (by show _ < _; omega)) dX7_uses_34 (by decide) (fun h8 => ?_) (fun h8 => ?_)
          · skip
            refine lv_iconst (v := iI (0)) hx hb dX7_uses_41 rfl ?_
            refine lv_istore_n (lv' := [(2, .int (iI (0))), (3, .int (iI (i))), (0, .ref (ad 8 (w))), (1, .ref (ad 4 (t)))]) hx hb dX7_uses_42 rfl hl (by decide) rfl (fun ls hl => ?_)
            refine lv_iinc (v := iI ((i + 1 : Nat))) (lv' := [(3, .int (iI ((i + 1 : Nat)))), (2, .int (iI (0))), (0, .ref (ad 8 (w))), (1, .ref (ad 4 (t)))]) hx hb dX7_uses_43 hl (k := 1) rfl (iI_succ _) (by decide) rfl (fun ls hl => ?_)
            refine lv_goto (tgt := 4) hx hb dX7_uses_46 (by decide) ?_
            exact ih4 (0) (i + 1) (by omega) (anyB_0 hsv (by omega) (decide_eq_false (by omega))) (by omega) _ (lv_sub hl [0, 1, 2, 3] rfl)
          · skip
            refine lv_iconst (v := iI (1)) hx hb dX7_uses_37 rfl ?_
            refine lv_goto (tgt := 42) hx hb dX7_uses_38 (by decide) ?_
            refine lv_istore_n (lv' := [(2, .int (iI (1))), (3, .int (iI (i))), (0, .ref (ad 8 (w))), (1, .ref (ad 4 (t)))]) hx hb dX7_uses_42 rfl hl (by decide) rfl (fun ls hl => ?_)
            refine lv_iinc (v := iI ((i + 1 : Nat))) (lv' := [(3, .int (iI ((i + 1 : Nat)))), (2, .int (iI (1))), (0, .ref (ad 8 (w))), (1, .ref (ad 4 (t)))]) hx hb dX7_uses_43 hl (k := 1) rfl (iI_succ _) (by decide) rfl (fun ls hl => ?_)
            refine lv_goto (tgt := 4) hx hb dX7_uses_46 (by decide) ?_
            exact ih4 (1) (i + 1) (by omega) (anyB_1 hsv (by first | exact Or.inl (by omega) | exact Or.inr (decide_eq_true (by omega)))) (by omega) _ (lv_sub hl [0, 1, 2, 3] rfl)
  exact lp4 _ (0) (0) (Nat.zero_le _) rfl (Nat.lt_succ_self _) _ (lv_sub hl [0, 1, 2, 3] rfl)

set_option maxHeartbeats 4000000 in
set_option maxRecDepth 100000 in
theorem cc_X7_hasSame (l : Launch) (D : va_G) (cA : Nat → ClassId) (A : Nat → Prop) (sa : Nat → Nat) (ad : Nat → Nat → Nat) (F : Nat → Nat) (N : Nat → Nat → Nat) (Z : Nat → Int) (E : Nat → Nat → Int) (K : Nat) (hKb : K ≤ 1000000) (hF : FB F) (hN : NB N) (hZ : ZB K Z) (hwf : WF F N) (a b : Nat) (ha : a < F 4) (hb4 : b < F 4) : Met l yX7_hasSame (ws_ yX7_hasSame cX7_hasSame 3 (some .boolean)) ({ frames := 4, cells := 0, slots := 0, locals := 104 }) (PC D cA A sa ad F N Z E [.ref (ad 8 (2 * a)), .ref (ad 8 (2 * b))]) (k2_QcV (.int (iI (if alk N a b = true then 1 else 0)))) 0 0 (fun _ => False) := by
  refine Met.ofW (cc := cX7_hasSame) (maxL := 3) (ret := (some .boolean)) (by decide) rfl ?_
  intro p e s m args below meth c s₁ B hml hv
  obtain ⟨rfl, hK, hW⟩ := hv
  have hx := B.exec
  have hb := B.bytes
  have hr := B.returns
  have hts := atoms_spec (ws := ws_ yX7_hasSame cX7_hasSame 3 (some .boolean)) B.pre
  have hts : ∀ w ∈ lw_all, w.before _ s = true := fun w h => hts w (List.mem_cons_of_mem _ h)
  have hown : s.vm.findClass RX7 = some m.cls := findClass_of_methodNamed B.named
  have hlocks := B.notSynchronized
  have hl := lv_entry ([.ref (ad 8 (2 * a)), .ref (ad 8 (2 * b))]) (n := 3) (Nat.le_of_ble_eq_true rfl)
  rw [lg_entry_eq]
  generalize (lg_sl ([.ref (ad 8 (2 * a)), .ref (ad 8 (2 * b))]) ++ List.replicate (3 - (lg_sl ([.ref (ad 8 (2 * a)), .ref (ad 8 (2 * b))])).length) Slot.unset).toArray = ls at hl ⊢
  have hl : lv_has ls 3 [(0, .ref (ad 8 (2 * a))), (1, .ref (ad 8 (2 * b)))] := hl
  obtain ⟨hSX, hW⟩ := hW
  have hS : va_S A s.heap s.heap [] := va_S.rf
  have hF2 : F 2 ≤ 10 := hF 2
  have hF3 : F 3 ≤ 16 := hF 3
  have hF4 : F 4 ≤ 60 := hF 4
  have hF5 : F 5 ≤ 40 := hF 5
  have hF1 : F 1 ≤ 1439 := hF 1
  have hta : TL F N (2 * a) := TL_0 ha
  have htb : TL F N (2 * b) := TL_0 hb4
  refine lv_aload_n hx hb dX7_hasSame_0 rfl (lv_at hl 0 rfl) ?_
  refine h_get hx hb hts in_X7 hown hK (hW.k8 (2 * a) ‹TL F N (2 * a)›) rfl 6 (by decide) (hts _ q601) rfl (v := .ref (ad 1 (100 + (2 * a)))) rfl dX7_hasSame_1 ?_
  have b2 : N 24 (2 * a) ≤ 3 := hN 24 _
  obtain ⟨mc1, cp1, cq1, cr1, hLi1⟩ := (hW.lg (2 * a) ‹TL F N (2 * a)›)
  refine rc_V (W.runV (As := []) (rest := []) ⟨hx, hb, hml, hown, hts⟩ (al_size l D cA (ad 1 (100 + (2 * a))) mc1 (ad 2 (100 + (2 * a))) (N 24 (2 * a))) (cwV 0 hts (lw_V q674 q449 q450 q45 q451) rfl rfl rfl (by decide +kernel) ⟨Nat.le_of_ble_eq_true rfl, Nat.le_of_ble_eq_true rfl⟩) (preV hK hLi1.1 rfl hLi1.1) rfl rfl hl.1 rfl (lv_room (Nat.le_of_ble_eq_true rfl)) dX7_hasSame_4 ⟨Nat.le_of_ble_eq_true rfl, Nat.le_of_ble_eq_true rfl⟩) ?_
  refine lv_aload_n hx hb dX7_hasSame_7 rfl (lv_at hl 1 rfl) ?_
  refine h_get hx hb hts in_X7 hown hK (hW.k8 (2 * b) ‹TL F N (2 * b)›) rfl 6 (by decide) (hts _ q601) rfl (v := .ref (ad 1 (100 + (2 * b)))) rfl dX7_hasSame_8 ?_
  have b4 : N 24 (2 * b) ≤ 3 := hN 24 _
  obtain ⟨mc3, cp3, cq3, cr3, hLi3⟩ := (hW.lg (2 * b) ‹TL F N (2 * b)›)
  refine rc_V (W.runV (As := []) (rest := [.int (iI (N 24 (2 * a)))]) ⟨hx, hb, hml, hown, hts⟩ (al_size l D cA (ad 1 (100 + (2 * b))) mc3 (ad 2 (100 + (2 * b))) (N 24 (2 * b))) (cwV 0 hts (lw_V q674 q449 q450 q45 q451) rfl rfl rfl (by decide +kernel) ⟨Nat.le_of_ble_eq_true rfl, Nat.le_of_ble_eq_true rfl⟩) (preV hK hLi3.1 rfl hLi3.1) rfl rfl hl.1 rfl (lv_room (Nat.le_of_ble_eq_true rfl)) dX7_hasSame_11 ⟨Nat.le_of_ble_eq_true rfl, Nat.le_of_ble_eq_true rfl⟩) ?_
  refine ri_icmp_eq (tgt := 19) hx hb (by unfold inR; omega) (by unfold inR; omega) dX7_hasSame_14 (by decide) (fun h5 => ?_) (fun h5 => ?_)
  · skip
    refine lv_iconst (v := iI (0)) hx hb dX7_hasSame_19 rfl ?_
    refine lv_istore_n (lv' := [(2, .int (iI (0))), (0, .ref (ad 8 (2 * a))), (1, .ref (ad 8 (2 * b)))]) hx hb dX7_hasSame_20 rfl hl (by decide) rfl (fun ls hl => ?_)
    have lp21 : ∀ (fuel : Nat) (i : Nat) (hi : i ≤ N 24 (2 * a)) (hy : ∀ j, j < i → eqL N a b j = true), N 24 (2 * a) - i < fuel → ∀ (ls : Array Slot), lv_has ls 3 [(2, .int (iI (i))), (0, .ref (ad 8 (2 * a))), (1, .ref (ad 8 (2 * b)))] → W p l e (headSpec (ws_ yX7_hasSame cX7_hasSame 3 (some .boolean)) ({ frames := 4, cells := 0, slots := 0, locals := 104 })).room s m ([.ref (ad 8 (2 * a)), .ref (ad 8 (2 * b))] : List Value).toArray below meth c s.heap [] 0 0 (MQ below (k2_QcV (.int (iI (if alk N a b = true then 1 else 0)))) ([.ref (ad 8 (2 * a)), .ref (ad 8 (2 * b))] : List Value).toArray s 0 0 (fun _ => False)) (F0 m 21 ls []) := by
      intro fuel
      induction fuel with
      | zero => intro i hi hy hm; exact absurd hm (Nat.not_lt_zero _)
      | succ fuel ih21 =>
        intro i hi hy hm21 ls hl
        have hm3 : N 24 (2 * a) ≤ 3 := hN 24 _
        refine lv_iload_n hx hb dX7_hasSame_21 rfl (lv_at hl 0 rfl) ?_
        refine lv_aload_n hx hb dX7_hasSame_22 rfl (lv_at hl 1 rfl) ?_
        refine h_get hx hb hts in_X7 hown hK (hW.k8 (2 * a) ‹TL F N (2 * a)›) rfl 6 (by decide) (hts _ q601) rfl (v := .ref (ad 1 (100 + (2 * a)))) rfl dX7_hasSame_23 ?_
        obtain ⟨mc6, cp6, cq6, cr6, hLi6⟩ := (hW.lg (2 * a) ‹TL F N (2 * a)›)
        refine rc_V (W.runV (As := []) (rest := [.int (iI (i))]) ⟨hx, hb, hml, hown, hts⟩ (al_size l D cA (ad 1 (100 + (2 * a))) mc6 (ad 2 (100 + (2 * a))) (N 24 (2 * a))) (cwV 0 hts (lw_V q674 q449 q450 q45 q451) rfl rfl rfl (by decide +kernel) ⟨Nat.le_of_ble_eq_true rfl, Nat.le_of_ble_eq_true rfl⟩) (preV hK hLi6.1 rfl hLi6.1) rfl rfl hl.1 rfl (lv_room (Nat.le_of_ble_eq_true rfl)) dX7_hasSame_26 ⟨Nat.le_of_ble_eq_true rfl, Nat.le_of_ble_eq_true rfl⟩) ?_
        refine ri_icmp_ge (tgt := 68) hx hb (by unfold inR; omega) (by unfold inR; omega) dX7_hasSame_29 (by decide) (fun h7 => ?_) (fun h7 => ?_)
        · skip
          refine lv_iconst (v := iI (1)) hx hb dX7_hasSame_68 rfl ?_
          exact W.zret hx hb hr (by rfl) (fun t ht hWm => ⟨congrArg (fun z => Outcome.returned (some (Value.int (iI z)))) (by rw [alk_yes (by omega) (fun j h => hy j (by omega))]; rfl), ht⟩) (fun _ h => absurd h List.not_mem_nil) dX7_hasSame_69
        · skip
          refine lv_aload_n hx hb dX7_hasSame_32 rfl (lv_at hl 1 rfl) ?_
          refine h_get hx hb hts in_X7 hown hK (hW.k8 (2 * a) ‹TL F N (2 * a)›) rfl 6 (by decide) (hts _ q601) rfl (v := .ref (ad 1 (100 + (2 * a)))) rfl dX7_hasSame_33 ?_
          refine lv_iload_n hx hb dX7_hasSame_36 rfl (lv_at hl 0 rfl) ?_
          obtain ⟨mc8, cp8, cq8, cr8, hLi8⟩ := (hW.lg (2 * a) ‹TL F N (2 * a)›)
          refine rc_V (W.runV (As := [.int (iI (i))]) (rest := []) ⟨hx, hb, hml, hown, hts⟩ (al_get l D cA (ad 1 (100 + (2 * a))) mc8 (ad 2 (100 + (2 * a))) (N 24 (2 * a)) cp8 (fun j => ad 9 (3 * (2 * a) + j)) (i) (by omega)) (cwV 1 hts (lw_V q675 q566 q567 q45 q568) rfl rfl rfl (by decide +kernel) ⟨Nat.le_of_ble_eq_true rfl, Nat.le_of_ble_eq_true rfl⟩) (preV hK hLi8.1 rfl hLi8) rfl rfl hl.1 rfl (lv_room (Nat.le_of_ble_eq_true rfl)) dX7_hasSame_37 ⟨Nat.le_of_ble_eq_true rfl, Nat.le_of_ble_eq_true rfl⟩) ?_
          have b9 : N 27 (3 * (2 * a) + i) < F 3 ∧ N 28 (3 * (2 * a) + i) < N 29 (3 * (2 * a) + i) ∧ N 29 (3 * (2 * a) + i) < N 8 (N 27 (3 * (2 * a) + i)) := hwf.2.2.1 _ _ ‹TL F N (2 * a)› (by omega)
          have b10 : N 8 (N 27 (3 * (2 * a) + i)) ≤ 10 := hN 8 _
          refine h_cast (ci := 7) (q := (RX8, TX8, 3)) hx hb hown (hts _ q676) hK rfl (isO.of (hW.k9 (2 * a) (i) ‹TL F N (2 * a)› (by omega))) dX7_hasSame_40 ?_
          refine lv_aload_n hx hb dX7_hasSame_43 rfl (lv_at hl 2 rfl) ?_
          refine h_get hx hb hts in_X7 hown hK (hW.k8 (2 * b) ‹TL F N (2 * b)›) rfl 6 (by decide) (hts _ q601) rfl (v := .ref (ad 1 (100 + (2 * b)))) rfl dX7_hasSame_44 ?_
          refine lv_iload_n hx hb dX7_hasSame_47 rfl (lv_at hl 0 rfl) ?_
          obtain ⟨mc11, cp11, cq11, cr11, hLi11⟩ := (hW.lg (2 * b) ‹TL F N (2 * b)›)
          refine rc_V (W.runV (As := [.int (iI (i))]) (rest := [.ref (ad 9 (3 * (2 * a) + i))]) ⟨hx, hb, hml, hown, hts⟩ (al_get l D cA (ad 1 (100 + (2 * b))) mc11 (ad 2 (100 + (2 * b))) (N 24 (2 * b)) cp11 (fun j => ad 9 (3 * (2 * b) + j)) (i) (by omega)) (cwV 1 hts (lw_V q675 q566 q567 q45 q568) rfl rfl rfl (by decide +kernel) ⟨Nat.le_of_ble_eq_true rfl, Nat.le_of_ble_eq_true rfl⟩) (preV hK hLi11.1 rfl hLi11) rfl rfl hl.1 rfl (lv_room (Nat.le_of_ble_eq_true rfl)) dX7_hasSame_48 ⟨Nat.le_of_ble_eq_true rfl, Nat.le_of_ble_eq_true rfl⟩) ?_
          have b12 : N 27 (3 * (2 * b) + i) < F 3 ∧ N 28 (3 * (2 * b) + i) < N 29 (3 * (2 * b) + i) ∧ N 29 (3 * (2 * b) + i) < N 8 (N 27 (3 * (2 * b) + i)) := hwf.2.2.1 _ _ ‹TL F N (2 * b)› (by omega)
          have b13 : N 8 (N 27 (3 * (2 * b) + i)) ≤ 10 := hN 8 _
          refine h_cast (ci := 7) (q := (RX8, TX8, 3)) hx hb hown (hts _ q676) hK rfl (isO.of (hW.k9 (2 * b) (i) ‹TL F N (2 * b)› (by omega))) dX7_hasSame_51 ?_
          refine rc_V (W.runV (As := [.ref (ad 9 (3 * (2 * b) + i))]) (rest := []) ⟨hx, hb, hml, hown, hts⟩ (cc_X8_is l D cA A sa ad F N Z E K hKb hF hN hZ hwf (2 * a) i (2 * b) i ‹_› (by omega) ‹_› (by omega)) (cwV 1 hts (lw_V q944 q945 q946 q72 q947) rfl rfl rfl (by decide +kernel) ⟨Nat.le_of_ble_eq_true rfl, Nat.le_of_ble_eq_true rfl⟩) (preVC hK hSX hS (hW.k9 (2 * a) (i) ‹TL F N (2 * a)› (by omega)) rfl hW) rfl rfl hl.1 rfl (lv_room (Nat.le_of_ble_eq_true rfl)) dX7_hasSame_54 ⟨Nat.le_of_ble_eq_true rfl, Nat.le_of_ble_eq_true rfl⟩) ?_
          by_cases h14 : N 27 (3 * (2 * a) + i) = N 27 (3 * (2 * b) + i) ∧ N 28 (3 * (2 * a) + i) = N 28 (3 * (2 * b) + i) ∧ N 29 (3 * (2 * a) + i) = N 29 (3 * (2 * b) + i)
          · refine ri_top (b := 1) (if_pos h14) ?_
            refine ri_if_ne (tgt := 62) hx hb (by unfold inR; omega) dX7_hasSame_57 (by decide) (fun h15 => ?_) (fun h15 => ?_)
            · skip
              refine lv_iinc (v := iI ((i + 1 : Nat))) (lv' := [(2, .int (iI ((i + 1 : Nat)))), (0, .ref (ad 8 (2 * a))), (1, .ref (ad 8 (2 * b)))]) hx hb dX7_hasSame_62 hl (k := 0) rfl (iI_succ _) (by decide) rfl (fun ls hl => ?_)
              refine lv_goto (tgt := 21) hx hb dX7_hasSame_65 (by decide) ?_
              exact ih21 (i + 1) (by omega) (alk_step hy (by omega) (by omega) (by omega)) (by omega) _ (lv_sub hl [0, 1, 2] rfl)
            · skip
              exfalso; omega
          · refine ri_top (b := 0) (if_neg h14) ?_
            refine ri_if_ne (tgt := 62) hx hb (by unfold inR; omega) dX7_hasSame_57 (by decide) (fun h16 => ?_) (fun h16 => ?_)
            · skip
              exfalso; omega
            · skip
              refine lv_iconst (v := iI (0)) hx hb dX7_hasSame_60 rfl ?_
              exact W.zret hx hb hr (by rfl) (fun t ht hWm => ⟨congrArg (fun z => Outcome.returned (some (Value.int (iI z)))) (by rw [alk_no (i := i) (by omega) (by unfold eqL; exact decide_eq_false (by omega))]; rfl), ht⟩) (fun _ h => absurd h List.not_mem_nil) dX7_hasSame_61
    exact lp21 _ (0) (Nat.zero_le _) (fun j h => absurd h (Nat.not_lt_zero _)) (Nat.lt_succ_self _) _ (lv_sub hl [0, 1, 2] rfl)
  · skip
    refine lv_iconst (v := iI (0)) hx hb dX7_hasSame_17 rfl ?_
    exact W.zret hx hb hr (by rfl) (fun t ht hWm => ⟨congrArg (fun z => Outcome.returned (some (Value.int (iI z)))) (by rw [alk_ne (by omega)]; rfl), ht⟩) (fun _ h => absurd h List.not_mem_nil) dX7_hasSame_18

set_option maxHeartbeats 4000000 in
set_option maxRecDepth 100000 in
theorem cc_X6_trip (l : Launch) (D : va_G) (cA : Nat → ClassId) (A : Nat → Prop) (sa : Nat → Nat) (ad : Nat → Nat → Nat) (F : Nat → Nat) (N : Nat → Nat → Nat) (Z : Nat → Int) (E : Nat → Nat → Int) (K : Nat) (hKb : K ≤ 1000000) (hF : FB F) (hN : NB N) (hZ : ZB K Z) (hwf : WF F N) (b : Nat) (hb4 : b < F 4) : Met l yX6_trip (ws_ yX6_trip cX6_trip 1 (some (.object "LunchMarks$Trip"))) ({ frames := 1, cells := 0, slots := 0, locals := 30 }) (PC D cA A sa ad F N Z E [.ref (ad 7 (b))]) (k2_QcV (.ref (ad 8 (wayN N b)))) 0 0 (fun _ => False) := by
  refine Met.ofW (cc := cX6_trip) (maxL := 1) (ret := (some (.object "LunchMarks$Trip"))) (by decide) rfl ?_
  intro p e s m args below meth c s₁ B hml hv
  obtain ⟨rfl, hK, hW⟩ := hv
  have hx := B.exec
  have hb := B.bytes
  have hr := B.returns
  have hts := atoms_spec (ws := ws_ yX6_trip cX6_trip 1 (some (.object "LunchMarks$Trip"))) B.pre
  have hts : ∀ w ∈ lw_all, w.before _ s = true := fun w h => hts w (List.mem_cons_of_mem _ h)
  have hown : s.vm.findClass RX6 = some m.cls := findClass_of_methodNamed B.named
  have hlocks := B.notSynchronized
  have hl := lv_entry ([.ref (ad 7 (b))]) (n := 1) (Nat.le_of_ble_eq_true rfl)
  rw [lg_entry_eq]
  generalize (lg_sl ([.ref (ad 7 (b))]) ++ List.replicate (1 - (lg_sl ([.ref (ad 7 (b))])).length) Slot.unset).toArray = ls at hl ⊢
  have hl : lv_has ls 1 [(0, .ref (ad 7 (b)))] := hl
  obtain ⟨hSX, hW⟩ := hW
  have hS : va_S A s.heap s.heap [] := va_S.rf
  have hF2 : F 2 ≤ 10 := hF 2
  have hF3 : F 3 ≤ 16 := hF 3
  have hF4 : F 4 ≤ 60 := hF 4
  have hF5 : F 5 ≤ 40 := hF 5
  have hF1 : F 1 ≤ 1439 := hF 1
  refine lv_aload_n hx hb dX6_trip_0 rfl (lv_at hl 0 rfl) ?_
  have b2 : N 21 (b) ≤ 1 := hN 21 _
  by_cases hbk1 : N 21 (b) = 0
  · skip
    refine h_get hx hb hts in_X6 hown hK (hW.k7n (b) (by omega) ‹_›) rfl 5 (by decide) (hts _ q635) rfl (v := .null) rfl dX6_trip_1 ?_
    refine lv_ifnonnullN hx hb dX6_trip_4 ?_
    refine lv_aload_n hx hb dX6_trip_7 rfl (lv_at hl 0 rfl) ?_
    have b3 : TL F N (2 * (b)) := TL_0 (by omega)
    refine h_get hx hb hts in_X6 hown hK (hW.k7 (b) (by omega)) rfl 0 (by decide) (hts _ q625) rfl (v := .ref (ad 8 (2 * b))) rfl dX6_trip_8 ?_
    refine lv_goto (tgt := 18) hx hb dX6_trip_11 (by decide) ?_
    exact W.aret hx hb hr (by first | exact Or.inl ⟨_, rfl⟩ | exact Or.inr ⟨_, rfl⟩) (Or.inr ⟨_, rfl⟩) (fun t ht hWm => ⟨congrArg (fun z => Outcome.returned (some z)) (by unfold wayN; first | (rw [show N 21 b = 0 by omega]; rfl) | rw [show N 21 b = 1 by omega]), ht⟩) (fun _ h => absurd h List.not_mem_nil) dX6_trip_18
  · skip
    refine h_get hx hb hts in_X6 hown hK (hW.k7s (b) (by omega) ‹_›) rfl 5 (by decide) (hts _ q635) rfl (v := .ref (ad 8 (2 * b + 1))) rfl dX6_trip_1 ?_
    have b4 : TL F N (2 * b + 1) := TL_1 (by omega) ‹_›
    refine lv_ifnonnull (tgt := 14) hx hb dX6_trip_4 (by decide) ?_
    refine lv_aload_n hx hb dX6_trip_14 rfl (lv_at hl 0 rfl) ?_
    refine h_get hx hb hts in_X6 hown hK (hW.k7s (b) (by omega) ‹_›) rfl 5 (by decide) (hts _ q635) rfl (v := .ref (ad 8 (2 * b + 1))) rfl dX6_trip_15 ?_
    exact W.aret hx hb hr (by first | exact Or.inl ⟨_, rfl⟩ | exact Or.inr ⟨_, rfl⟩) (Or.inr ⟨_, rfl⟩) (fun t ht hWm => ⟨congrArg (fun z => Outcome.returned (some z)) (by unfold wayN; first | (rw [show N 21 b = 0 by omega]; rfl) | rw [show N 21 b = 1 by omega]), ht⟩) (fun _ h => absurd h List.not_mem_nil) dX6_trip_18
