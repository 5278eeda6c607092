set_option maxRecDepth 100000
set_option maxHeartbeats 4000000 in
set_option maxRecDepth 100000 in
theorem cc_X1_isStation (l : Launch) (D : va_G) (cA : Nat → ClassId) (A : Nat → Prop) (sa : Nat → Nat) (ad : Nat → Nat → Nat) (F : Nat → Nat) (N : Nat → Nat → Nat) (Z : Nat → Int) (E : Nat → Nat → Int) (K : Nat) (hKb : K ≤ 1000000) (hF : FB F) (hN : NB N) (hZ : ZB K Z) (hwf : WF F N) (a : Int) (ha : inR a) : Met l yX1_isStation (ws_ yX1_isStation cX1_isStation 2 (some .boolean)) ({ frames := 2, cells := 0, slots := 0, locals := 60 }) (PC D cA A sa ad F N Z E [.ref (ad 0 (0)), .int (iI (a))]) (k2_QcV (.int (iI (if 0 ≤ a ∧ a < F 2 then 1 else 0)))) 0 0 (fun _ => False) := by
  refine Met.ofW (cc := cX1_isStation) (maxL := 2) (ret := (some .boolean)) (by decide) rfl ?_
  intro p e s m args below meth c s₁ B hml hv
  obtain ⟨rfl, hK, hW⟩ := hv
  have hx := B.exec
  have hb := B.bytes
  have hr := B.returns
  have hts := atoms_spec (ws := ws_ yX1_isStation cX1_isStation 2 (some .boolean)) B.pre
  have hts : ∀ w ∈ lw_all, w.before _ s = true := fun w h => hts w (List.mem_cons_of_mem _ h)
  have hown : s.vm.findClass RX1 = some m.cls := findClass_of_methodNamed B.named
  have hlocks := B.notSynchronized
  have hl := lv_entry ([.ref (ad 0 (0)), .int (iI (a))]) (n := 2) (Nat.le_of_ble_eq_true rfl)
  rw [lg_entry_eq]
  generalize (lg_sl ([.ref (ad 0 (0)), .int (iI (a))]) ++ List.replicate (2 - (lg_sl ([.ref (ad 0 (0)), .int (iI (a))])).length) Slot.unset).toArray = ls at hl ⊢
  have hl : lv_has ls 2 [(0, .ref (ad 0 (0))), (1, .int (iI (a)))] := hl
  obtain ⟨hSX, hW⟩ := hW
  have hS : va_S A s.heap s.heap [] := va_S.rf
  have hF2 : F 2 ≤ 10 := hF 2
  have hF3 : F 3 ≤ 16 := hF 3
  have hF4 : F 4 ≤ 60 := hF 4
  have hF5 : F 5 ≤ 40 := hF 5
  have hF1 : F 1 ≤ 1439 := hF 1
  have haa := ha
  unfold inR at ha
  refine lv_iload_n hx hb dX1_isStation_0 rfl (lv_at hl 1 rfl) ?_
  refine ri_if_lt (tgt := 19) hx hb haa dX1_isStation_1 (by decide) (fun h1 => ?_) (fun h1 => ?_)
  · skip
    refine lv_iconst (v := iI (0)) hx hb dX1_isStation_19 rfl ?_
    exact W.zret hx hb hr (by rfl) (fun t ht hWm => ⟨congrArg (fun z => Outcome.returned (some (Value.int (iI z)))) (by split <;> omega), ht⟩) (fun _ h => absurd h List.not_mem_nil) dX1_isStation_20
  · skip
    refine lv_iload_n hx hb dX1_isStation_4 rfl (lv_at hl 1 rfl) ?_
    refine lv_aload_n hx hb dX1_isStation_5 rfl (lv_at hl 0 rfl) ?_
    refine h_get hx hb hts in_X1 hown hK hW.c0 rfl 0 (by decide) (hts _ q421) rfl (v := .ref (ad 1 (0))) rfl dX1_isStation_6 ?_
    obtain ⟨mc2, cp2, cq2, cr2, hLi2⟩ := hW.l0
    refine rc_V (W.runV (As := []) (rest := [.int (iI (a))]) ⟨hx, hb, hml, hown, hts⟩ (al_size l D cA (ad 1 (0)) mc2 (ad 2 (0)) (F 2)) (cwV 0 hts (lw_V q448 q449 q450 q45 q451) rfl rfl rfl (by decide +kernel) ⟨Nat.le_of_ble_eq_true rfl, Nat.le_of_ble_eq_true rfl⟩) (preV hK hLi2.1 rfl hLi2.1) rfl rfl hl.1 rfl (lv_room (Nat.le_of_ble_eq_true rfl)) dX1_isStation_9 ⟨Nat.le_of_ble_eq_true rfl, Nat.le_of_ble_eq_true rfl⟩) ?_
    refine ri_icmp_ge (tgt := 19) hx hb haa (by unfold inR; omega) dX1_isStation_12 (by decide) (fun h3 => ?_) (fun h3 => ?_)
    · skip
      refine lv_iconst (v := iI (0)) hx hb dX1_isStation_19 rfl ?_
      exact W.zret hx hb hr (by rfl) (fun t ht hWm => ⟨congrArg (fun z => Outcome.returned (some (Value.int (iI z)))) (by split <;> omega), ht⟩) (fun _ h => absurd h List.not_mem_nil) dX1_isStation_20
    · skip
      refine lv_iconst (v := iI (1)) hx hb dX1_isStation_15 rfl ?_
      refine lv_goto (tgt := 20) hx hb dX1_isStation_16 (by decide) ?_
      exact W.zret hx hb hr (by rfl) (fun t ht hWm => ⟨congrArg (fun z => Outcome.returned (some (Value.int (iI z)))) (by split <;> omega), ht⟩) (fun _ h => absurd h List.not_mem_nil) dX1_isStation_20

set_option maxHeartbeats 4000000 in
set_option maxRecDepth 100000 in
theorem cc_X1_trainAt (l : Launch) (D : va_G) (cA : Nat → ClassId) (A : Nat → Prop) (sa : Nat → Nat) (ad : Nat → Nat → Nat) (F : Nat → Nat) (N : Nat → Nat → Nat) (Z : Nat → Int) (E : Nat → Nat → Int) (K : Nat) (hKb : K ≤ 1000000) (hF : FB F) (hN : NB N) (hZ : ZB K Z) (hwf : WF F N) (t : Nat) (ht : t < F 3) : Met l yX1_trainAt (ws_ yX1_trainAt cX1_trainAt 2 (some (.object "LunchMarks$Train"))) ({ frames := 4, cells := 0, slots := 0, locals := 104 }) (PC D cA A sa ad F N Z E [.ref (ad 0 (0)), .int (iI (t))]) (k2_QcV (.ref (ad 4 t))) 0 0 (fun _ => False) := by
  refine Met.ofW (cc := cX1_trainAt) (maxL := 2) (ret := (some (.object "LunchMarks$Train"))) (by decide) rfl ?_
  intro p e s m args below meth c s₁ B hml hv
  obtain ⟨rfl, hK, hW⟩ := hv
  have hx := B.exec
  have hb := B.bytes
  have hr := B.returns
  have hts := atoms_spec (ws := ws_ yX1_trainAt cX1_trainAt 2 (some (.object "LunchMarks$Train"))) B.pre
  have hts : ∀ w ∈ lw_all, w.before _ s = true := fun w h => hts w (List.mem_cons_of_mem _ h)
  have hown : s.vm.findClass RX1 = some m.cls := findClass_of_methodNamed B.named
  have hlocks := B.notSynchronized
  have hl := lv_entry ([.ref (ad 0 (0)), .int (iI (t))]) (n := 2) (Nat.le_of_ble_eq_true rfl)
  rw [lg_entry_eq]
  generalize (lg_sl ([.ref (ad 0 (0)), .int (iI (t))]) ++ List.replicate (2 - (lg_sl ([.ref (ad 0 (0)), .int (iI (t))])).length) Slot.unset).toArray = ls at hl ⊢
  have hl : lv_has ls 2 [(0, .ref (ad 0 (0))), (1, .int (iI (t)))] := hl
  obtain ⟨hSX, hW⟩ := hW
  have hS : va_S A s.heap s.heap [] := va_S.rf
  have hF2 : F 2 ≤ 10 := hF 2
  have hF3 : F 3 ≤ 16 := hF 3
  have hF4 : F 4 ≤ 60 := hF 4
  have hF5 : F 5 ≤ 40 := hF 5
  have hF1 : F 1 ≤ 1439 := hF 1
  refine lv_iload_n hx hb dX1_trainAt_0 rfl (lv_at hl 1 rfl) ?_
  refine ri_if_lt (tgt := 19) hx hb (by unfold inR; omega) dX1_trainAt_1 (by decide) (fun h1 => ?_) (fun h1 => ?_)
  · skip
    exfalso; omega
  · skip
    refine lv_iload_n hx hb dX1_trainAt_4 rfl (lv_at hl 1 rfl) ?_
    refine lv_aload_n hx hb dX1_trainAt_5 rfl (lv_at hl 0 rfl) ?_
    refine h_get hx hb hts in_X1 hown hK hW.c0 rfl 1 (by decide) (hts _ q422) rfl (v := .ref (ad 1 (1))) rfl dX1_trainAt_6 ?_
    obtain ⟨mc2, cp2, cq2, cr2, hLi2⟩ := hW.l1
    refine rc_V (W.runV (As := []) (rest := [.int (iI (t))]) ⟨hx, hb, hml, hown, hts⟩ (al_size l D cA (ad 1 (1)) mc2 (ad 2 (1)) (F 3)) (cwV 0 hts (lw_V q448 q449 q450 q45 q451) rfl rfl rfl (by decide +kernel) ⟨Nat.le_of_ble_eq_true rfl, Nat.le_of_ble_eq_true rfl⟩) (preV hK hLi2.1 rfl hLi2.1) rfl rfl hl.1 rfl (lv_room (Nat.le_of_ble_eq_true rfl)) dX1_trainAt_9 ⟨Nat.le_of_ble_eq_true rfl, Nat.le_of_ble_eq_true rfl⟩) ?_
    refine ri_icmp_ge (tgt := 19) hx hb (by unfold inR; omega) (by unfold inR; omega) dX1_trainAt_12 (by decide) (fun h3 => ?_) (fun h3 => ?_)
    · skip
      exfalso; omega
    · skip
      refine lv_iconst (v := iI (1)) hx hb dX1_trainAt_15 rfl ?_
      refine lv_goto (tgt := 20) hx hb dX1_trainAt_16 (by decide) ?_
      refine rc_0 (W.runS (As := [.int (iI (1))]) (rest := []) ⟨hx, hb, hml, hown, hts⟩ (cc_X1_there l D cA  ) (va_cwS 1 hts (lw_S q779 q780 q42 q781) rfl rfl rfl (by decide +kernel) ⟨Nat.le_of_ble_eq_true rfl, Nat.le_of_ble_eq_true rfl⟩) (preS hK (B := fun _ => True) trivial) rfl rfl hl.1 rfl (lv_room (Nat.le_of_ble_eq_true rfl)) dX1_trainAt_20 ⟨Nat.le_of_ble_eq_true rfl, Nat.le_of_ble_eq_true rfl⟩) ?_
      refine lv_aload_n hx hb dX1_trainAt_23 rfl (lv_at hl 0 rfl) ?_
      refine h_get hx hb hts in_X1 hown hK hW.c0 rfl 1 (by decide) (hts _ q422) rfl (v := .ref (ad 1 (1))) rfl dX1_trainAt_24 ?_
      refine lv_iload_n hx hb dX1_trainAt_27 rfl (lv_at hl 1 rfl) ?_
      obtain ⟨mc4, cp4, cq4, cr4, hLi4⟩ := hW.l1
      refine rc_V (W.runV (As := [.int (iI (t))]) (rest := []) ⟨hx, hb, hml, hown, hts⟩ (al_get l D cA (ad 1 (1)) mc4 (ad 2 (1)) (F 3) cp4 (ad 4) (t) (by omega)) (cwV 1 hts (lw_V q565 q566 q567 q45 q568) rfl rfl rfl (by decide +kernel) ⟨Nat.le_of_ble_eq_true rfl, Nat.le_of_ble_eq_true rfl⟩) (preV hK hLi4.1 rfl hLi4) rfl rfl hl.1 rfl (lv_room (Nat.le_of_ble_eq_true rfl)) dX1_trainAt_28 ⟨Nat.le_of_ble_eq_true rfl, Nat.le_of_ble_eq_true rfl⟩) ?_
      refine h_cast (ci := 3) (q := (RX4, TX4, 6)) hx hb hown (hts _ q519) hK rfl (isO.of (hW.k4 (t) (by omega))) dX1_trainAt_31 ?_
      exact W.aret hx hb hr (by first | exact Or.inl ⟨_, rfl⟩ | exact Or.inr ⟨_, rfl⟩) (Or.inr ⟨_, rfl⟩) (fun t ht hWm => ⟨rfl, ht⟩) (fun _ h => absurd h List.not_mem_nil) dX1_trainAt_34

set_option maxHeartbeats 4000000 in
set_option maxRecDepth 100000 in
theorem cc_X1_boxAt (l : Launch) (D : va_G) (cA : Nat → ClassId) (A : Nat → Prop) (sa : Nat → Nat) (ad : Nat → Nat → Nat) (F : Nat → Nat) (N : Nat → Nat → Nat) (Z : Nat → Int) (E : Nat → Nat → Int) (K : Nat) (hKb : K ≤ 1000000) (hF : FB F) (hN : NB N) (hZ : ZB K Z) (hwf : WF F N) (t : Nat) (ht : t < F 4) : Met l yX1_boxAt (ws_ yX1_boxAt cX1_boxAt 2 (some (.object "LunchMarks$Box"))) ({ frames := 4, cells := 0, slots := 0, locals := 104 }) (PC D cA A sa ad F N Z E [.ref (ad 0 (0)), .int (iI (t))]) (k2_QcV (.ref (ad 7 t))) 0 0 (fun _ => False) := by
  refine Met.ofW (cc := cX1_boxAt) (maxL := 2) (ret := (some (.object "LunchMarks$Box"))) (by decide) rfl ?_
  intro p e s m args below meth c s₁ B hml hv
  obtain ⟨rfl, hK, hW⟩ := hv
  have hx := B.exec
  have hb := B.bytes
  have hr := B.returns
  have hts := atoms_spec (ws := ws_ yX1_boxAt cX1_boxAt 2 (some (.object "LunchMarks$Box"))) B.pre
  have hts : ∀ w ∈ lw_all, w.before _ s = true := fun w h => hts w (List.mem_cons_of_mem _ h)
  have hown : s.vm.findClass RX1 = some m.cls := findClass_of_methodNamed B.named
  have hlocks := B.notSynchronized
  have hl := lv_entry ([.ref (ad 0 (0)), .int (iI (t))]) (n := 2) (Nat.le_of_ble_eq_true rfl)
  rw [lg_entry_eq]
  generalize (lg_sl ([.ref (ad 0 (0)), .int (iI (t))]) ++ List.replicate (2 - (lg_sl ([.ref (ad 0 (0)), .int (iI (t))])).length) Slot.unset).toArray = ls at hl ⊢
  have hl : lv_has ls 2 [(0, .ref (ad 0 (0))), (1, .int (iI (t)))] := hl
  obtain ⟨hSX, hW⟩ := hW
  have hS : va_S A s.heap s.heap [] := va_S.rf
  have hF2 : F 2 ≤ 10 := hF 2
  have hF3 : F 3 ≤ 16 := hF 3
  have hF4 : F 4 ≤ 60 := hF 4
  have hF5 : F 5 ≤ 40 := hF 5
  have hF1 : F 1 ≤ 1439 := hF 1
  refine lv_iload_n hx hb dX1_boxAt_0 rfl (lv_at hl 1 rfl) ?_
  refine ri_if_lt (tgt := 19) hx hb (by unfold inR; omega) dX1_boxAt_1 (by decide) (fun h1 => ?_) (fun h1 => ?_)
  · skip
    exfalso; omega
  · skip
    refine lv_iload_n hx hb dX1_boxAt_4 rfl (lv_at hl 1 rfl) ?_
    refine lv_aload_n hx hb dX1_boxAt_5 rfl (lv_at hl 0 rfl) ?_
    refine h_get hx hb hts in_X1 hown hK hW.c0 rfl 2 (by decide) (hts _ q423) rfl (v := .ref (ad 1 (2))) rfl dX1_boxAt_6 ?_
    obtain ⟨mc2, cp2, cq2, cr2, hLi2⟩ := hW.l2
    refine rc_V (W.runV (As := []) (rest := [.int (iI (t))]) ⟨hx, hb, hml, hown, hts⟩ (al_size l D cA (ad 1 (2)) mc2 (ad 2 (2)) (F 4)) (cwV 0 hts (lw_V q448 q449 q450 q45 q451) rfl rfl rfl (by decide +kernel) ⟨Nat.le_of_ble_eq_true rfl, Nat.le_of_ble_eq_true rfl⟩) (preV hK hLi2.1 rfl hLi2.1) rfl rfl hl.1 rfl (lv_room (Nat.le_of_ble_eq_true rfl)) dX1_boxAt_9 ⟨Nat.le_of_ble_eq_true rfl, Nat.le_of_ble_eq_true rfl⟩) ?_
    refine ri_icmp_ge (tgt := 19) hx hb (by unfold inR; omega) (by unfold inR; omega) dX1_boxAt_12 (by decide) (fun h3 => ?_) (fun h3 => ?_)
    · skip
      exfalso; omega
    · skip
      refine lv_iconst (v := iI (1)) hx hb dX1_boxAt_15 rfl ?_
      refine lv_goto (tgt := 20) hx hb dX1_boxAt_16 (by decide) ?_
      refine rc_0 (W.runS (As := [.int (iI (1))]) (rest := []) ⟨hx, hb, hml, hown, hts⟩ (cc_X1_there l D cA  ) (va_cwS 1 hts (lw_S q779 q780 q42 q781) rfl rfl rfl (by decide +kernel) ⟨Nat.le_of_ble_eq_true rfl, Nat.le_of_ble_eq_true rfl⟩) (preS hK (B := fun _ => True) trivial) rfl rfl hl.1 rfl (lv_room (Nat.le_of_ble_eq_true rfl)) dX1_boxAt_20 ⟨Nat.le_of_ble_eq_true rfl, Nat.le_of_ble_eq_true rfl⟩) ?_
      refine lv_aload_n hx hb dX1_boxAt_23 rfl (lv_at hl 0 rfl) ?_
      refine h_get hx hb hts in_X1 hown hK hW.c0 rfl 2 (by decide) (hts _ q423) rfl (v := .ref (ad 1 (2))) rfl dX1_boxAt_24 ?_
      refine lv_iload_n hx hb dX1_boxAt_27 rfl (lv_at hl 1 rfl) ?_
      obtain ⟨mc4, cp4, cq4, cr4, hLi4⟩ := hW.l2
      refine rc_V (W.runV (As := [.int (iI (t))]) (rest := []) ⟨hx, hb, hml, hown, hts⟩ (al_get l D cA (ad 1 (2)) mc4 (ad 2 (2)) (F 4) cp4 (ad 7) (t) (by omega)) (cwV 1 hts (lw_V q565 q566 q567 q45 q568) rfl rfl rfl (by decide +kernel) ⟨Nat.le_of_ble_eq_true rfl, Nat.le_of_ble_eq_true rfl⟩) (preV hK hLi4.1 rfl hLi4) rfl rfl hl.1 rfl (lv_room (Nat.le_of_ble_eq_true rfl)) dX1_boxAt_28 ⟨Nat.le_of_ble_eq_true rfl, Nat.le_of_ble_eq_true rfl⟩) ?_
      refine h_cast (ci := 5) (q := (RX6, TX6, 6)) hx hb hown (hts _ q563) hK rfl (isO.of (hW.k7 (t) (by omega))) dX1_boxAt_31 ?_
      exact W.aret hx hb hr (by first | exact Or.inl ⟨_, rfl⟩ | exact Or.inr ⟨_, rfl⟩) (Or.inr ⟨_, rfl⟩) (fun t ht hWm => ⟨rfl, ht⟩) (fun _ h => absurd h List.not_mem_nil) dX1_boxAt_34

set_option maxHeartbeats 4000000 in
set_option maxRecDepth 100000 in
theorem cc_X1_isGone (l : Launch) (D : va_G) (cA : Nat → ClassId) (A : Nat → Prop) (sa : Nat → Nat) (ad : Nat → Nat → Nat) (F : Nat → Nat) (N : Nat → Nat → Nat) (Z : Nat → Int) (E : Nat → Nat → Int) (K : Nat) (hKb : K ≤ 1000000) (hF : FB F) (hN : NB N) (hZ : ZB K Z) (hwf : WF F N) (w : Nat) (hw : TL F N w) : Met l yX1_isGone (ws_ yX1_isGone cX1_isGone 2 (some .boolean)) ({ frames := 1, cells := 0, slots := 0, locals := 30 }) (PC D cA A sa ad F N Z E [.ref (ad 0 (0)), .ref (ad 8 (w))]) (k2_QcV (.int (iI (if rdW N w ≤ F 1 ∧ N 25 w ≠ 0 then 1 else 0)))) 0 0 (fun _ => False) := by
  refine Met.ofW (cc := cX1_isGone) (maxL := 2) (ret := (some .boolean)) (by decide) rfl ?_
  intro p e s m args below meth c s₁ B hml hv
  obtain ⟨rfl, hK, hW⟩ := hv
  have hx := B.exec
  have hb := B.bytes
  have hr := B.returns
  have hts := atoms_spec (ws := ws_ yX1_isGone cX1_isGone 2 (some .boolean)) B.pre
  have hts : ∀ w ∈ lw_all, w.before _ s = true := fun w h => hts w (List.mem_cons_of_mem _ h)
  have hown : s.vm.findClass RX1 = some m.cls := findClass_of_methodNamed B.named
  have hlocks := B.notSynchronized
  have hl := lv_entry ([.ref (ad 0 (0)), .ref (ad 8 (w))]) (n := 2) (Nat.le_of_ble_eq_true rfl)
  rw [lg_entry_eq]
  generalize (lg_sl ([.ref (ad 0 (0)), .ref (ad 8 (w))]) ++ List.replicate (2 - (lg_sl ([.ref (ad 0 (0)), .ref (ad 8 (w))])).length) Slot.unset).toArray = ls at hl ⊢
  have hl : lv_has ls 2 [(0, .ref (ad 0 (0))), (1, .ref (ad 8 (w)))] := hl
  obtain ⟨hSX, hW⟩ := hW
  have hS : va_S A s.heap s.heap [] := va_S.rf
  have hF2 : F 2 ≤ 10 := hF 2
  have hF3 : F 3 ≤ 16 := hF 3
  have hF4 : F 4 ≤ 60 := hF 4
  have hF5 : F 5 ≤ 40 := hF 5
  have hF1 : F 1 ≤ 1439 := hF 1
  refine lv_aload_n hx hb dX1_isGone_0 rfl (lv_at hl 1 rfl) ?_
  have b1 : rdW N (w) ≤ 1439 := rdW_le hN _
  refine h_getN hx hb hts in_X7 hown hK (hW.k8 (w) ‹TL F N (w)›) rfl 2 (by decide) q597 rfl (v := .int (iI (rdW N (w)))) rfl dX1_isGone_1 ?_
  refine lv_aload_n hx hb dX1_isGone_4 rfl (lv_at hl 0 rfl) ?_
  refine h_get hx hb hts in_X1 hown hK hW.c0 rfl 4 (by decide) (hts _ q425) rfl (v := .int (iI (F 1))) rfl dX1_isGone_5 ?_
  refine ri_icmp_gt (tgt := 25) hx hb (by unfold inR; omega) (by unfold inR; omega) dX1_isGone_8 (by decide) (fun h2 => ?_) (fun h2 => ?_)
  · skip
    refine lv_iconst (v := iI (0)) hx hb dX1_isGone_25 rfl ?_
    exact W.zret hx hb hr (by rfl) (fun t ht hWm => ⟨congrArg (fun z => Outcome.returned (some (Value.int (iI z)))) (by split <;> omega), ht⟩) (fun _ h => absurd h List.not_mem_nil) dX1_isGone_26
  · skip
    refine lv_aload_n hx hb dX1_isGone_11 rfl (lv_at hl 1 rfl) ?_
    have b3 : N 25 (w) ≤ 2 := hwf.2.2.2 _
    refine h_getN hx hb hts in_X7 hown hK (hW.k8 (w) ‹TL F N (w)›) rfl 7 (by decide) q604 rfl (v := .ref (sa (N 25 (w)))) rfl dX1_isGone_12 ?_
    refine va_gets (v := .ref (sa 0)) hx hb hSX.2.2.2.2.1 hS hown (hts _ q660) (fun _ h => h) dX1_isGone_15 ?_
    refine r_acmp_eq (P := (N 25 (w)) = 0) (tgt := 25) hx hb (hSX.ne (by omega) (by omega)) dX1_isGone_18 (by decide) (fun h4 => ?_) (fun h4 => ?_)
    · skip
      refine lv_iconst (v := iI (0)) hx hb dX1_isGone_25 rfl ?_
      exact W.zret hx hb hr (by rfl) (fun t ht hWm => ⟨congrArg (fun z => Outcome.returned (some (Value.int (iI z)))) (by split <;> omega), ht⟩) (fun _ h => absurd h List.not_mem_nil) dX1_isGone_26
    · skip
      refine lv_iconst (v := iI (1)) hx hb dX1_isGone_21 rfl ?_
      refine lv_goto (tgt := 26) hx hb dX1_isGone_22 (by decide) ?_
      exact W.zret hx hb hr (by rfl) (fun t ht hWm => ⟨congrArg (fun z => Outcome.returned (some (Value.int (iI z)))) (by split <;> omega), ht⟩) (fun _ h => absurd h List.not_mem_nil) dX1_isGone_26

set_option maxHeartbeats 4000000 in
set_option maxRecDepth 100000 in
theorem cc_X1_isPlanned (l : Launch) (D : va_G) (cA : Nat → ClassId) (A : Nat → Prop) (sa : Nat → Nat) (ad : Nat → Nat → Nat) (F : Nat → Nat) (N : Nat → Nat → Nat) (Z : Nat → Int) (E : Nat → Nat → Int) (K : Nat) (hKb : K ≤ 1000000) (hF : FB F) (hN : NB N) (hZ : ZB K Z) (hwf : WF F N) (t : Nat) (ht : t < F 3) : Met l yX1_isPlanned (ws_ yX1_isPlanned cX1_isPlanned 4 (some .boolean)) ({ frames := 5, cells := 0, slots := 0, locals := 127 }) (PC D cA A sa ad F N Z E [.ref (ad 0 (0)), .ref (ad 4 (t))]) (k2_QcV (.int (iI (if plB F N t = true then 1 else 0)))) 0 0 (fun _ => False) := by
  refine Met.ofW (cc := cX1_isPlanned) (maxL := 4) (ret := (some .boolean)) (by decide) rfl ?_
  intro p e s m args below meth c s₁ B hml hv
  obtain ⟨rfl, hK, hW⟩ := hv
  have hx := B.exec
  have hb := B.bytes
  have hr := B.returns
  have hts := atoms_spec (ws := ws_ yX1_isPlanned cX1_isPlanned 4 (some .boolean)) B.pre
  have hts : ∀ w ∈ lw_all, w.before _ s = true := fun w h => hts w (List.mem_cons_of_mem _ h)
  have hown : s.vm.findClass RX1 = some m.cls := findClass_of_methodNamed B.named
  have hlocks := B.notSynchronized
  have hl := lv_entry ([.ref (ad 0 (0)), .ref (ad 4 (t))]) (n := 4) (Nat.le_of_ble_eq_true rfl)
  rw [lg_entry_eq]
  generalize (lg_sl ([.ref (ad 0 (0)), .ref (ad 4 (t))]) ++ List.replicate (4 - (lg_sl ([.ref (ad 0 (0)), .ref (ad 4 (t))])).length) Slot.unset).toArray = ls at hl ⊢
  have hl : lv_has ls 4 [(0, .ref (ad 0 (0))), (1, .ref (ad 4 (t)))] := hl
  obtain ⟨hSX, hW⟩ := hW
  have hS : va_S A s.heap s.heap [] := va_S.rf
  have hF2 : F 2 ≤ 10 := hF 2
  have hF3 : F 3 ≤ 16 := hF 3
  have hF4 : F 4 ≤ 60 := hF 4
  have hF5 : F 5 ≤ 40 := hF 5
  have hF1 : F 1 ≤ 1439 := hF 1
  refine lv_iconst (v := iI (0)) hx hb dX1_isPlanned_0 rfl ?_
  refine lv_istore_n (lv' := [(2, .int (iI (0))), (0, .ref (ad 0 (0))), (1, .ref (ad 4 (t)))]) hx hb dX1_isPlanned_1 rfl hl (by decide) rfl (fun ls hl => ?_)
  refine lv_iconst (v := iI (0)) hx hb dX1_isPlanned_2 rfl ?_
  refine lv_istore_n (lv' := [(3, .int (iI (0))), (2, .int (iI (0))), (0, .ref (ad 0 (0))), (1, .ref (ad 4 (t)))]) hx hb dX1_isPlanned_3 rfl hl (by decide) rfl (fun ls hl => ?_)
  have lp4 : ∀ (fuel : Nat) (sv k : Nat) (hk : k ≤ F 4) (hsv : sv = if anyB (fun b => usB N (2 * b) t || usB N (wayN N b) t) k = true then 1 else 0), F 4 - k < fuel → ∀ (ls : Array Slot), lv_has ls 4 [(3, .int (iI (k))), (2, .int (iI (sv))), (0, .ref (ad 0 (0))), (1, .ref (ad 4 (t)))] → W p l e (headSpec (ws_ yX1_isPlanned cX1_isPlanned 4 (some .boolean)) ({ frames := 5, cells := 0, slots := 0, locals := 127 })).room s m ([.ref (ad 0 (0)), .ref (ad 4 (t))] : List Value).toArray below meth c s.heap [] 0 0 (MQ below (k2_QcV (.int (iI (if plB F N t = true then 1 else 0)))) ([.ref (ad 0 (0)), .ref (ad 4 (t))] : List Value).toArray s 0 0 (fun _ => False)) (F0 m 4 ls []) := by
    intro fuel
    induction fuel with
    | zero => intro sv k hk hsv hm; exact absurd hm (Nat.not_lt_zero _)
    | succ fuel ih4 =>
      intro sv k hk hsv hm4 ls hl
      have hs1 : sv ≤ 1 := by rw [hsv]; split <;> omega
      refine lv_iload_n hx hb dX1_isPlanned_4 rfl (lv_at hl 0 rfl) ?_
      refine lv_aload_n hx hb dX1_isPlanned_5 rfl (lv_at hl 2 rfl) ?_
      refine h_get hx hb hts in_X1 hown hK hW.c0 rfl 2 (by decide) (hts _ q423) rfl (v := .ref (ad 1 (2))) rfl dX1_isPlanned_6 ?_
      obtain ⟨mc1, cp1, cq1, cr1, hLi1⟩ := hW.l2
      refine rc_V (W.runV (As := []) (rest := [.int (iI (k))]) ⟨hx, hb, hml, hown, hts⟩ (al_size l D cA (ad 1 (2)) mc1 (ad 2 (2)) (F 4)) (cwV 0 hts (lw_V q448 q449 q450 q45 q451) rfl rfl rfl (by decide +kernel) ⟨Nat.le_of_ble_eq_true rfl, Nat.le_of_ble_eq_true rfl⟩) (preV hK hLi1.1 rfl hLi1.1) rfl rfl hl.1 rfl (lv_room (Nat.le_of_ble_eq_true rfl)) dX1_isPlanned_9 ⟨Nat.le_of_ble_eq_true rfl, Nat.le_of_ble_eq_true rfl⟩) ?_
      refine ri_icmp_ge (tgt := 73) hx hb (by unfold inR; omega) (by unfold inR; omega) dX1_isPlanned_12 (by decide) (fun h2 => ?_) (fun h2 => ?_)
      · skip
        refine lv_iload_n hx hb dX1_isPlanned_73 rfl (lv_at hl 1 rfl) ?_
        rw [show k = F 4 by omega] at hsv
        have hsv : sv = if plB F N t = true then 1 else 0 := hsv
        subst hsv
        have e : ((((if plB F N t = true then 1 else 0 : Nat)) : Nat) : Int) = if plB F N t = true then 1 else 0 := by split <;> rfl
        rw [e]
        exact W.zret hx hb hr nar_ite (fun t ht hWm => ⟨rfl, ht⟩) (fun _ h => absurd h List.not_mem_nil) dX1_isPlanned_74
      · skip
        refine lv_iload_n hx hb dX1_isPlanned_15 rfl (lv_at hl 1 rfl) ?_
        refine ri_if_ne (tgt := 61) hx hb (by unfold inR; omega) dX1_isPlanned_16 (by decide) (fun h3 => ?_) (fun h3 => ?_)
        · skip
          refine lv_iconst (v := iI (1)) hx hb dX1_isPlanned_61 rfl ?_
          refine lv_goto (tgt := 66) hx hb dX1_isPlanned_62 (by decide) ?_
          refine lv_istore_n (lv' := [(2, .int (iI (1))), (3, .int (iI (k))), (0, .ref (ad 0 (0))), (1, .ref (ad 4 (t)))]) hx hb dX1_isPlanned_66 rfl hl (by decide) rfl (fun ls hl => ?_)
          refine lv_iinc (v := iI ((k + 1 : Nat))) (lv' := [(3, .int (iI ((k + 1 : Nat)))), (2, .int (iI (1))), (0, .ref (ad 0 (0))), (1, .ref (ad 4 (t)))]) hx hb dX1_isPlanned_67 hl (k := 1) rfl (iI_succ _) (by decide) rfl (fun ls hl => ?_)
          refine lv_goto (tgt := 4) hx hb dX1_isPlanned_70 (by decide) ?_
          exact ih4 (1) (k + 1) (by omega) (anyB_1 hsv (by first | exact Or.inl (by omega) | exact Or.inr (by show (usB N (2 * k) t || usB N (wayN N k) t) = true; rw [Bool.or_eq_true]; first | exact Or.inl ‹_› | exact Or.inr ‹_›))) (by omega) _ (lv_sub hl [0, 1, 2, 3] rfl)
        · skip
          refine lv_aload_n hx hb dX1_isPlanned_19 rfl (lv_at hl 2 rfl) ?_
          refine h_get hx hb hts in_X1 hown hK hW.c0 rfl 2 (by decide) (hts _ q423) rfl (v := .ref (ad 1 (2))) rfl dX1_isPlanned_20 ?_
          refine lv_iload_n hx hb dX1_isPlanned_23 rfl (lv_at hl 0 rfl) ?_
          obtain ⟨mc4, cp4, cq4, cr4, hLi4⟩ := hW.l2
          refine rc_V (W.runV (As := [.int (iI (k))]) (rest := []) ⟨hx, hb, hml, hown, hts⟩ (al_get l D cA (ad 1 (2)) mc4 (ad 2 (2)) (F 4) cp4 (ad 7) (k) (by omega)) (cwV 1 hts (lw_V q565 q566 q567 q45 q568) rfl rfl rfl (by decide +kernel) ⟨Nat.le_of_ble_eq_true rfl, Nat.le_of_ble_eq_true rfl⟩) (preV hK hLi4.1 rfl hLi4) rfl rfl hl.1 rfl (lv_room (Nat.le_of_ble_eq_true rfl)) dX1_isPlanned_24 ⟨Nat.le_of_ble_eq_true rfl, Nat.le_of_ble_eq_true rfl⟩) ?_
          refine h_cast (ci := 5) (q := (RX6, TX6, 6)) hx hb hown (hts _ q563) hK rfl (isO.of (hW.k7 (k) (by omega))) dX1_isPlanned_27 ?_
          have b5 : TL F N (2 * (k)) := TL_0 (by omega)
          refine h_getN hx hb hts in_X6 hown hK (hW.k7 (k) (by omega)) rfl 0 (by decide) q626 rfl (v := .ref (ad 8 (2 * k))) rfl dX1_isPlanned_30 ?_
          refine lv_aload_n hx hb dX1_isPlanned_33 rfl (lv_at hl 3 rfl) ?_
          refine rc_V (W.runV (As := [.ref (ad 4 (t))]) (rest := []) ⟨hx, hb, hml, hown, hts⟩ (cc_X7_uses l D cA A sa ad F N Z E K hKb hF hN hZ hwf (2 * k) t ‹_› (by omega)) (cwV 1 hts (lw_V q807 q808 q809 q69 q810) rfl rfl rfl (by decide +kernel) ⟨Nat.le_of_ble_eq_true rfl, Nat.le_of_ble_eq_true rfl⟩) (preVC hK hSX hS (hW.k8 (2 * k) ‹TL F N (2 * k)›) rfl hW) rfl rfl hl.1 rfl (lv_room (Nat.le_of_ble_eq_true rfl)) dX1_isPlanned_34 ⟨Nat.le_of_ble_eq_true rfl, Nat.le_of_ble_eq_true rfl⟩) ?_
          by_cases h6 : usB N (2 * k) t = true
          · refine ri_top (b := 1) (if_pos h6) ?_
            refine ri_if_ne (tgt := 61) hx hb (by unfold inR; omega) dX1_isPlanned_37 (by decide) (fun h7 => ?_) (fun h7 => ?_)
            · skip
              refine lv_iconst (v := iI (1)) hx hb dX1_isPlanned_61 rfl ?_
              refine lv_goto (tgt := 66) hx hb dX1_isPlanned_62 (by decide) ?_
              refine lv_istore_n (lv' := [(2, .int (iI (1))), (3, .int (iI (k))), (0, .ref (ad 0 (0))), (1, .ref (ad 4 (t)))]) hx hb dX1_isPlanned_66 rfl hl (by decide) rfl (fun ls hl => ?_)
              refine lv_iinc (v := iI ((k + 1 : Nat))) (lv' := [(3, .int (iI ((k + 1 : Nat)))), (2, .int (iI (1))), (0, .ref (ad 0 (0))), (1, .ref (ad 4 (t)))]) hx hb dX1_isPlanned_67 hl (k := 1) rfl (iI_succ _) (by decide) rfl (fun ls hl => ?_)
              refine lv_goto (tgt := 4) hx hb dX1_isPlanned_70 (by decide) ?_
              exact ih4 (1) (k + 1) (by omega) (anyB_1 hsv (by first | exact Or.inl (by omega) | exact Or.inr (by show (usB N (2 * k) t || usB N (wayN N k) t) = true; rw [Bool.or_eq_true]; first | exact Or.inl ‹_› | exact Or.inr ‹_›))) (by omega) _ (lv_sub hl [0, 1, 2, 3] rfl)
            · skip
              exfalso; omega
          · refine ri_top (b := 0) (if_neg h6) ?_
            refine ri_if_ne (tgt := 61) hx hb (by unfold inR; omega) dX1_isPlanned_37 (by decide) (fun h8 => ?_) (fun h8 => ?_)
            · skip
              exfalso; omega
            · skip
              refine lv_aload_n hx hb dX1_isPlanned_40 rfl (lv_at hl 2 rfl) ?_
              refine h_get hx hb hts in_X1 hown hK hW.c0 rfl 2 (by decide) (hts _ q423) rfl (v := .ref (ad 1 (2))) rfl dX1_isPlanned_41 ?_
              refine lv_iload_n hx hb dX1_isPlanned_44 rfl (lv_at hl 0 rfl) ?_
              obtain ⟨mc9, cp9, cq9, cr9, hLi9⟩ := hW.l2
              refine rc_V (W.runV (As := [.int (iI (k))]) (rest := []) ⟨hx, hb, hml, hown, hts⟩ (al_get l D cA (ad 1 (2)) mc9 (ad 2 (2)) (F 4) cp9 (ad 7) (k) (by omega)) (cwV 1 hts (lw_V q565 q566 q567 q45 q568) rfl rfl rfl (by decide +kernel) ⟨Nat.le_of_ble_eq_true rfl, Nat.le_of_ble_eq_true rfl⟩) (preV hK hLi9.1 rfl hLi9) rfl rfl hl.1 rfl (lv_room (Nat.le_of_ble_eq_true rfl)) dX1_isPlanned_45 ⟨Nat.le_of_ble_eq_true rfl, Nat.le_of_ble_eq_true rfl⟩) ?_
              refine h_cast (ci := 5) (q := (RX6, TX6, 6)) hx hb hown (hts _ q563) hK rfl (isO.of (hW.k7 (k) (by omega))) dX1_isPlanned_48 ?_
              refine rc_V (W.runV (As := []) (rest := []) ⟨hx, hb, hml, hown, hts⟩ (cc_X6_trip l D cA A sa ad F N Z E K hKb hF hN hZ hwf k (by omega)) (cwV 0 hts (lw_V q654 q655 q656 q68 q657) rfl rfl rfl (by decide +kernel) ⟨Nat.le_of_ble_eq_true rfl, Nat.le_of_ble_eq_true rfl⟩) (preVC hK hSX hS (hW.k7 (k) (by omega)) rfl hW) rfl rfl hl.1 rfl (lv_room (Nat.le_of_ble_eq_true rfl)) dX1_isPlanned_51 ⟨Nat.le_of_ble_eq_true rfl, Nat.le_of_ble_eq_true rfl⟩) ?_
              have b10 : TL F N (wayN N k) := TL_way hN (by omega)
              have b11 : wayN N k < 120 := wayN_lt hN (by omega)
              refine lv_aload_n hx hb dX1_isPlanned_54 rfl (lv_at hl 3 rfl) ?_
              refine rc_V (W.runV (As := [.ref (ad 4 (t))]) (rest := []) ⟨hx, hb, hml, hown, hts⟩ (cc_X7_uses l D cA A sa ad F N Z E K hKb hF hN hZ hwf (wayN N k) t ‹_› (by omega)) (cwV 1 hts (lw_V q807 q808 q809 q69 q810) rfl rfl rfl (by decide +kernel) ⟨Nat.le_of_ble_eq_true rfl, Nat.le_of_ble_eq_true rfl⟩) (preVC hK hSX hS (hW.k8 (wayN N k) ‹TL F N (wayN N k)›) rfl hW) rfl rfl hl.1 rfl (lv_room (Nat.le_of_ble_eq_true rfl)) dX1_isPlanned_55 ⟨Nat.le_of_ble_eq_true rfl, Nat.le_of_ble_eq_true rfl⟩) ?_
              by_cases h12 : usB N (wayN N k) t = true
              · refine ri_top (b := 1) (if_pos h12) ?_
                refine ri_if_eq (tgt := 65) hx hb (by unfold inR; omega) dX1_isPlanned_58 (by decide) (fun h13 => ?_) (fun h13 => ?_)
                · skip
                  exfalso; omega
                · skip
                  refine lv_iconst (v := iI (1)) hx hb dX1_isPlanned_61 rfl ?_
                  refine lv_goto (tgt := 66) hx hb dX1_isPlanned_62 (by decide) ?_
                  refine lv_istore_n (lv' := [(2, .int (iI (1))), (3, .int (iI (k))), (0, .ref (ad 0 (0))), (1, .ref (ad 4 (t)))]) hx hb dX1_isPlanned_66 rfl hl (by decide) rfl (fun ls hl => ?_)
                  refine lv_iinc (v := iI ((k + 1 : Nat))) (lv' := [(3, .int (iI ((k + 1 : Nat)))), (2, .int (iI (1))), (0, .ref (ad 0 (0))), (1, .ref (ad 4 (t)))]) hx hb dX1_isPlanned_67 hl (k := 1) rfl (iI_succ _) (by decide) rfl (fun ls hl => ?_)
                  refine lv_goto (tgt := 4) hx hb dX1_isPlanned_70 (by decide) ?_
                  exact ih4 (1) (k + 1) (by omega) (anyB_1 hsv (by first | exact Or.inl (by omega) | exact Or.inr (by show (usB N (2 * k) t || usB N (wayN N k) t) = true; rw [Bool.or_eq_true]; first | exact Or.inl ‹_› | exact Or.inr ‹_›))) (by omega) _ (lv_sub hl [0, 1, 2, 3] rfl)
              · refine ri_top (b := 0) (if_neg h12) ?_
                refine ri_if_eq (tgt := 65) hx hb (by unfold inR; omega) dX1_isPlanned_58 (by decide) (fun h14 => ?_) (fun h14 => ?_)
                · skip
                  refine lv_iconst (v := iI (0)) hx hb dX1_isPlanned_65 rfl ?_
                  refine lv_istore_n (lv' := [(2, .int (iI (0))), (3, .int (iI (k))), (0, .ref (ad 0 (0))), (1, .ref (ad 4 (t)))]) hx hb dX1_isPlanned_66 rfl hl (by decide) rfl (fun ls hl => ?_)
                  refine lv_iinc (v := iI ((k + 1 : Nat))) (lv' := [(3, .int (iI ((k + 1 : Nat)))), (2, .int (iI (0))), (0, .ref (ad 0 (0))), (1, .ref (ad 4 (t)))]) hx hb dX1_isPlanned_67 hl (k := 1) rfl (iI_succ _) (by decide) rfl (fun ls hl => ?_)
                  refine lv_goto (tgt := 4) hx hb dX1_isPlanned_70 (by decide) ?_
                  exact ih4 (0) (k + 1) (by omega) (anyB_0 hsv (by omega) (by show (usB N (2 * k) t || usB N (wayN N k) t) = false; rw [Bool.or_eq_false_iff]; exact ⟨Bool.eq_false_iff.mpr ‹_›, Bool.eq_false_iff.mpr ‹_›⟩)) (by omega) _ (lv_sub hl [0, 1, 2, 3] rfl)
                · skip
                  exfalso; omega
  exact lp4 _ (0) (0) (Nat.zero_le _) rfl (Nat.lt_succ_self _) _ (lv_sub hl [0, 1, 2, 3] rfl)

set_option maxHeartbeats 4000000 in
set_option maxRecDepth 100000 in
theorem cc_X1_of (l : Launch) (D : va_G) (cA : Nat → ClassId) (A : Nat → Prop) (sa : Nat → Nat) (ad : Nat → Nat → Nat) (F : Nat → Nat) (N : Nat → Nat → Nat) (Z : Nat → Int) (E : Nat → Nat → Int) (K : Nat) (hKb : K ≤ 1000000) (hF : FB F) (hN : NB N) (hZ : ZB K Z) (hwf : WF F N) (b v : Nat) (hb4 : b < F 4) (hv6 : v ≤ 6) : Met l yX1_of (ws_ yX1_of cX1_of 6 (some .int)) ({ frames := 8, cells := 0, slots := 0, locals := 184 }) (PC D cA A sa ad F N Z E [.ref (ad 0 (0)), .int (iI (b)), .int (iI (v))]) (k2_QcV (.int (iI (ofC F N b v)))) 0 0 (fun _ => False) := by
  refine Met.ofW (cc := cX1_of) (maxL := 6) (ret := (some .int)) (by decide) rfl ?_
  intro p e s m args below meth c s₁ B hml hv
  obtain ⟨rfl, hK, hW⟩ := hv
  have hx := B.exec
  have hb := B.bytes
  have hr := B.returns
  have hts := atoms_spec (ws := ws_ yX1_of cX1_of 6 (some .int)) B.pre
  have hts : ∀ w ∈ lw_all, w.before _ s = true := fun w h => hts w (List.mem_cons_of_mem _ h)
  have hown : s.vm.findClass RX1 = some m.cls := findClass_of_methodNamed B.named
  have hlocks := B.notSynchronized
  have hl := lv_entry ([.ref (ad 0 (0)), .int (iI (b)), .int (iI (v))]) (n := 6) (Nat.le_of_ble_eq_true rfl)
  rw [lg_entry_eq]
  generalize (lg_sl ([.ref (ad 0 (0)), .int (iI (b)), .int (iI (v))]) ++ List.replicate (6 - (lg_sl ([.ref (ad 0 (0)), .int (iI (b)), .int (iI (v))])).length) Slot.unset).toArray = ls at hl ⊢
  have hl : lv_has ls 6 [(0, .ref (ad 0 (0))), (1, .int (iI (b))), (2, .int (iI (v)))] := hl
  obtain ⟨hSX, hW⟩ := hW
  have hS : va_S A s.heap s.heap [] := va_S.rf
  have hF2 : F 2 ≤ 10 := hF 2
  have hF3 : F 3 ≤ 16 := hF 3
  have hF4 : F 4 ≤ 60 := hF 4
  have hF5 : F 5 ≤ 40 := hF 5
  have hF1 : F 1 ≤ 1439 := hF 1
  refine lv_aload_n hx hb dX1_of_0 rfl (lv_at hl 0 rfl) ?_
  refine lv_iload_n hx hb dX1_of_1 rfl (lv_at hl 1 rfl) ?_
  refine rc_V (W.runV (As := [.int (iI (b))]) (rest := []) ⟨hx, hb, hml, hown, hts⟩ (cc_X1_boxAt l D cA A sa ad F N Z E K hKb hF hN hZ hwf b (by omega)) (cwV 1 hts (lw_V q877 q879 qs13 q42 q880) rfl rfl rfl (by decide +kernel) ⟨Nat.le_of_ble_eq_true rfl, Nat.le_of_ble_eq_true rfl⟩) (preVC hK hSX hS hW.c0 rfl hW) rfl rfl hl.1 rfl (lv_room (Nat.le_of_ble_eq_true rfl)) dX1_of_2 ⟨Nat.le_of_ble_eq_true rfl, Nat.le_of_ble_eq_true rfl⟩) ?_
  refine lv_astore_n (lv' := [(3, .ref (ad 7 (b))), (0, .ref (ad 0 (0))), (1, .int (iI (b))), (2, .int (iI (v)))]) hx hb dX1_of_5 rfl hl (by decide) rfl (fun ls hl => ?_)
  refine lv_iload_n hx hb dX1_of_6 rfl (lv_at hl 3 rfl) ?_
  refine ri_if_lt (tgt := 20) hx hb (by unfold inR; omega) dX1_of_7 (by decide) (fun h1 => ?_) (fun h1 => ?_)
  · skip
    exfalso; omega
  · skip
    refine lv_iload_n hx hb dX1_of_10 rfl (lv_at hl 3 rfl) ?_
    refine lv_bipush (v := iI (6)) hx hb dX1_of_11 (by decide) ?_
    refine ri_icmp_gt (tgt := 20) hx hb (by unfold inR; omega) (by unfold inR; omega) dX1_of_13 (by decide) (fun h2 => ?_) (fun h2 => ?_)
    · skip
      exfalso; omega
    · skip
      refine lv_iconst (v := iI (1)) hx hb dX1_of_16 rfl ?_
      refine lv_goto (tgt := 21) hx hb dX1_of_17 (by decide) ?_
      refine rc_0 (W.runS (As := [.int (iI (1))]) (rest := []) ⟨hx, hb, hml, hown, hts⟩ (cc_X1_there l D cA  ) (va_cwS 1 hts (lw_S q779 q780 q42 q781) rfl rfl rfl (by decide +kernel) ⟨Nat.le_of_ble_eq_true rfl, Nat.le_of_ble_eq_true rfl⟩) (preS hK (B := fun _ => True) trivial) rfl rfl hl.1 rfl (lv_room (Nat.le_of_ble_eq_true rfl)) dX1_of_21 ⟨Nat.le_of_ble_eq_true rfl, Nat.le_of_ble_eq_true rfl⟩) ?_
      refine lv_aload_n hx hb dX1_of_24 rfl (lv_at hl 0 rfl) ?_
      refine rc_V (W.runV (As := []) (rest := []) ⟨hx, hb, hml, hown, hts⟩ (cc_X6_trip l D cA A sa ad F N Z E K hKb hF hN hZ hwf b (by omega)) (cwV 0 hts (lw_V q654 q655 q656 q68 q657) rfl rfl rfl (by decide +kernel) ⟨Nat.le_of_ble_eq_true rfl, Nat.le_of_ble_eq_true rfl⟩) (preVC hK hSX hS (hW.k7 (b) (by omega)) rfl hW) rfl rfl hl.1 rfl (lv_room (Nat.le_of_ble_eq_true rfl)) dX1_of_25 ⟨Nat.le_of_ble_eq_true rfl, Nat.le_of_ble_eq_true rfl⟩) ?_
      have b3 : TL F N (wayN N b) := TL_way hN (by omega)
      have b4 : wayN N b < 120 := wayN_lt hN (by omega)
      refine lv_astore (lv' := [(4, .ref (ad 8 (wayN N b))), (3, .ref (ad 7 (b))), (0, .ref (ad 0 (0))), (1, .int (iI (b))), (2, .int (iI (v)))]) hx hb dX1_of_28 hl (by decide) rfl (fun ls hl => ?_)
      refine lv_aload hx hb dX1_of_30 (lv_at hl 0 rfl) ?_
      have b5 : N 25 (wayN N b) ≤ 2 := hwf.2.2.2 _
      refine h_getN hx hb hts in_X7 hown hK (hW.k8 (wayN N b) ‹TL F N (wayN N b)›) rfl 7 (by decide) q604 rfl (v := .ref (sa (N 25 (wayN N b)))) rfl dX1_of_32 ?_
      refine va_gets (v := .ref (sa 2)) hx hb hSX.2.2.2.2.2.2.1 hS hown (hts _ q868) (fun _ h => h) dX1_of_35 ?_
      refine r_acmp_ne (P := (N 25 (wayN N b)) = 2) (tgt := 45) hx hb (hSX.ne (by omega) (by omega)) dX1_of_38 (by decide) (fun h6 => ?_) (fun h6 => ?_)
      · skip
        refine lv_iconst (v := iI (0)) hx hb dX1_of_45 rfl ?_
        refine lv_istore (lv' := [(5, .int (iI (0))), (4, .ref (ad 8 (wayN N b))), (3, .ref (ad 7 (b))), (0, .ref (ad 0 (0))), (1, .int (iI (b))), (2, .int (iI (v)))]) hx hb dX1_of_46 hl (by decide) rfl (fun ls hl => ?_)
        refine lv_iload_n hx hb dX1_of_48 rfl (lv_at hl 5 rfl) ?_
        rcases (by omega : v < 0 ∨ 5 < v ∨ v = 0 ∨ v = 1 ∨ v = 2 ∨ v = 3 ∨ v = 4 ∨ v = 5) with h7 | h7 | h7 | h7 | h7 | h7 | h7 | h7
        · skip
          exfalso; omega
        · skip
          refine lv_tableOut (tgt := 165) hx hb dX1_of_49 (by rw [iI_toInt (by unfold inR; omega)]; omega) (by decide) ?_
          refine lv_aload_n hx hb dX1_of_165 rfl (lv_at hl 2 rfl) ?_
          have b9 : N 21 (b) ≤ 1 := hN 21 _
          by_cases hbk8 : N 21 (b) = 0
          · skip
            refine h_getN hx hb hts in_X6 hown hK (hW.k7n (b) (by omega) ‹_›) rfl 5 (by decide) q636 rfl (v := .null) rfl dX1_of_166 ?_
            refine lv_ifnonnullN hx hb dX1_of_169 ?_
            refine lv_iconst (v := iI (0)) hx hb dX1_of_172 rfl ?_
            refine lv_goto (tgt := 177) hx hb dX1_of_173 (by decide) ?_
            exact W.iret hx hb hr (fun t ht hWm => ⟨congrArg (fun z => Outcome.returned (some (Value.int (iI z)))) (by unfold ofC; (repeat' split) <;> omega), ht⟩) (fun _ h => absurd h List.not_mem_nil) dX1_of_177
          · skip
            refine h_getN hx hb hts in_X6 hown hK (hW.k7s (b) (by omega) ‹_›) rfl 5 (by decide) q636 rfl (v := .ref (ad 8 (2 * b + 1))) rfl dX1_of_166 ?_
            have b10 : TL F N (2 * b + 1) := TL_1 (by omega) ‹_›
            refine lv_ifnonnull (tgt := 176) hx hb dX1_of_169 (by decide) ?_
            refine lv_iconst (v := iI (1)) hx hb dX1_of_176 rfl ?_
            exact W.iret hx hb hr (fun t ht hWm => ⟨congrArg (fun z => Outcome.returned (some (Value.int (iI z)))) (by unfold ofC; (repeat' split) <;> omega), ht⟩) (fun _ h => absurd h List.not_mem_nil) dX1_of_177
        · skip
          refine ri_top (b := 0) (by omega) ?_
          refine lv_tableIn (tgt := 88) (off := 39) hx hb dX1_of_49 (by decide) (by decide) (by decide) (by decide) ?_
          refine lv_aload hx hb dX1_of_88 (lv_at hl 1 rfl) ?_
          refine h_getN hx hb hts in_X7 hown hK (hW.k8 (wayN N b) ‹TL F N (wayN N b)›) rfl 6 (by decide) q602 rfl (v := .ref (ad 1 (100 + (wayN N b)))) rfl dX1_of_90 ?_
          have b12 : N 24 (wayN N b) ≤ 3 := hN 24 _
          obtain ⟨mc11, cp11, cq11, cr11, hLi11⟩ := (hW.lg (wayN N b) ‹TL F N (wayN N b)›)
          refine rc_V (W.runV (As := []) (rest := []) ⟨hx, hb, hml, hown, hts⟩ (al_size l D cA (ad 1 (100 + (wayN N b))) mc11 (ad 2 (100 + (wayN N b))) (N 24 (wayN N b))) (cwV 0 hts (lw_V q448 q449 q450 q45 q451) rfl rfl rfl (by decide +kernel) ⟨Nat.le_of_ble_eq_true rfl, Nat.le_of_ble_eq_true rfl⟩) (preV hK hLi11.1 rfl hLi11.1) rfl rfl hl.1 rfl (lv_room (Nat.le_of_ble_eq_true rfl)) dX1_of_93 ⟨Nat.le_of_ble_eq_true rfl, Nat.le_of_ble_eq_true rfl⟩) ?_
          exact W.iret hx hb hr (fun t ht hWm => ⟨congrArg (fun z => Outcome.returned (some (Value.int (iI z)))) (by unfold ofC; (repeat' split) <;> omega), ht⟩) (fun _ h => absurd h List.not_mem_nil) dX1_of_96
        · skip
          refine ri_top (b := 1) (by omega) ?_
          refine lv_tableIn (tgt := 97) (off := 48) hx hb dX1_of_49 (by decide) (by decide) (by decide) (by decide) ?_
          refine lv_aload hx hb dX1_of_97 (lv_at hl 1 rfl) ?_
          refine rc_V (W.runV (As := []) (rest := []) ⟨hx, hb, hml, hown, hts⟩ (cc_X7_arrives l D cA A sa ad F N Z E K hKb hF hN hZ hwf (wayN N b) ‹_›) (cwV 0 hts (lw_V q881 q882 q883 q69 q884) rfl rfl rfl (by decide +kernel) ⟨Nat.le_of_ble_eq_true rfl, Nat.le_of_ble_eq_true rfl⟩) (preVC hK hSX hS (hW.k8 (wayN N b) ‹TL F N (wayN N b)›) rfl hW) rfl rfl hl.1 rfl (lv_room (Nat.le_of_ble_eq_true rfl)) dX1_of_99 ⟨Nat.le_of_ble_eq_true rfl, Nat.le_of_ble_eq_true rfl⟩) ?_
          have b13 : -1 ≤ arW N (wayN N b) ∧ arW N (wayN N b) ≤ 1739 := arW_le hN _
          exact W.iret hx hb hr (fun t ht hWm => ⟨congrArg (fun z => Outcome.returned (some (Value.int (iI z)))) (by unfold ofC; (repeat' split) <;> omega), ht⟩) (fun _ h => absurd h List.not_mem_nil) dX1_of_102
        · skip
          refine ri_top (b := 2) (by omega) ?_
          refine lv_tableIn (tgt := 103) (off := 54) hx hb dX1_of_49 (by decide) (by decide) (by decide) (by decide) ?_
          refine lv_aload_n hx hb dX1_of_103 rfl (lv_at hl 3 rfl) ?_
          refine lv_aload hx hb dX1_of_104 (lv_at hl 1 rfl) ?_
          refine rc_V (W.runV (As := [.ref (ad 8 (wayN N b))]) (rest := []) ⟨hx, hb, hml, hown, hts⟩ (cc_X1_isGone l D cA A sa ad F N Z E K hKb hF hN hZ hwf (wayN N b) ‹_›) (cwV 1 hts (lw_V q895 q897 qs14 q42 q898) rfl rfl rfl (by decide +kernel) ⟨Nat.le_of_ble_eq_true rfl, Nat.le_of_ble_eq_true rfl⟩) (preVC hK hSX hS hW.c0 rfl hW) rfl rfl hl.1 rfl (lv_room (Nat.le_of_ble_eq_true rfl)) dX1_of_106 ⟨Nat.le_of_ble_eq_true rfl, Nat.le_of_ble_eq_true rfl⟩) ?_
          by_cases h14 : rdW N (wayN N b) ≤ F 1 ∧ N 25 (wayN N b) ≠ 0
          · refine ri_top (b := 1) (if_pos h14) ?_
            refine ri_if_eq (tgt := 116) hx hb (by unfold inR; omega) dX1_of_109 (by decide) (fun h15 => ?_) (fun h15 => ?_)
            · skip
              exfalso; omega
            · skip
              refine lv_iconst (v := iI (1)) hx hb dX1_of_112 rfl ?_
              refine lv_goto (tgt := 117) hx hb dX1_of_113 (by decide) ?_
              exact W.iret hx hb hr (fun t ht hWm => ⟨congrArg (fun z => Outcome.returned (some (Value.int (iI z)))) (by unfold ofC; (repeat' split) <;> omega), ht⟩) (fun _ h => absurd h List.not_mem_nil) dX1_of_117
          · refine ri_top (b := 0) (if_neg h14) ?_
            refine ri_if_eq (tgt := 116) hx hb (by unfold inR; omega) dX1_of_109 (by decide) (fun h16 => ?_) (fun h16 => ?_)
            · skip
              refine lv_iconst (v := iI (0)) hx hb dX1_of_116 rfl ?_
              exact W.iret hx hb hr (fun t ht hWm => ⟨congrArg (fun z => Outcome.returned (some (Value.int (iI z)))) (by unfold ofC; (repeat' split) <;> omega), ht⟩) (fun _ h => absurd h List.not_mem_nil) dX1_of_117
            · skip
              exfalso; omega
        · skip
          refine ri_top (b := 3) (by omega) ?_
          refine lv_tableIn (tgt := 118) (off := 69) hx hb dX1_of_49 (by decide) (by decide) (by decide) (by decide) ?_
          refine lv_aload hx hb dX1_of_118 (lv_at hl 1 rfl) ?_
          refine rc_V (W.runV (As := []) (rest := []) ⟨hx, hb, hml, hown, hts⟩ (cc_X7_isLate l D cA A sa ad F N Z E K hKb hF hN hZ hwf (wayN N b) ‹_›) (cwV 0 hts (lw_V q899 q900 q901 q69 q902) rfl rfl rfl (by decide +kernel) ⟨Nat.le_of_ble_eq_true rfl, Nat.le_of_ble_eq_true rfl⟩) (preVC hK hSX hS (hW.k8 (wayN N b) ‹TL F N (wayN N b)›) rfl hW) rfl rfl hl.1 rfl (lv_room (Nat.le_of_ble_eq_true rfl)) dX1_of_120 ⟨Nat.le_of_ble_eq_true rfl, Nat.le_of_ble_eq_true rfl⟩) ?_
          by_cases h17 : N 25 (wayN N b) = 1 ∧ (duW N (wayN N b) : Int) < arW N (wayN N b)
          · refine ri_top (b := 1) (if_pos h17) ?_
            refine ri_if_eq (tgt := 130) hx hb (by unfold inR; omega) dX1_of_123 (by decide) (fun h18 => ?_) (fun h18 => ?_)
            · skip
              exfalso; omega
            · skip
              refine lv_iconst (v := iI (1)) hx hb dX1_of_126 rfl ?_
              refine lv_goto (tgt := 131) hx hb dX1_of_127 (by decide) ?_
              exact W.iret hx hb hr (fun t ht hWm => ⟨congrArg (fun z => Outcome.returned (some (Value.int (iI z)))) (by unfold ofC; (repeat' split) <;> omega), ht⟩) (fun _ h => absurd h List.not_mem_nil) dX1_of_131
          · refine ri_top (b := 0) (if_neg h17) ?_
            refine ri_if_eq (tgt := 130) hx hb (by unfold inR; omega) dX1_of_123 (by decide) (fun h19 => ?_) (fun h19 => ?_)
            · skip
              refine lv_iconst (v := iI (0)) hx hb dX1_of_130 rfl ?_
              exact W.iret hx hb hr (fun t ht hWm => ⟨congrArg (fun z => Outcome.returned (some (Value.int (iI z)))) (by unfold ofC; (repeat' split) <;> omega), ht⟩) (fun _ h => absurd h List.not_mem_nil) dX1_of_131
            · skip
              exfalso; omega
        · skip
          refine ri_top (b := 4) (by omega) ?_
          refine lv_tableIn (tgt := 132) (off := 83) hx hb dX1_of_49 (by decide) (by decide) (by decide) (by decide) ?_
          refine lv_iload hx hb dX1_of_132 (lv_at hl 0 rfl) ?_
          refine ri_if_eq (tgt := 148) hx hb (by unfold inR; omega) dX1_of_134 (by decide) (fun h20 => ?_) (fun h20 => ?_)
          · skip
            refine lv_iconst (v := iI (-1)) hx hb dX1_of_148 rfl ?_
            exact W.iret hx hb hr (fun t ht hWm => ⟨congrArg (fun z => Outcome.returned (some (Value.int (iI z)))) (by unfold ofC; (repeat' split) <;> omega), ht⟩) (fun _ h => absurd h List.not_mem_nil) dX1_of_149
          · skip
            exfalso; omega
        · skip
          refine ri_top (b := 5) (by omega) ?_
          refine lv_tableIn (tgt := 150) (off := 101) hx hb dX1_of_49 (by decide) (by decide) (by decide) (by decide) ?_
          refine lv_iload hx hb dX1_of_150 (lv_at hl 0 rfl) ?_
          refine ri_if_eq (tgt := 163) hx hb (by unfold inR; omega) dX1_of_152 (by decide) (fun h21 => ?_) (fun h21 => ?_)
          · skip
            refine lv_iconst (v := iI (-1)) hx hb dX1_of_163 rfl ?_
            exact W.iret hx hb hr (fun t ht hWm => ⟨congrArg (fun z => Outcome.returned (some (Value.int (iI z)))) (by unfold ofC; (repeat' split) <;> omega), ht⟩) (fun _ h => absurd h List.not_mem_nil) dX1_of_164
          · skip
            exfalso; omega
      · skip
        refine lv_iconst (v := iI (1)) hx hb dX1_of_41 rfl ?_
        refine lv_goto (tgt := 46) hx hb dX1_of_42 (by decide) ?_
        refine lv_istore (lv' := [(5, .int (iI (1))), (4, .ref (ad 8 (wayN N b))), (3, .ref (ad 7 (b))), (0, .ref (ad 0 (0))), (1, .int (iI (b))), (2, .int (iI (v)))]) hx hb dX1_of_46 hl (by decide) rfl (fun ls hl => ?_)
        refine lv_iload_n hx hb dX1_of_48 rfl (lv_at hl 5 rfl) ?_
        rcases (by omega : v < 0 ∨ 5 < v ∨ v = 0 ∨ v = 1 ∨ v = 2 ∨ v = 3 ∨ v = 4 ∨ v = 5) with h22 | h22 | h22 | h22 | h22 | h22 | h22 | h22
        · skip
          exfalso; omega
        · skip
          refine lv_tableOut (tgt := 165) hx hb dX1_of_49 (by rw [iI_toInt (by unfold inR; omega)]; omega) (by decide) ?_
          refine lv_aload_n hx hb dX1_of_165 rfl (lv_at hl 2 rfl) ?_
          have b24 : N 21 (b) ≤ 1 := hN 21 _
          by_cases hbk23 : N 21 (b) = 0
          · skip
            refine h_getN hx hb hts in_X6 hown hK (hW.k7n (b) (by omega) ‹_›) rfl 5 (by decide) q636 rfl (v := .null) rfl dX1_of_166 ?_
            refine lv_ifnonnullN hx hb dX1_of_169 ?_
            refine lv_iconst (v := iI (0)) hx hb dX1_of_172 rfl ?_
            refine lv_goto (tgt := 177) hx hb dX1_of_173 (by decide) ?_
            exact W.iret hx hb hr (fun t ht hWm => ⟨congrArg (fun z => Outcome.returned (some (Value.int (iI z)))) (by unfold ofC; (repeat' split) <;> omega), ht⟩) (fun _ h => absurd h List.not_mem_nil) dX1_of_177
          · skip
            refine h_getN hx hb hts in_X6 hown hK (hW.k7s (b) (by omega) ‹_›) rfl 5 (by decide) q636 rfl (v := .ref (ad 8 (2 * b + 1))) rfl dX1_of_166 ?_
            have b25 : TL F N (2 * b + 1) := TL_1 (by omega) ‹_›
            refine lv_ifnonnull (tgt := 176) hx hb dX1_of_169 (by decide) ?_
            refine lv_iconst (v := iI (1)) hx hb dX1_of_176 rfl ?_
            exact W.iret hx hb hr (fun t ht hWm => ⟨congrArg (fun z => Outcome.returned (some (Value.int (iI z)))) (by unfold ofC; (repeat' split) <;> omega), ht⟩) (fun _ h => absurd h List.not_mem_nil) dX1_of_177
        · skip
          refine ri_top (b := 0) (by omega) ?_
          refine lv_tableIn (tgt := 88) (off := 39) hx hb dX1_of_49 (by decide) (by decide) (by decide) (by decide) ?_
          refine lv_aload hx hb dX1_of_88 (lv_at hl 1 rfl) ?_
          refine h_getN hx hb hts in_X7 hown hK (hW.k8 (wayN N b) ‹TL F N (wayN N b)›) rfl 6 (by decide) q602 rfl (v := .ref (ad 1 (100 + (wayN N b)))) rfl dX1_of_90 ?_
          have b27 : N 24 (wayN N b) ≤ 3 := hN 24 _
          obtain ⟨mc26, cp26, cq26, cr26, hLi26⟩ := (hW.lg (wayN N b) ‹TL F N (wayN N b)›)
          refine rc_V (W.runV (As := []) (rest := []) ⟨hx, hb, hml, hown, hts⟩ (al_size l D cA (ad 1 (100 + (wayN N b))) mc26 (ad 2 (100 + (wayN N b))) (N 24 (wayN N b))) (cwV 0 hts (lw_V q448 q449 q450 q45 q451) rfl rfl rfl (by decide +kernel) ⟨Nat.le_of_ble_eq_true rfl, Nat.le_of_ble_eq_true rfl⟩) (preV hK hLi26.1 rfl hLi26.1) rfl rfl hl.1 rfl (lv_room (Nat.le_of_ble_eq_true rfl)) dX1_of_93 ⟨Nat.le_of_ble_eq_true rfl, Nat.le_of_ble_eq_true rfl⟩) ?_
          exact W.iret hx hb hr (fun t ht hWm => ⟨congrArg (fun z => Outcome.returned (some (Value.int (iI z)))) (by unfold ofC; (repeat' split) <;> omega), ht⟩) (fun _ h => absurd h List.not_mem_nil) dX1_of_96
        · skip
          refine ri_top (b := 1) (by omega) ?_
          refine lv_tableIn (tgt := 97) (off := 48) hx hb dX1_of_49 (by decide) (by decide) (by decide) (by decide) ?_
          refine lv_aload hx hb dX1_of_97 (lv_at hl 1 rfl) ?_
          refine rc_V (W.runV (As := []) (rest := []) ⟨hx, hb, hml, hown, hts⟩ (cc_X7_arrives l D cA A sa ad F N Z E K hKb hF hN hZ hwf (wayN N b) ‹_›) (cwV 0 hts (lw_V q881 q882 q883 q69 q884) rfl rfl rfl (by decide +kernel) ⟨Nat.le_of_ble_eq_true rfl, Nat.le_of_ble_eq_true rfl⟩) (preVC hK hSX hS (hW.k8 (wayN N b) ‹TL F N (wayN N b)›) rfl hW) rfl rfl hl.1 rfl (lv_room (Nat.le_of_ble_eq_true rfl)) dX1_of_99 ⟨Nat.le_of_ble_eq_true rfl, Nat.le_of_ble_eq_true rfl⟩) ?_
          have b28 : -1 ≤ arW N (wayN N b) ∧ arW N (wayN N b) ≤ 1739 := arW_le hN _
          exact W.iret hx hb hr (fun t ht hWm => ⟨congrArg (fun z => Outcome.returned (some (Value.int (iI z)))) (by unfold ofC; (repeat' split) <;> omega), ht⟩) (fun _ h => absurd h List.not_mem_nil) dX1_of_102
        · skip
          refine ri_top (b := 2) (by omega) ?_
          refine lv_tableIn (tgt := 103) (off := 54) hx hb dX1_of_49 (by decide) (by decide) (by decide) (by decide) ?_
          refine lv_aload_n hx hb dX1_of_103 rfl (lv_at hl 3 rfl) ?_
          refine lv_aload hx hb dX1_of_104 (lv_at hl 1 rfl) ?_
          refine rc_V (W.runV (As := [.ref (ad 8 (wayN N b))]) (rest := []) ⟨hx, hb, hml, hown, hts⟩ (cc_X1_isGone l D cA A sa ad F N Z E K hKb hF hN hZ hwf (wayN N b) ‹_›) (cwV 1 hts (lw_V q895 q897 qs14 q42 q898) rfl rfl rfl (by decide +kernel) ⟨Nat.le_of_ble_eq_true rfl, Nat.le_of_ble_eq_true rfl⟩) (preVC hK hSX hS hW.c0 rfl hW) rfl rfl hl.1 rfl (lv_room (Nat.le_of_ble_eq_true rfl)) dX1_of_106 ⟨Nat.le_of_ble_eq_true rfl, Nat.le_of_ble_eq_true rfl⟩) ?_
          by_cases h29 : rdW N (wayN N b) ≤ F 1 ∧ N 25 (wayN N b) ≠ 0
          · refine ri_top (b := 1) (if_pos h29) ?_
            refine ri_if_eq (tgt := 116) hx hb (by unfold inR; omega) dX1_of_109 (by decide) (fun h30 => ?_) (fun h30 => ?_)
            · skip
              exfalso; omega
            · skip
              refine lv_iconst (v := iI (1)) hx hb dX1_of_112 rfl ?_
              refine lv_goto (tgt := 117) hx hb dX1_of_113 (by decide) ?_
              exact W.iret hx hb hr (fun t ht hWm => ⟨congrArg (fun z => Outcome.returned (some (Value.int (iI z)))) (by unfold ofC; (repeat' split) <;> omega), ht⟩) (fun _ h => absurd h List.not_mem_nil) dX1_of_117
          · refine ri_top (b := 0) (if_neg h29) ?_
            refine ri_if_eq (tgt := 116) hx hb (by unfold inR; omega) dX1_of_109 (by decide) (fun h31 => ?_) (fun h31 => ?_)
            · skip
              refine lv_iconst (v := iI (0)) hx hb dX1_of_116 rfl ?_
              exact W.iret hx hb hr (fun t ht hWm => ⟨congrArg (fun z => Outcome.returned (some (Value.int (iI z)))) (by unfold ofC; (repeat' split) <;> omega), ht⟩) (fun _ h => absurd h List.not_mem_nil) dX1_of_117
            · skip
              exfalso; omega
        · skip
          refine ri_top (b := 3) (by omega) ?_
          refine lv_tableIn (tgt := 118) (off := 69) hx hb dX1_of_49 (by decide) (by decide) (by decide) (by decide) ?_
          refine lv_aload hx hb dX1_of_118 (lv_at hl 1 rfl) ?_
          refine rc_V (W.runV (As := []) (rest := []) ⟨hx, hb, hml, hown, hts⟩ (cc_X7_isLate l D cA A sa ad F N Z E K hKb hF hN hZ hwf (wayN N b) ‹_›) (cwV 0 hts (lw_V q899 q900 q901 q69 q902) rfl rfl rfl (by decide +kernel) ⟨Nat.le_of_ble_eq_true rfl, Nat.le_of_ble_eq_true rfl⟩) (preVC hK hSX hS (hW.k8 (wayN N b) ‹TL F N (wayN N b)›) rfl hW) rfl rfl hl.1 rfl (lv_room (Nat.le_of_ble_eq_true rfl)) dX1_of_120 ⟨Nat.le_of_ble_eq_true rfl, Nat.le_of_ble_eq_true rfl⟩) ?_
          by_cases h32 : N 25 (wayN N b) = 1 ∧ (duW N (wayN N b) : Int) < arW N (wayN N b)
          · refine ri_top (b := 1) (if_pos h32) ?_
            refine ri_if_eq (tgt := 130) hx hb (by unfold inR; omega) dX1_of_123 (by decide) (fun h33 => ?_) (fun h33 => ?_)
            · skip
              exfalso; omega
            · skip
              refine lv_iconst (v := iI (1)) hx hb dX1_of_126 rfl ?_
              refine lv_goto (tgt := 131) hx hb dX1_of_127 (by decide) ?_
              exact W.iret hx hb hr (fun t ht hWm => ⟨congrArg (fun z => Outcome.returned (some (Value.int (iI z)))) (by unfold ofC; (repeat' split) <;> omega), ht⟩) (fun _ h => absurd h List.not_mem_nil) dX1_of_131
          · refine ri_top (b := 0) (if_neg h32) ?_
            refine ri_if_eq (tgt := 130) hx hb (by unfold inR; omega) dX1_of_123 (by decide) (fun h34 => ?_) (fun h34 => ?_)
            · skip
              refine lv_iconst (v := iI (0)) hx hb dX1_of_130 rfl ?_
              exact W.iret hx hb hr (fun t ht hWm => ⟨congrArg (fun z => Outcome.returned (some (Value.int (iI z)))) (by unfold ofC; (repeat' split) <;> omega), ht⟩) (fun _ h => absurd h List.not_mem_nil) dX1_of_131
            · skip
              exfalso; omega
        · skip
          refine ri_top (b := 4) (by omega) ?_
          refine lv_tableIn (tgt := 132) (off := 83) hx hb dX1_of_49 (by decide) (by decide) (by decide) (by decide) ?_
          refine lv_iload hx hb dX1_of_132 (lv_at hl 0 rfl) ?_
          refine ri_if_eq (tgt := 148) hx hb (by unfold inR; omega) dX1_of_134 (by decide) (fun h35 => ?_) (fun h35 => ?_)
          · skip
            exfalso; omega
          · skip
            refine lv_aload hx hb dX1_of_137 (lv_at hl 1 rfl) ?_
            refine rc_V (W.runV (As := []) (rest := []) ⟨hx, hb, hml, hown, hts⟩ (cc_X7_end l D cA A sa ad F N Z E K hKb hF hN hZ hwf (wayN N b) ‹_›) (cwV 0 hts (lw_V q666 q667 q668 q69 q669) rfl rfl rfl (by decide +kernel) ⟨Nat.le_of_ble_eq_true rfl, Nat.le_of_ble_eq_true rfl⟩) (preVC hK hSX hS (hW.k8 (wayN N b) ‹TL F N (wayN N b)›) rfl hW) rfl rfl hl.1 rfl (lv_room (Nat.le_of_ble_eq_true rfl)) dX1_of_139 ⟨Nat.le_of_ble_eq_true rfl, Nat.le_of_ble_eq_true rfl⟩) ?_
            have b36 : enW N (wayN N b) < F 2 := enW_lt hwf ‹_›
            refine h_getN hx hb hts in_X3 hown hK (hW.k3 (enW N (wayN N b)) (by omega)) rfl 0 (by decide) q459 rfl (v := .int (iI (enW N (wayN N b)))) rfl dX1_of_142 ?_
            refine lv_goto (tgt := 149) hx hb dX1_of_145 (by decide) ?_
            exact W.iret hx hb hr (fun t ht hWm => ⟨congrArg (fun z => Outcome.returned (some (Value.int (iI z)))) (by unfold ofC; (repeat' split) <;> omega), ht⟩) (fun _ h => absurd h List.not_mem_nil) dX1_of_149
        · skip
          refine ri_top (b := 5) (by omega) ?_
          refine lv_tableIn (tgt := 150) (off := 101) hx hb dX1_of_49 (by decide) (by decide) (by decide) (by decide) ?_
          refine lv_iload hx hb dX1_of_150 (lv_at hl 0 rfl) ?_
          refine ri_if_eq (tgt := 163) hx hb (by unfold inR; omega) dX1_of_152 (by decide) (fun h37 => ?_) (fun h37 => ?_)
          · skip
            exfalso; omega
          · skip
            refine lv_aload hx hb dX1_of_155 (lv_at hl 1 rfl) ?_
            have b38 : N 26 (wayN N b) ≤ 2000 := hN 26 _
            refine h_getN hx hb hts in_X7 hown hK (hW.k8 (wayN N b) ‹TL F N (wayN N b)›) rfl 8 (by decide) q605 rfl (v := .int (iI (N 26 (wayN N b)))) rfl dX1_of_157 ?_
            refine lv_goto (tgt := 164) hx hb dX1_of_160 (by decide) ?_
            exact W.iret hx hb hr (fun t ht hWm => ⟨congrArg (fun z => Outcome.returned (some (Value.int (iI z)))) (by unfold ofC; (repeat' split) <;> omega), ht⟩) (fun _ h => absurd h List.not_mem_nil) dX1_of_164

set_option maxHeartbeats 4000000 in
set_option maxRecDepth 100000 in
theorem cc_X1_leg (l : Launch) (D : va_G) (cA : Nat → ClassId) (A : Nat → Prop) (sa : Nat → Nat) (ad : Nat → Nat → Nat) (F : Nat → Nat) (N : Nat → Nat → Nat) (Z : Nat → Int) (E : Nat → Nat → Int) (K : Nat) (hKb : K ≤ 1000000) (hF : FB F) (hN : NB N) (hZ : ZB K Z) (hwf : WF F N) (b i v : Nat) (hb4 : b < F 4) (hi : i < N 24 (2 * b) + (if N 21 b = 0 then 0 else N 24 (2 * b + 1))) (hv2 : v ≤ 2) : Met l yX1_leg (ws_ yX1_leg cX1_leg 8 (some .int)) ({ frames := 5, cells := 0, slots := 0, locals := 125 }) (PC D cA A sa ad F N Z E [.ref (ad 0 (0)), .int (iI (b)), .int (iI (i)), .int (iI (v))]) (k2_QcV (.int (iI (legW N b i v)))) 0 0 (fun _ => False) := by
  refine Met.ofW (cc := cX1_leg) (maxL := 8) (ret := (some .int)) (by decide) rfl ?_
  intro p e s m args below meth c s₁ B hml hv
  obtain ⟨rfl, hK, hW⟩ := hv
  have hx := B.exec
  have hb := B.bytes
  have hr := B.returns
  have hts := atoms_spec (ws := ws_ yX1_leg cX1_leg 8 (some .int)) B.pre
  have hts : ∀ w ∈ lw_all, w.before _ s = true := fun w h => hts w (List.mem_cons_of_mem _ h)
  have hown : s.vm.findClass RX1 = some m.cls := findClass_of_methodNamed B.named
  have hlocks := B.notSynchronized
  have hl := lv_entry ([.ref (ad 0 (0)), .int (iI (b)), .int (iI (i)), .int (iI (v))]) (n := 8) (Nat.le_of_ble_eq_true rfl)
  rw [lg_entry_eq]
  generalize (lg_sl ([.ref (ad 0 (0)), .int (iI (b)), .int (iI (i)), .int (iI (v))]) ++ List.replicate (8 - (lg_sl ([.ref (ad 0 (0)), .int (iI (b)), .int (iI (i)), .int (iI (v))])).length) Slot.unset).toArray = ls at hl ⊢
  have hl : lv_has ls 8 [(0, .ref (ad 0 (0))), (1, .int (iI (b))), (2, .int (iI (i))), (3, .int (iI (v)))] := hl
  obtain ⟨hSX, hW⟩ := hW
  have hS : va_S A s.heap s.heap [] := va_S.rf
  have hF2 : F 2 ≤ 10 := hF 2
  have hF3 : F 3 ≤ 16 := hF 3
  have hF4 : F 4 ≤ 60 := hF 4
  have hF5 : F 5 ≤ 40 := hF 5
  have hF1 : F 1 ≤ 1439 := hF 1
  have hm31 : N 24 (2 * b) ≤ 3 := hN 24 _
  have hm32 : N 24 (2 * b + 1) ≤ 3 := hN 24 _
  refine lv_aload_n hx hb dX1_leg_0 rfl (lv_at hl 0 rfl) ?_
  refine lv_iload_n hx hb dX1_leg_1 rfl (lv_at hl 1 rfl) ?_
  refine rc_V (W.runV (As := [.int (iI (b))]) (rest := []) ⟨hx, hb, hml, hown, hts⟩ (cc_X1_boxAt l D cA A sa ad F N Z E K hKb hF hN hZ hwf b (by omega)) (cwV 1 hts (lw_V q877 q879 qs13 q42 q880) rfl rfl rfl (by decide +kernel) ⟨Nat.le_of_ble_eq_true rfl, Nat.le_of_ble_eq_true rfl⟩) (preVC hK hSX hS hW.c0 rfl hW) rfl rfl hl.1 rfl (lv_room (Nat.le_of_ble_eq_true rfl)) dX1_leg_2 ⟨Nat.le_of_ble_eq_true rfl, Nat.le_of_ble_eq_true rfl⟩) ?_
  refine lv_astore (lv' := [(4, .ref (ad 7 (b))), (0, .ref (ad 0 (0))), (1, .int (iI (b))), (2, .int (iI (i))), (3, .int (iI (v)))]) hx hb dX1_leg_5 hl (by decide) rfl (fun ls hl => ?_)
  refine lv_aload hx hb dX1_leg_7 (lv_at hl 0 rfl) ?_
  have b1 : TL F N (2 * (b)) := TL_0 (by omega)
  refine h_getN hx hb hts in_X6 hown hK (hW.k7 (b) (by omega)) rfl 0 (by decide) q626 rfl (v := .ref (ad 8 (2 * b))) rfl dX1_leg_9 ?_
  refine h_getN hx hb hts in_X7 hown hK (hW.k8 (2 * b) ‹TL F N (2 * b)›) rfl 6 (by decide) q602 rfl (v := .ref (ad 1 (100 + (2 * b)))) rfl dX1_leg_12 ?_
  have b3 : N 24 (2 * b) ≤ 3 := hN 24 _
  obtain ⟨mc2, cp2, cq2, cr2, hLi2⟩ := (hW.lg (2 * b) ‹TL F N (2 * b)›)
  refine rc_V (W.runV (As := []) (rest := []) ⟨hx, hb, hml, hown, hts⟩ (al_size l D cA (ad 1 (100 + (2 * b))) mc2 (ad 2 (100 + (2 * b))) (N 24 (2 * b))) (cwV 0 hts (lw_V q448 q449 q450 q45 q451) rfl rfl rfl (by decide +kernel) ⟨Nat.le_of_ble_eq_true rfl, Nat.le_of_ble_eq_true rfl⟩) (preV hK hLi2.1 rfl hLi2.1) rfl rfl hl.1 rfl (lv_room (Nat.le_of_ble_eq_true rfl)) dX1_leg_15 ⟨Nat.le_of_ble_eq_true rfl, Nat.le_of_ble_eq_true rfl⟩) ?_
  refine lv_istore (lv' := [(5, .int (iI (N 24 (2 * b)))), (4, .ref (ad 7 (b))), (0, .ref (ad 0 (0))), (1, .int (iI (b))), (2, .int (iI (i))), (3, .int (iI (v)))]) hx hb dX1_leg_18 hl (by decide) rfl (fun ls hl => ?_)
  refine lv_aload hx hb dX1_leg_20 (lv_at hl 1 rfl) ?_
  have b5 : N 21 (b) ≤ 1 := hN 21 _
  by_cases hbk4 : N 21 (b) = 0
  · skip
    rw [if_pos hbk4] at hi
    refine h_getN hx hb hts in_X6 hown hK (hW.k7n (b) (by omega) ‹_›) rfl 5 (by decide) q636 rfl (v := .null) rfl dX1_leg_22 ?_
    refine lv_ifnonnullN hx hb dX1_leg_25 ?_
    refine lv_iload hx hb dX1_leg_28 (lv_at hl 0 rfl) ?_
    refine lv_goto (tgt := 47) hx hb dX1_leg_30 (by decide) ?_
    refine lv_istore (lv' := [(6, .int (iI (N 24 (2 * b)))), (5, .int (iI (N 24 (2 * b)))), (4, .ref (ad 7 (b))), (0, .ref (ad 0 (0))), (1, .int (iI (b))), (2, .int (iI (i))), (3, .int (iI (v)))]) hx hb dX1_leg_47 hl (by decide) rfl (fun ls hl => ?_)
    refine lv_iload_n hx hb dX1_leg_49 rfl (lv_at hl 5 rfl) ?_
    refine ri_if_lt (tgt := 72) hx hb (by unfold inR; omega) dX1_leg_50 (by decide) (fun h6 => ?_) (fun h6 => ?_)
    · skip
      exfalso; omega
    · skip
      refine lv_iload_n hx hb dX1_leg_53 rfl (lv_at hl 5 rfl) ?_
      refine lv_iload hx hb dX1_leg_54 (lv_at hl 0 rfl) ?_
      refine ri_icmp_ge (tgt := 72) hx hb (by unfold inR; omega) (by unfold inR; omega) dX1_leg_56 (by decide) (fun h7 => ?_) (fun h7 => ?_)
      · skip
        exfalso; omega
      · skip
        refine lv_iload_n hx hb dX1_leg_59 rfl (lv_at hl 6 rfl) ?_
        refine ri_if_lt (tgt := 72) hx hb (by unfold inR; omega) dX1_leg_60 (by decide) (fun h8 => ?_) (fun h8 => ?_)
        · skip
          exfalso; omega
        · skip
          refine lv_iload_n hx hb dX1_leg_63 rfl (lv_at hl 6 rfl) ?_
          refine lv_iconst (v := iI (2)) hx hb dX1_leg_64 rfl ?_
          refine ri_icmp_gt (tgt := 72) hx hb (by unfold inR; omega) (by unfold inR; omega) dX1_leg_65 (by decide) (fun h9 => ?_) (fun h9 => ?_)
          · skip
            exfalso; omega
          · skip
            refine lv_iconst (v := iI (1)) hx hb dX1_leg_68 rfl ?_
            refine lv_goto (tgt := 73) hx hb dX1_leg_69 (by decide) ?_
            refine rc_0 (W.runS (As := [.int (iI (1))]) (rest := []) ⟨hx, hb, hml, hown, hts⟩ (cc_X1_there l D cA  ) (va_cwS 1 hts (lw_S q779 q780 q42 q781) rfl rfl rfl (by decide +kernel) ⟨Nat.le_of_ble_eq_true rfl, Nat.le_of_ble_eq_true rfl⟩) (preS hK (B := fun _ => True) trivial) rfl rfl hl.1 rfl (lv_room (Nat.le_of_ble_eq_true rfl)) dX1_leg_73 ⟨Nat.le_of_ble_eq_true rfl, Nat.le_of_ble_eq_true rfl⟩) ?_
            refine lv_iload_n hx hb dX1_leg_76 rfl (lv_at hl 5 rfl) ?_
            refine lv_iload hx hb dX1_leg_77 (lv_at hl 1 rfl) ?_
            refine ri_icmp_ge (tgt := 100) hx hb (by unfold inR; omega) (by unfold inR; omega) dX1_leg_79 (by decide) (fun h10 => ?_) (fun h10 => ?_)
            · skip
              exfalso; omega
            · skip
              refine lv_aload hx hb dX1_leg_82 (lv_at hl 2 rfl) ?_
              refine h_getN hx hb hts in_X6 hown hK (hW.k7 (b) (by omega)) rfl 0 (by decide) q626 rfl (v := .ref (ad 8 (2 * b))) rfl dX1_leg_84 ?_
              refine h_getN hx hb hts in_X7 hown hK (hW.k8 (2 * b) ‹TL F N (2 * b)›) rfl 6 (by decide) q602 rfl (v := .ref (ad 1 (100 + (2 * b)))) rfl dX1_leg_87 ?_
              refine lv_iload_n hx hb dX1_leg_90 rfl (lv_at hl 5 rfl) ?_
              obtain ⟨mc11, cp11, cq11, cr11, hLi11⟩ := (hW.lg (2 * b) ‹TL F N (2 * b)›)
              refine rc_V (W.runV (As := [.int (iI (i))]) (rest := []) ⟨hx, hb, hml, hown, hts⟩ (al_get l D cA (ad 1 (100 + (2 * b))) mc11 (ad 2 (100 + (2 * b))) (N 24 (2 * b)) cp11 (fun j => ad 9 (3 * (2 * b) + j)) (i) (by omega)) (cwV 1 hts (lw_V q565 q566 q567 q45 q568) rfl rfl rfl (by decide +kernel) ⟨Nat.le_of_ble_eq_true rfl, Nat.le_of_ble_eq_true rfl⟩) (preV hK hLi11.1 rfl hLi11) rfl rfl hl.1 rfl (lv_room (Nat.le_of_ble_eq_true rfl)) dX1_leg_91 ⟨Nat.le_of_ble_eq_true rfl, Nat.le_of_ble_eq_true rfl⟩) ?_
              have b12 : N 27 (3 * (2 * b) + i) < F 3 ∧ N 28 (3 * (2 * b) + i) < N 29 (3 * (2 * b) + i) ∧ N 29 (3 * (2 * b) + i) < N 8 (N 27 (3 * (2 * b) + i)) := hwf.2.2.1 _ _ ‹TL F N (2 * b)› (by omega)
              have b13 : N 8 (N 27 (3 * (2 * b) + i)) ≤ 10 := hN 8 _
              refine h_cast (ci := 7) (q := (RX8, TX8, 3)) hx hb hown (hts _ q714) hK rfl (isO.of (hW.k9 (2 * b) (i) ‹TL F N (2 * b)› (by omega))) dX1_leg_94 ?_
              refine lv_goto (tgt := 118) hx hb dX1_leg_97 (by decide) ?_
              refine lv_astore (lv' := [(7, .ref (ad 9 (3 * (2 * b) + i))), (6, .int (iI (N 24 (2 * b)))), (5, .int (iI (N 24 (2 * b)))), (4, .ref (ad 7 (b))), (0, .ref (ad 0 (0))), (1, .int (iI (b))), (2, .int (iI (i))), (3, .int (iI (v)))]) hx hb dX1_leg_118 hl (by decide) rfl (fun ls hl => ?_)
              refine lv_iload_n hx hb dX1_leg_120 rfl (lv_at hl 7 rfl) ?_
              refine ri_if_ne (tgt := 135) hx hb (by unfold inR; omega) dX1_leg_121 (by decide) (fun h14 => ?_) (fun h14 => ?_)
              · skip
                refine lv_iload_n hx hb dX1_leg_135 rfl (lv_at hl 7 rfl) ?_
                refine lv_iconst (v := iI (1)) hx hb dX1_leg_136 rfl ?_
                refine ri_icmp_ne (tgt := 148) hx hb (by unfold inR; omega) (by unfold inR; omega) dX1_leg_137 (by decide) (fun h15 => ?_) (fun h15 => ?_)
                · skip
                  refine lv_aload hx hb dX1_leg_148 (lv_at hl 0 rfl) ?_
                  refine h_getN hx hb hts in_X8 hown hK (hW.k9 (2 * b) (i) ‹TL F N (2 * b)› (by omega)) rfl 2 (by decide) q726 rfl (v := .int (iI (N 29 (3 * (2 * b) + i)))) rfl dX1_leg_150 ?_
                  exact W.iret hx hb hr (fun t ht hWm => ⟨congrArg (fun z => Outcome.returned (some (Value.int (iI z)))) (by unfold legW legI; (repeat' split) <;> omega), ht⟩) (fun _ h => absurd h List.not_mem_nil) dX1_leg_153
                · skip
                  refine lv_aload hx hb dX1_leg_140 (lv_at hl 0 rfl) ?_
                  refine h_getN hx hb hts in_X8 hown hK (hW.k9 (2 * b) (i) ‹TL F N (2 * b)› (by omega)) rfl 1 (by decide) q724 rfl (v := .int (iI (N 28 (3 * (2 * b) + i)))) rfl dX1_leg_142 ?_
                  refine lv_goto (tgt := 153) hx hb dX1_leg_145 (by decide) ?_
                  exact W.iret hx hb hr (fun t ht hWm => ⟨congrArg (fun z => Outcome.returned (some (Value.int (iI z)))) (by unfold legW legI; (repeat' split) <;> omega), ht⟩) (fun _ h => absurd h List.not_mem_nil) dX1_leg_153
              · skip
                refine lv_aload hx hb dX1_leg_124 (lv_at hl 0 rfl) ?_
                refine h_getN hx hb hts in_X8 hown hK (hW.k9 (2 * b) (i) ‹TL F N (2 * b)› (by omega)) rfl 0 (by decide) q722 rfl (v := .ref (ad 4 (N 27 (3 * (2 * b) + i)))) rfl dX1_leg_126 ?_
                refine h_getN hx hb hts in_X4 hown hK (hW.k4 (N 27 (3 * (2 * b) + i)) (by omega)) rfl 0 (by decide) q528 rfl (v := .int (iI (N 27 (3 * (2 * b) + i)))) rfl dX1_leg_129 ?_
                refine lv_goto (tgt := 153) hx hb dX1_leg_132 (by decide) ?_
                exact W.iret hx hb hr (fun t ht hWm => ⟨congrArg (fun z => Outcome.returned (some (Value.int (iI z)))) (by unfold legW legI; (repeat' split) <;> omega), ht⟩) (fun _ h => absurd h List.not_mem_nil) dX1_leg_153
  · skip
    rw [if_neg hbk4] at hi
    refine h_getN hx hb hts in_X6 hown hK (hW.k7s (b) (by omega) ‹_›) rfl 5 (by decide) q636 rfl (v := .ref (ad 8 (2 * b + 1))) rfl dX1_leg_22 ?_
    have b16 : TL F N (2 * b + 1) := TL_1 (by omega) ‹_›
    refine lv_ifnonnull (tgt := 33) hx hb dX1_leg_25 (by decide) ?_
    refine lv_iload hx hb dX1_leg_33 (lv_at hl 0 rfl) ?_
    refine lv_aload hx hb dX1_leg_35 (lv_at hl 1 rfl) ?_
    refine h_getN hx hb hts in_X6 hown hK (hW.k7s (b) (by omega) ‹_›) rfl 5 (by decide) q636 rfl (v := .ref (ad 8 (2 * b + 1))) rfl dX1_leg_37 ?_
    refine h_getN hx hb hts in_X7 hown hK (hW.k8 (2 * b + 1) ‹TL F N (2 * b + 1)›) rfl 6 (by decide) q602 rfl (v := .ref (ad 1 (100 + (2 * b + 1)))) rfl dX1_leg_40 ?_
    have b18 : N 24 (2 * b + 1) ≤ 3 := hN 24 _
    obtain ⟨mc17, cp17, cq17, cr17, hLi17⟩ := (hW.lg (2 * b + 1) ‹TL F N (2 * b + 1)›)
    refine rc_V (W.runV (As := []) (rest := [.int (iI (N 24 (2 * b)))]) ⟨hx, hb, hml, hown, hts⟩ (al_size l D cA (ad 1 (100 + (2 * b + 1))) mc17 (ad 2 (100 + (2 * b + 1))) (N 24 (2 * b + 1))) (cwV 0 hts (lw_V q448 q449 q450 q45 q451) rfl rfl rfl (by decide +kernel) ⟨Nat.le_of_ble_eq_true rfl, Nat.le_of_ble_eq_true rfl⟩) (preV hK hLi17.1 rfl hLi17.1) rfl rfl hl.1 rfl (lv_room (Nat.le_of_ble_eq_true rfl)) dX1_leg_43 ⟨Nat.le_of_ble_eq_true rfl, Nat.le_of_ble_eq_true rfl⟩) ?_
    refine ri_iadd hx hb dX1_leg_46 ?_
    refine ri_top (b := (N 24 (2 * b) + N 24 (2 * b + 1) : Nat)) (by omega) ?_
    refine lv_istore (lv' := [(6, .int (iI ((N 24 (2 * b) + N 24 (2 * b + 1) : Nat)))), (5, .int (iI (N 24 (2 * b)))), (4, .ref (ad 7 (b))), (0, .ref (ad 0 (0))), (1, .int (iI (b))), (2, .int (iI (i))), (3, .int (iI (v)))]) hx hb dX1_leg_47 hl (by decide) rfl (fun ls hl => ?_)
    refine lv_iload_n hx hb dX1_leg_49 rfl (lv_at hl 5 rfl) ?_
    refine ri_if_lt (tgt := 72) hx hb (by unfold inR; omega) dX1_leg_50 (by decide) (fun h19 => ?_) (fun h19 => ?_)
    · skip
      exfalso; omega
    · skip
      refine lv_iload_n hx hb dX1_leg_53 rfl (lv_at hl 5 rfl) ?_
      refine lv_iload hx hb dX1_leg_54 (lv_at hl 0 rfl) ?_
      refine ri_icmp_ge (tgt := 72) hx hb (by unfold inR; omega) (by unfold inR; omega) dX1_leg_56 (by decide) (fun h20 => ?_) (fun h20 => ?_)
      · skip
        exfalso; omega
      · skip
        refine lv_iload_n hx hb dX1_leg_59 rfl (lv_at hl 6 rfl) ?_
        refine ri_if_lt (tgt := 72) hx hb (by unfold inR; omega) dX1_leg_60 (by decide) (fun h21 => ?_) (fun h21 => ?_)
        · skip
          exfalso; omega
        · skip
          refine lv_iload_n hx hb dX1_leg_63 rfl (lv_at hl 6 rfl) ?_
          refine lv_iconst (v := iI (2)) hx hb dX1_leg_64 rfl ?_
          refine ri_icmp_gt (tgt := 72) hx hb (by unfold inR; omega) (by unfold inR; omega) dX1_leg_65 (by decide) (fun h22 => ?_) (fun h22 => ?_)
          · skip
            exfalso; omega
          · skip
            refine lv_iconst (v := iI (1)) hx hb dX1_leg_68 rfl ?_
            refine lv_goto (tgt := 73) hx hb dX1_leg_69 (by decide) ?_
            refine rc_0 (W.runS (As := [.int (iI (1))]) (rest := []) ⟨hx, hb, hml, hown, hts⟩ (cc_X1_there l D cA  ) (va_cwS 1 hts (lw_S q779 q780 q42 q781) rfl rfl rfl (by decide +kernel) ⟨Nat.le_of_ble_eq_true rfl, Nat.le_of_ble_eq_true rfl⟩) (preS hK (B := fun _ => True) trivial) rfl rfl hl.1 rfl (lv_room (Nat.le_of_ble_eq_true rfl)) dX1_leg_73 ⟨Nat.le_of_ble_eq_true rfl, Nat.le_of_ble_eq_true rfl⟩) ?_
            refine lv_iload_n hx hb dX1_leg_76 rfl (lv_at hl 5 rfl) ?_
            refine lv_iload hx hb dX1_leg_77 (lv_at hl 1 rfl) ?_
            refine ri_icmp_ge (tgt := 100) hx hb (by unfold inR; omega) (by unfold inR; omega) dX1_leg_79 (by decide) (fun h23 => ?_) (fun h23 => ?_)
            · skip
              refine lv_aload hx hb dX1_leg_100 (lv_at hl 2 rfl) ?_
              refine h_getN hx hb hts in_X6 hown hK (hW.k7s (b) (by omega) ‹_›) rfl 5 (by decide) q636 rfl (v := .ref (ad 8 (2 * b + 1))) rfl dX1_leg_102 ?_
              refine h_getN hx hb hts in_X7 hown hK (hW.k8 (2 * b + 1) ‹TL F N (2 * b + 1)›) rfl 6 (by decide) q602 rfl (v := .ref (ad 1 (100 + (2 * b + 1)))) rfl dX1_leg_105 ?_
              refine lv_iload_n hx hb dX1_leg_108 rfl (lv_at hl 5 rfl) ?_
              refine lv_iload hx hb dX1_leg_109 (lv_at hl 1 rfl) ?_
              refine ri_isub hx hb dX1_leg_111 ?_
              obtain ⟨mc24, cp24, cq24, cr24, hLi24⟩ := (hW.lg (2 * b + 1) ‹TL F N (2 * b + 1)›)
              refine ri_top (b := ((i - N 24 (2 * b) : Nat) : Int)) (by omega) ?_
              refine rc_V (W.runV (As := [.int (iI ((i - N 24 (2 * b) : Nat)))]) (rest := []) ⟨hx, hb, hml, hown, hts⟩ (al_get l D cA (ad 1 (100 + (2 * b + 1))) mc24 (ad 2 (100 + (2 * b + 1))) (N 24 (2 * b + 1)) cp24 (fun j => ad 9 (3 * (2 * b + 1) + j)) (i - N 24 (2 * b)) (by omega)) (cwV 1 hts (lw_V q565 q566 q567 q45 q568) rfl rfl rfl (by decide +kernel) ⟨Nat.le_of_ble_eq_true rfl, Nat.le_of_ble_eq_true rfl⟩) (preV hK hLi24.1 rfl hLi24) rfl rfl hl.1 rfl (lv_room (Nat.le_of_ble_eq_true rfl)) dX1_leg_112 ⟨Nat.le_of_ble_eq_true rfl, Nat.le_of_ble_eq_true rfl⟩) ?_
              have b25 : N 27 (3 * (2 * b + 1) + (i - N 24 (2 * b))) < F 3 ∧ N 28 (3 * (2 * b + 1) + (i - N 24 (2 * b))) < N 29 (3 * (2 * b + 1) + (i - N 24 (2 * b))) ∧ N 29 (3 * (2 * b + 1) + (i - N 24 (2 * b))) < N 8 (N 27 (3 * (2 * b + 1) + (i - N 24 (2 * b)))) := hwf.2.2.1 _ _ ‹TL F N (2 * b + 1)› (by omega)
              have b26 : N 8 (N 27 (3 * (2 * b + 1) + (i - N 24 (2 * b)))) ≤ 10 := hN 8 _
              refine h_cast (ci := 7) (q := (RX8, TX8, 3)) hx hb hown (hts _ q714) hK rfl (isO.of (hW.k9 (2 * b + 1) (i - N 24 (2 * b)) ‹TL F N (2 * b + 1)› (by omega))) dX1_leg_115 ?_
              refine lv_astore (lv' := [(7, .ref (ad 9 (3 * (2 * b + 1) + (i - N 24 (2 * b))))), (6, .int (iI ((N 24 (2 * b) + N 24 (2 * b + 1) : Nat)))), (5, .int (iI (N 24 (2 * b)))), (4, .ref (ad 7 (b))), (0, .ref (ad 0 (0))), (1, .int (iI (b))), (2, .int (iI (i))), (3, .int (iI (v)))]) hx hb dX1_leg_118 hl (by decide) rfl (fun ls hl => ?_)
              refine lv_iload_n hx hb dX1_leg_120 rfl (lv_at hl 7 rfl) ?_
              refine ri_if_ne (tgt := 135) hx hb (by unfold inR; omega) dX1_leg_121 (by decide) (fun h27 => ?_) (fun h27 => ?_)
              · skip
                refine lv_iload_n hx hb dX1_leg_135 rfl (lv_at hl 7 rfl) ?_
                refine lv_iconst (v := iI (1)) hx hb dX1_leg_136 rfl ?_
                refine ri_icmp_ne (tgt := 148) hx hb (by unfold inR; omega) (by unfold inR; omega) dX1_leg_137 (by decide) (fun h28 => ?_) (fun h28 => ?_)
                · skip
                  refine lv_aload hx hb dX1_leg_148 (lv_at hl 0 rfl) ?_
                  refine h_getN hx hb hts in_X8 hown hK (hW.k9 (2 * b + 1) (i - N 24 (2 * b)) ‹TL F N (2 * b + 1)› (by omega)) rfl 2 (by decide) q726 rfl (v := .int (iI (N 29 (3 * (2 * b + 1) + (i - N 24 (2 * b)))))) rfl dX1_leg_150 ?_
                  exact W.iret hx hb hr (fun t ht hWm => ⟨congrArg (fun z => Outcome.returned (some (Value.int (iI z)))) (by unfold legW legI; (repeat' split) <;> omega), ht⟩) (fun _ h => absurd h List.not_mem_nil) dX1_leg_153
                · skip
                  refine lv_aload hx hb dX1_leg_140 (lv_at hl 0 rfl) ?_
                  refine h_getN hx hb hts in_X8 hown hK (hW.k9 (2 * b + 1) (i - N 24 (2 * b)) ‹TL F N (2 * b + 1)› (by omega)) rfl 1 (by decide) q724 rfl (v := .int (iI (N 28 (3 * (2 * b + 1) + (i - N 24 (2 * b)))))) rfl dX1_leg_142 ?_
                  refine lv_goto (tgt := 153) hx hb dX1_leg_145 (by decide) ?_
                  exact W.iret hx hb hr (fun t ht hWm => ⟨congrArg (fun z => Outcome.returned (some (Value.int (iI z)))) (by unfold legW legI; (repeat' split) <;> omega), ht⟩) (fun _ h => absurd h List.not_mem_nil) dX1_leg_153
              · skip
                refine lv_aload hx hb dX1_leg_124 (lv_at hl 0 rfl) ?_
                refine h_getN hx hb hts in_X8 hown hK (hW.k9 (2 * b + 1) (i - N 24 (2 * b)) ‹TL F N (2 * b + 1)› (by omega)) rfl 0 (by decide) q722 rfl (v := .ref (ad 4 (N 27 (3 * (2 * b + 1) + (i - N 24 (2 * b)))))) rfl dX1_leg_126 ?_
                refine h_getN hx hb hts in_X4 hown hK (hW.k4 (N 27 (3 * (2 * b + 1) + (i - N 24 (2 * b)))) (by omega)) rfl 0 (by decide) q528 rfl (v := .int (iI (N 27 (3 * (2 * b + 1) + (i - N 24 (2 * b)))))) rfl dX1_leg_129 ?_
                refine lv_goto (tgt := 153) hx hb dX1_leg_132 (by decide) ?_
                exact W.iret hx hb hr (fun t ht hWm => ⟨congrArg (fun z => Outcome.returned (some (Value.int (iI z)))) (by unfold legW legI; (repeat' split) <;> omega), ht⟩) (fun _ h => absurd h List.not_mem_nil) dX1_leg_153
            · skip
              refine lv_aload hx hb dX1_leg_82 (lv_at hl 2 rfl) ?_
              refine h_getN hx hb hts in_X6 hown hK (hW.k7 (b) (by omega)) rfl 0 (by decide) q626 rfl (v := .ref (ad 8 (2 * b))) rfl dX1_leg_84 ?_
              refine h_getN hx hb hts in_X7 hown hK (hW.k8 (2 * b) ‹TL F N (2 * b)›) rfl 6 (by decide) q602 rfl (v := .ref (ad 1 (100 + (2 * b)))) rfl dX1_leg_87 ?_
              refine lv_iload_n hx hb dX1_leg_90 rfl (lv_at hl 5 rfl) ?_
              obtain ⟨mc29, cp29, cq29, cr29, hLi29⟩ := (hW.lg (2 * b) ‹TL F N (2 * b)›)
              refine rc_V (W.runV (As := [.int (iI (i))]) (rest := []) ⟨hx, hb, hml, hown, hts⟩ (al_get l D cA (ad 1 (100 + (2 * b))) mc29 (ad 2 (100 + (2 * b))) (N 24 (2 * b)) cp29 (fun j => ad 9 (3 * (2 * b) + j)) (i) (by omega)) (cwV 1 hts (lw_V q565 q566 q567 q45 q568) rfl rfl rfl (by decide +kernel) ⟨Nat.le_of_ble_eq_true rfl, Nat.le_of_ble_eq_true rfl⟩) (preV hK hLi29.1 rfl hLi29) rfl rfl hl.1 rfl (lv_room (Nat.le_of_ble_eq_true rfl)) dX1_leg_91 ⟨Nat.le_of_ble_eq_true rfl, Nat.le_of_ble_eq_true rfl⟩) ?_
              have b30 : N 27 (3 * (2 * b) + i) < F 3 ∧ N 28 (3 * (2 * b) + i) < N 29 (3 * (2 * b) + i) ∧ N 29 (3 * (2 * b) + i) < N 8 (N 27 (3 * (2 * b) + i)) := hwf.2.2.1 _ _ ‹TL F N (2 * b)› (by omega)
              have b31 : N 8 (N 27 (3 * (2 * b) + i)) ≤ 10 := hN 8 _
              refine h_cast (ci := 7) (q := (RX8, TX8, 3)) hx hb hown (hts _ q714) hK rfl (isO.of (hW.k9 (2 * b) (i) ‹TL F N (2 * b)› (by omega))) dX1_leg_94 ?_
              refine lv_goto (tgt := 118) hx hb dX1_leg_97 (by decide) ?_
              refine lv_astore (lv' := [(7, .ref (ad 9 (3 * (2 * b) + i))), (6, .int (iI ((N 24 (2 * b) + N 24 (2 * b + 1) : Nat)))), (5, .int (iI (N 24 (2 * b)))), (4, .ref (ad 7 (b))), (0, .ref (ad 0 (0))), (1, .int (iI (b))), (2, .int (iI (i))), (3, .int (iI (v)))]) hx hb dX1_leg_118 hl (by decide) rfl (fun ls hl => ?_)
              refine lv_iload_n hx hb dX1_leg_120 rfl (lv_at hl 7 rfl) ?_
              refine ri_if_ne (tgt := 135) hx hb (by unfold inR; omega) dX1_leg_121 (by decide) (fun h32 => ?_) (fun h32 => ?_)
              · skip
                refine lv_iload_n hx hb dX1_leg_135 rfl (lv_at hl 7 rfl) ?_
                refine lv_iconst (v := iI (1)) hx hb dX1_leg_136 rfl ?_
                refine ri_icmp_ne (tgt := 148) hx hb (by unfold inR; omega) (by unfold inR; omega) dX1_leg_137 (by decide) (fun h33 => ?_) (fun h33 => ?_)
                · skip
                  refine lv_aload hx hb dX1_leg_148 (lv_at hl 0 rfl) ?_
                  refine h_getN hx hb hts in_X8 hown hK (hW.k9 (2 * b) (i) ‹TL F N (2 * b)› (by omega)) rfl 2 (by decide) q726 rfl (v := .int (iI (N 29 (3 * (2 * b) + i)))) rfl dX1_leg_150 ?_
                  exact W.iret hx hb hr (fun t ht hWm => ⟨congrArg (fun z => Outcome.returned (some (Value.int (iI z)))) (by unfold legW legI; (repeat' split) <;> omega), ht⟩) (fun _ h => absurd h List.not_mem_nil) dX1_leg_153
                · skip
                  refine lv_aload hx hb dX1_leg_140 (lv_at hl 0 rfl) ?_
                  refine h_getN hx hb hts in_X8 hown hK (hW.k9 (2 * b) (i) ‹TL F N (2 * b)› (by omega)) rfl 1 (by decide) q724 rfl (v := .int (iI (N 28 (3 * (2 * b) + i)))) rfl dX1_leg_142 ?_
                  refine lv_goto (tgt := 153) hx hb dX1_leg_145 (by decide) ?_
                  exact W.iret hx hb hr (fun t ht hWm => ⟨congrArg (fun z => Outcome.returned (some (Value.int (iI z)))) (by unfold legW legI; (repeat' split) <;> omega), ht⟩) (fun _ h => absurd h List.not_mem_nil) dX1_leg_153
              · skip
                refine lv_aload hx hb dX1_leg_124 (lv_at hl 0 rfl) ?_
                refine h_getN hx hb hts in_X8 hown hK (hW.k9 (2 * b) (i) ‹TL F N (2 * b)› (by omega)) rfl 0 (by decide) q722 rfl (v := .ref (ad 4 (N 27 (3 * (2 * b) + i)))) rfl dX1_leg_126 ?_
                refine h_getN hx hb hts in_X4 hown hK (hW.k4 (N 27 (3 * (2 * b) + i)) (by omega)) rfl 0 (by decide) q528 rfl (v := .int (iI (N 27 (3 * (2 * b) + i)))) rfl dX1_leg_129 ?_
                refine lv_goto (tgt := 153) hx hb dX1_leg_132 (by decide) ?_
                exact W.iret hx hb hr (fun t ht hWm => ⟨congrArg (fun z => Outcome.returned (some (Value.int (iI z)))) (by unfold legW legI; (repeat' split) <;> omega), ht⟩) (fun _ h => absurd h List.not_mem_nil) dX1_leg_153

set_option maxHeartbeats 4000000 in
set_option maxRecDepth 100000 in
theorem cc_X1_load (l : Launch) (D : va_G) (cA : Nat → ClassId) (A : Nat → Prop) (sa : Nat → Nat) (ad : Nat → Nat → Nat) (F : Nat → Nat) (N : Nat → Nat → Nat) (Z : Nat → Int) (E : Nat → Nat → Int) (K : Nat) (hKb : K ≤ 1000000) (hF : FB F) (hN : NB N) (hZ : ZB K Z) (hwf : WF F N) (t k : Nat) (ht : t < F 3) (hk : k + 1 < N 8 t) : Met l yX1_load (ws_ yX1_load cX1_load 4 (some .int)) ({ frames := 5, cells := 0, slots := 0, locals := 125 }) (PC D cA A sa ad F N Z E [.ref (ad 0 (0)), .int (iI (t)), .int (iI (k))]) (k2_QcV (.int (iI (Z (10 * t + k))))) 0 0 (fun _ => False) := by
  refine Met.ofW (cc := cX1_load) (maxL := 4) (ret := (some .int)) (by decide) rfl ?_
  intro p e s m args below meth c s₁ B hml hv
  obtain ⟨rfl, hK, hW⟩ := hv
  have hx := B.exec
  have hb := B.bytes
  have hr := B.returns
  have hts := atoms_spec (ws := ws_ yX1_load cX1_load 4 (some .int)) B.pre
  have hts : ∀ w ∈ lw_all, w.before _ s = true := fun w h => hts w (List.mem_cons_of_mem _ h)
  have hown : s.vm.findClass RX1 = some m.cls := findClass_of_methodNamed B.named
  have hlocks := B.notSynchronized
  have hl := lv_entry ([.ref (ad 0 (0)), .int (iI (t)), .int (iI (k))]) (n := 4) (Nat.le_of_ble_eq_true rfl)
  rw [lg_entry_eq]
  generalize (lg_sl ([.ref (ad 0 (0)), .int (iI (t)), .int (iI (k))]) ++ List.replicate (4 - (lg_sl ([.ref (ad 0 (0)), .int (iI (t)), .int (iI (k))])).length) Slot.unset).toArray = ls at hl ⊢
  have hl : lv_has ls 4 [(0, .ref (ad 0 (0))), (1, .int (iI (t))), (2, .int (iI (k)))] := hl
  obtain ⟨hSX, hW⟩ := hW
  have hS : va_S A s.heap s.heap [] := va_S.rf
  have hF2 : F 2 ≤ 10 := hF 2
  have hF3 : F 3 ≤ 16 := hF 3
  have hF4 : F 4 ≤ 60 := hF 4
  have hF5 : F 5 ≤ 40 := hF 5
  have hF1 : F 1 ≤ 1439 := hF 1
  have hm8 : N 8 t ≤ 10 := hN 8 t
  refine lv_aload_n hx hb dX1_load_0 rfl (lv_at hl 0 rfl) ?_
  refine lv_iload_n hx hb dX1_load_1 rfl (lv_at hl 1 rfl) ?_
  refine rc_V (W.runV (As := [.int (iI (t))]) (rest := []) ⟨hx, hb, hml, hown, hts⟩ (cc_X1_trainAt l D cA A sa ad F N Z E K hKb hF hN hZ hwf t (by omega)) (cwV 1 hts (lw_V q775 q777 qs10 q42 q778) rfl rfl rfl (by decide +kernel) ⟨Nat.le_of_ble_eq_true rfl, Nat.le_of_ble_eq_true rfl⟩) (preVC hK hSX hS hW.c0 rfl hW) rfl rfl hl.1 rfl (lv_room (Nat.le_of_ble_eq_true rfl)) dX1_load_2 ⟨Nat.le_of_ble_eq_true rfl, Nat.le_of_ble_eq_true rfl⟩) ?_
  refine lv_astore_n (lv' := [(3, .ref (ad 4 (t))), (0, .ref (ad 0 (0))), (1, .int (iI (t))), (2, .int (iI (k)))]) hx hb dX1_load_5 rfl hl (by decide) rfl (fun ls hl => ?_)
  refine lv_iload_n hx hb dX1_load_6 rfl (lv_at hl 3 rfl) ?_
  refine ri_if_lt (tgt := 27) hx hb (by unfold inR; omega) dX1_load_7 (by decide) (fun h1 => ?_) (fun h1 => ?_)
  · skip
    exfalso; omega
  · skip
    refine lv_iload_n hx hb dX1_load_10 rfl (lv_at hl 3 rfl) ?_
    refine lv_aload_n hx hb dX1_load_11 rfl (lv_at hl 0 rfl) ?_
    refine h_getN hx hb hts in_X4 hown hK (hW.k4 (t) (by omega)) rfl 2 (by decide) q533 rfl (v := .ref (ad 1 (10 + t))) rfl dX1_load_12 ?_
    have b3 : N 8 (t) ≤ 10 := hN 8 _
    obtain ⟨mc2, cp2, cq2, cr2, hLi2⟩ := (hW.lp (t) (by omega))
    refine rc_V (W.runV (As := []) (rest := [.int (iI (k))]) ⟨hx, hb, hml, hown, hts⟩ (al_size l D cA (ad 1 (10 + t)) mc2 (ad 2 (10 + t)) (N 8 (t))) (cwV 0 hts (lw_V q448 q449 q450 q45 q451) rfl rfl rfl (by decide +kernel) ⟨Nat.le_of_ble_eq_true rfl, Nat.le_of_ble_eq_true rfl⟩) (preV hK hLi2.1 rfl hLi2.1) rfl rfl hl.1 rfl (lv_room (Nat.le_of_ble_eq_true rfl)) dX1_load_15 ⟨Nat.le_of_ble_eq_true rfl, Nat.le_of_ble_eq_true rfl⟩) ?_
    refine lv_iconst (v := iI (1)) hx hb dX1_load_18 rfl ?_
    refine ri_isub hx hb dX1_load_19 ?_
    refine ri_icmp_ge (tgt := 27) hx hb (by unfold inR; omega) (by unfold inR; omega) dX1_load_20 (by decide) (fun h4 => ?_) (fun h4 => ?_)
    · skip
      exfalso; omega
    · skip
      refine lv_iconst (v := iI (1)) hx hb dX1_load_23 rfl ?_
      refine lv_goto (tgt := 28) hx hb dX1_load_24 (by decide) ?_
      refine rc_0 (W.runS (As := [.int (iI (1))]) (rest := []) ⟨hx, hb, hml, hown, hts⟩ (cc_X1_there l D cA  ) (va_cwS 1 hts (lw_S q779 q780 q42 q781) rfl rfl rfl (by decide +kernel) ⟨Nat.le_of_ble_eq_true rfl, Nat.le_of_ble_eq_true rfl⟩) (preS hK (B := fun _ => True) trivial) rfl rfl hl.1 rfl (lv_room (Nat.le_of_ble_eq_true rfl)) dX1_load_28 ⟨Nat.le_of_ble_eq_true rfl, Nat.le_of_ble_eq_true rfl⟩) ?_
      refine lv_aload_n hx hb dX1_load_31 rfl (lv_at hl 0 rfl) ?_
      refine h_getN hx hb hts in_X4 hown hK (hW.k4 (t) (by omega)) rfl 3 (by decide) q535 rfl (v := .ref (ad 5 (t))) rfl dX1_load_32 ?_
      refine lv_iload_n hx hb dX1_load_35 rfl (lv_at hl 3 rfl) ?_
      refine h_iald hx hb hK (hW.k5 (t) (by omega)) (k) (by omega) (by omega) (by decide) dX1_load_36 ?_
      refine W.eq (g2 := F0 m 37 ls [.int (iI (Z (10 * t + k)))]) rfl ?_
      have b5 : -(K : Int) ≤ Z (10 * t + k) ∧ Z (10 * t + k) ≤ K := hZ _
      exact W.iret hx hb hr (fun t ht hWm => ⟨rfl, ht⟩) (fun _ h => absurd h List.not_mem_nil) dX1_load_37

set_option maxHeartbeats 4000000 in
set_option maxRecDepth 100000 in
theorem cc_X1_where (l : Launch) (D : va_G) (cA : Nat → ClassId) (A : Nat → Prop) (sa : Nat → Nat) (ad : Nat → Nat → Nat) (F : Nat → Nat) (N : Nat → Nat → Nat) (Z : Nat → Int) (E : Nat → Nat → Int) (K : Nat) (hKb : K ≤ 1000000) (hF : FB F) (hN : NB N) (hZ : ZB K Z) (hwf : WF F N) (b : Nat) (hb4 : b < F 4) : Met l yX1_where (ws_ yX1_where cX1_where 4 (some .int)) ({ frames := 7, cells := 0, slots := 0, locals := 164 }) (PC D cA A sa ad F N Z E [.ref (ad 0 (0)), .int (iI (b))]) (k2_QcV (.int (iI (whC F N (wayN N b))))) 0 0 (fun _ => False) := by
  refine Met.ofW (cc := cX1_where) (maxL := 4) (ret := (some .int)) (by decide) rfl ?_
  intro p e s m args below meth c s₁ B hml hv
  obtain ⟨rfl, hK, hW⟩ := hv
  have hx := B.exec
  have hb := B.bytes
  have hr := B.returns
  have hts := atoms_spec (ws := ws_ yX1_where cX1_where 4 (some .int)) B.pre
  have hts : ∀ w ∈ lw_all, w.before _ s = true := fun w h => hts w (List.mem_cons_of_mem _ h)
  have hown : s.vm.findClass RX1 = some m.cls := findClass_of_methodNamed B.named
  have hlocks := B.notSynchronized
  have hl := lv_entry ([.ref (ad 0 (0)), .int (iI (b))]) (n := 4) (Nat.le_of_ble_eq_true rfl)
  rw [lg_entry_eq]
  generalize (lg_sl ([.ref (ad 0 (0)), .int (iI (b))]) ++ List.replicate (4 - (lg_sl ([.ref (ad 0 (0)), .int (iI (b))])).length) Slot.unset).toArray = ls at hl ⊢
  have hl : lv_has ls 4 [(0, .ref (ad 0 (0))), (1, .int (iI (b)))] := hl
  obtain ⟨hSX, hW⟩ := hW
  have hS : va_S A s.heap s.heap [] := va_S.rf
  have hF2 : F 2 ≤ 10 := hF 2
  have hF3 : F 3 ≤ 16 := hF 3
  have hF4 : F 4 ≤ 60 := hF 4
  have hF5 : F 5 ≤ 40 := hF 5
  have hF1 : F 1 ≤ 1439 := hF 1
  refine lv_aload_n hx hb dX1_where_0 rfl (lv_at hl 0 rfl) ?_
  refine lv_iload_n hx hb dX1_where_1 rfl (lv_at hl 1 rfl) ?_
  refine rc_V (W.runV (As := [.int (iI (b))]) (rest := []) ⟨hx, hb, hml, hown, hts⟩ (cc_X1_boxAt l D cA A sa ad F N Z E K hKb hF hN hZ hwf b (by omega)) (cwV 1 hts (lw_V q877 q879 qs13 q42 q880) rfl rfl rfl (by decide +kernel) ⟨Nat.le_of_ble_eq_true rfl, Nat.le_of_ble_eq_true rfl⟩) (preVC hK hSX hS hW.c0 rfl hW) rfl rfl hl.1 rfl (lv_room (Nat.le_of_ble_eq_true rfl)) dX1_where_2 ⟨Nat.le_of_ble_eq_true rfl, Nat.le_of_ble_eq_true rfl⟩) ?_
  refine rc_V (W.runV (As := []) (rest := []) ⟨hx, hb, hml, hown, hts⟩ (cc_X6_trip l D cA A sa ad F N Z E K hKb hF hN hZ hwf b (by omega)) (cwV 0 hts (lw_V q654 q655 q656 q68 q657) rfl rfl rfl (by decide +kernel) ⟨Nat.le_of_ble_eq_true rfl, Nat.le_of_ble_eq_true rfl⟩) (preVC hK hSX hS (hW.k7 (b) (by omega)) rfl hW) rfl rfl hl.1 rfl (lv_room (Nat.le_of_ble_eq_true rfl)) dX1_where_5 ⟨Nat.le_of_ble_eq_true rfl, Nat.le_of_ble_eq_true rfl⟩) ?_
  have b1 : TL F N (wayN N b) := TL_way hN (by omega)
  have b2 : wayN N b < 120 := wayN_lt hN (by omega)
  refine lv_astore_n (lv' := [(2, .ref (ad 8 (wayN N b))), (0, .ref (ad 0 (0))), (1, .int (iI (b)))]) hx hb dX1_where_8 rfl hl (by decide) rfl (fun ls hl => ?_)
  refine lv_aload_n hx hb dX1_where_9 rfl (lv_at hl 1 rfl) ?_
  refine lv_aload_n hx hb dX1_where_10 rfl (lv_at hl 0 rfl) ?_
  refine rc_V (W.runV (As := [.ref (ad 8 (wayN N b))]) (rest := []) ⟨hx, hb, hml, hown, hts⟩ (cc_X1_isGone l D cA A sa ad F N Z E K hKb hF hN hZ hwf (wayN N b) ‹_›) (cwV 1 hts (lw_V q895 q897 qs14 q42 q898) rfl rfl rfl (by decide +kernel) ⟨Nat.le_of_ble_eq_true rfl, Nat.le_of_ble_eq_true rfl⟩) (preVC hK hSX hS hW.c0 rfl hW) rfl rfl hl.1 rfl (lv_room (Nat.le_of_ble_eq_true rfl)) dX1_where_11 ⟨Nat.le_of_ble_eq_true rfl, Nat.le_of_ble_eq_true rfl⟩) ?_
  by_cases h3 : rdW N (wayN N b) ≤ F 1 ∧ N 25 (wayN N b) ≠ 0
  · refine ri_top (b := 1) (if_pos h3) ?_
    refine ri_if_ne (tgt := 19) hx hb (by unfold inR; omega) dX1_where_14 (by decide) (fun h4 => ?_) (fun h4 => ?_)
    · skip
      refine lv_iconst (v := iI (0)) hx hb dX1_where_19 rfl ?_
      refine lv_istore_n (lv' := [(3, .int (iI (0))), (2, .ref (ad 8 (wayN N b))), (0, .ref (ad 0 (0))), (1, .int (iI (b)))]) hx hb dX1_where_20 rfl hl (by decide) rfl (fun ls hl => ?_)
      have lp21 : ∀ (fuel : Nat) (i : Nat) (hi : i ≤ N 24 (wayN N b)) (hno : ∀ j, j < i → (fun i => decide (onM N (wayN N b) i ≤ F 1 ∧ F 1 < ofM N (wayN N b) i)) j = false), N 24 (wayN N b) - i < fuel → ∀ (ls : Array Slot), lv_has ls 4 [(3, .int (iI (i))), (2, .ref (ad 8 (wayN N b))), (0, .ref (ad 0 (0))), (1, .int (iI (b)))] → W p l e (headSpec (ws_ yX1_where cX1_where 4 (some .int)) ({ frames := 7, cells := 0, slots := 0, locals := 164 })).room s m ([.ref (ad 0 (0)), .int (iI (b))] : List Value).toArray below meth c s.heap [] 0 0 (MQ below (k2_QcV (.int (iI (whC F N (wayN N b))))) ([.ref (ad 0 (0)), .int (iI (b))] : List Value).toArray s 0 0 (fun _ => False)) (F0 m 21 ls []) := by
        intro fuel
        induction fuel with
        | zero => intro i hi hno hm; exact absurd hm (Nat.not_lt_zero _)
        | succ fuel ih21 =>
          intro i hi hno hm21 ls hl
          have hm3 : N 24 (wayN N b) ≤ 3 := hN 24 _
          refine lv_iload_n hx hb dX1_where_21 rfl (lv_at hl 0 rfl) ?_
          refine lv_aload_n hx hb dX1_where_22 rfl (lv_at hl 1 rfl) ?_
          refine h_getN hx hb hts in_X7 hown hK (hW.k8 (wayN N b) ‹TL F N (wayN N b)›) rfl 6 (by decide) q602 rfl (v := .ref (ad 1 (100 + (wayN N b)))) rfl dX1_where_23 ?_
          have b6 : N 24 (wayN N b) ≤ 3 := hN 24 _
          obtain ⟨mc5, cp5, cq5, cr5, hLi5⟩ := (hW.lg (wayN N b) ‹TL F N (wayN N b)›)
          refine rc_V (W.runV (As := []) (rest := [.int (iI (i))]) ⟨hx, hb, hml, hown, hts⟩ (al_size l D cA (ad 1 (100 + (wayN N b))) mc5 (ad 2 (100 + (wayN N b))) (N 24 (wayN N b))) (cwV 0 hts (lw_V q448 q449 q450 q45 q451) rfl rfl rfl (by decide +kernel) ⟨Nat.le_of_ble_eq_true rfl, Nat.le_of_ble_eq_true rfl⟩) (preV hK hLi5.1 rfl hLi5.1) rfl rfl hl.1 rfl (lv_room (Nat.le_of_ble_eq_true rfl)) dX1_where_26 ⟨Nat.le_of_ble_eq_true rfl, Nat.le_of_ble_eq_true rfl⟩) ?_
          refine ri_icmp_ge (tgt := 88) hx hb (by unfold inR; omega) (by unfold inR; omega) dX1_where_29 (by decide) (fun h7 => ?_) (fun h7 => ?_)
          · skip
            refine lv_aload_n hx hb dX1_where_88 rfl (lv_at hl 1 rfl) ?_
            have b8 : N 25 (wayN N b) ≤ 2 := hwf.2.2.2 _
            refine h_getN hx hb hts in_X7 hown hK (hW.k8 (wayN N b) ‹TL F N (wayN N b)›) rfl 7 (by decide) q604 rfl (v := .ref (sa (N 25 (wayN N b)))) rfl dX1_where_89 ?_
            refine va_gets (v := .ref (sa 2)) hx hb hSX.2.2.2.2.2.2.1 hS hown (hts _ q868) (fun _ h => h) dX1_where_92 ?_
            refine r_acmp_eq (P := (N 25 (wayN N b)) = 2) (tgt := 109) hx hb (hSX.ne (by omega) (by omega)) dX1_where_95 (by decide) (fun h9 => ?_) (fun h9 => ?_)
            · skip
              refine lv_iconst (v := iI (1)) hx hb dX1_where_109 rfl ?_
              exact W.iret hx hb hr (fun t ht hWm => ⟨congrArg (fun z => Outcome.returned (some (Value.int (iI z)))) (by unfold whC; rw [if_pos (by omega), anyB_no (fun j h => hno j (by omega)), if_neg Bool.false_ne_true, if_pos (by omega)]), ht⟩) (fun _ h => absurd h List.not_mem_nil) dX1_where_110
            · skip
              refine lv_aload_n hx hb dX1_where_98 rfl (lv_at hl 2 rfl) ?_
              refine h_get hx hb hts in_X1 hown hK hW.c0 rfl 4 (by decide) (hts _ q425) rfl (v := .int (iI (F 1))) rfl dX1_where_99 ?_
              refine lv_aload_n hx hb dX1_where_102 rfl (lv_at hl 1 rfl) ?_
              refine rc_V (W.runV (As := []) (rest := [.int (iI (F 1))]) ⟨hx, hb, hml, hown, hts⟩ (cc_X7_sorted l D cA A sa ad F N Z E K hKb hF hN hZ hwf (wayN N b) ‹_›) (cwV 0 hts (lw_V q683 q684 q685 q69 q686) rfl rfl rfl (by decide +kernel) ⟨Nat.le_of_ble_eq_true rfl, Nat.le_of_ble_eq_true rfl⟩) (preVC hK hSX hS (hW.k8 (wayN N b) ‹TL F N (wayN N b)›) rfl hW) rfl rfl hl.1 rfl (lv_room (Nat.le_of_ble_eq_true rfl)) dX1_where_103 ⟨Nat.le_of_ble_eq_true rfl, Nat.le_of_ble_eq_true rfl⟩) ?_
              have b10 : thW N (wayN N b) ≤ 1619 := thW_le hN _
              refine ri_icmp_ge (tgt := 111) hx hb (by unfold inR; omega) (by unfold inR; omega) dX1_where_106 (by decide) (fun h11 => ?_) (fun h11 => ?_)
              · skip
                refine lv_aload_n hx hb dX1_where_111 rfl (lv_at hl 2 rfl) ?_
                refine h_get hx hb hts in_X1 hown hK hW.c0 rfl 4 (by decide) (hts _ q425) rfl (v := .int (iI (F 1))) rfl dX1_where_112 ?_
                refine lv_aload_n hx hb dX1_where_115 rfl (lv_at hl 1 rfl) ?_
                refine rc_V (W.runV (As := []) (rest := [.int (iI (F 1))]) ⟨hx, hb, hml, hown, hts⟩ (cc_X7_arrives l D cA A sa ad F N Z E K hKb hF hN hZ hwf (wayN N b) ‹_›) (cwV 0 hts (lw_V q881 q882 q883 q69 q884) rfl rfl rfl (by decide +kernel) ⟨Nat.le_of_ble_eq_true rfl, Nat.le_of_ble_eq_true rfl⟩) (preVC hK hSX hS (hW.k8 (wayN N b) ‹TL F N (wayN N b)›) rfl hW) rfl rfl hl.1 rfl (lv_room (Nat.le_of_ble_eq_true rfl)) dX1_where_116 ⟨Nat.le_of_ble_eq_true rfl, Nat.le_of_ble_eq_true rfl⟩) ?_
                have b12 : -1 ≤ arW N (wayN N b) ∧ arW N (wayN N b) ≤ 1739 := arW_le hN _
                refine ri_icmp_ge (tgt := 126) hx hb (by unfold inR; omega) (by unfold inR; omega) dX1_where_119 (by decide) (fun h13 => ?_) (fun h13 => ?_)
                · skip
                  refine lv_iconst (v := iI (4)) hx hb dX1_where_126 rfl ?_
                  exact W.iret hx hb hr (fun t ht hWm => ⟨congrArg (fun z => Outcome.returned (some (Value.int (iI z)))) (by unfold whC; rw [if_pos (by omega), anyB_no (fun j h => hno j (by omega)), if_neg Bool.false_ne_true, if_neg (by omega)]; first | rw [if_pos (by omega)] | rw [if_neg (by omega)]), ht⟩) (fun _ h => absurd h List.not_mem_nil) dX1_where_127
                · skip
                  refine lv_iconst (v := iI (3)) hx hb dX1_where_122 rfl ?_
                  refine lv_goto (tgt := 127) hx hb dX1_where_123 (by decide) ?_
                  exact W.iret hx hb hr (fun t ht hWm => ⟨congrArg (fun z => Outcome.returned (some (Value.int (iI z)))) (by unfold whC; rw [if_pos (by omega), anyB_no (fun j h => hno j (by omega)), if_neg Bool.false_ne_true, if_neg (by omega)]; first | rw [if_pos (by omega)] | rw [if_neg (by omega)]), ht⟩) (fun _ h => absurd h List.not_mem_nil) dX1_where_127
              · skip
                refine lv_iconst (v := iI (1)) hx hb dX1_where_109 rfl ?_
                exact W.iret hx hb hr (fun t ht hWm => ⟨congrArg (fun z => Outcome.returned (some (Value.int (iI z)))) (by unfold whC; rw [if_pos (by omega), anyB_no (fun j h => hno j (by omega)), if_neg Bool.false_ne_true, if_pos (by omega)]), ht⟩) (fun _ h => absurd h List.not_mem_nil) dX1_where_110
          · skip
            refine lv_aload_n hx hb dX1_where_32 rfl (lv_at hl 1 rfl) ?_
            refine h_getN hx hb hts in_X7 hown hK (hW.k8 (wayN N b) ‹TL F N (wayN N b)›) rfl 6 (by decide) q602 rfl (v := .ref (ad 1 (100 + (wayN N b)))) rfl dX1_where_33 ?_
            refine lv_iload_n hx hb dX1_where_36 rfl (lv_at hl 0 rfl) ?_
            obtain ⟨mc14, cp14, cq14, cr14, hLi14⟩ := (hW.lg (wayN N b) ‹TL F N (wayN N b)›)
            refine rc_V (W.runV (As := [.int (iI (i))]) (rest := []) ⟨hx, hb, hml, hown, hts⟩ (al_get l D cA (ad 1 (100 + (wayN N b))) mc14 (ad 2 (100 + (wayN N b))) (N 24 (wayN N b)) cp14 (fun j => ad 9 (3 * (wayN N b) + j)) (i) (by omega)) (cwV 1 hts (lw_V q565 q566 q567 q45 q568) rfl rfl rfl (by decide +kernel) ⟨Nat.le_of_ble_eq_true rfl, Nat.le_of_ble_eq_true rfl⟩) (preV hK hLi14.1 rfl hLi14) rfl rfl hl.1 rfl (lv_room (Nat.le_of_ble_eq_true rfl)) dX1_where_37 ⟨Nat.le_of_ble_eq_true rfl, Nat.le_of_ble_eq_true rfl⟩) ?_
            have b15 : N 27 (3 * (wayN N b) + i) < F 3 ∧ N 28 (3 * (wayN N b) + i) < N 29 (3 * (wayN N b) + i) ∧ N 29 (3 * (wayN N b) + i) < N 8 (N 27 (3 * (wayN N b) + i)) := hwf.2.2.1 _ _ ‹TL F N (wayN N b)› (by omega)
            have b16 : N 8 (N 27 (3 * (wayN N b) + i)) ≤ 10 := hN 8 _
            refine h_cast (ci := 7) (q := (RX8, TX8, 3)) hx hb hown (hts _ q714) hK rfl (isO.of (hW.k9 (wayN N b) (i) ‹TL F N (wayN N b)› (by omega))) dX1_where_40 ?_
            refine rc_V (W.runV (As := []) (rest := []) ⟨hx, hb, hml, hown, hts⟩ (cc_X8_from l D cA A sa ad F N Z E K hKb hF hN hZ hwf (wayN N b) i ‹_› (by omega)) (cwV 0 hts (lw_V q925 q926 q927 q72 q928) rfl rfl rfl (by decide +kernel) ⟨Nat.le_of_ble_eq_true rfl, Nat.le_of_ble_eq_true rfl⟩) (preVC hK hSX hS (hW.k9 (wayN N b) (i) ‹TL F N (wayN N b)› (by omega)) rfl hW) rfl rfl hl.1 rfl (lv_room (Nat.le_of_ble_eq_true rfl)) dX1_where_43 ⟨Nat.le_of_ble_eq_true rfl, Nat.le_of_ble_eq_true rfl⟩) ?_
            have b17 : N 10 (10 * (N 27 (3 * (wayN N b) + i)) + (N 28 (3 * (wayN N b) + i))) ≤ 1439 := hN 10 _
            refine h_getN hx hb hts in_X5 hown hK (hW.k6 (N 27 (3 * (wayN N b) + i)) (N 28 (3 * (wayN N b) + i)) (by omega) (by omega)) rfl 1 (by decide) q821 rfl (v := .int (iI (N 10 (10 * (N 27 (3 * (wayN N b) + i)) + (N 28 (3 * (wayN N b) + i)))))) rfl dX1_where_46 ?_
            refine lv_aload_n hx hb dX1_where_49 rfl (lv_at hl 2 rfl) ?_
            refine h_get hx hb hts in_X1 hown hK hW.c0 rfl 4 (by decide) (hts _ q425) rfl (v := .int (iI (F 1))) rfl dX1_where_50 ?_
            refine ri_icmp_gt (tgt := 82) hx hb (by unfold inR; omega) (by unfold inR; omega) dX1_where_53 (by decide) (fun h18 => ?_) (fun h18 => ?_)
            · skip
              refine lv_iinc (v := iI ((i + 1 : Nat))) (lv' := [(3, .int (iI ((i + 1 : Nat)))), (2, .ref (ad 8 (wayN N b))), (0, .ref (ad 0 (0))), (1, .int (iI (b)))]) hx hb dX1_where_82 hl (k := 0) rfl (iI_succ _) (by decide) rfl (fun ls hl => ?_)
              refine lv_goto (tgt := 21) hx hb dX1_where_85 (by decide) ?_
              exact ih21 (i + 1) (by omega) (fun j h => by rcases Nat.lt_or_ge j i with z | z; exact hno j z; rw [show j = i by omega]; exact decide_eq_false (by unfold onM ofM; omega)) (by omega) _ (lv_sub hl [0, 1, 2, 3] rfl)
            · skip
              refine lv_aload_n hx hb dX1_where_56 rfl (lv_at hl 2 rfl) ?_
              refine h_get hx hb hts in_X1 hown hK hW.c0 rfl 4 (by decide) (hts _ q425) rfl (v := .int (iI (F 1))) rfl dX1_where_57 ?_
              refine lv_aload_n hx hb dX1_where_60 rfl (lv_at hl 1 rfl) ?_
              refine h_getN hx hb hts in_X7 hown hK (hW.k8 (wayN N b) ‹TL F N (wayN N b)›) rfl 6 (by decide) q602 rfl (v := .ref (ad 1 (100 + (wayN N b)))) rfl dX1_where_61 ?_
              refine lv_iload_n hx hb dX1_where_64 rfl (lv_at hl 0 rfl) ?_
              obtain ⟨mc19, cp19, cq19, cr19, hLi19⟩ := (hW.lg (wayN N b) ‹TL F N (wayN N b)›)
              refine rc_V (W.runV (As := [.int (iI (i))]) (rest := [.int (iI (F 1))]) ⟨hx, hb, hml, hown, hts⟩ (al_get l D cA (ad 1 (100 + (wayN N b))) mc19 (ad 2 (100 + (wayN N b))) (N 24 (wayN N b)) cp19 (fun j => ad 9 (3 * (wayN N b) + j)) (i) (by omega)) (cwV 1 hts (lw_V q565 q566 q567 q45 q568) rfl rfl rfl (by decide +kernel) ⟨Nat.le_of_ble_eq_true rfl, Nat.le_of_ble_eq_true rfl⟩) (preV hK hLi19.1 rfl hLi19) rfl rfl hl.1 rfl (lv_room (Nat.le_of_ble_eq_true rfl)) dX1_where_65 ⟨Nat.le_of_ble_eq_true rfl, Nat.le_of_ble_eq_true rfl⟩) ?_
              refine h_cast (ci := 7) (q := (RX8, TX8, 3)) hx hb hown (hts _ q714) hK rfl (isO.of (hW.k9 (wayN N b) (i) ‹TL F N (wayN N b)› (by omega))) dX1_where_68 ?_
              refine rc_V (W.runV (As := []) (rest := [.int (iI (F 1))]) ⟨hx, hb, hml, hown, hts⟩ (cc_X8_to l D cA A sa ad F N Z E K hKb hF hN hZ hwf (wayN N b) i ‹_› (by omega)) (cwV 0 hts (lw_V q734 q678 q679 q72 q680) rfl rfl rfl (by decide +kernel) ⟨Nat.le_of_ble_eq_true rfl, Nat.le_of_ble_eq_true rfl⟩) (preVC hK hSX hS (hW.k9 (wayN N b) (i) ‹TL F N (wayN N b)› (by omega)) rfl hW) rfl rfl hl.1 rfl (lv_room (Nat.le_of_ble_eq_true rfl)) dX1_where_71 ⟨Nat.le_of_ble_eq_true rfl, Nat.le_of_ble_eq_true rfl⟩) ?_
              have b20 : N 10 (10 * (N 27 (3 * (wayN N b) + i)) + (N 29 (3 * (wayN N b) + i))) ≤ 1439 := hN 10 _
              refine h_getN hx hb hts in_X5 hown hK (hW.k6 (N 27 (3 * (wayN N b) + i)) (N 29 (3 * (wayN N b) + i)) (by omega) (by omega)) rfl 1 (by decide) q821 rfl (v := .int (iI (N 10 (10 * (N 27 (3 * (wayN N b) + i)) + (N 29 (3 * (wayN N b) + i)))))) rfl dX1_where_74 ?_
              refine ri_icmp_ge (tgt := 82) hx hb (by unfold inR; omega) (by unfold inR; omega) dX1_where_77 (by decide) (fun h21 => ?_) (fun h21 => ?_)
              · skip
                refine lv_iinc (v := iI ((i + 1 : Nat))) (lv' := [(3, .int (iI ((i + 1 : Nat)))), (2, .ref (ad 8 (wayN N b))), (0, .ref (ad 0 (0))), (1, .int (iI (b)))]) hx hb dX1_where_82 hl (k := 0) rfl (iI_succ _) (by decide) rfl (fun ls hl => ?_)
                refine lv_goto (tgt := 21) hx hb dX1_where_85 (by decide) ?_
                exact ih21 (i + 1) (by omega) (fun j h => by rcases Nat.lt_or_ge j i with z | z; exact hno j z; rw [show j = i by omega]; exact decide_eq_false (by unfold onM ofM; omega)) (by omega) _ (lv_sub hl [0, 1, 2, 3] rfl)
              · skip
                refine lv_iconst (v := iI (2)) hx hb dX1_where_80 rfl ?_
                exact W.iret hx hb hr (fun t ht hWm => ⟨congrArg (fun z => Outcome.returned (some (Value.int (iI z)))) (by unfold whC; rw [if_pos (by omega), if_pos (anyB_ex (k := i) (by omega) (decide_eq_true (by unfold onM ofM; omega)))]), ht⟩) (fun _ h => absurd h List.not_mem_nil) dX1_where_81
      exact lp21 _ (0) (Nat.zero_le _) (fun j h => absurd h (Nat.not_lt_zero _)) (Nat.lt_succ_self _) _ (lv_sub hl [0, 1, 2, 3] rfl)
    · skip
      exfalso; omega
  · refine ri_top (b := 0) (if_neg h3) ?_
    refine ri_if_ne (tgt := 19) hx hb (by unfold inR; omega) dX1_where_14 (by decide) (fun h22 => ?_) (fun h22 => ?_)
    · skip
      exfalso; omega
    · skip
      refine lv_iconst (v := iI (0)) hx hb dX1_where_17 rfl ?_
      exact W.iret hx hb hr (fun t ht hWm => ⟨congrArg (fun z => Outcome.returned (some (Value.int (iI z)))) (by unfold whC; rw [if_neg (by omega)]), ht⟩) (fun _ h => absurd h List.not_mem_nil) dX1_where_18

set_option maxHeartbeats 4000000 in
set_option maxRecDepth 100000 in
theorem cc_X1_like (l : Launch) (D : va_G) (cA : Nat → ClassId) (A : Nat → Prop) (sa : Nat → Nat) (ad : Nat → Nat → Nat) (F : Nat → Nat) (N : Nat → Nat → Nat) (Z : Nat → Int) (E : Nat → Nat → Int) (K : Nat) (hKb : K ≤ 1000000) (hF : FB F) (hN : NB N) (hZ : ZB K Z) (hwf : WF F N) (b : Nat) (hb4 : b < F 4) : Met l yX1_like (ws_ yX1_like cX1_like 4 (some .int)) ({ frames := 5, cells := 0, slots := 0, locals := 126 }) (PC D cA A sa ad F N Z E [.ref (ad 0 (0)), .int (iI (b))]) (k2_QcV (.int (iI (if N 25 (2 * b) = 1 then (flB (hsC N) N b : Int) else -1)))) 0 0 (fun _ => False) := by
  refine Met.ofW (cc := cX1_like) (maxL := 4) (ret := (some .int)) (by decide) rfl ?_
  intro p e s m args below meth c s₁ B hml hv
  obtain ⟨rfl, hK, hW⟩ := hv
  have hx := B.exec
  have hb := B.bytes
  have hr := B.returns
  have hts := atoms_spec (ws := ws_ yX1_like cX1_like 4 (some .int)) B.pre
  have hts : ∀ w ∈ lw_all, w.before _ s = true := fun w h => hts w (List.mem_cons_of_mem _ h)
  have hown : s.vm.findClass RX1 = some m.cls := findClass_of_methodNamed B.named
  have hlocks := B.notSynchronized
  have hl := lv_entry ([.ref (ad 0 (0)), .int (iI (b))]) (n := 4) (Nat.le_of_ble_eq_true rfl)
  rw [lg_entry_eq]
  generalize (lg_sl ([.ref (ad 0 (0)), .int (iI (b))]) ++ List.replicate (4 - (lg_sl ([.ref (ad 0 (0)), .int (iI (b))])).length) Slot.unset).toArray = ls at hl ⊢
  have hl : lv_has ls 4 [(0, .ref (ad 0 (0))), (1, .int (iI (b)))] := hl
  obtain ⟨hSX, hW⟩ := hW
  have hS : va_S A s.heap s.heap [] := va_S.rf
  have hF2 : F 2 ≤ 10 := hF 2
  have hF3 : F 3 ≤ 16 := hF 3
  have hF4 : F 4 ≤ 60 := hF 4
  have hF5 : F 5 ≤ 40 := hF 5
  have hF1 : F 1 ≤ 1439 := hF 1
  refine lv_aload_n hx hb dX1_like_0 rfl (lv_at hl 0 rfl) ?_
  refine h_get hx hb hts in_X1 hown hK hW.c0 rfl 2 (by decide) (hts _ q423) rfl (v := .ref (ad 1 (2))) rfl dX1_like_1 ?_
  refine lv_iload_n hx hb dX1_like_4 rfl (lv_at hl 1 rfl) ?_
  obtain ⟨mc1, cp1, cq1, cr1, hLi1⟩ := hW.l2
  refine rc_V (W.runV (As := [.int (iI (b))]) (rest := []) ⟨hx, hb, hml, hown, hts⟩ (al_get l D cA (ad 1 (2)) mc1 (ad 2 (2)) (F 4) cp1 (ad 7) (b) (by omega)) (cwV 1 hts (lw_V q565 q566 q567 q45 q568) rfl rfl rfl (by decide +kernel) ⟨Nat.le_of_ble_eq_true rfl, Nat.le_of_ble_eq_true rfl⟩) (preV hK hLi1.1 rfl hLi1) rfl rfl hl.1 rfl (lv_room (Nat.le_of_ble_eq_true rfl)) dX1_like_5 ⟨Nat.le_of_ble_eq_true rfl, Nat.le_of_ble_eq_true rfl⟩) ?_
  refine h_cast (ci := 5) (q := (RX6, TX6, 6)) hx hb hown (hts _ q563) hK rfl (isO.of (hW.k7 (b) (by omega))) dX1_like_8 ?_
  have b2 : TL F N (2 * (b)) := TL_0 (by omega)
  refine h_getN hx hb hts in_X6 hown hK (hW.k7 (b) (by omega)) rfl 0 (by decide) q626 rfl (v := .ref (ad 8 (2 * b))) rfl dX1_like_11 ?_
  refine lv_astore_n (lv' := [(2, .ref (ad 8 (2 * b))), (0, .ref (ad 0 (0))), (1, .int (iI (b)))]) hx hb dX1_like_14 rfl hl (by decide) rfl (fun ls hl => ?_)
  refine lv_aload_n hx hb dX1_like_15 rfl (lv_at hl 0 rfl) ?_
  have b3 : N 25 (2 * b) ≤ 2 := hwf.2.2.2 _
  refine h_getN hx hb hts in_X7 hown hK (hW.k8 (2 * b) ‹TL F N (2 * b)›) rfl 7 (by decide) q604 rfl (v := .ref (sa (N 25 (2 * b)))) rfl dX1_like_16 ?_
  refine va_gets (v := .ref (sa 1)) hx hb hSX.2.2.2.2.2.1 hS hown (hts _ q658) (fun _ h => h) dX1_like_19 ?_
  refine r_acmp_eq (P := (N 25 (2 * b)) = 1) (tgt := 27) hx hb (hSX.ne (by omega) (by omega)) dX1_like_22 (by decide) (fun h4 => ?_) (fun h4 => ?_)
  · skip
    refine lv_iconst (v := iI (0)) hx hb dX1_like_27 rfl ?_
    refine lv_istore_n (lv' := [(3, .int (iI (0))), (2, .ref (ad 8 (2 * b))), (0, .ref (ad 0 (0))), (1, .int (iI (b)))]) hx hb dX1_like_28 rfl hl (by decide) rfl (fun ls hl => ?_)
    have lp29 : ∀ (fuel : Nat) (k : Nat) (hkb : k ≤ b) (hno : ∀ i, i < k → (hsC N i && alk N i b) = false), b - k < fuel → ∀ (ls : Array Slot), lv_has ls 4 [(3, .int (iI (k))), (2, .ref (ad 8 (2 * b))), (0, .ref (ad 0 (0))), (1, .int (iI (b)))] → W p l e (headSpec (ws_ yX1_like cX1_like 4 (some .int)) ({ frames := 5, cells := 0, slots := 0, locals := 126 })).room s m ([.ref (ad 0 (0)), .int (iI (b))] : List Value).toArray below meth c s.heap [] 0 0 (MQ below (k2_QcV (.int (iI (if N 25 (2 * b) = 1 then (flB (hsC N) N b : Int) else -1)))) ([.ref (ad 0 (0)), .int (iI (b))] : List Value).toArray s 0 0 (fun _ => False)) (F0 m 29 ls []) := by
      intro fuel
      induction fuel with
      | zero => intro k hkb hno hm; exact absurd hm (Nat.not_lt_zero _)
      | succ fuel ih29 =>
        intro k hkb hno hm29 ls hl
        refine lv_aload_n hx hb dX1_like_29 rfl (lv_at hl 2 rfl) ?_
        refine h_get hx hb hts in_X1 hown hK hW.c0 rfl 2 (by decide) (hts _ q423) rfl (v := .ref (ad 1 (2))) rfl dX1_like_30 ?_
        refine lv_iload_n hx hb dX1_like_33 rfl (lv_at hl 0 rfl) ?_
        obtain ⟨mc5, cp5, cq5, cr5, hLi5⟩ := hW.l2
        refine rc_V (W.runV (As := [.int (iI (k))]) (rest := []) ⟨hx, hb, hml, hown, hts⟩ (al_get l D cA (ad 1 (2)) mc5 (ad 2 (2)) (F 4) cp5 (ad 7) (k) (by omega)) (cwV 1 hts (lw_V q565 q566 q567 q45 q568) rfl rfl rfl (by decide +kernel) ⟨Nat.le_of_ble_eq_true rfl, Nat.le_of_ble_eq_true rfl⟩) (preV hK hLi5.1 rfl hLi5) rfl rfl hl.1 rfl (lv_room (Nat.le_of_ble_eq_true rfl)) dX1_like_34 ⟨Nat.le_of_ble_eq_true rfl, Nat.le_of_ble_eq_true rfl⟩) ?_
        refine h_cast (ci := 5) (q := (RX6, TX6, 6)) hx hb hown (hts _ q563) hK rfl (isO.of (hW.k7 (k) (by omega))) dX1_like_37 ?_
        have b6 : TL F N (2 * (k)) := TL_0 (by omega)
        refine h_getN hx hb hts in_X6 hown hK (hW.k7 (k) (by omega)) rfl 0 (by decide) q626 rfl (v := .ref (ad 8 (2 * k))) rfl dX1_like_40 ?_
        have b7 : N 25 (2 * k) ≤ 2 := hwf.2.2.2 _
        refine h_getN hx hb hts in_X7 hown hK (hW.k8 (2 * k) ‹TL F N (2 * k)›) rfl 7 (by decide) q604 rfl (v := .ref (sa (N 25 (2 * k)))) rfl dX1_like_43 ?_
        refine va_gets (v := .ref (sa 1)) hx hb hSX.2.2.2.2.2.1 hS hown (hts _ q658) (fun _ h => h) dX1_like_46 ?_
        refine r_acmp_ne (P := (N 25 (2 * k)) = 1) (tgt := 73) hx hb (hSX.ne (by omega) (by omega)) dX1_like_49 (by decide) (fun h8 => ?_) (fun h8 => ?_)
        · skip
          refine lv_iinc (v := iI ((k + 1 : Nat))) (lv' := [(3, .int (iI ((k + 1 : Nat)))), (2, .ref (ad 8 (2 * b))), (0, .ref (ad 0 (0))), (1, .int (iI (b)))]) hx hb dX1_like_73 hl (k := 0) rfl (iI_succ _) (by decide) rfl (fun ls hl => ?_)
          refine lv_goto (tgt := 29) hx hb dX1_like_76 (by decide) ?_
          have hf : (hsC N k && alk N k b) = false := by first | (unfold hsC; rw [decide_eq_false (by omega)]; rfl) | (rw [Bool.and_eq_false_iff]; exact Or.inr (Bool.eq_false_iff.mpr (by assumption)))
          have hne : k ≠ b := by intro q; subst q; rw [alk_self, Bool.and_true] at hf; unfold hsC at hf; exact absurd (of_decide_eq_false hf) (fun z => z (by assumption))
          exact ih29 (k + 1) (by omega) (fun i h => by rcases Nat.lt_or_ge i k with z | z; exact hno i z; rw [show i = k by omega]; exact hf) (by omega) _ (lv_sub hl [0, 1, 2, 3] rfl)
        · skip
          refine lv_aload_n hx hb dX1_like_52 rfl (lv_at hl 2 rfl) ?_
          refine h_get hx hb hts in_X1 hown hK hW.c0 rfl 2 (by decide) (hts _ q423) rfl (v := .ref (ad 1 (2))) rfl dX1_like_53 ?_
          refine lv_iload_n hx hb dX1_like_56 rfl (lv_at hl 0 rfl) ?_
          obtain ⟨mc9, cp9, cq9, cr9, hLi9⟩ := hW.l2
          refine rc_V (W.runV (As := [.int (iI (k))]) (rest := []) ⟨hx, hb, hml, hown, hts⟩ (al_get l D cA (ad 1 (2)) mc9 (ad 2 (2)) (F 4) cp9 (ad 7) (k) (by omega)) (cwV 1 hts (lw_V q565 q566 q567 q45 q568) rfl rfl rfl (by decide +kernel) ⟨Nat.le_of_ble_eq_true rfl, Nat.le_of_ble_eq_true rfl⟩) (preV hK hLi9.1 rfl hLi9) rfl rfl hl.1 rfl (lv_room (Nat.le_of_ble_eq_true rfl)) dX1_like_57 ⟨Nat.le_of_ble_eq_true rfl, Nat.le_of_ble_eq_true rfl⟩) ?_
          refine h_cast (ci := 5) (q := (RX6, TX6, 6)) hx hb hown (hts _ q563) hK rfl (isO.of (hW.k7 (k) (by omega))) dX1_like_60 ?_
          refine h_getN hx hb hts in_X6 hown hK (hW.k7 (k) (by omega)) rfl 0 (by decide) q626 rfl (v := .ref (ad 8 (2 * k))) rfl dX1_like_63 ?_
          refine lv_aload_n hx hb dX1_like_66 rfl (lv_at hl 1 rfl) ?_
          refine rc_V (W.runV (As := [.ref (ad 8 (2 * b))]) (rest := []) ⟨hx, hb, hml, hown, hts⟩ (cc_X7_hasSame l D cA A sa ad F N Z E K hKb hF hN hZ hwf k b (by omega) (by omega)) (cwV 1 hts (lw_V q940 q941 q942 q69 q943) rfl rfl rfl (by decide +kernel) ⟨Nat.le_of_ble_eq_true rfl, Nat.le_of_ble_eq_true rfl⟩) (preVC hK hSX hS (hW.k8 (2 * k) ‹TL F N (2 * k)›) rfl hW) rfl rfl hl.1 rfl (lv_room (Nat.le_of_ble_eq_true rfl)) dX1_like_67 ⟨Nat.le_of_ble_eq_true rfl, Nat.le_of_ble_eq_true rfl⟩) ?_
          by_cases h10 : alk N k b = true
          · refine ri_top (b := 1) (if_pos h10) ?_
            refine ri_if_ne (tgt := 79) hx hb (by unfold inR; omega) dX1_like_70 (by decide) (fun h11 => ?_) (fun h11 => ?_)
            · skip
              refine lv_iload_n hx hb dX1_like_79 rfl (lv_at hl 0 rfl) ?_
              exact W.iret hx hb hr (fun t ht hWm => ⟨congrArg (fun z => Outcome.returned (some (Value.int (iI z)))) (by rw [if_pos (by assumption)]; exact congrArg (fun n : Nat => (n : Int)) (lst_eq k b _ (by show (hsC N k && alk N k b) = true; unfold hsC; rw [decide_eq_true (by assumption), Bool.true_and]; assumption) hno hkb).symm), ht⟩) (fun _ h => absurd h List.not_mem_nil) dX1_like_80
            · skip
              exfalso; omega
          · refine ri_top (b := 0) (if_neg h10) ?_
            refine ri_if_ne (tgt := 79) hx hb (by unfold inR; omega) dX1_like_70 (by decide) (fun h12 => ?_) (fun h12 => ?_)
            · skip
              exfalso; omega
            · skip
              refine lv_iinc (v := iI ((k + 1 : Nat))) (lv' := [(3, .int (iI ((k + 1 : Nat)))), (2, .ref (ad 8 (2 * b))), (0, .ref (ad 0 (0))), (1, .int (iI (b)))]) hx hb dX1_like_73 hl (k := 0) rfl (iI_succ _) (by decide) rfl (fun ls hl => ?_)
              refine lv_goto (tgt := 29) hx hb dX1_like_76 (by decide) ?_
              have hf : (hsC N k && alk N k b) = false := by first | (unfold hsC; rw [decide_eq_false (by omega)]; rfl) | (rw [Bool.and_eq_false_iff]; exact Or.inr (Bool.eq_false_iff.mpr (by assumption)))
              have hne : k ≠ b := by intro q; subst q; rw [alk_self, Bool.and_true] at hf; unfold hsC at hf; exact absurd (of_decide_eq_false hf) (fun z => z (by assumption))
              exact ih29 (k + 1) (by omega) (fun i h => by rcases Nat.lt_or_ge i k with z | z; exact hno i z; rw [show i = k by omega]; exact hf) (by omega) _ (lv_sub hl [0, 1, 2, 3] rfl)
    exact lp29 _ (0) (Nat.zero_le _) (fun i h => absurd h (Nat.not_lt_zero _)) (Nat.lt_succ_self _) _ (lv_sub hl [0, 1, 2, 3] rfl)
  · skip
    refine lv_iconst (v := iI (-1)) hx hb dX1_like_25 rfl ?_
    exact W.iret hx hb hr (fun t ht hWm => ⟨congrArg (fun z => Outcome.returned (some (Value.int (iI z)))) (by rw [if_neg (by assumption)]), ht⟩) (fun _ h => absurd h List.not_mem_nil) dX1_like_26

set_option maxHeartbeats 4000000 in
set_option maxRecDepth 100000 in
theorem cc_X1_mark (l : Launch) (D : va_G) (cA : Nat → ClassId) (A : Nat → Prop) (sa : Nat → Nat) (ad : Nat → Nat → Nat) (F : Nat → Nat) (N : Nat → Nat → Nat) (Z : Nat → Int) (E : Nat → Nat → Int) (K : Nat) (hKb : K ≤ 1000000) (hF : FB F) (hN : NB N) (hZ : ZB K Z) (hwf : WF F N) (b : Nat) (hb4 : b < F 4) : Met l yX1_mark (ws_ yX1_mark cX1_mark 5 (some .int)) ({ frames := 6, cells := 0, slots := 0, locals := 149 }) (PC D cA A sa ad F N Z E [.ref (ad 0 (0)), .int (iI (b))]) (k2_QcV (.int (iI (if N 25 (2 * b) = 1 then (cntB (mkB (hsC N) N) (flB (hsC N) N b) : Int) else -1)))) 0 0 (fun _ => False) := by
  refine Met.ofW (cc := cX1_mark) (maxL := 5) (ret := (some .int)) (by decide) rfl ?_
  intro p e s m args below meth c s₁ B hml hv
  obtain ⟨rfl, hK, hW⟩ := hv
  have hx := B.exec
  have hb := B.bytes
  have hr := B.returns
  have hts := atoms_spec (ws := ws_ yX1_mark cX1_mark 5 (some .int)) B.pre
  have hts : ∀ w ∈ lw_all, w.before _ s = true := fun w h => hts w (List.mem_cons_of_mem _ h)
  have hown : s.vm.findClass RX1 = some m.cls := findClass_of_methodNamed B.named
  have hlocks := B.notSynchronized
  have hl := lv_entry ([.ref (ad 0 (0)), .int (iI (b))]) (n := 5) (Nat.le_of_ble_eq_true rfl)
  rw [lg_entry_eq]
  generalize (lg_sl ([.ref (ad 0 (0)), .int (iI (b))]) ++ List.replicate (5 - (lg_sl ([.ref (ad 0 (0)), .int (iI (b))])).length) Slot.unset).toArray = ls at hl ⊢
  have hl : lv_has ls 5 [(0, .ref (ad 0 (0))), (1, .int (iI (b)))] := hl
  obtain ⟨hSX, hW⟩ := hW
  have hS : va_S A s.heap s.heap [] := va_S.rf
  have hF2 : F 2 ≤ 10 := hF 2
  have hF3 : F 3 ≤ 16 := hF 3
  have hF4 : F 4 ≤ 60 := hF 4
  have hF5 : F 5 ≤ 40 := hF 5
  have hF1 : F 1 ≤ 1439 := hF 1
  refine lv_aload_n hx hb dX1_mark_0 rfl (lv_at hl 0 rfl) ?_
  refine lv_iload_n hx hb dX1_mark_1 rfl (lv_at hl 1 rfl) ?_
  refine rc_V (W.runV (As := [.int (iI (b))]) (rest := []) ⟨hx, hb, hml, hown, hts⟩ (cc_X1_boxAt l D cA A sa ad F N Z E K hKb hF hN hZ hwf b (by omega)) (cwV 1 hts (lw_V q877 q879 qs13 q42 q880) rfl rfl rfl (by decide +kernel) ⟨Nat.le_of_ble_eq_true rfl, Nat.le_of_ble_eq_true rfl⟩) (preVC hK hSX hS hW.c0 rfl hW) rfl rfl hl.1 rfl (lv_room (Nat.le_of_ble_eq_true rfl)) dX1_mark_2 ⟨Nat.le_of_ble_eq_true rfl, Nat.le_of_ble_eq_true rfl⟩) ?_
  refine lv_pop hx hb dX1_mark_5 rfl ?_
  refine lv_aload_n hx hb dX1_mark_6 rfl (lv_at hl 0 rfl) ?_
  refine lv_iload_n hx hb dX1_mark_7 rfl (lv_at hl 1 rfl) ?_
  refine rc_V (W.runV (As := [.int (iI (b))]) (rest := []) ⟨hx, hb, hml, hown, hts⟩ (cc_X1_like l D cA A sa ad F N Z E K hKb hF hN hZ hwf b (by omega)) (cwV 1 hts (lw_V q936 q938 qs15 q42 q939) rfl rfl rfl (by decide +kernel) ⟨Nat.le_of_ble_eq_true rfl, Nat.le_of_ble_eq_true rfl⟩) (preVC hK hSX hS hW.c0 rfl hW) rfl rfl hl.1 rfl (lv_room (Nat.le_of_ble_eq_true rfl)) dX1_mark_8 ⟨Nat.le_of_ble_eq_true rfl, Nat.le_of_ble_eq_true rfl⟩) ?_
  by_cases h1 : N 25 (2 * b) = 1
  · refine ri_top (b := flB (hsC N) N b) (if_pos h1) ?_
    have b2 : flB (hsC N) N b ≤ b := flB_le _ _ _
    refine lv_istore_n (lv' := [(2, .int (iI (flB (hsC N) N b))), (0, .ref (ad 0 (0))), (1, .int (iI (b)))]) hx hb dX1_mark_11 rfl hl (by decide) rfl (fun ls hl => ?_)
    refine lv_iload_n hx hb dX1_mark_12 rfl (lv_at hl 0 rfl) ?_
    refine lv_iconst (v := iI (-1)) hx hb dX1_mark_13 rfl ?_
    refine ri_icmp_ne (tgt := 19) hx hb (by unfold inR; omega) (by unfold inR; omega) dX1_mark_14 (by decide) (fun h3 => ?_) (fun h3 => ?_)
    · skip
      refine lv_iconst (v := iI (0)) hx hb dX1_mark_19 rfl ?_
      refine lv_istore_n (lv' := [(3, .int (iI (0))), (2, .int (iI (flB (hsC N) N b))), (0, .ref (ad 0 (0))), (1, .int (iI (b)))]) hx hb dX1_mark_20 rfl hl (by decide) rfl (fun ls hl => ?_)
      refine lv_iconst (v := iI (0)) hx hb dX1_mark_21 rfl ?_
      refine lv_istore (lv' := [(4, .int (iI (0))), (3, .int (iI (0))), (2, .int (iI (flB (hsC N) N b))), (0, .ref (ad 0 (0))), (1, .int (iI (b)))]) hx hb dX1_mark_22 hl (by decide) rfl (fun ls hl => ?_)
      have lp24 : ∀ (fuel : Nat) (k : Nat) (hk : k ≤ flB (hsC N) N b), flB (hsC N) N b - k < fuel → ∀ (ls : Array Slot), lv_has ls 5 [(4, .int (iI (k))), (3, .int (iI (cntB (mkB (hsC N) N) k))), (2, .int (iI (flB (hsC N) N b))), (0, .ref (ad 0 (0))), (1, .int (iI (b)))] → W p l e (headSpec (ws_ yX1_mark cX1_mark 5 (some .int)) ({ frames := 6, cells := 0, slots := 0, locals := 149 })).room s m ([.ref (ad 0 (0)), .int (iI (b))] : List Value).toArray below meth c s.heap [] 0 0 (MQ below (k2_QcV (.int (iI (if N 25 (2 * b) = 1 then (cntB (mkB (hsC N) N) (flB (hsC N) N b) : Int) else -1)))) ([.ref (ad 0 (0)), .int (iI (b))] : List Value).toArray s 0 0 (fun _ => False)) (F0 m 24 ls []) := by
        intro fuel
        induction fuel with
        | zero => intro k hk hm; exact absurd hm (Nat.not_lt_zero _)
        | succ fuel ih24 =>
          intro k hk hm24 ls hl
          have hc0 := cntB_le (mkB (hsC N) N) k
          refine lv_iload hx hb dX1_mark_24 (lv_at hl 0 rfl) ?_
          refine lv_iload_n hx hb dX1_mark_26 rfl (lv_at hl 2 rfl) ?_
          refine ri_icmp_ge (tgt := 50) hx hb (by unfold inR; omega) (by unfold inR; omega) dX1_mark_27 (by decide) (fun h4 => ?_) (fun h4 => ?_)
          · skip
            refine lv_iload_n hx hb dX1_mark_50 rfl (lv_at hl 1 rfl) ?_
            exact W.iret hx hb hr (fun t ht hWm => ⟨congrArg (fun z => Outcome.returned (some (Value.int (iI z)))) (by rw [if_pos (by assumption), show k = flB (hsC N) N b by omega]), ht⟩) (fun _ h => absurd h List.not_mem_nil) dX1_mark_51
          · skip
            refine lv_aload_n hx hb dX1_mark_30 rfl (lv_at hl 3 rfl) ?_
            refine lv_iload hx hb dX1_mark_31 (lv_at hl 0 rfl) ?_
            refine rc_V (W.runV (As := [.int (iI (k))]) (rest := []) ⟨hx, hb, hml, hown, hts⟩ (cc_X1_like l D cA A sa ad F N Z E K hKb hF hN hZ hwf k (by omega)) (cwV 1 hts (lw_V q936 q938 qs15 q42 q939) rfl rfl rfl (by decide +kernel) ⟨Nat.le_of_ble_eq_true rfl, Nat.le_of_ble_eq_true rfl⟩) (preVC hK hSX hS hW.c0 rfl hW) rfl rfl hl.1 rfl (lv_room (Nat.le_of_ble_eq_true rfl)) dX1_mark_33 ⟨Nat.le_of_ble_eq_true rfl, Nat.le_of_ble_eq_true rfl⟩) ?_
            by_cases h5 : N 25 (2 * k) = 1
            · refine ri_top (b := flB (hsC N) N k) (if_pos h5) ?_
              have b6 : flB (hsC N) N k ≤ k := flB_le _ _ _
              refine lv_iload hx hb dX1_mark_36 (lv_at hl 0 rfl) ?_
              refine ri_icmp_ne (tgt := 44) hx hb (by unfold inR; omega) (by unfold inR; omega) dX1_mark_38 (by decide) (fun h7 => ?_) (fun h7 => ?_)
              · skip
                have hl : lv_has ls 5 [(4, .int (iI (k))), (3, .int (iI ((cntB (mkB (hsC N) N) (k + 1) : Nat)))), (2, .int (iI (flB (hsC N) N b))), (0, .ref (ad 0 (0))), (1, .int (iI (b)))] := by rw [← cnt_e (mk_no (by first | exact Or.inl (by unfold hsC; exact decide_eq_false (by assumption)) | exact Or.inr (by omega)))]; exact hl
                refine lv_iinc (v := iI ((k + 1 : Nat))) (lv' := [(4, .int (iI ((k + 1 : Nat)))), (3, .int (iI ((cntB (mkB (hsC N) N) (k + 1) : Nat)))), (2, .int (iI (flB (hsC N) N b))), (0, .ref (ad 0 (0))), (1, .int (iI (b)))]) hx hb dX1_mark_44 hl (k := 0) rfl (iI_succ _) (by decide) rfl (fun ls hl => ?_)
                refine lv_goto (tgt := 24) hx hb dX1_mark_47 (by decide) ?_
                exact ih24 (k + 1) (by omega) (by omega) _ (lv_sub hl [0, 1, 2, 3, 4] rfl)
              · skip
                refine lv_iinc (v := iI ((cntB (mkB (hsC N) N) (k + 1) : Nat))) (lv' := [(3, .int (iI ((cntB (mkB (hsC N) N) (k + 1) : Nat)))), (4, .int (iI (k))), (2, .int (iI (flB (hsC N) N b))), (0, .ref (ad 0 (0))), (1, .int (iI (b)))]) hx hb dX1_mark_41 hl (k := 1) rfl (by rw [← cnt_1 (mk_yes (by unfold hsC; exact decide_eq_true (by assumption)) (by omega))]; exact iI_add _ _) (by decide) rfl (fun ls hl => ?_)
                refine lv_iinc (v := iI ((k + 1 : Nat))) (lv' := [(4, .int (iI ((k + 1 : Nat)))), (3, .int (iI ((cntB (mkB (hsC N) N) (k + 1) : Nat)))), (2, .int (iI (flB (hsC N) N b))), (0, .ref (ad 0 (0))), (1, .int (iI (b)))]) hx hb dX1_mark_44 hl (k := 1) rfl (iI_succ _) (by decide) rfl (fun ls hl => ?_)
                refine lv_goto (tgt := 24) hx hb dX1_mark_47 (by decide) ?_
                exact ih24 (k + 1) (by omega) (by omega) _ (lv_sub hl [0, 1, 2, 3, 4] rfl)
            · refine ri_top (b := -1) (if_neg h5) ?_
              refine lv_iload hx hb dX1_mark_36 (lv_at hl 0 rfl) ?_
              refine ri_icmp_ne (tgt := 44) hx hb (by unfold inR; omega) (by unfold inR; omega) dX1_mark_38 (by decide) (fun h8 => ?_) (fun h8 => ?_)
              · skip
                have hl : lv_has ls 5 [(4, .int (iI (k))), (3, .int (iI ((cntB (mkB (hsC N) N) (k + 1) : Nat)))), (2, .int (iI (flB (hsC N) N b))), (0, .ref (ad 0 (0))), (1, .int (iI (b)))] := by rw [← cnt_e (mk_no (by first | exact Or.inl (by unfold hsC; exact decide_eq_false (by assumption)) | exact Or.inr (by omega)))]; exact hl
                refine lv_iinc (v := iI ((k + 1 : Nat))) (lv' := [(4, .int (iI ((k + 1 : Nat)))), (3, .int (iI ((cntB (mkB (hsC N) N) (k + 1) : Nat)))), (2, .int (iI (flB (hsC N) N b))), (0, .ref (ad 0 (0))), (1, .int (iI (b)))]) hx hb dX1_mark_44 hl (k := 0) rfl (iI_succ _) (by decide) rfl (fun ls hl => ?_)
                refine lv_goto (tgt := 24) hx hb dX1_mark_47 (by decide) ?_
                exact ih24 (k + 1) (by omega) (by omega) _ (lv_sub hl [0, 1, 2, 3, 4] rfl)
              · skip
                exfalso; omega
      exact lp24 _ (0) (Nat.zero_le _) (Nat.lt_succ_self _) _ (lv_sub hl [0, 1, 2, 3, 4] rfl)
    · skip
      exfalso; omega
  · refine ri_top (b := -1) (if_neg h1) ?_
    refine lv_istore_n (lv' := [(2, .int (iI (-1))), (0, .ref (ad 0 (0))), (1, .int (iI (b)))]) hx hb dX1_mark_11 rfl hl (by decide) rfl (fun ls hl => ?_)
    refine lv_iload_n hx hb dX1_mark_12 rfl (lv_at hl 0 rfl) ?_
    refine lv_iconst (v := iI (-1)) hx hb dX1_mark_13 rfl ?_
    refine ri_icmp_ne (tgt := 19) hx hb (by unfold inR; omega) (by unfold inR; omega) dX1_mark_14 (by decide) (fun h9 => ?_) (fun h9 => ?_)
    · skip
      exfalso; omega
    · skip
      refine lv_iconst (v := iI (-1)) hx hb dX1_mark_17 rfl ?_
      exact W.iret hx hb hr (fun t ht hWm => ⟨congrArg (fun z => Outcome.returned (some (Value.int (iI z)))) (by rw [if_neg (by assumption)]), ht⟩) (fun _ h => absurd h List.not_mem_nil) dX1_mark_18

set_option maxHeartbeats 4000000 in
set_option maxRecDepth 100000 in
theorem cc_X1_count (l : Launch) (D : va_G) (cA : Nat → ClassId) (A : Nat → Prop) (sa : Nat → Nat) (ad : Nat → Nat → Nat) (F : Nat → Nat) (N : Nat → Nat → Nat) (Z : Nat → Int) (E : Nat → Nat → Int) (K : Nat) (hKb : K ≤ 1000000) (hF : FB F) (hN : NB N) (hZ : ZB K Z) (hwf : WF F N) (v : Nat) (hv7 : v ≤ 7) : Met l yX1_count (ws_ yX1_count cX1_count 4 (some .int)) ({ frames := 8, cells := 0, slots := 0, locals := 184 }) (PC D cA A sa ad F N Z E [.ref (ad 0 (0)), .int (iI (v))]) (k2_QcV (.int (iI (cnC F N v)))) 0 0 (fun _ => False) := by
  refine Met.ofW (cc := cX1_count) (maxL := 4) (ret := (some .int)) (by decide) rfl ?_
  intro p e s m args below meth c s₁ B hml hv
  obtain ⟨rfl, hK, hW⟩ := hv
  have hx := B.exec
  have hb := B.bytes
  have hr := B.returns
  have hts := atoms_spec (ws := ws_ yX1_count cX1_count 4 (some .int)) B.pre
  have hts : ∀ w ∈ lw_all, w.before _ s = true := fun w h => hts w (List.mem_cons_of_mem _ h)
  have hown : s.vm.findClass RX1 = some m.cls := findClass_of_methodNamed B.named
  have hlocks := B.notSynchronized
  have hl := lv_entry ([.ref (ad 0 (0)), .int (iI (v))]) (n := 4) (Nat.le_of_ble_eq_true rfl)
  rw [lg_entry_eq]
  generalize (lg_sl ([.ref (ad 0 (0)), .int (iI (v))]) ++ List.replicate (4 - (lg_sl ([.ref (ad 0 (0)), .int (iI (v))])).length) Slot.unset).toArray = ls at hl ⊢
  have hl : lv_has ls 4 [(0, .ref (ad 0 (0))), (1, .int (iI (v)))] := hl
  obtain ⟨hSX, hW⟩ := hW
  have hS : va_S A s.heap s.heap [] := va_S.rf
  have hF2 : F 2 ≤ 10 := hF 2
  have hF3 : F 3 ≤ 16 := hF 3
  have hF4 : F 4 ≤ 60 := hF 4
  have hF5 : F 5 ≤ 40 := hF 5
  have hF1 : F 1 ≤ 1439 := hF 1
  refine lv_iload_n hx hb dX1_count_0 rfl (lv_at hl 1 rfl) ?_
  refine ri_if_lt (tgt := 14) hx hb (by unfold inR; omega) dX1_count_1 (by decide) (fun h1 => ?_) (fun h1 => ?_)
  · skip
    exfalso; omega
  · skip
    refine lv_iload_n hx hb dX1_count_4 rfl (lv_at hl 1 rfl) ?_
    refine lv_bipush (v := iI (7)) hx hb dX1_count_5 (by decide) ?_
    refine ri_icmp_gt (tgt := 14) hx hb (by unfold inR; omega) (by unfold inR; omega) dX1_count_7 (by decide) (fun h2 => ?_) (fun h2 => ?_)
    · skip
      exfalso; omega
    · skip
      refine lv_iconst (v := iI (1)) hx hb dX1_count_10 rfl ?_
      refine lv_goto (tgt := 15) hx hb dX1_count_11 (by decide) ?_
      refine rc_0 (W.runS (As := [.int (iI (1))]) (rest := []) ⟨hx, hb, hml, hown, hts⟩ (cc_X1_there l D cA  ) (va_cwS 1 hts (lw_S q779 q780 q42 q781) rfl rfl rfl (by decide +kernel) ⟨Nat.le_of_ble_eq_true rfl, Nat.le_of_ble_eq_true rfl⟩) (preS hK (B := fun _ => True) trivial) rfl rfl hl.1 rfl (lv_room (Nat.le_of_ble_eq_true rfl)) dX1_count_15 ⟨Nat.le_of_ble_eq_true rfl, Nat.le_of_ble_eq_true rfl⟩) ?_
      refine lv_iconst (v := iI (0)) hx hb dX1_count_18 rfl ?_
      refine lv_istore_n (lv' := [(2, .int (iI (0))), (0, .ref (ad 0 (0))), (1, .int (iI (v)))]) hx hb dX1_count_19 rfl hl (by decide) rfl (fun ls hl => ?_)
      refine lv_iload_n hx hb dX1_count_20 rfl (lv_at hl 2 rfl) ?_
      rcases (by omega : v < 0 ∨ 6 < v ∨ v = 0 ∨ v = 1 ∨ v = 2 ∨ v = 3 ∨ v = 4 ∨ v = 5 ∨ v = 6) with h3 | h3 | h3 | h3 | h3 | h3 | h3 | h3 | h3
      · skip
        exfalso; omega
      · skip
        refine lv_tableOut (tgt := 232) hx hb dX1_count_21 (by rw [iI_toInt (by unfold inR; omega)]; omega) (by decide) ?_
        refine lv_aload_n hx hb dX1_count_232 rfl (lv_at hl 1 rfl) ?_
        refine h_get hx hb hts in_X1 hown hK hW.c0 rfl 3 (by decide) (hts _ q424) rfl (v := .ref (ad 1 (3))) rfl dX1_count_233 ?_
        obtain ⟨mc4, cp4, cq4, cr4, hLi4⟩ := hW.l3
        refine rc_V (W.runV (As := []) (rest := []) ⟨hx, hb, hml, hown, hts⟩ (al_size l D cA (ad 1 (3)) mc4 (ad 2 (3)) (F 5)) (cwV 0 hts (lw_V q448 q449 q450 q45 q451) rfl rfl rfl (by decide +kernel) ⟨Nat.le_of_ble_eq_true rfl, Nat.le_of_ble_eq_true rfl⟩) (preV hK hLi4.1 rfl hLi4.1) rfl rfl hl.1 rfl (lv_room (Nat.le_of_ble_eq_true rfl)) dX1_count_236 ⟨Nat.le_of_ble_eq_true rfl, Nat.le_of_ble_eq_true rfl⟩) ?_
        exact W.iret hx hb hr (fun t ht hWm => ⟨congrArg (fun z => Outcome.returned (some (Value.int (iI z)))) (by unfold cnC; (repeat' split) <;> omega), ht⟩) (fun _ h => absurd h List.not_mem_nil) dX1_count_239
      · skip
        refine ri_top (b := 0) (by omega) ?_
        refine lv_tableIn (tgt := 64) (off := 43) hx hb dX1_count_21 (by decide) (by decide) (by decide) (by decide) ?_
        refine lv_aload_n hx hb dX1_count_64 rfl (lv_at hl 1 rfl) ?_
        refine h_get hx hb hts in_X1 hown hK hW.c0 rfl 0 (by decide) (hts _ q421) rfl (v := .ref (ad 1 (0))) rfl dX1_count_65 ?_
        obtain ⟨mc5, cp5, cq5, cr5, hLi5⟩ := hW.l0
        refine rc_V (W.runV (As := []) (rest := []) ⟨hx, hb, hml, hown, hts⟩ (al_size l D cA (ad 1 (0)) mc5 (ad 2 (0)) (F 2)) (cwV 0 hts (lw_V q448 q449 q450 q45 q451) rfl rfl rfl (by decide +kernel) ⟨Nat.le_of_ble_eq_true rfl, Nat.le_of_ble_eq_true rfl⟩) (preV hK hLi5.1 rfl hLi5.1) rfl rfl hl.1 rfl (lv_room (Nat.le_of_ble_eq_true rfl)) dX1_count_68 ⟨Nat.le_of_ble_eq_true rfl, Nat.le_of_ble_eq_true rfl⟩) ?_
        exact W.iret hx hb hr (fun t ht hWm => ⟨congrArg (fun z => Outcome.returned (some (Value.int (iI z)))) (by unfold cnC; (repeat' split) <;> omega), ht⟩) (fun _ h => absurd h List.not_mem_nil) dX1_count_71
      · skip
        refine ri_top (b := 1) (by omega) ?_
        refine lv_tableIn (tgt := 72) (off := 51) hx hb dX1_count_21 (by decide) (by decide) (by decide) (by decide) ?_
        refine lv_aload_n hx hb dX1_count_72 rfl (lv_at hl 1 rfl) ?_
        refine h_get hx hb hts in_X1 hown hK hW.c0 rfl 1 (by decide) (hts _ q422) rfl (v := .ref (ad 1 (1))) rfl dX1_count_73 ?_
        obtain ⟨mc6, cp6, cq6, cr6, hLi6⟩ := hW.l1
        refine rc_V (W.runV (As := []) (rest := []) ⟨hx, hb, hml, hown, hts⟩ (al_size l D cA (ad 1 (1)) mc6 (ad 2 (1)) (F 3)) (cwV 0 hts (lw_V q448 q449 q450 q45 q451) rfl rfl rfl (by decide +kernel) ⟨Nat.le_of_ble_eq_true rfl, Nat.le_of_ble_eq_true rfl⟩) (preV hK hLi6.1 rfl hLi6.1) rfl rfl hl.1 rfl (lv_room (Nat.le_of_ble_eq_true rfl)) dX1_count_76 ⟨Nat.le_of_ble_eq_true rfl, Nat.le_of_ble_eq_true rfl⟩) ?_
        exact W.iret hx hb hr (fun t ht hWm => ⟨congrArg (fun z => Outcome.returned (some (Value.int (iI z)))) (by unfold cnC; (repeat' split) <;> omega), ht⟩) (fun _ h => absurd h List.not_mem_nil) dX1_count_79
      · skip
        refine ri_top (b := 2) (by omega) ?_
        refine lv_tableIn (tgt := 80) (off := 59) hx hb dX1_count_21 (by decide) (by decide) (by decide) (by decide) ?_
        refine lv_aload_n hx hb dX1_count_80 rfl (lv_at hl 1 rfl) ?_
        refine h_get hx hb hts in_X1 hown hK hW.c0 rfl 2 (by decide) (hts _ q423) rfl (v := .ref (ad 1 (2))) rfl dX1_count_81 ?_
        obtain ⟨mc7, cp7, cq7, cr7, hLi7⟩ := hW.l2
        refine rc_V (W.runV (As := []) (rest := []) ⟨hx, hb, hml, hown, hts⟩ (al_size l D cA (ad 1 (2)) mc7 (ad 2 (2)) (F 4)) (cwV 0 hts (lw_V q448 q449 q450 q45 q451) rfl rfl rfl (by decide +kernel) ⟨Nat.le_of_ble_eq_true rfl, Nat.le_of_ble_eq_true rfl⟩) (preV hK hLi7.1 rfl hLi7.1) rfl rfl hl.1 rfl (lv_room (Nat.le_of_ble_eq_true rfl)) dX1_count_84 ⟨Nat.le_of_ble_eq_true rfl, Nat.le_of_ble_eq_true rfl⟩) ?_
        exact W.iret hx hb hr (fun t ht hWm => ⟨congrArg (fun z => Outcome.returned (some (Value.int (iI z)))) (by unfold cnC; (repeat' split) <;> omega), ht⟩) (fun _ h => absurd h List.not_mem_nil) dX1_count_87
      · skip
        refine ri_top (b := 3) (by omega) ?_
        refine lv_tableIn (tgt := 88) (off := 67) hx hb dX1_count_21 (by decide) (by decide) (by decide) (by decide) ?_
        refine lv_aload_n hx hb dX1_count_88 rfl (lv_at hl 1 rfl) ?_
        refine h_get hx hb hts in_X1 hown hK hW.c0 rfl 4 (by decide) (hts _ q425) rfl (v := .int (iI (F 1))) rfl dX1_count_89 ?_
        exact W.iret hx hb hr (fun t ht hWm => ⟨congrArg (fun z => Outcome.returned (some (Value.int (iI z)))) (by unfold cnC; (repeat' split) <;> omega), ht⟩) (fun _ h => absurd h List.not_mem_nil) dX1_count_92
      · skip
        refine ri_top (b := 4) (by omega) ?_
        refine lv_tableIn (tgt := 93) (off := 72) hx hb dX1_count_21 (by decide) (by decide) (by decide) (by decide) ?_
        refine lv_iconst (v := iI (0)) hx hb dX1_count_93 rfl ?_
        refine lv_istore_n (lv' := [(3, .int (iI (0))), (2, .int (iI (0))), (0, .ref (ad 0 (0))), (1, .int (iI (v)))]) hx hb dX1_count_94 rfl hl (by decide) rfl (fun ls hl => ?_)
        have lp95 : ∀ (fuel : Nat) (k : Nat) (hk : k ≤ F 4), F 4 - k < fuel → ∀ (ls : Array Slot), lv_has ls 4 [(3, .int (iI (k))), (2, .int (iI (cntB (fun b => decide (N 25 (wayN N b) = 1)) k))), (0, .ref (ad 0 (0))), (1, .int (iI (v)))] → W p l e (headSpec (ws_ yX1_count cX1_count 4 (some .int)) ({ frames := 8, cells := 0, slots := 0, locals := 184 })).room s m ([.ref (ad 0 (0)), .int (iI (v))] : List Value).toArray below meth c s.heap [] 0 0 (MQ below (k2_QcV (.int (iI (cnC F N v)))) ([.ref (ad 0 (0)), .int (iI (v))] : List Value).toArray s 0 0 (fun _ => False)) (F0 m 95 ls []) := by
          intro fuel
          induction fuel with
          | zero => intro k hk hm; exact absurd hm (Nat.not_lt_zero _)
          | succ fuel ih95 =>
            intro k hk hm95 ls hl
            have hc0 := cntB_le (fun b => decide (N 25 (wayN N b) = 1)) k
            refine lv_iload_n hx hb dX1_count_95 rfl (lv_at hl 0 rfl) ?_
            refine lv_aload_n hx hb dX1_count_96 rfl (lv_at hl 2 rfl) ?_
            refine h_get hx hb hts in_X1 hown hK hW.c0 rfl 2 (by decide) (hts _ q423) rfl (v := .ref (ad 1 (2))) rfl dX1_count_97 ?_
            obtain ⟨mc8, cp8, cq8, cr8, hLi8⟩ := hW.l2
            refine rc_V (W.runV (As := []) (rest := [.int (iI (k))]) ⟨hx, hb, hml, hown, hts⟩ (al_size l D cA (ad 1 (2)) mc8 (ad 2 (2)) (F 4)) (cwV 0 hts (lw_V q448 q449 q450 q45 q451) rfl rfl rfl (by decide +kernel) ⟨Nat.le_of_ble_eq_true rfl, Nat.le_of_ble_eq_true rfl⟩) (preV hK hLi8.1 rfl hLi8.1) rfl rfl hl.1 rfl (lv_room (Nat.le_of_ble_eq_true rfl)) dX1_count_100 ⟨Nat.le_of_ble_eq_true rfl, Nat.le_of_ble_eq_true rfl⟩) ?_
            refine ri_icmp_ge (tgt := 143) hx hb (by unfold inR; omega) (by unfold inR; omega) dX1_count_103 (by decide) (fun h9 => ?_) (fun h9 => ?_)
            · skip
              refine lv_iload_n hx hb dX1_count_143 rfl (lv_at hl 1 rfl) ?_
              exact W.iret hx hb hr (fun t ht hWm => ⟨congrArg (fun z => Outcome.returned (some (Value.int (iI z)))) (by rw [show k = F 4 by omega]; unfold cnC; (repeat' split) <;> first | rfl | omega), ht⟩) (fun _ h => absurd h List.not_mem_nil) dX1_count_144
            · skip
              refine lv_iload_n hx hb dX1_count_106 rfl (lv_at hl 1 rfl) ?_
              refine lv_aload_n hx hb dX1_count_107 rfl (lv_at hl 2 rfl) ?_
              refine h_get hx hb hts in_X1 hown hK hW.c0 rfl 2 (by decide) (hts _ q423) rfl (v := .ref (ad 1 (2))) rfl dX1_count_108 ?_
              refine lv_iload_n hx hb dX1_count_111 rfl (lv_at hl 0 rfl) ?_
              obtain ⟨mc10, cp10, cq10, cr10, hLi10⟩ := hW.l2
              refine rc_V (W.runV (As := [.int (iI (k))]) (rest := [.int (iI (cntB (fun b => decide (N 25 (wayN N b) = 1)) k))]) ⟨hx, hb, hml, hown, hts⟩ (al_get l D cA (ad 1 (2)) mc10 (ad 2 (2)) (F 4) cp10 (ad 7) (k) (by omega)) (cwV 1 hts (lw_V q565 q566 q567 q45 q568) rfl rfl rfl (by decide +kernel) ⟨Nat.le_of_ble_eq_true rfl, Nat.le_of_ble_eq_true rfl⟩) (preV hK hLi10.1 rfl hLi10) rfl rfl hl.1 rfl (lv_room (Nat.le_of_ble_eq_true rfl)) dX1_count_112 ⟨Nat.le_of_ble_eq_true rfl, Nat.le_of_ble_eq_true rfl⟩) ?_
              refine h_cast (ci := 5) (q := (RX6, TX6, 6)) hx hb hown (hts _ q563) hK rfl (isO.of (hW.k7 (k) (by omega))) dX1_count_115 ?_
              refine rc_V (W.runV (As := []) (rest := [.int (iI (cntB (fun b => decide (N 25 (wayN N b) = 1)) k))]) ⟨hx, hb, hml, hown, hts⟩ (cc_X6_trip l D cA A sa ad F N Z E K hKb hF hN hZ hwf k (by omega)) (cwV 0 hts (lw_V q654 q655 q656 q68 q657) rfl rfl rfl (by decide +kernel) ⟨Nat.le_of_ble_eq_true rfl, Nat.le_of_ble_eq_true rfl⟩) (preVC hK hSX hS (hW.k7 (k) (by omega)) rfl hW) rfl rfl hl.1 rfl (lv_room (Nat.le_of_ble_eq_true rfl)) dX1_count_118 ⟨Nat.le_of_ble_eq_true rfl, Nat.le_of_ble_eq_true rfl⟩) ?_
              have b11 : TL F N (wayN N k) := TL_way hN (by omega)
              have b12 : wayN N k < 120 := wayN_lt hN (by omega)
              have b13 : N 25 (wayN N k) ≤ 2 := hwf.2.2.2 _
              refine h_getN hx hb hts in_X7 hown hK (hW.k8 (wayN N k) ‹TL F N (wayN N k)›) rfl 7 (by decide) q604 rfl (v := .ref (sa (N 25 (wayN N k)))) rfl dX1_count_121 ?_
              refine va_gets (v := .ref (sa 1)) hx hb hSX.2.2.2.2.2.1 hS hown (hts _ q658) (fun _ h => h) dX1_count_124 ?_
              refine r_acmp_ne (P := (N 25 (wayN N k)) = 1) (tgt := 134) hx hb (hSX.ne (by omega) (by omega)) dX1_count_127 (by decide) (fun h14 => ?_) (fun h14 => ?_)
              · skip
                refine lv_iconst (v := iI (0)) hx hb dX1_count_134 rfl ?_
                refine ri_iadd hx hb dX1_count_135 ?_
                refine ri_top (b := (cntB (fun b => decide (N 25 (wayN N b) = 1)) (k + 1) : Nat)) (cnt_0 (by rw [decide_eq_false (by assumption)]; exact Bool.false_ne_true)) ?_
                refine lv_istore_n (lv' := [(2, .int (iI ((cntB (fun b => decide (N 25 (wayN N b) = 1)) (k + 1) : Nat)))), (3, .int (iI (k))), (0, .ref (ad 0 (0))), (1, .int (iI (v)))]) hx hb dX1_count_136 rfl hl (by decide) rfl (fun ls hl => ?_)
                refine lv_iinc (v := iI ((k + 1 : Nat))) (lv' := [(3, .int (iI ((k + 1 : Nat)))), (2, .int (iI ((cntB (fun b => decide (N 25 (wayN N b) = 1)) (k + 1) : Nat)))), (0, .ref (ad 0 (0))), (1, .int (iI (v)))]) hx hb dX1_count_137 hl (k := 1) rfl (iI_succ _) (by decide) rfl (fun ls hl => ?_)
                refine lv_goto (tgt := 95) hx hb dX1_count_140 (by decide) ?_
                exact ih95 (k + 1) (by omega) (by omega) _ (lv_sub hl [0, 1, 2, 3] rfl)
              · skip
                refine lv_iconst (v := iI (1)) hx hb dX1_count_130 rfl ?_
                refine lv_goto (tgt := 135) hx hb dX1_count_131 (by decide) ?_
                refine ri_iadd hx hb dX1_count_135 ?_
                refine ri_top (b := (cntB (fun b => decide (N 25 (wayN N b) = 1)) (k + 1) : Nat)) (cnt_1 (decide_eq_true (by assumption))) ?_
                refine lv_istore_n (lv' := [(2, .int (iI ((cntB (fun b => decide (N 25 (wayN N b) = 1)) (k + 1) : Nat)))), (3, .int (iI (k))), (0, .ref (ad 0 (0))), (1, .int (iI (v)))]) hx hb dX1_count_136 rfl hl (by decide) rfl (fun ls hl => ?_)
                refine lv_iinc (v := iI ((k + 1 : Nat))) (lv' := [(3, .int (iI ((k + 1 : Nat)))), (2, .int (iI ((cntB (fun b => decide (N 25 (wayN N b) = 1)) (k + 1) : Nat)))), (0, .ref (ad 0 (0))), (1, .int (iI (v)))]) hx hb dX1_count_137 hl (k := 1) rfl (iI_succ _) (by decide) rfl (fun ls hl => ?_)
                refine lv_goto (tgt := 95) hx hb dX1_count_140 (by decide) ?_
                exact ih95 (k + 1) (by omega) (by omega) _ (lv_sub hl [0, 1, 2, 3] rfl)
        exact lp95 _ (0) (Nat.zero_le _) (Nat.lt_succ_self _) _ (lv_sub hl [0, 1, 2, 3] rfl)
      · skip
        refine ri_top (b := 5) (by omega) ?_
        refine lv_tableIn (tgt := 145) (off := 124) hx hb dX1_count_21 (by decide) (by decide) (by decide) (by decide) ?_
        refine lv_iconst (v := iI (0)) hx hb dX1_count_145 rfl ?_
        refine lv_istore_n (lv' := [(3, .int (iI (0))), (2, .int (iI (0))), (0, .ref (ad 0 (0))), (1, .int (iI (v)))]) hx hb dX1_count_146 rfl hl (by decide) rfl (fun ls hl => ?_)
        have lp147 : ∀ (fuel : Nat) (k : Nat) (hk : k ≤ F 4), F 4 - k < fuel → ∀ (ls : Array Slot), lv_has ls 4 [(3, .int (iI (k))), (2, .int (iI (cntB (ltC N) k))), (0, .ref (ad 0 (0))), (1, .int (iI (v)))] → W p l e (headSpec (ws_ yX1_count cX1_count 4 (some .int)) ({ frames := 8, cells := 0, slots := 0, locals := 184 })).room s m ([.ref (ad 0 (0)), .int (iI (v))] : List Value).toArray below meth c s.heap [] 0 0 (MQ below (k2_QcV (.int (iI (cnC F N v)))) ([.ref (ad 0 (0)), .int (iI (v))] : List Value).toArray s 0 0 (fun _ => False)) (F0 m 147 ls []) := by
          intro fuel
          induction fuel with
          | zero => intro k hk hm; exact absurd hm (Nat.not_lt_zero _)
          | succ fuel ih147 =>
            intro k hk hm147 ls hl
            have hc0 := cntB_le (ltC N) k
            refine lv_iload_n hx hb dX1_count_147 rfl (lv_at hl 0 rfl) ?_
            refine lv_aload_n hx hb dX1_count_148 rfl (lv_at hl 2 rfl) ?_
            refine h_get hx hb hts in_X1 hown hK hW.c0 rfl 2 (by decide) (hts _ q423) rfl (v := .ref (ad 1 (2))) rfl dX1_count_149 ?_
            obtain ⟨mc15, cp15, cq15, cr15, hLi15⟩ := hW.l2
            refine rc_V (W.runV (As := []) (rest := [.int (iI (k))]) ⟨hx, hb, hml, hown, hts⟩ (al_size l D cA (ad 1 (2)) mc15 (ad 2 (2)) (F 4)) (cwV 0 hts (lw_V q448 q449 q450 q45 q451) rfl rfl rfl (by decide +kernel) ⟨Nat.le_of_ble_eq_true rfl, Nat.le_of_ble_eq_true rfl⟩) (preV hK hLi15.1 rfl hLi15.1) rfl rfl hl.1 rfl (lv_room (Nat.le_of_ble_eq_true rfl)) dX1_count_152 ⟨Nat.le_of_ble_eq_true rfl, Nat.le_of_ble_eq_true rfl⟩) ?_
            refine ri_icmp_ge (tgt := 192) hx hb (by unfold inR; omega) (by unfold inR; omega) dX1_count_155 (by decide) (fun h16 => ?_) (fun h16 => ?_)
            · skip
              refine lv_iload_n hx hb dX1_count_192 rfl (lv_at hl 1 rfl) ?_
              exact W.iret hx hb hr (fun t ht hWm => ⟨congrArg (fun z => Outcome.returned (some (Value.int (iI z)))) (by rw [show k = F 4 by omega]; unfold cnC; (repeat' split) <;> first | rfl | omega), ht⟩) (fun _ h => absurd h List.not_mem_nil) dX1_count_193
            · skip
              refine lv_iload_n hx hb dX1_count_158 rfl (lv_at hl 1 rfl) ?_
              refine lv_aload_n hx hb dX1_count_159 rfl (lv_at hl 2 rfl) ?_
              refine h_get hx hb hts in_X1 hown hK hW.c0 rfl 2 (by decide) (hts _ q423) rfl (v := .ref (ad 1 (2))) rfl dX1_count_160 ?_
              refine lv_iload_n hx hb dX1_count_163 rfl (lv_at hl 0 rfl) ?_
              obtain ⟨mc17, cp17, cq17, cr17, hLi17⟩ := hW.l2
              refine rc_V (W.runV (As := [.int (iI (k))]) (rest := [.int (iI (cntB (ltC N) k))]) ⟨hx, hb, hml, hown, hts⟩ (al_get l D cA (ad 1 (2)) mc17 (ad 2 (2)) (F 4) cp17 (ad 7) (k) (by omega)) (cwV 1 hts (lw_V q565 q566 q567 q45 q568) rfl rfl rfl (by decide +kernel) ⟨Nat.le_of_ble_eq_true rfl, Nat.le_of_ble_eq_true rfl⟩) (preV hK hLi17.1 rfl hLi17) rfl rfl hl.1 rfl (lv_room (Nat.le_of_ble_eq_true rfl)) dX1_count_164 ⟨Nat.le_of_ble_eq_true rfl, Nat.le_of_ble_eq_true rfl⟩) ?_
              refine h_cast (ci := 5) (q := (RX6, TX6, 6)) hx hb hown (hts _ q563) hK rfl (isO.of (hW.k7 (k) (by omega))) dX1_count_167 ?_
              refine rc_V (W.runV (As := []) (rest := [.int (iI (cntB (ltC N) k))]) ⟨hx, hb, hml, hown, hts⟩ (cc_X6_trip l D cA A sa ad F N Z E K hKb hF hN hZ hwf k (by omega)) (cwV 0 hts (lw_V q654 q655 q656 q68 q657) rfl rfl rfl (by decide +kernel) ⟨Nat.le_of_ble_eq_true rfl, Nat.le_of_ble_eq_true rfl⟩) (preVC hK hSX hS (hW.k7 (k) (by omega)) rfl hW) rfl rfl hl.1 rfl (lv_room (Nat.le_of_ble_eq_true rfl)) dX1_count_170 ⟨Nat.le_of_ble_eq_true rfl, Nat.le_of_ble_eq_true rfl⟩) ?_
              have b18 : TL F N (wayN N k) := TL_way hN (by omega)
              have b19 : wayN N k < 120 := wayN_lt hN (by omega)
              refine rc_V (W.runV (As := []) (rest := [.int (iI (cntB (ltC N) k))]) ⟨hx, hb, hml, hown, hts⟩ (cc_X7_isLate l D cA A sa ad F N Z E K hKb hF hN hZ hwf (wayN N k) ‹_›) (cwV 0 hts (lw_V q899 q900 q901 q69 q902) rfl rfl rfl (by decide +kernel) ⟨Nat.le_of_ble_eq_true rfl, Nat.le_of_ble_eq_true rfl⟩) (preVC hK hSX hS (hW.k8 (wayN N k) ‹TL F N (wayN N k)›) rfl hW) rfl rfl hl.1 rfl (lv_room (Nat.le_of_ble_eq_true rfl)) dX1_count_173 ⟨Nat.le_of_ble_eq_true rfl, Nat.le_of_ble_eq_true rfl⟩) ?_
              by_cases h20 : N 25 (wayN N k) = 1 ∧ (duW N (wayN N k) : Int) < arW N (wayN N k)
              · refine ri_top (b := 1) (if_pos h20) ?_
                refine ri_if_eq (tgt := 183) hx hb (by unfold inR; omega) dX1_count_176 (by decide) (fun h21 => ?_) (fun h21 => ?_)
                · skip
                  exfalso; omega
                · skip
                  refine lv_iconst (v := iI (1)) hx hb dX1_count_179 rfl ?_
                  refine lv_goto (tgt := 184) hx hb dX1_count_180 (by decide) ?_
                  refine ri_iadd hx hb dX1_count_184 ?_
                  refine ri_top (b := (cntB (ltC N) (k + 1) : Nat)) (cnt_1 (by unfold ltC; exact decide_eq_true (by assumption))) ?_
                  refine lv_istore_n (lv' := [(2, .int (iI ((cntB (ltC N) (k + 1) : Nat)))), (3, .int (iI (k))), (0, .ref (ad 0 (0))), (1, .int (iI (v)))]) hx hb dX1_count_185 rfl hl (by decide) rfl (fun ls hl => ?_)
                  refine lv_iinc (v := iI ((k + 1 : Nat))) (lv' := [(3, .int (iI ((k + 1 : Nat)))), (2, .int (iI ((cntB (ltC N) (k + 1) : Nat)))), (0, .ref (ad 0 (0))), (1, .int (iI (v)))]) hx hb dX1_count_186 hl (k := 1) rfl (iI_succ _) (by decide) rfl (fun ls hl => ?_)
                  refine lv_goto (tgt := 147) hx hb dX1_count_189 (by decide) ?_
                  exact ih147 (k + 1) (by omega) (by omega) _ (lv_sub hl [0, 1, 2, 3] rfl)
              · refine ri_top (b := 0) (if_neg h20) ?_
                refine ri_if_eq (tgt := 183) hx hb (by unfold inR; omega) dX1_count_176 (by decide) (fun h22 => ?_) (fun h22 => ?_)
                · skip
                  refine lv_iconst (v := iI (0)) hx hb dX1_count_183 rfl ?_
                  refine ri_iadd hx hb dX1_count_184 ?_
                  refine ri_top (b := (cntB (ltC N) (k + 1) : Nat)) (cnt_0 (by unfold ltC; rw [decide_eq_false (by assumption)]; exact Bool.false_ne_true)) ?_
                  refine lv_istore_n (lv' := [(2, .int (iI ((cntB (ltC N) (k + 1) : Nat)))), (3, .int (iI (k))), (0, .ref (ad 0 (0))), (1, .int (iI (v)))]) hx hb dX1_count_185 rfl hl (by decide) rfl (fun ls hl => ?_)
                  refine lv_iinc (v := iI ((k + 1 : Nat))) (lv' := [(3, .int (iI ((k + 1 : Nat)))), (2, .int (iI ((cntB (ltC N) (k + 1) : Nat)))), (0, .ref (ad 0 (0))), (1, .int (iI (v)))]) hx hb dX1_count_186 hl (k := 1) rfl (iI_succ _) (by decide) rfl (fun ls hl => ?_)
                  refine lv_goto (tgt := 147) hx hb dX1_count_189 (by decide) ?_
                  exact ih147 (k + 1) (by omega) (by omega) _ (lv_sub hl [0, 1, 2, 3] rfl)
                · skip
                  exfalso; omega
        exact lp147 _ (0) (Nat.zero_le _) (Nat.lt_succ_self _) _ (lv_sub hl [0, 1, 2, 3] rfl)
      · skip
        refine ri_top (b := 6) (by omega) ?_
        refine lv_tableIn (tgt := 194) (off := 173) hx hb dX1_count_21 (by decide) (by decide) (by decide) (by decide) ?_
        refine lv_iconst (v := iI (0)) hx hb dX1_count_194 rfl ?_
        refine lv_istore_n (lv' := [(3, .int (iI (0))), (2, .int (iI (0))), (0, .ref (ad 0 (0))), (1, .int (iI (v)))]) hx hb dX1_count_195 rfl hl (by decide) rfl (fun ls hl => ?_)
        have lp196 : ∀ (fuel : Nat) (k : Nat) (hk : k ≤ F 4), F 4 - k < fuel → ∀ (ls : Array Slot), lv_has ls 4 [(3, .int (iI (k))), (2, .int (iI (cntB (mkB (hsC N) N) k))), (0, .ref (ad 0 (0))), (1, .int (iI (v)))] → W p l e (headSpec (ws_ yX1_count cX1_count 4 (some .int)) ({ frames := 8, cells := 0, slots := 0, locals := 184 })).room s m ([.ref (ad 0 (0)), .int (iI (v))] : List Value).toArray below meth c s.heap [] 0 0 (MQ below (k2_QcV (.int (iI (cnC F N v)))) ([.ref (ad 0 (0)), .int (iI (v))] : List Value).toArray s 0 0 (fun _ => False)) (F0 m 196 ls []) := by
          intro fuel
          induction fuel with
          | zero => intro k hk hm; exact absurd hm (Nat.not_lt_zero _)
          | succ fuel ih196 =>
            intro k hk hm196 ls hl
            have hc0 := cntB_le (mkB (hsC N) N) k
            refine lv_iload_n hx hb dX1_count_196 rfl (lv_at hl 0 rfl) ?_
            refine lv_aload_n hx hb dX1_count_197 rfl (lv_at hl 2 rfl) ?_
            refine h_get hx hb hts in_X1 hown hK hW.c0 rfl 2 (by decide) (hts _ q423) rfl (v := .ref (ad 1 (2))) rfl dX1_count_198 ?_
            obtain ⟨mc23, cp23, cq23, cr23, hLi23⟩ := hW.l2
            refine rc_V (W.runV (As := []) (rest := [.int (iI (k))]) ⟨hx, hb, hml, hown, hts⟩ (al_size l D cA (ad 1 (2)) mc23 (ad 2 (2)) (F 4)) (cwV 0 hts (lw_V q448 q449 q450 q45 q451) rfl rfl rfl (by decide +kernel) ⟨Nat.le_of_ble_eq_true rfl, Nat.le_of_ble_eq_true rfl⟩) (preV hK hLi23.1 rfl hLi23.1) rfl rfl hl.1 rfl (lv_room (Nat.le_of_ble_eq_true rfl)) dX1_count_201 ⟨Nat.le_of_ble_eq_true rfl, Nat.le_of_ble_eq_true rfl⟩) ?_
            refine ri_icmp_ge (tgt := 230) hx hb (by unfold inR; omega) (by unfold inR; omega) dX1_count_204 (by decide) (fun h24 => ?_) (fun h24 => ?_)
            · skip
              refine lv_iload_n hx hb dX1_count_230 rfl (lv_at hl 1 rfl) ?_
              exact W.iret hx hb hr (fun t ht hWm => ⟨congrArg (fun z => Outcome.returned (some (Value.int (iI z)))) (by rw [show k = F 4 by omega]; unfold cnC; (repeat' split) <;> first | rfl | omega), ht⟩) (fun _ h => absurd h List.not_mem_nil) dX1_count_231
            · skip
              refine lv_iload_n hx hb dX1_count_207 rfl (lv_at hl 1 rfl) ?_
              refine lv_aload_n hx hb dX1_count_208 rfl (lv_at hl 2 rfl) ?_
              refine lv_iload_n hx hb dX1_count_209 rfl (lv_at hl 0 rfl) ?_
              refine rc_V (W.runV (As := [.int (iI (k))]) (rest := [.int (iI (cntB (mkB (hsC N) N) k))]) ⟨hx, hb, hml, hown, hts⟩ (cc_X1_like l D cA A sa ad F N Z E K hKb hF hN hZ hwf k (by omega)) (cwV 1 hts (lw_V q936 q938 qs15 q42 q939) rfl rfl rfl (by decide +kernel) ⟨Nat.le_of_ble_eq_true rfl, Nat.le_of_ble_eq_true rfl⟩) (preVC hK hSX hS hW.c0 rfl hW) rfl rfl hl.1 rfl (lv_room (Nat.le_of_ble_eq_true rfl)) dX1_count_210 ⟨Nat.le_of_ble_eq_true rfl, Nat.le_of_ble_eq_true rfl⟩) ?_
              by_cases h25 : N 25 (2 * k) = 1
              · refine ri_top (b := flB (hsC N) N k) (if_pos h25) ?_
                have b26 : flB (hsC N) N k ≤ k := flB_le _ _ _
                refine lv_iload_n hx hb dX1_count_213 rfl (lv_at hl 0 rfl) ?_
                refine ri_icmp_ne (tgt := 221) hx hb (by unfold inR; omega) (by unfold inR; omega) dX1_count_214 (by decide) (fun h27 => ?_) (fun h27 => ?_)
                · skip
                  refine lv_iconst (v := iI (0)) hx hb dX1_count_221 rfl ?_
                  refine ri_iadd hx hb dX1_count_222 ?_
                  refine ri_top (b := (cntB (mkB (hsC N) N) (k + 1) : Nat)) (cnt_0 (mk_no (by first | exact Or.inl (by unfold hsC; exact decide_eq_false (by assumption)) | exact Or.inr (by omega)))) ?_
                  refine lv_istore_n (lv' := [(2, .int (iI ((cntB (mkB (hsC N) N) (k + 1) : Nat)))), (3, .int (iI (k))), (0, .ref (ad 0 (0))), (1, .int (iI (v)))]) hx hb dX1_count_223 rfl hl (by decide) rfl (fun ls hl => ?_)
                  refine lv_iinc (v := iI ((k + 1 : Nat))) (lv' := [(3, .int (iI ((k + 1 : Nat)))), (2, .int (iI ((cntB (mkB (hsC N) N) (k + 1) : Nat)))), (0, .ref (ad 0 (0))), (1, .int (iI (v)))]) hx hb dX1_count_224 hl (k := 1) rfl (iI_succ _) (by decide) rfl (fun ls hl => ?_)
                  refine lv_goto (tgt := 196) hx hb dX1_count_227 (by decide) ?_
                  exact ih196 (k + 1) (by omega) (by omega) _ (lv_sub hl [0, 1, 2, 3] rfl)
                · skip
                  refine lv_iconst (v := iI (1)) hx hb dX1_count_217 rfl ?_
                  refine lv_goto (tgt := 222) hx hb dX1_count_218 (by decide) ?_
                  refine ri_iadd hx hb dX1_count_222 ?_
                  refine ri_top (b := (cntB (mkB (hsC N) N) (k + 1) : Nat)) (cnt_1 (mk_yes (by unfold hsC; exact decide_eq_true (by assumption)) (by omega))) ?_
                  refine lv_istore_n (lv' := [(2, .int (iI ((cntB (mkB (hsC N) N) (k + 1) : Nat)))), (3, .int (iI (k))), (0, .ref (ad 0 (0))), (1, .int (iI (v)))]) hx hb dX1_count_223 rfl hl (by decide) rfl (fun ls hl => ?_)
                  refine lv_iinc (v := iI ((k + 1 : Nat))) (lv' := [(3, .int (iI ((k + 1 : Nat)))), (2, .int (iI ((cntB (mkB (hsC N) N) (k + 1) : Nat)))), (0, .ref (ad 0 (0))), (1, .int (iI (v)))]) hx hb dX1_count_224 hl (k := 1) rfl (iI_succ _) (by decide) rfl (fun ls hl => ?_)
                  refine lv_goto (tgt := 196) hx hb dX1_count_227 (by decide) ?_
                  exact ih196 (k + 1) (by omega) (by omega) _ (lv_sub hl [0, 1, 2, 3] rfl)
              · refine ri_top (b := -1) (if_neg h25) ?_
                refine lv_iload_n hx hb dX1_count_213 rfl (lv_at hl 0 rfl) ?_
                refine ri_icmp_ne (tgt := 221) hx hb (by unfold inR; omega) (by unfold inR; omega) dX1_count_214 (by decide) (fun h28 => ?_) (fun h28 => ?_)
                · skip
                  refine lv_iconst (v := iI (0)) hx hb dX1_count_221 rfl ?_
                  refine ri_iadd hx hb dX1_count_222 ?_
                  refine ri_top (b := (cntB (mkB (hsC N) N) (k + 1) : Nat)) (cnt_0 (mk_no (by first | exact Or.inl (by unfold hsC; exact decide_eq_false (by assumption)) | exact Or.inr (by omega)))) ?_
                  refine lv_istore_n (lv' := [(2, .int (iI ((cntB (mkB (hsC N) N) (k + 1) : Nat)))), (3, .int (iI (k))), (0, .ref (ad 0 (0))), (1, .int (iI (v)))]) hx hb dX1_count_223 rfl hl (by decide) rfl (fun ls hl => ?_)
                  refine lv_iinc (v := iI ((k + 1 : Nat))) (lv' := [(3, .int (iI ((k + 1 : Nat)))), (2, .int (iI ((cntB (mkB (hsC N) N) (k + 1) : Nat)))), (0, .ref (ad 0 (0))), (1, .int (iI (v)))]) hx hb dX1_count_224 hl (k := 1) rfl (iI_succ _) (by decide) rfl (fun ls hl => ?_)
                  refine lv_goto (tgt := 196) hx hb dX1_count_227 (by decide) ?_
                  exact ih196 (k + 1) (by omega) (by omega) _ (lv_sub hl [0, 1, 2, 3] rfl)
                · skip
                  exfalso; omega
        exact lp196 _ (0) (Nat.zero_le _) (Nat.lt_succ_self _) _ (lv_sub hl [0, 1, 2, 3] rfl)

set_option maxHeartbeats 4000000 in
set_option maxRecDepth 100000 in
theorem cc_X1_share (l : Launch) (D : va_G) (cA : Nat → ClassId) (A : Nat → Prop) (sa : Nat → Nat) (ad : Nat → Nat → Nat) (F : Nat → Nat) (N : Nat → Nat → Nat) (Z : Nat → Int) (E : Nat → Nat → Int) (K : Nat) (hKb : K ≤ 1000000) (hF : FB F) (hN : NB N) (hZ : ZB K Z) (hwf : WF F N) (cv sum : Nat) (hc5 : cv < F 5) (hsum : sum ≤ 10000000) : Met l yX1_share (ws_ yX1_share cX1_share 12 (some .int)) ({ frames := 4, cells := 0, slots := 0, locals := 104 }) (PC D cA A sa ad F N Z E [.ref (ad 0 (0)), .int (iI (cv)), .int (iI (sum))]) (k2_QcV (.int (iI (shV F N cv sum)))) 0 0 (fun _ => False) := by
  refine Met.ofW (cc := cX1_share) (maxL := 12) (ret := (some .int)) (by decide) rfl ?_
  intro p e s m args below meth c s₁ B hml hv
  obtain ⟨rfl, hK, hW⟩ := hv
  have hx := B.exec
  have hb := B.bytes
  have hr := B.returns
  have hts := atoms_spec (ws := ws_ yX1_share cX1_share 12 (some .int)) B.pre
  have hts : ∀ w ∈ lw_all, w.before _ s = true := fun w h => hts w (List.mem_cons_of_mem _ h)
  have hown : s.vm.findClass RX1 = some m.cls := findClass_of_methodNamed B.named
  have hlocks := B.notSynchronized
  have hl := lv_entry ([.ref (ad 0 (0)), .int (iI (cv)), .int (iI (sum))]) (n := 12) (Nat.le_of_ble_eq_true rfl)
  rw [lg_entry_eq]
  generalize (lg_sl ([.ref (ad 0 (0)), .int (iI (cv)), .int (iI (sum))]) ++ List.replicate (12 - (lg_sl ([.ref (ad 0 (0)), .int (iI (cv)), .int (iI (sum))])).length) Slot.unset).toArray = ls at hl ⊢
  have hl : lv_has ls 12 [(0, .ref (ad 0 (0))), (1, .int (iI (cv))), (2, .int (iI (sum)))] := hl
  obtain ⟨hSX, hW⟩ := hW
  have hS : va_S A s.heap s.heap [] := va_S.rf
  have hF2 : F 2 ≤ 10 := hF 2
  have hF3 : F 3 ≤ 16 := hF 3
  have hF4 : F 4 ≤ 60 := hF 4
  have hF5 : F 5 ≤ 40 := hF 5
  have hF1 : F 1 ≤ 1439 := hF 1
  have hds := dsN_pos (F := F) (N := N) (by omega)
  have hds2 := dsN_le hF hN
  have hlft := left_le (F := F) (N := N) sum hds
  have hdc := mul_31 (b := dzN F N cv) hsum (dz_le hN cv)
  have hdzc := dz_le (F := F) hN cv
  have hodv := Nat.div_le_self (sum * dzN F N cv) (dsN F N)
  refine lv_iload_n hx hb dX1_share_0 rfl (lv_at hl 1 rfl) ?_
  refine ri_if_lt (tgt := 19) hx hb (by unfold inR; omega) dX1_share_1 (by decide) (fun h1 => ?_) (fun h1 => ?_)
  · skip
    exfalso; omega
  · skip
    refine lv_iload_n hx hb dX1_share_4 rfl (lv_at hl 1 rfl) ?_
    refine lv_aload_n hx hb dX1_share_5 rfl (lv_at hl 0 rfl) ?_
    refine h_get hx hb hts in_X1 hown hK hW.c0 rfl 3 (by decide) (hts _ q424) rfl (v := .ref (ad 1 (3))) rfl dX1_share_6 ?_
    obtain ⟨mc2, cp2, cq2, cr2, hLi2⟩ := hW.l3
    refine rc_V (W.runV (As := []) (rest := [.int (iI (cv))]) ⟨hx, hb, hml, hown, hts⟩ (al_size l D cA (ad 1 (3)) mc2 (ad 2 (3)) (F 5)) (cwV 0 hts (lw_V q448 q449 q450 q45 q451) rfl rfl rfl (by decide +kernel) ⟨Nat.le_of_ble_eq_true rfl, Nat.le_of_ble_eq_true rfl⟩) (preV hK hLi2.1 rfl hLi2.1) rfl rfl hl.1 rfl (lv_room (Nat.le_of_ble_eq_true rfl)) dX1_share_9 ⟨Nat.le_of_ble_eq_true rfl, Nat.le_of_ble_eq_true rfl⟩) ?_
    refine ri_icmp_ge (tgt := 19) hx hb (by unfold inR; omega) (by unfold inR; omega) dX1_share_12 (by decide) (fun h3 => ?_) (fun h3 => ?_)
    · skip
      exfalso; omega
    · skip
      refine lv_iconst (v := iI (1)) hx hb dX1_share_15 rfl ?_
      refine lv_goto (tgt := 20) hx hb dX1_share_16 (by decide) ?_
      refine rc_0 (W.runS (As := [.int (iI (1))]) (rest := []) ⟨hx, hb, hml, hown, hts⟩ (cc_X1_there l D cA  ) (va_cwS 1 hts (lw_S q779 q780 q42 q781) rfl rfl rfl (by decide +kernel) ⟨Nat.le_of_ble_eq_true rfl, Nat.le_of_ble_eq_true rfl⟩) (preS hK (B := fun _ => True) trivial) rfl rfl hl.1 rfl (lv_room (Nat.le_of_ble_eq_true rfl)) dX1_share_20 ⟨Nat.le_of_ble_eq_true rfl, Nat.le_of_ble_eq_true rfl⟩) ?_
      refine lv_iload_n hx hb dX1_share_23 rfl (lv_at hl 2 rfl) ?_
      refine ri_if_lt (tgt := 38) hx hb (by unfold inR; omega) dX1_share_24 (by decide) (fun h4 => ?_) (fun h4 => ?_)
      · skip
        exfalso; omega
      · skip
        refine lv_iload_n hx hb dX1_share_27 rfl (lv_at hl 2 rfl) ?_
        refine lv_ldcw (v := iI (10000000)) hx hb hown (show (Cond.constant RX1 275 (iI (10000000))).before _ s = true from hts _ q955) dX1_share_28 ?_
        refine ri_icmp_gt (tgt := 38) hx hb (by unfold inR; omega) (by unfold inR; omega) dX1_share_31 (by decide) (fun h5 => ?_) (fun h5 => ?_)
        · skip
          exfalso; omega
        · skip
          refine lv_iconst (v := iI (1)) hx hb dX1_share_34 rfl ?_
          refine lv_goto (tgt := 39) hx hb dX1_share_35 (by decide) ?_
          refine rc_0 (W.runS (As := [.int (iI (1))]) (rest := []) ⟨hx, hb, hml, hown, hts⟩ (cc_X1_right l D cA  ) (va_cwS 1 hts (lw_S q835 q836 q42 q837) rfl rfl rfl (by decide +kernel) ⟨Nat.le_of_ble_eq_true rfl, Nat.le_of_ble_eq_true rfl⟩) (preS hK (B := fun _ => True) trivial) rfl rfl hl.1 rfl (lv_room (Nat.le_of_ble_eq_true rfl)) dX1_share_39 ⟨Nat.le_of_ble_eq_true rfl, Nat.le_of_ble_eq_true rfl⟩) ?_
          refine lv_iconst (v := iI (0)) hx hb dX1_share_42 rfl ?_
          refine lv_istore_n (lv' := [(3, .int (iI (0))), (0, .ref (ad 0 (0))), (1, .int (iI (cv))), (2, .int (iI (sum)))]) hx hb dX1_share_43 rfl hl (by decide) rfl (fun ls hl => ?_)
          refine lv_iconst (v := iI (0)) hx hb dX1_share_44 rfl ?_
          refine lv_istore (lv' := [(4, .int (iI (0))), (3, .int (iI (0))), (0, .ref (ad 0 (0))), (1, .int (iI (cv))), (2, .int (iI (sum)))]) hx hb dX1_share_45 hl (by decide) rfl (fun ls hl => ?_)
          have lp47 : ∀ (fuel : Nat) (i : Nat) (hi : i ≤ F 5), F 5 - i < fuel → ∀ (ls : Array Slot), lv_has ls 12 [(4, .int (iI (i))), (3, .int (iI (smB (N 12) i))), (0, .ref (ad 0 (0))), (1, .int (iI (cv))), (2, .int (iI (sum)))] → W p l e (headSpec (ws_ yX1_share cX1_share 12 (some .int)) ({ frames := 4, cells := 0, slots := 0, locals := 104 })).room s m ([.ref (ad 0 (0)), .int (iI (cv)), .int (iI (sum))] : List Value).toArray below meth c s.heap [] 0 0 (MQ below (k2_QcV (.int (iI (shV F N cv sum)))) ([.ref (ad 0 (0)), .int (iI (cv)), .int (iI (sum))] : List Value).toArray s 0 0 (fun _ => False)) (F0 m 47 ls []) := by
            intro fuel
            induction fuel with
            | zero => intro i hi hm; exact absurd hm (Nat.not_lt_zero _)
            | succ fuel ih47 =>
              intro i hi hm47 ls hl
              have hs1 := smB_le (N 12) 31 (fun j => hN 12 j) i
              refine lv_iload hx hb dX1_share_47 (lv_at hl 0 rfl) ?_
              refine lv_aload_n hx hb dX1_share_49 rfl (lv_at hl 2 rfl) ?_
              refine h_get hx hb hts in_X1 hown hK hW.c0 rfl 3 (by decide) (hts _ q424) rfl (v := .ref (ad 1 (3))) rfl dX1_share_50 ?_
              obtain ⟨mc6, cp6, cq6, cr6, hLi6⟩ := hW.l3
              refine rc_V (W.runV (As := []) (rest := [.int (iI (i))]) ⟨hx, hb, hml, hown, hts⟩ (al_size l D cA (ad 1 (3)) mc6 (ad 2 (3)) (F 5)) (cwV 0 hts (lw_V q448 q449 q450 q45 q451) rfl rfl rfl (by decide +kernel) ⟨Nat.le_of_ble_eq_true rfl, Nat.le_of_ble_eq_true rfl⟩) (preV hK hLi6.1 rfl hLi6.1) rfl rfl hl.1 rfl (lv_room (Nat.le_of_ble_eq_true rfl)) dX1_share_53 ⟨Nat.le_of_ble_eq_true rfl, Nat.le_of_ble_eq_true rfl⟩) ?_
              refine ri_icmp_ge (tgt := 83) hx hb (by unfold inR; omega) (by unfold inR; omega) dX1_share_56 (by decide) (fun h7 => ?_) (fun h7 => ?_)
              · skip
                have hi5 : i = F 5 := by omega
                rw [hi5] at hl
                have hs1 := smB_le (N 12) 31 (fun j => hN 12 j) (F 5)
                have hz9 : ∀ j, j < F 5 → smB (N 12) (F 5) = 0 → N 12 j = 0 := fun j h1 h2 => smB_0 h2 j h1
                refine lv_iload_n hx hb dX1_share_83 rfl (lv_at hl 1 rfl) ?_
                refine ri_if_ne (tgt := 91) hx hb (by unfold inR; omega) dX1_share_84 (by decide) (fun h8 => ?_) (fun h8 => ?_)
                · skip
                  refine lv_iconst (v := iI (0)) hx hb dX1_share_91 rfl ?_
                  refine lv_istore (lv' := [(4, .int (iI (0))), (3, .int (iI (smB (N 12) (F 5)))), (0, .ref (ad 0 (0))), (1, .int (iI (cv))), (2, .int (iI (sum)))]) hx hb dX1_share_92 hl (by decide) rfl (fun ls hl => ?_)
                  refine lv_iload_n hx hb dX1_share_94 rfl (lv_at hl 1 rfl) ?_
                  refine ri_if_ne (tgt := 106) hx hb (by unfold inR; omega) dX1_share_95 (by decide) (fun h9 => ?_) (fun h9 => ?_)
                  · skip
                    have hl : lv_has ls 12 [(4, .int (iI (0))), (3, .int (iI ((dsN F N : Nat)))), (0, .ref (ad 0 (0))), (1, .int (iI (cv))), (2, .int (iI (sum)))] := by rw [show dsN F N = smB (N 12) (F 5) from by unfold dsN; first | rw [if_pos (by omega)] | rw [if_neg (by omega)]]; exact hl
                    refine lv_iload_n hx hb dX1_share_106 rfl (lv_at hl 4 rfl) ?_
                    refine lv_istore (lv' := [(5, .int (iI (sum))), (4, .int (iI (0))), (3, .int (iI ((dsN F N : Nat)))), (0, .ref (ad 0 (0))), (1, .int (iI (cv))), (2, .int (iI (sum)))]) hx hb dX1_share_107 hl (by decide) rfl (fun ls hl => ?_)
                    refine lv_iconst (v := iI (0)) hx hb dX1_share_109 rfl ?_
                    refine lv_istore (lv' := [(6, .int (iI (0))), (5, .int (iI (sum))), (4, .int (iI (0))), (3, .int (iI ((dsN F N : Nat)))), (0, .ref (ad 0 (0))), (1, .int (iI (cv))), (2, .int (iI (sum)))]) hx hb dX1_share_110 hl (by decide) rfl (fun ls hl => ?_)
                    have lp112 : ∀ (fuel : Nat) (i : Nat) (hi : i ≤ F 5), F 5 - i < fuel → ∀ (ls : Array Slot), lv_has ls 12 [(6, .int (iI (i))), (5, .int (iI ((sum : Int) - (smB (fun i => sum * dzN F N i / dsN F N) i : Nat)))), (4, .int (iI (0))), (3, .int (iI ((dsN F N : Nat)))), (0, .ref (ad 0 (0))), (1, .int (iI (cv))), (2, .int (iI (sum)))] → W p l e (headSpec (ws_ yX1_share cX1_share 12 (some .int)) ({ frames := 4, cells := 0, slots := 0, locals := 104 })).room s m ([.ref (ad 0 (0)), .int (iI (cv)), .int (iI (sum))] : List Value).toArray below meth c s.heap [] 0 0 (MQ below (k2_QcV (.int (iI (shV F N cv sum)))) ([.ref (ad 0 (0)), .int (iI (cv)), .int (iI (sum))] : List Value).toArray s 0 0 (fun _ => False)) (F0 m 112 ls []) := by
                      intro fuel
                      induction fuel with
                      | zero => intro i hi hm; exact absurd hm (Nat.not_lt_zero _)
                      | succ fuel ih112 =>
                        intro i hi hm112 ls hl
                        have hdzi := dz_le (F := F) hN i
                        have hd1 := mul_31 (b := dzN F N i) hsum (dz_le hN i)
                        refine lv_iload hx hb dX1_share_112 (lv_at hl 0 rfl) ?_
                        refine lv_aload_n hx hb dX1_share_114 rfl (lv_at hl 4 rfl) ?_
                        refine h_get hx hb hts in_X1 hown hK hW.c0 rfl 3 (by decide) (hts _ q424) rfl (v := .ref (ad 1 (3))) rfl dX1_share_115 ?_
                        obtain ⟨mc10, cp10, cq10, cr10, hLi10⟩ := hW.l3
                        refine rc_V (W.runV (As := []) (rest := [.int (iI (i))]) ⟨hx, hb, hml, hown, hts⟩ (al_size l D cA (ad 1 (3)) mc10 (ad 2 (3)) (F 5)) (cwV 0 hts (lw_V q448 q449 q450 q45 q451) rfl rfl rfl (by decide +kernel) ⟨Nat.le_of_ble_eq_true rfl, Nat.le_of_ble_eq_true rfl⟩) (preV hK hLi10.1 rfl hLi10.1) rfl rfl hl.1 rfl (lv_room (Nat.le_of_ble_eq_true rfl)) dX1_share_118 ⟨Nat.le_of_ble_eq_true rfl, Nat.le_of_ble_eq_true rfl⟩) ?_
                        refine ri_icmp_ge (tgt := 163) hx hb (by unfold inR; omega) (by unfold inR; omega) dX1_share_121 (by decide) (fun h11 => ?_) (fun h11 => ?_)
                        · skip
                          have hi5 : i = F 5 := by omega
                          rw [hi5] at hl
                          refine lv_iload_n hx hb dX1_share_163 rfl (lv_at hl 6 rfl) ?_
                          refine rl_i2l hx hb (sum) (by omega) (by omega) dX1_share_164 ?_
                          refine lv_iload hx hb dX1_share_165 (lv_at hl 2 rfl) ?_
                          refine lv_aload_n hx hb dX1_share_167 rfl (lv_at hl 4 rfl) ?_
                          refine h_get hx hb hts in_X1 hown hK hW.c0 rfl 3 (by decide) (hts _ q424) rfl (v := .ref (ad 1 (3))) rfl dX1_share_168 ?_
                          refine lv_iload_n hx hb dX1_share_171 rfl (lv_at hl 5 rfl) ?_
                          obtain ⟨mc12, cp12, cq12, cr12, hLi12⟩ := hW.l3
                          refine rc_V (W.runV (As := [.int (iI (cv))]) (rest := [.int (iI (0)), .long (lN (sum))]) ⟨hx, hb, hml, hown, hts⟩ (al_get l D cA (ad 1 (3)) mc12 (ad 2 (3)) (F 5) cp12 (fun j => sa (10 + (128 + N 12 j))) (cv) (by omega)) (cwV 1 hts (lw_V q565 q566 q567 q45 q568) rfl rfl rfl (by decide +kernel) ⟨Nat.le_of_ble_eq_true rfl, Nat.le_of_ble_eq_true rfl⟩) (preV hK hLi12.1 rfl hLi12) rfl rfl hl.1 rfl (lv_room (Nat.le_of_ble_eq_true rfl)) dX1_share_172 ⟨Nat.le_of_ble_eq_true rfl, Nat.le_of_ble_eq_true rfl⟩) ?_
                          have b13 : N 12 cv ≤ 31 := hN 12 _
                          refine h_cast (ci := 9) (q := (RJ17, TJ17, 1)) hx hb hown (hts _ q956) hK rfl (SX.isInt hK hSX hS (by omega)) dX1_share_175 ?_
                          refine rc_V (W.runV (As := []) (rest := [.int (iI (0)), .long (lN (sum))]) ⟨hx, hb, hml, hown, hts⟩ (in_intValue l D cA A sa (N 12 cv) (by omega)) (cwV 0 hts (lw_V q957 q958 q959 q61 q960) rfl rfl rfl (by decide +kernel) ⟨Nat.le_of_ble_eq_true rfl, Nat.le_of_ble_eq_true rfl⟩) ⟨Pq.blind (fun U g mk a h => h.blind), SX.recvI hK hSX hS (by omega), fun U hU hWm => ⟨rfl, hK.moved hWm, hSX.call hS hU hWm.alike⟩⟩ rfl rfl hl.1 rfl (lv_room (Nat.le_of_ble_eq_true rfl)) dX1_share_178 ⟨Nat.le_of_ble_eq_true rfl, Nat.le_of_ble_eq_true rfl⟩) ?_
                          refine ri_mmax hx hb hml hl.1 hown (hts _ q661) (hts _ q194) (hts _ q55) (hts _ q195) (by unfold inR; omega) (by unfold inR; omega) (Nat.le_of_ble_eq_true rfl) (Nat.le_of_ble_eq_true rfl) (Nat.le_of_ble_eq_true rfl) (Nat.le_of_ble_eq_true rfl) dX1_share_181 ?_
                          refine rl_i2l hx hb (dzN F N cv) (by have hz0 := hz9 cv (by omega); unfold dzN; split <;> split <;> omega) (by omega) dX1_share_184 ?_
                          refine rl_mul hx hb dX1_share_185 ?_
                          refine lv_lstore (lv' := [(6, .long (lN ((sum) * (dzN F N cv)))), (5, .int (iI ((sum : Int) - (smB (fun i => sum * dzN F N i / dsN F N) (F 5) : Nat)))), (4, .int (iI (0))), (3, .int (iI ((dsN F N : Nat)))), (0, .ref (ad 0 (0))), (1, .int (iI (cv))), (2, .int (iI (sum)))]) hx hb dX1_share_186 hl (by decide) rfl (fun ls hl => ?_)
                          refine lv_iconst (v := iI (0)) hx hb dX1_share_188 rfl ?_
                          refine lv_istore (lv' := [(8, .int (iI (0))), (6, .long (lN ((sum) * (dzN F N cv)))), (5, .int (iI ((sum : Int) - (smB (fun i => sum * dzN F N i / dsN F N) (F 5) : Nat)))), (4, .int (iI (0))), (3, .int (iI ((dsN F N : Nat)))), (0, .ref (ad 0 (0))), (1, .int (iI (cv))), (2, .int (iI (sum)))]) hx hb dX1_share_189 hl (by decide) rfl (fun ls hl => ?_)
                          refine lv_iconst (v := iI (0)) hx hb dX1_share_191 rfl ?_
                          refine lv_istore (lv' := [(9, .int (iI (0))), (8, .int (iI (0))), (6, .long (lN ((sum) * (dzN F N cv)))), (5, .int (iI ((sum : Int) - (smB (fun i => sum * dzN F N i / dsN F N) (F 5) : Nat)))), (4, .int (iI (0))), (3, .int (iI ((dsN F N : Nat)))), (0, .ref (ad 0 (0))), (1, .int (iI (cv))), (2, .int (iI (sum)))]) hx hb dX1_share_192 hl (by decide) rfl (fun ls hl => ?_)
                          have lp194 : ∀ (fuel : Nat) (i : Nat) (hi : i ≤ F 5), F 5 - i < fuel → ∀ (ls : Array Slot), lv_has ls 12 [(9, .int (iI (i))), (8, .int (iI (cntB (shP F N cv sum) i))), (6, .long (lN ((sum) * (dzN F N cv)))), (5, .int (iI ((sum : Int) - (smB (fun i => sum * dzN F N i / dsN F N) (F 5) : Nat)))), (4, .int (iI (0))), (3, .int (iI ((dsN F N : Nat)))), (0, .ref (ad 0 (0))), (1, .int (iI (cv))), (2, .int (iI (sum)))] → W p l e (headSpec (ws_ yX1_share cX1_share 12 (some .int)) ({ frames := 4, cells := 0, slots := 0, locals := 104 })).room s m ([.ref (ad 0 (0)), .int (iI (cv)), .int (iI (sum))] : List Value).toArray below meth c s.heap [] 0 0 (MQ below (k2_QcV (.int (iI (shV F N cv sum)))) ([.ref (ad 0 (0)), .int (iI (cv)), .int (iI (sum))] : List Value).toArray s 0 0 (fun _ => False)) (F0 m 194 ls []) := by
                            intro fuel
                            induction fuel with
                            | zero => intro i hi hm; exact absurd hm (Nat.not_lt_zero _)
                            | succ fuel ih194 =>
                              intro i hi hm194 ls hl
                              have hdzi := dz_le (F := F) hN i
                              have hd1 := mul_31 (b := dzN F N i) hsum (dz_le hN i)
                              have hc1 := cntB_le (shP F N cv sum) i
                              have hr1 := Nat.mod_lt (sum * dzN F N i) hds
                              have hr2 := Nat.mod_lt (sum * dzN F N cv) hds
                              refine lv_iload hx hb dX1_share_194 (lv_at hl 0 rfl) ?_
                              refine lv_aload_n hx hb dX1_share_196 rfl (lv_at hl 6 rfl) ?_
                              refine h_get hx hb hts in_X1 hown hK hW.c0 rfl 3 (by decide) (hts _ q424) rfl (v := .ref (ad 1 (3))) rfl dX1_share_197 ?_
                              obtain ⟨mc14, cp14, cq14, cr14, hLi14⟩ := hW.l3
                              refine rc_V (W.runV (As := []) (rest := [.int (iI (i))]) ⟨hx, hb, hml, hown, hts⟩ (al_size l D cA (ad 1 (3)) mc14 (ad 2 (3)) (F 5)) (cwV 0 hts (lw_V q448 q449 q450 q45 q451) rfl rfl rfl (by decide +kernel) ⟨Nat.le_of_ble_eq_true rfl, Nat.le_of_ble_eq_true rfl⟩) (preV hK hLi14.1 rfl hLi14.1) rfl rfl hl.1 rfl (lv_room (Nat.le_of_ble_eq_true rfl)) dX1_share_200 ⟨Nat.le_of_ble_eq_true rfl, Nat.le_of_ble_eq_true rfl⟩) ?_
                              refine ri_icmp_ge (tgt := 272) hx hb (by unfold inR; omega) (by unfold inR; omega) dX1_share_203 (by decide) (fun h15 => ?_) (fun h15 => ?_)
                              · skip
                                have hi6 : i = F 5 := by omega
                                rw [hi6] at hl
                                have hc2 := cntB_le (shP F N cv sum) (F 5)
                                refine lv_lload hx hb dX1_share_272 (lv_at hl 2 rfl) ?_
                                refine lv_iload_n hx hb dX1_share_274 rfl (lv_at hl 5 rfl) ?_
                                refine rl_i2l hx hb (dsN F N) (by omega) (by omega) dX1_share_275 ?_
                                refine rl_div hx hb (by omega) (by omega) (by omega) dX1_share_276 ?_
                                refine rl_l2i hx hb dX1_share_277 ?_
                                refine lv_iload hx hb dX1_share_278 (lv_at hl 1 rfl) ?_
                                refine lv_iload hx hb dX1_share_280 (lv_at hl 3 rfl) ?_
                                refine ri_icmp_ge (tgt := 289) hx hb (by unfold inR; omega) (by unfold inR; omega) dX1_share_282 (by decide) (fun h16 => ?_) (fun h16 => ?_)
                                · skip
                                  refine lv_iconst (v := iI (0)) hx hb dX1_share_289 rfl ?_
                                  refine ri_iadd hx hb dX1_share_290 ?_
                                  exact W.iret hx hb hr (fun t ht hWm => ⟨congrArg (fun z => Outcome.returned (some (Value.int (iI z)))) (by unfold shV; first | (rw [if_pos (by omega)]) | (rw [if_neg (by omega)])), ht⟩) (fun _ h => absurd h List.not_mem_nil) dX1_share_291
                                · skip
                                  refine lv_iconst (v := iI (1)) hx hb dX1_share_285 rfl ?_
                                  refine lv_goto (tgt := 290) hx hb dX1_share_286 (by decide) ?_
                                  refine ri_iadd hx hb dX1_share_290 ?_
                                  exact W.iret hx hb hr (fun t ht hWm => ⟨congrArg (fun z => Outcome.returned (some (Value.int (iI z)))) (by unfold shV; first | (rw [if_pos (by omega)]) | (rw [if_neg (by omega)])), ht⟩) (fun _ h => absurd h List.not_mem_nil) dX1_share_291
                              · skip
                                refine lv_iload_n hx hb dX1_share_206 rfl (lv_at hl 8 rfl) ?_
                                refine rl_i2l hx hb (sum) (by omega) (by omega) dX1_share_207 ?_
                                refine lv_iload hx hb dX1_share_208 (lv_at hl 4 rfl) ?_
                                refine lv_aload_n hx hb dX1_share_210 rfl (lv_at hl 6 rfl) ?_
                                refine h_get hx hb hts in_X1 hown hK hW.c0 rfl 3 (by decide) (hts _ q424) rfl (v := .ref (ad 1 (3))) rfl dX1_share_211 ?_
                                refine lv_iload hx hb dX1_share_214 (lv_at hl 0 rfl) ?_
                                obtain ⟨mc17, cp17, cq17, cr17, hLi17⟩ := hW.l3
                                refine rc_V (W.runV (As := [.int (iI (i))]) (rest := [.int (iI (0)), .long (lN (sum))]) ⟨hx, hb, hml, hown, hts⟩ (al_get l D cA (ad 1 (3)) mc17 (ad 2 (3)) (F 5) cp17 (fun j => sa (10 + (128 + N 12 j))) (i) (by omega)) (cwV 1 hts (lw_V q565 q566 q567 q45 q568) rfl rfl rfl (by decide +kernel) ⟨Nat.le_of_ble_eq_true rfl, Nat.le_of_ble_eq_true rfl⟩) (preV hK hLi17.1 rfl hLi17) rfl rfl hl.1 rfl (lv_room (Nat.le_of_ble_eq_true rfl)) dX1_share_216 ⟨Nat.le_of_ble_eq_true rfl, Nat.le_of_ble_eq_true rfl⟩) ?_
                                have b18 : N 12 i ≤ 31 := hN 12 _
                                refine h_cast (ci := 9) (q := (RJ17, TJ17, 1)) hx hb hown (hts _ q956) hK rfl (SX.isInt hK hSX hS (by omega)) dX1_share_219 ?_
                                refine rc_V (W.runV (As := []) (rest := [.int (iI (0)), .long (lN (sum))]) ⟨hx, hb, hml, hown, hts⟩ (in_intValue l D cA A sa (N 12 i) (by omega)) (cwV 0 hts (lw_V q957 q958 q959 q61 q960) rfl rfl rfl (by decide +kernel) ⟨Nat.le_of_ble_eq_true rfl, Nat.le_of_ble_eq_true rfl⟩) ⟨Pq.blind (fun U g mk a h => h.blind), SX.recvI hK hSX hS (by omega), fun U hU hWm => ⟨rfl, hK.moved hWm, hSX.call hS hU hWm.alike⟩⟩ rfl rfl hl.1 rfl (lv_room (Nat.le_of_ble_eq_true rfl)) dX1_share_222 ⟨Nat.le_of_ble_eq_true rfl, Nat.le_of_ble_eq_true rfl⟩) ?_
                                refine ri_mmax hx hb hml hl.1 hown (hts _ q661) (hts _ q194) (hts _ q55) (hts _ q195) (by unfold inR; omega) (by unfold inR; omega) (Nat.le_of_ble_eq_true rfl) (Nat.le_of_ble_eq_true rfl) (Nat.le_of_ble_eq_true rfl) (Nat.le_of_ble_eq_true rfl) dX1_share_225 ?_
                                refine rl_i2l hx hb (dzN F N i) (by have hz0 := hz9 i (by omega); unfold dzN; split <;> split <;> omega) (by omega) dX1_share_228 ?_
                                refine rl_mul hx hb dX1_share_229 ?_
                                refine lv_iload_n hx hb dX1_share_230 rfl (lv_at hl 5 rfl) ?_
                                refine rl_i2l hx hb (dsN F N) (by omega) (by omega) dX1_share_231 ?_
                                refine rl_rem hx hb (by omega) (by omega) (by omega) dX1_share_232 ?_
                                refine lv_lstore (lv' := [(10, .long (lN (((sum) * (dzN F N i)) % (dsN F N)))), (9, .int (iI (i))), (8, .int (iI (cntB (shP F N cv sum) i))), (6, .long (lN ((sum) * (dzN F N cv)))), (5, .int (iI ((sum : Int) - (smB (fun i => sum * dzN F N i / dsN F N) (F 5) : Nat)))), (4, .int (iI (0))), (3, .int (iI ((dsN F N : Nat)))), (0, .ref (ad 0 (0))), (1, .int (iI (cv))), (2, .int (iI (sum)))]) hx hb dX1_share_233 hl (by decide) rfl (fun ls hl => ?_)
                                refine lv_lload hx hb dX1_share_235 (lv_at hl 0 rfl) ?_
                                refine lv_lload hx hb dX1_share_237 (lv_at hl 3 rfl) ?_
                                refine lv_iload_n hx hb dX1_share_239 rfl (lv_at hl 6 rfl) ?_
                                refine rl_i2l hx hb (dsN F N) (by omega) (by omega) dX1_share_240 ?_
                                refine rl_rem hx hb (by omega) (by omega) (by omega) dX1_share_241 ?_
                                refine rl_cmp hx hb (by omega) (by omega) dX1_share_242 ?_
                                rcases Nat.lt_trichotomy ((((sum) * (dzN F N i)) % (dsN F N))) ((((sum) * (dzN F N cv)) % (dsN F N))) with h3 | h3 | h3
                                · refine ri_top (b := -1) (by rw [if_neg (by omega), if_neg (by omega)]) ?_
                                  refine ri_if_gt (tgt := 263) hx hb (by unfold inR; omega) dX1_share_243 (by decide) (fun h19 => ?_) (fun h19 => ?_)
                                  · skip
                                    exfalso; omega
                                  · skip
                                    refine lv_lload hx hb dX1_share_246 (lv_at hl 0 rfl) ?_
                                    refine lv_lload hx hb dX1_share_248 (lv_at hl 3 rfl) ?_
                                    refine lv_iload_n hx hb dX1_share_250 rfl (lv_at hl 6 rfl) ?_
                                    refine rl_i2l hx hb (dsN F N) (by omega) (by omega) dX1_share_251 ?_
                                    refine rl_rem hx hb (by omega) (by omega) (by omega) dX1_share_252 ?_
                                    refine rl_cmp hx hb (by omega) (by omega) dX1_share_253 ?_
                                    rcases Nat.lt_trichotomy ((((sum) * (dzN F N i)) % (dsN F N))) ((((sum) * (dzN F N cv)) % (dsN F N))) with h3 | h3 | h3
                                    · refine ri_top (b := -1) (by rw [if_neg (by omega), if_neg (by omega)]) ?_
                                      refine ri_if_ne (tgt := 266) hx hb (by unfold inR; omega) dX1_share_254 (by decide) (fun h20 => ?_) (fun h20 => ?_)
                                      · skip
                                        have hl : lv_has ls 12 [(10, .long (lN (((sum) * (dzN F N i)) % (dsN F N)))), (9, .int (iI (i))), (8, .int (iI ((cntB (shP F N cv sum) (i + 1) : Nat)))), (6, .long (lN ((sum) * (dzN F N cv)))), (5, .int (iI ((sum : Int) - (smB (fun i => sum * dzN F N i / dsN F N) (F 5) : Nat)))), (4, .int (iI (0))), (3, .int (iI ((dsN F N : Nat)))), (0, .ref (ad 0 (0))), (1, .int (iI (cv))), (2, .int (iI (sum)))] := by rw [← cnt_e (shP_no (by omega))]; exact hl
                                        refine lv_iinc (v := iI ((i + 1 : Nat))) (lv' := [(9, .int (iI ((i + 1 : Nat)))), (10, .long (lN (((sum) * (dzN F N i)) % (dsN F N)))), (8, .int (iI ((cntB (shP F N cv sum) (i + 1) : Nat)))), (6, .long (lN ((sum) * (dzN F N cv)))), (5, .int (iI ((sum : Int) - (smB (fun i => sum * dzN F N i / dsN F N) (F 5) : Nat)))), (4, .int (iI (0))), (3, .int (iI ((dsN F N : Nat)))), (0, .ref (ad 0 (0))), (1, .int (iI (cv))), (2, .int (iI (sum)))]) hx hb dX1_share_266 hl (k := 1) rfl (iI_succ _) (by decide) rfl (fun ls hl => ?_)
                                        refine lv_goto (tgt := 194) hx hb dX1_share_269 (by decide) ?_
                                        exact ih194 (i + 1) (by omega) (by omega) _ (lv_sub hl [0, 2, 3, 4, 5, 6, 7, 8, 9] rfl)
                                      · skip
                                        exfalso; omega
                                    · refine ri_top (b := 0) (by rw [if_neg (by omega), if_pos (by omega)]) ?_
                                      refine ri_if_ne (tgt := 266) hx hb (by unfold inR; omega) dX1_share_254 (by decide) (fun h21 => ?_) (fun h21 => ?_)
                                      · skip
                                        exfalso; omega
                                      · skip
                                        refine lv_iload hx hb dX1_share_257 (lv_at hl 1 rfl) ?_
                                        refine lv_iload_n hx hb dX1_share_259 rfl (lv_at hl 8 rfl) ?_
                                        refine ri_icmp_ge (tgt := 266) hx hb (by unfold inR; omega) (by unfold inR; omega) dX1_share_260 (by decide) (fun h22 => ?_) (fun h22 => ?_)
                                        · skip
                                          have hl : lv_has ls 12 [(10, .long (lN (((sum) * (dzN F N i)) % (dsN F N)))), (9, .int (iI (i))), (8, .int (iI ((cntB (shP F N cv sum) (i + 1) : Nat)))), (6, .long (lN ((sum) * (dzN F N cv)))), (5, .int (iI ((sum : Int) - (smB (fun i => sum * dzN F N i / dsN F N) (F 5) : Nat)))), (4, .int (iI (0))), (3, .int (iI ((dsN F N : Nat)))), (0, .ref (ad 0 (0))), (1, .int (iI (cv))), (2, .int (iI (sum)))] := by rw [← cnt_e (shP_no (by omega))]; exact hl
                                          refine lv_iinc (v := iI ((i + 1 : Nat))) (lv' := [(9, .int (iI ((i + 1 : Nat)))), (10, .long (lN (((sum) * (dzN F N i)) % (dsN F N)))), (8, .int (iI ((cntB (shP F N cv sum) (i + 1) : Nat)))), (6, .long (lN ((sum) * (dzN F N cv)))), (5, .int (iI ((sum : Int) - (smB (fun i => sum * dzN F N i / dsN F N) (F 5) : Nat)))), (4, .int (iI (0))), (3, .int (iI ((dsN F N : Nat)))), (0, .ref (ad 0 (0))), (1, .int (iI (cv))), (2, .int (iI (sum)))]) hx hb dX1_share_266 hl (k := 1) rfl (iI_succ _) (by decide) rfl (fun ls hl => ?_)
                                          refine lv_goto (tgt := 194) hx hb dX1_share_269 (by decide) ?_
                                          exact ih194 (i + 1) (by omega) (by omega) _ (lv_sub hl [0, 2, 3, 4, 5, 6, 7, 8, 9] rfl)
                                        · skip
                                          refine lv_iinc (v := iI ((cntB (shP F N cv sum) (i + 1) : Nat))) (lv' := [(8, .int (iI ((cntB (shP F N cv sum) (i + 1) : Nat)))), (10, .long (lN (((sum) * (dzN F N i)) % (dsN F N)))), (9, .int (iI (i))), (6, .long (lN ((sum) * (dzN F N cv)))), (5, .int (iI ((sum : Int) - (smB (fun i => sum * dzN F N i / dsN F N) (F 5) : Nat)))), (4, .int (iI (0))), (3, .int (iI ((dsN F N : Nat)))), (0, .ref (ad 0 (0))), (1, .int (iI (cv))), (2, .int (iI (sum)))]) hx hb dX1_share_263 hl (k := 2) rfl (by rw [← cnt_1 (shP_yes (by omega))]; exact iI_add _ _) (by decide) rfl (fun ls hl => ?_)
                                          refine lv_iinc (v := iI ((i + 1 : Nat))) (lv' := [(9, .int (iI ((i + 1 : Nat)))), (8, .int (iI ((cntB (shP F N cv sum) (i + 1) : Nat)))), (10, .long (lN (((sum) * (dzN F N i)) % (dsN F N)))), (6, .long (lN ((sum) * (dzN F N cv)))), (5, .int (iI ((sum : Int) - (smB (fun i => sum * dzN F N i / dsN F N) (F 5) : Nat)))), (4, .int (iI (0))), (3, .int (iI ((dsN F N : Nat)))), (0, .ref (ad 0 (0))), (1, .int (iI (cv))), (2, .int (iI (sum)))]) hx hb dX1_share_266 hl (k := 2) rfl (iI_succ _) (by decide) rfl (fun ls hl => ?_)
                                          refine lv_goto (tgt := 194) hx hb dX1_share_269 (by decide) ?_
                                          exact ih194 (i + 1) (by omega) (by omega) _ (lv_sub hl [0, 1, 3, 4, 5, 6, 7, 8, 9] rfl)
                                    · refine ri_top (b := 1) (if_pos h3) ?_
                                      refine ri_if_ne (tgt := 266) hx hb (by unfold inR; omega) dX1_share_254 (by decide) (fun h23 => ?_) (fun h23 => ?_)
                                      · skip
                                        have hl : lv_has ls 12 [(10, .long (lN (((sum) * (dzN F N i)) % (dsN F N)))), (9, .int (iI (i))), (8, .int (iI ((cntB (shP F N cv sum) (i + 1) : Nat)))), (6, .long (lN ((sum) * (dzN F N cv)))), (5, .int (iI ((sum : Int) - (smB (fun i => sum * dzN F N i / dsN F N) (F 5) : Nat)))), (4, .int (iI (0))), (3, .int (iI ((dsN F N : Nat)))), (0, .ref (ad 0 (0))), (1, .int (iI (cv))), (2, .int (iI (sum)))] := by rw [← cnt_e (shP_no (by omega))]; exact hl
                                        refine lv_iinc (v := iI ((i + 1 : Nat))) (lv' := [(9, .int (iI ((i + 1 : Nat)))), (10, .long (lN (((sum) * (dzN F N i)) % (dsN F N)))), (8, .int (iI ((cntB (shP F N cv sum) (i + 1) : Nat)))), (6, .long (lN ((sum) * (dzN F N cv)))), (5, .int (iI ((sum : Int) - (smB (fun i => sum * dzN F N i / dsN F N) (F 5) : Nat)))), (4, .int (iI (0))), (3, .int (iI ((dsN F N : Nat)))), (0, .ref (ad 0 (0))), (1, .int (iI (cv))), (2, .int (iI (sum)))]) hx hb dX1_share_266 hl (k := 1) rfl (iI_succ _) (by decide) rfl (fun ls hl => ?_)
                                        refine lv_goto (tgt := 194) hx hb dX1_share_269 (by decide) ?_
                                        exact ih194 (i + 1) (by omega) (by omega) _ (lv_sub hl [0, 2, 3, 4, 5, 6, 7, 8, 9] rfl)
                                      · skip
                                        exfalso; omega
                                · refine ri_top (b := 0) (by rw [if_neg (by omega), if_pos (by omega)]) ?_
                                  refine ri_if_gt (tgt := 263) hx hb (by unfold inR; omega) dX1_share_243 (by decide) (fun h24 => ?_) (fun h24 => ?_)
                                  · skip
                                    exfalso; omega
                                  · skip
                                    refine lv_lload hx hb dX1_share_246 (lv_at hl 0 rfl) ?_
                                    refine lv_lload hx hb dX1_share_248 (lv_at hl 3 rfl) ?_
                                    refine lv_iload_n hx hb dX1_share_250 rfl (lv_at hl 6 rfl) ?_
                                    refine rl_i2l hx hb (dsN F N) (by omega) (by omega) dX1_share_251 ?_
                                    refine rl_rem hx hb (by omega) (by omega) (by omega) dX1_share_252 ?_
                                    refine rl_cmp hx hb (by omega) (by omega) dX1_share_253 ?_
                                    rcases Nat.lt_trichotomy ((((sum) * (dzN F N i)) % (dsN F N))) ((((sum) * (dzN F N cv)) % (dsN F N))) with h3 | h3 | h3
                                    · refine ri_top (b := -1) (by rw [if_neg (by omega), if_neg (by omega)]) ?_
                                      refine ri_if_ne (tgt := 266) hx hb (by unfold inR; omega) dX1_share_254 (by decide) (fun h25 => ?_) (fun h25 => ?_)
                                      · skip
                                        have hl : lv_has ls 12 [(10, .long (lN (((sum) * (dzN F N i)) % (dsN F N)))), (9, .int (iI (i))), (8, .int (iI ((cntB (shP F N cv sum) (i + 1) : Nat)))), (6, .long (lN ((sum) * (dzN F N cv)))), (5, .int (iI ((sum : Int) - (smB (fun i => sum * dzN F N i / dsN F N) (F 5) : Nat)))), (4, .int (iI (0))), (3, .int (iI ((dsN F N : Nat)))), (0, .ref (ad 0 (0))), (1, .int (iI (cv))), (2, .int (iI (sum)))] := by rw [← cnt_e (shP_no (by omega))]; exact hl
                                        refine lv_iinc (v := iI ((i + 1 : Nat))) (lv' := [(9, .int (iI ((i + 1 : Nat)))), (10, .long (lN (((sum) * (dzN F N i)) % (dsN F N)))), (8, .int (iI ((cntB (shP F N cv sum) (i + 1) : Nat)))), (6, .long (lN ((sum) * (dzN F N cv)))), (5, .int (iI ((sum : Int) - (smB (fun i => sum * dzN F N i / dsN F N) (F 5) : Nat)))), (4, .int (iI (0))), (3, .int (iI ((dsN F N : Nat)))), (0, .ref (ad 0 (0))), (1, .int (iI (cv))), (2, .int (iI (sum)))]) hx hb dX1_share_266 hl (k := 1) rfl (iI_succ _) (by decide) rfl (fun ls hl => ?_)
                                        refine lv_goto (tgt := 194) hx hb dX1_share_269 (by decide) ?_
                                        exact ih194 (i + 1) (by omega) (by omega) _ (lv_sub hl [0, 2, 3, 4, 5, 6, 7, 8, 9] rfl)
                                      · skip
                                        exfalso; omega
                                    · refine ri_top (b := 0) (by rw [if_neg (by omega), if_pos (by omega)]) ?_
                                      refine ri_if_ne (tgt := 266) hx hb (by unfold inR; omega) dX1_share_254 (by decide) (fun h26 => ?_) (fun h26 => ?_)
                                      · skip
                                        exfalso; omega
                                      · skip
                                        refine lv_iload hx hb dX1_share_257 (lv_at hl 1 rfl) ?_
                                        refine lv_iload_n hx hb dX1_share_259 rfl (lv_at hl 8 rfl) ?_
                                        refine ri_icmp_ge (tgt := 266) hx hb (by unfold inR; omega) (by unfold inR; omega) dX1_share_260 (by decide) (fun h27 => ?_) (fun h27 => ?_)
                                        · skip
                                          have hl : lv_has ls 12 [(10, .long (lN (((sum) * (dzN F N i)) % (dsN F N)))), (9, .int (iI (i))), (8, .int (iI ((cntB (shP F N cv sum) (i + 1) : Nat)))), (6, .long (lN ((sum) * (dzN F N cv)))), (5, .int (iI ((sum : Int) - (smB (fun i => sum * dzN F N i / dsN F N) (F 5) : Nat)))), (4, .int (iI (0))), (3, .int (iI ((dsN F N : Nat)))), (0, .ref (ad 0 (0))), (1, .int (iI (cv))), (2, .int (iI (sum)))] := by rw [← cnt_e (shP_no (by omega))]; exact hl
                                          refine lv_iinc (v := iI ((i + 1 : Nat))) (lv' := [(9, .int (iI ((i + 1 : Nat)))), (10, .long (lN (((sum) * (dzN F N i)) % (dsN F N)))), (8, .int (iI ((cntB (shP F N cv sum) (i + 1) : Nat)))), (6, .long (lN ((sum) * (dzN F N cv)))), (5, .int (iI ((sum : Int) - (smB (fun i => sum * dzN F N i / dsN F N) (F 5) : Nat)))), (4, .int (iI (0))), (3, .int (iI ((dsN F N : Nat)))), (0, .ref (ad 0 (0))), (1, .int (iI (cv))), (2, .int (iI (sum)))]) hx hb dX1_share_266 hl (k := 1) rfl (iI_succ _) (by decide) rfl (fun ls hl => ?_)
                                          refine lv_goto (tgt := 194) hx hb dX1_share_269 (by decide) ?_
                                          exact ih194 (i + 1) (by omega) (by omega) _ (lv_sub hl [0, 2, 3, 4, 5, 6, 7, 8, 9] rfl)
                                        · skip
                                          refine lv_iinc (v := iI ((cntB (shP F N cv sum) (i + 1) : Nat))) (lv' := [(8, .int (iI ((cntB (shP F N cv sum) (i + 1) : Nat)))), (10, .long (lN (((sum) * (dzN F N i)) % (dsN F N)))), (9, .int (iI (i))), (6, .long (lN ((sum) * (dzN F N cv)))), (5, .int (iI ((sum : Int) - (smB (fun i => sum * dzN F N i / dsN F N) (F 5) : Nat)))), (4, .int (iI (0))), (3, .int (iI ((dsN F N : Nat)))), (0, .ref (ad 0 (0))), (1, .int (iI (cv))), (2, .int (iI (sum)))]) hx hb dX1_share_263 hl (k := 2) rfl (by rw [← cnt_1 (shP_yes (by omega))]; exact iI_add _ _) (by decide) rfl (fun ls hl => ?_)
                                          refine lv_iinc (v := iI ((i + 1 : Nat))) (lv' := [(9, .int (iI ((i + 1 : Nat)))), (8, .int (iI ((cntB (shP F N cv sum) (i + 1) : Nat)))), (10, .long (lN (((sum) * (dzN F N i)) % (dsN F N)))), (6, .long (lN ((sum) * (dzN F N cv)))), (5, .int (iI ((sum : Int) - (smB (fun i => sum * dzN F N i / dsN F N) (F 5) : Nat)))), (4, .int (iI (0))), (3, .int (iI ((dsN F N : Nat)))), (0, .ref (ad 0 (0))), (1, .int (iI (cv))), (2, .int (iI (sum)))]) hx hb dX1_share_266 hl (k := 2) rfl (iI_succ _) (by decide) rfl (fun ls hl => ?_)
                                          refine lv_goto (tgt := 194) hx hb dX1_share_269 (by decide) ?_
                                          exact ih194 (i + 1) (by omega) (by omega) _ (lv_sub hl [0, 1, 3, 4, 5, 6, 7, 8, 9] rfl)
                                    · refine ri_top (b := 1) (if_pos h3) ?_
                                      refine ri_if_ne (tgt := 266) hx hb (by unfold inR; omega) dX1_share_254 (by decide) (fun h28 => ?_) (fun h28 => ?_)
                                      · skip
                                        have hl : lv_has ls 12 [(10, .long (lN (((sum) * (dzN F N i)) % (dsN F N)))), (9, .int (iI (i))), (8, .int (iI ((cntB (shP F N cv sum) (i + 1) : Nat)))), (6, .long (lN ((sum) * (dzN F N cv)))), (5, .int (iI ((sum : Int) - (smB (fun i => sum * dzN F N i / dsN F N) (F 5) : Nat)))), (4, .int (iI (0))), (3, .int (iI ((dsN F N : Nat)))), (0, .ref (ad 0 (0))), (1, .int (iI (cv))), (2, .int (iI (sum)))] := by rw [← cnt_e (shP_no (by omega))]; exact hl
                                        refine lv_iinc (v := iI ((i + 1 : Nat))) (lv' := [(9, .int (iI ((i + 1 : Nat)))), (10, .long (lN (((sum) * (dzN F N i)) % (dsN F N)))), (8, .int (iI ((cntB (shP F N cv sum) (i + 1) : Nat)))), (6, .long (lN ((sum) * (dzN F N cv)))), (5, .int (iI ((sum : Int) - (smB (fun i => sum * dzN F N i / dsN F N) (F 5) : Nat)))), (4, .int (iI (0))), (3, .int (iI ((dsN F N : Nat)))), (0, .ref (ad 0 (0))), (1, .int (iI (cv))), (2, .int (iI (sum)))]) hx hb dX1_share_266 hl (k := 1) rfl (iI_succ _) (by decide) rfl (fun ls hl => ?_)
                                        refine lv_goto (tgt := 194) hx hb dX1_share_269 (by decide) ?_
                                        exact ih194 (i + 1) (by omega) (by omega) _ (lv_sub hl [0, 2, 3, 4, 5, 6, 7, 8, 9] rfl)
                                      · skip
                                        exfalso; omega
                                · refine ri_top (b := 1) (if_pos h3) ?_
                                  refine ri_if_gt (tgt := 263) hx hb (by unfold inR; omega) dX1_share_243 (by decide) (fun h29 => ?_) (fun h29 => ?_)
                                  · skip
                                    refine lv_iinc (v := iI ((cntB (shP F N cv sum) (i + 1) : Nat))) (lv' := [(8, .int (iI ((cntB (shP F N cv sum) (i + 1) : Nat)))), (10, .long (lN (((sum) * (dzN F N i)) % (dsN F N)))), (9, .int (iI (i))), (6, .long (lN ((sum) * (dzN F N cv)))), (5, .int (iI ((sum : Int) - (smB (fun i => sum * dzN F N i / dsN F N) (F 5) : Nat)))), (4, .int (iI (0))), (3, .int (iI ((dsN F N : Nat)))), (0, .ref (ad 0 (0))), (1, .int (iI (cv))), (2, .int (iI (sum)))]) hx hb dX1_share_263 hl (k := 2) rfl (by rw [← cnt_1 (shP_yes (by omega))]; exact iI_add _ _) (by decide) rfl (fun ls hl => ?_)
                                    refine lv_iinc (v := iI ((i + 1 : Nat))) (lv' := [(9, .int (iI ((i + 1 : Nat)))), (8, .int (iI ((cntB (shP F N cv sum) (i + 1) : Nat)))), (10, .long (lN (((sum) * (dzN F N i)) % (dsN F N)))), (6, .long (lN ((sum) * (dzN F N cv)))), (5, .int (iI ((sum : Int) - (smB (fun i => sum * dzN F N i / dsN F N) (F 5) : Nat)))), (4, .int (iI (0))), (3, .int (iI ((dsN F N : Nat)))), (0, .ref (ad 0 (0))), (1, .int (iI (cv))), (2, .int (iI (sum)))]) hx hb dX1_share_266 hl (k := 2) rfl (iI_succ _) (by decide) rfl (fun ls hl => ?_)
                                    refine lv_goto (tgt := 194) hx hb dX1_share_269 (by decide) ?_
                                    exact ih194 (i + 1) (by omega) (by omega) _ (lv_sub hl [0, 1, 3, 4, 5, 6, 7, 8, 9] rfl)
                                  · skip
                                    exfalso; omega
                          exact lp194 _ (0) (Nat.zero_le _) (Nat.lt_succ_self _) _ (lv_sub hl [0, 1, 2, 3, 4, 5, 6, 7, 8] rfl)
                        · skip
                          refine lv_iload hx hb dX1_share_124 (lv_at hl 1 rfl) ?_
                          refine lv_iload_n hx hb dX1_share_126 rfl (lv_at hl 6 rfl) ?_
                          refine rl_i2l hx hb (sum) (by omega) (by omega) dX1_share_127 ?_
                          refine lv_iload hx hb dX1_share_128 (lv_at hl 2 rfl) ?_
                          refine lv_aload_n hx hb dX1_share_130 rfl (lv_at hl 4 rfl) ?_
                          refine h_get hx hb hts in_X1 hown hK hW.c0 rfl 3 (by decide) (hts _ q424) rfl (v := .ref (ad 1 (3))) rfl dX1_share_131 ?_
                          refine lv_iload hx hb dX1_share_134 (lv_at hl 0 rfl) ?_
                          obtain ⟨mc30, cp30, cq30, cr30, hLi30⟩ := hW.l3
                          refine rc_V (W.runV (As := [.int (iI (i))]) (rest := [.int (iI (0)), .long (lN (sum)), .int (iI ((sum : Int) - (smB (fun i => sum * dzN F N i / dsN F N) i : Nat)))]) ⟨hx, hb, hml, hown, hts⟩ (al_get l D cA (ad 1 (3)) mc30 (ad 2 (3)) (F 5) cp30 (fun j => sa (10 + (128 + N 12 j))) (i) (by omega)) (cwV 1 hts (lw_V q565 q566 q567 q45 q568) rfl rfl rfl (by decide +kernel) ⟨Nat.le_of_ble_eq_true rfl, Nat.le_of_ble_eq_true rfl⟩) (preV hK hLi30.1 rfl hLi30) rfl rfl hl.1 rfl (lv_room (Nat.le_of_ble_eq_true rfl)) dX1_share_136 ⟨Nat.le_of_ble_eq_true rfl, Nat.le_of_ble_eq_true rfl⟩) ?_
                          have b31 : N 12 i ≤ 31 := hN 12 _
                          refine h_cast (ci := 9) (q := (RJ17, TJ17, 1)) hx hb hown (hts _ q956) hK rfl (SX.isInt hK hSX hS (by omega)) dX1_share_139 ?_
                          refine rc_V (W.runV (As := []) (rest := [.int (iI (0)), .long (lN (sum)), .int (iI ((sum : Int) - (smB (fun i => sum * dzN F N i / dsN F N) i : Nat)))]) ⟨hx, hb, hml, hown, hts⟩ (in_intValue l D cA A sa (N 12 i) (by omega)) (cwV 0 hts (lw_V q957 q958 q959 q61 q960) rfl rfl rfl (by decide +kernel) ⟨Nat.le_of_ble_eq_true rfl, Nat.le_of_ble_eq_true rfl⟩) ⟨Pq.blind (fun U g mk a h => h.blind), SX.recvI hK hSX hS (by omega), fun U hU hWm => ⟨rfl, hK.moved hWm, hSX.call hS hU hWm.alike⟩⟩ rfl rfl hl.1 rfl (lv_room (Nat.le_of_ble_eq_true rfl)) dX1_share_142 ⟨Nat.le_of_ble_eq_true rfl, Nat.le_of_ble_eq_true rfl⟩) ?_
                          refine ri_mmax hx hb hml hl.1 hown (hts _ q661) (hts _ q194) (hts _ q55) (hts _ q195) (by unfold inR; omega) (by unfold inR; omega) (Nat.le_of_ble_eq_true rfl) (Nat.le_of_ble_eq_true rfl) (Nat.le_of_ble_eq_true rfl) (Nat.le_of_ble_eq_true rfl) dX1_share_145 ?_
                          refine rl_i2l hx hb (dzN F N i) (by have hz0 := hz9 i (by omega); unfold dzN; split <;> split <;> omega) (by omega) dX1_share_148 ?_
                          refine rl_mul hx hb dX1_share_149 ?_
                          refine lv_iload_n hx hb dX1_share_150 rfl (lv_at hl 3 rfl) ?_
                          refine rl_i2l hx hb (dsN F N) (by omega) (by omega) dX1_share_151 ?_
                          refine rl_div hx hb (by omega) (by omega) (by omega) dX1_share_152 ?_
                          refine rl_l2i hx hb dX1_share_153 ?_
                          refine ri_isub hx hb dX1_share_154 ?_
                          refine ri_top (b := (sum : Int) - (smB (fun i => sum * dzN F N i / dsN F N) (i + 1) : Nat)) (by rw [smB]; omega) ?_
                          refine lv_istore (lv' := [(5, .int (iI ((sum : Int) - (smB (fun i => sum * dzN F N i / dsN F N) (i + 1) : Nat)))), (6, .int (iI (i))), (4, .int (iI (0))), (3, .int (iI ((dsN F N : Nat)))), (0, .ref (ad 0 (0))), (1, .int (iI (cv))), (2, .int (iI (sum)))]) hx hb dX1_share_155 hl (by decide) rfl (fun ls hl => ?_)
                          refine lv_iinc (v := iI ((i + 1 : Nat))) (lv' := [(6, .int (iI ((i + 1 : Nat)))), (5, .int (iI ((sum : Int) - (smB (fun i => sum * dzN F N i / dsN F N) (i + 1) : Nat)))), (4, .int (iI (0))), (3, .int (iI ((dsN F N : Nat)))), (0, .ref (ad 0 (0))), (1, .int (iI (cv))), (2, .int (iI (sum)))]) hx hb dX1_share_157 hl (k := 1) rfl (iI_succ _) (by decide) rfl (fun ls hl => ?_)
                          refine lv_goto (tgt := 112) hx hb dX1_share_160 (by decide) ?_
                          exact ih112 (i + 1) (by omega) (by omega) _ (lv_sub hl [0, 1, 2, 3, 4, 5, 6] rfl)
                    have hl : lv_has ls 12 [(6, .int (iI (0))), (5, .int (iI ((sum : Int) - (smB (fun i => sum * dzN F N i / dsN F N) 0 : Nat)))), (4, .int (iI (0))), (3, .int (iI ((dsN F N : Nat)))), (0, .ref (ad 0 (0))), (1, .int (iI (cv))), (2, .int (iI (sum)))] := by rw [show ((sum : Int) - (smB (fun i => sum * dzN F N i / dsN F N) 0 : Nat)) = sum from by simp [smB]]; exact hl
                    exact lp112 _ (0) (Nat.zero_le _) (Nat.lt_succ_self _) _ (lv_sub hl [0, 1, 2, 3, 4, 5, 6] rfl)
                  · skip
                    exfalso; omega
                · skip
                  refine lv_iconst (v := iI (1)) hx hb dX1_share_87 rfl ?_
                  refine lv_goto (tgt := 92) hx hb dX1_share_88 (by decide) ?_
                  refine lv_istore (lv' := [(4, .int (iI (1))), (3, .int (iI (smB (N 12) (F 5)))), (0, .ref (ad 0 (0))), (1, .int (iI (cv))), (2, .int (iI (sum)))]) hx hb dX1_share_92 hl (by decide) rfl (fun ls hl => ?_)
                  refine lv_iload_n hx hb dX1_share_94 rfl (lv_at hl 1 rfl) ?_
                  refine ri_if_ne (tgt := 106) hx hb (by unfold inR; omega) dX1_share_95 (by decide) (fun h32 => ?_) (fun h32 => ?_)
                  · skip
                    exfalso; omega
                  · skip
                    refine lv_aload_n hx hb dX1_share_98 rfl (lv_at hl 2 rfl) ?_
                    refine h_get hx hb hts in_X1 hown hK hW.c0 rfl 3 (by decide) (hts _ q424) rfl (v := .ref (ad 1 (3))) rfl dX1_share_99 ?_
                    obtain ⟨mc33, cp33, cq33, cr33, hLi33⟩ := hW.l3
                    refine rc_V (W.runV (As := []) (rest := []) ⟨hx, hb, hml, hown, hts⟩ (al_size l D cA (ad 1 (3)) mc33 (ad 2 (3)) (F 5)) (cwV 0 hts (lw_V q448 q449 q450 q45 q451) rfl rfl rfl (by decide +kernel) ⟨Nat.le_of_ble_eq_true rfl, Nat.le_of_ble_eq_true rfl⟩) (preV hK hLi33.1 rfl hLi33.1) rfl rfl hl.1 rfl (lv_room (Nat.le_of_ble_eq_true rfl)) dX1_share_102 ⟨Nat.le_of_ble_eq_true rfl, Nat.le_of_ble_eq_true rfl⟩) ?_
                    refine lv_istore_n (lv' := [(3, .int (iI (F 5))), (4, .int (iI (1))), (0, .ref (ad 0 (0))), (1, .int (iI (cv))), (2, .int (iI (sum)))]) hx hb dX1_share_105 rfl hl (by decide) rfl (fun ls hl => ?_)
                    have hl : lv_has ls 12 [(3, .int (iI ((dsN F N : Nat)))), (4, .int (iI (1))), (0, .ref (ad 0 (0))), (1, .int (iI (cv))), (2, .int (iI (sum)))] := by rw [show dsN F N = F 5 from by unfold dsN; first | rw [if_pos (by omega)] | rw [if_neg (by omega)]]; exact hl
                    refine lv_iload_n hx hb dX1_share_106 rfl (lv_at hl 4 rfl) ?_
                    refine lv_istore (lv' := [(5, .int (iI (sum))), (3, .int (iI ((dsN F N : Nat)))), (4, .int (iI (1))), (0, .ref (ad 0 (0))), (1, .int (iI (cv))), (2, .int (iI (sum)))]) hx hb dX1_share_107 hl (by decide) rfl (fun ls hl => ?_)
                    refine lv_iconst (v := iI (0)) hx hb dX1_share_109 rfl ?_
                    refine lv_istore (lv' := [(6, .int (iI (0))), (5, .int (iI (sum))), (3, .int (iI ((dsN F N : Nat)))), (4, .int (iI (1))), (0, .ref (ad 0 (0))), (1, .int (iI (cv))), (2, .int (iI (sum)))]) hx hb dX1_share_110 hl (by decide) rfl (fun ls hl => ?_)
                    have lp112 : ∀ (fuel : Nat) (i : Nat) (hi : i ≤ F 5), F 5 - i < fuel → ∀ (ls : Array Slot), lv_has ls 12 [(6, .int (iI (i))), (5, .int (iI ((sum : Int) - (smB (fun i => sum * dzN F N i / dsN F N) i : Nat)))), (3, .int (iI ((dsN F N : Nat)))), (4, .int (iI (1))), (0, .ref (ad 0 (0))), (1, .int (iI (cv))), (2, .int (iI (sum)))] → W p l e (headSpec (ws_ yX1_share cX1_share 12 (some .int)) ({ frames := 4, cells := 0, slots := 0, locals := 104 })).room s m ([.ref (ad 0 (0)), .int (iI (cv)), .int (iI (sum))] : List Value).toArray below meth c s.heap [] 0 0 (MQ below (k2_QcV (.int (iI (shV F N cv sum)))) ([.ref (ad 0 (0)), .int (iI (cv)), .int (iI (sum))] : List Value).toArray s 0 0 (fun _ => False)) (F0 m 112 ls []) := by
                      intro fuel
                      induction fuel with
                      | zero => intro i hi hm; exact absurd hm (Nat.not_lt_zero _)
                      | succ fuel ih112 =>
                        intro i hi hm112 ls hl
                        have hdzi := dz_le (F := F) hN i
                        have hd1 := mul_31 (b := dzN F N i) hsum (dz_le hN i)
                        refine lv_iload hx hb dX1_share_112 (lv_at hl 0 rfl) ?_
                        refine lv_aload_n hx hb dX1_share_114 rfl (lv_at hl 4 rfl) ?_
                        refine h_get hx hb hts in_X1 hown hK hW.c0 rfl 3 (by decide) (hts _ q424) rfl (v := .ref (ad 1 (3))) rfl dX1_share_115 ?_
                        obtain ⟨mc34, cp34, cq34, cr34, hLi34⟩ := hW.l3
                        refine rc_V (W.runV (As := []) (rest := [.int (iI (i))]) ⟨hx, hb, hml, hown, hts⟩ (al_size l D cA (ad 1 (3)) mc34 (ad 2 (3)) (F 5)) (cwV 0 hts (lw_V q448 q449 q450 q45 q451) rfl rfl rfl (by decide +kernel) ⟨Nat.le_of_ble_eq_true rfl, Nat.le_of_ble_eq_true rfl⟩) (preV hK hLi34.1 rfl hLi34.1) rfl rfl hl.1 rfl (lv_room (Nat.le_of_ble_eq_true rfl)) dX1_share_118 ⟨Nat.le_of_ble_eq_true rfl, Nat.le_of_ble_eq_true rfl⟩) ?_
                        refine ri_icmp_ge (tgt := 163) hx hb (by unfold inR; omega) (by unfold inR; omega) dX1_share_121 (by decide) (fun h35 => ?_) (fun h35 => ?_)
                        · skip
                          have hi5 : i = F 5 := by omega
                          rw [hi5] at hl
                          refine lv_iload_n hx hb dX1_share_163 rfl (lv_at hl 6 rfl) ?_
                          refine rl_i2l hx hb (sum) (by omega) (by omega) dX1_share_164 ?_
                          refine lv_iload hx hb dX1_share_165 (lv_at hl 3 rfl) ?_
                          refine lv_aload_n hx hb dX1_share_167 rfl (lv_at hl 4 rfl) ?_
                          refine h_get hx hb hts in_X1 hown hK hW.c0 rfl 3 (by decide) (hts _ q424) rfl (v := .ref (ad 1 (3))) rfl dX1_share_168 ?_
                          refine lv_iload_n hx hb dX1_share_171 rfl (lv_at hl 5 rfl) ?_
                          obtain ⟨mc36, cp36, cq36, cr36, hLi36⟩ := hW.l3
                          refine rc_V (W.runV (As := [.int (iI (cv))]) (rest := [.int (iI (1)), .long (lN (sum))]) ⟨hx, hb, hml, hown, hts⟩ (al_get l D cA (ad 1 (3)) mc36 (ad 2 (3)) (F 5) cp36 (fun j => sa (10 + (128 + N 12 j))) (cv) (by omega)) (cwV 1 hts (lw_V q565 q566 q567 q45 q568) rfl rfl rfl (by decide +kernel) ⟨Nat.le_of_ble_eq_true rfl, Nat.le_of_ble_eq_true rfl⟩) (preV hK hLi36.1 rfl hLi36) rfl rfl hl.1 rfl (lv_room (Nat.le_of_ble_eq_true rfl)) dX1_share_172 ⟨Nat.le_of_ble_eq_true rfl, Nat.le_of_ble_eq_true rfl⟩) ?_
                          have b37 : N 12 cv ≤ 31 := hN 12 _
                          refine h_cast (ci := 9) (q := (RJ17, TJ17, 1)) hx hb hown (hts _ q956) hK rfl (SX.isInt hK hSX hS (by omega)) dX1_share_175 ?_
                          refine rc_V (W.runV (As := []) (rest := [.int (iI (1)), .long (lN (sum))]) ⟨hx, hb, hml, hown, hts⟩ (in_intValue l D cA A sa (N 12 cv) (by omega)) (cwV 0 hts (lw_V q957 q958 q959 q61 q960) rfl rfl rfl (by decide +kernel) ⟨Nat.le_of_ble_eq_true rfl, Nat.le_of_ble_eq_true rfl⟩) ⟨Pq.blind (fun U g mk a h => h.blind), SX.recvI hK hSX hS (by omega), fun U hU hWm => ⟨rfl, hK.moved hWm, hSX.call hS hU hWm.alike⟩⟩ rfl rfl hl.1 rfl (lv_room (Nat.le_of_ble_eq_true rfl)) dX1_share_178 ⟨Nat.le_of_ble_eq_true rfl, Nat.le_of_ble_eq_true rfl⟩) ?_
                          refine ri_mmax hx hb hml hl.1 hown (hts _ q661) (hts _ q194) (hts _ q55) (hts _ q195) (by unfold inR; omega) (by unfold inR; omega) (Nat.le_of_ble_eq_true rfl) (Nat.le_of_ble_eq_true rfl) (Nat.le_of_ble_eq_true rfl) (Nat.le_of_ble_eq_true rfl) dX1_share_181 ?_
                          refine rl_i2l hx hb (dzN F N cv) (by have hz0 := hz9 cv (by omega); unfold dzN; split <;> split <;> omega) (by omega) dX1_share_184 ?_
                          refine rl_mul hx hb dX1_share_185 ?_
                          refine lv_lstore (lv' := [(6, .long (lN ((sum) * (dzN F N cv)))), (5, .int (iI ((sum : Int) - (smB (fun i => sum * dzN F N i / dsN F N) (F 5) : Nat)))), (3, .int (iI ((dsN F N : Nat)))), (4, .int (iI (1))), (0, .ref (ad 0 (0))), (1, .int (iI (cv))), (2, .int (iI (sum)))]) hx hb dX1_share_186 hl (by decide) rfl (fun ls hl => ?_)
                          refine lv_iconst (v := iI (0)) hx hb dX1_share_188 rfl ?_
                          refine lv_istore (lv' := [(8, .int (iI (0))), (6, .long (lN ((sum) * (dzN F N cv)))), (5, .int (iI ((sum : Int) - (smB (fun i => sum * dzN F N i / dsN F N) (F 5) : Nat)))), (3, .int (iI ((dsN F N : Nat)))), (4, .int (iI (1))), (0, .ref (ad 0 (0))), (1, .int (iI (cv))), (2, .int (iI (sum)))]) hx hb dX1_share_189 hl (by decide) rfl (fun ls hl => ?_)
                          refine lv_iconst (v := iI (0)) hx hb dX1_share_191 rfl ?_
                          refine lv_istore (lv' := [(9, .int (iI (0))), (8, .int (iI (0))), (6, .long (lN ((sum) * (dzN F N cv)))), (5, .int (iI ((sum : Int) - (smB (fun i => sum * dzN F N i / dsN F N) (F 5) : Nat)))), (3, .int (iI ((dsN F N : Nat)))), (4, .int (iI (1))), (0, .ref (ad 0 (0))), (1, .int (iI (cv))), (2, .int (iI (sum)))]) hx hb dX1_share_192 hl (by decide) rfl (fun ls hl => ?_)
                          have lp194 : ∀ (fuel : Nat) (i : Nat) (hi : i ≤ F 5), F 5 - i < fuel → ∀ (ls : Array Slot), lv_has ls 12 [(9, .int (iI (i))), (8, .int (iI (cntB (shP F N cv sum) i))), (6, .long (lN ((sum) * (dzN F N cv)))), (5, .int (iI ((sum : Int) - (smB (fun i => sum * dzN F N i / dsN F N) (F 5) : Nat)))), (3, .int (iI ((dsN F N : Nat)))), (4, .int (iI (1))), (0, .ref (ad 0 (0))), (1, .int (iI (cv))), (2, .int (iI (sum)))] → W p l e (headSpec (ws_ yX1_share cX1_share 12 (some .int)) ({ frames := 4, cells := 0, slots := 0, locals := 104 })).room s m ([.ref (ad 0 (0)), .int (iI (cv)), .int (iI (sum))] : List Value).toArray below meth c s.heap [] 0 0 (MQ below (k2_QcV (.int (iI (shV F N cv sum)))) ([.ref (ad 0 (0)), .int (iI (cv)), .int (iI (sum))] : List Value).toArray s 0 0 (fun _ => False)) (F0 m 194 ls []) := by
                            intro fuel
                            induction fuel with
                            | zero => intro i hi hm; exact absurd hm (Nat.not_lt_zero _)
                            | succ fuel ih194 =>
                              intro i hi hm194 ls hl
                              have hdzi := dz_le (F := F) hN i
                              have hd1 := mul_31 (b := dzN F N i) hsum (dz_le hN i)
                              have hc1 := cntB_le (shP F N cv sum) i
                              have hr1 := Nat.mod_lt (sum * dzN F N i) hds
                              have hr2 := Nat.mod_lt (sum * dzN F N cv) hds
                              refine lv_iload hx hb dX1_share_194 (lv_at hl 0 rfl) ?_
                              refine lv_aload_n hx hb dX1_share_196 rfl (lv_at hl 6 rfl) ?_
                              refine h_get hx hb hts in_X1 hown hK hW.c0 rfl 3 (by decide) (hts _ q424) rfl (v := .ref (ad 1 (3))) rfl dX1_share_197 ?_
                              obtain ⟨mc38, cp38, cq38, cr38, hLi38⟩ := hW.l3
                              refine rc_V (W.runV (As := []) (rest := [.int (iI (i))]) ⟨hx, hb, hml, hown, hts⟩ (al_size l D cA (ad 1 (3)) mc38 (ad 2 (3)) (F 5)) (cwV 0 hts (lw_V q448 q449 q450 q45 q451) rfl rfl rfl (by decide +kernel) ⟨Nat.le_of_ble_eq_true rfl, Nat.le_of_ble_eq_true rfl⟩) (preV hK hLi38.1 rfl hLi38.1) rfl rfl hl.1 rfl (lv_room (Nat.le_of_ble_eq_true rfl)) dX1_share_200 ⟨Nat.le_of_ble_eq_true rfl, Nat.le_of_ble_eq_true rfl⟩) ?_
                              refine ri_icmp_ge (tgt := 272) hx hb (by unfold inR; omega) (by unfold inR; omega) dX1_share_203 (by decide) (fun h39 => ?_) (fun h39 => ?_)
                              · skip
                                have hi6 : i = F 5 := by omega
                                rw [hi6] at hl
                                have hc2 := cntB_le (shP F N cv sum) (F 5)
                                refine lv_lload hx hb dX1_share_272 (lv_at hl 2 rfl) ?_
                                refine lv_iload_n hx hb dX1_share_274 rfl (lv_at hl 4 rfl) ?_
                                refine rl_i2l hx hb (dsN F N) (by omega) (by omega) dX1_share_275 ?_
                                refine rl_div hx hb (by omega) (by omega) (by omega) dX1_share_276 ?_
                                refine rl_l2i hx hb dX1_share_277 ?_
                                refine lv_iload hx hb dX1_share_278 (lv_at hl 1 rfl) ?_
                                refine lv_iload hx hb dX1_share_280 (lv_at hl 3 rfl) ?_
                                refine ri_icmp_ge (tgt := 289) hx hb (by unfold inR; omega) (by unfold inR; omega) dX1_share_282 (by decide) (fun h40 => ?_) (fun h40 => ?_)
                                · skip
                                  refine lv_iconst (v := iI (0)) hx hb dX1_share_289 rfl ?_
                                  refine ri_iadd hx hb dX1_share_290 ?_
                                  exact W.iret hx hb hr (fun t ht hWm => ⟨congrArg (fun z => Outcome.returned (some (Value.int (iI z)))) (by unfold shV; first | (rw [if_pos (by omega)]) | (rw [if_neg (by omega)])), ht⟩) (fun _ h => absurd h List.not_mem_nil) dX1_share_291
                                · skip
                                  refine lv_iconst (v := iI (1)) hx hb dX1_share_285 rfl ?_
                                  refine lv_goto (tgt := 290) hx hb dX1_share_286 (by decide) ?_
                                  refine ri_iadd hx hb dX1_share_290 ?_
                                  exact W.iret hx hb hr (fun t ht hWm => ⟨congrArg (fun z => Outcome.returned (some (Value.int (iI z)))) (by unfold shV; first | (rw [if_pos (by omega)]) | (rw [if_neg (by omega)])), ht⟩) (fun _ h => absurd h List.not_mem_nil) dX1_share_291
                              · skip
                                refine lv_iload_n hx hb dX1_share_206 rfl (lv_at hl 8 rfl) ?_
                                refine rl_i2l hx hb (sum) (by omega) (by omega) dX1_share_207 ?_
                                refine lv_iload hx hb dX1_share_208 (lv_at hl 5 rfl) ?_
                                refine lv_aload_n hx hb dX1_share_210 rfl (lv_at hl 6 rfl) ?_
                                refine h_get hx hb hts in_X1 hown hK hW.c0 rfl 3 (by decide) (hts _ q424) rfl (v := .ref (ad 1 (3))) rfl dX1_share_211 ?_
                                refine lv_iload hx hb dX1_share_214 (lv_at hl 0 rfl) ?_
                                obtain ⟨mc41, cp41, cq41, cr41, hLi41⟩ := hW.l3
                                refine rc_V (W.runV (As := [.int (iI (i))]) (rest := [.int (iI (1)), .long (lN (sum))]) ⟨hx, hb, hml, hown, hts⟩ (al_get l D cA (ad 1 (3)) mc41 (ad 2 (3)) (F 5) cp41 (fun j => sa (10 + (128 + N 12 j))) (i) (by omega)) (cwV 1 hts (lw_V q565 q566 q567 q45 q568) rfl rfl rfl (by decide +kernel) ⟨Nat.le_of_ble_eq_true rfl, Nat.le_of_ble_eq_true rfl⟩) (preV hK hLi41.1 rfl hLi41) rfl rfl hl.1 rfl (lv_room (Nat.le_of_ble_eq_true rfl)) dX1_share_216 ⟨Nat.le_of_ble_eq_true rfl, Nat.le_of_ble_eq_true rfl⟩) ?_
                                have b42 : N 12 i ≤ 31 := hN 12 _
                                refine h_cast (ci := 9) (q := (RJ17, TJ17, 1)) hx hb hown (hts _ q956) hK rfl (SX.isInt hK hSX hS (by omega)) dX1_share_219 ?_
                                refine rc_V (W.runV (As := []) (rest := [.int (iI (1)), .long (lN (sum))]) ⟨hx, hb, hml, hown, hts⟩ (in_intValue l D cA A sa (N 12 i) (by omega)) (cwV 0 hts (lw_V q957 q958 q959 q61 q960) rfl rfl rfl (by decide +kernel) ⟨Nat.le_of_ble_eq_true rfl, Nat.le_of_ble_eq_true rfl⟩) ⟨Pq.blind (fun U g mk a h => h.blind), SX.recvI hK hSX hS (by omega), fun U hU hWm => ⟨rfl, hK.moved hWm, hSX.call hS hU hWm.alike⟩⟩ rfl rfl hl.1 rfl (lv_room (Nat.le_of_ble_eq_true rfl)) dX1_share_222 ⟨Nat.le_of_ble_eq_true rfl, Nat.le_of_ble_eq_true rfl⟩) ?_
                                refine ri_mmax hx hb hml hl.1 hown (hts _ q661) (hts _ q194) (hts _ q55) (hts _ q195) (by unfold inR; omega) (by unfold inR; omega) (Nat.le_of_ble_eq_true rfl) (Nat.le_of_ble_eq_true rfl) (Nat.le_of_ble_eq_true rfl) (Nat.le_of_ble_eq_true rfl) dX1_share_225 ?_
                                refine rl_i2l hx hb (dzN F N i) (by have hz0 := hz9 i (by omega); unfold dzN; split <;> split <;> omega) (by omega) dX1_share_228 ?_
                                refine rl_mul hx hb dX1_share_229 ?_
                                refine lv_iload_n hx hb dX1_share_230 rfl (lv_at hl 4 rfl) ?_
                                refine rl_i2l hx hb (dsN F N) (by omega) (by omega) dX1_share_231 ?_
                                refine rl_rem hx hb (by omega) (by omega) (by omega) dX1_share_232 ?_
                                refine lv_lstore (lv' := [(10, .long (lN (((sum) * (dzN F N i)) % (dsN F N)))), (9, .int (iI (i))), (8, .int (iI (cntB (shP F N cv sum) i))), (6, .long (lN ((sum) * (dzN F N cv)))), (5, .int (iI ((sum : Int) - (smB (fun i => sum * dzN F N i / dsN F N) (F 5) : Nat)))), (3, .int (iI ((dsN F N : Nat)))), (4, .int (iI (1))), (0, .ref (ad 0 (0))), (1, .int (iI (cv))), (2, .int (iI (sum)))]) hx hb dX1_share_233 hl (by decide) rfl (fun ls hl => ?_)
                                refine lv_lload hx hb dX1_share_235 (lv_at hl 0 rfl) ?_
                                refine lv_lload hx hb dX1_share_237 (lv_at hl 3 rfl) ?_
                                refine lv_iload_n hx hb dX1_share_239 rfl (lv_at hl 5 rfl) ?_
                                refine rl_i2l hx hb (dsN F N) (by omega) (by omega) dX1_share_240 ?_
                                refine rl_rem hx hb (by omega) (by omega) (by omega) dX1_share_241 ?_
                                refine rl_cmp hx hb (by omega) (by omega) dX1_share_242 ?_
                                rcases Nat.lt_trichotomy ((((sum) * (dzN F N i)) % (dsN F N))) ((((sum) * (dzN F N cv)) % (dsN F N))) with h3 | h3 | h3
                                · refine ri_top (b := -1) (by rw [if_neg (by omega), if_neg (by omega)]) ?_
                                  refine ri_if_gt (tgt := 263) hx hb (by unfold inR; omega) dX1_share_243 (by decide) (fun h43 => ?_) (fun h43 => ?_)
                                  · skip
                                    exfalso; omega
                                  · skip
                                    refine lv_lload hx hb dX1_share_246 (lv_at hl 0 rfl) ?_
                                    refine lv_lload hx hb dX1_share_248 (lv_at hl 3 rfl) ?_
                                    refine lv_iload_n hx hb dX1_share_250 rfl (lv_at hl 5 rfl) ?_
                                    refine rl_i2l hx hb (dsN F N) (by omega) (by omega) dX1_share_251 ?_
                                    refine rl_rem hx hb (by omega) (by omega) (by omega) dX1_share_252 ?_
                                    refine rl_cmp hx hb (by omega) (by omega) dX1_share_253 ?_
                                    rcases Nat.lt_trichotomy ((((sum) * (dzN F N i)) % (dsN F N))) ((((sum) * (dzN F N cv)) % (dsN F N))) with h3 | h3 | h3
                                    · refine ri_top (b := -1) (by rw [if_neg (by omega), if_neg (by omega)]) ?_
                                      refine ri_if_ne (tgt := 266) hx hb (by unfold inR; omega) dX1_share_254 (by decide) (fun h44 => ?_) (fun h44 => ?_)
                                      · skip
                                        have hl : lv_has ls 12 [(10, .long (lN (((sum) * (dzN F N i)) % (dsN F N)))), (9, .int (iI (i))), (8, .int (iI ((cntB (shP F N cv sum) (i + 1) : Nat)))), (6, .long (lN ((sum) * (dzN F N cv)))), (5, .int (iI ((sum : Int) - (smB (fun i => sum * dzN F N i / dsN F N) (F 5) : Nat)))), (3, .int (iI ((dsN F N : Nat)))), (4, .int (iI (1))), (0, .ref (ad 0 (0))), (1, .int (iI (cv))), (2, .int (iI (sum)))] := by rw [← cnt_e (shP_no (by omega))]; exact hl
                                        refine lv_iinc (v := iI ((i + 1 : Nat))) (lv' := [(9, .int (iI ((i + 1 : Nat)))), (10, .long (lN (((sum) * (dzN F N i)) % (dsN F N)))), (8, .int (iI ((cntB (shP F N cv sum) (i + 1) : Nat)))), (6, .long (lN ((sum) * (dzN F N cv)))), (5, .int (iI ((sum : Int) - (smB (fun i => sum * dzN F N i / dsN F N) (F 5) : Nat)))), (3, .int (iI ((dsN F N : Nat)))), (4, .int (iI (1))), (0, .ref (ad 0 (0))), (1, .int (iI (cv))), (2, .int (iI (sum)))]) hx hb dX1_share_266 hl (k := 1) rfl (iI_succ _) (by decide) rfl (fun ls hl => ?_)
                                        refine lv_goto (tgt := 194) hx hb dX1_share_269 (by decide) ?_
                                        exact ih194 (i + 1) (by omega) (by omega) _ (lv_sub hl [0, 2, 3, 4, 5, 6, 7, 8, 9] rfl)
                                      · skip
                                        exfalso; omega
                                    · refine ri_top (b := 0) (by rw [if_neg (by omega), if_pos (by omega)]) ?_
                                      refine ri_if_ne (tgt := 266) hx hb (by unfold inR; omega) dX1_share_254 (by decide) (fun h45 => ?_) (fun h45 => ?_)
                                      · skip
                                        exfalso; omega
                                      · skip
                                        refine lv_iload hx hb dX1_share_257 (lv_at hl 1 rfl) ?_
                                        refine lv_iload_n hx hb dX1_share_259 rfl (lv_at hl 8 rfl) ?_
                                        refine ri_icmp_ge (tgt := 266) hx hb (by unfold inR; omega) (by unfold inR; omega) dX1_share_260 (by decide) (fun h46 => ?_) (fun h46 => ?_)
                                        · skip
                                          have hl : lv_has ls 12 [(10, .long (lN (((sum) * (dzN F N i)) % (dsN F N)))), (9, .int (iI (i))), (8, .int (iI ((cntB (shP F N cv sum) (i + 1) : Nat)))), (6, .long (lN ((sum) * (dzN F N cv)))), (5, .int (iI ((sum : Int) - (smB (fun i => sum * dzN F N i / dsN F N) (F 5) : Nat)))), (3, .int (iI ((dsN F N : Nat)))), (4, .int (iI (1))), (0, .ref (ad 0 (0))), (1, .int (iI (cv))), (2, .int (iI (sum)))] := by rw [← cnt_e (shP_no (by omega))]; exact hl
                                          refine lv_iinc (v := iI ((i + 1 : Nat))) (lv' := [(9, .int (iI ((i + 1 : Nat)))), (10, .long (lN (((sum) * (dzN F N i)) % (dsN F N)))), (8, .int (iI ((cntB (shP F N cv sum) (i + 1) : Nat)))), (6, .long (lN ((sum) * (dzN F N cv)))), (5, .int (iI ((sum : Int) - (smB (fun i => sum * dzN F N i / dsN F N) (F 5) : Nat)))), (3, .int (iI ((dsN F N : Nat)))), (4, .int (iI (1))), (0, .ref (ad 0 (0))), (1, .int (iI (cv))), (2, .int (iI (sum)))]) hx hb dX1_share_266 hl (k := 1) rfl (iI_succ _) (by decide) rfl (fun ls hl => ?_)
                                          refine lv_goto (tgt := 194) hx hb dX1_share_269 (by decide) ?_
                                          exact ih194 (i + 1) (by omega) (by omega) _ (lv_sub hl [0, 2, 3, 4, 5, 6, 7, 8, 9] rfl)
                                        · skip
                                          refine lv_iinc (v := iI ((cntB (shP F N cv sum) (i + 1) : Nat))) (lv' := [(8, .int (iI ((cntB (shP F N cv sum) (i + 1) : Nat)))), (10, .long (lN (((sum) * (dzN F N i)) % (dsN F N)))), (9, .int (iI (i))), (6, .long (lN ((sum) * (dzN F N cv)))), (5, .int (iI ((sum : Int) - (smB (fun i => sum * dzN F N i / dsN F N) (F 5) : Nat)))), (3, .int (iI ((dsN F N : Nat)))), (4, .int (iI (1))), (0, .ref (ad 0 (0))), (1, .int (iI (cv))), (2, .int (iI (sum)))]) hx hb dX1_share_263 hl (k := 2) rfl (by rw [← cnt_1 (shP_yes (by omega))]; exact iI_add _ _) (by decide) rfl (fun ls hl => ?_)
                                          refine lv_iinc (v := iI ((i + 1 : Nat))) (lv' := [(9, .int (iI ((i + 1 : Nat)))), (8, .int (iI ((cntB (shP F N cv sum) (i + 1) : Nat)))), (10, .long (lN (((sum) * (dzN F N i)) % (dsN F N)))), (6, .long (lN ((sum) * (dzN F N cv)))), (5, .int (iI ((sum : Int) - (smB (fun i => sum * dzN F N i / dsN F N) (F 5) : Nat)))), (3, .int (iI ((dsN F N : Nat)))), (4, .int (iI (1))), (0, .ref (ad 0 (0))), (1, .int (iI (cv))), (2, .int (iI (sum)))]) hx hb dX1_share_266 hl (k := 2) rfl (iI_succ _) (by decide) rfl (fun ls hl => ?_)
                                          refine lv_goto (tgt := 194) hx hb dX1_share_269 (by decide) ?_
                                          exact ih194 (i + 1) (by omega) (by omega) _ (lv_sub hl [0, 1, 3, 4, 5, 6, 7, 8, 9] rfl)
                                    · refine ri_top (b := 1) (if_pos h3) ?_
                                      refine ri_if_ne (tgt := 266) hx hb (by unfold inR; omega) dX1_share_254 (by decide) (fun h47 => ?_) (fun h47 => ?_)
                                      · skip
                                        have hl : lv_has ls 12 [(10, .long (lN (((sum) * (dzN F N i)) % (dsN F N)))), (9, .int (iI (i))), (8, .int (iI ((cntB (shP F N cv sum) (i + 1) : Nat)))), (6, .long (lN ((sum) * (dzN F N cv)))), (5, .int (iI ((sum : Int) - (smB (fun i => sum * dzN F N i / dsN F N) (F 5) : Nat)))), (3, .int (iI ((dsN F N : Nat)))), (4, .int (iI (1))), (0, .ref (ad 0 (0))), (1, .int (iI (cv))), (2, .int (iI (sum)))] := by rw [← cnt_e (shP_no (by omega))]; exact hl
                                        refine lv_iinc (v := iI ((i + 1 : Nat))) (lv' := [(9, .int (iI ((i + 1 : Nat)))), (10, .long (lN (((sum) * (dzN F N i)) % (dsN F N)))), (8, .int (iI ((cntB (shP F N cv sum) (i + 1) : Nat)))), (6, .long (lN ((sum) * (dzN F N cv)))), (5, .int (iI ((sum : Int) - (smB (fun i => sum * dzN F N i / dsN F N) (F 5) : Nat)))), (3, .int (iI ((dsN F N : Nat)))), (4, .int (iI (1))), (0, .ref (ad 0 (0))), (1, .int (iI (cv))), (2, .int (iI (sum)))]) hx hb dX1_share_266 hl (k := 1) rfl (iI_succ _) (by decide) rfl (fun ls hl => ?_)
                                        refine lv_goto (tgt := 194) hx hb dX1_share_269 (by decide) ?_
                                        exact ih194 (i + 1) (by omega) (by omega) _ (lv_sub hl [0, 2, 3, 4, 5, 6, 7, 8, 9] rfl)
                                      · skip
                                        exfalso; omega
                                · refine ri_top (b := 0) (by rw [if_neg (by omega), if_pos (by omega)]) ?_
                                  refine ri_if_gt (tgt := 263) hx hb (by unfold inR; omega) dX1_share_243 (by decide) (fun h48 => ?_) (fun h48 => ?_)
                                  · skip
                                    exfalso; omega
                                  · skip
                                    refine lv_lload hx hb dX1_share_246 (lv_at hl 0 rfl) ?_
                                    refine lv_lload hx hb dX1_share_248 (lv_at hl 3 rfl) ?_
                                    refine lv_iload_n hx hb dX1_share_250 rfl (lv_at hl 5 rfl) ?_
                                    refine rl_i2l hx hb (dsN F N) (by omega) (by omega) dX1_share_251 ?_
                                    refine rl_rem hx hb (by omega) (by omega) (by omega) dX1_share_252 ?_
                                    refine rl_cmp hx hb (by omega) (by omega) dX1_share_253 ?_
                                    rcases Nat.lt_trichotomy ((((sum) * (dzN F N i)) % (dsN F N))) ((((sum) * (dzN F N cv)) % (dsN F N))) with h3 | h3 | h3
                                    · refine ri_top (b := -1) (by rw [if_neg (by omega), if_neg (by omega)]) ?_
                                      refine ri_if_ne (tgt := 266) hx hb (by unfold inR; omega) dX1_share_254 (by decide) (fun h49 => ?_) (fun h49 => ?_)
                                      · skip
                                        have hl : lv_has ls 12 [(10, .long (lN (((sum) * (dzN F N i)) % (dsN F N)))), (9, .int (iI (i))), (8, .int (iI ((cntB (shP F N cv sum) (i + 1) : Nat)))), (6, .long (lN ((sum) * (dzN F N cv)))), (5, .int (iI ((sum : Int) - (smB (fun i => sum * dzN F N i / dsN F N) (F 5) : Nat)))), (3, .int (iI ((dsN F N : Nat)))), (4, .int (iI (1))), (0, .ref (ad 0 (0))), (1, .int (iI (cv))), (2, .int (iI (sum)))] := by rw [← cnt_e (shP_no (by omega))]; exact hl
                                        refine lv_iinc (v := iI ((i + 1 : Nat))) (lv' := [(9, .int (iI ((i + 1 : Nat)))), (10, .long (lN (((sum) * (dzN F N i)) % (dsN F N)))), (8, .int (iI ((cntB (shP F N cv sum) (i + 1) : Nat)))), (6, .long (lN ((sum) * (dzN F N cv)))), (5, .int (iI ((sum : Int) - (smB (fun i => sum * dzN F N i / dsN F N) (F 5) : Nat)))), (3, .int (iI ((dsN F N : Nat)))), (4, .int (iI (1))), (0, .ref (ad 0 (0))), (1, .int (iI (cv))), (2, .int (iI (sum)))]) hx hb dX1_share_266 hl (k := 1) rfl (iI_succ _) (by decide) rfl (fun ls hl => ?_)
                                        refine lv_goto (tgt := 194) hx hb dX1_share_269 (by decide) ?_
                                        exact ih194 (i + 1) (by omega) (by omega) _ (lv_sub hl [0, 2, 3, 4, 5, 6, 7, 8, 9] rfl)
                                      · skip
                                        exfalso; omega
                                    · refine ri_top (b := 0) (by rw [if_neg (by omega), if_pos (by omega)]) ?_
                                      refine ri_if_ne (tgt := 266) hx hb (by unfold inR; omega) dX1_share_254 (by decide) (fun h50 => ?_) (fun h50 => ?_)
                                      · skip
                                        exfalso; omega
                                      · skip
                                        refine lv_iload hx hb dX1_share_257 (lv_at hl 1 rfl) ?_
                                        refine lv_iload_n hx hb dX1_share_259 rfl (lv_at hl 8 rfl) ?_
                                        refine ri_icmp_ge (tgt := 266) hx hb (by unfold inR; omega) (by unfold inR; omega) dX1_share_260 (by decide) (fun h51 => ?_) (fun h51 => ?_)
                                        · skip
                                          have hl : lv_has ls 12 [(10, .long (lN (((sum) * (dzN F N i)) % (dsN F N)))), (9, .int (iI (i))), (8, .int (iI ((cntB (shP F N cv sum) (i + 1) : Nat)))), (6, .long (lN ((sum) * (dzN F N cv)))), (5, .int (iI ((sum : Int) - (smB (fun i => sum * dzN F N i / dsN F N) (F 5) : Nat)))), (3, .int (iI ((dsN F N : Nat)))), (4, .int (iI (1))), (0, .ref (ad 0 (0))), (1, .int (iI (cv))), (2, .int (iI (sum)))] := by rw [← cnt_e (shP_no (by omega))]; exact hl
                                          refine lv_iinc (v := iI ((i + 1 : Nat))) (lv' := [(9, .int (iI ((i + 1 : Nat)))), (10, .long (lN (((sum) * (dzN F N i)) % (dsN F N)))), (8, .int (iI ((cntB (shP F N cv sum) (i + 1) : Nat)))), (6, .long (lN ((sum) * (dzN F N cv)))), (5, .int (iI ((sum : Int) - (smB (fun i => sum * dzN F N i / dsN F N) (F 5) : Nat)))), (3, .int (iI ((dsN F N : Nat)))), (4, .int (iI (1))), (0, .ref (ad 0 (0))), (1, .int (iI (cv))), (2, .int (iI (sum)))]) hx hb dX1_share_266 hl (k := 1) rfl (iI_succ _) (by decide) rfl (fun ls hl => ?_)
                                          refine lv_goto (tgt := 194) hx hb dX1_share_269 (by decide) ?_
                                          exact ih194 (i + 1) (by omega) (by omega) _ (lv_sub hl [0, 2, 3, 4, 5, 6, 7, 8, 9] rfl)
                                        · skip
                                          refine lv_iinc (v := iI ((cntB (shP F N cv sum) (i + 1) : Nat))) (lv' := [(8, .int (iI ((cntB (shP F N cv sum) (i + 1) : Nat)))), (10, .long (lN (((sum) * (dzN F N i)) % (dsN F N)))), (9, .int (iI (i))), (6, .long (lN ((sum) * (dzN F N cv)))), (5, .int (iI ((sum : Int) - (smB (fun i => sum * dzN F N i / dsN F N) (F 5) : Nat)))), (3, .int (iI ((dsN F N : Nat)))), (4, .int (iI (1))), (0, .ref (ad 0 (0))), (1, .int (iI (cv))), (2, .int (iI (sum)))]) hx hb dX1_share_263 hl (k := 2) rfl (by rw [← cnt_1 (shP_yes (by omega))]; exact iI_add _ _) (by decide) rfl (fun ls hl => ?_)
                                          refine lv_iinc (v := iI ((i + 1 : Nat))) (lv' := [(9, .int (iI ((i + 1 : Nat)))), (8, .int (iI ((cntB (shP F N cv sum) (i + 1) : Nat)))), (10, .long (lN (((sum) * (dzN F N i)) % (dsN F N)))), (6, .long (lN ((sum) * (dzN F N cv)))), (5, .int (iI ((sum : Int) - (smB (fun i => sum * dzN F N i / dsN F N) (F 5) : Nat)))), (3, .int (iI ((dsN F N : Nat)))), (4, .int (iI (1))), (0, .ref (ad 0 (0))), (1, .int (iI (cv))), (2, .int (iI (sum)))]) hx hb dX1_share_266 hl (k := 2) rfl (iI_succ _) (by decide) rfl (fun ls hl => ?_)
                                          refine lv_goto (tgt := 194) hx hb dX1_share_269 (by decide) ?_
                                          exact ih194 (i + 1) (by omega) (by omega) _ (lv_sub hl [0, 1, 3, 4, 5, 6, 7, 8, 9] rfl)
                                    · refine ri_top (b := 1) (if_pos h3) ?_
                                      refine ri_if_ne (tgt := 266) hx hb (by unfold inR; omega) dX1_share_254 (by decide) (fun h52 => ?_) (fun h52 => ?_)
                                      · skip
                                        have hl : lv_has ls 12 [(10, .long (lN (((sum) * (dzN F N i)) % (dsN F N)))), (9, .int (iI (i))), (8, .int (iI ((cntB (shP F N cv sum) (i + 1) : Nat)))), (6, .long (lN ((sum) * (dzN F N cv)))), (5, .int (iI ((sum : Int) - (smB (fun i => sum * dzN F N i / dsN F N) (F 5) : Nat)))), (3, .int (iI ((dsN F N : Nat)))), (4, .int (iI (1))), (0, .ref (ad 0 (0))), (1, .int (iI (cv))), (2, .int (iI (sum)))] := by rw [← cnt_e (shP_no (by omega))]; exact hl
                                        refine lv_iinc (v := iI ((i + 1 : Nat))) (lv' := [(9, .int (iI ((i + 1 : Nat)))), (10, .long (lN (((sum) * (dzN F N i)) % (dsN F N)))), (8, .int (iI ((cntB (shP F N cv sum) (i + 1) : Nat)))), (6, .long (lN ((sum) * (dzN F N cv)))), (5, .int (iI ((sum : Int) - (smB (fun i => sum * dzN F N i / dsN F N) (F 5) : Nat)))), (3, .int (iI ((dsN F N : Nat)))), (4, .int (iI (1))), (0, .ref (ad 0 (0))), (1, .int (iI (cv))), (2, .int (iI (sum)))]) hx hb dX1_share_266 hl (k := 1) rfl (iI_succ _) (by decide) rfl (fun ls hl => ?_)
                                        refine lv_goto (tgt := 194) hx hb dX1_share_269 (by decide) ?_
                                        exact ih194 (i + 1) (by omega) (by omega) _ (lv_sub hl [0, 2, 3, 4, 5, 6, 7, 8, 9] rfl)
                                      · skip
                                        exfalso; omega
                                · refine ri_top (b := 1) (if_pos h3) ?_
                                  refine ri_if_gt (tgt := 263) hx hb (by unfold inR; omega) dX1_share_243 (by decide) (fun h53 => ?_) (fun h53 => ?_)
                                  · skip
                                    refine lv_iinc (v := iI ((cntB (shP F N cv sum) (i + 1) : Nat))) (lv' := [(8, .int (iI ((cntB (shP F N cv sum) (i + 1) : Nat)))), (10, .long (lN (((sum) * (dzN F N i)) % (dsN F N)))), (9, .int (iI (i))), (6, .long (lN ((sum) * (dzN F N cv)))), (5, .int (iI ((sum : Int) - (smB (fun i => sum * dzN F N i / dsN F N) (F 5) : Nat)))), (3, .int (iI ((dsN F N : Nat)))), (4, .int (iI (1))), (0, .ref (ad 0 (0))), (1, .int (iI (cv))), (2, .int (iI (sum)))]) hx hb dX1_share_263 hl (k := 2) rfl (by rw [← cnt_1 (shP_yes (by omega))]; exact iI_add _ _) (by decide) rfl (fun ls hl => ?_)
                                    refine lv_iinc (v := iI ((i + 1 : Nat))) (lv' := [(9, .int (iI ((i + 1 : Nat)))), (8, .int (iI ((cntB (shP F N cv sum) (i + 1) : Nat)))), (10, .long (lN (((sum) * (dzN F N i)) % (dsN F N)))), (6, .long (lN ((sum) * (dzN F N cv)))), (5, .int (iI ((sum : Int) - (smB (fun i => sum * dzN F N i / dsN F N) (F 5) : Nat)))), (3, .int (iI ((dsN F N : Nat)))), (4, .int (iI (1))), (0, .ref (ad 0 (0))), (1, .int (iI (cv))), (2, .int (iI (sum)))]) hx hb dX1_share_266 hl (k := 2) rfl (iI_succ _) (by decide) rfl (fun ls hl => ?_)
                                    refine lv_goto (tgt := 194) hx hb dX1_share_269 (by decide) ?_
                                    exact ih194 (i + 1) (by omega) (by omega) _ (lv_sub hl [0, 1, 3, 4, 5, 6, 7, 8, 9] rfl)
                                  · skip
                                    exfalso; omega
                          exact lp194 _ (0) (Nat.zero_le _) (Nat.lt_succ_self _) _ (lv_sub hl [0, 1, 2, 3, 4, 5, 6, 7, 8] rfl)
                        · skip
                          refine lv_iload hx hb dX1_share_124 (lv_at hl 1 rfl) ?_
                          refine lv_iload_n hx hb dX1_share_126 rfl (lv_at hl 6 rfl) ?_
                          refine rl_i2l hx hb (sum) (by omega) (by omega) dX1_share_127 ?_
                          refine lv_iload hx hb dX1_share_128 (lv_at hl 3 rfl) ?_
                          refine lv_aload_n hx hb dX1_share_130 rfl (lv_at hl 4 rfl) ?_
                          refine h_get hx hb hts in_X1 hown hK hW.c0 rfl 3 (by decide) (hts _ q424) rfl (v := .ref (ad 1 (3))) rfl dX1_share_131 ?_
                          refine lv_iload hx hb dX1_share_134 (lv_at hl 0 rfl) ?_
                          obtain ⟨mc54, cp54, cq54, cr54, hLi54⟩ := hW.l3
                          refine rc_V (W.runV (As := [.int (iI (i))]) (rest := [.int (iI (1)), .long (lN (sum)), .int (iI ((sum : Int) - (smB (fun i => sum * dzN F N i / dsN F N) i : Nat)))]) ⟨hx, hb, hml, hown, hts⟩ (al_get l D cA (ad 1 (3)) mc54 (ad 2 (3)) (F 5) cp54 (fun j => sa (10 + (128 + N 12 j))) (i) (by omega)) (cwV 1 hts (lw_V q565 q566 q567 q45 q568) rfl rfl rfl (by decide +kernel) ⟨Nat.le_of_ble_eq_true rfl, Nat.le_of_ble_eq_true rfl⟩) (preV hK hLi54.1 rfl hLi54) rfl rfl hl.1 rfl (lv_room (Nat.le_of_ble_eq_true rfl)) dX1_share_136 ⟨Nat.le_of_ble_eq_true rfl, Nat.le_of_ble_eq_true rfl⟩) ?_
                          have b55 : N 12 i ≤ 31 := hN 12 _
                          refine h_cast (ci := 9) (q := (RJ17, TJ17, 1)) hx hb hown (hts _ q956) hK rfl (SX.isInt hK hSX hS (by omega)) dX1_share_139 ?_
                          refine rc_V (W.runV (As := []) (rest := [.int (iI (1)), .long (lN (sum)), .int (iI ((sum : Int) - (smB (fun i => sum * dzN F N i / dsN F N) i : Nat)))]) ⟨hx, hb, hml, hown, hts⟩ (in_intValue l D cA A sa (N 12 i) (by omega)) (cwV 0 hts (lw_V q957 q958 q959 q61 q960) rfl rfl rfl (by decide +kernel) ⟨Nat.le_of_ble_eq_true rfl, Nat.le_of_ble_eq_true rfl⟩) ⟨Pq.blind (fun U g mk a h => h.blind), SX.recvI hK hSX hS (by omega), fun U hU hWm => ⟨rfl, hK.moved hWm, hSX.call hS hU hWm.alike⟩⟩ rfl rfl hl.1 rfl (lv_room (Nat.le_of_ble_eq_true rfl)) dX1_share_142 ⟨Nat.le_of_ble_eq_true rfl, Nat.le_of_ble_eq_true rfl⟩) ?_
                          refine ri_mmax hx hb hml hl.1 hown (hts _ q661) (hts _ q194) (hts _ q55) (hts _ q195) (by unfold inR; omega) (by unfold inR; omega) (Nat.le_of_ble_eq_true rfl) (Nat.le_of_ble_eq_true rfl) (Nat.le_of_ble_eq_true rfl) (Nat.le_of_ble_eq_true rfl) dX1_share_145 ?_
                          refine rl_i2l hx hb (dzN F N i) (by have hz0 := hz9 i (by omega); unfold dzN; split <;> split <;> omega) (by omega) dX1_share_148 ?_
                          refine rl_mul hx hb dX1_share_149 ?_
                          refine lv_iload_n hx hb dX1_share_150 rfl (lv_at hl 2 rfl) ?_
                          refine rl_i2l hx hb (dsN F N) (by omega) (by omega) dX1_share_151 ?_
                          refine rl_div hx hb (by omega) (by omega) (by omega) dX1_share_152 ?_
                          refine rl_l2i hx hb dX1_share_153 ?_
                          refine ri_isub hx hb dX1_share_154 ?_
                          refine ri_top (b := (sum : Int) - (smB (fun i => sum * dzN F N i / dsN F N) (i + 1) : Nat)) (by rw [smB]; omega) ?_
                          refine lv_istore (lv' := [(5, .int (iI ((sum : Int) - (smB (fun i => sum * dzN F N i / dsN F N) (i + 1) : Nat)))), (6, .int (iI (i))), (3, .int (iI ((dsN F N : Nat)))), (4, .int (iI (1))), (0, .ref (ad 0 (0))), (1, .int (iI (cv))), (2, .int (iI (sum)))]) hx hb dX1_share_155 hl (by decide) rfl (fun ls hl => ?_)
                          refine lv_iinc (v := iI ((i + 1 : Nat))) (lv' := [(6, .int (iI ((i + 1 : Nat)))), (5, .int (iI ((sum : Int) - (smB (fun i => sum * dzN F N i / dsN F N) (i + 1) : Nat)))), (3, .int (iI ((dsN F N : Nat)))), (4, .int (iI (1))), (0, .ref (ad 0 (0))), (1, .int (iI (cv))), (2, .int (iI (sum)))]) hx hb dX1_share_157 hl (k := 1) rfl (iI_succ _) (by decide) rfl (fun ls hl => ?_)
                          refine lv_goto (tgt := 112) hx hb dX1_share_160 (by decide) ?_
                          exact ih112 (i + 1) (by omega) (by omega) _ (lv_sub hl [0, 1, 2, 3, 4, 5, 6] rfl)
                    have hl : lv_has ls 12 [(6, .int (iI (0))), (5, .int (iI ((sum : Int) - (smB (fun i => sum * dzN F N i / dsN F N) 0 : Nat)))), (3, .int (iI ((dsN F N : Nat)))), (4, .int (iI (1))), (0, .ref (ad 0 (0))), (1, .int (iI (cv))), (2, .int (iI (sum)))] := by rw [show ((sum : Int) - (smB (fun i => sum * dzN F N i / dsN F N) 0 : Nat)) = sum from by simp [smB]]; exact hl
                    exact lp112 _ (0) (Nat.zero_le _) (Nat.lt_succ_self _) _ (lv_sub hl [0, 1, 2, 3, 4, 5, 6] rfl)
              · skip
                refine lv_iload_n hx hb dX1_share_59 rfl (lv_at hl 1 rfl) ?_
                refine lv_aload_n hx hb dX1_share_60 rfl (lv_at hl 2 rfl) ?_
                refine h_get hx hb hts in_X1 hown hK hW.c0 rfl 3 (by decide) (hts _ q424) rfl (v := .ref (ad 1 (3))) rfl dX1_share_61 ?_
                refine lv_iload hx hb dX1_share_64 (lv_at hl 0 rfl) ?_
                obtain ⟨mc56, cp56, cq56, cr56, hLi56⟩ := hW.l3
                refine rc_V (W.runV (As := [.int (iI (i))]) (rest := [.int (iI (smB (N 12) i))]) ⟨hx, hb, hml, hown, hts⟩ (al_get l D cA (ad 1 (3)) mc56 (ad 2 (3)) (F 5) cp56 (fun j => sa (10 + (128 + N 12 j))) (i) (by omega)) (cwV 1 hts (lw_V q565 q566 q567 q45 q568) rfl rfl rfl (by decide +kernel) ⟨Nat.le_of_ble_eq_true rfl, Nat.le_of_ble_eq_true rfl⟩) (preV hK hLi56.1 rfl hLi56) rfl rfl hl.1 rfl (lv_room (Nat.le_of_ble_eq_true rfl)) dX1_share_66 ⟨Nat.le_of_ble_eq_true rfl, Nat.le_of_ble_eq_true rfl⟩) ?_
                have b57 : N 12 i ≤ 31 := hN 12 _
                refine h_cast (ci := 9) (q := (RJ17, TJ17, 1)) hx hb hown (hts _ q956) hK rfl (SX.isInt hK hSX hS (by omega)) dX1_share_69 ?_
                refine rc_V (W.runV (As := []) (rest := [.int (iI (smB (N 12) i))]) ⟨hx, hb, hml, hown, hts⟩ (in_intValue l D cA A sa (N 12 i) (by omega)) (cwV 0 hts (lw_V q957 q958 q959 q61 q960) rfl rfl rfl (by decide +kernel) ⟨Nat.le_of_ble_eq_true rfl, Nat.le_of_ble_eq_true rfl⟩) ⟨Pq.blind (fun U g mk a h => h.blind), SX.recvI hK hSX hS (by omega), fun U hU hWm => ⟨rfl, hK.moved hWm, hSX.call hS hU hWm.alike⟩⟩ rfl rfl hl.1 rfl (lv_room (Nat.le_of_ble_eq_true rfl)) dX1_share_72 ⟨Nat.le_of_ble_eq_true rfl, Nat.le_of_ble_eq_true rfl⟩) ?_
                refine ri_iadd hx hb dX1_share_75 ?_
                refine ri_top (b := (smB (N 12) (i + 1) : Nat)) (by rfl) ?_
                refine lv_istore_n (lv' := [(3, .int (iI ((smB (N 12) (i + 1) : Nat)))), (4, .int (iI (i))), (0, .ref (ad 0 (0))), (1, .int (iI (cv))), (2, .int (iI (sum)))]) hx hb dX1_share_76 rfl hl (by decide) rfl (fun ls hl => ?_)
                refine lv_iinc (v := iI ((i + 1 : Nat))) (lv' := [(4, .int (iI ((i + 1 : Nat)))), (3, .int (iI ((smB (N 12) (i + 1) : Nat)))), (0, .ref (ad 0 (0))), (1, .int (iI (cv))), (2, .int (iI (sum)))]) hx hb dX1_share_77 hl (k := 1) rfl (iI_succ _) (by decide) rfl (fun ls hl => ?_)
                refine lv_goto (tgt := 47) hx hb dX1_share_80 (by decide) ?_
                exact ih47 (i + 1) (by omega) (by omega) _ (lv_sub hl [0, 1, 2, 3, 4] rfl)
          exact lp47 _ (0) (Nat.zero_le _) (Nat.lt_succ_self _) _ (lv_sub hl [0, 1, 2, 3, 4] rfl)
