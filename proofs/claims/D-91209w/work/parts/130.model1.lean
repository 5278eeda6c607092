set_option maxRecDepth 100000
set_option maxHeartbeats 4000000 in
set_option maxRecDepth 100000 in
theorem mm_node (l : Launch) (D : va_G) (cA : Nat → ClassId) (a b : Int) : Met l yX2_node (ws_ yX2_node cX2_node 2 (some .int)) ({ frames := 1, cells := 0, slots := 0, locals := 30 }) (Pk D cA [.int (iI (a)), .int (iI (b))] (fun _ => True)) (k2_QcV (.int (iI (10 * a + b)))) 0 0 (fun _ => False) := by
  refine Met.ofW (cc := cX2_node) (maxL := 2) (ret := (some .int)) (by decide) rfl ?_
  intro p e s m args below meth c s₁ B hml hv
  obtain ⟨rfl, hK, hW⟩ := hv
  have hx := B.exec
  have hb := B.bytes
  have hr := B.returns
  have hts := atoms_spec (ws := ws_ yX2_node cX2_node 2 (some .int)) B.pre
  have hts : ∀ w ∈ lw_all, w.before _ s = true := fun w h => hts w (List.mem_cons_of_mem _ h)
  have hown : s.vm.findClass RX2 = some m.cls := findClass_of_methodNamed B.named
  have hlocks := B.notSynchronized
  have hl := lv_entry ([.int (iI (a)), .int (iI (b))]) (n := 2) (Nat.le_of_ble_eq_true rfl)
  rw [lg_entry_eq]
  generalize (lg_sl ([.int (iI (a)), .int (iI (b))]) ++ List.replicate (2 - (lg_sl ([.int (iI (a)), .int (iI (b))])).length) Slot.unset).toArray = ls at hl ⊢
  have hl : lv_has ls 2 [(0, .int (iI (a))), (1, .int (iI (b)))] := hl
  refine lv_bipush (v := iI (10)) hx hb dX2_node_0 (by decide) ?_
  refine lv_iload_n hx hb dX2_node_2 rfl (lv_at hl 0 rfl) ?_
  refine ri_imul hx hb dX2_node_3 ?_
  refine lv_iload_n hx hb dX2_node_4 rfl (lv_at hl 1 rfl) ?_
  refine ri_iadd hx hb dX2_node_5 ?_
  exact W.iret hx hb hr (fun t ht hWm => ⟨congrArg (fun z => Outcome.returned (some (Value.int (iI z)))) (rfl), ht⟩) (fun _ h => absurd h List.not_mem_nil) dX2_node_6

set_option maxHeartbeats 4000000 in
set_option maxRecDepth 100000 in
theorem mm_legAt (l : Launch) (D : va_G) (cA : Nat → ClassId) (a b : Int) : Met l yX2_legAt (ws_ yX2_legAt cX2_legAt 2 (some .int)) ({ frames := 1, cells := 0, slots := 0, locals := 30 }) (Pk D cA [.int (iI (a)), .int (iI (b))] (fun _ => True)) (k2_QcV (.int (iI (3 * a + b)))) 0 0 (fun _ => False) := by
  refine Met.ofW (cc := cX2_legAt) (maxL := 2) (ret := (some .int)) (by decide) rfl ?_
  intro p e s m args below meth c s₁ B hml hv
  obtain ⟨rfl, hK, hW⟩ := hv
  have hx := B.exec
  have hb := B.bytes
  have hr := B.returns
  have hts := atoms_spec (ws := ws_ yX2_legAt cX2_legAt 2 (some .int)) B.pre
  have hts : ∀ w ∈ lw_all, w.before _ s = true := fun w h => hts w (List.mem_cons_of_mem _ h)
  have hown : s.vm.findClass RX2 = some m.cls := findClass_of_methodNamed B.named
  have hlocks := B.notSynchronized
  have hl := lv_entry ([.int (iI (a)), .int (iI (b))]) (n := 2) (Nat.le_of_ble_eq_true rfl)
  rw [lg_entry_eq]
  generalize (lg_sl ([.int (iI (a)), .int (iI (b))]) ++ List.replicate (2 - (lg_sl ([.int (iI (a)), .int (iI (b))])).length) Slot.unset).toArray = ls at hl ⊢
  have hl : lv_has ls 2 [(0, .int (iI (a))), (1, .int (iI (b)))] := hl
  refine lv_iconst (v := iI (3)) hx hb dX2_legAt_0 rfl ?_
  refine lv_iload_n hx hb dX2_legAt_1 rfl (lv_at hl 0 rfl) ?_
  refine ri_imul hx hb dX2_legAt_2 ?_
  refine lv_iload_n hx hb dX2_legAt_3 rfl (lv_at hl 1 rfl) ?_
  refine ri_iadd hx hb dX2_legAt_4 ?_
  exact W.iret hx hb hr (fun t ht hWm => ⟨congrArg (fun z => Outcome.returned (some (Value.int (iI z)))) (rfl), ht⟩) (fun _ h => absurd h List.not_mem_nil) dX2_legAt_5

set_option maxHeartbeats 4000000 in
set_option maxRecDepth 100000 in
theorem mm_isTrain (l : Launch) (D : va_G) (cA : Nat → ClassId) (A : Nat → Prop) (o : Nat) (ad : Nat → Nat) (F G : Nat → Nat) (N X : Nat → Nat → Nat) (Z : Nat → Int) (K : Nat) (hKb : K ≤ 1000000) (hF : FB F) (hG : GB G) (hN : NB N) (hX : XB X) (hZ : ZB K Z) (t : Int) (ht : inR t) : Met l yX2_isTrain (ws_ yX2_isTrain cX2_isTrain 2 (some .boolean)) ({ frames := 1, cells := 0, slots := 0, locals := 30 }) (Pk D cA [.ref o, .int (iI (t))] (MW D cA A o ad F G N X Z)) (k2_QcV (.int (iI (if 0 ≤ t ∧ t < F 3 then 1 else 0)))) 0 0 (fun _ => False) := by
  refine Met.ofW (cc := cX2_isTrain) (maxL := 2) (ret := (some .boolean)) (by decide) rfl ?_
  intro p e s m args below meth c s₁ B hml hv
  obtain ⟨rfl, hK, hW⟩ := hv
  have hx := B.exec
  have hb := B.bytes
  have hr := B.returns
  have hts := atoms_spec (ws := ws_ yX2_isTrain cX2_isTrain 2 (some .boolean)) B.pre
  have hts : ∀ w ∈ lw_all, w.before _ s = true := fun w h => hts w (List.mem_cons_of_mem _ h)
  have hown : s.vm.findClass RX2 = some m.cls := findClass_of_methodNamed B.named
  have hlocks := B.notSynchronized
  have hl := lv_entry ([.ref o, .int (iI (t))]) (n := 2) (Nat.le_of_ble_eq_true rfl)
  rw [lg_entry_eq]
  generalize (lg_sl ([.ref o, .int (iI (t))]) ++ List.replicate (2 - (lg_sl ([.ref o, .int (iI (t))])).length) Slot.unset).toArray = ls at hl ⊢
  have hl : lv_has ls 2 [(0, .ref o), (1, .int (iI (t)))] := hl
  have hS : va_S A s.heap s.heap [] := va_S.rf
  have htt := ht
  unfold inR at ht
  refine lv_iload_n hx hb dX2_isTrain_0 rfl (lv_at hl 1 rfl) ?_
  refine ri_if_lt (tgt := 16) hx hb htt dX2_isTrain_1 (by decide) (fun h1 => ?_) (fun h1 => ?_)
  · skip
    refine lv_iconst (v := iI (0)) hx hb dX2_isTrain_16 rfl ?_
    exact W.zret hx hb hr (by rfl) (fun t ht hWm => ⟨congrArg (fun z => Outcome.returned (some (Value.int (iI z)))) (by split <;> omega), ht⟩) (fun _ h => absurd h List.not_mem_nil) dX2_isTrain_17
  · skip
    refine lv_iload_n hx hb dX2_isTrain_4 rfl (lv_at hl 1 rfl) ?_
    refine lv_aload_n hx hb dX2_isTrain_5 rfl (lv_at hl 0 rfl) ?_
    refine m_get hx hb hts hown hK hW 3 (by decide) q977 rfl (v := .int (iI (F 3))) rfl dX2_isTrain_6 ?_
    have b2 : F 3 ≤ 16 := hF 3
    refine ri_icmp_ge (tgt := 16) hx hb htt (by unfold inR; omega) dX2_isTrain_9 (by decide) (fun h3 => ?_) (fun h3 => ?_)
    · skip
      refine lv_iconst (v := iI (0)) hx hb dX2_isTrain_16 rfl ?_
      exact W.zret hx hb hr (by rfl) (fun t ht hWm => ⟨congrArg (fun z => Outcome.returned (some (Value.int (iI z)))) (by split <;> omega), ht⟩) (fun _ h => absurd h List.not_mem_nil) dX2_isTrain_17
    · skip
      refine lv_iconst (v := iI (1)) hx hb dX2_isTrain_12 rfl ?_
      refine lv_goto (tgt := 17) hx hb dX2_isTrain_13 (by decide) ?_
      exact W.zret hx hb hr (by rfl) (fun t ht hWm => ⟨congrArg (fun z => Outcome.returned (some (Value.int (iI z)))) (by split <;> omega), ht⟩) (fun _ h => absurd h List.not_mem_nil) dX2_isTrain_17

set_option maxHeartbeats 4000000 in
set_option maxRecDepth 100000 in
theorem mm_isBox (l : Launch) (D : va_G) (cA : Nat → ClassId) (A : Nat → Prop) (o : Nat) (ad : Nat → Nat) (F G : Nat → Nat) (N X : Nat → Nat → Nat) (Z : Nat → Int) (K : Nat) (hKb : K ≤ 1000000) (hF : FB F) (hG : GB G) (hN : NB N) (hX : XB X) (hZ : ZB K Z) (t : Int) (ht : inR t) : Met l yX2_isBox (ws_ yX2_isBox cX2_isBox 2 (some .boolean)) ({ frames := 1, cells := 0, slots := 0, locals := 30 }) (Pk D cA [.ref o, .int (iI (t))] (MW D cA A o ad F G N X Z)) (k2_QcV (.int (iI (if 0 ≤ t ∧ t < F 4 then 1 else 0)))) 0 0 (fun _ => False) := by
  refine Met.ofW (cc := cX2_isBox) (maxL := 2) (ret := (some .boolean)) (by decide) rfl ?_
  intro p e s m args below meth c s₁ B hml hv
  obtain ⟨rfl, hK, hW⟩ := hv
  have hx := B.exec
  have hb := B.bytes
  have hr := B.returns
  have hts := atoms_spec (ws := ws_ yX2_isBox cX2_isBox 2 (some .boolean)) B.pre
  have hts : ∀ w ∈ lw_all, w.before _ s = true := fun w h => hts w (List.mem_cons_of_mem _ h)
  have hown : s.vm.findClass RX2 = some m.cls := findClass_of_methodNamed B.named
  have hlocks := B.notSynchronized
  have hl := lv_entry ([.ref o, .int (iI (t))]) (n := 2) (Nat.le_of_ble_eq_true rfl)
  rw [lg_entry_eq]
  generalize (lg_sl ([.ref o, .int (iI (t))]) ++ List.replicate (2 - (lg_sl ([.ref o, .int (iI (t))])).length) Slot.unset).toArray = ls at hl ⊢
  have hl : lv_has ls 2 [(0, .ref o), (1, .int (iI (t)))] := hl
  have hS : va_S A s.heap s.heap [] := va_S.rf
  have htt := ht
  unfold inR at ht
  refine lv_iload_n hx hb dX2_isBox_0 rfl (lv_at hl 1 rfl) ?_
  refine ri_if_lt (tgt := 16) hx hb htt dX2_isBox_1 (by decide) (fun h1 => ?_) (fun h1 => ?_)
  · skip
    refine lv_iconst (v := iI (0)) hx hb dX2_isBox_16 rfl ?_
    exact W.zret hx hb hr (by rfl) (fun t ht hWm => ⟨congrArg (fun z => Outcome.returned (some (Value.int (iI z)))) (by split <;> omega), ht⟩) (fun _ h => absurd h List.not_mem_nil) dX2_isBox_17
  · skip
    refine lv_iload_n hx hb dX2_isBox_4 rfl (lv_at hl 1 rfl) ?_
    refine lv_aload_n hx hb dX2_isBox_5 rfl (lv_at hl 0 rfl) ?_
    refine m_get hx hb hts hown hK hW 4 (by decide) q978 rfl (v := .int (iI (F 4))) rfl dX2_isBox_6 ?_
    have b2 : F 4 ≤ 60 := hF 4
    refine ri_icmp_ge (tgt := 16) hx hb htt (by unfold inR; omega) dX2_isBox_9 (by decide) (fun h3 => ?_) (fun h3 => ?_)
    · skip
      refine lv_iconst (v := iI (0)) hx hb dX2_isBox_16 rfl ?_
      exact W.zret hx hb hr (by rfl) (fun t ht hWm => ⟨congrArg (fun z => Outcome.returned (some (Value.int (iI z)))) (by split <;> omega), ht⟩) (fun _ h => absurd h List.not_mem_nil) dX2_isBox_17
    · skip
      refine lv_iconst (v := iI (1)) hx hb dX2_isBox_12 rfl ?_
      refine lv_goto (tgt := 17) hx hb dX2_isBox_13 (by decide) ?_
      exact W.zret hx hb hr (by rfl) (fun t ht hWm => ⟨congrArg (fun z => Outcome.returned (some (Value.int (iI z)))) (by split <;> omega), ht⟩) (fun _ h => absurd h List.not_mem_nil) dX2_isBox_17

set_option maxHeartbeats 4000000 in
set_option maxRecDepth 100000 in
theorem mm_thrown (l : Launch) (D : va_G) (cA : Nat → ClassId) (A : Nat → Prop) (o : Nat) (ad : Nat → Nat) (F G : Nat → Nat) (N X : Nat → Nat → Nat) (Z : Nat → Int) (K : Nat) (hKb : K ≤ 1000000) (hF : FB F) (hG : GB G) (hN : NB N) (hX : XB X) (hZ : ZB K Z)  : Met l yX2_thrown (ws_ yX2_thrown cX2_thrown 1 (some .int)) ({ frames := 1, cells := 0, slots := 0, locals := 30 }) (Pk D cA [.ref o] (MW D cA A o ad F G N X Z)) (k2_QcV (.int (iI (F 0)))) 0 0 (fun _ => False) := by
  refine Met.ofW (cc := cX2_thrown) (maxL := 1) (ret := (some .int)) (by decide) rfl ?_
  intro p e s m args below meth c s₁ B hml hv
  obtain ⟨rfl, hK, hW⟩ := hv
  have hx := B.exec
  have hb := B.bytes
  have hr := B.returns
  have hts := atoms_spec (ws := ws_ yX2_thrown cX2_thrown 1 (some .int)) B.pre
  have hts : ∀ w ∈ lw_all, w.before _ s = true := fun w h => hts w (List.mem_cons_of_mem _ h)
  have hown : s.vm.findClass RX2 = some m.cls := findClass_of_methodNamed B.named
  have hlocks := B.notSynchronized
  have hl := lv_entry ([.ref o]) (n := 1) (Nat.le_of_ble_eq_true rfl)
  rw [lg_entry_eq]
  generalize (lg_sl ([.ref o]) ++ List.replicate (1 - (lg_sl ([.ref o])).length) Slot.unset).toArray = ls at hl ⊢
  have hl : lv_has ls 1 [(0, .ref o)] := hl
  have hS : va_S A s.heap s.heap [] := va_S.rf
  refine lv_aload_n hx hb dX2_thrown_0 rfl (lv_at hl 0 rfl) ?_
  refine m_get hx hb hts hown hK hW 0 (by decide) q974 rfl (v := .int (iI (F 0))) rfl dX2_thrown_1 ?_
  have b1 : F 0 ≤ 2 := hF 0
  exact W.iret hx hb hr (fun t ht hWm => ⟨congrArg (fun z => Outcome.returned (some (Value.int (iI z)))) (rfl), ht⟩) (fun _ h => absurd h List.not_mem_nil) dX2_thrown_4

set_option maxHeartbeats 4000000 in
set_option maxRecDepth 100000 in
theorem mm_fromOf (l : Launch) (D : va_G) (cA : Nat → ClassId) (A : Nat → Prop) (o : Nat) (ad : Nat → Nat) (F G : Nat → Nat) (N X : Nat → Nat → Nat) (Z : Nat → Int) (K : Nat) (hKb : K ≤ 1000000) (hF : FB F) (hG : GB G) (hN : NB N) (hX : XB X) (hZ : ZB K Z) (b : Nat) (hb60 : b < 60) : Met l yX2_fromOf (ws_ yX2_fromOf cX2_fromOf 2 (some .int)) ({ frames := 1, cells := 0, slots := 0, locals := 30 }) (Pk D cA [.ref o, .int (iI (b))] (MW D cA A o ad F G N X Z)) (k2_QcV (.int (iI (frN N b)))) 0 0 (fun _ => False) := by
  refine Met.ofW (cc := cX2_fromOf) (maxL := 2) (ret := (some .int)) (by decide) rfl ?_
  intro p e s m args below meth c s₁ B hml hv
  obtain ⟨rfl, hK, hW⟩ := hv
  have hx := B.exec
  have hb := B.bytes
  have hr := B.returns
  have hts := atoms_spec (ws := ws_ yX2_fromOf cX2_fromOf 2 (some .int)) B.pre
  have hts : ∀ w ∈ lw_all, w.before _ s = true := fun w h => hts w (List.mem_cons_of_mem _ h)
  have hown : s.vm.findClass RX2 = some m.cls := findClass_of_methodNamed B.named
  have hlocks := B.notSynchronized
  have hl := lv_entry ([.ref o, .int (iI (b))]) (n := 2) (Nat.le_of_ble_eq_true rfl)
  rw [lg_entry_eq]
  generalize (lg_sl ([.ref o, .int (iI (b))]) ++ List.replicate (2 - (lg_sl ([.ref o, .int (iI (b))])).length) Slot.unset).toArray = ls at hl ⊢
  have hl : lv_has ls 2 [(0, .ref o), (1, .int (iI (b)))] := hl
  have hS : va_S A s.heap s.heap [] := va_S.rf
  refine lv_aload_n hx hb dX2_fromOf_0 rfl (lv_at hl 0 rfl) ?_
  refine m_get hx hb hts hown hK hW 21 (by decide) q995 rfl (v := .ref (ad 21)) rfl dX2_fromOf_1 ?_
  refine lv_iload_n hx hb dX2_fromOf_4 rfl (lv_at hl 1 rfl) ?_
  refine h_zald hx hb hK hW.a21 (b) (by omega) (by omega) (by decide) dX2_fromOf_5 ?_
  have b1 : N 21 (b) ≤ 1 := hN 21 (b)
  refine ri_if_eq (tgt := 18) hx hb (by unfold inR; omega) dX2_fromOf_6 (by decide) (fun h2 => ?_) (fun h2 => ?_)
  · skip
    refine lv_aload_n hx hb dX2_fromOf_18 rfl (lv_at hl 0 rfl) ?_
    refine m_get hx hb hts hown hK hW 14 (by decide) q988 rfl (v := .ref (ad 14)) rfl dX2_fromOf_19 ?_
    refine lv_iload_n hx hb dX2_fromOf_22 rfl (lv_at hl 1 rfl) ?_
    refine h_iald hx hb hK hW.a14 (b) (by omega) (by omega) (by decide) dX2_fromOf_23 ?_
    have b3 : N 14 (b) ≤ 9 := hN 14 (b)
    exact W.iret hx hb hr (fun t ht hWm => ⟨congrArg (fun z => Outcome.returned (some (Value.int (iI z)))) (by unfold frN; split <;> omega), ht⟩) (fun _ h => absurd h List.not_mem_nil) dX2_fromOf_24
  · skip
    refine lv_aload_n hx hb dX2_fromOf_9 rfl (lv_at hl 0 rfl) ?_
    refine m_get hx hb hts hown hK hW 17 (by decide) q991 rfl (v := .ref (ad 17)) rfl dX2_fromOf_10 ?_
    refine lv_iload_n hx hb dX2_fromOf_13 rfl (lv_at hl 1 rfl) ?_
    refine h_iald hx hb hK hW.a17 (b) (by omega) (by omega) (by decide) dX2_fromOf_14 ?_
    have b4 : N 17 (b) ≤ 9 := hN 17 (b)
    refine lv_goto (tgt := 24) hx hb dX2_fromOf_15 (by decide) ?_
    exact W.iret hx hb hr (fun t ht hWm => ⟨congrArg (fun z => Outcome.returned (some (Value.int (iI z)))) (by unfold frN; split <;> omega), ht⟩) (fun _ h => absurd h List.not_mem_nil) dX2_fromOf_24

set_option maxHeartbeats 4000000 in
set_option maxRecDepth 100000 in
theorem mm_toOf (l : Launch) (D : va_G) (cA : Nat → ClassId) (A : Nat → Prop) (o : Nat) (ad : Nat → Nat) (F G : Nat → Nat) (N X : Nat → Nat → Nat) (Z : Nat → Int) (K : Nat) (hKb : K ≤ 1000000) (hF : FB F) (hG : GB G) (hN : NB N) (hX : XB X) (hZ : ZB K Z) (b : Nat) (hb60 : b < 60) : Met l yX2_toOf (ws_ yX2_toOf cX2_toOf 2 (some .int)) ({ frames := 1, cells := 0, slots := 0, locals := 30 }) (Pk D cA [.ref o, .int (iI (b))] (MW D cA A o ad F G N X Z)) (k2_QcV (.int (iI (toN N b)))) 0 0 (fun _ => False) := by
  refine Met.ofW (cc := cX2_toOf) (maxL := 2) (ret := (some .int)) (by decide) rfl ?_
  intro p e s m args below meth c s₁ B hml hv
  obtain ⟨rfl, hK, hW⟩ := hv
  have hx := B.exec
  have hb := B.bytes
  have hr := B.returns
  have hts := atoms_spec (ws := ws_ yX2_toOf cX2_toOf 2 (some .int)) B.pre
  have hts : ∀ w ∈ lw_all, w.before _ s = true := fun w h => hts w (List.mem_cons_of_mem _ h)
  have hown : s.vm.findClass RX2 = some m.cls := findClass_of_methodNamed B.named
  have hlocks := B.notSynchronized
  have hl := lv_entry ([.ref o, .int (iI (b))]) (n := 2) (Nat.le_of_ble_eq_true rfl)
  rw [lg_entry_eq]
  generalize (lg_sl ([.ref o, .int (iI (b))]) ++ List.replicate (2 - (lg_sl ([.ref o, .int (iI (b))])).length) Slot.unset).toArray = ls at hl ⊢
  have hl : lv_has ls 2 [(0, .ref o), (1, .int (iI (b)))] := hl
  have hS : va_S A s.heap s.heap [] := va_S.rf
  refine lv_aload_n hx hb dX2_toOf_0 rfl (lv_at hl 0 rfl) ?_
  refine m_get hx hb hts hown hK hW 21 (by decide) q995 rfl (v := .ref (ad 21)) rfl dX2_toOf_1 ?_
  refine lv_iload_n hx hb dX2_toOf_4 rfl (lv_at hl 1 rfl) ?_
  refine h_zald hx hb hK hW.a21 (b) (by omega) (by omega) (by decide) dX2_toOf_5 ?_
  have b1 : N 21 (b) ≤ 1 := hN 21 (b)
  refine ri_if_eq (tgt := 18) hx hb (by unfold inR; omega) dX2_toOf_6 (by decide) (fun h2 => ?_) (fun h2 => ?_)
  · skip
    refine lv_aload_n hx hb dX2_toOf_18 rfl (lv_at hl 0 rfl) ?_
    refine m_get hx hb hts hown hK hW 17 (by decide) q991 rfl (v := .ref (ad 17)) rfl dX2_toOf_19 ?_
    refine lv_iload_n hx hb dX2_toOf_22 rfl (lv_at hl 1 rfl) ?_
    refine h_iald hx hb hK hW.a17 (b) (by omega) (by omega) (by decide) dX2_toOf_23 ?_
    have b3 : N 17 (b) ≤ 9 := hN 17 (b)
    exact W.iret hx hb hr (fun t ht hWm => ⟨congrArg (fun z => Outcome.returned (some (Value.int (iI z)))) (by unfold toN; split <;> omega), ht⟩) (fun _ h => absurd h List.not_mem_nil) dX2_toOf_24
  · skip
    refine lv_aload_n hx hb dX2_toOf_9 rfl (lv_at hl 0 rfl) ?_
    refine m_get hx hb hts hown hK hW 14 (by decide) q988 rfl (v := .ref (ad 14)) rfl dX2_toOf_10 ?_
    refine lv_iload_n hx hb dX2_toOf_13 rfl (lv_at hl 1 rfl) ?_
    refine h_iald hx hb hK hW.a14 (b) (by omega) (by omega) (by decide) dX2_toOf_14 ?_
    have b4 : N 14 (b) ≤ 9 := hN 14 (b)
    refine lv_goto (tgt := 24) hx hb dX2_toOf_15 (by decide) ?_
    exact W.iret hx hb hr (fun t ht hWm => ⟨congrArg (fun z => Outcome.returned (some (Value.int (iI z)))) (by unfold toN; split <;> omega), ht⟩) (fun _ h => absurd h List.not_mem_nil) dX2_toOf_24

set_option maxHeartbeats 4000000 in
set_option maxRecDepth 100000 in
theorem mm_readyOf (l : Launch) (D : va_G) (cA : Nat → ClassId) (A : Nat → Prop) (o : Nat) (ad : Nat → Nat) (F G : Nat → Nat) (N X : Nat → Nat → Nat) (Z : Nat → Int) (K : Nat) (hKb : K ≤ 1000000) (hF : FB F) (hG : GB G) (hN : NB N) (hX : XB X) (hZ : ZB K Z) (b : Nat) (hb60 : b < 60) : Met l yX2_readyOf (ws_ yX2_readyOf cX2_readyOf 2 (some .int)) ({ frames := 1, cells := 0, slots := 0, locals := 30 }) (Pk D cA [.ref o, .int (iI (b))] (MW D cA A o ad F G N X Z)) (k2_QcV (.int (iI (rdN N b)))) 0 0 (fun _ => False) := by
  refine Met.ofW (cc := cX2_readyOf) (maxL := 2) (ret := (some .int)) (by decide) rfl ?_
  intro p e s m args below meth c s₁ B hml hv
  obtain ⟨rfl, hK, hW⟩ := hv
  have hx := B.exec
  have hb := B.bytes
  have hr := B.returns
  have hts := atoms_spec (ws := ws_ yX2_readyOf cX2_readyOf 2 (some .int)) B.pre
  have hts : ∀ w ∈ lw_all, w.before _ s = true := fun w h => hts w (List.mem_cons_of_mem _ h)
  have hown : s.vm.findClass RX2 = some m.cls := findClass_of_methodNamed B.named
  have hlocks := B.notSynchronized
  have hl := lv_entry ([.ref o, .int (iI (b))]) (n := 2) (Nat.le_of_ble_eq_true rfl)
  rw [lg_entry_eq]
  generalize (lg_sl ([.ref o, .int (iI (b))]) ++ List.replicate (2 - (lg_sl ([.ref o, .int (iI (b))])).length) Slot.unset).toArray = ls at hl ⊢
  have hl : lv_has ls 2 [(0, .ref o), (1, .int (iI (b)))] := hl
  have hS : va_S A s.heap s.heap [] := va_S.rf
  refine lv_aload_n hx hb dX2_readyOf_0 rfl (lv_at hl 0 rfl) ?_
  refine m_get hx hb hts hown hK hW 21 (by decide) q995 rfl (v := .ref (ad 21)) rfl dX2_readyOf_1 ?_
  refine lv_iload_n hx hb dX2_readyOf_4 rfl (lv_at hl 1 rfl) ?_
  refine h_zald hx hb hK hW.a21 (b) (by omega) (by omega) (by decide) dX2_readyOf_5 ?_
  have b1 : N 21 (b) ≤ 1 := hN 21 (b)
  refine ri_if_eq (tgt := 18) hx hb (by unfold inR; omega) dX2_readyOf_6 (by decide) (fun h2 => ?_) (fun h2 => ?_)
  · skip
    refine lv_aload_n hx hb dX2_readyOf_18 rfl (lv_at hl 0 rfl) ?_
    refine m_get hx hb hts hown hK hW 16 (by decide) q990 rfl (v := .ref (ad 16)) rfl dX2_readyOf_19 ?_
    refine lv_iload_n hx hb dX2_readyOf_22 rfl (lv_at hl 1 rfl) ?_
    refine h_iald hx hb hK hW.a16 (b) (by omega) (by omega) (by decide) dX2_readyOf_23 ?_
    have b3 : N 16 (b) ≤ 1439 := hN 16 (b)
    exact W.iret hx hb hr (fun t ht hWm => ⟨congrArg (fun z => Outcome.returned (some (Value.int (iI z)))) (by unfold rdN; split <;> omega), ht⟩) (fun _ h => absurd h List.not_mem_nil) dX2_readyOf_24
  · skip
    refine lv_aload_n hx hb dX2_readyOf_9 rfl (lv_at hl 0 rfl) ?_
    refine m_get hx hb hts hown hK hW 20 (by decide) q994 rfl (v := .ref (ad 20)) rfl dX2_readyOf_10 ?_
    refine lv_iload_n hx hb dX2_readyOf_13 rfl (lv_at hl 1 rfl) ?_
    refine h_iald hx hb hK hW.a20 (b) (by omega) (by omega) (by decide) dX2_readyOf_14 ?_
    have b4 : N 20 (b) ≤ 1439 := hN 20 (b)
    refine lv_goto (tgt := 24) hx hb dX2_readyOf_15 (by decide) ?_
    exact W.iret hx hb hr (fun t ht hWm => ⟨congrArg (fun z => Outcome.returned (some (Value.int (iI z)))) (by unfold rdN; split <;> omega), ht⟩) (fun _ h => absurd h List.not_mem_nil) dX2_readyOf_24

set_option maxHeartbeats 4000000 in
set_option maxRecDepth 100000 in
theorem mm_wayOf (l : Launch) (D : va_G) (cA : Nat → ClassId) (A : Nat → Prop) (o : Nat) (ad : Nat → Nat) (F G : Nat → Nat) (N X : Nat → Nat → Nat) (Z : Nat → Int) (K : Nat) (hKb : K ≤ 1000000) (hF : FB F) (hG : GB G) (hN : NB N) (hX : XB X) (hZ : ZB K Z) (b : Nat) (hb60 : b < 60) : Met l yX2_wayOf (ws_ yX2_wayOf cX2_wayOf 2 (some .int)) ({ frames := 1, cells := 0, slots := 0, locals := 30 }) (Pk D cA [.ref o, .int (iI (b))] (MW D cA A o ad F G N X Z)) (k2_QcV (.int (iI (wayN N b)))) 0 0 (fun _ => False) := by
  refine Met.ofW (cc := cX2_wayOf) (maxL := 2) (ret := (some .int)) (by decide) rfl ?_
  intro p e s m args below meth c s₁ B hml hv
  obtain ⟨rfl, hK, hW⟩ := hv
  have hx := B.exec
  have hb := B.bytes
  have hr := B.returns
  have hts := atoms_spec (ws := ws_ yX2_wayOf cX2_wayOf 2 (some .int)) B.pre
  have hts : ∀ w ∈ lw_all, w.before _ s = true := fun w h => hts w (List.mem_cons_of_mem _ h)
  have hown : s.vm.findClass RX2 = some m.cls := findClass_of_methodNamed B.named
  have hlocks := B.notSynchronized
  have hl := lv_entry ([.ref o, .int (iI (b))]) (n := 2) (Nat.le_of_ble_eq_true rfl)
  rw [lg_entry_eq]
  generalize (lg_sl ([.ref o, .int (iI (b))]) ++ List.replicate (2 - (lg_sl ([.ref o, .int (iI (b))])).length) Slot.unset).toArray = ls at hl ⊢
  have hl : lv_has ls 2 [(0, .ref o), (1, .int (iI (b)))] := hl
  have hS : va_S A s.heap s.heap [] := va_S.rf
  refine lv_iconst (v := iI (2)) hx hb dX2_wayOf_0 rfl ?_
  refine lv_iload_n hx hb dX2_wayOf_1 rfl (lv_at hl 1 rfl) ?_
  refine ri_imul hx hb dX2_wayOf_2 ?_
  refine lv_aload_n hx hb dX2_wayOf_3 rfl (lv_at hl 0 rfl) ?_
  refine m_get hx hb hts hown hK hW 21 (by decide) q995 rfl (v := .ref (ad 21)) rfl dX2_wayOf_4 ?_
  refine lv_iload_n hx hb dX2_wayOf_7 rfl (lv_at hl 1 rfl) ?_
  refine h_zald hx hb hK hW.a21 (b) (by omega) (by omega) (by decide) dX2_wayOf_8 ?_
  have b1 : N 21 (b) ≤ 1 := hN 21 (b)
  refine ri_if_eq (tgt := 16) hx hb (by unfold inR; omega) dX2_wayOf_9 (by decide) (fun h2 => ?_) (fun h2 => ?_)
  · skip
    refine lv_iconst (v := iI (0)) hx hb dX2_wayOf_16 rfl ?_
    refine ri_iadd hx hb dX2_wayOf_17 ?_
    exact W.iret hx hb hr (fun t ht hWm => ⟨congrArg (fun z => Outcome.returned (some (Value.int (iI z)))) (by unfold wayN; omega), ht⟩) (fun _ h => absurd h List.not_mem_nil) dX2_wayOf_18
  · skip
    refine lv_iconst (v := iI (1)) hx hb dX2_wayOf_12 rfl ?_
    refine lv_goto (tgt := 17) hx hb dX2_wayOf_13 (by decide) ?_
    refine ri_iadd hx hb dX2_wayOf_17 ?_
    exact W.iret hx hb hr (fun t ht hWm => ⟨congrArg (fun z => Outcome.returned (some (Value.int (iI z)))) (by unfold wayN; omega), ht⟩) (fun _ h => absurd h List.not_mem_nil) dX2_wayOf_18

set_option maxHeartbeats 4000000 in
set_option maxRecDepth 100000 in
theorem mm_sortedAt (l : Launch) (D : va_G) (cA : Nat → ClassId) (A : Nat → Prop) (o : Nat) (ad : Nat → Nat) (F G : Nat → Nat) (N X : Nat → Nat → Nat) (Z : Nat → Int) (K : Nat) (hKb : K ≤ 1000000) (hF : FB F) (hG : GB G) (hN : NB N) (hX : XB X) (hZ : ZB K Z) (b : Nat) (hb60 : b < 60) : Met l yX2_sortedAt (ws_ yX2_sortedAt cX2_sortedAt 2 (some .int)) ({ frames := 2, cells := 0, slots := 0, locals := 51 }) (Pk D cA [.ref o, .int (iI (b))] (MW D cA A o ad F G N X Z)) (k2_QcV (.int (iI (srtN N b)))) 0 0 (fun _ => False) := by
  refine Met.ofW (cc := cX2_sortedAt) (maxL := 2) (ret := (some .int)) (by decide) rfl ?_
  intro p e s m args below meth c s₁ B hml hv
  obtain ⟨rfl, hK, hW⟩ := hv
  have hx := B.exec
  have hb := B.bytes
  have hr := B.returns
  have hts := atoms_spec (ws := ws_ yX2_sortedAt cX2_sortedAt 2 (some .int)) B.pre
  have hts : ∀ w ∈ lw_all, w.before _ s = true := fun w h => hts w (List.mem_cons_of_mem _ h)
  have hown : s.vm.findClass RX2 = some m.cls := findClass_of_methodNamed B.named
  have hlocks := B.notSynchronized
  have hl := lv_entry ([.ref o, .int (iI (b))]) (n := 2) (Nat.le_of_ble_eq_true rfl)
  rw [lg_entry_eq]
  generalize (lg_sl ([.ref o, .int (iI (b))]) ++ List.replicate (2 - (lg_sl ([.ref o, .int (iI (b))])).length) Slot.unset).toArray = ls at hl ⊢
  have hl : lv_has ls 2 [(0, .ref o), (1, .int (iI (b)))] := hl
  have hS : va_S A s.heap s.heap [] := va_S.rf
  refine lv_aload_n hx hb dX2_sortedAt_0 rfl (lv_at hl 0 rfl) ?_
  refine lv_iload_n hx hb dX2_sortedAt_1 rfl (lv_at hl 1 rfl) ?_
  refine rc_V (W.runV (As := [.int (iI (b))]) (rest := []) ⟨hx, hb, hml, hown, hts⟩ (mm_readyOf l D cA A o ad F G N X Z K hKb hF hG hN hX hZ b (by omega)) (cwV 1 hts (lw_V q1170 q1172 qs28 q62 q1173) rfl rfl rfl (by decide +kernel) ⟨Nat.le_of_ble_eq_true rfl, Nat.le_of_ble_eq_true rfl⟩) (preV hK hW.1 rfl hW) rfl rfl hl.1 rfl (lv_room (Nat.le_of_ble_eq_true rfl)) dX2_sortedAt_2 ⟨Nat.le_of_ble_eq_true rfl, Nat.le_of_ble_eq_true rfl⟩) ?_
  have b1 : rdN N b ≤ 1439 := rdN_le hN _
  refine lv_aload_n hx hb dX2_sortedAt_5 rfl (lv_at hl 0 rfl) ?_
  refine m_get hx hb hts hown hK hW 21 (by decide) q995 rfl (v := .ref (ad 21)) rfl dX2_sortedAt_6 ?_
  refine lv_iload_n hx hb dX2_sortedAt_9 rfl (lv_at hl 1 rfl) ?_
  refine h_zald hx hb hK hW.a21 (b) (by omega) (by omega) (by decide) dX2_sortedAt_10 ?_
  have b2 : N 21 (b) ≤ 1 := hN 21 (b)
  refine ri_if_eq (tgt := 23) hx hb (by unfold inR; omega) dX2_sortedAt_11 (by decide) (fun h3 => ?_) (fun h3 => ?_)
  · skip
    refine lv_aload_n hx hb dX2_sortedAt_23 rfl (lv_at hl 0 rfl) ?_
    refine m_get hx hb hts hown hK hW 15 (by decide) q989 rfl (v := .ref (ad 15)) rfl dX2_sortedAt_24 ?_
    refine lv_iload_n hx hb dX2_sortedAt_27 rfl (lv_at hl 1 rfl) ?_
    refine h_iald hx hb hK hW.a15 (b) (by omega) (by omega) (by decide) dX2_sortedAt_28 ?_
    have b4 : N 15 (b) ≤ 120 := hN 15 (b)
    refine ri_iadd hx hb dX2_sortedAt_29 ?_
    refine lv_aload_n hx hb dX2_sortedAt_30 rfl (lv_at hl 0 rfl) ?_
    refine m_get hx hb hts hown hK hW 6 (by decide) q980 rfl (v := .ref (ad 6)) rfl dX2_sortedAt_31 ?_
    refine lv_aload_n hx hb dX2_sortedAt_34 rfl (lv_at hl 0 rfl) ?_
    refine lv_iload_n hx hb dX2_sortedAt_35 rfl (lv_at hl 1 rfl) ?_
    refine rc_V (W.runV (As := [.int (iI (b))]) (rest := [.ref (ad 6), .int (iI ((rdN N b) + (N 15 (b))))]) ⟨hx, hb, hml, hown, hts⟩ (mm_fromOf l D cA A o ad F G N X Z K hKb hF hG hN hX hZ b (by omega)) (cwV 1 hts (lw_V q1174 q1176 qs29 q62 q1177) rfl rfl rfl (by decide +kernel) ⟨Nat.le_of_ble_eq_true rfl, Nat.le_of_ble_eq_true rfl⟩) (preV hK hW.1 rfl hW) rfl rfl hl.1 rfl (lv_room (Nat.le_of_ble_eq_true rfl)) dX2_sortedAt_36 ⟨Nat.le_of_ble_eq_true rfl, Nat.le_of_ble_eq_true rfl⟩) ?_
    have b5 : frN N b ≤ 9 := frN_lt hN _
    refine h_iald hx hb hK hW.a6 (frN N b) (by omega) (by omega) (by decide) dX2_sortedAt_39 ?_
    have b6 : N 6 (frN N b) ≤ 60 := hN 6 (frN N b)
    refine ri_iadd hx hb dX2_sortedAt_40 ?_
    exact W.iret hx hb hr (fun t ht hWm => ⟨congrArg (fun z => Outcome.returned (some (Value.int (iI z)))) (by unfold srtN wkF; split <;> omega), ht⟩) (fun _ h => absurd h List.not_mem_nil) dX2_sortedAt_41
  · skip
    refine lv_aload_n hx hb dX2_sortedAt_14 rfl (lv_at hl 0 rfl) ?_
    refine m_get hx hb hts hown hK hW 18 (by decide) q992 rfl (v := .ref (ad 18)) rfl dX2_sortedAt_15 ?_
    refine lv_iload_n hx hb dX2_sortedAt_18 rfl (lv_at hl 1 rfl) ?_
    refine h_iald hx hb hK hW.a18 (b) (by omega) (by omega) (by decide) dX2_sortedAt_19 ?_
    have b7 : N 18 (b) ≤ 120 := hN 18 (b)
    refine lv_goto (tgt := 29) hx hb dX2_sortedAt_20 (by decide) ?_
    refine ri_iadd hx hb dX2_sortedAt_29 ?_
    refine lv_aload_n hx hb dX2_sortedAt_30 rfl (lv_at hl 0 rfl) ?_
    refine m_get hx hb hts hown hK hW 6 (by decide) q980 rfl (v := .ref (ad 6)) rfl dX2_sortedAt_31 ?_
    refine lv_aload_n hx hb dX2_sortedAt_34 rfl (lv_at hl 0 rfl) ?_
    refine lv_iload_n hx hb dX2_sortedAt_35 rfl (lv_at hl 1 rfl) ?_
    refine rc_V (W.runV (As := [.int (iI (b))]) (rest := [.ref (ad 6), .int (iI ((rdN N b) + (N 18 (b))))]) ⟨hx, hb, hml, hown, hts⟩ (mm_fromOf l D cA A o ad F G N X Z K hKb hF hG hN hX hZ b (by omega)) (cwV 1 hts (lw_V q1174 q1176 qs29 q62 q1177) rfl rfl rfl (by decide +kernel) ⟨Nat.le_of_ble_eq_true rfl, Nat.le_of_ble_eq_true rfl⟩) (preV hK hW.1 rfl hW) rfl rfl hl.1 rfl (lv_room (Nat.le_of_ble_eq_true rfl)) dX2_sortedAt_36 ⟨Nat.le_of_ble_eq_true rfl, Nat.le_of_ble_eq_true rfl⟩) ?_
    have b8 : frN N b ≤ 9 := frN_lt hN _
    refine h_iald hx hb hK hW.a6 (frN N b) (by omega) (by omega) (by decide) dX2_sortedAt_39 ?_
    have b9 : N 6 (frN N b) ≤ 60 := hN 6 (frN N b)
    refine ri_iadd hx hb dX2_sortedAt_40 ?_
    exact W.iret hx hb hr (fun t ht hWm => ⟨congrArg (fun z => Outcome.returned (some (Value.int (iI z)))) (by unfold srtN wkF; split <;> omega), ht⟩) (fun _ h => absurd h List.not_mem_nil) dX2_sortedAt_41

set_option maxHeartbeats 4000000 in
set_option maxRecDepth 100000 in
theorem mm_behind (l : Launch) (D : va_G) (cA : Nat → ClassId) (A : Nat → Prop) (o : Nat) (ad : Nat → Nat) (F G : Nat → Nat) (N X : Nat → Nat → Nat) (Z : Nat → Int) (K : Nat) (hKb : K ≤ 1000000) (hF : FB F) (hG : GB G) (hN : NB N) (hX : XB X) (hZ : ZB K Z) (lg : Nat) (hl360 : lg < 360) : Met l yX2_behind (ws_ yX2_behind cX2_behind 3 (some .int)) ({ frames := 2, cells := 0, slots := 0, locals := 51 }) (Pk D cA [.ref o, .int (iI (lg))] (MW D cA A o ad F G N X Z)) (k2_QcV (.int (iI (legB N lg)))) 0 0 (fun _ => False) := by
  refine Met.ofW (cc := cX2_behind) (maxL := 3) (ret := (some .int)) (by decide) rfl ?_
  intro p e s m args below meth c s₁ B hml hv
  obtain ⟨rfl, hK, hW⟩ := hv
  have hx := B.exec
  have hb := B.bytes
  have hr := B.returns
  have hts := atoms_spec (ws := ws_ yX2_behind cX2_behind 3 (some .int)) B.pre
  have hts : ∀ w ∈ lw_all, w.before _ s = true := fun w h => hts w (List.mem_cons_of_mem _ h)
  have hown : s.vm.findClass RX2 = some m.cls := findClass_of_methodNamed B.named
  have hlocks := B.notSynchronized
  have hl := lv_entry ([.ref o, .int (iI (lg))]) (n := 3) (Nat.le_of_ble_eq_true rfl)
  rw [lg_entry_eq]
  generalize (lg_sl ([.ref o, .int (iI (lg))]) ++ List.replicate (3 - (lg_sl ([.ref o, .int (iI (lg))])).length) Slot.unset).toArray = ls at hl ⊢
  have hl : lv_has ls 3 [(0, .ref o), (1, .int (iI (lg)))] := hl
  have hS : va_S A s.heap s.heap [] := va_S.rf
  refine lv_aload_n hx hb dX2_behind_0 rfl (lv_at hl 0 rfl) ?_
  refine m_get hx hb hts hown hK hW 27 (by decide) q1001 rfl (v := .ref (ad 27)) rfl dX2_behind_1 ?_
  refine lv_iload_n hx hb dX2_behind_4 rfl (lv_at hl 1 rfl) ?_
  refine h_iald hx hb hK hW.a27 (lg) (by omega) (by omega) (by decide) dX2_behind_5 ?_
  have b1 : N 27 (lg) ≤ 15 := hN 27 (lg)
  refine lv_aload_n hx hb dX2_behind_6 rfl (lv_at hl 0 rfl) ?_
  refine m_get hx hb hts hown hK hW 29 (by decide) q1003 rfl (v := .ref (ad 29)) rfl dX2_behind_7 ?_
  refine lv_iload_n hx hb dX2_behind_10 rfl (lv_at hl 1 rfl) ?_
  refine h_iald hx hb hK hW.a29 (lg) (by omega) (by omega) (by decide) dX2_behind_11 ?_
  have b2 : N 29 (lg) ≤ 9 := hN 29 (lg)
  refine rc_V (W.runS (As := [.int (iI (N 27 (lg))), .int (iI (N 29 (lg)))]) (rest := []) ⟨hx, hb, hml, hown, hts⟩ (mm_node l D cA (N 27 (lg)) (N 29 (lg)) ) (va_cwS 2 hts (lw_S q1114 q1115 q62 q1116) rfl rfl rfl (by decide +kernel) ⟨Nat.le_of_ble_eq_true rfl, Nat.le_of_ble_eq_true rfl⟩) (preS hK (B := fun _ => True) trivial) rfl rfl hl.1 rfl (lv_room (Nat.le_of_ble_eq_true rfl)) dX2_behind_12 ⟨Nat.le_of_ble_eq_true rfl, Nat.le_of_ble_eq_true rfl⟩) ?_
  refine ri_top (b := (10 * N 27 lg + N 29 lg : Nat)) (by omega) ?_
  refine lv_istore_n (lv' := [(2, .int (iI ((10 * N 27 lg + N 29 lg : Nat)))), (0, .ref o), (1, .int (iI (lg)))]) hx hb dX2_behind_15 rfl hl (by decide) rfl (fun ls hl => ?_)
  refine lv_aload_n hx hb dX2_behind_16 rfl (lv_at hl 1 rfl) ?_
  refine m_get hx hb hts hown hK hW 10 (by decide) q984 rfl (v := .ref (ad 10)) rfl dX2_behind_17 ?_
  refine lv_iload_n hx hb dX2_behind_20 rfl (lv_at hl 0 rfl) ?_
  refine h_iald hx hb hK hW.a10 ((10 * N 27 lg + N 29 lg : Nat)) (by omega) (by omega) (by decide) dX2_behind_21 ?_
  have b3 : N 10 ((10 * N 27 lg + N 29 lg : Nat)) ≤ 1439 := hN 10 ((10 * N 27 lg + N 29 lg : Nat))
  refine lv_aload_n hx hb dX2_behind_22 rfl (lv_at hl 1 rfl) ?_
  refine m_get hx hb hts hown hK hW 6 (by decide) q980 rfl (v := .ref (ad 6)) rfl dX2_behind_23 ?_
  refine lv_aload_n hx hb dX2_behind_26 rfl (lv_at hl 1 rfl) ?_
  refine m_get hx hb hts hown hK hW 9 (by decide) q983 rfl (v := .ref (ad 9)) rfl dX2_behind_27 ?_
  refine lv_iload_n hx hb dX2_behind_30 rfl (lv_at hl 0 rfl) ?_
  refine h_iald hx hb hK hW.a9 ((10 * N 27 lg + N 29 lg : Nat)) (by omega) (by omega) (by decide) dX2_behind_31 ?_
  have b4 : N 9 ((10 * N 27 lg + N 29 lg : Nat)) ≤ 9 := hN 9 ((10 * N 27 lg + N 29 lg : Nat))
  refine h_iald hx hb hK hW.a6 (N 9 ((10 * N 27 lg + N 29 lg : Nat))) (by omega) (by omega) (by decide) dX2_behind_32 ?_
  have b5 : N 6 (N 9 ((10 * N 27 lg + N 29 lg : Nat))) ≤ 60 := hN 6 (N 9 ((10 * N 27 lg + N 29 lg : Nat)))
  refine ri_iadd hx hb dX2_behind_33 ?_
  exact W.iret hx hb hr (fun t ht hWm => ⟨congrArg (fun z => Outcome.returned (some (Value.int (iI z)))) (by unfold legB behN; omega), ht⟩) (fun _ h => absurd h List.not_mem_nil) dX2_behind_34

set_option maxHeartbeats 4000000 in
set_option maxRecDepth 100000 in
theorem mm_there (l : Launch) (D : va_G) (cA : Nat → ClassId) (A : Nat → Prop) (o : Nat) (ad : Nat → Nat) (F G : Nat → Nat) (N X : Nat → Nat → Nat) (Z : Nat → Int) (K : Nat) (hKb : K ≤ 1000000) (hF : FB F) (hG : GB G) (hN : NB N) (hX : XB X) (hZ : ZB K Z) (w b : Nat) (hw120 : w < 120) (hb60 : b < 60) : Met l yX2_there (ws_ yX2_there cX2_there 3 (some .int)) ({ frames := 3, cells := 0, slots := 0, locals := 73 }) (Pk D cA [.ref o, .int (iI (w)), .int (iI (b))] (MW D cA A o ad F G N X Z)) (k2_QcV (.int (iI (thrN N w b)))) 0 0 (fun _ => False) := by
  refine Met.ofW (cc := cX2_there) (maxL := 3) (ret := (some .int)) (by decide) rfl ?_
  intro p e s m args below meth c s₁ B hml hv
  obtain ⟨rfl, hK, hW⟩ := hv
  have hx := B.exec
  have hb := B.bytes
  have hr := B.returns
  have hts := atoms_spec (ws := ws_ yX2_there cX2_there 3 (some .int)) B.pre
  have hts : ∀ w ∈ lw_all, w.before _ s = true := fun w h => hts w (List.mem_cons_of_mem _ h)
  have hown : s.vm.findClass RX2 = some m.cls := findClass_of_methodNamed B.named
  have hlocks := B.notSynchronized
  have hl := lv_entry ([.ref o, .int (iI (w)), .int (iI (b))]) (n := 3) (Nat.le_of_ble_eq_true rfl)
  rw [lg_entry_eq]
  generalize (lg_sl ([.ref o, .int (iI (w)), .int (iI (b))]) ++ List.replicate (3 - (lg_sl ([.ref o, .int (iI (w)), .int (iI (b))])).length) Slot.unset).toArray = ls at hl ⊢
  have hl : lv_has ls 3 [(0, .ref o), (1, .int (iI (w))), (2, .int (iI (b)))] := hl
  have hS : va_S A s.heap s.heap [] := va_S.rf
  refine lv_aload_n hx hb dX2_there_0 rfl (lv_at hl 0 rfl) ?_
  refine m_get hx hb hts hown hK hW 24 (by decide) q998 rfl (v := .ref (ad 24)) rfl dX2_there_1 ?_
  refine lv_iload_n hx hb dX2_there_4 rfl (lv_at hl 1 rfl) ?_
  refine h_iald hx hb hK hW.a24 (w) (by omega) (by omega) (by decide) dX2_there_5 ?_
  have b1 : N 24 (w) ≤ 3 := hN 24 (w)
  refine ri_if_ne (tgt := 17) hx hb (by unfold inR; omega) dX2_there_6 (by decide) (fun h2 => ?_) (fun h2 => ?_)
  · skip
    refine lv_aload_n hx hb dX2_there_17 rfl (lv_at hl 0 rfl) ?_
    refine lv_iload_n hx hb dX2_there_18 rfl (lv_at hl 1 rfl) ?_
    refine lv_aload_n hx hb dX2_there_19 rfl (lv_at hl 0 rfl) ?_
    refine m_get hx hb hts hown hK hW 24 (by decide) q998 rfl (v := .ref (ad 24)) rfl dX2_there_20 ?_
    refine lv_iload_n hx hb dX2_there_23 rfl (lv_at hl 1 rfl) ?_
    refine h_iald hx hb hK hW.a24 (w) (by omega) (by omega) (by decide) dX2_there_24 ?_
    refine lv_iconst (v := iI (1)) hx hb dX2_there_25 rfl ?_
    refine ri_isub hx hb dX2_there_26 ?_
    refine rc_V (W.runS (As := [.int (iI (w)), .int (iI ((N 24 (w)) - 1))]) (rest := [.ref o]) ⟨hx, hb, hml, hown, hts⟩ (mm_legAt l D cA w ((N 24 (w)) - 1) ) (va_cwS 2 hts (lw_S q1163 q1164 q62 q1165) rfl rfl rfl (by decide +kernel) ⟨Nat.le_of_ble_eq_true rfl, Nat.le_of_ble_eq_true rfl⟩) (preS hK (B := fun _ => True) trivial) rfl rfl hl.1 rfl (lv_room (Nat.le_of_ble_eq_true rfl)) dX2_there_27 ⟨Nat.le_of_ble_eq_true rfl, Nat.le_of_ble_eq_true rfl⟩) ?_
    refine ri_top (b := (3 * w + (N 24 w - 1) : Nat)) (by omega) ?_
    refine rc_V (W.runV (As := [.int (iI ((3 * w + (N 24 w - 1) : Nat)))]) (rest := []) ⟨hx, hb, hml, hown, hts⟩ (mm_behind l D cA A o ad F G N X Z K hKb hF hG hN hX hZ (3 * w + (N 24 w - 1)) (by omega)) (cwV 1 hts (lw_V q1198 q1200 qs33 q62 q1201) rfl rfl rfl (by decide +kernel) ⟨Nat.le_of_ble_eq_true rfl, Nat.le_of_ble_eq_true rfl⟩) (preV hK hW.1 rfl hW) rfl rfl hl.1 rfl (lv_room (Nat.le_of_ble_eq_true rfl)) dX2_there_30 ⟨Nat.le_of_ble_eq_true rfl, Nat.le_of_ble_eq_true rfl⟩) ?_
    have b3 : legB N (3 * w + (N 24 w - 1)) ≤ 1499 := behN_le hN _
    exact W.iret hx hb hr (fun t ht hWm => ⟨congrArg (fun z => Outcome.returned (some (Value.int (iI z)))) (by unfold thrN; split <;> omega), ht⟩) (fun _ h => absurd h List.not_mem_nil) dX2_there_33
  · skip
    refine lv_aload_n hx hb dX2_there_9 rfl (lv_at hl 0 rfl) ?_
    refine lv_iload_n hx hb dX2_there_10 rfl (lv_at hl 2 rfl) ?_
    refine rc_V (W.runV (As := [.int (iI (b))]) (rest := []) ⟨hx, hb, hml, hown, hts⟩ (mm_sortedAt l D cA A o ad F G N X Z K hKb hF hG hN hX hZ b (by omega)) (cwV 1 hts (lw_V q1178 q1180 qs30 q62 q1181) rfl rfl rfl (by decide +kernel) ⟨Nat.le_of_ble_eq_true rfl, Nat.le_of_ble_eq_true rfl⟩) (preV hK hW.1 rfl hW) rfl rfl hl.1 rfl (lv_room (Nat.le_of_ble_eq_true rfl)) dX2_there_11 ⟨Nat.le_of_ble_eq_true rfl, Nat.le_of_ble_eq_true rfl⟩) ?_
    have b4 : srtN N b ≤ 1619 := srtN_le hN _
    refine lv_goto (tgt := 33) hx hb dX2_there_14 (by decide) ?_
    exact W.iret hx hb hr (fun t ht hWm => ⟨congrArg (fun z => Outcome.returned (some (Value.int (iI z)))) (by unfold thrN; split <;> omega), ht⟩) (fun _ h => absurd h List.not_mem_nil) dX2_there_33

set_option maxHeartbeats 4000000 in
set_option maxRecDepth 100000 in
theorem mm_arrives (l : Launch) (D : va_G) (cA : Nat → ClassId) (A : Nat → Prop) (o : Nat) (ad : Nat → Nat) (F G : Nat → Nat) (N X : Nat → Nat → Nat) (Z : Nat → Int) (K : Nat) (hKb : K ≤ 1000000) (hF : FB F) (hG : GB G) (hN : NB N) (hX : XB X) (hZ : ZB K Z) (b : Nat) (hb60 : b < 60) : Met l yX2_arrives (ws_ yX2_arrives cX2_arrives 3 (some .int)) ({ frames := 4, cells := 0, slots := 0, locals := 95 }) (Pk D cA [.ref o, .int (iI (b))] (MW D cA A o ad F G N X Z)) (k2_QcV (.int (iI (arrN N b)))) 0 0 (fun _ => False) := by
  refine Met.ofW (cc := cX2_arrives) (maxL := 3) (ret := (some .int)) (by decide) rfl ?_
  intro p e s m args below meth c s₁ B hml hv
  obtain ⟨rfl, hK, hW⟩ := hv
  have hx := B.exec
  have hb := B.bytes
  have hr := B.returns
  have hts := atoms_spec (ws := ws_ yX2_arrives cX2_arrives 3 (some .int)) B.pre
  have hts : ∀ w ∈ lw_all, w.before _ s = true := fun w h => hts w (List.mem_cons_of_mem _ h)
  have hown : s.vm.findClass RX2 = some m.cls := findClass_of_methodNamed B.named
  have hlocks := B.notSynchronized
  have hl := lv_entry ([.ref o, .int (iI (b))]) (n := 3) (Nat.le_of_ble_eq_true rfl)
  rw [lg_entry_eq]
  generalize (lg_sl ([.ref o, .int (iI (b))]) ++ List.replicate (3 - (lg_sl ([.ref o, .int (iI (b))])).length) Slot.unset).toArray = ls at hl ⊢
  have hl : lv_has ls 3 [(0, .ref o), (1, .int (iI (b)))] := hl
  have hS : va_S A s.heap s.heap [] := va_S.rf
  refine lv_aload_n hx hb dX2_arrives_0 rfl (lv_at hl 0 rfl) ?_
  refine lv_iload_n hx hb dX2_arrives_1 rfl (lv_at hl 1 rfl) ?_
  refine rc_V (W.runV (As := [.int (iI (b))]) (rest := []) ⟨hx, hb, hml, hown, hts⟩ (mm_wayOf l D cA A o ad F G N X Z K hKb hF hG hN hX hZ b (by omega)) (cwV 1 hts (lw_V q1125 q1127 qs18 q62 q1128) rfl rfl rfl (by decide +kernel) ⟨Nat.le_of_ble_eq_true rfl, Nat.le_of_ble_eq_true rfl⟩) (preV hK hW.1 rfl hW) rfl rfl hl.1 rfl (lv_room (Nat.le_of_ble_eq_true rfl)) dX2_arrives_2 ⟨Nat.le_of_ble_eq_true rfl, Nat.le_of_ble_eq_true rfl⟩) ?_
  have b1 : wayN N b < 120 := wayN_lt hN (by omega)
  refine lv_istore_n (lv' := [(2, .int (iI (wayN N b))), (0, .ref o), (1, .int (iI (b)))]) hx hb dX2_arrives_5 rfl hl (by decide) rfl (fun ls hl => ?_)
  refine lv_aload_n hx hb dX2_arrives_6 rfl (lv_at hl 1 rfl) ?_
  refine m_get hx hb hts hown hK hW 23 (by decide) q997 rfl (v := .ref (ad 23)) rfl dX2_arrives_7 ?_
  refine lv_iload_n hx hb dX2_arrives_10 rfl (lv_at hl 0 rfl) ?_
  refine h_zald hx hb hK hW.a23 (wayN N b) (by omega) (by omega) (by decide) dX2_arrives_11 ?_
  have b2 : N 23 (wayN N b) ≤ 1 := hN 23 (wayN N b)
  refine ri_if_eq (tgt := 49) hx hb (by unfold inR; omega) dX2_arrives_12 (by decide) (fun h3 => ?_) (fun h3 => ?_)
  · skip
    refine lv_iconst (v := iI (-1)) hx hb dX2_arrives_49 rfl ?_
    exact W.iret hx hb hr (fun t ht hWm => ⟨congrArg (fun z => Outcome.returned (some (Value.int (iI z)))) (by unfold arrN wkT; split <;> (try split) <;> omega), ht⟩) (fun _ h => absurd h List.not_mem_nil) dX2_arrives_50
  · skip
    refine lv_aload_n hx hb dX2_arrives_15 rfl (lv_at hl 1 rfl) ?_
    refine lv_iload_n hx hb dX2_arrives_16 rfl (lv_at hl 0 rfl) ?_
    refine lv_iload_n hx hb dX2_arrives_17 rfl (lv_at hl 2 rfl) ?_
    refine rc_V (W.runV (As := [.int (iI ((wayN N b : Nat))), .int (iI (b))]) (rest := []) ⟨hx, hb, hml, hown, hts⟩ (mm_there l D cA A o ad F G N X Z K hKb hF hG hN hX hZ (wayN N b) b (by omega) (by omega)) (cwV 2 hts (lw_V q1194 q1196 qs32 q62 q1197) rfl rfl rfl (by decide +kernel) ⟨Nat.le_of_ble_eq_true rfl, Nat.le_of_ble_eq_true rfl⟩) (preV hK hW.1 rfl hW) rfl rfl hl.1 rfl (lv_room (Nat.le_of_ble_eq_true rfl)) dX2_arrives_18 ⟨Nat.le_of_ble_eq_true rfl, Nat.le_of_ble_eq_true rfl⟩) ?_
    have b4 : thrN N (wayN N b) b ≤ 1619 := thrN_le hN _ _
    refine lv_aload_n hx hb dX2_arrives_21 rfl (lv_at hl 1 rfl) ?_
    refine m_get hx hb hts hown hK hW 21 (by decide) q995 rfl (v := .ref (ad 21)) rfl dX2_arrives_22 ?_
    refine lv_iload_n hx hb dX2_arrives_25 rfl (lv_at hl 2 rfl) ?_
    refine h_zald hx hb hK hW.a21 (b) (by omega) (by omega) (by decide) dX2_arrives_26 ?_
    have b5 : N 21 (b) ≤ 1 := hN 21 (b)
    refine ri_if_eq (tgt := 39) hx hb (by unfold inR; omega) dX2_arrives_27 (by decide) (fun h6 => ?_) (fun h6 => ?_)
    · skip
      refine lv_aload_n hx hb dX2_arrives_39 rfl (lv_at hl 1 rfl) ?_
      refine m_get hx hb hts hown hK hW 18 (by decide) q992 rfl (v := .ref (ad 18)) rfl dX2_arrives_40 ?_
      refine lv_iload_n hx hb dX2_arrives_43 rfl (lv_at hl 2 rfl) ?_
      refine h_iald hx hb hK hW.a18 (b) (by omega) (by omega) (by decide) dX2_arrives_44 ?_
      have b7 : N 18 (b) ≤ 120 := hN 18 (b)
      refine ri_iadd hx hb dX2_arrives_45 ?_
      refine lv_goto (tgt := 50) hx hb dX2_arrives_46 (by decide) ?_
      exact W.iret hx hb hr (fun t ht hWm => ⟨congrArg (fun z => Outcome.returned (some (Value.int (iI z)))) (by unfold arrN wkT; split <;> (try split) <;> omega), ht⟩) (fun _ h => absurd h List.not_mem_nil) dX2_arrives_50
    · skip
      refine lv_aload_n hx hb dX2_arrives_30 rfl (lv_at hl 1 rfl) ?_
      refine m_get hx hb hts hown hK hW 15 (by decide) q989 rfl (v := .ref (ad 15)) rfl dX2_arrives_31 ?_
      refine lv_iload_n hx hb dX2_arrives_34 rfl (lv_at hl 2 rfl) ?_
      refine h_iald hx hb hK hW.a15 (b) (by omega) (by omega) (by decide) dX2_arrives_35 ?_
      have b8 : N 15 (b) ≤ 120 := hN 15 (b)
      refine lv_goto (tgt := 45) hx hb dX2_arrives_36 (by decide) ?_
      refine ri_iadd hx hb dX2_arrives_45 ?_
      refine lv_goto (tgt := 50) hx hb dX2_arrives_46 (by decide) ?_
      exact W.iret hx hb hr (fun t ht hWm => ⟨congrArg (fun z => Outcome.returned (some (Value.int (iI z)))) (by unfold arrN wkT; split <;> (try split) <;> omega), ht⟩) (fun _ h => absurd h List.not_mem_nil) dX2_arrives_50

set_option maxHeartbeats 4000000 in
set_option maxRecDepth 100000 in
theorem mm_isFree (l : Launch) (D : va_G) (cA : Nat → ClassId) (A : Nat → Prop) (o : Nat) (ad : Nat → Nat) (F G : Nat → Nat) (N X : Nat → Nat → Nat) (Z : Nat → Int) (K : Nat) (hKb : K ≤ 1000000) (hF : FB F) (hG : GB G) (hN : NB N) (hX : XB X) (hZ : ZB K Z) (t k : Nat) (ht16 : t < 16) (hk10 : k < 10) : Met l yX2_isFree (ws_ yX2_isFree cX2_isFree 3 (some .boolean)) ({ frames := 2, cells := 0, slots := 0, locals := 51 }) (Pk D cA [.ref o, .int (iI (t)), .int (iI (k))] (MW D cA A o ad F G N X Z)) (k2_QcV (.int (iI (if N 13 t = 0 ∧ Z (10 * t + k) < N 7 t then 1 else 0)))) 0 0 (fun _ => False) := by
  refine Met.ofW (cc := cX2_isFree) (maxL := 3) (ret := (some .boolean)) (by decide) rfl ?_
  intro p e s m args below meth c s₁ B hml hv
  obtain ⟨rfl, hK, hW⟩ := hv
  have hx := B.exec
  have hb := B.bytes
  have hr := B.returns
  have hts := atoms_spec (ws := ws_ yX2_isFree cX2_isFree 3 (some .boolean)) B.pre
  have hts : ∀ w ∈ lw_all, w.before _ s = true := fun w h => hts w (List.mem_cons_of_mem _ h)
  have hown : s.vm.findClass RX2 = some m.cls := findClass_of_methodNamed B.named
  have hlocks := B.notSynchronized
  have hl := lv_entry ([.ref o, .int (iI (t)), .int (iI (k))]) (n := 3) (Nat.le_of_ble_eq_true rfl)
  rw [lg_entry_eq]
  generalize (lg_sl ([.ref o, .int (iI (t)), .int (iI (k))]) ++ List.replicate (3 - (lg_sl ([.ref o, .int (iI (t)), .int (iI (k))])).length) Slot.unset).toArray = ls at hl ⊢
  have hl : lv_has ls 3 [(0, .ref o), (1, .int (iI (t))), (2, .int (iI (k)))] := hl
  have hS : va_S A s.heap s.heap [] := va_S.rf
  refine lv_aload_n hx hb dX2_isFree_0 rfl (lv_at hl 0 rfl) ?_
  refine m_get hx hb hts hown hK hW 13 (by decide) q987 rfl (v := .ref (ad 13)) rfl dX2_isFree_1 ?_
  refine lv_iload_n hx hb dX2_isFree_4 rfl (lv_at hl 1 rfl) ?_
  refine h_zald hx hb hK hW.a13 (t) (by omega) (by omega) (by decide) dX2_isFree_5 ?_
  have b1 : N 13 (t) ≤ 1 := hN 13 (t)
  refine ri_if_ne (tgt := 32) hx hb (by unfold inR; omega) dX2_isFree_6 (by decide) (fun h2 => ?_) (fun h2 => ?_)
  · skip
    refine lv_iconst (v := iI (0)) hx hb dX2_isFree_32 rfl ?_
    exact W.zret hx hb hr (by rfl) (fun t ht hWm => ⟨congrArg (fun z => Outcome.returned (some (Value.int (iI z)))) (by split <;> omega), ht⟩) (fun _ h => absurd h List.not_mem_nil) dX2_isFree_33
  · skip
    refine lv_aload_n hx hb dX2_isFree_9 rfl (lv_at hl 0 rfl) ?_
    refine m_get hx hb hts hown hK hW 11 (by decide) q985 rfl (v := .ref (ad 11)) rfl dX2_isFree_10 ?_
    refine lv_iload_n hx hb dX2_isFree_13 rfl (lv_at hl 1 rfl) ?_
    refine lv_iload_n hx hb dX2_isFree_14 rfl (lv_at hl 2 rfl) ?_
    refine rc_V (W.runS (As := [.int (iI (t)), .int (iI (k))]) (rest := [.ref (ad 11)]) ⟨hx, hb, hml, hown, hts⟩ (mm_node l D cA t k ) (va_cwS 2 hts (lw_S q1114 q1115 q62 q1116) rfl rfl rfl (by decide +kernel) ⟨Nat.le_of_ble_eq_true rfl, Nat.le_of_ble_eq_true rfl⟩) (preS hK (B := fun _ => True) trivial) rfl rfl hl.1 rfl (lv_room (Nat.le_of_ble_eq_true rfl)) dX2_isFree_15 ⟨Nat.le_of_ble_eq_true rfl, Nat.le_of_ble_eq_true rfl⟩) ?_
    refine ri_top (b := (10 * t + k : Nat)) (by omega) ?_
    refine h_iald hx hb hK hW.a11 ((10 * t + k : Nat)) (by omega) (by omega) (by decide) dX2_isFree_18 ?_
    have b3 : -(K : Int) ≤ Z ((10 * t + k : Nat)) ∧ Z ((10 * t + k : Nat)) ≤ K := hZ ((10 * t + k : Nat))
    refine lv_aload_n hx hb dX2_isFree_19 rfl (lv_at hl 0 rfl) ?_
    refine m_get hx hb hts hown hK hW 7 (by decide) q981 rfl (v := .ref (ad 7)) rfl dX2_isFree_20 ?_
    refine lv_iload_n hx hb dX2_isFree_23 rfl (lv_at hl 1 rfl) ?_
    refine h_iald hx hb hK hW.a7 (t) (by omega) (by omega) (by decide) dX2_isFree_24 ?_
    have b4 : N 7 (t) ≤ 40 := hN 7 (t)
    refine ri_icmp_ge (tgt := 32) hx hb (by unfold inR; omega) (by unfold inR; omega) dX2_isFree_25 (by decide) (fun h5 => ?_) (fun h5 => ?_)
    · skip
      refine lv_iconst (v := iI (0)) hx hb dX2_isFree_32 rfl ?_
      exact W.zret hx hb hr (by rfl) (fun t ht hWm => ⟨congrArg (fun z => Outcome.returned (some (Value.int (iI z)))) (by split <;> omega), ht⟩) (fun _ h => absurd h List.not_mem_nil) dX2_isFree_33
    · skip
      refine lv_iconst (v := iI (1)) hx hb dX2_isFree_28 rfl ?_
      refine lv_goto (tgt := 33) hx hb dX2_isFree_29 (by decide) ?_
      exact W.zret hx hb hr (by rfl) (fun t ht hWm => ⟨congrArg (fun z => Outcome.returned (some (Value.int (iI z)))) (by split <;> omega), ht⟩) (fun _ h => absurd h List.not_mem_nil) dX2_isFree_33

set_option maxHeartbeats 4000000 in
set_option maxRecDepth 100000 in
theorem mm_isGone (l : Launch) (D : va_G) (cA : Nat → ClassId) (A : Nat → Prop) (o : Nat) (ad : Nat → Nat) (F G : Nat → Nat) (N X : Nat → Nat → Nat) (Z : Nat → Int) (K : Nat) (hKb : K ≤ 1000000) (hF : FB F) (hG : GB G) (hN : NB N) (hX : XB X) (hZ : ZB K Z) (b : Nat) (hb60 : b < 60) : Met l yX2_isGone (ws_ yX2_isGone cX2_isGone 2 (some .boolean)) ({ frames := 2, cells := 0, slots := 0, locals := 51 }) (Pk D cA [.ref o, .int (iI (b))] (MW D cA A o ad F G N X Z)) (k2_QcV (.int (iI (if rdN N b ≤ F 1 ∧ N 22 (wayN N b) ≠ 0 then 1 else 0)))) 0 0 (fun _ => False) := by
  refine Met.ofW (cc := cX2_isGone) (maxL := 2) (ret := (some .boolean)) (by decide) rfl ?_
  intro p e s m args below meth c s₁ B hml hv
  obtain ⟨rfl, hK, hW⟩ := hv
  have hx := B.exec
  have hb := B.bytes
  have hr := B.returns
  have hts := atoms_spec (ws := ws_ yX2_isGone cX2_isGone 2 (some .boolean)) B.pre
  have hts : ∀ w ∈ lw_all, w.before _ s = true := fun w h => hts w (List.mem_cons_of_mem _ h)
  have hown : s.vm.findClass RX2 = some m.cls := findClass_of_methodNamed B.named
  have hlocks := B.notSynchronized
  have hl := lv_entry ([.ref o, .int (iI (b))]) (n := 2) (Nat.le_of_ble_eq_true rfl)
  rw [lg_entry_eq]
  generalize (lg_sl ([.ref o, .int (iI (b))]) ++ List.replicate (2 - (lg_sl ([.ref o, .int (iI (b))])).length) Slot.unset).toArray = ls at hl ⊢
  have hl : lv_has ls 2 [(0, .ref o), (1, .int (iI (b)))] := hl
  have hS : va_S A s.heap s.heap [] := va_S.rf
  refine lv_aload_n hx hb dX2_isGone_0 rfl (lv_at hl 0 rfl) ?_
  refine lv_iload_n hx hb dX2_isGone_1 rfl (lv_at hl 1 rfl) ?_
  refine rc_V (W.runV (As := [.int (iI (b))]) (rest := []) ⟨hx, hb, hml, hown, hts⟩ (mm_readyOf l D cA A o ad F G N X Z K hKb hF hG hN hX hZ b (by omega)) (cwV 1 hts (lw_V q1170 q1172 qs28 q62 q1173) rfl rfl rfl (by decide +kernel) ⟨Nat.le_of_ble_eq_true rfl, Nat.le_of_ble_eq_true rfl⟩) (preV hK hW.1 rfl hW) rfl rfl hl.1 rfl (lv_room (Nat.le_of_ble_eq_true rfl)) dX2_isGone_2 ⟨Nat.le_of_ble_eq_true rfl, Nat.le_of_ble_eq_true rfl⟩) ?_
  have b1 : rdN N b ≤ 1439 := rdN_le hN _
  refine lv_aload_n hx hb dX2_isGone_5 rfl (lv_at hl 0 rfl) ?_
  refine m_get hx hb hts hown hK hW 1 (by decide) q975 rfl (v := .int (iI (F 1))) rfl dX2_isGone_6 ?_
  have b2 : F 1 ≤ 1439 := hF 1
  refine ri_icmp_gt (tgt := 29) hx hb (by unfold inR; omega) (by unfold inR; omega) dX2_isGone_9 (by decide) (fun h3 => ?_) (fun h3 => ?_)
  · skip
    refine lv_iconst (v := iI (0)) hx hb dX2_isGone_29 rfl ?_
    exact W.zret hx hb hr (by rfl) (fun t ht hWm => ⟨congrArg (fun z => Outcome.returned (some (Value.int (iI z)))) (by split <;> omega), ht⟩) (fun _ h => absurd h List.not_mem_nil) dX2_isGone_30
  · skip
    refine lv_aload_n hx hb dX2_isGone_12 rfl (lv_at hl 0 rfl) ?_
    refine m_get hx hb hts hown hK hW 22 (by decide) q996 rfl (v := .ref (ad 22)) rfl dX2_isGone_13 ?_
    refine lv_aload_n hx hb dX2_isGone_16 rfl (lv_at hl 0 rfl) ?_
    refine lv_iload_n hx hb dX2_isGone_17 rfl (lv_at hl 1 rfl) ?_
    refine rc_V (W.runV (As := [.int (iI (b))]) (rest := [.ref (ad 22)]) ⟨hx, hb, hml, hown, hts⟩ (mm_wayOf l D cA A o ad F G N X Z K hKb hF hG hN hX hZ b (by omega)) (cwV 1 hts (lw_V q1125 q1127 qs18 q62 q1128) rfl rfl rfl (by decide +kernel) ⟨Nat.le_of_ble_eq_true rfl, Nat.le_of_ble_eq_true rfl⟩) (preV hK hW.1 rfl hW) rfl rfl hl.1 rfl (lv_room (Nat.le_of_ble_eq_true rfl)) dX2_isGone_18 ⟨Nat.le_of_ble_eq_true rfl, Nat.le_of_ble_eq_true rfl⟩) ?_
    have b4 : wayN N b < 120 := wayN_lt hN (by omega)
    refine h_zald hx hb hK hW.a22 (wayN N b) (by omega) (by omega) (by decide) dX2_isGone_21 ?_
    have b5 : N 22 (wayN N b) ≤ 1 := hN 22 (wayN N b)
    refine ri_if_eq (tgt := 29) hx hb (by unfold inR; omega) dX2_isGone_22 (by decide) (fun h6 => ?_) (fun h6 => ?_)
    · skip
      refine lv_iconst (v := iI (0)) hx hb dX2_isGone_29 rfl ?_
      exact W.zret hx hb hr (by rfl) (fun t ht hWm => ⟨congrArg (fun z => Outcome.returned (some (Value.int (iI z)))) (by split <;> omega), ht⟩) (fun _ h => absurd h List.not_mem_nil) dX2_isGone_30
    · skip
      refine lv_iconst (v := iI (1)) hx hb dX2_isGone_25 rfl ?_
      refine lv_goto (tgt := 30) hx hb dX2_isGone_26 (by decide) ?_
      exact W.zret hx hb hr (by rfl) (fun t ht hWm => ⟨congrArg (fun z => Outcome.returned (some (Value.int (iI z)))) (by split <;> omega), ht⟩) (fun _ h => absurd h List.not_mem_nil) dX2_isGone_30

set_option maxHeartbeats 4000000 in
set_option maxRecDepth 100000 in
theorem mm_isLate (l : Launch) (D : va_G) (cA : Nat → ClassId) (A : Nat → Prop) (o : Nat) (ad : Nat → Nat) (F G : Nat → Nat) (N X : Nat → Nat → Nat) (Z : Nat → Int) (K : Nat) (hKb : K ≤ 1000000) (hF : FB F) (hG : GB G) (hN : NB N) (hX : XB X) (hZ : ZB K Z) (b : Nat) (hb60 : b < 60) : Met l yX2_isLate (ws_ yX2_isLate cX2_isLate 2 (some .boolean)) ({ frames := 5, cells := 0, slots := 0, locals := 117 }) (Pk D cA [.ref o, .int (iI (b))] (MW D cA A o ad F G N X Z)) (k2_QcV (.int (iI (if (if N 21 b = 0 then (N 19 b : Int) else 1439) < arrN N b then 1 else 0)))) 0 0 (fun _ => False) := by
  refine Met.ofW (cc := cX2_isLate) (maxL := 2) (ret := (some .boolean)) (by decide) rfl ?_
  intro p e s m args below meth c s₁ B hml hv
  obtain ⟨rfl, hK, hW⟩ := hv
  have hx := B.exec
  have hb := B.bytes
  have hr := B.returns
  have hts := atoms_spec (ws := ws_ yX2_isLate cX2_isLate 2 (some .boolean)) B.pre
  have hts : ∀ w ∈ lw_all, w.before _ s = true := fun w h => hts w (List.mem_cons_of_mem _ h)
  have hown : s.vm.findClass RX2 = some m.cls := findClass_of_methodNamed B.named
  have hlocks := B.notSynchronized
  have hl := lv_entry ([.ref o, .int (iI (b))]) (n := 2) (Nat.le_of_ble_eq_true rfl)
  rw [lg_entry_eq]
  generalize (lg_sl ([.ref o, .int (iI (b))]) ++ List.replicate (2 - (lg_sl ([.ref o, .int (iI (b))])).length) Slot.unset).toArray = ls at hl ⊢
  have hl : lv_has ls 2 [(0, .ref o), (1, .int (iI (b)))] := hl
  have hS : va_S A s.heap s.heap [] := va_S.rf
  refine lv_aload_n hx hb dX2_isLate_0 rfl (lv_at hl 0 rfl) ?_
  refine lv_iload_n hx hb dX2_isLate_1 rfl (lv_at hl 1 rfl) ?_
  refine rc_V (W.runV (As := [.int (iI (b))]) (rest := []) ⟨hx, hb, hml, hown, hts⟩ (mm_arrives l D cA A o ad F G N X Z K hKb hF hG hN hX hZ b (by omega)) (cwV 1 hts (lw_V q1210 q1212 qs35 q62 q1213) rfl rfl rfl (by decide +kernel) ⟨Nat.le_of_ble_eq_true rfl, Nat.le_of_ble_eq_true rfl⟩) (preV hK hW.1 rfl hW) rfl rfl hl.1 rfl (lv_room (Nat.le_of_ble_eq_true rfl)) dX2_isLate_2 ⟨Nat.le_of_ble_eq_true rfl, Nat.le_of_ble_eq_true rfl⟩) ?_
  have b1 : -1 ≤ arrN N b ∧ arrN N b ≤ 1739 := arrN_le hN _
  refine lv_aload_n hx hb dX2_isLate_5 rfl (lv_at hl 0 rfl) ?_
  refine m_get hx hb hts hown hK hW 21 (by decide) q995 rfl (v := .ref (ad 21)) rfl dX2_isLate_6 ?_
  refine lv_iload_n hx hb dX2_isLate_9 rfl (lv_at hl 1 rfl) ?_
  refine h_zald hx hb hK hW.a21 (b) (by omega) (by omega) (by decide) dX2_isLate_10 ?_
  have b2 : N 21 (b) ≤ 1 := hN 21 (b)
  refine ri_if_eq (tgt := 20) hx hb (by unfold inR; omega) dX2_isLate_11 (by decide) (fun h3 => ?_) (fun h3 => ?_)
  · skip
    refine lv_aload_n hx hb dX2_isLate_20 rfl (lv_at hl 0 rfl) ?_
    refine m_get hx hb hts hown hK hW 19 (by decide) q993 rfl (v := .ref (ad 19)) rfl dX2_isLate_21 ?_
    refine lv_iload_n hx hb dX2_isLate_24 rfl (lv_at hl 1 rfl) ?_
    refine h_iald hx hb hK hW.a19 (b) (by omega) (by omega) (by decide) dX2_isLate_25 ?_
    have b4 : N 19 (b) ≤ 1439 := hN 19 (b)
    refine ri_icmp_le (tgt := 33) hx hb (by unfold inR; omega) (by unfold inR; omega) dX2_isLate_26 (by decide) (fun h5 => ?_) (fun h5 => ?_)
    · skip
      refine lv_iconst (v := iI (0)) hx hb dX2_isLate_33 rfl ?_
      exact W.zret hx hb hr (by rfl) (fun t ht hWm => ⟨congrArg (fun z => Outcome.returned (some (Value.int (iI z)))) (by split <;> first | omega | (split at * <;> omega)), ht⟩) (fun _ h => absurd h List.not_mem_nil) dX2_isLate_34
    · skip
      refine lv_iconst (v := iI (1)) hx hb dX2_isLate_29 rfl ?_
      refine lv_goto (tgt := 34) hx hb dX2_isLate_30 (by decide) ?_
      exact W.zret hx hb hr (by rfl) (fun t ht hWm => ⟨congrArg (fun z => Outcome.returned (some (Value.int (iI z)))) (by split <;> first | omega | (split at * <;> omega)), ht⟩) (fun _ h => absurd h List.not_mem_nil) dX2_isLate_34
  · skip
    refine lv_sipush (v := iI (1439)) hx hb dX2_isLate_14 (by decide) ?_
    refine lv_goto (tgt := 26) hx hb dX2_isLate_17 (by decide) ?_
    refine ri_icmp_le (tgt := 33) hx hb (by unfold inR; omega) (by unfold inR; omega) dX2_isLate_26 (by decide) (fun h6 => ?_) (fun h6 => ?_)
    · skip
      refine lv_iconst (v := iI (0)) hx hb dX2_isLate_33 rfl ?_
      exact W.zret hx hb hr (by rfl) (fun t ht hWm => ⟨congrArg (fun z => Outcome.returned (some (Value.int (iI z)))) (by split <;> first | omega | (split at * <;> omega)), ht⟩) (fun _ h => absurd h List.not_mem_nil) dX2_isLate_34
    · skip
      refine lv_iconst (v := iI (1)) hx hb dX2_isLate_29 rfl ?_
      refine lv_goto (tgt := 34) hx hb dX2_isLate_30 (by decide) ?_
      exact W.zret hx hb hr (by rfl) (fun t ht hWm => ⟨congrArg (fun z => Outcome.returned (some (Value.int (iI z)))) (by split <;> first | omega | (split at * <;> omega)), ht⟩) (fun _ h => absurd h List.not_mem_nil) dX2_isLate_34
