set_option maxRecDepth 100000
set_option maxHeartbeats 4000000 in
set_option maxRecDepth 100000 in
theorem al_size (l : Launch) (D : va_G) (cA : Nat → ClassId) (a : Nat) (mc : Int) (ea sz : Nat) : Met l yJ2_size (ws_ yJ2_size cJ2_size 1 (some .int)) ({ frames := 1, cells := 0, slots := 0, locals := 40 }) (Pk D cA [.ref a] (fun H => va_at D CL (a, eL mc ea sz) H)) (k2_QcV (.int (iI sz))) 0 0 (fun _ => False) := by
  refine Met.ofW (cc := cJ2_size) (maxL := 1) (ret := (some .int)) (by decide) rfl ?_
  intro p e s m args below meth c s₁ B hml hv
  obtain ⟨rfl, hK, hW⟩ := hv
  have hx := B.exec
  have hb := B.bytes
  have hr := B.returns
  have hts := atoms_spec (ws := ws_ yJ2_size cJ2_size 1 (some .int)) B.pre
  have hts : ∀ w ∈ lw_all, w.before _ s = true := fun w h => hts w (List.mem_cons_of_mem _ h)
  have hown : s.vm.findClass RJ2 = some m.cls := findClass_of_methodNamed B.named
  have hlocks := B.notSynchronized
  have hl := lv_entry ([.ref a]) (n := 1) (Nat.le_of_ble_eq_true rfl)
  rw [lg_entry_eq]
  generalize (lg_sl ([.ref a]) ++ List.replicate (1 - (lg_sl ([.ref a])).length) Slot.unset).toArray = ls at hl ⊢
  have hl : lv_has ls 1 [(0, .ref a)] := hl
  have hL := hW
  refine lv_aload_n hx hb dJ2_size_0 rfl (lv_at hl 0 rfl) ?_
  refine h_get hx hb hts in_J2 hown hK hL rfl 2 (by decide) (hts _ q410) rfl (v := .int (iI (sz))) rfl dJ2_size_1 ?_
  exact W.iret hx hb hr (fun t ht hWm => ⟨rfl, ht⟩) (fun _ h => absurd h List.not_mem_nil) dJ2_size_4

set_option maxHeartbeats 4000000 in
set_option maxRecDepth 100000 in
theorem al_isEmpty (l : Launch) (D : va_G) (cA : Nat → ClassId) (a : Nat) (mc : Int) (ea sz : Nat) (hsz : sz ≤ 200) : Met l yJ2_isEmpty (ws_ yJ2_isEmpty cJ2_isEmpty 1 (some .boolean)) ({ frames := 1, cells := 0, slots := 0, locals := 40 }) (Pk D cA [.ref a] (fun H => va_at D CL (a, eL mc ea sz) H)) (k2_QcV (.int (iI (if sz = 0 then 1 else 0)))) 0 0 (fun _ => False) := by
  refine Met.ofW (cc := cJ2_isEmpty) (maxL := 1) (ret := (some .boolean)) (by decide) rfl ?_
  intro p e s m args below meth c s₁ B hml hv
  obtain ⟨rfl, hK, hW⟩ := hv
  have hx := B.exec
  have hb := B.bytes
  have hr := B.returns
  have hts := atoms_spec (ws := ws_ yJ2_isEmpty cJ2_isEmpty 1 (some .boolean)) B.pre
  have hts : ∀ w ∈ lw_all, w.before _ s = true := fun w h => hts w (List.mem_cons_of_mem _ h)
  have hown : s.vm.findClass RJ2 = some m.cls := findClass_of_methodNamed B.named
  have hlocks := B.notSynchronized
  have hl := lv_entry ([.ref a]) (n := 1) (Nat.le_of_ble_eq_true rfl)
  rw [lg_entry_eq]
  generalize (lg_sl ([.ref a]) ++ List.replicate (1 - (lg_sl ([.ref a])).length) Slot.unset).toArray = ls at hl ⊢
  have hl : lv_has ls 1 [(0, .ref a)] := hl
  have hL := hW
  refine lv_aload_n hx hb dJ2_isEmpty_0 rfl (lv_at hl 0 rfl) ?_
  refine h_get hx hb hts in_J2 hown hK hL rfl 2 (by decide) (hts _ q410) rfl (v := .int (iI (sz))) rfl dJ2_isEmpty_1 ?_
  refine ri_if_ne (tgt := 11) hx hb (by unfold inR; omega) dJ2_isEmpty_4 (by decide) (fun h1 => ?_) (fun h1 => ?_)
  · skip
    refine lv_iconst (v := iI (0)) hx hb dJ2_isEmpty_11 rfl ?_
    exact W.zret hx hb hr (by rfl) (fun t ht hWm => ⟨congrArg (fun z => Outcome.returned (some (Value.int (iI z)))) (by split <;> omega), ht⟩) (fun _ h => absurd h List.not_mem_nil) dJ2_isEmpty_12
  · skip
    refine lv_iconst (v := iI (1)) hx hb dJ2_isEmpty_7 rfl ?_
    refine lv_goto (tgt := 12) hx hb dJ2_isEmpty_8 (by decide) ?_
    exact W.zret hx hb hr (by rfl) (fun t ht hWm => ⟨congrArg (fun z => Outcome.returned (some (Value.int (iI z)))) (by split <;> omega), ht⟩) (fun _ h => absurd h List.not_mem_nil) dJ2_isEmpty_12

set_option maxHeartbeats 4000000 in
set_option maxRecDepth 100000 in
theorem pr_checkIndex (l : Launch) (D : va_G) (cA : Nat → ClassId) (i n : Nat) (h : i < n) (hn : n ≤ 1000) : Met l yJ14_checkIndex (ws_ yJ14_checkIndex cJ14_checkIndex 3 (some .int)) ({ frames := 1, cells := 0, slots := 0, locals := 40 }) (Pk D cA [.int (iI (i)), .int (iI (n)), .null] (fun H => True)) (k2_QcV (.int (iI i))) 0 0 (fun _ => False) := by
  refine Met.ofW (cc := cJ14_checkIndex) (maxL := 3) (ret := (some .int)) (by decide) rfl ?_
  intro p e s m args below meth c s₁ B hml hv
  obtain ⟨rfl, hK, hW⟩ := hv
  have hx := B.exec
  have hb := B.bytes
  have hr := B.returns
  have hts := atoms_spec (ws := ws_ yJ14_checkIndex cJ14_checkIndex 3 (some .int)) B.pre
  have hts : ∀ w ∈ lw_all, w.before _ s = true := fun w h => hts w (List.mem_cons_of_mem _ h)
  have hown : s.vm.findClass RJ14 = some m.cls := findClass_of_methodNamed B.named
  have hlocks := B.notSynchronized
  have hl := lv_entry ([.int (iI (i)), .int (iI (n)), .null]) (n := 3) (Nat.le_of_ble_eq_true rfl)
  rw [lg_entry_eq]
  generalize (lg_sl ([.int (iI (i)), .int (iI (n)), .null]) ++ List.replicate (3 - (lg_sl ([.int (iI (i)), .int (iI (n)), .null])).length) Slot.unset).toArray = ls at hl ⊢
  have hl : lv_has ls 3 [(0, .int (iI (i))), (1, .int (iI (n))), (2, .null)] := hl
  refine lv_iload_n hx hb dJ14_checkIndex_0 rfl (lv_at hl 0 rfl) ?_
  refine ri_if_lt (tgt := 9) hx hb (by unfold inR; omega) dJ14_checkIndex_1 (by decide) (fun h1 => ?_) (fun h1 => ?_)
  · skip
    exfalso; omega
  · skip
    refine lv_iload_n hx hb dJ14_checkIndex_4 rfl (lv_at hl 0 rfl) ?_
    refine lv_iload_n hx hb dJ14_checkIndex_5 rfl (lv_at hl 1 rfl) ?_
    refine ri_icmp_lt (tgt := 16) hx hb (by unfold inR; omega) (by unfold inR; omega) dJ14_checkIndex_6 (by decide) (fun h2 => ?_) (fun h2 => ?_)
    · skip
      refine lv_iload_n hx hb dJ14_checkIndex_16 rfl (lv_at hl 0 rfl) ?_
      exact W.iret hx hb hr (fun t ht hWm => ⟨rfl, ht⟩) (fun _ h => absurd h List.not_mem_nil) dJ14_checkIndex_17
    · skip
      exfalso; omega

set_option maxHeartbeats 4000000 in
set_option maxRecDepth 100000 in
theorem ob_checkIndex (l : Launch) (D : va_G) (cA : Nat → ClassId) (i n : Nat) (h : i < n) (hn : n ≤ 1000) : Met l yJ19_checkIndex (ws_ yJ19_checkIndex cJ19_checkIndex 2 (some .int)) ({ frames := 2, cells := 0, slots := 0, locals := 62 }) (Pk D cA [.int (iI (i)), .int (iI (n))] (fun H => True)) (k2_QcV (.int (iI i))) 0 0 (fun _ => False) := by
  refine Met.ofW (cc := cJ19_checkIndex) (maxL := 2) (ret := (some .int)) (by decide) rfl ?_
  intro p e s m args below meth c s₁ B hml hv
  obtain ⟨rfl, hK, hW⟩ := hv
  have hx := B.exec
  have hb := B.bytes
  have hr := B.returns
  have hts := atoms_spec (ws := ws_ yJ19_checkIndex cJ19_checkIndex 2 (some .int)) B.pre
  have hts : ∀ w ∈ lw_all, w.before _ s = true := fun w h => hts w (List.mem_cons_of_mem _ h)
  have hown : s.vm.findClass RJ19 = some m.cls := findClass_of_methodNamed B.named
  have hlocks := B.notSynchronized
  have hl := lv_entry ([.int (iI (i)), .int (iI (n))]) (n := 2) (Nat.le_of_ble_eq_true rfl)
  rw [lg_entry_eq]
  generalize (lg_sl ([.int (iI (i)), .int (iI (n))]) ++ List.replicate (2 - (lg_sl ([.int (iI (i)), .int (iI (n))])).length) Slot.unset).toArray = ls at hl ⊢
  have hl : lv_has ls 2 [(0, .int (iI (i))), (1, .int (iI (n)))] := hl
  refine lv_iload_n hx hb dJ19_checkIndex_0 rfl (lv_at hl 0 rfl) ?_
  refine lv_iload_n hx hb dJ19_checkIndex_1 rfl (lv_at hl 1 rfl) ?_
  refine lv_null hx hb dJ19_checkIndex_2 ?_
  refine rc_V (W.runS (As := [.int (iI (i)), .int (iI (n)), .null]) (rest := []) ⟨hx, hb, hml, hown, hts⟩ (pr_checkIndex l D cA i n h hn) (va_cwS 3 hts (lw_S q572 q573 q58 q574) rfl rfl rfl (by decide +kernel) ⟨Nat.le_of_ble_eq_true rfl, Nat.le_of_ble_eq_true rfl⟩) (preS hK trivial) rfl rfl hl.1 rfl (lv_room (Nat.le_of_ble_eq_true rfl)) dJ19_checkIndex_3 ⟨Nat.le_of_ble_eq_true rfl, Nat.le_of_ble_eq_true rfl⟩) ?_
  exact W.iret hx hb hr (fun t ht hWm => ⟨rfl, ht⟩) (fun _ h => absurd h List.not_mem_nil) dJ19_checkIndex_6

set_option maxHeartbeats 4000000 in
set_option maxRecDepth 100000 in
theorem al_elementData (l : Launch) (D : va_G) (cA : Nat → ClassId) (a : Nat) (mc : Int) (ea sz cap : Nat) (f : Nat → Nat) (i : Nat) (hi : i < sz) : Met l yJ2_elementData (ws_ yJ2_elementData cJ2_elementData 2 (some (.object "java/lang/Object"))) ({ frames := 1, cells := 0, slots := 0, locals := 40 }) (Pk D cA [.ref a, .int (iI (i))] (fun H => LiS D cA a mc ea sz cap f H)) (k2_QcV (.ref (f i))) 0 0 (fun _ => False) := by
  refine Met.ofW (cc := cJ2_elementData) (maxL := 2) (ret := (some (.object "java/lang/Object"))) (by decide) rfl ?_
  intro p e s m args below meth c s₁ B hml hv
  obtain ⟨rfl, hK, hW⟩ := hv
  have hx := B.exec
  have hb := B.bytes
  have hr := B.returns
  have hts := atoms_spec (ws := ws_ yJ2_elementData cJ2_elementData 2 (some (.object "java/lang/Object"))) B.pre
  have hts : ∀ w ∈ lw_all, w.before _ s = true := fun w h => hts w (List.mem_cons_of_mem _ h)
  have hown : s.vm.findClass RJ2 = some m.cls := findClass_of_methodNamed B.named
  have hlocks := B.notSynchronized
  have hl := lv_entry ([.ref a, .int (iI (i))]) (n := 2) (Nat.le_of_ble_eq_true rfl)
  rw [lg_entry_eq]
  generalize (lg_sl ([.ref a, .int (iI (i))]) ++ List.replicate (2 - (lg_sl ([.ref a, .int (iI (i))])).length) Slot.unset).toArray = ls at hl ⊢
  have hl : lv_has ls 2 [(0, .ref a), (1, .int (iI (i)))] := hl
  obtain ⟨hL, hE, hne, hsc, hc2⟩ := hW
  refine lv_aload_n hx hb dJ2_elementData_0 rfl (lv_at hl 0 rfl) ?_
  refine h_get hx hb hts in_J2 hown hK hL rfl 1 (by decide) (hts _ q409) rfl (v := .ref ea) rfl dJ2_elementData_1 ?_
  refine lv_iload_n hx hb dJ2_elementData_4 rfl (lv_at hl 1 rfl) ?_
  refine h_aldq hx hb hK hE (i) (by omega) (by omega) (by omega) dJ2_elementData_5 ?_
  rw [gl_at hi]
  refine W.eq (g2 := F0 m 6 ls [.ref (f i)]) rfl ?_
  exact W.aret hx hb hr (by first | exact Or.inl ⟨_, rfl⟩ | exact Or.inr ⟨_, rfl⟩) (Or.inr ⟨_, rfl⟩) (fun t ht hWm => ⟨rfl, ht⟩) (fun _ h => absurd h List.not_mem_nil) dJ2_elementData_6

set_option maxHeartbeats 4000000 in
set_option maxRecDepth 100000 in
theorem al_get (l : Launch) (D : va_G) (cA : Nat → ClassId) (a : Nat) (mc : Int) (ea sz cap : Nat) (f : Nat → Nat) (i : Nat) (hi : i < sz) : Met l yJ2_get (ws_ yJ2_get cJ2_get 2 (some (.object "java/lang/Object"))) ({ frames := 3, cells := 0, slots := 0, locals := 83 }) (Pk D cA [.ref a, .int (iI (i))] (fun H => LiS D cA a mc ea sz cap f H)) (k2_QcV (.ref (f i))) 0 0 (fun _ => False) := by
  refine Met.ofW (cc := cJ2_get) (maxL := 2) (ret := (some (.object "java/lang/Object"))) (by decide) rfl ?_
  intro p e s m args below meth c s₁ B hml hv
  obtain ⟨rfl, hK, hW⟩ := hv
  have hx := B.exec
  have hb := B.bytes
  have hr := B.returns
  have hts := atoms_spec (ws := ws_ yJ2_get cJ2_get 2 (some (.object "java/lang/Object"))) B.pre
  have hts : ∀ w ∈ lw_all, w.before _ s = true := fun w h => hts w (List.mem_cons_of_mem _ h)
  have hown : s.vm.findClass RJ2 = some m.cls := findClass_of_methodNamed B.named
  have hlocks := B.notSynchronized
  have hl := lv_entry ([.ref a, .int (iI (i))]) (n := 2) (Nat.le_of_ble_eq_true rfl)
  rw [lg_entry_eq]
  generalize (lg_sl ([.ref a, .int (iI (i))]) ++ List.replicate (2 - (lg_sl ([.ref a, .int (iI (i))])).length) Slot.unset).toArray = ls at hl ⊢
  have hl : lv_has ls 2 [(0, .ref a), (1, .int (iI (i)))] := hl
  obtain ⟨hL, hE, hne, hsc, hc2⟩ := hW
  refine lv_iload_n hx hb dJ2_get_0 rfl (lv_at hl 1 rfl) ?_
  refine lv_aload_n hx hb dJ2_get_1 rfl (lv_at hl 0 rfl) ?_
  refine h_get hx hb hts in_J2 hown hK hL rfl 2 (by decide) (hts _ q410) rfl (v := .int (iI (sz))) rfl dJ2_get_2 ?_
  refine rc_V (W.runS (As := [.int (iI (i)), .int (iI (sz))]) (rest := []) ⟨hx, hb, hml, hown, hts⟩ (ob_checkIndex l D cA i sz (by omega) (by omega)) (va_cwS 2 hts (lw_S q569 q570 q66 q571) rfl rfl rfl (by decide +kernel) ⟨Nat.le_of_ble_eq_true rfl, Nat.le_of_ble_eq_true rfl⟩) (preS hK trivial) rfl rfl hl.1 rfl (lv_room (Nat.le_of_ble_eq_true rfl)) dJ2_get_5 ⟨Nat.le_of_ble_eq_true rfl, Nat.le_of_ble_eq_true rfl⟩) ?_
  refine lv_pop hx hb dJ2_get_8 rfl ?_
  refine lv_aload_n hx hb dJ2_get_9 rfl (lv_at hl 0 rfl) ?_
  refine lv_iload_n hx hb dJ2_get_10 rfl (lv_at hl 1 rfl) ?_
  refine rc_V (W.runV (As := [.int (iI (i))]) (rest := []) ⟨hx, hb, hml, hown, hts⟩ (al_elementData l D cA a mc ea sz cap f i hi) (cwV 1 hts (lw_V q575 q576 q577 q45 q578) rfl rfl rfl (by decide +kernel) ⟨Nat.le_of_ble_eq_true rfl, Nat.le_of_ble_eq_true rfl⟩) (preV hK hL rfl ⟨hL, hE, hne, hsc, hc2⟩) rfl rfl hl.1 rfl (lv_room (Nat.le_of_ble_eq_true rfl)) dJ2_get_11 ⟨Nat.le_of_ble_eq_true rfl, Nat.le_of_ble_eq_true rfl⟩) ?_
  exact W.aret hx hb hr (by first | exact Or.inl ⟨_, rfl⟩ | exact Or.inr ⟨_, rfl⟩) (Or.inr ⟨_, rfl⟩) (fun t ht hWm => ⟨rfl, ht⟩) (fun _ h => absurd h List.not_mem_nil) dJ2_get_14

set_option maxHeartbeats 4000000 in
set_option maxRecDepth 100000 in
theorem ac_init (l : Launch) (D : va_G) (cA : Nat → ClassId) (a : Nat) : Met l yJ0_init (ws_ yJ0_init cJ0_init 1 none) ({ frames := 1, cells := 0, slots := 0, locals := 40 }) (Pk D cA [.ref a] (fun H => True)) (k2_Qv) 0 0 (fun _ => False) := by
  refine Met.ofW (cc := cJ0_init) (maxL := 1) (ret := none) (by decide) rfl ?_
  intro p e s m args below meth c s₁ B hml hv
  obtain ⟨rfl, hK, hW⟩ := hv
  have hx := B.exec
  have hb := B.bytes
  have hr := B.returns
  have hts := atoms_spec (ws := ws_ yJ0_init cJ0_init 1 none) B.pre
  have hts : ∀ w ∈ lw_all, w.before _ s = true := fun w h => hts w (List.mem_cons_of_mem _ h)
  have hown : s.vm.findClass RJ0 = some m.cls := findClass_of_methodNamed B.named
  have hlocks := B.notSynchronized
  have hin : meth.name = "<init>" := (name_of_methodNamed B.named B.method).1
  have hl := lv_entry ([.ref a]) (n := 1) (Nat.le_of_ble_eq_true rfl)
  rw [lg_entry_eq]
  generalize (lg_sl ([.ref a]) ++ List.replicate (1 - (lg_sl ([.ref a])).length) Slot.unset).toArray = ls at hl ⊢
  have hl : lv_has ls 1 [(0, .ref a)] := hl
  refine lv_aload_n hx hb dJ0_init_0 rfl (lv_at hl 0 rfl) ?_
  refine W.objInit hx hb hown (hts _ q93) (hts _ q80) (hts _ q81) rfl (by rw [hml]; exact hl.1) rfl dJ0_init_1 (Nat.le_of_ble_eq_true rfl) (Nat.le_of_ble_eq_true rfl) ?_
  refine W.eq (g2 := F0 m 4 ls []) rfl ?_
  exact W.vret hx hb hr (fun t ht hWm => ⟨rfl, ht⟩) (fun _ h => absurd h List.not_mem_nil) dJ0_init_4
