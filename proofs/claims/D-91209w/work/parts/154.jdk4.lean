set_option maxRecDepth 100000
set_option maxHeartbeats 4000000 in
set_option maxRecDepth 100000 in
theorem al_add (l : Launch) (D : va_G) (cA : Nat → ClassId) (a : Nat) (mc : Int) (ea n0 sz cap v ci : Nat) (f : Nat → Nat) (hc1 : 1 ≤ cap) (hc9 : cap ≤ 100) (hci : ci < 12) (hva : v ≠ a) : Met l yJ2_add (ws_ yJ2_add cJ2_add 2 (some .boolean)) ({ frames := 6, cells := 1, slots := 400, locals := 190 }) (Pk D cA [.ref a, .ref v] (fun H => LiS D cA a mc ea sz cap f H ∧ H.size = n0 ∧ EV D sz f H ∧ isO D ci v H ∧ v ≠ ea ∧ ∀ j, j < sz → f j ≠ a)) (Qi (fun z H' => z = 1 ∧ ∃ ea', LiS D cA a (mc + 1) ea' (sz + 1) (nxC cap sz) (va_up f sz v) H' ∧ (ea' = ea ∨ n0 ≤ ea')) (fun q => q = a ∨ q = ea ∨ n0 ≤ q)) 1 400 (fun q => q = a ∨ q = ea ∨ n0 ≤ q) := by
  refine Met.ofW (cc := cJ2_add) (maxL := 2) (ret := (some .boolean)) (by decide) rfl ?_
  intro p e s m args below meth c s₁ B hml hv
  obtain ⟨rfl, hK, hW⟩ := hv
  have hx := B.exec
  have hb := B.bytes
  have hr := B.returns
  have hts := atoms_spec (ws := ws_ yJ2_add cJ2_add 2 (some .boolean)) B.pre
  have hts : ∀ w ∈ lw_all, w.before _ s = true := fun w h => hts w (List.mem_cons_of_mem _ h)
  have hown : s.vm.findClass RJ2 = some m.cls := findClass_of_methodNamed B.named
  have hlocks := B.notSynchronized
  have hl := lv_entry ([.ref a, .ref v]) (n := 2) (Nat.le_of_ble_eq_true rfl)
  rw [lg_entry_eq]
  generalize (lg_sl ([.ref a, .ref v]) ++ List.replicate (2 - (lg_sl ([.ref a, .ref v])).length) Slot.unset).toArray = ls at hl ⊢
  have hl : lv_has ls 2 [(0, .ref a), (1, .ref v)] := hl
  have hS : va_S (fun q => q = a ∨ q = ea ∨ n0 ≤ q) s.heap s.heap [] := va_S.rf
  obtain ⟨⟨hL, hE, hne, hsc, hc2⟩, hn0, hEV, hv, hve, hfa⟩ := hW
  have hal := hL.lt
  refine lv_aload_n hx hb dJ2_add_0 rfl (lv_at hl 0 rfl) ?_
  refine lv_dup hx hb dJ2_add_1 rfl ?_
  refine h_getS hx hb hts in_J2 hown hK hL rfl 0 (by decide) (hts _ q412) (fun x h => u_same (hts _ q413) x h) (v := .int (iI (mc))) rfl dJ2_add_2 ?_
  refine lv_iconst (v := iI (1)) hx hb dJ2_add_5 rfl ?_
  refine ri_iadd hx hb dJ2_add_6 ?_
  refine h_putS hx hb hts in_J2 tyJ2 tyJ2_ok nmJ2 hown hK hL hS (Or.inl rfl) rfl 0 (by decide) (hts _ q412) (fun x h => u_same (hts _ q413) x h) rfl (v := .int (iI (mc + 1))) rfl rfl rfl (Nat.le_of_ble_eq_true rfl) dJ2_add_7 (fun H locs hL oq zq hS => ?_)
  have hL : va_at D CL (a, .inr (8, [.int (iI (mc + 1)), .ref ea, .int (iI (sz))])) H := hL
  have hE := hE.kept (oq _ hne)
  have hv := hv.kept (oq _ hva)
  have hEV := hEV.kept (fun q _ ⟨j, hj, e⟩ => oq q (by rw [← e]; exact hfa j hj))
  refine lv_aload_n hx hb dJ2_add_10 rfl (lv_at hl 0 rfl) ?_
  refine lv_aload_n hx hb dJ2_add_11 rfl (lv_at hl 1 rfl) ?_
  refine lv_aload_n hx hb dJ2_add_12 rfl (lv_at hl 0 rfl) ?_
  refine h_get hx hb hts in_J2 hown hK hL rfl 1 (by decide) (hts _ q409) rfl (v := .ref ea) rfl dJ2_add_13 ?_
  refine lv_aload_n hx hb dJ2_add_16 rfl (lv_at hl 0 rfl) ?_
  refine h_get hx hb hts in_J2 hown hK hL rfl 2 (by decide) (hts _ q410) rfl (v := .int (iI (sz))) rfl dJ2_add_17 ?_
  refine rc_N (W.runV (As := [.ref v, .ref ea, .int (iI (sz))]) (rest := []) ⟨hx, hb, hml, hown, hts⟩ (al_add2 l D cA a (mc + 1) ea n0 sz cap v ci f hc1 hc9 hci hva) (cwV 3 hts (lw_V q472 q474 qs1 q45 q475) rfl rfl rfl (by decide +kernel) ⟨Nat.le_of_ble_eq_true rfl, Nat.le_of_ble_eq_true rfl⟩) (preV hK hL rfl ⟨⟨hL, hE, hne, hsc, hc2⟩, by omega, hEV, hv, hve⟩) rfl rfl hl.1 rfl (lv_room (Nat.le_of_ble_eq_true rfl)) dJ2_add_20 ⟨Nat.le_of_ble_eq_true rfl, Nat.le_of_ble_eq_true rfl⟩) hS (fun _ _ h => h) (fun _ h => h) (fun H locs hq hS hz hk => ?_)
  obtain ⟨ez, hLz, hor⟩ := hq
  refine lv_iconst (v := iI (1)) hx hb dJ2_add_23 rfl ?_
  exact W.zret hx hb hr (by rfl) (fun t ht hWm => ⟨⟨1, rfl, by rw [ht]; exact ⟨rfl, ez, hLz, hor⟩⟩, hS.F ht⟩) hS.2.2 dJ2_add_24

set_option maxHeartbeats 4000000 in
set_option maxRecDepth 100000 in
theorem al_fastRemove (l : Launch) (D : va_G) (cA : Nat → ClassId) (a : Nat) (mc : Int) (ea sz cap : Nat) (f : Nat → Nat) : Met l yJ2_fastRemove (ws_ yJ2_fastRemove cJ2_fastRemove 4 none) ({ frames := 1, cells := 0, slots := 0, locals := 40 }) (Pk D cA [.ref a, .ref ea, .int (iI (sz))] (fun H => LiS D cA a mc ea (sz + 1) cap f H)) (Qn (fun H' => LiS D cA a (mc + 1) ea sz cap f H') (fun q => q = a ∨ q = ea)) 0 0 (fun q => q = a ∨ q = ea) := by
  refine Met.ofW (cc := cJ2_fastRemove) (maxL := 4) (ret := none) (by decide) rfl ?_
  intro p e s m args below meth c s₁ B hml hv
  obtain ⟨rfl, hK, hW⟩ := hv
  have hx := B.exec
  have hb := B.bytes
  have hr := B.returns
  have hts := atoms_spec (ws := ws_ yJ2_fastRemove cJ2_fastRemove 4 none) B.pre
  have hts : ∀ w ∈ lw_all, w.before _ s = true := fun w h => hts w (List.mem_cons_of_mem _ h)
  have hown : s.vm.findClass RJ2 = some m.cls := findClass_of_methodNamed B.named
  have hlocks := B.notSynchronized
  have hl := lv_entry ([.ref a, .ref ea, .int (iI (sz))]) (n := 4) (Nat.le_of_ble_eq_true rfl)
  rw [lg_entry_eq]
  generalize (lg_sl ([.ref a, .ref ea, .int (iI (sz))]) ++ List.replicate (4 - (lg_sl ([.ref a, .ref ea, .int (iI (sz))])).length) Slot.unset).toArray = ls at hl ⊢
  have hl : lv_has ls 4 [(0, .ref a), (1, .ref ea), (2, .int (iI (sz)))] := hl
  have hS : va_S (fun q => q = a ∨ q = ea) s.heap s.heap [] := va_S.rf
  obtain ⟨hL, hE, hne, hsc, hc2⟩ := hW
  refine lv_aload_n hx hb dJ2_fastRemove_0 rfl (lv_at hl 0 rfl) ?_
  refine lv_dup hx hb dJ2_fastRemove_1 rfl ?_
  refine h_getS hx hb hts in_J2 hown hK hL rfl 0 (by decide) (hts _ q412) (fun x h => u_same (hts _ q413) x h) (v := .int (iI (mc))) rfl dJ2_fastRemove_2 ?_
  refine lv_iconst (v := iI (1)) hx hb dJ2_fastRemove_5 rfl ?_
  refine ri_iadd hx hb dJ2_fastRemove_6 ?_
  refine h_putS hx hb hts in_J2 tyJ2 tyJ2_ok nmJ2 hown hK hL hS (Or.inl rfl) rfl 0 (by decide) (hts _ q412) (fun x h => u_same (hts _ q413) x h) rfl (v := .int (iI (mc + 1))) rfl rfl rfl (Nat.le_of_ble_eq_true rfl) dJ2_fastRemove_7 (fun H locs hL oq zq hS => ?_)
  have hL : va_at D CL (a, .inr (8, [.int (iI (mc + 1)), .ref ea, .int (iI ((sz + 1 : Nat)))])) H := hL
  have hE := hE.kept (oq _ hne)
  refine lv_aload_n hx hb dJ2_fastRemove_10 rfl (lv_at hl 0 rfl) ?_
  refine h_get hx hb hts in_J2 hown hK hL rfl 2 (by decide) (hts _ q410) rfl (v := .int (iI ((sz + 1 : Nat)))) rfl dJ2_fastRemove_11 ?_
  refine lv_iconst (v := iI (1)) hx hb dJ2_fastRemove_14 rfl ?_
  refine ri_isub hx hb dJ2_fastRemove_15 ?_
  refine ri_top (b := sz) (by omega) ?_
  refine lv_dup hx hb dJ2_fastRemove_16 rfl ?_
  refine lv_istore_n (lv' := [(3, .int (iI (sz))), (0, .ref a), (1, .ref ea), (2, .int (iI (sz)))]) hx hb dJ2_fastRemove_17 rfl hl (by decide) rfl (fun ls hl => ?_)
  refine lv_iload_n hx hb dJ2_fastRemove_18 rfl (lv_at hl 3 rfl) ?_
  refine ri_icmp_le (tgt := 34) hx hb (by unfold inR; omega) (by unfold inR; omega) dJ2_fastRemove_19 (by decide) (fun h1 => ?_) (fun h1 => ?_)
  · skip
    refine lv_aload_n hx hb dJ2_fastRemove_34 rfl (lv_at hl 2 rfl) ?_
    refine lv_aload_n hx hb dJ2_fastRemove_35 rfl (lv_at hl 1 rfl) ?_
    refine lv_iload_n hx hb dJ2_fastRemove_36 rfl (lv_at hl 0 rfl) ?_
    refine lv_dup_x1 hx hb dJ2_fastRemove_37 rfl rfl ?_
    refine h_put hx hb hts in_J2 tyJ2 tyJ2_ok nmJ2 hown hK hL hS (Or.inl rfl) rfl 2 (by decide) (hts _ q410) rfl rfl (v := .int (iI (sz))) rfl rfl rfl (Nat.le_of_ble_eq_true rfl) dJ2_fastRemove_38 (fun H locs hL oq zq hS => ?_)
    have hL : va_at D CL (a, .inr (8, [.int (iI (mc + 1)), .ref ea, .int (iI (sz))])) H := hL
    have hE := hE.kept (oq _ hne)
    refine lv_null hx hb dJ2_fastRemove_41 ?_
    refine h_astqN hx hb hK hE hS (Or.inr rfl) (sz) (by omega) (by omega) (by omega) dJ2_fastRemove_42 (fun H locs hE oq zq hS => ?_)
    have hL := hL.kept (oq _ (Ne.symm hne))
    rw [gl_dn] at hE
    exact W.vret hx hb hr (fun t ht hWm => ⟨⟨rfl, by rw [ht]; exact ⟨hL, hE, hne, by omega, hc2⟩⟩, hS.F ht⟩) hS.2.2 dJ2_fastRemove_43
  · skip
    exfalso; omega

set_option maxHeartbeats 4000000 in
set_option maxRecDepth 100000 in
theorem al_remove (l : Launch) (D : va_G) (cA : Nat → ClassId) (a : Nat) (mc : Int) (ea sz cap : Nat) (f : Nat → Nat) : Met l yJ2_remove (ws_ yJ2_remove cJ2_remove 4 (some (.object "java/lang/Object"))) ({ frames := 3, cells := 0, slots := 0, locals := 83 }) (Pk D cA [.ref a, .int (iI (sz))] (fun H => LiS D cA a mc ea (sz + 1) cap f H)) (Qo (fun z H' => z = f sz ∧ LiS D cA a (mc + 1) ea sz cap f H') (fun q => q = a ∨ q = ea)) 0 0 (fun q => q = a ∨ q = ea) := by
  refine Met.ofW (cc := cJ2_remove) (maxL := 4) (ret := (some (.object "java/lang/Object"))) (by decide) rfl ?_
  intro p e s m args below meth c s₁ B hml hv
  obtain ⟨rfl, hK, hW⟩ := hv
  have hx := B.exec
  have hb := B.bytes
  have hr := B.returns
  have hts := atoms_spec (ws := ws_ yJ2_remove cJ2_remove 4 (some (.object "java/lang/Object"))) B.pre
  have hts : ∀ w ∈ lw_all, w.before _ s = true := fun w h => hts w (List.mem_cons_of_mem _ h)
  have hown : s.vm.findClass RJ2 = some m.cls := findClass_of_methodNamed B.named
  have hlocks := B.notSynchronized
  have hl := lv_entry ([.ref a, .int (iI (sz))]) (n := 4) (Nat.le_of_ble_eq_true rfl)
  rw [lg_entry_eq]
  generalize (lg_sl ([.ref a, .int (iI (sz))]) ++ List.replicate (4 - (lg_sl ([.ref a, .int (iI (sz))])).length) Slot.unset).toArray = ls at hl ⊢
  have hl : lv_has ls 4 [(0, .ref a), (1, .int (iI (sz)))] := hl
  have hS : va_S (fun q => q = a ∨ q = ea) s.heap s.heap [] := va_S.rf
  obtain ⟨hL, hE, hne, hsc, hc2⟩ := hW
  refine lv_iload_n hx hb dJ2_remove_0 rfl (lv_at hl 1 rfl) ?_
  refine lv_aload_n hx hb dJ2_remove_1 rfl (lv_at hl 0 rfl) ?_
  refine h_get hx hb hts in_J2 hown hK hL rfl 2 (by decide) (hts _ q410) rfl (v := .int (iI ((sz + 1 : Nat)))) rfl dJ2_remove_2 ?_
  refine rc_V (W.runS (As := [.int (iI (sz)), .int (iI ((sz + 1 : Nat)))]) (rest := []) ⟨hx, hb, hml, hown, hts⟩ (ob_checkIndex l D cA sz ((sz + 1 : Nat)) (by omega) (by omega)) (va_cwS 2 hts (lw_S q569 q570 q66 q571) rfl rfl rfl (by decide +kernel) ⟨Nat.le_of_ble_eq_true rfl, Nat.le_of_ble_eq_true rfl⟩) (preS hK trivial) rfl rfl hl.1 rfl (lv_room (Nat.le_of_ble_eq_true rfl)) dJ2_remove_5 ⟨Nat.le_of_ble_eq_true rfl, Nat.le_of_ble_eq_true rfl⟩) ?_
  refine lv_pop hx hb dJ2_remove_8 rfl ?_
  refine lv_aload_n hx hb dJ2_remove_9 rfl (lv_at hl 0 rfl) ?_
  refine h_get hx hb hts in_J2 hown hK hL rfl 1 (by decide) (hts _ q409) rfl (v := .ref ea) rfl dJ2_remove_10 ?_
  refine lv_astore_n (lv' := [(2, .ref ea), (0, .ref a), (1, .int (iI (sz)))]) hx hb dJ2_remove_13 rfl hl (by decide) rfl (fun ls hl => ?_)
  refine lv_aload_n hx hb dJ2_remove_14 rfl (lv_at hl 0 rfl) ?_
  refine lv_iload_n hx hb dJ2_remove_15 rfl (lv_at hl 2 rfl) ?_
  refine h_aldq hx hb hK hE (sz) (by omega) (by omega) (by omega) dJ2_remove_16 ?_
  rw [gl_at (Nat.lt_succ_self sz)]
  refine W.eq (g2 := F0 m 17 ls [.ref (f sz)]) rfl ?_
  refine lv_astore_n (lv' := [(3, .ref (f sz)), (2, .ref ea), (0, .ref a), (1, .int (iI (sz)))]) hx hb dJ2_remove_17 rfl hl (by decide) rfl (fun ls hl => ?_)
  refine lv_aload_n hx hb dJ2_remove_18 rfl (lv_at hl 2 rfl) ?_
  refine lv_aload_n hx hb dJ2_remove_19 rfl (lv_at hl 1 rfl) ?_
  refine lv_iload_n hx hb dJ2_remove_20 rfl (lv_at hl 3 rfl) ?_
  refine rc_N (W.runV (As := [.ref ea, .int (iI (sz))]) (rest := []) ⟨hx, hb, hml, hown, hts⟩ (al_fastRemove l D cA a mc ea sz cap f) (cwV 2 hts (lw_V q858 q860 qs12 q45 q861) rfl rfl rfl (by decide +kernel) ⟨Nat.le_of_ble_eq_true rfl, Nat.le_of_ble_eq_true rfl⟩) (preV hK hL rfl ⟨hL, hE, hne, hsc, hc2⟩) rfl rfl hl.1 rfl (lv_room (Nat.le_of_ble_eq_true rfl)) dJ2_remove_21 ⟨Nat.le_of_ble_eq_true rfl, Nat.le_of_ble_eq_true rfl⟩) hS (fun _ _ h => h) (fun _ h => h) (fun H locs hq hS hz hk => ?_)
  refine lv_aload_n hx hb dJ2_remove_24 rfl (lv_at hl 0 rfl) ?_
  exact W.aret hx hb hr (Or.inl ⟨_, rfl⟩) (Or.inr ⟨_, rfl⟩) (fun t ht hWm => ⟨⟨_, rfl, by rw [ht]; exact ⟨rfl, hq⟩⟩, hS.F ht⟩) hS.2.2 dJ2_remove_25

set_option maxHeartbeats 4000000 in
set_option maxRecDepth 100000 in
theorem in_valueOf (l : Launch) (D : va_G) (cA : Nat → ClassId) (A : Nat → Prop) (sa : Nat → Nat) (n : Nat) (hn : n ≤ 127) : Met l yJ17_valueOf (ws_ yJ17_valueOf cJ17_valueOf 1 (some (.object "java/lang/Integer"))) ({ frames := 1, cells := 0, slots := 0, locals := 40 }) (Pq D cA [.int (iI n)] (fun U => SX A sa U)) (k2_QcV (.ref (sa (10 + (128 + n))))) 0 0 (fun _ => False) := by
  refine Met.ofW (cc := cJ17_valueOf) (maxL := 1) (ret := (some (.object "java/lang/Integer"))) (by decide) rfl ?_
  intro p e s m args below meth c s₁ B hml hv
  obtain ⟨rfl, hK, hW⟩ := hv
  have hx := B.exec
  have hb := B.bytes
  have hr := B.returns
  have hts := atoms_spec (ws := ws_ yJ17_valueOf cJ17_valueOf 1 (some (.object "java/lang/Integer"))) B.pre
  have hts : ∀ w ∈ lw_all, w.before _ s = true := fun w h => hts w (List.mem_cons_of_mem _ h)
  have hown : s.vm.findClass RJ17 = some m.cls := findClass_of_methodNamed B.named
  have hlocks := B.notSynchronized
  have hl := lv_entry ([.int (iI (n))]) (n := 1) (Nat.le_of_ble_eq_true rfl)
  rw [lg_entry_eq]
  generalize (lg_sl ([.int (iI (n))]) ++ List.replicate (1 - (lg_sl ([.int (iI (n))])).length) Slot.unset).toArray = ls at hl ⊢
  have hl : lv_has ls 1 [(0, .int (iI (n)))] := hl
  have hSX : SX A sa s := hW
  have hS0 : va_S A s.heap s.heap [] := va_S.rf
  refine lv_iload_n hx hb dJ17_valueOf_0 rfl (lv_at hl 0 rfl) ?_
  refine lv_bipush (v := iI (-128)) hx hb dJ17_valueOf_1 (by decide) ?_
  refine ri_icmp_lt (tgt := 23) hx hb (by unfold inR; omega) (by unfold inR; omega) dJ17_valueOf_3 (by decide) (fun h1 => ?_) (fun h1 => ?_)
  · skip
    exfalso; omega
  · skip
    refine lv_iload_n hx hb dJ17_valueOf_6 rfl (lv_at hl 0 rfl) ?_
    refine va_gets (v := .int (iI (127))) hx hb hSX.1 hS0 hown (hts _ q750) (fun _ h => h) dJ17_valueOf_7 ?_
    refine ri_icmp_gt (tgt := 23) hx hb (by unfold inR; omega) (by unfold inR; omega) dJ17_valueOf_10 (by decide) (fun h2 => ?_) (fun h2 => ?_)
    · skip
      exfalso; omega
    · skip
      refine va_gets (v := .ref (sa 3)) hx hb hSX.2.1 hS0 hown (hts _ q752) (fun _ h => h) dJ17_valueOf_13 ?_
      refine lv_iload_n hx hb dJ17_valueOf_16 rfl (lv_at hl 0 rfl) ?_
      refine lv_sipush (v := iI (128)) hx hb dJ17_valueOf_17 (by decide) ?_
      refine ri_iadd hx hb dJ17_valueOf_20 ?_
      refine ri_top (b := (128 + n : Nat)) (by omega) ?_
      refine vb_tq (v := .ref (sa (10 + (128 + n)))) hx hb hSX.2.2.1 hS0 (i := iI ((128 + n : Nat) : Int)) (iI_in (by omega) (by decide)) (by rw [iI_clamp (by omega)]) dJ17_valueOf_21 ?_
      exact W.aret hx hb hr (by first | exact Or.inl ⟨_, rfl⟩ | exact Or.inr ⟨_, rfl⟩) (Or.inr ⟨_, rfl⟩) (fun t ht hWm => ⟨rfl, ht⟩) (fun _ h => absurd h List.not_mem_nil) dJ17_valueOf_22

set_option maxHeartbeats 4000000 in
set_option maxRecDepth 100000 in
theorem in_intValue (l : Launch) (D : va_G) (cA : Nat → ClassId) (A : Nat → Prop) (sa : Nat → Nat) (n : Nat) (hn : n ≤ 127) : Met l yJ17_intValue (ws_ yJ17_intValue cJ17_intValue 1 (some .int)) ({ frames := 1, cells := 0, slots := 0, locals := 40 }) (Pq D cA [.ref (sa (10 + (128 + n)))] (fun U => SX A sa U)) (k2_QcV (.int (iI n))) 0 0 (fun _ => False) := by
  refine Met.ofW (cc := cJ17_intValue) (maxL := 1) (ret := (some .int)) (by decide) rfl ?_
  intro p e s m args below meth c s₁ B hml hv
  obtain ⟨rfl, hK, hW⟩ := hv
  have hx := B.exec
  have hb := B.bytes
  have hr := B.returns
  have hts := atoms_spec (ws := ws_ yJ17_intValue cJ17_intValue 1 (some .int)) B.pre
  have hts : ∀ w ∈ lw_all, w.before _ s = true := fun w h => hts w (List.mem_cons_of_mem _ h)
  have hown : s.vm.findClass RJ17 = some m.cls := findClass_of_methodNamed B.named
  have hlocks := B.notSynchronized
  have hl := lv_entry ([.ref (sa (10 + (128 + n)))]) (n := 1) (Nat.le_of_ble_eq_true rfl)
  rw [lg_entry_eq]
  generalize (lg_sl ([.ref (sa (10 + (128 + n)))]) ++ List.replicate (1 - (lg_sl ([.ref (sa (10 + (128 + n)))])).length) Slot.unset).toArray = ls at hl ⊢
  have hl : lv_has ls 1 [(0, .ref (sa (10 + (128 + n))))] := hl
  have hSX : SX A sa s := hW
  have hS0 : va_S A s.heap s.heap [] := va_S.rf
  refine lv_aload_n hx hb dJ17_intValue_0 rfl (lv_at hl 0 rfl) ?_
  refine vb_get (ci := 9) (X := []) (LP := []) (pv := fun _ => 0) (ad := fun k => sa (10 + k)) (v := iI (n : Int)) hx hb hts in_J17 hown hSX.2.2.2.1 hS0 hK.1 (fun k q h => by simp [va_pl] at h) rfl ⟨rfl, rfl, rfl⟩ (Or.inr ⟨128 + n, by omega, rfl, vb_c_iI.symm⟩) (hts _ q763) (fun _ h => h) dJ17_intValue_1 ?_
  exact W.iret hx hb hr (fun t ht hWm => ⟨rfl, ht⟩) (fun _ h => absurd h List.not_mem_nil) dJ17_intValue_4
