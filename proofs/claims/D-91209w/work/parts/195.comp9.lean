set_option maxRecDepth 100000
set_option maxHeartbeats 4000000 in
set_option maxRecDepth 100000 in
theorem cc_X1_station (l : Launch) (D : va_G) (cA : Nat → ClassId) (A : Nat → Prop) (sa : Nat → Nat) (ad : Nat → Nat → Nat) (F : Nat → Nat) (N : Nat → Nat → Nat) (Z : Nat → Int) (E : Nat → Nat → Int) (K : Nat) (hKb : K ≤ 1000000) (hF : FB F) (hN : NB N) (hZ : ZB K Z) (hwf : WF F N) (sv : Nat) (hsv : sv ≤ 60) (hF2n : F 2 ≠ 10) : Met l yX1_station (ws_ yX1_station cX1_station 2 (some .int)) ({ frames := 7, cells := 2, slots := 402, locals := 211 }) (PC D cA A sa ad F N Z E [.ref (ad 0 (0)), .int (iI (sv))]) (Qi (fun z H' => z = (F 2 : Nat) ∧ ∃ ad', ad' 0 0 = ad 0 0 ∧ CW D cA A sa ad' (va_up (F) 2 (F 2 + 1)) (up2 (N) 6 (F 2) (sv)) Z E H') A) 2 402 (A) := by
  refine Met.ofW (cc := cX1_station) (maxL := 2) (ret := (some .int)) (by decide) rfl ?_
  intro p e s m args below meth c s₁ B hml hv
  obtain ⟨rfl, hK, hW⟩ := hv
  have hx := B.exec
  have hb := B.bytes
  have hr := B.returns
  have hts := atoms_spec (ws := ws_ yX1_station cX1_station 2 (some .int)) B.pre
  have hts : ∀ w ∈ lw_all, w.before _ s = true := fun w h => hts w (List.mem_cons_of_mem _ h)
  have hown : s.vm.findClass RX1 = some m.cls := findClass_of_methodNamed B.named
  have hlocks := B.notSynchronized
  have hl := lv_entry ([.ref (ad 0 (0)), .int (iI (sv))]) (n := 2) (Nat.le_of_ble_eq_true rfl)
  rw [lg_entry_eq]
  generalize (lg_sl ([.ref (ad 0 (0)), .int (iI (sv))]) ++ List.replicate (2 - (lg_sl ([.ref (ad 0 (0)), .int (iI (sv))])).length) Slot.unset).toArray = ls at hl ⊢
  have hl : lv_has ls 2 [(0, .ref (ad 0 (0))), (1, .int (iI (sv)))] := hl
  obtain ⟨hSX, hW⟩ := hW
  have hS : va_S A s.heap s.heap [] := va_S.rf
  have hF2 : F 2 ≤ 10 := hF 2
  have hF3 : F 3 ≤ 16 := hF 3
  have hF4 : F 4 ≤ 60 := hF 4
  have hF5 : F 5 ≤ 40 := hF 5
  have hF1 : F 1 ≤ 1439 := hF 1
  refine lv_aload_n hx hb dX1_station_0 rfl (lv_at hl 0 rfl) ?_
  refine h_get hx hb hts in_X1 hown hK hW.c0 rfl 0 (by decide) (hts _ q421) rfl (v := .ref (ad 1 (0))) rfl dX1_station_1 ?_
  obtain ⟨mc1, cp1, cq1, cr1, hLi1⟩ := hW.l0
  refine rc_V (W.runV (As := []) (rest := []) ⟨hx, hb, hml, hown, hts⟩ (al_size l D cA (ad 1 (0)) mc1 (ad 2 (0)) (F 2)) (cwV 0 hts (lw_V q448 q449 q450 q45 q451) rfl rfl rfl (by decide +kernel) ⟨Nat.le_of_ble_eq_true rfl, Nat.le_of_ble_eq_true rfl⟩) (preV hK hLi1.1 rfl hLi1.1) rfl rfl hl.1 rfl (lv_room (Nat.le_of_ble_eq_true rfl)) dX1_station_4 ⟨Nat.le_of_ble_eq_true rfl, Nat.le_of_ble_eq_true rfl⟩) ?_
  refine lv_bipush (v := iI (10)) hx hb dX1_station_7 (by decide) ?_
  refine ri_icmp_eq (tgt := 22) hx hb (by unfold inR; omega) (by unfold inR; omega) dX1_station_9 (by decide) (fun h2 => ?_) (fun h2 => ?_)
  · skip
    exfalso; omega
  · skip
    refine lv_iload_n hx hb dX1_station_12 rfl (lv_at hl 1 rfl) ?_
    refine ri_if_lt (tgt := 22) hx hb (by unfold inR; omega) dX1_station_13 (by decide) (fun h3 => ?_) (fun h3 => ?_)
    · skip
      exfalso; omega
    · skip
      refine lv_iload_n hx hb dX1_station_16 rfl (lv_at hl 1 rfl) ?_
      refine lv_bipush (v := iI (60)) hx hb dX1_station_17 (by decide) ?_
      refine ri_icmp_le (tgt := 24) hx hb (by unfold inR; omega) (by unfold inR; omega) dX1_station_19 (by decide) (fun h4 => ?_) (fun h4 => ?_)
      · skip
        refine lv_aload_n hx hb dX1_station_24 rfl (lv_at hl 0 rfl) ?_
        refine h_get hx hb hts in_X1 hown hK hW.c0 rfl 0 (by decide) (hts _ q421) rfl (v := .ref (ad 1 (0))) rfl dX1_station_25 ?_
        have hlt28 := hW.lt hF3 hN
        have hgr28 := hW.2.2.2
        refine h_new hx hb hts in_X3 tyX3 tyX3_ok hown (hts _ q452) (hts _ q453) (hts _ q63) hK hS (ci := 2) rfl (fs := [.int (iI (0)), .int (iI (0))]) (fun j hj => by match j, hj with | 0, _ => rfl | 1, _ => rfl) (Nat.le_of_ble_eq_true rfl) (Nat.le_of_ble_eq_true rfl) dX1_station_28 (fun z H hq28 hXz o1 z1 hS => ?_)
        have hAz : A z := hgr28 _ (by omega)
        have hW := hW.keptL hF3 hN (by omega) (fun k i hl => o1 _ (hlt28 k i hl))
        refine lv_dup hx hb dX1_station_31 rfl ?_
        refine lv_aload_n hx hb dX1_station_32 rfl (lv_at hl 0 rfl) ?_
        refine h_get hx hb hts in_X1 hown hK hW.c0 rfl 0 (by decide) (hts _ q421) rfl (v := .ref (ad 1 (0))) rfl dX1_station_33 ?_
        obtain ⟨mc5, cp5, cq5, cr5, hLi5⟩ := hW.l0
        refine rc_V (W.runV (As := []) (rest := [.ref z, .ref z, .ref (ad 1 (0))]) ⟨hx, hb, hml, hown, hts⟩ (al_size l D cA (ad 1 (0)) mc5 (ad 2 (0)) (F 2)) (cwV 0 hts (lw_V q448 q449 q450 q45 q451) rfl rfl rfl (by decide +kernel) ⟨Nat.le_of_ble_eq_true rfl, Nat.le_of_ble_eq_true rfl⟩) (preV hK hLi5.1 rfl hLi5.1) rfl rfl hl.1 rfl (lv_room (Nat.le_of_ble_eq_true rfl)) dX1_station_36 ⟨Nat.le_of_ble_eq_true rfl, Nat.le_of_ble_eq_true rfl⟩) ?_
        refine lv_iload_n hx hb dX1_station_39 rfl (lv_at hl 1 rfl) ?_
        refine rc_N (W.runI (As := [.int (iI (F 2)), .int (iI (sv))]) (rest := [.ref z, .ref (ad 1 (0))]) ⟨hx, hb, hml, hown, hts⟩ (cc_X3_init l D cA z (F 2) (sv)) (cwI 2 hts (lw_meth q456) rfl rfl rfl (hts _ q63) (hts _ q454) (hts _ q455) rfl (by decide +kernel) ⟨Nat.le_of_ble_eq_true rfl, Nat.le_of_ble_eq_true rfl⟩) (preS hK hXz) rfl rfl hl.1 rfl (lv_room (Nat.le_of_ble_eq_true rfl)) dX1_station_40 ⟨Nat.le_of_ble_eq_true rfl, Nat.le_of_ble_eq_true rfl⟩) hS (fun q _ h => by rw [h]; exact hAz) (fun q h => by rw [h]; exact hAz) (fun H locs hXz hS hz hk => ?_)
        have hW := hW.keptL hF3 hN hz (fun k i hl => hk _ (by have := hlt28 k i hl; omega) (by have := hlt28 k i hl; omega))
        obtain ⟨mc6, cp6, cq6, cr6, hLi6⟩ := hW.l0
        refine rc_I (W.runV (As := [.ref z]) (rest := []) ⟨hx, hb, hml, hown, hts⟩ (al_add l D cA (ad 1 (0)) mc6 (ad 2 (0)) H.size (F 2) cp6 z 2 (ad 3) cq6 (by omega) (by decide) (by have := hlt28 1 _ (lv_l0 0 (by omega)); omega)) (cwV 1 hts (lw_V q468 q469 q470 q45 q471) rfl rfl rfl (by decide +kernel) ⟨Nat.le_of_ble_eq_true rfl, Nat.le_of_ble_eq_true rfl⟩) (preV hK hLi6.1 rfl ⟨hLi6, rfl, (fun j hj => ⟨2, by decide, isO.of (hW.k3 j hj)⟩), (isO.of hXz), (by have := hlt28 2 _ (lv_e0 0 (by omega)); omega), (fun j hj => hW.ne (k := 3) hj (lv_l0 0 (by omega)) (Or.inl (by decide)))⟩) rfl rfl hl.1 rfl (lv_room (Nat.le_of_ble_eq_true rfl)) dX1_station_43 ⟨Nat.le_of_ble_eq_true rfl, Nat.le_of_ble_eq_true rfl⟩) hS (fun q _ h => by rcases h with h | h | h; rw [h]; exact hW.hA 1 _ (lv_l0 0 (by omega)); rw [h]; exact hW.hA 2 _ (lv_e0 0 (by omega)); exact hW.2.2.2 q h) (fun q  h => by rcases h with h | h | h; rw [h]; exact hW.hA 1 _ (lv_l0 0 (by omega)); rw [h]; exact hW.hA 2 _ (lv_e0 0 (by omega)); exact hW.2.2.2 q h) (fun zr H locs hq hS hz hk => ?_)
        obtain ⟨rfl, ez, hLz, hor⟩ := hq
        have hcap := nxC_le (cap := cp6) (sz := F 2) cq6 cr6 (by omega)
        have hzl := hXz.lt
        have hl1 := hlt28 1 _ (lv_l0 0 (by omega))
        have hl2 := hlt28 2 _ (lv_e0 0 (by omega))
        have hXz := hXz.kept (hk _ hzl (by omega))
        have e1 : (up2 (up2 ad 3 (F 2) z) 2 (0) ez) 2 (0) = ez := up2_eq _ _ _ _
        have e2 : (up2 (up2 ad 3 (F 2) z) 2 (0) ez) 3 (F 2) = z := by rw [up2_ne (Or.inl (by decide)), up2_eq]
        have hez : ez ≠ z := by omega
        have hW := hW.addS (ad' := up2 (up2 ad 3 (F 2) z) 2 (0) ez) (n0 := z) (sv := sv) hF3 hN hwf  ⟨_, _, hcap.1, hcap.2, by rw [e1, e2]; exact hLz⟩ (by rw [e2]; exact hXz) (fun k i hl => by have := hlt28 k i hl; omega) (fun q h => hgr28 q (by omega)) (fun k i hn => by rcases hn with ⟨rfl, rfl⟩ | ⟨rfl, rfl⟩; rcases hor with h | h; exact Or.inr ⟨rfl, rfl, by rw [e1]; exact h⟩; exact Or.inl (by rw [e1]; omega); exact Or.inl (by rw [e2]; exact Nat.le_refl _)) (fun k i k' i' h1 h2 e => by rcases h1 with ⟨rfl, rfl⟩ | ⟨rfl, rfl⟩ <;> rcases h2 with ⟨rfl, rfl⟩ | ⟨rfl, rfl⟩ <;> simp only [e1, e2] at e <;> first | exact ⟨rfl, rfl⟩ | (exfalso; omega)) (fun k i hn => by rw [up2_ne (by omega), up2_ne (by omega)]) (fun q h1 h2 => hk q (by omega) (by omega)) (by omega)
        refine lv_pop hx hb dX1_station_46 rfl ?_
        refine lv_aload_n hx hb dX1_station_47 rfl (lv_at hl 0 rfl) ?_
        refine h_get hx hb hts in_X1 hown hK hW.c0 rfl 0 (by decide) (hts _ q421) rfl (v := .ref (up2 (up2 ad 3 (F 2) z) 2 (0) ez 1 (0))) rfl dX1_station_48 ?_
        obtain ⟨mc7, cp7, cq7, cr7, hLi7⟩ := hW.l0
        refine rc_V (W.runV (As := []) (rest := []) ⟨hx, hb, hml, hown, hts⟩ (al_size l D cA (up2 (up2 ad 3 (F 2) z) 2 (0) ez 1 (0)) mc7 (up2 (up2 ad 3 (F 2) z) 2 (0) ez 2 (0)) ((va_up (F) 2 (F 2 + 1)) 2)) (cwV 0 hts (lw_V q448 q449 q450 q45 q451) rfl rfl rfl (by decide +kernel) ⟨Nat.le_of_ble_eq_true rfl, Nat.le_of_ble_eq_true rfl⟩) (preV hK hLi7.1 rfl hLi7.1) rfl rfl hl.1 rfl (lv_room (Nat.le_of_ble_eq_true rfl)) dX1_station_51 ⟨Nat.le_of_ble_eq_true rfl, Nat.le_of_ble_eq_true rfl⟩) ?_
        refine ri_top (b := (F 2 + 1 : Nat)) rfl ?_
        refine lv_iconst (v := iI (1)) hx hb dX1_station_54 rfl ?_
        refine ri_isub hx hb dX1_station_55 ?_
        refine ri_top (b := (F 2 : Nat)) (by omega) ?_
        exact W.iret hx hb hr (fun tt htt hWm => ⟨⟨_, rfl, by rw [htt]; exact ⟨rfl, up2 (up2 ad 3 (F 2) z) 2 0 ez, rfl, hW⟩⟩, hS.F htt⟩) hS.2.2 dX1_station_56
      · skip
        exfalso; omega

set_option maxHeartbeats 4000000 in
set_option maxRecDepth 100000 in
theorem cc_X1_station_x (l : Launch) (D : va_G) (cA : Nat → ClassId) (A : Nat → Prop) (sa : Nat → Nat) (ad : Nat → Nat → Nat) (F : Nat → Nat) (N : Nat → Nat → Nat) (Z : Nat → Int) (E : Nat → Nat → Int) (K : Nat) (hKb : K ≤ 1000000) (hF : FB F) (hN : NB N) (hZ : ZB K Z) (hwf : WF F N) (sv : Int) (q_sv : inR sv) (hbad : ¬ (F 2 ≠ 10 ∧ 0 ≤ sv ∧ sv ≤ 60)) : Met l yX1_station (ws_ yX1_station cX1_station 2 (some .int)) ({ frames := 2, cells := 0, slots := 0, locals := 60 }) (PC D cA A sa ad F N Z E [.ref (ad 0 (0)), .int (iI (sv))]) (k2_QcV (.int (iI (-1)))) 0 0 (fun _ => False) := by
  refine Met.ofW (cc := cX1_station) (maxL := 2) (ret := (some .int)) (by decide) rfl ?_
  intro p e s m args below meth c s₁ B hml hv
  obtain ⟨rfl, hK, hW⟩ := hv
  have hx := B.exec
  have hb := B.bytes
  have hr := B.returns
  have hts := atoms_spec (ws := ws_ yX1_station cX1_station 2 (some .int)) B.pre
  have hts : ∀ w ∈ lw_all, w.before _ s = true := fun w h => hts w (List.mem_cons_of_mem _ h)
  have hown : s.vm.findClass RX1 = some m.cls := findClass_of_methodNamed B.named
  have hlocks := B.notSynchronized
  have hl := lv_entry ([.ref (ad 0 (0)), .int (iI (sv))]) (n := 2) (Nat.le_of_ble_eq_true rfl)
  rw [lg_entry_eq]
  generalize (lg_sl ([.ref (ad 0 (0)), .int (iI (sv))]) ++ List.replicate (2 - (lg_sl ([.ref (ad 0 (0)), .int (iI (sv))])).length) Slot.unset).toArray = ls at hl ⊢
  have hl : lv_has ls 2 [(0, .ref (ad 0 (0))), (1, .int (iI (sv)))] := hl
  obtain ⟨hSX, hW⟩ := hW
  have hS : va_S A s.heap s.heap [] := va_S.rf
  have hF2 : F 2 ≤ 10 := hF 2
  have hF3 : F 3 ≤ 16 := hF 3
  have hF4 : F 4 ≤ 60 := hF 4
  have hF5 : F 5 ≤ 40 := hF 5
  have hF1 : F 1 ≤ 1439 := hF 1
  have p_sv := q_sv; unfold inR at p_sv
  refine lv_aload_n hx hb dX1_station_0 rfl (lv_at hl 0 rfl) ?_
  refine h_get hx hb hts in_X1 hown hK hW.c0 rfl 0 (by decide) (hts _ q421) rfl (v := .ref (ad 1 (0))) rfl dX1_station_1 ?_
  obtain ⟨mc1, cp1, cq1, cr1, hLi1⟩ := hW.l0
  refine rc_V (W.runV (As := []) (rest := []) ⟨hx, hb, hml, hown, hts⟩ (al_size l D cA (ad 1 (0)) mc1 (ad 2 (0)) (F 2)) (cwV 0 hts (lw_V q448 q449 q450 q45 q451) rfl rfl rfl (by decide +kernel) ⟨Nat.le_of_ble_eq_true rfl, Nat.le_of_ble_eq_true rfl⟩) (preV hK hLi1.1 rfl hLi1.1) rfl rfl hl.1 rfl (lv_room (Nat.le_of_ble_eq_true rfl)) dX1_station_4 ⟨Nat.le_of_ble_eq_true rfl, Nat.le_of_ble_eq_true rfl⟩) ?_
  refine lv_bipush (v := iI (10)) hx hb dX1_station_7 (by decide) ?_
  refine ri_icmp_eq (tgt := 22) hx hb (by unfold inR; omega) (by unfold inR; omega) dX1_station_9 (by decide) (fun h2 => ?_) (fun h2 => ?_)
  · skip
    refine lv_iconst (v := iI (-1)) hx hb dX1_station_22 rfl ?_
    exact W.iret hx hb hr (fun tt htt hWm => ⟨rfl, htt⟩) (fun _ h => absurd h List.not_mem_nil) dX1_station_23
  · skip
    refine lv_iload_n hx hb dX1_station_12 rfl (lv_at hl 1 rfl) ?_
    refine ri_if_lt (tgt := 22) hx hb q_sv dX1_station_13 (by decide) (fun h3 => ?_) (fun h3 => ?_)
    · skip
      refine lv_iconst (v := iI (-1)) hx hb dX1_station_22 rfl ?_
      exact W.iret hx hb hr (fun tt htt hWm => ⟨rfl, htt⟩) (fun _ h => absurd h List.not_mem_nil) dX1_station_23
    · skip
      refine lv_iload_n hx hb dX1_station_16 rfl (lv_at hl 1 rfl) ?_
      refine lv_bipush (v := iI (60)) hx hb dX1_station_17 (by decide) ?_
      refine ri_icmp_le (tgt := 24) hx hb q_sv (by unfold inR; omega) dX1_station_19 (by decide) (fun h4 => ?_) (fun h4 => ?_)
      · skip
        exfalso; omega
      · skip
        refine lv_iconst (v := iI (-1)) hx hb dX1_station_22 rfl ?_
        exact W.iret hx hb hr (fun tt htt hWm => ⟨rfl, htt⟩) (fun _ h => absurd h List.not_mem_nil) dX1_station_23

set_option maxHeartbeats 4000000 in
set_option maxRecDepth 100000 in
theorem cc_X1_carrier (l : Launch) (D : va_G) (cA : Nat → ClassId) (A : Nat → Prop) (sa : Nat → Nat) (ad : Nat → Nat → Nat) (F : Nat → Nat) (N : Nat → Nat → Nat) (Z : Nat → Int) (E : Nat → Nat → Int) (K : Nat) (hKb : K ≤ 1000000) (hF : FB F) (hN : NB N) (hZ : ZB K Z) (hwf : WF F N) (d n0 : Nat) (hd : d ≤ 31) (hF5n : F 5 ≠ 40) : Met l yX1_carrier (ws_ yX1_carrier cX1_carrier 2 (some .int)) ({ frames := 7, cells := 1, slots := 400, locals := 211 }) (PS D cA A sa ad F N Z E [.ref (ad 0 (0)), .int (iI (d))] n0) (Qi (fun z H' => z = (F 5 : Nat) ∧ ∃ ad', ad' 0 0 = ad 0 0 ∧ CW D cA A sa ad' (va_up (F) 5 (F 5 + 1)) (up2 (N) 12 (F 5) (d)) Z E H') A) 1 400 (A) := by
  refine Met.ofW (cc := cX1_carrier) (maxL := 2) (ret := (some .int)) (by decide) rfl ?_
  intro p e s m args below meth c s₁ B hml hv
  obtain ⟨rfl, hK, hW⟩ := hv
  have hx := B.exec
  have hb := B.bytes
  have hr := B.returns
  have hts := atoms_spec (ws := ws_ yX1_carrier cX1_carrier 2 (some .int)) B.pre
  have hts : ∀ w ∈ lw_all, w.before _ s = true := fun w h => hts w (List.mem_cons_of_mem _ h)
  have hown : s.vm.findClass RX1 = some m.cls := findClass_of_methodNamed B.named
  have hlocks := B.notSynchronized
  have hl := lv_entry ([.ref (ad 0 (0)), .int (iI (d))]) (n := 2) (Nat.le_of_ble_eq_true rfl)
  rw [lg_entry_eq]
  generalize (lg_sl ([.ref (ad 0 (0)), .int (iI (d))]) ++ List.replicate (2 - (lg_sl ([.ref (ad 0 (0)), .int (iI (d))])).length) Slot.unset).toArray = ls at hl ⊢
  have hl : lv_has ls 2 [(0, .ref (ad 0 (0))), (1, .int (iI (d)))] := hl
  obtain ⟨⟨hSX, hW⟩, hn0⟩ := hW
  have hS : va_S A s.heap s.heap [] := va_S.rf
  have hF2 : F 2 ≤ 10 := hF 2
  have hF3 : F 3 ≤ 16 := hF 3
  have hF4 : F 4 ≤ 60 := hF 4
  have hF5 : F 5 ≤ 40 := hF 5
  have hF1 : F 1 ≤ 1439 := hF 1
  have hlt0 := hW.lt hF3 hN
  have hgr0 := hW.2.2.2
  refine lv_aload_n hx hb dX1_carrier_0 rfl (lv_at hl 0 rfl) ?_
  refine h_get hx hb hts in_X1 hown hK hW.c0 rfl 3 (by decide) (hts _ q424) rfl (v := .ref (ad 1 (3))) rfl dX1_carrier_1 ?_
  obtain ⟨mc1, cp1, cq1, cr1, hLi1⟩ := hW.l3
  refine rc_V (W.runV (As := []) (rest := []) ⟨hx, hb, hml, hown, hts⟩ (al_size l D cA (ad 1 (3)) mc1 (ad 2 (3)) (F 5)) (cwV 0 hts (lw_V q448 q449 q450 q45 q451) rfl rfl rfl (by decide +kernel) ⟨Nat.le_of_ble_eq_true rfl, Nat.le_of_ble_eq_true rfl⟩) (preV hK hLi1.1 rfl hLi1.1) rfl rfl hl.1 rfl (lv_room (Nat.le_of_ble_eq_true rfl)) dX1_carrier_4 ⟨Nat.le_of_ble_eq_true rfl, Nat.le_of_ble_eq_true rfl⟩) ?_
  refine lv_bipush (v := iI (40)) hx hb dX1_carrier_7 (by decide) ?_
  refine ri_icmp_eq (tgt := 22) hx hb (by unfold inR; omega) (by unfold inR; omega) dX1_carrier_9 (by decide) (fun h2 => ?_) (fun h2 => ?_)
  · skip
    exfalso; omega
  · skip
    refine lv_iload_n hx hb dX1_carrier_12 rfl (lv_at hl 1 rfl) ?_
    refine ri_if_lt (tgt := 22) hx hb (by unfold inR; omega) dX1_carrier_13 (by decide) (fun h3 => ?_) (fun h3 => ?_)
    · skip
      exfalso; omega
    · skip
      refine lv_iload_n hx hb dX1_carrier_16 rfl (lv_at hl 1 rfl) ?_
      refine lv_bipush (v := iI (31)) hx hb dX1_carrier_17 (by decide) ?_
      refine ri_icmp_le (tgt := 24) hx hb (by unfold inR; omega) (by unfold inR; omega) dX1_carrier_19 (by decide) (fun h4 => ?_) (fun h4 => ?_)
      · skip
        refine lv_aload_n hx hb dX1_carrier_24 rfl (lv_at hl 0 rfl) ?_
        refine h_get hx hb hts in_X1 hown hK hW.c0 rfl 3 (by decide) (hts _ q424) rfl (v := .ref (ad 1 (3))) rfl dX1_carrier_25 ?_
        refine lv_iload_n hx hb dX1_carrier_28 rfl (lv_at hl 1 rfl) ?_
        refine rc_V (W.runS (As := [.int (iI (d))]) (rest := [.ref (ad 1 (3))]) ⟨hx, hb, hml, hown, hts⟩ (in_valueOf l D cA A sa d (by omega)) (va_cwS 1 hts (lw_S q747 q748 q61 q749) rfl rfl rfl (by decide +kernel) ⟨Nat.le_of_ble_eq_true rfl, Nat.le_of_ble_eq_true rfl⟩) ⟨Pq.blind (fun U g mk a h => h.blind), fun U hU hWm => ⟨rfl, hK.moved hWm, hSX.call hS hU hWm.alike⟩⟩ rfl rfl hl.1 rfl (lv_room (Nat.le_of_ble_eq_true rfl)) dX1_carrier_29 ⟨Nat.le_of_ble_eq_true rfl, Nat.le_of_ble_eq_true rfl⟩) ?_
        obtain ⟨mc5, cp5, cq5, cr5, hLi5⟩ := hW.l3
        refine rc_I (W.runV (As := [.ref (sa (10 + (128 + d)))]) (rest := []) ⟨hx, hb, hml, hown, hts⟩ (al_add l D cA (ad 1 (3)) mc5 (ad 2 (3)) s.heap.size (F 5) cp5 (sa (10 + (128 + d))) 9 (fun j => sa (10 + (128 + N 12 j))) cq5 (by omega) (by decide) (fun e => SX.out hSX (n := d) (by omega) (e ▸ hW.hA 1 3 (lv_l0 3 (by omega))))) (cwV 1 hts (lw_V q468 q469 q470 q45 q471) rfl rfl rfl (by decide +kernel) ⟨Nat.le_of_ble_eq_true rfl, Nat.le_of_ble_eq_true rfl⟩) (preV hK hLi5.1 rfl ⟨hLi5, rfl, (fun j hj => ⟨9, by decide, SX.isInt hK hSX hS (Nat.le_trans (show N 12 j ≤ 31 from hN 12 j) (by decide))⟩), (SX.isInt hK hSX hS (by omega)), (fun e => SX.out hSX (n := d) (by omega) (e ▸ hW.hA 2 3 (lv_e0 3 (by omega)))), (fun j hj e => SX.out hSX (n := N 12 j) (Nat.le_trans (show N 12 j ≤ 31 from hN 12 j) (by decide)) (by have h9 := hW.hA 1 3 (lv_l0 3 (by omega)); rw [← e] at h9; exact h9))⟩) rfl rfl hl.1 rfl (lv_room (Nat.le_of_ble_eq_true rfl)) dX1_carrier_32 ⟨Nat.le_of_ble_eq_true rfl, Nat.le_of_ble_eq_true rfl⟩) hS (fun q _ h => by rcases h with h | h | h; rw [h]; exact hW.hA 1 _ (lv_l0 3 (by omega)); rw [h]; exact hW.hA 2 _ (lv_e0 3 (by omega)); exact hW.2.2.2 q h) (fun q  h => by rcases h with h | h | h; rw [h]; exact hW.hA 1 _ (lv_l0 3 (by omega)); rw [h]; exact hW.hA 2 _ (lv_e0 3 (by omega)); exact hW.2.2.2 q h) (fun zr H locs hq hS hz hk => ?_)
        obtain ⟨rfl, ez, hLz, hor⟩ := hq
        have hcap := nxC_le (cap := cp5) (sz := F 5) cq5 cr5 (by omega)
        have e1 : (up2 ad 2 3 ez) 2 3 = ez := up2_eq _ _ _ _
        have hW := hW.addC (ad' := up2 ad 2 3 ez) (n0 := n0) (d := d) hF3 hN hwf ⟨_, _, hcap.1, hcap.2, by rw [e1]; exact hLz⟩ (fun k i hl => by have := hlt0 k i hl; omega) (fun q h => hgr0 q (by omega)) (fun k i hn => by obtain ⟨rfl, rfl⟩ := hn; rcases hor with h | h; exact Or.inr ⟨rfl, rfl, by rw [e1]; exact h⟩; exact Or.inl (by rw [e1]; omega)) (fun k i k' i' h1 h2 e => ⟨by omega, by omega⟩) (fun k i hn => by rw [up2_ne (by omega)]) (fun q h1 h2 => hk q (by omega) (by omega)) (by omega)
        refine lv_pop hx hb dX1_carrier_35 rfl ?_
        refine lv_aload_n hx hb dX1_carrier_36 rfl (lv_at hl 0 rfl) ?_
        refine h_get hx hb hts in_X1 hown hK hW.c0 rfl 3 (by decide) (hts _ q424) rfl (v := .ref (up2 ad 2 3 ez 1 (3))) rfl dX1_carrier_37 ?_
        obtain ⟨mc6, cp6, cq6, cr6, hLi6⟩ := hW.l3
        refine rc_V (W.runV (As := []) (rest := []) ⟨hx, hb, hml, hown, hts⟩ (al_size l D cA (up2 ad 2 3 ez 1 (3)) mc6 (up2 ad 2 3 ez 2 (3)) ((va_up (F) 5 (F 5 + 1)) 5)) (cwV 0 hts (lw_V q448 q449 q450 q45 q451) rfl rfl rfl (by decide +kernel) ⟨Nat.le_of_ble_eq_true rfl, Nat.le_of_ble_eq_true rfl⟩) (preV hK hLi6.1 rfl hLi6.1) rfl rfl hl.1 rfl (lv_room (Nat.le_of_ble_eq_true rfl)) dX1_carrier_40 ⟨Nat.le_of_ble_eq_true rfl, Nat.le_of_ble_eq_true rfl⟩) ?_
        refine ri_top (b := (F 5 + 1 : Nat)) rfl ?_
        refine lv_iconst (v := iI (1)) hx hb dX1_carrier_43 rfl ?_
        refine ri_isub hx hb dX1_carrier_44 ?_
        refine ri_top (b := (F 5 : Nat)) (by omega) ?_
        exact W.iret hx hb hr (fun tt htt hWm => ⟨⟨_, rfl, by rw [htt]; exact ⟨rfl, up2 ad 2 3 ez, rfl, hW⟩⟩, hS.F htt⟩) hS.2.2 dX1_carrier_45
      · skip
        exfalso; omega

set_option maxHeartbeats 4000000 in
set_option maxRecDepth 100000 in
theorem cc_X1_carrier_x (l : Launch) (D : va_G) (cA : Nat → ClassId) (A : Nat → Prop) (sa : Nat → Nat) (ad : Nat → Nat → Nat) (F : Nat → Nat) (N : Nat → Nat → Nat) (Z : Nat → Int) (E : Nat → Nat → Int) (K : Nat) (hKb : K ≤ 1000000) (hF : FB F) (hN : NB N) (hZ : ZB K Z) (hwf : WF F N) (d : Int) (q_d : inR d) (hbad : ¬ (F 5 ≠ 40 ∧ 0 ≤ d ∧ d ≤ 31)) : Met l yX1_carrier (ws_ yX1_carrier cX1_carrier 2 (some .int)) ({ frames := 2, cells := 0, slots := 0, locals := 60 }) (PC D cA A sa ad F N Z E [.ref (ad 0 (0)), .int (iI (d))]) (k2_QcV (.int (iI (-1)))) 0 0 (fun _ => False) := by
  refine Met.ofW (cc := cX1_carrier) (maxL := 2) (ret := (some .int)) (by decide) rfl ?_
  intro p e s m args below meth c s₁ B hml hv
  obtain ⟨rfl, hK, hW⟩ := hv
  have hx := B.exec
  have hb := B.bytes
  have hr := B.returns
  have hts := atoms_spec (ws := ws_ yX1_carrier cX1_carrier 2 (some .int)) B.pre
  have hts : ∀ w ∈ lw_all, w.before _ s = true := fun w h => hts w (List.mem_cons_of_mem _ h)
  have hown : s.vm.findClass RX1 = some m.cls := findClass_of_methodNamed B.named
  have hlocks := B.notSynchronized
  have hl := lv_entry ([.ref (ad 0 (0)), .int (iI (d))]) (n := 2) (Nat.le_of_ble_eq_true rfl)
  rw [lg_entry_eq]
  generalize (lg_sl ([.ref (ad 0 (0)), .int (iI (d))]) ++ List.replicate (2 - (lg_sl ([.ref (ad 0 (0)), .int (iI (d))])).length) Slot.unset).toArray = ls at hl ⊢
  have hl : lv_has ls 2 [(0, .ref (ad 0 (0))), (1, .int (iI (d)))] := hl
  obtain ⟨hSX, hW⟩ := hW
  have hS : va_S A s.heap s.heap [] := va_S.rf
  have hF2 : F 2 ≤ 10 := hF 2
  have hF3 : F 3 ≤ 16 := hF 3
  have hF4 : F 4 ≤ 60 := hF 4
  have hF5 : F 5 ≤ 40 := hF 5
  have hF1 : F 1 ≤ 1439 := hF 1
  have p_d := q_d; unfold inR at p_d
  refine lv_aload_n hx hb dX1_carrier_0 rfl (lv_at hl 0 rfl) ?_
  refine h_get hx hb hts in_X1 hown hK hW.c0 rfl 3 (by decide) (hts _ q424) rfl (v := .ref (ad 1 (3))) rfl dX1_carrier_1 ?_
  obtain ⟨mc1, cp1, cq1, cr1, hLi1⟩ := hW.l3
  refine rc_V (W.runV (As := []) (rest := []) ⟨hx, hb, hml, hown, hts⟩ (al_size l D cA (ad 1 (3)) mc1 (ad 2 (3)) (F 5)) (cwV 0 hts (lw_V q448 q449 q450 q45 q451) rfl rfl rfl (by decide +kernel) ⟨Nat.le_of_ble_eq_true rfl, Nat.le_of_ble_eq_true rfl⟩) (preV hK hLi1.1 rfl hLi1.1) rfl rfl hl.1 rfl (lv_room (Nat.le_of_ble_eq_true rfl)) dX1_carrier_4 ⟨Nat.le_of_ble_eq_true rfl, Nat.le_of_ble_eq_true rfl⟩) ?_
  refine lv_bipush (v := iI (40)) hx hb dX1_carrier_7 (by decide) ?_
  refine ri_icmp_eq (tgt := 22) hx hb (by unfold inR; omega) (by unfold inR; omega) dX1_carrier_9 (by decide) (fun h2 => ?_) (fun h2 => ?_)
  · skip
    refine lv_iconst (v := iI (-1)) hx hb dX1_carrier_22 rfl ?_
    exact W.iret hx hb hr (fun tt htt hWm => ⟨rfl, htt⟩) (fun _ h => absurd h List.not_mem_nil) dX1_carrier_23
  · skip
    refine lv_iload_n hx hb dX1_carrier_12 rfl (lv_at hl 1 rfl) ?_
    refine ri_if_lt (tgt := 22) hx hb q_d dX1_carrier_13 (by decide) (fun h3 => ?_) (fun h3 => ?_)
    · skip
      refine lv_iconst (v := iI (-1)) hx hb dX1_carrier_22 rfl ?_
      exact W.iret hx hb hr (fun tt htt hWm => ⟨rfl, htt⟩) (fun _ h => absurd h List.not_mem_nil) dX1_carrier_23
    · skip
      refine lv_iload_n hx hb dX1_carrier_16 rfl (lv_at hl 1 rfl) ?_
      refine lv_bipush (v := iI (31)) hx hb dX1_carrier_17 (by decide) ?_
      refine ri_icmp_le (tgt := 24) hx hb q_d (by unfold inR; omega) dX1_carrier_19 (by decide) (fun h4 => ?_) (fun h4 => ?_)
      · skip
        exfalso; omega
      · skip
        refine lv_iconst (v := iI (-1)) hx hb dX1_carrier_22 rfl ?_
        exact W.iret hx hb hr (fun tt htt hWm => ⟨rfl, htt⟩) (fun _ h => absurd h List.not_mem_nil) dX1_carrier_23

set_option maxHeartbeats 4000000 in
set_option maxRecDepth 100000 in
theorem cc_X1_train (l : Launch) (D : va_G) (cA : Nat → ClassId) (A : Nat → Prop) (sa : Nat → Nat) (ad : Nat → Nat → Nat) (F : Nat → Nat) (N : Nat → Nat → Nat) (Z : Nat → Int) (E : Nat → Nat → Int) (K : Nat) (hKb : K ≤ 1000000) (hF : FB F) (hN : NB N) (hZ : ZB K Z) (hwf : WF F N) (rm : Nat) (hr1 : 1 ≤ rm) (hr2 : rm ≤ 40) (hF3n : F 3 ≠ 16) (h8 : N 8 (F 3) = 0) (h13 : N 13 (F 3) = 0) (h23 : N 23 (F 3) = 0) (hZ0 : ∀ j, j < 10 → Z (10 * F 3 + j) = 0) : Met l yX1_train (ws_ yX1_train cX1_train 2 (some .int)) ({ frames := 7, cells := 5, slots := 421, locals := 211 }) (PC D cA A sa ad F N Z E [.ref (ad 0 (0)), .int (iI (rm))]) (Qi (fun z H' => z = (F 3 : Nat) ∧ ∃ ad', ad' 0 0 = ad 0 0 ∧ CW D cA A sa ad' (va_up (F) 3 (F 3 + 1)) (up2 (N) 7 (F 3) (rm)) Z E H') A) 5 421 (A) := by
  refine Met.ofW (cc := cX1_train) (maxL := 2) (ret := (some .int)) (by decide) rfl ?_
  intro p e s m args below meth c s₁ B hml hv
  obtain ⟨rfl, hK, hW⟩ := hv
  have hx := B.exec
  have hb := B.bytes
  have hr := B.returns
  have hts := atoms_spec (ws := ws_ yX1_train cX1_train 2 (some .int)) B.pre
  have hts : ∀ w ∈ lw_all, w.before _ s = true := fun w h => hts w (List.mem_cons_of_mem _ h)
  have hown : s.vm.findClass RX1 = some m.cls := findClass_of_methodNamed B.named
  have hlocks := B.notSynchronized
  have hl := lv_entry ([.ref (ad 0 (0)), .int (iI (rm))]) (n := 2) (Nat.le_of_ble_eq_true rfl)
  rw [lg_entry_eq]
  generalize (lg_sl ([.ref (ad 0 (0)), .int (iI (rm))]) ++ List.replicate (2 - (lg_sl ([.ref (ad 0 (0)), .int (iI (rm))])).length) Slot.unset).toArray = ls at hl ⊢
  have hl : lv_has ls 2 [(0, .ref (ad 0 (0))), (1, .int (iI (rm)))] := hl
  obtain ⟨hSX, hW⟩ := hW
  have hS : va_S A s.heap s.heap [] := va_S.rf
  have hF2 : F 2 ≤ 10 := hF 2
  have hF3 : F 3 ≤ 16 := hF 3
  have hF4 : F 4 ≤ 60 := hF 4
  have hF5 : F 5 ≤ 40 := hF 5
  have hF1 : F 1 ≤ 1439 := hF 1
  refine lv_aload_n hx hb dX1_train_0 rfl (lv_at hl 0 rfl) ?_
  refine h_get hx hb hts in_X1 hown hK hW.c0 rfl 1 (by decide) (hts _ q422) rfl (v := .ref (ad 1 (1))) rfl dX1_train_1 ?_
  obtain ⟨mc1, cp1, cq1, cr1, hLi1⟩ := hW.l1
  refine rc_V (W.runV (As := []) (rest := []) ⟨hx, hb, hml, hown, hts⟩ (al_size l D cA (ad 1 (1)) mc1 (ad 2 (1)) (F 3)) (cwV 0 hts (lw_V q448 q449 q450 q45 q451) rfl rfl rfl (by decide +kernel) ⟨Nat.le_of_ble_eq_true rfl, Nat.le_of_ble_eq_true rfl⟩) (preV hK hLi1.1 rfl hLi1.1) rfl rfl hl.1 rfl (lv_room (Nat.le_of_ble_eq_true rfl)) dX1_train_4 ⟨Nat.le_of_ble_eq_true rfl, Nat.le_of_ble_eq_true rfl⟩) ?_
  refine lv_bipush (v := iI (16)) hx hb dX1_train_7 (by decide) ?_
  refine ri_icmp_eq (tgt := 23) hx hb (by unfold inR; omega) (by unfold inR; omega) dX1_train_9 (by decide) (fun h2 => ?_) (fun h2 => ?_)
  · skip
    exfalso; omega
  · skip
    refine lv_iload_n hx hb dX1_train_12 rfl (lv_at hl 1 rfl) ?_
    refine lv_iconst (v := iI (1)) hx hb dX1_train_13 rfl ?_
    refine ri_icmp_lt (tgt := 23) hx hb (by unfold inR; omega) (by unfold inR; omega) dX1_train_14 (by decide) (fun h3 => ?_) (fun h3 => ?_)
    · skip
      exfalso; omega
    · skip
      refine lv_iload_n hx hb dX1_train_17 rfl (lv_at hl 1 rfl) ?_
      refine lv_bipush (v := iI (40)) hx hb dX1_train_18 (by decide) ?_
      refine ri_icmp_le (tgt := 25) hx hb (by unfold inR; omega) (by unfold inR; omega) dX1_train_20 (by decide) (fun h4 => ?_) (fun h4 => ?_)
      · skip
        refine lv_aload_n hx hb dX1_train_25 rfl (lv_at hl 0 rfl) ?_
        refine h_get hx hb hts in_X1 hown hK hW.c0 rfl 1 (by decide) (hts _ q422) rfl (v := .ref (ad 1 (1))) rfl dX1_train_26 ?_
        have hlt29 := hW.lt hF3 hN
        have hgr29 := hW.2.2.2
        refine h_new hx hb hts in_X4 tyX4 tyX4_ok hown (hts _ q519) (hts _ q520) (hts _ q64) hK hS (ci := 3) rfl (fs := [.int (iI (0)), .int (iI (0)), .null, .null, .int (iI (0)), .int (iI (0))]) (fun j hj => by match j, hj with | 0, _ => rfl | 1, _ => rfl | 2, _ => rfl | 3, _ => rfl | 4, _ => rfl | 5, _ => rfl) (Nat.le_of_ble_eq_true rfl) (Nat.le_of_ble_eq_true rfl) dX1_train_29 (fun z H hq29 hXz o1 z1 hS => ?_)
        have hAz : A z := hgr29 _ (by omega)
        have hW := hW.keptL hF3 hN (by omega) (fun k i hl => o1 _ (hlt29 k i hl))
        refine lv_dup hx hb dX1_train_32 rfl ?_
        refine lv_aload_n hx hb dX1_train_33 rfl (lv_at hl 0 rfl) ?_
        refine h_get hx hb hts in_X1 hown hK hW.c0 rfl 1 (by decide) (hts _ q422) rfl (v := .ref (ad 1 (1))) rfl dX1_train_34 ?_
        obtain ⟨mc5, cp5, cq5, cr5, hLi5⟩ := hW.l1
        refine rc_V (W.runV (As := []) (rest := [.ref z, .ref z, .ref (ad 1 (1))]) ⟨hx, hb, hml, hown, hts⟩ (al_size l D cA (ad 1 (1)) mc5 (ad 2 (1)) (F 3)) (cwV 0 hts (lw_V q448 q449 q450 q45 q451) rfl rfl rfl (by decide +kernel) ⟨Nat.le_of_ble_eq_true rfl, Nat.le_of_ble_eq_true rfl⟩) (preV hK hLi5.1 rfl hLi5.1) rfl rfl hl.1 rfl (lv_room (Nat.le_of_ble_eq_true rfl)) dX1_train_37 ⟨Nat.le_of_ble_eq_true rfl, Nat.le_of_ble_eq_true rfl⟩) ?_
        refine lv_iload_n hx hb dX1_train_40 rfl (lv_at hl 1 rfl) ?_
        have hzl0 := hXz.lt
        refine rc_N (W.runI (As := [.int (iI (F 3)), .int (iI (rm))]) (rest := [.ref z, .ref (ad 1 (1))]) ⟨hx, hb, hml, hown, hts⟩ (cc_X4_init l D cA z H.size (F 3) (rm)) (cwI 2 hts (lw_meth q523) rfl rfl rfl (hts _ q64) (hts _ q521) (hts _ q522) rfl (by decide +kernel) ⟨Nat.le_of_ble_eq_true rfl, Nat.le_of_ble_eq_true rfl⟩) (preS hK ⟨hXz, rfl⟩) rfl rfl hl.1 rfl (lv_room (Nat.le_of_ble_eq_true rfl)) dX1_train_41 ⟨Nat.le_of_ble_eq_true rfl, Nat.le_of_ble_eq_true rfl⟩) hS (fun q _ h => by rcases h with h | h; rw [h]; exact hAz; exact hgr29 _ (by omega)) (fun q h => by rcases h with h | h; rw [h]; exact hAz; exact hgr29 _ (by omega)) (fun H locs hq hS hz hk => ?_)
        obtain ⟨q1, e1, q2, g1, g2, g3, g4, g5, g6, hLt, hLo, hXz⟩ := hq
        have hW := hW.keptL hF3 hN hz (fun k i hl => hk _ (by have := hlt29 k i hl; omega) (by have := hlt29 k i hl; omega))
        obtain ⟨mc6, cp6, cq6, cr6, hLi6⟩ := hW.l1
        refine rc_I (W.runV (As := [.ref z]) (rest := []) ⟨hx, hb, hml, hown, hts⟩ (al_add l D cA (ad 1 (1)) mc6 (ad 2 (1)) H.size (F 3) cp6 z 3 (ad 4) cq6 (by omega) (by decide) (by have := hlt29 1 _ (lv_l0 1 (by omega)); omega)) (cwV 1 hts (lw_V q468 q469 q470 q45 q471) rfl rfl rfl (by decide +kernel) ⟨Nat.le_of_ble_eq_true rfl, Nat.le_of_ble_eq_true rfl⟩) (preV hK hLi6.1 rfl ⟨hLi6, rfl, (fun j hj => ⟨3, by decide, isO.of (hW.k4 j hj)⟩), (isO.of hXz), (by have := hlt29 2 _ (lv_e0 1 (by omega)); omega), (fun j hj => hW.ne (k := 4) hj (lv_l0 1 (by omega)) (Or.inl (by decide)))⟩) rfl rfl hl.1 rfl (lv_room (Nat.le_of_ble_eq_true rfl)) dX1_train_44 ⟨Nat.le_of_ble_eq_true rfl, Nat.le_of_ble_eq_true rfl⟩) hS (fun q _ h => by rcases h with h | h | h; rw [h]; exact hW.hA 1 _ (lv_l0 1 (by omega)); rw [h]; exact hW.hA 2 _ (lv_e0 1 (by omega)); exact hW.2.2.2 q h) (fun q  h => by rcases h with h | h | h; rw [h]; exact hW.hA 1 _ (lv_l0 1 (by omega)); rw [h]; exact hW.hA 2 _ (lv_e0 1 (by omega)); exact hW.2.2.2 q h) (fun zr H locs hq hS hz hk => ?_)
        obtain ⟨rfl, ez, hLz, hor⟩ := hq
        have hcap := nxC_le (cap := cp6) (sz := F 3) cq6 cr6 (by omega)
        have hzl := hXz.lt
        have hl1 := hlt29 1 _ (lv_l0 1 (by omega))
        have hl2 := hlt29 2 _ (lv_e0 1 (by omega))
        have lq1 := hLt.1.lt
        have le1 := hLt.2.1.lt
        have lq2 := hLo.lt
        have hXz := hXz.kept (hk _ hzl (by omega))
        have hLt := hLt.kept (hk _ lq1 (by omega)) (hk _ le1 (by omega))
        have hLo := hLo.kept (hk _ lq2 (by omega))
        have f1 : (up2 (up2 (up2 (up2 (up2 ad 4 (F 3) z) 5 (F 3) q2) 1 (10 + F 3) q1) 2 (10 + F 3) e1) 2 1 ez) 2 1 = ez := up2_eq _ _ _ _
        have f2 : (up2 (up2 (up2 (up2 (up2 ad 4 (F 3) z) 5 (F 3) q2) 1 (10 + F 3) q1) 2 (10 + F 3) e1) 2 1 ez) 2 (10 + F 3) = e1 := by rw [up2_ne (Or.inr (by omega)), up2_eq]
        have f3 : (up2 (up2 (up2 (up2 (up2 ad 4 (F 3) z) 5 (F 3) q2) 1 (10 + F 3) q1) 2 (10 + F 3) e1) 2 1 ez) 1 (10 + F 3) = q1 := by rw [up2_ne (Or.inl (by decide)), up2_ne (Or.inl (by decide)), up2_eq]
        have f4 : (up2 (up2 (up2 (up2 (up2 ad 4 (F 3) z) 5 (F 3) q2) 1 (10 + F 3) q1) 2 (10 + F 3) e1) 2 1 ez) 5 (F 3) = q2 := by rw [up2_ne (Or.inl (by decide)), up2_ne (Or.inl (by decide)), up2_ne (Or.inl (by decide)), up2_eq]
        have f5 : (up2 (up2 (up2 (up2 (up2 ad 4 (F 3) z) 5 (F 3) q2) 1 (10 + F 3) q1) 2 (10 + F 3) e1) 2 1 ez) 4 (F 3) = z := by rw [up2_ne (Or.inl (by decide)), up2_ne (Or.inl (by decide)), up2_ne (Or.inl (by decide)), up2_ne (Or.inl (by decide)), up2_eq]
        have hez : ez ≠ z ∧ ez ≠ q1 ∧ ez ≠ q2 ∧ ez ≠ e1 := by omega
        have hW := hW.addT (ad' := up2 (up2 (up2 (up2 (up2 ad 4 (F 3) z) 5 (F 3) q2) 1 (10 + F 3) q1) 2 (10 + F 3) e1) 2 1 ez) (n0 := z) (rm := rm) hF3 hN hwf (by omega) h8 h13 h23 hZ0 ⟨_, _, hcap.1, hcap.2, by rw [f1, f5]; exact hLz⟩ (by rw [f5, f3, f4]; exact hXz) (by rw [f4]; exact hLo) (by rw [f3, f2]; exact hLt) (fun k i hl => by have := hlt29 k i hl; omega) (fun q h => hgr29 q (by omega)) (fun k i hn => by rcases hn with ⟨rfl, rfl⟩ | ⟨rfl, rfl⟩ | ⟨rfl, rfl⟩ | ⟨rfl, rfl⟩ | ⟨rfl, rfl⟩ <;> simp only [f1, f2, f3, f4, f5] <;> first | exact Or.inl (by omega) | (rcases hor with h | h <;> first | exact Or.inl (by omega) | exact Or.inr ⟨trivial, trivial, h⟩ | exact Or.inr ⟨rfl, rfl, h⟩)) (fun k i k' i' h1 h2 e => by rcases h1 with ⟨rfl, rfl⟩ | ⟨rfl, rfl⟩ | ⟨rfl, rfl⟩ | ⟨rfl, rfl⟩ | ⟨rfl, rfl⟩ <;> rcases h2 with ⟨rfl, rfl⟩ | ⟨rfl, rfl⟩ | ⟨rfl, rfl⟩ | ⟨rfl, rfl⟩ | ⟨rfl, rfl⟩ <;> simp only [f1, f2, f3, f4, f5] at e <;> first | exact ⟨rfl, rfl⟩ | (exfalso; omega)) (fun k i hn => by rw [up2_ne (by omega), up2_ne (by omega), up2_ne (by omega), up2_ne (by omega), up2_ne (by omega)]) (fun q h1 h2 => hk q (by omega) (by omega)) (by omega)
        have hc09 : (up2 (up2 (up2 (up2 (up2 ad 4 (F 3) z) 5 (F 3) q2) 1 (10 + F 3) q1) 2 (10 + F 3) e1) 2 1 ez) 0 0 = ad 0 0 := by rw [up2_ne (Or.inl (by decide)), up2_ne (Or.inl (by decide)), up2_ne (Or.inl (by decide)), up2_ne (Or.inl (by decide)), up2_ne (Or.inl (by decide))]
        generalize up2 (up2 (up2 (up2 (up2 ad 4 (F 3) z) 5 (F 3) q2) 1 (10 + F 3) q1) 2 (10 + F 3) e1) 2 1 ez = adn at hW hc09
        rw [← hc09] at hl
        refine lv_pop hx hb dX1_train_47 rfl ?_
        refine lv_aload_n hx hb dX1_train_48 rfl (lv_at hl 0 rfl) ?_
        refine h_get hx hb hts in_X1 hown hK hW.c0 rfl 1 (by decide) (hts _ q422) rfl (v := .ref (adn 1 (1))) rfl dX1_train_49 ?_
        obtain ⟨mc7, cp7, cq7, cr7, hLi7⟩ := hW.l1
        refine rc_V (W.runV (As := []) (rest := []) ⟨hx, hb, hml, hown, hts⟩ (al_size l D cA (adn 1 (1)) mc7 (adn 2 (1)) ((va_up (F) 3 (F 3 + 1)) 3)) (cwV 0 hts (lw_V q448 q449 q450 q45 q451) rfl rfl rfl (by decide +kernel) ⟨Nat.le_of_ble_eq_true rfl, Nat.le_of_ble_eq_true rfl⟩) (preV hK hLi7.1 rfl hLi7.1) rfl rfl hl.1 rfl (lv_room (Nat.le_of_ble_eq_true rfl)) dX1_train_52 ⟨Nat.le_of_ble_eq_true rfl, Nat.le_of_ble_eq_true rfl⟩) ?_
        refine ri_top (b := (F 3 + 1 : Nat)) rfl ?_
        refine lv_iconst (v := iI (1)) hx hb dX1_train_55 rfl ?_
        refine ri_isub hx hb dX1_train_56 ?_
        refine ri_top (b := (F 3 : Nat)) (by omega) ?_
        exact W.iret hx hb hr (fun tt htt hWm => ⟨⟨_, rfl, by rw [htt]; exact ⟨rfl, adn, hc09, hW⟩⟩, hS.F htt⟩) hS.2.2 dX1_train_57
      · skip
        exfalso; omega

set_option maxHeartbeats 4000000 in
set_option maxRecDepth 100000 in
theorem cc_X1_train_x (l : Launch) (D : va_G) (cA : Nat → ClassId) (A : Nat → Prop) (sa : Nat → Nat) (ad : Nat → Nat → Nat) (F : Nat → Nat) (N : Nat → Nat → Nat) (Z : Nat → Int) (E : Nat → Nat → Int) (K : Nat) (hKb : K ≤ 1000000) (hF : FB F) (hN : NB N) (hZ : ZB K Z) (hwf : WF F N) (rm : Int) (q_rm : inR rm) (hbad : ¬ (F 3 ≠ 16 ∧ 1 ≤ rm ∧ rm ≤ 40)) : Met l yX1_train (ws_ yX1_train cX1_train 2 (some .int)) ({ frames := 2, cells := 0, slots := 0, locals := 60 }) (PC D cA A sa ad F N Z E [.ref (ad 0 (0)), .int (iI (rm))]) (k2_QcV (.int (iI (-1)))) 0 0 (fun _ => False) := by
  refine Met.ofW (cc := cX1_train) (maxL := 2) (ret := (some .int)) (by decide) rfl ?_
  intro p e s m args below meth c s₁ B hml hv
  obtain ⟨rfl, hK, hW⟩ := hv
  have hx := B.exec
  have hb := B.bytes
  have hr := B.returns
  have hts := atoms_spec (ws := ws_ yX1_train cX1_train 2 (some .int)) B.pre
  have hts : ∀ w ∈ lw_all, w.before _ s = true := fun w h => hts w (List.mem_cons_of_mem _ h)
  have hown : s.vm.findClass RX1 = some m.cls := findClass_of_methodNamed B.named
  have hlocks := B.notSynchronized
  have hl := lv_entry ([.ref (ad 0 (0)), .int (iI (rm))]) (n := 2) (Nat.le_of_ble_eq_true rfl)
  rw [lg_entry_eq]
  generalize (lg_sl ([.ref (ad 0 (0)), .int (iI (rm))]) ++ List.replicate (2 - (lg_sl ([.ref (ad 0 (0)), .int (iI (rm))])).length) Slot.unset).toArray = ls at hl ⊢
  have hl : lv_has ls 2 [(0, .ref (ad 0 (0))), (1, .int (iI (rm)))] := hl
  obtain ⟨hSX, hW⟩ := hW
  have hS : va_S A s.heap s.heap [] := va_S.rf
  have hF2 : F 2 ≤ 10 := hF 2
  have hF3 : F 3 ≤ 16 := hF 3
  have hF4 : F 4 ≤ 60 := hF 4
  have hF5 : F 5 ≤ 40 := hF 5
  have hF1 : F 1 ≤ 1439 := hF 1
  have p_rm := q_rm; unfold inR at p_rm
  refine lv_aload_n hx hb dX1_train_0 rfl (lv_at hl 0 rfl) ?_
  refine h_get hx hb hts in_X1 hown hK hW.c0 rfl 1 (by decide) (hts _ q422) rfl (v := .ref (ad 1 (1))) rfl dX1_train_1 ?_
  obtain ⟨mc1, cp1, cq1, cr1, hLi1⟩ := hW.l1
  refine rc_V (W.runV (As := []) (rest := []) ⟨hx, hb, hml, hown, hts⟩ (al_size l D cA (ad 1 (1)) mc1 (ad 2 (1)) (F 3)) (cwV 0 hts (lw_V q448 q449 q450 q45 q451) rfl rfl rfl (by decide +kernel) ⟨Nat.le_of_ble_eq_true rfl, Nat.le_of_ble_eq_true rfl⟩) (preV hK hLi1.1 rfl hLi1.1) rfl rfl hl.1 rfl (lv_room (Nat.le_of_ble_eq_true rfl)) dX1_train_4 ⟨Nat.le_of_ble_eq_true rfl, Nat.le_of_ble_eq_true rfl⟩) ?_
  refine lv_bipush (v := iI (16)) hx hb dX1_train_7 (by decide) ?_
  refine ri_icmp_eq (tgt := 23) hx hb (by unfold inR; omega) (by unfold inR; omega) dX1_train_9 (by decide) (fun h2 => ?_) (fun h2 => ?_)
  · skip
    refine lv_iconst (v := iI (-1)) hx hb dX1_train_23 rfl ?_
    exact W.iret hx hb hr (fun tt htt hWm => ⟨rfl, htt⟩) (fun _ h => absurd h List.not_mem_nil) dX1_train_24
  · skip
    refine lv_iload_n hx hb dX1_train_12 rfl (lv_at hl 1 rfl) ?_
    refine lv_iconst (v := iI (1)) hx hb dX1_train_13 rfl ?_
    refine ri_icmp_lt (tgt := 23) hx hb q_rm (by unfold inR; omega) dX1_train_14 (by decide) (fun h3 => ?_) (fun h3 => ?_)
    · skip
      refine lv_iconst (v := iI (-1)) hx hb dX1_train_23 rfl ?_
      exact W.iret hx hb hr (fun tt htt hWm => ⟨rfl, htt⟩) (fun _ h => absurd h List.not_mem_nil) dX1_train_24
    · skip
      refine lv_iload_n hx hb dX1_train_17 rfl (lv_at hl 1 rfl) ?_
      refine lv_bipush (v := iI (40)) hx hb dX1_train_18 (by decide) ?_
      refine ri_icmp_le (tgt := 25) hx hb q_rm (by unfold inR; omega) dX1_train_20 (by decide) (fun h4 => ?_) (fun h4 => ?_)
      · skip
        exfalso; omega
      · skip
        refine lv_iconst (v := iI (-1)) hx hb dX1_train_23 rfl ?_
        exact W.iret hx hb hr (fun tt htt hWm => ⟨rfl, htt⟩) (fun _ h => absurd h List.not_mem_nil) dX1_train_24
