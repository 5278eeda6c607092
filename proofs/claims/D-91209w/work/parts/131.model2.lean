set_option maxRecDepth 100000
set_option maxHeartbeats 4000000 in
set_option maxRecDepth 100000 in
theorem mm_fail (l : Launch) (D : va_G) (cA : Nat → ClassId) (A : Nat → Prop) (o : Nat) (ad : Nat → Nat) (F G : Nat → Nat) (N X : Nat → Nat → Nat) (Z : Nat → Int) (K : Nat) (hKb : K ≤ 1000000) (hF : FB F) (hG : GB G) (hN : NB N) (hX : XB X) (hZ : ZB K Z)  : Met l yX2_fail (ws_ yX2_fail cX2_fail 1 (some .int)) ({ frames := 1, cells := 0, slots := 0, locals := 30 }) (Pk D cA [.ref o] (MW D cA A o ad F G N X Z)) (Qi (fun z H' => z = 0 ∧ MW D cA A o ad (va_up F 0 1) G N X Z H') A) 0 0 (A) := by
  refine Met.ofW (cc := cX2_fail) (maxL := 1) (ret := (some .int)) (by decide) rfl ?_
  intro p e s m args below meth c s₁ B hml hv
  obtain ⟨rfl, hK, hW⟩ := hv
  have hx := B.exec
  have hb := B.bytes
  have hr := B.returns
  have hts := atoms_spec (ws := ws_ yX2_fail cX2_fail 1 (some .int)) B.pre
  have hts : ∀ w ∈ lw_all, w.before _ s = true := fun w h => hts w (List.mem_cons_of_mem _ h)
  have hown : s.vm.findClass RX2 = some m.cls := findClass_of_methodNamed B.named
  have hlocks := B.notSynchronized
  have hl := lv_entry ([.ref o]) (n := 1) (Nat.le_of_ble_eq_true rfl)
  rw [lg_entry_eq]
  generalize (lg_sl ([.ref o]) ++ List.replicate (1 - (lg_sl ([.ref o])).length) Slot.unset).toArray = ls at hl ⊢
  have hl : lv_has ls 1 [(0, .ref o)] := hl
  have hS : va_S A s.heap s.heap [] := va_S.rf
  refine lv_aload_n hx hb dX2_fail_0 rfl (lv_at hl 0 rfl) ?_
  refine lv_iconst (v := iI (1)) hx hb dX2_fail_1 rfl ?_
  refine m_put hx hb hts hown hK hW hS 0 (by decide) q974 rfl rfl rfl (1) rfl dX2_fail_2 (fun H locs hW hS => ?_)
  have hF : FB (va_up (F) 0 (1)) := hF.up (by show 1 ≤ 2; omega)
  refine lv_iconst (v := iI (0)) hx hb dX2_fail_5 rfl ?_
  exact W.iret hx hb hr (fun t ht hWm => ⟨⟨_, rfl, by rw [ht]; exact ⟨rfl, hW⟩⟩, hS.F ht⟩) hS.2.2 dX2_fail_6

set_option maxHeartbeats 4000000 in
set_option maxRecDepth 100000 in
theorem mm_station (l : Launch) (D : va_G) (cA : Nat → ClassId) (A : Nat → Prop) (o : Nat) (ad : Nat → Nat) (F G : Nat → Nat) (N X : Nat → Nat → Nat) (Z : Nat → Int) (K : Nat) (hKb : K ≤ 1000000) (hF : FB F) (hG : GB G) (hN : NB N) (hX : XB X) (hZ : ZB K Z) (sv : Int) (hs : inR sv) : Met l yX2_station (ws_ yX2_station cX2_station 2 (some .int)) ({ frames := 1, cells := 0, slots := 0, locals := 30 }) (Pk D cA [.ref o, .int (iI (sv))] (MW D cA A o ad F G N X Z)) (Qi (fun z H' => z = (opStation (va_up F 0 0) N sv).1 ∧ MW D cA A o ad (opStation (va_up F 0 0) N sv).2.1 G (opStation (va_up F 0 0) N sv).2.2 X Z H') A) 0 0 (A) := by
  refine Met.ofW (cc := cX2_station) (maxL := 2) (ret := (some .int)) (by decide) rfl ?_
  intro p e s m args below meth c s₁ B hml hv
  obtain ⟨rfl, hK, hW⟩ := hv
  have hx := B.exec
  have hb := B.bytes
  have hr := B.returns
  have hts := atoms_spec (ws := ws_ yX2_station cX2_station 2 (some .int)) B.pre
  have hts : ∀ w ∈ lw_all, w.before _ s = true := fun w h => hts w (List.mem_cons_of_mem _ h)
  have hown : s.vm.findClass RX2 = some m.cls := findClass_of_methodNamed B.named
  have hlocks := B.notSynchronized
  have hl := lv_entry ([.ref o, .int (iI (sv))]) (n := 2) (Nat.le_of_ble_eq_true rfl)
  rw [lg_entry_eq]
  generalize (lg_sl ([.ref o, .int (iI (sv))]) ++ List.replicate (2 - (lg_sl ([.ref o, .int (iI (sv))])).length) Slot.unset).toArray = ls at hl ⊢
  have hl : lv_has ls 2 [(0, .ref o), (1, .int (iI (sv)))] := hl
  have hS : va_S A s.heap s.heap [] := va_S.rf
  have hs1 := hs
  unfold inR at hs1
  refine lv_aload_n hx hb dX2_station_0 rfl (lv_at hl 0 rfl) ?_
  refine lv_iconst (v := iI (0)) hx hb dX2_station_1 rfl ?_
  refine m_put hx hb hts hown hK hW hS 0 (by decide) q974 rfl rfl rfl (0) rfl dX2_station_2 (fun H locs hW hS => ?_)
  have hF : FB (va_up (F) 0 (0)) := hF.up (by show 0 ≤ 2; omega)
  generalize va_up (F) 0 (0) = F1 at hW hF ⊢
  refine lv_aload_n hx hb dX2_station_5 rfl (lv_at hl 0 rfl) ?_
  refine m_get hx hb hts hown hK hW 2 (by decide) q976 rfl (v := .int (iI (F1 2))) rfl dX2_station_6 ?_
  have b1 : F1 2 ≤ 10 := hF 2
  refine lv_bipush (v := iI (10)) hx hb dX2_station_9 (by decide) ?_
  refine ri_icmp_eq (tgt := 24) hx hb (by unfold inR; omega) (by unfold inR; omega) dX2_station_11 (by decide) (fun h2 => ?_) (fun h2 => ?_)
  · skip
    refine lv_iconst (v := iI (-1)) hx hb dX2_station_24 rfl ?_
    have e : opStation F1 N sv = (-1, F1, N) := by unfold opStation; exact if_pos (by omega)
    exact W.iret hx hb hr (fun t ht hWm => ⟨⟨_, rfl, by rw [ht]; exact (by rw [e]; exact ⟨rfl, hW⟩)⟩, hS.F ht⟩) hS.2.2 dX2_station_25
  · skip
    refine lv_iload_n hx hb dX2_station_14 rfl (lv_at hl 1 rfl) ?_
    refine ri_if_lt (tgt := 24) hx hb (by unfold inR; omega) dX2_station_15 (by decide) (fun h3 => ?_) (fun h3 => ?_)
    · skip
      refine lv_iconst (v := iI (-1)) hx hb dX2_station_24 rfl ?_
      have e : opStation F1 N sv = (-1, F1, N) := by unfold opStation; exact if_pos (by omega)
      exact W.iret hx hb hr (fun t ht hWm => ⟨⟨_, rfl, by rw [ht]; exact (by rw [e]; exact ⟨rfl, hW⟩)⟩, hS.F ht⟩) hS.2.2 dX2_station_25
    · skip
      refine lv_iload_n hx hb dX2_station_18 rfl (lv_at hl 1 rfl) ?_
      refine lv_bipush (v := iI (60)) hx hb dX2_station_19 (by decide) ?_
      refine ri_icmp_le (tgt := 26) hx hb (by unfold inR; omega) (by unfold inR; omega) dX2_station_21 (by decide) (fun h4 => ?_) (fun h4 => ?_)
      · skip
        refine lv_aload_n hx hb dX2_station_26 rfl (lv_at hl 0 rfl) ?_
        refine m_get hx hb hts hown hK hW 6 (by decide) q980 rfl (v := .ref (ad 6)) rfl dX2_station_27 ?_
        refine lv_aload_n hx hb dX2_station_30 rfl (lv_at hl 0 rfl) ?_
        refine m_get hx hb hts hown hK hW 2 (by decide) q976 rfl (v := .int (iI (F1 2))) rfl dX2_station_31 ?_
        refine lv_iload_n hx hb dX2_station_34 rfl (lv_at hl 1 rfl) ?_
        refine m_st hx hb hK hW hS 6 (by unfold isA; omega) (by omega) rfl (F1 2) (by omega) (by show _ < 10; omega) (sv.toNat) (by omega) dX2_station_35 (fun H locs hW hS => ?_)
        have hN : NB (up2 (N) 6 (F1 2) (sv.toNat)) := hN.up (by show sv.toNat ≤ 60; omega)
        refine lv_aload_n hx hb dX2_station_36 rfl (lv_at hl 0 rfl) ?_
        refine lv_dup hx hb dX2_station_37 rfl ?_
        refine m_get hx hb hts hown hK hW 2 (by decide) q976 rfl (v := .int (iI (F1 2))) rfl dX2_station_38 ?_
        refine lv_iconst (v := iI (1)) hx hb dX2_station_41 rfl ?_
        refine ri_iadd hx hb dX2_station_42 ?_
        refine ri_top (b := (((F1 2) + 1 : Nat) : Int)) (by omega) ?_
        refine m_put hx hb hts hown hK hW hS 2 (by decide) q976 rfl rfl rfl ((F1 2) + 1) rfl dX2_station_43 (fun H locs hW hS => ?_)
        have hF : FB (va_up (F1) 2 ((F1 2) + 1)) := hF.up (by show ((F1 2) + 1) ≤ 10; omega)
        refine lv_aload_n hx hb dX2_station_46 rfl (lv_at hl 0 rfl) ?_
        refine m_get hx hb hts hown hK hW 2 (by decide) q976 rfl (v := .int (iI (((F1 2) + 1 : Nat)))) rfl dX2_station_47 ?_
        have b5 : ((F1 2) + 1 : Nat) ≤ 10 := hF 2
        refine lv_iconst (v := iI (1)) hx hb dX2_station_50 rfl ?_
        refine ri_isub hx hb dX2_station_51 ?_
        have e : opStation F1 N sv = ((F1 2 : Int), va_up F1 2 (F1 2 + 1), up2 N 6 (F1 2) sv.toNat) := by unfold opStation; exact if_neg (by omega)
        exact W.iret hx hb hr (fun t ht hWm => ⟨⟨_, rfl, by rw [ht]; exact (by rw [e]; exact ⟨by show _ = (F1 2 : Int); omega, hW⟩)⟩, hS.F ht⟩) hS.2.2 dX2_station_52
      · skip
        refine lv_iconst (v := iI (-1)) hx hb dX2_station_24 rfl ?_
        have e : opStation F1 N sv = (-1, F1, N) := by unfold opStation; exact if_pos (by omega)
        exact W.iret hx hb hr (fun t ht hWm => ⟨⟨_, rfl, by rw [ht]; exact (by rw [e]; exact ⟨rfl, hW⟩)⟩, hS.F ht⟩) hS.2.2 dX2_station_25

set_option maxHeartbeats 4000000 in
set_option maxRecDepth 100000 in
theorem mm_train (l : Launch) (D : va_G) (cA : Nat → ClassId) (A : Nat → Prop) (o : Nat) (ad : Nat → Nat) (F G : Nat → Nat) (N X : Nat → Nat → Nat) (Z : Nat → Int) (K : Nat) (hKb : K ≤ 1000000) (hF : FB F) (hG : GB G) (hN : NB N) (hX : XB X) (hZ : ZB K Z) (sv : Int) (hs : inR sv) : Met l yX2_train (ws_ yX2_train cX2_train 2 (some .int)) ({ frames := 1, cells := 0, slots := 0, locals := 30 }) (Pk D cA [.ref o, .int (iI (sv))] (MW D cA A o ad F G N X Z)) (Qi (fun z H' => z = (opTrain (va_up F 0 0) N sv).1 ∧ MW D cA A o ad (opTrain (va_up F 0 0) N sv).2.1 G (opTrain (va_up F 0 0) N sv).2.2 X Z H') A) 0 0 (A) := by
  refine Met.ofW (cc := cX2_train) (maxL := 2) (ret := (some .int)) (by decide) rfl ?_
  intro p e s m args below meth c s₁ B hml hv
  obtain ⟨rfl, hK, hW⟩ := hv
  have hx := B.exec
  have hb := B.bytes
  have hr := B.returns
  have hts := atoms_spec (ws := ws_ yX2_train cX2_train 2 (some .int)) B.pre
  have hts : ∀ w ∈ lw_all, w.before _ s = true := fun w h => hts w (List.mem_cons_of_mem _ h)
  have hown : s.vm.findClass RX2 = some m.cls := findClass_of_methodNamed B.named
  have hlocks := B.notSynchronized
  have hl := lv_entry ([.ref o, .int (iI (sv))]) (n := 2) (Nat.le_of_ble_eq_true rfl)
  rw [lg_entry_eq]
  generalize (lg_sl ([.ref o, .int (iI (sv))]) ++ List.replicate (2 - (lg_sl ([.ref o, .int (iI (sv))])).length) Slot.unset).toArray = ls at hl ⊢
  have hl : lv_has ls 2 [(0, .ref o), (1, .int (iI (sv)))] := hl
  have hS : va_S A s.heap s.heap [] := va_S.rf
  have hs1 := hs
  unfold inR at hs1
  refine lv_aload_n hx hb dX2_train_0 rfl (lv_at hl 0 rfl) ?_
  refine lv_iconst (v := iI (0)) hx hb dX2_train_1 rfl ?_
  refine m_put hx hb hts hown hK hW hS 0 (by decide) q974 rfl rfl rfl (0) rfl dX2_train_2 (fun H locs hW hS => ?_)
  have hF : FB (va_up (F) 0 (0)) := hF.up (by show 0 ≤ 2; omega)
  generalize va_up (F) 0 (0) = F1 at hW hF ⊢
  refine lv_aload_n hx hb dX2_train_5 rfl (lv_at hl 0 rfl) ?_
  refine m_get hx hb hts hown hK hW 3 (by decide) q977 rfl (v := .int (iI (F1 3))) rfl dX2_train_6 ?_
  have b1 : F1 3 ≤ 16 := hF 3
  refine lv_bipush (v := iI (16)) hx hb dX2_train_9 (by decide) ?_
  refine ri_icmp_eq (tgt := 25) hx hb (by unfold inR; omega) (by unfold inR; omega) dX2_train_11 (by decide) (fun h2 => ?_) (fun h2 => ?_)
  · skip
    refine lv_iconst (v := iI (-1)) hx hb dX2_train_25 rfl ?_
    have e : opTrain F1 N sv = (-1, F1, N) := by unfold opTrain; exact if_pos (by omega)
    exact W.iret hx hb hr (fun t ht hWm => ⟨⟨_, rfl, by rw [ht]; exact (by rw [e]; exact ⟨rfl, hW⟩)⟩, hS.F ht⟩) hS.2.2 dX2_train_26
  · skip
    refine lv_iload_n hx hb dX2_train_14 rfl (lv_at hl 1 rfl) ?_
    refine lv_iconst (v := iI (1)) hx hb dX2_train_15 rfl ?_
    refine ri_icmp_lt (tgt := 25) hx hb (by unfold inR; omega) (by unfold inR; omega) dX2_train_16 (by decide) (fun h3 => ?_) (fun h3 => ?_)
    · skip
      refine lv_iconst (v := iI (-1)) hx hb dX2_train_25 rfl ?_
      have e : opTrain F1 N sv = (-1, F1, N) := by unfold opTrain; exact if_pos (by omega)
      exact W.iret hx hb hr (fun t ht hWm => ⟨⟨_, rfl, by rw [ht]; exact (by rw [e]; exact ⟨rfl, hW⟩)⟩, hS.F ht⟩) hS.2.2 dX2_train_26
    · skip
      refine lv_iload_n hx hb dX2_train_19 rfl (lv_at hl 1 rfl) ?_
      refine lv_bipush (v := iI (40)) hx hb dX2_train_20 (by decide) ?_
      refine ri_icmp_le (tgt := 27) hx hb (by unfold inR; omega) (by unfold inR; omega) dX2_train_22 (by decide) (fun h4 => ?_) (fun h4 => ?_)
      · skip
        refine lv_aload_n hx hb dX2_train_27 rfl (lv_at hl 0 rfl) ?_
        refine m_get hx hb hts hown hK hW 7 (by decide) q981 rfl (v := .ref (ad 7)) rfl dX2_train_28 ?_
        refine lv_aload_n hx hb dX2_train_31 rfl (lv_at hl 0 rfl) ?_
        refine m_get hx hb hts hown hK hW 3 (by decide) q977 rfl (v := .int (iI (F1 3))) rfl dX2_train_32 ?_
        refine lv_iload_n hx hb dX2_train_35 rfl (lv_at hl 1 rfl) ?_
        refine m_st hx hb hK hW hS 7 (by unfold isA; omega) (by omega) rfl (F1 3) (by omega) (by show _ < 16; omega) (sv.toNat) (by omega) dX2_train_36 (fun H locs hW hS => ?_)
        have hN : NB (up2 (N) 7 (F1 3) (sv.toNat)) := hN.up (by show sv.toNat ≤ 40; omega)
        refine lv_aload_n hx hb dX2_train_37 rfl (lv_at hl 0 rfl) ?_
        refine lv_dup hx hb dX2_train_38 rfl ?_
        refine m_get hx hb hts hown hK hW 3 (by decide) q977 rfl (v := .int (iI (F1 3))) rfl dX2_train_39 ?_
        refine lv_iconst (v := iI (1)) hx hb dX2_train_42 rfl ?_
        refine ri_iadd hx hb dX2_train_43 ?_
        refine ri_top (b := (((F1 3) + 1 : Nat) : Int)) (by omega) ?_
        refine m_put hx hb hts hown hK hW hS 3 (by decide) q977 rfl rfl rfl ((F1 3) + 1) rfl dX2_train_44 (fun H locs hW hS => ?_)
        have hF : FB (va_up (F1) 3 ((F1 3) + 1)) := hF.up (by show ((F1 3) + 1) ≤ 16; omega)
        refine lv_aload_n hx hb dX2_train_47 rfl (lv_at hl 0 rfl) ?_
        refine m_get hx hb hts hown hK hW 3 (by decide) q977 rfl (v := .int (iI (((F1 3) + 1 : Nat)))) rfl dX2_train_48 ?_
        have b5 : ((F1 3) + 1 : Nat) ≤ 16 := hF 3
        refine lv_iconst (v := iI (1)) hx hb dX2_train_51 rfl ?_
        refine ri_isub hx hb dX2_train_52 ?_
        have e : opTrain F1 N sv = ((F1 3 : Int), va_up F1 3 (F1 3 + 1), up2 N 7 (F1 3) sv.toNat) := by unfold opTrain; exact if_neg (by omega)
        exact W.iret hx hb hr (fun t ht hWm => ⟨⟨_, rfl, by rw [ht]; exact (by rw [e]; exact ⟨by show _ = (F1 3 : Int); omega, hW⟩)⟩, hS.F ht⟩) hS.2.2 dX2_train_53
      · skip
        refine lv_iconst (v := iI (-1)) hx hb dX2_train_25 rfl ?_
        have e : opTrain F1 N sv = (-1, F1, N) := by unfold opTrain; exact if_pos (by omega)
        exact W.iret hx hb hr (fun t ht hWm => ⟨⟨_, rfl, by rw [ht]; exact (by rw [e]; exact ⟨rfl, hW⟩)⟩, hS.F ht⟩) hS.2.2 dX2_train_26

set_option maxHeartbeats 4000000 in
set_option maxRecDepth 100000 in
theorem mm_carrier (l : Launch) (D : va_G) (cA : Nat → ClassId) (A : Nat → Prop) (o : Nat) (ad : Nat → Nat) (F G : Nat → Nat) (N X : Nat → Nat → Nat) (Z : Nat → Int) (K : Nat) (hKb : K ≤ 1000000) (hF : FB F) (hG : GB G) (hN : NB N) (hX : XB X) (hZ : ZB K Z) (sv : Int) (hs : inR sv) : Met l yX2_carrier (ws_ yX2_carrier cX2_carrier 2 (some .int)) ({ frames := 1, cells := 0, slots := 0, locals := 30 }) (Pk D cA [.ref o, .int (iI (sv))] (MW D cA A o ad F G N X Z)) (Qi (fun z H' => z = (opCarrier (va_up F 0 0) N sv).1 ∧ MW D cA A o ad (opCarrier (va_up F 0 0) N sv).2.1 G (opCarrier (va_up F 0 0) N sv).2.2 X Z H') A) 0 0 (A) := by
  refine Met.ofW (cc := cX2_carrier) (maxL := 2) (ret := (some .int)) (by decide) rfl ?_
  intro p e s m args below meth c s₁ B hml hv
  obtain ⟨rfl, hK, hW⟩ := hv
  have hx := B.exec
  have hb := B.bytes
  have hr := B.returns
  have hts := atoms_spec (ws := ws_ yX2_carrier cX2_carrier 2 (some .int)) B.pre
  have hts : ∀ w ∈ lw_all, w.before _ s = true := fun w h => hts w (List.mem_cons_of_mem _ h)
  have hown : s.vm.findClass RX2 = some m.cls := findClass_of_methodNamed B.named
  have hlocks := B.notSynchronized
  have hl := lv_entry ([.ref o, .int (iI (sv))]) (n := 2) (Nat.le_of_ble_eq_true rfl)
  rw [lg_entry_eq]
  generalize (lg_sl ([.ref o, .int (iI (sv))]) ++ List.replicate (2 - (lg_sl ([.ref o, .int (iI (sv))])).length) Slot.unset).toArray = ls at hl ⊢
  have hl : lv_has ls 2 [(0, .ref o), (1, .int (iI (sv)))] := hl
  have hS : va_S A s.heap s.heap [] := va_S.rf
  have hs1 := hs
  unfold inR at hs1
  refine lv_aload_n hx hb dX2_carrier_0 rfl (lv_at hl 0 rfl) ?_
  refine lv_iconst (v := iI (0)) hx hb dX2_carrier_1 rfl ?_
  refine m_put hx hb hts hown hK hW hS 0 (by decide) q974 rfl rfl rfl (0) rfl dX2_carrier_2 (fun H locs hW hS => ?_)
  have hF : FB (va_up (F) 0 (0)) := hF.up (by show 0 ≤ 2; omega)
  generalize va_up (F) 0 (0) = F1 at hW hF ⊢
  refine lv_aload_n hx hb dX2_carrier_5 rfl (lv_at hl 0 rfl) ?_
  refine m_get hx hb hts hown hK hW 5 (by decide) q979 rfl (v := .int (iI (F1 5))) rfl dX2_carrier_6 ?_
  have b1 : F1 5 ≤ 40 := hF 5
  refine lv_bipush (v := iI (40)) hx hb dX2_carrier_9 (by decide) ?_
  refine ri_icmp_eq (tgt := 24) hx hb (by unfold inR; omega) (by unfold inR; omega) dX2_carrier_11 (by decide) (fun h2 => ?_) (fun h2 => ?_)
  · skip
    refine lv_iconst (v := iI (-1)) hx hb dX2_carrier_24 rfl ?_
    have e : opCarrier F1 N sv = (-1, F1, N) := by unfold opCarrier; exact if_pos (by omega)
    exact W.iret hx hb hr (fun t ht hWm => ⟨⟨_, rfl, by rw [ht]; exact (by rw [e]; exact ⟨rfl, hW⟩)⟩, hS.F ht⟩) hS.2.2 dX2_carrier_25
  · skip
    refine lv_iload_n hx hb dX2_carrier_14 rfl (lv_at hl 1 rfl) ?_
    refine ri_if_lt (tgt := 24) hx hb (by unfold inR; omega) dX2_carrier_15 (by decide) (fun h3 => ?_) (fun h3 => ?_)
    · skip
      refine lv_iconst (v := iI (-1)) hx hb dX2_carrier_24 rfl ?_
      have e : opCarrier F1 N sv = (-1, F1, N) := by unfold opCarrier; exact if_pos (by omega)
      exact W.iret hx hb hr (fun t ht hWm => ⟨⟨_, rfl, by rw [ht]; exact (by rw [e]; exact ⟨rfl, hW⟩)⟩, hS.F ht⟩) hS.2.2 dX2_carrier_25
    · skip
      refine lv_iload_n hx hb dX2_carrier_18 rfl (lv_at hl 1 rfl) ?_
      refine lv_bipush (v := iI (31)) hx hb dX2_carrier_19 (by decide) ?_
      refine ri_icmp_le (tgt := 26) hx hb (by unfold inR; omega) (by unfold inR; omega) dX2_carrier_21 (by decide) (fun h4 => ?_) (fun h4 => ?_)
      · skip
        refine lv_aload_n hx hb dX2_carrier_26 rfl (lv_at hl 0 rfl) ?_
        refine m_get hx hb hts hown hK hW 12 (by decide) q986 rfl (v := .ref (ad 12)) rfl dX2_carrier_27 ?_
        refine lv_aload_n hx hb dX2_carrier_30 rfl (lv_at hl 0 rfl) ?_
        refine m_get hx hb hts hown hK hW 5 (by decide) q979 rfl (v := .int (iI (F1 5))) rfl dX2_carrier_31 ?_
        refine lv_iload_n hx hb dX2_carrier_34 rfl (lv_at hl 1 rfl) ?_
        refine m_st hx hb hK hW hS 12 (by unfold isA; omega) (by omega) rfl (F1 5) (by omega) (by show _ < 40; omega) (sv.toNat) (by omega) dX2_carrier_35 (fun H locs hW hS => ?_)
        have hN : NB (up2 (N) 12 (F1 5) (sv.toNat)) := hN.up (by show sv.toNat ≤ 31; omega)
        refine lv_aload_n hx hb dX2_carrier_36 rfl (lv_at hl 0 rfl) ?_
        refine lv_dup hx hb dX2_carrier_37 rfl ?_
        refine m_get hx hb hts hown hK hW 5 (by decide) q979 rfl (v := .int (iI (F1 5))) rfl dX2_carrier_38 ?_
        refine lv_iconst (v := iI (1)) hx hb dX2_carrier_41 rfl ?_
        refine ri_iadd hx hb dX2_carrier_42 ?_
        refine ri_top (b := (((F1 5) + 1 : Nat) : Int)) (by omega) ?_
        refine m_put hx hb hts hown hK hW hS 5 (by decide) q979 rfl rfl rfl ((F1 5) + 1) rfl dX2_carrier_43 (fun H locs hW hS => ?_)
        have hF : FB (va_up (F1) 5 ((F1 5) + 1)) := hF.up (by show ((F1 5) + 1) ≤ 40; omega)
        refine lv_aload_n hx hb dX2_carrier_46 rfl (lv_at hl 0 rfl) ?_
        refine m_get hx hb hts hown hK hW 5 (by decide) q979 rfl (v := .int (iI (((F1 5) + 1 : Nat)))) rfl dX2_carrier_47 ?_
        have b5 : ((F1 5) + 1 : Nat) ≤ 40 := hF 5
        refine lv_iconst (v := iI (1)) hx hb dX2_carrier_50 rfl ?_
        refine ri_isub hx hb dX2_carrier_51 ?_
        have e : opCarrier F1 N sv = ((F1 5 : Int), va_up F1 5 (F1 5 + 1), up2 N 12 (F1 5) sv.toNat) := by unfold opCarrier; exact if_neg (by omega)
        exact W.iret hx hb hr (fun t ht hWm => ⟨⟨_, rfl, by rw [ht]; exact (by rw [e]; exact ⟨by show _ = (F1 5 : Int); omega, hW⟩)⟩, hS.F ht⟩) hS.2.2 dX2_carrier_52
      · skip
        refine lv_iconst (v := iI (-1)) hx hb dX2_carrier_24 rfl ?_
        have e : opCarrier F1 N sv = (-1, F1, N) := by unfold opCarrier; exact if_pos (by omega)
        exact W.iret hx hb hr (fun t ht hWm => ⟨⟨_, rfl, by rw [ht]; exact (by rw [e]; exact ⟨rfl, hW⟩)⟩, hS.F ht⟩) hS.2.2 dX2_carrier_25

set_option maxHeartbeats 4000000 in
set_option maxRecDepth 100000 in
theorem mm_minutes (l : Launch) (D : va_G) (cA : Nat → ClassId) (A : Nat → Prop) (o : Nat) (ad : Nat → Nat) (F G : Nat → Nat) (N X : Nat → Nat → Nat) (Z : Nat → Int) (K : Nat) (hKb : K ≤ 1000000) (hF : FB F) (hG : GB G) (hN : NB N) (hX : XB X) (hZ : ZB K Z) (n : Nat) (hn9 : n + F 1 ≤ 1439) : Met l yX2_minutes (ws_ yX2_minutes cX2_minutes 2 (some .int)) ({ frames := 1, cells := 0, slots := 0, locals := 30 }) (Pk D cA [.ref o, .int (iI (n))] (MW D cA A o ad F G N X Z)) (Qi (fun z H' => z = (F 1 + n : Nat) ∧ MW D cA A o ad (va_up (va_up F 0 0) 1 (F 1 + n)) G N X Z H') A) 0 0 (A) := by
  refine Met.ofW (cc := cX2_minutes) (maxL := 2) (ret := (some .int)) (by decide) rfl ?_
  intro p e s m args below meth c s₁ B hml hv
  obtain ⟨rfl, hK, hW⟩ := hv
  have hx := B.exec
  have hb := B.bytes
  have hr := B.returns
  have hts := atoms_spec (ws := ws_ yX2_minutes cX2_minutes 2 (some .int)) B.pre
  have hts : ∀ w ∈ lw_all, w.before _ s = true := fun w h => hts w (List.mem_cons_of_mem _ h)
  have hown : s.vm.findClass RX2 = some m.cls := findClass_of_methodNamed B.named
  have hlocks := B.notSynchronized
  have hl := lv_entry ([.ref o, .int (iI (n))]) (n := 2) (Nat.le_of_ble_eq_true rfl)
  rw [lg_entry_eq]
  generalize (lg_sl ([.ref o, .int (iI (n))]) ++ List.replicate (2 - (lg_sl ([.ref o, .int (iI (n))])).length) Slot.unset).toArray = ls at hl ⊢
  have hl : lv_has ls 2 [(0, .ref o), (1, .int (iI (n)))] := hl
  have hS : va_S A s.heap s.heap [] := va_S.rf
  have hF1 : F 1 ≤ 1439 := hF 1
  refine lv_aload_n hx hb dX2_minutes_0 rfl (lv_at hl 0 rfl) ?_
  refine lv_iconst (v := iI (0)) hx hb dX2_minutes_1 rfl ?_
  refine m_put hx hb hts hown hK hW hS 0 (by decide) q974 rfl rfl rfl (0) rfl dX2_minutes_2 (fun H locs hW hS => ?_)
  have hF : FB (va_up (F) 0 (0)) := hF.up (by show 0 ≤ 2; omega)
  have e1 : va_up F 0 0 1 = F 1 := rfl
  have e2 : va_up F 0 0 2 = F 2 := rfl
  have e3 : va_up F 0 0 3 = F 3 := rfl
  have e4 : va_up F 0 0 4 = F 4 := rfl
  have e5 : va_up F 0 0 5 = F 5 := rfl
  refine lv_iload_n hx hb dX2_minutes_5 rfl (lv_at hl 1 rfl) ?_
  refine ri_if_lt (tgt := 21) hx hb (by unfold inR; omega) dX2_minutes_6 (by decide) (fun h1 => ?_) (fun h1 => ?_)
  · skip
    exfalso; omega
  · skip
    refine lv_iload_n hx hb dX2_minutes_9 rfl (lv_at hl 1 rfl) ?_
    refine lv_sipush (v := iI (1439)) hx hb dX2_minutes_10 (by decide) ?_
    refine lv_aload_n hx hb dX2_minutes_13 rfl (lv_at hl 0 rfl) ?_
    refine m_get hx hb hts hown hK hW 1 (by decide) q975 rfl (v := .int (iI (F 1))) rfl dX2_minutes_14 ?_
    have b2 : F 1 ≤ 1439 := hF 1
    refine ri_isub hx hb dX2_minutes_17 ?_
    refine ri_icmp_le (tgt := 26) hx hb (by unfold inR; omega) (by unfold inR; omega) dX2_minutes_18 (by decide) (fun h3 => ?_) (fun h3 => ?_)
    · skip
      refine lv_aload_n hx hb dX2_minutes_26 rfl (lv_at hl 0 rfl) ?_
      refine lv_dup hx hb dX2_minutes_27 rfl ?_
      refine m_get hx hb hts hown hK hW 1 (by decide) q975 rfl (v := .int (iI (F 1))) rfl dX2_minutes_28 ?_
      refine lv_iload_n hx hb dX2_minutes_31 rfl (lv_at hl 1 rfl) ?_
      refine ri_iadd hx hb dX2_minutes_32 ?_
      refine ri_top (b := (((F 1) + n : Nat) : Int)) (by omega) ?_
      refine m_put hx hb hts hown hK hW hS 1 (by decide) q975 rfl rfl rfl ((F 1) + n) rfl dX2_minutes_33 (fun H locs hW hS => ?_)
      have hF : FB (va_up (va_up (F) 0 (0)) 1 ((F 1) + n)) := hF.up (by show ((F 1) + n) ≤ 1439; omega)
      refine lv_aload_n hx hb dX2_minutes_36 rfl (lv_at hl 0 rfl) ?_
      refine m_get hx hb hts hown hK hW 1 (by decide) q975 rfl (v := .int (iI (((F 1) + n : Nat)))) rfl dX2_minutes_37 ?_
      have b4 : ((F 1) + n : Nat) ≤ 1439 := hF 1
      exact W.iret hx hb hr (fun t ht hWm => ⟨⟨_, rfl, by rw [ht]; exact ⟨by omega, hW⟩⟩, hS.F ht⟩) hS.2.2 dX2_minutes_40
    · skip
      exfalso; omega

set_option maxHeartbeats 4000000 in
set_option maxRecDepth 100000 in
theorem mm_minutes_x (l : Launch) (D : va_G) (cA : Nat → ClassId) (A : Nat → Prop) (o : Nat) (ad : Nat → Nat) (F G : Nat → Nat) (N X : Nat → Nat → Nat) (Z : Nat → Int) (K : Nat) (hKb : K ≤ 1000000) (hF : FB F) (hG : GB G) (hN : NB N) (hX : XB X) (hZ : ZB K Z) (n : Int) (q_n : inR n) (hbad : ¬ (0 ≤ n ∧ n ≤ 1439 - F 1)) : Met l yX2_minutes (ws_ yX2_minutes cX2_minutes 2 (some .int)) ({ frames := 2, cells := 0, slots := 0, locals := 50 }) (Pk D cA [.ref o, .int (iI (n))] (MW D cA A o ad F G N X Z)) (Qi (fun z H' => MW D cA A o ad (va_up (va_up F 0 0) 0 1) G N X Z H') A) 0 0 (A) := by
  refine Met.ofW (cc := cX2_minutes) (maxL := 2) (ret := (some .int)) (by decide) rfl ?_
  intro p e s m args below meth c s₁ B hml hv
  obtain ⟨rfl, hK, hW⟩ := hv
  have hx := B.exec
  have hb := B.bytes
  have hr := B.returns
  have hts := atoms_spec (ws := ws_ yX2_minutes cX2_minutes 2 (some .int)) B.pre
  have hts : ∀ w ∈ lw_all, w.before _ s = true := fun w h => hts w (List.mem_cons_of_mem _ h)
  have hown : s.vm.findClass RX2 = some m.cls := findClass_of_methodNamed B.named
  have hlocks := B.notSynchronized
  have hl := lv_entry ([.ref o, .int (iI (n))]) (n := 2) (Nat.le_of_ble_eq_true rfl)
  rw [lg_entry_eq]
  generalize (lg_sl ([.ref o, .int (iI (n))]) ++ List.replicate (2 - (lg_sl ([.ref o, .int (iI (n))])).length) Slot.unset).toArray = ls at hl ⊢
  have hl : lv_has ls 2 [(0, .ref o), (1, .int (iI (n)))] := hl
  have hS : va_S A s.heap s.heap [] := va_S.rf
  have q_n1 := q_n
  unfold inR at q_n1
  have hF1 : F 1 ≤ 1439 := hF 1
  refine lv_aload_n hx hb dX2_minutes_0 rfl (lv_at hl 0 rfl) ?_
  refine lv_iconst (v := iI (0)) hx hb dX2_minutes_1 rfl ?_
  refine m_put hx hb hts hown hK hW hS 0 (by decide) q974 rfl rfl rfl (0) rfl dX2_minutes_2 (fun H locs hW hS => ?_)
  have hF : FB (va_up (F) 0 (0)) := hF.up (by show 0 ≤ 2; omega)
  have e1 : va_up F 0 0 1 = F 1 := rfl
  have e2 : va_up F 0 0 2 = F 2 := rfl
  have e3 : va_up F 0 0 3 = F 3 := rfl
  have e4 : va_up F 0 0 4 = F 4 := rfl
  have e5 : va_up F 0 0 5 = F 5 := rfl
  refine lv_iload_n hx hb dX2_minutes_5 rfl (lv_at hl 1 rfl) ?_
  refine ri_if_lt (tgt := 21) hx hb (by unfold inR; omega) dX2_minutes_6 (by decide) (fun h1 => ?_) (fun h1 => ?_)
  · skip
    refine lv_aload_n hx hb dX2_minutes_21 rfl (lv_at hl 0 rfl) ?_
    refine rc_I (W.runV (As := []) (rest := []) ⟨hx, hb, hml, hown, hts⟩ (mm_fail l D cA A o ad (va_up (F) 0 (0)) G N X Z K hKb hF hG hN hX hZ  ) (cwV 0 hts (lw_V q1110 q1112 qs17 q62 q1113) rfl rfl rfl (by decide +kernel) ⟨Nat.le_of_ble_eq_true rfl, Nat.le_of_ble_eq_true rfl⟩) (preV hK hW.1 rfl hW) rfl rfl hl.1 rfl (lv_room (Nat.le_of_ble_eq_true rfl)) dX2_minutes_22 ⟨Nat.le_of_ble_eq_true rfl, Nat.le_of_ble_eq_true rfl⟩) hS (fun _ _ h => h) (fun _ h => h) (fun z H locs hq hS hz hk => ?_)
    obtain ⟨rfl, hW⟩ := hq
    exact W.iret hx hb hr (fun t ht hWm => ⟨⟨_, rfl, by rw [ht]; exact hW⟩, hS.F ht⟩) hS.2.2 dX2_minutes_25
  · skip
    refine lv_iload_n hx hb dX2_minutes_9 rfl (lv_at hl 1 rfl) ?_
    refine lv_sipush (v := iI (1439)) hx hb dX2_minutes_10 (by decide) ?_
    refine lv_aload_n hx hb dX2_minutes_13 rfl (lv_at hl 0 rfl) ?_
    refine m_get hx hb hts hown hK hW 1 (by decide) q975 rfl (v := .int (iI (F 1))) rfl dX2_minutes_14 ?_
    have b2 : F 1 ≤ 1439 := hF 1
    refine ri_isub hx hb dX2_minutes_17 ?_
    refine ri_icmp_le (tgt := 26) hx hb (by unfold inR; omega) (by unfold inR; omega) dX2_minutes_18 (by decide) (fun h3 => ?_) (fun h3 => ?_)
    · skip
      exfalso; omega
    · skip
      refine lv_aload_n hx hb dX2_minutes_21 rfl (lv_at hl 0 rfl) ?_
      refine rc_I (W.runV (As := []) (rest := []) ⟨hx, hb, hml, hown, hts⟩ (mm_fail l D cA A o ad (va_up (F) 0 (0)) G N X Z K hKb hF hG hN hX hZ  ) (cwV 0 hts (lw_V q1110 q1112 qs17 q62 q1113) rfl rfl rfl (by decide +kernel) ⟨Nat.le_of_ble_eq_true rfl, Nat.le_of_ble_eq_true rfl⟩) (preV hK hW.1 rfl hW) rfl rfl hl.1 rfl (lv_room (Nat.le_of_ble_eq_true rfl)) dX2_minutes_22 ⟨Nat.le_of_ble_eq_true rfl, Nat.le_of_ble_eq_true rfl⟩) hS (fun _ _ h => h) (fun _ h => h) (fun z H locs hq hS hz hk => ?_)
      obtain ⟨rfl, hW⟩ := hq
      exact W.iret hx hb hr (fun t ht hWm => ⟨⟨_, rfl, by rw [ht]; exact hW⟩, hS.F ht⟩) hS.2.2 dX2_minutes_25

set_option maxHeartbeats 4000000 in
set_option maxRecDepth 100000 in
theorem mm_box (l : Launch) (D : va_G) (cA : Nat → ClassId) (A : Nat → Prop) (o : Nat) (ad : Nat → Nat) (F G : Nat → Nat) (N X : Nat → Nat → Nat) (Z : Nat → Int) (K : Nat) (hKb : K ≤ 1000000) (hF : FB F) (hG : GB G) (hN : NB N) (hX : XB X) (hZ : ZB K Z) (h w r d wt u : Int) (q_h : inR h) (q_w : inR w) (q_r : inR r) (q_d : inR d) (q_wt : inR wt) (q_u : inR u) : Met l yX2_box (ws_ yX2_box cX2_box 8 (some .int)) ({ frames := 1, cells := 0, slots := 0, locals := 30 }) (Pk D cA [.ref o, .int (iI (h)), .int (iI (w)), .int (iI (r)), .int (iI (d)), .int (iI (wt)), .int (iI (u))] (MW D cA A o ad F G N X Z)) (Qi (fun z H' => (okBox F h w r d wt u → z = F 4 ∧ MW D cA A o ad (va_up (va_up F 0 0) 4 (F 4 + 1)) G (up2 (up2 (boxN N (F 4) h.toNat w.toNat r.toNat d.toNat wt.toNat u.toNat) 25 (2 * F 4) 0) 25 (2 * F 4 + 1) 0) X Z H') ∧ (¬ okBox F h w r d wt u → z = -1 ∧ MW D cA A o ad (va_up F 0 0) G N X Z H')) A) 0 0 (A) := by
  refine Met.ofW (cc := cX2_box) (maxL := 8) (ret := (some .int)) (by decide) rfl ?_
  intro p e s m args below meth c s₁ B hml hv
  obtain ⟨rfl, hK, hW⟩ := hv
  have hx := B.exec
  have hb := B.bytes
  have hr := B.returns
  have hts := atoms_spec (ws := ws_ yX2_box cX2_box 8 (some .int)) B.pre
  have hts : ∀ w ∈ lw_all, w.before _ s = true := fun w h => hts w (List.mem_cons_of_mem _ h)
  have hown : s.vm.findClass RX2 = some m.cls := findClass_of_methodNamed B.named
  have hlocks := B.notSynchronized
  have hl := lv_entry ([.ref o, .int (iI (h)), .int (iI (w)), .int (iI (r)), .int (iI (d)), .int (iI (wt)), .int (iI (u))]) (n := 8) (Nat.le_of_ble_eq_true rfl)
  rw [lg_entry_eq]
  generalize (lg_sl ([.ref o, .int (iI (h)), .int (iI (w)), .int (iI (r)), .int (iI (d)), .int (iI (wt)), .int (iI (u))]) ++ List.replicate (8 - (lg_sl ([.ref o, .int (iI (h)), .int (iI (w)), .int (iI (r)), .int (iI (d)), .int (iI (wt)), .int (iI (u))])).length) Slot.unset).toArray = ls at hl ⊢
  have hl : lv_has ls 8 [(0, .ref o), (1, .int (iI (h))), (2, .int (iI (w))), (3, .int (iI (r))), (4, .int (iI (d))), (5, .int (iI (wt))), (6, .int (iI (u)))] := hl
  have hS : va_S A s.heap s.heap [] := va_S.rf
  have q_h1 := q_h
  unfold inR at q_h1
  have q_w1 := q_w
  unfold inR at q_w1
  have q_r1 := q_r
  unfold inR at q_r1
  have q_d1 := q_d
  unfold inR at q_d1
  have q_wt1 := q_wt
  unfold inR at q_wt1
  have q_u1 := q_u
  unfold inR at q_u1
  unfold okBox
  refine lv_aload_n hx hb dX2_box_0 rfl (lv_at hl 0 rfl) ?_
  refine lv_iconst (v := iI (0)) hx hb dX2_box_1 rfl ?_
  refine m_put hx hb hts hown hK hW hS 0 (by decide) q974 rfl rfl rfl (0) rfl dX2_box_2 (fun H locs hW hS => ?_)
  have hF : FB (va_up (F) 0 (0)) := hF.up (by show 0 ≤ 2; omega)
  have e1 : va_up F 0 0 1 = F 1 := rfl
  have e2 : va_up F 0 0 2 = F 2 := rfl
  have e3 : va_up F 0 0 3 = F 3 := rfl
  have e4 : va_up F 0 0 4 = F 4 := rfl
  have e5 : va_up F 0 0 5 = F 5 := rfl
  refine lv_iload_n hx hb dX2_box_5 rfl (lv_at hl 1 rfl) ?_
  refine ri_if_lt (tgt := 57) hx hb (by unfold inR; omega) dX2_box_6 (by decide) (fun h1 => ?_) (fun h1 => ?_)
  · skip
    refine lv_iconst (v := iI (0)) hx hb dX2_box_57 rfl ?_
    refine lv_istore (lv' := [(7, .int (iI (0))), (0, .ref o), (1, .int (iI (h))), (2, .int (iI (w))), (3, .int (iI (r))), (4, .int (iI (d))), (5, .int (iI (wt))), (6, .int (iI (u)))]) hx hb dX2_box_58 hl (by decide) rfl (fun ls hl => ?_)
    refine lv_aload_n hx hb dX2_box_60 rfl (lv_at hl 1 rfl) ?_
    refine m_get hx hb hts hown hK hW 4 (by decide) q978 rfl (v := .int (iI (F 4))) rfl dX2_box_61 ?_
    have b2 : F 4 ≤ 60 := hF 4
    refine lv_bipush (v := iI (60)) hx hb dX2_box_64 (by decide) ?_
    refine ri_icmp_eq (tgt := 98) hx hb (by unfold inR; omega) (by unfold inR; omega) dX2_box_66 (by decide) (fun h3 => ?_) (fun h3 => ?_)
    · skip
      refine lv_iconst (v := iI (-1)) hx hb dX2_box_98 rfl ?_
      exact W.iret hx hb hr (fun t ht hWm => ⟨⟨_, rfl, by rw [ht]; exact ⟨fun q => absurd q (by omega), fun _ => ⟨rfl, hW⟩⟩⟩, hS.F ht⟩) hS.2.2 dX2_box_99
    · skip
      refine lv_iload hx hb dX2_box_69 (lv_at hl 0 rfl) ?_
      refine ri_if_eq (tgt := 98) hx hb (by unfold inR; omega) dX2_box_71 (by decide) (fun h4 => ?_) (fun h4 => ?_)
      · skip
        refine lv_iconst (v := iI (-1)) hx hb dX2_box_98 rfl ?_
        exact W.iret hx hb hr (fun t ht hWm => ⟨⟨_, rfl, by rw [ht]; exact ⟨fun q => absurd q (by omega), fun _ => ⟨rfl, hW⟩⟩⟩, hS.F ht⟩) hS.2.2 dX2_box_99
      · skip
        exfalso; omega
  · skip
    refine lv_iload_n hx hb dX2_box_9 rfl (lv_at hl 1 rfl) ?_
    refine lv_aload_n hx hb dX2_box_10 rfl (lv_at hl 0 rfl) ?_
    refine m_get hx hb hts hown hK hW 2 (by decide) q976 rfl (v := .int (iI (F 2))) rfl dX2_box_11 ?_
    have b5 : F 2 ≤ 10 := hF 2
    refine ri_icmp_ge (tgt := 57) hx hb (by unfold inR; omega) (by unfold inR; omega) dX2_box_14 (by decide) (fun h6 => ?_) (fun h6 => ?_)
    · skip
      refine lv_iconst (v := iI (0)) hx hb dX2_box_57 rfl ?_
      refine lv_istore (lv' := [(7, .int (iI (0))), (0, .ref o), (1, .int (iI (h))), (2, .int (iI (w))), (3, .int (iI (r))), (4, .int (iI (d))), (5, .int (iI (wt))), (6, .int (iI (u)))]) hx hb dX2_box_58 hl (by decide) rfl (fun ls hl => ?_)
      refine lv_aload_n hx hb dX2_box_60 rfl (lv_at hl 1 rfl) ?_
      refine m_get hx hb hts hown hK hW 4 (by decide) q978 rfl (v := .int (iI (F 4))) rfl dX2_box_61 ?_
      have b7 : F 4 ≤ 60 := hF 4
      refine lv_bipush (v := iI (60)) hx hb dX2_box_64 (by decide) ?_
      refine ri_icmp_eq (tgt := 98) hx hb (by unfold inR; omega) (by unfold inR; omega) dX2_box_66 (by decide) (fun h8 => ?_) (fun h8 => ?_)
      · skip
        refine lv_iconst (v := iI (-1)) hx hb dX2_box_98 rfl ?_
        exact W.iret hx hb hr (fun t ht hWm => ⟨⟨_, rfl, by rw [ht]; exact ⟨fun q => absurd q (by omega), fun _ => ⟨rfl, hW⟩⟩⟩, hS.F ht⟩) hS.2.2 dX2_box_99
      · skip
        refine lv_iload hx hb dX2_box_69 (lv_at hl 0 rfl) ?_
        refine ri_if_eq (tgt := 98) hx hb (by unfold inR; omega) dX2_box_71 (by decide) (fun h9 => ?_) (fun h9 => ?_)
        · skip
          refine lv_iconst (v := iI (-1)) hx hb dX2_box_98 rfl ?_
          exact W.iret hx hb hr (fun t ht hWm => ⟨⟨_, rfl, by rw [ht]; exact ⟨fun q => absurd q (by omega), fun _ => ⟨rfl, hW⟩⟩⟩, hS.F ht⟩) hS.2.2 dX2_box_99
        · skip
          exfalso; omega
    · skip
      refine lv_iload hx hb dX2_box_17 (lv_at hl 4 rfl) ?_
      refine ri_if_lt (tgt := 57) hx hb (by unfold inR; omega) dX2_box_19 (by decide) (fun h10 => ?_) (fun h10 => ?_)
      · skip
        refine lv_iconst (v := iI (0)) hx hb dX2_box_57 rfl ?_
        refine lv_istore (lv' := [(7, .int (iI (0))), (0, .ref o), (1, .int (iI (h))), (2, .int (iI (w))), (3, .int (iI (r))), (4, .int (iI (d))), (5, .int (iI (wt))), (6, .int (iI (u)))]) hx hb dX2_box_58 hl (by decide) rfl (fun ls hl => ?_)
        refine lv_aload_n hx hb dX2_box_60 rfl (lv_at hl 1 rfl) ?_
        refine m_get hx hb hts hown hK hW 4 (by decide) q978 rfl (v := .int (iI (F 4))) rfl dX2_box_61 ?_
        have b11 : F 4 ≤ 60 := hF 4
        refine lv_bipush (v := iI (60)) hx hb dX2_box_64 (by decide) ?_
        refine ri_icmp_eq (tgt := 98) hx hb (by unfold inR; omega) (by unfold inR; omega) dX2_box_66 (by decide) (fun h12 => ?_) (fun h12 => ?_)
        · skip
          refine lv_iconst (v := iI (-1)) hx hb dX2_box_98 rfl ?_
          exact W.iret hx hb hr (fun t ht hWm => ⟨⟨_, rfl, by rw [ht]; exact ⟨fun q => absurd q (by omega), fun _ => ⟨rfl, hW⟩⟩⟩, hS.F ht⟩) hS.2.2 dX2_box_99
        · skip
          refine lv_iload hx hb dX2_box_69 (lv_at hl 0 rfl) ?_
          refine ri_if_eq (tgt := 98) hx hb (by unfold inR; omega) dX2_box_71 (by decide) (fun h13 => ?_) (fun h13 => ?_)
          · skip
            refine lv_iconst (v := iI (-1)) hx hb dX2_box_98 rfl ?_
            exact W.iret hx hb hr (fun t ht hWm => ⟨⟨_, rfl, by rw [ht]; exact ⟨fun q => absurd q (by omega), fun _ => ⟨rfl, hW⟩⟩⟩, hS.F ht⟩) hS.2.2 dX2_box_99
          · skip
            exfalso; omega
      · skip
        refine lv_iload hx hb dX2_box_22 (lv_at hl 4 rfl) ?_
        refine lv_aload_n hx hb dX2_box_24 rfl (lv_at hl 0 rfl) ?_
        refine m_get hx hb hts hown hK hW 2 (by decide) q976 rfl (v := .int (iI (F 2))) rfl dX2_box_25 ?_
        refine ri_icmp_ge (tgt := 57) hx hb (by unfold inR; omega) (by unfold inR; omega) dX2_box_28 (by decide) (fun h14 => ?_) (fun h14 => ?_)
        · skip
          refine lv_iconst (v := iI (0)) hx hb dX2_box_57 rfl ?_
          refine lv_istore (lv' := [(7, .int (iI (0))), (0, .ref o), (1, .int (iI (h))), (2, .int (iI (w))), (3, .int (iI (r))), (4, .int (iI (d))), (5, .int (iI (wt))), (6, .int (iI (u)))]) hx hb dX2_box_58 hl (by decide) rfl (fun ls hl => ?_)
          refine lv_aload_n hx hb dX2_box_60 rfl (lv_at hl 1 rfl) ?_
          refine m_get hx hb hts hown hK hW 4 (by decide) q978 rfl (v := .int (iI (F 4))) rfl dX2_box_61 ?_
          have b15 : F 4 ≤ 60 := hF 4
          refine lv_bipush (v := iI (60)) hx hb dX2_box_64 (by decide) ?_
          refine ri_icmp_eq (tgt := 98) hx hb (by unfold inR; omega) (by unfold inR; omega) dX2_box_66 (by decide) (fun h16 => ?_) (fun h16 => ?_)
          · skip
            refine lv_iconst (v := iI (-1)) hx hb dX2_box_98 rfl ?_
            exact W.iret hx hb hr (fun t ht hWm => ⟨⟨_, rfl, by rw [ht]; exact ⟨fun q => absurd q (by omega), fun _ => ⟨rfl, hW⟩⟩⟩, hS.F ht⟩) hS.2.2 dX2_box_99
          · skip
            refine lv_iload hx hb dX2_box_69 (lv_at hl 0 rfl) ?_
            refine ri_if_eq (tgt := 98) hx hb (by unfold inR; omega) dX2_box_71 (by decide) (fun h17 => ?_) (fun h17 => ?_)
            · skip
              refine lv_iconst (v := iI (-1)) hx hb dX2_box_98 rfl ?_
              exact W.iret hx hb hr (fun t ht hWm => ⟨⟨_, rfl, by rw [ht]; exact ⟨fun q => absurd q (by omega), fun _ => ⟨rfl, hW⟩⟩⟩, hS.F ht⟩) hS.2.2 dX2_box_99
            · skip
              exfalso; omega
        · skip
          refine lv_iload_n hx hb dX2_box_31 rfl (lv_at hl 2 rfl) ?_
          refine ri_if_lt (tgt := 57) hx hb (by unfold inR; omega) dX2_box_32 (by decide) (fun h18 => ?_) (fun h18 => ?_)
          · skip
            refine lv_iconst (v := iI (0)) hx hb dX2_box_57 rfl ?_
            refine lv_istore (lv' := [(7, .int (iI (0))), (0, .ref o), (1, .int (iI (h))), (2, .int (iI (w))), (3, .int (iI (r))), (4, .int (iI (d))), (5, .int (iI (wt))), (6, .int (iI (u)))]) hx hb dX2_box_58 hl (by decide) rfl (fun ls hl => ?_)
            refine lv_aload_n hx hb dX2_box_60 rfl (lv_at hl 1 rfl) ?_
            refine m_get hx hb hts hown hK hW 4 (by decide) q978 rfl (v := .int (iI (F 4))) rfl dX2_box_61 ?_
            have b19 : F 4 ≤ 60 := hF 4
            refine lv_bipush (v := iI (60)) hx hb dX2_box_64 (by decide) ?_
            refine ri_icmp_eq (tgt := 98) hx hb (by unfold inR; omega) (by unfold inR; omega) dX2_box_66 (by decide) (fun h20 => ?_) (fun h20 => ?_)
            · skip
              refine lv_iconst (v := iI (-1)) hx hb dX2_box_98 rfl ?_
              exact W.iret hx hb hr (fun t ht hWm => ⟨⟨_, rfl, by rw [ht]; exact ⟨fun q => absurd q (by omega), fun _ => ⟨rfl, hW⟩⟩⟩, hS.F ht⟩) hS.2.2 dX2_box_99
            · skip
              refine lv_iload hx hb dX2_box_69 (lv_at hl 0 rfl) ?_
              refine ri_if_eq (tgt := 98) hx hb (by unfold inR; omega) dX2_box_71 (by decide) (fun h21 => ?_) (fun h21 => ?_)
              · skip
                refine lv_iconst (v := iI (-1)) hx hb dX2_box_98 rfl ?_
                exact W.iret hx hb hr (fun t ht hWm => ⟨⟨_, rfl, by rw [ht]; exact ⟨fun q => absurd q (by omega), fun _ => ⟨rfl, hW⟩⟩⟩, hS.F ht⟩) hS.2.2 dX2_box_99
              · skip
                exfalso; omega
          · skip
            refine lv_iload_n hx hb dX2_box_35 rfl (lv_at hl 2 rfl) ?_
            refine lv_bipush (v := iI (120)) hx hb dX2_box_36 (by decide) ?_
            refine ri_icmp_gt (tgt := 57) hx hb (by unfold inR; omega) (by unfold inR; omega) dX2_box_38 (by decide) (fun h22 => ?_) (fun h22 => ?_)
            · skip
              refine lv_iconst (v := iI (0)) hx hb dX2_box_57 rfl ?_
              refine lv_istore (lv' := [(7, .int (iI (0))), (0, .ref o), (1, .int (iI (h))), (2, .int (iI (w))), (3, .int (iI (r))), (4, .int (iI (d))), (5, .int (iI (wt))), (6, .int (iI (u)))]) hx hb dX2_box_58 hl (by decide) rfl (fun ls hl => ?_)
              refine lv_aload_n hx hb dX2_box_60 rfl (lv_at hl 1 rfl) ?_
              refine m_get hx hb hts hown hK hW 4 (by decide) q978 rfl (v := .int (iI (F 4))) rfl dX2_box_61 ?_
              have b23 : F 4 ≤ 60 := hF 4
              refine lv_bipush (v := iI (60)) hx hb dX2_box_64 (by decide) ?_
              refine ri_icmp_eq (tgt := 98) hx hb (by unfold inR; omega) (by unfold inR; omega) dX2_box_66 (by decide) (fun h24 => ?_) (fun h24 => ?_)
              · skip
                refine lv_iconst (v := iI (-1)) hx hb dX2_box_98 rfl ?_
                exact W.iret hx hb hr (fun t ht hWm => ⟨⟨_, rfl, by rw [ht]; exact ⟨fun q => absurd q (by omega), fun _ => ⟨rfl, hW⟩⟩⟩, hS.F ht⟩) hS.2.2 dX2_box_99
              · skip
                refine lv_iload hx hb dX2_box_69 (lv_at hl 0 rfl) ?_
                refine ri_if_eq (tgt := 98) hx hb (by unfold inR; omega) dX2_box_71 (by decide) (fun h25 => ?_) (fun h25 => ?_)
                · skip
                  refine lv_iconst (v := iI (-1)) hx hb dX2_box_98 rfl ?_
                  exact W.iret hx hb hr (fun t ht hWm => ⟨⟨_, rfl, by rw [ht]; exact ⟨fun q => absurd q (by omega), fun _ => ⟨rfl, hW⟩⟩⟩, hS.F ht⟩) hS.2.2 dX2_box_99
                · skip
                  exfalso; omega
            · skip
              refine lv_iload hx hb dX2_box_41 (lv_at hl 5 rfl) ?_
              refine ri_if_lt (tgt := 57) hx hb (by unfold inR; omega) dX2_box_43 (by decide) (fun h26 => ?_) (fun h26 => ?_)
              · skip
                refine lv_iconst (v := iI (0)) hx hb dX2_box_57 rfl ?_
                refine lv_istore (lv' := [(7, .int (iI (0))), (0, .ref o), (1, .int (iI (h))), (2, .int (iI (w))), (3, .int (iI (r))), (4, .int (iI (d))), (5, .int (iI (wt))), (6, .int (iI (u)))]) hx hb dX2_box_58 hl (by decide) rfl (fun ls hl => ?_)
                refine lv_aload_n hx hb dX2_box_60 rfl (lv_at hl 1 rfl) ?_
                refine m_get hx hb hts hown hK hW 4 (by decide) q978 rfl (v := .int (iI (F 4))) rfl dX2_box_61 ?_
                have b27 : F 4 ≤ 60 := hF 4
                refine lv_bipush (v := iI (60)) hx hb dX2_box_64 (by decide) ?_
                refine ri_icmp_eq (tgt := 98) hx hb (by unfold inR; omega) (by unfold inR; omega) dX2_box_66 (by decide) (fun h28 => ?_) (fun h28 => ?_)
                · skip
                  refine lv_iconst (v := iI (-1)) hx hb dX2_box_98 rfl ?_
                  exact W.iret hx hb hr (fun t ht hWm => ⟨⟨_, rfl, by rw [ht]; exact ⟨fun q => absurd q (by omega), fun _ => ⟨rfl, hW⟩⟩⟩, hS.F ht⟩) hS.2.2 dX2_box_99
                · skip
                  refine lv_iload hx hb dX2_box_69 (lv_at hl 0 rfl) ?_
                  refine ri_if_eq (tgt := 98) hx hb (by unfold inR; omega) dX2_box_71 (by decide) (fun h29 => ?_) (fun h29 => ?_)
                  · skip
                    refine lv_iconst (v := iI (-1)) hx hb dX2_box_98 rfl ?_
                    exact W.iret hx hb hr (fun t ht hWm => ⟨⟨_, rfl, by rw [ht]; exact ⟨fun q => absurd q (by omega), fun _ => ⟨rfl, hW⟩⟩⟩, hS.F ht⟩) hS.2.2 dX2_box_99
                  · skip
                    exfalso; omega
              · skip
                refine lv_iload hx hb dX2_box_46 (lv_at hl 5 rfl) ?_
                refine lv_bipush (v := iI (120)) hx hb dX2_box_48 (by decide) ?_
                refine ri_icmp_gt (tgt := 57) hx hb (by unfold inR; omega) (by unfold inR; omega) dX2_box_50 (by decide) (fun h30 => ?_) (fun h30 => ?_)
                · skip
                  refine lv_iconst (v := iI (0)) hx hb dX2_box_57 rfl ?_
                  refine lv_istore (lv' := [(7, .int (iI (0))), (0, .ref o), (1, .int (iI (h))), (2, .int (iI (w))), (3, .int (iI (r))), (4, .int (iI (d))), (5, .int (iI (wt))), (6, .int (iI (u)))]) hx hb dX2_box_58 hl (by decide) rfl (fun ls hl => ?_)
                  refine lv_aload_n hx hb dX2_box_60 rfl (lv_at hl 1 rfl) ?_
                  refine m_get hx hb hts hown hK hW 4 (by decide) q978 rfl (v := .int (iI (F 4))) rfl dX2_box_61 ?_
                  have b31 : F 4 ≤ 60 := hF 4
                  refine lv_bipush (v := iI (60)) hx hb dX2_box_64 (by decide) ?_
                  refine ri_icmp_eq (tgt := 98) hx hb (by unfold inR; omega) (by unfold inR; omega) dX2_box_66 (by decide) (fun h32 => ?_) (fun h32 => ?_)
                  · skip
                    refine lv_iconst (v := iI (-1)) hx hb dX2_box_98 rfl ?_
                    exact W.iret hx hb hr (fun t ht hWm => ⟨⟨_, rfl, by rw [ht]; exact ⟨fun q => absurd q (by omega), fun _ => ⟨rfl, hW⟩⟩⟩, hS.F ht⟩) hS.2.2 dX2_box_99
                  · skip
                    refine lv_iload hx hb dX2_box_69 (lv_at hl 0 rfl) ?_
                    refine ri_if_eq (tgt := 98) hx hb (by unfold inR; omega) dX2_box_71 (by decide) (fun h33 => ?_) (fun h33 => ?_)
                    · skip
                      refine lv_iconst (v := iI (-1)) hx hb dX2_box_98 rfl ?_
                      exact W.iret hx hb hr (fun t ht hWm => ⟨⟨_, rfl, by rw [ht]; exact ⟨fun q => absurd q (by omega), fun _ => ⟨rfl, hW⟩⟩⟩, hS.F ht⟩) hS.2.2 dX2_box_99
                    · skip
                      exfalso; omega
                · skip
                  refine lv_iconst (v := iI (1)) hx hb dX2_box_53 rfl ?_
                  refine lv_goto (tgt := 58) hx hb dX2_box_54 (by decide) ?_
                  refine lv_istore (lv' := [(7, .int (iI (1))), (0, .ref o), (1, .int (iI (h))), (2, .int (iI (w))), (3, .int (iI (r))), (4, .int (iI (d))), (5, .int (iI (wt))), (6, .int (iI (u)))]) hx hb dX2_box_58 hl (by decide) rfl (fun ls hl => ?_)
                  refine lv_aload_n hx hb dX2_box_60 rfl (lv_at hl 1 rfl) ?_
                  refine m_get hx hb hts hown hK hW 4 (by decide) q978 rfl (v := .int (iI (F 4))) rfl dX2_box_61 ?_
                  have b34 : F 4 ≤ 60 := hF 4
                  refine lv_bipush (v := iI (60)) hx hb dX2_box_64 (by decide) ?_
                  refine ri_icmp_eq (tgt := 98) hx hb (by unfold inR; omega) (by unfold inR; omega) dX2_box_66 (by decide) (fun h35 => ?_) (fun h35 => ?_)
                  · skip
                    refine lv_iconst (v := iI (-1)) hx hb dX2_box_98 rfl ?_
                    exact W.iret hx hb hr (fun t ht hWm => ⟨⟨_, rfl, by rw [ht]; exact ⟨fun q => absurd q (by omega), fun _ => ⟨rfl, hW⟩⟩⟩, hS.F ht⟩) hS.2.2 dX2_box_99
                  · skip
                    refine lv_iload hx hb dX2_box_69 (lv_at hl 0 rfl) ?_
                    refine ri_if_eq (tgt := 98) hx hb (by unfold inR; omega) dX2_box_71 (by decide) (fun h36 => ?_) (fun h36 => ?_)
                    · skip
                      exfalso; omega
                    · skip
                      refine lv_iload_n hx hb dX2_box_74 rfl (lv_at hl 4 rfl) ?_
                      refine ri_if_lt (tgt := 98) hx hb (by unfold inR; omega) dX2_box_75 (by decide) (fun h37 => ?_) (fun h37 => ?_)
                      · skip
                        refine lv_iconst (v := iI (-1)) hx hb dX2_box_98 rfl ?_
                        exact W.iret hx hb hr (fun t ht hWm => ⟨⟨_, rfl, by rw [ht]; exact ⟨fun q => absurd q (by omega), fun _ => ⟨rfl, hW⟩⟩⟩, hS.F ht⟩) hS.2.2 dX2_box_99
                      · skip
                        refine lv_iload_n hx hb dX2_box_78 rfl (lv_at hl 4 rfl) ?_
                        refine lv_sipush (v := iI (1439)) hx hb dX2_box_79 (by decide) ?_
                        refine ri_icmp_gt (tgt := 98) hx hb (by unfold inR; omega) (by unfold inR; omega) dX2_box_82 (by decide) (fun h38 => ?_) (fun h38 => ?_)
                        · skip
                          refine lv_iconst (v := iI (-1)) hx hb dX2_box_98 rfl ?_
                          exact W.iret hx hb hr (fun t ht hWm => ⟨⟨_, rfl, by rw [ht]; exact ⟨fun q => absurd q (by omega), fun _ => ⟨rfl, hW⟩⟩⟩, hS.F ht⟩) hS.2.2 dX2_box_99
                        · skip
                          refine lv_iload hx hb dX2_box_85 (lv_at hl 7 rfl) ?_
                          refine ri_if_lt (tgt := 98) hx hb (by unfold inR; omega) dX2_box_87 (by decide) (fun h39 => ?_) (fun h39 => ?_)
                          · skip
                            refine lv_iconst (v := iI (-1)) hx hb dX2_box_98 rfl ?_
                            exact W.iret hx hb hr (fun t ht hWm => ⟨⟨_, rfl, by rw [ht]; exact ⟨fun q => absurd q (by omega), fun _ => ⟨rfl, hW⟩⟩⟩, hS.F ht⟩) hS.2.2 dX2_box_99
                          · skip
                            refine lv_iload hx hb dX2_box_90 (lv_at hl 7 rfl) ?_
                            refine lv_sipush (v := iI (1439)) hx hb dX2_box_92 (by decide) ?_
                            refine ri_icmp_le (tgt := 100) hx hb (by unfold inR; omega) (by unfold inR; omega) dX2_box_95 (by decide) (fun h40 => ?_) (fun h40 => ?_)
                            · skip
                              refine lv_aload_n hx hb dX2_box_100 rfl (lv_at hl 1 rfl) ?_
                              refine m_get hx hb hts hown hK hW 14 (by decide) q988 rfl (v := .ref (ad 14)) rfl dX2_box_101 ?_
                              refine lv_aload_n hx hb dX2_box_104 rfl (lv_at hl 1 rfl) ?_
                              refine m_get hx hb hts hown hK hW 4 (by decide) q978 rfl (v := .int (iI (F 4))) rfl dX2_box_105 ?_
                              refine lv_iload_n hx hb dX2_box_108 rfl (lv_at hl 2 rfl) ?_
                              refine m_st hx hb hK hW hS 14 (by unfold isA; omega) (by omega) rfl (F 4) (by omega) (by show _ < 60; omega) (h.toNat) (by omega) dX2_box_109 (fun H locs hW hS => ?_)
                              have hN : NB (up2 (N) 14 (F 4) (h.toNat)) := hN.up (by show h.toNat ≤ 9; omega)
                              refine lv_aload_n hx hb dX2_box_110 rfl (lv_at hl 1 rfl) ?_
                              refine m_get hx hb hts hown hK hW 15 (by decide) q989 rfl (v := .ref (ad 15)) rfl dX2_box_111 ?_
                              refine lv_aload_n hx hb dX2_box_114 rfl (lv_at hl 1 rfl) ?_
                              refine m_get hx hb hts hown hK hW 4 (by decide) q978 rfl (v := .int (iI (F 4))) rfl dX2_box_115 ?_
                              refine lv_iload_n hx hb dX2_box_118 rfl (lv_at hl 3 rfl) ?_
                              refine m_st hx hb hK hW hS 15 (by unfold isA; omega) (by omega) rfl (F 4) (by omega) (by show _ < 60; omega) (w.toNat) (by omega) dX2_box_119 (fun H locs hW hS => ?_)
                              have hN : NB (up2 (up2 (N) 14 (F 4) (h.toNat)) 15 (F 4) (w.toNat)) := hN.up (by show w.toNat ≤ 120; omega)
                              refine lv_aload_n hx hb dX2_box_120 rfl (lv_at hl 1 rfl) ?_
                              refine m_get hx hb hts hown hK hW 16 (by decide) q990 rfl (v := .ref (ad 16)) rfl dX2_box_121 ?_
                              refine lv_aload_n hx hb dX2_box_124 rfl (lv_at hl 1 rfl) ?_
                              refine m_get hx hb hts hown hK hW 4 (by decide) q978 rfl (v := .int (iI (F 4))) rfl dX2_box_125 ?_
                              refine lv_iload_n hx hb dX2_box_128 rfl (lv_at hl 4 rfl) ?_
                              refine m_st hx hb hK hW hS 16 (by unfold isA; omega) (by omega) rfl (F 4) (by omega) (by show _ < 60; omega) (r.toNat) (by omega) dX2_box_129 (fun H locs hW hS => ?_)
                              have hN : NB (up2 (up2 (up2 (N) 14 (F 4) (h.toNat)) 15 (F 4) (w.toNat)) 16 (F 4) (r.toNat)) := hN.up (by show r.toNat ≤ 1439; omega)
                              refine lv_aload_n hx hb dX2_box_130 rfl (lv_at hl 1 rfl) ?_
                              refine m_get hx hb hts hown hK hW 17 (by decide) q991 rfl (v := .ref (ad 17)) rfl dX2_box_131 ?_
                              refine lv_aload_n hx hb dX2_box_134 rfl (lv_at hl 1 rfl) ?_
                              refine m_get hx hb hts hown hK hW 4 (by decide) q978 rfl (v := .int (iI (F 4))) rfl dX2_box_135 ?_
                              refine lv_iload hx hb dX2_box_138 (lv_at hl 5 rfl) ?_
                              refine m_st hx hb hK hW hS 17 (by unfold isA; omega) (by omega) rfl (F 4) (by omega) (by show _ < 60; omega) (d.toNat) (by omega) dX2_box_140 (fun H locs hW hS => ?_)
                              have hN : NB (up2 (up2 (up2 (up2 (N) 14 (F 4) (h.toNat)) 15 (F 4) (w.toNat)) 16 (F 4) (r.toNat)) 17 (F 4) (d.toNat)) := hN.up (by show d.toNat ≤ 9; omega)
                              refine lv_aload_n hx hb dX2_box_141 rfl (lv_at hl 1 rfl) ?_
                              refine m_get hx hb hts hown hK hW 18 (by decide) q992 rfl (v := .ref (ad 18)) rfl dX2_box_142 ?_
                              refine lv_aload_n hx hb dX2_box_145 rfl (lv_at hl 1 rfl) ?_
                              refine m_get hx hb hts hown hK hW 4 (by decide) q978 rfl (v := .int (iI (F 4))) rfl dX2_box_146 ?_
                              refine lv_iload hx hb dX2_box_149 (lv_at hl 6 rfl) ?_
                              refine m_st hx hb hK hW hS 18 (by unfold isA; omega) (by omega) rfl (F 4) (by omega) (by show _ < 60; omega) (wt.toNat) (by omega) dX2_box_151 (fun H locs hW hS => ?_)
                              have hN : NB (up2 (up2 (up2 (up2 (up2 (N) 14 (F 4) (h.toNat)) 15 (F 4) (w.toNat)) 16 (F 4) (r.toNat)) 17 (F 4) (d.toNat)) 18 (F 4) (wt.toNat)) := hN.up (by show wt.toNat ≤ 120; omega)
                              refine lv_aload_n hx hb dX2_box_152 rfl (lv_at hl 1 rfl) ?_
                              refine m_get hx hb hts hown hK hW 19 (by decide) q993 rfl (v := .ref (ad 19)) rfl dX2_box_153 ?_
                              refine lv_aload_n hx hb dX2_box_156 rfl (lv_at hl 1 rfl) ?_
                              refine m_get hx hb hts hown hK hW 4 (by decide) q978 rfl (v := .int (iI (F 4))) rfl dX2_box_157 ?_
                              refine lv_iload hx hb dX2_box_160 (lv_at hl 7 rfl) ?_
                              refine m_st hx hb hK hW hS 19 (by unfold isA; omega) (by omega) rfl (F 4) (by omega) (by show _ < 60; omega) (u.toNat) (by omega) dX2_box_162 (fun H locs hW hS => ?_)
                              have hN : NB (up2 (up2 (up2 (up2 (up2 (up2 (N) 14 (F 4) (h.toNat)) 15 (F 4) (w.toNat)) 16 (F 4) (r.toNat)) 17 (F 4) (d.toNat)) 18 (F 4) (wt.toNat)) 19 (F 4) (u.toNat)) := hN.up (by show u.toNat ≤ 1439; omega)
                              refine lv_aload_n hx hb dX2_box_163 rfl (lv_at hl 1 rfl) ?_
                              refine m_get hx hb hts hown hK hW 25 (by decide) q999 rfl (v := .ref (ad 25)) rfl dX2_box_164 ?_
                              refine lv_iconst (v := iI (2)) hx hb dX2_box_167 rfl ?_
                              refine lv_aload_n hx hb dX2_box_168 rfl (lv_at hl 1 rfl) ?_
                              refine m_get hx hb hts hown hK hW 4 (by decide) q978 rfl (v := .int (iI (F 4))) rfl dX2_box_169 ?_
                              refine ri_imul hx hb dX2_box_172 ?_
                              refine lv_iconst (v := iI (-1)) hx hb dX2_box_173 rfl ?_
                              refine m_st25 hx hb hK hW hS (2 * F 4) (by omega) (by omega) (0) (by omega) dX2_box_174 (fun H locs hW hS => ?_)
                              have hN : NB (up2 (up2 (up2 (up2 (up2 (up2 (up2 (N) 14 (F 4) (h.toNat)) 15 (F 4) (w.toNat)) 16 (F 4) (r.toNat)) 17 (F 4) (d.toNat)) 18 (F 4) (wt.toNat)) 19 (F 4) (u.toNat)) 25 (2 * F 4) (0)) := hN.up (by show 0 ≤ 10; omega)
                              refine lv_aload_n hx hb dX2_box_175 rfl (lv_at hl 1 rfl) ?_
                              refine m_get hx hb hts hown hK hW 25 (by decide) q999 rfl (v := .ref (ad 25)) rfl dX2_box_176 ?_
                              refine lv_iconst (v := iI (2)) hx hb dX2_box_179 rfl ?_
                              refine lv_aload_n hx hb dX2_box_180 rfl (lv_at hl 1 rfl) ?_
                              refine m_get hx hb hts hown hK hW 4 (by decide) q978 rfl (v := .int (iI (F 4))) rfl dX2_box_181 ?_
                              refine ri_imul hx hb dX2_box_184 ?_
                              refine lv_iconst (v := iI (1)) hx hb dX2_box_185 rfl ?_
                              refine ri_iadd hx hb dX2_box_186 ?_
                              refine lv_iconst (v := iI (-1)) hx hb dX2_box_187 rfl ?_
                              refine m_st25 hx hb hK hW hS (2 * F 4 + 1) (by omega) (by omega) (0) (by omega) dX2_box_188 (fun H locs hW hS => ?_)
                              have hN : NB (up2 (up2 (up2 (up2 (up2 (up2 (up2 (up2 (N) 14 (F 4) (h.toNat)) 15 (F 4) (w.toNat)) 16 (F 4) (r.toNat)) 17 (F 4) (d.toNat)) 18 (F 4) (wt.toNat)) 19 (F 4) (u.toNat)) 25 (2 * F 4) (0)) 25 (2 * F 4 + 1) (0)) := hN.up (by show 0 ≤ 10; omega)
                              refine lv_aload_n hx hb dX2_box_189 rfl (lv_at hl 1 rfl) ?_
                              refine lv_dup hx hb dX2_box_190 rfl ?_
                              refine m_get hx hb hts hown hK hW 4 (by decide) q978 rfl (v := .int (iI (F 4))) rfl dX2_box_191 ?_
                              refine lv_iconst (v := iI (1)) hx hb dX2_box_194 rfl ?_
                              refine ri_iadd hx hb dX2_box_195 ?_
                              refine ri_top (b := (((F 4) + 1 : Nat) : Int)) (by omega) ?_
                              refine m_put hx hb hts hown hK hW hS 4 (by decide) q978 rfl rfl rfl ((F 4) + 1) rfl dX2_box_196 (fun H locs hW hS => ?_)
                              have hF : FB (va_up (va_up (F) 0 (0)) 4 ((F 4) + 1)) := hF.up (by show ((F 4) + 1) ≤ 60; omega)
                              refine lv_aload_n hx hb dX2_box_199 rfl (lv_at hl 1 rfl) ?_
                              refine m_get hx hb hts hown hK hW 4 (by decide) q978 rfl (v := .int (iI (((F 4) + 1 : Nat)))) rfl dX2_box_200 ?_
                              have b41 : ((F 4) + 1 : Nat) ≤ 60 := hF 4
                              refine lv_iconst (v := iI (1)) hx hb dX2_box_203 rfl ?_
                              refine ri_isub hx hb dX2_box_204 ?_
                              exact W.iret hx hb hr (fun t ht hWm => ⟨⟨_, rfl, by rw [ht]; exact ⟨fun _ => ⟨by omega, hW⟩, fun q => absurd (by omega) q⟩⟩, hS.F ht⟩) hS.2.2 dX2_box_205
                            · skip
                              refine lv_iconst (v := iI (-1)) hx hb dX2_box_98 rfl ?_
                              exact W.iret hx hb hr (fun t ht hWm => ⟨⟨_, rfl, by rw [ht]; exact ⟨fun q => absurd q (by omega), fun _ => ⟨rfl, hW⟩⟩⟩, hS.F ht⟩) hS.2.2 dX2_box_99

set_option maxHeartbeats 4000000 in
set_option maxRecDepth 100000 in
theorem mm_load (l : Launch) (D : va_G) (cA : Nat → ClassId) (A : Nat → Prop) (o : Nat) (ad : Nat → Nat) (F G : Nat → Nat) (N X : Nat → Nat → Nat) (Z : Nat → Int) (K : Nat) (hKb : K ≤ 1000000) (hF : FB F) (hG : GB G) (hN : NB N) (hX : XB X) (hZ : ZB K Z) (t k : Nat) (ht3 : t < F 3) (hk8 : k + 1 < N 8 t) : Met l yX2_load (ws_ yX2_load cX2_load 3 (some .int)) ({ frames := 2, cells := 0, slots := 0, locals := 51 }) (Pk D cA [.ref o, .int (iI (t)), .int (iI (k))] (MW D cA A o ad F G N X Z)) (Qi (fun z H' => z = Z (10 * t + k) ∧ MW D cA A o ad (va_up F 0 0) G N X Z H') A) 0 0 (A) := by
  refine Met.ofW (cc := cX2_load) (maxL := 3) (ret := (some .int)) (by decide) rfl ?_
  intro p e s m args below meth c s₁ B hml hv
  obtain ⟨rfl, hK, hW⟩ := hv
  have hx := B.exec
  have hb := B.bytes
  have hr := B.returns
  have hts := atoms_spec (ws := ws_ yX2_load cX2_load 3 (some .int)) B.pre
  have hts : ∀ w ∈ lw_all, w.before _ s = true := fun w h => hts w (List.mem_cons_of_mem _ h)
  have hown : s.vm.findClass RX2 = some m.cls := findClass_of_methodNamed B.named
  have hlocks := B.notSynchronized
  have hl := lv_entry ([.ref o, .int (iI (t)), .int (iI (k))]) (n := 3) (Nat.le_of_ble_eq_true rfl)
  rw [lg_entry_eq]
  generalize (lg_sl ([.ref o, .int (iI (t)), .int (iI (k))]) ++ List.replicate (3 - (lg_sl ([.ref o, .int (iI (t)), .int (iI (k))])).length) Slot.unset).toArray = ls at hl ⊢
  have hl : lv_has ls 3 [(0, .ref o), (1, .int (iI (t))), (2, .int (iI (k)))] := hl
  have hS : va_S A s.heap s.heap [] := va_S.rf
  have hF3 : F 3 ≤ 16 := hF 3
  have hN8 : N 8 t ≤ 10 := hN 8 t
  refine lv_aload_n hx hb dX2_load_0 rfl (lv_at hl 0 rfl) ?_
  refine lv_iconst (v := iI (0)) hx hb dX2_load_1 rfl ?_
  refine m_put hx hb hts hown hK hW hS 0 (by decide) q974 rfl rfl rfl (0) rfl dX2_load_2 (fun H locs hW hS => ?_)
  have hF : FB (va_up (F) 0 (0)) := hF.up (by show 0 ≤ 2; omega)
  have e1 : va_up F 0 0 1 = F 1 := rfl
  have e2 : va_up F 0 0 2 = F 2 := rfl
  have e3 : va_up F 0 0 3 = F 3 := rfl
  have e4 : va_up F 0 0 4 = F 4 := rfl
  have e5 : va_up F 0 0 5 = F 5 := rfl
  refine lv_aload_n hx hb dX2_load_5 rfl (lv_at hl 0 rfl) ?_
  refine lv_iload_n hx hb dX2_load_6 rfl (lv_at hl 1 rfl) ?_
  refine rc_V (W.runV (As := [.int (iI (t))]) (rest := []) ⟨hx, hb, hml, hown, hts⟩ (mm_isTrain l D cA A o ad (va_up (F) 0 (0)) G N X Z K hKb hF hG hN hX hZ t (by unfold inR; omega)) (cwV 1 hts (lw_V q1106 q1108 qs16 q62 q1109) rfl rfl rfl (by decide +kernel) ⟨Nat.le_of_ble_eq_true rfl, Nat.le_of_ble_eq_true rfl⟩) (preV hK hW.1 rfl hW) rfl rfl hl.1 rfl (lv_room (Nat.le_of_ble_eq_true rfl)) dX2_load_7 ⟨Nat.le_of_ble_eq_true rfl, Nat.le_of_ble_eq_true rfl⟩) ?_
  rw [if_pos (show 0 ≤ (t : Int) ∧ (t : Int) < ((va_up (F) 0 (0)) 3 : Nat) from by omega)]
  refine ri_if_eq (tgt := 42) hx hb (by unfold inR; omega) dX2_load_10 (by decide) (fun h2 => ?_) (fun h2 => ?_)
  · skip
    exfalso; omega
  · skip
    refine lv_iload_n hx hb dX2_load_13 rfl (lv_at hl 2 rfl) ?_
    refine ri_if_lt (tgt := 42) hx hb (by unfold inR; omega) dX2_load_14 (by decide) (fun h3 => ?_) (fun h3 => ?_)
    · skip
      exfalso; omega
    · skip
      refine lv_iload_n hx hb dX2_load_17 rfl (lv_at hl 2 rfl) ?_
      refine lv_aload_n hx hb dX2_load_18 rfl (lv_at hl 0 rfl) ?_
      refine m_get hx hb hts hown hK hW 8 (by decide) q982 rfl (v := .ref (ad 8)) rfl dX2_load_19 ?_
      refine lv_iload_n hx hb dX2_load_22 rfl (lv_at hl 1 rfl) ?_
      refine h_iald hx hb hK hW.a8 (t) (by omega) (by omega) (by decide) dX2_load_23 ?_
      have b4 : N 8 (t) ≤ 10 := hN 8 (t)
      refine lv_iconst (v := iI (1)) hx hb dX2_load_24 rfl ?_
      refine ri_isub hx hb dX2_load_25 ?_
      refine ri_icmp_ge (tgt := 42) hx hb (by unfold inR; omega) (by unfold inR; omega) dX2_load_26 (by decide) (fun h5 => ?_) (fun h5 => ?_)
      · skip
        exfalso; omega
      · skip
        refine lv_aload_n hx hb dX2_load_29 rfl (lv_at hl 0 rfl) ?_
        refine m_get hx hb hts hown hK hW 11 (by decide) q985 rfl (v := .ref (ad 11)) rfl dX2_load_30 ?_
        refine lv_iload_n hx hb dX2_load_33 rfl (lv_at hl 1 rfl) ?_
        refine lv_iload_n hx hb dX2_load_34 rfl (lv_at hl 2 rfl) ?_
        refine rc_V (W.runS (As := [.int (iI (t)), .int (iI (k))]) (rest := [.ref (ad 11)]) ⟨hx, hb, hml, hown, hts⟩ (mm_node l D cA t k ) (va_cwS 2 hts (lw_S q1114 q1115 q62 q1116) rfl rfl rfl (by decide +kernel) ⟨Nat.le_of_ble_eq_true rfl, Nat.le_of_ble_eq_true rfl⟩) (preS hK (B := fun _ => True) trivial) rfl rfl hl.1 rfl (lv_room (Nat.le_of_ble_eq_true rfl)) dX2_load_35 ⟨Nat.le_of_ble_eq_true rfl, Nat.le_of_ble_eq_true rfl⟩) ?_
        refine ri_top (b := (10 * t + k : Nat)) (by omega) ?_
        refine h_iald hx hb hK hW.a11 ((10 * t + k : Nat)) (by omega) (by omega) (by decide) dX2_load_38 ?_
        have b6 : -(K : Int) ≤ Z ((10 * t + k : Nat)) ∧ Z ((10 * t + k : Nat)) ≤ K := hZ ((10 * t + k : Nat))
        refine lv_goto (tgt := 46) hx hb dX2_load_39 (by decide) ?_
        exact W.iret hx hb hr (fun t ht hWm => ⟨⟨_, rfl, by rw [ht]; exact ⟨rfl, hW⟩⟩, hS.F ht⟩) hS.2.2 dX2_load_46

set_option maxHeartbeats 4000000 in
set_option maxRecDepth 100000 in
theorem mm_load_x (l : Launch) (D : va_G) (cA : Nat → ClassId) (A : Nat → Prop) (o : Nat) (ad : Nat → Nat) (F G : Nat → Nat) (N X : Nat → Nat → Nat) (Z : Nat → Int) (K : Nat) (hKb : K ≤ 1000000) (hF : FB F) (hG : GB G) (hN : NB N) (hX : XB X) (hZ : ZB K Z) (t k : Int) (q_t : inR t) (q_k : inR k) (hbad : ¬ ∃ a b : Nat, t = a ∧ k = b ∧ a < F 3 ∧ b + 1 < N 8 a) : Met l yX2_load (ws_ yX2_load cX2_load 3 (some .int)) ({ frames := 2, cells := 0, slots := 0, locals := 51 }) (Pk D cA [.ref o, .int (iI (t)), .int (iI (k))] (MW D cA A o ad F G N X Z)) (Qi (fun z H' => MW D cA A o ad (va_up (va_up F 0 0) 0 1) G N X Z H') A) 0 0 (A) := by
  refine Met.ofW (cc := cX2_load) (maxL := 3) (ret := (some .int)) (by decide) rfl ?_
  intro p e s m args below meth c s₁ B hml hv
  obtain ⟨rfl, hK, hW⟩ := hv
  have hx := B.exec
  have hb := B.bytes
  have hr := B.returns
  have hts := atoms_spec (ws := ws_ yX2_load cX2_load 3 (some .int)) B.pre
  have hts : ∀ w ∈ lw_all, w.before _ s = true := fun w h => hts w (List.mem_cons_of_mem _ h)
  have hown : s.vm.findClass RX2 = some m.cls := findClass_of_methodNamed B.named
  have hlocks := B.notSynchronized
  have hl := lv_entry ([.ref o, .int (iI (t)), .int (iI (k))]) (n := 3) (Nat.le_of_ble_eq_true rfl)
  rw [lg_entry_eq]
  generalize (lg_sl ([.ref o, .int (iI (t)), .int (iI (k))]) ++ List.replicate (3 - (lg_sl ([.ref o, .int (iI (t)), .int (iI (k))])).length) Slot.unset).toArray = ls at hl ⊢
  have hl : lv_has ls 3 [(0, .ref o), (1, .int (iI (t))), (2, .int (iI (k)))] := hl
  have hS : va_S A s.heap s.heap [] := va_S.rf
  have q_t1 := q_t
  unfold inR at q_t1
  have q_k1 := q_k
  unfold inR at q_k1
  have hF3 : F 3 ≤ 16 := hF 3
  refine lv_aload_n hx hb dX2_load_0 rfl (lv_at hl 0 rfl) ?_
  refine lv_iconst (v := iI (0)) hx hb dX2_load_1 rfl ?_
  refine m_put hx hb hts hown hK hW hS 0 (by decide) q974 rfl rfl rfl (0) rfl dX2_load_2 (fun H locs hW hS => ?_)
  have hF : FB (va_up (F) 0 (0)) := hF.up (by show 0 ≤ 2; omega)
  have e1 : va_up F 0 0 1 = F 1 := rfl
  have e2 : va_up F 0 0 2 = F 2 := rfl
  have e3 : va_up F 0 0 3 = F 3 := rfl
  have e4 : va_up F 0 0 4 = F 4 := rfl
  have e5 : va_up F 0 0 5 = F 5 := rfl
  refine lv_aload_n hx hb dX2_load_5 rfl (lv_at hl 0 rfl) ?_
  refine lv_iload_n hx hb dX2_load_6 rfl (lv_at hl 1 rfl) ?_
  refine rc_V (W.runV (As := [.int (iI (t))]) (rest := []) ⟨hx, hb, hml, hown, hts⟩ (mm_isTrain l D cA A o ad (va_up (F) 0 (0)) G N X Z K hKb hF hG hN hX hZ t (by unfold inR; omega)) (cwV 1 hts (lw_V q1106 q1108 qs16 q62 q1109) rfl rfl rfl (by decide +kernel) ⟨Nat.le_of_ble_eq_true rfl, Nat.le_of_ble_eq_true rfl⟩) (preV hK hW.1 rfl hW) rfl rfl hl.1 rfl (lv_room (Nat.le_of_ble_eq_true rfl)) dX2_load_7 ⟨Nat.le_of_ble_eq_true rfl, Nat.le_of_ble_eq_true rfl⟩) ?_
  by_cases h1 : 0 ≤ (t : Int) ∧ (t : Int) < ((va_up (F) 0 (0)) 3 : Nat)
  · rw [if_pos h1]
    refine ri_if_eq (tgt := 42) hx hb (by unfold inR; omega) dX2_load_10 (by decide) (fun h2 => ?_) (fun h2 => ?_)
    · skip
      exfalso; omega
    · skip
      refine lv_iload_n hx hb dX2_load_13 rfl (lv_at hl 2 rfl) ?_
      refine ri_if_lt (tgt := 42) hx hb (by unfold inR; omega) dX2_load_14 (by decide) (fun h3 => ?_) (fun h3 => ?_)
      · skip
        refine lv_aload_n hx hb dX2_load_42 rfl (lv_at hl 0 rfl) ?_
        refine rc_I (W.runV (As := []) (rest := []) ⟨hx, hb, hml, hown, hts⟩ (mm_fail l D cA A o ad (va_up (F) 0 (0)) G N X Z K hKb hF hG hN hX hZ  ) (cwV 0 hts (lw_V q1110 q1112 qs17 q62 q1113) rfl rfl rfl (by decide +kernel) ⟨Nat.le_of_ble_eq_true rfl, Nat.le_of_ble_eq_true rfl⟩) (preV hK hW.1 rfl hW) rfl rfl hl.1 rfl (lv_room (Nat.le_of_ble_eq_true rfl)) dX2_load_43 ⟨Nat.le_of_ble_eq_true rfl, Nat.le_of_ble_eq_true rfl⟩) hS (fun _ _ h => h) (fun _ h => h) (fun z H locs hq hS hz hk => ?_)
        obtain ⟨rfl, hW⟩ := hq
        exact W.iret hx hb hr (fun t ht hWm => ⟨⟨_, rfl, by rw [ht]; exact hW⟩, hS.F ht⟩) hS.2.2 dX2_load_46
      · skip
        refine lv_iload_n hx hb dX2_load_17 rfl (lv_at hl 2 rfl) ?_
        refine lv_aload_n hx hb dX2_load_18 rfl (lv_at hl 0 rfl) ?_
        refine m_get hx hb hts hown hK hW 8 (by decide) q982 rfl (v := .ref (ad 8)) rfl dX2_load_19 ?_
        refine lv_iload_n hx hb dX2_load_22 rfl (lv_at hl 1 rfl) ?_
        refine h_iald hx hb hK hW.a8 (t.toNat) (by omega) (by omega) (by decide) dX2_load_23 ?_
        have b4 : N 8 (t.toNat) ≤ 10 := hN 8 (t.toNat)
        refine lv_iconst (v := iI (1)) hx hb dX2_load_24 rfl ?_
        refine ri_isub hx hb dX2_load_25 ?_
        refine ri_icmp_ge (tgt := 42) hx hb (by unfold inR; omega) (by unfold inR; omega) dX2_load_26 (by decide) (fun h5 => ?_) (fun h5 => ?_)
        · skip
          refine lv_aload_n hx hb dX2_load_42 rfl (lv_at hl 0 rfl) ?_
          refine rc_I (W.runV (As := []) (rest := []) ⟨hx, hb, hml, hown, hts⟩ (mm_fail l D cA A o ad (va_up (F) 0 (0)) G N X Z K hKb hF hG hN hX hZ  ) (cwV 0 hts (lw_V q1110 q1112 qs17 q62 q1113) rfl rfl rfl (by decide +kernel) ⟨Nat.le_of_ble_eq_true rfl, Nat.le_of_ble_eq_true rfl⟩) (preV hK hW.1 rfl hW) rfl rfl hl.1 rfl (lv_room (Nat.le_of_ble_eq_true rfl)) dX2_load_43 ⟨Nat.le_of_ble_eq_true rfl, Nat.le_of_ble_eq_true rfl⟩) hS (fun _ _ h => h) (fun _ h => h) (fun z H locs hq hS hz hk => ?_)
          obtain ⟨rfl, hW⟩ := hq
          exact W.iret hx hb hr (fun t ht hWm => ⟨⟨_, rfl, by rw [ht]; exact hW⟩, hS.F ht⟩) hS.2.2 dX2_load_46
        · skip
          exact absurd ⟨t.toNat, k.toNat, by omega, by omega, by omega, by omega⟩ hbad
  · rw [if_neg h1]
    refine ri_if_eq (tgt := 42) hx hb (by unfold inR; omega) dX2_load_10 (by decide) (fun h6 => ?_) (fun h6 => ?_)
    · skip
      refine lv_aload_n hx hb dX2_load_42 rfl (lv_at hl 0 rfl) ?_
      refine rc_I (W.runV (As := []) (rest := []) ⟨hx, hb, hml, hown, hts⟩ (mm_fail l D cA A o ad (va_up (F) 0 (0)) G N X Z K hKb hF hG hN hX hZ  ) (cwV 0 hts (lw_V q1110 q1112 qs17 q62 q1113) rfl rfl rfl (by decide +kernel) ⟨Nat.le_of_ble_eq_true rfl, Nat.le_of_ble_eq_true rfl⟩) (preV hK hW.1 rfl hW) rfl rfl hl.1 rfl (lv_room (Nat.le_of_ble_eq_true rfl)) dX2_load_43 ⟨Nat.le_of_ble_eq_true rfl, Nat.le_of_ble_eq_true rfl⟩) hS (fun _ _ h => h) (fun _ h => h) (fun z H locs hq hS hz hk => ?_)
      obtain ⟨rfl, hW⟩ := hq
      exact W.iret hx hb hr (fun t ht hWm => ⟨⟨_, rfl, by rw [ht]; exact hW⟩, hS.F ht⟩) hS.2.2 dX2_load_46
    · skip
      exfalso; omega

set_option maxHeartbeats 4000000 in
set_option maxRecDepth 100000 in
theorem mm_leg (l : Launch) (D : va_G) (cA : Nat → ClassId) (A : Nat → Prop) (o : Nat) (ad : Nat → Nat) (F G : Nat → Nat) (N X : Nat → Nat → Nat) (Z : Nat → Int) (K : Nat) (hKb : K ≤ 1000000) (hF : FB F) (hG : GB G) (hN : NB N) (hX : XB X) (hZ : ZB K Z) (b i w : Nat) (hb4 : b < F 4) (hi : i < N 24 (2 * b) + N 24 (2 * b + 1)) (hw : w ≤ 2) : Met l yX2_leg (ws_ yX2_leg cX2_leg 5 (some .int)) ({ frames := 2, cells := 0, slots := 0, locals := 51 }) (Pk D cA [.ref o, .int (iI (b)), .int (iI (i)), .int (iI (w))] (MW D cA A o ad F G N X Z)) (Qi (fun z H' => z = legW N b i w ∧ MW D cA A o ad (va_up F 0 0) G N X Z H') A) 0 0 (A) := by
  refine Met.ofW (cc := cX2_leg) (maxL := 5) (ret := (some .int)) (by decide) rfl ?_
  intro p e s m args below meth c s₁ B hml hv
  obtain ⟨rfl, hK, hW⟩ := hv
  have hx := B.exec
  have hb := B.bytes
  have hr := B.returns
  have hts := atoms_spec (ws := ws_ yX2_leg cX2_leg 5 (some .int)) B.pre
  have hts : ∀ w ∈ lw_all, w.before _ s = true := fun w h => hts w (List.mem_cons_of_mem _ h)
  have hown : s.vm.findClass RX2 = some m.cls := findClass_of_methodNamed B.named
  have hlocks := B.notSynchronized
  have hl := lv_entry ([.ref o, .int (iI (b)), .int (iI (i)), .int (iI (w))]) (n := 5) (Nat.le_of_ble_eq_true rfl)
  rw [lg_entry_eq]
  generalize (lg_sl ([.ref o, .int (iI (b)), .int (iI (i)), .int (iI (w))]) ++ List.replicate (5 - (lg_sl ([.ref o, .int (iI (b)), .int (iI (i)), .int (iI (w))])).length) Slot.unset).toArray = ls at hl ⊢
  have hl : lv_has ls 5 [(0, .ref o), (1, .int (iI (b))), (2, .int (iI (i))), (3, .int (iI (w)))] := hl
  have hS : va_S A s.heap s.heap [] := va_S.rf
  have hF4 : F 4 ≤ 60 := hF 4
  have hn1 : N 24 (2 * b) ≤ 3 := hN 24 _
  have hn2 : N 24 (2 * b + 1) ≤ 3 := hN 24 _
  refine lv_aload_n hx hb dX2_leg_0 rfl (lv_at hl 0 rfl) ?_
  refine lv_iconst (v := iI (0)) hx hb dX2_leg_1 rfl ?_
  refine m_put hx hb hts hown hK hW hS 0 (by decide) q974 rfl rfl rfl (0) rfl dX2_leg_2 (fun H locs hW hS => ?_)
  have hF : FB (va_up (F) 0 (0)) := hF.up (by show 0 ≤ 2; omega)
  have e1 : va_up F 0 0 1 = F 1 := rfl
  have e2 : va_up F 0 0 2 = F 2 := rfl
  have e3 : va_up F 0 0 3 = F 3 := rfl
  have e4 : va_up F 0 0 4 = F 4 := rfl
  have e5 : va_up F 0 0 5 = F 5 := rfl
  refine lv_aload_n hx hb dX2_leg_5 rfl (lv_at hl 0 rfl) ?_
  refine lv_iload_n hx hb dX2_leg_6 rfl (lv_at hl 1 rfl) ?_
  refine rc_V (W.runV (As := [.int (iI (b))]) (rest := []) ⟨hx, hb, hml, hown, hts⟩ (mm_isBox l D cA A o ad (va_up (F) 0 (0)) G N X Z K hKb hF hG hN hX hZ b (by unfold inR; omega)) (cwV 1 hts (lw_V q1206 q1208 qs34 q62 q1209) rfl rfl rfl (by decide +kernel) ⟨Nat.le_of_ble_eq_true rfl, Nat.le_of_ble_eq_true rfl⟩) (preV hK hW.1 rfl hW) rfl rfl hl.1 rfl (lv_room (Nat.le_of_ble_eq_true rfl)) dX2_leg_7 ⟨Nat.le_of_ble_eq_true rfl, Nat.le_of_ble_eq_true rfl⟩) ?_
  rw [if_pos (show 0 ≤ (b : Int) ∧ (b : Int) < ((va_up (F) 0 (0)) 4 : Nat) from by omega)]
  refine ri_if_eq (tgt := 49) hx hb (by unfold inR; omega) dX2_leg_10 (by decide) (fun h2 => ?_) (fun h2 => ?_)
  · skip
    exfalso; omega
  · skip
    refine lv_iload_n hx hb dX2_leg_13 rfl (lv_at hl 2 rfl) ?_
    refine ri_if_lt (tgt := 49) hx hb (by unfold inR; omega) dX2_leg_14 (by decide) (fun h3 => ?_) (fun h3 => ?_)
    · skip
      exfalso; omega
    · skip
      refine lv_iload_n hx hb dX2_leg_17 rfl (lv_at hl 2 rfl) ?_
      refine lv_aload_n hx hb dX2_leg_18 rfl (lv_at hl 0 rfl) ?_
      refine m_get hx hb hts hown hK hW 24 (by decide) q998 rfl (v := .ref (ad 24)) rfl dX2_leg_19 ?_
      refine lv_iconst (v := iI (2)) hx hb dX2_leg_22 rfl ?_
      refine lv_iload_n hx hb dX2_leg_23 rfl (lv_at hl 1 rfl) ?_
      refine ri_imul hx hb dX2_leg_24 ?_
      refine h_iald hx hb hK hW.a24 (2 * b) (by omega) (by omega) (by decide) dX2_leg_25 ?_
      have b4 : N 24 (2 * b) ≤ 3 := hN 24 (2 * b)
      refine lv_aload_n hx hb dX2_leg_26 rfl (lv_at hl 0 rfl) ?_
      refine m_get hx hb hts hown hK hW 24 (by decide) q998 rfl (v := .ref (ad 24)) rfl dX2_leg_27 ?_
      refine lv_iconst (v := iI (2)) hx hb dX2_leg_30 rfl ?_
      refine lv_iload_n hx hb dX2_leg_31 rfl (lv_at hl 1 rfl) ?_
      refine ri_imul hx hb dX2_leg_32 ?_
      refine lv_iconst (v := iI (1)) hx hb dX2_leg_33 rfl ?_
      refine ri_iadd hx hb dX2_leg_34 ?_
      refine h_iald hx hb hK hW.a24 (2 * b + 1) (by omega) (by omega) (by decide) dX2_leg_35 ?_
      have b5 : N 24 (2 * b + 1) ≤ 3 := hN 24 (2 * b + 1)
      refine ri_iadd hx hb dX2_leg_36 ?_
      refine ri_icmp_ge (tgt := 49) hx hb (by unfold inR; omega) (by unfold inR; omega) dX2_leg_37 (by decide) (fun h6 => ?_) (fun h6 => ?_)
      · skip
        exfalso; omega
      · skip
        refine lv_iload_n hx hb dX2_leg_40 rfl (lv_at hl 3 rfl) ?_
        refine ri_if_lt (tgt := 49) hx hb (by unfold inR; omega) dX2_leg_41 (by decide) (fun h7 => ?_) (fun h7 => ?_)
        · skip
          exfalso; omega
        · skip
          refine lv_iload_n hx hb dX2_leg_44 rfl (lv_at hl 3 rfl) ?_
          refine lv_iconst (v := iI (2)) hx hb dX2_leg_45 rfl ?_
          refine ri_icmp_le (tgt := 54) hx hb (by unfold inR; omega) (by unfold inR; omega) dX2_leg_46 (by decide) (fun h8 => ?_) (fun h8 => ?_)
          · skip
            refine lv_iload_n hx hb dX2_leg_54 rfl (lv_at hl 2 rfl) ?_
            refine lv_aload_n hx hb dX2_leg_55 rfl (lv_at hl 0 rfl) ?_
            refine m_get hx hb hts hown hK hW 24 (by decide) q998 rfl (v := .ref (ad 24)) rfl dX2_leg_56 ?_
            refine lv_iconst (v := iI (2)) hx hb dX2_leg_59 rfl ?_
            refine lv_iload_n hx hb dX2_leg_60 rfl (lv_at hl 1 rfl) ?_
            refine ri_imul hx hb dX2_leg_61 ?_
            refine h_iald hx hb hK hW.a24 (2 * b) (by omega) (by omega) (by decide) dX2_leg_62 ?_
            refine ri_icmp_ge (tgt := 76) hx hb (by unfold inR; omega) (by unfold inR; omega) dX2_leg_63 (by decide) (fun h9 => ?_) (fun h9 => ?_)
            · skip
              refine lv_iconst (v := iI (2)) hx hb dX2_leg_76 rfl ?_
              refine lv_iload_n hx hb dX2_leg_77 rfl (lv_at hl 1 rfl) ?_
              refine ri_imul hx hb dX2_leg_78 ?_
              refine lv_iconst (v := iI (1)) hx hb dX2_leg_79 rfl ?_
              refine ri_iadd hx hb dX2_leg_80 ?_
              refine lv_iload_n hx hb dX2_leg_81 rfl (lv_at hl 2 rfl) ?_
              refine lv_aload_n hx hb dX2_leg_82 rfl (lv_at hl 0 rfl) ?_
              refine m_get hx hb hts hown hK hW 24 (by decide) q998 rfl (v := .ref (ad 24)) rfl dX2_leg_83 ?_
              refine lv_iconst (v := iI (2)) hx hb dX2_leg_86 rfl ?_
              refine lv_iload_n hx hb dX2_leg_87 rfl (lv_at hl 1 rfl) ?_
              refine ri_imul hx hb dX2_leg_88 ?_
              refine h_iald hx hb hK hW.a24 (2 * b) (by omega) (by omega) (by decide) dX2_leg_89 ?_
              refine ri_isub hx hb dX2_leg_90 ?_
              refine rc_V (W.runS (As := [.int (iI ((2 * b) + 1)), .int (iI (i - (N 24 (2 * b))))]) (rest := []) ⟨hx, hb, hml, hown, hts⟩ (mm_legAt l D cA ((2 * b) + 1) (i - (N 24 (2 * b))) ) (va_cwS 2 hts (lw_S q1163 q1164 q62 q1165) rfl rfl rfl (by decide +kernel) ⟨Nat.le_of_ble_eq_true rfl, Nat.le_of_ble_eq_true rfl⟩) (preS hK (B := fun _ => True) trivial) rfl rfl hl.1 rfl (lv_room (Nat.le_of_ble_eq_true rfl)) dX2_leg_91 ⟨Nat.le_of_ble_eq_true rfl, Nat.le_of_ble_eq_true rfl⟩) ?_
              refine ri_top (b := (legI N b i : Nat)) (by unfold legI; rw [if_neg (by omega)]; omega) ?_
              have hlt : legI N b i < 360 := by unfold legI; split <;> omega
              refine lv_istore (lv' := [(4, .int (iI ((legI N b i : Nat)))), (0, .ref o), (1, .int (iI (b))), (2, .int (iI (i))), (3, .int (iI (w)))]) hx hb dX2_leg_94 hl (by decide) rfl (fun ls hl => ?_)
              refine lv_iload_n hx hb dX2_leg_96 rfl (lv_at hl 4 rfl) ?_
              refine ri_if_ne (tgt := 110) hx hb (by unfold inR; omega) dX2_leg_97 (by decide) (fun h10 => ?_) (fun h10 => ?_)
              · skip
                refine lv_iload_n hx hb dX2_leg_110 rfl (lv_at hl 4 rfl) ?_
                refine lv_iconst (v := iI (1)) hx hb dX2_leg_111 rfl ?_
                refine ri_icmp_ne (tgt := 125) hx hb (by unfold inR; omega) (by unfold inR; omega) dX2_leg_112 (by decide) (fun h11 => ?_) (fun h11 => ?_)
                · skip
                  refine lv_aload_n hx hb dX2_leg_125 rfl (lv_at hl 1 rfl) ?_
                  refine m_get hx hb hts hown hK hW 29 (by decide) q1003 rfl (v := .ref (ad 29)) rfl dX2_leg_126 ?_
                  refine lv_iload hx hb dX2_leg_129 (lv_at hl 0 rfl) ?_
                  refine h_iald hx hb hK hW.a29 ((legI N b i : Nat)) (by omega) (by omega) (by decide) dX2_leg_131 ?_
                  have b12 : N 29 ((legI N b i : Nat)) ≤ 9 := hN 29 ((legI N b i : Nat))
                  exact W.iret hx hb hr (fun t ht hWm => ⟨⟨_, rfl, by rw [ht]; exact ⟨by unfold legW; (repeat' split) <;> omega, hW⟩⟩, hS.F ht⟩) hS.2.2 dX2_leg_132
                · skip
                  refine lv_aload_n hx hb dX2_leg_115 rfl (lv_at hl 1 rfl) ?_
                  refine m_get hx hb hts hown hK hW 28 (by decide) q1002 rfl (v := .ref (ad 28)) rfl dX2_leg_116 ?_
                  refine lv_iload hx hb dX2_leg_119 (lv_at hl 0 rfl) ?_
                  refine h_iald hx hb hK hW.a28 ((legI N b i : Nat)) (by omega) (by omega) (by decide) dX2_leg_121 ?_
                  have b13 : N 28 ((legI N b i : Nat)) ≤ 9 := hN 28 ((legI N b i : Nat))
                  refine lv_goto (tgt := 132) hx hb dX2_leg_122 (by decide) ?_
                  exact W.iret hx hb hr (fun t ht hWm => ⟨⟨_, rfl, by rw [ht]; exact ⟨by unfold legW; (repeat' split) <;> omega, hW⟩⟩, hS.F ht⟩) hS.2.2 dX2_leg_132
              · skip
                refine lv_aload_n hx hb dX2_leg_100 rfl (lv_at hl 1 rfl) ?_
                refine m_get hx hb hts hown hK hW 27 (by decide) q1001 rfl (v := .ref (ad 27)) rfl dX2_leg_101 ?_
                refine lv_iload hx hb dX2_leg_104 (lv_at hl 0 rfl) ?_
                refine h_iald hx hb hK hW.a27 ((legI N b i : Nat)) (by omega) (by omega) (by decide) dX2_leg_106 ?_
                have b14 : N 27 ((legI N b i : Nat)) ≤ 15 := hN 27 ((legI N b i : Nat))
                refine lv_goto (tgt := 132) hx hb dX2_leg_107 (by decide) ?_
                exact W.iret hx hb hr (fun t ht hWm => ⟨⟨_, rfl, by rw [ht]; exact ⟨by unfold legW; (repeat' split) <;> omega, hW⟩⟩, hS.F ht⟩) hS.2.2 dX2_leg_132
            · skip
              refine lv_iconst (v := iI (2)) hx hb dX2_leg_66 rfl ?_
              refine lv_iload_n hx hb dX2_leg_67 rfl (lv_at hl 1 rfl) ?_
              refine ri_imul hx hb dX2_leg_68 ?_
              refine lv_iload_n hx hb dX2_leg_69 rfl (lv_at hl 2 rfl) ?_
              refine rc_V (W.runS (As := [.int (iI (2 * b)), .int (iI (i))]) (rest := []) ⟨hx, hb, hml, hown, hts⟩ (mm_legAt l D cA (2 * b) i ) (va_cwS 2 hts (lw_S q1163 q1164 q62 q1165) rfl rfl rfl (by decide +kernel) ⟨Nat.le_of_ble_eq_true rfl, Nat.le_of_ble_eq_true rfl⟩) (preS hK (B := fun _ => True) trivial) rfl rfl hl.1 rfl (lv_room (Nat.le_of_ble_eq_true rfl)) dX2_leg_70 ⟨Nat.le_of_ble_eq_true rfl, Nat.le_of_ble_eq_true rfl⟩) ?_
              refine ri_top (b := (legI N b i : Nat)) (by unfold legI; rw [if_pos (by omega)]; omega) ?_
              refine lv_goto (tgt := 94) hx hb dX2_leg_73 (by decide) ?_
              have hlt : legI N b i < 360 := by unfold legI; split <;> omega
              refine lv_istore (lv' := [(4, .int (iI ((legI N b i : Nat)))), (0, .ref o), (1, .int (iI (b))), (2, .int (iI (i))), (3, .int (iI (w)))]) hx hb dX2_leg_94 hl (by decide) rfl (fun ls hl => ?_)
              refine lv_iload_n hx hb dX2_leg_96 rfl (lv_at hl 4 rfl) ?_
              refine ri_if_ne (tgt := 110) hx hb (by unfold inR; omega) dX2_leg_97 (by decide) (fun h15 => ?_) (fun h15 => ?_)
              · skip
                refine lv_iload_n hx hb dX2_leg_110 rfl (lv_at hl 4 rfl) ?_
                refine lv_iconst (v := iI (1)) hx hb dX2_leg_111 rfl ?_
                refine ri_icmp_ne (tgt := 125) hx hb (by unfold inR; omega) (by unfold inR; omega) dX2_leg_112 (by decide) (fun h16 => ?_) (fun h16 => ?_)
                · skip
                  refine lv_aload_n hx hb dX2_leg_125 rfl (lv_at hl 1 rfl) ?_
                  refine m_get hx hb hts hown hK hW 29 (by decide) q1003 rfl (v := .ref (ad 29)) rfl dX2_leg_126 ?_
                  refine lv_iload hx hb dX2_leg_129 (lv_at hl 0 rfl) ?_
                  refine h_iald hx hb hK hW.a29 ((legI N b i : Nat)) (by omega) (by omega) (by decide) dX2_leg_131 ?_
                  have b17 : N 29 ((legI N b i : Nat)) ≤ 9 := hN 29 ((legI N b i : Nat))
                  exact W.iret hx hb hr (fun t ht hWm => ⟨⟨_, rfl, by rw [ht]; exact ⟨by unfold legW; (repeat' split) <;> omega, hW⟩⟩, hS.F ht⟩) hS.2.2 dX2_leg_132
                · skip
                  refine lv_aload_n hx hb dX2_leg_115 rfl (lv_at hl 1 rfl) ?_
                  refine m_get hx hb hts hown hK hW 28 (by decide) q1002 rfl (v := .ref (ad 28)) rfl dX2_leg_116 ?_
                  refine lv_iload hx hb dX2_leg_119 (lv_at hl 0 rfl) ?_
                  refine h_iald hx hb hK hW.a28 ((legI N b i : Nat)) (by omega) (by omega) (by decide) dX2_leg_121 ?_
                  have b18 : N 28 ((legI N b i : Nat)) ≤ 9 := hN 28 ((legI N b i : Nat))
                  refine lv_goto (tgt := 132) hx hb dX2_leg_122 (by decide) ?_
                  exact W.iret hx hb hr (fun t ht hWm => ⟨⟨_, rfl, by rw [ht]; exact ⟨by unfold legW; (repeat' split) <;> omega, hW⟩⟩, hS.F ht⟩) hS.2.2 dX2_leg_132
              · skip
                refine lv_aload_n hx hb dX2_leg_100 rfl (lv_at hl 1 rfl) ?_
                refine m_get hx hb hts hown hK hW 27 (by decide) q1001 rfl (v := .ref (ad 27)) rfl dX2_leg_101 ?_
                refine lv_iload hx hb dX2_leg_104 (lv_at hl 0 rfl) ?_
                refine h_iald hx hb hK hW.a27 ((legI N b i : Nat)) (by omega) (by omega) (by decide) dX2_leg_106 ?_
                have b19 : N 27 ((legI N b i : Nat)) ≤ 15 := hN 27 ((legI N b i : Nat))
                refine lv_goto (tgt := 132) hx hb dX2_leg_107 (by decide) ?_
                exact W.iret hx hb hr (fun t ht hWm => ⟨⟨_, rfl, by rw [ht]; exact ⟨by unfold legW; (repeat' split) <;> omega, hW⟩⟩, hS.F ht⟩) hS.2.2 dX2_leg_132
          · skip
            exfalso; omega

set_option maxHeartbeats 4000000 in
set_option maxRecDepth 100000 in
theorem mm_leg_x (l : Launch) (D : va_G) (cA : Nat → ClassId) (A : Nat → Prop) (o : Nat) (ad : Nat → Nat) (F G : Nat → Nat) (N X : Nat → Nat → Nat) (Z : Nat → Int) (K : Nat) (hKb : K ≤ 1000000) (hF : FB F) (hG : GB G) (hN : NB N) (hX : XB X) (hZ : ZB K Z) (b i w : Int) (q_b : inR b) (q_i : inR i) (q_w : inR w) (hbad : ¬ ∃ a j v : Nat, b = a ∧ i = j ∧ w = v ∧ a < F 4 ∧ j < N 24 (2 * a) + N 24 (2 * a + 1) ∧ v ≤ 2) : Met l yX2_leg (ws_ yX2_leg cX2_leg 5 (some .int)) ({ frames := 2, cells := 0, slots := 0, locals := 51 }) (Pk D cA [.ref o, .int (iI (b)), .int (iI (i)), .int (iI (w))] (MW D cA A o ad F G N X Z)) (Qi (fun z H' => MW D cA A o ad (va_up (va_up F 0 0) 0 1) G N X Z H') A) 0 0 (A) := by
  refine Met.ofW (cc := cX2_leg) (maxL := 5) (ret := (some .int)) (by decide) rfl ?_
  intro p e s m args below meth c s₁ B hml hv
  obtain ⟨rfl, hK, hW⟩ := hv
  have hx := B.exec
  have hb := B.bytes
  have hr := B.returns
  have hts := atoms_spec (ws := ws_ yX2_leg cX2_leg 5 (some .int)) B.pre
  have hts : ∀ w ∈ lw_all, w.before _ s = true := fun w h => hts w (List.mem_cons_of_mem _ h)
  have hown : s.vm.findClass RX2 = some m.cls := findClass_of_methodNamed B.named
  have hlocks := B.notSynchronized
  have hl := lv_entry ([.ref o, .int (iI (b)), .int (iI (i)), .int (iI (w))]) (n := 5) (Nat.le_of_ble_eq_true rfl)
  rw [lg_entry_eq]
  generalize (lg_sl ([.ref o, .int (iI (b)), .int (iI (i)), .int (iI (w))]) ++ List.replicate (5 - (lg_sl ([.ref o, .int (iI (b)), .int (iI (i)), .int (iI (w))])).length) Slot.unset).toArray = ls at hl ⊢
  have hl : lv_has ls 5 [(0, .ref o), (1, .int (iI (b))), (2, .int (iI (i))), (3, .int (iI (w)))] := hl
  have hS : va_S A s.heap s.heap [] := va_S.rf
  have q_b1 := q_b
  unfold inR at q_b1
  have q_i1 := q_i
  unfold inR at q_i1
  have q_w1 := q_w
  unfold inR at q_w1
  have hF4 : F 4 ≤ 60 := hF 4
  refine lv_aload_n hx hb dX2_leg_0 rfl (lv_at hl 0 rfl) ?_
  refine lv_iconst (v := iI (0)) hx hb dX2_leg_1 rfl ?_
  refine m_put hx hb hts hown hK hW hS 0 (by decide) q974 rfl rfl rfl (0) rfl dX2_leg_2 (fun H locs hW hS => ?_)
  have hF : FB (va_up (F) 0 (0)) := hF.up (by show 0 ≤ 2; omega)
  have e1 : va_up F 0 0 1 = F 1 := rfl
  have e2 : va_up F 0 0 2 = F 2 := rfl
  have e3 : va_up F 0 0 3 = F 3 := rfl
  have e4 : va_up F 0 0 4 = F 4 := rfl
  have e5 : va_up F 0 0 5 = F 5 := rfl
  refine lv_aload_n hx hb dX2_leg_5 rfl (lv_at hl 0 rfl) ?_
  refine lv_iload_n hx hb dX2_leg_6 rfl (lv_at hl 1 rfl) ?_
  refine rc_V (W.runV (As := [.int (iI (b))]) (rest := []) ⟨hx, hb, hml, hown, hts⟩ (mm_isBox l D cA A o ad (va_up (F) 0 (0)) G N X Z K hKb hF hG hN hX hZ b (by unfold inR; omega)) (cwV 1 hts (lw_V q1206 q1208 qs34 q62 q1209) rfl rfl rfl (by decide +kernel) ⟨Nat.le_of_ble_eq_true rfl, Nat.le_of_ble_eq_true rfl⟩) (preV hK hW.1 rfl hW) rfl rfl hl.1 rfl (lv_room (Nat.le_of_ble_eq_true rfl)) dX2_leg_7 ⟨Nat.le_of_ble_eq_true rfl, Nat.le_of_ble_eq_true rfl⟩) ?_
  by_cases h1 : 0 ≤ (b : Int) ∧ (b : Int) < ((va_up (F) 0 (0)) 4 : Nat)
  · rw [if_pos h1]
    refine ri_if_eq (tgt := 49) hx hb (by unfold inR; omega) dX2_leg_10 (by decide) (fun h2 => ?_) (fun h2 => ?_)
    · skip
      exfalso; omega
    · skip
      refine lv_iload_n hx hb dX2_leg_13 rfl (lv_at hl 2 rfl) ?_
      refine ri_if_lt (tgt := 49) hx hb (by unfold inR; omega) dX2_leg_14 (by decide) (fun h3 => ?_) (fun h3 => ?_)
      · skip
        refine lv_aload_n hx hb dX2_leg_49 rfl (lv_at hl 0 rfl) ?_
        refine rc_I (W.runV (As := []) (rest := []) ⟨hx, hb, hml, hown, hts⟩ (mm_fail l D cA A o ad (va_up (F) 0 (0)) G N X Z K hKb hF hG hN hX hZ  ) (cwV 0 hts (lw_V q1110 q1112 qs17 q62 q1113) rfl rfl rfl (by decide +kernel) ⟨Nat.le_of_ble_eq_true rfl, Nat.le_of_ble_eq_true rfl⟩) (preV hK hW.1 rfl hW) rfl rfl hl.1 rfl (lv_room (Nat.le_of_ble_eq_true rfl)) dX2_leg_50 ⟨Nat.le_of_ble_eq_true rfl, Nat.le_of_ble_eq_true rfl⟩) hS (fun _ _ h => h) (fun _ h => h) (fun z H locs hq hS hz hk => ?_)
        obtain ⟨rfl, hW⟩ := hq
        exact W.iret hx hb hr (fun t ht hWm => ⟨⟨_, rfl, by rw [ht]; exact hW⟩, hS.F ht⟩) hS.2.2 dX2_leg_53
      · skip
        refine lv_iload_n hx hb dX2_leg_17 rfl (lv_at hl 2 rfl) ?_
        refine lv_aload_n hx hb dX2_leg_18 rfl (lv_at hl 0 rfl) ?_
        refine m_get hx hb hts hown hK hW 24 (by decide) q998 rfl (v := .ref (ad 24)) rfl dX2_leg_19 ?_
        refine lv_iconst (v := iI (2)) hx hb dX2_leg_22 rfl ?_
        refine lv_iload_n hx hb dX2_leg_23 rfl (lv_at hl 1 rfl) ?_
        refine ri_imul hx hb dX2_leg_24 ?_
        refine h_iald hx hb hK hW.a24 (2 * b.toNat) (by omega) (by omega) (by decide) dX2_leg_25 ?_
        have b4 : N 24 (2 * b.toNat) ≤ 3 := hN 24 (2 * b.toNat)
        refine lv_aload_n hx hb dX2_leg_26 rfl (lv_at hl 0 rfl) ?_
        refine m_get hx hb hts hown hK hW 24 (by decide) q998 rfl (v := .ref (ad 24)) rfl dX2_leg_27 ?_
        refine lv_iconst (v := iI (2)) hx hb dX2_leg_30 rfl ?_
        refine lv_iload_n hx hb dX2_leg_31 rfl (lv_at hl 1 rfl) ?_
        refine ri_imul hx hb dX2_leg_32 ?_
        refine lv_iconst (v := iI (1)) hx hb dX2_leg_33 rfl ?_
        refine ri_iadd hx hb dX2_leg_34 ?_
        refine h_iald hx hb hK hW.a24 (2 * b.toNat + 1) (by omega) (by omega) (by decide) dX2_leg_35 ?_
        have b5 : N 24 (2 * b.toNat + 1) ≤ 3 := hN 24 (2 * b.toNat + 1)
        refine ri_iadd hx hb dX2_leg_36 ?_
        refine ri_icmp_ge (tgt := 49) hx hb (by unfold inR; omega) (by unfold inR; omega) dX2_leg_37 (by decide) (fun h6 => ?_) (fun h6 => ?_)
        · skip
          refine lv_aload_n hx hb dX2_leg_49 rfl (lv_at hl 0 rfl) ?_
          refine rc_I (W.runV (As := []) (rest := []) ⟨hx, hb, hml, hown, hts⟩ (mm_fail l D cA A o ad (va_up (F) 0 (0)) G N X Z K hKb hF hG hN hX hZ  ) (cwV 0 hts (lw_V q1110 q1112 qs17 q62 q1113) rfl rfl rfl (by decide +kernel) ⟨Nat.le_of_ble_eq_true rfl, Nat.le_of_ble_eq_true rfl⟩) (preV hK hW.1 rfl hW) rfl rfl hl.1 rfl (lv_room (Nat.le_of_ble_eq_true rfl)) dX2_leg_50 ⟨Nat.le_of_ble_eq_true rfl, Nat.le_of_ble_eq_true rfl⟩) hS (fun _ _ h => h) (fun _ h => h) (fun z H locs hq hS hz hk => ?_)
          obtain ⟨rfl, hW⟩ := hq
          exact W.iret hx hb hr (fun t ht hWm => ⟨⟨_, rfl, by rw [ht]; exact hW⟩, hS.F ht⟩) hS.2.2 dX2_leg_53
        · skip
          refine lv_iload_n hx hb dX2_leg_40 rfl (lv_at hl 3 rfl) ?_
          refine ri_if_lt (tgt := 49) hx hb (by unfold inR; omega) dX2_leg_41 (by decide) (fun h7 => ?_) (fun h7 => ?_)
          · skip
            refine lv_aload_n hx hb dX2_leg_49 rfl (lv_at hl 0 rfl) ?_
            refine rc_I (W.runV (As := []) (rest := []) ⟨hx, hb, hml, hown, hts⟩ (mm_fail l D cA A o ad (va_up (F) 0 (0)) G N X Z K hKb hF hG hN hX hZ  ) (cwV 0 hts (lw_V q1110 q1112 qs17 q62 q1113) rfl rfl rfl (by decide +kernel) ⟨Nat.le_of_ble_eq_true rfl, Nat.le_of_ble_eq_true rfl⟩) (preV hK hW.1 rfl hW) rfl rfl hl.1 rfl (lv_room (Nat.le_of_ble_eq_true rfl)) dX2_leg_50 ⟨Nat.le_of_ble_eq_true rfl, Nat.le_of_ble_eq_true rfl⟩) hS (fun _ _ h => h) (fun _ h => h) (fun z H locs hq hS hz hk => ?_)
            obtain ⟨rfl, hW⟩ := hq
            exact W.iret hx hb hr (fun t ht hWm => ⟨⟨_, rfl, by rw [ht]; exact hW⟩, hS.F ht⟩) hS.2.2 dX2_leg_53
          · skip
            refine lv_iload_n hx hb dX2_leg_44 rfl (lv_at hl 3 rfl) ?_
            refine lv_iconst (v := iI (2)) hx hb dX2_leg_45 rfl ?_
            refine ri_icmp_le (tgt := 54) hx hb (by unfold inR; omega) (by unfold inR; omega) dX2_leg_46 (by decide) (fun h8 => ?_) (fun h8 => ?_)
            · skip
              exact absurd ⟨b.toNat, i.toNat, w.toNat, by omega, by omega, by omega, by omega, by omega, by omega⟩ hbad
            · skip
              refine lv_aload_n hx hb dX2_leg_49 rfl (lv_at hl 0 rfl) ?_
              refine rc_I (W.runV (As := []) (rest := []) ⟨hx, hb, hml, hown, hts⟩ (mm_fail l D cA A o ad (va_up (F) 0 (0)) G N X Z K hKb hF hG hN hX hZ  ) (cwV 0 hts (lw_V q1110 q1112 qs17 q62 q1113) rfl rfl rfl (by decide +kernel) ⟨Nat.le_of_ble_eq_true rfl, Nat.le_of_ble_eq_true rfl⟩) (preV hK hW.1 rfl hW) rfl rfl hl.1 rfl (lv_room (Nat.le_of_ble_eq_true rfl)) dX2_leg_50 ⟨Nat.le_of_ble_eq_true rfl, Nat.le_of_ble_eq_true rfl⟩) hS (fun _ _ h => h) (fun _ h => h) (fun z H locs hq hS hz hk => ?_)
              obtain ⟨rfl, hW⟩ := hq
              exact W.iret hx hb hr (fun t ht hWm => ⟨⟨_, rfl, by rw [ht]; exact hW⟩, hS.F ht⟩) hS.2.2 dX2_leg_53
  · rw [if_neg h1]
    refine ri_if_eq (tgt := 49) hx hb (by unfold inR; omega) dX2_leg_10 (by decide) (fun h9 => ?_) (fun h9 => ?_)
    · skip
      refine lv_aload_n hx hb dX2_leg_49 rfl (lv_at hl 0 rfl) ?_
      refine rc_I (W.runV (As := []) (rest := []) ⟨hx, hb, hml, hown, hts⟩ (mm_fail l D cA A o ad (va_up (F) 0 (0)) G N X Z K hKb hF hG hN hX hZ  ) (cwV 0 hts (lw_V q1110 q1112 qs17 q62 q1113) rfl rfl rfl (by decide +kernel) ⟨Nat.le_of_ble_eq_true rfl, Nat.le_of_ble_eq_true rfl⟩) (preV hK hW.1 rfl hW) rfl rfl hl.1 rfl (lv_room (Nat.le_of_ble_eq_true rfl)) dX2_leg_50 ⟨Nat.le_of_ble_eq_true rfl, Nat.le_of_ble_eq_true rfl⟩) hS (fun _ _ h => h) (fun _ h => h) (fun z H locs hq hS hz hk => ?_)
      obtain ⟨rfl, hW⟩ := hq
      exact W.iret hx hb hr (fun t ht hWm => ⟨⟨_, rfl, by rw [ht]; exact hW⟩, hS.F ht⟩) hS.2.2 dX2_leg_53
    · skip
      exfalso; omega
