set_option maxRecDepth 100000
/-! the law's helpers -/
def Ao (A : Nat → Prop) (oa : Nat) : Nat → Prop := fun q => A q ∨ q = oa
abbrev OC (D : va_G) (cA : Nat → ClassId) (oa : Nat) (g : Nat → Int64) (H : Heap) : Prop := va_at D CL (oa, .inl (cA 3, 1, .inr (.inl g))) H
def PH (D : va_G) (cA : Nat → ClassId) (A : Nat → Prop) (sa : Nat → Nat) (ad : Nat → Nat → Nat) (F : Nat → Nat) (N : Nat → Nat → Nat) (Z : Nat → Int) (E : Nat → Nat → Int) (oa : Nat) (g : Nat → Int64) (av : List Value) : Array Value → State → Prop := Pq D cA av (fun U => ((SX A sa U ∧ CW D cA A sa ad F N Z E U.heap) ∧ TX A U) ∧ OC D cA oa g U.heap)
def PHn (D : va_G) (cA : Nat → ClassId) (A : Nat → Prop) (sa : Nat → Nat) (ad : Nat → Nat → Nat) (F : Nat → Nat) (N : Nat → Nat → Nat) (Z : Nat → Int) (E : Nat → Nat → Int) (oa : Nat) (g : Nat → Int64) (av : List Value) : Array Value → State → Prop := Pq D cA av (fun U => (((SX A sa U ∧ CW D cA A sa ad F N Z E U.heap) ∧ TX A U) ∧ OC D cA oa g U.heap) ∧ va_Nc RJ6 RJ18 U)
theorem tab_of {p : Program} {l : Launch} {y : MethodName} {S : Spec} {cc : ByteArray} {maxL : Nat} {ret : Option FieldType} {e : Env} {s : State} {m : MethodId} {args : Array Value} {below : List Frame} {meth : Method} {c : Code} {s₁ : State} {hh : List (Nat × Nat × Nat × Nat)} (B : BodyLoose p l y S cc maxL ret e s m args below meth c s₁) (h : (Cond.codeWith y cc maxL ret hh).before args s = true) : c.exceptionTable.toList.map (fun h => (h.startPc, h.endPc, h.handlerPc, h.catchType)) = hh := by
  obtain ⟨m9, meth9, c9, n1, n2, n3, -, -, n6, -⟩ := Cond.codeWith_spec h
  cases B.named.symm.trans n1
  cases B.method.symm.trans n2
  cases (Stand.of_body B).code.symm.trans n3
  exact n6
set_option maxHeartbeats 4000000 in
set_option maxRecDepth 100000 in
theorem hh_of (l : Launch) (D : va_G) (cA : Nat → ClassId) (A : Nat → Prop) (sa : Nat → Nat) (ad : Nat → Nat → Nat) (F : Nat → Nat) (N : Nat → Nat → Nat) (Z : Nat → Int) (E : Nat → Nat → Int) (K : Nat) (hKb : K ≤ 1000000) (hF : FB F) (hN : NB N) (hZ : ZB K Z) (hwf : WF F N) (oa : Nat) (g : Nat → Int64) (hoa : ¬ A oa) (b v : Nat) (hb4 : b < F 4) (hv6 : v ≤ 6) : Met l yX0_of (wsW_ yX0_of cX0_of 5 (some .int) [(0, 10, 13, 13)]) ({ frames := 9, cells := 0, slots := 0, locals := 209 }) (PH D cA A sa ad F N Z E oa g [.ref (ad 0 (0)), .int (iI (b)), .int (iI (v)), .ref oa]) (Qi (fun z H' => z = 0 ∧ CW D cA A sa ad F N Z E H' ∧ OC D cA oa (va_up g 0 ((iI (ofC F N b v)).toInt64)) H') (Ao A oa)) 0 0 (Ao A oa) := by
  refine va_MetW (cc := cX0_of) (maxL := 5) (ret := (some .int)) (hh := [(0, 10, 13, 13)]) (by decide) rfl ?_
  intro p e s m args below meth c s₁ B hml hv
  obtain ⟨rfl, hK, hW⟩ := hv
  have hx := B.exec
  have hb := B.bytes
  have hr := B.returns
  have hts := atoms_spec (ws := wsW_ yX0_of cX0_of 5 (some .int) [(0, 10, 13, 13)]) B.pre
  have htab := tab_of B (hts _ List.mem_cons_self)
  have hts : ∀ w ∈ lw_all, w.before _ s = true := fun w h => hts w (List.mem_cons_of_mem _ h)
  have hown : s.vm.findClass RX0 = some m.cls := findClass_of_methodNamed B.named
  have hlocks := B.notSynchronized
  have hl := lv_entry ([.ref (ad 0 (0)), .int (iI (b)), .int (iI (v)), .ref oa]) (n := 5) (Nat.le_of_ble_eq_true rfl)
  rw [lg_entry_eq]
  generalize (lg_sl ([.ref (ad 0 (0)), .int (iI (b)), .int (iI (v)), .ref oa]) ++ List.replicate (5 - (lg_sl ([.ref (ad 0 (0)), .int (iI (b)), .int (iI (v)), .ref oa])).length) Slot.unset).toArray = ls at hl ⊢
  have hl : lv_has ls 5 [(0, .ref (ad 0 (0))), (1, .int (iI (b))), (2, .int (iI (v))), (3, .ref oa)] := hl
  obtain ⟨⟨⟨hSX, hW⟩, hTX⟩, hO⟩ := hW
  have hS : va_S (Ao A oa) s.heap s.heap [] := va_S.rf
  have hF2 : F 2 ≤ 10 := hF 2
  have hF3 : F 3 ≤ 16 := hF 3
  have hF4 : F 4 ≤ 60 := hF 4
  have hF5 : F 5 ≤ 40 := hF 5
  have hF1 : F 1 ≤ 1439 := hF 1
  refine lv_aload_n hx hb dX0_of_0 rfl (lv_at hl 3 rfl) ?_
  refine lv_iconst (v := iI (0)) hx hb dX0_of_1 rfl ?_
  refine lv_aload_n hx hb dX0_of_2 rfl (lv_at hl 0 rfl) ?_
  refine lv_iload_n hx hb dX0_of_3 rfl (lv_at hl 1 rfl) ?_
  refine lv_iload_n hx hb dX0_of_4 rfl (lv_at hl 2 rfl) ?_
  refine rc_V (W.runV (As := [.int (iI (b)), .int (iI (v))]) (rest := [.int (iI (0)), .ref oa]) ⟨hx, hb, hml, hown, hts⟩ (cc_X1_of l D cA A sa ad F N Z E K hKb hF hN hZ hwf b v hb4 hv6) (cwV 2 hts (lw_V q891 q892 q893 q42 q894) rfl rfl rfl (by decide +kernel) ⟨Nat.le_of_ble_eq_true rfl, Nat.le_of_ble_eq_true rfl⟩) (preVC hK hSX va_S.rf hW.c0 rfl hW) rfl rfl hl.1 rfl (lv_room (Nat.le_of_ble_eq_true rfl)) dX0_of_5 ⟨Nat.le_of_ble_eq_true rfl, Nat.le_of_ble_eq_true rfl⟩) ?_
  refine W.eq (g2 := F0 m 8 ls [.int (iI (ofC F N b v)), .int (iI (0)), .ref oa]) rfl ?_
  refine lv_i2l hx hb dX0_of_8 rfl ?_
  refine h_last hx hb hK hO hS (Or.inr rfl) 0 rfl (by omega) (by decide) dX0_of_9 (fun H2 locs2 hO oq zq hS => ?_)
  have hW := hW.keptL (by exact hF3) hN (by omega) (fun k i hl => oq _ (fun e => hoa (e ▸ hW.2.1 k i hl)))
  refine lv_goto (tgt := 17) hx hb dX0_of_10 (by decide) ?_
  refine lv_iconst (v := iI (0)) hx hb dX0_of_17 rfl ?_
  exact W.iret hx hb hr (fun tt htt hWm => ⟨⟨_, rfl, by rw [htt]; exact ⟨rfl, hW, hO⟩⟩, hS.F htt⟩) hS.2.2 dX0_of_18

set_option maxHeartbeats 4000000 in
set_option maxRecDepth 100000 in
theorem hh_of_t (l : Launch) (hls : l.stackTraces = false) (D : va_G) (cA : Nat → ClassId) (A : Nat → Prop) (sa : Nat → Nat) (ad : Nat → Nat → Nat) (F : Nat → Nat) (N : Nat → Nat → Nat) (Z : Nat → Int) (E : Nat → Nat → Int) (K : Nat) (hKb : K ≤ 1000000) (hF : FB F) (hN : NB N) (hZ : ZB K Z) (hwf : WF F N) (oa : Nat) (g : Nat → Int64) (hoa : ¬ A oa) (a b : Int) (ha : inR a) (hbad : ¬ (0 ≤ a ∧ a < F 4)) : Met l yX0_of (wsW_ yX0_of cX0_of 5 (some .int) [(0, 10, 13, 13)]) ({ frames := 11, cells := 1, slots := 6, locals := 266 }) (PH D cA A sa ad F N Z E oa g [.ref (ad 0 (0)), .int (iI (a)), .int (iI (b)), .ref oa]) (Qi (fun z H' => z = 1 ∧ CW D cA A sa ad F N Z E H' ∧ OC D cA oa g H') (Ao A oa)) 1 6 (Ao A oa) := by
  refine va_MetW (cc := cX0_of) (maxL := 5) (ret := (some .int)) (hh := [(0, 10, 13, 13)]) (by decide) rfl ?_
  intro p e s m args below meth c s₁ B hml hv
  obtain ⟨rfl, hK, hW⟩ := hv
  have hx := B.exec
  have hb := B.bytes
  have hr := B.returns
  have hts := atoms_spec (ws := wsW_ yX0_of cX0_of 5 (some .int) [(0, 10, 13, 13)]) B.pre
  have htab := tab_of B (hts _ List.mem_cons_self)
  have hts : ∀ w ∈ lw_all, w.before _ s = true := fun w h => hts w (List.mem_cons_of_mem _ h)
  have hown : s.vm.findClass RX0 = some m.cls := findClass_of_methodNamed B.named
  have hlocks := B.notSynchronized
  have hl := lv_entry ([.ref (ad 0 (0)), .int (iI (a)), .int (iI (b)), .ref oa]) (n := 5) (Nat.le_of_ble_eq_true rfl)
  rw [lg_entry_eq]
  generalize (lg_sl ([.ref (ad 0 (0)), .int (iI (a)), .int (iI (b)), .ref oa]) ++ List.replicate (5 - (lg_sl ([.ref (ad 0 (0)), .int (iI (a)), .int (iI (b)), .ref oa])).length) Slot.unset).toArray = ls at hl ⊢
  have hl : lv_has ls 5 [(0, .ref (ad 0 (0))), (1, .int (iI (a))), (2, .int (iI (b))), (3, .ref oa)] := hl
  obtain ⟨⟨⟨hSX, hW⟩, hTX⟩, hO⟩ := hW
  have hS : va_S (Ao A oa) s.heap s.heap [] := va_S.rf
  have hF2 : F 2 ≤ 10 := hF 2
  have hF3 : F 3 ≤ 16 := hF 3
  have hF4 : F 4 ≤ 60 := hF 4
  have hF5 : F 5 ≤ 40 := hF 5
  have hF1 : F 1 ≤ 1439 := hF 1
  refine lv_aload_n hx hb dX0_of_0 rfl (lv_at hl 3 rfl) ?_
  refine lv_iconst (v := iI (0)) hx hb dX0_of_1 rfl ?_
  refine lv_aload_n hx hb dX0_of_2 rfl (lv_at hl 0 rfl) ?_
  refine lv_iload_n hx hb dX0_of_3 rfl (lv_at hl 1 rfl) ?_
  refine lv_iload_n hx hb dX0_of_4 rfl (lv_at hl 2 rfl) ?_
  refine T.catch1 (T.runV (As := [.int (iI (a)), .int (iI (b))]) (rest := [.int (iI (0)), .ref oa]) ⟨hx, hb, hml, hown, hts⟩ (cc_X1_of_t l hls D cA A sa ad F N Z E K hKb hF hN hZ hwf a b ha hbad) (cwV 2 hts (lw_V q891 q892 q893 q42 q894) rfl rfl rfl (by decide +kernel) ⟨Nat.le_of_ble_eq_true rfl, Nat.le_of_ble_eq_true rfl⟩) (preVT hK hSX hTX va_S.rf hW.c0 rfl hW) rfl rfl hl.1 rfl (lv_room (Nat.le_of_ble_eq_true rfl)) dX0_of_5 ⟨Nat.le_of_ble_eq_true rfl, Nat.le_of_ble_eq_true rfl⟩) hK rfl (va_Nw.use rfl (hK.2.2.2 _ q784 (Or.inr (Or.inl ⟨_, _, rfl⟩)))) hown (hts _ q770) htab (by decide) (by decide) (by decide) (fun x H1 hx1 hz hq => ?_)
  have hO := hO.kept (hq _ hO.lt)
  have hS : va_S (Ao A oa) s.heap H1 [] := hS.grow (by omega) (fun q h => hq q h)
  have hW := hW.keptL hF3 hN hz (fun k i hl => hq _ (hW.lt hF3 hN k i hl))
  refine lv_astore (lv' := [(4, .ref x), (0, .ref (ad 0 (0))), (1, .int (iI (a))), (2, .int (iI (b))), (3, .ref oa)]) hx hb dX0_of_13 hl (by decide) rfl (fun ls hl => ?_)
  refine lv_iconst (v := iI (1)) hx hb dX0_of_15 rfl ?_
  exact W.iret hx hb hr (fun tt htt hWm => ⟨⟨_, rfl, by rw [htt]; exact ⟨rfl, hW, hO⟩⟩, hS.F htt⟩) hS.2.2 dX0_of_16

set_option maxHeartbeats 4000000 in
set_option maxRecDepth 100000 in
theorem hh_leg_t (l : Launch) (hls : l.stackTraces = false) (D : va_G) (cA : Nat → ClassId) (A : Nat → Prop) (sa : Nat → Nat) (ad : Nat → Nat → Nat) (F : Nat → Nat) (N : Nat → Nat → Nat) (Z : Nat → Int) (E : Nat → Nat → Int) (K : Nat) (hKb : K ≤ 1000000) (hF : FB F) (hN : NB N) (hZ : ZB K Z) (hwf : WF F N) (oa : Nat) (g : Nat → Int64) (hoa : ¬ A oa) (a b d : Int) (ha : inR a) (hbad : ¬ (0 ≤ a ∧ a < F 4)) : Met l yX0_leg (wsW_ yX0_leg cX0_leg 6 (some .int) [(0, 12, 15, 13)]) ({ frames := 11, cells := 1, slots := 6, locals := 268 }) (PH D cA A sa ad F N Z E oa g [.ref (ad 0 (0)), .int (iI (a)), .int (iI (b)), .int (iI (d)), .ref oa]) (Qi (fun z H' => z = 1 ∧ CW D cA A sa ad F N Z E H' ∧ OC D cA oa g H') (Ao A oa)) 1 6 (Ao A oa) := by
  refine va_MetW (cc := cX0_leg) (maxL := 6) (ret := (some .int)) (hh := [(0, 12, 15, 13)]) (by decide) rfl ?_
  intro p e s m args below meth c s₁ B hml hv
  obtain ⟨rfl, hK, hW⟩ := hv
  have hx := B.exec
  have hb := B.bytes
  have hr := B.returns
  have hts := atoms_spec (ws := wsW_ yX0_leg cX0_leg 6 (some .int) [(0, 12, 15, 13)]) B.pre
  have htab := tab_of B (hts _ List.mem_cons_self)
  have hts : ∀ w ∈ lw_all, w.before _ s = true := fun w h => hts w (List.mem_cons_of_mem _ h)
  have hown : s.vm.findClass RX0 = some m.cls := findClass_of_methodNamed B.named
  have hlocks := B.notSynchronized
  have hl := lv_entry ([.ref (ad 0 (0)), .int (iI (a)), .int (iI (b)), .int (iI (d)), .ref oa]) (n := 6) (Nat.le_of_ble_eq_true rfl)
  rw [lg_entry_eq]
  generalize (lg_sl ([.ref (ad 0 (0)), .int (iI (a)), .int (iI (b)), .int (iI (d)), .ref oa]) ++ List.replicate (6 - (lg_sl ([.ref (ad 0 (0)), .int (iI (a)), .int (iI (b)), .int (iI (d)), .ref oa])).length) Slot.unset).toArray = ls at hl ⊢
  have hl : lv_has ls 6 [(0, .ref (ad 0 (0))), (1, .int (iI (a))), (2, .int (iI (b))), (3, .int (iI (d))), (4, .ref oa)] := hl
  obtain ⟨⟨⟨hSX, hW⟩, hTX⟩, hO⟩ := hW
  have hS : va_S (Ao A oa) s.heap s.heap [] := va_S.rf
  have hF2 : F 2 ≤ 10 := hF 2
  have hF3 : F 3 ≤ 16 := hF 3
  have hF4 : F 4 ≤ 60 := hF 4
  have hF5 : F 5 ≤ 40 := hF 5
  have hF1 : F 1 ≤ 1439 := hF 1
  refine lv_aload hx hb dX0_leg_0 (lv_at hl 4 rfl) ?_
  refine lv_iconst (v := iI (0)) hx hb dX0_leg_2 rfl ?_
  refine lv_aload_n hx hb dX0_leg_3 rfl (lv_at hl 0 rfl) ?_
  refine lv_iload_n hx hb dX0_leg_4 rfl (lv_at hl 1 rfl) ?_
  refine lv_iload_n hx hb dX0_leg_5 rfl (lv_at hl 2 rfl) ?_
  refine lv_iload_n hx hb dX0_leg_6 rfl (lv_at hl 3 rfl) ?_
  refine T.catch1 (T.runV (As := [.int (iI (a)), .int (iI (b)), .int (iI (d))]) (rest := [.int (iI (0)), .ref oa]) ⟨hx, hb, hml, hown, hts⟩ (cc_X1_leg_t l hls D cA A sa ad F N Z E K hKb hF hN hZ hwf a b d ha hbad) (cwV 3 hts (lw_V q907 q908 q909 q42 q910) rfl rfl rfl (by decide +kernel) ⟨Nat.le_of_ble_eq_true rfl, Nat.le_of_ble_eq_true rfl⟩) (preVT hK hSX hTX va_S.rf hW.c0 rfl hW) rfl rfl hl.1 rfl (lv_room (Nat.le_of_ble_eq_true rfl)) dX0_leg_7 ⟨Nat.le_of_ble_eq_true rfl, Nat.le_of_ble_eq_true rfl⟩) hK rfl (va_Nw.use rfl (hK.2.2.2 _ q784 (Or.inr (Or.inl ⟨_, _, rfl⟩)))) hown (hts _ q770) htab (by decide) (by decide) (by decide) (fun x H1 hx1 hz hq => ?_)
  have hO := hO.kept (hq _ hO.lt)
  have hS : va_S (Ao A oa) s.heap H1 [] := hS.grow (by omega) (fun q h => hq q h)
  have hW := hW.keptL hF3 hN hz (fun k i hl => hq _ (hW.lt hF3 hN k i hl))
  refine lv_astore (lv' := [(5, .ref x), (0, .ref (ad 0 (0))), (1, .int (iI (a))), (2, .int (iI (b))), (3, .int (iI (d))), (4, .ref oa)]) hx hb dX0_leg_15 hl (by decide) rfl (fun ls hl => ?_)
  refine lv_iconst (v := iI (1)) hx hb dX0_leg_17 rfl ?_
  exact W.iret hx hb hr (fun tt htt hWm => ⟨⟨_, rfl, by rw [htt]; exact ⟨rfl, hW, hO⟩⟩, hS.F htt⟩) hS.2.2 dX0_leg_18

set_option maxHeartbeats 4000000 in
set_option maxRecDepth 100000 in
theorem hh_load_t (l : Launch) (hls : l.stackTraces = false) (D : va_G) (cA : Nat → ClassId) (A : Nat → Prop) (sa : Nat → Nat) (ad : Nat → Nat → Nat) (F : Nat → Nat) (N : Nat → Nat → Nat) (Z : Nat → Int) (E : Nat → Nat → Int) (K : Nat) (hKb : K ≤ 1000000) (hF : FB F) (hN : NB N) (hZ : ZB K Z) (hwf : WF F N) (oa : Nat) (g : Nat → Int64) (hoa : ¬ A oa) (a b : Int) (ha : inR a) (hbad : ¬ (0 ≤ a ∧ a < F 3)) : Met l yX0_load (wsW_ yX0_load cX0_load 5 (some .int) [(0, 10, 13, 13)]) ({ frames := 11, cells := 1, slots := 6, locals := 264 }) (PH D cA A sa ad F N Z E oa g [.ref (ad 0 (0)), .int (iI (a)), .int (iI (b)), .ref oa]) (Qi (fun z H' => z = 1 ∧ CW D cA A sa ad F N Z E H' ∧ OC D cA oa g H') (Ao A oa)) 1 6 (Ao A oa) := by
  refine va_MetW (cc := cX0_load) (maxL := 5) (ret := (some .int)) (hh := [(0, 10, 13, 13)]) (by decide) rfl ?_
  intro p e s m args below meth c s₁ B hml hv
  obtain ⟨rfl, hK, hW⟩ := hv
  have hx := B.exec
  have hb := B.bytes
  have hr := B.returns
  have hts := atoms_spec (ws := wsW_ yX0_load cX0_load 5 (some .int) [(0, 10, 13, 13)]) B.pre
  have htab := tab_of B (hts _ List.mem_cons_self)
  have hts : ∀ w ∈ lw_all, w.before _ s = true := fun w h => hts w (List.mem_cons_of_mem _ h)
  have hown : s.vm.findClass RX0 = some m.cls := findClass_of_methodNamed B.named
  have hlocks := B.notSynchronized
  have hl := lv_entry ([.ref (ad 0 (0)), .int (iI (a)), .int (iI (b)), .ref oa]) (n := 5) (Nat.le_of_ble_eq_true rfl)
  rw [lg_entry_eq]
  generalize (lg_sl ([.ref (ad 0 (0)), .int (iI (a)), .int (iI (b)), .ref oa]) ++ List.replicate (5 - (lg_sl ([.ref (ad 0 (0)), .int (iI (a)), .int (iI (b)), .ref oa])).length) Slot.unset).toArray = ls at hl ⊢
  have hl : lv_has ls 5 [(0, .ref (ad 0 (0))), (1, .int (iI (a))), (2, .int (iI (b))), (3, .ref oa)] := hl
  obtain ⟨⟨⟨hSX, hW⟩, hTX⟩, hO⟩ := hW
  have hS : va_S (Ao A oa) s.heap s.heap [] := va_S.rf
  have hF2 : F 2 ≤ 10 := hF 2
  have hF3 : F 3 ≤ 16 := hF 3
  have hF4 : F 4 ≤ 60 := hF 4
  have hF5 : F 5 ≤ 40 := hF 5
  have hF1 : F 1 ≤ 1439 := hF 1
  refine lv_aload_n hx hb dX0_load_0 rfl (lv_at hl 3 rfl) ?_
  refine lv_iconst (v := iI (0)) hx hb dX0_load_1 rfl ?_
  refine lv_aload_n hx hb dX0_load_2 rfl (lv_at hl 0 rfl) ?_
  refine lv_iload_n hx hb dX0_load_3 rfl (lv_at hl 1 rfl) ?_
  refine lv_iload_n hx hb dX0_load_4 rfl (lv_at hl 2 rfl) ?_
  refine T.catch1 (T.runV (As := [.int (iI (a)), .int (iI (b))]) (rest := [.int (iI (0)), .ref oa]) ⟨hx, hb, hml, hown, hts⟩ (cc_X1_load_t l hls D cA A sa ad F N Z E K hKb hF hN hZ hwf a b ha hbad) (cwV 2 hts (lw_V q914 q915 q916 q42 q917) rfl rfl rfl (by decide +kernel) ⟨Nat.le_of_ble_eq_true rfl, Nat.le_of_ble_eq_true rfl⟩) (preVT hK hSX hTX va_S.rf hW.c0 rfl hW) rfl rfl hl.1 rfl (lv_room (Nat.le_of_ble_eq_true rfl)) dX0_load_5 ⟨Nat.le_of_ble_eq_true rfl, Nat.le_of_ble_eq_true rfl⟩) hK rfl (va_Nw.use rfl (hK.2.2.2 _ q784 (Or.inr (Or.inl ⟨_, _, rfl⟩)))) hown (hts _ q770) htab (by decide) (by decide) (by decide) (fun x H1 hx1 hz hq => ?_)
  have hO := hO.kept (hq _ hO.lt)
  have hS : va_S (Ao A oa) s.heap H1 [] := hS.grow (by omega) (fun q h => hq q h)
  have hW := hW.keptL hF3 hN hz (fun k i hl => hq _ (hW.lt hF3 hN k i hl))
  refine lv_astore (lv' := [(4, .ref x), (0, .ref (ad 0 (0))), (1, .int (iI (a))), (2, .int (iI (b))), (3, .ref oa)]) hx hb dX0_load_13 hl (by decide) rfl (fun ls hl => ?_)
  refine lv_iconst (v := iI (1)) hx hb dX0_load_15 rfl ?_
  exact W.iret hx hb hr (fun tt htt hWm => ⟨⟨_, rfl, by rw [htt]; exact ⟨rfl, hW, hO⟩⟩, hS.F htt⟩) hS.2.2 dX0_load_16

set_option maxHeartbeats 4000000 in
set_option maxRecDepth 100000 in
theorem hh_where_t (l : Launch) (hls : l.stackTraces = false) (D : va_G) (cA : Nat → ClassId) (A : Nat → Prop) (sa : Nat → Nat) (ad : Nat → Nat → Nat) (F : Nat → Nat) (N : Nat → Nat → Nat) (Z : Nat → Int) (E : Nat → Nat → Int) (K : Nat) (hKb : K ≤ 1000000) (hF : FB F) (hN : NB N) (hZ : ZB K Z) (hwf : WF F N) (oa : Nat) (g : Nat → Int64) (hoa : ¬ A oa) (a : Int) (ha : inR a) (hbad : ¬ (0 ≤ a ∧ a < F 4)) : Met l yX0_where (wsW_ yX0_where cX0_where 4 (some .int) [(0, 9, 12, 13)]) ({ frames := 11, cells := 1, slots := 6, locals := 264 }) (PH D cA A sa ad F N Z E oa g [.ref (ad 0 (0)), .int (iI (a)), .ref oa]) (Qi (fun z H' => z = 1 ∧ CW D cA A sa ad F N Z E H' ∧ OC D cA oa g H') (Ao A oa)) 1 6 (Ao A oa) := by
  refine va_MetW (cc := cX0_where) (maxL := 4) (ret := (some .int)) (hh := [(0, 9, 12, 13)]) (by decide) rfl ?_
  intro p e s m args below meth c s₁ B hml hv
  obtain ⟨rfl, hK, hW⟩ := hv
  have hx := B.exec
  have hb := B.bytes
  have hr := B.returns
  have hts := atoms_spec (ws := wsW_ yX0_where cX0_where 4 (some .int) [(0, 9, 12, 13)]) B.pre
  have htab := tab_of B (hts _ List.mem_cons_self)
  have hts : ∀ w ∈ lw_all, w.before _ s = true := fun w h => hts w (List.mem_cons_of_mem _ h)
  have hown : s.vm.findClass RX0 = some m.cls := findClass_of_methodNamed B.named
  have hlocks := B.notSynchronized
  have hl := lv_entry ([.ref (ad 0 (0)), .int (iI (a)), .ref oa]) (n := 4) (Nat.le_of_ble_eq_true rfl)
  rw [lg_entry_eq]
  generalize (lg_sl ([.ref (ad 0 (0)), .int (iI (a)), .ref oa]) ++ List.replicate (4 - (lg_sl ([.ref (ad 0 (0)), .int (iI (a)), .ref oa])).length) Slot.unset).toArray = ls at hl ⊢
  have hl : lv_has ls 4 [(0, .ref (ad 0 (0))), (1, .int (iI (a))), (2, .ref oa)] := hl
  obtain ⟨⟨⟨hSX, hW⟩, hTX⟩, hO⟩ := hW
  have hS : va_S (Ao A oa) s.heap s.heap [] := va_S.rf
  have hF2 : F 2 ≤ 10 := hF 2
  have hF3 : F 3 ≤ 16 := hF 3
  have hF4 : F 4 ≤ 60 := hF 4
  have hF5 : F 5 ≤ 40 := hF 5
  have hF1 : F 1 ≤ 1439 := hF 1
  refine lv_aload_n hx hb dX0_where_0 rfl (lv_at hl 2 rfl) ?_
  refine lv_iconst (v := iI (0)) hx hb dX0_where_1 rfl ?_
  refine lv_aload_n hx hb dX0_where_2 rfl (lv_at hl 0 rfl) ?_
  refine lv_iload_n hx hb dX0_where_3 rfl (lv_at hl 1 rfl) ?_
  refine T.catch1 (T.runV (As := [.int (iI (a))]) (rest := [.int (iI (0)), .ref oa]) ⟨hx, hb, hml, hown, hts⟩ (cc_X1_where_t l hls D cA A sa ad F N Z E K hKb hF hN hZ hwf a ha hbad) (cwV 1 hts (lw_V q921 q922 q923 q42 q924) rfl rfl rfl (by decide +kernel) ⟨Nat.le_of_ble_eq_true rfl, Nat.le_of_ble_eq_true rfl⟩) (preVT hK hSX hTX va_S.rf hW.c0 rfl hW) rfl rfl hl.1 rfl (lv_room (Nat.le_of_ble_eq_true rfl)) dX0_where_4 ⟨Nat.le_of_ble_eq_true rfl, Nat.le_of_ble_eq_true rfl⟩) hK rfl (va_Nw.use rfl (hK.2.2.2 _ q784 (Or.inr (Or.inl ⟨_, _, rfl⟩)))) hown (hts _ q770) htab (by decide) (by decide) (by decide) (fun x H1 hx1 hz hq => ?_)
  have hO := hO.kept (hq _ hO.lt)
  have hS : va_S (Ao A oa) s.heap H1 [] := hS.grow (by omega) (fun q h => hq q h)
  have hW := hW.keptL hF3 hN hz (fun k i hl => hq _ (hW.lt hF3 hN k i hl))
  refine lv_astore_n (lv' := [(3, .ref x), (0, .ref (ad 0 (0))), (1, .int (iI (a))), (2, .ref oa)]) hx hb dX0_where_12 rfl hl (by decide) rfl (fun ls hl => ?_)
  refine lv_iconst (v := iI (1)) hx hb dX0_where_13 rfl ?_
  exact W.iret hx hb hr (fun tt htt hWm => ⟨⟨_, rfl, by rw [htt]; exact ⟨rfl, hW, hO⟩⟩, hS.F htt⟩) hS.2.2 dX0_where_14

set_option maxHeartbeats 4000000 in
set_option maxRecDepth 100000 in
theorem hh_mark_t (l : Launch) (hls : l.stackTraces = false) (D : va_G) (cA : Nat → ClassId) (A : Nat → Prop) (sa : Nat → Nat) (ad : Nat → Nat → Nat) (F : Nat → Nat) (N : Nat → Nat → Nat) (Z : Nat → Int) (E : Nat → Nat → Int) (K : Nat) (hKb : K ≤ 1000000) (hF : FB F) (hN : NB N) (hZ : ZB K Z) (hwf : WF F N) (oa : Nat) (g : Nat → Int64) (hoa : ¬ A oa) (a : Int) (ha : inR a) (hbad : ¬ (0 ≤ a ∧ a < F 4)) : Met l yX0_mark (wsW_ yX0_mark cX0_mark 4 (some .int) [(0, 9, 12, 13)]) ({ frames := 11, cells := 1, slots := 6, locals := 265 }) (PH D cA A sa ad F N Z E oa g [.ref (ad 0 (0)), .int (iI (a)), .ref oa]) (Qi (fun z H' => z = 1 ∧ CW D cA A sa ad F N Z E H' ∧ OC D cA oa g H') (Ao A oa)) 1 6 (Ao A oa) := by
  refine va_MetW (cc := cX0_mark) (maxL := 4) (ret := (some .int)) (hh := [(0, 9, 12, 13)]) (by decide) rfl ?_
  intro p e s m args below meth c s₁ B hml hv
  obtain ⟨rfl, hK, hW⟩ := hv
  have hx := B.exec
  have hb := B.bytes
  have hr := B.returns
  have hts := atoms_spec (ws := wsW_ yX0_mark cX0_mark 4 (some .int) [(0, 9, 12, 13)]) B.pre
  have htab := tab_of B (hts _ List.mem_cons_self)
  have hts : ∀ w ∈ lw_all, w.before _ s = true := fun w h => hts w (List.mem_cons_of_mem _ h)
  have hown : s.vm.findClass RX0 = some m.cls := findClass_of_methodNamed B.named
  have hlocks := B.notSynchronized
  have hl := lv_entry ([.ref (ad 0 (0)), .int (iI (a)), .ref oa]) (n := 4) (Nat.le_of_ble_eq_true rfl)
  rw [lg_entry_eq]
  generalize (lg_sl ([.ref (ad 0 (0)), .int (iI (a)), .ref oa]) ++ List.replicate (4 - (lg_sl ([.ref (ad 0 (0)), .int (iI (a)), .ref oa])).length) Slot.unset).toArray = ls at hl ⊢
  have hl : lv_has ls 4 [(0, .ref (ad 0 (0))), (1, .int (iI (a))), (2, .ref oa)] := hl
  obtain ⟨⟨⟨hSX, hW⟩, hTX⟩, hO⟩ := hW
  have hS : va_S (Ao A oa) s.heap s.heap [] := va_S.rf
  have hF2 : F 2 ≤ 10 := hF 2
  have hF3 : F 3 ≤ 16 := hF 3
  have hF4 : F 4 ≤ 60 := hF 4
  have hF5 : F 5 ≤ 40 := hF 5
  have hF1 : F 1 ≤ 1439 := hF 1
  refine lv_aload_n hx hb dX0_mark_0 rfl (lv_at hl 2 rfl) ?_
  refine lv_iconst (v := iI (0)) hx hb dX0_mark_1 rfl ?_
  refine lv_aload_n hx hb dX0_mark_2 rfl (lv_at hl 0 rfl) ?_
  refine lv_iload_n hx hb dX0_mark_3 rfl (lv_at hl 1 rfl) ?_
  refine T.catch1 (T.runV (As := [.int (iI (a))]) (rest := [.int (iI (0)), .ref oa]) ⟨hx, hb, hml, hown, hts⟩ (cc_X1_mark_t l hls D cA A sa ad F N Z E K hKb hF hN hZ hwf a ha hbad) (cwV 1 hts (lw_V q932 q933 q934 q42 q935) rfl rfl rfl (by decide +kernel) ⟨Nat.le_of_ble_eq_true rfl, Nat.le_of_ble_eq_true rfl⟩) (preVT hK hSX hTX va_S.rf hW.c0 rfl hW) rfl rfl hl.1 rfl (lv_room (Nat.le_of_ble_eq_true rfl)) dX0_mark_4 ⟨Nat.le_of_ble_eq_true rfl, Nat.le_of_ble_eq_true rfl⟩) hK rfl (va_Nw.use rfl (hK.2.2.2 _ q784 (Or.inr (Or.inl ⟨_, _, rfl⟩)))) hown (hts _ q770) htab (by decide) (by decide) (by decide) (fun x H1 hx1 hz hq => ?_)
  have hO := hO.kept (hq _ hO.lt)
  have hS : va_S (Ao A oa) s.heap H1 [] := hS.grow (by omega) (fun q h => hq q h)
  have hW := hW.keptL hF3 hN hz (fun k i hl => hq _ (hW.lt hF3 hN k i hl))
  refine lv_astore_n (lv' := [(3, .ref x), (0, .ref (ad 0 (0))), (1, .int (iI (a))), (2, .ref oa)]) hx hb dX0_mark_12 rfl hl (by decide) rfl (fun ls hl => ?_)
  refine lv_iconst (v := iI (1)) hx hb dX0_mark_13 rfl ?_
  exact W.iret hx hb hr (fun tt htt hWm => ⟨⟨_, rfl, by rw [htt]; exact ⟨rfl, hW, hO⟩⟩, hS.F htt⟩) hS.2.2 dX0_mark_14

set_option maxHeartbeats 4000000 in
set_option maxRecDepth 100000 in
theorem hh_stop_t (l : Launch) (hls : l.stackTraces = false) (D : va_G) (cA : Nat → ClassId) (A : Nat → Prop) (sa : Nat → Nat) (ad : Nat → Nat → Nat) (F : Nat → Nat) (N : Nat → Nat → Nat) (Z : Nat → Int) (E : Nat → Nat → Int) (K : Nat) (hKb : K ≤ 1000000) (hF : FB F) (hN : NB N) (hZ : ZB K Z) (hwf : WF F N) (oa : Nat) (g : Nat → Int64) (hoa : ¬ A oa) (a b d : Int) (ha : inR a) (hbad : ¬ (0 ≤ a ∧ a < F 3)) : Met l yX0_stop (wsW_ yX0_stop cX0_stop 6 (some .int) [(0, 12, 15, 13)]) ({ frames := 11, cells := 1, slots := 6, locals := 266 }) (PH D cA A sa ad F N Z E oa g [.ref (ad 0 (0)), .int (iI (a)), .int (iI (b)), .int (iI (d)), .ref oa]) (Qi (fun z H' => z = 1 ∧ CW D cA A sa ad F N Z E H' ∧ OC D cA oa g H') (Ao A oa)) 1 6 (Ao A oa) := by
  refine va_MetW (cc := cX0_stop) (maxL := 6) (ret := (some .int)) (hh := [(0, 12, 15, 13)]) (by decide) rfl ?_
  intro p e s m args below meth c s₁ B hml hv
  obtain ⟨rfl, hK, hW⟩ := hv
  have hx := B.exec
  have hb := B.bytes
  have hr := B.returns
  have hts := atoms_spec (ws := wsW_ yX0_stop cX0_stop 6 (some .int) [(0, 12, 15, 13)]) B.pre
  have htab := tab_of B (hts _ List.mem_cons_self)
  have hts : ∀ w ∈ lw_all, w.before _ s = true := fun w h => hts w (List.mem_cons_of_mem _ h)
  have hown : s.vm.findClass RX0 = some m.cls := findClass_of_methodNamed B.named
  have hlocks := B.notSynchronized
  have hl := lv_entry ([.ref (ad 0 (0)), .int (iI (a)), .int (iI (b)), .int (iI (d)), .ref oa]) (n := 6) (Nat.le_of_ble_eq_true rfl)
  rw [lg_entry_eq]
  generalize (lg_sl ([.ref (ad 0 (0)), .int (iI (a)), .int (iI (b)), .int (iI (d)), .ref oa]) ++ List.replicate (6 - (lg_sl ([.ref (ad 0 (0)), .int (iI (a)), .int (iI (b)), .int (iI (d)), .ref oa])).length) Slot.unset).toArray = ls at hl ⊢
  have hl : lv_has ls 6 [(0, .ref (ad 0 (0))), (1, .int (iI (a))), (2, .int (iI (b))), (3, .int (iI (d))), (4, .ref oa)] := hl
  obtain ⟨⟨⟨hSX, hW⟩, hTX⟩, hO⟩ := hW
  have hS : va_S (Ao A oa) s.heap s.heap [] := va_S.rf
  have hF2 : F 2 ≤ 10 := hF 2
  have hF3 : F 3 ≤ 16 := hF 3
  have hF4 : F 4 ≤ 60 := hF 4
  have hF5 : F 5 ≤ 40 := hF 5
  have hF1 : F 1 ≤ 1439 := hF 1
  refine lv_aload hx hb dX0_stop_0 (lv_at hl 4 rfl) ?_
  refine lv_iconst (v := iI (0)) hx hb dX0_stop_2 rfl ?_
  refine lv_aload_n hx hb dX0_stop_3 rfl (lv_at hl 0 rfl) ?_
  refine lv_iload_n hx hb dX0_stop_4 rfl (lv_at hl 1 rfl) ?_
  refine lv_iload_n hx hb dX0_stop_5 rfl (lv_at hl 2 rfl) ?_
  refine lv_iload_n hx hb dX0_stop_6 rfl (lv_at hl 3 rfl) ?_
  refine T.catch1 (T.runV (As := [.int (iI (a)), .int (iI (b)), .int (iI (d))]) (rest := [.int (iI (0)), .ref oa]) ⟨hx, hb, hml, hown, hts⟩ (cc_X1_stop_t l hls D cA A sa ad F N Z E K hKb hF hN hZ hwf a b d ha hbad) (cwV 3 hts (lw_V q771 q772 q773 q42 q774) rfl rfl rfl (by decide +kernel) ⟨Nat.le_of_ble_eq_true rfl, Nat.le_of_ble_eq_true rfl⟩) (preVT hK hSX hTX va_S.rf hW.c0 rfl hW) rfl rfl hl.1 rfl (lv_room (Nat.le_of_ble_eq_true rfl)) dX0_stop_7 ⟨Nat.le_of_ble_eq_true rfl, Nat.le_of_ble_eq_true rfl⟩) hK rfl (va_Nw.use rfl (hK.2.2.2 _ q784 (Or.inr (Or.inl ⟨_, _, rfl⟩)))) hown (hts _ q770) htab (by decide) (by decide) (by decide) (fun x H1 hx1 hz hq => ?_)
  have hO := hO.kept (hq _ hO.lt)
  have hS : va_S (Ao A oa) s.heap H1 [] := hS.grow (by omega) (fun q h => hq q h)
  have hW := hW.keptL hF3 hN hz (fun k i hl => hq _ (hW.lt hF3 hN k i hl))
  refine lv_astore (lv' := [(5, .ref x), (0, .ref (ad 0 (0))), (1, .int (iI (a))), (2, .int (iI (b))), (3, .int (iI (d))), (4, .ref oa)]) hx hb dX0_stop_15 hl (by decide) rfl (fun ls hl => ?_)
  refine lv_iconst (v := iI (1)) hx hb dX0_stop_17 rfl ?_
  exact W.iret hx hb hr (fun tt htt hWm => ⟨⟨_, rfl, by rw [htt]; exact ⟨rfl, hW, hO⟩⟩, hS.F htt⟩) hS.2.2 dX0_stop_18

set_option maxHeartbeats 4000000 in
set_option maxRecDepth 100000 in
theorem hh_cancel_t (l : Launch) (hls : l.stackTraces = false) (D : va_G) (cA : Nat → ClassId) (A : Nat → Prop) (sa : Nat → Nat) (ad : Nat → Nat → Nat) (F : Nat → Nat) (N : Nat → Nat → Nat) (Z : Nat → Int) (E : Nat → Nat → Int) (K : Nat) (hKb : K ≤ 1000000) (hF : FB F) (hN : NB N) (hZ : ZB K Z) (hwf : WF F N) (oa : Nat) (g : Nat → Int64) (hoa : ¬ A oa) (a : Int) (ha : inR a) (hbad : ¬ (0 ≤ a ∧ a < F 3)) : Met l yX0_cancel (wsW_ yX0_cancel cX0_cancel 4 (some .int) [(0, 9, 12, 13)]) ({ frames := 11, cells := 1, slots := 6, locals := 266 }) (PH D cA A sa ad F N Z E oa g [.ref (ad 0 (0)), .int (iI (a)), .ref oa]) (Qi (fun z H' => z = 1 ∧ CW D cA A sa ad F N Z E H' ∧ OC D cA oa g H') (Ao A oa)) 1 6 (Ao A oa) := by
  refine va_MetW (cc := cX0_cancel) (maxL := 4) (ret := (some .int)) (hh := [(0, 9, 12, 13)]) (by decide) rfl ?_
  intro p e s m args below meth c s₁ B hml hv
  obtain ⟨rfl, hK, hW⟩ := hv
  have hx := B.exec
  have hb := B.bytes
  have hr := B.returns
  have hts := atoms_spec (ws := wsW_ yX0_cancel cX0_cancel 4 (some .int) [(0, 9, 12, 13)]) B.pre
  have htab := tab_of B (hts _ List.mem_cons_self)
  have hts : ∀ w ∈ lw_all, w.before _ s = true := fun w h => hts w (List.mem_cons_of_mem _ h)
  have hown : s.vm.findClass RX0 = some m.cls := findClass_of_methodNamed B.named
  have hlocks := B.notSynchronized
  have hl := lv_entry ([.ref (ad 0 (0)), .int (iI (a)), .ref oa]) (n := 4) (Nat.le_of_ble_eq_true rfl)
  rw [lg_entry_eq]
  generalize (lg_sl ([.ref (ad 0 (0)), .int (iI (a)), .ref oa]) ++ List.replicate (4 - (lg_sl ([.ref (ad 0 (0)), .int (iI (a)), .ref oa])).length) Slot.unset).toArray = ls at hl ⊢
  have hl : lv_has ls 4 [(0, .ref (ad 0 (0))), (1, .int (iI (a))), (2, .ref oa)] := hl
  obtain ⟨⟨⟨hSX, hW⟩, hTX⟩, hO⟩ := hW
  have hS : va_S (Ao A oa) s.heap s.heap [] := va_S.rf
  have hF2 : F 2 ≤ 10 := hF 2
  have hF3 : F 3 ≤ 16 := hF 3
  have hF4 : F 4 ≤ 60 := hF 4
  have hF5 : F 5 ≤ 40 := hF 5
  have hF1 : F 1 ≤ 1439 := hF 1
  refine lv_aload_n hx hb dX0_cancel_0 rfl (lv_at hl 2 rfl) ?_
  refine lv_iconst (v := iI (0)) hx hb dX0_cancel_1 rfl ?_
  refine lv_aload_n hx hb dX0_cancel_2 rfl (lv_at hl 0 rfl) ?_
  refine lv_iload_n hx hb dX0_cancel_3 rfl (lv_at hl 1 rfl) ?_
  refine T.catch1 (T.runV (As := [.int (iI (a))]) (rest := [.int (iI (0)), .ref oa]) ⟨hx, hb, hml, hown, hts⟩ (cc_X1_cancel_t l hls D cA A sa ad F N Z E K hKb hF hN hZ hwf a ha hbad) (cwV 1 hts (lw_V q846 q847 q848 q42 q849) rfl rfl rfl (by decide +kernel) ⟨Nat.le_of_ble_eq_true rfl, Nat.le_of_ble_eq_true rfl⟩) (preVT hK hSX hTX va_S.rf hW.c0 rfl hW) rfl rfl hl.1 rfl (lv_room (Nat.le_of_ble_eq_true rfl)) dX0_cancel_4 ⟨Nat.le_of_ble_eq_true rfl, Nat.le_of_ble_eq_true rfl⟩) hK rfl (va_Nw.use rfl (hK.2.2.2 _ q784 (Or.inr (Or.inl ⟨_, _, rfl⟩)))) hown (hts _ q770) htab (by decide) (by decide) (by decide) (fun x H1 hx1 hz hq => ?_)
  have hO := hO.kept (hq _ hO.lt)
  have hS : va_S (Ao A oa) s.heap H1 [] := hS.grow (by omega) (fun q h => hq q h)
  have hW := hW.keptL hF3 hN hz (fun k i hl => hq _ (hW.lt hF3 hN k i hl))
  refine lv_astore_n (lv' := [(3, .ref x), (0, .ref (ad 0 (0))), (1, .int (iI (a))), (2, .ref oa)]) hx hb dX0_cancel_12 rfl hl (by decide) rfl (fun ls hl => ?_)
  refine lv_iconst (v := iI (1)) hx hb dX0_cancel_13 rfl ?_
  exact W.iret hx hb hr (fun tt htt hWm => ⟨⟨_, rfl, by rw [htt]; exact ⟨rfl, hW, hO⟩⟩, hS.F htt⟩) hS.2.2 dX0_cancel_14

set_option maxHeartbeats 4000000 in
set_option maxRecDepth 100000 in
theorem hh_empty_t (l : Launch) (hls : l.stackTraces = false) (D : va_G) (cA : Nat → ClassId) (A : Nat → Prop) (sa : Nat → Nat) (ad : Nat → Nat → Nat) (F : Nat → Nat) (N : Nat → Nat → Nat) (Z : Nat → Int) (E : Nat → Nat → Int) (K : Nat) (hKb : K ≤ 1000000) (hF : FB F) (hN : NB N) (hZ : ZB K Z) (hwf : WF F N) (oa : Nat) (g : Nat → Int64) (hoa : ¬ A oa) (a b : Int) (ha : inR a) (hbad : ¬ (0 ≤ a ∧ a < F 4)) : Met l yX0_empty (wsW_ yX0_empty cX0_empty 5 (some .int) [(0, 17, 20, 13)]) ({ frames := 11, cells := 1, slots := 6, locals := 264 }) (PH D cA A sa ad F N Z E oa g [.ref (ad 0 (0)), .int (iI (a)), .int (iI (b)), .ref oa]) (Qi (fun z H' => z = 1 ∧ CW D cA A sa ad F N Z E H' ∧ OC D cA oa g H') (Ao A oa)) 1 6 (Ao A oa) := by
  refine va_MetW (cc := cX0_empty) (maxL := 5) (ret := (some .int)) (hh := [(0, 17, 20, 13)]) (by decide) rfl ?_
  intro p e s m args below meth c s₁ B hml hv
  obtain ⟨rfl, hK, hW⟩ := hv
  have hx := B.exec
  have hb := B.bytes
  have hr := B.returns
  have hts := atoms_spec (ws := wsW_ yX0_empty cX0_empty 5 (some .int) [(0, 17, 20, 13)]) B.pre
  have htab := tab_of B (hts _ List.mem_cons_self)
  have hts : ∀ w ∈ lw_all, w.before _ s = true := fun w h => hts w (List.mem_cons_of_mem _ h)
  have hown : s.vm.findClass RX0 = some m.cls := findClass_of_methodNamed B.named
  have hlocks := B.notSynchronized
  have hl := lv_entry ([.ref (ad 0 (0)), .int (iI (a)), .int (iI (b)), .ref oa]) (n := 5) (Nat.le_of_ble_eq_true rfl)
  rw [lg_entry_eq]
  generalize (lg_sl ([.ref (ad 0 (0)), .int (iI (a)), .int (iI (b)), .ref oa]) ++ List.replicate (5 - (lg_sl ([.ref (ad 0 (0)), .int (iI (a)), .int (iI (b)), .ref oa])).length) Slot.unset).toArray = ls at hl ⊢
  have hl : lv_has ls 5 [(0, .ref (ad 0 (0))), (1, .int (iI (a))), (2, .int (iI (b))), (3, .ref oa)] := hl
  obtain ⟨⟨⟨hSX, hW⟩, hTX⟩, hO⟩ := hW
  have hS : va_S (Ao A oa) s.heap s.heap [] := va_S.rf
  have hF2 : F 2 ≤ 10 := hF 2
  have hF3 : F 3 ≤ 16 := hF 3
  have hF4 : F 4 ≤ 60 := hF 4
  have hF5 : F 5 ≤ 40 := hF 5
  have hF1 : F 1 ≤ 1439 := hF 1
  refine lv_aload_n hx hb dX0_empty_0 rfl (lv_at hl 3 rfl) ?_
  refine lv_iconst (v := iI (0)) hx hb dX0_empty_1 rfl ?_
  refine lv_aload_n hx hb dX0_empty_2 rfl (lv_at hl 0 rfl) ?_
  refine lv_iload_n hx hb dX0_empty_3 rfl (lv_at hl 1 rfl) ?_
  refine lv_iload_n hx hb dX0_empty_4 rfl (lv_at hl 2 rfl) ?_
  refine T.catch1 (T.runV (As := [.int (iI (a)), .int (iI (b))]) (rest := [.int (iI (0)), .ref oa]) ⟨hx, hb, hml, hown, hts⟩ (cc_X1_empty_t l hls D cA A sa ad F N Z E K hKb hF hN hZ hwf a b ha hbad) (cwV 2 hts (lw_V q873 q874 q875 q42 q876) rfl rfl rfl (by decide +kernel) ⟨Nat.le_of_ble_eq_true rfl, Nat.le_of_ble_eq_true rfl⟩) (preVT hK hSX hTX va_S.rf hW.c0 rfl hW) rfl rfl hl.1 rfl (lv_room (Nat.le_of_ble_eq_true rfl)) dX0_empty_5 ⟨Nat.le_of_ble_eq_true rfl, Nat.le_of_ble_eq_true rfl⟩) hK rfl (va_Nw.use rfl (hK.2.2.2 _ q784 (Or.inr (Or.inl ⟨_, _, rfl⟩)))) hown (hts _ q770) htab (by decide) (by decide) (by decide) (fun x H1 hx1 hz hq => ?_)
  have hO := hO.kept (hq _ hO.lt)
  have hS : va_S (Ao A oa) s.heap H1 [] := hS.grow (by omega) (fun q h => hq q h)
  have hW := hW.keptL hF3 hN hz (fun k i hl => hq _ (hW.lt hF3 hN k i hl))
  refine lv_astore (lv' := [(4, .ref x), (0, .ref (ad 0 (0))), (1, .int (iI (a))), (2, .int (iI (b))), (3, .ref oa)]) hx hb dX0_empty_20 hl (by decide) rfl (fun ls hl => ?_)
  refine lv_iconst (v := iI (1)) hx hb dX0_empty_22 rfl ?_
  exact W.iret hx hb hr (fun tt htt hWm => ⟨⟨_, rfl, by rw [htt]; exact ⟨rfl, hW, hO⟩⟩, hS.F htt⟩) hS.2.2 dX0_empty_23

set_option maxHeartbeats 4000000 in
set_option maxRecDepth 100000 in
theorem hh_of_u (l : Launch) (hls : l.stackTraces = false) (D : va_G) (cA : Nat → ClassId) (A : Nat → Prop) (sa : Nat → Nat) (ad : Nat → Nat → Nat) (F : Nat → Nat) (N : Nat → Nat → Nat) (Z : Nat → Int) (E : Nat → Nat → Int) (K : Nat) (hKb : K ≤ 1000000) (hF : FB F) (hN : NB N) (hZ : ZB K Z) (hwf : WF F N) (oa : Nat) (g : Nat → Int64) (hoa : ¬ A oa) (b : Nat) (a : Int) (hb4 : b < F 4) (ha : inR a) (hbad : ¬ (0 ≤ a ∧ a ≤ 6)) : Met l yX0_of (wsW_ yX0_of cX0_of 5 (some .int) [(0, 10, 13, 13)]) ({ frames := 10, cells := 1, slots := 6, locals := 245 }) (PH D cA A sa ad F N Z E oa g [.ref (ad 0 (0)), .int (iI (b)), .int (iI (a)), .ref oa]) (Qi (fun z H' => z = 1 ∧ CW D cA A sa ad F N Z E H' ∧ OC D cA oa g H') (Ao A oa)) 1 6 (Ao A oa) := by
  refine va_MetW (cc := cX0_of) (maxL := 5) (ret := (some .int)) (hh := [(0, 10, 13, 13)]) (by decide) rfl ?_
  intro p e s m args below meth c s₁ B hml hv
  obtain ⟨rfl, hK, hW⟩ := hv
  have hx := B.exec
  have hb := B.bytes
  have hr := B.returns
  have hts := atoms_spec (ws := wsW_ yX0_of cX0_of 5 (some .int) [(0, 10, 13, 13)]) B.pre
  have htab := tab_of B (hts _ List.mem_cons_self)
  have hts : ∀ w ∈ lw_all, w.before _ s = true := fun w h => hts w (List.mem_cons_of_mem _ h)
  have hown : s.vm.findClass RX0 = some m.cls := findClass_of_methodNamed B.named
  have hlocks := B.notSynchronized
  have hl := lv_entry ([.ref (ad 0 (0)), .int (iI (b)), .int (iI (a)), .ref oa]) (n := 5) (Nat.le_of_ble_eq_true rfl)
  rw [lg_entry_eq]
  generalize (lg_sl ([.ref (ad 0 (0)), .int (iI (b)), .int (iI (a)), .ref oa]) ++ List.replicate (5 - (lg_sl ([.ref (ad 0 (0)), .int (iI (b)), .int (iI (a)), .ref oa])).length) Slot.unset).toArray = ls at hl ⊢
  have hl : lv_has ls 5 [(0, .ref (ad 0 (0))), (1, .int (iI (b))), (2, .int (iI (a))), (3, .ref oa)] := hl
  obtain ⟨⟨⟨hSX, hW⟩, hTX⟩, hO⟩ := hW
  have hS : va_S (Ao A oa) s.heap s.heap [] := va_S.rf
  have hF2 : F 2 ≤ 10 := hF 2
  have hF3 : F 3 ≤ 16 := hF 3
  have hF4 : F 4 ≤ 60 := hF 4
  have hF5 : F 5 ≤ 40 := hF 5
  have hF1 : F 1 ≤ 1439 := hF 1
  refine lv_aload_n hx hb dX0_of_0 rfl (lv_at hl 3 rfl) ?_
  refine lv_iconst (v := iI (0)) hx hb dX0_of_1 rfl ?_
  refine lv_aload_n hx hb dX0_of_2 rfl (lv_at hl 0 rfl) ?_
  refine lv_iload_n hx hb dX0_of_3 rfl (lv_at hl 1 rfl) ?_
  refine lv_iload_n hx hb dX0_of_4 rfl (lv_at hl 2 rfl) ?_
  refine T.catch1 (T.runV (As := [.int (iI (b)), .int (iI (a))]) (rest := [.int (iI (0)), .ref oa]) ⟨hx, hb, hml, hown, hts⟩ (cc_X1_of_u l hls D cA A sa ad F N Z E K hKb hF hN hZ hwf b a hb4 ha hbad) (cwV 2 hts (lw_V q891 q892 q893 q42 q894) rfl rfl rfl (by decide +kernel) ⟨Nat.le_of_ble_eq_true rfl, Nat.le_of_ble_eq_true rfl⟩) (preVT hK hSX hTX va_S.rf hW.c0 rfl hW) rfl rfl hl.1 rfl (lv_room (Nat.le_of_ble_eq_true rfl)) dX0_of_5 ⟨Nat.le_of_ble_eq_true rfl, Nat.le_of_ble_eq_true rfl⟩) hK rfl (va_Nw.use rfl (hK.2.2.2 _ q784 (Or.inr (Or.inl ⟨_, _, rfl⟩)))) hown (hts _ q770) htab (by decide) (by decide) (by decide) (fun x H1 hx1 hz hq => ?_)
  have hO := hO.kept (hq _ hO.lt)
  have hS : va_S (Ao A oa) s.heap H1 [] := hS.grow (by omega) (fun q h => hq q h)
  have hW := hW.keptL hF3 hN hz (fun k i hl => hq _ (hW.lt hF3 hN k i hl))
  refine lv_astore (lv' := [(4, .ref x), (0, .ref (ad 0 (0))), (1, .int (iI (b))), (2, .int (iI (a))), (3, .ref oa)]) hx hb dX0_of_13 hl (by decide) rfl (fun ls hl => ?_)
  refine lv_iconst (v := iI (1)) hx hb dX0_of_15 rfl ?_
  exact W.iret hx hb hr (fun tt htt hWm => ⟨⟨_, rfl, by rw [htt]; exact ⟨rfl, hW, hO⟩⟩, hS.F htt⟩) hS.2.2 dX0_of_16

set_option maxHeartbeats 4000000 in
set_option maxRecDepth 100000 in
theorem hh_load_u (l : Launch) (hls : l.stackTraces = false) (D : va_G) (cA : Nat → ClassId) (A : Nat → Prop) (sa : Nat → Nat) (ad : Nat → Nat → Nat) (F : Nat → Nat) (N : Nat → Nat → Nat) (Z : Nat → Int) (E : Nat → Nat → Int) (K : Nat) (hKb : K ≤ 1000000) (hF : FB F) (hN : NB N) (hZ : ZB K Z) (hwf : WF F N) (oa : Nat) (g : Nat → Int64) (hoa : ¬ A oa) (t : Nat) (a : Int) (ht : t < F 3) (ha : inR a) (hbad : ¬ (0 ≤ a ∧ a + 1 < N 8 t)) : Met l yX0_load (wsW_ yX0_load cX0_load 5 (some .int) [(0, 10, 13, 13)]) ({ frames := 10, cells := 1, slots := 6, locals := 243 }) (PH D cA A sa ad F N Z E oa g [.ref (ad 0 (0)), .int (iI (t)), .int (iI (a)), .ref oa]) (Qi (fun z H' => z = 1 ∧ CW D cA A sa ad F N Z E H' ∧ OC D cA oa g H') (Ao A oa)) 1 6 (Ao A oa) := by
  refine va_MetW (cc := cX0_load) (maxL := 5) (ret := (some .int)) (hh := [(0, 10, 13, 13)]) (by decide) rfl ?_
  intro p e s m args below meth c s₁ B hml hv
  obtain ⟨rfl, hK, hW⟩ := hv
  have hx := B.exec
  have hb := B.bytes
  have hr := B.returns
  have hts := atoms_spec (ws := wsW_ yX0_load cX0_load 5 (some .int) [(0, 10, 13, 13)]) B.pre
  have htab := tab_of B (hts _ List.mem_cons_self)
  have hts : ∀ w ∈ lw_all, w.before _ s = true := fun w h => hts w (List.mem_cons_of_mem _ h)
  have hown : s.vm.findClass RX0 = some m.cls := findClass_of_methodNamed B.named
  have hlocks := B.notSynchronized
  have hl := lv_entry ([.ref (ad 0 (0)), .int (iI (t)), .int (iI (a)), .ref oa]) (n := 5) (Nat.le_of_ble_eq_true rfl)
  rw [lg_entry_eq]
  generalize (lg_sl ([.ref (ad 0 (0)), .int (iI (t)), .int (iI (a)), .ref oa]) ++ List.replicate (5 - (lg_sl ([.ref (ad 0 (0)), .int (iI (t)), .int (iI (a)), .ref oa])).length) Slot.unset).toArray = ls at hl ⊢
  have hl : lv_has ls 5 [(0, .ref (ad 0 (0))), (1, .int (iI (t))), (2, .int (iI (a))), (3, .ref oa)] := hl
  obtain ⟨⟨⟨hSX, hW⟩, hTX⟩, hO⟩ := hW
  have hS : va_S (Ao A oa) s.heap s.heap [] := va_S.rf
  have hF2 : F 2 ≤ 10 := hF 2
  have hF3 : F 3 ≤ 16 := hF 3
  have hF4 : F 4 ≤ 60 := hF 4
  have hF5 : F 5 ≤ 40 := hF 5
  have hF1 : F 1 ≤ 1439 := hF 1
  refine lv_aload_n hx hb dX0_load_0 rfl (lv_at hl 3 rfl) ?_
  refine lv_iconst (v := iI (0)) hx hb dX0_load_1 rfl ?_
  refine lv_aload_n hx hb dX0_load_2 rfl (lv_at hl 0 rfl) ?_
  refine lv_iload_n hx hb dX0_load_3 rfl (lv_at hl 1 rfl) ?_
  refine lv_iload_n hx hb dX0_load_4 rfl (lv_at hl 2 rfl) ?_
  refine T.catch1 (T.runV (As := [.int (iI (t)), .int (iI (a))]) (rest := [.int (iI (0)), .ref oa]) ⟨hx, hb, hml, hown, hts⟩ (cc_X1_load_u l hls D cA A sa ad F N Z E K hKb hF hN hZ hwf t a ht ha hbad) (cwV 2 hts (lw_V q914 q915 q916 q42 q917) rfl rfl rfl (by decide +kernel) ⟨Nat.le_of_ble_eq_true rfl, Nat.le_of_ble_eq_true rfl⟩) (preVT hK hSX hTX va_S.rf hW.c0 rfl hW) rfl rfl hl.1 rfl (lv_room (Nat.le_of_ble_eq_true rfl)) dX0_load_5 ⟨Nat.le_of_ble_eq_true rfl, Nat.le_of_ble_eq_true rfl⟩) hK rfl (va_Nw.use rfl (hK.2.2.2 _ q784 (Or.inr (Or.inl ⟨_, _, rfl⟩)))) hown (hts _ q770) htab (by decide) (by decide) (by decide) (fun x H1 hx1 hz hq => ?_)
  have hO := hO.kept (hq _ hO.lt)
  have hS : va_S (Ao A oa) s.heap H1 [] := hS.grow (by omega) (fun q h => hq q h)
  have hW := hW.keptL hF3 hN hz (fun k i hl => hq _ (hW.lt hF3 hN k i hl))
  refine lv_astore (lv' := [(4, .ref x), (0, .ref (ad 0 (0))), (1, .int (iI (t))), (2, .int (iI (a))), (3, .ref oa)]) hx hb dX0_load_13 hl (by decide) rfl (fun ls hl => ?_)
  refine lv_iconst (v := iI (1)) hx hb dX0_load_15 rfl ?_
  exact W.iret hx hb hr (fun tt htt hWm => ⟨⟨_, rfl, by rw [htt]; exact ⟨rfl, hW, hO⟩⟩, hS.F htt⟩) hS.2.2 dX0_load_16

set_option maxHeartbeats 4000000 in
set_option maxRecDepth 100000 in
theorem hh_leg_u (l : Launch) (hls : l.stackTraces = false) (D : va_G) (cA : Nat → ClassId) (A : Nat → Prop) (sa : Nat → Nat) (ad : Nat → Nat → Nat) (F : Nat → Nat) (N : Nat → Nat → Nat) (Z : Nat → Int) (E : Nat → Nat → Int) (K : Nat) (hKb : K ≤ 1000000) (hF : FB F) (hN : NB N) (hZ : ZB K Z) (hwf : WF F N) (oa : Nat) (g : Nat → Int64) (hoa : ¬ A oa) (b : Nat) (a v : Int) (hb4 : b < F 4) (ha : inR a) (hv : inR v) (hbad : ¬ (0 ≤ a ∧ a < (N 24 (2 * b) + (if N 21 b = 0 then 0 else N 24 (2 * b + 1)) : Nat) ∧ 0 ≤ v ∧ v ≤ 2)) : Met l yX0_leg (wsW_ yX0_leg cX0_leg 6 (some .int) [(0, 12, 15, 13)]) ({ frames := 10, cells := 1, slots := 6, locals := 247 }) (PH D cA A sa ad F N Z E oa g [.ref (ad 0 (0)), .int (iI (b)), .int (iI (a)), .int (iI (v)), .ref oa]) (Qi (fun z H' => z = 1 ∧ CW D cA A sa ad F N Z E H' ∧ OC D cA oa g H') (Ao A oa)) 1 6 (Ao A oa) := by
  refine va_MetW (cc := cX0_leg) (maxL := 6) (ret := (some .int)) (hh := [(0, 12, 15, 13)]) (by decide) rfl ?_
  intro p e s m args below meth c s₁ B hml hv
  obtain ⟨rfl, hK, hW⟩ := hv
  have hx := B.exec
  have hb := B.bytes
  have hr := B.returns
  have hts := atoms_spec (ws := wsW_ yX0_leg cX0_leg 6 (some .int) [(0, 12, 15, 13)]) B.pre
  have htab := tab_of B (hts _ List.mem_cons_self)
  have hts : ∀ w ∈ lw_all, w.before _ s = true := fun w h => hts w (List.mem_cons_of_mem _ h)
  have hown : s.vm.findClass RX0 = some m.cls := findClass_of_methodNamed B.named
  have hlocks := B.notSynchronized
  have hl := lv_entry ([.ref (ad 0 (0)), .int (iI (b)), .int (iI (a)), .int (iI (v)), .ref oa]) (n := 6) (Nat.le_of_ble_eq_true rfl)
  rw [lg_entry_eq]
  generalize (lg_sl ([.ref (ad 0 (0)), .int (iI (b)), .int (iI (a)), .int (iI (v)), .ref oa]) ++ List.replicate (6 - (lg_sl ([.ref (ad 0 (0)), .int (iI (b)), .int (iI (a)), .int (iI (v)), .ref oa])).length) Slot.unset).toArray = ls at hl ⊢
  have hl : lv_has ls 6 [(0, .ref (ad 0 (0))), (1, .int (iI (b))), (2, .int (iI (a))), (3, .int (iI (v))), (4, .ref oa)] := hl
  obtain ⟨⟨⟨hSX, hW⟩, hTX⟩, hO⟩ := hW
  have hS : va_S (Ao A oa) s.heap s.heap [] := va_S.rf
  have hF2 : F 2 ≤ 10 := hF 2
  have hF3 : F 3 ≤ 16 := hF 3
  have hF4 : F 4 ≤ 60 := hF 4
  have hF5 : F 5 ≤ 40 := hF 5
  have hF1 : F 1 ≤ 1439 := hF 1
  refine lv_aload hx hb dX0_leg_0 (lv_at hl 4 rfl) ?_
  refine lv_iconst (v := iI (0)) hx hb dX0_leg_2 rfl ?_
  refine lv_aload_n hx hb dX0_leg_3 rfl (lv_at hl 0 rfl) ?_
  refine lv_iload_n hx hb dX0_leg_4 rfl (lv_at hl 1 rfl) ?_
  refine lv_iload_n hx hb dX0_leg_5 rfl (lv_at hl 2 rfl) ?_
  refine lv_iload_n hx hb dX0_leg_6 rfl (lv_at hl 3 rfl) ?_
  refine T.catch1 (T.runV (As := [.int (iI (b)), .int (iI (a)), .int (iI (v))]) (rest := [.int (iI (0)), .ref oa]) ⟨hx, hb, hml, hown, hts⟩ (cc_X1_leg_u l hls D cA A sa ad F N Z E K hKb hF hN hZ hwf b a v hb4 ha hv hbad) (cwV 3 hts (lw_V q907 q908 q909 q42 q910) rfl rfl rfl (by decide +kernel) ⟨Nat.le_of_ble_eq_true rfl, Nat.le_of_ble_eq_true rfl⟩) (preVT hK hSX hTX va_S.rf hW.c0 rfl hW) rfl rfl hl.1 rfl (lv_room (Nat.le_of_ble_eq_true rfl)) dX0_leg_7 ⟨Nat.le_of_ble_eq_true rfl, Nat.le_of_ble_eq_true rfl⟩) hK rfl (va_Nw.use rfl (hK.2.2.2 _ q784 (Or.inr (Or.inl ⟨_, _, rfl⟩)))) hown (hts _ q770) htab (by decide) (by decide) (by decide) (fun x H1 hx1 hz hq => ?_)
  have hO := hO.kept (hq _ hO.lt)
  have hS : va_S (Ao A oa) s.heap H1 [] := hS.grow (by omega) (fun q h => hq q h)
  have hW := hW.keptL hF3 hN hz (fun k i hl => hq _ (hW.lt hF3 hN k i hl))
  refine lv_astore (lv' := [(5, .ref x), (0, .ref (ad 0 (0))), (1, .int (iI (b))), (2, .int (iI (a))), (3, .int (iI (v))), (4, .ref oa)]) hx hb dX0_leg_15 hl (by decide) rfl (fun ls hl => ?_)
  refine lv_iconst (v := iI (1)) hx hb dX0_leg_17 rfl ?_
  exact W.iret hx hb hr (fun tt htt hWm => ⟨⟨_, rfl, by rw [htt]; exact ⟨rfl, hW, hO⟩⟩, hS.F htt⟩) hS.2.2 dX0_leg_18

set_option maxHeartbeats 4000000 in
set_option maxRecDepth 100000 in
theorem hh_minutes_t (l : Launch) (hls : l.stackTraces = false) (D : va_G) (cA : Nat → ClassId) (A : Nat → Prop) (sa : Nat → Nat) (ad : Nat → Nat → Nat) (F : Nat → Nat) (N : Nat → Nat → Nat) (Z : Nat → Int) (E : Nat → Nat → Int) (K : Nat) (hKb : K ≤ 1000000) (hF : FB F) (hN : NB N) (hZ : ZB K Z) (hwf : WF F N) (oa : Nat) (g : Nat → Int64) (hoa : ¬ A oa) (a : Int) (ha : inR a) (hbad : ¬ (0 ≤ a ∧ a + F 1 ≤ 1439)) : Met l yX0_minutes (wsW_ yX0_minutes cX0_minutes 4 (some .int) [(0, 9, 12, 19)]) ({ frames := 10, cells := 1, slots := 6, locals := 241 }) (PH D cA A sa ad F N Z E oa g [.ref (ad 0 (0)), .int (iI (a)), .ref oa]) (Qi (fun z H' => z = 1 ∧ CW D cA A sa ad F N Z E H' ∧ OC D cA oa g H') (Ao A oa)) 1 6 (Ao A oa) := by
  refine va_MetW (cc := cX0_minutes) (maxL := 4) (ret := (some .int)) (hh := [(0, 9, 12, 19)]) (by decide) rfl ?_
  intro p e s m args below meth c s₁ B hml hv
  obtain ⟨rfl, hK, hW⟩ := hv
  have hx := B.exec
  have hb := B.bytes
  have hr := B.returns
  have hts := atoms_spec (ws := wsW_ yX0_minutes cX0_minutes 4 (some .int) [(0, 9, 12, 19)]) B.pre
  have htab := tab_of B (hts _ List.mem_cons_self)
  have hts : ∀ w ∈ lw_all, w.before _ s = true := fun w h => hts w (List.mem_cons_of_mem _ h)
  have hown : s.vm.findClass RX0 = some m.cls := findClass_of_methodNamed B.named
  have hlocks := B.notSynchronized
  have hl := lv_entry ([.ref (ad 0 (0)), .int (iI (a)), .ref oa]) (n := 4) (Nat.le_of_ble_eq_true rfl)
  rw [lg_entry_eq]
  generalize (lg_sl ([.ref (ad 0 (0)), .int (iI (a)), .ref oa]) ++ List.replicate (4 - (lg_sl ([.ref (ad 0 (0)), .int (iI (a)), .ref oa])).length) Slot.unset).toArray = ls at hl ⊢
  have hl : lv_has ls 4 [(0, .ref (ad 0 (0))), (1, .int (iI (a))), (2, .ref oa)] := hl
  obtain ⟨⟨⟨hSX, hW⟩, hTX⟩, hO⟩ := hW
  have hS : va_S (Ao A oa) s.heap s.heap [] := va_S.rf
  have hF2 : F 2 ≤ 10 := hF 2
  have hF3 : F 3 ≤ 16 := hF 3
  have hF4 : F 4 ≤ 60 := hF 4
  have hF5 : F 5 ≤ 40 := hF 5
  have hF1 : F 1 ≤ 1439 := hF 1
  refine lv_aload_n hx hb dX0_minutes_0 rfl (lv_at hl 2 rfl) ?_
  refine lv_iconst (v := iI (0)) hx hb dX0_minutes_1 rfl ?_
  refine lv_aload_n hx hb dX0_minutes_2 rfl (lv_at hl 0 rfl) ?_
  refine lv_iload_n hx hb dX0_minutes_3 rfl (lv_at hl 1 rfl) ?_
  refine T.catch1 (T.runV (As := [.int (iI (a))]) (rest := [.int (iI (0)), .ref oa]) ⟨hx, hb, hml, hown, hts⟩ (cc_X1_minutes_t l hls D cA A sa ad F N Z E K hKb hF hN hZ hwf a ha hbad) (cwV 1 hts (lw_V q831 q832 q833 q42 q834) rfl rfl rfl (by decide +kernel) ⟨Nat.le_of_ble_eq_true rfl, Nat.le_of_ble_eq_true rfl⟩) (preVT hK hSX hTX va_S.rf hW.c0 rfl hW) rfl rfl hl.1 rfl (lv_room (Nat.le_of_ble_eq_true rfl)) dX0_minutes_4 ⟨Nat.le_of_ble_eq_true rfl, Nat.le_of_ble_eq_true rfl⟩) hK rfl (va_Nw.use rfl (hK.2.2.2 _ q100 (Or.inr (Or.inl ⟨_, _, rfl⟩)))) hown (hts _ q830) htab (by decide) (by decide) (by decide) (fun x H1 hx1 hz hq => ?_)
  have hO := hO.kept (hq _ hO.lt)
  have hS : va_S (Ao A oa) s.heap H1 [] := hS.grow (by omega) (fun q h => hq q h)
  have hW := hW.keptL hF3 hN hz (fun k i hl => hq _ (hW.lt hF3 hN k i hl))
  refine lv_astore_n (lv' := [(3, .ref x), (0, .ref (ad 0 (0))), (1, .int (iI (a))), (2, .ref oa)]) hx hb dX0_minutes_12 rfl hl (by decide) rfl (fun ls hl => ?_)
  refine lv_iconst (v := iI (1)) hx hb dX0_minutes_13 rfl ?_
  exact W.iret hx hb hr (fun tt htt hWm => ⟨⟨_, rfl, by rw [htt]; exact ⟨rfl, hW, hO⟩⟩, hS.F htt⟩) hS.2.2 dX0_minutes_14

set_option maxHeartbeats 4000000 in
set_option maxRecDepth 100000 in
theorem hh_count_t (l : Launch) (hls : l.stackTraces = false) (D : va_G) (cA : Nat → ClassId) (A : Nat → Prop) (sa : Nat → Nat) (ad : Nat → Nat → Nat) (F : Nat → Nat) (N : Nat → Nat → Nat) (Z : Nat → Int) (E : Nat → Nat → Int) (K : Nat) (hKb : K ≤ 1000000) (hF : FB F) (hN : NB N) (hZ : ZB K Z) (hwf : WF F N) (oa : Nat) (g : Nat → Int64) (hoa : ¬ A oa) (a : Int) (ha : inR a) (hbad : ¬ (0 ≤ a ∧ a ≤ 7)) : Met l yX0_count (wsW_ yX0_count cX0_count 4 (some .int) [(0, 9, 12, 13)]) ({ frames := 10, cells := 1, slots := 6, locals := 243 }) (PH D cA A sa ad F N Z E oa g [.ref (ad 0 (0)), .int (iI (a)), .ref oa]) (Qi (fun z H' => z = 1 ∧ CW D cA A sa ad F N Z E H' ∧ OC D cA oa g H') (Ao A oa)) 1 6 (Ao A oa) := by
  refine va_MetW (cc := cX0_count) (maxL := 4) (ret := (some .int)) (hh := [(0, 9, 12, 13)]) (by decide) rfl ?_
  intro p e s m args below meth c s₁ B hml hv
  obtain ⟨rfl, hK, hW⟩ := hv
  have hx := B.exec
  have hb := B.bytes
  have hr := B.returns
  have hts := atoms_spec (ws := wsW_ yX0_count cX0_count 4 (some .int) [(0, 9, 12, 13)]) B.pre
  have htab := tab_of B (hts _ List.mem_cons_self)
  have hts : ∀ w ∈ lw_all, w.before _ s = true := fun w h => hts w (List.mem_cons_of_mem _ h)
  have hown : s.vm.findClass RX0 = some m.cls := findClass_of_methodNamed B.named
  have hlocks := B.notSynchronized
  have hl := lv_entry ([.ref (ad 0 (0)), .int (iI (a)), .ref oa]) (n := 4) (Nat.le_of_ble_eq_true rfl)
  rw [lg_entry_eq]
  generalize (lg_sl ([.ref (ad 0 (0)), .int (iI (a)), .ref oa]) ++ List.replicate (4 - (lg_sl ([.ref (ad 0 (0)), .int (iI (a)), .ref oa])).length) Slot.unset).toArray = ls at hl ⊢
  have hl : lv_has ls 4 [(0, .ref (ad 0 (0))), (1, .int (iI (a))), (2, .ref oa)] := hl
  obtain ⟨⟨⟨hSX, hW⟩, hTX⟩, hO⟩ := hW
  have hS : va_S (Ao A oa) s.heap s.heap [] := va_S.rf
  have hF2 : F 2 ≤ 10 := hF 2
  have hF3 : F 3 ≤ 16 := hF 3
  have hF4 : F 4 ≤ 60 := hF 4
  have hF5 : F 5 ≤ 40 := hF 5
  have hF1 : F 1 ≤ 1439 := hF 1
  refine lv_aload_n hx hb dX0_count_0 rfl (lv_at hl 2 rfl) ?_
  refine lv_iconst (v := iI (0)) hx hb dX0_count_1 rfl ?_
  refine lv_aload_n hx hb dX0_count_2 rfl (lv_at hl 0 rfl) ?_
  refine lv_iload_n hx hb dX0_count_3 rfl (lv_at hl 1 rfl) ?_
  refine T.catch1 (T.runV (As := [.int (iI (a))]) (rest := [.int (iI (0)), .ref oa]) ⟨hx, hb, hml, hown, hts⟩ (cc_X1_count_t l hls D cA A sa ad F N Z E K hKb hF hN hZ hwf a ha hbad) (cwV 1 hts (lw_V q964 q965 q966 q42 q967) rfl rfl rfl (by decide +kernel) ⟨Nat.le_of_ble_eq_true rfl, Nat.le_of_ble_eq_true rfl⟩) (preVT hK hSX hTX va_S.rf hW.c0 rfl hW) rfl rfl hl.1 rfl (lv_room (Nat.le_of_ble_eq_true rfl)) dX0_count_4 ⟨Nat.le_of_ble_eq_true rfl, Nat.le_of_ble_eq_true rfl⟩) hK rfl (va_Nw.use rfl (hK.2.2.2 _ q784 (Or.inr (Or.inl ⟨_, _, rfl⟩)))) hown (hts _ q770) htab (by decide) (by decide) (by decide) (fun x H1 hx1 hz hq => ?_)
  have hO := hO.kept (hq _ hO.lt)
  have hS : va_S (Ao A oa) s.heap H1 [] := hS.grow (by omega) (fun q h => hq q h)
  have hW := hW.keptL hF3 hN hz (fun k i hl => hq _ (hW.lt hF3 hN k i hl))
  refine lv_astore_n (lv' := [(3, .ref x), (0, .ref (ad 0 (0))), (1, .int (iI (a))), (2, .ref oa)]) hx hb dX0_count_12 rfl hl (by decide) rfl (fun ls hl => ?_)
  refine lv_iconst (v := iI (1)) hx hb dX0_count_13 rfl ?_
  exact W.iret hx hb hr (fun tt htt hWm => ⟨⟨_, rfl, by rw [htt]; exact ⟨rfl, hW, hO⟩⟩, hS.F htt⟩) hS.2.2 dX0_count_14

set_option maxHeartbeats 4000000 in
set_option maxRecDepth 100000 in
theorem hh_share_t (l : Launch) (hls : l.stackTraces = false) (D : va_G) (cA : Nat → ClassId) (A : Nat → Prop) (sa : Nat → Nat) (ad : Nat → Nat → Nat) (F : Nat → Nat) (N : Nat → Nat → Nat) (Z : Nat → Int) (E : Nat → Nat → Int) (K : Nat) (hKb : K ≤ 1000000) (hF : FB F) (hN : NB N) (hZ : ZB K Z) (hwf : WF F N) (oa : Nat) (g : Nat → Int64) (hoa : ¬ A oa) (a b : Int) (ha : inR a) (hbad : ¬ (0 ≤ a ∧ a < F 5)) : Met l yX0_share (wsW_ yX0_share cX0_share 5 (some .int) [(0, 10, 13, 13), (0, 10, 17, 19)]) ({ frames := 10, cells := 1, slots := 6, locals := 251 }) (PH D cA A sa ad F N Z E oa g [.ref (ad 0 (0)), .int (iI (a)), .int (iI (b)), .ref oa]) (Qi (fun z H' => z = 1 ∧ CW D cA A sa ad F N Z E H' ∧ OC D cA oa g H') (Ao A oa)) 1 6 (Ao A oa) := by
  refine va_MetW (cc := cX0_share) (maxL := 5) (ret := (some .int)) (hh := [(0, 10, 13, 13), (0, 10, 17, 19)]) (by decide) rfl ?_
  intro p e s m args below meth c s₁ B hml hv
  obtain ⟨rfl, hK, hW⟩ := hv
  have hx := B.exec
  have hb := B.bytes
  have hr := B.returns
  have hts := atoms_spec (ws := wsW_ yX0_share cX0_share 5 (some .int) [(0, 10, 13, 13), (0, 10, 17, 19)]) B.pre
  have htab := tab_of B (hts _ List.mem_cons_self)
  have hts : ∀ w ∈ lw_all, w.before _ s = true := fun w h => hts w (List.mem_cons_of_mem _ h)
  have hown : s.vm.findClass RX0 = some m.cls := findClass_of_methodNamed B.named
  have hlocks := B.notSynchronized
  have hl := lv_entry ([.ref (ad 0 (0)), .int (iI (a)), .int (iI (b)), .ref oa]) (n := 5) (Nat.le_of_ble_eq_true rfl)
  rw [lg_entry_eq]
  generalize (lg_sl ([.ref (ad 0 (0)), .int (iI (a)), .int (iI (b)), .ref oa]) ++ List.replicate (5 - (lg_sl ([.ref (ad 0 (0)), .int (iI (a)), .int (iI (b)), .ref oa])).length) Slot.unset).toArray = ls at hl ⊢
  have hl : lv_has ls 5 [(0, .ref (ad 0 (0))), (1, .int (iI (a))), (2, .int (iI (b))), (3, .ref oa)] := hl
  obtain ⟨⟨⟨hSX, hW⟩, hTX⟩, hO⟩ := hW
  have hS : va_S (Ao A oa) s.heap s.heap [] := va_S.rf
  have hF2 : F 2 ≤ 10 := hF 2
  have hF3 : F 3 ≤ 16 := hF 3
  have hF4 : F 4 ≤ 60 := hF 4
  have hF5 : F 5 ≤ 40 := hF 5
  have hF1 : F 1 ≤ 1439 := hF 1
  refine lv_aload_n hx hb dX0_share_0 rfl (lv_at hl 3 rfl) ?_
  refine lv_iconst (v := iI (0)) hx hb dX0_share_1 rfl ?_
  refine lv_aload_n hx hb dX0_share_2 rfl (lv_at hl 0 rfl) ?_
  refine lv_iload_n hx hb dX0_share_3 rfl (lv_at hl 1 rfl) ?_
  refine lv_iload_n hx hb dX0_share_4 rfl (lv_at hl 2 rfl) ?_
  refine T.catch1 (T.runV (As := [.int (iI (a)), .int (iI (b))]) (rest := [.int (iI (0)), .ref oa]) ⟨hx, hb, hml, hown, hts⟩ (cc_X1_share_t l hls D cA A sa ad F N Z E K hKb hF hN hZ hwf a b ha hbad) (cwV 2 hts (lw_V q951 q952 q953 q42 q954) rfl rfl rfl (by decide +kernel) ⟨Nat.le_of_ble_eq_true rfl, Nat.le_of_ble_eq_true rfl⟩) (preVT hK hSX hTX va_S.rf hW.c0 rfl hW) rfl rfl hl.1 rfl (lv_room (Nat.le_of_ble_eq_true rfl)) dX0_share_5 ⟨Nat.le_of_ble_eq_true rfl, Nat.le_of_ble_eq_true rfl⟩) hK rfl (va_Nw.use rfl (hK.2.2.2 _ q784 (Or.inr (Or.inl ⟨_, _, rfl⟩)))) hown (hts _ q770) htab (by decide) (by decide) (by decide) (fun x H1 hx1 hz hq => ?_)
  have hO := hO.kept (hq _ hO.lt)
  have hS : va_S (Ao A oa) s.heap H1 [] := hS.grow (by omega) (fun q h => hq q h)
  have hW := hW.keptL hF3 hN hz (fun k i hl => hq _ (hW.lt hF3 hN k i hl))
  refine lv_astore (lv' := [(4, .ref x), (0, .ref (ad 0 (0))), (1, .int (iI (a))), (2, .int (iI (b))), (3, .ref oa)]) hx hb dX0_share_13 hl (by decide) rfl (fun ls hl => ?_)
  refine lv_iconst (v := iI (1)) hx hb dX0_share_15 rfl ?_
  exact W.iret hx hb hr (fun tt htt hWm => ⟨⟨_, rfl, by rw [htt]; exact ⟨rfl, hW, hO⟩⟩, hS.F htt⟩) hS.2.2 dX0_share_16

set_option maxHeartbeats 4000000 in
set_option maxRecDepth 100000 in
theorem hh_share_u (l : Launch) (hls : l.stackTraces = false) (D : va_G) (cA : Nat → ClassId) (A : Nat → Prop) (sa : Nat → Nat) (ad : Nat → Nat → Nat) (F : Nat → Nat) (N : Nat → Nat → Nat) (Z : Nat → Int) (E : Nat → Nat → Int) (K : Nat) (hKb : K ≤ 1000000) (hF : FB F) (hN : NB N) (hZ : ZB K Z) (hwf : WF F N) (oa : Nat) (g : Nat → Int64) (hoa : ¬ A oa) (cv : Nat) (a : Int) (hc5 : cv < F 5) (ha : inR a) (hbad : ¬ (0 ≤ a ∧ a ≤ 10000000)) : Met l yX0_share (wsW_ yX0_share cX0_share 5 (some .int) [(0, 10, 13, 13), (0, 10, 17, 19)]) ({ frames := 10, cells := 1, slots := 6, locals := 251 }) (PHn D cA A sa ad F N Z E oa g [.ref (ad 0 (0)), .int (iI (cv)), .int (iI (a)), .ref oa]) (Qi (fun z H' => z = 2 ∧ CW D cA A sa ad F N Z E H' ∧ OC D cA oa g H') (Ao A oa)) 1 6 (Ao A oa) := by
  refine va_MetW (cc := cX0_share) (maxL := 5) (ret := (some .int)) (hh := [(0, 10, 13, 13), (0, 10, 17, 19)]) (by decide) rfl ?_
  intro p e s m args below meth c s₁ B hml hv
  obtain ⟨rfl, hK, hW⟩ := hv
  have hx := B.exec
  have hb := B.bytes
  have hr := B.returns
  have hts := atoms_spec (ws := wsW_ yX0_share cX0_share 5 (some .int) [(0, 10, 13, 13), (0, 10, 17, 19)]) B.pre
  have htab := tab_of B (hts _ List.mem_cons_self)
  have hts : ∀ w ∈ lw_all, w.before _ s = true := fun w h => hts w (List.mem_cons_of_mem _ h)
  have hown : s.vm.findClass RX0 = some m.cls := findClass_of_methodNamed B.named
  have hlocks := B.notSynchronized
  have hl := lv_entry ([.ref (ad 0 (0)), .int (iI (cv)), .int (iI (a)), .ref oa]) (n := 5) (Nat.le_of_ble_eq_true rfl)
  rw [lg_entry_eq]
  generalize (lg_sl ([.ref (ad 0 (0)), .int (iI (cv)), .int (iI (a)), .ref oa]) ++ List.replicate (5 - (lg_sl ([.ref (ad 0 (0)), .int (iI (cv)), .int (iI (a)), .ref oa])).length) Slot.unset).toArray = ls at hl ⊢
  have hl : lv_has ls 5 [(0, .ref (ad 0 (0))), (1, .int (iI (cv))), (2, .int (iI (a))), (3, .ref oa)] := hl
  obtain ⟨⟨⟨⟨hSX, hW⟩, hTX⟩, hO⟩, hNc⟩ := hW
  have hS : va_S (Ao A oa) s.heap s.heap [] := va_S.rf
  have hF2 : F 2 ≤ 10 := hF 2
  have hF3 : F 3 ≤ 16 := hF 3
  have hF4 : F 4 ≤ 60 := hF 4
  have hF5 : F 5 ≤ 40 := hF 5
  have hF1 : F 1 ≤ 1439 := hF 1
  refine lv_aload_n hx hb dX0_share_0 rfl (lv_at hl 3 rfl) ?_
  refine lv_iconst (v := iI (0)) hx hb dX0_share_1 rfl ?_
  refine lv_aload_n hx hb dX0_share_2 rfl (lv_at hl 0 rfl) ?_
  refine lv_iload_n hx hb dX0_share_3 rfl (lv_at hl 1 rfl) ?_
  refine lv_iload_n hx hb dX0_share_4 rfl (lv_at hl 2 rfl) ?_
  refine T.catch2 (cj := 10) (r := (RJ18, TJ18, 6)) (T.runV (As := [.int (iI (cv)), .int (iI (a))]) (rest := [.int (iI (0)), .ref oa]) ⟨hx, hb, hml, hown, hts⟩ (cc_X1_share_u l hls D cA A sa ad F N Z E K hKb hF hN hZ hwf cv a hc5 ha hbad) (cwV 2 hts (lw_V q951 q952 q953 q42 q954) rfl rfl rfl (by decide +kernel) ⟨Nat.le_of_ble_eq_true rfl, Nat.le_of_ble_eq_true rfl⟩) (preVT hK hSX hTX va_S.rf hW.c0 rfl hW) rfl rfl hl.1 rfl (lv_room (Nat.le_of_ble_eq_true rfl)) dX0_share_5 ⟨Nat.le_of_ble_eq_true rfl, Nat.le_of_ble_eq_true rfl⟩) hK rfl rfl (va_Nw.use rfl (hK.2.2.2 _ q100 (Or.inr (Or.inl ⟨_, _, rfl⟩)))) hNc hown (hts _ q770) (hts _ q830) htab (by decide) (by decide) (by decide) (by decide) (fun x H1 hx1 hz hq => ?_)
  have hO := hO.kept (hq _ hO.lt)
  have hS : va_S (Ao A oa) s.heap H1 [] := hS.grow (by omega) (fun q h => hq q h)
  have hW := hW.keptL hF3 hN hz (fun k i hl => hq _ (hW.lt hF3 hN k i hl))
  refine lv_astore (lv' := [(4, .ref x), (0, .ref (ad 0 (0))), (1, .int (iI (cv))), (2, .int (iI (a))), (3, .ref oa)]) hx hb dX0_share_17 hl (by decide) rfl (fun ls hl => ?_)
  refine lv_iconst (v := iI (2)) hx hb dX0_share_19 rfl ?_
  exact W.iret hx hb hr (fun tt htt hWm => ⟨⟨_, rfl, by rw [htt]; exact ⟨rfl, hW, hO⟩⟩, hS.F htt⟩) hS.2.2 dX0_share_20

set_option maxHeartbeats 4000000 in
set_option maxRecDepth 100000 in
theorem hh_leg (l : Launch) (D : va_G) (cA : Nat → ClassId) (A : Nat → Prop) (sa : Nat → Nat) (ad : Nat → Nat → Nat) (F : Nat → Nat) (N : Nat → Nat → Nat) (Z : Nat → Int) (E : Nat → Nat → Int) (K : Nat) (hKb : K ≤ 1000000) (hF : FB F) (hN : NB N) (hZ : ZB K Z) (hwf : WF F N) (oa : Nat) (g : Nat → Int64) (hoa : ¬ A oa) (b i v : Nat) (hb4 : b < F 4) (hi : i < N 24 (2 * b) + (if N 21 b = 0 then 0 else N 24 (2 * b + 1))) (hv2 : v ≤ 2) : Met l yX0_leg (wsW_ yX0_leg cX0_leg 6 (some .int) [(0, 12, 15, 13)]) ({ frames := 6, cells := 0, slots := 0, locals := 152 }) (PH D cA A sa ad F N Z E oa g [.ref (ad 0 (0)), .int (iI (b)), .int (iI (i)), .int (iI (v)), .ref oa]) (Qi (fun z H' => z = 0 ∧ CW D cA A sa ad F N Z E H' ∧ OC D cA oa (va_up g 0 ((iI (legW N b i v)).toInt64)) H') (Ao A oa)) 0 0 (Ao A oa) := by
  refine va_MetW (cc := cX0_leg) (maxL := 6) (ret := (some .int)) (hh := [(0, 12, 15, 13)]) (by decide) rfl ?_
  intro p e s m args below meth c s₁ B hml hv
  obtain ⟨rfl, hK, hW⟩ := hv
  have hx := B.exec
  have hb := B.bytes
  have hr := B.returns
  have hts := atoms_spec (ws := wsW_ yX0_leg cX0_leg 6 (some .int) [(0, 12, 15, 13)]) B.pre
  have htab := tab_of B (hts _ List.mem_cons_self)
  have hts : ∀ w ∈ lw_all, w.before _ s = true := fun w h => hts w (List.mem_cons_of_mem _ h)
  have hown : s.vm.findClass RX0 = some m.cls := findClass_of_methodNamed B.named
  have hlocks := B.notSynchronized
  have hl := lv_entry ([.ref (ad 0 (0)), .int (iI (b)), .int (iI (i)), .int (iI (v)), .ref oa]) (n := 6) (Nat.le_of_ble_eq_true rfl)
  rw [lg_entry_eq]
  generalize (lg_sl ([.ref (ad 0 (0)), .int (iI (b)), .int (iI (i)), .int (iI (v)), .ref oa]) ++ List.replicate (6 - (lg_sl ([.ref (ad 0 (0)), .int (iI (b)), .int (iI (i)), .int (iI (v)), .ref oa])).length) Slot.unset).toArray = ls at hl ⊢
  have hl : lv_has ls 6 [(0, .ref (ad 0 (0))), (1, .int (iI (b))), (2, .int (iI (i))), (3, .int (iI (v))), (4, .ref oa)] := hl
  obtain ⟨⟨⟨hSX, hW⟩, hTX⟩, hO⟩ := hW
  have hS : va_S (Ao A oa) s.heap s.heap [] := va_S.rf
  have hF2 : F 2 ≤ 10 := hF 2
  have hF3 : F 3 ≤ 16 := hF 3
  have hF4 : F 4 ≤ 60 := hF 4
  have hF5 : F 5 ≤ 40 := hF 5
  have hF1 : F 1 ≤ 1439 := hF 1
  refine lv_aload hx hb dX0_leg_0 (lv_at hl 4 rfl) ?_
  refine lv_iconst (v := iI (0)) hx hb dX0_leg_2 rfl ?_
  refine lv_aload_n hx hb dX0_leg_3 rfl (lv_at hl 0 rfl) ?_
  refine lv_iload_n hx hb dX0_leg_4 rfl (lv_at hl 1 rfl) ?_
  refine lv_iload_n hx hb dX0_leg_5 rfl (lv_at hl 2 rfl) ?_
  refine lv_iload_n hx hb dX0_leg_6 rfl (lv_at hl 3 rfl) ?_
  refine rc_V (W.runV (As := [.int (iI (b)), .int (iI (i)), .int (iI (v))]) (rest := [.int (iI (0)), .ref oa]) ⟨hx, hb, hml, hown, hts⟩ (cc_X1_leg l D cA A sa ad F N Z E K hKb hF hN hZ hwf b i v hb4 hi hv2) (cwV 3 hts (lw_V q907 q908 q909 q42 q910) rfl rfl rfl (by decide +kernel) ⟨Nat.le_of_ble_eq_true rfl, Nat.le_of_ble_eq_true rfl⟩) (preVC hK hSX va_S.rf hW.c0 rfl hW) rfl rfl hl.1 rfl (lv_room (Nat.le_of_ble_eq_true rfl)) dX0_leg_7 ⟨Nat.le_of_ble_eq_true rfl, Nat.le_of_ble_eq_true rfl⟩) ?_
  refine W.eq (g2 := F0 m 10 ls [.int (iI (legW N b i v)), .int (iI (0)), .ref oa]) rfl ?_
  refine lv_i2l hx hb dX0_leg_10 rfl ?_
  refine h_last hx hb hK hO hS (Or.inr rfl) 0 rfl (by omega) (by decide) dX0_leg_11 (fun H2 locs2 hO oq zq hS => ?_)
  have hW := hW.keptL (by exact hF3) hN (by omega) (fun k i hl => oq _ (fun e => hoa (e ▸ hW.2.1 k i hl)))
  refine lv_goto (tgt := 19) hx hb dX0_leg_12 (by decide) ?_
  refine lv_iconst (v := iI (0)) hx hb dX0_leg_19 rfl ?_
  exact W.iret hx hb hr (fun tt htt hWm => ⟨⟨_, rfl, by rw [htt]; exact ⟨rfl, hW, hO⟩⟩, hS.F htt⟩) hS.2.2 dX0_leg_20

set_option maxHeartbeats 4000000 in
set_option maxRecDepth 100000 in
theorem hh_load (l : Launch) (D : va_G) (cA : Nat → ClassId) (A : Nat → Prop) (sa : Nat → Nat) (ad : Nat → Nat → Nat) (F : Nat → Nat) (N : Nat → Nat → Nat) (Z : Nat → Int) (E : Nat → Nat → Int) (K : Nat) (hKb : K ≤ 1000000) (hF : FB F) (hN : NB N) (hZ : ZB K Z) (hwf : WF F N) (oa : Nat) (g : Nat → Int64) (hoa : ¬ A oa) (t k : Nat) (ht : t < F 3) (hk : k + 1 < N 8 t) : Met l yX0_load (wsW_ yX0_load cX0_load 5 (some .int) [(0, 10, 13, 13)]) ({ frames := 6, cells := 0, slots := 0, locals := 148 }) (PH D cA A sa ad F N Z E oa g [.ref (ad 0 (0)), .int (iI (t)), .int (iI (k)), .ref oa]) (Qi (fun z H' => z = 0 ∧ CW D cA A sa ad F N Z E H' ∧ OC D cA oa (va_up g 0 ((iI (Z (10 * t + k))).toInt64)) H') (Ao A oa)) 0 0 (Ao A oa) := by
  refine va_MetW (cc := cX0_load) (maxL := 5) (ret := (some .int)) (hh := [(0, 10, 13, 13)]) (by decide) rfl ?_
  intro p e s m args below meth c s₁ B hml hv
  obtain ⟨rfl, hK, hW⟩ := hv
  have hx := B.exec
  have hb := B.bytes
  have hr := B.returns
  have hts := atoms_spec (ws := wsW_ yX0_load cX0_load 5 (some .int) [(0, 10, 13, 13)]) B.pre
  have htab := tab_of B (hts _ List.mem_cons_self)
  have hts : ∀ w ∈ lw_all, w.before _ s = true := fun w h => hts w (List.mem_cons_of_mem _ h)
  have hown : s.vm.findClass RX0 = some m.cls := findClass_of_methodNamed B.named
  have hlocks := B.notSynchronized
  have hl := lv_entry ([.ref (ad 0 (0)), .int (iI (t)), .int (iI (k)), .ref oa]) (n := 5) (Nat.le_of_ble_eq_true rfl)
  rw [lg_entry_eq]
  generalize (lg_sl ([.ref (ad 0 (0)), .int (iI (t)), .int (iI (k)), .ref oa]) ++ List.replicate (5 - (lg_sl ([.ref (ad 0 (0)), .int (iI (t)), .int (iI (k)), .ref oa])).length) Slot.unset).toArray = ls at hl ⊢
  have hl : lv_has ls 5 [(0, .ref (ad 0 (0))), (1, .int (iI (t))), (2, .int (iI (k))), (3, .ref oa)] := hl
  obtain ⟨⟨⟨hSX, hW⟩, hTX⟩, hO⟩ := hW
  have hS : va_S (Ao A oa) s.heap s.heap [] := va_S.rf
  have hF2 : F 2 ≤ 10 := hF 2
  have hF3 : F 3 ≤ 16 := hF 3
  have hF4 : F 4 ≤ 60 := hF 4
  have hF5 : F 5 ≤ 40 := hF 5
  have hF1 : F 1 ≤ 1439 := hF 1
  refine lv_aload_n hx hb dX0_load_0 rfl (lv_at hl 3 rfl) ?_
  refine lv_iconst (v := iI (0)) hx hb dX0_load_1 rfl ?_
  refine lv_aload_n hx hb dX0_load_2 rfl (lv_at hl 0 rfl) ?_
  refine lv_iload_n hx hb dX0_load_3 rfl (lv_at hl 1 rfl) ?_
  refine lv_iload_n hx hb dX0_load_4 rfl (lv_at hl 2 rfl) ?_
  refine rc_V (W.runV (As := [.int (iI (t)), .int (iI (k))]) (rest := [.int (iI (0)), .ref oa]) ⟨hx, hb, hml, hown, hts⟩ (cc_X1_load l D cA A sa ad F N Z E K hKb hF hN hZ hwf t k ht hk) (cwV 2 hts (lw_V q914 q915 q916 q42 q917) rfl rfl rfl (by decide +kernel) ⟨Nat.le_of_ble_eq_true rfl, Nat.le_of_ble_eq_true rfl⟩) (preVC hK hSX va_S.rf hW.c0 rfl hW) rfl rfl hl.1 rfl (lv_room (Nat.le_of_ble_eq_true rfl)) dX0_load_5 ⟨Nat.le_of_ble_eq_true rfl, Nat.le_of_ble_eq_true rfl⟩) ?_
  refine W.eq (g2 := F0 m 8 ls [.int (iI (Z (10 * t + k))), .int (iI (0)), .ref oa]) rfl ?_
  refine lv_i2l hx hb dX0_load_8 rfl ?_
  refine h_last hx hb hK hO hS (Or.inr rfl) 0 rfl (by omega) (by decide) dX0_load_9 (fun H2 locs2 hO oq zq hS => ?_)
  have hW := hW.keptL (by exact hF3) hN (by omega) (fun k i hl => oq _ (fun e => hoa (e ▸ hW.2.1 k i hl)))
  refine lv_goto (tgt := 17) hx hb dX0_load_10 (by decide) ?_
  refine lv_iconst (v := iI (0)) hx hb dX0_load_17 rfl ?_
  exact W.iret hx hb hr (fun tt htt hWm => ⟨⟨_, rfl, by rw [htt]; exact ⟨rfl, hW, hO⟩⟩, hS.F htt⟩) hS.2.2 dX0_load_18

set_option maxHeartbeats 4000000 in
set_option maxRecDepth 100000 in
theorem hh_where (l : Launch) (D : va_G) (cA : Nat → ClassId) (A : Nat → Prop) (sa : Nat → Nat) (ad : Nat → Nat → Nat) (F : Nat → Nat) (N : Nat → Nat → Nat) (Z : Nat → Int) (E : Nat → Nat → Int) (K : Nat) (hKb : K ≤ 1000000) (hF : FB F) (hN : NB N) (hZ : ZB K Z) (hwf : WF F N) (oa : Nat) (g : Nat → Int64) (hoa : ¬ A oa) (b : Nat) (hb4 : b < F 4) : Met l yX0_where (wsW_ yX0_where cX0_where 4 (some .int) [(0, 9, 12, 13)]) ({ frames := 8, cells := 0, slots := 0, locals := 187 }) (PH D cA A sa ad F N Z E oa g [.ref (ad 0 (0)), .int (iI (b)), .ref oa]) (Qi (fun z H' => z = 0 ∧ CW D cA A sa ad F N Z E H' ∧ OC D cA oa (va_up g 0 ((iI (whC F N (wayN N b))).toInt64)) H') (Ao A oa)) 0 0 (Ao A oa) := by
  refine va_MetW (cc := cX0_where) (maxL := 4) (ret := (some .int)) (hh := [(0, 9, 12, 13)]) (by decide) rfl ?_
  intro p e s m args below meth c s₁ B hml hv
  obtain ⟨rfl, hK, hW⟩ := hv
  have hx := B.exec
  have hb := B.bytes
  have hr := B.returns
  have hts := atoms_spec (ws := wsW_ yX0_where cX0_where 4 (some .int) [(0, 9, 12, 13)]) B.pre
  have htab := tab_of B (hts _ List.mem_cons_self)
  have hts : ∀ w ∈ lw_all, w.before _ s = true := fun w h => hts w (List.mem_cons_of_mem _ h)
  have hown : s.vm.findClass RX0 = some m.cls := findClass_of_methodNamed B.named
  have hlocks := B.notSynchronized
  have hl := lv_entry ([.ref (ad 0 (0)), .int (iI (b)), .ref oa]) (n := 4) (Nat.le_of_ble_eq_true rfl)
  rw [lg_entry_eq]
  generalize (lg_sl ([.ref (ad 0 (0)), .int (iI (b)), .ref oa]) ++ List.replicate (4 - (lg_sl ([.ref (ad 0 (0)), .int (iI (b)), .ref oa])).length) Slot.unset).toArray = ls at hl ⊢
  have hl : lv_has ls 4 [(0, .ref (ad 0 (0))), (1, .int (iI (b))), (2, .ref oa)] := hl
  obtain ⟨⟨⟨hSX, hW⟩, hTX⟩, hO⟩ := hW
  have hS : va_S (Ao A oa) s.heap s.heap [] := va_S.rf
  have hF2 : F 2 ≤ 10 := hF 2
  have hF3 : F 3 ≤ 16 := hF 3
  have hF4 : F 4 ≤ 60 := hF 4
  have hF5 : F 5 ≤ 40 := hF 5
  have hF1 : F 1 ≤ 1439 := hF 1
  refine lv_aload_n hx hb dX0_where_0 rfl (lv_at hl 2 rfl) ?_
  refine lv_iconst (v := iI (0)) hx hb dX0_where_1 rfl ?_
  refine lv_aload_n hx hb dX0_where_2 rfl (lv_at hl 0 rfl) ?_
  refine lv_iload_n hx hb dX0_where_3 rfl (lv_at hl 1 rfl) ?_
  refine rc_V (W.runV (As := [.int (iI (b))]) (rest := [.int (iI (0)), .ref oa]) ⟨hx, hb, hml, hown, hts⟩ (cc_X1_where l D cA A sa ad F N Z E K hKb hF hN hZ hwf b hb4) (cwV 1 hts (lw_V q921 q922 q923 q42 q924) rfl rfl rfl (by decide +kernel) ⟨Nat.le_of_ble_eq_true rfl, Nat.le_of_ble_eq_true rfl⟩) (preVC hK hSX va_S.rf hW.c0 rfl hW) rfl rfl hl.1 rfl (lv_room (Nat.le_of_ble_eq_true rfl)) dX0_where_4 ⟨Nat.le_of_ble_eq_true rfl, Nat.le_of_ble_eq_true rfl⟩) ?_
  refine W.eq (g2 := F0 m 7 ls [.int (iI (whC F N (wayN N b))), .int (iI (0)), .ref oa]) rfl ?_
  refine lv_i2l hx hb dX0_where_7 rfl ?_
  refine h_last hx hb hK hO hS (Or.inr rfl) 0 rfl (by omega) (by decide) dX0_where_8 (fun H2 locs2 hO oq zq hS => ?_)
  have hW := hW.keptL (by exact hF3) hN (by omega) (fun k i hl => oq _ (fun e => hoa (e ▸ hW.2.1 k i hl)))
  refine lv_goto (tgt := 15) hx hb dX0_where_9 (by decide) ?_
  refine lv_iconst (v := iI (0)) hx hb dX0_where_15 rfl ?_
  exact W.iret hx hb hr (fun tt htt hWm => ⟨⟨_, rfl, by rw [htt]; exact ⟨rfl, hW, hO⟩⟩, hS.F htt⟩) hS.2.2 dX0_where_16

set_option maxHeartbeats 4000000 in
set_option maxRecDepth 100000 in
theorem hh_mark (l : Launch) (D : va_G) (cA : Nat → ClassId) (A : Nat → Prop) (sa : Nat → Nat) (ad : Nat → Nat → Nat) (F : Nat → Nat) (N : Nat → Nat → Nat) (Z : Nat → Int) (E : Nat → Nat → Int) (K : Nat) (hKb : K ≤ 1000000) (hF : FB F) (hN : NB N) (hZ : ZB K Z) (hwf : WF F N) (oa : Nat) (g : Nat → Int64) (hoa : ¬ A oa) (b : Nat) (hb4 : b < F 4) : Met l yX0_mark (wsW_ yX0_mark cX0_mark 4 (some .int) [(0, 9, 12, 13)]) ({ frames := 7, cells := 0, slots := 0, locals := 173 }) (PH D cA A sa ad F N Z E oa g [.ref (ad 0 (0)), .int (iI (b)), .ref oa]) (Qi (fun z H' => z = 0 ∧ CW D cA A sa ad F N Z E H' ∧ OC D cA oa (va_up g 0 ((iI (if N 25 (2 * b) = 1 then (cntB (mkB (hsC N) N) (flB (hsC N) N b) : Int) else -1)).toInt64)) H') (Ao A oa)) 0 0 (Ao A oa) := by
  refine va_MetW (cc := cX0_mark) (maxL := 4) (ret := (some .int)) (hh := [(0, 9, 12, 13)]) (by decide) rfl ?_
  intro p e s m args below meth c s₁ B hml hv
  obtain ⟨rfl, hK, hW⟩ := hv
  have hx := B.exec
  have hb := B.bytes
  have hr := B.returns
  have hts := atoms_spec (ws := wsW_ yX0_mark cX0_mark 4 (some .int) [(0, 9, 12, 13)]) B.pre
  have htab := tab_of B (hts _ List.mem_cons_self)
  have hts : ∀ w ∈ lw_all, w.before _ s = true := fun w h => hts w (List.mem_cons_of_mem _ h)
  have hown : s.vm.findClass RX0 = some m.cls := findClass_of_methodNamed B.named
  have hlocks := B.notSynchronized
  have hl := lv_entry ([.ref (ad 0 (0)), .int (iI (b)), .ref oa]) (n := 4) (Nat.le_of_ble_eq_true rfl)
  rw [lg_entry_eq]
  generalize (lg_sl ([.ref (ad 0 (0)), .int (iI (b)), .ref oa]) ++ List.replicate (4 - (lg_sl ([.ref (ad 0 (0)), .int (iI (b)), .ref oa])).length) Slot.unset).toArray = ls at hl ⊢
  have hl : lv_has ls 4 [(0, .ref (ad 0 (0))), (1, .int (iI (b))), (2, .ref oa)] := hl
  obtain ⟨⟨⟨hSX, hW⟩, hTX⟩, hO⟩ := hW
  have hS : va_S (Ao A oa) s.heap s.heap [] := va_S.rf
  have hF2 : F 2 ≤ 10 := hF 2
  have hF3 : F 3 ≤ 16 := hF 3
  have hF4 : F 4 ≤ 60 := hF 4
  have hF5 : F 5 ≤ 40 := hF 5
  have hF1 : F 1 ≤ 1439 := hF 1
  refine lv_aload_n hx hb dX0_mark_0 rfl (lv_at hl 2 rfl) ?_
  refine lv_iconst (v := iI (0)) hx hb dX0_mark_1 rfl ?_
  refine lv_aload_n hx hb dX0_mark_2 rfl (lv_at hl 0 rfl) ?_
  refine lv_iload_n hx hb dX0_mark_3 rfl (lv_at hl 1 rfl) ?_
  refine rc_V (W.runV (As := [.int (iI (b))]) (rest := [.int (iI (0)), .ref oa]) ⟨hx, hb, hml, hown, hts⟩ (cc_X1_mark l D cA A sa ad F N Z E K hKb hF hN hZ hwf b hb4) (cwV 1 hts (lw_V q932 q933 q934 q42 q935) rfl rfl rfl (by decide +kernel) ⟨Nat.le_of_ble_eq_true rfl, Nat.le_of_ble_eq_true rfl⟩) (preVC hK hSX va_S.rf hW.c0 rfl hW) rfl rfl hl.1 rfl (lv_room (Nat.le_of_ble_eq_true rfl)) dX0_mark_4 ⟨Nat.le_of_ble_eq_true rfl, Nat.le_of_ble_eq_true rfl⟩) ?_
  refine W.eq (g2 := F0 m 7 ls [.int (iI (if N 25 (2 * b) = 1 then (cntB (mkB (hsC N) N) (flB (hsC N) N b) : Int) else -1)), .int (iI (0)), .ref oa]) rfl ?_
  refine lv_i2l hx hb dX0_mark_7 rfl ?_
  refine h_last hx hb hK hO hS (Or.inr rfl) 0 rfl (by omega) (by decide) dX0_mark_8 (fun H2 locs2 hO oq zq hS => ?_)
  have hW := hW.keptL (by exact hF3) hN (by omega) (fun k i hl => oq _ (fun e => hoa (e ▸ hW.2.1 k i hl)))
  refine lv_goto (tgt := 15) hx hb dX0_mark_9 (by decide) ?_
  refine lv_iconst (v := iI (0)) hx hb dX0_mark_15 rfl ?_
  exact W.iret hx hb hr (fun tt htt hWm => ⟨⟨_, rfl, by rw [htt]; exact ⟨rfl, hW, hO⟩⟩, hS.F htt⟩) hS.2.2 dX0_mark_16

set_option maxHeartbeats 4000000 in
set_option maxRecDepth 100000 in
theorem hh_count (l : Launch) (D : va_G) (cA : Nat → ClassId) (A : Nat → Prop) (sa : Nat → Nat) (ad : Nat → Nat → Nat) (F : Nat → Nat) (N : Nat → Nat → Nat) (Z : Nat → Int) (E : Nat → Nat → Int) (K : Nat) (hKb : K ≤ 1000000) (hF : FB F) (hN : NB N) (hZ : ZB K Z) (hwf : WF F N) (oa : Nat) (g : Nat → Int64) (hoa : ¬ A oa) (v : Nat) (hv7 : v ≤ 7) : Met l yX0_count (wsW_ yX0_count cX0_count 4 (some .int) [(0, 9, 12, 13)]) ({ frames := 9, cells := 0, slots := 0, locals := 207 }) (PH D cA A sa ad F N Z E oa g [.ref (ad 0 (0)), .int (iI (v)), .ref oa]) (Qi (fun z H' => z = 0 ∧ CW D cA A sa ad F N Z E H' ∧ OC D cA oa (va_up g 0 ((iI (cnC F N v)).toInt64)) H') (Ao A oa)) 0 0 (Ao A oa) := by
  refine va_MetW (cc := cX0_count) (maxL := 4) (ret := (some .int)) (hh := [(0, 9, 12, 13)]) (by decide) rfl ?_
  intro p e s m args below meth c s₁ B hml hv
  obtain ⟨rfl, hK, hW⟩ := hv
  have hx := B.exec
  have hb := B.bytes
  have hr := B.returns
  have hts := atoms_spec (ws := wsW_ yX0_count cX0_count 4 (some .int) [(0, 9, 12, 13)]) B.pre
  have htab := tab_of B (hts _ List.mem_cons_self)
  have hts : ∀ w ∈ lw_all, w.before _ s = true := fun w h => hts w (List.mem_cons_of_mem _ h)
  have hown : s.vm.findClass RX0 = some m.cls := findClass_of_methodNamed B.named
  have hlocks := B.notSynchronized
  have hl := lv_entry ([.ref (ad 0 (0)), .int (iI (v)), .ref oa]) (n := 4) (Nat.le_of_ble_eq_true rfl)
  rw [lg_entry_eq]
  generalize (lg_sl ([.ref (ad 0 (0)), .int (iI (v)), .ref oa]) ++ List.replicate (4 - (lg_sl ([.ref (ad 0 (0)), .int (iI (v)), .ref oa])).length) Slot.unset).toArray = ls at hl ⊢
  have hl : lv_has ls 4 [(0, .ref (ad 0 (0))), (1, .int (iI (v))), (2, .ref oa)] := hl
  obtain ⟨⟨⟨hSX, hW⟩, hTX⟩, hO⟩ := hW
  have hS : va_S (Ao A oa) s.heap s.heap [] := va_S.rf
  have hF2 : F 2 ≤ 10 := hF 2
  have hF3 : F 3 ≤ 16 := hF 3
  have hF4 : F 4 ≤ 60 := hF 4
  have hF5 : F 5 ≤ 40 := hF 5
  have hF1 : F 1 ≤ 1439 := hF 1
  refine lv_aload_n hx hb dX0_count_0 rfl (lv_at hl 2 rfl) ?_
  refine lv_iconst (v := iI (0)) hx hb dX0_count_1 rfl ?_
  refine lv_aload_n hx hb dX0_count_2 rfl (lv_at hl 0 rfl) ?_
  refine lv_iload_n hx hb dX0_count_3 rfl (lv_at hl 1 rfl) ?_
  refine rc_V (W.runV (As := [.int (iI (v))]) (rest := [.int (iI (0)), .ref oa]) ⟨hx, hb, hml, hown, hts⟩ (cc_X1_count l D cA A sa ad F N Z E K hKb hF hN hZ hwf v hv7) (cwV 1 hts (lw_V q964 q965 q966 q42 q967) rfl rfl rfl (by decide +kernel) ⟨Nat.le_of_ble_eq_true rfl, Nat.le_of_ble_eq_true rfl⟩) (preVC hK hSX va_S.rf hW.c0 rfl hW) rfl rfl hl.1 rfl (lv_room (Nat.le_of_ble_eq_true rfl)) dX0_count_4 ⟨Nat.le_of_ble_eq_true rfl, Nat.le_of_ble_eq_true rfl⟩) ?_
  refine W.eq (g2 := F0 m 7 ls [.int (iI (cnC F N v)), .int (iI (0)), .ref oa]) rfl ?_
  refine lv_i2l hx hb dX0_count_7 rfl ?_
  refine h_last hx hb hK hO hS (Or.inr rfl) 0 rfl (by omega) (by decide) dX0_count_8 (fun H2 locs2 hO oq zq hS => ?_)
  have hW := hW.keptL (by exact hF3) hN (by omega) (fun k i hl => oq _ (fun e => hoa (e ▸ hW.2.1 k i hl)))
  refine lv_goto (tgt := 15) hx hb dX0_count_9 (by decide) ?_
  refine lv_iconst (v := iI (0)) hx hb dX0_count_15 rfl ?_
  exact W.iret hx hb hr (fun tt htt hWm => ⟨⟨_, rfl, by rw [htt]; exact ⟨rfl, hW, hO⟩⟩, hS.F htt⟩) hS.2.2 dX0_count_16

set_option maxHeartbeats 4000000 in
set_option maxRecDepth 100000 in
theorem hh_share (l : Launch) (D : va_G) (cA : Nat → ClassId) (A : Nat → Prop) (sa : Nat → Nat) (ad : Nat → Nat → Nat) (F : Nat → Nat) (N : Nat → Nat → Nat) (Z : Nat → Int) (E : Nat → Nat → Int) (K : Nat) (hKb : K ≤ 1000000) (hF : FB F) (hN : NB N) (hZ : ZB K Z) (hwf : WF F N) (oa : Nat) (g : Nat → Int64) (hoa : ¬ A oa) (cv sum : Nat) (hc5 : cv < F 5) (hsum : sum ≤ 10000000) : Met l yX0_share (wsW_ yX0_share cX0_share 5 (some .int) [(0, 10, 13, 13), (0, 10, 17, 19)]) ({ frames := 5, cells := 0, slots := 0, locals := 135 }) (PH D cA A sa ad F N Z E oa g [.ref (ad 0 (0)), .int (iI (cv)), .int (iI (sum)), .ref oa]) (Qi (fun z H' => z = 0 ∧ CW D cA A sa ad F N Z E H' ∧ OC D cA oa (va_up g 0 ((iI (shV F N cv sum)).toInt64)) H') (Ao A oa)) 0 0 (Ao A oa) := by
  refine va_MetW (cc := cX0_share) (maxL := 5) (ret := (some .int)) (hh := [(0, 10, 13, 13), (0, 10, 17, 19)]) (by decide) rfl ?_
  intro p e s m args below meth c s₁ B hml hv
  obtain ⟨rfl, hK, hW⟩ := hv
  have hx := B.exec
  have hb := B.bytes
  have hr := B.returns
  have hts := atoms_spec (ws := wsW_ yX0_share cX0_share 5 (some .int) [(0, 10, 13, 13), (0, 10, 17, 19)]) B.pre
  have htab := tab_of B (hts _ List.mem_cons_self)
  have hts : ∀ w ∈ lw_all, w.before _ s = true := fun w h => hts w (List.mem_cons_of_mem _ h)
  have hown : s.vm.findClass RX0 = some m.cls := findClass_of_methodNamed B.named
  have hlocks := B.notSynchronized
  have hl := lv_entry ([.ref (ad 0 (0)), .int (iI (cv)), .int (iI (sum)), .ref oa]) (n := 5) (Nat.le_of_ble_eq_true rfl)
  rw [lg_entry_eq]
  generalize (lg_sl ([.ref (ad 0 (0)), .int (iI (cv)), .int (iI (sum)), .ref oa]) ++ List.replicate (5 - (lg_sl ([.ref (ad 0 (0)), .int (iI (cv)), .int (iI (sum)), .ref oa])).length) Slot.unset).toArray = ls at hl ⊢
  have hl : lv_has ls 5 [(0, .ref (ad 0 (0))), (1, .int (iI (cv))), (2, .int (iI (sum))), (3, .ref oa)] := hl
  obtain ⟨⟨⟨hSX, hW⟩, hTX⟩, hO⟩ := hW
  have hS : va_S (Ao A oa) s.heap s.heap [] := va_S.rf
  have hF2 : F 2 ≤ 10 := hF 2
  have hF3 : F 3 ≤ 16 := hF 3
  have hF4 : F 4 ≤ 60 := hF 4
  have hF5 : F 5 ≤ 40 := hF 5
  have hF1 : F 1 ≤ 1439 := hF 1
  refine lv_aload_n hx hb dX0_share_0 rfl (lv_at hl 3 rfl) ?_
  refine lv_iconst (v := iI (0)) hx hb dX0_share_1 rfl ?_
  refine lv_aload_n hx hb dX0_share_2 rfl (lv_at hl 0 rfl) ?_
  refine lv_iload_n hx hb dX0_share_3 rfl (lv_at hl 1 rfl) ?_
  refine lv_iload_n hx hb dX0_share_4 rfl (lv_at hl 2 rfl) ?_
  refine rc_V (W.runV (As := [.int (iI (cv)), .int (iI (sum))]) (rest := [.int (iI (0)), .ref oa]) ⟨hx, hb, hml, hown, hts⟩ (cc_X1_share l D cA A sa ad F N Z E K hKb hF hN hZ hwf cv sum hc5 hsum) (cwV 2 hts (lw_V q951 q952 q953 q42 q954) rfl rfl rfl (by decide +kernel) ⟨Nat.le_of_ble_eq_true rfl, Nat.le_of_ble_eq_true rfl⟩) (preVC hK hSX va_S.rf hW.c0 rfl hW) rfl rfl hl.1 rfl (lv_room (Nat.le_of_ble_eq_true rfl)) dX0_share_5 ⟨Nat.le_of_ble_eq_true rfl, Nat.le_of_ble_eq_true rfl⟩) ?_
  refine W.eq (g2 := F0 m 8 ls [.int (iI (shV F N cv sum)), .int (iI (0)), .ref oa]) rfl ?_
  refine lv_i2l hx hb dX0_share_8 rfl ?_
  refine h_last hx hb hK hO hS (Or.inr rfl) 0 rfl (by omega) (by decide) dX0_share_9 (fun H2 locs2 hO oq zq hS => ?_)
  have hW := hW.keptL (by exact hF3) hN (by omega) (fun k i hl => oq _ (fun e => hoa (e ▸ hW.2.1 k i hl)))
  refine lv_goto (tgt := 21) hx hb dX0_share_10 (by decide) ?_
  refine lv_iconst (v := iI (0)) hx hb dX0_share_21 rfl ?_
  exact W.iret hx hb hr (fun tt htt hWm => ⟨⟨_, rfl, by rw [htt]; exact ⟨rfl, hW, hO⟩⟩, hS.F htt⟩) hS.2.2 dX0_share_22

set_option maxHeartbeats 4000000 in
set_option maxRecDepth 100000 in
theorem hh_stop_n (l : Launch) (D : va_G) (cA : Nat → ClassId) (A : Nat → Prop) (sa : Nat → Nat) (ad : Nat → Nat → Nat) (F : Nat → Nat) (N : Nat → Nat → Nat) (Z : Nat → Int) (E : Nat → Nat → Int) (K : Nat) (hKb : K ≤ 1000000) (hF : FB F) (hN : NB N) (hZ : ZB K Z) (hwf : WF F N) (oa : Nat) (g : Nat → Int64) (hoa : ¬ A oa) (t : Nat) (sv : Int) (q_sv : inR sv) (mi : Int) (q_mi : inR mi) (ht : t < F 3) (hbad : ¬ (N 8 t ≠ 10 ∧ 0 ≤ sv ∧ sv < F 2 ∧ 0 ≤ mi ∧ mi ≤ 1439 ∧ ¬ (N 23 t ≠ 0 ∧ plB F N t = true) ∧ ¬ (0 < N 8 t ∧ (mi ≤ N 10 (10 * t + (N 8 t - 1)) ∨ (N 9 (10 * t + (N 8 t - 1)) : Int) = sv)))) : Met l yX0_stop (wsW_ yX0_stop cX0_stop 6 (some .int) [(0, 12, 15, 13)]) ({ frames := 7, cells := 0, slots := 0, locals := 175 }) (PH D cA A sa ad F N Z E oa g [.ref (ad 0 (0)), .int (iI (t)), .int (iI (sv)), .int (iI (mi)), .ref oa]) (Qi (fun z H' => z = 0 ∧ CW D cA A sa ad F N Z E H' ∧ OC D cA oa (va_up g 0 ((iI (-1)).toInt64)) H') (Ao A oa)) 0 0 (Ao A oa) := by
  refine va_MetW (cc := cX0_stop) (maxL := 6) (ret := (some .int)) (hh := [(0, 12, 15, 13)]) (by decide) rfl ?_
  intro p e s m args below meth c s₁ B hml hv
  obtain ⟨rfl, hK, hW⟩ := hv
  have hx := B.exec
  have hb := B.bytes
  have hr := B.returns
  have hts := atoms_spec (ws := wsW_ yX0_stop cX0_stop 6 (some .int) [(0, 12, 15, 13)]) B.pre
  have htab := tab_of B (hts _ List.mem_cons_self)
  have hts : ∀ w ∈ lw_all, w.before _ s = true := fun w h => hts w (List.mem_cons_of_mem _ h)
  have hown : s.vm.findClass RX0 = some m.cls := findClass_of_methodNamed B.named
  have hlocks := B.notSynchronized
  have hl := lv_entry ([.ref (ad 0 (0)), .int (iI (t)), .int (iI (sv)), .int (iI (mi)), .ref oa]) (n := 6) (Nat.le_of_ble_eq_true rfl)
  rw [lg_entry_eq]
  generalize (lg_sl ([.ref (ad 0 (0)), .int (iI (t)), .int (iI (sv)), .int (iI (mi)), .ref oa]) ++ List.replicate (6 - (lg_sl ([.ref (ad 0 (0)), .int (iI (t)), .int (iI (sv)), .int (iI (mi)), .ref oa])).length) Slot.unset).toArray = ls at hl ⊢
  have hl : lv_has ls 6 [(0, .ref (ad 0 (0))), (1, .int (iI (t))), (2, .int (iI (sv))), (3, .int (iI (mi))), (4, .ref oa)] := hl
  obtain ⟨⟨⟨hSX, hW⟩, hTX⟩, hO⟩ := hW
  have hS : va_S (Ao A oa) s.heap s.heap [] := va_S.rf
  have hF2 : F 2 ≤ 10 := hF 2
  have hF3 : F 3 ≤ 16 := hF 3
  have hF4 : F 4 ≤ 60 := hF 4
  have hF5 : F 5 ≤ 40 := hF 5
  have hF1 : F 1 ≤ 1439 := hF 1
  refine lv_aload hx hb dX0_stop_0 (lv_at hl 4 rfl) ?_
  refine lv_iconst (v := iI (0)) hx hb dX0_stop_2 rfl ?_
  refine lv_aload_n hx hb dX0_stop_3 rfl (lv_at hl 0 rfl) ?_
  refine lv_iload_n hx hb dX0_stop_4 rfl (lv_at hl 1 rfl) ?_
  refine lv_iload_n hx hb dX0_stop_5 rfl (lv_at hl 2 rfl) ?_
  refine lv_iload_n hx hb dX0_stop_6 rfl (lv_at hl 3 rfl) ?_
  refine rc_V (W.runV (As := [.int (iI (t)), .int (iI (sv)), .int (iI (mi))]) (rest := [.int (iI (0)), .ref oa]) ⟨hx, hb, hml, hown, hts⟩ (cc_X1_stop_n l D cA A sa ad F N Z E K hKb hF hN hZ hwf t sv q_sv mi q_mi ht hbad) (cwV 3 hts (lw_V q771 q772 q773 q42 q774) rfl rfl rfl (by decide +kernel) ⟨Nat.le_of_ble_eq_true rfl, Nat.le_of_ble_eq_true rfl⟩) (preVC hK hSX va_S.rf hW.c0 rfl hW) rfl rfl hl.1 rfl (lv_room (Nat.le_of_ble_eq_true rfl)) dX0_stop_7 ⟨Nat.le_of_ble_eq_true rfl, Nat.le_of_ble_eq_true rfl⟩) ?_
  refine W.eq (g2 := F0 m 10 ls [.int (iI (-1)), .int (iI (0)), .ref oa]) rfl ?_
  refine lv_i2l hx hb dX0_stop_10 rfl ?_
  refine h_last hx hb hK hO hS (Or.inr rfl) 0 rfl (by omega) (by decide) dX0_stop_11 (fun H2 locs2 hO oq zq hS => ?_)
  have hW := hW.keptL (by exact hF3) hN (by omega) (fun k i hl => oq _ (fun e => hoa (e ▸ hW.2.1 k i hl)))
  refine lv_goto (tgt := 19) hx hb dX0_stop_12 (by decide) ?_
  refine lv_iconst (v := iI (0)) hx hb dX0_stop_19 rfl ?_
  exact W.iret hx hb hr (fun tt htt hWm => ⟨⟨_, rfl, by rw [htt]; exact ⟨rfl, hW, hO⟩⟩, hS.F htt⟩) hS.2.2 dX0_stop_20

set_option maxHeartbeats 4000000 in
set_option maxRecDepth 100000 in
theorem hh_stop (l : Launch) (D : va_G) (cA : Nat → ClassId) (A : Nat → Prop) (sa : Nat → Nat) (ad : Nat → Nat → Nat) (F : Nat → Nat) (N : Nat → Nat → Nat) (Z : Nat → Int) (E : Nat → Nat → Int) (K : Nat) (hKb : K ≤ 1000000) (hF : FB F) (hN : NB N) (hZ : ZB K Z) (hwf : WF F N) (oa : Nat) (g : Nat → Int64) (hoa : ¬ A oa) (t sv mi : Nat) (ht : t < F 3) (h8n : N 8 t ≠ 10) (hsv : sv < F 2) (hmi : mi ≤ 1439) (hpl : ¬ (N 23 t ≠ 0 ∧ plB F N t = true)) (hls : ¬ (0 < N 8 t ∧ (mi ≤ N 10 (10 * t + (N 8 t - 1)) ∨ N 9 (10 * t + (N 8 t - 1)) = sv))) : Met l yX0_stop (wsW_ yX0_stop cX0_stop 6 (some .int) [(0, 12, 15, 13)]) ({ frames := 8, cells := 2, slots := 402, locals := 236 }) (PH D cA A sa ad F N Z E oa g [.ref (ad 0 (0)), .int (iI (t)), .int (iI (sv)), .int (iI (mi)), .ref oa]) (Qi (fun z H' => z = 0 ∧ (∃ ad', ad' 0 0 = ad 0 0 ∧ CW D cA A sa ad' F (stopN N t sv mi) Z E H') ∧ OC D cA oa (va_up g 0 ((iI ((N 8 t : Nat))).toInt64)) H') (Ao A oa)) 2 402 (Ao A oa) := by
  refine va_MetW (cc := cX0_stop) (maxL := 6) (ret := (some .int)) (hh := [(0, 12, 15, 13)]) (by decide) rfl ?_
  intro p e s m args below meth c s₁ B hml hv
  obtain ⟨rfl, hK, hW⟩ := hv
  have hx := B.exec
  have hb := B.bytes
  have hr := B.returns
  have hts := atoms_spec (ws := wsW_ yX0_stop cX0_stop 6 (some .int) [(0, 12, 15, 13)]) B.pre
  have htab := tab_of B (hts _ List.mem_cons_self)
  have hts : ∀ w ∈ lw_all, w.before _ s = true := fun w h => hts w (List.mem_cons_of_mem _ h)
  have hown : s.vm.findClass RX0 = some m.cls := findClass_of_methodNamed B.named
  have hlocks := B.notSynchronized
  have hl := lv_entry ([.ref (ad 0 (0)), .int (iI (t)), .int (iI (sv)), .int (iI (mi)), .ref oa]) (n := 6) (Nat.le_of_ble_eq_true rfl)
  rw [lg_entry_eq]
  generalize (lg_sl ([.ref (ad 0 (0)), .int (iI (t)), .int (iI (sv)), .int (iI (mi)), .ref oa]) ++ List.replicate (6 - (lg_sl ([.ref (ad 0 (0)), .int (iI (t)), .int (iI (sv)), .int (iI (mi)), .ref oa])).length) Slot.unset).toArray = ls at hl ⊢
  have hl : lv_has ls 6 [(0, .ref (ad 0 (0))), (1, .int (iI (t))), (2, .int (iI (sv))), (3, .int (iI (mi))), (4, .ref oa)] := hl
  obtain ⟨⟨⟨hSX, hW⟩, hTX⟩, hO⟩ := hW
  have hS : va_S (Ao A oa) s.heap s.heap [] := va_S.rf
  have hF2 : F 2 ≤ 10 := hF 2
  have hF3 : F 3 ≤ 16 := hF 3
  have hF4 : F 4 ≤ 60 := hF 4
  have hF5 : F 5 ≤ 40 := hF 5
  have hF1 : F 1 ≤ 1439 := hF 1
  refine lv_aload hx hb dX0_stop_0 (lv_at hl 4 rfl) ?_
  refine lv_iconst (v := iI (0)) hx hb dX0_stop_2 rfl ?_
  refine lv_aload_n hx hb dX0_stop_3 rfl (lv_at hl 0 rfl) ?_
  refine lv_iload_n hx hb dX0_stop_4 rfl (lv_at hl 1 rfl) ?_
  refine lv_iload_n hx hb dX0_stop_5 rfl (lv_at hl 2 rfl) ?_
  refine lv_iload_n hx hb dX0_stop_6 rfl (lv_at hl 3 rfl) ?_
  refine rc_I (W.runV (As := [.int (iI (t)), .int (iI (sv)), .int (iI (mi))]) (rest := [.int (iI (0)), .ref oa]) ⟨hx, hb, hml, hown, hts⟩ (cc_X1_stop l D cA A sa ad F N Z E K hKb hF hN hZ hwf t sv mi ht h8n hsv hmi hpl hls) (cwV 3 hts (lw_V q771 q772 q773 q42 q774) rfl rfl rfl (by decide +kernel) ⟨Nat.le_of_ble_eq_true rfl, Nat.le_of_ble_eq_true rfl⟩) (preVC hK hSX va_S.rf hW.c0 rfl hW) rfl rfl hl.1 rfl (lv_room (Nat.le_of_ble_eq_true rfl)) dX0_stop_7 ⟨Nat.le_of_ble_eq_true rfl, Nat.le_of_ble_eq_true rfl⟩) hS (fun q _ h => Or.inl h) (fun q h => Or.inl h) (fun z H1 locs1 hpost hS hz hq => ?_)
  have hO := hO.kept (hq _ hO.lt hoa)
  obtain ⟨rfl, ad2, hadq, hW⟩ := hpost
  have h8t : N 8 t ≤ 10 := hN 8 t
  refine lv_i2l hx hb dX0_stop_10 rfl ?_
  refine h_last hx hb hK hO hS (Or.inr rfl) 0 rfl (by omega) (by decide) dX0_stop_11 (fun H2 locs2 hO oq zq hS => ?_)
  have hW := hW.keptL (by exact hF3) (((hN.up (by show sv ≤ 9; omega)).up (by show mi ≤ 1439; omega)).up (by show N 8 t + 1 ≤ 10; omega)) (by omega) (fun k i hl => oq _ (fun e => hoa (e ▸ hW.2.1 k i hl)))
  refine lv_goto (tgt := 19) hx hb dX0_stop_12 (by decide) ?_
  refine lv_iconst (v := iI (0)) hx hb dX0_stop_19 rfl ?_
  exact W.iret hx hb hr (fun tt htt hWm => ⟨⟨_, rfl, by rw [htt]; exact ⟨rfl, ⟨ad2, hadq, hW⟩, hO⟩⟩, hS.F htt⟩) hS.2.2 dX0_stop_20

set_option maxHeartbeats 4000000 in
set_option maxRecDepth 100000 in
theorem hh_minutes (l : Launch) (D : va_G) (cA : Nat → ClassId) (A : Nat → Prop) (sa : Nat → Nat) (ad : Nat → Nat → Nat) (F : Nat → Nat) (N : Nat → Nat → Nat) (Z : Nat → Int) (E : Nat → Nat → Int) (K : Nat) (hKb : K ≤ 1000000) (hF : FB F) (hN : NB N) (hZ : ZB K Z) (hwf : WF F N) (oa : Nat) (g : Nat → Int64) (hoa : ¬ A oa) (n : Nat) (hn : n + F 1 ≤ 1439) : Met l yX0_minutes (wsW_ yX0_minutes cX0_minutes 4 (some .int) [(0, 9, 12, 19)]) ({ frames := 3, cells := 0, slots := 0, locals := 71 }) (PH D cA A sa ad F N Z E oa g [.ref (ad 0 (0)), .int (iI (n)), .ref oa]) (Qi (fun z H' => z = 0 ∧ CW D cA A sa ad (va_up F 1 (F 1 + n)) N Z E H' ∧ OC D cA oa (va_up g 0 ((iI ((F 1 + n : Nat))).toInt64)) H') (Ao A oa)) 0 0 (Ao A oa) := by
  refine va_MetW (cc := cX0_minutes) (maxL := 4) (ret := (some .int)) (hh := [(0, 9, 12, 19)]) (by decide) rfl ?_
  intro p e s m args below meth c s₁ B hml hv
  obtain ⟨rfl, hK, hW⟩ := hv
  have hx := B.exec
  have hb := B.bytes
  have hr := B.returns
  have hts := atoms_spec (ws := wsW_ yX0_minutes cX0_minutes 4 (some .int) [(0, 9, 12, 19)]) B.pre
  have htab := tab_of B (hts _ List.mem_cons_self)
  have hts : ∀ w ∈ lw_all, w.before _ s = true := fun w h => hts w (List.mem_cons_of_mem _ h)
  have hown : s.vm.findClass RX0 = some m.cls := findClass_of_methodNamed B.named
  have hlocks := B.notSynchronized
  have hl := lv_entry ([.ref (ad 0 (0)), .int (iI (n)), .ref oa]) (n := 4) (Nat.le_of_ble_eq_true rfl)
  rw [lg_entry_eq]
  generalize (lg_sl ([.ref (ad 0 (0)), .int (iI (n)), .ref oa]) ++ List.replicate (4 - (lg_sl ([.ref (ad 0 (0)), .int (iI (n)), .ref oa])).length) Slot.unset).toArray = ls at hl ⊢
  have hl : lv_has ls 4 [(0, .ref (ad 0 (0))), (1, .int (iI (n))), (2, .ref oa)] := hl
  obtain ⟨⟨⟨hSX, hW⟩, hTX⟩, hO⟩ := hW
  have hS : va_S (Ao A oa) s.heap s.heap [] := va_S.rf
  have hF2 : F 2 ≤ 10 := hF 2
  have hF3 : F 3 ≤ 16 := hF 3
  have hF4 : F 4 ≤ 60 := hF 4
  have hF5 : F 5 ≤ 40 := hF 5
  have hF1 : F 1 ≤ 1439 := hF 1
  refine lv_aload_n hx hb dX0_minutes_0 rfl (lv_at hl 2 rfl) ?_
  refine lv_iconst (v := iI (0)) hx hb dX0_minutes_1 rfl ?_
  refine lv_aload_n hx hb dX0_minutes_2 rfl (lv_at hl 0 rfl) ?_
  refine lv_iload_n hx hb dX0_minutes_3 rfl (lv_at hl 1 rfl) ?_
  refine rc_I (W.runV (As := [.int (iI (n))]) (rest := [.int (iI (0)), .ref oa]) ⟨hx, hb, hml, hown, hts⟩ (cc_X1_minutes l D cA A sa ad F N Z E K hKb hF hN hZ hwf n hn) (cwV 1 hts (lw_V q831 q832 q833 q42 q834) rfl rfl rfl (by decide +kernel) ⟨Nat.le_of_ble_eq_true rfl, Nat.le_of_ble_eq_true rfl⟩) (preVC hK hSX va_S.rf hW.c0 rfl hW) rfl rfl hl.1 rfl (lv_room (Nat.le_of_ble_eq_true rfl)) dX0_minutes_4 ⟨Nat.le_of_ble_eq_true rfl, Nat.le_of_ble_eq_true rfl⟩) hS (fun q _ h => Or.inl h) (fun q h => Or.inl h) (fun z H1 locs1 hpost hS hz hq => ?_)
  have hO := hO.kept (hq _ hO.lt hoa)
  obtain ⟨rfl, hW⟩ := hpost
  refine lv_i2l hx hb dX0_minutes_7 rfl ?_
  refine h_last hx hb hK hO hS (Or.inr rfl) 0 rfl (by omega) (by decide) dX0_minutes_8 (fun H2 locs2 hO oq zq hS => ?_)
  have hW := hW.keptL (by exact hF3) hN (by omega) (fun k i hl => oq _ (fun e => hoa (e ▸ hW.2.1 k i hl)))
  refine lv_goto (tgt := 15) hx hb dX0_minutes_9 (by decide) ?_
  refine lv_iconst (v := iI (0)) hx hb dX0_minutes_15 rfl ?_
  exact W.iret hx hb hr (fun tt htt hWm => ⟨⟨_, rfl, by rw [htt]; exact ⟨rfl, hW, hO⟩⟩, hS.F htt⟩) hS.2.2 dX0_minutes_16

set_option maxHeartbeats 4000000 in
set_option maxRecDepth 100000 in
theorem hh_cancel (l : Launch) (D : va_G) (cA : Nat → ClassId) (A : Nat → Prop) (sa : Nat → Nat) (ad : Nat → Nat → Nat) (F : Nat → Nat) (N : Nat → Nat → Nat) (Z : Nat → Int) (E : Nat → Nat → Int) (K : Nat) (hKb : K ≤ 1000000) (hF : FB F) (hN : NB N) (hZ : ZB K Z) (hwf : WF F N) (oa : Nat) (g : Nat → Int64) (hoa : ¬ A oa) (t : Nat) (ht : t < F 3) (hK3 : K + 400 ≤ 1000000) (hc : (N 13 t = 0 ∧ N 8 t ≠ 0 ∧ F 1 < N 10 (10 * t + 0))) : Met l yX0_cancel (wsW_ yX0_cancel cX0_cancel 4 (some .int) [(0, 9, 12, 13)]) ({ frames := 9, cells := 422, slots := 96545, locals := 265 }) (PH D cA A sa ad F N Z E oa g [.ref (ad 0 (0)), .int (iI (t)), .ref oa]) (Qi (fun z H' => z = 0 ∧ (∃ ad' E', ad' 0 0 = ad 0 0 ∧ NB (x2It F (x1It t (up2 N 13 t 1) Z (F 4)).2.2 (x1It t (up2 N 13 t 1) Z (F 4)).1 (x1It t (up2 N 13 t 1) Z (F 4)).2.1 (x1It t (up2 N 13 t 1) Z (F 4)).2.2.length).1 ∧ CW D cA A sa ad' F (x2It F (x1It t (up2 N 13 t 1) Z (F 4)).2.2 (x1It t (up2 N 13 t 1) Z (F 4)).1 (x1It t (up2 N 13 t 1) Z (F 4)).2.1 (x1It t (up2 N 13 t 1) Z (F 4)).2.2.length).1 (x2It F (x1It t (up2 N 13 t 1) Z (F 4)).2.2 (x1It t (up2 N 13 t 1) Z (F 4)).1 (x1It t (up2 N 13 t 1) Z (F 4)).2.1 (x1It t (up2 N 13 t 1) Z (F 4)).2.2.length).2 E' H') ∧ OC D cA oa (va_up g 0 ((iI (((x1It t (up2 N 13 t 1) Z (F 4)).2.2.length : Nat))).toInt64)) H') (Ao A oa)) 422 96545 (Ao A oa) := by
  refine va_MetW (cc := cX0_cancel) (maxL := 4) (ret := (some .int)) (hh := [(0, 9, 12, 13)]) (by decide) rfl ?_
  intro p e s m args below meth c s₁ B hml hv
  obtain ⟨rfl, hK, hW⟩ := hv
  have hx := B.exec
  have hb := B.bytes
  have hr := B.returns
  have hts := atoms_spec (ws := wsW_ yX0_cancel cX0_cancel 4 (some .int) [(0, 9, 12, 13)]) B.pre
  have htab := tab_of B (hts _ List.mem_cons_self)
  have hts : ∀ w ∈ lw_all, w.before _ s = true := fun w h => hts w (List.mem_cons_of_mem _ h)
  have hown : s.vm.findClass RX0 = some m.cls := findClass_of_methodNamed B.named
  have hlocks := B.notSynchronized
  have hl := lv_entry ([.ref (ad 0 (0)), .int (iI (t)), .ref oa]) (n := 4) (Nat.le_of_ble_eq_true rfl)
  rw [lg_entry_eq]
  generalize (lg_sl ([.ref (ad 0 (0)), .int (iI (t)), .ref oa]) ++ List.replicate (4 - (lg_sl ([.ref (ad 0 (0)), .int (iI (t)), .ref oa])).length) Slot.unset).toArray = ls at hl ⊢
  have hl : lv_has ls 4 [(0, .ref (ad 0 (0))), (1, .int (iI (t))), (2, .ref oa)] := hl
  obtain ⟨⟨⟨hSX, hW⟩, hTX⟩, hO⟩ := hW
  have hS : va_S (Ao A oa) s.heap s.heap [] := va_S.rf
  have hF2 : F 2 ≤ 10 := hF 2
  have hF3 : F 3 ≤ 16 := hF 3
  have hF4 : F 4 ≤ 60 := hF 4
  have hF5 : F 5 ≤ 40 := hF 5
  have hF1 : F 1 ≤ 1439 := hF 1
  refine lv_aload_n hx hb dX0_cancel_0 rfl (lv_at hl 2 rfl) ?_
  refine lv_iconst (v := iI (0)) hx hb dX0_cancel_1 rfl ?_
  refine lv_aload_n hx hb dX0_cancel_2 rfl (lv_at hl 0 rfl) ?_
  refine lv_iload_n hx hb dX0_cancel_3 rfl (lv_at hl 1 rfl) ?_
  refine rc_I (W.runV (As := [.int (iI (t))]) (rest := [.int (iI (0)), .ref oa]) ⟨hx, hb, hml, hown, hts⟩ (cc_X1_cancel l D cA A sa ad F N Z E K hKb hF hN hZ hwf t ht hK3) (cwV 1 hts (lw_V q846 q847 q848 q42 q849) rfl rfl rfl (by decide +kernel) ⟨Nat.le_of_ble_eq_true rfl, Nat.le_of_ble_eq_true rfl⟩) (preVC hK hSX va_S.rf hW.c0 rfl hW) rfl rfl hl.1 rfl (lv_room (Nat.le_of_ble_eq_true rfl)) dX0_cancel_4 ⟨Nat.le_of_ble_eq_true rfl, Nat.le_of_ble_eq_true rfl⟩) hS (fun q _ h => Or.inl h) (fun q h => Or.inl h) (fun z H1 locs1 hpost hS hz hq => ?_)
  have hO := hO.kept (hq _ hO.lt hoa)
  obtain ⟨ad2, E2, hadq, rfl, hN2, hwf2, hZ2, hW⟩ := hpost.1 hc
  refine lv_i2l hx hb dX0_cancel_7 rfl ?_
  refine h_last hx hb hK hO hS (Or.inr rfl) 0 rfl (by omega) (by decide) dX0_cancel_8 (fun H2 locs2 hO oq zq hS => ?_)
  have hW := hW.keptL (by exact hF3) hN2 (by omega) (fun k i hl => oq _ (fun e => hoa (e ▸ hW.2.1 k i hl)))
  refine lv_goto (tgt := 15) hx hb dX0_cancel_9 (by decide) ?_
  refine lv_iconst (v := iI (0)) hx hb dX0_cancel_15 rfl ?_
  exact W.iret hx hb hr (fun tt htt hWm => ⟨⟨_, rfl, by rw [htt]; exact ⟨rfl, ⟨ad2, E2, hadq, hN2, hW⟩, hO⟩⟩, hS.F htt⟩) hS.2.2 dX0_cancel_16

set_option maxHeartbeats 4000000 in
set_option maxRecDepth 100000 in
theorem hh_cancel_n (l : Launch) (D : va_G) (cA : Nat → ClassId) (A : Nat → Prop) (sa : Nat → Nat) (ad : Nat → Nat → Nat) (F : Nat → Nat) (N : Nat → Nat → Nat) (Z : Nat → Int) (E : Nat → Nat → Int) (K : Nat) (hKb : K ≤ 1000000) (hF : FB F) (hN : NB N) (hZ : ZB K Z) (hwf : WF F N) (oa : Nat) (g : Nat → Int64) (hoa : ¬ A oa) (t : Nat) (ht : t < F 3) (hK3 : K + 400 ≤ 1000000) (hc : ¬ (N 13 t = 0 ∧ N 8 t ≠ 0 ∧ F 1 < N 10 (10 * t + 0))) : Met l yX0_cancel (wsW_ yX0_cancel cX0_cancel 4 (some .int) [(0, 9, 12, 13)]) ({ frames := 9, cells := 422, slots := 96545, locals := 265 }) (PH D cA A sa ad F N Z E oa g [.ref (ad 0 (0)), .int (iI (t)), .ref oa]) (Qi (fun z H' => z = 0 ∧ CW D cA A sa ad F N Z E H' ∧ OC D cA oa (va_up g 0 ((iI (-1)).toInt64)) H') (Ao A oa)) 422 96545 (Ao A oa) := by
  refine va_MetW (cc := cX0_cancel) (maxL := 4) (ret := (some .int)) (hh := [(0, 9, 12, 13)]) (by decide) rfl ?_
  intro p e s m args below meth c s₁ B hml hv
  obtain ⟨rfl, hK, hW⟩ := hv
  have hx := B.exec
  have hb := B.bytes
  have hr := B.returns
  have hts := atoms_spec (ws := wsW_ yX0_cancel cX0_cancel 4 (some .int) [(0, 9, 12, 13)]) B.pre
  have htab := tab_of B (hts _ List.mem_cons_self)
  have hts : ∀ w ∈ lw_all, w.before _ s = true := fun w h => hts w (List.mem_cons_of_mem _ h)
  have hown : s.vm.findClass RX0 = some m.cls := findClass_of_methodNamed B.named
  have hlocks := B.notSynchronized
  have hl := lv_entry ([.ref (ad 0 (0)), .int (iI (t)), .ref oa]) (n := 4) (Nat.le_of_ble_eq_true rfl)
  rw [lg_entry_eq]
  generalize (lg_sl ([.ref (ad 0 (0)), .int (iI (t)), .ref oa]) ++ List.replicate (4 - (lg_sl ([.ref (ad 0 (0)), .int (iI (t)), .ref oa])).length) Slot.unset).toArray = ls at hl ⊢
  have hl : lv_has ls 4 [(0, .ref (ad 0 (0))), (1, .int (iI (t))), (2, .ref oa)] := hl
  obtain ⟨⟨⟨hSX, hW⟩, hTX⟩, hO⟩ := hW
  have hS : va_S (Ao A oa) s.heap s.heap [] := va_S.rf
  have hF2 : F 2 ≤ 10 := hF 2
  have hF3 : F 3 ≤ 16 := hF 3
  have hF4 : F 4 ≤ 60 := hF 4
  have hF5 : F 5 ≤ 40 := hF 5
  have hF1 : F 1 ≤ 1439 := hF 1
  refine lv_aload_n hx hb dX0_cancel_0 rfl (lv_at hl 2 rfl) ?_
  refine lv_iconst (v := iI (0)) hx hb dX0_cancel_1 rfl ?_
  refine lv_aload_n hx hb dX0_cancel_2 rfl (lv_at hl 0 rfl) ?_
  refine lv_iload_n hx hb dX0_cancel_3 rfl (lv_at hl 1 rfl) ?_
  refine rc_I (W.runV (As := [.int (iI (t))]) (rest := [.int (iI (0)), .ref oa]) ⟨hx, hb, hml, hown, hts⟩ (cc_X1_cancel l D cA A sa ad F N Z E K hKb hF hN hZ hwf t ht hK3) (cwV 1 hts (lw_V q846 q847 q848 q42 q849) rfl rfl rfl (by decide +kernel) ⟨Nat.le_of_ble_eq_true rfl, Nat.le_of_ble_eq_true rfl⟩) (preVC hK hSX va_S.rf hW.c0 rfl hW) rfl rfl hl.1 rfl (lv_room (Nat.le_of_ble_eq_true rfl)) dX0_cancel_4 ⟨Nat.le_of_ble_eq_true rfl, Nat.le_of_ble_eq_true rfl⟩) hS (fun q _ h => Or.inl h) (fun q h => Or.inl h) (fun z H1 locs1 hpost hS hz hq => ?_)
  have hO := hO.kept (hq _ hO.lt hoa)
  obtain ⟨rfl, hW⟩ := hpost.2 hc
  refine lv_i2l hx hb dX0_cancel_7 rfl ?_
  refine h_last hx hb hK hO hS (Or.inr rfl) 0 rfl (by omega) (by decide) dX0_cancel_8 (fun H2 locs2 hO oq zq hS => ?_)
  have hW := hW.keptL (by exact hF3) hN (by omega) (fun k i hl => oq _ (fun e => hoa (e ▸ hW.2.1 k i hl)))
  refine lv_goto (tgt := 15) hx hb dX0_cancel_9 (by decide) ?_
  refine lv_iconst (v := iI (0)) hx hb dX0_cancel_15 rfl ?_
  exact W.iret hx hb hr (fun tt htt hWm => ⟨⟨_, rfl, by rw [htt]; exact ⟨rfl, hW, hO⟩⟩, hS.F htt⟩) hS.2.2 dX0_cancel_16

set_option maxHeartbeats 4000000 in
set_option maxRecDepth 100000 in
theorem hh_empty (l : Launch) (D : va_G) (cA : Nat → ClassId) (A : Nat → Prop) (sa : Nat → Nat) (ad : Nat → Nat → Nat) (F : Nat → Nat) (N : Nat → Nat → Nat) (Z : Nat → Int) (E : Nat → Nat → Int) (K : Nat) (hKb : K ≤ 1000000) (hF : FB F) (hN : NB N) (hZ : ZB K Z) (hwf : WF F N) (oa : Nat) (g : Nat → Int64) (hoa : ¬ A oa) (b rd : Nat) (hb4 : b < F 4) (h21 : N 21 b = 0) (hst1 : N 25 (2 * b) = 1) (har : arW N (2 * b) ≤ F 1) (hr1 : F 1 ≤ rd) (hr2 : rd ≤ 1439) (h24 : N 24 (2 * b + 1) = 0) (h25 : N 25 (2 * b + 1) = 0) (h26 : N 26 (2 * b + 1) = 0) : Met l yX0_empty (wsW_ yX0_empty cX0_empty 5 (some .int) [(0, 17, 20, 13)]) ({ frames := 8, cells := 3, slots := 14, locals := 187 }) (PH D cA A sa ad F N Z E oa g [.ref (ad 0 (0)), .int (iI (b)), .int (iI (rd)), .ref oa]) (Qi (fun z H' => z = 0 ∧ (∃ ad', ad' 0 0 = ad 0 0 ∧ CW D cA A sa ad' F (up2 (up2 N 21 b 1) 20 b rd) Z E H') ∧ OC D cA oa (va_up g 0 (Int64.ofNat 1)) H') (Ao A oa)) 3 14 (Ao A oa) := by
  refine va_MetW (cc := cX0_empty) (maxL := 5) (ret := (some .int)) (hh := [(0, 17, 20, 13)]) (by decide) rfl ?_
  intro p e s m args below meth c s₁ B hml hv
  obtain ⟨rfl, hK, hW⟩ := hv
  have hx := B.exec
  have hb := B.bytes
  have hr := B.returns
  have hts := atoms_spec (ws := wsW_ yX0_empty cX0_empty 5 (some .int) [(0, 17, 20, 13)]) B.pre
  have htab := tab_of B (hts _ List.mem_cons_self)
  have hts : ∀ w ∈ lw_all, w.before _ s = true := fun w h => hts w (List.mem_cons_of_mem _ h)
  have hown : s.vm.findClass RX0 = some m.cls := findClass_of_methodNamed B.named
  have hlocks := B.notSynchronized
  have hl := lv_entry ([.ref (ad 0 (0)), .int (iI (b)), .int (iI (rd)), .ref oa]) (n := 5) (Nat.le_of_ble_eq_true rfl)
  rw [lg_entry_eq]
  generalize (lg_sl ([.ref (ad 0 (0)), .int (iI (b)), .int (iI (rd)), .ref oa]) ++ List.replicate (5 - (lg_sl ([.ref (ad 0 (0)), .int (iI (b)), .int (iI (rd)), .ref oa])).length) Slot.unset).toArray = ls at hl ⊢
  have hl : lv_has ls 5 [(0, .ref (ad 0 (0))), (1, .int (iI (b))), (2, .int (iI (rd))), (3, .ref oa)] := hl
  obtain ⟨⟨⟨hSX, hW⟩, hTX⟩, hO⟩ := hW
  have hS : va_S (Ao A oa) s.heap s.heap [] := va_S.rf
  have hF2 : F 2 ≤ 10 := hF 2
  have hF3 : F 3 ≤ 16 := hF 3
  have hF4 : F 4 ≤ 60 := hF 4
  have hF5 : F 5 ≤ 40 := hF 5
  have hF1 : F 1 ≤ 1439 := hF 1
  refine lv_aload_n hx hb dX0_empty_0 rfl (lv_at hl 3 rfl) ?_
  refine lv_iconst (v := iI (0)) hx hb dX0_empty_1 rfl ?_
  refine lv_aload_n hx hb dX0_empty_2 rfl (lv_at hl 0 rfl) ?_
  refine lv_iload_n hx hb dX0_empty_3 rfl (lv_at hl 1 rfl) ?_
  refine lv_iload_n hx hb dX0_empty_4 rfl (lv_at hl 2 rfl) ?_
  refine rc_I (W.runV (As := [.int (iI (b)), .int (iI (rd))]) (rest := [.int (iI (0)), .ref oa]) ⟨hx, hb, hml, hown, hts⟩ (cc_X1_empty l D cA A sa ad F N Z E K hKb hF hN hZ hwf b rd hb4 h21 hst1 har hr1 hr2 h24 h25 h26) (cwV 2 hts (lw_V q873 q874 q875 q42 q876) rfl rfl rfl (by decide +kernel) ⟨Nat.le_of_ble_eq_true rfl, Nat.le_of_ble_eq_true rfl⟩) (preVC hK hSX va_S.rf hW.c0 rfl hW) rfl rfl hl.1 rfl (lv_room (Nat.le_of_ble_eq_true rfl)) dX0_empty_5 ⟨Nat.le_of_ble_eq_true rfl, Nat.le_of_ble_eq_true rfl⟩) hS (fun q _ h => Or.inl h) (fun q h => Or.inl h) (fun z H1 locs1 hpost hS hz hq => ?_)
  have hO := hO.kept (hq _ hO.lt hoa)
  obtain ⟨rfl, ad2, hadq, hW⟩ := hpost
  refine ri_if_eq (tgt := 15) hx hb (by unfold inR; omega) dX0_empty_8 (by decide) (fun h1 => ?_) (fun h1 => ?_)
  · skip
    exfalso; omega
  · skip
    refine lv_lconst hx hb dX0_empty_11 rfl ?_
    refine lv_goto (tgt := 16) hx hb dX0_empty_12 (by decide) ?_
    refine h_last hx hb hK hO hS (Or.inr rfl) 0 rfl (by omega) (by decide) dX0_empty_16 (fun H2 locs2 hO oq zq hS => ?_)
    have hW := hW.keptL (by exact hF3) ((hN.up (by show 1 ≤ 1; omega)).up (by show rd ≤ 1439; omega)) (by omega) (fun k i hl => oq _ (fun e => hoa (e ▸ hW.2.1 k i hl)))
    refine lv_goto (tgt := 24) hx hb dX0_empty_17 (by decide) ?_
    refine lv_iconst (v := iI (0)) hx hb dX0_empty_24 rfl ?_
    exact W.iret hx hb hr (fun tt htt hWm => ⟨⟨_, rfl, by rw [htt]; exact ⟨rfl, ⟨ad2, hadq, hW⟩, hO⟩⟩, hS.F htt⟩) hS.2.2 dX0_empty_25

set_option maxHeartbeats 4000000 in
set_option maxRecDepth 100000 in
theorem hh_empty_n (l : Launch) (D : va_G) (cA : Nat → ClassId) (A : Nat → Prop) (sa : Nat → Nat) (ad : Nat → Nat → Nat) (F : Nat → Nat) (N : Nat → Nat → Nat) (Z : Nat → Int) (E : Nat → Nat → Int) (K : Nat) (hKb : K ≤ 1000000) (hF : FB F) (hN : NB N) (hZ : ZB K Z) (hwf : WF F N) (oa : Nat) (g : Nat → Int64) (hoa : ¬ A oa) (b : Nat) (rd : Int) (q_rd : inR rd) (hb4 : b < F 4) (hbad : ¬ (N 21 b = 0 ∧ N 25 (2 * b) = 1 ∧ arW N (2 * b) ≤ F 1 ∧ F 1 ≤ rd ∧ rd ≤ 1439)) : Met l yX0_empty (wsW_ yX0_empty cX0_empty 5 (some .int) [(0, 17, 20, 13)]) ({ frames := 8, cells := 0, slots := 0, locals := 187 }) (PH D cA A sa ad F N Z E oa g [.ref (ad 0 (0)), .int (iI (b)), .int (iI (rd)), .ref oa]) (Qi (fun z H' => z = 0 ∧ CW D cA A sa ad F N Z E H' ∧ OC D cA oa (va_up g 0 (Int64.ofNat 0)) H') (Ao A oa)) 0 0 (Ao A oa) := by
  refine va_MetW (cc := cX0_empty) (maxL := 5) (ret := (some .int)) (hh := [(0, 17, 20, 13)]) (by decide) rfl ?_
  intro p e s m args below meth c s₁ B hml hv
  obtain ⟨rfl, hK, hW⟩ := hv
  have hx := B.exec
  have hb := B.bytes
  have hr := B.returns
  have hts := atoms_spec (ws := wsW_ yX0_empty cX0_empty 5 (some .int) [(0, 17, 20, 13)]) B.pre
  have htab := tab_of B (hts _ List.mem_cons_self)
  have hts : ∀ w ∈ lw_all, w.before _ s = true := fun w h => hts w (List.mem_cons_of_mem _ h)
  have hown : s.vm.findClass RX0 = some m.cls := findClass_of_methodNamed B.named
  have hlocks := B.notSynchronized
  have hl := lv_entry ([.ref (ad 0 (0)), .int (iI (b)), .int (iI (rd)), .ref oa]) (n := 5) (Nat.le_of_ble_eq_true rfl)
  rw [lg_entry_eq]
  generalize (lg_sl ([.ref (ad 0 (0)), .int (iI (b)), .int (iI (rd)), .ref oa]) ++ List.replicate (5 - (lg_sl ([.ref (ad 0 (0)), .int (iI (b)), .int (iI (rd)), .ref oa])).length) Slot.unset).toArray = ls at hl ⊢
  have hl : lv_has ls 5 [(0, .ref (ad 0 (0))), (1, .int (iI (b))), (2, .int (iI (rd))), (3, .ref oa)] := hl
  obtain ⟨⟨⟨hSX, hW⟩, hTX⟩, hO⟩ := hW
  have hS : va_S (Ao A oa) s.heap s.heap [] := va_S.rf
  have hF2 : F 2 ≤ 10 := hF 2
  have hF3 : F 3 ≤ 16 := hF 3
  have hF4 : F 4 ≤ 60 := hF 4
  have hF5 : F 5 ≤ 40 := hF 5
  have hF1 : F 1 ≤ 1439 := hF 1
  refine lv_aload_n hx hb dX0_empty_0 rfl (lv_at hl 3 rfl) ?_
  refine lv_iconst (v := iI (0)) hx hb dX0_empty_1 rfl ?_
  refine lv_aload_n hx hb dX0_empty_2 rfl (lv_at hl 0 rfl) ?_
  refine lv_iload_n hx hb dX0_empty_3 rfl (lv_at hl 1 rfl) ?_
  refine lv_iload_n hx hb dX0_empty_4 rfl (lv_at hl 2 rfl) ?_
  refine rc_V (W.runV (As := [.int (iI (b)), .int (iI (rd))]) (rest := [.int (iI (0)), .ref oa]) ⟨hx, hb, hml, hown, hts⟩ (cc_X1_empty_n l D cA A sa ad F N Z E K hKb hF hN hZ hwf b rd q_rd hb4 hbad) (cwV 2 hts (lw_V q873 q874 q875 q42 q876) rfl rfl rfl (by decide +kernel) ⟨Nat.le_of_ble_eq_true rfl, Nat.le_of_ble_eq_true rfl⟩) (preVC hK hSX va_S.rf hW.c0 rfl hW) rfl rfl hl.1 rfl (lv_room (Nat.le_of_ble_eq_true rfl)) dX0_empty_5 ⟨Nat.le_of_ble_eq_true rfl, Nat.le_of_ble_eq_true rfl⟩) ?_
  refine W.eq (g2 := F0 m 8 ls [.int (iI (0)), .int (iI (0)), .ref oa]) rfl ?_
  refine ri_if_eq (tgt := 15) hx hb (by unfold inR; omega) dX0_empty_8 (by decide) (fun h1 => ?_) (fun h1 => ?_)
  · skip
    refine lv_lconst hx hb dX0_empty_15 rfl ?_
    refine h_last hx hb hK hO hS (Or.inr rfl) 0 rfl (by omega) (by decide) dX0_empty_16 (fun H2 locs2 hO oq zq hS => ?_)
    have hW := hW.keptL (by exact hF3) hN (by omega) (fun k i hl => oq _ (fun e => hoa (e ▸ hW.2.1 k i hl)))
    refine lv_goto (tgt := 24) hx hb dX0_empty_17 (by decide) ?_
    refine lv_iconst (v := iI (0)) hx hb dX0_empty_24 rfl ?_
    exact W.iret hx hb hr (fun tt htt hWm => ⟨⟨_, rfl, by rw [htt]; exact ⟨rfl, hW, hO⟩⟩, hS.F htt⟩) hS.2.2 dX0_empty_25
  · skip
    exfalso; omega
