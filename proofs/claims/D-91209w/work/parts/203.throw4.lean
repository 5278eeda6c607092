set_option maxRecDepth 100000
/-! the component's methods that throw -/
def PT (D : va_G) (cA : Nat → ClassId) (A : Nat → Prop) (sa : Nat → Nat) (ad : Nat → Nat → Nat) (F : Nat → Nat) (N : Nat → Nat → Nat) (Z : Nat → Int) (E : Nat → Nat → Int) (av : List Value) : Array Value → State → Prop := Pq D cA av (fun U => (SX A sa U ∧ CW D cA A sa ad F N Z E U.heap) ∧ TX A U)
theorem preVT {D : va_G} {cA : Nat → ClassId} {A : Nat → Prop} {sa : Nat → Nat} {ad : Nat → Nat → Nat} {F : Nat → Nat} {N : Nat → Nat → Nat} {Z : Nat → Int} {E : Nat → Nat → Int} {s : State} {H : Heap} {locs : List Loc} {b ci : Nat} {q : vw_C} {fs : List Value} {As : List Value} (hK : Kx D cA s) (hSX : SX A sa s) (hTX : TX A s) (hS : va_S A s.heap H locs) (hP : va_at D CL (b, .inr (ci, fs)) H) (hc : CL[ci]? = some q) (hW : CW D cA A sa ad F N Z E H) : PreV s H q.1 b (PT D cA A sa ad F N Z E (.ref b :: As)) As :=
  ⟨Pq.blind (fun U g mk a h => ⟨⟨h.1.1.blind, h.1.2⟩, h.2.blind⟩), va_recv hK.1 (va_P1 hP) hc (q0 := 0) rfl, fun U hU hWm => ⟨rfl, hK.moved hWm, ⟨hSX.call hS hU hWm.alike, by rw [hU]; exact hW⟩, hTX.call hS hU hWm.alike⟩⟩
theorem preST {D : va_G} {cA : Nat → ClassId} {A : Nat → Prop} {s : State} {H : Heap} {locs : List Loc} {As : List Value} (hK : Kx D cA s) (hTX : TX A s) (hS : va_S A s.heap H locs) : PreS s H (Pq D cA As (TX A)) As :=
  ⟨Pq.blind (fun U g mk a h => h.blind), fun U hU hWm => ⟨rfl, hK.moved hWm, hTX.call hS hU hWm.alike⟩⟩
theorem QT.out {D : va_G} {ci : Nat} {x : Addr} {s st₀ t u : State} (h0 : st₀.heap = s.heap) (hu : u.heap = t.heap) (h : QT D ci x st₀ t) : QT D ci x s u := by
  unfold QT at *
  rw [hu, ← h0]
  exact h
set_option maxHeartbeats 4000000 in
set_option maxRecDepth 100000 in
theorem cc_X1_trainAt_t (l : Launch) (hls : l.stackTraces = false) (D : va_G) (cA : Nat → ClassId) (A : Nat → Prop) (sa : Nat → Nat) (ad : Nat → Nat → Nat) (F : Nat → Nat) (N : Nat → Nat → Nat) (Z : Nat → Int) (E : Nat → Nat → Int) (K : Nat) (hKb : K ≤ 1000000) (hF : FB F) (hN : NB N) (hZ : ZB K Z) (hwf : WF F N) (a : Int) (ha : inR a) (hbad : ¬ (0 ≤ a ∧ a < F 3)) : MetT l yX1_trainAt (ws_ yX1_trainAt cX1_trainAt 2 (some (.object "LunchMarks$Train"))) ({ frames := 9, cells := 1, slots := 6, locals := 220 }) (PT D cA A sa ad F N Z E [.ref (ad 0 (0)), .int (iI (a))]) (QT D 10) 1 6 := by
  refine MetT.ofW (cc := cX1_trainAt) (maxL := 2) (ret := (some (.object "LunchMarks$Train"))) (by decide) rfl ?_
  intro p e s m args below meth c s₁ B hml hv
  obtain ⟨rfl, hK, hW⟩ := hv
  have hx := B.exec
  have hb := B.bytes
  have hts := atoms_spec (ws := ws_ yX1_trainAt cX1_trainAt 2 (some (.object "LunchMarks$Train"))) B.pre
  have hemp : c.exceptionTable = #[] := Array.isEmpty_iff.mp (B.noHandlers (hts _ List.mem_cons_self))
  have hts : ∀ w ∈ lw_all, w.before _ s = true := fun w h => hts w (List.mem_cons_of_mem _ h)
  have hown : s.vm.findClass RX1 = some m.cls := findClass_of_methodNamed B.named
  have hlocks := B.notSynchronized
  have hl := lv_entry ([.ref (ad 0 (0)), .int (iI (a))]) (n := 2) (Nat.le_of_ble_eq_true rfl)
  rw [lg_entry_eq]
  generalize (lg_sl ([.ref (ad 0 (0)), .int (iI (a))]) ++ List.replicate (2 - (lg_sl ([.ref (ad 0 (0)), .int (iI (a))])).length) Slot.unset).toArray = ls at hl ⊢
  have hl : lv_has ls 2 [(0, .ref (ad 0 (0))), (1, .int (iI (a)))] := hl
  obtain ⟨⟨hSX, hW⟩, hTX⟩ := hW
  have hS : va_S A s.heap s.heap [] := va_S.rf
  have hF2 : F 2 ≤ 10 := hF 2
  have hF3 : F 3 ≤ 16 := hF 3
  have hF4 : F 4 ≤ 60 := hF 4
  have hF5 : F 5 ≤ 40 := hF 5
  have hF1 : F 1 ≤ 1439 := hF 1
  have haa := ha
  unfold inR at ha
  refine lv_iload_n hx hb dX1_trainAt_0 rfl (lv_at hl 1 rfl) ?_
  refine ri_if_lt (tgt := 19) hx hb haa dX1_trainAt_1 (by decide) (fun h1 => ?_) (fun h1 => ?_)
  · skip
    refine lv_iconst (v := iI (0)) hx hb dX1_trainAt_19 rfl ?_
    exact T.out (T.runS (As := [.int (iI (0))]) (rest := []) ⟨hx, hb, hml, hown, hts⟩ (cc_X1_there_t l hls D cA A) (va_cwS 1 hts (lw_S q779 q780 q42 q781) rfl rfl rfl (by decide +kernel) ⟨Nat.le_of_ble_eq_true rfl, Nat.le_of_ble_eq_true rfl⟩) (preST hK hTX hS) rfl rfl hl.1 rfl (lv_room (Nat.le_of_ble_eq_true rfl)) dX1_trainAt_20 ⟨Nat.le_of_ble_eq_true rfl, Nat.le_of_ble_eq_true rfl⟩) hemp hlocks (fun x st₀ t u g1 g2 g3 => QT.out g1 g2 g3)
  · skip
    refine lv_iload_n hx hb dX1_trainAt_4 rfl (lv_at hl 1 rfl) ?_
    refine lv_aload_n hx hb dX1_trainAt_5 rfl (lv_at hl 0 rfl) ?_
    refine h_get hx hb hts in_X1 hown hK hW.c0 rfl 1 (by decide) (hts _ q422) rfl (v := .ref (ad 1 (1))) rfl dX1_trainAt_6 ?_
    obtain ⟨mc2, cp2, cq2, cr2, hLi2⟩ := hW.l1
    refine rc_V (W.runV (As := []) (rest := [.int (iI (a))]) ⟨hx, hb, hml, hown, hts⟩ (al_size l D cA (ad 1 (1)) mc2 (ad 2 (1)) (F 3)) (cwV 0 hts (lw_V q448 q449 q450 q45 q451) rfl rfl rfl (by decide +kernel) ⟨Nat.le_of_ble_eq_true rfl, Nat.le_of_ble_eq_true rfl⟩) (preV hK hLi2.1 rfl hLi2.1) rfl rfl hl.1 rfl (lv_room (Nat.le_of_ble_eq_true rfl)) dX1_trainAt_9 ⟨Nat.le_of_ble_eq_true rfl, Nat.le_of_ble_eq_true rfl⟩) ?_
    refine ri_icmp_ge (tgt := 19) hx hb haa (by unfold inR; omega) dX1_trainAt_12 (by decide) (fun h3 => ?_) (fun h3 => ?_)
    · skip
      refine lv_iconst (v := iI (0)) hx hb dX1_trainAt_19 rfl ?_
      exact T.out (T.runS (As := [.int (iI (0))]) (rest := []) ⟨hx, hb, hml, hown, hts⟩ (cc_X1_there_t l hls D cA A) (va_cwS 1 hts (lw_S q779 q780 q42 q781) rfl rfl rfl (by decide +kernel) ⟨Nat.le_of_ble_eq_true rfl, Nat.le_of_ble_eq_true rfl⟩) (preST hK hTX hS) rfl rfl hl.1 rfl (lv_room (Nat.le_of_ble_eq_true rfl)) dX1_trainAt_20 ⟨Nat.le_of_ble_eq_true rfl, Nat.le_of_ble_eq_true rfl⟩) hemp hlocks (fun x st₀ t u g1 g2 g3 => QT.out g1 g2 g3)
    · skip
      exfalso; omega

set_option maxHeartbeats 4000000 in
set_option maxRecDepth 100000 in
theorem cc_X1_boxAt_t (l : Launch) (hls : l.stackTraces = false) (D : va_G) (cA : Nat → ClassId) (A : Nat → Prop) (sa : Nat → Nat) (ad : Nat → Nat → Nat) (F : Nat → Nat) (N : Nat → Nat → Nat) (Z : Nat → Int) (E : Nat → Nat → Int) (K : Nat) (hKb : K ≤ 1000000) (hF : FB F) (hN : NB N) (hZ : ZB K Z) (hwf : WF F N) (a : Int) (ha : inR a) (hbad : ¬ (0 ≤ a ∧ a < F 4)) : MetT l yX1_boxAt (ws_ yX1_boxAt cX1_boxAt 2 (some (.object "LunchMarks$Box"))) ({ frames := 9, cells := 1, slots := 6, locals := 220 }) (PT D cA A sa ad F N Z E [.ref (ad 0 (0)), .int (iI (a))]) (QT D 10) 1 6 := by
  refine MetT.ofW (cc := cX1_boxAt) (maxL := 2) (ret := (some (.object "LunchMarks$Box"))) (by decide) rfl ?_
  intro p e s m args below meth c s₁ B hml hv
  obtain ⟨rfl, hK, hW⟩ := hv
  have hx := B.exec
  have hb := B.bytes
  have hts := atoms_spec (ws := ws_ yX1_boxAt cX1_boxAt 2 (some (.object "LunchMarks$Box"))) B.pre
  have hemp : c.exceptionTable = #[] := Array.isEmpty_iff.mp (B.noHandlers (hts _ List.mem_cons_self))
  have hts : ∀ w ∈ lw_all, w.before _ s = true := fun w h => hts w (List.mem_cons_of_mem _ h)
  have hown : s.vm.findClass RX1 = some m.cls := findClass_of_methodNamed B.named
  have hlocks := B.notSynchronized
  have hl := lv_entry ([.ref (ad 0 (0)), .int (iI (a))]) (n := 2) (Nat.le_of_ble_eq_true rfl)
  rw [lg_entry_eq]
  generalize (lg_sl ([.ref (ad 0 (0)), .int (iI (a))]) ++ List.replicate (2 - (lg_sl ([.ref (ad 0 (0)), .int (iI (a))])).length) Slot.unset).toArray = ls at hl ⊢
  have hl : lv_has ls 2 [(0, .ref (ad 0 (0))), (1, .int (iI (a)))] := hl
  obtain ⟨⟨hSX, hW⟩, hTX⟩ := hW
  have hS : va_S A s.heap s.heap [] := va_S.rf
  have hF2 : F 2 ≤ 10 := hF 2
  have hF3 : F 3 ≤ 16 := hF 3
  have hF4 : F 4 ≤ 60 := hF 4
  have hF5 : F 5 ≤ 40 := hF 5
  have hF1 : F 1 ≤ 1439 := hF 1
  have haa := ha
  unfold inR at ha
  refine lv_iload_n hx hb dX1_boxAt_0 rfl (lv_at hl 1 rfl) ?_
  refine ri_if_lt (tgt := 19) hx hb haa dX1_boxAt_1 (by decide) (fun h1 => ?_) (fun h1 => ?_)
  · skip
    refine lv_iconst (v := iI (0)) hx hb dX1_boxAt_19 rfl ?_
    exact T.out (T.runS (As := [.int (iI (0))]) (rest := []) ⟨hx, hb, hml, hown, hts⟩ (cc_X1_there_t l hls D cA A) (va_cwS 1 hts (lw_S q779 q780 q42 q781) rfl rfl rfl (by decide +kernel) ⟨Nat.le_of_ble_eq_true rfl, Nat.le_of_ble_eq_true rfl⟩) (preST hK hTX hS) rfl rfl hl.1 rfl (lv_room (Nat.le_of_ble_eq_true rfl)) dX1_boxAt_20 ⟨Nat.le_of_ble_eq_true rfl, Nat.le_of_ble_eq_true rfl⟩) hemp hlocks (fun x st₀ t u g1 g2 g3 => QT.out g1 g2 g3)
  · skip
    refine lv_iload_n hx hb dX1_boxAt_4 rfl (lv_at hl 1 rfl) ?_
    refine lv_aload_n hx hb dX1_boxAt_5 rfl (lv_at hl 0 rfl) ?_
    refine h_get hx hb hts in_X1 hown hK hW.c0 rfl 2 (by decide) (hts _ q423) rfl (v := .ref (ad 1 (2))) rfl dX1_boxAt_6 ?_
    obtain ⟨mc2, cp2, cq2, cr2, hLi2⟩ := hW.l2
    refine rc_V (W.runV (As := []) (rest := [.int (iI (a))]) ⟨hx, hb, hml, hown, hts⟩ (al_size l D cA (ad 1 (2)) mc2 (ad 2 (2)) (F 4)) (cwV 0 hts (lw_V q448 q449 q450 q45 q451) rfl rfl rfl (by decide +kernel) ⟨Nat.le_of_ble_eq_true rfl, Nat.le_of_ble_eq_true rfl⟩) (preV hK hLi2.1 rfl hLi2.1) rfl rfl hl.1 rfl (lv_room (Nat.le_of_ble_eq_true rfl)) dX1_boxAt_9 ⟨Nat.le_of_ble_eq_true rfl, Nat.le_of_ble_eq_true rfl⟩) ?_
    refine ri_icmp_ge (tgt := 19) hx hb haa (by unfold inR; omega) dX1_boxAt_12 (by decide) (fun h3 => ?_) (fun h3 => ?_)
    · skip
      refine lv_iconst (v := iI (0)) hx hb dX1_boxAt_19 rfl ?_
      exact T.out (T.runS (As := [.int (iI (0))]) (rest := []) ⟨hx, hb, hml, hown, hts⟩ (cc_X1_there_t l hls D cA A) (va_cwS 1 hts (lw_S q779 q780 q42 q781) rfl rfl rfl (by decide +kernel) ⟨Nat.le_of_ble_eq_true rfl, Nat.le_of_ble_eq_true rfl⟩) (preST hK hTX hS) rfl rfl hl.1 rfl (lv_room (Nat.le_of_ble_eq_true rfl)) dX1_boxAt_20 ⟨Nat.le_of_ble_eq_true rfl, Nat.le_of_ble_eq_true rfl⟩) hemp hlocks (fun x st₀ t u g1 g2 g3 => QT.out g1 g2 g3)
    · skip
      exfalso; omega

set_option maxHeartbeats 4000000 in
set_option maxRecDepth 100000 in
theorem cc_X1_stop_t (l : Launch) (hls : l.stackTraces = false) (D : va_G) (cA : Nat → ClassId) (A : Nat → Prop) (sa : Nat → Nat) (ad : Nat → Nat → Nat) (F : Nat → Nat) (N : Nat → Nat → Nat) (Z : Nat → Int) (E : Nat → Nat → Int) (K : Nat) (hKb : K ≤ 1000000) (hF : FB F) (hN : NB N) (hZ : ZB K Z) (hwf : WF F N) (a b d : Int) (ha : inR a) (hbad : ¬ (0 ≤ a ∧ a < F 3)) : MetT l yX1_stop (ws_ yX1_stop cX1_stop 6 (some .int)) ({ frames := 10, cells := 1, slots := 6, locals := 241 }) (PT D cA A sa ad F N Z E [.ref (ad 0 (0)), .int (iI (a)), .int (iI (b)), .int (iI (d))]) (QT D 10) 1 6 := by
  refine MetT.ofW (cc := cX1_stop) (maxL := 6) (ret := (some .int)) (by decide) rfl ?_
  intro p e s m args below meth c s₁ B hml hv
  obtain ⟨rfl, hK, hW⟩ := hv
  have hx := B.exec
  have hb := B.bytes
  have hts := atoms_spec (ws := ws_ yX1_stop cX1_stop 6 (some .int)) B.pre
  have hemp : c.exceptionTable = #[] := Array.isEmpty_iff.mp (B.noHandlers (hts _ List.mem_cons_self))
  have hts : ∀ w ∈ lw_all, w.before _ s = true := fun w h => hts w (List.mem_cons_of_mem _ h)
  have hown : s.vm.findClass RX1 = some m.cls := findClass_of_methodNamed B.named
  have hlocks := B.notSynchronized
  have hl := lv_entry ([.ref (ad 0 (0)), .int (iI (a)), .int (iI (b)), .int (iI (d))]) (n := 6) (Nat.le_of_ble_eq_true rfl)
  rw [lg_entry_eq]
  generalize (lg_sl ([.ref (ad 0 (0)), .int (iI (a)), .int (iI (b)), .int (iI (d))]) ++ List.replicate (6 - (lg_sl ([.ref (ad 0 (0)), .int (iI (a)), .int (iI (b)), .int (iI (d))])).length) Slot.unset).toArray = ls at hl ⊢
  have hl : lv_has ls 6 [(0, .ref (ad 0 (0))), (1, .int (iI (a))), (2, .int (iI (b))), (3, .int (iI (d)))] := hl
  obtain ⟨⟨hSX, hW⟩, hTX⟩ := hW
  have hS : va_S A s.heap s.heap [] := va_S.rf
  have hF2 : F 2 ≤ 10 := hF 2
  have hF3 : F 3 ≤ 16 := hF 3
  have hF4 : F 4 ≤ 60 := hF 4
  have hF5 : F 5 ≤ 40 := hF 5
  have hF1 : F 1 ≤ 1439 := hF 1
  have haa := ha
  unfold inR at ha
  refine lv_aload_n hx hb dX1_stop_0 rfl (lv_at hl 0 rfl) ?_
  refine lv_iload_n hx hb dX1_stop_1 rfl (lv_at hl 1 rfl) ?_
  exact T.out (T.runV (As := [.int (iI (a))]) (rest := []) ⟨hx, hb, hml, hown, hts⟩ (cc_X1_trainAt_t l hls D cA A sa ad F N Z E K hKb hF hN hZ hwf a haa hbad) (cwV 1 hts (lw_V q775 q777 qs10 q42 q778) rfl rfl rfl (by decide +kernel) ⟨Nat.le_of_ble_eq_true rfl, Nat.le_of_ble_eq_true rfl⟩) (preVT hK hSX hTX hS hW.c0 rfl hW) rfl rfl hl.1 rfl (lv_room (Nat.le_of_ble_eq_true rfl)) dX1_stop_2 ⟨Nat.le_of_ble_eq_true rfl, Nat.le_of_ble_eq_true rfl⟩) hemp hlocks (fun x st₀ t u g1 g2 g3 => QT.out g1 g2 g3)

set_option maxHeartbeats 4000000 in
set_option maxRecDepth 100000 in
theorem cc_X1_cancel_t (l : Launch) (hls : l.stackTraces = false) (D : va_G) (cA : Nat → ClassId) (A : Nat → Prop) (sa : Nat → Nat) (ad : Nat → Nat → Nat) (F : Nat → Nat) (N : Nat → Nat → Nat) (Z : Nat → Int) (E : Nat → Nat → Int) (K : Nat) (hKb : K ≤ 1000000) (hF : FB F) (hN : NB N) (hZ : ZB K Z) (hwf : WF F N) (a : Int) (ha : inR a) (hbad : ¬ (0 ≤ a ∧ a < F 3)) : MetT l yX1_cancel (ws_ yX1_cancel cX1_cancel 6 (some .int)) ({ frames := 10, cells := 1, slots := 6, locals := 241 }) (PT D cA A sa ad F N Z E [.ref (ad 0 (0)), .int (iI (a))]) (QT D 10) 1 6 := by
  refine MetT.ofW (cc := cX1_cancel) (maxL := 6) (ret := (some .int)) (by decide) rfl ?_
  intro p e s m args below meth c s₁ B hml hv
  obtain ⟨rfl, hK, hW⟩ := hv
  have hx := B.exec
  have hb := B.bytes
  have hts := atoms_spec (ws := ws_ yX1_cancel cX1_cancel 6 (some .int)) B.pre
  have hemp : c.exceptionTable = #[] := Array.isEmpty_iff.mp (B.noHandlers (hts _ List.mem_cons_self))
  have hts : ∀ w ∈ lw_all, w.before _ s = true := fun w h => hts w (List.mem_cons_of_mem _ h)
  have hown : s.vm.findClass RX1 = some m.cls := findClass_of_methodNamed B.named
  have hlocks := B.notSynchronized
  have hl := lv_entry ([.ref (ad 0 (0)), .int (iI (a))]) (n := 6) (Nat.le_of_ble_eq_true rfl)
  rw [lg_entry_eq]
  generalize (lg_sl ([.ref (ad 0 (0)), .int (iI (a))]) ++ List.replicate (6 - (lg_sl ([.ref (ad 0 (0)), .int (iI (a))])).length) Slot.unset).toArray = ls at hl ⊢
  have hl : lv_has ls 6 [(0, .ref (ad 0 (0))), (1, .int (iI (a)))] := hl
  obtain ⟨⟨hSX, hW⟩, hTX⟩ := hW
  have hS : va_S A s.heap s.heap [] := va_S.rf
  have hF2 : F 2 ≤ 10 := hF 2
  have hF3 : F 3 ≤ 16 := hF 3
  have hF4 : F 4 ≤ 60 := hF 4
  have hF5 : F 5 ≤ 40 := hF 5
  have hF1 : F 1 ≤ 1439 := hF 1
  have haa := ha
  unfold inR at ha
  refine lv_aload_n hx hb dX1_cancel_0 rfl (lv_at hl 0 rfl) ?_
  refine lv_iload_n hx hb dX1_cancel_1 rfl (lv_at hl 1 rfl) ?_
  exact T.out (T.runV (As := [.int (iI (a))]) (rest := []) ⟨hx, hb, hml, hown, hts⟩ (cc_X1_trainAt_t l hls D cA A sa ad F N Z E K hKb hF hN hZ hwf a haa hbad) (cwV 1 hts (lw_V q775 q777 qs10 q42 q778) rfl rfl rfl (by decide +kernel) ⟨Nat.le_of_ble_eq_true rfl, Nat.le_of_ble_eq_true rfl⟩) (preVT hK hSX hTX hS hW.c0 rfl hW) rfl rfl hl.1 rfl (lv_room (Nat.le_of_ble_eq_true rfl)) dX1_cancel_2 ⟨Nat.le_of_ble_eq_true rfl, Nat.le_of_ble_eq_true rfl⟩) hemp hlocks (fun x st₀ t u g1 g2 g3 => QT.out g1 g2 g3)

set_option maxHeartbeats 4000000 in
set_option maxRecDepth 100000 in
theorem cc_X1_empty_t (l : Launch) (hls : l.stackTraces = false) (D : va_G) (cA : Nat → ClassId) (A : Nat → Prop) (sa : Nat → Nat) (ad : Nat → Nat → Nat) (F : Nat → Nat) (N : Nat → Nat → Nat) (Z : Nat → Int) (E : Nat → Nat → Int) (K : Nat) (hKb : K ≤ 1000000) (hF : FB F) (hN : NB N) (hZ : ZB K Z) (hwf : WF F N) (a b : Int) (ha : inR a) (hbad : ¬ (0 ≤ a ∧ a < F 4)) : MetT l yX1_empty (ws_ yX1_empty cX1_empty 4 (some .boolean)) ({ frames := 10, cells := 1, slots := 6, locals := 241 }) (PT D cA A sa ad F N Z E [.ref (ad 0 (0)), .int (iI (a)), .int (iI (b))]) (QT D 10) 1 6 := by
  refine MetT.ofW (cc := cX1_empty) (maxL := 4) (ret := (some .boolean)) (by decide) rfl ?_
  intro p e s m args below meth c s₁ B hml hv
  obtain ⟨rfl, hK, hW⟩ := hv
  have hx := B.exec
  have hb := B.bytes
  have hts := atoms_spec (ws := ws_ yX1_empty cX1_empty 4 (some .boolean)) B.pre
  have hemp : c.exceptionTable = #[] := Array.isEmpty_iff.mp (B.noHandlers (hts _ List.mem_cons_self))
  have hts : ∀ w ∈ lw_all, w.before _ s = true := fun w h => hts w (List.mem_cons_of_mem _ h)
  have hown : s.vm.findClass RX1 = some m.cls := findClass_of_methodNamed B.named
  have hlocks := B.notSynchronized
  have hl := lv_entry ([.ref (ad 0 (0)), .int (iI (a)), .int (iI (b))]) (n := 4) (Nat.le_of_ble_eq_true rfl)
  rw [lg_entry_eq]
  generalize (lg_sl ([.ref (ad 0 (0)), .int (iI (a)), .int (iI (b))]) ++ List.replicate (4 - (lg_sl ([.ref (ad 0 (0)), .int (iI (a)), .int (iI (b))])).length) Slot.unset).toArray = ls at hl ⊢
  have hl : lv_has ls 4 [(0, .ref (ad 0 (0))), (1, .int (iI (a))), (2, .int (iI (b)))] := hl
  obtain ⟨⟨hSX, hW⟩, hTX⟩ := hW
  have hS : va_S A s.heap s.heap [] := va_S.rf
  have hF2 : F 2 ≤ 10 := hF 2
  have hF3 : F 3 ≤ 16 := hF 3
  have hF4 : F 4 ≤ 60 := hF 4
  have hF5 : F 5 ≤ 40 := hF 5
  have hF1 : F 1 ≤ 1439 := hF 1
  have haa := ha
  unfold inR at ha
  refine lv_aload_n hx hb dX1_empty_0 rfl (lv_at hl 0 rfl) ?_
  refine lv_iload_n hx hb dX1_empty_1 rfl (lv_at hl 1 rfl) ?_
  exact T.out (T.runV (As := [.int (iI (a))]) (rest := []) ⟨hx, hb, hml, hown, hts⟩ (cc_X1_boxAt_t l hls D cA A sa ad F N Z E K hKb hF hN hZ hwf a haa hbad) (cwV 1 hts (lw_V q877 q879 qs13 q42 q880) rfl rfl rfl (by decide +kernel) ⟨Nat.le_of_ble_eq_true rfl, Nat.le_of_ble_eq_true rfl⟩) (preVT hK hSX hTX hS hW.c0 rfl hW) rfl rfl hl.1 rfl (lv_room (Nat.le_of_ble_eq_true rfl)) dX1_empty_2 ⟨Nat.le_of_ble_eq_true rfl, Nat.le_of_ble_eq_true rfl⟩) hemp hlocks (fun x st₀ t u g1 g2 g3 => QT.out g1 g2 g3)

set_option maxHeartbeats 4000000 in
set_option maxRecDepth 100000 in
theorem cc_X1_of_t (l : Launch) (hls : l.stackTraces = false) (D : va_G) (cA : Nat → ClassId) (A : Nat → Prop) (sa : Nat → Nat) (ad : Nat → Nat → Nat) (F : Nat → Nat) (N : Nat → Nat → Nat) (Z : Nat → Int) (E : Nat → Nat → Int) (K : Nat) (hKb : K ≤ 1000000) (hF : FB F) (hN : NB N) (hZ : ZB K Z) (hwf : WF F N) (a b : Int) (ha : inR a) (hbad : ¬ (0 ≤ a ∧ a < F 4)) : MetT l yX1_of (ws_ yX1_of cX1_of 6 (some .int)) ({ frames := 10, cells := 1, slots := 6, locals := 241 }) (PT D cA A sa ad F N Z E [.ref (ad 0 (0)), .int (iI (a)), .int (iI (b))]) (QT D 10) 1 6 := by
  refine MetT.ofW (cc := cX1_of) (maxL := 6) (ret := (some .int)) (by decide) rfl ?_
  intro p e s m args below meth c s₁ B hml hv
  obtain ⟨rfl, hK, hW⟩ := hv
  have hx := B.exec
  have hb := B.bytes
  have hts := atoms_spec (ws := ws_ yX1_of cX1_of 6 (some .int)) B.pre
  have hemp : c.exceptionTable = #[] := Array.isEmpty_iff.mp (B.noHandlers (hts _ List.mem_cons_self))
  have hts : ∀ w ∈ lw_all, w.before _ s = true := fun w h => hts w (List.mem_cons_of_mem _ h)
  have hown : s.vm.findClass RX1 = some m.cls := findClass_of_methodNamed B.named
  have hlocks := B.notSynchronized
  have hl := lv_entry ([.ref (ad 0 (0)), .int (iI (a)), .int (iI (b))]) (n := 6) (Nat.le_of_ble_eq_true rfl)
  rw [lg_entry_eq]
  generalize (lg_sl ([.ref (ad 0 (0)), .int (iI (a)), .int (iI (b))]) ++ List.replicate (6 - (lg_sl ([.ref (ad 0 (0)), .int (iI (a)), .int (iI (b))])).length) Slot.unset).toArray = ls at hl ⊢
  have hl : lv_has ls 6 [(0, .ref (ad 0 (0))), (1, .int (iI (a))), (2, .int (iI (b)))] := hl
  obtain ⟨⟨hSX, hW⟩, hTX⟩ := hW
  have hS : va_S A s.heap s.heap [] := va_S.rf
  have hF2 : F 2 ≤ 10 := hF 2
  have hF3 : F 3 ≤ 16 := hF 3
  have hF4 : F 4 ≤ 60 := hF 4
  have hF5 : F 5 ≤ 40 := hF 5
  have hF1 : F 1 ≤ 1439 := hF 1
  have haa := ha
  unfold inR at ha
  refine lv_aload_n hx hb dX1_of_0 rfl (lv_at hl 0 rfl) ?_
  refine lv_iload_n hx hb dX1_of_1 rfl (lv_at hl 1 rfl) ?_
  exact T.out (T.runV (As := [.int (iI (a))]) (rest := []) ⟨hx, hb, hml, hown, hts⟩ (cc_X1_boxAt_t l hls D cA A sa ad F N Z E K hKb hF hN hZ hwf a haa hbad) (cwV 1 hts (lw_V q877 q879 qs13 q42 q880) rfl rfl rfl (by decide +kernel) ⟨Nat.le_of_ble_eq_true rfl, Nat.le_of_ble_eq_true rfl⟩) (preVT hK hSX hTX hS hW.c0 rfl hW) rfl rfl hl.1 rfl (lv_room (Nat.le_of_ble_eq_true rfl)) dX1_of_2 ⟨Nat.le_of_ble_eq_true rfl, Nat.le_of_ble_eq_true rfl⟩) hemp hlocks (fun x st₀ t u g1 g2 g3 => QT.out g1 g2 g3)

set_option maxHeartbeats 4000000 in
set_option maxRecDepth 100000 in
theorem cc_X1_leg_t (l : Launch) (hls : l.stackTraces = false) (D : va_G) (cA : Nat → ClassId) (A : Nat → Prop) (sa : Nat → Nat) (ad : Nat → Nat → Nat) (F : Nat → Nat) (N : Nat → Nat → Nat) (Z : Nat → Int) (E : Nat → Nat → Int) (K : Nat) (hKb : K ≤ 1000000) (hF : FB F) (hN : NB N) (hZ : ZB K Z) (hwf : WF F N) (a b d : Int) (ha : inR a) (hbad : ¬ (0 ≤ a ∧ a < F 4)) : MetT l yX1_leg (ws_ yX1_leg cX1_leg 8 (some .int)) ({ frames := 10, cells := 1, slots := 6, locals := 241 }) (PT D cA A sa ad F N Z E [.ref (ad 0 (0)), .int (iI (a)), .int (iI (b)), .int (iI (d))]) (QT D 10) 1 6 := by
  refine MetT.ofW (cc := cX1_leg) (maxL := 8) (ret := (some .int)) (by decide) rfl ?_
  intro p e s m args below meth c s₁ B hml hv
  obtain ⟨rfl, hK, hW⟩ := hv
  have hx := B.exec
  have hb := B.bytes
  have hts := atoms_spec (ws := ws_ yX1_leg cX1_leg 8 (some .int)) B.pre
  have hemp : c.exceptionTable = #[] := Array.isEmpty_iff.mp (B.noHandlers (hts _ List.mem_cons_self))
  have hts : ∀ w ∈ lw_all, w.before _ s = true := fun w h => hts w (List.mem_cons_of_mem _ h)
  have hown : s.vm.findClass RX1 = some m.cls := findClass_of_methodNamed B.named
  have hlocks := B.notSynchronized
  have hl := lv_entry ([.ref (ad 0 (0)), .int (iI (a)), .int (iI (b)), .int (iI (d))]) (n := 8) (Nat.le_of_ble_eq_true rfl)
  rw [lg_entry_eq]
  generalize (lg_sl ([.ref (ad 0 (0)), .int (iI (a)), .int (iI (b)), .int (iI (d))]) ++ List.replicate (8 - (lg_sl ([.ref (ad 0 (0)), .int (iI (a)), .int (iI (b)), .int (iI (d))])).length) Slot.unset).toArray = ls at hl ⊢
  have hl : lv_has ls 8 [(0, .ref (ad 0 (0))), (1, .int (iI (a))), (2, .int (iI (b))), (3, .int (iI (d)))] := hl
  obtain ⟨⟨hSX, hW⟩, hTX⟩ := hW
  have hS : va_S A s.heap s.heap [] := va_S.rf
  have hF2 : F 2 ≤ 10 := hF 2
  have hF3 : F 3 ≤ 16 := hF 3
  have hF4 : F 4 ≤ 60 := hF 4
  have hF5 : F 5 ≤ 40 := hF 5
  have hF1 : F 1 ≤ 1439 := hF 1
  have haa := ha
  unfold inR at ha
  refine lv_aload_n hx hb dX1_leg_0 rfl (lv_at hl 0 rfl) ?_
  refine lv_iload_n hx hb dX1_leg_1 rfl (lv_at hl 1 rfl) ?_
  exact T.out (T.runV (As := [.int (iI (a))]) (rest := []) ⟨hx, hb, hml, hown, hts⟩ (cc_X1_boxAt_t l hls D cA A sa ad F N Z E K hKb hF hN hZ hwf a haa hbad) (cwV 1 hts (lw_V q877 q879 qs13 q42 q880) rfl rfl rfl (by decide +kernel) ⟨Nat.le_of_ble_eq_true rfl, Nat.le_of_ble_eq_true rfl⟩) (preVT hK hSX hTX hS hW.c0 rfl hW) rfl rfl hl.1 rfl (lv_room (Nat.le_of_ble_eq_true rfl)) dX1_leg_2 ⟨Nat.le_of_ble_eq_true rfl, Nat.le_of_ble_eq_true rfl⟩) hemp hlocks (fun x st₀ t u g1 g2 g3 => QT.out g1 g2 g3)

set_option maxHeartbeats 4000000 in
set_option maxRecDepth 100000 in
theorem cc_X1_load_t (l : Launch) (hls : l.stackTraces = false) (D : va_G) (cA : Nat → ClassId) (A : Nat → Prop) (sa : Nat → Nat) (ad : Nat → Nat → Nat) (F : Nat → Nat) (N : Nat → Nat → Nat) (Z : Nat → Int) (E : Nat → Nat → Int) (K : Nat) (hKb : K ≤ 1000000) (hF : FB F) (hN : NB N) (hZ : ZB K Z) (hwf : WF F N) (a b : Int) (ha : inR a) (hbad : ¬ (0 ≤ a ∧ a < F 3)) : MetT l yX1_load (ws_ yX1_load cX1_load 4 (some .int)) ({ frames := 10, cells := 1, slots := 6, locals := 241 }) (PT D cA A sa ad F N Z E [.ref (ad 0 (0)), .int (iI (a)), .int (iI (b))]) (QT D 10) 1 6 := by
  refine MetT.ofW (cc := cX1_load) (maxL := 4) (ret := (some .int)) (by decide) rfl ?_
  intro p e s m args below meth c s₁ B hml hv
  obtain ⟨rfl, hK, hW⟩ := hv
  have hx := B.exec
  have hb := B.bytes
  have hts := atoms_spec (ws := ws_ yX1_load cX1_load 4 (some .int)) B.pre
  have hemp : c.exceptionTable = #[] := Array.isEmpty_iff.mp (B.noHandlers (hts _ List.mem_cons_self))
  have hts : ∀ w ∈ lw_all, w.before _ s = true := fun w h => hts w (List.mem_cons_of_mem _ h)
  have hown : s.vm.findClass RX1 = some m.cls := findClass_of_methodNamed B.named
  have hlocks := B.notSynchronized
  have hl := lv_entry ([.ref (ad 0 (0)), .int (iI (a)), .int (iI (b))]) (n := 4) (Nat.le_of_ble_eq_true rfl)
  rw [lg_entry_eq]
  generalize (lg_sl ([.ref (ad 0 (0)), .int (iI (a)), .int (iI (b))]) ++ List.replicate (4 - (lg_sl ([.ref (ad 0 (0)), .int (iI (a)), .int (iI (b))])).length) Slot.unset).toArray = ls at hl ⊢
  have hl : lv_has ls 4 [(0, .ref (ad 0 (0))), (1, .int (iI (a))), (2, .int (iI (b)))] := hl
  obtain ⟨⟨hSX, hW⟩, hTX⟩ := hW
  have hS : va_S A s.heap s.heap [] := va_S.rf
  have hF2 : F 2 ≤ 10 := hF 2
  have hF3 : F 3 ≤ 16 := hF 3
  have hF4 : F 4 ≤ 60 := hF 4
  have hF5 : F 5 ≤ 40 := hF 5
  have hF1 : F 1 ≤ 1439 := hF 1
  have haa := ha
  unfold inR at ha
  refine lv_aload_n hx hb dX1_load_0 rfl (lv_at hl 0 rfl) ?_
  refine lv_iload_n hx hb dX1_load_1 rfl (lv_at hl 1 rfl) ?_
  exact T.out (T.runV (As := [.int (iI (a))]) (rest := []) ⟨hx, hb, hml, hown, hts⟩ (cc_X1_trainAt_t l hls D cA A sa ad F N Z E K hKb hF hN hZ hwf a haa hbad) (cwV 1 hts (lw_V q775 q777 qs10 q42 q778) rfl rfl rfl (by decide +kernel) ⟨Nat.le_of_ble_eq_true rfl, Nat.le_of_ble_eq_true rfl⟩) (preVT hK hSX hTX hS hW.c0 rfl hW) rfl rfl hl.1 rfl (lv_room (Nat.le_of_ble_eq_true rfl)) dX1_load_2 ⟨Nat.le_of_ble_eq_true rfl, Nat.le_of_ble_eq_true rfl⟩) hemp hlocks (fun x st₀ t u g1 g2 g3 => QT.out g1 g2 g3)

set_option maxHeartbeats 4000000 in
set_option maxRecDepth 100000 in
theorem cc_X1_where_t (l : Launch) (hls : l.stackTraces = false) (D : va_G) (cA : Nat → ClassId) (A : Nat → Prop) (sa : Nat → Nat) (ad : Nat → Nat → Nat) (F : Nat → Nat) (N : Nat → Nat → Nat) (Z : Nat → Int) (E : Nat → Nat → Int) (K : Nat) (hKb : K ≤ 1000000) (hF : FB F) (hN : NB N) (hZ : ZB K Z) (hwf : WF F N) (a : Int) (ha : inR a) (hbad : ¬ (0 ≤ a ∧ a < F 4)) : MetT l yX1_where (ws_ yX1_where cX1_where 4 (some .int)) ({ frames := 10, cells := 1, slots := 6, locals := 241 }) (PT D cA A sa ad F N Z E [.ref (ad 0 (0)), .int (iI (a))]) (QT D 10) 1 6 := by
  refine MetT.ofW (cc := cX1_where) (maxL := 4) (ret := (some .int)) (by decide) rfl ?_
  intro p e s m args below meth c s₁ B hml hv
  obtain ⟨rfl, hK, hW⟩ := hv
  have hx := B.exec
  have hb := B.bytes
  have hts := atoms_spec (ws := ws_ yX1_where cX1_where 4 (some .int)) B.pre
  have hemp : c.exceptionTable = #[] := Array.isEmpty_iff.mp (B.noHandlers (hts _ List.mem_cons_self))
  have hts : ∀ w ∈ lw_all, w.before _ s = true := fun w h => hts w (List.mem_cons_of_mem _ h)
  have hown : s.vm.findClass RX1 = some m.cls := findClass_of_methodNamed B.named
  have hlocks := B.notSynchronized
  have hl := lv_entry ([.ref (ad 0 (0)), .int (iI (a))]) (n := 4) (Nat.le_of_ble_eq_true rfl)
  rw [lg_entry_eq]
  generalize (lg_sl ([.ref (ad 0 (0)), .int (iI (a))]) ++ List.replicate (4 - (lg_sl ([.ref (ad 0 (0)), .int (iI (a))])).length) Slot.unset).toArray = ls at hl ⊢
  have hl : lv_has ls 4 [(0, .ref (ad 0 (0))), (1, .int (iI (a)))] := hl
  obtain ⟨⟨hSX, hW⟩, hTX⟩ := hW
  have hS : va_S A s.heap s.heap [] := va_S.rf
  have hF2 : F 2 ≤ 10 := hF 2
  have hF3 : F 3 ≤ 16 := hF 3
  have hF4 : F 4 ≤ 60 := hF 4
  have hF5 : F 5 ≤ 40 := hF 5
  have hF1 : F 1 ≤ 1439 := hF 1
  have haa := ha
  unfold inR at ha
  refine lv_aload_n hx hb dX1_where_0 rfl (lv_at hl 0 rfl) ?_
  refine lv_iload_n hx hb dX1_where_1 rfl (lv_at hl 1 rfl) ?_
  exact T.out (T.runV (As := [.int (iI (a))]) (rest := []) ⟨hx, hb, hml, hown, hts⟩ (cc_X1_boxAt_t l hls D cA A sa ad F N Z E K hKb hF hN hZ hwf a haa hbad) (cwV 1 hts (lw_V q877 q879 qs13 q42 q880) rfl rfl rfl (by decide +kernel) ⟨Nat.le_of_ble_eq_true rfl, Nat.le_of_ble_eq_true rfl⟩) (preVT hK hSX hTX hS hW.c0 rfl hW) rfl rfl hl.1 rfl (lv_room (Nat.le_of_ble_eq_true rfl)) dX1_where_2 ⟨Nat.le_of_ble_eq_true rfl, Nat.le_of_ble_eq_true rfl⟩) hemp hlocks (fun x st₀ t u g1 g2 g3 => QT.out g1 g2 g3)

set_option maxHeartbeats 4000000 in
set_option maxRecDepth 100000 in
theorem cc_X1_mark_t (l : Launch) (hls : l.stackTraces = false) (D : va_G) (cA : Nat → ClassId) (A : Nat → Prop) (sa : Nat → Nat) (ad : Nat → Nat → Nat) (F : Nat → Nat) (N : Nat → Nat → Nat) (Z : Nat → Int) (E : Nat → Nat → Int) (K : Nat) (hKb : K ≤ 1000000) (hF : FB F) (hN : NB N) (hZ : ZB K Z) (hwf : WF F N) (a : Int) (ha : inR a) (hbad : ¬ (0 ≤ a ∧ a < F 4)) : MetT l yX1_mark (ws_ yX1_mark cX1_mark 5 (some .int)) ({ frames := 10, cells := 1, slots := 6, locals := 241 }) (PT D cA A sa ad F N Z E [.ref (ad 0 (0)), .int (iI (a))]) (QT D 10) 1 6 := by
  refine MetT.ofW (cc := cX1_mark) (maxL := 5) (ret := (some .int)) (by decide) rfl ?_
  intro p e s m args below meth c s₁ B hml hv
  obtain ⟨rfl, hK, hW⟩ := hv
  have hx := B.exec
  have hb := B.bytes
  have hts := atoms_spec (ws := ws_ yX1_mark cX1_mark 5 (some .int)) B.pre
  have hemp : c.exceptionTable = #[] := Array.isEmpty_iff.mp (B.noHandlers (hts _ List.mem_cons_self))
  have hts : ∀ w ∈ lw_all, w.before _ s = true := fun w h => hts w (List.mem_cons_of_mem _ h)
  have hown : s.vm.findClass RX1 = some m.cls := findClass_of_methodNamed B.named
  have hlocks := B.notSynchronized
  have hl := lv_entry ([.ref (ad 0 (0)), .int (iI (a))]) (n := 5) (Nat.le_of_ble_eq_true rfl)
  rw [lg_entry_eq]
  generalize (lg_sl ([.ref (ad 0 (0)), .int (iI (a))]) ++ List.replicate (5 - (lg_sl ([.ref (ad 0 (0)), .int (iI (a))])).length) Slot.unset).toArray = ls at hl ⊢
  have hl : lv_has ls 5 [(0, .ref (ad 0 (0))), (1, .int (iI (a)))] := hl
  obtain ⟨⟨hSX, hW⟩, hTX⟩ := hW
  have hS : va_S A s.heap s.heap [] := va_S.rf
  have hF2 : F 2 ≤ 10 := hF 2
  have hF3 : F 3 ≤ 16 := hF 3
  have hF4 : F 4 ≤ 60 := hF 4
  have hF5 : F 5 ≤ 40 := hF 5
  have hF1 : F 1 ≤ 1439 := hF 1
  have haa := ha
  unfold inR at ha
  refine lv_aload_n hx hb dX1_mark_0 rfl (lv_at hl 0 rfl) ?_
  refine lv_iload_n hx hb dX1_mark_1 rfl (lv_at hl 1 rfl) ?_
  exact T.out (T.runV (As := [.int (iI (a))]) (rest := []) ⟨hx, hb, hml, hown, hts⟩ (cc_X1_boxAt_t l hls D cA A sa ad F N Z E K hKb hF hN hZ hwf a haa hbad) (cwV 1 hts (lw_V q877 q879 qs13 q42 q880) rfl rfl rfl (by decide +kernel) ⟨Nat.le_of_ble_eq_true rfl, Nat.le_of_ble_eq_true rfl⟩) (preVT hK hSX hTX hS hW.c0 rfl hW) rfl rfl hl.1 rfl (lv_room (Nat.le_of_ble_eq_true rfl)) dX1_mark_2 ⟨Nat.le_of_ble_eq_true rfl, Nat.le_of_ble_eq_true rfl⟩) hemp hlocks (fun x st₀ t u g1 g2 g3 => QT.out g1 g2 g3)

set_option maxHeartbeats 4000000 in
set_option maxRecDepth 100000 in
theorem cc_X1_minutes_t (l : Launch) (hls : l.stackTraces = false) (D : va_G) (cA : Nat → ClassId) (A : Nat → Prop) (sa : Nat → Nat) (ad : Nat → Nat → Nat) (F : Nat → Nat) (N : Nat → Nat → Nat) (Z : Nat → Int) (E : Nat → Nat → Int) (K : Nat) (hKb : K ≤ 1000000) (hF : FB F) (hN : NB N) (hZ : ZB K Z) (hwf : WF F N) (a : Int) (ha : inR a) (hbad : ¬ (0 ≤ a ∧ a + F 1 ≤ 1439)) : MetT l yX1_minutes (ws_ yX1_minutes cX1_minutes 2 (some .int)) ({ frames := 9, cells := 1, slots := 6, locals := 220 }) (PT D cA A sa ad F N Z E [.ref (ad 0 (0)), .int (iI (a))]) (QT D 11) 1 6 := by
  refine MetT.ofW (cc := cX1_minutes) (maxL := 2) (ret := (some .int)) (by decide) rfl ?_
  intro p e s m args below meth c s₁ B hml hv
  obtain ⟨rfl, hK, hW⟩ := hv
  have hx := B.exec
  have hb := B.bytes
  have hts := atoms_spec (ws := ws_ yX1_minutes cX1_minutes 2 (some .int)) B.pre
  have hemp : c.exceptionTable = #[] := Array.isEmpty_iff.mp (B.noHandlers (hts _ List.mem_cons_self))
  have hts : ∀ w ∈ lw_all, w.before _ s = true := fun w h => hts w (List.mem_cons_of_mem _ h)
  have hown : s.vm.findClass RX1 = some m.cls := findClass_of_methodNamed B.named
  have hlocks := B.notSynchronized
  have hl := lv_entry ([.ref (ad 0 (0)), .int (iI (a))]) (n := 2) (Nat.le_of_ble_eq_true rfl)
  rw [lg_entry_eq]
  generalize (lg_sl ([.ref (ad 0 (0)), .int (iI (a))]) ++ List.replicate (2 - (lg_sl ([.ref (ad 0 (0)), .int (iI (a))])).length) Slot.unset).toArray = ls at hl ⊢
  have hl : lv_has ls 2 [(0, .ref (ad 0 (0))), (1, .int (iI (a)))] := hl
  obtain ⟨⟨hSX, hW⟩, hTX⟩ := hW
  have hS : va_S A s.heap s.heap [] := va_S.rf
  have hF2 : F 2 ≤ 10 := hF 2
  have hF3 : F 3 ≤ 16 := hF 3
  have hF4 : F 4 ≤ 60 := hF 4
  have hF5 : F 5 ≤ 40 := hF 5
  have hF1 : F 1 ≤ 1439 := hF 1
  have haa := ha
  unfold inR at ha
  refine lv_iload_n hx hb dX1_minutes_0 rfl (lv_at hl 1 rfl) ?_
  refine ri_if_lt (tgt := 20) hx hb haa dX1_minutes_1 (by decide) (fun h1 => ?_) (fun h1 => ?_)
  · skip
    refine lv_iconst (v := iI (0)) hx hb dX1_minutes_20 rfl ?_
    exact T.out (T.runS (As := [.int (iI (0))]) (rest := []) ⟨hx, hb, hml, hown, hts⟩ (cc_X1_right_t l hls D cA A) (va_cwS 1 hts (lw_S q835 q836 q42 q837) rfl rfl rfl (by decide +kernel) ⟨Nat.le_of_ble_eq_true rfl, Nat.le_of_ble_eq_true rfl⟩) (preST hK hTX hS) rfl rfl hl.1 rfl (lv_room (Nat.le_of_ble_eq_true rfl)) dX1_minutes_21 ⟨Nat.le_of_ble_eq_true rfl, Nat.le_of_ble_eq_true rfl⟩) hemp hlocks (fun x st₀ t u g1 g2 g3 => QT.out g1 g2 g3)
  · skip
    refine lv_iload_n hx hb dX1_minutes_4 rfl (lv_at hl 1 rfl) ?_
    refine lv_sipush (v := iI (1439)) hx hb dX1_minutes_5 (by decide) ?_
    refine lv_aload_n hx hb dX1_minutes_8 rfl (lv_at hl 0 rfl) ?_
    refine h_get hx hb hts in_X1 hown hK hW.c0 rfl 4 (by decide) (hts _ q425) rfl (v := .int (iI (F 1))) rfl dX1_minutes_9 ?_
    refine ri_isub hx hb dX1_minutes_12 ?_
    refine ri_icmp_gt (tgt := 20) hx hb haa (by unfold inR; omega) dX1_minutes_13 (by decide) (fun h2 => ?_) (fun h2 => ?_)
    · skip
      refine lv_iconst (v := iI (0)) hx hb dX1_minutes_20 rfl ?_
      exact T.out (T.runS (As := [.int (iI (0))]) (rest := []) ⟨hx, hb, hml, hown, hts⟩ (cc_X1_right_t l hls D cA A) (va_cwS 1 hts (lw_S q835 q836 q42 q837) rfl rfl rfl (by decide +kernel) ⟨Nat.le_of_ble_eq_true rfl, Nat.le_of_ble_eq_true rfl⟩) (preST hK hTX hS) rfl rfl hl.1 rfl (lv_room (Nat.le_of_ble_eq_true rfl)) dX1_minutes_21 ⟨Nat.le_of_ble_eq_true rfl, Nat.le_of_ble_eq_true rfl⟩) hemp hlocks (fun x st₀ t u g1 g2 g3 => QT.out g1 g2 g3)
    · skip
      exfalso; omega

set_option maxHeartbeats 4000000 in
set_option maxRecDepth 100000 in
theorem cc_X1_count_t (l : Launch) (hls : l.stackTraces = false) (D : va_G) (cA : Nat → ClassId) (A : Nat → Prop) (sa : Nat → Nat) (ad : Nat → Nat → Nat) (F : Nat → Nat) (N : Nat → Nat → Nat) (Z : Nat → Int) (E : Nat → Nat → Int) (K : Nat) (hKb : K ≤ 1000000) (hF : FB F) (hN : NB N) (hZ : ZB K Z) (hwf : WF F N) (a : Int) (ha : inR a) (hbad : ¬ (0 ≤ a ∧ a ≤ 7)) : MetT l yX1_count (ws_ yX1_count cX1_count 4 (some .int)) ({ frames := 9, cells := 1, slots := 6, locals := 220 }) (PT D cA A sa ad F N Z E [.ref (ad 0 (0)), .int (iI (a))]) (QT D 10) 1 6 := by
  refine MetT.ofW (cc := cX1_count) (maxL := 4) (ret := (some .int)) (by decide) rfl ?_
  intro p e s m args below meth c s₁ B hml hv
  obtain ⟨rfl, hK, hW⟩ := hv
  have hx := B.exec
  have hb := B.bytes
  have hts := atoms_spec (ws := ws_ yX1_count cX1_count 4 (some .int)) B.pre
  have hemp : c.exceptionTable = #[] := Array.isEmpty_iff.mp (B.noHandlers (hts _ List.mem_cons_self))
  have hts : ∀ w ∈ lw_all, w.before _ s = true := fun w h => hts w (List.mem_cons_of_mem _ h)
  have hown : s.vm.findClass RX1 = some m.cls := findClass_of_methodNamed B.named
  have hlocks := B.notSynchronized
  have hl := lv_entry ([.ref (ad 0 (0)), .int (iI (a))]) (n := 4) (Nat.le_of_ble_eq_true rfl)
  rw [lg_entry_eq]
  generalize (lg_sl ([.ref (ad 0 (0)), .int (iI (a))]) ++ List.replicate (4 - (lg_sl ([.ref (ad 0 (0)), .int (iI (a))])).length) Slot.unset).toArray = ls at hl ⊢
  have hl : lv_has ls 4 [(0, .ref (ad 0 (0))), (1, .int (iI (a)))] := hl
  obtain ⟨⟨hSX, hW⟩, hTX⟩ := hW
  have hS : va_S A s.heap s.heap [] := va_S.rf
  have hF2 : F 2 ≤ 10 := hF 2
  have hF3 : F 3 ≤ 16 := hF 3
  have hF4 : F 4 ≤ 60 := hF 4
  have hF5 : F 5 ≤ 40 := hF 5
  have hF1 : F 1 ≤ 1439 := hF 1
  have haa := ha
  unfold inR at ha
  refine lv_iload_n hx hb dX1_count_0 rfl (lv_at hl 1 rfl) ?_
  refine ri_if_lt (tgt := 14) hx hb haa dX1_count_1 (by decide) (fun h1 => ?_) (fun h1 => ?_)
  · skip
    refine lv_iconst (v := iI (0)) hx hb dX1_count_14 rfl ?_
    exact T.out (T.runS (As := [.int (iI (0))]) (rest := []) ⟨hx, hb, hml, hown, hts⟩ (cc_X1_there_t l hls D cA A) (va_cwS 1 hts (lw_S q779 q780 q42 q781) rfl rfl rfl (by decide +kernel) ⟨Nat.le_of_ble_eq_true rfl, Nat.le_of_ble_eq_true rfl⟩) (preST hK hTX hS) rfl rfl hl.1 rfl (lv_room (Nat.le_of_ble_eq_true rfl)) dX1_count_15 ⟨Nat.le_of_ble_eq_true rfl, Nat.le_of_ble_eq_true rfl⟩) hemp hlocks (fun x st₀ t u g1 g2 g3 => QT.out g1 g2 g3)
  · skip
    refine lv_iload_n hx hb dX1_count_4 rfl (lv_at hl 1 rfl) ?_
    refine lv_bipush (v := iI (7)) hx hb dX1_count_5 (by decide) ?_
    refine ri_icmp_gt (tgt := 14) hx hb haa (by unfold inR; omega) dX1_count_7 (by decide) (fun h2 => ?_) (fun h2 => ?_)
    · skip
      refine lv_iconst (v := iI (0)) hx hb dX1_count_14 rfl ?_
      exact T.out (T.runS (As := [.int (iI (0))]) (rest := []) ⟨hx, hb, hml, hown, hts⟩ (cc_X1_there_t l hls D cA A) (va_cwS 1 hts (lw_S q779 q780 q42 q781) rfl rfl rfl (by decide +kernel) ⟨Nat.le_of_ble_eq_true rfl, Nat.le_of_ble_eq_true rfl⟩) (preST hK hTX hS) rfl rfl hl.1 rfl (lv_room (Nat.le_of_ble_eq_true rfl)) dX1_count_15 ⟨Nat.le_of_ble_eq_true rfl, Nat.le_of_ble_eq_true rfl⟩) hemp hlocks (fun x st₀ t u g1 g2 g3 => QT.out g1 g2 g3)
    · skip
      exfalso; omega

set_option maxHeartbeats 4000000 in
set_option maxRecDepth 100000 in
theorem cc_X1_share_t (l : Launch) (hls : l.stackTraces = false) (D : va_G) (cA : Nat → ClassId) (A : Nat → Prop) (sa : Nat → Nat) (ad : Nat → Nat → Nat) (F : Nat → Nat) (N : Nat → Nat → Nat) (Z : Nat → Int) (E : Nat → Nat → Int) (K : Nat) (hKb : K ≤ 1000000) (hF : FB F) (hN : NB N) (hZ : ZB K Z) (hwf : WF F N) (a b : Int) (ha : inR a) (hbad : ¬ (0 ≤ a ∧ a < F 5)) : MetT l yX1_share (ws_ yX1_share cX1_share 12 (some .int)) ({ frames := 9, cells := 1, slots := 6, locals := 220 }) (PT D cA A sa ad F N Z E [.ref (ad 0 (0)), .int (iI (a)), .int (iI (b))]) (QT D 10) 1 6 := by
  refine MetT.ofW (cc := cX1_share) (maxL := 12) (ret := (some .int)) (by decide) rfl ?_
  intro p e s m args below meth c s₁ B hml hv
  obtain ⟨rfl, hK, hW⟩ := hv
  have hx := B.exec
  have hb := B.bytes
  have hts := atoms_spec (ws := ws_ yX1_share cX1_share 12 (some .int)) B.pre
  have hemp : c.exceptionTable = #[] := Array.isEmpty_iff.mp (B.noHandlers (hts _ List.mem_cons_self))
  have hts : ∀ w ∈ lw_all, w.before _ s = true := fun w h => hts w (List.mem_cons_of_mem _ h)
  have hown : s.vm.findClass RX1 = some m.cls := findClass_of_methodNamed B.named
  have hlocks := B.notSynchronized
  have hl := lv_entry ([.ref (ad 0 (0)), .int (iI (a)), .int (iI (b))]) (n := 12) (Nat.le_of_ble_eq_true rfl)
  rw [lg_entry_eq]
  generalize (lg_sl ([.ref (ad 0 (0)), .int (iI (a)), .int (iI (b))]) ++ List.replicate (12 - (lg_sl ([.ref (ad 0 (0)), .int (iI (a)), .int (iI (b))])).length) Slot.unset).toArray = ls at hl ⊢
  have hl : lv_has ls 12 [(0, .ref (ad 0 (0))), (1, .int (iI (a))), (2, .int (iI (b)))] := hl
  obtain ⟨⟨hSX, hW⟩, hTX⟩ := hW
  have hS : va_S A s.heap s.heap [] := va_S.rf
  have hF2 : F 2 ≤ 10 := hF 2
  have hF3 : F 3 ≤ 16 := hF 3
  have hF4 : F 4 ≤ 60 := hF 4
  have hF5 : F 5 ≤ 40 := hF 5
  have hF1 : F 1 ≤ 1439 := hF 1
  have haa := ha
  unfold inR at ha
  refine lv_iload_n hx hb dX1_share_0 rfl (lv_at hl 1 rfl) ?_
  refine ri_if_lt (tgt := 19) hx hb haa dX1_share_1 (by decide) (fun h1 => ?_) (fun h1 => ?_)
  · skip
    refine lv_iconst (v := iI (0)) hx hb dX1_share_19 rfl ?_
    exact T.out (T.runS (As := [.int (iI (0))]) (rest := []) ⟨hx, hb, hml, hown, hts⟩ (cc_X1_there_t l hls D cA A) (va_cwS 1 hts (lw_S q779 q780 q42 q781) rfl rfl rfl (by decide +kernel) ⟨Nat.le_of_ble_eq_true rfl, Nat.le_of_ble_eq_true rfl⟩) (preST hK hTX hS) rfl rfl hl.1 rfl (lv_room (Nat.le_of_ble_eq_true rfl)) dX1_share_20 ⟨Nat.le_of_ble_eq_true rfl, Nat.le_of_ble_eq_true rfl⟩) hemp hlocks (fun x st₀ t u g1 g2 g3 => QT.out g1 g2 g3)
  · skip
    refine lv_iload_n hx hb dX1_share_4 rfl (lv_at hl 1 rfl) ?_
    refine lv_aload_n hx hb dX1_share_5 rfl (lv_at hl 0 rfl) ?_
    refine h_get hx hb hts in_X1 hown hK hW.c0 rfl 3 (by decide) (hts _ q424) rfl (v := .ref (ad 1 (3))) rfl dX1_share_6 ?_
    obtain ⟨mc2, cp2, cq2, cr2, hLi2⟩ := hW.l3
    refine rc_V (W.runV (As := []) (rest := [.int (iI (a))]) ⟨hx, hb, hml, hown, hts⟩ (al_size l D cA (ad 1 (3)) mc2 (ad 2 (3)) (F 5)) (cwV 0 hts (lw_V q448 q449 q450 q45 q451) rfl rfl rfl (by decide +kernel) ⟨Nat.le_of_ble_eq_true rfl, Nat.le_of_ble_eq_true rfl⟩) (preV hK hLi2.1 rfl hLi2.1) rfl rfl hl.1 rfl (lv_room (Nat.le_of_ble_eq_true rfl)) dX1_share_9 ⟨Nat.le_of_ble_eq_true rfl, Nat.le_of_ble_eq_true rfl⟩) ?_
    refine ri_icmp_ge (tgt := 19) hx hb haa (by unfold inR; omega) dX1_share_12 (by decide) (fun h3 => ?_) (fun h3 => ?_)
    · skip
      refine lv_iconst (v := iI (0)) hx hb dX1_share_19 rfl ?_
      exact T.out (T.runS (As := [.int (iI (0))]) (rest := []) ⟨hx, hb, hml, hown, hts⟩ (cc_X1_there_t l hls D cA A) (va_cwS 1 hts (lw_S q779 q780 q42 q781) rfl rfl rfl (by decide +kernel) ⟨Nat.le_of_ble_eq_true rfl, Nat.le_of_ble_eq_true rfl⟩) (preST hK hTX hS) rfl rfl hl.1 rfl (lv_room (Nat.le_of_ble_eq_true rfl)) dX1_share_20 ⟨Nat.le_of_ble_eq_true rfl, Nat.le_of_ble_eq_true rfl⟩) hemp hlocks (fun x st₀ t u g1 g2 g3 => QT.out g1 g2 g3)
    · skip
      exfalso; omega

set_option maxHeartbeats 4000000 in
set_option maxRecDepth 100000 in
theorem cc_X1_share_u (l : Launch) (hls : l.stackTraces = false) (D : va_G) (cA : Nat → ClassId) (A : Nat → Prop) (sa : Nat → Nat) (ad : Nat → Nat → Nat) (F : Nat → Nat) (N : Nat → Nat → Nat) (Z : Nat → Int) (E : Nat → Nat → Int) (K : Nat) (hKb : K ≤ 1000000) (hF : FB F) (hN : NB N) (hZ : ZB K Z) (hwf : WF F N) (cv : Nat) (a : Int) (hc5 : cv < F 5) (ha : inR a) (hbad : ¬ (0 ≤ a ∧ a ≤ 10000000)) : MetT l yX1_share (ws_ yX1_share cX1_share 12 (some .int)) ({ frames := 9, cells := 1, slots := 6, locals := 220 }) (PT D cA A sa ad F N Z E [.ref (ad 0 (0)), .int (iI (cv)), .int (iI (a))]) (QT D 11) 1 6 := by
  refine MetT.ofW (cc := cX1_share) (maxL := 12) (ret := (some .int)) (by decide) rfl ?_
  intro p e s m args below meth c s₁ B hml hv
  obtain ⟨rfl, hK, hW⟩ := hv
  have hx := B.exec
  have hb := B.bytes
  have hts := atoms_spec (ws := ws_ yX1_share cX1_share 12 (some .int)) B.pre
  have hemp : c.exceptionTable = #[] := Array.isEmpty_iff.mp (B.noHandlers (hts _ List.mem_cons_self))
  have hts : ∀ w ∈ lw_all, w.before _ s = true := fun w h => hts w (List.mem_cons_of_mem _ h)
  have hown : s.vm.findClass RX1 = some m.cls := findClass_of_methodNamed B.named
  have hlocks := B.notSynchronized
  have hl := lv_entry ([.ref (ad 0 (0)), .int (iI (cv)), .int (iI (a))]) (n := 12) (Nat.le_of_ble_eq_true rfl)
  rw [lg_entry_eq]
  generalize (lg_sl ([.ref (ad 0 (0)), .int (iI (cv)), .int (iI (a))]) ++ List.replicate (12 - (lg_sl ([.ref (ad 0 (0)), .int (iI (cv)), .int (iI (a))])).length) Slot.unset).toArray = ls at hl ⊢
  have hl : lv_has ls 12 [(0, .ref (ad 0 (0))), (1, .int (iI (cv))), (2, .int (iI (a)))] := hl
  obtain ⟨⟨hSX, hW⟩, hTX⟩ := hW
  have hS : va_S A s.heap s.heap [] := va_S.rf
  have hF2 : F 2 ≤ 10 := hF 2
  have hF3 : F 3 ≤ 16 := hF 3
  have hF4 : F 4 ≤ 60 := hF 4
  have hF5 : F 5 ≤ 40 := hF 5
  have hF1 : F 1 ≤ 1439 := hF 1
  have haa := ha
  unfold inR at ha
  refine lv_iload_n hx hb dX1_share_0 rfl (lv_at hl 1 rfl) ?_
  refine ri_if_lt (tgt := 19) hx hb (by unfold inR; omega) dX1_share_1 (by decide) (fun h1 => ?_) (fun h1 => ?_)
  · skip
    exfalso; omega
  · skip
    refine lv_iload_n hx hb dX1_share_4 rfl (lv_at hl 1 rfl) ?_
    refine lv_aload_n hx hb dX1_share_5 rfl (lv_at hl 0 rfl) ?_
    refine h_get hx hb hts in_X1 hown hK hW.c0 rfl 3 (by decide) (hts _ q424) rfl (v := .ref (ad 1 (3))) rfl dX1_share_6 ?_
    obtain ⟨mc2, cp2, cq2, cr2, hLi2⟩ := hW.l3
    refine rc_V (W.runV (As := []) (rest := [.int (iI (cv))]) ⟨hx, hb, hml, hown, hts⟩ (al_size l D cA (ad 1 (3)) mc2 (ad 2 (3)) (F 5)) (cwV 0 hts (lw_V q448 q449 q450 q45 q451) rfl rfl rfl (by decide +kernel) ⟨Nat.le_of_ble_eq_true rfl, Nat.le_of_ble_eq_true rfl⟩) (preV hK hLi2.1 rfl hLi2.1) rfl rfl hl.1 rfl (lv_room (Nat.le_of_ble_eq_true rfl)) dX1_share_9 ⟨Nat.le_of_ble_eq_true rfl, Nat.le_of_ble_eq_true rfl⟩) ?_
    refine ri_icmp_ge (tgt := 19) hx hb (by unfold inR; omega) (by unfold inR; omega) dX1_share_12 (by decide) (fun h3 => ?_) (fun h3 => ?_)
    · skip
      exfalso; omega
    · skip
      refine lv_iconst (v := iI (1)) hx hb dX1_share_15 rfl ?_
      refine lv_goto (tgt := 20) hx hb dX1_share_16 (by decide) ?_
      refine rc_0 (W.runS (As := [.int (iI (1))]) (rest := []) ⟨hx, hb, hml, hown, hts⟩ (cc_X1_there l D cA  ) (va_cwS 1 hts (lw_S q779 q780 q42 q781) rfl rfl rfl (by decide +kernel) ⟨Nat.le_of_ble_eq_true rfl, Nat.le_of_ble_eq_true rfl⟩) (preS hK (B := fun _ => True) trivial) rfl rfl hl.1 rfl (lv_room (Nat.le_of_ble_eq_true rfl)) dX1_share_20 ⟨Nat.le_of_ble_eq_true rfl, Nat.le_of_ble_eq_true rfl⟩) ?_
      refine lv_iload_n hx hb dX1_share_23 rfl (lv_at hl 2 rfl) ?_
      refine ri_if_lt (tgt := 38) hx hb haa dX1_share_24 (by decide) (fun h4 => ?_) (fun h4 => ?_)
      · skip
        refine lv_iconst (v := iI (0)) hx hb dX1_share_38 rfl ?_
        exact T.out (T.runS (As := [.int (iI (0))]) (rest := []) ⟨hx, hb, hml, hown, hts⟩ (cc_X1_right_t l hls D cA A) (va_cwS 1 hts (lw_S q835 q836 q42 q837) rfl rfl rfl (by decide +kernel) ⟨Nat.le_of_ble_eq_true rfl, Nat.le_of_ble_eq_true rfl⟩) (preST hK hTX hS) rfl rfl hl.1 rfl (lv_room (Nat.le_of_ble_eq_true rfl)) dX1_share_39 ⟨Nat.le_of_ble_eq_true rfl, Nat.le_of_ble_eq_true rfl⟩) hemp hlocks (fun x st₀ t u g1 g2 g3 => QT.out g1 g2 g3)
      · skip
        refine lv_iload_n hx hb dX1_share_27 rfl (lv_at hl 2 rfl) ?_
        refine lv_ldcw (v := iI (10000000)) hx hb hown (show (Cond.constant RX1 275 (iI (10000000))).before _ s = true from hts _ q955) dX1_share_28 ?_
        refine ri_icmp_gt (tgt := 38) hx hb haa (by unfold inR; omega) dX1_share_31 (by decide) (fun h5 => ?_) (fun h5 => ?_)
        · skip
          refine lv_iconst (v := iI (0)) hx hb dX1_share_38 rfl ?_
          exact T.out (T.runS (As := [.int (iI (0))]) (rest := []) ⟨hx, hb, hml, hown, hts⟩ (cc_X1_right_t l hls D cA A) (va_cwS 1 hts (lw_S q835 q836 q42 q837) rfl rfl rfl (by decide +kernel) ⟨Nat.le_of_ble_eq_true rfl, Nat.le_of_ble_eq_true rfl⟩) (preST hK hTX hS) rfl rfl hl.1 rfl (lv_room (Nat.le_of_ble_eq_true rfl)) dX1_share_39 ⟨Nat.le_of_ble_eq_true rfl, Nat.le_of_ble_eq_true rfl⟩) hemp hlocks (fun x st₀ t u g1 g2 g3 => QT.out g1 g2 g3)
        · skip
          exfalso; omega

set_option maxHeartbeats 4000000 in
set_option maxRecDepth 100000 in
theorem cc_X1_of_u (l : Launch) (hls : l.stackTraces = false) (D : va_G) (cA : Nat → ClassId) (A : Nat → Prop) (sa : Nat → Nat) (ad : Nat → Nat → Nat) (F : Nat → Nat) (N : Nat → Nat → Nat) (Z : Nat → Int) (E : Nat → Nat → Int) (K : Nat) (hKb : K ≤ 1000000) (hF : FB F) (hN : NB N) (hZ : ZB K Z) (hwf : WF F N) (b : Nat) (a : Int) (hb4 : b < F 4) (ha : inR a) (hbad : ¬ (0 ≤ a ∧ a ≤ 6)) : MetT l yX1_of (ws_ yX1_of cX1_of 6 (some .int)) ({ frames := 9, cells := 1, slots := 6, locals := 220 }) (PT D cA A sa ad F N Z E [.ref (ad 0 (0)), .int (iI (b)), .int (iI (a))]) (QT D 10) 1 6 := by
  refine MetT.ofW (cc := cX1_of) (maxL := 6) (ret := (some .int)) (by decide) rfl ?_
  intro p e s m args below meth c s₁ B hml hv
  obtain ⟨rfl, hK, hW⟩ := hv
  have hx := B.exec
  have hb := B.bytes
  have hts := atoms_spec (ws := ws_ yX1_of cX1_of 6 (some .int)) B.pre
  have hemp : c.exceptionTable = #[] := Array.isEmpty_iff.mp (B.noHandlers (hts _ List.mem_cons_self))
  have hts : ∀ w ∈ lw_all, w.before _ s = true := fun w h => hts w (List.mem_cons_of_mem _ h)
  have hown : s.vm.findClass RX1 = some m.cls := findClass_of_methodNamed B.named
  have hlocks := B.notSynchronized
  have hl := lv_entry ([.ref (ad 0 (0)), .int (iI (b)), .int (iI (a))]) (n := 6) (Nat.le_of_ble_eq_true rfl)
  rw [lg_entry_eq]
  generalize (lg_sl ([.ref (ad 0 (0)), .int (iI (b)), .int (iI (a))]) ++ List.replicate (6 - (lg_sl ([.ref (ad 0 (0)), .int (iI (b)), .int (iI (a))])).length) Slot.unset).toArray = ls at hl ⊢
  have hl : lv_has ls 6 [(0, .ref (ad 0 (0))), (1, .int (iI (b))), (2, .int (iI (a)))] := hl
  obtain ⟨⟨hSX, hW⟩, hTX⟩ := hW
  have hS : va_S A s.heap s.heap [] := va_S.rf
  have hF2 : F 2 ≤ 10 := hF 2
  have hF3 : F 3 ≤ 16 := hF 3
  have hF4 : F 4 ≤ 60 := hF 4
  have hF5 : F 5 ≤ 40 := hF 5
  have hF1 : F 1 ≤ 1439 := hF 1
  have haa := ha
  unfold inR at ha
  refine lv_aload_n hx hb dX1_of_0 rfl (lv_at hl 0 rfl) ?_
  refine lv_iload_n hx hb dX1_of_1 rfl (lv_at hl 1 rfl) ?_
  refine rc_V (W.runV (As := [.int (iI (b))]) (rest := []) ⟨hx, hb, hml, hown, hts⟩ (cc_X1_boxAt l D cA A sa ad F N Z E K hKb hF hN hZ hwf b (by omega)) (cwV 1 hts (lw_V q877 q879 qs13 q42 q880) rfl rfl rfl (by decide +kernel) ⟨Nat.le_of_ble_eq_true rfl, Nat.le_of_ble_eq_true rfl⟩) (preVC hK hSX hS hW.c0 rfl hW) rfl rfl hl.1 rfl (lv_room (Nat.le_of_ble_eq_true rfl)) dX1_of_2 ⟨Nat.le_of_ble_eq_true rfl, Nat.le_of_ble_eq_true rfl⟩) ?_
  refine lv_astore_n (lv' := [(3, .ref (ad 7 (b))), (0, .ref (ad 0 (0))), (1, .int (iI (b))), (2, .int (iI (a)))]) hx hb dX1_of_5 rfl hl (by decide) rfl (fun ls hl => ?_)
  refine lv_iload_n hx hb dX1_of_6 rfl (lv_at hl 3 rfl) ?_
  refine ri_if_lt (tgt := 20) hx hb haa dX1_of_7 (by decide) (fun h1 => ?_) (fun h1 => ?_)
  · skip
    refine lv_iconst (v := iI (0)) hx hb dX1_of_20 rfl ?_
    exact T.out (T.runS (As := [.int (iI (0))]) (rest := []) ⟨hx, hb, hml, hown, hts⟩ (cc_X1_there_t l hls D cA A) (va_cwS 1 hts (lw_S q779 q780 q42 q781) rfl rfl rfl (by decide +kernel) ⟨Nat.le_of_ble_eq_true rfl, Nat.le_of_ble_eq_true rfl⟩) (preST hK hTX hS) rfl rfl hl.1 rfl (lv_room (Nat.le_of_ble_eq_true rfl)) dX1_of_21 ⟨Nat.le_of_ble_eq_true rfl, Nat.le_of_ble_eq_true rfl⟩) hemp hlocks (fun x st₀ t u g1 g2 g3 => QT.out g1 g2 g3)
  · skip
    refine lv_iload_n hx hb dX1_of_10 rfl (lv_at hl 3 rfl) ?_
    refine lv_bipush (v := iI (6)) hx hb dX1_of_11 (by decide) ?_
    refine ri_icmp_gt (tgt := 20) hx hb haa (by unfold inR; omega) dX1_of_13 (by decide) (fun h2 => ?_) (fun h2 => ?_)
    · skip
      refine lv_iconst (v := iI (0)) hx hb dX1_of_20 rfl ?_
      exact T.out (T.runS (As := [.int (iI (0))]) (rest := []) ⟨hx, hb, hml, hown, hts⟩ (cc_X1_there_t l hls D cA A) (va_cwS 1 hts (lw_S q779 q780 q42 q781) rfl rfl rfl (by decide +kernel) ⟨Nat.le_of_ble_eq_true rfl, Nat.le_of_ble_eq_true rfl⟩) (preST hK hTX hS) rfl rfl hl.1 rfl (lv_room (Nat.le_of_ble_eq_true rfl)) dX1_of_21 ⟨Nat.le_of_ble_eq_true rfl, Nat.le_of_ble_eq_true rfl⟩) hemp hlocks (fun x st₀ t u g1 g2 g3 => QT.out g1 g2 g3)
    · skip
      exfalso; omega

set_option maxHeartbeats 4000000 in
set_option maxRecDepth 100000 in
theorem cc_X1_load_u (l : Launch) (hls : l.stackTraces = false) (D : va_G) (cA : Nat → ClassId) (A : Nat → Prop) (sa : Nat → Nat) (ad : Nat → Nat → Nat) (F : Nat → Nat) (N : Nat → Nat → Nat) (Z : Nat → Int) (E : Nat → Nat → Int) (K : Nat) (hKb : K ≤ 1000000) (hF : FB F) (hN : NB N) (hZ : ZB K Z) (hwf : WF F N) (t : Nat) (a : Int) (ht : t < F 3) (ha : inR a) (hbad : ¬ (0 ≤ a ∧ a + 1 < N 8 t)) : MetT l yX1_load (ws_ yX1_load cX1_load 4 (some .int)) ({ frames := 9, cells := 1, slots := 6, locals := 220 }) (PT D cA A sa ad F N Z E [.ref (ad 0 (0)), .int (iI (t)), .int (iI (a))]) (QT D 10) 1 6 := by
  refine MetT.ofW (cc := cX1_load) (maxL := 4) (ret := (some .int)) (by decide) rfl ?_
  intro p e s m args below meth c s₁ B hml hv
  obtain ⟨rfl, hK, hW⟩ := hv
  have hx := B.exec
  have hb := B.bytes
  have hts := atoms_spec (ws := ws_ yX1_load cX1_load 4 (some .int)) B.pre
  have hemp : c.exceptionTable = #[] := Array.isEmpty_iff.mp (B.noHandlers (hts _ List.mem_cons_self))
  have hts : ∀ w ∈ lw_all, w.before _ s = true := fun w h => hts w (List.mem_cons_of_mem _ h)
  have hown : s.vm.findClass RX1 = some m.cls := findClass_of_methodNamed B.named
  have hlocks := B.notSynchronized
  have hl := lv_entry ([.ref (ad 0 (0)), .int (iI (t)), .int (iI (a))]) (n := 4) (Nat.le_of_ble_eq_true rfl)
  rw [lg_entry_eq]
  generalize (lg_sl ([.ref (ad 0 (0)), .int (iI (t)), .int (iI (a))]) ++ List.replicate (4 - (lg_sl ([.ref (ad 0 (0)), .int (iI (t)), .int (iI (a))])).length) Slot.unset).toArray = ls at hl ⊢
  have hl : lv_has ls 4 [(0, .ref (ad 0 (0))), (1, .int (iI (t))), (2, .int (iI (a)))] := hl
  obtain ⟨⟨hSX, hW⟩, hTX⟩ := hW
  have hS : va_S A s.heap s.heap [] := va_S.rf
  have hF2 : F 2 ≤ 10 := hF 2
  have hF3 : F 3 ≤ 16 := hF 3
  have hF4 : F 4 ≤ 60 := hF 4
  have hF5 : F 5 ≤ 40 := hF 5
  have hF1 : F 1 ≤ 1439 := hF 1
  have haa := ha
  unfold inR at ha
  have hm8 : N 8 t ≤ 10 := hN 8 t
  refine lv_aload_n hx hb dX1_load_0 rfl (lv_at hl 0 rfl) ?_
  refine lv_iload_n hx hb dX1_load_1 rfl (lv_at hl 1 rfl) ?_
  refine rc_V (W.runV (As := [.int (iI (t))]) (rest := []) ⟨hx, hb, hml, hown, hts⟩ (cc_X1_trainAt l D cA A sa ad F N Z E K hKb hF hN hZ hwf t (by omega)) (cwV 1 hts (lw_V q775 q777 qs10 q42 q778) rfl rfl rfl (by decide +kernel) ⟨Nat.le_of_ble_eq_true rfl, Nat.le_of_ble_eq_true rfl⟩) (preVC hK hSX hS hW.c0 rfl hW) rfl rfl hl.1 rfl (lv_room (Nat.le_of_ble_eq_true rfl)) dX1_load_2 ⟨Nat.le_of_ble_eq_true rfl, Nat.le_of_ble_eq_true rfl⟩) ?_
  refine lv_astore_n (lv' := [(3, .ref (ad 4 (t))), (0, .ref (ad 0 (0))), (1, .int (iI (t))), (2, .int (iI (a)))]) hx hb dX1_load_5 rfl hl (by decide) rfl (fun ls hl => ?_)
  refine lv_iload_n hx hb dX1_load_6 rfl (lv_at hl 3 rfl) ?_
  refine ri_if_lt (tgt := 27) hx hb haa dX1_load_7 (by decide) (fun h1 => ?_) (fun h1 => ?_)
  · skip
    refine lv_iconst (v := iI (0)) hx hb dX1_load_27 rfl ?_
    exact T.out (T.runS (As := [.int (iI (0))]) (rest := []) ⟨hx, hb, hml, hown, hts⟩ (cc_X1_there_t l hls D cA A) (va_cwS 1 hts (lw_S q779 q780 q42 q781) rfl rfl rfl (by decide +kernel) ⟨Nat.le_of_ble_eq_true rfl, Nat.le_of_ble_eq_true rfl⟩) (preST hK hTX hS) rfl rfl hl.1 rfl (lv_room (Nat.le_of_ble_eq_true rfl)) dX1_load_28 ⟨Nat.le_of_ble_eq_true rfl, Nat.le_of_ble_eq_true rfl⟩) hemp hlocks (fun x st₀ t u g1 g2 g3 => QT.out g1 g2 g3)
  · skip
    refine lv_iload_n hx hb dX1_load_10 rfl (lv_at hl 3 rfl) ?_
    refine lv_aload_n hx hb dX1_load_11 rfl (lv_at hl 0 rfl) ?_
    refine h_getN hx hb hts in_X4 hown hK (hW.k4 (t) (by omega)) rfl 2 (by decide) q533 rfl (v := .ref (ad 1 (10 + t))) rfl dX1_load_12 ?_
    have b3 : N 8 (t) ≤ 10 := hN 8 _
    obtain ⟨mc2, cp2, cq2, cr2, hLi2⟩ := (hW.lp (t) (by omega))
    refine rc_V (W.runV (As := []) (rest := [.int (iI (a))]) ⟨hx, hb, hml, hown, hts⟩ (al_size l D cA (ad 1 (10 + t)) mc2 (ad 2 (10 + t)) (N 8 (t))) (cwV 0 hts (lw_V q448 q449 q450 q45 q451) rfl rfl rfl (by decide +kernel) ⟨Nat.le_of_ble_eq_true rfl, Nat.le_of_ble_eq_true rfl⟩) (preV hK hLi2.1 rfl hLi2.1) rfl rfl hl.1 rfl (lv_room (Nat.le_of_ble_eq_true rfl)) dX1_load_15 ⟨Nat.le_of_ble_eq_true rfl, Nat.le_of_ble_eq_true rfl⟩) ?_
    refine lv_iconst (v := iI (1)) hx hb dX1_load_18 rfl ?_
    refine ri_isub hx hb dX1_load_19 ?_
    refine ri_icmp_ge (tgt := 27) hx hb haa (by unfold inR; omega) dX1_load_20 (by decide) (fun h4 => ?_) (fun h4 => ?_)
    · skip
      refine lv_iconst (v := iI (0)) hx hb dX1_load_27 rfl ?_
      exact T.out (T.runS (As := [.int (iI (0))]) (rest := []) ⟨hx, hb, hml, hown, hts⟩ (cc_X1_there_t l hls D cA A) (va_cwS 1 hts (lw_S q779 q780 q42 q781) rfl rfl rfl (by decide +kernel) ⟨Nat.le_of_ble_eq_true rfl, Nat.le_of_ble_eq_true rfl⟩) (preST hK hTX hS) rfl rfl hl.1 rfl (lv_room (Nat.le_of_ble_eq_true rfl)) dX1_load_28 ⟨Nat.le_of_ble_eq_true rfl, Nat.le_of_ble_eq_true rfl⟩) hemp hlocks (fun x st₀ t u g1 g2 g3 => QT.out g1 g2 g3)
    · skip
      exfalso; omega

set_option maxHeartbeats 4000000 in
set_option maxRecDepth 100000 in
theorem cc_X1_leg_u (l : Launch) (hls : l.stackTraces = false) (D : va_G) (cA : Nat → ClassId) (A : Nat → Prop) (sa : Nat → Nat) (ad : Nat → Nat → Nat) (F : Nat → Nat) (N : Nat → Nat → Nat) (Z : Nat → Int) (E : Nat → Nat → Int) (K : Nat) (hKb : K ≤ 1000000) (hF : FB F) (hN : NB N) (hZ : ZB K Z) (hwf : WF F N) (b : Nat) (a v : Int) (hb4 : b < F 4) (ha : inR a) (hv : inR v) (hbad : ¬ (0 ≤ a ∧ a < (N 24 (2 * b) + (if N 21 b = 0 then 0 else N 24 (2 * b + 1)) : Nat) ∧ 0 ≤ v ∧ v ≤ 2)) : MetT l yX1_leg (ws_ yX1_leg cX1_leg 8 (some .int)) ({ frames := 9, cells := 1, slots := 6, locals := 220 }) (PT D cA A sa ad F N Z E [.ref (ad 0 (0)), .int (iI (b)), .int (iI (a)), .int (iI (v))]) (QT D 10) 1 6 := by
  refine MetT.ofW (cc := cX1_leg) (maxL := 8) (ret := (some .int)) (by decide) rfl ?_
  intro p e s m args below meth c s₁ B hml hv
  obtain ⟨rfl, hK, hW⟩ := hv
  have hx := B.exec
  have hb := B.bytes
  have hts := atoms_spec (ws := ws_ yX1_leg cX1_leg 8 (some .int)) B.pre
  have hemp : c.exceptionTable = #[] := Array.isEmpty_iff.mp (B.noHandlers (hts _ List.mem_cons_self))
  have hts : ∀ w ∈ lw_all, w.before _ s = true := fun w h => hts w (List.mem_cons_of_mem _ h)
  have hown : s.vm.findClass RX1 = some m.cls := findClass_of_methodNamed B.named
  have hlocks := B.notSynchronized
  have hl := lv_entry ([.ref (ad 0 (0)), .int (iI (b)), .int (iI (a)), .int (iI (v))]) (n := 8) (Nat.le_of_ble_eq_true rfl)
  rw [lg_entry_eq]
  generalize (lg_sl ([.ref (ad 0 (0)), .int (iI (b)), .int (iI (a)), .int (iI (v))]) ++ List.replicate (8 - (lg_sl ([.ref (ad 0 (0)), .int (iI (b)), .int (iI (a)), .int (iI (v))])).length) Slot.unset).toArray = ls at hl ⊢
  have hl : lv_has ls 8 [(0, .ref (ad 0 (0))), (1, .int (iI (b))), (2, .int (iI (a))), (3, .int (iI (v)))] := hl
  obtain ⟨⟨hSX, hW⟩, hTX⟩ := hW
  have hS : va_S A s.heap s.heap [] := va_S.rf
  have hF2 : F 2 ≤ 10 := hF 2
  have hF3 : F 3 ≤ 16 := hF 3
  have hF4 : F 4 ≤ 60 := hF 4
  have hF5 : F 5 ≤ 40 := hF 5
  have hF1 : F 1 ≤ 1439 := hF 1
  have haa := ha
  unfold inR at ha
  have hvv := hv
  unfold inR at hv
  have hm31 : N 24 (2 * b) ≤ 3 := hN 24 _
  have hm32 : N 24 (2 * b + 1) ≤ 3 := hN 24 _
  refine lv_aload_n hx hb dX1_leg_0 rfl (lv_at hl 0 rfl) ?_
  refine lv_iload_n hx hb dX1_leg_1 rfl (lv_at hl 1 rfl) ?_
  refine rc_V (W.runV (As := [.int (iI (b))]) (rest := []) ⟨hx, hb, hml, hown, hts⟩ (cc_X1_boxAt l D cA A sa ad F N Z E K hKb hF hN hZ hwf b (by omega)) (cwV 1 hts (lw_V q877 q879 qs13 q42 q880) rfl rfl rfl (by decide +kernel) ⟨Nat.le_of_ble_eq_true rfl, Nat.le_of_ble_eq_true rfl⟩) (preVC hK hSX hS hW.c0 rfl hW) rfl rfl hl.1 rfl (lv_room (Nat.le_of_ble_eq_true rfl)) dX1_leg_2 ⟨Nat.le_of_ble_eq_true rfl, Nat.le_of_ble_eq_true rfl⟩) ?_
  refine lv_astore (lv' := [(4, .ref (ad 7 (b))), (0, .ref (ad 0 (0))), (1, .int (iI (b))), (2, .int (iI (a))), (3, .int (iI (v)))]) hx hb dX1_leg_5 hl (by decide) rfl (fun ls hl => ?_)
  refine lv_aload hx hb dX1_leg_7 (lv_at hl 0 rfl) ?_
  have b1 : TL F N (2 * (b)) := TL_0 (by omega)
  refine h_getN hx hb hts in_X6 hown hK (hW.k7 (b) (by omega)) rfl 0 (by decide) q626 rfl (v := .ref (ad 8 (2 * b))) rfl dX1_leg_9 ?_
  refine h_getN hx hb hts in_X7 hown hK (hW.k8 (2 * b) ‹TL F N (2 * b)›) rfl 6 (by decide) q602 rfl (v := .ref (ad 1 (100 + (2 * b)))) rfl dX1_leg_12 ?_
  have b3 : N 24 (2 * b) ≤ 3 := hN 24 _
  obtain ⟨mc2, cp2, cq2, cr2, hLi2⟩ := (hW.lg (2 * b) ‹TL F N (2 * b)›)
  refine rc_V (W.runV (As := []) (rest := []) ⟨hx, hb, hml, hown, hts⟩ (al_size l D cA (ad 1 (100 + (2 * b))) mc2 (ad 2 (100 + (2 * b))) (N 24 (2 * b))) (cwV 0 hts (lw_V q448 q449 q450 q45 q451) rfl rfl rfl (by decide +kernel) ⟨Nat.le_of_ble_eq_true rfl, Nat.le_of_ble_eq_true rfl⟩) (preV hK hLi2.1 rfl hLi2.1) rfl rfl hl.1 rfl (lv_room (Nat.le_of_ble_eq_true rfl)) dX1_leg_15 ⟨Nat.le_of_ble_eq_true rfl, Nat.le_of_ble_eq_true rfl⟩) ?_
  refine lv_istore (lv' := [(5, .int (iI (N 24 (2 * b)))), (4, .ref (ad 7 (b))), (0, .ref (ad 0 (0))), (1, .int (iI (b))), (2, .int (iI (a))), (3, .int (iI (v)))]) hx hb dX1_leg_18 hl (by decide) rfl (fun ls hl => ?_)
  refine lv_aload hx hb dX1_leg_20 (lv_at hl 1 rfl) ?_
  have b5 : N 21 (b) ≤ 1 := hN 21 _
  by_cases hbk4 : N 21 (b) = 0
  · skip
    rw [if_pos hbk4] at hbad
    refine h_getN hx hb hts in_X6 hown hK (hW.k7n (b) (by omega) ‹_›) rfl 5 (by decide) q636 rfl (v := .null) rfl dX1_leg_22 ?_
    refine lv_ifnonnullN hx hb dX1_leg_25 ?_
    refine lv_iload hx hb dX1_leg_28 (lv_at hl 0 rfl) ?_
    refine lv_goto (tgt := 47) hx hb dX1_leg_30 (by decide) ?_
    refine lv_istore (lv' := [(6, .int (iI (N 24 (2 * b)))), (5, .int (iI (N 24 (2 * b)))), (4, .ref (ad 7 (b))), (0, .ref (ad 0 (0))), (1, .int (iI (b))), (2, .int (iI (a))), (3, .int (iI (v)))]) hx hb dX1_leg_47 hl (by decide) rfl (fun ls hl => ?_)
    refine lv_iload_n hx hb dX1_leg_49 rfl (lv_at hl 5 rfl) ?_
    refine ri_if_lt (tgt := 72) hx hb haa dX1_leg_50 (by decide) (fun h6 => ?_) (fun h6 => ?_)
    · skip
      refine lv_iconst (v := iI (0)) hx hb dX1_leg_72 rfl ?_
      exact T.out (T.runS (As := [.int (iI (0))]) (rest := []) ⟨hx, hb, hml, hown, hts⟩ (cc_X1_there_t l hls D cA A) (va_cwS 1 hts (lw_S q779 q780 q42 q781) rfl rfl rfl (by decide +kernel) ⟨Nat.le_of_ble_eq_true rfl, Nat.le_of_ble_eq_true rfl⟩) (preST hK hTX hS) rfl rfl hl.1 rfl (lv_room (Nat.le_of_ble_eq_true rfl)) dX1_leg_73 ⟨Nat.le_of_ble_eq_true rfl, Nat.le_of_ble_eq_true rfl⟩) hemp hlocks (fun x st₀ t u g1 g2 g3 => QT.out g1 g2 g3)
    · skip
      refine lv_iload_n hx hb dX1_leg_53 rfl (lv_at hl 5 rfl) ?_
      refine lv_iload hx hb dX1_leg_54 (lv_at hl 0 rfl) ?_
      refine ri_icmp_ge (tgt := 72) hx hb haa (by unfold inR; omega) dX1_leg_56 (by decide) (fun h7 => ?_) (fun h7 => ?_)
      · skip
        refine lv_iconst (v := iI (0)) hx hb dX1_leg_72 rfl ?_
        exact T.out (T.runS (As := [.int (iI (0))]) (rest := []) ⟨hx, hb, hml, hown, hts⟩ (cc_X1_there_t l hls D cA A) (va_cwS 1 hts (lw_S q779 q780 q42 q781) rfl rfl rfl (by decide +kernel) ⟨Nat.le_of_ble_eq_true rfl, Nat.le_of_ble_eq_true rfl⟩) (preST hK hTX hS) rfl rfl hl.1 rfl (lv_room (Nat.le_of_ble_eq_true rfl)) dX1_leg_73 ⟨Nat.le_of_ble_eq_true rfl, Nat.le_of_ble_eq_true rfl⟩) hemp hlocks (fun x st₀ t u g1 g2 g3 => QT.out g1 g2 g3)
      · skip
        refine lv_iload_n hx hb dX1_leg_59 rfl (lv_at hl 6 rfl) ?_
        refine ri_if_lt (tgt := 72) hx hb hvv dX1_leg_60 (by decide) (fun h8 => ?_) (fun h8 => ?_)
        · skip
          refine lv_iconst (v := iI (0)) hx hb dX1_leg_72 rfl ?_
          exact T.out (T.runS (As := [.int (iI (0))]) (rest := []) ⟨hx, hb, hml, hown, hts⟩ (cc_X1_there_t l hls D cA A) (va_cwS 1 hts (lw_S q779 q780 q42 q781) rfl rfl rfl (by decide +kernel) ⟨Nat.le_of_ble_eq_true rfl, Nat.le_of_ble_eq_true rfl⟩) (preST hK hTX hS) rfl rfl hl.1 rfl (lv_room (Nat.le_of_ble_eq_true rfl)) dX1_leg_73 ⟨Nat.le_of_ble_eq_true rfl, Nat.le_of_ble_eq_true rfl⟩) hemp hlocks (fun x st₀ t u g1 g2 g3 => QT.out g1 g2 g3)
        · skip
          refine lv_iload_n hx hb dX1_leg_63 rfl (lv_at hl 6 rfl) ?_
          refine lv_iconst (v := iI (2)) hx hb dX1_leg_64 rfl ?_
          refine ri_icmp_gt (tgt := 72) hx hb hvv (by unfold inR; omega) dX1_leg_65 (by decide) (fun h9 => ?_) (fun h9 => ?_)
          · skip
            refine lv_iconst (v := iI (0)) hx hb dX1_leg_72 rfl ?_
            exact T.out (T.runS (As := [.int (iI (0))]) (rest := []) ⟨hx, hb, hml, hown, hts⟩ (cc_X1_there_t l hls D cA A) (va_cwS 1 hts (lw_S q779 q780 q42 q781) rfl rfl rfl (by decide +kernel) ⟨Nat.le_of_ble_eq_true rfl, Nat.le_of_ble_eq_true rfl⟩) (preST hK hTX hS) rfl rfl hl.1 rfl (lv_room (Nat.le_of_ble_eq_true rfl)) dX1_leg_73 ⟨Nat.le_of_ble_eq_true rfl, Nat.le_of_ble_eq_true rfl⟩) hemp hlocks (fun x st₀ t u g1 g2 g3 => QT.out g1 g2 g3)
          · skip
            exfalso; omega
  · skip
    rw [if_neg hbk4] at hbad
    refine h_getN hx hb hts in_X6 hown hK (hW.k7s (b) (by omega) ‹_›) rfl 5 (by decide) q636 rfl (v := .ref (ad 8 (2 * b + 1))) rfl dX1_leg_22 ?_
    have b10 : TL F N (2 * b + 1) := TL_1 (by omega) ‹_›
    refine lv_ifnonnull (tgt := 33) hx hb dX1_leg_25 (by decide) ?_
    refine lv_iload hx hb dX1_leg_33 (lv_at hl 0 rfl) ?_
    refine lv_aload hx hb dX1_leg_35 (lv_at hl 1 rfl) ?_
    refine h_getN hx hb hts in_X6 hown hK (hW.k7s (b) (by omega) ‹_›) rfl 5 (by decide) q636 rfl (v := .ref (ad 8 (2 * b + 1))) rfl dX1_leg_37 ?_
    refine h_getN hx hb hts in_X7 hown hK (hW.k8 (2 * b + 1) ‹TL F N (2 * b + 1)›) rfl 6 (by decide) q602 rfl (v := .ref (ad 1 (100 + (2 * b + 1)))) rfl dX1_leg_40 ?_
    have b12 : N 24 (2 * b + 1) ≤ 3 := hN 24 _
    obtain ⟨mc11, cp11, cq11, cr11, hLi11⟩ := (hW.lg (2 * b + 1) ‹TL F N (2 * b + 1)›)
    refine rc_V (W.runV (As := []) (rest := [.int (iI (N 24 (2 * b)))]) ⟨hx, hb, hml, hown, hts⟩ (al_size l D cA (ad 1 (100 + (2 * b + 1))) mc11 (ad 2 (100 + (2 * b + 1))) (N 24 (2 * b + 1))) (cwV 0 hts (lw_V q448 q449 q450 q45 q451) rfl rfl rfl (by decide +kernel) ⟨Nat.le_of_ble_eq_true rfl, Nat.le_of_ble_eq_true rfl⟩) (preV hK hLi11.1 rfl hLi11.1) rfl rfl hl.1 rfl (lv_room (Nat.le_of_ble_eq_true rfl)) dX1_leg_43 ⟨Nat.le_of_ble_eq_true rfl, Nat.le_of_ble_eq_true rfl⟩) ?_
    refine ri_iadd hx hb dX1_leg_46 ?_
    refine ri_top (b := (N 24 (2 * b) + N 24 (2 * b + 1) : Nat)) (by omega) ?_
    refine lv_istore (lv' := [(6, .int (iI ((N 24 (2 * b) + N 24 (2 * b + 1) : Nat)))), (5, .int (iI (N 24 (2 * b)))), (4, .ref (ad 7 (b))), (0, .ref (ad 0 (0))), (1, .int (iI (b))), (2, .int (iI (a))), (3, .int (iI (v)))]) hx hb dX1_leg_47 hl (by decide) rfl (fun ls hl => ?_)
    refine lv_iload_n hx hb dX1_leg_49 rfl (lv_at hl 5 rfl) ?_
    refine ri_if_lt (tgt := 72) hx hb haa dX1_leg_50 (by decide) (fun h13 => ?_) (fun h13 => ?_)
    · skip
      refine lv_iconst (v := iI (0)) hx hb dX1_leg_72 rfl ?_
      exact T.out (T.runS (As := [.int (iI (0))]) (rest := []) ⟨hx, hb, hml, hown, hts⟩ (cc_X1_there_t l hls D cA A) (va_cwS 1 hts (lw_S q779 q780 q42 q781) rfl rfl rfl (by decide +kernel) ⟨Nat.le_of_ble_eq_true rfl, Nat.le_of_ble_eq_true rfl⟩) (preST hK hTX hS) rfl rfl hl.1 rfl (lv_room (Nat.le_of_ble_eq_true rfl)) dX1_leg_73 ⟨Nat.le_of_ble_eq_true rfl, Nat.le_of_ble_eq_true rfl⟩) hemp hlocks (fun x st₀ t u g1 g2 g3 => QT.out g1 g2 g3)
    · skip
      refine lv_iload_n hx hb dX1_leg_53 rfl (lv_at hl 5 rfl) ?_
      refine lv_iload hx hb dX1_leg_54 (lv_at hl 0 rfl) ?_
      refine ri_icmp_ge (tgt := 72) hx hb haa (by unfold inR; omega) dX1_leg_56 (by decide) (fun h14 => ?_) (fun h14 => ?_)
      · skip
        refine lv_iconst (v := iI (0)) hx hb dX1_leg_72 rfl ?_
        exact T.out (T.runS (As := [.int (iI (0))]) (rest := []) ⟨hx, hb, hml, hown, hts⟩ (cc_X1_there_t l hls D cA A) (va_cwS 1 hts (lw_S q779 q780 q42 q781) rfl rfl rfl (by decide +kernel) ⟨Nat.le_of_ble_eq_true rfl, Nat.le_of_ble_eq_true rfl⟩) (preST hK hTX hS) rfl rfl hl.1 rfl (lv_room (Nat.le_of_ble_eq_true rfl)) dX1_leg_73 ⟨Nat.le_of_ble_eq_true rfl, Nat.le_of_ble_eq_true rfl⟩) hemp hlocks (fun x st₀ t u g1 g2 g3 => QT.out g1 g2 g3)
      · skip
        refine lv_iload_n hx hb dX1_leg_59 rfl (lv_at hl 6 rfl) ?_
        refine ri_if_lt (tgt := 72) hx hb hvv dX1_leg_60 (by decide) (fun h15 => ?_) (fun h15 => ?_)
        · skip
          refine lv_iconst (v := iI (0)) hx hb dX1_leg_72 rfl ?_
          exact T.out (T.runS (As := [.int (iI (0))]) (rest := []) ⟨hx, hb, hml, hown, hts⟩ (cc_X1_there_t l hls D cA A) (va_cwS 1 hts (lw_S q779 q780 q42 q781) rfl rfl rfl (by decide +kernel) ⟨Nat.le_of_ble_eq_true rfl, Nat.le_of_ble_eq_true rfl⟩) (preST hK hTX hS) rfl rfl hl.1 rfl (lv_room (Nat.le_of_ble_eq_true rfl)) dX1_leg_73 ⟨Nat.le_of_ble_eq_true rfl, Nat.le_of_ble_eq_true rfl⟩) hemp hlocks (fun x st₀ t u g1 g2 g3 => QT.out g1 g2 g3)
        · skip
          refine lv_iload_n hx hb dX1_leg_63 rfl (lv_at hl 6 rfl) ?_
          refine lv_iconst (v := iI (2)) hx hb dX1_leg_64 rfl ?_
          refine ri_icmp_gt (tgt := 72) hx hb hvv (by unfold inR; omega) dX1_leg_65 (by decide) (fun h16 => ?_) (fun h16 => ?_)
          · skip
            refine lv_iconst (v := iI (0)) hx hb dX1_leg_72 rfl ?_
            exact T.out (T.runS (As := [.int (iI (0))]) (rest := []) ⟨hx, hb, hml, hown, hts⟩ (cc_X1_there_t l hls D cA A) (va_cwS 1 hts (lw_S q779 q780 q42 q781) rfl rfl rfl (by decide +kernel) ⟨Nat.le_of_ble_eq_true rfl, Nat.le_of_ble_eq_true rfl⟩) (preST hK hTX hS) rfl rfl hl.1 rfl (lv_room (Nat.le_of_ble_eq_true rfl)) dX1_leg_73 ⟨Nat.le_of_ble_eq_true rfl, Nat.le_of_ble_eq_true rfl⟩) hemp hlocks (fun x st₀ t u g1 g2 g3 => QT.out g1 g2 g3)
          · skip
            exfalso; omega
