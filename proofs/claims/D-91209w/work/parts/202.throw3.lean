set_option maxRecDepth 100000
/-! there(false), right(false) -/

set_option maxHeartbeats 4000000 in
set_option maxRecDepth 100000 in
theorem cc_X1_there_t (l : Launch) (hls : l.stackTraces = false) (D : va_G) (cA : Nat → ClassId) (A : Nat → Prop) : MetT l yX1_there (ws_ yX1_there cX1_there 1 none) ({ frames := 8, cells := 1, slots := 6, locals := 200 }) (Pq D cA [.int (iI (0))] (TX A)) (QT D 10) 1 6 := by
  refine MetT.ofW (cc := cX1_there) (maxL := 1) (ret := none) (by decide) rfl ?_
  intro p e s m args below meth c s₁ B hml hv
  obtain ⟨rfl, hK, hTX⟩ := hv
  have hx := B.exec
  have hb := B.bytes
  have hts := atoms_spec (ws := ws_ yX1_there cX1_there 1 none) B.pre
  have hemp : c.exceptionTable = #[] := Array.isEmpty_iff.mp (B.noHandlers (hts _ List.mem_cons_self))
  have hts : ∀ w ∈ lw_all, w.before _ s = true := fun w h => hts w (List.mem_cons_of_mem _ h)
  have hown : s.vm.findClass RX1 = some m.cls := findClass_of_methodNamed B.named
  have hlocks := B.notSynchronized
  have hl := lv_entry ([.int (iI (0))]) (n := 1) (Nat.le_of_ble_eq_true rfl)
  rw [lg_entry_eq]
  generalize (lg_sl ([.int (iI (0))]) ++ List.replicate (1 - (lg_sl ([.int (iI (0))])).length) Slot.unset).toArray = ls at hl ⊢
  have hl : lv_has ls 1 [(0, .int (iI (0)))] := hl
  refine lv_iload_n hx hb dX1_there_0 rfl (lv_at hl 0 rfl) ?_
  refine ri_if_ne (tgt := 12) hx hb (by unfold inR; omega) dX1_there_1 (by decide) (fun h1 => ?_) (fun h1 => ?_)
  · exfalso; omega
  have hKn := hK.1.1 10 (RJ18, TJ18, 6) rfl
  refine W.newcK hx hb hown (hts _ q782) (hts _ q783) (hts _ q65) rfl dX1_there_4 (Nat.le_of_ble_eq_true rfl) (Nat.le_of_ble_eq_true rfl) hKn.2.1 rfl fun H1 kC hkC e1 z1 o1 => ?_
  refine lv_dup hx hb dX1_there_7 rfl ?_
  intro T hT XX
  have htr : e.platform.stackTraces = false := by
    have := XX.admits.2.2.2.2.1
    rw [this]; exact hls
  have hnone : c.exceptionTable.toList = [] := by rw [hemp]
  obtain ⟨U, u1, u2, u3, u4, u5, ce, u6, u7⟩ := XX.ctorThrow0 hx htr hown (by decide +kernel) (by decide +kernel) (xOwn xAll18 xTbl18 hts hK hTX) (fun _ h => absurd h List.not_mem_nil) hKn.2.1 hkC (a := s.heap.size) (by rw [hT]; exact e1) (Nat.le_refl _)
    (g := F0 m 8 ls [.ref s.heap.size, .ref s.heap.size]) rfl (hl.1.trans hml.symm) rfl rfl (rest := []) rfl (by rw [hb]; exact dX1_there_8) (by rw [hb]; exact dX1_there_11) (fun x hx => by rw [hnone] at hx; cases hx) (Nat.le_of_ble_eq_true rfl) (Nat.le_of_ble_eq_true rfl) hlocks
  have hsh := same_heap u5
  exact ⟨U, u1, _, u2, u3, ⟨⟨ce, u6, by rw [u7.vm]; rfl, Option.some.inj (u7.cls.symm.trans hKn.2.1)⟩, Nat.le_refl _, hsh.1, hsh.2⟩, u4, u5⟩

set_option maxHeartbeats 4000000 in
set_option maxRecDepth 100000 in
theorem cc_X1_right_t (l : Launch) (hls : l.stackTraces = false) (D : va_G) (cA : Nat → ClassId) (A : Nat → Prop) : MetT l yX1_right (ws_ yX1_right cX1_right 1 none) ({ frames := 8, cells := 1, slots := 6, locals := 200 }) (Pq D cA [.int (iI (0))] (TX A)) (QT D 11) 1 6 := by
  refine MetT.ofW (cc := cX1_right) (maxL := 1) (ret := none) (by decide) rfl ?_
  intro p e s m args below meth c s₁ B hml hv
  obtain ⟨rfl, hK, hTX⟩ := hv
  have hx := B.exec
  have hb := B.bytes
  have hts := atoms_spec (ws := ws_ yX1_right cX1_right 1 none) B.pre
  have hemp : c.exceptionTable = #[] := Array.isEmpty_iff.mp (B.noHandlers (hts _ List.mem_cons_self))
  have hts : ∀ w ∈ lw_all, w.before _ s = true := fun w h => hts w (List.mem_cons_of_mem _ h)
  have hown : s.vm.findClass RX1 = some m.cls := findClass_of_methodNamed B.named
  have hlocks := B.notSynchronized
  have hl := lv_entry ([.int (iI (0))]) (n := 1) (Nat.le_of_ble_eq_true rfl)
  rw [lg_entry_eq]
  generalize (lg_sl ([.int (iI (0))]) ++ List.replicate (1 - (lg_sl ([.int (iI (0))])).length) Slot.unset).toArray = ls at hl ⊢
  have hl : lv_has ls 1 [(0, .int (iI (0)))] := hl
  refine lv_iload_n hx hb dX1_right_0 rfl (lv_at hl 0 rfl) ?_
  refine ri_if_ne (tgt := 12) hx hb (by unfold inR; omega) dX1_right_1 (by decide) (fun h1 => ?_) (fun h1 => ?_)
  · exfalso; omega
  have hKn := hK.1.1 11 (RJ6, TJ6, 6) rfl
  refine W.newcK hx hb hown (hts _ q838) (hts _ q99) (hts _ q49) rfl dX1_right_4 (Nat.le_of_ble_eq_true rfl) (Nat.le_of_ble_eq_true rfl) hKn.2.1 rfl fun H1 kC hkC e1 z1 o1 => ?_
  refine lv_dup hx hb dX1_right_7 rfl ?_
  intro T hT XX
  have htr : e.platform.stackTraces = false := by
    have := XX.admits.2.2.2.2.1
    rw [this]; exact hls
  have hnone : c.exceptionTable.toList = [] := by rw [hemp]
  obtain ⟨U, u1, u2, u3, u4, u5, ce, u6, u7⟩ := XX.ctorThrow0 hx htr hown (by decide +kernel) (by decide +kernel) (xOwn xAll6 xTbl6 hts hK hTX) (fun _ h => absurd h List.not_mem_nil) hKn.2.1 hkC (a := s.heap.size) (by rw [hT]; exact e1) (Nat.le_refl _)
    (g := F0 m 8 ls [.ref s.heap.size, .ref s.heap.size]) rfl (hl.1.trans hml.symm) rfl rfl (rest := []) rfl (by rw [hb]; exact dX1_right_8) (by rw [hb]; exact dX1_right_11) (fun x hx => by rw [hnone] at hx; cases hx) (Nat.le_of_ble_eq_true rfl) (Nat.le_of_ble_eq_true rfl) hlocks
  have hsh := same_heap u5
  exact ⟨U, u1, _, u2, u3, ⟨⟨ce, u6, by rw [u7.vm]; rfl, Option.some.inj (u7.cls.symm.trans hKn.2.1)⟩, Nat.le_refl _, hsh.1, hsh.2⟩, u4, u5⟩
