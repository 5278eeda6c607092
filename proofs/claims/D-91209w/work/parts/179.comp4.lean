set_option maxRecDepth 100000
set_option maxHeartbeats 4000000 in
set_option maxRecDepth 100000 in
theorem cc_X3_init (l : Launch) (D : va_G) (cA : Nat → ClassId) (z : Nat) (a b : Int) : Met l yX3_init (ws_ yX3_init cX3_init 3 none) ({ frames := 1, cells := 0, slots := 0, locals := 40 }) (Pk D cA [.ref z, .int (iI (a)), .int (iI (b))] (fun H => va_at D CL (z, .inr (2, [.int (iI (0)), .int (iI (0))])) H)) (Qn (fun H' => va_at D CL (z, .inr (2, [.int (iI (a)), .int (iI (b))])) H') (fun q => q = z)) 0 0 (fun q => q = z) := by
  refine Met.ofW (cc := cX3_init) (maxL := 3) (ret := none) (by decide) rfl ?_
  intro p e s m args below meth c s₁ B hml hv
  obtain ⟨rfl, hK, hW⟩ := hv
  have hx := B.exec
  have hb := B.bytes
  have hr := B.returns
  have hts := atoms_spec (ws := ws_ yX3_init cX3_init 3 none) B.pre
  have hts : ∀ w ∈ lw_all, w.before _ s = true := fun w h => hts w (List.mem_cons_of_mem _ h)
  have hown : s.vm.findClass RX3 = some m.cls := findClass_of_methodNamed B.named
  have hlocks := B.notSynchronized
  have hin : meth.name = "<init>" := (name_of_methodNamed B.named B.method).1
  have hl := lv_entry ([.ref z, .int (iI (a)), .int (iI (b))]) (n := 3) (Nat.le_of_ble_eq_true rfl)
  rw [lg_entry_eq]
  generalize (lg_sl ([.ref z, .int (iI (a)), .int (iI (b))]) ++ List.replicate (3 - (lg_sl ([.ref z, .int (iI (a)), .int (iI (b))])).length) Slot.unset).toArray = ls at hl ⊢
  have hl : lv_has ls 3 [(0, .ref z), (1, .int (iI (a))), (2, .int (iI (b)))] := hl
  have hS : va_S (fun q => q = z) s.heap s.heap [] := va_S.rf
  have hL := hW
  refine lv_aload_n hx hb dX3_init_0 rfl (lv_at hl 0 rfl) ?_
  refine W.objInit hx hb hown (hts _ q457) (hts _ q80) (hts _ q81) rfl (by rw [hml]; exact hl.1) rfl dX3_init_1 (Nat.le_of_ble_eq_true rfl) (Nat.le_of_ble_eq_true rfl) ?_
  refine W.eq (g2 := F0 m 4 ls []) rfl ?_
  refine lv_aload_n hx hb dX3_init_4 rfl (lv_at hl 0 rfl) ?_
  refine lv_iload_n hx hb dX3_init_5 rfl (lv_at hl 1 rfl) ?_
  refine h_putF hx hb hts in_X3 tyX3 tyX3_ok nmX3 hown hK hL hS rfl rfl 0 (by decide) (hts _ q458) rfl rfl hin rfl (v := .int (iI (a))) rfl rfl rfl (Nat.le_of_ble_eq_true rfl) dX3_init_6 (fun H locs hL oq zq hS => ?_)
  have hL : va_at D CL (z, .inr (2, [.int (iI (a)), .int (iI (0))])) H := hL
  refine lv_aload_n hx hb dX3_init_9 rfl (lv_at hl 0 rfl) ?_
  refine lv_iload_n hx hb dX3_init_10 rfl (lv_at hl 2 rfl) ?_
  refine h_putF hx hb hts in_X3 tyX3 tyX3_ok nmX3 hown hK hL hS rfl rfl 1 (by decide) (hts _ q460) rfl rfl hin rfl (v := .int (iI (b))) rfl rfl rfl (Nat.le_of_ble_eq_true rfl) dX3_init_11 (fun H locs hL oq zq hS => ?_)
  have hL : va_at D CL (z, .inr (2, [.int (iI (a)), .int (iI (b))])) H := hL
  exact W.vret hx hb hr (fun tt htt hWm => ⟨⟨rfl, by rw [htt]; exact hL⟩, hS.F htt⟩) hS.2.2 dX3_init_14

set_option maxHeartbeats 4000000 in
set_option maxRecDepth 100000 in
theorem cc_X5_init (l : Launch) (D : va_G) (cA : Nat → ClassId) (z : Nat) (sr : Nat) (b : Int) : Met l yX5_init (ws_ yX5_init cX5_init 3 none) ({ frames := 1, cells := 0, slots := 0, locals := 40 }) (Pk D cA [.ref z, .ref sr, .int (iI (b))] (fun H => va_at D CL (z, .inr (4, [.null, .int (iI (0))])) H)) (Qn (fun H' => va_at D CL (z, .inr (4, [.ref sr, .int (iI (b))])) H') (fun q => q = z)) 0 0 (fun q => q = z) := by
  refine Met.ofW (cc := cX5_init) (maxL := 3) (ret := none) (by decide) rfl ?_
  intro p e s m args below meth c s₁ B hml hv
  obtain ⟨rfl, hK, hW⟩ := hv
  have hx := B.exec
  have hb := B.bytes
  have hr := B.returns
  have hts := atoms_spec (ws := ws_ yX5_init cX5_init 3 none) B.pre
  have hts : ∀ w ∈ lw_all, w.before _ s = true := fun w h => hts w (List.mem_cons_of_mem _ h)
  have hown : s.vm.findClass RX5 = some m.cls := findClass_of_methodNamed B.named
  have hlocks := B.notSynchronized
  have hin : meth.name = "<init>" := (name_of_methodNamed B.named B.method).1
  have hl := lv_entry ([.ref z, .ref sr, .int (iI (b))]) (n := 3) (Nat.le_of_ble_eq_true rfl)
  rw [lg_entry_eq]
  generalize (lg_sl ([.ref z, .ref sr, .int (iI (b))]) ++ List.replicate (3 - (lg_sl ([.ref z, .ref sr, .int (iI (b))])).length) Slot.unset).toArray = ls at hl ⊢
  have hl : lv_has ls 3 [(0, .ref z), (1, .ref sr), (2, .int (iI (b)))] := hl
  have hS : va_S (fun q => q = z) s.heap s.heap [] := va_S.rf
  have hL := hW
  refine lv_aload_n hx hb dX5_init_0 rfl (lv_at hl 0 rfl) ?_
  refine W.objInit hx hb hown (hts _ q816) (hts _ q80) (hts _ q81) rfl (by rw [hml]; exact hl.1) rfl dX5_init_1 (Nat.le_of_ble_eq_true rfl) (Nat.le_of_ble_eq_true rfl) ?_
  refine W.eq (g2 := F0 m 4 ls []) rfl ?_
  refine lv_aload_n hx hb dX5_init_4 rfl (lv_at hl 0 rfl) ?_
  refine lv_aload_n hx hb dX5_init_5 rfl (lv_at hl 1 rfl) ?_
  refine h_putF hx hb hts in_X5 tyX5 tyX5_ok nmX5 hown hK hL hS rfl rfl 0 (by decide) (hts _ q817) rfl rfl hin rfl (v := .ref sr) rfl rfl rfl (Nat.le_of_ble_eq_true rfl) dX5_init_6 (fun H locs hL oq zq hS => ?_)
  have hL : va_at D CL (z, .inr (4, [.ref sr, .int (iI (0))])) H := hL
  refine lv_aload_n hx hb dX5_init_9 rfl (lv_at hl 0 rfl) ?_
  refine lv_iload_n hx hb dX5_init_10 rfl (lv_at hl 2 rfl) ?_
  refine h_putF hx hb hts in_X5 tyX5 tyX5_ok nmX5 hown hK hL hS rfl rfl 1 (by decide) (hts _ q820) rfl rfl hin rfl (v := .int (iI (b))) rfl rfl rfl (Nat.le_of_ble_eq_true rfl) dX5_init_11 (fun H locs hL oq zq hS => ?_)
  have hL : va_at D CL (z, .inr (4, [.ref sr, .int (iI (b))])) H := hL
  exact W.vret hx hb hr (fun tt htt hWm => ⟨⟨rfl, by rw [htt]; exact hL⟩, hS.F htt⟩) hS.2.2 dX5_init_14

set_option maxHeartbeats 4000000 in
set_option maxRecDepth 100000 in
theorem cc_X8_init (l : Launch) (D : va_G) (cA : Nat → ClassId) (z : Nat) (tr : Nat) (a b : Int) : Met l yX8_init (ws_ yX8_init cX8_init 4 none) ({ frames := 1, cells := 0, slots := 0, locals := 40 }) (Pk D cA [.ref z, .ref tr, .int (iI (a)), .int (iI (b))] (fun H => va_at D CL (z, .inr (7, [.null, .int (iI (0)), .int (iI (0))])) H)) (Qn (fun H' => va_at D CL (z, .inr (7, [.ref tr, .int (iI (a)), .int (iI (b))])) H') (fun q => q = z)) 0 0 (fun q => q = z) := by
  refine Met.ofW (cc := cX8_init) (maxL := 4) (ret := none) (by decide) rfl ?_
  intro p e s m args below meth c s₁ B hml hv
  obtain ⟨rfl, hK, hW⟩ := hv
  have hx := B.exec
  have hb := B.bytes
  have hr := B.returns
  have hts := atoms_spec (ws := ws_ yX8_init cX8_init 4 none) B.pre
  have hts : ∀ w ∈ lw_all, w.before _ s = true := fun w h => hts w (List.mem_cons_of_mem _ h)
  have hown : s.vm.findClass RX8 = some m.cls := findClass_of_methodNamed B.named
  have hlocks := B.notSynchronized
  have hin : meth.name = "<init>" := (name_of_methodNamed B.named B.method).1
  have hl := lv_entry ([.ref z, .ref tr, .int (iI (a)), .int (iI (b))]) (n := 4) (Nat.le_of_ble_eq_true rfl)
  rw [lg_entry_eq]
  generalize (lg_sl ([.ref z, .ref tr, .int (iI (a)), .int (iI (b))]) ++ List.replicate (4 - (lg_sl ([.ref z, .ref tr, .int (iI (a)), .int (iI (b))])).length) Slot.unset).toArray = ls at hl ⊢
  have hl : lv_has ls 4 [(0, .ref z), (1, .ref tr), (2, .int (iI (a))), (3, .int (iI (b)))] := hl
  have hS : va_S (fun q => q = z) s.heap s.heap [] := va_S.rf
  have hL := hW
  refine lv_aload_n hx hb dX8_init_0 rfl (lv_at hl 0 rfl) ?_
  refine W.objInit hx hb hown (hts _ q719) (hts _ q80) (hts _ q81) rfl (by rw [hml]; exact hl.1) rfl dX8_init_1 (Nat.le_of_ble_eq_true rfl) (Nat.le_of_ble_eq_true rfl) ?_
  refine W.eq (g2 := F0 m 4 ls []) rfl ?_
  refine lv_aload_n hx hb dX8_init_4 rfl (lv_at hl 0 rfl) ?_
  refine lv_aload_n hx hb dX8_init_5 rfl (lv_at hl 1 rfl) ?_
  refine h_putF hx hb hts in_X8 tyX8 tyX8_ok nmX8 hown hK hL hS rfl rfl 0 (by decide) (hts _ q720) rfl rfl hin rfl (v := .ref tr) rfl rfl rfl (Nat.le_of_ble_eq_true rfl) dX8_init_6 (fun H locs hL oq zq hS => ?_)
  have hL : va_at D CL (z, .inr (7, [.ref tr, .int (iI (0)), .int (iI (0))])) H := hL
  refine lv_aload_n hx hb dX8_init_9 rfl (lv_at hl 0 rfl) ?_
  refine lv_iload_n hx hb dX8_init_10 rfl (lv_at hl 2 rfl) ?_
  refine h_putF hx hb hts in_X8 tyX8 tyX8_ok nmX8 hown hK hL hS rfl rfl 1 (by decide) (hts _ q723) rfl rfl hin rfl (v := .int (iI (a))) rfl rfl rfl (Nat.le_of_ble_eq_true rfl) dX8_init_11 (fun H locs hL oq zq hS => ?_)
  have hL : va_at D CL (z, .inr (7, [.ref tr, .int (iI (a)), .int (iI (0))])) H := hL
  refine lv_aload_n hx hb dX8_init_14 rfl (lv_at hl 0 rfl) ?_
  refine lv_iload_n hx hb dX8_init_15 rfl (lv_at hl 3 rfl) ?_
  refine h_putF hx hb hts in_X8 tyX8 tyX8_ok nmX8 hown hK hL hS rfl rfl 2 (by decide) (hts _ q725) rfl rfl hin rfl (v := .int (iI (b))) rfl rfl rfl (Nat.le_of_ble_eq_true rfl) dX8_init_16 (fun H locs hL oq zq hS => ?_)
  have hL : va_at D CL (z, .inr (7, [.ref tr, .int (iI (a)), .int (iI (b))])) H := hL
  exact W.vret hx hb hr (fun tt htt hWm => ⟨⟨rfl, by rw [htt]; exact hL⟩, hS.F htt⟩) hS.2.2 dX8_init_19

set_option maxHeartbeats 4000000 in
set_option maxRecDepth 100000 in
theorem cc_X4_loads (l : Launch) (D : va_G) (cA : Nat → ClassId) (A : Nat → Prop) (sa : Nat → Nat) (ad : Nat → Nat → Nat) (F : Nat → Nat) (N : Nat → Nat → Nat) (Z : Nat → Int) (E : Nat → Nat → Int) (K : Nat) (hKb : K ≤ 1000000) (hF : FB F) (hN : NB N) (hZ : ZB K Z) (hwf : WF F N) (t a b : Nat) (v : Int) (ht : t < F 3) (hab : a ≤ b) (hb9 : b ≤ 10) (hv1 : -1 ≤ v) (hv2 : v ≤ 1) : Met l yX4_loads (ws_ yX4_loads cX4_loads 5 none) ({ frames := 1, cells := 0, slots := 0, locals := 30 }) (PC D cA A sa ad F N Z E [.ref (ad 4 (t)), .int (iI (a)), .int (iI (b)), .int (iI (v))]) (Qn (fun H' => CW D cA A sa ad F N (adZ Z v (10 * t + a) (10 * t + b)) E H') A) 0 0 (A) := by
  refine Met.ofW (cc := cX4_loads) (maxL := 5) (ret := none) (by decide) rfl ?_
  intro p e s m args below meth c s₁ B hml hv
  obtain ⟨rfl, hK, hW⟩ := hv
  have hx := B.exec
  have hb := B.bytes
  have hr := B.returns
  have hts := atoms_spec (ws := ws_ yX4_loads cX4_loads 5 none) B.pre
  have hts : ∀ w ∈ lw_all, w.before _ s = true := fun w h => hts w (List.mem_cons_of_mem _ h)
  have hown : s.vm.findClass RX4 = some m.cls := findClass_of_methodNamed B.named
  have hlocks := B.notSynchronized
  have hl := lv_entry ([.ref (ad 4 (t)), .int (iI (a)), .int (iI (b)), .int (iI (v))]) (n := 5) (Nat.le_of_ble_eq_true rfl)
  rw [lg_entry_eq]
  generalize (lg_sl ([.ref (ad 4 (t)), .int (iI (a)), .int (iI (b)), .int (iI (v))]) ++ List.replicate (5 - (lg_sl ([.ref (ad 4 (t)), .int (iI (a)), .int (iI (b)), .int (iI (v))])).length) Slot.unset).toArray = ls at hl ⊢
  have hl : lv_has ls 5 [(0, .ref (ad 4 (t))), (1, .int (iI (a))), (2, .int (iI (b))), (3, .int (iI (v)))] := hl
  obtain ⟨hSX, hW⟩ := hW
  have hS : va_S A s.heap s.heap [] := va_S.rf
  have hF2 : F 2 ≤ 10 := hF 2
  have hF3 : F 3 ≤ 16 := hF 3
  have hF4 : F 4 ≤ 60 := hF 4
  have hF5 : F 5 ≤ 40 := hF 5
  have hF1 : F 1 ≤ 1439 := hF 1
  refine lv_iload_n hx hb dX4_loads_0 rfl (lv_at hl 1 rfl) ?_
  refine lv_istore (lv' := [(4, .int (iI (a))), (0, .ref (ad 4 (t))), (1, .int (iI (a))), (2, .int (iI (b))), (3, .int (iI (v)))]) hx hb dX4_loads_1 hl (by decide) rfl (fun ls hl => ?_)
  have lp3 : ∀ (fuel : Nat) (k : Nat) (hk1 : a ≤ k) (hk2 : k ≤ b), b - k < fuel → ∀ (H : Heap) (locs : List Loc) (ls : Array Slot), CW D cA A sa ad F N (adZ Z v (10 * t + a) (10 * t + k)) E H → va_S A s.heap H locs → lv_has ls 5 [(4, .int (iI (k))), (0, .ref (ad 4 (t))), (1, .int (iI (a))), (2, .int (iI (b))), (3, .int (iI (v)))] → W p l e (headSpec (ws_ yX4_loads cX4_loads 5 none) ({ frames := 1, cells := 0, slots := 0, locals := 30 })).room s m ([.ref (ad 4 (t)), .int (iI (a)), .int (iI (b)), .int (iI (v))] : List Value).toArray below meth c H locs 0 0 (MQ below (Qn (fun H' => CW D cA A sa ad F N (adZ Z v (10 * t + a) (10 * t + b)) E H') A) ([.ref (ad 4 (t)), .int (iI (a)), .int (iI (b)), .int (iI (v))] : List Value).toArray s 0 0 (A)) (F0 m 3 ls []) := by
    intro fuel
    induction fuel with
    | zero => intro k hk1 hk2 hm; exact absurd hm (Nat.not_lt_zero _)
    | succ fuel ih3 =>
      intro k hk1 hk2 hm3 H locs ls hW hS hl
      have hzk := hZ (10 * t + k)
      refine lv_iload hx hb dX4_loads_3 (lv_at hl 0 rfl) ?_
      refine lv_iload_n hx hb dX4_loads_5 rfl (lv_at hl 3 rfl) ?_
      refine ri_icmp_ge (tgt := 26) hx hb (by unfold inR; omega) (by unfold inR; omega) dX4_loads_6 (by decide) (fun h1 => ?_) (fun h1 => ?_)
      · skip
        exact W.vret hx hb hr (fun tt htt hWm => ⟨⟨rfl, by rw [htt]; exact (by rw [show b = k by omega]; exact hW)⟩, hS.F htt⟩) hS.2.2 dX4_loads_26
      · skip
        refine lv_aload_n hx hb dX4_loads_9 rfl (lv_at hl 1 rfl) ?_
        refine h_get hx hb hts in_X4 hown hK (hW.k4 (t) (by omega)) rfl 3 (by decide) (hts _ q534) rfl (v := .ref (ad 5 (t))) rfl dX4_loads_10 ?_
        refine lv_iload hx hb dX4_loads_13 (lv_at hl 0 rfl) ?_
        refine lv_dup2_11 hx hb dX4_loads_15 rfl rfl ?_
        refine h_iald hx hb hK (hW.k5 (t) (by omega)) (k) (by omega) (by omega) (by decide) dX4_loads_16 ?_
        refine W.eq (g2 := F0 m 17 ls [.int (iI ((adZ Z v (10 * t + a) (10 * t + k)) (10 * t + k))), .int (iI (k)), .ref (ad 5 (t))]) rfl ?_
        refine ri_top (b := Z (10 * t + k)) (adZ_at _ _ _ _) ?_
        refine lv_iload_n hx hb dX4_loads_17 rfl (lv_at hl 4 rfl) ?_
        refine ri_iadd hx hb dX4_loads_18 ?_
        refine c_stZ hx hb hK hW hF3 hN hS (t := t) (by omega) (k) (by omega) (by omega) dX4_loads_19 (fun H locs hW hS => ?_)
        rw [adZ_up _ _ (by omega)] at hW
        refine lv_iinc (v := iI ((k + 1 : Nat))) (lv' := [(4, .int (iI ((k + 1 : Nat)))), (0, .ref (ad 4 (t))), (1, .int (iI (a))), (2, .int (iI (b))), (3, .int (iI (v)))]) hx hb dX4_loads_20 hl (k := 0) rfl (iI_succ _) (by decide) rfl (fun ls hl => ?_)
        refine lv_goto (tgt := 3) hx hb dX4_loads_23 (by decide) ?_
        exact ih3 (k + 1) (by omega) (by omega) (by omega) _ _ _ hW hS (lv_sub hl [0, 1, 2, 3, 4] rfl)
  rw [← adZ_0 Z v (10 * t + a)] at hW
  exact lp3 _ (a) (Nat.le_refl _) hab (Nat.lt_succ_self _) _ _ _ hW hS (lv_sub hl [0, 1, 2, 3, 4] rfl)

set_option maxHeartbeats 4000000 in
set_option maxRecDepth 100000 in
theorem cc_X8_takes (l : Launch) (D : va_G) (cA : Nat → ClassId) (A : Nat → Prop) (sa : Nat → Nat) (ad : Nat → Nat → Nat) (F : Nat → Nat) (N : Nat → Nat → Nat) (Z : Nat → Int) (E : Nat → Nat → Int) (K : Nat) (hKb : K ≤ 1000000) (hF : FB F) (hN : NB N) (hZ : ZB K Z) (hwf : WF F N) (w i : Nat) (hw : TL F N w) (hi : i < N 24 w) : Met l yX8_takes (ws_ yX8_takes cX8_takes 1 none) ({ frames := 2, cells := 0, slots := 0, locals := 54 }) (PC D cA A sa ad F N Z E [.ref (ad 9 (3 * w + i))]) (Qn (fun H' => CW D cA A sa ad F (up2 N 23 (N 27 (3 * w + i)) 1) (adZ Z 1 (10 * N 27 (3 * w + i) + N 28 (3 * w + i)) (10 * N 27 (3 * w + i) + N 29 (3 * w + i))) E H') A) 0 0 (A) := by
  refine Met.ofW (cc := cX8_takes) (maxL := 1) (ret := none) (by decide) rfl ?_
  intro p e s m args below meth c s₁ B hml hv
  obtain ⟨rfl, hK, hW⟩ := hv
  have hx := B.exec
  have hb := B.bytes
  have hr := B.returns
  have hts := atoms_spec (ws := ws_ yX8_takes cX8_takes 1 none) B.pre
  have hts : ∀ w ∈ lw_all, w.before _ s = true := fun w h => hts w (List.mem_cons_of_mem _ h)
  have hown : s.vm.findClass RX8 = some m.cls := findClass_of_methodNamed B.named
  have hlocks := B.notSynchronized
  have hl := lv_entry ([.ref (ad 9 (3 * w + i))]) (n := 1) (Nat.le_of_ble_eq_true rfl)
  rw [lg_entry_eq]
  generalize (lg_sl ([.ref (ad 9 (3 * w + i))]) ++ List.replicate (1 - (lg_sl ([.ref (ad 9 (3 * w + i))])).length) Slot.unset).toArray = ls at hl ⊢
  have hl : lv_has ls 1 [(0, .ref (ad 9 (3 * w + i)))] := hl
  obtain ⟨hSX, hW⟩ := hW
  have hS : va_S A s.heap s.heap [] := va_S.rf
  have hF2 : F 2 ≤ 10 := hF 2
  have hF3 : F 3 ≤ 16 := hF 3
  have hF4 : F 4 ≤ 60 := hF 4
  have hF5 : F 5 ≤ 40 := hF 5
  have hF1 : F 1 ≤ 1439 := hF 1
  have hm3 : N 24 w ≤ 3 := hN 24 w
  refine lv_aload_n hx hb dX8_takes_0 rfl (lv_at hl 0 rfl) ?_
  have b1 : N 27 (3 * w + i) < F 3 ∧ N 28 (3 * w + i) < N 29 (3 * w + i) ∧ N 29 (3 * w + i) < N 8 (N 27 (3 * w + i)) := hwf.2.2.1 _ _ ‹TL F N (w)› (by omega)
  have b2 : N 8 (N 27 (3 * w + i)) ≤ 10 := hN 8 _
  refine h_get hx hb hts in_X8 hown hK (hW.k9 (w) (i) ‹TL F N (w)› (by omega)) rfl 0 (by decide) (hts _ q720) rfl (v := .ref (ad 4 (N 27 (3 * w + i)))) rfl dX8_takes_1 ?_
  refine lv_aload_n hx hb dX8_takes_4 rfl (lv_at hl 0 rfl) ?_
  refine h_get hx hb hts in_X8 hown hK (hW.k9 (w) (i) ‹TL F N (w)› (by omega)) rfl 1 (by decide) (hts _ q723) rfl (v := .int (iI (N 28 (3 * w + i)))) rfl dX8_takes_5 ?_
  refine lv_aload_n hx hb dX8_takes_8 rfl (lv_at hl 0 rfl) ?_
  refine h_get hx hb hts in_X8 hown hK (hW.k9 (w) (i) ‹TL F N (w)› (by omega)) rfl 2 (by decide) (hts _ q725) rfl (v := .int (iI (N 29 (3 * w + i)))) rfl dX8_takes_9 ?_
  refine lv_iconst (v := iI (1)) hx hb dX8_takes_12 rfl ?_
  refine rc_N (W.runV (As := [.int (iI (N 28 (3 * w + i))), .int (iI (N 29 (3 * w + i))), .int (iI (1))]) (rest := []) ⟨hx, hb, hml, hown, hts⟩ (cc_X4_loads l D cA A sa ad F N Z E K hKb hF hN hZ hwf (N 27 (3 * w + i)) (N 28 (3 * w + i)) (N 29 (3 * w + i)) 1 (by omega) (by omega) (by omega) (by decide) (by decide)) (cwV 3 hts (lw_V q739 q740 q741 q64 q742) rfl rfl rfl (by decide +kernel) ⟨Nat.le_of_ble_eq_true rfl, Nat.le_of_ble_eq_true rfl⟩) (preVC hK hSX hS (hW.k4 (N 27 (3 * w + i)) (by omega)) rfl hW) rfl rfl hl.1 rfl (lv_room (Nat.le_of_ble_eq_true rfl)) dX8_takes_13 ⟨Nat.le_of_ble_eq_true rfl, Nat.le_of_ble_eq_true rfl⟩) hS (fun _ _ h => h) (fun _ h => h) (fun H locs hW hS hz hk => ?_)
  refine lv_aload_n hx hb dX8_takes_16 rfl (lv_at hl 0 rfl) ?_
  refine h_get hx hb hts in_X8 hown hK (hW.k9 (w) (i) ‹TL F N (w)› (by omega)) rfl 0 (by decide) (hts _ q720) rfl (v := .ref (ad 4 (N 27 (3 * w + i)))) rfl dX8_takes_17 ?_
  refine lv_iconst (v := iI (1)) hx hb dX8_takes_20 rfl ?_
  refine h_putN hx hb hts in_X4 tyX4 tyX4_ok nmX4 hown hK (hW.k4 (N 27 (3 * w + i)) (by omega)) hS (hW.hA 4 (N 27 (3 * w + i)) (by show _ < _; omega)) rfl 5 (by decide) q537 rfl rfl (v := .int (iI (1))) rfl rfl rfl (Nat.le_of_ble_eq_true rfl) dX8_takes_21 (fun H locs hP oq zq hS => ?_)
  have hP : va_at D CL (ad 4 (N 27 (3 * w + i)), eT ad (up2 (N) 23 (N 27 (3 * w + i)) (1)) (N 27 (3 * w + i))) H := by rw [eT, up2_eq]; exact hP
  have hW := hW.setT23 (v := 1) hF3 hN (by omega) hP oq zq
  have hN : NB (up2 (N) 23 (N 27 (3 * w + i)) (1)) := hN.up (by show _ ≤ 1; omega)
  have hwf : WF F (up2 (N) 23 (N 27 (3 * w + i)) (1)) := hwf
  exact W.vret hx hb hr (fun tt htt hWm => ⟨⟨rfl, by rw [htt]; exact hW⟩, hS.F htt⟩) hS.2.2 dX8_takes_24

set_option maxHeartbeats 4000000 in
set_option maxRecDepth 100000 in
theorem cc_X8_leaves (l : Launch) (D : va_G) (cA : Nat → ClassId) (A : Nat → Prop) (sa : Nat → Nat) (ad : Nat → Nat → Nat) (F : Nat → Nat) (N : Nat → Nat → Nat) (Z : Nat → Int) (E : Nat → Nat → Int) (K : Nat) (hKb : K ≤ 1000000) (hF : FB F) (hN : NB N) (hZ : ZB K Z) (hwf : WF F N) (z tr a b : Nat) (htr : tr < F 3) (hab : a < b) (hb8 : b < N 8 tr) : Met l yX8_leaves (ws_ yX8_leaves cX8_leaves 1 none) ({ frames := 2, cells := 0, slots := 0, locals := 54 }) (PZ D cA A sa ad F N Z E [.ref z] z 7 [.ref (ad 4 (tr)), .int (iI (a)), .int (iI (b))]) (Qn (fun H' => CW D cA A sa ad F N (adZ Z (-1) (10 * tr + a) (10 * tr + b)) E H') A) 0 0 (A) := by
  refine Met.ofW (cc := cX8_leaves) (maxL := 1) (ret := none) (by decide) rfl ?_
  intro p e s m args below meth c s₁ B hml hv
  obtain ⟨rfl, hK, hW⟩ := hv
  have hx := B.exec
  have hb := B.bytes
  have hr := B.returns
  have hts := atoms_spec (ws := ws_ yX8_leaves cX8_leaves 1 none) B.pre
  have hts : ∀ w ∈ lw_all, w.before _ s = true := fun w h => hts w (List.mem_cons_of_mem _ h)
  have hown : s.vm.findClass RX8 = some m.cls := findClass_of_methodNamed B.named
  have hlocks := B.notSynchronized
  have hl := lv_entry ([.ref z]) (n := 1) (Nat.le_of_ble_eq_true rfl)
  rw [lg_entry_eq]
  generalize (lg_sl ([.ref z]) ++ List.replicate (1 - (lg_sl ([.ref z])).length) Slot.unset).toArray = ls at hl ⊢
  have hl : lv_has ls 1 [(0, .ref z)] := hl
  obtain ⟨⟨hSX, hW⟩, hXz⟩ := hW
  have hS : va_S A s.heap s.heap [] := va_S.rf
  have hF2 : F 2 ≤ 10 := hF 2
  have hF3 : F 3 ≤ 16 := hF 3
  have hF4 : F 4 ≤ 60 := hF 4
  have hF5 : F 5 ≤ 40 := hF 5
  have hF1 : F 1 ≤ 1439 := hF 1
  have hm8 : N 8 tr ≤ 10 := hN 8 tr
  refine lv_aload_n hx hb dX8_leaves_0 rfl (lv_at hl 0 rfl) ?_
  refine h_get hx hb hts in_X8 hown hK hXz rfl 0 (by decide) (hts _ q720) rfl (v := .ref (ad 4 (tr))) rfl dX8_leaves_1 ?_
  refine lv_aload_n hx hb dX8_leaves_4 rfl (lv_at hl 0 rfl) ?_
  refine h_get hx hb hts in_X8 hown hK hXz rfl 1 (by decide) (hts _ q723) rfl (v := .int (iI (a))) rfl dX8_leaves_5 ?_
  refine lv_aload_n hx hb dX8_leaves_8 rfl (lv_at hl 0 rfl) ?_
  refine h_get hx hb hts in_X8 hown hK hXz rfl 2 (by decide) (hts _ q725) rfl (v := .int (iI (b))) rfl dX8_leaves_9 ?_
  refine lv_iconst (v := iI (-1)) hx hb dX8_leaves_12 rfl ?_
  refine rc_N (W.runV (As := [.int (iI (a)), .int (iI (b)), .int (iI (-1))]) (rest := []) ⟨hx, hb, hml, hown, hts⟩ (cc_X4_loads l D cA A sa ad F N Z E K hKb hF hN hZ hwf tr a b (-1) (by omega) (by omega) (by omega) (by decide) (by decide)) (cwV 3 hts (lw_V q739 q740 q741 q64 q742) rfl rfl rfl (by decide +kernel) ⟨Nat.le_of_ble_eq_true rfl, Nat.le_of_ble_eq_true rfl⟩) (preVC hK hSX hS (hW.k4 (tr) (by omega)) rfl hW) rfl rfl hl.1 rfl (lv_room (Nat.le_of_ble_eq_true rfl)) dX8_leaves_13 ⟨Nat.le_of_ble_eq_true rfl, Nat.le_of_ble_eq_true rfl⟩) hS (fun _ _ h => h) (fun _ h => h) (fun H locs hW hS hz hk => ?_)
  exact W.vret hx hb hr (fun tt htt hWm => ⟨⟨rfl, by rw [htt]; exact hW⟩, hS.F htt⟩) hS.2.2 dX8_leaves_16

set_option maxHeartbeats 4000000 in
set_option maxRecDepth 100000 in
theorem cc_X8_to_z (l : Launch) (D : va_G) (cA : Nat → ClassId) (A : Nat → Prop) (sa : Nat → Nat) (ad : Nat → Nat → Nat) (F : Nat → Nat) (N : Nat → Nat → Nat) (Z : Nat → Int) (E : Nat → Nat → Int) (K : Nat) (hKb : K ≤ 1000000) (hF : FB F) (hN : NB N) (hZ : ZB K Z) (hwf : WF F N) (z tr a b : Nat) (htr : tr < F 3) (hab : a < b) (hb8 : b < N 8 tr) : Met l yX8_to (ws_ yX8_to cX8_to 1 (some (.object "LunchMarks$Stop"))) ({ frames := 4, cells := 0, slots := 0, locals := 104 }) (PZ D cA A sa ad F N Z E [.ref z] z 7 [.ref (ad 4 (tr)), .int (iI (a)), .int (iI (b))]) (k2_QcV (.ref (ad 6 (10 * tr + b)))) 0 0 (fun _ => False) := by
  refine Met.ofW (cc := cX8_to) (maxL := 1) (ret := (some (.object "LunchMarks$Stop"))) (by decide) rfl ?_
  intro p e s m args below meth c s₁ B hml hv
  obtain ⟨rfl, hK, hW⟩ := hv
  have hx := B.exec
  have hb := B.bytes
  have hr := B.returns
  have hts := atoms_spec (ws := ws_ yX8_to cX8_to 1 (some (.object "LunchMarks$Stop"))) B.pre
  have hts : ∀ w ∈ lw_all, w.before _ s = true := fun w h => hts w (List.mem_cons_of_mem _ h)
  have hown : s.vm.findClass RX8 = some m.cls := findClass_of_methodNamed B.named
  have hlocks := B.notSynchronized
  have hl := lv_entry ([.ref z]) (n := 1) (Nat.le_of_ble_eq_true rfl)
  rw [lg_entry_eq]
  generalize (lg_sl ([.ref z]) ++ List.replicate (1 - (lg_sl ([.ref z])).length) Slot.unset).toArray = ls at hl ⊢
  have hl : lv_has ls 1 [(0, .ref z)] := hl
  obtain ⟨⟨hSX, hW⟩, hXz⟩ := hW
  have hS : va_S A s.heap s.heap [] := va_S.rf
  have hF2 : F 2 ≤ 10 := hF 2
  have hF3 : F 3 ≤ 16 := hF 3
  have hF4 : F 4 ≤ 60 := hF 4
  have hF5 : F 5 ≤ 40 := hF 5
  have hF1 : F 1 ≤ 1439 := hF 1
  have hm8 : N 8 tr ≤ 10 := hN 8 tr
  refine lv_aload_n hx hb dX8_to_0 rfl (lv_at hl 0 rfl) ?_
  refine h_get hx hb hts in_X8 hown hK hXz rfl 0 (by decide) (hts _ q720) rfl (v := .ref (ad 4 (tr))) rfl dX8_to_1 ?_
  refine h_getN hx hb hts in_X4 hown hK (hW.k4 (tr) (by omega)) rfl 2 (by decide) q532 rfl (v := .ref (ad 1 (10 + tr))) rfl dX8_to_4 ?_
  refine lv_aload_n hx hb dX8_to_7 rfl (lv_at hl 0 rfl) ?_
  refine h_get hx hb hts in_X8 hown hK hXz rfl 2 (by decide) (hts _ q725) rfl (v := .int (iI (b))) rfl dX8_to_8 ?_
  have b2 : N 8 (tr) ≤ 10 := hN 8 _
  obtain ⟨mc1, cp1, cq1, cr1, hLi1⟩ := (hW.lp (tr) (by omega))
  refine rc_V (W.runV (As := [.int (iI (b))]) (rest := []) ⟨hx, hb, hml, hown, hts⟩ (al_get l D cA (ad 1 (10 + tr)) mc1 (ad 2 (10 + tr)) (N 8 (tr)) cp1 (fun j => ad 6 (10 * tr + j)) (b) (by omega)) (cwV 1 hts (lw_V q681 q566 q567 q45 q568) rfl rfl rfl (by decide +kernel) ⟨Nat.le_of_ble_eq_true rfl, Nat.le_of_ble_eq_true rfl⟩) (preV hK hLi1.1 rfl hLi1) rfl rfl hl.1 rfl (lv_room (Nat.le_of_ble_eq_true rfl)) dX8_to_11 ⟨Nat.le_of_ble_eq_true rfl, Nat.le_of_ble_eq_true rfl⟩) ?_
  refine h_cast (ci := 4) (q := (RX5, TX5, 2)) hx hb hown (hts _ q682) hK rfl (isO.of (hW.k6 (tr) (b) (by omega) (by omega))) dX8_to_14 ?_
  exact W.aret hx hb hr (by first | exact Or.inl ⟨_, rfl⟩ | exact Or.inr ⟨_, rfl⟩) (Or.inr ⟨_, rfl⟩) (fun tt htt hWm => ⟨rfl, htt⟩) (fun _ h => absurd h List.not_mem_nil) dX8_to_17
