set_option maxRecDepth 100000
theorem va_S.wide {A B : Nat → Prop} {H0 H : Heap} {locs : List Loc} (h : va_S B H0 H locs) (hAB : ∀ q, B q → A q) : va_S A H0 H locs := ⟨h.1, fun q h1 h2 => h.2.1 q h1 (fun z => h2 (hAB q z)), fun l hl => hAB _ (h.2.2 l hl)⟩

set_option maxHeartbeats 4000000 in
set_option maxRecDepth 100000 in
theorem cc_X4_init (l : Launch) (D : va_G) (cA : Nat → ClassId) (z n0 : Nat) (a b : Int) : Met l yX4_init (ws_ yX4_init cX4_init 3 none) ({ frames := 4, cells := 3, slots := 15, locals := 101 }) (Pk D cA [.ref z, .int (iI (a)), .int (iI (b))] (fun H => va_at D CL (z, .inr (3, [.int (iI (0)), .int (iI (0)), .null, .null, .int (iI (0)), .int (iI (0))])) H ∧ H.size = n0)) (Qn (fun H' => ∃ q1 e1 q2, n0 ≤ q1 ∧ n0 ≤ e1 ∧ n0 ≤ q2 ∧ q1 ≠ e1 ∧ q2 ≠ q1 ∧ q2 ≠ e1 ∧ LiS D cA q1 0 e1 0 2 (fun _ => 0) H' ∧ va_at D CL (q2, eI cA 10 (fun _ => 0)) H' ∧ va_at D CL (z, .inr (3, [.int (iI a), .int (iI b), .ref q1, .ref q2, .int (iI 0), .int (iI 0)])) H') (fun q => q = z ∨ n0 ≤ q)) 3 15 (fun q => q = z ∨ n0 ≤ q) := by
  refine Met.ofW (cc := cX4_init) (maxL := 3) (ret := none) (by decide) rfl ?_
  intro p e s m args below meth c s₁ B hml hv
  obtain ⟨rfl, hK, hW⟩ := hv
  have hx := B.exec
  have hb := B.bytes
  have hr := B.returns
  have hts := atoms_spec (ws := ws_ yX4_init cX4_init 3 none) B.pre
  have hts : ∀ w ∈ lw_all, w.before _ s = true := fun w h => hts w (List.mem_cons_of_mem _ h)
  have hown : s.vm.findClass RX4 = some m.cls := findClass_of_methodNamed B.named
  have hlocks := B.notSynchronized
  have hin : meth.name = "<init>" := (name_of_methodNamed B.named B.method).1
  have hl := lv_entry ([.ref z, .int (iI (a)), .int (iI (b))]) (n := 3) (Nat.le_of_ble_eq_true rfl)
  rw [lg_entry_eq]
  generalize (lg_sl ([.ref z, .int (iI (a)), .int (iI (b))]) ++ List.replicate (3 - (lg_sl ([.ref z, .int (iI (a)), .int (iI (b))])).length) Slot.unset).toArray = ls at hl ⊢
  have hl : lv_has ls 3 [(0, .ref z), (1, .int (iI (a))), (2, .int (iI (b)))] := hl
  have hS : va_S (fun q => q = z ∨ n0 ≤ q) s.heap s.heap [] := va_S.rf
  obtain ⟨hL, hn0⟩ := hW
  have hal := hL.lt
  refine lv_aload_n hx hb dX4_init_0 rfl (lv_at hl 0 rfl) ?_
  refine W.objInit hx hb hown (hts _ q524) (hts _ q80) (hts _ q81) rfl (by rw [hml]; exact hl.1) rfl dX4_init_1 (Nat.le_of_ble_eq_true rfl) (Nat.le_of_ble_eq_true rfl) ?_
  refine W.eq (g2 := F0 m 4 ls []) rfl ?_
  refine lv_aload_n hx hb dX4_init_4 rfl (lv_at hl 0 rfl) ?_
  have lt_hL := hL.lt
  refine h_new hx hb hts in_J2 tyJ2 tyJ2_ok hown (hts _ q525) (hts _ q83) (hts _ q45) hK hS (ci := 8) rfl (fs := [.int (iI (0)), .null, .int (iI (0))]) (fun j hj => by match j, hj with | 0, _ => rfl | 1, _ => rfl | 2, _ => rfl) (Nat.le_of_ble_eq_true rfl) (Nat.le_of_ble_eq_true rfl) dX4_init_5 (fun q1 H hqq1 hXq1 o1 z1 hS => ?_)
  have hL := hL.kept (o1 _ hL.lt)
  have hgeq1 : n0 ≤ q1 := by omega
  have hszz : n0 ≤ H.size := by omega
  have ne_q1_z : q1 ≠ z := by omega
  refine lv_dup hx hb dX4_init_8 rfl ?_
  refine lv_iconst (v := iI (2)) hx hb dX4_init_9 rfl ?_
  have lt_hL := hL.lt
  have lt_hXq1 := hXq1.lt
  refine rc_N (W.runI (As := [.int (iI (2))]) (rest := [.ref q1, .ref z]) ⟨hx, hb, hml, hown, hts⟩ (al_init l D cA q1 H.size 2 (by decide) (by decide)) (cwI 1 hts (lw_meth q86) rfl rfl rfl (hts _ q45) (hts _ q526) (hts _ q85) rfl (by decide +kernel) ⟨Nat.le_of_ble_eq_true rfl, Nat.le_of_ble_eq_true rfl⟩) (preS hK ⟨hXq1, rfl⟩) rfl rfl hl.1 rfl (lv_room (Nat.le_of_ble_eq_true rfl)) dX4_init_10 ⟨Nat.le_of_ble_eq_true rfl, Nat.le_of_ble_eq_true rfl⟩) hS (fun q _ h => by rcases h with h | h; rw [h]; exact (Or.inr hgeq1); exact Or.inr (by omega)) (fun q h => by rcases h with h | h; rw [h]; exact (Or.inr hgeq1); exact Or.inr (by omega)) (fun H locs hq hS hz hk => ?_)
  obtain ⟨eq1, hse, hLq1⟩ := hq
  obtain ⟨hLaq1, hLbq1, hLnq1, hLcq1, hLdq1⟩ := hLq1
  have hL := hL.kept (hk _ lt_hL (by omega))
  have hgeeq1 : n0 ≤ eq1 := by omega
  have hszz : n0 ≤ H.size := by omega
  have ne_eq1_z : eq1 ≠ z := by omega
  refine h_putF hx hb hts in_X4 tyX4 tyX4_ok nmX4 hown hK hL hS (Or.inl rfl) rfl 2 (by decide) (hts _ q531) rfl rfl hin rfl (v := .ref q1) rfl rfl rfl (Nat.le_of_ble_eq_true rfl) dX4_init_13 (fun H locs hL oq zq hS => ?_)
  have hL : va_at D CL (z, .inr (3, [.int (iI (0)), .int (iI (0)), .ref q1, .null, .int (iI (0)), .int (iI (0))])) H := hL
  have hLaq1 := hLaq1.kept (oq _ ne_q1_z)
  have hLbq1 := hLbq1.kept (oq _ ne_eq1_z)
  refine lv_aload_n hx hb dX4_init_16 rfl (lv_at hl 0 rfl) ?_
  refine lv_bipush (v := iI (10)) hx hb dX4_init_17 (by decide) ?_
  have lt_hL := hL.lt
  have lt_hLaq1 := hLaq1.lt
  have lt_hLbq1 := hLbq1.lt
  refine h_newaI hx hb (hts _ q443) hK hS 10 rfl (by decide) (Nat.le_of_ble_eq_true rfl) (Nat.le_of_ble_eq_true rfl) dX4_init_19 (fun q2 H hqq2 hXq2 o1 z1 hS => ?_)
  have hL := hL.kept (o1 _ hL.lt)
  have hLaq1 := hLaq1.kept (o1 _ hLaq1.lt)
  have hLbq1 := hLbq1.kept (o1 _ hLbq1.lt)
  have hgeq2 : n0 ≤ q2 := by omega
  have hszz : n0 ≤ H.size := by omega
  have ne_q2_z : q2 ≠ z := by omega
  have ne_q2_q1 : q2 ≠ q1 := by omega
  have ne_q2_eq1 : q2 ≠ eq1 := by omega
  refine h_putF hx hb hts in_X4 tyX4 tyX4_ok nmX4 hown hK hL hS (Or.inl rfl) rfl 3 (by decide) (hts _ q534) rfl rfl hin rfl (v := .ref q2) rfl rfl rfl (Nat.le_of_ble_eq_true rfl) dX4_init_21 (fun H locs hL oq zq hS => ?_)
  have hL : va_at D CL (z, .inr (3, [.int (iI (0)), .int (iI (0)), .ref q1, .ref q2, .int (iI (0)), .int (iI (0))])) H := hL
  have hLaq1 := hLaq1.kept (oq _ ne_q1_z)
  have hLbq1 := hLbq1.kept (oq _ ne_eq1_z)
  have hXq2 := hXq2.kept (oq _ ne_q2_z)
  refine lv_aload_n hx hb dX4_init_24 rfl (lv_at hl 0 rfl) ?_
  refine lv_iload_n hx hb dX4_init_25 rfl (lv_at hl 1 rfl) ?_
  refine h_putF hx hb hts in_X4 tyX4 tyX4_ok nmX4 hown hK hL hS (Or.inl rfl) rfl 0 (by decide) (hts _ q527) rfl rfl hin rfl (v := .int (iI (a))) rfl rfl rfl (Nat.le_of_ble_eq_true rfl) dX4_init_26 (fun H locs hL oq zq hS => ?_)
  have hL : va_at D CL (z, .inr (3, [.int (iI (a)), .int (iI (0)), .ref q1, .ref q2, .int (iI (0)), .int (iI (0))])) H := hL
  have hLaq1 := hLaq1.kept (oq _ ne_q1_z)
  have hLbq1 := hLbq1.kept (oq _ ne_eq1_z)
  have hXq2 := hXq2.kept (oq _ ne_q2_z)
  refine lv_aload_n hx hb dX4_init_29 rfl (lv_at hl 0 rfl) ?_
  refine lv_iload_n hx hb dX4_init_30 rfl (lv_at hl 2 rfl) ?_
  refine h_putF hx hb hts in_X4 tyX4 tyX4_ok nmX4 hown hK hL hS (Or.inl rfl) rfl 1 (by decide) (hts _ q529) rfl rfl hin rfl (v := .int (iI (b))) rfl rfl rfl (Nat.le_of_ble_eq_true rfl) dX4_init_31 (fun H locs hL oq zq hS => ?_)
  have hL : va_at D CL (z, .inr (3, [.int (iI (a)), .int (iI (b)), .ref q1, .ref q2, .int (iI (0)), .int (iI (0))])) H := hL
  have hLaq1 := hLaq1.kept (oq _ ne_q1_z)
  have hLbq1 := hLbq1.kept (oq _ ne_eq1_z)
  have hXq2 := hXq2.kept (oq _ ne_q2_z)
  exact W.vret hx hb hr (fun tt htt hWm => ⟨⟨rfl, by rw [htt]; exact ⟨q1, eq1, q2, hgeq1, hgeeq1, hgeq2, hLnq1.symm, ne_q2_q1, ne_q2_eq1, ⟨hLaq1, hLbq1, hLnq1, hLcq1, hLdq1⟩, hXq2, hL⟩⟩, hS.F htt⟩) hS.2.2 dX4_init_34

set_option maxHeartbeats 4000000 in
set_option maxRecDepth 100000 in
theorem cc_X7_init (l : Launch) (D : va_G) (cA : Nat → ClassId) (A : Nat → Prop) (sa : Nat → Nat) (z n0 sf wf rd st wk du js sv : Nat) (hAz : ∀ q, (q = z ∨ n0 ≤ q) → A q) (hb1 : rd ≤ 2000) (hb2 : wf ≤ 2000) (hb3 : sv ≤ 2000) : Met l yX7_init (ws_ yX7_init cX7_init 7 none) ({ frames := 4, cells := 2, slots := 5, locals := 101 }) (Pq D cA [.ref z, .ref sf, .int (iI wf), .int (iI rd), .ref st, .int (iI wk), .int (iI du)] (fun U => SX A sa U ∧ va_at D CL (z, .inr (6, [.null, .null, .int (iI (0)), .int (iI (0)), .int (iI (0)), .int (iI (0)), .null, .null, .int (iI (0))])) U.heap ∧ va_at D CL (sf, eS js sv) U.heap ∧ U.heap.size = n0)) (Qn (fun H' => ∃ a ea, n0 ≤ a ∧ n0 ≤ ea ∧ LiS D cA a 0 ea 0 1 (fun _ => 0) H' ∧ va_at D CL (z, .inr (6, [.ref sf, .ref st, .int (iI (rd : Int)), .int (iI ((rd + wf + sv : Nat) : Int)), .int (iI (wk : Int)), .int (iI (du : Int)), .ref a, .ref (sa 0), .int (iI ((0 : Nat) : Int))])) H') (fun q => q = z ∨ n0 ≤ q)) 2 5 (fun q => q = z ∨ n0 ≤ q) := by
  refine Met.ofW (cc := cX7_init) (maxL := 7) (ret := none) (by decide) rfl ?_
  intro p e s m args below meth c s₁ B hml hv
  obtain ⟨rfl, hK, hW⟩ := hv
  have hx := B.exec
  have hb := B.bytes
  have hr := B.returns
  have hts := atoms_spec (ws := ws_ yX7_init cX7_init 7 none) B.pre
  have hts : ∀ w ∈ lw_all, w.before _ s = true := fun w h => hts w (List.mem_cons_of_mem _ h)
  have hown : s.vm.findClass RX7 = some m.cls := findClass_of_methodNamed B.named
  have hlocks := B.notSynchronized
  have hin : meth.name = "<init>" := (name_of_methodNamed B.named B.method).1
  have hl := lv_entry ([.ref z, .ref sf, .int (iI (wf)), .int (iI (rd)), .ref st, .int (iI (wk)), .int (iI (du))]) (n := 7) (Nat.le_of_ble_eq_true rfl)
  rw [lg_entry_eq]
  generalize (lg_sl ([.ref z, .ref sf, .int (iI (wf)), .int (iI (rd)), .ref st, .int (iI (wk)), .int (iI (du))]) ++ List.replicate (7 - (lg_sl ([.ref z, .ref sf, .int (iI (wf)), .int (iI (rd)), .ref st, .int (iI (wk)), .int (iI (du))])).length) Slot.unset).toArray = ls at hl ⊢
  have hl : lv_has ls 7 [(0, .ref z), (1, .ref sf), (2, .int (iI (wf))), (3, .int (iI (rd))), (4, .ref st), (5, .int (iI (wk))), (6, .int (iI (du)))] := hl
  have hS : va_S (fun q => q = z ∨ n0 ≤ q) s.heap s.heap [] := va_S.rf
  obtain ⟨hSX0, hL, hSt, hn0⟩ := hW
  have hSX := hSX0.narrow hAz
  have hal := hL.lt
  have hsl := hSt.lt
  have hsz_ : sf ≠ z := by intro e; rw [e] at hSt; have h1 := isO.of hSt; have h2 := isO.of hL; obtain ⟨c1, h3, -, h4⟩ := h1; obtain ⟨c2, h5, -, h6⟩ := h2; rw [h3] at h5; cases h5; exact absurd (h4.symm.trans h6) (cls_ne hK (by decide) (by decide) (by decide))
  refine lv_aload_n hx hb dX7_init_0 rfl (lv_at hl 0 rfl) ?_
  refine W.objInit hx hb hown (hts _ q588) (hts _ q80) (hts _ q81) rfl (by rw [hml]; exact hl.1) rfl dX7_init_1 (Nat.le_of_ble_eq_true rfl) (Nat.le_of_ble_eq_true rfl) ?_
  refine W.eq (g2 := F0 m 4 ls []) rfl ?_
  refine lv_aload_n hx hb dX7_init_4 rfl (lv_at hl 0 rfl) ?_
  have lt_hL := hL.lt
  have lt_hSt := hSt.lt
  refine h_new hx hb hts in_J2 tyJ2 tyJ2_ok hown (hts _ q589) (hts _ q83) (hts _ q45) hK hS (ci := 8) rfl (fs := [.int (iI (0)), .null, .int (iI (0))]) (fun j hj => by match j, hj with | 0, _ => rfl | 1, _ => rfl | 2, _ => rfl) (Nat.le_of_ble_eq_true rfl) (Nat.le_of_ble_eq_true rfl) dX7_init_5 (fun q1 H hqq1 hXq1 o1 z1 hS => ?_)
  have hL := hL.kept (o1 _ hL.lt)
  have hSt := hSt.kept (o1 _ hSt.lt)
  have hgeq1 : n0 ≤ q1 := by omega
  have hszz : n0 ≤ H.size := by omega
  have ne_q1_z : q1 ≠ z := by omega
  have ne_q1_sf : q1 ≠ sf := by omega
  refine lv_dup hx hb dX7_init_8 rfl ?_
  refine lv_iconst (v := iI (1)) hx hb dX7_init_9 rfl ?_
  have lt_hL := hL.lt
  have lt_hSt := hSt.lt
  have lt_hXq1 := hXq1.lt
  refine rc_N (W.runI (As := [.int (iI (1))]) (rest := [.ref q1, .ref z]) ⟨hx, hb, hml, hown, hts⟩ (al_init l D cA q1 H.size 1 (by decide) (by decide)) (cwI 1 hts (lw_meth q86) rfl rfl rfl (hts _ q45) (hts _ q590) (hts _ q85) rfl (by decide +kernel) ⟨Nat.le_of_ble_eq_true rfl, Nat.le_of_ble_eq_true rfl⟩) (preS hK ⟨hXq1, rfl⟩) rfl rfl hl.1 rfl (lv_room (Nat.le_of_ble_eq_true rfl)) dX7_init_10 ⟨Nat.le_of_ble_eq_true rfl, Nat.le_of_ble_eq_true rfl⟩) hS (fun q _ h => by rcases h with h | h; rw [h]; exact (Or.inr hgeq1); exact Or.inr (by omega)) (fun q h => by rcases h with h | h; rw [h]; exact (Or.inr hgeq1); exact Or.inr (by omega)) (fun H locs hq hS hz hk => ?_)
  obtain ⟨eq1, hse, hLq1⟩ := hq
  obtain ⟨hLaq1, hLbq1, hLnq1, hLcq1, hLdq1⟩ := hLq1
  have hL := hL.kept (hk _ lt_hL (by omega))
  have hSt := hSt.kept (hk _ lt_hSt (by omega))
  have hgeeq1 : n0 ≤ eq1 := by omega
  have hszz : n0 ≤ H.size := by omega
  have ne_eq1_z : eq1 ≠ z := by omega
  have ne_eq1_sf : eq1 ≠ sf := by omega
  refine h_putF hx hb hts in_X7 tyX7 tyX7_ok nmX7 hown hK hL hS (Or.inl rfl) rfl 6 (by decide) (hts _ q601) rfl rfl hin rfl (v := .ref q1) rfl rfl rfl (Nat.le_of_ble_eq_true rfl) dX7_init_13 (fun H locs hL oq zq hS => ?_)
  have hL : va_at D CL (z, .inr (6, [.null, .null, .int (iI (0)), .int (iI (0)), .int (iI (0)), .int (iI (0)), .ref q1, .null, .int (iI (0))])) H := hL
  have hSt := hSt.kept (oq _ hsz_)
  have hLaq1 := hLaq1.kept (oq _ ne_q1_z)
  have hLbq1 := hLbq1.kept (oq _ ne_eq1_z)
  refine lv_aload_n hx hb dX7_init_16 rfl (lv_at hl 0 rfl) ?_
  refine va_gets (v := .ref (sa 0)) hx hb hSX.2.2.2.2.1 hS hown (hts _ q591) (fun _ h => h) dX7_init_17 ?_
  refine h_put hx hb hts in_X7 tyX7 tyX7_ok nmX7 hown hK hL hS (Or.inl rfl) rfl 7 (by decide) (hts _ q603) rfl rfl (v := .ref (sa 0)) rfl rfl rfl (Nat.le_of_ble_eq_true rfl) dX7_init_20 (fun H locs hL oq zq hS => ?_)
  have hL : va_at D CL (z, .inr (6, [.null, .null, .int (iI (0)), .int (iI (0)), .int (iI (0)), .int (iI (0)), .ref q1, .ref (sa 0), .int (iI (0))])) H := hL
  have hSt := hSt.kept (oq _ hsz_)
  have hLaq1 := hLaq1.kept (oq _ ne_q1_z)
  have hLbq1 := hLbq1.kept (oq _ ne_eq1_z)
  refine lv_aload_n hx hb dX7_init_23 rfl (lv_at hl 0 rfl) ?_
  refine lv_aload_n hx hb dX7_init_24 rfl (lv_at hl 1 rfl) ?_
  refine h_putF hx hb hts in_X7 tyX7 tyX7_ok nmX7 hown hK hL hS (Or.inl rfl) rfl 0 (by decide) (hts _ q593) rfl rfl hin rfl (v := .ref sf) rfl rfl rfl (Nat.le_of_ble_eq_true rfl) dX7_init_25 (fun H locs hL oq zq hS => ?_)
  have hL : va_at D CL (z, .inr (6, [.ref sf, .null, .int (iI (0)), .int (iI (0)), .int (iI (0)), .int (iI (0)), .ref q1, .ref (sa 0), .int (iI (0))])) H := hL
  have hSt := hSt.kept (oq _ hsz_)
  have hLaq1 := hLaq1.kept (oq _ ne_q1_z)
  have hLbq1 := hLbq1.kept (oq _ ne_eq1_z)
  refine lv_aload_n hx hb dX7_init_28 rfl (lv_at hl 0 rfl) ?_
  refine lv_iload_n hx hb dX7_init_29 rfl (lv_at hl 3 rfl) ?_
  refine h_putF hx hb hts in_X7 tyX7 tyX7_ok nmX7 hown hK hL hS (Or.inl rfl) rfl 2 (by decide) (hts _ q596) rfl rfl hin rfl (v := .int (iI (rd))) rfl rfl rfl (Nat.le_of_ble_eq_true rfl) dX7_init_30 (fun H locs hL oq zq hS => ?_)
  have hL : va_at D CL (z, .inr (6, [.ref sf, .null, .int (iI (rd)), .int (iI (0)), .int (iI (0)), .int (iI (0)), .ref q1, .ref (sa 0), .int (iI (0))])) H := hL
  have hSt := hSt.kept (oq _ hsz_)
  have hLaq1 := hLaq1.kept (oq _ ne_q1_z)
  have hLbq1 := hLbq1.kept (oq _ ne_eq1_z)
  refine lv_aload_n hx hb dX7_init_33 rfl (lv_at hl 0 rfl) ?_
  refine lv_iload_n hx hb dX7_init_34 rfl (lv_at hl 3 rfl) ?_
  refine lv_iload_n hx hb dX7_init_35 rfl (lv_at hl 2 rfl) ?_
  refine ri_iadd hx hb dX7_init_36 ?_
  refine ri_top (b := (rd + wf : Nat)) (by omega) ?_
  refine lv_aload_n hx hb dX7_init_37 rfl (lv_at hl 1 rfl) ?_
  refine h_getN hx hb hts in_X3 hown hK hSt rfl 1 (by decide) q461 rfl (v := .int (iI (sv : Int))) rfl dX7_init_38 ?_
  refine ri_iadd hx hb dX7_init_41 ?_
  refine ri_top (b := (rd + wf + sv : Nat)) (by omega) ?_
  refine h_putF hx hb hts in_X7 tyX7 tyX7_ok nmX7 hown hK hL hS (Or.inl rfl) rfl 3 (by decide) (hts _ q598) rfl rfl hin rfl (v := .int (iI ((rd + wf + sv : Nat)))) rfl rfl rfl (Nat.le_of_ble_eq_true rfl) dX7_init_42 (fun H locs hL oq zq hS => ?_)
  have hL : va_at D CL (z, .inr (6, [.ref sf, .null, .int (iI (rd)), .int (iI ((rd + wf + sv : Nat))), .int (iI (0)), .int (iI (0)), .ref q1, .ref (sa 0), .int (iI (0))])) H := hL
  have hSt := hSt.kept (oq _ hsz_)
  have hLaq1 := hLaq1.kept (oq _ ne_q1_z)
  have hLbq1 := hLbq1.kept (oq _ ne_eq1_z)
  refine lv_aload_n hx hb dX7_init_45 rfl (lv_at hl 0 rfl) ?_
  refine lv_aload hx hb dX7_init_46 (lv_at hl 4 rfl) ?_
  refine h_putF hx hb hts in_X7 tyX7 tyX7_ok nmX7 hown hK hL hS (Or.inl rfl) rfl 1 (by decide) (hts _ q594) rfl rfl hin rfl (v := .ref st) rfl rfl rfl (Nat.le_of_ble_eq_true rfl) dX7_init_48 (fun H locs hL oq zq hS => ?_)
  have hL : va_at D CL (z, .inr (6, [.ref sf, .ref st, .int (iI (rd)), .int (iI ((rd + wf + sv : Nat))), .int (iI (0)), .int (iI (0)), .ref q1, .ref (sa 0), .int (iI (0))])) H := hL
  have hSt := hSt.kept (oq _ hsz_)
  have hLaq1 := hLaq1.kept (oq _ ne_q1_z)
  have hLbq1 := hLbq1.kept (oq _ ne_eq1_z)
  refine lv_aload_n hx hb dX7_init_51 rfl (lv_at hl 0 rfl) ?_
  refine lv_iload hx hb dX7_init_52 (lv_at hl 5 rfl) ?_
  refine h_putF hx hb hts in_X7 tyX7 tyX7_ok nmX7 hown hK hL hS (Or.inl rfl) rfl 4 (by decide) (hts _ q599) rfl rfl hin rfl (v := .int (iI (wk))) rfl rfl rfl (Nat.le_of_ble_eq_true rfl) dX7_init_54 (fun H locs hL oq zq hS => ?_)
  have hL : va_at D CL (z, .inr (6, [.ref sf, .ref st, .int (iI (rd)), .int (iI ((rd + wf + sv : Nat))), .int (iI (wk)), .int (iI (0)), .ref q1, .ref (sa 0), .int (iI (0))])) H := hL
  have hSt := hSt.kept (oq _ hsz_)
  have hLaq1 := hLaq1.kept (oq _ ne_q1_z)
  have hLbq1 := hLbq1.kept (oq _ ne_eq1_z)
  refine lv_aload_n hx hb dX7_init_57 rfl (lv_at hl 0 rfl) ?_
  refine lv_iload hx hb dX7_init_58 (lv_at hl 6 rfl) ?_
  refine h_putF hx hb hts in_X7 tyX7 tyX7_ok nmX7 hown hK hL hS (Or.inl rfl) rfl 5 (by decide) (hts _ q600) rfl rfl hin rfl (v := .int (iI (du))) rfl rfl rfl (Nat.le_of_ble_eq_true rfl) dX7_init_60 (fun H locs hL oq zq hS => ?_)
  have hL : va_at D CL (z, .inr (6, [.ref sf, .ref st, .int (iI (rd)), .int (iI ((rd + wf + sv : Nat))), .int (iI (wk)), .int (iI (du)), .ref q1, .ref (sa 0), .int (iI (0))])) H := hL
  have hSt := hSt.kept (oq _ hsz_)
  have hLaq1 := hLaq1.kept (oq _ ne_q1_z)
  have hLbq1 := hLbq1.kept (oq _ ne_eq1_z)
  exact W.vret hx hb hr (fun tt htt hWm => ⟨⟨rfl, by rw [htt]; exact ⟨q1, eq1, hgeq1, hgeeq1, ⟨hLaq1, hLbq1, hLnq1, hLcq1, hLdq1⟩, hL⟩⟩, hS.F htt⟩) hS.2.2 dX7_init_63

set_option maxHeartbeats 4000000 in
set_option maxRecDepth 100000 in
theorem cc_X6_init (l : Launch) (D : va_G) (cA : Nat → ClassId) (A : Nat → Prop) (sa : Nat → Nat) (z n0 sf wk rd st wt du js sv : Nat) (hAz : ∀ q, (q = z ∨ n0 ≤ q) → A q) (hb1 : rd ≤ 2000) (hb2 : wk ≤ 2000) (hb3 : sv ≤ 2000) : Met l yX6_init (ws_ yX6_init cX6_init 7 none) ({ frames := 5, cells := 3, slots := 14, locals := 127 }) (Pq D cA [.ref z, .ref sf, .int (iI wk), .int (iI rd), .ref st, .int (iI wt), .int (iI du)] (fun U => SX A sa U ∧ va_at D CL (z, .inr (5, [.null, .null, .null, .int (iI (0)), .int (iI (0)), .null])) U.heap ∧ va_at D CL (sf, eS js sv) U.heap ∧ U.heap.size = n0)) (Qn (fun H' => ∃ tp a ea, n0 ≤ tp ∧ n0 ≤ a ∧ n0 ≤ ea ∧ tp ≠ a ∧ tp ≠ ea ∧ a ≠ ea ∧ LiS D cA a 0 ea 0 1 (fun _ => 0) H' ∧ va_at D CL (tp, .inr (6, [.ref sf, .ref st, .int (iI (rd : Int)), .int (iI ((rd + wk + sv : Nat) : Int)), .int (iI (wt : Int)), .int (iI (du : Int)), .ref a, .ref (sa 0), .int (iI ((0 : Nat) : Int))])) H' ∧ va_at D CL (z, .inr (5, [.ref tp, .ref sf, .ref st, .int (iI (wk : Int)), .int (iI (wt : Int)), .null])) H') (fun q => q = z ∨ n0 ≤ q)) 3 14 (fun q => q = z ∨ n0 ≤ q) := by
  refine Met.ofW (cc := cX6_init) (maxL := 7) (ret := none) (by decide) rfl ?_
  intro p e s m args below meth c s₁ B hml hv
  obtain ⟨rfl, hK, hW⟩ := hv
  have hx := B.exec
  have hb := B.bytes
  have hr := B.returns
  have hts := atoms_spec (ws := ws_ yX6_init cX6_init 7 none) B.pre
  have hts : ∀ w ∈ lw_all, w.before _ s = true := fun w h => hts w (List.mem_cons_of_mem _ h)
  have hown : s.vm.findClass RX6 = some m.cls := findClass_of_methodNamed B.named
  have hlocks := B.notSynchronized
  have hin : meth.name = "<init>" := (name_of_methodNamed B.named B.method).1
  have hl := lv_entry ([.ref z, .ref sf, .int (iI (wk)), .int (iI (rd)), .ref st, .int (iI (wt)), .int (iI (du))]) (n := 7) (Nat.le_of_ble_eq_true rfl)
  rw [lg_entry_eq]
  generalize (lg_sl ([.ref z, .ref sf, .int (iI (wk)), .int (iI (rd)), .ref st, .int (iI (wt)), .int (iI (du))]) ++ List.replicate (7 - (lg_sl ([.ref z, .ref sf, .int (iI (wk)), .int (iI (rd)), .ref st, .int (iI (wt)), .int (iI (du))])).length) Slot.unset).toArray = ls at hl ⊢
  have hl : lv_has ls 7 [(0, .ref z), (1, .ref sf), (2, .int (iI (wk))), (3, .int (iI (rd))), (4, .ref st), (5, .int (iI (wt))), (6, .int (iI (du)))] := hl
  have hS : va_S (fun q => q = z ∨ n0 ≤ q) s.heap s.heap [] := va_S.rf
  obtain ⟨hSX0, hL, hSt, hn0⟩ := hW
  have hal := hL.lt
  have hsl := hSt.lt
  have hsz_ : sf ≠ z := by intro e; rw [e] at hSt; have h1 := isO.of hSt; have h2 := isO.of hL; obtain ⟨c1, h3, -, h4⟩ := h1; obtain ⟨c2, h5, -, h6⟩ := h2; rw [h3] at h5; cases h5; exact absurd (h4.symm.trans h6) (cls_ne hK (by decide) (by decide) (by decide))
  refine lv_aload_n hx hb dX6_init_0 rfl (lv_at hl 0 rfl) ?_
  refine W.objInit hx hb hown (hts _ q582) (hts _ q80) (hts _ q81) rfl (by rw [hml]; exact hl.1) rfl dX6_init_1 (Nat.le_of_ble_eq_true rfl) (Nat.le_of_ble_eq_true rfl) ?_
  refine W.eq (g2 := F0 m 4 ls []) rfl ?_
  refine lv_aload_n hx hb dX6_init_4 rfl (lv_at hl 0 rfl) ?_
  refine lv_aload_n hx hb dX6_init_5 rfl (lv_at hl 1 rfl) ?_
  refine h_putF hx hb hts in_X6 tyX6 tyX6_ok nmX6 hown hK hL hS (Or.inl rfl) rfl 1 (by decide) (hts _ q627) rfl rfl hin rfl (v := .ref sf) rfl rfl rfl (Nat.le_of_ble_eq_true rfl) dX6_init_6 (fun H locs hL oq zq hS => ?_)
  have hL : va_at D CL (z, .inr (5, [.null, .ref sf, .null, .int (iI (0)), .int (iI (0)), .null])) H := hL
  have hSt := hSt.kept (oq _ hsz_)
  refine lv_aload_n hx hb dX6_init_9 rfl (lv_at hl 0 rfl) ?_
  refine lv_iload_n hx hb dX6_init_10 rfl (lv_at hl 2 rfl) ?_
  refine h_putF hx hb hts in_X6 tyX6 tyX6_ok nmX6 hown hK hL hS (Or.inl rfl) rfl 3 (by decide) (hts _ q631) rfl rfl hin rfl (v := .int (iI (wk))) rfl rfl rfl (Nat.le_of_ble_eq_true rfl) dX6_init_11 (fun H locs hL oq zq hS => ?_)
  have hL : va_at D CL (z, .inr (5, [.null, .ref sf, .null, .int (iI (wk)), .int (iI (0)), .null])) H := hL
  have hSt := hSt.kept (oq _ hsz_)
  refine lv_aload_n hx hb dX6_init_14 rfl (lv_at hl 0 rfl) ?_
  refine lv_aload hx hb dX6_init_15 (lv_at hl 4 rfl) ?_
  refine h_putF hx hb hts in_X6 tyX6 tyX6_ok nmX6 hown hK hL hS (Or.inl rfl) rfl 2 (by decide) (hts _ q629) rfl rfl hin rfl (v := .ref st) rfl rfl rfl (Nat.le_of_ble_eq_true rfl) dX6_init_17 (fun H locs hL oq zq hS => ?_)
  have hL : va_at D CL (z, .inr (5, [.null, .ref sf, .ref st, .int (iI (wk)), .int (iI (0)), .null])) H := hL
  have hSt := hSt.kept (oq _ hsz_)
  refine lv_aload_n hx hb dX6_init_20 rfl (lv_at hl 0 rfl) ?_
  refine lv_iload hx hb dX6_init_21 (lv_at hl 5 rfl) ?_
  refine h_putF hx hb hts in_X6 tyX6 tyX6_ok nmX6 hown hK hL hS (Or.inl rfl) rfl 4 (by decide) (hts _ q633) rfl rfl hin rfl (v := .int (iI (wt))) rfl rfl rfl (Nat.le_of_ble_eq_true rfl) dX6_init_23 (fun H locs hL oq zq hS => ?_)
  have hL : va_at D CL (z, .inr (5, [.null, .ref sf, .ref st, .int (iI (wk)), .int (iI (wt)), .null])) H := hL
  have hSt := hSt.kept (oq _ hsz_)
  refine lv_aload_n hx hb dX6_init_26 rfl (lv_at hl 0 rfl) ?_
  have lt_hL := hL.lt
  have lt_hSt := hSt.lt
  refine h_new hx hb hts in_X7 tyX7 tyX7_ok hown (hts _ q583) (hts _ q584) (hts _ q69) hK hS (ci := 6) rfl (fs := [.null, .null, .int (iI (0)), .int (iI (0)), .int (iI (0)), .int (iI (0)), .null, .null, .int (iI (0))]) (fun j hj => by match j, hj with | 0, _ => rfl | 1, _ => rfl | 2, _ => rfl | 3, _ => rfl | 4, _ => rfl | 5, _ => rfl | 6, _ => rfl | 7, _ => rfl | 8, _ => rfl) (Nat.le_of_ble_eq_true rfl) (Nat.le_of_ble_eq_true rfl) dX6_init_27 (fun tp H hqtp hXtp o1 z1 hS => ?_)
  have hL := hL.kept (o1 _ hL.lt)
  have hSt := hSt.kept (o1 _ hSt.lt)
  have hgetp : n0 ≤ tp := by omega
  have hszz : n0 ≤ H.size := by omega
  have ne_tp_z : tp ≠ z := by omega
  have ne_tp_sf : tp ≠ sf := by omega
  refine lv_dup hx hb dX6_init_30 rfl ?_
  refine lv_aload_n hx hb dX6_init_31 rfl (lv_at hl 1 rfl) ?_
  refine lv_iload_n hx hb dX6_init_32 rfl (lv_at hl 2 rfl) ?_
  refine lv_iload_n hx hb dX6_init_33 rfl (lv_at hl 3 rfl) ?_
  refine lv_aload hx hb dX6_init_34 (lv_at hl 4 rfl) ?_
  refine lv_iload hx hb dX6_init_36 (lv_at hl 5 rfl) ?_
  refine lv_iload hx hb dX6_init_38 (lv_at hl 6 rfl) ?_
  have hbl : tp < H.size := hXtp.lt
  have lt_hL := hL.lt
  have lt_hSt := hSt.lt
  have lt_hXtp := hXtp.lt
  refine rc_N (W.runI (As := [.ref sf, .int (iI (wk)), .int (iI (rd)), .ref st, .int (iI (wt)), .int (iI (du))]) (rest := [.ref tp, .ref z]) ⟨hx, hb, hml, hown, hts⟩ (cc_X7_init l D cA A sa tp H.size sf wk rd st wt du js sv (fun q h => by rcases h with h | h; rw [h]; exact hAz _ (Or.inr hgetp); exact hAz _ (Or.inr (by omega))) hb1 hb2 hb3) (cwI 6 hts (lw_meth q587) rfl rfl rfl (hts _ q69) (hts _ q585) (hts _ q586) rfl (by decide +kernel) ⟨Nat.le_of_ble_eq_true rfl, Nat.le_of_ble_eq_true rfl⟩) ⟨Pq.blind (fun U g mk a h => ⟨h.1.blind, h.2⟩), fun U hU hWm => ⟨rfl, hK.moved hWm, (hSX0.call (va_S.wide hS hAz) hU hWm.alike), by rw [hU]; exact hXtp, by rw [hU]; exact hSt, by rw [hU]⟩⟩ rfl rfl hl.1 rfl (lv_room (Nat.le_of_ble_eq_true rfl)) dX6_init_40 ⟨Nat.le_of_ble_eq_true rfl, Nat.le_of_ble_eq_true rfl⟩) hS (fun q _ h => by rcases h with h | h; rw [h]; exact (Or.inr hgetp); exact Or.inr (by omega)) (fun q h => by rcases h with h | h; rw [h]; exact (Or.inr hgetp); exact Or.inr (by omega)) (fun H locs hq hS hz hk => ?_)
  obtain ⟨la, le, hla, hle, hLi, hXtp⟩ := hq
  have hL := hL.kept (hk _ lt_hL (by omega))
  have hSt := hSt.kept (hk _ lt_hSt (by omega))
  have hszz : n0 ≤ H.size := by omega
  obtain ⟨hLa, hLb, hLn, hLc, hLd⟩ := hLi
  have ne_la_z : la ≠ z := by omega
  have ne_la_sf : la ≠ sf := by omega
  have ne_la_tp : la ≠ tp := by omega
  have ne_le_z : le ≠ z := by omega
  have ne_le_sf : le ≠ sf := by omega
  have ne_le_tp : le ≠ tp := by omega
  refine h_putF hx hb hts in_X6 tyX6 tyX6_ok nmX6 hown hK hL hS (Or.inl rfl) rfl 0 (by decide) (hts _ q625) rfl rfl hin rfl (v := .ref tp) rfl rfl rfl (Nat.le_of_ble_eq_true rfl) dX6_init_43 (fun H locs hL oq zq hS => ?_)
  have hL : va_at D CL (z, .inr (5, [.ref tp, .ref sf, .ref st, .int (iI (wk)), .int (iI (wt)), .null])) H := hL
  have hSt := hSt.kept (oq _ hsz_)
  have hLa := hLa.kept (oq _ ne_la_z)
  have hLb := hLb.kept (oq _ ne_le_z)
  have hXtp := hXtp.kept (oq _ ne_tp_z)
  exact W.vret hx hb hr (fun tt htt hWm => ⟨⟨rfl, by rw [htt]; exact ⟨tp, la, le, hgetp, by omega, by omega, ne_la_tp.symm, ne_le_tp.symm, hLn.symm, ⟨hLa, hLb, hLn, hLc, hLd⟩, hXtp, hL⟩⟩, hS.F htt⟩) hS.2.2 dX6_init_46
