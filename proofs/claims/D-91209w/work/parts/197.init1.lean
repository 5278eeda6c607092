set_option maxRecDepth 100000
set_option maxHeartbeats 4000000 in
set_option maxRecDepth 100000 in
theorem cc_X1_init (l : Launch) (D : va_G) (cA : Nat → ClassId) (z n0 : Nat) : Met l yX1_init (ws_ yX1_init cX1_init 1 none) ({ frames := 4, cells := 10, slots := 100, locals := 101 }) (Pk D cA [.ref z] (fun H => va_at D CL (z, .inr (1, [.null, .null, .null, .null, .int (iI (0)), .null, .null])) H ∧ H.size = n0)) (Qn (fun H' => ∃ l0 el0 l1 el1 l2 el2 l3 el3 q1 q2, n0 ≤ l0 ∧ z < l0 ∧ l0 < el0 ∧ el0 < l1 ∧ l1 < el1 ∧ el1 < l2 ∧ l2 < el2 ∧ el2 < l3 ∧ l3 < el3 ∧ el3 < q1 ∧ q1 < q2 ∧ LiS D cA l0 0 el0 0 2 (fun _ => 0) H' ∧ LiS D cA l1 0 el1 0 2 (fun _ => 0) H' ∧ LiS D cA l2 0 el2 0 2 (fun _ => 0) H' ∧ LiS D cA l3 0 el3 0 2 (fun _ => 0) H' ∧ va_at D CL (q1, eI cA 40 (fun _ => 0)) H' ∧ va_at D CL (q2, eI cA 40 (fun _ => 0)) H' ∧ va_at D CL (z, .inr (1, [.ref l0, .ref l1, .ref l2, .ref l3, .int (iI 0), .ref q1, .ref q2])) H') (fun q => q = z ∨ n0 ≤ q)) 10 100 (fun q => q = z ∨ n0 ≤ q) := by
  refine Met.ofW (cc := cX1_init) (maxL := 1) (ret := none) (by decide) rfl ?_
  intro p e s m args below meth c s₁ B hml hv
  obtain ⟨rfl, hK, hW⟩ := hv
  have hx := B.exec
  have hb := B.bytes
  have hr := B.returns
  have hts := atoms_spec (ws := ws_ yX1_init cX1_init 1 none) B.pre
  have hts : ∀ w ∈ lw_all, w.before _ s = true := fun w h => hts w (List.mem_cons_of_mem _ h)
  have hown : s.vm.findClass RX1 = some m.cls := findClass_of_methodNamed B.named
  have hlocks := B.notSynchronized
  have hin : meth.name = "<init>" := (name_of_methodNamed B.named B.method).1
  have hl := lv_entry ([.ref z]) (n := 1) (Nat.le_of_ble_eq_true rfl)
  rw [lg_entry_eq]
  generalize (lg_sl ([.ref z]) ++ List.replicate (1 - (lg_sl ([.ref z])).length) Slot.unset).toArray = ls at hl ⊢
  have hl : lv_has ls 1 [(0, .ref z)] := hl
  have hS : va_S (fun q => q = z ∨ n0 ≤ q) s.heap s.heap [] := va_S.rf
  obtain ⟨hL, hn0⟩ := hW
  have hal := hL.lt
  refine lv_aload_n hx hb dX1_init_0 rfl (lv_at hl 0 rfl) ?_
  refine W.objInit hx hb hown (hts _ q79) (hts _ q80) (hts _ q81) rfl (by rw [hml]; exact hl.1) rfl dX1_init_1 (Nat.le_of_ble_eq_true rfl) (Nat.le_of_ble_eq_true rfl) ?_
  refine W.eq (g2 := F0 m 4 ls []) rfl ?_
  refine lv_aload_n hx hb dX1_init_4 rfl (lv_at hl 0 rfl) ?_
  have lt_hL := hL.lt
  refine h_new hx hb hts in_J2 tyJ2 tyJ2_ok hown (hts _ q82) (hts _ q83) (hts _ q45) hK hS (ci := 8) rfl (fs := [.int (iI (0)), .null, .int (iI (0))]) (fun j hj => by match j, hj with | 0, _ => rfl | 1, _ => rfl | 2, _ => rfl) (Nat.le_of_ble_eq_true rfl) (Nat.le_of_ble_eq_true rfl) dX1_init_5 (fun l0 H hql0 hXl0 o1 z1 hS => ?_)
  have hL := hL.kept (o1 _ hL.lt)
  have hgel0 : n0 ≤ l0 := by omega
  have hszz : n0 ≤ H.size := by omega
  have ne_l0_z : l0 ≠ z := by omega
  refine lv_dup hx hb dX1_init_8 rfl ?_
  refine lv_iconst (v := iI (2)) hx hb dX1_init_9 rfl ?_
  have lt_hL := hL.lt
  have lt_hXl0 := hXl0.lt
  refine rc_N (W.runI (As := [.int (iI (2))]) (rest := [.ref l0, .ref z]) ⟨hx, hb, hml, hown, hts⟩ (al_init l D cA l0 H.size 2 (by decide) (by decide)) (cwI 1 hts (lw_meth q86) rfl rfl rfl (hts _ q45) (hts _ q84) (hts _ q85) rfl (by decide +kernel) ⟨Nat.le_of_ble_eq_true rfl, Nat.le_of_ble_eq_true rfl⟩) (preS hK ⟨hXl0, rfl⟩) rfl rfl hl.1 rfl (lv_room (Nat.le_of_ble_eq_true rfl)) dX1_init_10 ⟨Nat.le_of_ble_eq_true rfl, Nat.le_of_ble_eq_true rfl⟩) hS (fun q _ h => by rcases h with h | h; rw [h]; exact (Or.inr hgel0); exact Or.inr (by omega)) (fun q h => by rcases h with h | h; rw [h]; exact (Or.inr hgel0); exact Or.inr (by omega)) (fun H locs hq hS hz hk => ?_)
  obtain ⟨el0, hse, hLl0⟩ := hq
  obtain ⟨hLal0, hLbl0, hLnl0, hLcl0, hLdl0⟩ := hLl0
  have hL := hL.kept (hk _ lt_hL (by omega))
  have hgeel0 : n0 ≤ el0 := by omega
  have hszz : n0 ≤ H.size := by omega
  have ne_el0_z : el0 ≠ z := by omega
  refine h_putF hx hb hts in_X1 tyX1 tyX1_ok nmX1 hown hK hL hS (Or.inl rfl) rfl 0 (by decide) (hts _ q421) rfl rfl hin rfl (v := .ref l0) rfl rfl rfl (Nat.le_of_ble_eq_true rfl) dX1_init_13 (fun H locs hL oq zq hS => ?_)
  have hL : va_at D CL (z, .inr (1, [.ref l0, .null, .null, .null, .int (iI (0)), .null, .null])) H := hL
  have hLal0 := hLal0.kept (oq _ ne_l0_z)
  have hLbl0 := hLbl0.kept (oq _ ne_el0_z)
  refine lv_aload_n hx hb dX1_init_16 rfl (lv_at hl 0 rfl) ?_
  have lt_hL := hL.lt
  have lt_hLal0 := hLal0.lt
  have lt_hLbl0 := hLbl0.lt
  refine h_new hx hb hts in_J2 tyJ2 tyJ2_ok hown (hts _ q82) (hts _ q83) (hts _ q45) hK hS (ci := 8) rfl (fs := [.int (iI (0)), .null, .int (iI (0))]) (fun j hj => by match j, hj with | 0, _ => rfl | 1, _ => rfl | 2, _ => rfl) (Nat.le_of_ble_eq_true rfl) (Nat.le_of_ble_eq_true rfl) dX1_init_17 (fun l1 H hql1 hXl1 o1 z1 hS => ?_)
  have hL := hL.kept (o1 _ hL.lt)
  have hLal0 := hLal0.kept (o1 _ hLal0.lt)
  have hLbl0 := hLbl0.kept (o1 _ hLbl0.lt)
  have hgel1 : n0 ≤ l1 := by omega
  have hszz : n0 ≤ H.size := by omega
  have ne_l1_z : l1 ≠ z := by omega
  have ne_l1_l0 : l1 ≠ l0 := by omega
  have ne_l1_el0 : l1 ≠ el0 := by omega
  refine lv_dup hx hb dX1_init_20 rfl ?_
  refine lv_iconst (v := iI (2)) hx hb dX1_init_21 rfl ?_
  have lt_hL := hL.lt
  have lt_hLal0 := hLal0.lt
  have lt_hLbl0 := hLbl0.lt
  have lt_hXl1 := hXl1.lt
  refine rc_N (W.runI (As := [.int (iI (2))]) (rest := [.ref l1, .ref z]) ⟨hx, hb, hml, hown, hts⟩ (al_init l D cA l1 H.size 2 (by decide) (by decide)) (cwI 1 hts (lw_meth q86) rfl rfl rfl (hts _ q45) (hts _ q84) (hts _ q85) rfl (by decide +kernel) ⟨Nat.le_of_ble_eq_true rfl, Nat.le_of_ble_eq_true rfl⟩) (preS hK ⟨hXl1, rfl⟩) rfl rfl hl.1 rfl (lv_room (Nat.le_of_ble_eq_true rfl)) dX1_init_22 ⟨Nat.le_of_ble_eq_true rfl, Nat.le_of_ble_eq_true rfl⟩) hS (fun q _ h => by rcases h with h | h; rw [h]; exact (Or.inr hgel1); exact Or.inr (by omega)) (fun q h => by rcases h with h | h; rw [h]; exact (Or.inr hgel1); exact Or.inr (by omega)) (fun H locs hq hS hz hk => ?_)
  obtain ⟨el1, hse, hLl1⟩ := hq
  obtain ⟨hLal1, hLbl1, hLnl1, hLcl1, hLdl1⟩ := hLl1
  have hL := hL.kept (hk _ lt_hL (by omega))
  have hLal0 := hLal0.kept (hk _ lt_hLal0 (by omega))
  have hLbl0 := hLbl0.kept (hk _ lt_hLbl0 (by omega))
  have hgeel1 : n0 ≤ el1 := by omega
  have hszz : n0 ≤ H.size := by omega
  have ne_el1_z : el1 ≠ z := by omega
  have ne_el1_l0 : el1 ≠ l0 := by omega
  have ne_el1_el0 : el1 ≠ el0 := by omega
  refine h_putF hx hb hts in_X1 tyX1 tyX1_ok nmX1 hown hK hL hS (Or.inl rfl) rfl 1 (by decide) (hts _ q422) rfl rfl hin rfl (v := .ref l1) rfl rfl rfl (Nat.le_of_ble_eq_true rfl) dX1_init_25 (fun H locs hL oq zq hS => ?_)
  have hL : va_at D CL (z, .inr (1, [.ref l0, .ref l1, .null, .null, .int (iI (0)), .null, .null])) H := hL
  have hLal0 := hLal0.kept (oq _ ne_l0_z)
  have hLbl0 := hLbl0.kept (oq _ ne_el0_z)
  have hLal1 := hLal1.kept (oq _ ne_l1_z)
  have hLbl1 := hLbl1.kept (oq _ ne_el1_z)
  refine lv_aload_n hx hb dX1_init_28 rfl (lv_at hl 0 rfl) ?_
  have lt_hL := hL.lt
  have lt_hLal0 := hLal0.lt
  have lt_hLbl0 := hLbl0.lt
  have lt_hLal1 := hLal1.lt
  have lt_hLbl1 := hLbl1.lt
  refine h_new hx hb hts in_J2 tyJ2 tyJ2_ok hown (hts _ q82) (hts _ q83) (hts _ q45) hK hS (ci := 8) rfl (fs := [.int (iI (0)), .null, .int (iI (0))]) (fun j hj => by match j, hj with | 0, _ => rfl | 1, _ => rfl | 2, _ => rfl) (Nat.le_of_ble_eq_true rfl) (Nat.le_of_ble_eq_true rfl) dX1_init_29 (fun l2 H hql2 hXl2 o1 z1 hS => ?_)
  have hL := hL.kept (o1 _ hL.lt)
  have hLal0 := hLal0.kept (o1 _ hLal0.lt)
  have hLbl0 := hLbl0.kept (o1 _ hLbl0.lt)
  have hLal1 := hLal1.kept (o1 _ hLal1.lt)
  have hLbl1 := hLbl1.kept (o1 _ hLbl1.lt)
  have hgel2 : n0 ≤ l2 := by omega
  have hszz : n0 ≤ H.size := by omega
  have ne_l2_z : l2 ≠ z := by omega
  have ne_l2_l0 : l2 ≠ l0 := by omega
  have ne_l2_el0 : l2 ≠ el0 := by omega
  have ne_l2_l1 : l2 ≠ l1 := by omega
  have ne_l2_el1 : l2 ≠ el1 := by omega
  refine lv_dup hx hb dX1_init_32 rfl ?_
  refine lv_iconst (v := iI (2)) hx hb dX1_init_33 rfl ?_
  have lt_hL := hL.lt
  have lt_hLal0 := hLal0.lt
  have lt_hLbl0 := hLbl0.lt
  have lt_hLal1 := hLal1.lt
  have lt_hLbl1 := hLbl1.lt
  have lt_hXl2 := hXl2.lt
  refine rc_N (W.runI (As := [.int (iI (2))]) (rest := [.ref l2, .ref z]) ⟨hx, hb, hml, hown, hts⟩ (al_init l D cA l2 H.size 2 (by decide) (by decide)) (cwI 1 hts (lw_meth q86) rfl rfl rfl (hts _ q45) (hts _ q84) (hts _ q85) rfl (by decide +kernel) ⟨Nat.le_of_ble_eq_true rfl, Nat.le_of_ble_eq_true rfl⟩) (preS hK ⟨hXl2, rfl⟩) rfl rfl hl.1 rfl (lv_room (Nat.le_of_ble_eq_true rfl)) dX1_init_34 ⟨Nat.le_of_ble_eq_true rfl, Nat.le_of_ble_eq_true rfl⟩) hS (fun q _ h => by rcases h with h | h; rw [h]; exact (Or.inr hgel2); exact Or.inr (by omega)) (fun q h => by rcases h with h | h; rw [h]; exact (Or.inr hgel2); exact Or.inr (by omega)) (fun H locs hq hS hz hk => ?_)
  obtain ⟨el2, hse, hLl2⟩ := hq
  obtain ⟨hLal2, hLbl2, hLnl2, hLcl2, hLdl2⟩ := hLl2
  have hL := hL.kept (hk _ lt_hL (by omega))
  have hLal0 := hLal0.kept (hk _ lt_hLal0 (by omega))
  have hLbl0 := hLbl0.kept (hk _ lt_hLbl0 (by omega))
  have hLal1 := hLal1.kept (hk _ lt_hLal1 (by omega))
  have hLbl1 := hLbl1.kept (hk _ lt_hLbl1 (by omega))
  have hgeel2 : n0 ≤ el2 := by omega
  have hszz : n0 ≤ H.size := by omega
  have ne_el2_z : el2 ≠ z := by omega
  have ne_el2_l0 : el2 ≠ l0 := by omega
  have ne_el2_el0 : el2 ≠ el0 := by omega
  have ne_el2_l1 : el2 ≠ l1 := by omega
  have ne_el2_el1 : el2 ≠ el1 := by omega
  refine h_putF hx hb hts in_X1 tyX1 tyX1_ok nmX1 hown hK hL hS (Or.inl rfl) rfl 2 (by decide) (hts _ q423) rfl rfl hin rfl (v := .ref l2) rfl rfl rfl (Nat.le_of_ble_eq_true rfl) dX1_init_37 (fun H locs hL oq zq hS => ?_)
  have hL : va_at D CL (z, .inr (1, [.ref l0, .ref l1, .ref l2, .null, .int (iI (0)), .null, .null])) H := hL
  have hLal0 := hLal0.kept (oq _ ne_l0_z)
  have hLbl0 := hLbl0.kept (oq _ ne_el0_z)
  have hLal1 := hLal1.kept (oq _ ne_l1_z)
  have hLbl1 := hLbl1.kept (oq _ ne_el1_z)
  have hLal2 := hLal2.kept (oq _ ne_l2_z)
  have hLbl2 := hLbl2.kept (oq _ ne_el2_z)
  refine lv_aload_n hx hb dX1_init_40 rfl (lv_at hl 0 rfl) ?_
  have lt_hL := hL.lt
  have lt_hLal0 := hLal0.lt
  have lt_hLbl0 := hLbl0.lt
  have lt_hLal1 := hLal1.lt
  have lt_hLbl1 := hLbl1.lt
  have lt_hLal2 := hLal2.lt
  have lt_hLbl2 := hLbl2.lt
  refine h_new hx hb hts in_J2 tyJ2 tyJ2_ok hown (hts _ q82) (hts _ q83) (hts _ q45) hK hS (ci := 8) rfl (fs := [.int (iI (0)), .null, .int (iI (0))]) (fun j hj => by match j, hj with | 0, _ => rfl | 1, _ => rfl | 2, _ => rfl) (Nat.le_of_ble_eq_true rfl) (Nat.le_of_ble_eq_true rfl) dX1_init_41 (fun l3 H hql3 hXl3 o1 z1 hS => ?_)
  have hL := hL.kept (o1 _ hL.lt)
  have hLal0 := hLal0.kept (o1 _ hLal0.lt)
  have hLbl0 := hLbl0.kept (o1 _ hLbl0.lt)
  have hLal1 := hLal1.kept (o1 _ hLal1.lt)
  have hLbl1 := hLbl1.kept (o1 _ hLbl1.lt)
  have hLal2 := hLal2.kept (o1 _ hLal2.lt)
  have hLbl2 := hLbl2.kept (o1 _ hLbl2.lt)
  have hgel3 : n0 ≤ l3 := by omega
  have hszz : n0 ≤ H.size := by omega
  have ne_l3_z : l3 ≠ z := by omega
  have ne_l3_l0 : l3 ≠ l0 := by omega
  have ne_l3_el0 : l3 ≠ el0 := by omega
  have ne_l3_l1 : l3 ≠ l1 := by omega
  have ne_l3_el1 : l3 ≠ el1 := by omega
  have ne_l3_l2 : l3 ≠ l2 := by omega
  have ne_l3_el2 : l3 ≠ el2 := by omega
  refine lv_dup hx hb dX1_init_44 rfl ?_
  refine lv_iconst (v := iI (2)) hx hb dX1_init_45 rfl ?_
  have lt_hL := hL.lt
  have lt_hLal0 := hLal0.lt
  have lt_hLbl0 := hLbl0.lt
  have lt_hLal1 := hLal1.lt
  have lt_hLbl1 := hLbl1.lt
  have lt_hLal2 := hLal2.lt
  have lt_hLbl2 := hLbl2.lt
  have lt_hXl3 := hXl3.lt
  refine rc_N (W.runI (As := [.int (iI (2))]) (rest := [.ref l3, .ref z]) ⟨hx, hb, hml, hown, hts⟩ (al_init l D cA l3 H.size 2 (by decide) (by decide)) (cwI 1 hts (lw_meth q86) rfl rfl rfl (hts _ q45) (hts _ q84) (hts _ q85) rfl (by decide +kernel) ⟨Nat.le_of_ble_eq_true rfl, Nat.le_of_ble_eq_true rfl⟩) (preS hK ⟨hXl3, rfl⟩) rfl rfl hl.1 rfl (lv_room (Nat.le_of_ble_eq_true rfl)) dX1_init_46 ⟨Nat.le_of_ble_eq_true rfl, Nat.le_of_ble_eq_true rfl⟩) hS (fun q _ h => by rcases h with h | h; rw [h]; exact (Or.inr hgel3); exact Or.inr (by omega)) (fun q h => by rcases h with h | h; rw [h]; exact (Or.inr hgel3); exact Or.inr (by omega)) (fun H locs hq hS hz hk => ?_)
  obtain ⟨el3, hse, hLl3⟩ := hq
  obtain ⟨hLal3, hLbl3, hLnl3, hLcl3, hLdl3⟩ := hLl3
  have hL := hL.kept (hk _ lt_hL (by omega))
  have hLal0 := hLal0.kept (hk _ lt_hLal0 (by omega))
  have hLbl0 := hLbl0.kept (hk _ lt_hLbl0 (by omega))
  have hLal1 := hLal1.kept (hk _ lt_hLal1 (by omega))
  have hLbl1 := hLbl1.kept (hk _ lt_hLbl1 (by omega))
  have hLal2 := hLal2.kept (hk _ lt_hLal2 (by omega))
  have hLbl2 := hLbl2.kept (hk _ lt_hLbl2 (by omega))
  have hgeel3 : n0 ≤ el3 := by omega
  have hszz : n0 ≤ H.size := by omega
  have ne_el3_z : el3 ≠ z := by omega
  have ne_el3_l0 : el3 ≠ l0 := by omega
  have ne_el3_el0 : el3 ≠ el0 := by omega
  have ne_el3_l1 : el3 ≠ l1 := by omega
  have ne_el3_el1 : el3 ≠ el1 := by omega
  have ne_el3_l2 : el3 ≠ l2 := by omega
  have ne_el3_el2 : el3 ≠ el2 := by omega
  refine h_putF hx hb hts in_X1 tyX1 tyX1_ok nmX1 hown hK hL hS (Or.inl rfl) rfl 3 (by decide) (hts _ q424) rfl rfl hin rfl (v := .ref l3) rfl rfl rfl (Nat.le_of_ble_eq_true rfl) dX1_init_49 (fun H locs hL oq zq hS => ?_)
  have hL : va_at D CL (z, .inr (1, [.ref l0, .ref l1, .ref l2, .ref l3, .int (iI (0)), .null, .null])) H := hL
  have hLal0 := hLal0.kept (oq _ ne_l0_z)
  have hLbl0 := hLbl0.kept (oq _ ne_el0_z)
  have hLal1 := hLal1.kept (oq _ ne_l1_z)
  have hLbl1 := hLbl1.kept (oq _ ne_el1_z)
  have hLal2 := hLal2.kept (oq _ ne_l2_z)
  have hLbl2 := hLbl2.kept (oq _ ne_el2_z)
  have hLal3 := hLal3.kept (oq _ ne_l3_z)
  have hLbl3 := hLbl3.kept (oq _ ne_el3_z)
  refine lv_aload_n hx hb dX1_init_52 rfl (lv_at hl 0 rfl) ?_
  refine lv_bipush (v := iI (40)) hx hb dX1_init_53 (by decide) ?_
  have lt_hL := hL.lt
  have lt_hLal0 := hLal0.lt
  have lt_hLbl0 := hLbl0.lt
  have lt_hLal1 := hLal1.lt
  have lt_hLbl1 := hLbl1.lt
  have lt_hLal2 := hLal2.lt
  have lt_hLbl2 := hLbl2.lt
  have lt_hLal3 := hLal3.lt
  have lt_hLbl3 := hLbl3.lt
  refine h_newaI hx hb (hts _ q443) hK hS 40 rfl (by decide) (Nat.le_of_ble_eq_true rfl) (Nat.le_of_ble_eq_true rfl) dX1_init_55 (fun q1 H hqq1 hXq1 o1 z1 hS => ?_)
  have hL := hL.kept (o1 _ hL.lt)
  have hLal0 := hLal0.kept (o1 _ hLal0.lt)
  have hLbl0 := hLbl0.kept (o1 _ hLbl0.lt)
  have hLal1 := hLal1.kept (o1 _ hLal1.lt)
  have hLbl1 := hLbl1.kept (o1 _ hLbl1.lt)
  have hLal2 := hLal2.kept (o1 _ hLal2.lt)
  have hLbl2 := hLbl2.kept (o1 _ hLbl2.lt)
  have hLal3 := hLal3.kept (o1 _ hLal3.lt)
  have hLbl3 := hLbl3.kept (o1 _ hLbl3.lt)
  have hgeq1 : n0 ≤ q1 := by omega
  have hszz : n0 ≤ H.size := by omega
  have ne_q1_z : q1 ≠ z := by omega
  have ne_q1_l0 : q1 ≠ l0 := by omega
  have ne_q1_el0 : q1 ≠ el0 := by omega
  have ne_q1_l1 : q1 ≠ l1 := by omega
  have ne_q1_el1 : q1 ≠ el1 := by omega
  have ne_q1_l2 : q1 ≠ l2 := by omega
  have ne_q1_el2 : q1 ≠ el2 := by omega
  have ne_q1_l3 : q1 ≠ l3 := by omega
  have ne_q1_el3 : q1 ≠ el3 := by omega
  refine h_putF hx hb hts in_X1 tyX1 tyX1_ok nmX1 hown hK hL hS (Or.inl rfl) rfl 5 (by decide) (hts _ q426) rfl rfl hin rfl (v := .ref q1) rfl rfl rfl (Nat.le_of_ble_eq_true rfl) dX1_init_57 (fun H locs hL oq zq hS => ?_)
  have hL : va_at D CL (z, .inr (1, [.ref l0, .ref l1, .ref l2, .ref l3, .int (iI (0)), .ref q1, .null])) H := hL
  have hLal0 := hLal0.kept (oq _ ne_l0_z)
  have hLbl0 := hLbl0.kept (oq _ ne_el0_z)
  have hLal1 := hLal1.kept (oq _ ne_l1_z)
  have hLbl1 := hLbl1.kept (oq _ ne_el1_z)
  have hLal2 := hLal2.kept (oq _ ne_l2_z)
  have hLbl2 := hLbl2.kept (oq _ ne_el2_z)
  have hLal3 := hLal3.kept (oq _ ne_l3_z)
  have hLbl3 := hLbl3.kept (oq _ ne_el3_z)
  have hXq1 := hXq1.kept (oq _ ne_q1_z)
  refine lv_aload_n hx hb dX1_init_60 rfl (lv_at hl 0 rfl) ?_
  refine lv_bipush (v := iI (40)) hx hb dX1_init_61 (by decide) ?_
  have lt_hL := hL.lt
  have lt_hLal0 := hLal0.lt
  have lt_hLbl0 := hLbl0.lt
  have lt_hLal1 := hLal1.lt
  have lt_hLbl1 := hLbl1.lt
  have lt_hLal2 := hLal2.lt
  have lt_hLbl2 := hLbl2.lt
  have lt_hLal3 := hLal3.lt
  have lt_hLbl3 := hLbl3.lt
  have lt_hXq1 := hXq1.lt
  refine h_newaI hx hb (hts _ q443) hK hS 40 rfl (by decide) (Nat.le_of_ble_eq_true rfl) (Nat.le_of_ble_eq_true rfl) dX1_init_63 (fun q2 H hqq2 hXq2 o1 z1 hS => ?_)
  have hL := hL.kept (o1 _ hL.lt)
  have hLal0 := hLal0.kept (o1 _ hLal0.lt)
  have hLbl0 := hLbl0.kept (o1 _ hLbl0.lt)
  have hLal1 := hLal1.kept (o1 _ hLal1.lt)
  have hLbl1 := hLbl1.kept (o1 _ hLbl1.lt)
  have hLal2 := hLal2.kept (o1 _ hLal2.lt)
  have hLbl2 := hLbl2.kept (o1 _ hLbl2.lt)
  have hLal3 := hLal3.kept (o1 _ hLal3.lt)
  have hLbl3 := hLbl3.kept (o1 _ hLbl3.lt)
  have hXq1 := hXq1.kept (o1 _ hXq1.lt)
  have hgeq2 : n0 ≤ q2 := by omega
  have hszz : n0 ≤ H.size := by omega
  have ne_q2_z : q2 ≠ z := by omega
  have ne_q2_l0 : q2 ≠ l0 := by omega
  have ne_q2_el0 : q2 ≠ el0 := by omega
  have ne_q2_l1 : q2 ≠ l1 := by omega
  have ne_q2_el1 : q2 ≠ el1 := by omega
  have ne_q2_l2 : q2 ≠ l2 := by omega
  have ne_q2_el2 : q2 ≠ el2 := by omega
  have ne_q2_l3 : q2 ≠ l3 := by omega
  have ne_q2_el3 : q2 ≠ el3 := by omega
  have ne_q2_q1 : q2 ≠ q1 := by omega
  refine h_putF hx hb hts in_X1 tyX1 tyX1_ok nmX1 hown hK hL hS (Or.inl rfl) rfl 6 (by decide) (hts _ q427) rfl rfl hin rfl (v := .ref q2) rfl rfl rfl (Nat.le_of_ble_eq_true rfl) dX1_init_65 (fun H locs hL oq zq hS => ?_)
  have hL : va_at D CL (z, .inr (1, [.ref l0, .ref l1, .ref l2, .ref l3, .int (iI (0)), .ref q1, .ref q2])) H := hL
  have hLal0 := hLal0.kept (oq _ ne_l0_z)
  have hLbl0 := hLbl0.kept (oq _ ne_el0_z)
  have hLal1 := hLal1.kept (oq _ ne_l1_z)
  have hLbl1 := hLbl1.kept (oq _ ne_el1_z)
  have hLal2 := hLal2.kept (oq _ ne_l2_z)
  have hLbl2 := hLbl2.kept (oq _ ne_el2_z)
  have hLal3 := hLal3.kept (oq _ ne_l3_z)
  have hLbl3 := hLbl3.kept (oq _ ne_el3_z)
  have hXq1 := hXq1.kept (oq _ ne_q1_z)
  have hXq2 := hXq2.kept (oq _ ne_q2_z)
  exact W.vret hx hb hr (fun tt htt hWm => ⟨⟨rfl, by rw [htt]; exact ⟨l0, el0, l1, el1, l2, el2, l3, el3, q1, q2, hgel0, by omega, by omega, by omega, by omega, by omega, by omega, by omega, by omega, by omega, by omega, ⟨hLal0, hLbl0, hLnl0, hLcl0, hLdl0⟩, ⟨hLal1, hLbl1, hLnl1, hLcl1, hLdl1⟩, ⟨hLal2, hLbl2, hLnl2, hLcl2, hLdl2⟩, ⟨hLal3, hLbl3, hLnl3, hLcl3, hLdl3⟩, hXq1, hXq2, hL⟩⟩, hS.F htt⟩) hS.2.2 dX1_init_68
