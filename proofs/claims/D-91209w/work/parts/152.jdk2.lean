set_option maxRecDepth 100000
/-- what a list holds: objects -/
def EV (D : va_G) (sz : Nat) (f : Nat → Nat) (H : Heap) : Prop := ∀ j, j < sz → ∃ ci, ci < 12 ∧ isO D ci (f j) H
theorem EV.kept {D : va_G} {sz : Nat} {f : Nat → Nat} {H H1 : Heap} (h : EV D sz f H) (hq : ∀ q, q < H.size → (∃ j, j < sz ∧ f j = q) → H1[q]? = H[q]?) : EV D sz f H1 := fun j hj => by
  obtain ⟨ci, h1, h2⟩ := h j hj
  exact ⟨ci, h1, h2.kept (hq _ h2.lt ⟨j, hj, rfl⟩)⟩
theorem iI_shr1 {n : Nat} (h : n < 2147483648) : iI (n : Int) >>> (iI 1 &&& 31) = iI ((n / 2 : Nat) : Int) := by
  rw [iI_nat, iI_nat]
  have := pk_shrN (n := n) (by omega) (iI 1 &&& 31) 1 (by decide)
  rw [this]
theorem va_Mi.eq {C : String} {a b : Nat} {U : State} (h : va_Mi C a U) (h' : va_Mi C b U) : a = b := by
  obtain ⟨c, k, h1, h2, h3⟩ := h
  obtain ⟨c', k', g1, g2, g3⟩ := h'
  cases h1.symm.trans g1
  cases h2.symm.trans g2
  exact Option.some.inj (h3.symm.trans g3)

set_option maxHeartbeats 4000000 in
set_option maxRecDepth 100000 in
theorem ab_init (l : Launch) (D : va_G) (cA : Nat → ClassId) (a : Nat) : Met l yJ1_init (ws_ yJ1_init cJ1_init 1 none) ({ frames := 2, cells := 0, slots := 0, locals := 60 }) (Pk D cA [.ref a] (fun H => va_at D CL (a, .inr (8, [.int (iI 0), .null, .int (iI 0)])) H)) (Qn (fun H' => va_at D CL (a, .inr (8, [.int (iI 0), .null, .int (iI 0)])) H') (fun q => q = a)) 0 0 (fun q => q = a) := by
  refine Met.ofW (cc := cJ1_init) (maxL := 1) (ret := none) (by decide) rfl ?_
  intro p e s m args below meth c s₁ B hml hv
  obtain ⟨rfl, hK, hW⟩ := hv
  have hx := B.exec
  have hb := B.bytes
  have hr := B.returns
  have hts := atoms_spec (ws := ws_ yJ1_init cJ1_init 1 none) B.pre
  have hts : ∀ w ∈ lw_all, w.before _ s = true := fun w h => hts w (List.mem_cons_of_mem _ h)
  have hown : s.vm.findClass RJ1 = some m.cls := findClass_of_methodNamed B.named
  have hlocks := B.notSynchronized
  have hin : meth.name = "<init>" := (name_of_methodNamed B.named B.method).1
  have hl := lv_entry ([.ref a]) (n := 1) (Nat.le_of_ble_eq_true rfl)
  rw [lg_entry_eq]
  generalize (lg_sl ([.ref a]) ++ List.replicate (1 - (lg_sl ([.ref a])).length) Slot.unset).toArray = ls at hl ⊢
  have hl : lv_has ls 1 [(0, .ref a)] := hl
  have hS : va_S (fun q => q = a) s.heap s.heap [] := va_S.rf
  have hL := hW
  refine lv_aload_n hx hb dJ1_init_0 rfl (lv_at hl 0 rfl) ?_
  refine rc_0 (W.runI (As := []) (rest := []) ⟨hx, hb, hml, hown, hts⟩ (ac_init l D cA a) (cwI 0 hts (lw_meth q92) rfl rfl rfl (hts _ q43) (hts _ q90) (hts _ q91) rfl (by decide +kernel) ⟨Nat.le_of_ble_eq_true rfl, Nat.le_of_ble_eq_true rfl⟩) (preS hK trivial) rfl rfl hl.1 rfl (lv_room (Nat.le_of_ble_eq_true rfl)) dJ1_init_1 ⟨Nat.le_of_ble_eq_true rfl, Nat.le_of_ble_eq_true rfl⟩) ?_
  refine lv_aload_n hx hb dJ1_init_4 rfl (lv_at hl 0 rfl) ?_
  refine lv_iconst (v := iI (0)) hx hb dJ1_init_5 rfl ?_
  refine h_put hx hb hts in_J2 tyJ2 tyJ2_ok nmJ2 hown hK hL hS rfl rfl 0 (by decide) (hts _ q411) rfl rfl (v := .int (iI (0))) rfl rfl rfl (Nat.le_of_ble_eq_true rfl) dJ1_init_6 (fun H locs hL oq zq hS => ?_)
  have hL : va_at D CL (a, .inr (8, [.int (iI (0)), .null, .int (iI (0))])) H := hL
  exact W.vret hx hb hr (fun t ht hWm => ⟨⟨rfl, by rw [ht]; exact hL⟩, hS.F ht⟩) hS.2.2 dJ1_init_9

set_option maxHeartbeats 4000000 in
set_option maxRecDepth 100000 in
theorem al_init (l : Launch) (D : va_G) (cA : Nat → ClassId) (a n0 cap : Nat) (hc1 : 1 ≤ cap) (hc2 : cap ≤ 2) : Met l yJ2_init (ws_ yJ2_init cJ2_init 2 none) ({ frames := 3, cells := 1, slots := 2, locals := 80 }) (Pk D cA [.ref a, .int (iI (cap))] (fun H => va_at D CL (a, .inr (8, [.int (iI 0), .null, .int (iI 0)])) H ∧ H.size = n0)) (Qn (fun H' => ∃ ea, n0 ≤ ea ∧ LiS D cA a 0 ea 0 cap (fun _ => 0) H') (fun q => q = a ∨ n0 ≤ q)) 1 2 (fun q => q = a ∨ n0 ≤ q) := by
  refine Met.ofW (cc := cJ2_init) (maxL := 2) (ret := none) (by decide) rfl ?_
  intro p e s m args below meth c s₁ B hml hv
  obtain ⟨rfl, hK, hW⟩ := hv
  have hx := B.exec
  have hb := B.bytes
  have hr := B.returns
  have hts := atoms_spec (ws := ws_ yJ2_init cJ2_init 2 none) B.pre
  have hts : ∀ w ∈ lw_all, w.before _ s = true := fun w h => hts w (List.mem_cons_of_mem _ h)
  have hown : s.vm.findClass RJ2 = some m.cls := findClass_of_methodNamed B.named
  have hlocks := B.notSynchronized
  have hin : meth.name = "<init>" := (name_of_methodNamed B.named B.method).1
  have hl := lv_entry ([.ref a, .int (iI (cap))]) (n := 2) (Nat.le_of_ble_eq_true rfl)
  rw [lg_entry_eq]
  generalize (lg_sl ([.ref a, .int (iI (cap))]) ++ List.replicate (2 - (lg_sl ([.ref a, .int (iI (cap))])).length) Slot.unset).toArray = ls at hl ⊢
  have hl : lv_has ls 2 [(0, .ref a), (1, .int (iI (cap)))] := hl
  have hS : va_S (fun q => q = a ∨ n0 ≤ q) s.heap s.heap [] := va_S.rf
  obtain ⟨hL, hn0⟩ := hW
  have hal := hL.lt
  refine lv_aload_n hx hb dJ2_init_0 rfl (lv_at hl 0 rfl) ?_
  refine rc_N (W.runI (As := []) (rest := []) ⟨hx, hb, hml, hown, hts⟩ (ab_init l D cA a) (cwI 0 hts (lw_meth q89) rfl rfl rfl (hts _ q44) (hts _ q87) (hts _ q88) rfl (by decide +kernel) ⟨Nat.le_of_ble_eq_true rfl, Nat.le_of_ble_eq_true rfl⟩) (preS hK hL) rfl rfl hl.1 rfl (lv_room (Nat.le_of_ble_eq_true rfl)) dJ2_init_1 ⟨Nat.le_of_ble_eq_true rfl, Nat.le_of_ble_eq_true rfl⟩) hS (fun _ _ h => Or.inl h) (fun _ h => Or.inl h) (fun H locs hL hS hz hk => ?_)
  have hn1 : n0 ≤ H.size := by omega
  refine lv_iload_n hx hb dJ2_init_4 rfl (lv_at hl 1 rfl) ?_
  refine ri_if_le (tgt := 19) hx hb (by unfold inR; omega) dJ2_init_5 (by decide) (fun h1 => ?_) (fun h1 => ?_)
  · skip
    exfalso; omega
  · skip
    refine lv_aload_n hx hb dJ2_init_8 rfl (lv_at hl 0 rfl) ?_
    refine lv_iload_n hx hb dJ2_init_9 rfl (lv_at hl 1 rfl) ?_
    have lt_hL := hL.lt
    refine h_newq hx hb hown (hts _ q94) hK hS (cap) (by omega) (by omega) (Nat.le_of_ble_eq_true rfl) (by show 0 + 0 + cap ≤ 2; omega) dJ2_init_10 (fun q H hq hE o1 z1 hS => ?_)
    have hL := hL.kept (o1 _ hL.lt)
    refine W.widen (k := 1) (n := 2) (Nat.le_refl _) (by show 0 + 0 + cap ≤ 2; omega) ?_
    have hqa : q ≠ a := by have := hL.lt; omega
    have hqn : n0 ≤ q := by omega
    refine h_put hx hb hts in_J2 tyJ2 tyJ2_ok nmJ2 hown hK hL hS (Or.inl rfl) rfl 1 (by decide) (hts _ q409) rfl rfl (v := .ref q) rfl rfl rfl (Nat.le_of_ble_eq_true rfl) dJ2_init_13 (fun H locs hL oq zq hS => ?_)
    have hL : va_at D CL (a, .inr (8, [.int (iI (0)), .ref q, .int (iI (0))])) H := hL
    have hE := hE.kept (oq _ hqa)
    refine lv_goto (tgt := 60) hx hb dJ2_init_16 (by decide) ?_
    exact W.vret hx hb hr (fun t ht hWm => ⟨⟨rfl, by rw [ht]; exact ⟨q, hqn, hL, hE, hqa, Nat.zero_le _, by omega⟩⟩, hS.F ht⟩) hS.2.2 dJ2_init_60

set_option maxHeartbeats 4000000 in
set_option maxRecDepth 100000 in
theorem as_newLength (l : Launch) (D : va_G) (cA : Nat → ClassId) (x y z : Nat) (hx1 : x ≤ 1000) (hy1 : y ≤ 1000) (hz1 : z ≤ 1000) (hy0 : 1 ≤ y) : Met l yJ11_newLength (ws_ yJ11_newLength cJ11_newLength 4 (some .int)) ({ frames := 1, cells := 0, slots := 0, locals := 40 }) (Pk D cA [.int (iI (x)), .int (iI (y)), .int (iI (z))] (fun H => True)) (k2_QcV (.int (iI (x + max y z : Nat)))) 0 0 (fun _ => False) := by
  refine Met.ofW (cc := cJ11_newLength) (maxL := 4) (ret := (some .int)) (by decide) rfl ?_
  intro p e s m args below meth c s₁ B hml hv
  obtain ⟨rfl, hK, hW⟩ := hv
  have hx := B.exec
  have hb := B.bytes
  have hr := B.returns
  have hts := atoms_spec (ws := ws_ yJ11_newLength cJ11_newLength 4 (some .int)) B.pre
  have hts : ∀ w ∈ lw_all, w.before _ s = true := fun w h => hts w (List.mem_cons_of_mem _ h)
  have hown : s.vm.findClass RJ11 = some m.cls := findClass_of_methodNamed B.named
  have hlocks := B.notSynchronized
  have hl := lv_entry ([.int (iI (x)), .int (iI (y)), .int (iI (z))]) (n := 4) (Nat.le_of_ble_eq_true rfl)
  rw [lg_entry_eq]
  generalize (lg_sl ([.int (iI (x)), .int (iI (y)), .int (iI (z))]) ++ List.replicate (4 - (lg_sl ([.int (iI (x)), .int (iI (y)), .int (iI (z))])).length) Slot.unset).toArray = ls at hl ⊢
  have hl : lv_has ls 4 [(0, .int (iI (x))), (1, .int (iI (y))), (2, .int (iI (z)))] := hl
  refine lv_iload_n hx hb dJ11_newLength_0 rfl (lv_at hl 0 rfl) ?_
  refine lv_iload_n hx hb dJ11_newLength_1 rfl (lv_at hl 1 rfl) ?_
  refine lv_iload_n hx hb dJ11_newLength_2 rfl (lv_at hl 2 rfl) ?_
  refine ri_mmax hx hb hml hl.1 hown (hts _ q193) (hts _ q194) (hts _ q55) (hts _ q195) (by unfold inR; omega) (by unfold inR; omega) (Nat.le_of_ble_eq_true rfl) (Nat.le_of_ble_eq_true rfl) (Nat.le_of_ble_eq_true rfl) (Nat.le_of_ble_eq_true rfl) dJ11_newLength_3 ?_
  refine ri_top (b := ((max y z : Nat) : Int)) (max_eq _ _) ?_
  refine ri_iadd hx hb dJ11_newLength_6 ?_
  refine ri_top (b := (x + max y z : Nat)) (by omega) ?_
  refine lv_istore_n (lv' := [(3, .int (iI ((x + max y z : Nat)))), (0, .int (iI (x))), (1, .int (iI (y))), (2, .int (iI (z)))]) hx hb dJ11_newLength_7 rfl hl (by decide) rfl (fun ls hl => ?_)
  refine lv_iconst (v := iI (0)) hx hb dJ11_newLength_8 rfl ?_
  refine lv_iload_n hx hb dJ11_newLength_9 rfl (lv_at hl 0 rfl) ?_
  refine ri_icmp_ge (tgt := 21) hx hb (by unfold inR; omega) (by unfold inR; omega) dJ11_newLength_10 (by decide) (fun h1 => ?_) (fun h1 => ?_)
  · skip
    exfalso; omega
  · skip
    refine lv_iload_n hx hb dJ11_newLength_13 rfl (lv_at hl 0 rfl) ?_
    refine lv_ldc (v := iI (2147483639)) hx hb hown (show (Cond.constant RJ11 200 (iI (2147483639))).before _ s = true from hts _ q196) dJ11_newLength_14 ?_
    refine ri_icmp_gt (tgt := 21) hx hb (by unfold inR; omega) (by unfold inR; omega) dJ11_newLength_16 (by decide) (fun h2 => ?_) (fun h2 => ?_)
    · skip
      exfalso; omega
    · skip
      refine lv_iload_n hx hb dJ11_newLength_19 rfl (lv_at hl 0 rfl) ?_
      exact W.iret hx hb hr (fun t ht hWm => ⟨rfl, ht⟩) (fun _ h => absurd h List.not_mem_nil) dJ11_newLength_20

theorem va_P2 {D : va_G} {cl : List vw_C} {q r : Nat × va_E} {H : Heap} (h : va_at D cl q H) (h' : va_at D cl r H) : va_P D cl [q, r] H := by
  intro k x hk
  match k, hk with
  | 0, hk => cases hk; exact h
  | 1, hk => cases hk; exact h'
  | k + 2, hk => simp at hk
theorem va_D2 {A : Nat → Prop} {q r : Nat × va_E} (h : A q.1) (h' : A r.1) (hne : q.1 ≠ r.1) : va_D A [q, r] := by
  refine ⟨fun i j x y hi hj e => ?_, fun k x hk => ?_⟩
  · match i, j, hi, hj with
    | 0, 0, _, _ => rfl
    | 1, 1, _, _ => rfl
    | 0, 1, hi, hj => cases hi; cases hj; exact absurd e hne
    | 1, 0, hi, hj => cases hi; cases hj; exact absurd e.symm hne
    | i + 2, j, hi, _ => simp at hi
    | i, j + 2, _, hj => simp at hj
  · match k, hk with
    | 0, hk => cases hk; exact h
    | 1, hk => cases hk; exact h'
    | k + 2, hk => simp at hk

set_option maxHeartbeats 4000000 in
set_option maxRecDepth 100000 in
theorem ar_copyOf3 (l : Launch) (D : va_G) (cA : Nat → ClassId) (ea n0 sz cap nl mi : Nat) (f : Nat → Nat) (hsc : sz ≤ cap) (hcn : cap ≤ nl) (hnl : nl ≤ 400) : Met l yJ13_copyOf_3 (ws_ yJ13_copyOf_3 cJ13_copyOf_3 4 (some (.array (.object "java/lang/Object")))) ({ frames := 1, cells := 1, slots := 400, locals := 80 }) (Pq D cA [.ref ea, .int (iI nl), .ref mi] (fun U => va_at D CL (ea, eO cA cap (gl sz f)) U.heap ∧ U.heap.size = n0 ∧ EV D sz f U.heap ∧ va_Mi "[Ljava/lang/Object;" mi U)) (Qo (fun z H' => n0 ≤ z ∧ va_at D CL (z, eO cA nl (gl sz f)) H' ∧ va_at D CL (ea, eO cA cap (gl sz f)) H') (fun q => q = ea ∨ n0 ≤ q)) 1 400 (fun q => q = ea ∨ n0 ≤ q) := by
  refine Met.ofW (cc := cJ13_copyOf_3) (maxL := 4) (ret := (some (.array (.object "java/lang/Object")))) (by decide) rfl ?_
  intro p e s m args below meth c s₁ B hml hv
  obtain ⟨rfl, hK, hW⟩ := hv
  have hx := B.exec
  have hb := B.bytes
  have hr := B.returns
  have hts := atoms_spec (ws := ws_ yJ13_copyOf_3 cJ13_copyOf_3 4 (some (.array (.object "java/lang/Object")))) B.pre
  have hts : ∀ w ∈ lw_all, w.before _ s = true := fun w h => hts w (List.mem_cons_of_mem _ h)
  have hown : s.vm.findClass RJ13 = some m.cls := findClass_of_methodNamed B.named
  have hlocks := B.notSynchronized
  have hl := lv_entry ([.ref ea, .int (iI (nl)), .ref mi]) (n := 4) (Nat.le_of_ble_eq_true rfl)
  rw [lg_entry_eq]
  generalize (lg_sl ([.ref ea, .int (iI (nl)), .ref mi]) ++ List.replicate (4 - (lg_sl ([.ref ea, .int (iI (nl)), .ref mi])).length) Slot.unset).toArray = ls at hl ⊢
  have hl : lv_has ls 4 [(0, .ref ea), (1, .int (iI (nl))), (2, .ref mi)] := hl
  have hS : va_S (fun q => q = ea ∨ n0 ≤ q) s.heap s.heap [] := va_S.rf
  obtain ⟨hE, hn0, hEV, hM⟩ := hW
  have hn1 : n0 ≤ s.heap.size := by omega
  refine lv_aload_n hx hb dJ13_copyOf_3_0 rfl (lv_at hl 2 rfl) ?_
  refine va_ldcM hx hb hown (hts _ q512) hM dJ13_copyOf_3_1 ?_
  refine lv_acmp_ne (rx := some mi) (ry := some mi) (tgt := 13) hx hb dJ13_copyOf_3_3 (by decide) (fun h => absurd rfl h) (fun _ => ?_)
  refine lv_iload_n hx hb dJ13_copyOf_3_6 rfl (lv_at hl 1 rfl) ?_
  have lt_hE := hE.lt
  refine h_newq hx hb hown (hts _ q513) hK hS (nl) (by omega) (by omega) (Nat.le_of_ble_eq_true rfl) (by show 0 + nl ≤ 400; omega) dJ13_copyOf_3_7 (fun q H hq hQ o1 z1 hS => ?_)
  have hE := hE.kept (o1 _ hE.lt)
  refine W.widen (k := 1) (n := 400) (Nat.le_refl _) (by show 0 + nl ≤ 400; omega) ?_
  have hqe : q ≠ ea := by omega
  have hqn : n0 ≤ q := by omega
  have hEV := hEV.kept (fun x hx _ => o1 x hx)
  refine lv_goto (tgt := 24) hx hb dJ13_copyOf_3_10 (by decide) ?_
  refine lv_astore_n (lv' := [(3, .ref q), (0, .ref ea), (1, .int (iI (nl))), (2, .ref mi)]) hx hb dJ13_copyOf_3_24 rfl hl (by decide) rfl (fun ls hl => ?_)
  refine lv_aload_n hx hb dJ13_copyOf_3_25 rfl (lv_at hl 1 rfl) ?_
  refine lv_iconst (v := iI (0)) hx hb dJ13_copyOf_3_26 rfl ?_
  refine lv_aload_n hx hb dJ13_copyOf_3_27 rfl (lv_at hl 0 rfl) ?_
  refine lv_iconst (v := iI (0)) hx hb dJ13_copyOf_3_28 rfl ?_
  refine lv_aload_n hx hb dJ13_copyOf_3_29 rfl (lv_at hl 1 rfl) ?_
  refine h_alen hx hb hK 2 rfl hE dJ13_copyOf_3_30 ?_
  refine lv_iload_n hx hb dJ13_copyOf_3_31 rfl (lv_at hl 2 rfl) ?_
  refine ri_mmin hx hb hml hl.1 hown (hts _ q211) (hts _ q212) (hts _ q55) (hts _ q213) (by unfold inR; omega) (by unfold inR; omega) (Nat.le_of_ble_eq_true rfl) (Nat.le_of_ble_eq_true rfl) (Nat.le_of_ble_eq_true rfl) (Nat.le_of_ble_eq_true rfl) dJ13_copyOf_3_32 ?_
  refine ri_top (b := (cap : Int)) (if_neg (by omega)) ?_
  refine va_copyM hx hb (hml.trans hl.1.symm) hown (hts _ q214) (hts _ q216) (hts _ q215) (hts _ q57) hK.1 (va_P2 hE hQ) (va_D2 (Or.inl rfl) (Or.inr hqn) (Ne.symm hqe)) hS 0 1 2 2 rfl rfl rfl rfl (by decide) (by decide) (fun z => (iI_in (Nat.lt_succ_self cap) (by omega)) (Or.inl z)) (by rw [iI_clamp (by omega)]; show 0 + cap ≤ cap; omega) (by rw [iI_clamp (by omega)]; show 0 + cap ≤ nl; omega) (fun i hi y hy => ?_) (Nat.le_of_ble_eq_true rfl) (Nat.le_of_ble_eq_true rfl) dJ13_copyOf_3_35 (fun H locs hPP hDD hS => ?_)
  · have hy : gl sz f (0 + i) = some y := hy
    unfold gl at hy
    split at hy
    · rename_i hj
      obtain ⟨ci, c1, c2⟩ := hEV _ hj
      cases hy
      exact anyOf hK c1 c2
    · cases hy
  rw [iI_clamp (by omega)] at hPP
  have hE : va_at D CL (ea, eO cA cap (gl sz f)) H := hPP 0 _ rfl
  have hQ : va_at D CL (q, eO cA nl (va_cpy (gl sz f) (fun _ => none) 0 0 cap)) H := hPP 1 _ rfl
  rw [gl_cpy hsc] at hQ
  refine lv_aload_n hx hb dJ13_copyOf_3_38 rfl (lv_at hl 0 rfl) ?_
  exact W.aret hx hb hr (Or.inr ⟨_, rfl⟩) (Or.inr ⟨_, rfl⟩) (fun t ht hWm => ⟨⟨_, rfl, by rw [ht]; exact ⟨hqn, hQ, hE⟩⟩, hS.F ht⟩) hS.2.2 dJ13_copyOf_3_39

set_option maxHeartbeats 4000000 in
set_option maxRecDepth 100000 in
theorem ar_copyOf2 (l : Launch) (D : va_G) (cA : Nat → ClassId) (ea n0 sz cap nl : Nat) (f : Nat → Nat) (hsc : sz ≤ cap) (hcn : cap ≤ nl) (hnl : nl ≤ 400) : Met l yJ13_copyOf_2 (ws_ yJ13_copyOf_2 cJ13_copyOf_2 2 (some (.array (.object "java/lang/Object")))) ({ frames := 2, cells := 1, slots := 400, locals := 103 }) (Pk D cA [.ref ea, .int (iI (nl))] (fun H => va_at D CL (ea, eO cA cap (gl sz f)) H ∧ H.size = n0 ∧ EV D sz f H)) (Qo (fun z H' => n0 ≤ z ∧ va_at D CL (z, eO cA nl (gl sz f)) H' ∧ va_at D CL (ea, eO cA cap (gl sz f)) H') (fun q => q = ea ∨ n0 ≤ q)) 1 400 (fun q => q = ea ∨ n0 ≤ q) := by
  refine Met.ofW (cc := cJ13_copyOf_2) (maxL := 2) (ret := (some (.array (.object "java/lang/Object")))) (by decide) rfl ?_
  intro p e s m args below meth c s₁ B hml hv
  obtain ⟨rfl, hK, hW⟩ := hv
  have hx := B.exec
  have hb := B.bytes
  have hr := B.returns
  have hts := atoms_spec (ws := ws_ yJ13_copyOf_2 cJ13_copyOf_2 2 (some (.array (.object "java/lang/Object")))) B.pre
  have hts : ∀ w ∈ lw_all, w.before _ s = true := fun w h => hts w (List.mem_cons_of_mem _ h)
  have hown : s.vm.findClass RJ13 = some m.cls := findClass_of_methodNamed B.named
  have hlocks := B.notSynchronized
  have hl := lv_entry ([.ref ea, .int (iI (nl))]) (n := 2) (Nat.le_of_ble_eq_true rfl)
  rw [lg_entry_eq]
  generalize (lg_sl ([.ref ea, .int (iI (nl))]) ++ List.replicate (2 - (lg_sl ([.ref ea, .int (iI (nl))])).length) Slot.unset).toArray = ls at hl ⊢
  have hl : lv_has ls 2 [(0, .ref ea), (1, .int (iI (nl)))] := hl
  have hS : va_S (fun q => q = ea ∨ n0 ≤ q) s.heap s.heap [] := va_S.rf
  obtain ⟨hE, hn0, hEV⟩ := hW
  obtain ⟨mi, hM⟩ := hK.2.2.1
  refine lv_aload_n hx hb dJ13_copyOf_2_0 rfl (lv_at hl 0 rfl) ?_
  refine lv_iload_n hx hb dJ13_copyOf_2_1 rfl (lv_at hl 1 rfl) ?_
  refine lv_aload_n hx hb dJ13_copyOf_2_2 rfl (lv_at hl 0 rfl) ?_
  refine va_getC hx hb (hml.trans hl.1.symm) hown (hts _ q490) (va_Nw.use rfl (hK.2.2.2 _ q1295 (Or.inr (Or.inr ⟨_, rfl⟩)))) (hts _ q1294) (hts _ q491) (hts _ q508) hM ⟨_, hE, rfl, (hK.1.2 2 _ rfl).2.choose_spec.choose_spec.2.2.2⟩ (Nat.le_of_ble_eq_true rfl) (Nat.le_of_ble_eq_true rfl) dJ13_copyOf_2_3 ?_
  refine rc_O (W.runS (As := [.ref ea, .int (iI (nl)), .ref mi]) (rest := []) ⟨hx, hb, hml, hown, hts⟩ (ar_copyOf3 l D cA ea n0 sz cap nl mi f hsc hcn hnl) (va_cwS 3 hts (lw_S q509 q510 q56 q511) rfl rfl rfl (by decide +kernel) ⟨Nat.le_of_ble_eq_true rfl, Nat.le_of_ble_eq_true rfl⟩) ⟨Pq.blind (fun U g mk a q => ⟨q.1, q.2.1, q.2.2.1, va_Mi.moved (u := U) (Vm.Alike.refl U.vm) q.2.2.2⟩), fun U hU hWm => ⟨rfl, hK.moved hWm, by dsimp only; rw [hU]; exact ⟨hE, hn0, hEV, va_Mi.moved hWm.alike hM⟩⟩⟩ rfl rfl hl.1 rfl (lv_room (Nat.le_of_ble_eq_true rfl)) dJ13_copyOf_2_6 ⟨Nat.le_of_ble_eq_true rfl, Nat.le_of_ble_eq_true rfl⟩) hS (fun _ _ h => h) (fun _ h => h) (fun z H locs hq hS hz hk => ?_)
  obtain ⟨hqn, hQ, hE⟩ := hq
  exact W.aret hx hb hr (Or.inr ⟨_, rfl⟩) (Or.inr ⟨_, rfl⟩) (fun t ht hWm => ⟨⟨_, rfl, by rw [ht]; exact ⟨hqn, hQ, hE⟩⟩, hS.F ht⟩) hS.2.2 dJ13_copyOf_2_9
