set_option maxRecDepth 100000
def nxC (cap sz : Nat) : Nat := if sz = cap then cap + max 1 (cap / 2) else cap
/-- constants: the cache of small Integers, the states of a trip; sa 0 1 2: NEW LED STANDS; sa 3: the cache; sa (138 + n): the Integer n -/
def SX (A : Nat → Prop) (sa : Nat → Nat) (U : State) : Prop :=
  va_Z "java/lang/Integer$IntegerCache" "high" "I" (.int (iI 127)) A U U.heap ∧ va_Z "java/lang/Integer$IntegerCache" "cache" "[Ljava/lang/Integer;" (.ref (sa 3)) A U U.heap ∧ va_T (.object "java/lang/Integer") (sa 3) 256 (fun k => .ref (sa (10 + k))) A U U.heap ∧ vb_C (fun k => sa (10 + k)) A U U.heap ∧
  va_Z "LunchMarks$State" "NEW" "LLunchMarks$State;" (.ref (sa 0)) A U U.heap ∧ va_Z "LunchMarks$State" "LED" "LLunchMarks$State;" (.ref (sa 1)) A U U.heap ∧ va_Z "LunchMarks$State" "STANDS" "LLunchMarks$State;" (.ref (sa 2)) A U U.heap ∧ sa 0 ≠ sa 1 ∧ sa 0 ≠ sa 2 ∧ sa 1 ≠ sa 2
theorem SX.call {A : Nat → Prop} {sa : Nat → Nat} {s U : State} {H : Heap} {locs : List Loc} (h : SX A sa s) (hS : va_S A s.heap H locs) (hU : U.heap = H) (hvm : s.vm.Alike U.vm) : SX A sa U := by
  obtain ⟨h1, h2, h3, h4, h5, h6, h7, h8⟩ := h
  unfold SX
  rw [hU]
  exact ⟨(h1.kept hS.2.1).moved hvm, (h2.kept hS.2.1).moved hvm, (h3.kept hS.2.1).moved hvm, (h4.kept hS.2.1).moved hvm, (h5.kept hS.2.1).moved hvm, (h6.kept hS.2.1).moved hvm, (h7.kept hS.2.1).moved hvm, h8⟩
theorem SX.blind {A : Nat → Prop} {sa : Nat → Nat} {U : State} {g : JFrame} {mk : MethodId} {a : Array Value} (h : SX A sa U) : SX A sa (U.calling g mk a) := h.call va_S.rf rfl (Vm.Alike.refl U.vm)
theorem SX.narrow {A B : Nat → Prop} {sa : Nat → Nat} {U : State} (h : SX A sa U) (hAB : ∀ q, B q → A q) : SX B sa U := by
  obtain ⟨h1, h2, h3, h4, h5, h6, h7, h8⟩ := h
  exact ⟨h1.narrow hAB, h2.narrow hAB, h3.narrow hAB, h4.narrow hAB, h5.narrow hAB, h6.narrow hAB, h7.narrow hAB, h8⟩
theorem vb_c_iI {n : Nat} : vb_c (128 + n) = iI (n : Int) := by
  unfold vb_c
  rw [iI_nat]
  show nI (128 + n) - nI 128 = nI n
  rw [pk_sub (by omega)]
  congr 1
  omega

set_option maxHeartbeats 4000000 in
set_option maxRecDepth 100000 in
theorem al_grow2 (l : Launch) (D : va_G) (cA : Nat → ClassId) (a : Nat) (mc : Int) (ea n0 cap : Nat) (f : Nat → Nat) (hc1 : 1 ≤ cap) (hc9 : cap ≤ 100) : Met l yJ2_grow_2 (ws_ yJ2_grow_2 cJ2_grow_2 4 (some (.array (.object "java/lang/Object")))) ({ frames := 3, cells := 1, slots := 400, locals := 124 }) (Pk D cA [.ref a, .int (iI ((cap + 1 : Nat)))] (fun H => LiS D cA a mc ea cap cap f H ∧ H.size = n0 ∧ EV D cap f H)) (Qo (fun z H' => n0 ≤ z ∧ LiS D cA a mc z cap (cap + max 1 (cap / 2)) f H') (fun q => q = a ∨ q = ea ∨ n0 ≤ q)) 1 400 (fun q => q = a ∨ q = ea ∨ n0 ≤ q) := by
  refine Met.ofW (cc := cJ2_grow_2) (maxL := 4) (ret := (some (.array (.object "java/lang/Object")))) (by decide) rfl ?_
  intro p e s m args below meth c s₁ B hml hv
  obtain ⟨rfl, hK, hW⟩ := hv
  have hx := B.exec
  have hb := B.bytes
  have hr := B.returns
  have hts := atoms_spec (ws := ws_ yJ2_grow_2 cJ2_grow_2 4 (some (.array (.object "java/lang/Object")))) B.pre
  have hts : ∀ w ∈ lw_all, w.before _ s = true := fun w h => hts w (List.mem_cons_of_mem _ h)
  have hown : s.vm.findClass RJ2 = some m.cls := findClass_of_methodNamed B.named
  have hlocks := B.notSynchronized
  have hl := lv_entry ([.ref a, .int (iI ((cap + 1 : Nat)))]) (n := 4) (Nat.le_of_ble_eq_true rfl)
  rw [lg_entry_eq]
  generalize (lg_sl ([.ref a, .int (iI ((cap + 1 : Nat)))]) ++ List.replicate (4 - (lg_sl ([.ref a, .int (iI ((cap + 1 : Nat)))])).length) Slot.unset).toArray = ls at hl ⊢
  have hl : lv_has ls 4 [(0, .ref a), (1, .int (iI ((cap + 1 : Nat))))] := hl
  have hS : va_S (fun q => q = a ∨ q = ea ∨ n0 ≤ q) s.heap s.heap [] := va_S.rf
  obtain ⟨⟨hL, hE, hne, hsc, hc2⟩, hn0, hEV⟩ := hW
  have hal := hL.lt
  refine lv_aload_n hx hb dJ2_grow_2_0 rfl (lv_at hl 0 rfl) ?_
  refine h_get hx hb hts in_J2 hown hK hL rfl 1 (by decide) (hts _ q409) rfl (v := .ref ea) rfl dJ2_grow_2_1 ?_
  refine h_alen hx hb hK 2 rfl hE dJ2_grow_2_4 ?_
  refine lv_istore_n (lv' := [(2, .int (iI (cap))), (0, .ref a), (1, .int (iI ((cap + 1 : Nat))))]) hx hb dJ2_grow_2_5 rfl hl (by decide) rfl (fun ls hl => ?_)
  refine lv_iload_n hx hb dJ2_grow_2_6 rfl (lv_at hl 0 rfl) ?_
  refine ri_if_gt (tgt := 20) hx hb (by unfold inR; omega) dJ2_grow_2_7 (by decide) (fun h1 => ?_) (fun h1 => ?_)
  · skip
    refine lv_iload_n hx hb dJ2_grow_2_20 rfl (lv_at hl 0 rfl) ?_
    refine lv_iload_n hx hb dJ2_grow_2_21 rfl (lv_at hl 2 rfl) ?_
    refine lv_iload_n hx hb dJ2_grow_2_22 rfl (lv_at hl 0 rfl) ?_
    refine ri_isub hx hb dJ2_grow_2_23 ?_
    refine ri_top (b := (1 : Nat)) (by omega) ?_
    refine lv_iload_n hx hb dJ2_grow_2_24 rfl (lv_at hl 0 rfl) ?_
    refine lv_iconst (v := iI (1)) hx hb dJ2_grow_2_25 rfl ?_
    refine lv_ishr hx hb dJ2_grow_2_26 ?_
    rw [iI_shr1 (by omega)]
    refine W.eq (g2 := F0 m 27 ls [.int (iI ((cap / 2 : Nat))), .int (iI ((1 : Nat))), .int (iI (cap))]) rfl ?_
    refine rc_V (W.runS (As := [.int (iI (cap)), .int (iI ((1 : Nat))), .int (iI ((cap / 2 : Nat)))]) (rest := []) ⟨hx, hb, hml, hown, hts⟩ (as_newLength l D cA cap 1 (cap / 2) (by omega) (by omega) (by omega) (by omega)) (va_cwS 3 hts (lw_S q486 q191 q54 q192) rfl rfl rfl (by decide +kernel) ⟨Nat.le_of_ble_eq_true rfl, Nat.le_of_ble_eq_true rfl⟩) (preS hK trivial) rfl rfl hl.1 rfl (lv_room (Nat.le_of_ble_eq_true rfl)) dJ2_grow_2_27 ⟨Nat.le_of_ble_eq_true rfl, Nat.le_of_ble_eq_true rfl⟩) ?_
    refine lv_istore_n (lv' := [(3, .int (iI ((cap + max 1 (cap / 2) : Nat)))), (2, .int (iI (cap))), (0, .ref a), (1, .int (iI ((cap + 1 : Nat))))]) hx hb dJ2_grow_2_30 rfl hl (by decide) rfl (fun ls hl => ?_)
    refine lv_aload_n hx hb dJ2_grow_2_31 rfl (lv_at hl 2 rfl) ?_
    refine lv_aload_n hx hb dJ2_grow_2_32 rfl (lv_at hl 2 rfl) ?_
    refine h_get hx hb hts in_J2 hown hK hL rfl 1 (by decide) (hts _ q409) rfl (v := .ref ea) rfl dJ2_grow_2_33 ?_
    refine lv_iload_n hx hb dJ2_grow_2_36 rfl (lv_at hl 0 rfl) ?_
    refine rc_O (W.runS (As := [.ref ea, .int (iI ((cap + max 1 (cap / 2) : Nat)))]) (rest := [.ref a]) ⟨hx, hb, hml, hown, hts⟩ (ar_copyOf2 l D cA ea n0 cap cap (cap + max 1 (cap / 2)) f (Nat.le_refl _) (by omega) (by omega)) (va_cwS 2 hts (lw_S q487 q488 q56 q489) rfl rfl rfl (by decide +kernel) ⟨Nat.le_of_ble_eq_true rfl, Nat.le_of_ble_eq_true rfl⟩) (preS hK ⟨hE, hn0, hEV⟩) rfl rfl hl.1 rfl (lv_room (Nat.le_of_ble_eq_true rfl)) dJ2_grow_2_37 ⟨Nat.le_of_ble_eq_true rfl, Nat.le_of_ble_eq_true rfl⟩) hS (fun _ _ h => Or.inr h) (fun _ h => Or.inr h) (fun z H locs hq hS hz hk => ?_)
    obtain ⟨hqn, hQ, hE⟩ := hq
    have hL := hL.kept (hk _ hL.lt (by have := hL.lt; omega))
    have hza : z ≠ a := by omega
    refine lv_dup_x1 hx hb dJ2_grow_2_40 rfl rfl ?_
    refine h_put hx hb hts in_J2 tyJ2 tyJ2_ok nmJ2 hown hK hL hS (Or.inl rfl) rfl 1 (by decide) (hts _ q409) rfl rfl (v := .ref z) rfl rfl rfl (Nat.le_of_ble_eq_true rfl) dJ2_grow_2_41 (fun H locs hL oq zq hS => ?_)
    have hL : va_at D CL (a, .inr (8, [.int (iI (mc)), .ref z, .int (iI (cap))])) H := hL
    have hE := hE.kept (oq _ hne)
    have hQ := hQ.kept (oq _ hza)
    exact W.aret hx hb hr (Or.inr ⟨_, rfl⟩) (Or.inr ⟨_, rfl⟩) (fun t ht hWm => ⟨⟨_, rfl, by rw [ht]; exact ⟨hqn, hL, hQ, hza, by omega, by omega⟩⟩, hS.F ht⟩) hS.2.2 dJ2_grow_2_44
  · skip
    exfalso; omega

set_option maxHeartbeats 4000000 in
set_option maxRecDepth 100000 in
theorem al_grow (l : Launch) (D : va_G) (cA : Nat → ClassId) (a : Nat) (mc : Int) (ea n0 cap : Nat) (f : Nat → Nat) (hc1 : 1 ≤ cap) (hc9 : cap ≤ 100) : Met l yJ2_grow (ws_ yJ2_grow cJ2_grow 1 (some (.array (.object "java/lang/Object")))) ({ frames := 4, cells := 1, slots := 400, locals := 147 }) (Pk D cA [.ref a] (fun H => LiS D cA a mc ea cap cap f H ∧ H.size = n0 ∧ EV D cap f H)) (Qo (fun z H' => n0 ≤ z ∧ LiS D cA a mc z cap (cap + max 1 (cap / 2)) f H') (fun q => q = a ∨ q = ea ∨ n0 ≤ q)) 1 400 (fun q => q = a ∨ q = ea ∨ n0 ≤ q) := by
  refine Met.ofW (cc := cJ2_grow) (maxL := 1) (ret := (some (.array (.object "java/lang/Object")))) (by decide) rfl ?_
  intro p e s m args below meth c s₁ B hml hv
  obtain ⟨rfl, hK, hW⟩ := hv
  have hx := B.exec
  have hb := B.bytes
  have hr := B.returns
  have hts := atoms_spec (ws := ws_ yJ2_grow cJ2_grow 1 (some (.array (.object "java/lang/Object")))) B.pre
  have hts : ∀ w ∈ lw_all, w.before _ s = true := fun w h => hts w (List.mem_cons_of_mem _ h)
  have hown : s.vm.findClass RJ2 = some m.cls := findClass_of_methodNamed B.named
  have hlocks := B.notSynchronized
  have hl := lv_entry ([.ref a]) (n := 1) (Nat.le_of_ble_eq_true rfl)
  rw [lg_entry_eq]
  generalize (lg_sl ([.ref a]) ++ List.replicate (1 - (lg_sl ([.ref a])).length) Slot.unset).toArray = ls at hl ⊢
  have hl : lv_has ls 1 [(0, .ref a)] := hl
  have hS : va_S (fun q => q = a ∨ q = ea ∨ n0 ≤ q) s.heap s.heap [] := va_S.rf
  obtain ⟨⟨hL, hE, hne, hsc, hc2⟩, hn0, hEV⟩ := hW
  have hal := hL.lt
  refine lv_aload_n hx hb dJ2_grow_0 rfl (lv_at hl 0 rfl) ?_
  refine lv_aload_n hx hb dJ2_grow_1 rfl (lv_at hl 0 rfl) ?_
  refine h_get hx hb hts in_J2 hown hK hL rfl 2 (by decide) (hts _ q410) rfl (v := .int (iI (cap))) rfl dJ2_grow_2 ?_
  refine lv_iconst (v := iI (1)) hx hb dJ2_grow_5 rfl ?_
  refine ri_iadd hx hb dJ2_grow_6 ?_
  refine ri_top (b := (cap + 1 : Nat)) (by omega) ?_
  refine rc_O (W.runV (As := [.int (iI ((cap + 1 : Nat)))]) (rest := []) ⟨hx, hb, hml, hown, hts⟩ (al_grow2 l D cA a mc ea n0 cap f hc1 hc9) (cwV 1 hts (lw_V q480 q482 qs3 q45 q483) rfl rfl rfl (by decide +kernel) ⟨Nat.le_of_ble_eq_true rfl, Nat.le_of_ble_eq_true rfl⟩) (preV hK hL rfl ⟨⟨hL, hE, hne, hsc, hc2⟩, hn0, hEV⟩) rfl rfl hl.1 rfl (lv_room (Nat.le_of_ble_eq_true rfl)) dJ2_grow_7 ⟨Nat.le_of_ble_eq_true rfl, Nat.le_of_ble_eq_true rfl⟩) hS (fun _ _ h => h) (fun _ h => h) (fun z H locs hq hS hz hk => ?_)
  obtain ⟨hqn, hLz⟩ := hq
  exact W.aret hx hb hr (Or.inr ⟨_, rfl⟩) (Or.inr ⟨_, rfl⟩) (fun t ht hWm => ⟨⟨_, rfl, by rw [ht]; exact ⟨hqn, hLz⟩⟩, hS.F ht⟩) hS.2.2 dJ2_grow_10

set_option maxHeartbeats 4000000 in
set_option maxRecDepth 100000 in
theorem al_add2 (l : Launch) (D : va_G) (cA : Nat → ClassId) (a : Nat) (mc : Int) (ea n0 sz cap v ci : Nat) (f : Nat → Nat) (hc1 : 1 ≤ cap) (hc9 : cap ≤ 100) (hci : ci < 12) (hva : v ≠ a) : Met l yJ2_add_2 (ws_ yJ2_add_2 cJ2_add_2 4 none) ({ frames := 5, cells := 1, slots := 400, locals := 167 }) (Pk D cA [.ref a, .ref v, .ref ea, .int (iI (sz))] (fun H => LiS D cA a mc ea sz cap f H ∧ H.size = n0 ∧ EV D sz f H ∧ isO D ci v H ∧ v ≠ ea)) (Qn (fun H' => ∃ ea', LiS D cA a mc ea' (sz + 1) (nxC cap sz) (va_up f sz v) H' ∧ (ea' = ea ∨ n0 ≤ ea')) (fun q => q = a ∨ q = ea ∨ n0 ≤ q)) 1 400 (fun q => q = a ∨ q = ea ∨ n0 ≤ q) := by
  refine Met.ofW (cc := cJ2_add_2) (maxL := 4) (ret := none) (by decide) rfl ?_
  intro p e s m args below meth c s₁ B hml hv
  obtain ⟨rfl, hK, hW⟩ := hv
  have hx := B.exec
  have hb := B.bytes
  have hr := B.returns
  have hts := atoms_spec (ws := ws_ yJ2_add_2 cJ2_add_2 4 none) B.pre
  have hts : ∀ w ∈ lw_all, w.before _ s = true := fun w h => hts w (List.mem_cons_of_mem _ h)
  have hown : s.vm.findClass RJ2 = some m.cls := findClass_of_methodNamed B.named
  have hlocks := B.notSynchronized
  have hl := lv_entry ([.ref a, .ref v, .ref ea, .int (iI (sz))]) (n := 4) (Nat.le_of_ble_eq_true rfl)
  rw [lg_entry_eq]
  generalize (lg_sl ([.ref a, .ref v, .ref ea, .int (iI (sz))]) ++ List.replicate (4 - (lg_sl ([.ref a, .ref v, .ref ea, .int (iI (sz))])).length) Slot.unset).toArray = ls at hl ⊢
  have hl : lv_has ls 4 [(0, .ref a), (1, .ref v), (2, .ref ea), (3, .int (iI (sz)))] := hl
  have hS : va_S (fun q => q = a ∨ q = ea ∨ n0 ≤ q) s.heap s.heap [] := va_S.rf
  obtain ⟨⟨hL, hE, hne, hsc, hc2⟩, hn0, hEV, hv, hve⟩ := hW
  have hal := hL.lt
  refine lv_iload_n hx hb dJ2_add_2_0 rfl (lv_at hl 3 rfl) ?_
  refine lv_aload_n hx hb dJ2_add_2_1 rfl (lv_at hl 2 rfl) ?_
  refine h_alen hx hb hK 2 rfl hE dJ2_add_2_2 ?_
  refine ri_icmp_ne (tgt := 11) hx hb (by unfold inR; omega) (by unfold inR; omega) dJ2_add_2_3 (by decide) (fun h1 => ?_) (fun h1 => ?_)
  · skip
    refine lv_aload_n hx hb dJ2_add_2_11 rfl (lv_at hl 2 rfl) ?_
    refine lv_iload_n hx hb dJ2_add_2_12 rfl (lv_at hl 3 rfl) ?_
    refine lv_aload_n hx hb dJ2_add_2_13 rfl (lv_at hl 1 rfl) ?_
    refine h_astq hx hb hK hE hS (Or.inr (Or.inl rfl)) (anyOf hK hci hv) (sz) (by omega) (by omega) (by omega) dJ2_add_2_14 (fun H locs hE oq zq hS => ?_)
    have hL := hL.kept (oq _ (Ne.symm hne))
    rw [gl_up] at hE
    refine lv_aload_n hx hb dJ2_add_2_15 rfl (lv_at hl 0 rfl) ?_
    refine lv_iload_n hx hb dJ2_add_2_16 rfl (lv_at hl 3 rfl) ?_
    refine lv_iconst (v := iI (1)) hx hb dJ2_add_2_17 rfl ?_
    refine ri_iadd hx hb dJ2_add_2_18 ?_
    refine ri_top (b := (sz + 1 : Nat)) (by omega) ?_
    refine h_put hx hb hts in_J2 tyJ2 tyJ2_ok nmJ2 hown hK hL hS (Or.inl rfl) rfl 2 (by decide) (hts _ q410) rfl rfl (v := .int (iI ((sz + 1 : Nat)))) rfl rfl rfl (Nat.le_of_ble_eq_true rfl) dJ2_add_2_19 (fun H locs hL oq zq hS => ?_)
    have hL : va_at D CL (a, .inr (8, [.int (iI (mc)), .ref ea, .int (iI ((sz + 1 : Nat)))])) H := hL
    have hE := hE.kept (oq _ hne)
    refine W.widen (k := 1) (n := 400) (Nat.le_of_ble_eq_true rfl) (Nat.le_of_ble_eq_true rfl) ?_
    exact W.vret hx hb hr (fun t ht hWm => ⟨⟨rfl, by rw [ht]; exact ⟨ea, by unfold nxC; rw [if_neg (by omega)]; exact ⟨hL, hE, hne, by omega, by omega⟩, Or.inl rfl⟩⟩, hS.F ht⟩) hS.2.2 dJ2_add_2_22
  · skip
    have hsc9 : sz = cap := by omega
    subst hsc9
    refine lv_aload_n hx hb dJ2_add_2_6 rfl (lv_at hl 0 rfl) ?_
    refine rc_O (W.runV (As := []) (rest := []) ⟨hx, hb, hml, hown, hts⟩ (al_grow l D cA a mc ea n0 sz f hc1 hc9) (cwV 0 hts (lw_V q476 q478 qs2 q45 q479) rfl rfl rfl (by decide +kernel) ⟨Nat.le_of_ble_eq_true rfl, Nat.le_of_ble_eq_true rfl⟩) (preV hK hL rfl ⟨⟨hL, hE, hne, Nat.le_refl _, hc2⟩, hn0, hEV⟩) rfl rfl hl.1 rfl (lv_room (Nat.le_of_ble_eq_true rfl)) dJ2_add_2_7 ⟨Nat.le_of_ble_eq_true rfl, Nat.le_of_ble_eq_true rfl⟩) hS (fun _ _ h => h) (fun _ h => h) (fun z H locs hq hS hz hk => ?_)
    obtain ⟨hqn, hLz⟩ := hq
    obtain ⟨hL, hE, hne2, hsc2, hc3⟩ := hLz
    have hvl := hv.lt
    have hvz : v ≠ z := by omega
    have hv := hv.kept (hk _ hv.lt (by omega))
    refine lv_astore_n (lv' := [(2, .ref z), (0, .ref a), (1, .ref v), (3, .int (iI (sz)))]) hx hb dJ2_add_2_10 rfl hl (by decide) rfl (fun ls hl => ?_)
    refine lv_aload_n hx hb dJ2_add_2_11 rfl (lv_at hl 0 rfl) ?_
    refine lv_iload_n hx hb dJ2_add_2_12 rfl (lv_at hl 3 rfl) ?_
    refine lv_aload_n hx hb dJ2_add_2_13 rfl (lv_at hl 2 rfl) ?_
    refine h_astq hx hb hK hE hS (Or.inr (Or.inr hqn)) (anyOf hK hci hv) (sz) (by omega) (by omega) (by omega) dJ2_add_2_14 (fun H locs hE oq zq hS => ?_)
    have hL := hL.kept (oq _ (Ne.symm hne2))
    rw [gl_up] at hE
    refine lv_aload_n hx hb dJ2_add_2_15 rfl (lv_at hl 1 rfl) ?_
    refine lv_iload_n hx hb dJ2_add_2_16 rfl (lv_at hl 3 rfl) ?_
    refine lv_iconst (v := iI (1)) hx hb dJ2_add_2_17 rfl ?_
    refine ri_iadd hx hb dJ2_add_2_18 ?_
    refine ri_top (b := (sz + 1 : Nat)) (by omega) ?_
    refine h_put hx hb hts in_J2 tyJ2 tyJ2_ok nmJ2 hown hK hL hS (Or.inl rfl) rfl 2 (by decide) (hts _ q410) rfl rfl (v := .int (iI ((sz + 1 : Nat)))) rfl rfl rfl (Nat.le_of_ble_eq_true rfl) dJ2_add_2_19 (fun H locs hL oq zq hS => ?_)
    have hL : va_at D CL (a, .inr (8, [.int (iI (mc)), .ref z, .int (iI ((sz + 1 : Nat)))])) H := hL
    have hE := hE.kept (oq _ hne2)
    exact W.vret hx hb hr (fun t ht hWm => ⟨⟨rfl, by rw [ht]; exact ⟨z, by unfold nxC; rw [if_pos rfl]; exact ⟨hL, hE, hne2, by omega, by omega⟩, Or.inr hqn⟩⟩, hS.F ht⟩) hS.2.2 dJ2_add_2_22
