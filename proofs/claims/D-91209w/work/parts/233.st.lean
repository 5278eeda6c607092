set_option maxRecDepth 100000
theorem st_arr {s : State} {args : Array Value} {ty : FieldType} (h : (Cond.arrayClass ty).before args s = true) : ∃ c : ClassId, ArrOfT s c ty ∧ s.vm.findClass ("[" ++ ty.toString) = some c := by
  obtain ⟨c, k, comp, h1, h2, h3⟩ := Cond.arrayClass_spec h
  exact ⟨c, fun n z => ⟨fun q h => (by cases h), k, h2, comp, h3⟩, h1⟩
theorem st_arrO {s : State} {args : Array Value} {C : String} (h : (Cond.arrayOver (.object C)).before args s = true) : ∃ c : ClassId, ArrOfT s c (.object C) ∧ va_RA s c (.object C) := by
  obtain ⟨comp, c, k, h1, h2, h3, h4, h5⟩ := Cond.arrayOver_spec h
  exact ⟨c, fun n z => ⟨fun q h => (by cases h), k, h3, comp, h4⟩, k, comp, h3, h4, h1, h5⟩
set_option maxHeartbeats 4000000 in
theorem st_K {s : State} {args : Array Value} (hts : ∀ w ∈ lw_tbl, w.before args s = true) (hg : (Jvm.Cond.and given_1 narrow_1).before args s = true) : ∃ (D : va_G) (cA : Nat → ClassId), Kx D cA s := by
  obtain ⟨c0, i0, k0⟩ := u_known (C := RX2) (T := TX2) (N := 38) (n := 38) hts (fun w h => lw_all_tbl (in_X2 w h)) (hts _ (lw_all_tbl q969))
  obtain ⟨c1, i1, k1⟩ := u_known (C := RX1) (T := TX1) (N := 7) (n := 7) hts (fun w h => lw_all_tbl (in_X1 w h)) (hts _ (lw_all_tbl q75))
  obtain ⟨c2, i2, k2⟩ := u_known (C := RX3) (T := TX3) (N := 2) (n := 2) hts (fun w h => lw_all_tbl (in_X3 w h)) (hts _ (lw_all_tbl q453))
  obtain ⟨c3, i3, k3⟩ := u_known (C := RX4) (T := TX4) (N := 6) (n := 6) hts (fun w h => lw_all_tbl (in_X4 w h)) (hts _ (lw_all_tbl q520))
  obtain ⟨c4, i4, k4⟩ := u_known (C := RX5) (T := TX5) (N := 2) (n := 2) hts (fun w h => lw_all_tbl (in_X5 w h)) (hts _ (lw_all_tbl q812))
  obtain ⟨c5, i5, k5⟩ := u_known (C := RX6) (T := TX6) (N := 6) (n := 6) hts (fun w h => lw_all_tbl (in_X6 w h)) (hts _ (lw_all_tbl q564))
  obtain ⟨c6, i6, k6⟩ := u_known (C := RX7) (T := TX7) (N := 9) (n := 9) hts (fun w h => lw_all_tbl (in_X7 w h)) (hts _ (lw_all_tbl q584))
  obtain ⟨c7, i7, k7⟩ := u_known (C := RX8) (T := TX8) (N := 3) (n := 3) hts (fun w h => lw_all_tbl (in_X8 w h)) (hts _ (lw_all_tbl q715))
  obtain ⟨c8, i8, k8⟩ := u_known (C := RJ2) (T := TJ2) (N := 3) (n := 3) hts (fun w h => lw_all_tbl (in_J2 w h)) (hts _ (lw_all_tbl q83))
  obtain ⟨c9, i9, k9⟩ := u_known (C := RJ17) (T := TJ17) (N := 1) (n := 1) hts (fun w h => lw_all_tbl (in_J17 w h)) (hts _ (lw_all_tbl q755))
  obtain ⟨c10, i10, k10⟩ := u_known (C := RJ18) (T := TJ18) (N := 6) (n := 6) hts (fun w h => lw_all_tbl (in_J18 w h)) (hts _ (lw_all_tbl q783))
  obtain ⟨c11, i11, k11⟩ := u_known (C := RJ6) (T := TJ6) (N := 6) (n := 6) hts (fun w h => lw_all_tbl (in_J6 w h)) (hts _ (lw_all_tbl q99))
  obtain ⟨a0, x0, y0⟩ := st_arr (ty := .int) (hts (.arrayClass .int) (by decide +kernel))
  obtain ⟨a1, x1, y1⟩ := st_arr (ty := .boolean) (hts (.arrayClass .boolean) (by decide +kernel))
  obtain ⟨a2, x2, y2⟩ := st_arrO (C := "java/lang/Object") (hts (.arrayOver (.object "java/lang/Object")) (by decide +kernel))
  obtain ⟨a3, x3, y3⟩ := st_arr (ty := .long) (hts (.arrayClass .long) (by decide +kernel))
  refine ⟨(fun k => if k = 0 then c0 else if k = 1 then c1 else if k = 2 then c2 else if k = 3 then c3 else if k = 4 then c4 else if k = 5 then c5 else if k = 6 then c6 else if k = 7 then c7 else if k = 8 then c8 else if k = 9 then c9 else if k = 10 then c10 else c11, fun k => if k = 0 then i0 else if k = 1 then i1 else if k = 2 then i2 else if k = 3 then i3 else if k = 4 then i4 else if k = 5 then i5 else if k = 6 then i6 else if k = 7 then i7 else if k = 8 then i8 else if k = 9 then i9 else if k = 10 then i10 else i11), fun k => if k = 0 then a0 else if k = 1 then a1 else if k = 2 then a2 else a3, ⟨?_, ?_⟩, va_AO.of (hts (.arrayOver (.object "java/lang/Object")) (by decide +kernel)), va_Mi.of (flat_of_before _ hg (Cond.isRef (.mirror "[Ljava/lang/Object;")) (by decide +kernel)), ?_⟩
  · intro k q hq
    match k, hq with
    | 0, hq => cases hq; exact k0
    | 1, hq => cases hq; exact k1
    | 2, hq => cases hq; exact k2
    | 3, hq => cases hq; exact k3
    | 4, hq => cases hq; exact k4
    | 5, hq => cases hq; exact k5
    | 6, hq => cases hq; exact k6
    | 7, hq => cases hq; exact k7
    | 8, hq => cases hq; exact k8
    | 9, hq => cases hq; exact k9
    | 10, hq => cases hq; exact k10
    | 11, hq => cases hq; exact k11
    | k + 12, hq => simp [CL] at hq
  · intro k q hq
    match k, hq with
    | 0, hq => cases hq; exact ⟨x0, y0⟩
    | 1, hq => cases hq; exact ⟨x1, y1⟩
    | 2, hq => cases hq; exact ⟨x2, y2⟩
    | 3, hq => cases hq; exact ⟨x3, y3⟩
    | k + 4, hq => simp [KT] at hq
  · intro w hw hn
    rcases hn with ⟨a, i, b, n, d, h, rfl⟩ | ⟨C, T, rfl⟩ | ⟨x, rfl⟩
    · exact va_Nw.of rfl (hts _ hw)
    · exact va_Nw.of rfl (hts _ hw)
    · exact va_Nw.of rfl (hts _ hw)
theorem nw_lt {s : State} (a : Nat) (h : a < s.heap.size) : ¬ nw s a := fun q => by unfold nw at q; omega
theorem st_T {s : State} {args : Array Value} (hts : ∀ w ∈ lw_tbl, w.before args s = true) (hg : (Jvm.Cond.and given_1 narrow_1).before args s = true) : TX (nw s) s :=
  ⟨TZ.of (hts (.laysStatic "java/lang/Throwable" "UNASSIGNED_STACK" "[Ljava/lang/StackTraceElement;") (by decide +kernel)) (flat_of_before _ hg (.isRef (.static "java/lang/Throwable" "UNASSIGNED_STACK" "[Ljava/lang/StackTraceElement;")) (by decide +kernel)) nw_lt,
   TZ.of (hts (.laysStatic "java/lang/Throwable" "SUPPRESSED_SENTINEL" "Ljava/util/List;") (by decide +kernel)) (flat_of_before _ hg (.isRef (.static "java/lang/Throwable" "SUPPRESSED_SENTINEL" "Ljava/util/List;")) (by decide +kernel)) nw_lt⟩
theorem st_N {s : State} {args : Array Value} (hg : (Jvm.Cond.and given_1 narrow_1).before args s = true) : va_Nc RJ6 RJ18 s := va_Nc.of (flat_of_before _ hg (.not (.castable "java/lang/IllegalArgumentException" "java/util/NoSuchElementException")) (by decide +kernel))
set_option maxHeartbeats 4000000 in
theorem st_S {s : State} {args : Array Value} (hts : ∀ w ∈ lw_tbl, w.before args s = true) (hg : (Jvm.Cond.and given_1 narrow_1).before args s = true) : ∃ sa : Nat → Nat, SX (nw s) sa s := by
  have hs := flat_of_before _ hg
  have hi : (Cond.initialized "java/lang/Integer$IntegerCache").before args s = true := hts _ (by decide +kernel)
  have hj : (Cond.initialized "LunchMarks$State").before args s = true := hts _ (by decide +kernel)
  have e1 : (Term.static "java/lang/Integer$IntegerCache" "high" "I").eval args s none [] s = some (.int (iI 127)) := by
    rw [show iI 127 = (127 : Int32) from by decide]
    exact va_eqt (hs (.eq (.static "java/lang/Integer$IntegerCache" "high" "I") (.int 127)) (by decide +kernel))
  have e2 := va_eqt (hs (.eq (.length (.static "java/lang/Integer$IntegerCache" "cache" "[Ljava/lang/Integer;")) (.int 256)) (by decide +kernel))
  obtain ⟨ad, hC, hel⟩ := vb_Cof (A := nw s) (st := .static "java/lang/Integer$IntegerCache" "cache" "[Ljava/lang/Integer;") rfl e2 (hs _ (by decide +kernel)) nw_lt
  obtain ⟨t, ht, hT⟩ := va_Tof (A := nw s) (tm := .static "java/lang/Integer$IntegerCache" "cache" "[Ljava/lang/Integer;") (ty := .object "java/lang/Integer") (N := 256) (f := fun k => .ref (ad k)) (by decide) (hs _ (by decide +kernel)) e2 hel nw_lt
  obtain ⟨n0, u0, v0, w0, z0, -⟩ := Cond.exactly_spec (hs (.exactly (.static "LunchMarks$State" "NEW" "LLunchMarks$State;") "LunchMarks$State") (by decide +kernel))
  obtain ⟨n1, u1, v1, w1, z1, -⟩ := Cond.exactly_spec (hs (.exactly (.static "LunchMarks$State" "LED" "LLunchMarks$State;") "LunchMarks$State") (by decide +kernel))
  obtain ⟨n2, u2, v2, w2, z2, -⟩ := Cond.exactly_spec (hs (.exactly (.static "LunchMarks$State" "STANDS" "LLunchMarks$State;") "LunchMarks$State") (by decide +kernel))
  have d01 := va_neR (hs (.not (.eq (.static "LunchMarks$State" "NEW" "LLunchMarks$State;") (.static "LunchMarks$State" "LED" "LLunchMarks$State;"))) (by decide +kernel)) z0 z1
  have d02 := va_neR (hs (.not (.eq (.static "LunchMarks$State" "NEW" "LLunchMarks$State;") (.static "LunchMarks$State" "STANDS" "LLunchMarks$State;"))) (by decide +kernel)) z0 z2
  have d12 := va_neR (hs (.not (.eq (.static "LunchMarks$State" "LED" "LLunchMarks$State;") (.static "LunchMarks$State" "STANDS" "LLunchMarks$State;"))) (by decide +kernel)) z1 z2
  refine ⟨fun k => if k = 0 then n0 else if k = 1 then n1 else if k = 2 then n2 else if k = 3 then t else ad (k - 10), ?_, ?_, ?_, ?_, ?_, ?_, ?_, d01, d02, d12⟩
  · exact va_Zof (hts _ (by decide +kernel)) hi e1 nw_lt
  · exact va_Zof (hts _ (by decide +kernel)) hi ht nw_lt
  · have hf : (fun k : Nat => Value.ref ((fun k : Nat => if k = 0 then n0 else if k = 1 then n1 else if k = 2 then n2 else if k = 3 then t else ad (k - 10)) (10 + k))) = fun k => Value.ref (ad k) := by
      funext k
      show Value.ref (if 10 + k = 0 then n0 else if 10 + k = 1 then n1 else if 10 + k = 2 then n2 else if 10 + k = 3 then t else ad (10 + k - 10)) = _
      rw [if_neg (by omega), if_neg (by omega), if_neg (by omega), if_neg (by omega), Nat.add_sub_cancel_left]
    rw [hf]
    exact hT
  · have hf : (fun k : Nat => (fun k : Nat => if k = 0 then n0 else if k = 1 then n1 else if k = 2 then n2 else if k = 3 then t else ad (k - 10)) (10 + k)) = ad := by
      funext k
      show (if 10 + k = 0 then n0 else if 10 + k = 1 then n1 else if 10 + k = 2 then n2 else if 10 + k = 3 then t else ad (10 + k - 10)) = _
      rw [if_neg (by omega), if_neg (by omega), if_neg (by omega), if_neg (by omega), Nat.add_sub_cancel_left]
    rw [hf]
    exact hC
  · exact va_Zof (hts _ (by decide +kernel)) hj z0 nw_lt
  · exact va_Zof (hts _ (by decide +kernel)) hj z1 nw_lt
  · exact va_Zof (hts _ (by decide +kernel)) hj z2 nw_lt
