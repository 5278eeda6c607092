set_option maxRecDepth 100000
theorem q826 : (Jvm.Cond.superclass "LunchMarks$Stop" "java/lang/Object") ∈ lw_all := lw_g (lw_at lw_m4 65 rfl) rfl
theorem q1286 : (Jvm.Cond.castable "LunchMarks$Stop" "java/lang/Object") ∈ lw_tbl := lw_at lw_m6 45 rfl
theorem in_X5 : ∀ w ∈ wsX50, w ∈ lw_all := lw_in wsX50 [822, 824] (by decide +kernel) (by decide +kernel)
/-! X6.LunchMarks_Box -/
def RX6 : String := "LunchMarks$Box"
def TX6 : u_T := fun k => match k with
  | 0 => ("LunchMarks$Box", "there", "LLunchMarks$Trip;", true)
  | 1 => ("LunchMarks$Box", "home", "LLunchMarks$Station;", true)
  | 2 => ("LunchMarks$Box", "desk", "LLunchMarks$Station;", true)
  | 3 => ("LunchMarks$Box", "walk", "I", true)
  | 4 => ("LunchMarks$Box", "walkThere", "I", true)
  | _ => ("LunchMarks$Box", "back", "LLunchMarks$Trip;", false)
def tyX6 : Nat → FieldType := fun k => match k with
  | 0 => .object "LunchMarks$Trip"
  | 1 => .object "LunchMarks$Station"
  | 2 => .object "LunchMarks$Station"
  | 3 => .int
  | 4 => .int
  | _ => .object "LunchMarks$Trip"
abbrev wsX60 : List Cond := u_ws RX6 TX6 6
theorem nmX6 : ∀ a, a < 6 → ∀ b, b < 6 → a ≠ b → (TX6 a).2.1 ≠ (TX6 b).2.1 := by decide +kernel
theorem tyX6_ok : ∀ k, k < 6 → parseFieldDescriptor (TX6 k).2.2.1 = some (tyX6 k) := by decide +kernel
abbrev cX6_init : ByteArray := prog_2_method_1_code
def yX6_init : MethodName := ⟨RX6, "<init>", "(LLunchMarks$Station;IILLunchMarks$Station;II)V"⟩
theorem dX6_init_0 : decode cX6_init 0 = .ok (.aload_n 0, 1) := by decide +kernel
theorem dX6_init_1 : decode cX6_init 1 = .ok (.invokespecial 1, 3) := by decide +kernel
theorem dX6_init_4 : decode cX6_init 4 = .ok (.aload_n 0, 1) := by decide +kernel
theorem dX6_init_5 : decode cX6_init 5 = .ok (.aload_n 1, 1) := by decide +kernel
theorem dX6_init_6 : decode cX6_init 6 = .ok (.putfield 7, 3) := by decide +kernel
theorem dX6_init_9 : decode cX6_init 9 = .ok (.aload_n 0, 1) := by decide +kernel
theorem dX6_init_10 : decode cX6_init 10 = .ok (.iload_n 2, 1) := by decide +kernel
theorem dX6_init_11 : decode cX6_init 11 = .ok (.putfield 13, 3) := by decide +kernel
theorem dX6_init_14 : decode cX6_init 14 = .ok (.aload_n 0, 1) := by decide +kernel
theorem dX6_init_15 : decode cX6_init 15 = .ok (.aload 4, 2) := by decide +kernel
theorem dX6_init_17 : decode cX6_init 17 = .ok (.putfield 17, 3) := by decide +kernel
theorem dX6_init_20 : decode cX6_init 20 = .ok (.aload_n 0, 1) := by decide +kernel
theorem dX6_init_21 : decode cX6_init 21 = .ok (.iload 5, 2) := by decide +kernel
theorem dX6_init_23 : decode cX6_init 23 = .ok (.putfield 20, 3) := by decide +kernel
theorem dX6_init_26 : decode cX6_init 26 = .ok (.aload_n 0, 1) := by decide +kernel
theorem dX6_init_27 : decode cX6_init 27 = .ok (.new 23, 3) := by decide +kernel
theorem dX6_init_30 : decode cX6_init 30 = .ok (.dup, 1) := by decide +kernel
theorem dX6_init_31 : decode cX6_init 31 = .ok (.aload_n 1, 1) := by decide +kernel
theorem dX6_init_32 : decode cX6_init 32 = .ok (.iload_n 2, 1) := by decide +kernel
theorem dX6_init_33 : decode cX6_init 33 = .ok (.iload_n 3, 1) := by decide +kernel
theorem dX6_init_34 : decode cX6_init 34 = .ok (.aload 4, 2) := by decide +kernel
theorem dX6_init_36 : decode cX6_init 36 = .ok (.iload 5, 2) := by decide +kernel
theorem dX6_init_38 : decode cX6_init 38 = .ok (.iload 6, 2) := by decide +kernel
theorem dX6_init_40 : decode cX6_init 40 = .ok (.invokespecial 25, 3) := by decide +kernel
theorem dX6_init_43 : decode cX6_init 43 = .ok (.putfield 28, 3) := by decide +kernel
theorem dX6_init_46 : decode cX6_init 46 = .ok (.return_, 1) := by decide +kernel
abbrev cX6_trip : ByteArray := prog_2_method_2_code
def yX6_trip : MethodName := ⟨RX6, "trip", "()LLunchMarks$Trip;"⟩
theorem dX6_trip_0 : decode cX6_trip 0 = .ok (.aload_n 0, 1) := by decide +kernel
theorem dX6_trip_1 : decode cX6_trip 1 = .ok (.getfield 32, 3) := by decide +kernel
theorem dX6_trip_4 : decode cX6_trip 4 = .ok (.ifnonnull 10, 3) := by decide +kernel
theorem dX6_trip_7 : decode cX6_trip 7 = .ok (.aload_n 0, 1) := by decide +kernel
theorem dX6_trip_8 : decode cX6_trip 8 = .ok (.getfield 28, 3) := by decide +kernel
theorem dX6_trip_11 : decode cX6_trip 11 = .ok (.goto 7, 3) := by decide +kernel
theorem dX6_trip_14 : decode cX6_trip 14 = .ok (.aload_n 0, 1) := by decide +kernel
theorem dX6_trip_15 : decode cX6_trip 15 = .ok (.getfield 32, 3) := by decide +kernel
theorem dX6_trip_18 : decode cX6_trip 18 = .ok (.areturn, 1) := by decide +kernel
theorem q68 : (Jvm.Cond.initialized "LunchMarks$Box") ∈ lw_all := lw_g (lw_at lw_m1 27 rfl) rfl
theorem q494 : (Jvm.Cond.selects "LunchMarks$Box" ({ cls := "java/lang/Object", name := "getClass", desc := "()Ljava/lang/Class;" } : Jvm.MethodName) ({ cls := "java/lang/Object", name := "getClass", desc := "()Ljava/lang/Class;" } : Jvm.MethodName)) ∈ lw_all := lw_g (lw_at lw_m2 213 rfl) rfl
theorem q564 : (Jvm.Cond.instantiable "LunchMarks$Box" (6 : Nat)) ∈ lw_all := lw_g (lw_at lw_m3 43 rfl) rfl
theorem q580 : (Jvm.Cond.instanceMethod ({ cls := "LunchMarks$Box", name := "<init>", desc := "(LLunchMarks$Station;IILLunchMarks$Station;II)V" } : Jvm.MethodName)) ∈ lw_all := lw_g (lw_at lw_m3 59 rfl) rfl
theorem q581 : (Jvm.Cond.code ({ cls := "LunchMarks$Box", name := "<init>", desc := "(LLunchMarks$Station;IILLunchMarks$Station;II)V" } : Jvm.MethodName) prog_2_method_1_code (7 : Nat) (Option.none : Option Jvm.ClassFile.FieldType)) ∈ lw_all := lw_g (lw_at lw_m3 60 rfl) rfl
theorem q582 : (Jvm.Cond.methodLink "LunchMarks$Box" (1 : Nat) ({ cls := "java/lang/Object", name := "<init>", desc := "()V" } : Jvm.MethodName)) ∈ lw_all := lw_g (lw_at lw_m3 61 rfl) rfl
theorem q583 : (Jvm.Cond.classLink "LunchMarks$Box" (23 : Nat) "LunchMarks$Trip") ∈ lw_all := lw_g (lw_at lw_m3 62 rfl) rfl
theorem q585 : (Jvm.Cond.methodLink "LunchMarks$Box" (25 : Nat) ({ cls := "LunchMarks$Trip", name := "<init>", desc := "(LLunchMarks$Station;IILLunchMarks$Station;II)V" } : Jvm.MethodName)) ∈ lw_all := lw_g (lw_at lw_m3 64 rfl) rfl
theorem q625 : (Jvm.Cond.fieldLink "LunchMarks$Box" (28 : Nat) "LunchMarks$Box" "there" "LLunchMarks$Trip;") ∈ lw_all := lw_g (lw_at lw_m3 104 rfl) rfl
theorem q627 : (Jvm.Cond.fieldLink "LunchMarks$Box" (7 : Nat) "LunchMarks$Box" "home" "LLunchMarks$Station;") ∈ lw_all := lw_g (lw_at lw_m3 106 rfl) rfl
theorem q629 : (Jvm.Cond.fieldLink "LunchMarks$Box" (17 : Nat) "LunchMarks$Box" "desk" "LLunchMarks$Station;") ∈ lw_all := lw_g (lw_at lw_m3 108 rfl) rfl
theorem q631 : (Jvm.Cond.fieldLink "LunchMarks$Box" (13 : Nat) "LunchMarks$Box" "walk" "I") ∈ lw_all := lw_g (lw_at lw_m3 110 rfl) rfl
theorem q633 : (Jvm.Cond.fieldLink "LunchMarks$Box" (20 : Nat) "LunchMarks$Box" "walkThere" "I") ∈ lw_all := lw_g (lw_at lw_m3 112 rfl) rfl
theorem q635 : (Jvm.Cond.fieldLink "LunchMarks$Box" (32 : Nat) "LunchMarks$Box" "back" "LLunchMarks$Trip;") ∈ lw_all := lw_g (lw_at lw_m3 114 rfl) rfl
theorem q637 : (Jvm.Cond.laysFinal "LunchMarks$Box" "LunchMarks$Box" "there" "LLunchMarks$Trip;") ∈ lw_all := lw_g (lw_at lw_m3 116 rfl) rfl
theorem q638 : (Jvm.Cond.soleField "LunchMarks$Box" "there") ∈ lw_all := lw_g (lw_at lw_m3 117 rfl) rfl
theorem q639 : (Jvm.Cond.laysFinal "LunchMarks$Box" "LunchMarks$Box" "home" "LLunchMarks$Station;") ∈ lw_all := lw_g (lw_at lw_m3 118 rfl) rfl
theorem q640 : (Jvm.Cond.soleField "LunchMarks$Box" "home") ∈ lw_all := lw_g (lw_at lw_m3 119 rfl) rfl
theorem q641 : (Jvm.Cond.laysFinal "LunchMarks$Box" "LunchMarks$Box" "desk" "LLunchMarks$Station;") ∈ lw_all := lw_g (lw_at lw_m3 120 rfl) rfl
theorem q642 : (Jvm.Cond.soleField "LunchMarks$Box" "desk") ∈ lw_all := lw_g (lw_at lw_m3 121 rfl) rfl
theorem q643 : (Jvm.Cond.laysFinal "LunchMarks$Box" "LunchMarks$Box" "walk" "I") ∈ lw_all := lw_g (lw_at lw_m3 122 rfl) rfl
theorem q644 : (Jvm.Cond.soleField "LunchMarks$Box" "walk") ∈ lw_all := lw_g (lw_at lw_m3 123 rfl) rfl
theorem q645 : (Jvm.Cond.laysFinal "LunchMarks$Box" "LunchMarks$Box" "walkThere" "I") ∈ lw_all := lw_g (lw_at lw_m3 124 rfl) rfl
theorem q646 : (Jvm.Cond.soleField "LunchMarks$Box" "walkThere") ∈ lw_all := lw_g (lw_at lw_m3 125 rfl) rfl
theorem q647 : (Jvm.Cond.lays "LunchMarks$Box" "LunchMarks$Box" "back" "LLunchMarks$Trip;") ∈ lw_all := lw_g (lw_at lw_m3 126 rfl) rfl
theorem q648 : (Jvm.Cond.soleField "LunchMarks$Box" "back") ∈ lw_all := lw_g (lw_at lw_m3 127 rfl) rfl
theorem q649 : (Jvm.Cond.superclass "LunchMarks$Box" "java/lang/Object") ∈ lw_all := lw_g (lw_at lw_m3 128 rfl) rfl
theorem q655 : (Jvm.Cond.instanceMethod ({ cls := "LunchMarks$Box", name := "trip", desc := "()LLunchMarks$Trip;" } : Jvm.MethodName)) ∈ lw_all := lw_g (lw_at lw_m3 134 rfl) rfl
theorem q656 : (Jvm.Cond.selects "LunchMarks$Box" ({ cls := "LunchMarks$Box", name := "trip", desc := "()LLunchMarks$Trip;" } : Jvm.MethodName) ({ cls := "LunchMarks$Box", name := "trip", desc := "()LLunchMarks$Trip;" } : Jvm.MethodName)) ∈ lw_all := lw_g (lw_at lw_m3 135 rfl) rfl
theorem q657 : (Jvm.Cond.code ({ cls := "LunchMarks$Box", name := "trip", desc := "()LLunchMarks$Trip;" } : Jvm.MethodName) prog_2_method_2_code (1 : Nat) (Option.some (Jvm.ClassFile.FieldType.object "LunchMarks$Trip"))) ∈ lw_all := lw_g (lw_at lw_m3 136 rfl) rfl
theorem q1287 : (Jvm.Cond.castable "LunchMarks$Box" "java/lang/Object") ∈ lw_tbl := lw_at lw_m6 46 rfl
theorem in_X6 : ∀ w ∈ wsX60, w ∈ lw_all := lw_in wsX60 [637, 639, 641, 643, 645, 647] (by decide +kernel) (by decide +kernel)
/-! X7.LunchMarks_Trip -/
def RX7 : String := "LunchMarks$Trip"
def TX7 : u_T := fun k => match k with
  | 0 => ("LunchMarks$Trip", "from", "LLunchMarks$Station;", true)
  | 1 => ("LunchMarks$Trip", "to", "LLunchMarks$Station;", true)
  | 2 => ("LunchMarks$Trip", "ready", "I", true)
  | 3 => ("LunchMarks$Trip", "begins", "I", true)
  | 4 => ("LunchMarks$Trip", "walk", "I", true)
  | 5 => ("LunchMarks$Trip", "due", "I", true)
  | 6 => ("LunchMarks$Trip", "legs", "Ljava/util/ArrayList;", true)
  | 7 => ("LunchMarks$Trip", "state", "LLunchMarks$State;", false)
  | _ => ("LunchMarks$Trip", "since", "I", false)
def tyX7 : Nat → FieldType := fun k => match k with
  | 0 => .object "LunchMarks$Station"
  | 1 => .object "LunchMarks$Station"
  | 2 => .int
  | 3 => .int
  | 4 => .int
  | 5 => .int
  | 6 => .object "java/util/ArrayList"
  | 7 => .object "LunchMarks$State"
  | _ => .int
abbrev wsX70 : List Cond := u_ws RX7 TX7 9
theorem nmX7 : ∀ a, a < 9 → ∀ b, b < 9 → a ≠ b → (TX7 a).2.1 ≠ (TX7 b).2.1 := by decide +kernel
theorem tyX7_ok : ∀ k, k < 9 → parseFieldDescriptor (TX7 k).2.2.1 = some (tyX7 k) := by decide +kernel
abbrev cX7_init : ByteArray := prog_8_method_1_code
def yX7_init : MethodName := ⟨RX7, "<init>", "(LLunchMarks$Station;IILLunchMarks$Station;II)V"⟩
theorem dX7_init_0 : decode cX7_init 0 = .ok (.aload_n 0, 1) := by decide +kernel
theorem dX7_init_1 : decode cX7_init 1 = .ok (.invokespecial 3, 3) := by decide +kernel
theorem dX7_init_4 : decode cX7_init 4 = .ok (.aload_n 0, 1) := by decide +kernel
theorem dX7_init_5 : decode cX7_init 5 = .ok (.new 9, 3) := by decide +kernel
theorem dX7_init_8 : decode cX7_init 8 = .ok (.dup, 1) := by decide +kernel
theorem dX7_init_9 : decode cX7_init 9 = .ok (.iconst 1, 1) := by decide +kernel
theorem dX7_init_10 : decode cX7_init 10 = .ok (.invokespecial 11, 3) := by decide +kernel
theorem dX7_init_13 : decode cX7_init 13 = .ok (.putfield 14, 3) := by decide +kernel
theorem dX7_init_16 : decode cX7_init 16 = .ok (.aload_n 0, 1) := by decide +kernel
theorem dX7_init_17 : decode cX7_init 17 = .ok (.getstatic 20, 3) := by decide +kernel
theorem dX7_init_20 : decode cX7_init 20 = .ok (.putfield 26, 3) := by decide +kernel
theorem dX7_init_23 : decode cX7_init 23 = .ok (.aload_n 0, 1) := by decide +kernel
theorem dX7_init_24 : decode cX7_init 24 = .ok (.aload_n 1, 1) := by decide +kernel
theorem dX7_init_25 : decode cX7_init 25 = .ok (.putfield 29, 3) := by decide +kernel
theorem dX7_init_28 : decode cX7_init 28 = .ok (.aload_n 0, 1) := by decide +kernel
theorem dX7_init_29 : decode cX7_init 29 = .ok (.iload_n 3, 1) := by decide +kernel
theorem dX7_init_30 : decode cX7_init 30 = .ok (.putfield 33, 3) := by decide +kernel
theorem dX7_init_33 : decode cX7_init 33 = .ok (.aload_n 0, 1) := by decide +kernel
theorem dX7_init_34 : decode cX7_init 34 = .ok (.iload_n 3, 1) := by decide +kernel
theorem dX7_init_35 : decode cX7_init 35 = .ok (.iload_n 2, 1) := by decide +kernel
theorem dX7_init_36 : decode cX7_init 36 = .ok (.iadd, 1) := by decide +kernel
theorem dX7_init_37 : decode cX7_init 37 = .ok (.aload_n 1, 1) := by decide +kernel
theorem dX7_init_38 : decode cX7_init 38 = .ok (.getfield 37, 3) := by decide +kernel
theorem dX7_init_41 : decode cX7_init 41 = .ok (.iadd, 1) := by decide +kernel
theorem dX7_init_42 : decode cX7_init 42 = .ok (.putfield 42, 3) := by decide +kernel
theorem dX7_init_45 : decode cX7_init 45 = .ok (.aload_n 0, 1) := by decide +kernel
theorem dX7_init_46 : decode cX7_init 46 = .ok (.aload 4, 2) := by decide +kernel
theorem dX7_init_48 : decode cX7_init 48 = .ok (.putfield 45, 3) := by decide +kernel
theorem dX7_init_51 : decode cX7_init 51 = .ok (.aload_n 0, 1) := by decide +kernel
theorem dX7_init_52 : decode cX7_init 52 = .ok (.iload 5, 2) := by decide +kernel
theorem dX7_init_54 : decode cX7_init 54 = .ok (.putfield 48, 3) := by decide +kernel
theorem dX7_init_57 : decode cX7_init 57 = .ok (.aload_n 0, 1) := by decide +kernel
theorem dX7_init_58 : decode cX7_init 58 = .ok (.iload 6, 2) := by decide +kernel
theorem dX7_init_60 : decode cX7_init 60 = .ok (.putfield 51, 3) := by decide +kernel
theorem dX7_init_63 : decode cX7_init 63 = .ok (.return_, 1) := by decide +kernel
abbrev cX7_end : ByteArray := prog_8_method_2_code
def yX7_end : MethodName := ⟨RX7, "end", "()LLunchMarks$Station;"⟩
theorem dX7_end_0 : decode cX7_end 0 = .ok (.aload_n 0, 1) := by decide +kernel
theorem dX7_end_1 : decode cX7_end 1 = .ok (.getfield 14, 3) := by decide +kernel
theorem dX7_end_4 : decode cX7_end 4 = .ok (.invokevirtual 54, 3) := by decide +kernel
theorem dX7_end_7 : decode cX7_end 7 = .ok (.ifCond .eq 10, 3) := by decide +kernel
theorem dX7_end_10 : decode cX7_end 10 = .ok (.aload_n 0, 1) := by decide +kernel
theorem dX7_end_11 : decode cX7_end 11 = .ok (.getfield 29, 3) := by decide +kernel
theorem dX7_end_14 : decode cX7_end 14 = .ok (.goto 28, 3) := by decide +kernel
theorem dX7_end_17 : decode cX7_end 17 = .ok (.aload_n 0, 1) := by decide +kernel
theorem dX7_end_18 : decode cX7_end 18 = .ok (.getfield 14, 3) := by decide +kernel
theorem dX7_end_21 : decode cX7_end 21 = .ok (.aload_n 0, 1) := by decide +kernel
theorem dX7_end_22 : decode cX7_end 22 = .ok (.getfield 14, 3) := by decide +kernel
theorem dX7_end_25 : decode cX7_end 25 = .ok (.invokevirtual 58, 3) := by decide +kernel
theorem dX7_end_28 : decode cX7_end 28 = .ok (.iconst 1, 1) := by decide +kernel
theorem dX7_end_29 : decode cX7_end 29 = .ok (.isub, 1) := by decide +kernel
theorem dX7_end_30 : decode cX7_end 30 = .ok (.invokevirtual 62, 3) := by decide +kernel
theorem dX7_end_33 : decode cX7_end 33 = .ok (.checkcast 66, 3) := by decide +kernel
theorem dX7_end_36 : decode cX7_end 36 = .ok (.invokevirtual 68, 3) := by decide +kernel
theorem dX7_end_39 : decode cX7_end 39 = .ok (.getfield 71, 3) := by decide +kernel
theorem dX7_end_42 : decode cX7_end 42 = .ok (.areturn, 1) := by decide +kernel
abbrev cX7_sorted : ByteArray := prog_8_method_3_code
def yX7_sorted : MethodName := ⟨RX7, "sorted", "()I"⟩
theorem dX7_sorted_0 : decode cX7_sorted 0 = .ok (.aload_n 0, 1) := by decide +kernel
theorem dX7_sorted_1 : decode cX7_sorted 1 = .ok (.getfield 14, 3) := by decide +kernel
theorem dX7_sorted_4 : decode cX7_sorted 4 = .ok (.invokevirtual 54, 3) := by decide +kernel
theorem dX7_sorted_7 : decode cX7_sorted 7 = .ok (.ifCond .eq 10, 3) := by decide +kernel
theorem dX7_sorted_10 : decode cX7_sorted 10 = .ok (.aload_n 0, 1) := by decide +kernel
theorem dX7_sorted_11 : decode cX7_sorted 11 = .ok (.getfield 42, 3) := by decide +kernel
theorem dX7_sorted_14 : decode cX7_sorted 14 = .ok (.goto 28, 3) := by decide +kernel
theorem dX7_sorted_17 : decode cX7_sorted 17 = .ok (.aload_n 0, 1) := by decide +kernel
theorem dX7_sorted_18 : decode cX7_sorted 18 = .ok (.getfield 14, 3) := by decide +kernel
theorem dX7_sorted_21 : decode cX7_sorted 21 = .ok (.aload_n 0, 1) := by decide +kernel
theorem dX7_sorted_22 : decode cX7_sorted 22 = .ok (.getfield 14, 3) := by decide +kernel
theorem dX7_sorted_25 : decode cX7_sorted 25 = .ok (.invokevirtual 58, 3) := by decide +kernel
theorem dX7_sorted_28 : decode cX7_sorted 28 = .ok (.iconst 1, 1) := by decide +kernel
theorem dX7_sorted_29 : decode cX7_sorted 29 = .ok (.isub, 1) := by decide +kernel
theorem dX7_sorted_30 : decode cX7_sorted 30 = .ok (.invokevirtual 62, 3) := by decide +kernel
theorem dX7_sorted_33 : decode cX7_sorted 33 = .ok (.checkcast 66, 3) := by decide +kernel
theorem dX7_sorted_36 : decode cX7_sorted 36 = .ok (.invokevirtual 68, 3) := by decide +kernel
theorem dX7_sorted_39 : decode cX7_sorted 39 = .ok (.invokevirtual 76, 3) := by decide +kernel
theorem dX7_sorted_42 : decode cX7_sorted 42 = .ok (.ireturn, 1) := by decide +kernel
abbrev cX7_uses : ByteArray := prog_8_method_7_code
def yX7_uses : MethodName := ⟨RX7, "uses", "(LLunchMarks$Train;)Z"⟩
theorem dX7_uses_0 : decode cX7_uses 0 = .ok (.iconst 0, 1) := by decide +kernel
theorem dX7_uses_1 : decode cX7_uses 1 = .ok (.istore_n 2, 1) := by decide +kernel
theorem dX7_uses_2 : decode cX7_uses 2 = .ok (.iconst 0, 1) := by decide +kernel
theorem dX7_uses_3 : decode cX7_uses 3 = .ok (.istore_n 3, 1) := by decide +kernel
theorem dX7_uses_4 : decode cX7_uses 4 = .ok (.iload_n 3, 1) := by decide +kernel
theorem dX7_uses_5 : decode cX7_uses 5 = .ok (.aload_n 0, 1) := by decide +kernel
theorem dX7_uses_6 : decode cX7_uses 6 = .ok (.getfield 14, 3) := by decide +kernel
theorem dX7_uses_9 : decode cX7_uses 9 = .ok (.invokevirtual 58, 3) := by decide +kernel
theorem dX7_uses_12 : decode cX7_uses 12 = .ok (.if_icmp .ge 37, 3) := by decide +kernel
theorem dX7_uses_15 : decode cX7_uses 15 = .ok (.iload_n 2, 1) := by decide +kernel
theorem dX7_uses_16 : decode cX7_uses 16 = .ok (.ifCond .ne 21, 3) := by decide +kernel
theorem dX7_uses_19 : decode cX7_uses 19 = .ok (.aload_n 0, 1) := by decide +kernel
theorem dX7_uses_20 : decode cX7_uses 20 = .ok (.getfield 14, 3) := by decide +kernel
theorem dX7_uses_23 : decode cX7_uses 23 = .ok (.iload_n 3, 1) := by decide +kernel
theorem dX7_uses_24 : decode cX7_uses 24 = .ok (.invokevirtual 62, 3) := by decide +kernel
theorem dX7_uses_27 : decode cX7_uses 27 = .ok (.checkcast 66, 3) := by decide +kernel
theorem dX7_uses_30 : decode cX7_uses 30 = .ok (.getfield 90, 3) := by decide +kernel
theorem dX7_uses_33 : decode cX7_uses 33 = .ok (.aload_n 1, 1) := by decide +kernel
theorem dX7_uses_34 : decode cX7_uses 34 = .ok (.if_acmp .ne 7, 3) := by decide +kernel
theorem dX7_uses_37 : decode cX7_uses 37 = .ok (.iconst 1, 1) := by decide +kernel
theorem dX7_uses_38 : decode cX7_uses 38 = .ok (.goto 4, 3) := by decide +kernel
theorem dX7_uses_41 : decode cX7_uses 41 = .ok (.iconst 0, 1) := by decide +kernel
theorem dX7_uses_42 : decode cX7_uses 42 = .ok (.istore_n 2, 1) := by decide +kernel
theorem dX7_uses_43 : decode cX7_uses 43 = .ok (.iinc 3 1, 3) := by decide +kernel
theorem dX7_uses_46 : decode cX7_uses 46 = .ok (.goto (-42), 3) := by decide +kernel
theorem dX7_uses_49 : decode cX7_uses 49 = .ok (.iload_n 2, 1) := by decide +kernel
theorem dX7_uses_50 : decode cX7_uses 50 = .ok (.ireturn, 1) := by decide +kernel
abbrev cX7_leaves : ByteArray := prog_8_method_8_code
def yX7_leaves : MethodName := ⟨RX7, "leaves", "(LLunchMarks$Train;)V"⟩
theorem dX7_leaves_0 : decode cX7_leaves 0 = .ok (.iconst 0, 1) := by decide +kernel
theorem dX7_leaves_1 : decode cX7_leaves 1 = .ok (.istore_n 2, 1) := by decide +kernel
theorem dX7_leaves_2 : decode cX7_leaves 2 = .ok (.aload_n 0, 1) := by decide +kernel
theorem dX7_leaves_3 : decode cX7_leaves 3 = .ok (.getfield 14, 3) := by decide +kernel
theorem dX7_leaves_6 : decode cX7_leaves 6 = .ok (.iload_n 2, 1) := by decide +kernel
theorem dX7_leaves_7 : decode cX7_leaves 7 = .ok (.invokevirtual 62, 3) := by decide +kernel
theorem dX7_leaves_10 : decode cX7_leaves 10 = .ok (.checkcast 66, 3) := by decide +kernel
theorem dX7_leaves_13 : decode cX7_leaves 13 = .ok (.getfield 90, 3) := by decide +kernel
theorem dX7_leaves_16 : decode cX7_leaves 16 = .ok (.aload_n 1, 1) := by decide +kernel
theorem dX7_leaves_17 : decode cX7_leaves 17 = .ok (.if_acmp .eq 9, 3) := by decide +kernel
theorem dX7_leaves_20 : decode cX7_leaves 20 = .ok (.iinc 2 1, 3) := by decide +kernel
theorem dX7_leaves_23 : decode cX7_leaves 23 = .ok (.goto (-21), 3) := by decide +kernel
theorem dX7_leaves_26 : decode cX7_leaves 26 = .ok (.aload_n 0, 1) := by decide +kernel
theorem dX7_leaves_27 : decode cX7_leaves 27 = .ok (.getfield 14, 3) := by decide +kernel
theorem dX7_leaves_30 : decode cX7_leaves 30 = .ok (.invokevirtual 58, 3) := by decide +kernel
theorem dX7_leaves_33 : decode cX7_leaves 33 = .ok (.iload_n 2, 1) := by decide +kernel
theorem dX7_leaves_34 : decode cX7_leaves 34 = .ok (.if_icmp .le 28, 3) := by decide +kernel
theorem dX7_leaves_37 : decode cX7_leaves 37 = .ok (.aload_n 0, 1) := by decide +kernel
theorem dX7_leaves_38 : decode cX7_leaves 38 = .ok (.getfield 14, 3) := by decide +kernel
theorem dX7_leaves_41 : decode cX7_leaves 41 = .ok (.aload_n 0, 1) := by decide +kernel
theorem dX7_leaves_42 : decode cX7_leaves 42 = .ok (.getfield 14, 3) := by decide +kernel
theorem dX7_leaves_45 : decode cX7_leaves 45 = .ok (.invokevirtual 58, 3) := by decide +kernel
theorem dX7_leaves_48 : decode cX7_leaves 48 = .ok (.iconst 1, 1) := by decide +kernel
theorem dX7_leaves_49 : decode cX7_leaves 49 = .ok (.isub, 1) := by decide +kernel
theorem dX7_leaves_50 : decode cX7_leaves 50 = .ok (.invokevirtual 94, 3) := by decide +kernel
theorem dX7_leaves_53 : decode cX7_leaves 53 = .ok (.checkcast 66, 3) := by decide +kernel
theorem dX7_leaves_56 : decode cX7_leaves 56 = .ok (.invokevirtual 97, 3) := by decide +kernel
theorem dX7_leaves_59 : decode cX7_leaves 59 = .ok (.goto (-33), 3) := by decide +kernel
theorem dX7_leaves_62 : decode cX7_leaves 62 = .ok (.return_, 1) := by decide +kernel
abbrev cX7_arrives : ByteArray := prog_8_method_4_code
def yX7_arrives : MethodName := ⟨RX7, "arrives", "()I"⟩
theorem dX7_arrives_0 : decode cX7_arrives 0 = .ok (.aload_n 0, 1) := by decide +kernel
theorem dX7_arrives_1 : decode cX7_arrives 1 = .ok (.getfield 26, 3) := by decide +kernel
theorem dX7_arrives_4 : decode cX7_arrives 4 = .ok (.getstatic 79, 3) := by decide +kernel
theorem dX7_arrives_7 : decode cX7_arrives 7 = .ok (.if_acmp .ne 15, 3) := by decide +kernel
theorem dX7_arrives_10 : decode cX7_arrives 10 = .ok (.aload_n 0, 1) := by decide +kernel
theorem dX7_arrives_11 : decode cX7_arrives 11 = .ok (.invokevirtual 82, 3) := by decide +kernel
theorem dX7_arrives_14 : decode cX7_arrives 14 = .ok (.aload_n 0, 1) := by decide +kernel
theorem dX7_arrives_15 : decode cX7_arrives 15 = .ok (.getfield 48, 3) := by decide +kernel
theorem dX7_arrives_18 : decode cX7_arrives 18 = .ok (.iadd, 1) := by decide +kernel
theorem dX7_arrives_19 : decode cX7_arrives 19 = .ok (.goto 4, 3) := by decide +kernel
theorem dX7_arrives_22 : decode cX7_arrives 22 = .ok (.iconst (-1), 1) := by decide +kernel
theorem dX7_arrives_23 : decode cX7_arrives 23 = .ok (.ireturn, 1) := by decide +kernel
abbrev cX7_isLate : ByteArray := prog_8_method_5_code
def yX7_isLate : MethodName := ⟨RX7, "isLate", "()Z"⟩
theorem dX7_isLate_0 : decode cX7_isLate 0 = .ok (.aload_n 0, 1) := by decide +kernel
theorem dX7_isLate_1 : decode cX7_isLate 1 = .ok (.getfield 26, 3) := by decide +kernel
theorem dX7_isLate_4 : decode cX7_isLate 4 = .ok (.getstatic 79, 3) := by decide +kernel
theorem dX7_isLate_7 : decode cX7_isLate 7 = .ok (.if_acmp .ne 18, 3) := by decide +kernel
theorem dX7_isLate_10 : decode cX7_isLate 10 = .ok (.aload_n 0, 1) := by decide +kernel
theorem dX7_isLate_11 : decode cX7_isLate 11 = .ok (.invokevirtual 83, 3) := by decide +kernel
theorem dX7_isLate_14 : decode cX7_isLate 14 = .ok (.aload_n 0, 1) := by decide +kernel
theorem dX7_isLate_15 : decode cX7_isLate 15 = .ok (.getfield 51, 3) := by decide +kernel
theorem dX7_isLate_18 : decode cX7_isLate 18 = .ok (.if_icmp .le 7, 3) := by decide +kernel
theorem dX7_isLate_21 : decode cX7_isLate 21 = .ok (.iconst 1, 1) := by decide +kernel
theorem dX7_isLate_22 : decode cX7_isLate 22 = .ok (.goto 4, 3) := by decide +kernel
theorem dX7_isLate_25 : decode cX7_isLate 25 = .ok (.iconst 0, 1) := by decide +kernel
theorem dX7_isLate_26 : decode cX7_isLate 26 = .ok (.ireturn, 1) := by decide +kernel
abbrev cX7_hasSame : ByteArray := prog_8_method_6_code
def yX7_hasSame : MethodName := ⟨RX7, "hasSame", "(LLunchMarks$Trip;)Z"⟩
theorem dX7_hasSame_0 : decode cX7_hasSame 0 = .ok (.aload_n 0, 1) := by decide +kernel
theorem dX7_hasSame_1 : decode cX7_hasSame 1 = .ok (.getfield 14, 3) := by decide +kernel
theorem dX7_hasSame_4 : decode cX7_hasSame 4 = .ok (.invokevirtual 58, 3) := by decide +kernel
theorem dX7_hasSame_7 : decode cX7_hasSame 7 = .ok (.aload_n 1, 1) := by decide +kernel
theorem dX7_hasSame_8 : decode cX7_hasSame 8 = .ok (.getfield 14, 3) := by decide +kernel
theorem dX7_hasSame_11 : decode cX7_hasSame 11 = .ok (.invokevirtual 58, 3) := by decide +kernel
theorem dX7_hasSame_14 : decode cX7_hasSame 14 = .ok (.if_icmp .eq 5, 3) := by decide +kernel
theorem dX7_hasSame_17 : decode cX7_hasSame 17 = .ok (.iconst 0, 1) := by decide +kernel
theorem dX7_hasSame_18 : decode cX7_hasSame 18 = .ok (.ireturn, 1) := by decide +kernel
theorem dX7_hasSame_19 : decode cX7_hasSame 19 = .ok (.iconst 0, 1) := by decide +kernel
theorem dX7_hasSame_20 : decode cX7_hasSame 20 = .ok (.istore_n 2, 1) := by decide +kernel
theorem dX7_hasSame_21 : decode cX7_hasSame 21 = .ok (.iload_n 2, 1) := by decide +kernel
theorem dX7_hasSame_22 : decode cX7_hasSame 22 = .ok (.aload_n 0, 1) := by decide +kernel
theorem dX7_hasSame_23 : decode cX7_hasSame 23 = .ok (.getfield 14, 3) := by decide +kernel
theorem dX7_hasSame_26 : decode cX7_hasSame 26 = .ok (.invokevirtual 58, 3) := by decide +kernel
theorem dX7_hasSame_29 : decode cX7_hasSame 29 = .ok (.if_icmp .ge 39, 3) := by decide +kernel
theorem dX7_hasSame_32 : decode cX7_hasSame 32 = .ok (.aload_n 0, 1) := by decide +kernel
theorem dX7_hasSame_33 : decode cX7_hasSame 33 = .ok (.getfield 14, 3) := by decide +kernel
theorem dX7_hasSame_36 : decode cX7_hasSame 36 = .ok (.iload_n 2, 1) := by decide +kernel
theorem dX7_hasSame_37 : decode cX7_hasSame 37 = .ok (.invokevirtual 62, 3) := by decide +kernel
theorem dX7_hasSame_40 : decode cX7_hasSame 40 = .ok (.checkcast 66, 3) := by decide +kernel
theorem dX7_hasSame_43 : decode cX7_hasSame 43 = .ok (.aload_n 1, 1) := by decide +kernel
theorem dX7_hasSame_44 : decode cX7_hasSame 44 = .ok (.getfield 14, 3) := by decide +kernel
theorem dX7_hasSame_47 : decode cX7_hasSame 47 = .ok (.iload_n 2, 1) := by decide +kernel
theorem dX7_hasSame_48 : decode cX7_hasSame 48 = .ok (.invokevirtual 62, 3) := by decide +kernel
theorem dX7_hasSame_51 : decode cX7_hasSame 51 = .ok (.checkcast 66, 3) := by decide +kernel
theorem dX7_hasSame_54 : decode cX7_hasSame 54 = .ok (.invokevirtual 86, 3) := by decide +kernel
theorem dX7_hasSame_57 : decode cX7_hasSame 57 = .ok (.ifCond .ne 5, 3) := by decide +kernel
theorem dX7_hasSame_60 : decode cX7_hasSame 60 = .ok (.iconst 0, 1) := by decide +kernel
theorem dX7_hasSame_61 : decode cX7_hasSame 61 = .ok (.ireturn, 1) := by decide +kernel
theorem dX7_hasSame_62 : decode cX7_hasSame 62 = .ok (.iinc 2 1, 3) := by decide +kernel
theorem dX7_hasSame_65 : decode cX7_hasSame 65 = .ok (.goto (-44), 3) := by decide +kernel
theorem dX7_hasSame_68 : decode cX7_hasSame 68 = .ok (.iconst 1, 1) := by decide +kernel
theorem dX7_hasSame_69 : decode cX7_hasSame 69 = .ok (.ireturn, 1) := by decide +kernel
theorem q69 : (Jvm.Cond.initialized "LunchMarks$Trip") ∈ lw_all := lw_g (lw_at lw_m1 28 rfl) rfl
theorem q461 : (Jvm.Cond.fieldLinkNest "LunchMarks$Trip" (37 : Nat) "LunchMarks$Station" "sorting" "I" "LunchMarks") ∈ lw_tbl := lw_at lw_m2 180 rfl
theorem q500 : (Jvm.Cond.selects "LunchMarks$Trip" ({ cls := "java/lang/Object", name := "getClass", desc := "()Ljava/lang/Class;" } : Jvm.MethodName) ({ cls := "java/lang/Object", name := "getClass", desc := "()Ljava/lang/Class;" } : Jvm.MethodName)) ∈ lw_all := lw_g (lw_at lw_m2 219 rfl) rfl
theorem q584 : (Jvm.Cond.instantiable "LunchMarks$Trip" (9 : Nat)) ∈ lw_all := lw_g (lw_at lw_m3 63 rfl) rfl
theorem q586 : (Jvm.Cond.instanceMethod ({ cls := "LunchMarks$Trip", name := "<init>", desc := "(LLunchMarks$Station;IILLunchMarks$Station;II)V" } : Jvm.MethodName)) ∈ lw_all := lw_g (lw_at lw_m3 65 rfl) rfl
theorem q587 : (Jvm.Cond.code ({ cls := "LunchMarks$Trip", name := "<init>", desc := "(LLunchMarks$Station;IILLunchMarks$Station;II)V" } : Jvm.MethodName) prog_8_method_1_code (7 : Nat) (Option.none : Option Jvm.ClassFile.FieldType)) ∈ lw_all := lw_g (lw_at lw_m3 66 rfl) rfl
theorem q588 : (Jvm.Cond.methodLink "LunchMarks$Trip" (3 : Nat) ({ cls := "java/lang/Object", name := "<init>", desc := "()V" } : Jvm.MethodName)) ∈ lw_all := lw_g (lw_at lw_m3 67 rfl) rfl
theorem q589 : (Jvm.Cond.classLink "LunchMarks$Trip" (9 : Nat) "java/util/ArrayList") ∈ lw_all := lw_g (lw_at lw_m3 68 rfl) rfl
theorem q590 : (Jvm.Cond.methodLink "LunchMarks$Trip" (11 : Nat) ({ cls := "java/util/ArrayList", name := "<init>", desc := "(I)V" } : Jvm.MethodName)) ∈ lw_all := lw_g (lw_at lw_m3 69 rfl) rfl
theorem q591 : (Jvm.Cond.fieldLink "LunchMarks$Trip" (20 : Nat) "LunchMarks$State" "NEW" "LLunchMarks$State;") ∈ lw_all := lw_g (lw_at lw_m3 70 rfl) rfl
theorem q593 : (Jvm.Cond.fieldLink "LunchMarks$Trip" (29 : Nat) "LunchMarks$Trip" "from" "LLunchMarks$Station;") ∈ lw_all := lw_g (lw_at lw_m3 72 rfl) rfl
theorem q594 : (Jvm.Cond.fieldLink "LunchMarks$Trip" (45 : Nat) "LunchMarks$Trip" "to" "LLunchMarks$Station;") ∈ lw_all := lw_g (lw_at lw_m3 73 rfl) rfl
theorem q596 : (Jvm.Cond.fieldLink "LunchMarks$Trip" (33 : Nat) "LunchMarks$Trip" "ready" "I") ∈ lw_all := lw_g (lw_at lw_m3 75 rfl) rfl
theorem q598 : (Jvm.Cond.fieldLink "LunchMarks$Trip" (42 : Nat) "LunchMarks$Trip" "begins" "I") ∈ lw_all := lw_g (lw_at lw_m3 77 rfl) rfl
theorem q599 : (Jvm.Cond.fieldLink "LunchMarks$Trip" (48 : Nat) "LunchMarks$Trip" "walk" "I") ∈ lw_all := lw_g (lw_at lw_m3 78 rfl) rfl
theorem q600 : (Jvm.Cond.fieldLink "LunchMarks$Trip" (51 : Nat) "LunchMarks$Trip" "due" "I") ∈ lw_all := lw_g (lw_at lw_m3 79 rfl) rfl
theorem q601 : (Jvm.Cond.fieldLink "LunchMarks$Trip" (14 : Nat) "LunchMarks$Trip" "legs" "Ljava/util/ArrayList;") ∈ lw_all := lw_g (lw_at lw_m3 80 rfl) rfl
theorem q603 : (Jvm.Cond.fieldLink "LunchMarks$Trip" (26 : Nat) "LunchMarks$Trip" "state" "LLunchMarks$State;") ∈ lw_all := lw_g (lw_at lw_m3 82 rfl) rfl
theorem q606 : (Jvm.Cond.laysFinal "LunchMarks$Trip" "LunchMarks$Trip" "from" "LLunchMarks$Station;") ∈ lw_all := lw_g (lw_at lw_m3 85 rfl) rfl
theorem q607 : (Jvm.Cond.soleField "LunchMarks$Trip" "from") ∈ lw_all := lw_g (lw_at lw_m3 86 rfl) rfl
theorem q608 : (Jvm.Cond.laysFinal "LunchMarks$Trip" "LunchMarks$Trip" "to" "LLunchMarks$Station;") ∈ lw_all := lw_g (lw_at lw_m3 87 rfl) rfl
theorem q609 : (Jvm.Cond.soleField "LunchMarks$Trip" "to") ∈ lw_all := lw_g (lw_at lw_m3 88 rfl) rfl
theorem q610 : (Jvm.Cond.laysFinal "LunchMarks$Trip" "LunchMarks$Trip" "ready" "I") ∈ lw_all := lw_g (lw_at lw_m3 89 rfl) rfl
theorem q611 : (Jvm.Cond.soleField "LunchMarks$Trip" "ready") ∈ lw_all := lw_g (lw_at lw_m3 90 rfl) rfl
theorem q612 : (Jvm.Cond.laysFinal "LunchMarks$Trip" "LunchMarks$Trip" "begins" "I") ∈ lw_all := lw_g (lw_at lw_m3 91 rfl) rfl
theorem q613 : (Jvm.Cond.soleField "LunchMarks$Trip" "begins") ∈ lw_all := lw_g (lw_at lw_m3 92 rfl) rfl
theorem q614 : (Jvm.Cond.laysFinal "LunchMarks$Trip" "LunchMarks$Trip" "walk" "I") ∈ lw_all := lw_g (lw_at lw_m3 93 rfl) rfl
theorem q615 : (Jvm.Cond.soleField "LunchMarks$Trip" "walk") ∈ lw_all := lw_g (lw_at lw_m3 94 rfl) rfl
theorem q616 : (Jvm.Cond.laysFinal "LunchMarks$Trip" "LunchMarks$Trip" "due" "I") ∈ lw_all := lw_g (lw_at lw_m3 95 rfl) rfl
theorem q617 : (Jvm.Cond.soleField "LunchMarks$Trip" "due") ∈ lw_all := lw_g (lw_at lw_m3 96 rfl) rfl
theorem q618 : (Jvm.Cond.laysFinal "LunchMarks$Trip" "LunchMarks$Trip" "legs" "Ljava/util/ArrayList;") ∈ lw_all := lw_g (lw_at lw_m3 97 rfl) rfl
theorem q619 : (Jvm.Cond.soleField "LunchMarks$Trip" "legs") ∈ lw_all := lw_g (lw_at lw_m3 98 rfl) rfl
theorem q620 : (Jvm.Cond.lays "LunchMarks$Trip" "LunchMarks$Trip" "state" "LLunchMarks$State;") ∈ lw_all := lw_g (lw_at lw_m3 99 rfl) rfl
theorem q621 : (Jvm.Cond.soleField "LunchMarks$Trip" "state") ∈ lw_all := lw_g (lw_at lw_m3 100 rfl) rfl
theorem q622 : (Jvm.Cond.lays "LunchMarks$Trip" "LunchMarks$Trip" "since" "I") ∈ lw_all := lw_g (lw_at lw_m3 101 rfl) rfl
theorem q623 : (Jvm.Cond.soleField "LunchMarks$Trip" "since") ∈ lw_all := lw_g (lw_at lw_m3 102 rfl) rfl
theorem q624 : (Jvm.Cond.superclass "LunchMarks$Trip" "java/lang/Object") ∈ lw_all := lw_g (lw_at lw_m3 103 rfl) rfl
theorem q667 : (Jvm.Cond.instanceMethod ({ cls := "LunchMarks$Trip", name := "end", desc := "()LLunchMarks$Station;" } : Jvm.MethodName)) ∈ lw_all := lw_g (lw_at lw_m3 146 rfl) rfl
theorem q668 : (Jvm.Cond.selects "LunchMarks$Trip" ({ cls := "LunchMarks$Trip", name := "end", desc := "()LLunchMarks$Station;" } : Jvm.MethodName) ({ cls := "LunchMarks$Trip", name := "end", desc := "()LLunchMarks$Station;" } : Jvm.MethodName)) ∈ lw_all := lw_g (lw_at lw_m3 147 rfl) rfl
theorem q669 : (Jvm.Cond.code ({ cls := "LunchMarks$Trip", name := "end", desc := "()LLunchMarks$Station;" } : Jvm.MethodName) prog_8_method_2_code (1 : Nat) (Option.some (Jvm.ClassFile.FieldType.object "LunchMarks$Station"))) ∈ lw_all := lw_g (lw_at lw_m3 148 rfl) rfl
theorem q670 : (Jvm.Cond.methodLink "LunchMarks$Trip" (54 : Nat) ({ cls := "java/util/ArrayList", name := "isEmpty", desc := "()Z" } : Jvm.MethodName)) ∈ lw_all := lw_g (lw_at lw_m3 149 rfl) rfl
theorem q674 : (Jvm.Cond.methodLink "LunchMarks$Trip" (58 : Nat) ({ cls := "java/util/ArrayList", name := "size", desc := "()I" } : Jvm.MethodName)) ∈ lw_all := lw_g (lw_at lw_m3 153 rfl) rfl
theorem q675 : (Jvm.Cond.methodLink "LunchMarks$Trip" (62 : Nat) ({ cls := "java/util/ArrayList", name := "get", desc := "(I)Ljava/lang/Object;" } : Jvm.MethodName)) ∈ lw_all := lw_g (lw_at lw_m3 154 rfl) rfl
theorem q676 : (Jvm.Cond.classLink "LunchMarks$Trip" (66 : Nat) "LunchMarks$Leg") ∈ lw_all := lw_g (lw_at lw_m3 155 rfl) rfl
theorem q677 : (Jvm.Cond.methodLink "LunchMarks$Trip" (68 : Nat) ({ cls := "LunchMarks$Leg", name := "to", desc := "()LLunchMarks$Stop;" } : Jvm.MethodName)) ∈ lw_all := lw_g (lw_at lw_m3 156 rfl) rfl
theorem q684 : (Jvm.Cond.instanceMethod ({ cls := "LunchMarks$Trip", name := "sorted", desc := "()I" } : Jvm.MethodName)) ∈ lw_all := lw_g (lw_at lw_m3 163 rfl) rfl
theorem q685 : (Jvm.Cond.selects "LunchMarks$Trip" ({ cls := "LunchMarks$Trip", name := "sorted", desc := "()I" } : Jvm.MethodName) ({ cls := "LunchMarks$Trip", name := "sorted", desc := "()I" } : Jvm.MethodName)) ∈ lw_all := lw_g (lw_at lw_m3 164 rfl) rfl
theorem q686 : (Jvm.Cond.code ({ cls := "LunchMarks$Trip", name := "sorted", desc := "()I" } : Jvm.MethodName) prog_8_method_3_code (1 : Nat) (Option.some Jvm.ClassFile.FieldType.int)) ∈ lw_all := lw_g (lw_at lw_m3 165 rfl) rfl
theorem q687 : (Jvm.Cond.methodLink "LunchMarks$Trip" (76 : Nat) ({ cls := "LunchMarks$Stop", name := "sorted", desc := "()I" } : Jvm.MethodName)) ∈ lw_all := lw_g (lw_at lw_m3 166 rfl) rfl
theorem q721 : (Jvm.Cond.fieldLinkNest "LunchMarks$Trip" (90 : Nat) "LunchMarks$Leg" "train" "LLunchMarks$Train;" "LunchMarks") ∈ lw_tbl := lw_at lw_m3 200 rfl
theorem q808 : (Jvm.Cond.instanceMethod ({ cls := "LunchMarks$Trip", name := "uses", desc := "(LLunchMarks$Train;)Z" } : Jvm.MethodName)) ∈ lw_all := lw_g (lw_at lw_m4 47 rfl) rfl
theorem q809 : (Jvm.Cond.selects "LunchMarks$Trip" ({ cls := "LunchMarks$Trip", name := "uses", desc := "(LLunchMarks$Train;)Z" } : Jvm.MethodName) ({ cls := "LunchMarks$Trip", name := "uses", desc := "(LLunchMarks$Train;)Z" } : Jvm.MethodName)) ∈ lw_all := lw_g (lw_at lw_m4 48 rfl) rfl
theorem q810 : (Jvm.Cond.code ({ cls := "LunchMarks$Trip", name := "uses", desc := "(LLunchMarks$Train;)Z" } : Jvm.MethodName) prog_8_method_7_code (4 : Nat) (Option.some Jvm.ClassFile.FieldType.boolean)) ∈ lw_all := lw_g (lw_at lw_m4 49 rfl) rfl
theorem q818 : (Jvm.Cond.fieldLinkNest "LunchMarks$Trip" (71 : Nat) "LunchMarks$Stop" "at" "LLunchMarks$Station;" "LunchMarks") ∈ lw_tbl := lw_at lw_m4 57 rfl
theorem q851 : (Jvm.Cond.instanceMethod ({ cls := "LunchMarks$Trip", name := "leaves", desc := "(LLunchMarks$Train;)V" } : Jvm.MethodName)) ∈ lw_all := lw_g (lw_at lw_m4 90 rfl) rfl
theorem q852 : (Jvm.Cond.selects "LunchMarks$Trip" ({ cls := "LunchMarks$Trip", name := "leaves", desc := "(LLunchMarks$Train;)V" } : Jvm.MethodName) ({ cls := "LunchMarks$Trip", name := "leaves", desc := "(LLunchMarks$Train;)V" } : Jvm.MethodName)) ∈ lw_all := lw_g (lw_at lw_m4 91 rfl) rfl
theorem q853 : (Jvm.Cond.code ({ cls := "LunchMarks$Trip", name := "leaves", desc := "(LLunchMarks$Train;)V" } : Jvm.MethodName) prog_8_method_8_code (3 : Nat) (Option.none : Option Jvm.ClassFile.FieldType)) ∈ lw_all := lw_g (lw_at lw_m4 92 rfl) rfl
theorem q854 : (Jvm.Cond.methodLink "LunchMarks$Trip" (94 : Nat) ({ cls := "java/util/ArrayList", name := "remove", desc := "(I)Ljava/lang/Object;" } : Jvm.MethodName)) ∈ lw_all := lw_g (lw_at lw_m4 93 rfl) rfl
theorem q863 : (Jvm.Cond.methodLink "LunchMarks$Trip" (97 : Nat) ({ cls := "LunchMarks$Leg", name := "leaves", desc := "()V" } : Jvm.MethodName)) ∈ lw_all := lw_g (lw_at lw_m4 102 rfl) rfl
theorem q882 : (Jvm.Cond.instanceMethod ({ cls := "LunchMarks$Trip", name := "arrives", desc := "()I" } : Jvm.MethodName)) ∈ lw_all := lw_g (lw_at lw_m4 121 rfl) rfl
theorem q883 : (Jvm.Cond.selects "LunchMarks$Trip" ({ cls := "LunchMarks$Trip", name := "arrives", desc := "()I" } : Jvm.MethodName) ({ cls := "LunchMarks$Trip", name := "arrives", desc := "()I" } : Jvm.MethodName)) ∈ lw_all := lw_g (lw_at lw_m4 122 rfl) rfl
theorem q884 : (Jvm.Cond.code ({ cls := "LunchMarks$Trip", name := "arrives", desc := "()I" } : Jvm.MethodName) prog_8_method_4_code (1 : Nat) (Option.some Jvm.ClassFile.FieldType.int)) ∈ lw_all := lw_g (lw_at lw_m4 123 rfl) rfl
theorem q885 : (Jvm.Cond.fieldLink "LunchMarks$Trip" (79 : Nat) "LunchMarks$State" "LED" "LLunchMarks$State;") ∈ lw_all := lw_g (lw_at lw_m4 124 rfl) rfl
theorem q886 : (Jvm.Cond.methodLink "LunchMarks$Trip" (82 : Nat) ({ cls := "LunchMarks$Trip", name := "sorted", desc := "()I" } : Jvm.MethodName)) ∈ lw_all := lw_g (lw_at lw_m4 125 rfl) rfl
theorem q900 : (Jvm.Cond.instanceMethod ({ cls := "LunchMarks$Trip", name := "isLate", desc := "()Z" } : Jvm.MethodName)) ∈ lw_all := lw_g (lw_at lw_m4 139 rfl) rfl
theorem q901 : (Jvm.Cond.selects "LunchMarks$Trip" ({ cls := "LunchMarks$Trip", name := "isLate", desc := "()Z" } : Jvm.MethodName) ({ cls := "LunchMarks$Trip", name := "isLate", desc := "()Z" } : Jvm.MethodName)) ∈ lw_all := lw_g (lw_at lw_m4 140 rfl) rfl
theorem q902 : (Jvm.Cond.code ({ cls := "LunchMarks$Trip", name := "isLate", desc := "()Z" } : Jvm.MethodName) prog_8_method_5_code (1 : Nat) (Option.some Jvm.ClassFile.FieldType.boolean)) ∈ lw_all := lw_g (lw_at lw_m4 141 rfl) rfl
theorem q903 : (Jvm.Cond.methodLink "LunchMarks$Trip" (83 : Nat) ({ cls := "LunchMarks$Trip", name := "arrives", desc := "()I" } : Jvm.MethodName)) ∈ lw_all := lw_g (lw_at lw_m4 142 rfl) rfl
theorem q941 : (Jvm.Cond.instanceMethod ({ cls := "LunchMarks$Trip", name := "hasSame", desc := "(LLunchMarks$Trip;)Z" } : Jvm.MethodName)) ∈ lw_all := lw_g (lw_at lw_m4 180 rfl) rfl
theorem q942 : (Jvm.Cond.selects "LunchMarks$Trip" ({ cls := "LunchMarks$Trip", name := "hasSame", desc := "(LLunchMarks$Trip;)Z" } : Jvm.MethodName) ({ cls := "LunchMarks$Trip", name := "hasSame", desc := "(LLunchMarks$Trip;)Z" } : Jvm.MethodName)) ∈ lw_all := lw_g (lw_at lw_m4 181 rfl) rfl
theorem q943 : (Jvm.Cond.code ({ cls := "LunchMarks$Trip", name := "hasSame", desc := "(LLunchMarks$Trip;)Z" } : Jvm.MethodName) prog_8_method_6_code (3 : Nat) (Option.some Jvm.ClassFile.FieldType.boolean)) ∈ lw_all := lw_g (lw_at lw_m4 182 rfl) rfl
theorem q944 : (Jvm.Cond.methodLink "LunchMarks$Trip" (86 : Nat) ({ cls := "LunchMarks$Leg", name := "is", desc := "(LLunchMarks$Leg;)Z" } : Jvm.MethodName)) ∈ lw_all := lw_g (lw_at lw_m4 183 rfl) rfl
theorem q1288 : (Jvm.Cond.castable "LunchMarks$Trip" "java/lang/Object") ∈ lw_tbl := lw_at lw_m6 47 rfl
theorem in_X7 : ∀ w ∈ wsX70, w ∈ lw_all := lw_in wsX70 [606, 608, 610, 612, 614, 616, 618, 620, 622] (by decide +kernel) (by decide +kernel)
/-! X8.LunchMarks_Leg -/
def RX8 : String := "LunchMarks$Leg"
def TX8 : u_T := fun k => match k with
  | 0 => ("LunchMarks$Leg", "train", "LLunchMarks$Train;", true)
  | 1 => ("LunchMarks$Leg", "on", "I", true)
  | _ => ("LunchMarks$Leg", "off", "I", true)
def tyX8 : Nat → FieldType := fun k => match k with
  | 0 => .object "LunchMarks$Train"
  | 1 => .int
  | _ => .int
abbrev wsX80 : List Cond := u_ws RX8 TX8 3
theorem nmX8 : ∀ a, a < 3 → ∀ b, b < 3 → a ≠ b → (TX8 a).2.1 ≠ (TX8 b).2.1 := by decide +kernel
theorem tyX8_ok : ∀ k, k < 3 → parseFieldDescriptor (TX8 k).2.2.1 = some (tyX8 k) := by decide +kernel
abbrev cX8_to : ByteArray := prog_3_method_3_code
def yX8_to : MethodName := ⟨RX8, "to", "()LLunchMarks$Stop;"⟩
theorem dX8_to_0 : decode cX8_to 0 = .ok (.aload_n 0, 1) := by decide +kernel
theorem dX8_to_1 : decode cX8_to 1 = .ok (.getfield 7, 3) := by decide +kernel
theorem dX8_to_4 : decode cX8_to 4 = .ok (.getfield 20, 3) := by decide +kernel
theorem dX8_to_7 : decode cX8_to 7 = .ok (.aload_n 0, 1) := by decide +kernel
theorem dX8_to_8 : decode cX8_to 8 = .ok (.getfield 17, 3) := by decide +kernel
theorem dX8_to_11 : decode cX8_to 11 = .ok (.invokevirtual 26, 3) := by decide +kernel
theorem dX8_to_14 : decode cX8_to 14 = .ok (.checkcast 32, 3) := by decide +kernel
theorem dX8_to_17 : decode cX8_to 17 = .ok (.areturn, 1) := by decide +kernel
abbrev cX8_init : ByteArray := prog_3_method_1_code
def yX8_init : MethodName := ⟨RX8, "<init>", "(LLunchMarks$Train;II)V"⟩
theorem dX8_init_0 : decode cX8_init 0 = .ok (.aload_n 0, 1) := by decide +kernel
theorem dX8_init_1 : decode cX8_init 1 = .ok (.invokespecial 1, 3) := by decide +kernel
theorem dX8_init_4 : decode cX8_init 4 = .ok (.aload_n 0, 1) := by decide +kernel
theorem dX8_init_5 : decode cX8_init 5 = .ok (.aload_n 1, 1) := by decide +kernel
theorem dX8_init_6 : decode cX8_init 6 = .ok (.putfield 7, 3) := by decide +kernel
theorem dX8_init_9 : decode cX8_init 9 = .ok (.aload_n 0, 1) := by decide +kernel
theorem dX8_init_10 : decode cX8_init 10 = .ok (.iload_n 2, 1) := by decide +kernel
theorem dX8_init_11 : decode cX8_init 11 = .ok (.putfield 13, 3) := by decide +kernel
theorem dX8_init_14 : decode cX8_init 14 = .ok (.aload_n 0, 1) := by decide +kernel
theorem dX8_init_15 : decode cX8_init 15 = .ok (.iload_n 3, 1) := by decide +kernel
theorem dX8_init_16 : decode cX8_init 16 = .ok (.putfield 17, 3) := by decide +kernel
theorem dX8_init_19 : decode cX8_init 19 = .ok (.return_, 1) := by decide +kernel
abbrev cX8_takes : ByteArray := prog_3_method_5_code
def yX8_takes : MethodName := ⟨RX8, "takes", "()V"⟩
theorem dX8_takes_0 : decode cX8_takes 0 = .ok (.aload_n 0, 1) := by decide +kernel
theorem dX8_takes_1 : decode cX8_takes 1 = .ok (.getfield 7, 3) := by decide +kernel
theorem dX8_takes_4 : decode cX8_takes 4 = .ok (.aload_n 0, 1) := by decide +kernel
theorem dX8_takes_5 : decode cX8_takes 5 = .ok (.getfield 13, 3) := by decide +kernel
theorem dX8_takes_8 : decode cX8_takes 8 = .ok (.aload_n 0, 1) := by decide +kernel
theorem dX8_takes_9 : decode cX8_takes 9 = .ok (.getfield 17, 3) := by decide +kernel
theorem dX8_takes_12 : decode cX8_takes 12 = .ok (.iconst 1, 1) := by decide +kernel
theorem dX8_takes_13 : decode cX8_takes 13 = .ok (.invokevirtual 34, 3) := by decide +kernel
theorem dX8_takes_16 : decode cX8_takes 16 = .ok (.aload_n 0, 1) := by decide +kernel
theorem dX8_takes_17 : decode cX8_takes 17 = .ok (.getfield 7, 3) := by decide +kernel
theorem dX8_takes_20 : decode cX8_takes 20 = .ok (.iconst 1, 1) := by decide +kernel
theorem dX8_takes_21 : decode cX8_takes 21 = .ok (.putfield 38, 3) := by decide +kernel
theorem dX8_takes_24 : decode cX8_takes 24 = .ok (.return_, 1) := by decide +kernel
abbrev cX8_leaves : ByteArray := prog_3_method_6_code
def yX8_leaves : MethodName := ⟨RX8, "leaves", "()V"⟩
theorem dX8_leaves_0 : decode cX8_leaves 0 = .ok (.aload_n 0, 1) := by decide +kernel
theorem dX8_leaves_1 : decode cX8_leaves 1 = .ok (.getfield 7, 3) := by decide +kernel
theorem dX8_leaves_4 : decode cX8_leaves 4 = .ok (.aload_n 0, 1) := by decide +kernel
theorem dX8_leaves_5 : decode cX8_leaves 5 = .ok (.getfield 13, 3) := by decide +kernel
theorem dX8_leaves_8 : decode cX8_leaves 8 = .ok (.aload_n 0, 1) := by decide +kernel
theorem dX8_leaves_9 : decode cX8_leaves 9 = .ok (.getfield 17, 3) := by decide +kernel
theorem dX8_leaves_12 : decode cX8_leaves 12 = .ok (.iconst (-1), 1) := by decide +kernel
theorem dX8_leaves_13 : decode cX8_leaves 13 = .ok (.invokevirtual 34, 3) := by decide +kernel
theorem dX8_leaves_16 : decode cX8_leaves 16 = .ok (.return_, 1) := by decide +kernel
abbrev cX8_from : ByteArray := prog_3_method_2_code
def yX8_from : MethodName := ⟨RX8, "from", "()LLunchMarks$Stop;"⟩
theorem dX8_from_0 : decode cX8_from 0 = .ok (.aload_n 0, 1) := by decide +kernel
theorem dX8_from_1 : decode cX8_from 1 = .ok (.getfield 7, 3) := by decide +kernel
theorem dX8_from_4 : decode cX8_from 4 = .ok (.getfield 20, 3) := by decide +kernel
theorem dX8_from_7 : decode cX8_from 7 = .ok (.aload_n 0, 1) := by decide +kernel
theorem dX8_from_8 : decode cX8_from 8 = .ok (.getfield 13, 3) := by decide +kernel
theorem dX8_from_11 : decode cX8_from 11 = .ok (.invokevirtual 26, 3) := by decide +kernel
theorem dX8_from_14 : decode cX8_from 14 = .ok (.checkcast 32, 3) := by decide +kernel
theorem dX8_from_17 : decode cX8_from 17 = .ok (.areturn, 1) := by decide +kernel
abbrev cX8_is : ByteArray := prog_3_method_4_code
def yX8_is : MethodName := ⟨RX8, "is", "(LLunchMarks$Leg;)Z"⟩
theorem dX8_is_0 : decode cX8_is 0 = .ok (.aload_n 0, 1) := by decide +kernel
theorem dX8_is_1 : decode cX8_is 1 = .ok (.getfield 7, 3) := by decide +kernel
theorem dX8_is_4 : decode cX8_is 4 = .ok (.aload_n 1, 1) := by decide +kernel
theorem dX8_is_5 : decode cX8_is 5 = .ok (.getfield 7, 3) := by decide +kernel
theorem dX8_is_8 : decode cX8_is 8 = .ok (.if_acmp .ne 29, 3) := by decide +kernel
theorem dX8_is_11 : decode cX8_is 11 = .ok (.aload_n 0, 1) := by decide +kernel
theorem dX8_is_12 : decode cX8_is 12 = .ok (.getfield 13, 3) := by decide +kernel
theorem dX8_is_15 : decode cX8_is 15 = .ok (.aload_n 1, 1) := by decide +kernel
theorem dX8_is_16 : decode cX8_is 16 = .ok (.getfield 13, 3) := by decide +kernel
theorem dX8_is_19 : decode cX8_is 19 = .ok (.if_icmp .ne 18, 3) := by decide +kernel
theorem dX8_is_22 : decode cX8_is 22 = .ok (.aload_n 0, 1) := by decide +kernel
theorem dX8_is_23 : decode cX8_is 23 = .ok (.getfield 17, 3) := by decide +kernel
theorem dX8_is_26 : decode cX8_is 26 = .ok (.aload_n 1, 1) := by decide +kernel
theorem dX8_is_27 : decode cX8_is 27 = .ok (.getfield 17, 3) := by decide +kernel
theorem dX8_is_30 : decode cX8_is 30 = .ok (.if_icmp .ne 7, 3) := by decide +kernel
theorem dX8_is_33 : decode cX8_is 33 = .ok (.iconst 1, 1) := by decide +kernel
theorem dX8_is_34 : decode cX8_is 34 = .ok (.goto 4, 3) := by decide +kernel
theorem dX8_is_37 : decode cX8_is 37 = .ok (.iconst 0, 1) := by decide +kernel
theorem dX8_is_38 : decode cX8_is 38 = .ok (.ireturn, 1) := by decide +kernel
theorem q72 : (Jvm.Cond.initialized "LunchMarks$Leg") ∈ lw_all := lw_g (lw_at lw_m1 31 rfl) rfl
theorem q495 : (Jvm.Cond.selects "LunchMarks$Leg" ({ cls := "java/lang/Object", name := "getClass", desc := "()Ljava/lang/Class;" } : Jvm.MethodName) ({ cls := "java/lang/Object", name := "getClass", desc := "()Ljava/lang/Class;" } : Jvm.MethodName)) ∈ lw_all := lw_g (lw_at lw_m2 214 rfl) rfl
theorem q532 : (Jvm.Cond.fieldLinkNest "LunchMarks$Leg" (20 : Nat) "LunchMarks$Train" "stops" "Ljava/util/ArrayList;" "LunchMarks") ∈ lw_tbl := lw_at lw_m3 11 rfl
theorem q537 : (Jvm.Cond.fieldLinkNest "LunchMarks$Leg" (38 : Nat) "LunchMarks$Train" "isUsed" "Z" "LunchMarks") ∈ lw_tbl := lw_at lw_m3 16 rfl
theorem q678 : (Jvm.Cond.instanceMethod ({ cls := "LunchMarks$Leg", name := "to", desc := "()LLunchMarks$Stop;" } : Jvm.MethodName)) ∈ lw_all := lw_g (lw_at lw_m3 157 rfl) rfl
theorem q679 : (Jvm.Cond.selects "LunchMarks$Leg" ({ cls := "LunchMarks$Leg", name := "to", desc := "()LLunchMarks$Stop;" } : Jvm.MethodName) ({ cls := "LunchMarks$Leg", name := "to", desc := "()LLunchMarks$Stop;" } : Jvm.MethodName)) ∈ lw_all := lw_g (lw_at lw_m3 158 rfl) rfl
theorem q680 : (Jvm.Cond.code ({ cls := "LunchMarks$Leg", name := "to", desc := "()LLunchMarks$Stop;" } : Jvm.MethodName) prog_3_method_3_code (1 : Nat) (Option.some (Jvm.ClassFile.FieldType.object "LunchMarks$Stop"))) ∈ lw_all := lw_g (lw_at lw_m3 159 rfl) rfl
theorem q681 : (Jvm.Cond.methodLink "LunchMarks$Leg" (26 : Nat) ({ cls := "java/util/ArrayList", name := "get", desc := "(I)Ljava/lang/Object;" } : Jvm.MethodName)) ∈ lw_all := lw_g (lw_at lw_m3 160 rfl) rfl
theorem q682 : (Jvm.Cond.classLink "LunchMarks$Leg" (32 : Nat) "LunchMarks$Stop") ∈ lw_all := lw_g (lw_at lw_m3 161 rfl) rfl
theorem q715 : (Jvm.Cond.instantiable "LunchMarks$Leg" (3 : Nat)) ∈ lw_all := lw_g (lw_at lw_m3 194 rfl) rfl
theorem q717 : (Jvm.Cond.instanceMethod ({ cls := "LunchMarks$Leg", name := "<init>", desc := "(LLunchMarks$Train;II)V" } : Jvm.MethodName)) ∈ lw_all := lw_g (lw_at lw_m3 196 rfl) rfl
theorem q718 : (Jvm.Cond.code ({ cls := "LunchMarks$Leg", name := "<init>", desc := "(LLunchMarks$Train;II)V" } : Jvm.MethodName) prog_3_method_1_code (4 : Nat) (Option.none : Option Jvm.ClassFile.FieldType)) ∈ lw_all := lw_g (lw_at lw_m3 197 rfl) rfl
theorem q719 : (Jvm.Cond.methodLink "LunchMarks$Leg" (1 : Nat) ({ cls := "java/lang/Object", name := "<init>", desc := "()V" } : Jvm.MethodName)) ∈ lw_all := lw_g (lw_at lw_m3 198 rfl) rfl
theorem q720 : (Jvm.Cond.fieldLink "LunchMarks$Leg" (7 : Nat) "LunchMarks$Leg" "train" "LLunchMarks$Train;") ∈ lw_all := lw_g (lw_at lw_m3 199 rfl) rfl
theorem q723 : (Jvm.Cond.fieldLink "LunchMarks$Leg" (13 : Nat) "LunchMarks$Leg" "on" "I") ∈ lw_all := lw_g (lw_at lw_m3 202 rfl) rfl
theorem q725 : (Jvm.Cond.fieldLink "LunchMarks$Leg" (17 : Nat) "LunchMarks$Leg" "off" "I") ∈ lw_all := lw_g (lw_at lw_m3 204 rfl) rfl
theorem q727 : (Jvm.Cond.laysFinal "LunchMarks$Leg" "LunchMarks$Leg" "train" "LLunchMarks$Train;") ∈ lw_all := lw_g (lw_at lw_m3 206 rfl) rfl
theorem q728 : (Jvm.Cond.soleField "LunchMarks$Leg" "train") ∈ lw_all := lw_g (lw_at lw_m3 207 rfl) rfl
theorem q729 : (Jvm.Cond.laysFinal "LunchMarks$Leg" "LunchMarks$Leg" "on" "I") ∈ lw_all := lw_g (lw_at lw_m3 208 rfl) rfl
theorem q730 : (Jvm.Cond.soleField "LunchMarks$Leg" "on") ∈ lw_all := lw_g (lw_at lw_m3 209 rfl) rfl
theorem q731 : (Jvm.Cond.laysFinal "LunchMarks$Leg" "LunchMarks$Leg" "off" "I") ∈ lw_all := lw_g (lw_at lw_m3 210 rfl) rfl
theorem q732 : (Jvm.Cond.soleField "LunchMarks$Leg" "off") ∈ lw_all := lw_g (lw_at lw_m3 211 rfl) rfl
theorem q733 : (Jvm.Cond.superclass "LunchMarks$Leg" "java/lang/Object") ∈ lw_all := lw_g (lw_at lw_m3 212 rfl) rfl
theorem q736 : (Jvm.Cond.instanceMethod ({ cls := "LunchMarks$Leg", name := "takes", desc := "()V" } : Jvm.MethodName)) ∈ lw_all := lw_g (lw_at lw_m3 215 rfl) rfl
theorem q737 : (Jvm.Cond.selects "LunchMarks$Leg" ({ cls := "LunchMarks$Leg", name := "takes", desc := "()V" } : Jvm.MethodName) ({ cls := "LunchMarks$Leg", name := "takes", desc := "()V" } : Jvm.MethodName)) ∈ lw_all := lw_g (lw_at lw_m3 216 rfl) rfl
theorem q738 : (Jvm.Cond.code ({ cls := "LunchMarks$Leg", name := "takes", desc := "()V" } : Jvm.MethodName) prog_3_method_5_code (1 : Nat) (Option.none : Option Jvm.ClassFile.FieldType)) ∈ lw_all := lw_g (lw_at lw_m3 217 rfl) rfl
theorem q739 : (Jvm.Cond.methodLink "LunchMarks$Leg" (34 : Nat) ({ cls := "LunchMarks$Train", name := "loads", desc := "(III)V" } : Jvm.MethodName)) ∈ lw_all := lw_g (lw_at lw_m3 218 rfl) rfl
theorem q864 : (Jvm.Cond.instanceMethod ({ cls := "LunchMarks$Leg", name := "leaves", desc := "()V" } : Jvm.MethodName)) ∈ lw_all := lw_g (lw_at lw_m4 103 rfl) rfl
theorem q865 : (Jvm.Cond.selects "LunchMarks$Leg" ({ cls := "LunchMarks$Leg", name := "leaves", desc := "()V" } : Jvm.MethodName) ({ cls := "LunchMarks$Leg", name := "leaves", desc := "()V" } : Jvm.MethodName)) ∈ lw_all := lw_g (lw_at lw_m4 104 rfl) rfl
theorem q866 : (Jvm.Cond.code ({ cls := "LunchMarks$Leg", name := "leaves", desc := "()V" } : Jvm.MethodName) prog_3_method_6_code (1 : Nat) (Option.none : Option Jvm.ClassFile.FieldType)) ∈ lw_all := lw_g (lw_at lw_m4 105 rfl) rfl
theorem q926 : (Jvm.Cond.instanceMethod ({ cls := "LunchMarks$Leg", name := "from", desc := "()LLunchMarks$Stop;" } : Jvm.MethodName)) ∈ lw_all := lw_g (lw_at lw_m4 165 rfl) rfl
theorem q927 : (Jvm.Cond.selects "LunchMarks$Leg" ({ cls := "LunchMarks$Leg", name := "from", desc := "()LLunchMarks$Stop;" } : Jvm.MethodName) ({ cls := "LunchMarks$Leg", name := "from", desc := "()LLunchMarks$Stop;" } : Jvm.MethodName)) ∈ lw_all := lw_g (lw_at lw_m4 166 rfl) rfl
theorem q928 : (Jvm.Cond.code ({ cls := "LunchMarks$Leg", name := "from", desc := "()LLunchMarks$Stop;" } : Jvm.MethodName) prog_3_method_2_code (1 : Nat) (Option.some (Jvm.ClassFile.FieldType.object "LunchMarks$Stop"))) ∈ lw_all := lw_g (lw_at lw_m4 167 rfl) rfl
theorem q945 : (Jvm.Cond.instanceMethod ({ cls := "LunchMarks$Leg", name := "is", desc := "(LLunchMarks$Leg;)Z" } : Jvm.MethodName)) ∈ lw_all := lw_g (lw_at lw_m4 184 rfl) rfl
theorem q946 : (Jvm.Cond.selects "LunchMarks$Leg" ({ cls := "LunchMarks$Leg", name := "is", desc := "(LLunchMarks$Leg;)Z" } : Jvm.MethodName) ({ cls := "LunchMarks$Leg", name := "is", desc := "(LLunchMarks$Leg;)Z" } : Jvm.MethodName)) ∈ lw_all := lw_g (lw_at lw_m4 185 rfl) rfl
theorem q947 : (Jvm.Cond.code ({ cls := "LunchMarks$Leg", name := "is", desc := "(LLunchMarks$Leg;)Z" } : Jvm.MethodName) prog_3_method_4_code (2 : Nat) (Option.some Jvm.ClassFile.FieldType.boolean)) ∈ lw_all := lw_g (lw_at lw_m4 186 rfl) rfl
theorem q1290 : (Jvm.Cond.castable "LunchMarks$Leg" "java/lang/Object") ∈ lw_tbl := lw_at lw_m6 49 rfl
theorem in_X8 : ∀ w ∈ wsX80, w ∈ lw_all := lw_in wsX80 [727, 729, 731] (by decide +kernel) (by decide +kernel)
/-! X0.LunchMarksLaw -/
def RX0 : String := "LunchMarksLaw"
abbrev cX0_stop : ByteArray := method_3_code
def yX0_stop : MethodName := ⟨RX0, "stop", "(LLunchMarks;III[J)I"⟩
theorem dX0_stop_0 : decode cX0_stop 0 = .ok (.aload 4, 2) := by decide +kernel
theorem dX0_stop_2 : decode cX0_stop 2 = .ok (.iconst 0, 1) := by decide +kernel
theorem dX0_stop_3 : decode cX0_stop 3 = .ok (.aload_n 0, 1) := by decide +kernel
theorem dX0_stop_4 : decode cX0_stop 4 = .ok (.iload_n 1, 1) := by decide +kernel
theorem dX0_stop_5 : decode cX0_stop 5 = .ok (.iload_n 2, 1) := by decide +kernel
theorem dX0_stop_6 : decode cX0_stop 6 = .ok (.iload_n 3, 1) := by decide +kernel
theorem dX0_stop_7 : decode cX0_stop 7 = .ok (.invokevirtual 7, 3) := by decide +kernel
theorem dX0_stop_10 : decode cX0_stop 10 = .ok (.i2l, 1) := by decide +kernel
theorem dX0_stop_11 : decode cX0_stop 11 = .ok (.lastore, 1) := by decide +kernel
theorem dX0_stop_12 : decode cX0_stop 12 = .ok (.goto 7, 3) := by decide +kernel
theorem dX0_stop_15 : decode cX0_stop 15 = .ok (.astore 5, 2) := by decide +kernel
theorem dX0_stop_17 : decode cX0_stop 17 = .ok (.iconst 1, 1) := by decide +kernel
theorem dX0_stop_18 : decode cX0_stop 18 = .ok (.ireturn, 1) := by decide +kernel
theorem dX0_stop_19 : decode cX0_stop 19 = .ok (.iconst 0, 1) := by decide +kernel
theorem dX0_stop_20 : decode cX0_stop 20 = .ok (.ireturn, 1) := by decide +kernel
abbrev cX0_minutes : ByteArray := method_4_code
def yX0_minutes : MethodName := ⟨RX0, "minutes", "(LLunchMarks;I[J)I"⟩
theorem dX0_minutes_0 : decode cX0_minutes 0 = .ok (.aload_n 2, 1) := by decide +kernel
theorem dX0_minutes_1 : decode cX0_minutes 1 = .ok (.iconst 0, 1) := by decide +kernel
theorem dX0_minutes_2 : decode cX0_minutes 2 = .ok (.aload_n 0, 1) := by decide +kernel
theorem dX0_minutes_3 : decode cX0_minutes 3 = .ok (.iload_n 1, 1) := by decide +kernel
theorem dX0_minutes_4 : decode cX0_minutes 4 = .ok (.invokevirtual 15, 3) := by decide +kernel
theorem dX0_minutes_7 : decode cX0_minutes 7 = .ok (.i2l, 1) := by decide +kernel
theorem dX0_minutes_8 : decode cX0_minutes 8 = .ok (.lastore, 1) := by decide +kernel
theorem dX0_minutes_9 : decode cX0_minutes 9 = .ok (.goto 6, 3) := by decide +kernel
theorem dX0_minutes_12 : decode cX0_minutes 12 = .ok (.astore_n 3, 1) := by decide +kernel
theorem dX0_minutes_13 : decode cX0_minutes 13 = .ok (.iconst 1, 1) := by decide +kernel
theorem dX0_minutes_14 : decode cX0_minutes 14 = .ok (.ireturn, 1) := by decide +kernel
theorem dX0_minutes_15 : decode cX0_minutes 15 = .ok (.iconst 0, 1) := by decide +kernel
theorem dX0_minutes_16 : decode cX0_minutes 16 = .ok (.ireturn, 1) := by decide +kernel
abbrev cX0_cancel : ByteArray := method_5_code
def yX0_cancel : MethodName := ⟨RX0, "cancel", "(LLunchMarks;I[J)I"⟩
theorem dX0_cancel_0 : decode cX0_cancel 0 = .ok (.aload_n 2, 1) := by decide +kernel
theorem dX0_cancel_1 : decode cX0_cancel 1 = .ok (.iconst 0, 1) := by decide +kernel
theorem dX0_cancel_2 : decode cX0_cancel 2 = .ok (.aload_n 0, 1) := by decide +kernel
theorem dX0_cancel_3 : decode cX0_cancel 3 = .ok (.iload_n 1, 1) := by decide +kernel
theorem dX0_cancel_4 : decode cX0_cancel 4 = .ok (.invokevirtual 21, 3) := by decide +kernel
theorem dX0_cancel_7 : decode cX0_cancel 7 = .ok (.i2l, 1) := by decide +kernel
theorem dX0_cancel_8 : decode cX0_cancel 8 = .ok (.lastore, 1) := by decide +kernel
theorem dX0_cancel_9 : decode cX0_cancel 9 = .ok (.goto 6, 3) := by decide +kernel
theorem dX0_cancel_12 : decode cX0_cancel 12 = .ok (.astore_n 3, 1) := by decide +kernel
theorem dX0_cancel_13 : decode cX0_cancel 13 = .ok (.iconst 1, 1) := by decide +kernel
theorem dX0_cancel_14 : decode cX0_cancel 14 = .ok (.ireturn, 1) := by decide +kernel
theorem dX0_cancel_15 : decode cX0_cancel 15 = .ok (.iconst 0, 1) := by decide +kernel
theorem dX0_cancel_16 : decode cX0_cancel 16 = .ok (.ireturn, 1) := by decide +kernel
abbrev cX0_empty : ByteArray := method_6_code
def yX0_empty : MethodName := ⟨RX0, "empty", "(LLunchMarks;II[J)I"⟩
theorem dX0_empty_0 : decode cX0_empty 0 = .ok (.aload_n 3, 1) := by decide +kernel
theorem dX0_empty_1 : decode cX0_empty 1 = .ok (.iconst 0, 1) := by decide +kernel
theorem dX0_empty_2 : decode cX0_empty 2 = .ok (.aload_n 0, 1) := by decide +kernel
theorem dX0_empty_3 : decode cX0_empty 3 = .ok (.iload_n 1, 1) := by decide +kernel
theorem dX0_empty_4 : decode cX0_empty 4 = .ok (.iload_n 2, 1) := by decide +kernel
theorem dX0_empty_5 : decode cX0_empty 5 = .ok (.invokevirtual 24, 3) := by decide +kernel
theorem dX0_empty_8 : decode cX0_empty 8 = .ok (.ifCond .eq 7, 3) := by decide +kernel
theorem dX0_empty_11 : decode cX0_empty 11 = .ok (.lconst 1, 1) := by decide +kernel
theorem dX0_empty_12 : decode cX0_empty 12 = .ok (.goto 4, 3) := by decide +kernel
theorem dX0_empty_15 : decode cX0_empty 15 = .ok (.lconst 0, 1) := by decide +kernel
theorem dX0_empty_16 : decode cX0_empty 16 = .ok (.lastore, 1) := by decide +kernel
theorem dX0_empty_17 : decode cX0_empty 17 = .ok (.goto 7, 3) := by decide +kernel
theorem dX0_empty_20 : decode cX0_empty 20 = .ok (.astore 4, 2) := by decide +kernel
theorem dX0_empty_22 : decode cX0_empty 22 = .ok (.iconst 1, 1) := by decide +kernel
theorem dX0_empty_23 : decode cX0_empty 23 = .ok (.ireturn, 1) := by decide +kernel
theorem dX0_empty_24 : decode cX0_empty 24 = .ok (.iconst 0, 1) := by decide +kernel
theorem dX0_empty_25 : decode cX0_empty 25 = .ok (.ireturn, 1) := by decide +kernel
abbrev cX0_of : ByteArray := method_7_code
def yX0_of : MethodName := ⟨RX0, "of", "(LLunchMarks;II[J)I"⟩
theorem dX0_of_0 : decode cX0_of 0 = .ok (.aload_n 3, 1) := by decide +kernel
theorem dX0_of_1 : decode cX0_of 1 = .ok (.iconst 0, 1) := by decide +kernel
theorem dX0_of_2 : decode cX0_of 2 = .ok (.aload_n 0, 1) := by decide +kernel
theorem dX0_of_3 : decode cX0_of 3 = .ok (.iload_n 1, 1) := by decide +kernel
theorem dX0_of_4 : decode cX0_of 4 = .ok (.iload_n 2, 1) := by decide +kernel
theorem dX0_of_5 : decode cX0_of 5 = .ok (.invokevirtual 28, 3) := by decide +kernel
theorem dX0_of_8 : decode cX0_of 8 = .ok (.i2l, 1) := by decide +kernel
theorem dX0_of_9 : decode cX0_of 9 = .ok (.lastore, 1) := by decide +kernel
theorem dX0_of_10 : decode cX0_of 10 = .ok (.goto 7, 3) := by decide +kernel
theorem dX0_of_13 : decode cX0_of 13 = .ok (.astore 4, 2) := by decide +kernel
theorem dX0_of_15 : decode cX0_of 15 = .ok (.iconst 1, 1) := by decide +kernel
theorem dX0_of_16 : decode cX0_of 16 = .ok (.ireturn, 1) := by decide +kernel
theorem dX0_of_17 : decode cX0_of 17 = .ok (.iconst 0, 1) := by decide +kernel
theorem dX0_of_18 : decode cX0_of 18 = .ok (.ireturn, 1) := by decide +kernel
abbrev cX0_leg : ByteArray := method_8_code
def yX0_leg : MethodName := ⟨RX0, "leg", "(LLunchMarks;III[J)I"⟩
theorem dX0_leg_0 : decode cX0_leg 0 = .ok (.aload 4, 2) := by decide +kernel
theorem dX0_leg_2 : decode cX0_leg 2 = .ok (.iconst 0, 1) := by decide +kernel
theorem dX0_leg_3 : decode cX0_leg 3 = .ok (.aload_n 0, 1) := by decide +kernel
theorem dX0_leg_4 : decode cX0_leg 4 = .ok (.iload_n 1, 1) := by decide +kernel
theorem dX0_leg_5 : decode cX0_leg 5 = .ok (.iload_n 2, 1) := by decide +kernel
theorem dX0_leg_6 : decode cX0_leg 6 = .ok (.iload_n 3, 1) := by decide +kernel
theorem dX0_leg_7 : decode cX0_leg 7 = .ok (.invokevirtual 32, 3) := by decide +kernel
theorem dX0_leg_10 : decode cX0_leg 10 = .ok (.i2l, 1) := by decide +kernel
theorem dX0_leg_11 : decode cX0_leg 11 = .ok (.lastore, 1) := by decide +kernel
theorem dX0_leg_12 : decode cX0_leg 12 = .ok (.goto 7, 3) := by decide +kernel
theorem dX0_leg_15 : decode cX0_leg 15 = .ok (.astore 5, 2) := by decide +kernel
theorem dX0_leg_17 : decode cX0_leg 17 = .ok (.iconst 1, 1) := by decide +kernel
theorem dX0_leg_18 : decode cX0_leg 18 = .ok (.ireturn, 1) := by decide +kernel
theorem dX0_leg_19 : decode cX0_leg 19 = .ok (.iconst 0, 1) := by decide +kernel
theorem dX0_leg_20 : decode cX0_leg 20 = .ok (.ireturn, 1) := by decide +kernel
abbrev cX0_load : ByteArray := method_9_code
def yX0_load : MethodName := ⟨RX0, "load", "(LLunchMarks;II[J)I"⟩
theorem dX0_load_0 : decode cX0_load 0 = .ok (.aload_n 3, 1) := by decide +kernel
theorem dX0_load_1 : decode cX0_load 1 = .ok (.iconst 0, 1) := by decide +kernel
theorem dX0_load_2 : decode cX0_load 2 = .ok (.aload_n 0, 1) := by decide +kernel
theorem dX0_load_3 : decode cX0_load 3 = .ok (.iload_n 1, 1) := by decide +kernel
theorem dX0_load_4 : decode cX0_load 4 = .ok (.iload_n 2, 1) := by decide +kernel
theorem dX0_load_5 : decode cX0_load 5 = .ok (.invokevirtual 35, 3) := by decide +kernel
theorem dX0_load_8 : decode cX0_load 8 = .ok (.i2l, 1) := by decide +kernel
theorem dX0_load_9 : decode cX0_load 9 = .ok (.lastore, 1) := by decide +kernel
theorem dX0_load_10 : decode cX0_load 10 = .ok (.goto 7, 3) := by decide +kernel
theorem dX0_load_13 : decode cX0_load 13 = .ok (.astore 4, 2) := by decide +kernel
theorem dX0_load_15 : decode cX0_load 15 = .ok (.iconst 1, 1) := by decide +kernel
theorem dX0_load_16 : decode cX0_load 16 = .ok (.ireturn, 1) := by decide +kernel
theorem dX0_load_17 : decode cX0_load 17 = .ok (.iconst 0, 1) := by decide +kernel
theorem dX0_load_18 : decode cX0_load 18 = .ok (.ireturn, 1) := by decide +kernel
abbrev cX0_where : ByteArray := method_10_code
def yX0_where : MethodName := ⟨RX0, "where", "(LLunchMarks;I[J)I"⟩
theorem dX0_where_0 : decode cX0_where 0 = .ok (.aload_n 2, 1) := by decide +kernel
theorem dX0_where_1 : decode cX0_where 1 = .ok (.iconst 0, 1) := by decide +kernel
theorem dX0_where_2 : decode cX0_where 2 = .ok (.aload_n 0, 1) := by decide +kernel
theorem dX0_where_3 : decode cX0_where 3 = .ok (.iload_n 1, 1) := by decide +kernel
theorem dX0_where_4 : decode cX0_where 4 = .ok (.invokevirtual 38, 3) := by decide +kernel
theorem dX0_where_7 : decode cX0_where 7 = .ok (.i2l, 1) := by decide +kernel
theorem dX0_where_8 : decode cX0_where 8 = .ok (.lastore, 1) := by decide +kernel
theorem dX0_where_9 : decode cX0_where 9 = .ok (.goto 6, 3) := by decide +kernel
theorem dX0_where_12 : decode cX0_where 12 = .ok (.astore_n 3, 1) := by decide +kernel
theorem dX0_where_13 : decode cX0_where 13 = .ok (.iconst 1, 1) := by decide +kernel
theorem dX0_where_14 : decode cX0_where 14 = .ok (.ireturn, 1) := by decide +kernel
theorem dX0_where_15 : decode cX0_where 15 = .ok (.iconst 0, 1) := by decide +kernel
theorem dX0_where_16 : decode cX0_where 16 = .ok (.ireturn, 1) := by decide +kernel
abbrev cX0_mark : ByteArray := method_11_code
def yX0_mark : MethodName := ⟨RX0, "mark", "(LLunchMarks;I[J)I"⟩
theorem dX0_mark_0 : decode cX0_mark 0 = .ok (.aload_n 2, 1) := by decide +kernel
theorem dX0_mark_1 : decode cX0_mark 1 = .ok (.iconst 0, 1) := by decide +kernel
theorem dX0_mark_2 : decode cX0_mark 2 = .ok (.aload_n 0, 1) := by decide +kernel
theorem dX0_mark_3 : decode cX0_mark 3 = .ok (.iload_n 1, 1) := by decide +kernel
theorem dX0_mark_4 : decode cX0_mark 4 = .ok (.invokevirtual 41, 3) := by decide +kernel
theorem dX0_mark_7 : decode cX0_mark 7 = .ok (.i2l, 1) := by decide +kernel
theorem dX0_mark_8 : decode cX0_mark 8 = .ok (.lastore, 1) := by decide +kernel
theorem dX0_mark_9 : decode cX0_mark 9 = .ok (.goto 6, 3) := by decide +kernel
theorem dX0_mark_12 : decode cX0_mark 12 = .ok (.astore_n 3, 1) := by decide +kernel
theorem dX0_mark_13 : decode cX0_mark 13 = .ok (.iconst 1, 1) := by decide +kernel
theorem dX0_mark_14 : decode cX0_mark 14 = .ok (.ireturn, 1) := by decide +kernel
theorem dX0_mark_15 : decode cX0_mark 15 = .ok (.iconst 0, 1) := by decide +kernel
theorem dX0_mark_16 : decode cX0_mark 16 = .ok (.ireturn, 1) := by decide +kernel
abbrev cX0_share : ByteArray := method_12_code
def yX0_share : MethodName := ⟨RX0, "share", "(LLunchMarks;II[J)I"⟩
theorem dX0_share_0 : decode cX0_share 0 = .ok (.aload_n 3, 1) := by decide +kernel
theorem dX0_share_1 : decode cX0_share 1 = .ok (.iconst 0, 1) := by decide +kernel
theorem dX0_share_2 : decode cX0_share 2 = .ok (.aload_n 0, 1) := by decide +kernel
theorem dX0_share_3 : decode cX0_share 3 = .ok (.iload_n 1, 1) := by decide +kernel
theorem dX0_share_4 : decode cX0_share 4 = .ok (.iload_n 2, 1) := by decide +kernel
theorem dX0_share_5 : decode cX0_share 5 = .ok (.invokevirtual 44, 3) := by decide +kernel
theorem dX0_share_8 : decode cX0_share 8 = .ok (.i2l, 1) := by decide +kernel
theorem dX0_share_9 : decode cX0_share 9 = .ok (.lastore, 1) := by decide +kernel
theorem dX0_share_10 : decode cX0_share 10 = .ok (.goto 11, 3) := by decide +kernel
theorem dX0_share_13 : decode cX0_share 13 = .ok (.astore 4, 2) := by decide +kernel
theorem dX0_share_15 : decode cX0_share 15 = .ok (.iconst 1, 1) := by decide +kernel
theorem dX0_share_16 : decode cX0_share 16 = .ok (.ireturn, 1) := by decide +kernel
theorem dX0_share_17 : decode cX0_share 17 = .ok (.astore 4, 2) := by decide +kernel
theorem dX0_share_19 : decode cX0_share 19 = .ok (.iconst 2, 1) := by decide +kernel
theorem dX0_share_20 : decode cX0_share 20 = .ok (.ireturn, 1) := by decide +kernel
theorem dX0_share_21 : decode cX0_share 21 = .ok (.iconst 0, 1) := by decide +kernel
theorem dX0_share_22 : decode cX0_share 22 = .ok (.ireturn, 1) := by decide +kernel
abbrev cX0_count : ByteArray := method_13_code
def yX0_count : MethodName := ⟨RX0, "count", "(LLunchMarks;I[J)I"⟩
theorem dX0_count_0 : decode cX0_count 0 = .ok (.aload_n 2, 1) := by decide +kernel
theorem dX0_count_1 : decode cX0_count 1 = .ok (.iconst 0, 1) := by decide +kernel
theorem dX0_count_2 : decode cX0_count 2 = .ok (.aload_n 0, 1) := by decide +kernel
theorem dX0_count_3 : decode cX0_count 3 = .ok (.iload_n 1, 1) := by decide +kernel
theorem dX0_count_4 : decode cX0_count 4 = .ok (.invokevirtual 47, 3) := by decide +kernel
theorem dX0_count_7 : decode cX0_count 7 = .ok (.i2l, 1) := by decide +kernel
theorem dX0_count_8 : decode cX0_count 8 = .ok (.lastore, 1) := by decide +kernel
theorem dX0_count_9 : decode cX0_count 9 = .ok (.goto 6, 3) := by decide +kernel
theorem dX0_count_12 : decode cX0_count 12 = .ok (.astore_n 3, 1) := by decide +kernel
theorem dX0_count_13 : decode cX0_count 13 = .ok (.iconst 1, 1) := by decide +kernel
theorem dX0_count_14 : decode cX0_count 14 = .ok (.ireturn, 1) := by decide +kernel
theorem dX0_count_15 : decode cX0_count 15 = .ok (.iconst 0, 1) := by decide +kernel
theorem dX0_count_16 : decode cX0_count 16 = .ok (.ireturn, 1) := by decide +kernel
theorem q41 : (Jvm.Cond.initialized "LunchMarksLaw") ∈ lw_all := lw_g (lw_at lw_m1 0 rfl) rfl
theorem q74 : (Jvm.Cond.classLink "LunchMarksLaw" (8 : Nat) "LunchMarks") ∈ lw_all := lw_g (lw_at lw_m1 33 rfl) rfl
theorem q76 : (Jvm.Cond.methodLink "LunchMarksLaw" (50 : Nat) ({ cls := "LunchMarks", name := "<init>", desc := "()V" } : Jvm.MethodName)) ∈ lw_all := lw_g (lw_at lw_m1 35 rfl) rfl
theorem q444 : (Jvm.Cond.methodLink "LunchMarksLaw" (54 : Nat) ({ cls := "LunchMarks", name := "station", desc := "(I)I" } : Jvm.MethodName)) ∈ lw_all := lw_g (lw_at lw_m2 163 rfl) rfl
theorem q515 : (Jvm.Cond.methodLink "LunchMarksLaw" (58 : Nat) ({ cls := "LunchMarks", name := "train", desc := "(I)I" } : Jvm.MethodName)) ∈ lw_all := lw_g (lw_at lw_m2 234 rfl) rfl
theorem q552 : (Jvm.Cond.methodLink "LunchMarksLaw" (72 : Nat) ({ cls := "LunchMarks", name := "box", desc := "(IIIIII)I" } : Jvm.MethodName)) ∈ lw_all := lw_g (lw_at lw_m3 31 rfl) rfl
theorem q650 : (Jvm.Cond.methodLink "LunchMarksLaw" (77 : Nat) ({ cls := "LunchMarks", name := "plan", desc := "()I" } : Jvm.MethodName)) ∈ lw_all := lw_g (lw_at lw_m3 129 rfl) rfl
theorem q743 : (Jvm.Cond.methodLink "LunchMarksLaw" (107 : Nat) ({ cls := "LunchMarks", name := "carrier", desc := "(I)I" } : Jvm.MethodName)) ∈ lw_all := lw_g (lw_at lw_m3 222 rfl) rfl
theorem q767 : (Jvm.Cond.methodLink "LunchMarksLaw" (62 : Nat) ({ cls := "LunchMarksLaw", name := "stop", desc := "(LLunchMarks;III[J)I" } : Jvm.MethodName)) ∈ lw_all := lw_g (lw_at lw_m4 6 rfl) rfl
theorem q768 : (Jvm.Cond.static ({ cls := "LunchMarksLaw", name := "stop", desc := "(LLunchMarks;III[J)I" } : Jvm.MethodName)) ∈ lw_all := lw_g (lw_at lw_m4 7 rfl) rfl
theorem q769 : (Jvm.Cond.codeWith ({ cls := "LunchMarksLaw", name := "stop", desc := "(LLunchMarks;III[J)I" } : Jvm.MethodName) method_3_code (6 : Nat) (Option.some Jvm.ClassFile.FieldType.int) [((0 : Nat), (12 : Nat), (15 : Nat), (13 : Nat))]) ∈ lw_all := lw_g (lw_at lw_m4 8 rfl) rfl
theorem q770 : (Jvm.Cond.classLink "LunchMarksLaw" (13 : Nat) "java/util/NoSuchElementException") ∈ lw_all := lw_g (lw_at lw_m4 9 rfl) rfl
theorem q771 : (Jvm.Cond.methodLink "LunchMarksLaw" (7 : Nat) ({ cls := "LunchMarks", name := "stop", desc := "(III)I" } : Jvm.MethodName)) ∈ lw_all := lw_g (lw_at lw_m4 10 rfl) rfl
theorem q827 : (Jvm.Cond.methodLink "LunchMarksLaw" (81 : Nat) ({ cls := "LunchMarksLaw", name := "minutes", desc := "(LLunchMarks;I[J)I" } : Jvm.MethodName)) ∈ lw_all := lw_g (lw_at lw_m4 66 rfl) rfl
theorem q828 : (Jvm.Cond.static ({ cls := "LunchMarksLaw", name := "minutes", desc := "(LLunchMarks;I[J)I" } : Jvm.MethodName)) ∈ lw_all := lw_g (lw_at lw_m4 67 rfl) rfl
theorem q829 : (Jvm.Cond.codeWith ({ cls := "LunchMarksLaw", name := "minutes", desc := "(LLunchMarks;I[J)I" } : Jvm.MethodName) method_4_code (4 : Nat) (Option.some Jvm.ClassFile.FieldType.int) [((0 : Nat), (9 : Nat), (12 : Nat), (19 : Nat))]) ∈ lw_all := lw_g (lw_at lw_m4 68 rfl) rfl
theorem q830 : (Jvm.Cond.classLink "LunchMarksLaw" (19 : Nat) "java/lang/IllegalArgumentException") ∈ lw_all := lw_g (lw_at lw_m4 69 rfl) rfl
theorem q831 : (Jvm.Cond.methodLink "LunchMarksLaw" (15 : Nat) ({ cls := "LunchMarks", name := "minutes", desc := "(I)I" } : Jvm.MethodName)) ∈ lw_all := lw_g (lw_at lw_m4 70 rfl) rfl
theorem q843 : (Jvm.Cond.methodLink "LunchMarksLaw" (85 : Nat) ({ cls := "LunchMarksLaw", name := "cancel", desc := "(LLunchMarks;I[J)I" } : Jvm.MethodName)) ∈ lw_all := lw_g (lw_at lw_m4 82 rfl) rfl
theorem q844 : (Jvm.Cond.static ({ cls := "LunchMarksLaw", name := "cancel", desc := "(LLunchMarks;I[J)I" } : Jvm.MethodName)) ∈ lw_all := lw_g (lw_at lw_m4 83 rfl) rfl
theorem q845 : (Jvm.Cond.codeWith ({ cls := "LunchMarksLaw", name := "cancel", desc := "(LLunchMarks;I[J)I" } : Jvm.MethodName) method_5_code (4 : Nat) (Option.some Jvm.ClassFile.FieldType.int) [((0 : Nat), (9 : Nat), (12 : Nat), (13 : Nat))]) ∈ lw_all := lw_g (lw_at lw_m4 84 rfl) rfl
theorem q846 : (Jvm.Cond.methodLink "LunchMarksLaw" (21 : Nat) ({ cls := "LunchMarks", name := "cancel", desc := "(I)I" } : Jvm.MethodName)) ∈ lw_all := lw_g (lw_at lw_m4 85 rfl) rfl
theorem q870 : (Jvm.Cond.methodLink "LunchMarksLaw" (88 : Nat) ({ cls := "LunchMarksLaw", name := "empty", desc := "(LLunchMarks;II[J)I" } : Jvm.MethodName)) ∈ lw_all := lw_g (lw_at lw_m4 109 rfl) rfl
theorem q871 : (Jvm.Cond.static ({ cls := "LunchMarksLaw", name := "empty", desc := "(LLunchMarks;II[J)I" } : Jvm.MethodName)) ∈ lw_all := lw_g (lw_at lw_m4 110 rfl) rfl
theorem q872 : (Jvm.Cond.codeWith ({ cls := "LunchMarksLaw", name := "empty", desc := "(LLunchMarks;II[J)I" } : Jvm.MethodName) method_6_code (5 : Nat) (Option.some Jvm.ClassFile.FieldType.int) [((0 : Nat), (17 : Nat), (20 : Nat), (13 : Nat))]) ∈ lw_all := lw_g (lw_at lw_m4 111 rfl) rfl
theorem q873 : (Jvm.Cond.methodLink "LunchMarksLaw" (24 : Nat) ({ cls := "LunchMarks", name := "empty", desc := "(II)Z" } : Jvm.MethodName)) ∈ lw_all := lw_g (lw_at lw_m4 112 rfl) rfl
theorem q888 : (Jvm.Cond.methodLink "LunchMarksLaw" (92 : Nat) ({ cls := "LunchMarksLaw", name := "of", desc := "(LLunchMarks;II[J)I" } : Jvm.MethodName)) ∈ lw_all := lw_g (lw_at lw_m4 127 rfl) rfl
theorem q889 : (Jvm.Cond.static ({ cls := "LunchMarksLaw", name := "of", desc := "(LLunchMarks;II[J)I" } : Jvm.MethodName)) ∈ lw_all := lw_g (lw_at lw_m4 128 rfl) rfl
theorem q890 : (Jvm.Cond.codeWith ({ cls := "LunchMarksLaw", name := "of", desc := "(LLunchMarks;II[J)I" } : Jvm.MethodName) method_7_code (5 : Nat) (Option.some Jvm.ClassFile.FieldType.int) [((0 : Nat), (10 : Nat), (13 : Nat), (13 : Nat))]) ∈ lw_all := lw_g (lw_at lw_m4 129 rfl) rfl
theorem q891 : (Jvm.Cond.methodLink "LunchMarksLaw" (28 : Nat) ({ cls := "LunchMarks", name := "of", desc := "(II)I" } : Jvm.MethodName)) ∈ lw_all := lw_g (lw_at lw_m4 130 rfl) rfl
theorem q904 : (Jvm.Cond.methodLink "LunchMarksLaw" (95 : Nat) ({ cls := "LunchMarksLaw", name := "leg", desc := "(LLunchMarks;III[J)I" } : Jvm.MethodName)) ∈ lw_all := lw_g (lw_at lw_m4 143 rfl) rfl
theorem q905 : (Jvm.Cond.static ({ cls := "LunchMarksLaw", name := "leg", desc := "(LLunchMarks;III[J)I" } : Jvm.MethodName)) ∈ lw_all := lw_g (lw_at lw_m4 144 rfl) rfl
theorem q906 : (Jvm.Cond.codeWith ({ cls := "LunchMarksLaw", name := "leg", desc := "(LLunchMarks;III[J)I" } : Jvm.MethodName) method_8_code (6 : Nat) (Option.some Jvm.ClassFile.FieldType.int) [((0 : Nat), (12 : Nat), (15 : Nat), (13 : Nat))]) ∈ lw_all := lw_g (lw_at lw_m4 145 rfl) rfl
theorem q907 : (Jvm.Cond.methodLink "LunchMarksLaw" (32 : Nat) ({ cls := "LunchMarks", name := "leg", desc := "(III)I" } : Jvm.MethodName)) ∈ lw_all := lw_g (lw_at lw_m4 146 rfl) rfl
theorem q911 : (Jvm.Cond.methodLink "LunchMarksLaw" (98 : Nat) ({ cls := "LunchMarksLaw", name := "load", desc := "(LLunchMarks;II[J)I" } : Jvm.MethodName)) ∈ lw_all := lw_g (lw_at lw_m4 150 rfl) rfl
theorem q912 : (Jvm.Cond.static ({ cls := "LunchMarksLaw", name := "load", desc := "(LLunchMarks;II[J)I" } : Jvm.MethodName)) ∈ lw_all := lw_g (lw_at lw_m4 151 rfl) rfl
theorem q913 : (Jvm.Cond.codeWith ({ cls := "LunchMarksLaw", name := "load", desc := "(LLunchMarks;II[J)I" } : Jvm.MethodName) method_9_code (5 : Nat) (Option.some Jvm.ClassFile.FieldType.int) [((0 : Nat), (10 : Nat), (13 : Nat), (13 : Nat))]) ∈ lw_all := lw_g (lw_at lw_m4 152 rfl) rfl
theorem q914 : (Jvm.Cond.methodLink "LunchMarksLaw" (35 : Nat) ({ cls := "LunchMarks", name := "load", desc := "(II)I" } : Jvm.MethodName)) ∈ lw_all := lw_g (lw_at lw_m4 153 rfl) rfl
theorem q918 : (Jvm.Cond.methodLink "LunchMarksLaw" (101 : Nat) ({ cls := "LunchMarksLaw", name := "where", desc := "(LLunchMarks;I[J)I" } : Jvm.MethodName)) ∈ lw_all := lw_g (lw_at lw_m4 157 rfl) rfl
theorem q919 : (Jvm.Cond.static ({ cls := "LunchMarksLaw", name := "where", desc := "(LLunchMarks;I[J)I" } : Jvm.MethodName)) ∈ lw_all := lw_g (lw_at lw_m4 158 rfl) rfl
theorem q920 : (Jvm.Cond.codeWith ({ cls := "LunchMarksLaw", name := "where", desc := "(LLunchMarks;I[J)I" } : Jvm.MethodName) method_10_code (4 : Nat) (Option.some Jvm.ClassFile.FieldType.int) [((0 : Nat), (9 : Nat), (12 : Nat), (13 : Nat))]) ∈ lw_all := lw_g (lw_at lw_m4 159 rfl) rfl
theorem q921 : (Jvm.Cond.methodLink "LunchMarksLaw" (38 : Nat) ({ cls := "LunchMarks", name := "where", desc := "(I)I" } : Jvm.MethodName)) ∈ lw_all := lw_g (lw_at lw_m4 160 rfl) rfl
theorem q929 : (Jvm.Cond.methodLink "LunchMarksLaw" (104 : Nat) ({ cls := "LunchMarksLaw", name := "mark", desc := "(LLunchMarks;I[J)I" } : Jvm.MethodName)) ∈ lw_all := lw_g (lw_at lw_m4 168 rfl) rfl
theorem q930 : (Jvm.Cond.static ({ cls := "LunchMarksLaw", name := "mark", desc := "(LLunchMarks;I[J)I" } : Jvm.MethodName)) ∈ lw_all := lw_g (lw_at lw_m4 169 rfl) rfl
theorem q931 : (Jvm.Cond.codeWith ({ cls := "LunchMarksLaw", name := "mark", desc := "(LLunchMarks;I[J)I" } : Jvm.MethodName) method_11_code (4 : Nat) (Option.some Jvm.ClassFile.FieldType.int) [((0 : Nat), (9 : Nat), (12 : Nat), (13 : Nat))]) ∈ lw_all := lw_g (lw_at lw_m4 170 rfl) rfl
theorem q932 : (Jvm.Cond.methodLink "LunchMarksLaw" (41 : Nat) ({ cls := "LunchMarks", name := "mark", desc := "(I)I" } : Jvm.MethodName)) ∈ lw_all := lw_g (lw_at lw_m4 171 rfl) rfl
theorem q948 : (Jvm.Cond.methodLink "LunchMarksLaw" (111 : Nat) ({ cls := "LunchMarksLaw", name := "share", desc := "(LLunchMarks;II[J)I" } : Jvm.MethodName)) ∈ lw_all := lw_g (lw_at lw_m4 187 rfl) rfl
theorem q949 : (Jvm.Cond.static ({ cls := "LunchMarksLaw", name := "share", desc := "(LLunchMarks;II[J)I" } : Jvm.MethodName)) ∈ lw_all := lw_g (lw_at lw_m4 188 rfl) rfl
theorem q950 : (Jvm.Cond.codeWith ({ cls := "LunchMarksLaw", name := "share", desc := "(LLunchMarks;II[J)I" } : Jvm.MethodName) method_12_code (5 : Nat) (Option.some Jvm.ClassFile.FieldType.int) [((0 : Nat), (10 : Nat), (13 : Nat), (13 : Nat)), ((0 : Nat), (10 : Nat), (17 : Nat), (19 : Nat))]) ∈ lw_all := lw_g (lw_at lw_m4 189 rfl) rfl
theorem q951 : (Jvm.Cond.methodLink "LunchMarksLaw" (44 : Nat) ({ cls := "LunchMarks", name := "share", desc := "(II)I" } : Jvm.MethodName)) ∈ lw_all := lw_g (lw_at lw_m4 190 rfl) rfl
theorem q961 : (Jvm.Cond.methodLink "LunchMarksLaw" (114 : Nat) ({ cls := "LunchMarksLaw", name := "count", desc := "(LLunchMarks;I[J)I" } : Jvm.MethodName)) ∈ lw_all := lw_g (lw_at lw_m4 200 rfl) rfl
theorem q962 : (Jvm.Cond.static ({ cls := "LunchMarksLaw", name := "count", desc := "(LLunchMarks;I[J)I" } : Jvm.MethodName)) ∈ lw_all := lw_g (lw_at lw_m4 201 rfl) rfl
theorem q963 : (Jvm.Cond.codeWith ({ cls := "LunchMarksLaw", name := "count", desc := "(LLunchMarks;I[J)I" } : Jvm.MethodName) method_13_code (4 : Nat) (Option.some Jvm.ClassFile.FieldType.int) [((0 : Nat), (9 : Nat), (12 : Nat), (13 : Nat))]) ∈ lw_all := lw_g (lw_at lw_m4 202 rfl) rfl
theorem q964 : (Jvm.Cond.methodLink "LunchMarksLaw" (47 : Nat) ({ cls := "LunchMarks", name := "count", desc := "(I)I" } : Jvm.MethodName)) ∈ lw_all := lw_g (lw_at lw_m4 203 rfl) rfl
theorem q968 : (Jvm.Cond.classLink "LunchMarksLaw" (51 : Nat) "LunchMarksModel") ∈ lw_all := lw_g (lw_at lw_m4 207 rfl) rfl
theorem q970 : (Jvm.Cond.methodLink "LunchMarksLaw" (53 : Nat) ({ cls := "LunchMarksModel", name := "<init>", desc := "()V" } : Jvm.MethodName)) ∈ lw_all := lw_g (lw_at lw_m4 209 rfl) rfl
theorem q1090 : (Jvm.Cond.methodLink "LunchMarksLaw" (68 : Nat) ({ cls := "LunchMarksModel", name := "thrown", desc := "()I" } : Jvm.MethodName)) ∈ lw_all := lw_g (lw_at lw_m5 89 rfl) rfl
theorem q1094 : (Jvm.Cond.methodLink "LunchMarksLaw" (57 : Nat) ({ cls := "LunchMarksModel", name := "station", desc := "(I)I" } : Jvm.MethodName)) ∈ lw_all := lw_g (lw_at lw_m5 93 rfl) rfl
theorem q1098 : (Jvm.Cond.methodLink "LunchMarksLaw" (61 : Nat) ({ cls := "LunchMarksModel", name := "train", desc := "(I)I" } : Jvm.MethodName)) ∈ lw_all := lw_g (lw_at lw_m5 97 rfl) rfl
theorem q1102 : (Jvm.Cond.methodLink "LunchMarksLaw" (67 : Nat) ({ cls := "LunchMarksModel", name := "stop", desc := "(III)I" } : Jvm.MethodName)) ∈ lw_all := lw_g (lw_at lw_m5 101 rfl) rfl
theorem q1117 : (Jvm.Cond.methodLink "LunchMarksLaw" (76 : Nat) ({ cls := "LunchMarksModel", name := "box", desc := "(IIIIII)I" } : Jvm.MethodName)) ∈ lw_all := lw_g (lw_at lw_m5 116 rfl) rfl
theorem q1121 : (Jvm.Cond.methodLink "LunchMarksLaw" (80 : Nat) ({ cls := "LunchMarksModel", name := "plan", desc := "()I" } : Jvm.MethodName)) ∈ lw_all := lw_g (lw_at lw_m5 120 rfl) rfl
theorem q1182 : (Jvm.Cond.methodLink "LunchMarksLaw" (84 : Nat) ({ cls := "LunchMarksModel", name := "minutes", desc := "(I)I" } : Jvm.MethodName)) ∈ lw_all := lw_g (lw_at lw_m5 181 rfl) rfl
theorem q1186 : (Jvm.Cond.methodLink "LunchMarksLaw" (87 : Nat) ({ cls := "LunchMarksModel", name := "cancel", desc := "(I)I" } : Jvm.MethodName)) ∈ lw_all := lw_g (lw_at lw_m5 185 rfl) rfl
theorem q1202 : (Jvm.Cond.methodLink "LunchMarksLaw" (91 : Nat) ({ cls := "LunchMarksModel", name := "empty", desc := "(II)Z" } : Jvm.MethodName)) ∈ lw_all := lw_g (lw_at lw_m5 201 rfl) rfl
theorem q1214 : (Jvm.Cond.methodLink "LunchMarksLaw" (94 : Nat) ({ cls := "LunchMarksModel", name := "of", desc := "(II)I" } : Jvm.MethodName)) ∈ lw_all := lw_g (lw_at lw_m5 213 rfl) rfl
theorem q1226 : (Jvm.Cond.methodLink "LunchMarksLaw" (97 : Nat) ({ cls := "LunchMarksModel", name := "leg", desc := "(III)I" } : Jvm.MethodName)) ∈ lw_all := lw_g (lw_at lw_m5 225 rfl) rfl
theorem q1230 : (Jvm.Cond.methodLink "LunchMarksLaw" (100 : Nat) ({ cls := "LunchMarksModel", name := "load", desc := "(II)I" } : Jvm.MethodName)) ∈ lw_all := lw_g (lw_at lw_m5 229 rfl) rfl
theorem q1234 : (Jvm.Cond.methodLink "LunchMarksLaw" (103 : Nat) ({ cls := "LunchMarksModel", name := "where", desc := "(I)I" } : Jvm.MethodName)) ∈ lw_all := lw_g (lw_at lw_m5 233 rfl) rfl
theorem q1238 : (Jvm.Cond.methodLink "LunchMarksLaw" (106 : Nat) ({ cls := "LunchMarksModel", name := "mark", desc := "(I)I" } : Jvm.MethodName)) ∈ lw_all := lw_g (lw_at lw_m5 237 rfl) rfl
theorem q1254 : (Jvm.Cond.methodLink "LunchMarksLaw" (110 : Nat) ({ cls := "LunchMarksModel", name := "carrier", desc := "(I)I" } : Jvm.MethodName)) ∈ lw_all := lw_g (lw_at lw_m6 13 rfl) rfl
theorem q1258 : (Jvm.Cond.methodLink "LunchMarksLaw" (113 : Nat) ({ cls := "LunchMarksModel", name := "share", desc := "(II)I" } : Jvm.MethodName)) ∈ lw_all := lw_g (lw_at lw_m6 17 rfl) rfl
theorem q1263 : (Jvm.Cond.methodLink "LunchMarksLaw" (116 : Nat) ({ cls := "LunchMarksModel", name := "count", desc := "(I)I" } : Jvm.MethodName)) ∈ lw_all := lw_g (lw_at lw_m6 22 rfl) rfl
/-! L.law -/
abbrev cL_law : ByteArray := code
theorem dL_law_0 : decode cL_law 0 = .ok (.new 8, 3) := by decide +kernel
theorem dL_law_3 : decode cL_law 3 = .ok (.dup, 1) := by decide +kernel
theorem dL_law_4 : decode cL_law 4 = .ok (.invokespecial 50, 3) := by decide +kernel
theorem dL_law_7 : decode cL_law 7 = .ok (.astore_n 1, 1) := by decide +kernel
theorem dL_law_8 : decode cL_law 8 = .ok (.new 51, 3) := by decide +kernel
theorem dL_law_11 : decode cL_law 11 = .ok (.dup, 1) := by decide +kernel
theorem dL_law_12 : decode cL_law 12 = .ok (.invokespecial 53, 3) := by decide +kernel
theorem dL_law_15 : decode cL_law 15 = .ok (.astore_n 2, 1) := by decide +kernel
theorem dL_law_16 : decode cL_law 16 = .ok (.iconst 1, 1) := by decide +kernel
theorem dL_law_17 : decode cL_law 17 = .ok (.newarray .long, 2) := by decide +kernel
theorem dL_law_19 : decode cL_law 19 = .ok (.astore_n 3, 1) := by decide +kernel
theorem dL_law_20 : decode cL_law 20 = .ok (.iconst 0, 1) := by decide +kernel
theorem dL_law_21 : decode cL_law 21 = .ok (.istore 4, 2) := by decide +kernel
theorem dL_law_23 : decode cL_law 23 = .ok (.iload 4, 2) := by decide +kernel
theorem dL_law_25 : decode cL_law 25 = .ok (.aload_n 0, 1) := by decide +kernel
theorem dL_law_26 : decode cL_law 26 = .ok (.arraylength, 1) := by decide +kernel
theorem dL_law_27 : decode cL_law 27 = .ok (.bipush 7, 2) := by decide +kernel
theorem dL_law_29 : decode cL_law 29 = .ok (.isub, 1) := by decide +kernel
theorem dL_law_30 : decode cL_law 30 = .ok (.if_icmp .gt 990, 3) := by decide +kernel
theorem dL_law_33 : decode cL_law 33 = .ok (.aload_n 0, 1) := by decide +kernel
theorem dL_law_34 : decode cL_law 34 = .ok (.iload 4, 2) := by decide +kernel
theorem dL_law_36 : decode cL_law 36 = .ok (.iaload, 1) := by decide +kernel
theorem dL_law_37 : decode cL_law 37 = .ok (.bipush 15, 2) := by decide +kernel
theorem dL_law_39 : decode cL_law 39 = .ok (.iand, 1) := by decide +kernel
theorem dL_law_40 : decode cL_law 40 = .ok (.tableswitch 974 0 15 #[80, 105, 130, 210, 297, 310, 366, 422, 497, 565, 645, 713, 769, 825, 850, 918], 80) := by decide +kernel
theorem dL_law_120 : decode cL_law 120 = .ok (.aload_n 1, 1) := by decide +kernel
theorem dL_law_121 : decode cL_law 121 = .ok (.aload_n 0, 1) := by decide +kernel
theorem dL_law_122 : decode cL_law 122 = .ok (.iload 4, 2) := by decide +kernel
theorem dL_law_124 : decode cL_law 124 = .ok (.iconst 1, 1) := by decide +kernel
theorem dL_law_125 : decode cL_law 125 = .ok (.iadd, 1) := by decide +kernel
theorem dL_law_126 : decode cL_law 126 = .ok (.iaload, 1) := by decide +kernel
theorem dL_law_127 : decode cL_law 127 = .ok (.invokevirtual 54, 3) := by decide +kernel
theorem dL_law_130 : decode cL_law 130 = .ok (.aload_n 2, 1) := by decide +kernel
theorem dL_law_131 : decode cL_law 131 = .ok (.aload_n 0, 1) := by decide +kernel
theorem dL_law_132 : decode cL_law 132 = .ok (.iload 4, 2) := by decide +kernel
theorem dL_law_134 : decode cL_law 134 = .ok (.iconst 1, 1) := by decide +kernel
theorem dL_law_135 : decode cL_law 135 = .ok (.iadd, 1) := by decide +kernel
theorem dL_law_136 : decode cL_law 136 = .ok (.iaload, 1) := by decide +kernel
theorem dL_law_137 : decode cL_law 137 = .ok (.invokevirtual 57, 3) := by decide +kernel
theorem dL_law_140 : decode cL_law 140 = .ok (.if_icmp .eq 874, 3) := by decide +kernel
theorem dL_law_143 : decode cL_law 143 = .ok (.iconst 0, 1) := by decide +kernel
theorem dL_law_144 : decode cL_law 144 = .ok (.ireturn, 1) := by decide +kernel
theorem dL_law_145 : decode cL_law 145 = .ok (.aload_n 1, 1) := by decide +kernel
theorem dL_law_146 : decode cL_law 146 = .ok (.aload_n 0, 1) := by decide +kernel
theorem dL_law_147 : decode cL_law 147 = .ok (.iload 4, 2) := by decide +kernel
theorem dL_law_149 : decode cL_law 149 = .ok (.iconst 1, 1) := by decide +kernel
theorem dL_law_150 : decode cL_law 150 = .ok (.iadd, 1) := by decide +kernel
theorem dL_law_151 : decode cL_law 151 = .ok (.iaload, 1) := by decide +kernel
theorem dL_law_152 : decode cL_law 152 = .ok (.invokevirtual 58, 3) := by decide +kernel
theorem dL_law_155 : decode cL_law 155 = .ok (.aload_n 2, 1) := by decide +kernel
theorem dL_law_156 : decode cL_law 156 = .ok (.aload_n 0, 1) := by decide +kernel
theorem dL_law_157 : decode cL_law 157 = .ok (.iload 4, 2) := by decide +kernel
theorem dL_law_159 : decode cL_law 159 = .ok (.iconst 1, 1) := by decide +kernel
theorem dL_law_160 : decode cL_law 160 = .ok (.iadd, 1) := by decide +kernel
theorem dL_law_161 : decode cL_law 161 = .ok (.iaload, 1) := by decide +kernel
theorem dL_law_162 : decode cL_law 162 = .ok (.invokevirtual 61, 3) := by decide +kernel
theorem dL_law_165 : decode cL_law 165 = .ok (.if_icmp .eq 849, 3) := by decide +kernel
theorem dL_law_168 : decode cL_law 168 = .ok (.iconst 0, 1) := by decide +kernel
theorem dL_law_169 : decode cL_law 169 = .ok (.ireturn, 1) := by decide +kernel
theorem dL_law_170 : decode cL_law 170 = .ok (.aload_n 1, 1) := by decide +kernel
theorem dL_law_171 : decode cL_law 171 = .ok (.aload_n 0, 1) := by decide +kernel
theorem dL_law_172 : decode cL_law 172 = .ok (.iload 4, 2) := by decide +kernel
theorem dL_law_174 : decode cL_law 174 = .ok (.iconst 1, 1) := by decide +kernel
theorem dL_law_175 : decode cL_law 175 = .ok (.iadd, 1) := by decide +kernel
theorem dL_law_176 : decode cL_law 176 = .ok (.iaload, 1) := by decide +kernel
theorem dL_law_177 : decode cL_law 177 = .ok (.aload_n 0, 1) := by decide +kernel
theorem dL_law_178 : decode cL_law 178 = .ok (.iload 4, 2) := by decide +kernel
theorem dL_law_180 : decode cL_law 180 = .ok (.iconst 2, 1) := by decide +kernel
theorem dL_law_181 : decode cL_law 181 = .ok (.iadd, 1) := by decide +kernel
theorem dL_law_182 : decode cL_law 182 = .ok (.iaload, 1) := by decide +kernel
theorem dL_law_183 : decode cL_law 183 = .ok (.aload_n 0, 1) := by decide +kernel
theorem dL_law_184 : decode cL_law 184 = .ok (.iload 4, 2) := by decide +kernel
theorem dL_law_186 : decode cL_law 186 = .ok (.iconst 3, 1) := by decide +kernel
theorem dL_law_187 : decode cL_law 187 = .ok (.iadd, 1) := by decide +kernel
theorem dL_law_188 : decode cL_law 188 = .ok (.iaload, 1) := by decide +kernel
theorem dL_law_189 : decode cL_law 189 = .ok (.aload_n 3, 1) := by decide +kernel
theorem dL_law_190 : decode cL_law 190 = .ok (.invokestatic 62, 3) := by decide +kernel
theorem dL_law_193 : decode cL_law 193 = .ok (.istore 5, 2) := by decide +kernel
theorem dL_law_195 : decode cL_law 195 = .ok (.aload_n 2, 1) := by decide +kernel
theorem dL_law_196 : decode cL_law 196 = .ok (.aload_n 0, 1) := by decide +kernel
theorem dL_law_197 : decode cL_law 197 = .ok (.iload 4, 2) := by decide +kernel
theorem dL_law_199 : decode cL_law 199 = .ok (.iconst 1, 1) := by decide +kernel
theorem dL_law_200 : decode cL_law 200 = .ok (.iadd, 1) := by decide +kernel
theorem dL_law_201 : decode cL_law 201 = .ok (.iaload, 1) := by decide +kernel
theorem dL_law_202 : decode cL_law 202 = .ok (.aload_n 0, 1) := by decide +kernel
theorem dL_law_203 : decode cL_law 203 = .ok (.iload 4, 2) := by decide +kernel
theorem dL_law_205 : decode cL_law 205 = .ok (.iconst 2, 1) := by decide +kernel
theorem dL_law_206 : decode cL_law 206 = .ok (.iadd, 1) := by decide +kernel
theorem dL_law_207 : decode cL_law 207 = .ok (.iaload, 1) := by decide +kernel
theorem dL_law_208 : decode cL_law 208 = .ok (.aload_n 0, 1) := by decide +kernel
theorem dL_law_209 : decode cL_law 209 = .ok (.iload 4, 2) := by decide +kernel
theorem dL_law_211 : decode cL_law 211 = .ok (.iconst 3, 1) := by decide +kernel
theorem dL_law_212 : decode cL_law 212 = .ok (.iadd, 1) := by decide +kernel
theorem dL_law_213 : decode cL_law 213 = .ok (.iaload, 1) := by decide +kernel
theorem dL_law_214 : decode cL_law 214 = .ok (.invokevirtual 67, 3) := by decide +kernel
theorem dL_law_217 : decode cL_law 217 = .ok (.istore 6, 2) := by decide +kernel
theorem dL_law_219 : decode cL_law 219 = .ok (.aload_n 2, 1) := by decide +kernel
theorem dL_law_220 : decode cL_law 220 = .ok (.invokevirtual 68, 3) := by decide +kernel
theorem dL_law_223 : decode cL_law 223 = .ok (.iload 5, 2) := by decide +kernel
theorem dL_law_225 : decode cL_law 225 = .ok (.if_icmp .eq 5, 3) := by decide +kernel
theorem dL_law_228 : decode cL_law 228 = .ok (.iconst 0, 1) := by decide +kernel
theorem dL_law_229 : decode cL_law 229 = .ok (.ireturn, 1) := by decide +kernel
theorem dL_law_230 : decode cL_law 230 = .ok (.iload 5, 2) := by decide +kernel
theorem dL_law_232 : decode cL_law 232 = .ok (.ifCond .ne 15, 3) := by decide +kernel
theorem dL_law_235 : decode cL_law 235 = .ok (.aload_n 3, 1) := by decide +kernel
theorem dL_law_236 : decode cL_law 236 = .ok (.iconst 0, 1) := by decide +kernel
theorem dL_law_237 : decode cL_law 237 = .ok (.laload, 1) := by decide +kernel
theorem dL_law_238 : decode cL_law 238 = .ok (.iload 6, 2) := by decide +kernel
theorem dL_law_240 : decode cL_law 240 = .ok (.i2l, 1) := by decide +kernel
theorem dL_law_241 : decode cL_law 241 = .ok (.lcmp, 1) := by decide +kernel
theorem dL_law_242 : decode cL_law 242 = .ok (.ifCond .eq 5, 3) := by decide +kernel
theorem dL_law_245 : decode cL_law 245 = .ok (.iconst 0, 1) := by decide +kernel
theorem dL_law_246 : decode cL_law 246 = .ok (.ireturn, 1) := by decide +kernel
theorem dL_law_247 : decode cL_law 247 = .ok (.goto 767, 3) := by decide +kernel
theorem dL_law_250 : decode cL_law 250 = .ok (.aload_n 1, 1) := by decide +kernel
theorem dL_law_251 : decode cL_law 251 = .ok (.aload_n 0, 1) := by decide +kernel
theorem dL_law_252 : decode cL_law 252 = .ok (.iload 4, 2) := by decide +kernel
theorem dL_law_254 : decode cL_law 254 = .ok (.iconst 1, 1) := by decide +kernel
theorem dL_law_255 : decode cL_law 255 = .ok (.iadd, 1) := by decide +kernel
theorem dL_law_256 : decode cL_law 256 = .ok (.iaload, 1) := by decide +kernel
theorem dL_law_257 : decode cL_law 257 = .ok (.aload_n 0, 1) := by decide +kernel
theorem dL_law_258 : decode cL_law 258 = .ok (.iload 4, 2) := by decide +kernel
theorem dL_law_260 : decode cL_law 260 = .ok (.iconst 2, 1) := by decide +kernel
theorem dL_law_261 : decode cL_law 261 = .ok (.iadd, 1) := by decide +kernel
theorem dL_law_262 : decode cL_law 262 = .ok (.iaload, 1) := by decide +kernel
theorem dL_law_263 : decode cL_law 263 = .ok (.aload_n 0, 1) := by decide +kernel
theorem dL_law_264 : decode cL_law 264 = .ok (.iload 4, 2) := by decide +kernel
theorem dL_law_266 : decode cL_law 266 = .ok (.iconst 3, 1) := by decide +kernel
theorem dL_law_267 : decode cL_law 267 = .ok (.iadd, 1) := by decide +kernel
theorem dL_law_268 : decode cL_law 268 = .ok (.iaload, 1) := by decide +kernel
theorem dL_law_269 : decode cL_law 269 = .ok (.aload_n 0, 1) := by decide +kernel
theorem dL_law_270 : decode cL_law 270 = .ok (.iload 4, 2) := by decide +kernel
theorem dL_law_272 : decode cL_law 272 = .ok (.iconst 4, 1) := by decide +kernel
theorem dL_law_273 : decode cL_law 273 = .ok (.iadd, 1) := by decide +kernel
theorem dL_law_274 : decode cL_law 274 = .ok (.iaload, 1) := by decide +kernel
theorem dL_law_275 : decode cL_law 275 = .ok (.aload_n 0, 1) := by decide +kernel
theorem dL_law_276 : decode cL_law 276 = .ok (.iload 4, 2) := by decide +kernel
theorem dL_law_278 : decode cL_law 278 = .ok (.iconst 5, 1) := by decide +kernel
theorem dL_law_279 : decode cL_law 279 = .ok (.iadd, 1) := by decide +kernel
theorem dL_law_280 : decode cL_law 280 = .ok (.iaload, 1) := by decide +kernel
theorem dL_law_281 : decode cL_law 281 = .ok (.aload_n 0, 1) := by decide +kernel
theorem dL_law_282 : decode cL_law 282 = .ok (.iload 4, 2) := by decide +kernel
theorem dL_law_284 : decode cL_law 284 = .ok (.bipush 6, 2) := by decide +kernel
theorem dL_law_286 : decode cL_law 286 = .ok (.iadd, 1) := by decide +kernel
theorem dL_law_287 : decode cL_law 287 = .ok (.iaload, 1) := by decide +kernel
theorem dL_law_288 : decode cL_law 288 = .ok (.invokevirtual 72, 3) := by decide +kernel
theorem dL_law_291 : decode cL_law 291 = .ok (.aload_n 2, 1) := by decide +kernel
theorem dL_law_292 : decode cL_law 292 = .ok (.aload_n 0, 1) := by decide +kernel
theorem dL_law_293 : decode cL_law 293 = .ok (.iload 4, 2) := by decide +kernel
theorem dL_law_295 : decode cL_law 295 = .ok (.iconst 1, 1) := by decide +kernel
theorem dL_law_296 : decode cL_law 296 = .ok (.iadd, 1) := by decide +kernel
theorem dL_law_297 : decode cL_law 297 = .ok (.iaload, 1) := by decide +kernel
theorem dL_law_298 : decode cL_law 298 = .ok (.aload_n 0, 1) := by decide +kernel
theorem dL_law_299 : decode cL_law 299 = .ok (.iload 4, 2) := by decide +kernel
theorem dL_law_301 : decode cL_law 301 = .ok (.iconst 2, 1) := by decide +kernel
theorem dL_law_302 : decode cL_law 302 = .ok (.iadd, 1) := by decide +kernel
theorem dL_law_303 : decode cL_law 303 = .ok (.iaload, 1) := by decide +kernel
