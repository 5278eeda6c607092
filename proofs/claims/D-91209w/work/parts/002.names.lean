set_option maxRecDepth 100000
abbrev cJ17_valueOf : ByteArray := prog_17_method_22_code
def yJ17_valueOf : MethodName := ⟨RJ17, "valueOf", "(I)Ljava/lang/Integer;"⟩
theorem dJ17_valueOf_0 : decode cJ17_valueOf 0 = .ok (.iload_n 0, 1) := by decide +kernel
theorem dJ17_valueOf_1 : decode cJ17_valueOf 1 = .ok (.bipush (-128), 2) := by decide +kernel
theorem dJ17_valueOf_3 : decode cJ17_valueOf 3 = .ok (.if_icmp .lt 20, 3) := by decide +kernel
theorem dJ17_valueOf_6 : decode cJ17_valueOf 6 = .ok (.iload_n 0, 1) := by decide +kernel
theorem dJ17_valueOf_7 : decode cJ17_valueOf 7 = .ok (.getstatic 191, 3) := by decide +kernel
theorem dJ17_valueOf_10 : decode cJ17_valueOf 10 = .ok (.if_icmp .gt 13, 3) := by decide +kernel
theorem dJ17_valueOf_13 : decode cJ17_valueOf 13 = .ok (.getstatic 195, 3) := by decide +kernel
theorem dJ17_valueOf_16 : decode cJ17_valueOf 16 = .ok (.iload_n 0, 1) := by decide +kernel
theorem dJ17_valueOf_17 : decode cJ17_valueOf 17 = .ok (.sipush 128, 3) := by decide +kernel
theorem dJ17_valueOf_20 : decode cJ17_valueOf 20 = .ok (.iadd, 1) := by decide +kernel
theorem dJ17_valueOf_21 : decode cJ17_valueOf 21 = .ok (.aaload, 1) := by decide +kernel
theorem dJ17_valueOf_22 : decode cJ17_valueOf 22 = .ok (.areturn, 1) := by decide +kernel
theorem dJ17_valueOf_23 : decode cJ17_valueOf 23 = .ok (.new 1, 3) := by decide +kernel
theorem dJ17_valueOf_26 : decode cJ17_valueOf 26 = .ok (.dup, 1) := by decide +kernel
theorem dJ17_valueOf_27 : decode cJ17_valueOf 27 = .ok (.iload_n 0, 1) := by decide +kernel
theorem dJ17_valueOf_28 : decode cJ17_valueOf 28 = .ok (.invokespecial 199, 3) := by decide +kernel
theorem dJ17_valueOf_31 : decode cJ17_valueOf 31 = .ok (.areturn, 1) := by decide +kernel
abbrev cJ17_init : ByteArray := prog_17_method_23_code
def yJ17_init : MethodName := ⟨RJ17, "<init>", "(I)V"⟩
theorem dJ17_init_0 : decode cJ17_init 0 = .ok (.aload_n 0, 1) := by decide +kernel
theorem dJ17_init_1 : decode cJ17_init 1 = .ok (.invokespecial 202, 3) := by decide +kernel
theorem dJ17_init_4 : decode cJ17_init 4 = .ok (.aload_n 0, 1) := by decide +kernel
theorem dJ17_init_5 : decode cJ17_init 5 = .ok (.iload_n 1, 1) := by decide +kernel
theorem dJ17_init_6 : decode cJ17_init 6 = .ok (.putfield 205, 3) := by decide +kernel
theorem dJ17_init_9 : decode cJ17_init 9 = .ok (.return_, 1) := by decide +kernel
abbrev cJ17_intValue : ByteArray := prog_17_method_27_code
def yJ17_intValue : MethodName := ⟨RJ17, "intValue", "()I"⟩
theorem dJ17_intValue_0 : decode cJ17_intValue 0 = .ok (.aload_n 0, 1) := by decide +kernel
theorem dJ17_intValue_1 : decode cJ17_intValue 1 = .ok (.getfield 205, 3) := by decide +kernel
theorem dJ17_intValue_4 : decode cJ17_intValue 4 = .ok (.ireturn, 1) := by decide +kernel
theorem q61 : (Jvm.Cond.initialized "java/lang/Integer") ∈ lw_all := lw_g (lw_at lw_m1 20 rfl) rfl
theorem q299 : (Jvm.Cond.static ({ cls := "java/lang/Integer", name := "stringSize", desc := "(I)I" } : Jvm.MethodName)) ∈ lw_all := lw_g (lw_at lw_m2 18 rfl) rfl
theorem q300 : (Jvm.Cond.code ({ cls := "java/lang/Integer", name := "stringSize", desc := "(I)I" } : Jvm.MethodName) prog_17_method_13_code (4 : Nat) (Option.some Jvm.ClassFile.FieldType.int)) ∈ lw_all := lw_g (lw_at lw_m2 19 rfl) rfl
theorem q302 : (Jvm.Cond.static ({ cls := "java/lang/Integer", name := "getChars", desc := "(II[B)I" } : Jvm.MethodName)) ∈ lw_all := lw_g (lw_at lw_m2 21 rfl) rfl
theorem q303 : (Jvm.Cond.code ({ cls := "java/lang/Integer", name := "getChars", desc := "(II[B)I" } : Jvm.MethodName) prog_17_method_12_code (7 : Nat) (Option.some Jvm.ClassFile.FieldType.int)) ∈ lw_all := lw_g (lw_at lw_m2 22 rfl) rfl
theorem q304 : (Jvm.Cond.fieldLink "java/lang/Integer" (83 : Nat) "java/lang/Integer" "DigitOnes" "[B") ∈ lw_all := lw_g (lw_at lw_m2 23 rfl) rfl
theorem q305 : (Jvm.Cond.laysStatic "java/lang/Integer" "DigitOnes" "[B") ∈ lw_tbl := lw_at lw_m2 24 rfl
theorem q306 : (Jvm.Cond.fieldLink "java/lang/Integer" (87 : Nat) "java/lang/Integer" "DigitTens" "[B") ∈ lw_all := lw_g (lw_at lw_m2 25 rfl) rfl
theorem q307 : (Jvm.Cond.laysStatic "java/lang/Integer" "DigitTens" "[B") ∈ lw_tbl := lw_at lw_m2 26 rfl
theorem q503 : (Jvm.Cond.selects "java/lang/Integer" ({ cls := "java/lang/Object", name := "getClass", desc := "()Ljava/lang/Class;" } : Jvm.MethodName) ({ cls := "java/lang/Object", name := "getClass", desc := "()Ljava/lang/Class;" } : Jvm.MethodName)) ∈ lw_all := lw_g (lw_at lw_m2 222 rfl) rfl
theorem q748 : (Jvm.Cond.static ({ cls := "java/lang/Integer", name := "valueOf", desc := "(I)Ljava/lang/Integer;" } : Jvm.MethodName)) ∈ lw_all := lw_g (lw_at lw_m3 227 rfl) rfl
theorem q749 : (Jvm.Cond.code ({ cls := "java/lang/Integer", name := "valueOf", desc := "(I)Ljava/lang/Integer;" } : Jvm.MethodName) prog_17_method_22_code (1 : Nat) (Option.some (Jvm.ClassFile.FieldType.object "java/lang/Integer"))) ∈ lw_all := lw_g (lw_at lw_m3 228 rfl) rfl
theorem q750 : (Jvm.Cond.fieldLink "java/lang/Integer" (191 : Nat) "java/lang/Integer$IntegerCache" "high" "I") ∈ lw_all := lw_g (lw_at lw_m3 229 rfl) rfl
theorem q752 : (Jvm.Cond.fieldLink "java/lang/Integer" (195 : Nat) "java/lang/Integer$IntegerCache" "cache" "[Ljava/lang/Integer;") ∈ lw_all := lw_g (lw_at lw_m3 231 rfl) rfl
theorem q754 : (Jvm.Cond.classLink "java/lang/Integer" (1 : Nat) "java/lang/Integer") ∈ lw_all := lw_g (lw_at lw_m3 233 rfl) rfl
theorem q755 : (Jvm.Cond.instantiable "java/lang/Integer" (1 : Nat)) ∈ lw_all := lw_g (lw_at lw_m3 234 rfl) rfl
theorem q756 : (Jvm.Cond.methodLink "java/lang/Integer" (199 : Nat) ({ cls := "java/lang/Integer", name := "<init>", desc := "(I)V" } : Jvm.MethodName)) ∈ lw_all := lw_g (lw_at lw_m3 235 rfl) rfl
theorem q757 : (Jvm.Cond.instanceMethod ({ cls := "java/lang/Integer", name := "<init>", desc := "(I)V" } : Jvm.MethodName)) ∈ lw_all := lw_g (lw_at lw_m3 236 rfl) rfl
theorem q758 : (Jvm.Cond.code ({ cls := "java/lang/Integer", name := "<init>", desc := "(I)V" } : Jvm.MethodName) prog_17_method_23_code (2 : Nat) (Option.none : Option Jvm.ClassFile.FieldType)) ∈ lw_all := lw_g (lw_at lw_m3 237 rfl) rfl
theorem q759 : (Jvm.Cond.methodLink "java/lang/Integer" (202 : Nat) ({ cls := "java/lang/Number", name := "<init>", desc := "()V" } : Jvm.MethodName)) ∈ lw_all := lw_g (lw_at lw_m3 238 rfl) rfl
theorem q763 : (Jvm.Cond.fieldLink "java/lang/Integer" (205 : Nat) "java/lang/Integer" "value" "I") ∈ lw_all := lw_g (lw_at lw_m4 2 rfl) rfl
theorem q764 : (Jvm.Cond.laysFinal "java/lang/Integer" "java/lang/Integer" "value" "I") ∈ lw_all := lw_g (lw_at lw_m4 3 rfl) rfl
theorem q765 : (Jvm.Cond.soleField "java/lang/Integer" "value") ∈ lw_all := lw_g (lw_at lw_m4 4 rfl) rfl
theorem q766 : (Jvm.Cond.superclass "java/lang/Integer" "java/lang/Number") ∈ lw_all := lw_g (lw_at lw_m4 5 rfl) rfl
theorem q958 : (Jvm.Cond.instanceMethod ({ cls := "java/lang/Integer", name := "intValue", desc := "()I" } : Jvm.MethodName)) ∈ lw_all := lw_g (lw_at lw_m4 197 rfl) rfl
theorem q959 : (Jvm.Cond.selects "java/lang/Integer" ({ cls := "java/lang/Integer", name := "intValue", desc := "()I" } : Jvm.MethodName) ({ cls := "java/lang/Integer", name := "intValue", desc := "()I" } : Jvm.MethodName)) ∈ lw_all := lw_g (lw_at lw_m4 198 rfl) rfl
theorem q960 : (Jvm.Cond.code ({ cls := "java/lang/Integer", name := "intValue", desc := "()I" } : Jvm.MethodName) prog_17_method_27_code (1 : Nat) (Option.some Jvm.ClassFile.FieldType.int)) ∈ lw_all := lw_g (lw_at lw_m4 199 rfl) rfl
theorem q1291 : (Jvm.Cond.castable "java/lang/Integer" "java/lang/Object") ∈ lw_tbl := lw_at lw_m6 50 rfl
theorem in_J17 : ∀ w ∈ wsJ170, w ∈ lw_all := lw_in wsJ170 [764] (by decide +kernel) (by decide +kernel)
/-! J18.java_util_NoSuchElementException -/
def RJ18 : String := "java/util/NoSuchElementException"
def TJ18 : u_T := fun k => match k with
  | 0 => ("java/lang/Throwable", "cause", "Ljava/lang/Throwable;", false)
  | 1 => ("java/lang/Throwable", "stackTrace", "[Ljava/lang/StackTraceElement;", false)
  | 2 => ("java/lang/Throwable", "suppressedExceptions", "Ljava/util/List;", false)
  | 3 => ("java/lang/Throwable", "detailMessage", "Ljava/lang/String;", false)
  | 4 => ("java/lang/Throwable", "backtrace", "Ljava/lang/Object;", false)
  | _ => ("java/lang/Throwable", "depth", "I", false)
def tyJ18 : Nat → FieldType := fun k => match k with
  | 0 => .object "java/lang/Throwable"
  | 1 => .array (.object "java/lang/StackTraceElement")
  | 2 => .object "java/util/List"
  | 3 => .object "java/lang/String"
  | 4 => .object "java/lang/Object"
  | _ => .int
abbrev wsJ180 : List Cond := u_ws RJ18 TJ18 6
theorem nmJ18 : ∀ a, a < 6 → ∀ b, b < 6 → a ≠ b → (TJ18 a).2.1 ≠ (TJ18 b).2.1 := by decide +kernel
theorem tyJ18_ok : ∀ k, k < 6 → parseFieldDescriptor (TJ18 k).2.2.1 = some (tyJ18 k) := by decide +kernel
abbrev cJ18_init : ByteArray := prog_35_method_1_code
def yJ18_init : MethodName := ⟨RJ18, "<init>", "()V"⟩
theorem dJ18_init_0 : decode cJ18_init 0 = .ok (.aload_n 0, 1) := by decide +kernel
theorem dJ18_init_1 : decode cJ18_init 1 = .ok (.invokespecial 1, 3) := by decide +kernel
theorem dJ18_init_4 : decode cJ18_init 4 = .ok (.return_, 1) := by decide +kernel
theorem q65 : (Jvm.Cond.initialized "java/util/NoSuchElementException") ∈ lw_all := lw_g (lw_at lw_m1 24 rfl) rfl
theorem q131 : (Jvm.Cond.selects "java/util/NoSuchElementException" ({ cls := "java/lang/Throwable", name := "fillInStackTrace", desc := "()Ljava/lang/Throwable;" } : Jvm.MethodName) ({ cls := "java/lang/Throwable", name := "fillInStackTrace", desc := "()Ljava/lang/Throwable;" } : Jvm.MethodName)) ∈ lw_all := lw_g (lw_at lw_m1 90 rfl) rfl
theorem q507 : (Jvm.Cond.selects "java/util/NoSuchElementException" ({ cls := "java/lang/Object", name := "getClass", desc := "()Ljava/lang/Class;" } : Jvm.MethodName) ({ cls := "java/lang/Object", name := "getClass", desc := "()Ljava/lang/Class;" } : Jvm.MethodName)) ∈ lw_all := lw_g (lw_at lw_m2 226 rfl) rfl
theorem q783 : (Jvm.Cond.instantiable "java/util/NoSuchElementException" (6 : Nat)) ∈ lw_all := lw_g (lw_at lw_m4 22 rfl) rfl
theorem q784 : (Jvm.Cond.castable "java/util/NoSuchElementException" "java/util/NoSuchElementException") ∈ lw_tbl := lw_at lw_m4 23 rfl
theorem q785 : (Jvm.Cond.selects "java/util/NoSuchElementException" ({ cls := "java/lang/Throwable", name := "fillInStackTrace", desc := "(I)Ljava/lang/Throwable;" } : Jvm.MethodName) ({ cls := "java/lang/Throwable", name := "fillInStackTrace", desc := "(I)Ljava/lang/Throwable;" } : Jvm.MethodName)) ∈ lw_all := lw_g (lw_at lw_m4 24 rfl) rfl
theorem q786 : (Jvm.Cond.lays "java/util/NoSuchElementException" "java/lang/Throwable" "cause" "Ljava/lang/Throwable;") ∈ lw_all := lw_g (lw_at lw_m4 25 rfl) rfl
theorem q787 : (Jvm.Cond.lays "java/util/NoSuchElementException" "java/lang/Throwable" "stackTrace" "[Ljava/lang/StackTraceElement;") ∈ lw_all := lw_g (lw_at lw_m4 26 rfl) rfl
theorem q788 : (Jvm.Cond.lays "java/util/NoSuchElementException" "java/lang/Throwable" "suppressedExceptions" "Ljava/util/List;") ∈ lw_all := lw_g (lw_at lw_m4 27 rfl) rfl
theorem q789 : (Jvm.Cond.lays "java/util/NoSuchElementException" "java/lang/Throwable" "detailMessage" "Ljava/lang/String;") ∈ lw_all := lw_g (lw_at lw_m4 28 rfl) rfl
theorem q790 : (Jvm.Cond.lays "java/util/NoSuchElementException" "java/lang/Throwable" "backtrace" "Ljava/lang/Object;") ∈ lw_all := lw_g (lw_at lw_m4 29 rfl) rfl
theorem q792 : (Jvm.Cond.instanceMethod ({ cls := "java/util/NoSuchElementException", name := "<init>", desc := "()V" } : Jvm.MethodName)) ∈ lw_all := lw_g (lw_at lw_m4 31 rfl) rfl
theorem q793 : (Jvm.Cond.code ({ cls := "java/util/NoSuchElementException", name := "<init>", desc := "()V" } : Jvm.MethodName) prog_35_method_1_code (1 : Nat) (Option.none : Option Jvm.ClassFile.FieldType)) ∈ lw_all := lw_g (lw_at lw_m4 32 rfl) rfl
theorem q794 : (Jvm.Cond.methodLink "java/util/NoSuchElementException" (1 : Nat) ({ cls := "java/lang/RuntimeException", name := "<init>", desc := "()V" } : Jvm.MethodName)) ∈ lw_all := lw_g (lw_at lw_m4 33 rfl) rfl
theorem q801 : (Jvm.Cond.lays "java/util/NoSuchElementException" "java/lang/Throwable" "depth" "I") ∈ lw_all := lw_g (lw_at lw_m4 40 rfl) rfl
theorem q802 : (Jvm.Cond.superclass "java/util/NoSuchElementException" "java/lang/RuntimeException") ∈ lw_all := lw_g (lw_at lw_m4 41 rfl) rfl
theorem q1285 : (Jvm.Cond.castable "java/util/NoSuchElementException" "java/lang/Object") ∈ lw_tbl := lw_at lw_m6 44 rfl
theorem in_J18 : ∀ w ∈ wsJ180, w ∈ lw_all := lw_in wsJ180 [786, 787, 788, 789, 790, 801] (by decide +kernel) (by decide +kernel)
/-! J19.java_util_Objects -/
def RJ19 : String := "java/util/Objects"
abbrev cJ19_checkIndex : ByteArray := prog_36_method_17_code
def yJ19_checkIndex : MethodName := ⟨RJ19, "checkIndex", "(II)I"⟩
theorem dJ19_checkIndex_0 : decode cJ19_checkIndex 0 = .ok (.iload_n 0, 1) := by decide +kernel
theorem dJ19_checkIndex_1 : decode cJ19_checkIndex 1 = .ok (.iload_n 1, 1) := by decide +kernel
theorem dJ19_checkIndex_2 : decode cJ19_checkIndex 2 = .ok (.aconst_null, 1) := by decide +kernel
theorem dJ19_checkIndex_3 : decode cJ19_checkIndex 3 = .ok (.invokestatic 105, 3) := by decide +kernel
theorem dJ19_checkIndex_6 : decode cJ19_checkIndex 6 = .ok (.ireturn, 1) := by decide +kernel
theorem q66 : (Jvm.Cond.initialized "java/util/Objects") ∈ lw_all := lw_g (lw_at lw_m1 25 rfl) rfl
theorem q570 : (Jvm.Cond.static ({ cls := "java/util/Objects", name := "checkIndex", desc := "(II)I" } : Jvm.MethodName)) ∈ lw_all := lw_g (lw_at lw_m3 49 rfl) rfl
theorem q571 : (Jvm.Cond.code ({ cls := "java/util/Objects", name := "checkIndex", desc := "(II)I" } : Jvm.MethodName) prog_36_method_17_code (2 : Nat) (Option.some Jvm.ClassFile.FieldType.int)) ∈ lw_all := lw_g (lw_at lw_m3 50 rfl) rfl
theorem q572 : (Jvm.Cond.methodLink "java/util/Objects" (105 : Nat) ({ cls := "jdk/internal/util/Preconditions", name := "checkIndex", desc := "(IILjava/util/function/BiFunction;)I" } : Jvm.MethodName)) ∈ lw_all := lw_g (lw_at lw_m3 51 rfl) rfl
/-! X2.LunchMarksModel -/
def RX2 : String := "LunchMarksModel"
def TX2 : u_T := fun k => match k with
  | 0 => ("LunchMarksModel", "code", "I", false)
  | 1 => ("LunchMarksModel", "now", "I", false)
  | 2 => ("LunchMarksModel", "stations", "I", false)
  | 3 => ("LunchMarksModel", "trains", "I", false)
  | 4 => ("LunchMarksModel", "boxes", "I", false)
  | 5 => ("LunchMarksModel", "carriers", "I", false)
  | 6 => ("LunchMarksModel", "sorting", "[I", true)
  | 7 => ("LunchMarksModel", "room", "[I", true)
  | 8 => ("LunchMarksModel", "stops", "[I", true)
  | 9 => ("LunchMarksModel", "stopStation", "[I", true)
  | 10 => ("LunchMarksModel", "stopMinute", "[I", true)
  | 11 => ("LunchMarksModel", "loads", "[I", true)
  | 12 => ("LunchMarksModel", "days", "[I", true)
  | 13 => ("LunchMarksModel", "isCancelled", "[Z", true)
  | 14 => ("LunchMarksModel", "home", "[I", true)
  | 15 => ("LunchMarksModel", "walk", "[I", true)
  | 16 => ("LunchMarksModel", "ready", "[I", true)
  | 17 => ("LunchMarksModel", "desk", "[I", true)
  | 18 => ("LunchMarksModel", "walkThere", "[I", true)
  | 19 => ("LunchMarksModel", "due", "[I", true)
  | 20 => ("LunchMarksModel", "readyBack", "[I", true)
  | 21 => ("LunchMarksModel", "isEmpty", "[Z", true)
  | 22 => ("LunchMarksModel", "had", "[Z", true)
  | 23 => ("LunchMarksModel", "has", "[Z", true)
  | 24 => ("LunchMarksModel", "many", "[I", true)
  | 25 => ("LunchMarksModel", "stands", "[I", true)
  | 26 => ("LunchMarksModel", "since", "[I", true)
  | 27 => ("LunchMarksModel", "legTrain", "[I", true)
  | 28 => ("LunchMarksModel", "legOn", "[I", true)
  | 29 => ("LunchMarksModel", "legOff", "[I", true)
  | 30 => ("LunchMarksModel", "early", "[I", true)
  | 31 => ("LunchMarksModel", "few", "[I", true)
  | 32 => ("LunchMarksModel", "bestTime", "I", false)
  | 33 => ("LunchMarksModel", "bestLegs", "I", false)
  | 34 => ("LunchMarksModel", "bestTrain", "I", false)
  | 35 => ("LunchMarksModel", "bestOn", "I", false)
  | 36 => ("LunchMarksModel", "bestOff", "I", false)
  | _ => ("LunchMarksModel", "gives", "[Z", true)
def tyX2 : Nat → FieldType := fun k => match k with
  | 0 => .int
  | 1 => .int
  | 2 => .int
  | 3 => .int
  | 4 => .int
  | 5 => .int
  | 6 => .array .int
  | 7 => .array .int
  | 8 => .array .int
  | 9 => .array .int
  | 10 => .array .int
  | 11 => .array .int
  | 12 => .array .int
  | 13 => .array .boolean
  | 14 => .array .int
  | 15 => .array .int
  | 16 => .array .int
  | 17 => .array .int
  | 18 => .array .int
  | 19 => .array .int
  | 20 => .array .int
  | 21 => .array .boolean
  | 22 => .array .boolean
  | 23 => .array .boolean
  | 24 => .array .int
  | 25 => .array .int
  | 26 => .array .int
  | 27 => .array .int
  | 28 => .array .int
  | 29 => .array .int
  | 30 => .array .int
  | 31 => .array .int
  | 32 => .int
  | 33 => .int
  | 34 => .int
  | 35 => .int
  | 36 => .int
  | _ => .array .boolean
abbrev wsX20 : List Cond := u_ws RX2 TX2 38
theorem nmX2 : ∀ a, a < 38 → ∀ b, b < 38 → a ≠ b → (TX2 a).2.1 ≠ (TX2 b).2.1 := by decide +kernel
theorem tyX2_ok : ∀ k, k < 38 → parseFieldDescriptor (TX2 k).2.2.1 = some (tyX2 k) := by decide +kernel
abbrev cX2_init : ByteArray := prog_10_method_1_code
def yX2_init : MethodName := ⟨RX2, "<init>", "()V"⟩
theorem dX2_init_0 : decode cX2_init 0 = .ok (.aload_n 0, 1) := by decide +kernel
theorem dX2_init_1 : decode cX2_init 1 = .ok (.invokespecial 3, 3) := by decide +kernel
theorem dX2_init_4 : decode cX2_init 4 = .ok (.aload_n 0, 1) := by decide +kernel
theorem dX2_init_5 : decode cX2_init 5 = .ok (.bipush 10, 2) := by decide +kernel
theorem dX2_init_7 : decode cX2_init 7 = .ok (.newarray .int, 2) := by decide +kernel
theorem dX2_init_9 : decode cX2_init 9 = .ok (.putfield 9, 3) := by decide +kernel
theorem dX2_init_12 : decode cX2_init 12 = .ok (.aload_n 0, 1) := by decide +kernel
theorem dX2_init_13 : decode cX2_init 13 = .ok (.bipush 16, 2) := by decide +kernel
theorem dX2_init_15 : decode cX2_init 15 = .ok (.newarray .int, 2) := by decide +kernel
theorem dX2_init_17 : decode cX2_init 17 = .ok (.putfield 13, 3) := by decide +kernel
theorem dX2_init_20 : decode cX2_init 20 = .ok (.aload_n 0, 1) := by decide +kernel
theorem dX2_init_21 : decode cX2_init 21 = .ok (.bipush 16, 2) := by decide +kernel
theorem dX2_init_23 : decode cX2_init 23 = .ok (.newarray .int, 2) := by decide +kernel
theorem dX2_init_25 : decode cX2_init 25 = .ok (.putfield 16, 3) := by decide +kernel
theorem dX2_init_28 : decode cX2_init 28 = .ok (.aload_n 0, 1) := by decide +kernel
theorem dX2_init_29 : decode cX2_init 29 = .ok (.sipush 160, 3) := by decide +kernel
theorem dX2_init_32 : decode cX2_init 32 = .ok (.newarray .int, 2) := by decide +kernel
theorem dX2_init_34 : decode cX2_init 34 = .ok (.putfield 19, 3) := by decide +kernel
theorem dX2_init_37 : decode cX2_init 37 = .ok (.aload_n 0, 1) := by decide +kernel
theorem dX2_init_38 : decode cX2_init 38 = .ok (.sipush 160, 3) := by decide +kernel
theorem dX2_init_41 : decode cX2_init 41 = .ok (.newarray .int, 2) := by decide +kernel
theorem dX2_init_43 : decode cX2_init 43 = .ok (.putfield 22, 3) := by decide +kernel
theorem dX2_init_46 : decode cX2_init 46 = .ok (.aload_n 0, 1) := by decide +kernel
theorem dX2_init_47 : decode cX2_init 47 = .ok (.sipush 160, 3) := by decide +kernel
theorem dX2_init_50 : decode cX2_init 50 = .ok (.newarray .int, 2) := by decide +kernel
theorem dX2_init_52 : decode cX2_init 52 = .ok (.putfield 25, 3) := by decide +kernel
theorem dX2_init_55 : decode cX2_init 55 = .ok (.aload_n 0, 1) := by decide +kernel
theorem dX2_init_56 : decode cX2_init 56 = .ok (.bipush 40, 2) := by decide +kernel
theorem dX2_init_58 : decode cX2_init 58 = .ok (.newarray .int, 2) := by decide +kernel
theorem dX2_init_60 : decode cX2_init 60 = .ok (.putfield 28, 3) := by decide +kernel
theorem dX2_init_63 : decode cX2_init 63 = .ok (.aload_n 0, 1) := by decide +kernel
theorem dX2_init_64 : decode cX2_init 64 = .ok (.bipush 16, 2) := by decide +kernel
theorem dX2_init_66 : decode cX2_init 66 = .ok (.newarray .boolean, 2) := by decide +kernel
theorem dX2_init_68 : decode cX2_init 68 = .ok (.putfield 31, 3) := by decide +kernel
theorem dX2_init_71 : decode cX2_init 71 = .ok (.aload_n 0, 1) := by decide +kernel
theorem dX2_init_72 : decode cX2_init 72 = .ok (.bipush 60, 2) := by decide +kernel
theorem dX2_init_74 : decode cX2_init 74 = .ok (.newarray .int, 2) := by decide +kernel
theorem dX2_init_76 : decode cX2_init 76 = .ok (.putfield 35, 3) := by decide +kernel
theorem dX2_init_79 : decode cX2_init 79 = .ok (.aload_n 0, 1) := by decide +kernel
theorem dX2_init_80 : decode cX2_init 80 = .ok (.bipush 60, 2) := by decide +kernel
theorem dX2_init_82 : decode cX2_init 82 = .ok (.newarray .int, 2) := by decide +kernel
theorem dX2_init_84 : decode cX2_init 84 = .ok (.putfield 38, 3) := by decide +kernel
theorem dX2_init_87 : decode cX2_init 87 = .ok (.aload_n 0, 1) := by decide +kernel
theorem dX2_init_88 : decode cX2_init 88 = .ok (.bipush 60, 2) := by decide +kernel
theorem dX2_init_90 : decode cX2_init 90 = .ok (.newarray .int, 2) := by decide +kernel
theorem dX2_init_92 : decode cX2_init 92 = .ok (.putfield 41, 3) := by decide +kernel
theorem dX2_init_95 : decode cX2_init 95 = .ok (.aload_n 0, 1) := by decide +kernel
theorem dX2_init_96 : decode cX2_init 96 = .ok (.bipush 60, 2) := by decide +kernel
theorem dX2_init_98 : decode cX2_init 98 = .ok (.newarray .int, 2) := by decide +kernel
theorem dX2_init_100 : decode cX2_init 100 = .ok (.putfield 44, 3) := by decide +kernel
theorem dX2_init_103 : decode cX2_init 103 = .ok (.aload_n 0, 1) := by decide +kernel
theorem dX2_init_104 : decode cX2_init 104 = .ok (.bipush 60, 2) := by decide +kernel
theorem dX2_init_106 : decode cX2_init 106 = .ok (.newarray .int, 2) := by decide +kernel
theorem dX2_init_108 : decode cX2_init 108 = .ok (.putfield 47, 3) := by decide +kernel
theorem dX2_init_111 : decode cX2_init 111 = .ok (.aload_n 0, 1) := by decide +kernel
theorem dX2_init_112 : decode cX2_init 112 = .ok (.bipush 60, 2) := by decide +kernel
theorem dX2_init_114 : decode cX2_init 114 = .ok (.newarray .int, 2) := by decide +kernel
theorem dX2_init_116 : decode cX2_init 116 = .ok (.putfield 50, 3) := by decide +kernel
theorem dX2_init_119 : decode cX2_init 119 = .ok (.aload_n 0, 1) := by decide +kernel
theorem dX2_init_120 : decode cX2_init 120 = .ok (.bipush 60, 2) := by decide +kernel
theorem dX2_init_122 : decode cX2_init 122 = .ok (.newarray .int, 2) := by decide +kernel
theorem dX2_init_124 : decode cX2_init 124 = .ok (.putfield 53, 3) := by decide +kernel
theorem dX2_init_127 : decode cX2_init 127 = .ok (.aload_n 0, 1) := by decide +kernel
theorem dX2_init_128 : decode cX2_init 128 = .ok (.bipush 60, 2) := by decide +kernel
theorem dX2_init_130 : decode cX2_init 130 = .ok (.newarray .boolean, 2) := by decide +kernel
theorem dX2_init_132 : decode cX2_init 132 = .ok (.putfield 56, 3) := by decide +kernel
theorem dX2_init_135 : decode cX2_init 135 = .ok (.aload_n 0, 1) := by decide +kernel
theorem dX2_init_136 : decode cX2_init 136 = .ok (.bipush 120, 2) := by decide +kernel
theorem dX2_init_138 : decode cX2_init 138 = .ok (.newarray .boolean, 2) := by decide +kernel
theorem dX2_init_140 : decode cX2_init 140 = .ok (.putfield 59, 3) := by decide +kernel
theorem dX2_init_143 : decode cX2_init 143 = .ok (.aload_n 0, 1) := by decide +kernel
theorem dX2_init_144 : decode cX2_init 144 = .ok (.bipush 120, 2) := by decide +kernel
theorem dX2_init_146 : decode cX2_init 146 = .ok (.newarray .boolean, 2) := by decide +kernel
theorem dX2_init_148 : decode cX2_init 148 = .ok (.putfield 62, 3) := by decide +kernel
theorem dX2_init_151 : decode cX2_init 151 = .ok (.aload_n 0, 1) := by decide +kernel
theorem dX2_init_152 : decode cX2_init 152 = .ok (.bipush 120, 2) := by decide +kernel
theorem dX2_init_154 : decode cX2_init 154 = .ok (.newarray .int, 2) := by decide +kernel
theorem dX2_init_156 : decode cX2_init 156 = .ok (.putfield 65, 3) := by decide +kernel
theorem dX2_init_159 : decode cX2_init 159 = .ok (.aload_n 0, 1) := by decide +kernel
theorem dX2_init_160 : decode cX2_init 160 = .ok (.bipush 120, 2) := by decide +kernel
theorem dX2_init_162 : decode cX2_init 162 = .ok (.newarray .int, 2) := by decide +kernel
theorem dX2_init_164 : decode cX2_init 164 = .ok (.putfield 68, 3) := by decide +kernel
theorem dX2_init_167 : decode cX2_init 167 = .ok (.aload_n 0, 1) := by decide +kernel
theorem dX2_init_168 : decode cX2_init 168 = .ok (.bipush 120, 2) := by decide +kernel
theorem dX2_init_170 : decode cX2_init 170 = .ok (.newarray .int, 2) := by decide +kernel
theorem dX2_init_172 : decode cX2_init 172 = .ok (.putfield 71, 3) := by decide +kernel
theorem dX2_init_175 : decode cX2_init 175 = .ok (.aload_n 0, 1) := by decide +kernel
theorem dX2_init_176 : decode cX2_init 176 = .ok (.sipush 360, 3) := by decide +kernel
theorem dX2_init_179 : decode cX2_init 179 = .ok (.newarray .int, 2) := by decide +kernel
theorem dX2_init_181 : decode cX2_init 181 = .ok (.putfield 74, 3) := by decide +kernel
theorem dX2_init_184 : decode cX2_init 184 = .ok (.aload_n 0, 1) := by decide +kernel
theorem dX2_init_185 : decode cX2_init 185 = .ok (.sipush 360, 3) := by decide +kernel
theorem dX2_init_188 : decode cX2_init 188 = .ok (.newarray .int, 2) := by decide +kernel
theorem dX2_init_190 : decode cX2_init 190 = .ok (.putfield 77, 3) := by decide +kernel
theorem dX2_init_193 : decode cX2_init 193 = .ok (.aload_n 0, 1) := by decide +kernel
theorem dX2_init_194 : decode cX2_init 194 = .ok (.sipush 360, 3) := by decide +kernel
theorem dX2_init_197 : decode cX2_init 197 = .ok (.newarray .int, 2) := by decide +kernel
theorem dX2_init_199 : decode cX2_init 199 = .ok (.putfield 80, 3) := by decide +kernel
theorem dX2_init_202 : decode cX2_init 202 = .ok (.aload_n 0, 1) := by decide +kernel
theorem dX2_init_203 : decode cX2_init 203 = .ok (.sipush 640, 3) := by decide +kernel
theorem dX2_init_206 : decode cX2_init 206 = .ok (.newarray .int, 2) := by decide +kernel
theorem dX2_init_208 : decode cX2_init 208 = .ok (.putfield 83, 3) := by decide +kernel
theorem dX2_init_211 : decode cX2_init 211 = .ok (.aload_n 0, 1) := by decide +kernel
theorem dX2_init_212 : decode cX2_init 212 = .ok (.sipush 640, 3) := by decide +kernel
theorem dX2_init_215 : decode cX2_init 215 = .ok (.newarray .int, 2) := by decide +kernel
theorem dX2_init_217 : decode cX2_init 217 = .ok (.putfield 86, 3) := by decide +kernel
theorem dX2_init_220 : decode cX2_init 220 = .ok (.aload_n 0, 1) := by decide +kernel
theorem dX2_init_221 : decode cX2_init 221 = .ok (.bipush 60, 2) := by decide +kernel
theorem dX2_init_223 : decode cX2_init 223 = .ok (.newarray .boolean, 2) := by decide +kernel
theorem dX2_init_225 : decode cX2_init 225 = .ok (.putfield 89, 3) := by decide +kernel
theorem dX2_init_228 : decode cX2_init 228 = .ok (.return_, 1) := by decide +kernel
abbrev cX2_thrown : ByteArray := prog_10_method_2_code
def yX2_thrown : MethodName := ⟨RX2, "thrown", "()I"⟩
theorem dX2_thrown_0 : decode cX2_thrown 0 = .ok (.aload_n 0, 1) := by decide +kernel
theorem dX2_thrown_1 : decode cX2_thrown 1 = .ok (.getfield 92, 3) := by decide +kernel
theorem dX2_thrown_4 : decode cX2_thrown 4 = .ok (.ireturn, 1) := by decide +kernel
abbrev cX2_station : ByteArray := prog_10_method_6_code
def yX2_station : MethodName := ⟨RX2, "station", "(I)I"⟩
theorem dX2_station_0 : decode cX2_station 0 = .ok (.aload_n 0, 1) := by decide +kernel
theorem dX2_station_1 : decode cX2_station 1 = .ok (.iconst 0, 1) := by decide +kernel
theorem dX2_station_2 : decode cX2_station 2 = .ok (.putfield 92, 3) := by decide +kernel
theorem dX2_station_5 : decode cX2_station 5 = .ok (.aload_n 0, 1) := by decide +kernel
theorem dX2_station_6 : decode cX2_station 6 = .ok (.getfield 102, 3) := by decide +kernel
theorem dX2_station_9 : decode cX2_station 9 = .ok (.bipush 10, 2) := by decide +kernel
theorem dX2_station_11 : decode cX2_station 11 = .ok (.if_icmp .eq 13, 3) := by decide +kernel
theorem dX2_station_14 : decode cX2_station 14 = .ok (.iload_n 1, 1) := by decide +kernel
theorem dX2_station_15 : decode cX2_station 15 = .ok (.ifCond .lt 9, 3) := by decide +kernel
theorem dX2_station_18 : decode cX2_station 18 = .ok (.iload_n 1, 1) := by decide +kernel
theorem dX2_station_19 : decode cX2_station 19 = .ok (.bipush 60, 2) := by decide +kernel
theorem dX2_station_21 : decode cX2_station 21 = .ok (.if_icmp .le 5, 3) := by decide +kernel
theorem dX2_station_24 : decode cX2_station 24 = .ok (.iconst (-1), 1) := by decide +kernel
theorem dX2_station_25 : decode cX2_station 25 = .ok (.ireturn, 1) := by decide +kernel
theorem dX2_station_26 : decode cX2_station 26 = .ok (.aload_n 0, 1) := by decide +kernel
theorem dX2_station_27 : decode cX2_station 27 = .ok (.getfield 9, 3) := by decide +kernel
theorem dX2_station_30 : decode cX2_station 30 = .ok (.aload_n 0, 1) := by decide +kernel
theorem dX2_station_31 : decode cX2_station 31 = .ok (.getfield 102, 3) := by decide +kernel
theorem dX2_station_34 : decode cX2_station 34 = .ok (.iload_n 1, 1) := by decide +kernel
theorem dX2_station_35 : decode cX2_station 35 = .ok (.iastore, 1) := by decide +kernel
theorem dX2_station_36 : decode cX2_station 36 = .ok (.aload_n 0, 1) := by decide +kernel
theorem dX2_station_37 : decode cX2_station 37 = .ok (.dup, 1) := by decide +kernel
theorem dX2_station_38 : decode cX2_station 38 = .ok (.getfield 102, 3) := by decide +kernel
theorem dX2_station_41 : decode cX2_station 41 = .ok (.iconst 1, 1) := by decide +kernel
theorem dX2_station_42 : decode cX2_station 42 = .ok (.iadd, 1) := by decide +kernel
theorem dX2_station_43 : decode cX2_station 43 = .ok (.putfield 102, 3) := by decide +kernel
theorem dX2_station_46 : decode cX2_station 46 = .ok (.aload_n 0, 1) := by decide +kernel
theorem dX2_station_47 : decode cX2_station 47 = .ok (.getfield 102, 3) := by decide +kernel
theorem dX2_station_50 : decode cX2_station 50 = .ok (.iconst 1, 1) := by decide +kernel
theorem dX2_station_51 : decode cX2_station 51 = .ok (.isub, 1) := by decide +kernel
theorem dX2_station_52 : decode cX2_station 52 = .ok (.ireturn, 1) := by decide +kernel
abbrev cX2_train : ByteArray := prog_10_method_7_code
def yX2_train : MethodName := ⟨RX2, "train", "(I)I"⟩
theorem dX2_train_0 : decode cX2_train 0 = .ok (.aload_n 0, 1) := by decide +kernel
theorem dX2_train_1 : decode cX2_train 1 = .ok (.iconst 0, 1) := by decide +kernel
theorem dX2_train_2 : decode cX2_train 2 = .ok (.putfield 92, 3) := by decide +kernel
theorem dX2_train_5 : decode cX2_train 5 = .ok (.aload_n 0, 1) := by decide +kernel
theorem dX2_train_6 : decode cX2_train 6 = .ok (.getfield 96, 3) := by decide +kernel
theorem dX2_train_9 : decode cX2_train 9 = .ok (.bipush 16, 2) := by decide +kernel
theorem dX2_train_11 : decode cX2_train 11 = .ok (.if_icmp .eq 14, 3) := by decide +kernel
theorem dX2_train_14 : decode cX2_train 14 = .ok (.iload_n 1, 1) := by decide +kernel
theorem dX2_train_15 : decode cX2_train 15 = .ok (.iconst 1, 1) := by decide +kernel
theorem dX2_train_16 : decode cX2_train 16 = .ok (.if_icmp .lt 9, 3) := by decide +kernel
theorem dX2_train_19 : decode cX2_train 19 = .ok (.iload_n 1, 1) := by decide +kernel
theorem dX2_train_20 : decode cX2_train 20 = .ok (.bipush 40, 2) := by decide +kernel
theorem dX2_train_22 : decode cX2_train 22 = .ok (.if_icmp .le 5, 3) := by decide +kernel
theorem dX2_train_25 : decode cX2_train 25 = .ok (.iconst (-1), 1) := by decide +kernel
theorem dX2_train_26 : decode cX2_train 26 = .ok (.ireturn, 1) := by decide +kernel
theorem dX2_train_27 : decode cX2_train 27 = .ok (.aload_n 0, 1) := by decide +kernel
theorem dX2_train_28 : decode cX2_train 28 = .ok (.getfield 13, 3) := by decide +kernel
theorem dX2_train_31 : decode cX2_train 31 = .ok (.aload_n 0, 1) := by decide +kernel
theorem dX2_train_32 : decode cX2_train 32 = .ok (.getfield 96, 3) := by decide +kernel
theorem dX2_train_35 : decode cX2_train 35 = .ok (.iload_n 1, 1) := by decide +kernel
theorem dX2_train_36 : decode cX2_train 36 = .ok (.iastore, 1) := by decide +kernel
theorem dX2_train_37 : decode cX2_train 37 = .ok (.aload_n 0, 1) := by decide +kernel
theorem dX2_train_38 : decode cX2_train 38 = .ok (.dup, 1) := by decide +kernel
theorem dX2_train_39 : decode cX2_train 39 = .ok (.getfield 96, 3) := by decide +kernel
theorem dX2_train_42 : decode cX2_train 42 = .ok (.iconst 1, 1) := by decide +kernel
theorem dX2_train_43 : decode cX2_train 43 = .ok (.iadd, 1) := by decide +kernel
theorem dX2_train_44 : decode cX2_train 44 = .ok (.putfield 96, 3) := by decide +kernel
theorem dX2_train_47 : decode cX2_train 47 = .ok (.aload_n 0, 1) := by decide +kernel
theorem dX2_train_48 : decode cX2_train 48 = .ok (.getfield 96, 3) := by decide +kernel
theorem dX2_train_51 : decode cX2_train 51 = .ok (.iconst 1, 1) := by decide +kernel
theorem dX2_train_52 : decode cX2_train 52 = .ok (.isub, 1) := by decide +kernel
theorem dX2_train_53 : decode cX2_train 53 = .ok (.ireturn, 1) := by decide +kernel
abbrev cX2_stop : ByteArray := prog_10_method_9_code
def yX2_stop : MethodName := ⟨RX2, "stop", "(III)I"⟩
theorem dX2_stop_0 : decode cX2_stop 0 = .ok (.aload_n 0, 1) := by decide +kernel
theorem dX2_stop_1 : decode cX2_stop 1 = .ok (.iconst 0, 1) := by decide +kernel
theorem dX2_stop_2 : decode cX2_stop 2 = .ok (.putfield 92, 3) := by decide +kernel
theorem dX2_stop_5 : decode cX2_stop 5 = .ok (.aload_n 0, 1) := by decide +kernel
theorem dX2_stop_6 : decode cX2_stop 6 = .ok (.iload_n 1, 1) := by decide +kernel
theorem dX2_stop_7 : decode cX2_stop 7 = .ok (.invokevirtual 105, 3) := by decide +kernel
theorem dX2_stop_10 : decode cX2_stop 10 = .ok (.ifCond .ne 8, 3) := by decide +kernel
theorem dX2_stop_13 : decode cX2_stop 13 = .ok (.aload_n 0, 1) := by decide +kernel
theorem dX2_stop_14 : decode cX2_stop 14 = .ok (.invokevirtual 109, 3) := by decide +kernel
theorem dX2_stop_17 : decode cX2_stop 17 = .ok (.ireturn, 1) := by decide +kernel
theorem dX2_stop_18 : decode cX2_stop 18 = .ok (.aload_n 0, 1) := by decide +kernel
theorem dX2_stop_19 : decode cX2_stop 19 = .ok (.getfield 16, 3) := by decide +kernel
theorem dX2_stop_22 : decode cX2_stop 22 = .ok (.iload_n 1, 1) := by decide +kernel
theorem dX2_stop_23 : decode cX2_stop 23 = .ok (.iaload, 1) := by decide +kernel
theorem dX2_stop_24 : decode cX2_stop 24 = .ok (.istore 4, 2) := by decide +kernel
theorem dX2_stop_26 : decode cX2_stop 26 = .ok (.iconst 0, 1) := by decide +kernel
theorem dX2_stop_27 : decode cX2_stop 27 = .ok (.istore 5, 2) := by decide +kernel
theorem dX2_stop_29 : decode cX2_stop 29 = .ok (.iconst 0, 1) := by decide +kernel
theorem dX2_stop_30 : decode cX2_stop 30 = .ok (.istore 6, 2) := by decide +kernel
theorem dX2_stop_32 : decode cX2_stop 32 = .ok (.iload 6, 2) := by decide +kernel
theorem dX2_stop_34 : decode cX2_stop 34 = .ok (.iload 4, 2) := by decide +kernel
theorem dX2_stop_36 : decode cX2_stop 36 = .ok (.if_icmp .ge 26, 3) := by decide +kernel
theorem dX2_stop_39 : decode cX2_stop 39 = .ok (.aload_n 0, 1) := by decide +kernel
theorem dX2_stop_40 : decode cX2_stop 40 = .ok (.getfield 25, 3) := by decide +kernel
theorem dX2_stop_43 : decode cX2_stop 43 = .ok (.iload_n 1, 1) := by decide +kernel
theorem dX2_stop_44 : decode cX2_stop 44 = .ok (.iload 6, 2) := by decide +kernel
theorem dX2_stop_46 : decode cX2_stop 46 = .ok (.invokestatic 113, 3) := by decide +kernel
theorem dX2_stop_49 : decode cX2_stop 49 = .ok (.iaload, 1) := by decide +kernel
theorem dX2_stop_50 : decode cX2_stop 50 = .ok (.ifCond .le 6, 3) := by decide +kernel
theorem dX2_stop_53 : decode cX2_stop 53 = .ok (.iconst 1, 1) := by decide +kernel
theorem dX2_stop_54 : decode cX2_stop 54 = .ok (.istore 5, 2) := by decide +kernel
theorem dX2_stop_56 : decode cX2_stop 56 = .ok (.iinc 6 1, 3) := by decide +kernel
theorem dX2_stop_59 : decode cX2_stop 59 = .ok (.goto (-27), 3) := by decide +kernel
theorem dX2_stop_62 : decode cX2_stop 62 = .ok (.iload 4, 2) := by decide +kernel
theorem dX2_stop_64 : decode cX2_stop 64 = .ok (.bipush 10, 2) := by decide +kernel
theorem dX2_stop_66 : decode cX2_stop 66 = .ok (.if_icmp .eq 31, 3) := by decide +kernel
theorem dX2_stop_69 : decode cX2_stop 69 = .ok (.iload 5, 2) := by decide +kernel
theorem dX2_stop_71 : decode cX2_stop 71 = .ok (.ifCond .ne 26, 3) := by decide +kernel
theorem dX2_stop_74 : decode cX2_stop 74 = .ok (.iload_n 2, 1) := by decide +kernel
theorem dX2_stop_75 : decode cX2_stop 75 = .ok (.ifCond .lt 22, 3) := by decide +kernel
theorem dX2_stop_78 : decode cX2_stop 78 = .ok (.iload_n 2, 1) := by decide +kernel
theorem dX2_stop_79 : decode cX2_stop 79 = .ok (.aload_n 0, 1) := by decide +kernel
theorem dX2_stop_80 : decode cX2_stop 80 = .ok (.getfield 102, 3) := by decide +kernel
theorem dX2_stop_83 : decode cX2_stop 83 = .ok (.if_icmp .ge 14, 3) := by decide +kernel
theorem dX2_stop_86 : decode cX2_stop 86 = .ok (.iload_n 3, 1) := by decide +kernel
theorem dX2_stop_87 : decode cX2_stop 87 = .ok (.ifCond .lt 10, 3) := by decide +kernel
theorem dX2_stop_90 : decode cX2_stop 90 = .ok (.iload_n 3, 1) := by decide +kernel
theorem dX2_stop_91 : decode cX2_stop 91 = .ok (.sipush 1439, 3) := by decide +kernel
theorem dX2_stop_94 : decode cX2_stop 94 = .ok (.if_icmp .le 5, 3) := by decide +kernel
theorem dX2_stop_97 : decode cX2_stop 97 = .ok (.iconst (-1), 1) := by decide +kernel
theorem dX2_stop_98 : decode cX2_stop 98 = .ok (.ireturn, 1) := by decide +kernel
theorem dX2_stop_99 : decode cX2_stop 99 = .ok (.iload 4, 2) := by decide +kernel
theorem dX2_stop_101 : decode cX2_stop 101 = .ok (.ifCond .le 39, 3) := by decide +kernel
theorem dX2_stop_104 : decode cX2_stop 104 = .ok (.aload_n 0, 1) := by decide +kernel
theorem dX2_stop_105 : decode cX2_stop 105 = .ok (.getfield 22, 3) := by decide +kernel
theorem dX2_stop_108 : decode cX2_stop 108 = .ok (.iload_n 1, 1) := by decide +kernel
theorem dX2_stop_109 : decode cX2_stop 109 = .ok (.iload 4, 2) := by decide +kernel
theorem dX2_stop_111 : decode cX2_stop 111 = .ok (.iconst 1, 1) := by decide +kernel
theorem dX2_stop_112 : decode cX2_stop 112 = .ok (.isub, 1) := by decide +kernel
theorem dX2_stop_113 : decode cX2_stop 113 = .ok (.invokestatic 113, 3) := by decide +kernel
theorem dX2_stop_116 : decode cX2_stop 116 = .ok (.iaload, 1) := by decide +kernel
theorem dX2_stop_117 : decode cX2_stop 117 = .ok (.iload_n 3, 1) := by decide +kernel
theorem dX2_stop_118 : decode cX2_stop 118 = .ok (.if_icmp .ge 20, 3) := by decide +kernel
theorem dX2_stop_121 : decode cX2_stop 121 = .ok (.aload_n 0, 1) := by decide +kernel
theorem dX2_stop_122 : decode cX2_stop 122 = .ok (.getfield 19, 3) := by decide +kernel
theorem dX2_stop_125 : decode cX2_stop 125 = .ok (.iload_n 1, 1) := by decide +kernel
theorem dX2_stop_126 : decode cX2_stop 126 = .ok (.iload 4, 2) := by decide +kernel
theorem dX2_stop_128 : decode cX2_stop 128 = .ok (.iconst 1, 1) := by decide +kernel
theorem dX2_stop_129 : decode cX2_stop 129 = .ok (.isub, 1) := by decide +kernel
theorem dX2_stop_130 : decode cX2_stop 130 = .ok (.invokestatic 113, 3) := by decide +kernel
theorem dX2_stop_133 : decode cX2_stop 133 = .ok (.iaload, 1) := by decide +kernel
theorem dX2_stop_134 : decode cX2_stop 134 = .ok (.iload_n 2, 1) := by decide +kernel
theorem dX2_stop_135 : decode cX2_stop 135 = .ok (.if_icmp .ne 5, 3) := by decide +kernel
theorem dX2_stop_138 : decode cX2_stop 138 = .ok (.iconst (-1), 1) := by decide +kernel
theorem dX2_stop_139 : decode cX2_stop 139 = .ok (.ireturn, 1) := by decide +kernel
theorem dX2_stop_140 : decode cX2_stop 140 = .ok (.aload_n 0, 1) := by decide +kernel
theorem dX2_stop_141 : decode cX2_stop 141 = .ok (.getfield 19, 3) := by decide +kernel
theorem dX2_stop_144 : decode cX2_stop 144 = .ok (.iload_n 1, 1) := by decide +kernel
theorem dX2_stop_145 : decode cX2_stop 145 = .ok (.iload 4, 2) := by decide +kernel
theorem dX2_stop_147 : decode cX2_stop 147 = .ok (.invokestatic 113, 3) := by decide +kernel
theorem dX2_stop_150 : decode cX2_stop 150 = .ok (.iload_n 2, 1) := by decide +kernel
theorem dX2_stop_151 : decode cX2_stop 151 = .ok (.iastore, 1) := by decide +kernel
theorem dX2_stop_152 : decode cX2_stop 152 = .ok (.aload_n 0, 1) := by decide +kernel
theorem dX2_stop_153 : decode cX2_stop 153 = .ok (.getfield 22, 3) := by decide +kernel
theorem dX2_stop_156 : decode cX2_stop 156 = .ok (.iload_n 1, 1) := by decide +kernel
theorem dX2_stop_157 : decode cX2_stop 157 = .ok (.iload 4, 2) := by decide +kernel
theorem dX2_stop_159 : decode cX2_stop 159 = .ok (.invokestatic 113, 3) := by decide +kernel
theorem dX2_stop_162 : decode cX2_stop 162 = .ok (.iload_n 3, 1) := by decide +kernel
theorem dX2_stop_163 : decode cX2_stop 163 = .ok (.iastore, 1) := by decide +kernel
theorem dX2_stop_164 : decode cX2_stop 164 = .ok (.aload_n 0, 1) := by decide +kernel
theorem dX2_stop_165 : decode cX2_stop 165 = .ok (.getfield 16, 3) := by decide +kernel
theorem dX2_stop_168 : decode cX2_stop 168 = .ok (.iload_n 1, 1) := by decide +kernel
theorem dX2_stop_169 : decode cX2_stop 169 = .ok (.dup2, 1) := by decide +kernel
theorem dX2_stop_170 : decode cX2_stop 170 = .ok (.iaload, 1) := by decide +kernel
theorem dX2_stop_171 : decode cX2_stop 171 = .ok (.iconst 1, 1) := by decide +kernel
theorem dX2_stop_172 : decode cX2_stop 172 = .ok (.iadd, 1) := by decide +kernel
theorem dX2_stop_173 : decode cX2_stop 173 = .ok (.iastore, 1) := by decide +kernel
theorem dX2_stop_174 : decode cX2_stop 174 = .ok (.iload 4, 2) := by decide +kernel
theorem dX2_stop_176 : decode cX2_stop 176 = .ok (.ireturn, 1) := by decide +kernel
abbrev cX2_isTrain : ByteArray := prog_10_method_4_code
def yX2_isTrain : MethodName := ⟨RX2, "isTrain", "(I)Z"⟩
theorem dX2_isTrain_0 : decode cX2_isTrain 0 = .ok (.iload_n 1, 1) := by decide +kernel
theorem dX2_isTrain_1 : decode cX2_isTrain 1 = .ok (.ifCond .lt 15, 3) := by decide +kernel
theorem dX2_isTrain_4 : decode cX2_isTrain 4 = .ok (.iload_n 1, 1) := by decide +kernel
theorem dX2_isTrain_5 : decode cX2_isTrain 5 = .ok (.aload_n 0, 1) := by decide +kernel
theorem dX2_isTrain_6 : decode cX2_isTrain 6 = .ok (.getfield 96, 3) := by decide +kernel
theorem dX2_isTrain_9 : decode cX2_isTrain 9 = .ok (.if_icmp .ge 7, 3) := by decide +kernel
theorem dX2_isTrain_12 : decode cX2_isTrain 12 = .ok (.iconst 1, 1) := by decide +kernel
theorem dX2_isTrain_13 : decode cX2_isTrain 13 = .ok (.goto 4, 3) := by decide +kernel
theorem dX2_isTrain_16 : decode cX2_isTrain 16 = .ok (.iconst 0, 1) := by decide +kernel
theorem dX2_isTrain_17 : decode cX2_isTrain 17 = .ok (.ireturn, 1) := by decide +kernel
abbrev cX2_fail : ByteArray := prog_10_method_3_code
def yX2_fail : MethodName := ⟨RX2, "fail", "()I"⟩
theorem dX2_fail_0 : decode cX2_fail 0 = .ok (.aload_n 0, 1) := by decide +kernel
theorem dX2_fail_1 : decode cX2_fail 1 = .ok (.iconst 1, 1) := by decide +kernel
theorem dX2_fail_2 : decode cX2_fail 2 = .ok (.putfield 92, 3) := by decide +kernel
theorem dX2_fail_5 : decode cX2_fail 5 = .ok (.iconst 0, 1) := by decide +kernel
theorem dX2_fail_6 : decode cX2_fail 6 = .ok (.ireturn, 1) := by decide +kernel
abbrev cX2_node : ByteArray := prog_10_method_8_code
def yX2_node : MethodName := ⟨RX2, "node", "(II)I"⟩
theorem dX2_node_0 : decode cX2_node 0 = .ok (.bipush 10, 2) := by decide +kernel
theorem dX2_node_2 : decode cX2_node 2 = .ok (.iload_n 0, 1) := by decide +kernel
theorem dX2_node_3 : decode cX2_node 3 = .ok (.imul, 1) := by decide +kernel
theorem dX2_node_4 : decode cX2_node 4 = .ok (.iload_n 1, 1) := by decide +kernel
theorem dX2_node_5 : decode cX2_node 5 = .ok (.iadd, 1) := by decide +kernel
theorem dX2_node_6 : decode cX2_node 6 = .ok (.ireturn, 1) := by decide +kernel
abbrev cX2_box : ByteArray := prog_10_method_10_code
def yX2_box : MethodName := ⟨RX2, "box", "(IIIIII)I"⟩
theorem dX2_box_0 : decode cX2_box 0 = .ok (.aload_n 0, 1) := by decide +kernel
theorem dX2_box_1 : decode cX2_box 1 = .ok (.iconst 0, 1) := by decide +kernel
theorem dX2_box_2 : decode cX2_box 2 = .ok (.putfield 92, 3) := by decide +kernel
theorem dX2_box_5 : decode cX2_box 5 = .ok (.iload_n 1, 1) := by decide +kernel
theorem dX2_box_6 : decode cX2_box 6 = .ok (.ifCond .lt 51, 3) := by decide +kernel
theorem dX2_box_9 : decode cX2_box 9 = .ok (.iload_n 1, 1) := by decide +kernel
theorem dX2_box_10 : decode cX2_box 10 = .ok (.aload_n 0, 1) := by decide +kernel
theorem dX2_box_11 : decode cX2_box 11 = .ok (.getfield 102, 3) := by decide +kernel
theorem dX2_box_14 : decode cX2_box 14 = .ok (.if_icmp .ge 43, 3) := by decide +kernel
theorem dX2_box_17 : decode cX2_box 17 = .ok (.iload 4, 2) := by decide +kernel
theorem dX2_box_19 : decode cX2_box 19 = .ok (.ifCond .lt 38, 3) := by decide +kernel
theorem dX2_box_22 : decode cX2_box 22 = .ok (.iload 4, 2) := by decide +kernel
theorem dX2_box_24 : decode cX2_box 24 = .ok (.aload_n 0, 1) := by decide +kernel
theorem dX2_box_25 : decode cX2_box 25 = .ok (.getfield 102, 3) := by decide +kernel
theorem dX2_box_28 : decode cX2_box 28 = .ok (.if_icmp .ge 29, 3) := by decide +kernel
theorem dX2_box_31 : decode cX2_box 31 = .ok (.iload_n 2, 1) := by decide +kernel
theorem dX2_box_32 : decode cX2_box 32 = .ok (.ifCond .lt 25, 3) := by decide +kernel
theorem dX2_box_35 : decode cX2_box 35 = .ok (.iload_n 2, 1) := by decide +kernel
theorem dX2_box_36 : decode cX2_box 36 = .ok (.bipush 120, 2) := by decide +kernel
theorem dX2_box_38 : decode cX2_box 38 = .ok (.if_icmp .gt 19, 3) := by decide +kernel
theorem dX2_box_41 : decode cX2_box 41 = .ok (.iload 5, 2) := by decide +kernel
theorem dX2_box_43 : decode cX2_box 43 = .ok (.ifCond .lt 14, 3) := by decide +kernel
theorem dX2_box_46 : decode cX2_box 46 = .ok (.iload 5, 2) := by decide +kernel
theorem dX2_box_48 : decode cX2_box 48 = .ok (.bipush 120, 2) := by decide +kernel
theorem dX2_box_50 : decode cX2_box 50 = .ok (.if_icmp .gt 7, 3) := by decide +kernel
theorem dX2_box_53 : decode cX2_box 53 = .ok (.iconst 1, 1) := by decide +kernel
theorem dX2_box_54 : decode cX2_box 54 = .ok (.goto 4, 3) := by decide +kernel
theorem dX2_box_57 : decode cX2_box 57 = .ok (.iconst 0, 1) := by decide +kernel
theorem dX2_box_58 : decode cX2_box 58 = .ok (.istore 7, 2) := by decide +kernel
theorem dX2_box_60 : decode cX2_box 60 = .ok (.aload_n 0, 1) := by decide +kernel
theorem dX2_box_61 : decode cX2_box 61 = .ok (.getfield 99, 3) := by decide +kernel
theorem dX2_box_64 : decode cX2_box 64 = .ok (.bipush 60, 2) := by decide +kernel
theorem dX2_box_66 : decode cX2_box 66 = .ok (.if_icmp .eq 32, 3) := by decide +kernel
theorem dX2_box_69 : decode cX2_box 69 = .ok (.iload 7, 2) := by decide +kernel
theorem dX2_box_71 : decode cX2_box 71 = .ok (.ifCond .eq 27, 3) := by decide +kernel
theorem dX2_box_74 : decode cX2_box 74 = .ok (.iload_n 3, 1) := by decide +kernel
theorem dX2_box_75 : decode cX2_box 75 = .ok (.ifCond .lt 23, 3) := by decide +kernel
theorem dX2_box_78 : decode cX2_box 78 = .ok (.iload_n 3, 1) := by decide +kernel
theorem dX2_box_79 : decode cX2_box 79 = .ok (.sipush 1439, 3) := by decide +kernel
theorem dX2_box_82 : decode cX2_box 82 = .ok (.if_icmp .gt 16, 3) := by decide +kernel
theorem dX2_box_85 : decode cX2_box 85 = .ok (.iload 6, 2) := by decide +kernel
theorem dX2_box_87 : decode cX2_box 87 = .ok (.ifCond .lt 11, 3) := by decide +kernel
theorem dX2_box_90 : decode cX2_box 90 = .ok (.iload 6, 2) := by decide +kernel
theorem dX2_box_92 : decode cX2_box 92 = .ok (.sipush 1439, 3) := by decide +kernel
theorem dX2_box_95 : decode cX2_box 95 = .ok (.if_icmp .le 5, 3) := by decide +kernel
theorem dX2_box_98 : decode cX2_box 98 = .ok (.iconst (-1), 1) := by decide +kernel
theorem dX2_box_99 : decode cX2_box 99 = .ok (.ireturn, 1) := by decide +kernel
theorem dX2_box_100 : decode cX2_box 100 = .ok (.aload_n 0, 1) := by decide +kernel
theorem dX2_box_101 : decode cX2_box 101 = .ok (.getfield 35, 3) := by decide +kernel
theorem dX2_box_104 : decode cX2_box 104 = .ok (.aload_n 0, 1) := by decide +kernel
theorem dX2_box_105 : decode cX2_box 105 = .ok (.getfield 99, 3) := by decide +kernel
theorem dX2_box_108 : decode cX2_box 108 = .ok (.iload_n 1, 1) := by decide +kernel
theorem dX2_box_109 : decode cX2_box 109 = .ok (.iastore, 1) := by decide +kernel
theorem dX2_box_110 : decode cX2_box 110 = .ok (.aload_n 0, 1) := by decide +kernel
theorem dX2_box_111 : decode cX2_box 111 = .ok (.getfield 38, 3) := by decide +kernel
theorem dX2_box_114 : decode cX2_box 114 = .ok (.aload_n 0, 1) := by decide +kernel
theorem dX2_box_115 : decode cX2_box 115 = .ok (.getfield 99, 3) := by decide +kernel
theorem dX2_box_118 : decode cX2_box 118 = .ok (.iload_n 2, 1) := by decide +kernel
theorem dX2_box_119 : decode cX2_box 119 = .ok (.iastore, 1) := by decide +kernel
theorem dX2_box_120 : decode cX2_box 120 = .ok (.aload_n 0, 1) := by decide +kernel
theorem dX2_box_121 : decode cX2_box 121 = .ok (.getfield 41, 3) := by decide +kernel
theorem dX2_box_124 : decode cX2_box 124 = .ok (.aload_n 0, 1) := by decide +kernel
theorem dX2_box_125 : decode cX2_box 125 = .ok (.getfield 99, 3) := by decide +kernel
theorem dX2_box_128 : decode cX2_box 128 = .ok (.iload_n 3, 1) := by decide +kernel
theorem dX2_box_129 : decode cX2_box 129 = .ok (.iastore, 1) := by decide +kernel
theorem dX2_box_130 : decode cX2_box 130 = .ok (.aload_n 0, 1) := by decide +kernel
theorem dX2_box_131 : decode cX2_box 131 = .ok (.getfield 44, 3) := by decide +kernel
theorem dX2_box_134 : decode cX2_box 134 = .ok (.aload_n 0, 1) := by decide +kernel
theorem dX2_box_135 : decode cX2_box 135 = .ok (.getfield 99, 3) := by decide +kernel
theorem dX2_box_138 : decode cX2_box 138 = .ok (.iload 4, 2) := by decide +kernel
theorem dX2_box_140 : decode cX2_box 140 = .ok (.iastore, 1) := by decide +kernel
theorem dX2_box_141 : decode cX2_box 141 = .ok (.aload_n 0, 1) := by decide +kernel
theorem dX2_box_142 : decode cX2_box 142 = .ok (.getfield 47, 3) := by decide +kernel
theorem dX2_box_145 : decode cX2_box 145 = .ok (.aload_n 0, 1) := by decide +kernel
theorem dX2_box_146 : decode cX2_box 146 = .ok (.getfield 99, 3) := by decide +kernel
theorem dX2_box_149 : decode cX2_box 149 = .ok (.iload 5, 2) := by decide +kernel
theorem dX2_box_151 : decode cX2_box 151 = .ok (.iastore, 1) := by decide +kernel
theorem dX2_box_152 : decode cX2_box 152 = .ok (.aload_n 0, 1) := by decide +kernel
theorem dX2_box_153 : decode cX2_box 153 = .ok (.getfield 50, 3) := by decide +kernel
theorem dX2_box_156 : decode cX2_box 156 = .ok (.aload_n 0, 1) := by decide +kernel
theorem dX2_box_157 : decode cX2_box 157 = .ok (.getfield 99, 3) := by decide +kernel
theorem dX2_box_160 : decode cX2_box 160 = .ok (.iload 6, 2) := by decide +kernel
theorem dX2_box_162 : decode cX2_box 162 = .ok (.iastore, 1) := by decide +kernel
theorem dX2_box_163 : decode cX2_box 163 = .ok (.aload_n 0, 1) := by decide +kernel
theorem dX2_box_164 : decode cX2_box 164 = .ok (.getfield 68, 3) := by decide +kernel
theorem dX2_box_167 : decode cX2_box 167 = .ok (.iconst 2, 1) := by decide +kernel
theorem dX2_box_168 : decode cX2_box 168 = .ok (.aload_n 0, 1) := by decide +kernel
theorem dX2_box_169 : decode cX2_box 169 = .ok (.getfield 99, 3) := by decide +kernel
theorem dX2_box_172 : decode cX2_box 172 = .ok (.imul, 1) := by decide +kernel
theorem dX2_box_173 : decode cX2_box 173 = .ok (.iconst (-1), 1) := by decide +kernel
theorem dX2_box_174 : decode cX2_box 174 = .ok (.iastore, 1) := by decide +kernel
theorem dX2_box_175 : decode cX2_box 175 = .ok (.aload_n 0, 1) := by decide +kernel
theorem dX2_box_176 : decode cX2_box 176 = .ok (.getfield 68, 3) := by decide +kernel
theorem dX2_box_179 : decode cX2_box 179 = .ok (.iconst 2, 1) := by decide +kernel
theorem dX2_box_180 : decode cX2_box 180 = .ok (.aload_n 0, 1) := by decide +kernel
theorem dX2_box_181 : decode cX2_box 181 = .ok (.getfield 99, 3) := by decide +kernel
theorem dX2_box_184 : decode cX2_box 184 = .ok (.imul, 1) := by decide +kernel
theorem dX2_box_185 : decode cX2_box 185 = .ok (.iconst 1, 1) := by decide +kernel
theorem dX2_box_186 : decode cX2_box 186 = .ok (.iadd, 1) := by decide +kernel
theorem dX2_box_187 : decode cX2_box 187 = .ok (.iconst (-1), 1) := by decide +kernel
theorem dX2_box_188 : decode cX2_box 188 = .ok (.iastore, 1) := by decide +kernel
theorem dX2_box_189 : decode cX2_box 189 = .ok (.aload_n 0, 1) := by decide +kernel
theorem dX2_box_190 : decode cX2_box 190 = .ok (.dup, 1) := by decide +kernel
theorem dX2_box_191 : decode cX2_box 191 = .ok (.getfield 99, 3) := by decide +kernel
theorem dX2_box_194 : decode cX2_box 194 = .ok (.iconst 1, 1) := by decide +kernel
theorem dX2_box_195 : decode cX2_box 195 = .ok (.iadd, 1) := by decide +kernel
theorem dX2_box_196 : decode cX2_box 196 = .ok (.putfield 99, 3) := by decide +kernel
theorem dX2_box_199 : decode cX2_box 199 = .ok (.aload_n 0, 1) := by decide +kernel
theorem dX2_box_200 : decode cX2_box 200 = .ok (.getfield 99, 3) := by decide +kernel
theorem dX2_box_203 : decode cX2_box 203 = .ok (.iconst 1, 1) := by decide +kernel
theorem dX2_box_204 : decode cX2_box 204 = .ok (.isub, 1) := by decide +kernel
theorem dX2_box_205 : decode cX2_box 205 = .ok (.ireturn, 1) := by decide +kernel
abbrev cX2_plan : ByteArray := prog_10_method_28_code
def yX2_plan : MethodName := ⟨RX2, "plan", "()I"⟩
theorem dX2_plan_0 : decode cX2_plan 0 = .ok (.aload_n 0, 1) := by decide +kernel
theorem dX2_plan_1 : decode cX2_plan 1 = .ok (.iconst 0, 1) := by decide +kernel
theorem dX2_plan_2 : decode cX2_plan 2 = .ok (.putfield 92, 3) := by decide +kernel
theorem dX2_plan_5 : decode cX2_plan 5 = .ok (.iconst 0, 1) := by decide +kernel
theorem dX2_plan_6 : decode cX2_plan 6 = .ok (.istore_n 1, 1) := by decide +kernel
theorem dX2_plan_7 : decode cX2_plan 7 = .ok (.iconst 0, 1) := by decide +kernel
theorem dX2_plan_8 : decode cX2_plan 8 = .ok (.istore_n 2, 1) := by decide +kernel
theorem dX2_plan_9 : decode cX2_plan 9 = .ok (.iload_n 2, 1) := by decide +kernel
theorem dX2_plan_10 : decode cX2_plan 10 = .ok (.aload_n 0, 1) := by decide +kernel
theorem dX2_plan_11 : decode cX2_plan 11 = .ok (.getfield 99, 3) := by decide +kernel
theorem dX2_plan_14 : decode cX2_plan 14 = .ok (.if_icmp .ge 110, 3) := by decide +kernel
theorem dX2_plan_17 : decode cX2_plan 17 = .ok (.aload_n 0, 1) := by decide +kernel
theorem dX2_plan_18 : decode cX2_plan 18 = .ok (.iload_n 2, 1) := by decide +kernel
theorem dX2_plan_19 : decode cX2_plan 19 = .ok (.invokevirtual 133, 3) := by decide +kernel
theorem dX2_plan_22 : decode cX2_plan 22 = .ok (.istore_n 3, 1) := by decide +kernel
theorem dX2_plan_23 : decode cX2_plan 23 = .ok (.aload_n 0, 1) := by decide +kernel
theorem dX2_plan_24 : decode cX2_plan 24 = .ok (.getfield 68, 3) := by decide +kernel
theorem dX2_plan_27 : decode cX2_plan 27 = .ok (.iload_n 3, 1) := by decide +kernel
theorem dX2_plan_28 : decode cX2_plan 28 = .ok (.iaload, 1) := by decide +kernel
theorem dX2_plan_29 : decode cX2_plan 29 = .ok (.iconst (-1), 1) := by decide +kernel
theorem dX2_plan_30 : decode cX2_plan 30 = .ok (.if_icmp .eq 41, 3) := by decide +kernel
theorem dX2_plan_33 : decode cX2_plan 33 = .ok (.iload_n 1, 1) := by decide +kernel
theorem dX2_plan_34 : decode cX2_plan 34 = .ok (.aload_n 0, 1) := by decide +kernel
theorem dX2_plan_35 : decode cX2_plan 35 = .ok (.iload_n 2, 1) := by decide +kernel
theorem dX2_plan_36 : decode cX2_plan 36 = .ok (.aload_n 0, 1) := by decide +kernel
theorem dX2_plan_37 : decode cX2_plan 37 = .ok (.getfield 68, 3) := by decide +kernel
theorem dX2_plan_40 : decode cX2_plan 40 = .ok (.iload_n 3, 1) := by decide +kernel
theorem dX2_plan_41 : decode cX2_plan 41 = .ok (.iaload, 1) := by decide +kernel
theorem dX2_plan_42 : decode cX2_plan 42 = .ok (.aload_n 0, 1) := by decide +kernel
theorem dX2_plan_43 : decode cX2_plan 43 = .ok (.getfield 185, 3) := by decide +kernel
theorem dX2_plan_46 : decode cX2_plan 46 = .ok (.aload_n 0, 1) := by decide +kernel
theorem dX2_plan_47 : decode cX2_plan 47 = .ok (.getfield 71, 3) := by decide +kernel
theorem dX2_plan_50 : decode cX2_plan 50 = .ok (.iload_n 3, 1) := by decide +kernel
theorem dX2_plan_51 : decode cX2_plan 51 = .ok (.iaload, 1) := by decide +kernel
theorem dX2_plan_52 : decode cX2_plan 52 = .ok (.invokestatic 188, 3) := by decide +kernel
theorem dX2_plan_55 : decode cX2_plan 55 = .ok (.invokevirtual 193, 3) := by decide +kernel
theorem dX2_plan_58 : decode cX2_plan 58 = .ok (.ifCond .eq 7, 3) := by decide +kernel
theorem dX2_plan_61 : decode cX2_plan 61 = .ok (.iconst 1, 1) := by decide +kernel
theorem dX2_plan_62 : decode cX2_plan 62 = .ok (.goto 4, 3) := by decide +kernel
theorem dX2_plan_65 : decode cX2_plan 65 = .ok (.iconst 0, 1) := by decide +kernel
theorem dX2_plan_66 : decode cX2_plan 66 = .ok (.iadd, 1) := by decide +kernel
theorem dX2_plan_67 : decode cX2_plan 67 = .ok (.istore_n 1, 1) := by decide +kernel
theorem dX2_plan_68 : decode cX2_plan 68 = .ok (.goto 50, 3) := by decide +kernel
theorem dX2_plan_71 : decode cX2_plan 71 = .ok (.aload_n 0, 1) := by decide +kernel
theorem dX2_plan_72 : decode cX2_plan 72 = .ok (.getfield 59, 3) := by decide +kernel
theorem dX2_plan_75 : decode cX2_plan 75 = .ok (.iload_n 3, 1) := by decide +kernel
theorem dX2_plan_76 : decode cX2_plan 76 = .ok (.baload, 1) := by decide +kernel
theorem dX2_plan_77 : decode cX2_plan 77 = .ok (.ifCond .ne 41, 3) := by decide +kernel
theorem dX2_plan_80 : decode cX2_plan 80 = .ok (.aload_n 0, 1) := by decide +kernel
theorem dX2_plan_81 : decode cX2_plan 81 = .ok (.iload_n 2, 1) := by decide +kernel
theorem dX2_plan_82 : decode cX2_plan 82 = .ok (.invokevirtual 117, 3) := by decide +kernel
theorem dX2_plan_85 : decode cX2_plan 85 = .ok (.aload_n 0, 1) := by decide +kernel
theorem dX2_plan_86 : decode cX2_plan 86 = .ok (.getfield 185, 3) := by decide +kernel
theorem dX2_plan_89 : decode cX2_plan 89 = .ok (.if_icmp .lt 29, 3) := by decide +kernel
theorem dX2_plan_92 : decode cX2_plan 92 = .ok (.iload_n 1, 1) := by decide +kernel
theorem dX2_plan_93 : decode cX2_plan 93 = .ok (.aload_n 0, 1) := by decide +kernel
theorem dX2_plan_94 : decode cX2_plan 94 = .ok (.iload_n 2, 1) := by decide +kernel
theorem dX2_plan_95 : decode cX2_plan 95 = .ok (.aload_n 0, 1) := by decide +kernel
theorem dX2_plan_96 : decode cX2_plan 96 = .ok (.iload_n 2, 1) := by decide +kernel
theorem dX2_plan_97 : decode cX2_plan 97 = .ok (.invokevirtual 121, 3) := by decide +kernel
theorem dX2_plan_100 : decode cX2_plan 100 = .ok (.aload_n 0, 1) := by decide +kernel
theorem dX2_plan_101 : decode cX2_plan 101 = .ok (.iload_n 2, 1) := by decide +kernel
theorem dX2_plan_102 : decode cX2_plan 102 = .ok (.invokevirtual 124, 3) := by decide +kernel
theorem dX2_plan_105 : decode cX2_plan 105 = .ok (.invokevirtual 193, 3) := by decide +kernel
theorem dX2_plan_108 : decode cX2_plan 108 = .ok (.ifCond .eq 7, 3) := by decide +kernel
theorem dX2_plan_111 : decode cX2_plan 111 = .ok (.iconst 1, 1) := by decide +kernel
theorem dX2_plan_112 : decode cX2_plan 112 = .ok (.goto 4, 3) := by decide +kernel
theorem dX2_plan_115 : decode cX2_plan 115 = .ok (.iconst 0, 1) := by decide +kernel
theorem dX2_plan_116 : decode cX2_plan 116 = .ok (.iadd, 1) := by decide +kernel
theorem dX2_plan_117 : decode cX2_plan 117 = .ok (.istore_n 1, 1) := by decide +kernel
theorem dX2_plan_118 : decode cX2_plan 118 = .ok (.iinc 2 1, 3) := by decide +kernel
theorem dX2_plan_121 : decode cX2_plan 121 = .ok (.goto (-112), 3) := by decide +kernel
theorem dX2_plan_124 : decode cX2_plan 124 = .ok (.iload_n 1, 1) := by decide +kernel
theorem dX2_plan_125 : decode cX2_plan 125 = .ok (.ireturn, 1) := by decide +kernel
abbrev cX2_wayOf : ByteArray := prog_10_method_11_code
def yX2_wayOf : MethodName := ⟨RX2, "wayOf", "(I)I"⟩
theorem dX2_wayOf_0 : decode cX2_wayOf 0 = .ok (.iconst 2, 1) := by decide +kernel
theorem dX2_wayOf_1 : decode cX2_wayOf 1 = .ok (.iload_n 1, 1) := by decide +kernel
theorem dX2_wayOf_2 : decode cX2_wayOf 2 = .ok (.imul, 1) := by decide +kernel
theorem dX2_wayOf_3 : decode cX2_wayOf 3 = .ok (.aload_n 0, 1) := by decide +kernel
theorem dX2_wayOf_4 : decode cX2_wayOf 4 = .ok (.getfield 56, 3) := by decide +kernel
theorem dX2_wayOf_7 : decode cX2_wayOf 7 = .ok (.iload_n 1, 1) := by decide +kernel
theorem dX2_wayOf_8 : decode cX2_wayOf 8 = .ok (.baload, 1) := by decide +kernel
theorem dX2_wayOf_9 : decode cX2_wayOf 9 = .ok (.ifCond .eq 7, 3) := by decide +kernel
theorem dX2_wayOf_12 : decode cX2_wayOf 12 = .ok (.iconst 1, 1) := by decide +kernel
theorem dX2_wayOf_13 : decode cX2_wayOf 13 = .ok (.goto 4, 3) := by decide +kernel
theorem dX2_wayOf_16 : decode cX2_wayOf 16 = .ok (.iconst 0, 1) := by decide +kernel
theorem dX2_wayOf_17 : decode cX2_wayOf 17 = .ok (.iadd, 1) := by decide +kernel
theorem dX2_wayOf_18 : decode cX2_wayOf 18 = .ok (.ireturn, 1) := by decide +kernel
abbrev cX2_leadOn : ByteArray := prog_10_method_27_code
def yX2_leadOn : MethodName := ⟨RX2, "leadOn", "(III)Z"⟩
theorem dX2_leadOn_0 : decode cX2_leadOn 0 = .ok (.aload_n 0, 1) := by decide +kernel
theorem dX2_leadOn_1 : decode cX2_leadOn 1 = .ok (.iload_n 1, 1) := by decide +kernel
theorem dX2_leadOn_2 : decode cX2_leadOn 2 = .ok (.invokevirtual 133, 3) := by decide +kernel
theorem dX2_leadOn_5 : decode cX2_leadOn 5 = .ok (.istore 4, 2) := by decide +kernel
theorem dX2_leadOn_7 : decode cX2_leadOn 7 = .ok (.aload_n 0, 1) := by decide +kernel
theorem dX2_leadOn_8 : decode cX2_leadOn 8 = .ok (.getfield 65, 3) := by decide +kernel
theorem dX2_leadOn_11 : decode cX2_leadOn 11 = .ok (.iload 4, 2) := by decide +kernel
theorem dX2_leadOn_13 : decode cX2_leadOn 13 = .ok (.iaload, 1) := by decide +kernel
theorem dX2_leadOn_14 : decode cX2_leadOn 14 = .ok (.istore 5, 2) := by decide +kernel
theorem dX2_leadOn_16 : decode cX2_leadOn 16 = .ok (.aload_n 0, 1) := by decide +kernel
theorem dX2_leadOn_17 : decode cX2_leadOn 17 = .ok (.iload_n 1, 1) := by decide +kernel
theorem dX2_leadOn_18 : decode cX2_leadOn 18 = .ok (.iload_n 2, 1) := by decide +kernel
theorem dX2_leadOn_19 : decode cX2_leadOn 19 = .ok (.iload_n 3, 1) := by decide +kernel
theorem dX2_leadOn_20 : decode cX2_leadOn 20 = .ok (.invokevirtual 177, 3) := by decide +kernel
theorem dX2_leadOn_23 : decode cX2_leadOn 23 = .ok (.istore 6, 2) := by decide +kernel
theorem dX2_leadOn_25 : decode cX2_leadOn 25 = .ok (.aload_n 0, 1) := by decide +kernel
theorem dX2_leadOn_26 : decode cX2_leadOn 26 = .ok (.iload 4, 2) := by decide +kernel
theorem dX2_leadOn_28 : decode cX2_leadOn 28 = .ok (.iload 5, 2) := by decide +kernel
theorem dX2_leadOn_30 : decode cX2_leadOn 30 = .ok (.iconst 1, 1) := by decide +kernel
theorem dX2_leadOn_31 : decode cX2_leadOn 31 = .ok (.invokevirtual 181, 3) := by decide +kernel
theorem dX2_leadOn_34 : decode cX2_leadOn 34 = .ok (.iload 6, 2) := by decide +kernel
theorem dX2_leadOn_36 : decode cX2_leadOn 36 = .ok (.ireturn, 1) := by decide +kernel
abbrev cX2_lead : ByteArray := prog_10_method_25_code
def yX2_lead : MethodName := ⟨RX2, "lead", "(III)Z"⟩
theorem dX2_lead_0 : decode cX2_lead 0 = .ok (.aload_n 0, 1) := by decide +kernel
theorem dX2_lead_1 : decode cX2_lead 1 = .ok (.iload_n 1, 1) := by decide +kernel
theorem dX2_lead_2 : decode cX2_lead 2 = .ok (.invokevirtual 133, 3) := by decide +kernel
theorem dX2_lead_5 : decode cX2_lead 5 = .ok (.istore 4, 2) := by decide +kernel
theorem dX2_lead_7 : decode cX2_lead 7 = .ok (.aload_n 0, 1) := by decide +kernel
theorem dX2_lead_8 : decode cX2_lead 8 = .ok (.iload_n 1, 1) := by decide +kernel
theorem dX2_lead_9 : decode cX2_lead 9 = .ok (.invokevirtual 170, 3) := by decide +kernel
theorem dX2_lead_12 : decode cX2_lead 12 = .ok (.istore 5, 2) := by decide +kernel
theorem dX2_lead_14 : decode cX2_lead 14 = .ok (.aload_n 0, 1) := by decide +kernel
theorem dX2_lead_15 : decode cX2_lead 15 = .ok (.iload 5, 2) := by decide +kernel
theorem dX2_lead_17 : decode cX2_lead 17 = .ok (.invokevirtual 173, 3) := by decide +kernel
theorem dX2_lead_20 : decode cX2_lead 20 = .ok (.iconst 3, 1) := by decide +kernel
theorem dX2_lead_21 : decode cX2_lead 21 = .ok (.aload_n 0, 1) := by decide +kernel
theorem dX2_lead_22 : decode cX2_lead 22 = .ok (.getfield 65, 3) := by decide +kernel
theorem dX2_lead_25 : decode cX2_lead 25 = .ok (.iload 4, 2) := by decide +kernel
theorem dX2_lead_27 : decode cX2_lead 27 = .ok (.iaload, 1) := by decide +kernel
theorem dX2_lead_28 : decode cX2_lead 28 = .ok (.isub, 1) := by decide +kernel
theorem dX2_lead_29 : decode cX2_lead 29 = .ok (.istore 6, 2) := by decide +kernel
theorem dX2_lead_31 : decode cX2_lead 31 = .ok (.aload_n 0, 1) := by decide +kernel
theorem dX2_lead_32 : decode cX2_lead 32 = .ok (.iload 6, 2) := by decide +kernel
theorem dX2_lead_34 : decode cX2_lead 34 = .ok (.iload_n 2, 1) := by decide +kernel
theorem dX2_lead_35 : decode cX2_lead 35 = .ok (.iload_n 3, 1) := by decide +kernel
theorem dX2_lead_36 : decode cX2_lead 36 = .ok (.iload 5, 2) := by decide +kernel
theorem dX2_lead_38 : decode cX2_lead 38 = .ok (.invokevirtual 143, 3) := by decide +kernel
theorem dX2_lead_41 : decode cX2_lead 41 = .ok (.aload_n 0, 1) := by decide +kernel
theorem dX2_lead_42 : decode cX2_lead 42 = .ok (.getfield 147, 3) := by decide +kernel
theorem dX2_lead_45 : decode cX2_lead 45 = .ok (.ldc 153, 2) := by decide +kernel
theorem dX2_lead_47 : decode cX2_lead 47 = .ok (.if_icmp .lt 5, 3) := by decide +kernel
theorem dX2_lead_50 : decode cX2_lead 50 = .ok (.iconst 0, 1) := by decide +kernel
theorem dX2_lead_51 : decode cX2_lead 51 = .ok (.ireturn, 1) := by decide +kernel
theorem dX2_lead_52 : decode cX2_lead 52 = .ok (.aload_n 0, 1) := by decide +kernel
theorem dX2_lead_53 : decode cX2_lead 53 = .ok (.getfield 154, 3) := by decide +kernel
theorem dX2_lead_56 : decode cX2_lead 56 = .ok (.iconst (-1), 1) := by decide +kernel
theorem dX2_lead_57 : decode cX2_lead 57 = .ok (.if_icmp .eq 115, 3) := by decide +kernel
theorem dX2_lead_60 : decode cX2_lead 60 = .ok (.iload 4, 2) := by decide +kernel
theorem dX2_lead_62 : decode cX2_lead 62 = .ok (.aload_n 0, 1) := by decide +kernel
theorem dX2_lead_63 : decode cX2_lead 63 = .ok (.getfield 65, 3) := by decide +kernel
theorem dX2_lead_66 : decode cX2_lead 66 = .ok (.iload 4, 2) := by decide +kernel
theorem dX2_lead_68 : decode cX2_lead 68 = .ok (.iaload, 1) := by decide +kernel
theorem dX2_lead_69 : decode cX2_lead 69 = .ok (.invokestatic 127, 3) := by decide +kernel
theorem dX2_lead_72 : decode cX2_lead 72 = .ok (.istore 7, 2) := by decide +kernel
theorem dX2_lead_74 : decode cX2_lead 74 = .ok (.aload_n 0, 1) := by decide +kernel
theorem dX2_lead_75 : decode cX2_lead 75 = .ok (.getfield 74, 3) := by decide +kernel
theorem dX2_lead_78 : decode cX2_lead 78 = .ok (.iload 7, 2) := by decide +kernel
theorem dX2_lead_80 : decode cX2_lead 80 = .ok (.aload_n 0, 1) := by decide +kernel
theorem dX2_lead_81 : decode cX2_lead 81 = .ok (.getfield 154, 3) := by decide +kernel
theorem dX2_lead_84 : decode cX2_lead 84 = .ok (.iastore, 1) := by decide +kernel
theorem dX2_lead_85 : decode cX2_lead 85 = .ok (.aload_n 0, 1) := by decide +kernel
theorem dX2_lead_86 : decode cX2_lead 86 = .ok (.getfield 77, 3) := by decide +kernel
theorem dX2_lead_89 : decode cX2_lead 89 = .ok (.iload 7, 2) := by decide +kernel
theorem dX2_lead_91 : decode cX2_lead 91 = .ok (.aload_n 0, 1) := by decide +kernel
theorem dX2_lead_92 : decode cX2_lead 92 = .ok (.getfield 164, 3) := by decide +kernel
theorem dX2_lead_95 : decode cX2_lead 95 = .ok (.iastore, 1) := by decide +kernel
theorem dX2_lead_96 : decode cX2_lead 96 = .ok (.aload_n 0, 1) := by decide +kernel
theorem dX2_lead_97 : decode cX2_lead 97 = .ok (.getfield 80, 3) := by decide +kernel
theorem dX2_lead_100 : decode cX2_lead 100 = .ok (.iload 7, 2) := by decide +kernel
theorem dX2_lead_102 : decode cX2_lead 102 = .ok (.aload_n 0, 1) := by decide +kernel
theorem dX2_lead_103 : decode cX2_lead 103 = .ok (.getfield 167, 3) := by decide +kernel
theorem dX2_lead_106 : decode cX2_lead 106 = .ok (.iastore, 1) := by decide +kernel
theorem dX2_lead_107 : decode cX2_lead 107 = .ok (.aload_n 0, 1) := by decide +kernel
theorem dX2_lead_108 : decode cX2_lead 108 = .ok (.getfield 65, 3) := by decide +kernel
theorem dX2_lead_111 : decode cX2_lead 111 = .ok (.iload 4, 2) := by decide +kernel
theorem dX2_lead_113 : decode cX2_lead 113 = .ok (.dup2, 1) := by decide +kernel
theorem dX2_lead_114 : decode cX2_lead 114 = .ok (.iaload, 1) := by decide +kernel
theorem dX2_lead_115 : decode cX2_lead 115 = .ok (.iconst 1, 1) := by decide +kernel
theorem dX2_lead_116 : decode cX2_lead 116 = .ok (.iadd, 1) := by decide +kernel
theorem dX2_lead_117 : decode cX2_lead 117 = .ok (.iastore, 1) := by decide +kernel
theorem dX2_lead_118 : decode cX2_lead 118 = .ok (.iinc 6 (-1), 3) := by decide +kernel
theorem dX2_lead_121 : decode cX2_lead 121 = .ok (.aload_n 0, 1) := by decide +kernel
theorem dX2_lead_122 : decode cX2_lead 122 = .ok (.getfield 154, 3) := by decide +kernel
theorem dX2_lead_125 : decode cX2_lead 125 = .ok (.aload_n 0, 1) := by decide +kernel
theorem dX2_lead_126 : decode cX2_lead 126 = .ok (.getfield 167, 3) := by decide +kernel
theorem dX2_lead_129 : decode cX2_lead 129 = .ok (.invokestatic 113, 3) := by decide +kernel
theorem dX2_lead_132 : decode cX2_lead 132 = .ok (.istore 8, 2) := by decide +kernel
theorem dX2_lead_134 : decode cX2_lead 134 = .ok (.aload_n 0, 1) := by decide +kernel
theorem dX2_lead_135 : decode cX2_lead 135 = .ok (.iload 6, 2) := by decide +kernel
theorem dX2_lead_137 : decode cX2_lead 137 = .ok (.aload_n 0, 1) := by decide +kernel
theorem dX2_lead_138 : decode cX2_lead 138 = .ok (.getfield 19, 3) := by decide +kernel
theorem dX2_lead_141 : decode cX2_lead 141 = .ok (.iload 8, 2) := by decide +kernel
theorem dX2_lead_143 : decode cX2_lead 143 = .ok (.iaload, 1) := by decide +kernel
theorem dX2_lead_144 : decode cX2_lead 144 = .ok (.aload_n 0, 1) := by decide +kernel
theorem dX2_lead_145 : decode cX2_lead 145 = .ok (.getfield 22, 3) := by decide +kernel
theorem dX2_lead_148 : decode cX2_lead 148 = .ok (.iload 8, 2) := by decide +kernel
theorem dX2_lead_150 : decode cX2_lead 150 = .ok (.iaload, 1) := by decide +kernel
theorem dX2_lead_151 : decode cX2_lead 151 = .ok (.aload_n 0, 1) := by decide +kernel
theorem dX2_lead_152 : decode cX2_lead 152 = .ok (.getfield 9, 3) := by decide +kernel
theorem dX2_lead_155 : decode cX2_lead 155 = .ok (.aload_n 0, 1) := by decide +kernel
theorem dX2_lead_156 : decode cX2_lead 156 = .ok (.getfield 19, 3) := by decide +kernel
theorem dX2_lead_159 : decode cX2_lead 159 = .ok (.iload 8, 2) := by decide +kernel
theorem dX2_lead_161 : decode cX2_lead 161 = .ok (.iaload, 1) := by decide +kernel
theorem dX2_lead_162 : decode cX2_lead 162 = .ok (.iaload, 1) := by decide +kernel
theorem dX2_lead_163 : decode cX2_lead 163 = .ok (.iadd, 1) := by decide +kernel
theorem dX2_lead_164 : decode cX2_lead 164 = .ok (.iload 5, 2) := by decide +kernel
theorem dX2_lead_166 : decode cX2_lead 166 = .ok (.invokevirtual 143, 3) := by decide +kernel
theorem dX2_lead_169 : decode cX2_lead 169 = .ok (.goto (-117), 3) := by decide +kernel
theorem dX2_lead_172 : decode cX2_lead 172 = .ok (.aload_n 0, 1) := by decide +kernel
theorem dX2_lead_173 : decode cX2_lead 173 = .ok (.getfield 59, 3) := by decide +kernel
theorem dX2_lead_176 : decode cX2_lead 176 = .ok (.iload 4, 2) := by decide +kernel
theorem dX2_lead_178 : decode cX2_lead 178 = .ok (.iconst 1, 1) := by decide +kernel
theorem dX2_lead_179 : decode cX2_lead 179 = .ok (.bastore, 1) := by decide +kernel
theorem dX2_lead_180 : decode cX2_lead 180 = .ok (.aload_n 0, 1) := by decide +kernel
theorem dX2_lead_181 : decode cX2_lead 181 = .ok (.getfield 62, 3) := by decide +kernel
theorem dX2_lead_184 : decode cX2_lead 184 = .ok (.iload 4, 2) := by decide +kernel
theorem dX2_lead_186 : decode cX2_lead 186 = .ok (.iconst 1, 1) := by decide +kernel
theorem dX2_lead_187 : decode cX2_lead 187 = .ok (.bastore, 1) := by decide +kernel
theorem dX2_lead_188 : decode cX2_lead 188 = .ok (.aload_n 0, 1) := by decide +kernel
theorem dX2_lead_189 : decode cX2_lead 189 = .ok (.getfield 68, 3) := by decide +kernel
theorem dX2_lead_192 : decode cX2_lead 192 = .ok (.iload 4, 2) := by decide +kernel
theorem dX2_lead_194 : decode cX2_lead 194 = .ok (.iconst (-1), 1) := by decide +kernel
theorem dX2_lead_195 : decode cX2_lead 195 = .ok (.iastore, 1) := by decide +kernel
theorem dX2_lead_196 : decode cX2_lead 196 = .ok (.iconst 1, 1) := by decide +kernel
theorem dX2_lead_197 : decode cX2_lead 197 = .ok (.ireturn, 1) := by decide +kernel
abbrev cX2_toOf : ByteArray := prog_10_method_13_code
def yX2_toOf : MethodName := ⟨RX2, "toOf", "(I)I"⟩
theorem dX2_toOf_0 : decode cX2_toOf 0 = .ok (.aload_n 0, 1) := by decide +kernel
theorem dX2_toOf_1 : decode cX2_toOf 1 = .ok (.getfield 56, 3) := by decide +kernel
theorem dX2_toOf_4 : decode cX2_toOf 4 = .ok (.iload_n 1, 1) := by decide +kernel
theorem dX2_toOf_5 : decode cX2_toOf 5 = .ok (.baload, 1) := by decide +kernel
theorem dX2_toOf_6 : decode cX2_toOf 6 = .ok (.ifCond .eq 12, 3) := by decide +kernel
theorem dX2_toOf_9 : decode cX2_toOf 9 = .ok (.aload_n 0, 1) := by decide +kernel
theorem dX2_toOf_10 : decode cX2_toOf 10 = .ok (.getfield 35, 3) := by decide +kernel
theorem dX2_toOf_13 : decode cX2_toOf 13 = .ok (.iload_n 1, 1) := by decide +kernel
theorem dX2_toOf_14 : decode cX2_toOf 14 = .ok (.iaload, 1) := by decide +kernel
theorem dX2_toOf_15 : decode cX2_toOf 15 = .ok (.goto 9, 3) := by decide +kernel
theorem dX2_toOf_18 : decode cX2_toOf 18 = .ok (.aload_n 0, 1) := by decide +kernel
theorem dX2_toOf_19 : decode cX2_toOf 19 = .ok (.getfield 44, 3) := by decide +kernel
theorem dX2_toOf_22 : decode cX2_toOf 22 = .ok (.iload_n 1, 1) := by decide +kernel
theorem dX2_toOf_23 : decode cX2_toOf 23 = .ok (.iaload, 1) := by decide +kernel
theorem dX2_toOf_24 : decode cX2_toOf 24 = .ok (.ireturn, 1) := by decide +kernel
abbrev cX2_reckon : ByteArray := prog_10_method_21_code
def yX2_reckon : MethodName := ⟨RX2, "reckon", "(I)V"⟩
theorem dX2_reckon_0 : decode cX2_reckon 0 = .ok (.iconst 0, 1) := by decide +kernel
theorem dX2_reckon_1 : decode cX2_reckon 1 = .ok (.istore_n 2, 1) := by decide +kernel
theorem dX2_reckon_2 : decode cX2_reckon 2 = .ok (.iload_n 2, 1) := by decide +kernel
theorem dX2_reckon_3 : decode cX2_reckon 3 = .ok (.iconst 3, 1) := by decide +kernel
theorem dX2_reckon_4 : decode cX2_reckon 4 = .ok (.if_icmp .gt 88, 3) := by decide +kernel
theorem dX2_reckon_7 : decode cX2_reckon 7 = .ok (.iconst 0, 1) := by decide +kernel
theorem dX2_reckon_8 : decode cX2_reckon 8 = .ok (.istore_n 3, 1) := by decide +kernel
theorem dX2_reckon_9 : decode cX2_reckon 9 = .ok (.iload_n 3, 1) := by decide +kernel
theorem dX2_reckon_10 : decode cX2_reckon 10 = .ok (.aload_n 0, 1) := by decide +kernel
theorem dX2_reckon_11 : decode cX2_reckon 11 = .ok (.getfield 96, 3) := by decide +kernel
theorem dX2_reckon_14 : decode cX2_reckon 14 = .ok (.if_icmp .ge 72, 3) := by decide +kernel
theorem dX2_reckon_17 : decode cX2_reckon 17 = .ok (.iconst 0, 1) := by decide +kernel
theorem dX2_reckon_18 : decode cX2_reckon 18 = .ok (.istore 4, 2) := by decide +kernel
theorem dX2_reckon_20 : decode cX2_reckon 20 = .ok (.iload 4, 2) := by decide +kernel
theorem dX2_reckon_22 : decode cX2_reckon 22 = .ok (.aload_n 0, 1) := by decide +kernel
theorem dX2_reckon_23 : decode cX2_reckon 23 = .ok (.getfield 16, 3) := by decide +kernel
theorem dX2_reckon_26 : decode cX2_reckon 26 = .ok (.iload_n 3, 1) := by decide +kernel
theorem dX2_reckon_27 : decode cX2_reckon 27 = .ok (.iaload, 1) := by decide +kernel
theorem dX2_reckon_28 : decode cX2_reckon 28 = .ok (.if_icmp .ge 52, 3) := by decide +kernel
theorem dX2_reckon_31 : decode cX2_reckon 31 = .ok (.iload_n 3, 1) := by decide +kernel
theorem dX2_reckon_32 : decode cX2_reckon 32 = .ok (.iload 4, 2) := by decide +kernel
theorem dX2_reckon_34 : decode cX2_reckon 34 = .ok (.invokestatic 113, 3) := by decide +kernel
theorem dX2_reckon_37 : decode cX2_reckon 37 = .ok (.istore 5, 2) := by decide +kernel
theorem dX2_reckon_39 : decode cX2_reckon 39 = .ok (.aload_n 0, 1) := by decide +kernel
theorem dX2_reckon_40 : decode cX2_reckon 40 = .ok (.iload_n 2, 1) := by decide +kernel
theorem dX2_reckon_41 : decode cX2_reckon 41 = .ok (.iload 5, 2) := by decide +kernel
theorem dX2_reckon_43 : decode cX2_reckon 43 = .ok (.aload_n 0, 1) := by decide +kernel
theorem dX2_reckon_44 : decode cX2_reckon 44 = .ok (.getfield 19, 3) := by decide +kernel
theorem dX2_reckon_47 : decode cX2_reckon 47 = .ok (.iload 5, 2) := by decide +kernel
theorem dX2_reckon_49 : decode cX2_reckon 49 = .ok (.iaload, 1) := by decide +kernel
theorem dX2_reckon_50 : decode cX2_reckon 50 = .ok (.aload_n 0, 1) := by decide +kernel
theorem dX2_reckon_51 : decode cX2_reckon 51 = .ok (.getfield 22, 3) := by decide +kernel
theorem dX2_reckon_54 : decode cX2_reckon 54 = .ok (.iload 5, 2) := by decide +kernel
theorem dX2_reckon_56 : decode cX2_reckon 56 = .ok (.iaload, 1) := by decide +kernel
theorem dX2_reckon_57 : decode cX2_reckon 57 = .ok (.aload_n 0, 1) := by decide +kernel
theorem dX2_reckon_58 : decode cX2_reckon 58 = .ok (.getfield 9, 3) := by decide +kernel
theorem dX2_reckon_61 : decode cX2_reckon 61 = .ok (.aload_n 0, 1) := by decide +kernel
theorem dX2_reckon_62 : decode cX2_reckon 62 = .ok (.getfield 19, 3) := by decide +kernel
theorem dX2_reckon_65 : decode cX2_reckon 65 = .ok (.iload 5, 2) := by decide +kernel
theorem dX2_reckon_67 : decode cX2_reckon 67 = .ok (.iaload, 1) := by decide +kernel
theorem dX2_reckon_68 : decode cX2_reckon 68 = .ok (.iaload, 1) := by decide +kernel
theorem dX2_reckon_69 : decode cX2_reckon 69 = .ok (.iadd, 1) := by decide +kernel
theorem dX2_reckon_70 : decode cX2_reckon 70 = .ok (.iload_n 1, 1) := by decide +kernel
theorem dX2_reckon_71 : decode cX2_reckon 71 = .ok (.invokevirtual 139, 3) := by decide +kernel
theorem dX2_reckon_74 : decode cX2_reckon 74 = .ok (.iinc 4 1, 3) := by decide +kernel
theorem dX2_reckon_77 : decode cX2_reckon 77 = .ok (.goto (-57), 3) := by decide +kernel
theorem dX2_reckon_80 : decode cX2_reckon 80 = .ok (.iinc 3 1, 3) := by decide +kernel
theorem dX2_reckon_83 : decode cX2_reckon 83 = .ok (.goto (-74), 3) := by decide +kernel
theorem dX2_reckon_86 : decode cX2_reckon 86 = .ok (.iinc 2 1, 3) := by decide +kernel
theorem dX2_reckon_89 : decode cX2_reckon 89 = .ok (.goto (-87), 3) := by decide +kernel
theorem dX2_reckon_92 : decode cX2_reckon 92 = .ok (.return_, 1) := by decide +kernel
abbrev cX2_reckonOne : ByteArray := prog_10_method_22_code
def yX2_reckonOne : MethodName := ⟨RX2, "reckonOne", "(IIIII)V"⟩
theorem dX2_reckonOne_0 : decode cX2_reckonOne 0 = .ok (.aload_n 0, 1) := by decide +kernel
theorem dX2_reckonOne_1 : decode cX2_reckonOne 1 = .ok (.iload_n 1, 1) := by decide +kernel
theorem dX2_reckonOne_2 : decode cX2_reckonOne 2 = .ok (.iload_n 3, 1) := by decide +kernel
theorem dX2_reckonOne_3 : decode cX2_reckonOne 3 = .ok (.iload 4, 2) := by decide +kernel
theorem dX2_reckonOne_5 : decode cX2_reckonOne 5 = .ok (.iload 5, 2) := by decide +kernel
theorem dX2_reckonOne_7 : decode cX2_reckonOne 7 = .ok (.invokevirtual 143, 3) := by decide +kernel
theorem dX2_reckonOne_10 : decode cX2_reckonOne 10 = .ok (.aload_n 0, 1) := by decide +kernel
theorem dX2_reckonOne_11 : decode cX2_reckonOne 11 = .ok (.getfield 83, 3) := by decide +kernel
theorem dX2_reckonOne_14 : decode cX2_reckonOne 14 = .ok (.sipush 160, 3) := by decide +kernel
theorem dX2_reckonOne_17 : decode cX2_reckonOne 17 = .ok (.iload_n 1, 1) := by decide +kernel
theorem dX2_reckonOne_18 : decode cX2_reckonOne 18 = .ok (.imul, 1) := by decide +kernel
theorem dX2_reckonOne_19 : decode cX2_reckonOne 19 = .ok (.iload_n 2, 1) := by decide +kernel
theorem dX2_reckonOne_20 : decode cX2_reckonOne 20 = .ok (.iadd, 1) := by decide +kernel
theorem dX2_reckonOne_21 : decode cX2_reckonOne 21 = .ok (.aload_n 0, 1) := by decide +kernel
theorem dX2_reckonOne_22 : decode cX2_reckonOne 22 = .ok (.getfield 147, 3) := by decide +kernel
theorem dX2_reckonOne_25 : decode cX2_reckonOne 25 = .ok (.iastore, 1) := by decide +kernel
theorem dX2_reckonOne_26 : decode cX2_reckonOne 26 = .ok (.aload_n 0, 1) := by decide +kernel
theorem dX2_reckonOne_27 : decode cX2_reckonOne 27 = .ok (.getfield 86, 3) := by decide +kernel
theorem dX2_reckonOne_30 : decode cX2_reckonOne 30 = .ok (.sipush 160, 3) := by decide +kernel
theorem dX2_reckonOne_33 : decode cX2_reckonOne 33 = .ok (.iload_n 1, 1) := by decide +kernel
theorem dX2_reckonOne_34 : decode cX2_reckonOne 34 = .ok (.imul, 1) := by decide +kernel
theorem dX2_reckonOne_35 : decode cX2_reckonOne 35 = .ok (.iload_n 2, 1) := by decide +kernel
theorem dX2_reckonOne_36 : decode cX2_reckonOne 36 = .ok (.iadd, 1) := by decide +kernel
theorem dX2_reckonOne_37 : decode cX2_reckonOne 37 = .ok (.aload_n 0, 1) := by decide +kernel
theorem dX2_reckonOne_38 : decode cX2_reckonOne 38 = .ok (.getfield 150, 3) := by decide +kernel
theorem dX2_reckonOne_41 : decode cX2_reckonOne 41 = .ok (.iastore, 1) := by decide +kernel
theorem dX2_reckonOne_42 : decode cX2_reckonOne 42 = .ok (.return_, 1) := by decide +kernel
abbrev cX2_look : ByteArray := prog_10_method_23_code
def yX2_look : MethodName := ⟨RX2, "look", "(IIII)V"⟩
theorem dX2_look_0 : decode cX2_look 0 = .ok (.aload_n 0, 1) := by decide +kernel
theorem dX2_look_1 : decode cX2_look 1 = .ok (.iload_n 2, 1) := by decide +kernel
theorem dX2_look_2 : decode cX2_look 2 = .ok (.iload 4, 2) := by decide +kernel
theorem dX2_look_4 : decode cX2_look 4 = .ok (.if_icmp .ne 7, 3) := by decide +kernel
theorem dX2_look_7 : decode cX2_look 7 = .ok (.iload_n 3, 1) := by decide +kernel
theorem dX2_look_8 : decode cX2_look 8 = .ok (.goto 5, 3) := by decide +kernel
theorem dX2_look_11 : decode cX2_look 11 = .ok (.ldc 153, 2) := by decide +kernel
theorem dX2_look_13 : decode cX2_look 13 = .ok (.putfield 147, 3) := by decide +kernel
theorem dX2_look_16 : decode cX2_look 16 = .ok (.aload_n 0, 1) := by decide +kernel
theorem dX2_look_17 : decode cX2_look 17 = .ok (.iconst 0, 1) := by decide +kernel
theorem dX2_look_18 : decode cX2_look 18 = .ok (.putfield 150, 3) := by decide +kernel
theorem dX2_look_21 : decode cX2_look 21 = .ok (.aload_n 0, 1) := by decide +kernel
theorem dX2_look_22 : decode cX2_look 22 = .ok (.iconst (-1), 1) := by decide +kernel
theorem dX2_look_23 : decode cX2_look 23 = .ok (.putfield 154, 3) := by decide +kernel
theorem dX2_look_26 : decode cX2_look 26 = .ok (.iconst 0, 1) := by decide +kernel
theorem dX2_look_27 : decode cX2_look 27 = .ok (.istore 5, 2) := by decide +kernel
theorem dX2_look_29 : decode cX2_look 29 = .ok (.iload 5, 2) := by decide +kernel
theorem dX2_look_31 : decode cX2_look 31 = .ok (.aload_n 0, 1) := by decide +kernel
theorem dX2_look_32 : decode cX2_look 32 = .ok (.getfield 96, 3) := by decide +kernel
theorem dX2_look_35 : decode cX2_look 35 = .ok (.if_icmp .ge 117, 3) := by decide +kernel
theorem dX2_look_38 : decode cX2_look 38 = .ok (.iload_n 1, 1) := by decide +kernel
theorem dX2_look_39 : decode cX2_look 39 = .ok (.ifCond .le 113, 3) := by decide +kernel
theorem dX2_look_42 : decode cX2_look 42 = .ok (.iconst 0, 1) := by decide +kernel
theorem dX2_look_43 : decode cX2_look 43 = .ok (.istore 6, 2) := by decide +kernel
theorem dX2_look_45 : decode cX2_look 45 = .ok (.iload 6, 2) := by decide +kernel
theorem dX2_look_47 : decode cX2_look 47 = .ok (.aload_n 0, 1) := by decide +kernel
theorem dX2_look_48 : decode cX2_look 48 = .ok (.getfield 16, 3) := by decide +kernel
theorem dX2_look_51 : decode cX2_look 51 = .ok (.iload 5, 2) := by decide +kernel
theorem dX2_look_53 : decode cX2_look 53 = .ok (.iaload, 1) := by decide +kernel
theorem dX2_look_54 : decode cX2_look 54 = .ok (.if_icmp .ge 92, 3) := by decide +kernel
theorem dX2_look_57 : decode cX2_look 57 = .ok (.aload_n 0, 1) := by decide +kernel
theorem dX2_look_58 : decode cX2_look 58 = .ok (.getfield 19, 3) := by decide +kernel
theorem dX2_look_61 : decode cX2_look 61 = .ok (.iload 5, 2) := by decide +kernel
theorem dX2_look_63 : decode cX2_look 63 = .ok (.iload 6, 2) := by decide +kernel
theorem dX2_look_65 : decode cX2_look 65 = .ok (.invokestatic 113, 3) := by decide +kernel
