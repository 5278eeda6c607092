set_option maxRecDepth 100000
/-! J20.java_lang_Object -/
def RJ20 : String := "java/lang/Object"
abbrev cJ20_init : ByteArray := object_method_1_code
def yJ20_init : MethodName := ⟨RJ20, "<init>", "()V"⟩
theorem dJ20_init_0 : decode cJ20_init 0 = .ok (.return_, 1) := by decide +kernel
theorem q80 : (Jvm.Cond.instanceMethod ({ cls := "java/lang/Object", name := "<init>", desc := "()V" } : Jvm.MethodName)) ∈ lw_all := lw_g (lw_at lw_m1 39 rfl) rfl
theorem q81 : (Jvm.Cond.code ({ cls := "java/lang/Object", name := "<init>", desc := "()V" } : Jvm.MethodName) object_method_1_code (1 : Nat) (Option.none : Option Jvm.ClassFile.FieldType)) ∈ lw_all := lw_g (lw_at lw_m1 40 rfl) rfl
theorem q206 : (Jvm.Cond.native ({ cls := "java/lang/Object", name := "clone", desc := "()Ljava/lang/Object;" } : Jvm.MethodName)) ∈ lw_all := lw_g (lw_at lw_m1 165 rfl) rfl
theorem q207 : (Jvm.Cond.instanceMethod ({ cls := "java/lang/Object", name := "clone", desc := "()Ljava/lang/Object;" } : Jvm.MethodName)) ∈ lw_all := lw_g (lw_at lw_m1 166 rfl) rfl
theorem q491 : (Jvm.Cond.instanceMethod ({ cls := "java/lang/Object", name := "getClass", desc := "()Ljava/lang/Class;" } : Jvm.MethodName)) ∈ lw_all := lw_g (lw_at lw_m2 210 rfl) rfl
theorem q492 : (Jvm.Cond.sameMethod "java/lang/Object" "java/lang/Object" "getClass" "()Ljava/lang/Class;") ∈ lw_all := lw_g (lw_at lw_m2 211 rfl) rfl
theorem q508 : (Jvm.Cond.native ({ cls := "java/lang/Object", name := "getClass", desc := "()Ljava/lang/Class;" } : Jvm.MethodName)) ∈ lw_all := lw_g (lw_at lw_m2 227 rfl) rfl
theorem q1295 : (Jvm.Cond.declares ({ cls := "java/lang/Object", name := "getClass", desc := "()Ljava/lang/Class;" } : Jvm.MethodName)) ∈ lw_tbl := lw_at lw_m6 54 rfl
/-! J0.java_util_AbstractCollection -/
def RJ0 : String := "java/util/AbstractCollection"
abbrev cJ0_init : ByteArray := prog_29_method_1_code
def yJ0_init : MethodName := ⟨RJ0, "<init>", "()V"⟩
theorem dJ0_init_0 : decode cJ0_init 0 = .ok (.aload_n 0, 1) := by decide +kernel
theorem dJ0_init_1 : decode cJ0_init 1 = .ok (.invokespecial 1, 3) := by decide +kernel
theorem dJ0_init_4 : decode cJ0_init 4 = .ok (.return_, 1) := by decide +kernel
theorem q43 : (Jvm.Cond.initialized "java/util/AbstractCollection") ∈ lw_all := lw_g (lw_at lw_m1 2 rfl) rfl
theorem q91 : (Jvm.Cond.instanceMethod ({ cls := "java/util/AbstractCollection", name := "<init>", desc := "()V" } : Jvm.MethodName)) ∈ lw_all := lw_g (lw_at lw_m1 50 rfl) rfl
theorem q92 : (Jvm.Cond.code ({ cls := "java/util/AbstractCollection", name := "<init>", desc := "()V" } : Jvm.MethodName) prog_29_method_1_code (1 : Nat) (Option.none : Option Jvm.ClassFile.FieldType)) ∈ lw_all := lw_g (lw_at lw_m1 51 rfl) rfl
theorem q93 : (Jvm.Cond.methodLink "java/util/AbstractCollection" (1 : Nat) ({ cls := "java/lang/Object", name := "<init>", desc := "()V" } : Jvm.MethodName)) ∈ lw_all := lw_g (lw_at lw_m1 52 rfl) rfl
/-! J1.java_util_AbstractList -/
def RJ1 : String := "java/util/AbstractList"
abbrev cJ1_init : ByteArray := prog_30_method_1_code
def yJ1_init : MethodName := ⟨RJ1, "<init>", "()V"⟩
theorem dJ1_init_0 : decode cJ1_init 0 = .ok (.aload_n 0, 1) := by decide +kernel
theorem dJ1_init_1 : decode cJ1_init 1 = .ok (.invokespecial 1, 3) := by decide +kernel
theorem dJ1_init_4 : decode cJ1_init 4 = .ok (.aload_n 0, 1) := by decide +kernel
theorem dJ1_init_5 : decode cJ1_init 5 = .ok (.iconst 0, 1) := by decide +kernel
theorem dJ1_init_6 : decode cJ1_init 6 = .ok (.putfield 7, 3) := by decide +kernel
theorem dJ1_init_9 : decode cJ1_init 9 = .ok (.return_, 1) := by decide +kernel
theorem q44 : (Jvm.Cond.initialized "java/util/AbstractList") ∈ lw_all := lw_g (lw_at lw_m1 3 rfl) rfl
theorem q88 : (Jvm.Cond.instanceMethod ({ cls := "java/util/AbstractList", name := "<init>", desc := "()V" } : Jvm.MethodName)) ∈ lw_all := lw_g (lw_at lw_m1 47 rfl) rfl
theorem q89 : (Jvm.Cond.code ({ cls := "java/util/AbstractList", name := "<init>", desc := "()V" } : Jvm.MethodName) prog_30_method_1_code (1 : Nat) (Option.none : Option Jvm.ClassFile.FieldType)) ∈ lw_all := lw_g (lw_at lw_m1 48 rfl) rfl
theorem q90 : (Jvm.Cond.methodLink "java/util/AbstractList" (1 : Nat) ({ cls := "java/util/AbstractCollection", name := "<init>", desc := "()V" } : Jvm.MethodName)) ∈ lw_all := lw_g (lw_at lw_m1 49 rfl) rfl
theorem q411 : (Jvm.Cond.fieldLink "java/util/AbstractList" (7 : Nat) "java/util/AbstractList" "modCount" "I") ∈ lw_all := lw_g (lw_at lw_m2 130 rfl) rfl
theorem q419 : (Jvm.Cond.soleField "java/util/AbstractList" "modCount") ∈ lw_all := lw_g (lw_at lw_m2 138 rfl) rfl
/-! J2.java_util_ArrayList -/
def RJ2 : String := "java/util/ArrayList"
def TJ2 : u_T := fun k => match k with
  | 0 => ("java/util/AbstractList", "modCount", "I", false)
  | 1 => ("java/util/ArrayList", "elementData", "[Ljava/lang/Object;", false)
  | _ => ("java/util/ArrayList", "size", "I", false)
def tyJ2 : Nat → FieldType := fun k => match k with
  | 0 => .int
  | 1 => .array (.object "java/lang/Object")
  | _ => .int
abbrev wsJ20 : List Cond := u_ws RJ2 TJ2 3
theorem nmJ2 : ∀ a, a < 3 → ∀ b, b < 3 → a ≠ b → (TJ2 a).2.1 ≠ (TJ2 b).2.1 := by decide +kernel
theorem tyJ2_ok : ∀ k, k < 3 → parseFieldDescriptor (TJ2 k).2.2.1 = some (tyJ2 k) := by decide +kernel
abbrev cJ2_init : ByteArray := prog_31_method_1_code
def yJ2_init : MethodName := ⟨RJ2, "<init>", "(I)V"⟩
theorem dJ2_init_0 : decode cJ2_init 0 = .ok (.aload_n 0, 1) := by decide +kernel
theorem dJ2_init_1 : decode cJ2_init 1 = .ok (.invokespecial 1, 3) := by decide +kernel
theorem dJ2_init_4 : decode cJ2_init 4 = .ok (.iload_n 1, 1) := by decide +kernel
theorem dJ2_init_5 : decode cJ2_init 5 = .ok (.ifCond .le 14, 3) := by decide +kernel
theorem dJ2_init_8 : decode cJ2_init 8 = .ok (.aload_n 0, 1) := by decide +kernel
theorem dJ2_init_9 : decode cJ2_init 9 = .ok (.iload_n 1, 1) := by decide +kernel
theorem dJ2_init_10 : decode cJ2_init 10 = .ok (.anewarray 7, 3) := by decide +kernel
theorem dJ2_init_13 : decode cJ2_init 13 = .ok (.putfield 9, 3) := by decide +kernel
theorem dJ2_init_16 : decode cJ2_init 16 = .ok (.goto 44, 3) := by decide +kernel
theorem dJ2_init_19 : decode cJ2_init 19 = .ok (.iload_n 1, 1) := by decide +kernel
theorem dJ2_init_20 : decode cJ2_init 20 = .ok (.ifCond .ne 13, 3) := by decide +kernel
theorem dJ2_init_23 : decode cJ2_init 23 = .ok (.aload_n 0, 1) := by decide +kernel
theorem dJ2_init_24 : decode cJ2_init 24 = .ok (.getstatic 15, 3) := by decide +kernel
theorem dJ2_init_27 : decode cJ2_init 27 = .ok (.putfield 9, 3) := by decide +kernel
theorem dJ2_init_30 : decode cJ2_init 30 = .ok (.goto 30, 3) := by decide +kernel
theorem dJ2_init_33 : decode cJ2_init 33 = .ok (.new 18, 3) := by decide +kernel
theorem dJ2_init_36 : decode cJ2_init 36 = .ok (.dup, 1) := by decide +kernel
theorem dJ2_init_37 : decode cJ2_init 37 = .ok (.new 20, 3) := by decide +kernel
theorem dJ2_init_40 : decode cJ2_init 40 = .ok (.dup, 1) := by decide +kernel
theorem dJ2_init_41 : decode cJ2_init 41 = .ok (.invokespecial 22, 3) := by decide +kernel
theorem dJ2_init_44 : decode cJ2_init 44 = .ok (.ldc 23, 2) := by decide +kernel
theorem dJ2_init_46 : decode cJ2_init 46 = .ok (.invokevirtual 25, 3) := by decide +kernel
theorem dJ2_init_49 : decode cJ2_init 49 = .ok (.iload_n 1, 1) := by decide +kernel
theorem dJ2_init_50 : decode cJ2_init 50 = .ok (.invokevirtual 29, 3) := by decide +kernel
theorem dJ2_init_53 : decode cJ2_init 53 = .ok (.invokevirtual 32, 3) := by decide +kernel
theorem dJ2_init_56 : decode cJ2_init 56 = .ok (.invokespecial 36, 3) := by decide +kernel
theorem dJ2_init_59 : decode cJ2_init 59 = .ok (.athrow, 1) := by decide +kernel
theorem dJ2_init_60 : decode cJ2_init 60 = .ok (.return_, 1) := by decide +kernel
abbrev cJ2_size : ByteArray := prog_31_method_8_code
def yJ2_size : MethodName := ⟨RJ2, "size", "()I"⟩
theorem dJ2_size_0 : decode cJ2_size 0 = .ok (.aload_n 0, 1) := by decide +kernel
theorem dJ2_size_1 : decode cJ2_size 1 = .ok (.getfield 48, 3) := by decide +kernel
theorem dJ2_size_4 : decode cJ2_size 4 = .ok (.ireturn, 1) := by decide +kernel
abbrev cJ2_add : ByteArray := prog_31_method_25_code
def yJ2_add : MethodName := ⟨RJ2, "add", "(Ljava/lang/Object;)Z"⟩
theorem dJ2_add_0 : decode cJ2_add 0 = .ok (.aload_n 0, 1) := by decide +kernel
theorem dJ2_add_1 : decode cJ2_add 1 = .ok (.dup, 1) := by decide +kernel
theorem dJ2_add_2 : decode cJ2_add 2 = .ok (.getfield 63, 3) := by decide +kernel
theorem dJ2_add_5 : decode cJ2_add 5 = .ok (.iconst 1, 1) := by decide +kernel
theorem dJ2_add_6 : decode cJ2_add 6 = .ok (.iadd, 1) := by decide +kernel
theorem dJ2_add_7 : decode cJ2_add 7 = .ok (.putfield 63, 3) := by decide +kernel
theorem dJ2_add_10 : decode cJ2_add 10 = .ok (.aload_n 0, 1) := by decide +kernel
theorem dJ2_add_11 : decode cJ2_add 11 = .ok (.aload_n 1, 1) := by decide +kernel
theorem dJ2_add_12 : decode cJ2_add 12 = .ok (.aload_n 0, 1) := by decide +kernel
theorem dJ2_add_13 : decode cJ2_add 13 = .ok (.getfield 9, 3) := by decide +kernel
theorem dJ2_add_16 : decode cJ2_add 16 = .ok (.aload_n 0, 1) := by decide +kernel
theorem dJ2_add_17 : decode cJ2_add 17 = .ok (.getfield 48, 3) := by decide +kernel
theorem dJ2_add_20 : decode cJ2_add 20 = .ok (.invokevirtual 131, 3) := by decide +kernel
theorem dJ2_add_23 : decode cJ2_add 23 = .ok (.iconst 1, 1) := by decide +kernel
theorem dJ2_add_24 : decode cJ2_add 24 = .ok (.ireturn, 1) := by decide +kernel
abbrev cJ2_add_2 : ByteArray := prog_31_method_24_code
def yJ2_add_2 : MethodName := ⟨RJ2, "add", "(Ljava/lang/Object;[Ljava/lang/Object;I)V"⟩
theorem dJ2_add_2_0 : decode cJ2_add_2 0 = .ok (.iload_n 3, 1) := by decide +kernel
theorem dJ2_add_2_1 : decode cJ2_add_2 1 = .ok (.aload_n 2, 1) := by decide +kernel
theorem dJ2_add_2_2 : decode cJ2_add_2 2 = .ok (.arraylength, 1) := by decide +kernel
theorem dJ2_add_2_3 : decode cJ2_add_2 3 = .ok (.if_icmp .ne 8, 3) := by decide +kernel
theorem dJ2_add_2_6 : decode cJ2_add_2 6 = .ok (.aload_n 0, 1) := by decide +kernel
theorem dJ2_add_2_7 : decode cJ2_add_2 7 = .ok (.invokevirtual 129, 3) := by decide +kernel
theorem dJ2_add_2_10 : decode cJ2_add_2 10 = .ok (.astore_n 2, 1) := by decide +kernel
theorem dJ2_add_2_11 : decode cJ2_add_2 11 = .ok (.aload_n 2, 1) := by decide +kernel
theorem dJ2_add_2_12 : decode cJ2_add_2 12 = .ok (.iload_n 3, 1) := by decide +kernel
theorem dJ2_add_2_13 : decode cJ2_add_2 13 = .ok (.aload_n 1, 1) := by decide +kernel
theorem dJ2_add_2_14 : decode cJ2_add_2 14 = .ok (.aastore, 1) := by decide +kernel
theorem dJ2_add_2_15 : decode cJ2_add_2 15 = .ok (.aload_n 0, 1) := by decide +kernel
theorem dJ2_add_2_16 : decode cJ2_add_2 16 = .ok (.iload_n 3, 1) := by decide +kernel
theorem dJ2_add_2_17 : decode cJ2_add_2 17 = .ok (.iconst 1, 1) := by decide +kernel
theorem dJ2_add_2_18 : decode cJ2_add_2 18 = .ok (.iadd, 1) := by decide +kernel
theorem dJ2_add_2_19 : decode cJ2_add_2 19 = .ok (.putfield 48, 3) := by decide +kernel
theorem dJ2_add_2_22 : decode cJ2_add_2 22 = .ok (.return_, 1) := by decide +kernel
abbrev cJ2_grow : ByteArray := prog_31_method_7_code
def yJ2_grow : MethodName := ⟨RJ2, "grow", "()[Ljava/lang/Object;"⟩
theorem dJ2_grow_0 : decode cJ2_grow 0 = .ok (.aload_n 0, 1) := by decide +kernel
theorem dJ2_grow_1 : decode cJ2_grow 1 = .ok (.aload_n 0, 1) := by decide +kernel
theorem dJ2_grow_2 : decode cJ2_grow 2 = .ok (.getfield 48, 3) := by decide +kernel
theorem dJ2_grow_5 : decode cJ2_grow 5 = .ok (.iconst 1, 1) := by decide +kernel
theorem dJ2_grow_6 : decode cJ2_grow 6 = .ok (.iadd, 1) := by decide +kernel
theorem dJ2_grow_7 : decode cJ2_grow 7 = .ok (.invokevirtual 69, 3) := by decide +kernel
theorem dJ2_grow_10 : decode cJ2_grow 10 = .ok (.areturn, 1) := by decide +kernel
abbrev cJ2_grow_2 : ByteArray := prog_31_method_6_code
def yJ2_grow_2 : MethodName := ⟨RJ2, "grow", "(I)[Ljava/lang/Object;"⟩
theorem dJ2_grow_2_0 : decode cJ2_grow_2 0 = .ok (.aload_n 0, 1) := by decide +kernel
theorem dJ2_grow_2_1 : decode cJ2_grow_2 1 = .ok (.getfield 9, 3) := by decide +kernel
theorem dJ2_grow_2_4 : decode cJ2_grow_2 4 = .ok (.arraylength, 1) := by decide +kernel
theorem dJ2_grow_2_5 : decode cJ2_grow_2 5 = .ok (.istore_n 2, 1) := by decide +kernel
theorem dJ2_grow_2_6 : decode cJ2_grow_2 6 = .ok (.iload_n 2, 1) := by decide +kernel
theorem dJ2_grow_2_7 : decode cJ2_grow_2 7 = .ok (.ifCond .gt 13, 3) := by decide +kernel
theorem dJ2_grow_2_10 : decode cJ2_grow_2 10 = .ok (.aload_n 0, 1) := by decide +kernel
theorem dJ2_grow_2_11 : decode cJ2_grow_2 11 = .ok (.getfield 9, 3) := by decide +kernel
theorem dJ2_grow_2_14 : decode cJ2_grow_2 14 = .ok (.getstatic 39, 3) := by decide +kernel
theorem dJ2_grow_2_17 : decode cJ2_grow_2 17 = .ok (.if_acmp .eq 28, 3) := by decide +kernel
theorem dJ2_grow_2_20 : decode cJ2_grow_2 20 = .ok (.iload_n 2, 1) := by decide +kernel
theorem dJ2_grow_2_21 : decode cJ2_grow_2 21 = .ok (.iload_n 1, 1) := by decide +kernel
theorem dJ2_grow_2_22 : decode cJ2_grow_2 22 = .ok (.iload_n 2, 1) := by decide +kernel
theorem dJ2_grow_2_23 : decode cJ2_grow_2 23 = .ok (.isub, 1) := by decide +kernel
theorem dJ2_grow_2_24 : decode cJ2_grow_2 24 = .ok (.iload_n 2, 1) := by decide +kernel
theorem dJ2_grow_2_25 : decode cJ2_grow_2 25 = .ok (.iconst 1, 1) := by decide +kernel
theorem dJ2_grow_2_26 : decode cJ2_grow_2 26 = .ok (.ishr, 1) := by decide +kernel
theorem dJ2_grow_2_27 : decode cJ2_grow_2 27 = .ok (.invokestatic 73, 3) := by decide +kernel
theorem dJ2_grow_2_30 : decode cJ2_grow_2 30 = .ok (.istore_n 3, 1) := by decide +kernel
theorem dJ2_grow_2_31 : decode cJ2_grow_2 31 = .ok (.aload_n 0, 1) := by decide +kernel
theorem dJ2_grow_2_32 : decode cJ2_grow_2 32 = .ok (.aload_n 0, 1) := by decide +kernel
theorem dJ2_grow_2_33 : decode cJ2_grow_2 33 = .ok (.getfield 9, 3) := by decide +kernel
theorem dJ2_grow_2_36 : decode cJ2_grow_2 36 = .ok (.iload_n 3, 1) := by decide +kernel
theorem dJ2_grow_2_37 : decode cJ2_grow_2 37 = .ok (.invokestatic 66, 3) := by decide +kernel
theorem dJ2_grow_2_40 : decode cJ2_grow_2 40 = .ok (.dup_x1, 1) := by decide +kernel
theorem dJ2_grow_2_41 : decode cJ2_grow_2 41 = .ok (.putfield 9, 3) := by decide +kernel
theorem dJ2_grow_2_44 : decode cJ2_grow_2 44 = .ok (.areturn, 1) := by decide +kernel
theorem dJ2_grow_2_45 : decode cJ2_grow_2 45 = .ok (.aload_n 0, 1) := by decide +kernel
theorem dJ2_grow_2_46 : decode cJ2_grow_2 46 = .ok (.bipush 10, 2) := by decide +kernel
theorem dJ2_grow_2_48 : decode cJ2_grow_2 48 = .ok (.iload_n 1, 1) := by decide +kernel
theorem dJ2_grow_2_49 : decode cJ2_grow_2 49 = .ok (.invokestatic 79, 3) := by decide +kernel
theorem dJ2_grow_2_52 : decode cJ2_grow_2 52 = .ok (.anewarray 7, 3) := by decide +kernel
theorem dJ2_grow_2_55 : decode cJ2_grow_2 55 = .ok (.dup_x1, 1) := by decide +kernel
theorem dJ2_grow_2_56 : decode cJ2_grow_2 56 = .ok (.putfield 9, 3) := by decide +kernel
theorem dJ2_grow_2_59 : decode cJ2_grow_2 59 = .ok (.areturn, 1) := by decide +kernel
abbrev cJ2_get : ByteArray := prog_31_method_20_code
def yJ2_get : MethodName := ⟨RJ2, "get", "(I)Ljava/lang/Object;"⟩
theorem dJ2_get_0 : decode cJ2_get 0 = .ok (.iload_n 1, 1) := by decide +kernel
theorem dJ2_get_1 : decode cJ2_get 1 = .ok (.aload_n 0, 1) := by decide +kernel
theorem dJ2_get_2 : decode cJ2_get 2 = .ok (.getfield 48, 3) := by decide +kernel
theorem dJ2_get_5 : decode cJ2_get 5 = .ok (.invokestatic 118, 3) := by decide +kernel
theorem dJ2_get_8 : decode cJ2_get 8 = .ok (.pop, 1) := by decide +kernel
theorem dJ2_get_9 : decode cJ2_get 9 = .ok (.aload_n 0, 1) := by decide +kernel
theorem dJ2_get_10 : decode cJ2_get 10 = .ok (.iload_n 1, 1) := by decide +kernel
theorem dJ2_get_11 : decode cJ2_get 11 = .ok (.invokevirtual 123, 3) := by decide +kernel
theorem dJ2_get_14 : decode cJ2_get 14 = .ok (.areturn, 1) := by decide +kernel
abbrev cJ2_elementData : ByteArray := prog_31_method_18_code
def yJ2_elementData : MethodName := ⟨RJ2, "elementData", "(I)Ljava/lang/Object;"⟩
theorem dJ2_elementData_0 : decode cJ2_elementData 0 = .ok (.aload_n 0, 1) := by decide +kernel
theorem dJ2_elementData_1 : decode cJ2_elementData 1 = .ok (.getfield 9, 3) := by decide +kernel
theorem dJ2_elementData_4 : decode cJ2_elementData 4 = .ok (.iload_n 1, 1) := by decide +kernel
theorem dJ2_elementData_5 : decode cJ2_elementData 5 = .ok (.aaload, 1) := by decide +kernel
theorem dJ2_elementData_6 : decode cJ2_elementData 6 = .ok (.areturn, 1) := by decide +kernel
abbrev cJ2_isEmpty : ByteArray := prog_31_method_9_code
def yJ2_isEmpty : MethodName := ⟨RJ2, "isEmpty", "()Z"⟩
theorem dJ2_isEmpty_0 : decode cJ2_isEmpty 0 = .ok (.aload_n 0, 1) := by decide +kernel
theorem dJ2_isEmpty_1 : decode cJ2_isEmpty 1 = .ok (.getfield 48, 3) := by decide +kernel
theorem dJ2_isEmpty_4 : decode cJ2_isEmpty 4 = .ok (.ifCond .ne 7, 3) := by decide +kernel
theorem dJ2_isEmpty_7 : decode cJ2_isEmpty 7 = .ok (.iconst 1, 1) := by decide +kernel
theorem dJ2_isEmpty_8 : decode cJ2_isEmpty 8 = .ok (.goto 4, 3) := by decide +kernel
theorem dJ2_isEmpty_11 : decode cJ2_isEmpty 11 = .ok (.iconst 0, 1) := by decide +kernel
theorem dJ2_isEmpty_12 : decode cJ2_isEmpty 12 = .ok (.ireturn, 1) := by decide +kernel
abbrev cJ2_remove : ByteArray := prog_31_method_29_code
def yJ2_remove : MethodName := ⟨RJ2, "remove", "(I)Ljava/lang/Object;"⟩
theorem dJ2_remove_0 : decode cJ2_remove 0 = .ok (.iload_n 1, 1) := by decide +kernel
theorem dJ2_remove_1 : decode cJ2_remove 1 = .ok (.aload_n 0, 1) := by decide +kernel
theorem dJ2_remove_2 : decode cJ2_remove 2 = .ok (.getfield 48, 3) := by decide +kernel
theorem dJ2_remove_5 : decode cJ2_remove 5 = .ok (.invokestatic 118, 3) := by decide +kernel
theorem dJ2_remove_8 : decode cJ2_remove 8 = .ok (.pop, 1) := by decide +kernel
theorem dJ2_remove_9 : decode cJ2_remove 9 = .ok (.aload_n 0, 1) := by decide +kernel
theorem dJ2_remove_10 : decode cJ2_remove 10 = .ok (.getfield 9, 3) := by decide +kernel
theorem dJ2_remove_13 : decode cJ2_remove 13 = .ok (.astore_n 2, 1) := by decide +kernel
theorem dJ2_remove_14 : decode cJ2_remove 14 = .ok (.aload_n 2, 1) := by decide +kernel
theorem dJ2_remove_15 : decode cJ2_remove 15 = .ok (.iload_n 1, 1) := by decide +kernel
theorem dJ2_remove_16 : decode cJ2_remove 16 = .ok (.aaload, 1) := by decide +kernel
theorem dJ2_remove_17 : decode cJ2_remove 17 = .ok (.astore_n 3, 1) := by decide +kernel
theorem dJ2_remove_18 : decode cJ2_remove 18 = .ok (.aload_n 0, 1) := by decide +kernel
theorem dJ2_remove_19 : decode cJ2_remove 19 = .ok (.aload_n 2, 1) := by decide +kernel
theorem dJ2_remove_20 : decode cJ2_remove 20 = .ok (.iload_n 1, 1) := by decide +kernel
theorem dJ2_remove_21 : decode cJ2_remove 21 = .ok (.invokevirtual 144, 3) := by decide +kernel
theorem dJ2_remove_24 : decode cJ2_remove 24 = .ok (.aload_n 3, 1) := by decide +kernel
theorem dJ2_remove_25 : decode cJ2_remove 25 = .ok (.areturn, 1) := by decide +kernel
abbrev cJ2_fastRemove : ByteArray := prog_31_method_39_code
def yJ2_fastRemove : MethodName := ⟨RJ2, "fastRemove", "([Ljava/lang/Object;I)V"⟩
theorem dJ2_fastRemove_0 : decode cJ2_fastRemove 0 = .ok (.aload_n 0, 1) := by decide +kernel
theorem dJ2_fastRemove_1 : decode cJ2_fastRemove 1 = .ok (.dup, 1) := by decide +kernel
theorem dJ2_fastRemove_2 : decode cJ2_fastRemove 2 = .ok (.getfield 63, 3) := by decide +kernel
theorem dJ2_fastRemove_5 : decode cJ2_fastRemove 5 = .ok (.iconst 1, 1) := by decide +kernel
theorem dJ2_fastRemove_6 : decode cJ2_fastRemove 6 = .ok (.iadd, 1) := by decide +kernel
theorem dJ2_fastRemove_7 : decode cJ2_fastRemove 7 = .ok (.putfield 63, 3) := by decide +kernel
theorem dJ2_fastRemove_10 : decode cJ2_fastRemove 10 = .ok (.aload_n 0, 1) := by decide +kernel
theorem dJ2_fastRemove_11 : decode cJ2_fastRemove 11 = .ok (.getfield 48, 3) := by decide +kernel
theorem dJ2_fastRemove_14 : decode cJ2_fastRemove 14 = .ok (.iconst 1, 1) := by decide +kernel
theorem dJ2_fastRemove_15 : decode cJ2_fastRemove 15 = .ok (.isub, 1) := by decide +kernel
theorem dJ2_fastRemove_16 : decode cJ2_fastRemove 16 = .ok (.dup, 1) := by decide +kernel
theorem dJ2_fastRemove_17 : decode cJ2_fastRemove 17 = .ok (.istore_n 3, 1) := by decide +kernel
theorem dJ2_fastRemove_18 : decode cJ2_fastRemove 18 = .ok (.iload_n 2, 1) := by decide +kernel
theorem dJ2_fastRemove_19 : decode cJ2_fastRemove 19 = .ok (.if_icmp .le 15, 3) := by decide +kernel
theorem dJ2_fastRemove_22 : decode cJ2_fastRemove 22 = .ok (.aload_n 1, 1) := by decide +kernel
theorem dJ2_fastRemove_23 : decode cJ2_fastRemove 23 = .ok (.iload_n 2, 1) := by decide +kernel
theorem dJ2_fastRemove_24 : decode cJ2_fastRemove 24 = .ok (.iconst 1, 1) := by decide +kernel
theorem dJ2_fastRemove_25 : decode cJ2_fastRemove 25 = .ok (.iadd, 1) := by decide +kernel
theorem dJ2_fastRemove_26 : decode cJ2_fastRemove 26 = .ok (.aload_n 1, 1) := by decide +kernel
theorem dJ2_fastRemove_27 : decode cJ2_fastRemove 27 = .ok (.iload_n 2, 1) := by decide +kernel
theorem dJ2_fastRemove_28 : decode cJ2_fastRemove 28 = .ok (.iload_n 3, 1) := by decide +kernel
theorem dJ2_fastRemove_29 : decode cJ2_fastRemove 29 = .ok (.iload_n 2, 1) := by decide +kernel
theorem dJ2_fastRemove_30 : decode cJ2_fastRemove 30 = .ok (.isub, 1) := by decide +kernel
theorem dJ2_fastRemove_31 : decode cJ2_fastRemove 31 = .ok (.invokestatic 112, 3) := by decide +kernel
theorem dJ2_fastRemove_34 : decode cJ2_fastRemove 34 = .ok (.aload_n 1, 1) := by decide +kernel
theorem dJ2_fastRemove_35 : decode cJ2_fastRemove 35 = .ok (.aload_n 0, 1) := by decide +kernel
theorem dJ2_fastRemove_36 : decode cJ2_fastRemove 36 = .ok (.iload_n 3, 1) := by decide +kernel
theorem dJ2_fastRemove_37 : decode cJ2_fastRemove 37 = .ok (.dup_x1, 1) := by decide +kernel
theorem dJ2_fastRemove_38 : decode cJ2_fastRemove 38 = .ok (.putfield 48, 3) := by decide +kernel
theorem dJ2_fastRemove_41 : decode cJ2_fastRemove 41 = .ok (.aconst_null, 1) := by decide +kernel
theorem dJ2_fastRemove_42 : decode cJ2_fastRemove 42 = .ok (.aastore, 1) := by decide +kernel
theorem dJ2_fastRemove_43 : decode cJ2_fastRemove 43 = .ok (.return_, 1) := by decide +kernel
theorem q45 : (Jvm.Cond.initialized "java/util/ArrayList") ∈ lw_all := lw_g (lw_at lw_m1 4 rfl) rfl
theorem q83 : (Jvm.Cond.instantiable "java/util/ArrayList" (3 : Nat)) ∈ lw_all := lw_g (lw_at lw_m1 42 rfl) rfl
theorem q85 : (Jvm.Cond.instanceMethod ({ cls := "java/util/ArrayList", name := "<init>", desc := "(I)V" } : Jvm.MethodName)) ∈ lw_all := lw_g (lw_at lw_m1 44 rfl) rfl
theorem q86 : (Jvm.Cond.code ({ cls := "java/util/ArrayList", name := "<init>", desc := "(I)V" } : Jvm.MethodName) prog_31_method_1_code (2 : Nat) (Option.none : Option Jvm.ClassFile.FieldType)) ∈ lw_all := lw_g (lw_at lw_m1 45 rfl) rfl
theorem q87 : (Jvm.Cond.methodLink "java/util/ArrayList" (1 : Nat) ({ cls := "java/util/AbstractList", name := "<init>", desc := "()V" } : Jvm.MethodName)) ∈ lw_all := lw_g (lw_at lw_m1 46 rfl) rfl
theorem q94 : (Jvm.Cond.classLink "java/util/ArrayList" (7 : Nat) "java/lang/Object") ∈ lw_all := lw_g (lw_at lw_m1 53 rfl) rfl
theorem q96 : (Jvm.Cond.fieldLink "java/util/ArrayList" (15 : Nat) "java/util/ArrayList" "EMPTY_ELEMENTDATA" "[Ljava/lang/Object;") ∈ lw_all := lw_g (lw_at lw_m1 55 rfl) rfl
theorem q97 : (Jvm.Cond.laysStatic "java/util/ArrayList" "EMPTY_ELEMENTDATA" "[Ljava/lang/Object;") ∈ lw_tbl := lw_at lw_m1 56 rfl
theorem q98 : (Jvm.Cond.classLink "java/util/ArrayList" (18 : Nat) "java/lang/IllegalArgumentException") ∈ lw_all := lw_g (lw_at lw_m1 57 rfl) rfl
theorem q138 : (Jvm.Cond.classLink "java/util/ArrayList" (20 : Nat) "java/lang/StringBuilder") ∈ lw_all := lw_g (lw_at lw_m1 97 rfl) rfl
theorem q140 : (Jvm.Cond.methodLink "java/util/ArrayList" (22 : Nat) ({ cls := "java/lang/StringBuilder", name := "<init>", desc := "()V" } : Jvm.MethodName)) ∈ lw_all := lw_g (lw_at lw_m1 99 rfl) rfl
theorem q170 : (Jvm.Cond.stringRef "java/util/ArrayList" (23 : Nat) "Illegal Capacity: ") ∈ lw_tbl := lw_at lw_m1 129 rfl
theorem q171 : (Jvm.Cond.methodLink "java/util/ArrayList" (25 : Nat) ({ cls := "java/lang/StringBuilder", name := "append", desc := "(Ljava/lang/String;)Ljava/lang/StringBuilder;" } : Jvm.MethodName)) ∈ lw_all := lw_g (lw_at lw_m1 130 rfl) rfl
theorem q291 : (Jvm.Cond.methodLink "java/util/ArrayList" (29 : Nat) ({ cls := "java/lang/StringBuilder", name := "append", desc := "(I)Ljava/lang/StringBuilder;" } : Jvm.MethodName)) ∈ lw_all := lw_g (lw_at lw_m2 10 rfl) rfl
theorem q316 : (Jvm.Cond.methodLink "java/util/ArrayList" (32 : Nat) ({ cls := "java/lang/StringBuilder", name := "toString", desc := "()Ljava/lang/String;" } : Jvm.MethodName)) ∈ lw_all := lw_g (lw_at lw_m2 35 rfl) rfl
theorem q408 : (Jvm.Cond.methodLink "java/util/ArrayList" (36 : Nat) ({ cls := "java/lang/IllegalArgumentException", name := "<init>", desc := "(Ljava/lang/String;)V" } : Jvm.MethodName)) ∈ lw_all := lw_g (lw_at lw_m2 127 rfl) rfl
theorem q409 : (Jvm.Cond.fieldLink "java/util/ArrayList" (9 : Nat) "java/util/ArrayList" "elementData" "[Ljava/lang/Object;") ∈ lw_all := lw_g (lw_at lw_m2 128 rfl) rfl
theorem q410 : (Jvm.Cond.fieldLink "java/util/ArrayList" (48 : Nat) "java/util/ArrayList" "size" "I") ∈ lw_all := lw_g (lw_at lw_m2 129 rfl) rfl
theorem q412 : (Jvm.Cond.fieldLink "java/util/ArrayList" (63 : Nat) "java/util/ArrayList" "modCount" "I") ∈ lw_all := lw_g (lw_at lw_m2 131 rfl) rfl
theorem q413 : (Jvm.Cond.sameField "java/util/ArrayList" "java/util/AbstractList" "modCount" "I") ∈ lw_all := lw_g (lw_at lw_m2 132 rfl) rfl
theorem q414 : (Jvm.Cond.lays "java/util/ArrayList" "java/util/ArrayList" "elementData" "[Ljava/lang/Object;") ∈ lw_all := lw_g (lw_at lw_m2 133 rfl) rfl
theorem q415 : (Jvm.Cond.soleField "java/util/ArrayList" "elementData") ∈ lw_all := lw_g (lw_at lw_m2 134 rfl) rfl
theorem q416 : (Jvm.Cond.lays "java/util/ArrayList" "java/util/ArrayList" "size" "I") ∈ lw_all := lw_g (lw_at lw_m2 135 rfl) rfl
theorem q417 : (Jvm.Cond.soleField "java/util/ArrayList" "size") ∈ lw_all := lw_g (lw_at lw_m2 136 rfl) rfl
theorem q418 : (Jvm.Cond.lays "java/util/ArrayList" "java/util/AbstractList" "modCount" "I") ∈ lw_all := lw_g (lw_at lw_m2 137 rfl) rfl
theorem q420 : (Jvm.Cond.superclass "java/util/ArrayList" "java/util/AbstractList") ∈ lw_all := lw_g (lw_at lw_m2 139 rfl) rfl
theorem q449 : (Jvm.Cond.instanceMethod ({ cls := "java/util/ArrayList", name := "size", desc := "()I" } : Jvm.MethodName)) ∈ lw_all := lw_g (lw_at lw_m2 168 rfl) rfl
theorem q450 : (Jvm.Cond.selects "java/util/ArrayList" ({ cls := "java/util/ArrayList", name := "size", desc := "()I" } : Jvm.MethodName) ({ cls := "java/util/ArrayList", name := "size", desc := "()I" } : Jvm.MethodName)) ∈ lw_all := lw_g (lw_at lw_m2 169 rfl) rfl
theorem q451 : (Jvm.Cond.code ({ cls := "java/util/ArrayList", name := "size", desc := "()I" } : Jvm.MethodName) prog_31_method_8_code (1 : Nat) (Option.some Jvm.ClassFile.FieldType.int)) ∈ lw_all := lw_g (lw_at lw_m2 170 rfl) rfl
theorem q469 : (Jvm.Cond.instanceMethod ({ cls := "java/util/ArrayList", name := "add", desc := "(Ljava/lang/Object;)Z" } : Jvm.MethodName)) ∈ lw_all := lw_g (lw_at lw_m2 188 rfl) rfl
theorem q470 : (Jvm.Cond.selects "java/util/ArrayList" ({ cls := "java/util/ArrayList", name := "add", desc := "(Ljava/lang/Object;)Z" } : Jvm.MethodName) ({ cls := "java/util/ArrayList", name := "add", desc := "(Ljava/lang/Object;)Z" } : Jvm.MethodName)) ∈ lw_all := lw_g (lw_at lw_m2 189 rfl) rfl
theorem q471 : (Jvm.Cond.code ({ cls := "java/util/ArrayList", name := "add", desc := "(Ljava/lang/Object;)Z" } : Jvm.MethodName) prog_31_method_25_code (2 : Nat) (Option.some Jvm.ClassFile.FieldType.boolean)) ∈ lw_all := lw_g (lw_at lw_m2 190 rfl) rfl
theorem q472 : (Jvm.Cond.methodLink "java/util/ArrayList" (131 : Nat) ({ cls := "java/util/ArrayList", name := "add", desc := "(Ljava/lang/Object;[Ljava/lang/Object;I)V" } : Jvm.MethodName)) ∈ lw_all := lw_g (lw_at lw_m2 191 rfl) rfl
theorem q473 : (Jvm.Cond.privateMethod ({ cls := "java/util/ArrayList", name := "add", desc := "(Ljava/lang/Object;[Ljava/lang/Object;I)V" } : Jvm.MethodName)) ∈ lw_tbl := lw_at lw_m2 192 rfl
theorem q474 : (Jvm.Cond.instanceMethod ({ cls := "java/util/ArrayList", name := "add", desc := "(Ljava/lang/Object;[Ljava/lang/Object;I)V" } : Jvm.MethodName)) ∈ lw_all := lw_g (lw_at lw_m2 193 rfl) rfl
theorem q475 : (Jvm.Cond.code ({ cls := "java/util/ArrayList", name := "add", desc := "(Ljava/lang/Object;[Ljava/lang/Object;I)V" } : Jvm.MethodName) prog_31_method_24_code (4 : Nat) (Option.none : Option Jvm.ClassFile.FieldType)) ∈ lw_all := lw_g (lw_at lw_m2 194 rfl) rfl
theorem q476 : (Jvm.Cond.methodLink "java/util/ArrayList" (129 : Nat) ({ cls := "java/util/ArrayList", name := "grow", desc := "()[Ljava/lang/Object;" } : Jvm.MethodName)) ∈ lw_all := lw_g (lw_at lw_m2 195 rfl) rfl
theorem q477 : (Jvm.Cond.privateMethod ({ cls := "java/util/ArrayList", name := "grow", desc := "()[Ljava/lang/Object;" } : Jvm.MethodName)) ∈ lw_tbl := lw_at lw_m2 196 rfl
theorem q478 : (Jvm.Cond.instanceMethod ({ cls := "java/util/ArrayList", name := "grow", desc := "()[Ljava/lang/Object;" } : Jvm.MethodName)) ∈ lw_all := lw_g (lw_at lw_m2 197 rfl) rfl
theorem q479 : (Jvm.Cond.code ({ cls := "java/util/ArrayList", name := "grow", desc := "()[Ljava/lang/Object;" } : Jvm.MethodName) prog_31_method_7_code (1 : Nat) (Option.some (Jvm.ClassFile.FieldType.array (Jvm.ClassFile.FieldType.object "java/lang/Object")))) ∈ lw_all := lw_g (lw_at lw_m2 198 rfl) rfl
theorem q480 : (Jvm.Cond.methodLink "java/util/ArrayList" (69 : Nat) ({ cls := "java/util/ArrayList", name := "grow", desc := "(I)[Ljava/lang/Object;" } : Jvm.MethodName)) ∈ lw_all := lw_g (lw_at lw_m2 199 rfl) rfl
theorem q481 : (Jvm.Cond.privateMethod ({ cls := "java/util/ArrayList", name := "grow", desc := "(I)[Ljava/lang/Object;" } : Jvm.MethodName)) ∈ lw_tbl := lw_at lw_m2 200 rfl
theorem q482 : (Jvm.Cond.instanceMethod ({ cls := "java/util/ArrayList", name := "grow", desc := "(I)[Ljava/lang/Object;" } : Jvm.MethodName)) ∈ lw_all := lw_g (lw_at lw_m2 201 rfl) rfl
theorem q483 : (Jvm.Cond.code ({ cls := "java/util/ArrayList", name := "grow", desc := "(I)[Ljava/lang/Object;" } : Jvm.MethodName) prog_31_method_6_code (4 : Nat) (Option.some (Jvm.ClassFile.FieldType.array (Jvm.ClassFile.FieldType.object "java/lang/Object")))) ∈ lw_all := lw_g (lw_at lw_m2 202 rfl) rfl
theorem q484 : (Jvm.Cond.fieldLink "java/util/ArrayList" (39 : Nat) "java/util/ArrayList" "DEFAULTCAPACITY_EMPTY_ELEMENTDATA" "[Ljava/lang/Object;") ∈ lw_all := lw_g (lw_at lw_m2 203 rfl) rfl
theorem q485 : (Jvm.Cond.laysStatic "java/util/ArrayList" "DEFAULTCAPACITY_EMPTY_ELEMENTDATA" "[Ljava/lang/Object;") ∈ lw_tbl := lw_at lw_m2 204 rfl
theorem q486 : (Jvm.Cond.methodLink "java/util/ArrayList" (73 : Nat) ({ cls := "jdk/internal/util/ArraysSupport", name := "newLength", desc := "(III)I" } : Jvm.MethodName)) ∈ lw_all := lw_g (lw_at lw_m2 205 rfl) rfl
theorem q487 : (Jvm.Cond.methodLink "java/util/ArrayList" (66 : Nat) ({ cls := "java/util/Arrays", name := "copyOf", desc := "([Ljava/lang/Object;I)[Ljava/lang/Object;" } : Jvm.MethodName)) ∈ lw_all := lw_g (lw_at lw_m2 206 rfl) rfl
theorem q506 : (Jvm.Cond.selects "java/util/ArrayList" ({ cls := "java/lang/Object", name := "getClass", desc := "()Ljava/lang/Class;" } : Jvm.MethodName) ({ cls := "java/lang/Object", name := "getClass", desc := "()Ljava/lang/Class;" } : Jvm.MethodName)) ∈ lw_all := lw_g (lw_at lw_m2 225 rfl) rfl
theorem q514 : (Jvm.Cond.methodLink "java/util/ArrayList" (79 : Nat) ({ cls := "java/lang/Math", name := "max", desc := "(II)I" } : Jvm.MethodName)) ∈ lw_all := lw_g (lw_at lw_m2 233 rfl) rfl
theorem q566 : (Jvm.Cond.instanceMethod ({ cls := "java/util/ArrayList", name := "get", desc := "(I)Ljava/lang/Object;" } : Jvm.MethodName)) ∈ lw_all := lw_g (lw_at lw_m3 45 rfl) rfl
theorem q567 : (Jvm.Cond.selects "java/util/ArrayList" ({ cls := "java/util/ArrayList", name := "get", desc := "(I)Ljava/lang/Object;" } : Jvm.MethodName) ({ cls := "java/util/ArrayList", name := "get", desc := "(I)Ljava/lang/Object;" } : Jvm.MethodName)) ∈ lw_all := lw_g (lw_at lw_m3 46 rfl) rfl
theorem q568 : (Jvm.Cond.code ({ cls := "java/util/ArrayList", name := "get", desc := "(I)Ljava/lang/Object;" } : Jvm.MethodName) prog_31_method_20_code (2 : Nat) (Option.some (Jvm.ClassFile.FieldType.object "java/lang/Object"))) ∈ lw_all := lw_g (lw_at lw_m3 47 rfl) rfl
theorem q569 : (Jvm.Cond.methodLink "java/util/ArrayList" (118 : Nat) ({ cls := "java/util/Objects", name := "checkIndex", desc := "(II)I" } : Jvm.MethodName)) ∈ lw_all := lw_g (lw_at lw_m3 48 rfl) rfl
theorem q575 : (Jvm.Cond.methodLink "java/util/ArrayList" (123 : Nat) ({ cls := "java/util/ArrayList", name := "elementData", desc := "(I)Ljava/lang/Object;" } : Jvm.MethodName)) ∈ lw_all := lw_g (lw_at lw_m3 54 rfl) rfl
theorem q576 : (Jvm.Cond.instanceMethod ({ cls := "java/util/ArrayList", name := "elementData", desc := "(I)Ljava/lang/Object;" } : Jvm.MethodName)) ∈ lw_all := lw_g (lw_at lw_m3 55 rfl) rfl
theorem q577 : (Jvm.Cond.selects "java/util/ArrayList" ({ cls := "java/util/ArrayList", name := "elementData", desc := "(I)Ljava/lang/Object;" } : Jvm.MethodName) ({ cls := "java/util/ArrayList", name := "elementData", desc := "(I)Ljava/lang/Object;" } : Jvm.MethodName)) ∈ lw_all := lw_g (lw_at lw_m3 56 rfl) rfl
theorem q578 : (Jvm.Cond.code ({ cls := "java/util/ArrayList", name := "elementData", desc := "(I)Ljava/lang/Object;" } : Jvm.MethodName) prog_31_method_18_code (2 : Nat) (Option.some (Jvm.ClassFile.FieldType.object "java/lang/Object"))) ∈ lw_all := lw_g (lw_at lw_m3 57 rfl) rfl
theorem q671 : (Jvm.Cond.instanceMethod ({ cls := "java/util/ArrayList", name := "isEmpty", desc := "()Z" } : Jvm.MethodName)) ∈ lw_all := lw_g (lw_at lw_m3 150 rfl) rfl
theorem q672 : (Jvm.Cond.selects "java/util/ArrayList" ({ cls := "java/util/ArrayList", name := "isEmpty", desc := "()Z" } : Jvm.MethodName) ({ cls := "java/util/ArrayList", name := "isEmpty", desc := "()Z" } : Jvm.MethodName)) ∈ lw_all := lw_g (lw_at lw_m3 151 rfl) rfl
theorem q673 : (Jvm.Cond.code ({ cls := "java/util/ArrayList", name := "isEmpty", desc := "()Z" } : Jvm.MethodName) prog_31_method_9_code (1 : Nat) (Option.some Jvm.ClassFile.FieldType.boolean)) ∈ lw_all := lw_g (lw_at lw_m3 152 rfl) rfl
theorem q855 : (Jvm.Cond.instanceMethod ({ cls := "java/util/ArrayList", name := "remove", desc := "(I)Ljava/lang/Object;" } : Jvm.MethodName)) ∈ lw_all := lw_g (lw_at lw_m4 94 rfl) rfl
theorem q856 : (Jvm.Cond.selects "java/util/ArrayList" ({ cls := "java/util/ArrayList", name := "remove", desc := "(I)Ljava/lang/Object;" } : Jvm.MethodName) ({ cls := "java/util/ArrayList", name := "remove", desc := "(I)Ljava/lang/Object;" } : Jvm.MethodName)) ∈ lw_all := lw_g (lw_at lw_m4 95 rfl) rfl
theorem q857 : (Jvm.Cond.code ({ cls := "java/util/ArrayList", name := "remove", desc := "(I)Ljava/lang/Object;" } : Jvm.MethodName) prog_31_method_29_code (4 : Nat) (Option.some (Jvm.ClassFile.FieldType.object "java/lang/Object"))) ∈ lw_all := lw_g (lw_at lw_m4 96 rfl) rfl
theorem q858 : (Jvm.Cond.methodLink "java/util/ArrayList" (144 : Nat) ({ cls := "java/util/ArrayList", name := "fastRemove", desc := "([Ljava/lang/Object;I)V" } : Jvm.MethodName)) ∈ lw_all := lw_g (lw_at lw_m4 97 rfl) rfl
theorem q859 : (Jvm.Cond.privateMethod ({ cls := "java/util/ArrayList", name := "fastRemove", desc := "([Ljava/lang/Object;I)V" } : Jvm.MethodName)) ∈ lw_tbl := lw_at lw_m4 98 rfl
theorem q860 : (Jvm.Cond.instanceMethod ({ cls := "java/util/ArrayList", name := "fastRemove", desc := "([Ljava/lang/Object;I)V" } : Jvm.MethodName)) ∈ lw_all := lw_g (lw_at lw_m4 99 rfl) rfl
theorem q861 : (Jvm.Cond.code ({ cls := "java/util/ArrayList", name := "fastRemove", desc := "([Ljava/lang/Object;I)V" } : Jvm.MethodName) prog_31_method_39_code (4 : Nat) (Option.none : Option Jvm.ClassFile.FieldType)) ∈ lw_all := lw_g (lw_at lw_m4 100 rfl) rfl
theorem q862 : (Jvm.Cond.methodLink "java/util/ArrayList" (112 : Nat) ({ cls := "java/lang/System", name := "arraycopy", desc := "(Ljava/lang/Object;ILjava/lang/Object;II)V" } : Jvm.MethodName)) ∈ lw_all := lw_g (lw_at lw_m4 101 rfl) rfl
theorem q1278 : (Jvm.Cond.castable "java/util/ArrayList" "java/lang/Object") ∈ lw_tbl := lw_at lw_m6 37 rfl
theorem in_J2 : ∀ w ∈ wsJ20, w ∈ lw_all := lw_in wsJ20 [418, 414, 416] (by decide +kernel) (by decide +kernel)
/-! J3.java_lang_Throwable -/
def RJ3 : String := "java/lang/Throwable"
def TJ3 : u_T := fun k => match k with
  | 0 => ("java/lang/Throwable", "cause", "Ljava/lang/Throwable;", false)
  | 1 => ("java/lang/Throwable", "stackTrace", "[Ljava/lang/StackTraceElement;", false)
  | 2 => ("java/lang/Throwable", "suppressedExceptions", "Ljava/util/List;", false)
  | 3 => ("java/lang/Throwable", "detailMessage", "Ljava/lang/String;", false)
  | _ => ("java/lang/Throwable", "backtrace", "Ljava/lang/Object;", false)
def tyJ3 : Nat → FieldType := fun k => match k with
  | 0 => .object "java/lang/Throwable"
  | 1 => .array (.object "java/lang/StackTraceElement")
  | 2 => .object "java/util/List"
  | 3 => .object "java/lang/String"
  | _ => .object "java/lang/Object"
abbrev wsJ30 : List Cond := u_ws RJ3 TJ3 5
theorem nmJ3 : ∀ a, a < 5 → ∀ b, b < 5 → a ≠ b → (TJ3 a).2.1 ≠ (TJ3 b).2.1 := by decide +kernel
theorem tyJ3_ok : ∀ k, k < 5 → parseFieldDescriptor (TJ3 k).2.2.1 = some (tyJ3 k) := by decide +kernel
abbrev cJ3_init : ByteArray := prog_28_method_1_code
def yJ3_init : MethodName := ⟨RJ3, "<init>", "()V"⟩
theorem dJ3_init_0 : decode cJ3_init 0 = .ok (.aload_n 0, 1) := by decide +kernel
theorem dJ3_init_1 : decode cJ3_init 1 = .ok (.invokespecial 1, 3) := by decide +kernel
theorem dJ3_init_4 : decode cJ3_init 4 = .ok (.aload_n 0, 1) := by decide +kernel
theorem dJ3_init_5 : decode cJ3_init 5 = .ok (.aload_n 0, 1) := by decide +kernel
theorem dJ3_init_6 : decode cJ3_init 6 = .ok (.putfield 7, 3) := by decide +kernel
theorem dJ3_init_9 : decode cJ3_init 9 = .ok (.aload_n 0, 1) := by decide +kernel
theorem dJ3_init_10 : decode cJ3_init 10 = .ok (.getstatic 13, 3) := by decide +kernel
theorem dJ3_init_13 : decode cJ3_init 13 = .ok (.putfield 17, 3) := by decide +kernel
theorem dJ3_init_16 : decode cJ3_init 16 = .ok (.aload_n 0, 1) := by decide +kernel
theorem dJ3_init_17 : decode cJ3_init 17 = .ok (.getstatic 20, 3) := by decide +kernel
theorem dJ3_init_20 : decode cJ3_init 20 = .ok (.putfield 24, 3) := by decide +kernel
theorem dJ3_init_23 : decode cJ3_init 23 = .ok (.aload_n 0, 1) := by decide +kernel
theorem dJ3_init_24 : decode cJ3_init 24 = .ok (.invokevirtual 27, 3) := by decide +kernel
theorem dJ3_init_27 : decode cJ3_init 27 = .ok (.pop, 1) := by decide +kernel
theorem dJ3_init_28 : decode cJ3_init 28 = .ok (.return_, 1) := by decide +kernel
abbrev cJ3_init_2 : ByteArray := prog_28_method_2_code
def yJ3_init_2 : MethodName := ⟨RJ3, "<init>", "(Ljava/lang/String;)V"⟩
theorem dJ3_init_2_0 : decode cJ3_init_2 0 = .ok (.aload_n 0, 1) := by decide +kernel
theorem dJ3_init_2_1 : decode cJ3_init_2 1 = .ok (.invokespecial 1, 3) := by decide +kernel
theorem dJ3_init_2_4 : decode cJ3_init_2 4 = .ok (.aload_n 0, 1) := by decide +kernel
theorem dJ3_init_2_5 : decode cJ3_init_2 5 = .ok (.aload_n 0, 1) := by decide +kernel
theorem dJ3_init_2_6 : decode cJ3_init_2 6 = .ok (.putfield 7, 3) := by decide +kernel
theorem dJ3_init_2_9 : decode cJ3_init_2 9 = .ok (.aload_n 0, 1) := by decide +kernel
theorem dJ3_init_2_10 : decode cJ3_init_2 10 = .ok (.getstatic 13, 3) := by decide +kernel
theorem dJ3_init_2_13 : decode cJ3_init_2 13 = .ok (.putfield 17, 3) := by decide +kernel
theorem dJ3_init_2_16 : decode cJ3_init_2 16 = .ok (.aload_n 0, 1) := by decide +kernel
theorem dJ3_init_2_17 : decode cJ3_init_2 17 = .ok (.getstatic 20, 3) := by decide +kernel
theorem dJ3_init_2_20 : decode cJ3_init_2 20 = .ok (.putfield 24, 3) := by decide +kernel
theorem dJ3_init_2_23 : decode cJ3_init_2 23 = .ok (.aload_n 0, 1) := by decide +kernel
theorem dJ3_init_2_24 : decode cJ3_init_2 24 = .ok (.invokevirtual 27, 3) := by decide +kernel
theorem dJ3_init_2_27 : decode cJ3_init_2 27 = .ok (.pop, 1) := by decide +kernel
theorem dJ3_init_2_28 : decode cJ3_init_2 28 = .ok (.aload_n 0, 1) := by decide +kernel
theorem dJ3_init_2_29 : decode cJ3_init_2 29 = .ok (.aload_n 1, 1) := by decide +kernel
theorem dJ3_init_2_30 : decode cJ3_init_2 30 = .ok (.putfield 31, 3) := by decide +kernel
theorem dJ3_init_2_33 : decode cJ3_init_2 33 = .ok (.return_, 1) := by decide +kernel
theorem q46 : (Jvm.Cond.initialized "java/lang/Throwable") ∈ lw_all := lw_g (lw_at lw_m1 5 rfl) rfl
theorem q105 : (Jvm.Cond.declares ({ cls := "java/lang/Throwable", name := "<init>", desc := "()V" } : Jvm.MethodName)) ∈ lw_tbl := lw_at lw_m1 64 rfl
theorem q106 : (Jvm.Cond.declares ({ cls := "java/lang/Throwable", name := "<init>", desc := "(Ljava/lang/String;)V" } : Jvm.MethodName)) ∈ lw_tbl := lw_at lw_m1 65 rfl
theorem q110 : (Jvm.Cond.lays "java/lang/Throwable" "java/lang/Throwable" "cause" "Ljava/lang/Throwable;") ∈ lw_all := lw_g (lw_at lw_m1 69 rfl) rfl
theorem q112 : (Jvm.Cond.lays "java/lang/Throwable" "java/lang/Throwable" "stackTrace" "[Ljava/lang/StackTraceElement;") ∈ lw_all := lw_g (lw_at lw_m1 71 rfl) rfl
theorem q114 : (Jvm.Cond.lays "java/lang/Throwable" "java/lang/Throwable" "suppressedExceptions" "Ljava/util/List;") ∈ lw_all := lw_g (lw_at lw_m1 73 rfl) rfl
theorem q116 : (Jvm.Cond.lays "java/lang/Throwable" "java/lang/Throwable" "detailMessage" "Ljava/lang/String;") ∈ lw_all := lw_g (lw_at lw_m1 75 rfl) rfl
theorem q118 : (Jvm.Cond.lays "java/lang/Throwable" "java/lang/Throwable" "backtrace" "Ljava/lang/Object;") ∈ lw_all := lw_g (lw_at lw_m1 77 rfl) rfl
theorem q119 : (Jvm.Cond.fieldLink "java/lang/Throwable" (198 : Nat) "java/lang/Throwable" "backtrace" "Ljava/lang/Object;") ∈ lw_all := lw_g (lw_at lw_m1 78 rfl) rfl
theorem q120 : (Jvm.Cond.superclass "java/lang/Throwable" "java/lang/Object") ∈ lw_all := lw_g (lw_at lw_m1 79 rfl) rfl
theorem q121 : (Jvm.Cond.instanceMethod ({ cls := "java/lang/Throwable", name := "<init>", desc := "()V" } : Jvm.MethodName)) ∈ lw_all := lw_g (lw_at lw_m1 80 rfl) rfl
theorem q122 : (Jvm.Cond.code ({ cls := "java/lang/Throwable", name := "<init>", desc := "()V" } : Jvm.MethodName) prog_28_method_1_code (1 : Nat) (Option.none : Option Jvm.ClassFile.FieldType)) ∈ lw_all := lw_g (lw_at lw_m1 81 rfl) rfl
theorem q123 : (Jvm.Cond.methodLink "java/lang/Throwable" (1 : Nat) ({ cls := "java/lang/Object", name := "<init>", desc := "()V" } : Jvm.MethodName)) ∈ lw_all := lw_g (lw_at lw_m1 82 rfl) rfl
theorem q124 : (Jvm.Cond.fieldLink "java/lang/Throwable" (13 : Nat) "java/lang/Throwable" "UNASSIGNED_STACK" "[Ljava/lang/StackTraceElement;") ∈ lw_all := lw_g (lw_at lw_m1 83 rfl) rfl
theorem q125 : (Jvm.Cond.laysStatic "java/lang/Throwable" "UNASSIGNED_STACK" "[Ljava/lang/StackTraceElement;") ∈ lw_tbl := lw_at lw_m1 84 rfl
theorem q126 : (Jvm.Cond.fieldLink "java/lang/Throwable" (20 : Nat) "java/lang/Throwable" "SUPPRESSED_SENTINEL" "Ljava/util/List;") ∈ lw_all := lw_g (lw_at lw_m1 85 rfl) rfl
theorem q127 : (Jvm.Cond.laysStatic "java/lang/Throwable" "SUPPRESSED_SENTINEL" "Ljava/util/List;") ∈ lw_tbl := lw_at lw_m1 86 rfl
theorem q128 : (Jvm.Cond.methodLink "java/lang/Throwable" (27 : Nat) ({ cls := "java/lang/Throwable", name := "fillInStackTrace", desc := "()Ljava/lang/Throwable;" } : Jvm.MethodName)) ∈ lw_all := lw_g (lw_at lw_m1 87 rfl) rfl
theorem q129 : (Jvm.Cond.instanceMethod ({ cls := "java/lang/Throwable", name := "fillInStackTrace", desc := "()Ljava/lang/Throwable;" } : Jvm.MethodName)) ∈ lw_all := lw_g (lw_at lw_m1 88 rfl) rfl
theorem q130 : (Jvm.Cond.sameMethod "java/lang/Throwable" "java/lang/Throwable" "fillInStackTrace" "()Ljava/lang/Throwable;") ∈ lw_all := lw_g (lw_at lw_m1 89 rfl) rfl
theorem q132 : (Jvm.Cond.codeSync ({ cls := "java/lang/Throwable", name := "fillInStackTrace", desc := "()Ljava/lang/Throwable;" } : Jvm.MethodName) prog_28_method_18_code (1 : Nat) (Option.some (Jvm.ClassFile.FieldType.object "java/lang/Throwable"))) ∈ lw_all := lw_g (lw_at lw_m1 91 rfl) rfl
theorem q133 : (Jvm.Cond.methodLink "java/lang/Throwable" (202 : Nat) ({ cls := "java/lang/Throwable", name := "fillInStackTrace", desc := "(I)Ljava/lang/Throwable;" } : Jvm.MethodName)) ∈ lw_all := lw_g (lw_at lw_m1 92 rfl) rfl
theorem q134 : (Jvm.Cond.privateMethod ({ cls := "java/lang/Throwable", name := "fillInStackTrace", desc := "(I)Ljava/lang/Throwable;" } : Jvm.MethodName)) ∈ lw_tbl := lw_at lw_m1 93 rfl
theorem q135 : (Jvm.Cond.instanceMethod ({ cls := "java/lang/Throwable", name := "fillInStackTrace", desc := "(I)Ljava/lang/Throwable;" } : Jvm.MethodName)) ∈ lw_all := lw_g (lw_at lw_m1 94 rfl) rfl
theorem q136 : (Jvm.Cond.instantiable "java/lang/Throwable" (6 : Nat)) ∈ lw_all := lw_g (lw_at lw_m1 95 rfl) rfl
theorem q137 : (Jvm.Cond.native ({ cls := "java/lang/Throwable", name := "fillInStackTrace", desc := "(I)Ljava/lang/Throwable;" } : Jvm.MethodName)) ∈ lw_all := lw_g (lw_at lw_m1 96 rfl) rfl
theorem q369 : (Jvm.Cond.instanceMethod ({ cls := "java/lang/Throwable", name := "<init>", desc := "(Ljava/lang/String;)V" } : Jvm.MethodName)) ∈ lw_all := lw_g (lw_at lw_m2 88 rfl) rfl
theorem q370 : (Jvm.Cond.code ({ cls := "java/lang/Throwable", name := "<init>", desc := "(Ljava/lang/String;)V" } : Jvm.MethodName) prog_28_method_2_code (2 : Nat) (Option.none : Option Jvm.ClassFile.FieldType)) ∈ lw_all := lw_g (lw_at lw_m2 89 rfl) rfl
theorem q371 : (Jvm.Cond.fieldLink "java/lang/Throwable" (198 : Nat) "java/lang/Throwable" "backtrace" "Ljava/lang/Object;") ∈ lw_all := lw_g (lw_at lw_m2 90 rfl) rfl
theorem q372 : (Jvm.Cond.fieldLink "java/lang/Throwable" (31 : Nat) "java/lang/Throwable" "detailMessage" "Ljava/lang/String;") ∈ lw_all := lw_g (lw_at lw_m2 91 rfl) rfl
theorem q373 : (Jvm.Cond.fieldLink "java/lang/Throwable" (7 : Nat) "java/lang/Throwable" "cause" "Ljava/lang/Throwable;") ∈ lw_all := lw_g (lw_at lw_m2 92 rfl) rfl
theorem q374 : (Jvm.Cond.fieldLink "java/lang/Throwable" (17 : Nat) "java/lang/Throwable" "stackTrace" "[Ljava/lang/StackTraceElement;") ∈ lw_all := lw_g (lw_at lw_m2 93 rfl) rfl
theorem q375 : (Jvm.Cond.fieldLink "java/lang/Throwable" (24 : Nat) "java/lang/Throwable" "suppressedExceptions" "Ljava/util/List;") ∈ lw_all := lw_g (lw_at lw_m2 94 rfl) rfl
theorem q376 : (Jvm.Cond.soleField "java/lang/Throwable" "backtrace") ∈ lw_all := lw_g (lw_at lw_m2 95 rfl) rfl
theorem q377 : (Jvm.Cond.soleField "java/lang/Throwable" "detailMessage") ∈ lw_all := lw_g (lw_at lw_m2 96 rfl) rfl
theorem q378 : (Jvm.Cond.soleField "java/lang/Throwable" "cause") ∈ lw_all := lw_g (lw_at lw_m2 97 rfl) rfl
theorem q379 : (Jvm.Cond.soleField "java/lang/Throwable" "stackTrace") ∈ lw_all := lw_g (lw_at lw_m2 98 rfl) rfl
theorem q381 : (Jvm.Cond.soleField "java/lang/Throwable" "depth") ∈ lw_all := lw_g (lw_at lw_m2 100 rfl) rfl
theorem q382 : (Jvm.Cond.soleField "java/lang/Throwable" "suppressedExceptions") ∈ lw_all := lw_g (lw_at lw_m2 101 rfl) rfl
theorem q1268 : (Jvm.Cond.sameMethod "java/lang/Throwable" "java/lang/Throwable" "fillInStackTrace" "(I)Ljava/lang/Throwable;") ∈ lw_all := lw_g (lw_at lw_m6 27 rfl) rfl
theorem q1292 : (Jvm.Cond.castable "java/lang/Throwable" "java/lang/Object") ∈ lw_tbl := lw_at lw_m6 51 rfl
theorem in_J3 : ∀ w ∈ wsJ30, w ∈ lw_all := lw_in wsJ30 [110, 112, 114, 116, 118] (by decide +kernel) (by decide +kernel)
/-! J4.java_lang_Exception -/
def RJ4 : String := "java/lang/Exception"
abbrev cJ4_init : ByteArray := prog_15_method_2_code
def yJ4_init : MethodName := ⟨RJ4, "<init>", "(Ljava/lang/String;)V"⟩
theorem dJ4_init_0 : decode cJ4_init 0 = .ok (.aload_n 0, 1) := by decide +kernel
theorem dJ4_init_1 : decode cJ4_init 1 = .ok (.aload_n 1, 1) := by decide +kernel
theorem dJ4_init_2 : decode cJ4_init 2 = .ok (.invokespecial 7, 3) := by decide +kernel
theorem dJ4_init_5 : decode cJ4_init 5 = .ok (.return_, 1) := by decide +kernel
abbrev cJ4_init_2 : ByteArray := prog_15_method_1_code
def yJ4_init_2 : MethodName := ⟨RJ4, "<init>", "()V"⟩
theorem dJ4_init_2_0 : decode cJ4_init_2 0 = .ok (.aload_n 0, 1) := by decide +kernel
theorem dJ4_init_2_1 : decode cJ4_init_2 1 = .ok (.invokespecial 1, 3) := by decide +kernel
theorem dJ4_init_2_4 : decode cJ4_init_2 4 = .ok (.return_, 1) := by decide +kernel
theorem q47 : (Jvm.Cond.initialized "java/lang/Exception") ∈ lw_all := lw_g (lw_at lw_m1 6 rfl) rfl
theorem q103 : (Jvm.Cond.declares ({ cls := "java/lang/Exception", name := "<init>", desc := "()V" } : Jvm.MethodName)) ∈ lw_tbl := lw_at lw_m1 62 rfl
theorem q104 : (Jvm.Cond.declares ({ cls := "java/lang/Exception", name := "<init>", desc := "(Ljava/lang/String;)V" } : Jvm.MethodName)) ∈ lw_tbl := lw_at lw_m1 63 rfl
theorem q366 : (Jvm.Cond.instanceMethod ({ cls := "java/lang/Exception", name := "<init>", desc := "(Ljava/lang/String;)V" } : Jvm.MethodName)) ∈ lw_all := lw_g (lw_at lw_m2 85 rfl) rfl
theorem q367 : (Jvm.Cond.code ({ cls := "java/lang/Exception", name := "<init>", desc := "(Ljava/lang/String;)V" } : Jvm.MethodName) prog_15_method_2_code (2 : Nat) (Option.none : Option Jvm.ClassFile.FieldType)) ∈ lw_all := lw_g (lw_at lw_m2 86 rfl) rfl
theorem q368 : (Jvm.Cond.methodLink "java/lang/Exception" (7 : Nat) ({ cls := "java/lang/Throwable", name := "<init>", desc := "(Ljava/lang/String;)V" } : Jvm.MethodName)) ∈ lw_all := lw_g (lw_at lw_m2 87 rfl) rfl
theorem q798 : (Jvm.Cond.instanceMethod ({ cls := "java/lang/Exception", name := "<init>", desc := "()V" } : Jvm.MethodName)) ∈ lw_all := lw_g (lw_at lw_m4 37 rfl) rfl
theorem q799 : (Jvm.Cond.code ({ cls := "java/lang/Exception", name := "<init>", desc := "()V" } : Jvm.MethodName) prog_15_method_1_code (1 : Nat) (Option.none : Option Jvm.ClassFile.FieldType)) ∈ lw_all := lw_g (lw_at lw_m4 38 rfl) rfl
theorem q800 : (Jvm.Cond.methodLink "java/lang/Exception" (1 : Nat) ({ cls := "java/lang/Throwable", name := "<init>", desc := "()V" } : Jvm.MethodName)) ∈ lw_all := lw_g (lw_at lw_m4 39 rfl) rfl
/-! J5.java_lang_RuntimeException -/
def RJ5 : String := "java/lang/RuntimeException"
abbrev cJ5_init : ByteArray := prog_22_method_2_code
def yJ5_init : MethodName := ⟨RJ5, "<init>", "(Ljava/lang/String;)V"⟩
theorem dJ5_init_0 : decode cJ5_init 0 = .ok (.aload_n 0, 1) := by decide +kernel
theorem dJ5_init_1 : decode cJ5_init 1 = .ok (.aload_n 1, 1) := by decide +kernel
theorem dJ5_init_2 : decode cJ5_init 2 = .ok (.invokespecial 7, 3) := by decide +kernel
theorem dJ5_init_5 : decode cJ5_init 5 = .ok (.return_, 1) := by decide +kernel
abbrev cJ5_init_2 : ByteArray := prog_22_method_1_code
def yJ5_init_2 : MethodName := ⟨RJ5, "<init>", "()V"⟩
theorem dJ5_init_2_0 : decode cJ5_init_2 0 = .ok (.aload_n 0, 1) := by decide +kernel
theorem dJ5_init_2_1 : decode cJ5_init_2 1 = .ok (.invokespecial 1, 3) := by decide +kernel
theorem dJ5_init_2_4 : decode cJ5_init_2 4 = .ok (.return_, 1) := by decide +kernel
theorem q48 : (Jvm.Cond.initialized "java/lang/RuntimeException") ∈ lw_all := lw_g (lw_at lw_m1 7 rfl) rfl
theorem q101 : (Jvm.Cond.declares ({ cls := "java/lang/RuntimeException", name := "<init>", desc := "()V" } : Jvm.MethodName)) ∈ lw_tbl := lw_at lw_m1 60 rfl
theorem q102 : (Jvm.Cond.declares ({ cls := "java/lang/RuntimeException", name := "<init>", desc := "(Ljava/lang/String;)V" } : Jvm.MethodName)) ∈ lw_tbl := lw_at lw_m1 61 rfl
theorem q363 : (Jvm.Cond.instanceMethod ({ cls := "java/lang/RuntimeException", name := "<init>", desc := "(Ljava/lang/String;)V" } : Jvm.MethodName)) ∈ lw_all := lw_g (lw_at lw_m2 82 rfl) rfl
theorem q364 : (Jvm.Cond.code ({ cls := "java/lang/RuntimeException", name := "<init>", desc := "(Ljava/lang/String;)V" } : Jvm.MethodName) prog_22_method_2_code (2 : Nat) (Option.none : Option Jvm.ClassFile.FieldType)) ∈ lw_all := lw_g (lw_at lw_m2 83 rfl) rfl
theorem q365 : (Jvm.Cond.methodLink "java/lang/RuntimeException" (7 : Nat) ({ cls := "java/lang/Exception", name := "<init>", desc := "(Ljava/lang/String;)V" } : Jvm.MethodName)) ∈ lw_all := lw_g (lw_at lw_m2 84 rfl) rfl
theorem q795 : (Jvm.Cond.instanceMethod ({ cls := "java/lang/RuntimeException", name := "<init>", desc := "()V" } : Jvm.MethodName)) ∈ lw_all := lw_g (lw_at lw_m4 34 rfl) rfl
theorem q796 : (Jvm.Cond.code ({ cls := "java/lang/RuntimeException", name := "<init>", desc := "()V" } : Jvm.MethodName) prog_22_method_1_code (1 : Nat) (Option.none : Option Jvm.ClassFile.FieldType)) ∈ lw_all := lw_g (lw_at lw_m4 35 rfl) rfl
theorem q797 : (Jvm.Cond.methodLink "java/lang/RuntimeException" (1 : Nat) ({ cls := "java/lang/Exception", name := "<init>", desc := "()V" } : Jvm.MethodName)) ∈ lw_all := lw_g (lw_at lw_m4 36 rfl) rfl
/-! J6.java_lang_IllegalArgumentException -/
def RJ6 : String := "java/lang/IllegalArgumentException"
def TJ6 : u_T := fun k => match k with
  | 0 => ("java/lang/Throwable", "cause", "Ljava/lang/Throwable;", false)
  | 1 => ("java/lang/Throwable", "stackTrace", "[Ljava/lang/StackTraceElement;", false)
  | 2 => ("java/lang/Throwable", "suppressedExceptions", "Ljava/util/List;", false)
  | 3 => ("java/lang/Throwable", "detailMessage", "Ljava/lang/String;", false)
  | 4 => ("java/lang/Throwable", "backtrace", "Ljava/lang/Object;", false)
  | _ => ("java/lang/Throwable", "depth", "I", false)
def tyJ6 : Nat → FieldType := fun k => match k with
  | 0 => .object "java/lang/Throwable"
  | 1 => .array (.object "java/lang/StackTraceElement")
  | 2 => .object "java/util/List"
  | 3 => .object "java/lang/String"
  | 4 => .object "java/lang/Object"
  | _ => .int
abbrev wsJ60 : List Cond := u_ws RJ6 TJ6 6
theorem nmJ6 : ∀ a, a < 6 → ∀ b, b < 6 → a ≠ b → (TJ6 a).2.1 ≠ (TJ6 b).2.1 := by decide +kernel
theorem tyJ6_ok : ∀ k, k < 6 → parseFieldDescriptor (TJ6 k).2.2.1 = some (tyJ6 k) := by decide +kernel
abbrev cJ6_init : ByteArray := prog_16_method_2_code
def yJ6_init : MethodName := ⟨RJ6, "<init>", "(Ljava/lang/String;)V"⟩
theorem dJ6_init_0 : decode cJ6_init 0 = .ok (.aload_n 0, 1) := by decide +kernel
theorem dJ6_init_1 : decode cJ6_init 1 = .ok (.aload_n 1, 1) := by decide +kernel
theorem dJ6_init_2 : decode cJ6_init 2 = .ok (.invokespecial 7, 3) := by decide +kernel
theorem dJ6_init_5 : decode cJ6_init 5 = .ok (.return_, 1) := by decide +kernel
abbrev cJ6_init_2 : ByteArray := prog_16_method_1_code
def yJ6_init_2 : MethodName := ⟨RJ6, "<init>", "()V"⟩
theorem dJ6_init_2_0 : decode cJ6_init_2 0 = .ok (.aload_n 0, 1) := by decide +kernel
theorem dJ6_init_2_1 : decode cJ6_init_2 1 = .ok (.invokespecial 1, 3) := by decide +kernel
theorem dJ6_init_2_4 : decode cJ6_init_2 4 = .ok (.return_, 1) := by decide +kernel
theorem q49 : (Jvm.Cond.initialized "java/lang/IllegalArgumentException") ∈ lw_all := lw_g (lw_at lw_m1 8 rfl) rfl
theorem q99 : (Jvm.Cond.instantiable "java/lang/IllegalArgumentException" (6 : Nat)) ∈ lw_all := lw_g (lw_at lw_m1 58 rfl) rfl
theorem q100 : (Jvm.Cond.castable "java/lang/IllegalArgumentException" "java/lang/IllegalArgumentException") ∈ lw_tbl := lw_at lw_m1 59 rfl
theorem q107 : (Jvm.Cond.selects "java/lang/IllegalArgumentException" ({ cls := "java/lang/Throwable", name := "fillInStackTrace", desc := "(I)Ljava/lang/Throwable;" } : Jvm.MethodName) ({ cls := "java/lang/Throwable", name := "fillInStackTrace", desc := "(I)Ljava/lang/Throwable;" } : Jvm.MethodName)) ∈ lw_all := lw_g (lw_at lw_m1 66 rfl) rfl
theorem q108 : (Jvm.Cond.selects "java/lang/IllegalArgumentException" ({ cls := "java/lang/Throwable", name := "fillInStackTrace", desc := "()Ljava/lang/Throwable;" } : Jvm.MethodName) ({ cls := "java/lang/Throwable", name := "fillInStackTrace", desc := "()Ljava/lang/Throwable;" } : Jvm.MethodName)) ∈ lw_all := lw_g (lw_at lw_m1 67 rfl) rfl
theorem q109 : (Jvm.Cond.lays "java/lang/IllegalArgumentException" "java/lang/Throwable" "cause" "Ljava/lang/Throwable;") ∈ lw_all := lw_g (lw_at lw_m1 68 rfl) rfl
theorem q111 : (Jvm.Cond.lays "java/lang/IllegalArgumentException" "java/lang/Throwable" "stackTrace" "[Ljava/lang/StackTraceElement;") ∈ lw_all := lw_g (lw_at lw_m1 70 rfl) rfl
theorem q113 : (Jvm.Cond.lays "java/lang/IllegalArgumentException" "java/lang/Throwable" "suppressedExceptions" "Ljava/util/List;") ∈ lw_all := lw_g (lw_at lw_m1 72 rfl) rfl
theorem q115 : (Jvm.Cond.lays "java/lang/IllegalArgumentException" "java/lang/Throwable" "detailMessage" "Ljava/lang/String;") ∈ lw_all := lw_g (lw_at lw_m1 74 rfl) rfl
theorem q117 : (Jvm.Cond.lays "java/lang/IllegalArgumentException" "java/lang/Throwable" "backtrace" "Ljava/lang/Object;") ∈ lw_all := lw_g (lw_at lw_m1 76 rfl) rfl
theorem q360 : (Jvm.Cond.instanceMethod ({ cls := "java/lang/IllegalArgumentException", name := "<init>", desc := "(Ljava/lang/String;)V" } : Jvm.MethodName)) ∈ lw_all := lw_g (lw_at lw_m2 79 rfl) rfl
theorem q361 : (Jvm.Cond.code ({ cls := "java/lang/IllegalArgumentException", name := "<init>", desc := "(Ljava/lang/String;)V" } : Jvm.MethodName) prog_16_method_2_code (2 : Nat) (Option.none : Option Jvm.ClassFile.FieldType)) ∈ lw_all := lw_g (lw_at lw_m2 80 rfl) rfl
theorem q362 : (Jvm.Cond.methodLink "java/lang/IllegalArgumentException" (7 : Nat) ({ cls := "java/lang/RuntimeException", name := "<init>", desc := "(Ljava/lang/String;)V" } : Jvm.MethodName)) ∈ lw_all := lw_g (lw_at lw_m2 81 rfl) rfl
theorem q380 : (Jvm.Cond.lays "java/lang/IllegalArgumentException" "java/lang/Throwable" "depth" "I") ∈ lw_all := lw_g (lw_at lw_m2 99 rfl) rfl
theorem q383 : (Jvm.Cond.superclass "java/lang/IllegalArgumentException" "java/lang/RuntimeException") ∈ lw_all := lw_g (lw_at lw_m2 102 rfl) rfl
theorem q502 : (Jvm.Cond.selects "java/lang/IllegalArgumentException" ({ cls := "java/lang/Object", name := "getClass", desc := "()Ljava/lang/Class;" } : Jvm.MethodName) ({ cls := "java/lang/Object", name := "getClass", desc := "()Ljava/lang/Class;" } : Jvm.MethodName)) ∈ lw_all := lw_g (lw_at lw_m2 221 rfl) rfl
theorem q840 : (Jvm.Cond.instanceMethod ({ cls := "java/lang/IllegalArgumentException", name := "<init>", desc := "()V" } : Jvm.MethodName)) ∈ lw_all := lw_g (lw_at lw_m4 79 rfl) rfl
theorem q841 : (Jvm.Cond.code ({ cls := "java/lang/IllegalArgumentException", name := "<init>", desc := "()V" } : Jvm.MethodName) prog_16_method_1_code (1 : Nat) (Option.none : Option Jvm.ClassFile.FieldType)) ∈ lw_all := lw_g (lw_at lw_m4 80 rfl) rfl
theorem q842 : (Jvm.Cond.methodLink "java/lang/IllegalArgumentException" (1 : Nat) ({ cls := "java/lang/RuntimeException", name := "<init>", desc := "()V" } : Jvm.MethodName)) ∈ lw_all := lw_g (lw_at lw_m4 81 rfl) rfl
theorem q1279 : (Jvm.Cond.castable "java/lang/IllegalArgumentException" "java/lang/Object") ∈ lw_tbl := lw_at lw_m6 38 rfl
theorem in_J6 : ∀ w ∈ wsJ60, w ∈ lw_all := lw_in wsJ60 [109, 111, 113, 115, 117, 380] (by decide +kernel) (by decide +kernel)
/-! J11.jdk_internal_util_ArraysSupport -/
def RJ11 : String := "jdk/internal/util/ArraysSupport"
abbrev cJ11_newLength : ByteArray := prog_39_method_27_code
def yJ11_newLength : MethodName := ⟨RJ11, "newLength", "(III)I"⟩
theorem dJ11_newLength_0 : decode cJ11_newLength 0 = .ok (.iload_n 0, 1) := by decide +kernel
theorem dJ11_newLength_1 : decode cJ11_newLength 1 = .ok (.iload_n 1, 1) := by decide +kernel
theorem dJ11_newLength_2 : decode cJ11_newLength 2 = .ok (.iload_n 2, 1) := by decide +kernel
theorem dJ11_newLength_3 : decode cJ11_newLength 3 = .ok (.invokestatic 194, 3) := by decide +kernel
theorem dJ11_newLength_6 : decode cJ11_newLength 6 = .ok (.iadd, 1) := by decide +kernel
theorem dJ11_newLength_7 : decode cJ11_newLength 7 = .ok (.istore_n 3, 1) := by decide +kernel
theorem dJ11_newLength_8 : decode cJ11_newLength 8 = .ok (.iconst 0, 1) := by decide +kernel
theorem dJ11_newLength_9 : decode cJ11_newLength 9 = .ok (.iload_n 3, 1) := by decide +kernel
theorem dJ11_newLength_10 : decode cJ11_newLength 10 = .ok (.if_icmp .ge 11, 3) := by decide +kernel
theorem dJ11_newLength_13 : decode cJ11_newLength 13 = .ok (.iload_n 3, 1) := by decide +kernel
theorem dJ11_newLength_14 : decode cJ11_newLength 14 = .ok (.ldc 200, 2) := by decide +kernel
theorem dJ11_newLength_16 : decode cJ11_newLength 16 = .ok (.if_icmp .gt 5, 3) := by decide +kernel
theorem dJ11_newLength_19 : decode cJ11_newLength 19 = .ok (.iload_n 3, 1) := by decide +kernel
theorem dJ11_newLength_20 : decode cJ11_newLength 20 = .ok (.ireturn, 1) := by decide +kernel
theorem dJ11_newLength_21 : decode cJ11_newLength 21 = .ok (.iload_n 0, 1) := by decide +kernel
theorem dJ11_newLength_22 : decode cJ11_newLength 22 = .ok (.iload_n 1, 1) := by decide +kernel
theorem dJ11_newLength_23 : decode cJ11_newLength 23 = .ok (.invokestatic 201, 3) := by decide +kernel
theorem dJ11_newLength_26 : decode cJ11_newLength 26 = .ok (.ireturn, 1) := by decide +kernel
abbrev cJ11_hugeLength : ByteArray := prog_39_method_28_code
def yJ11_hugeLength : MethodName := ⟨RJ11, "hugeLength", "(II)I"⟩
theorem dJ11_hugeLength_0 : decode cJ11_hugeLength 0 = .ok (.iload_n 0, 1) := by decide +kernel
theorem dJ11_hugeLength_1 : decode cJ11_hugeLength 1 = .ok (.iload_n 1, 1) := by decide +kernel
theorem dJ11_hugeLength_2 : decode cJ11_hugeLength 2 = .ok (.iadd, 1) := by decide +kernel
theorem dJ11_hugeLength_3 : decode cJ11_hugeLength 3 = .ok (.istore_n 2, 1) := by decide +kernel
theorem dJ11_hugeLength_4 : decode cJ11_hugeLength 4 = .ok (.iload_n 2, 1) := by decide +kernel
theorem dJ11_hugeLength_5 : decode cJ11_hugeLength 5 = .ok (.ifCond .ge 44, 3) := by decide +kernel
theorem dJ11_hugeLength_8 : decode cJ11_hugeLength 8 = .ok (.new 204, 3) := by decide +kernel
theorem dJ11_hugeLength_11 : decode cJ11_hugeLength 11 = .ok (.dup, 1) := by decide +kernel
theorem dJ11_hugeLength_12 : decode cJ11_hugeLength 12 = .ok (.new 89, 3) := by decide +kernel
theorem dJ11_hugeLength_15 : decode cJ11_hugeLength 15 = .ok (.dup, 1) := by decide +kernel
theorem dJ11_hugeLength_16 : decode cJ11_hugeLength 16 = .ok (.invokespecial 91, 3) := by decide +kernel
theorem dJ11_hugeLength_19 : decode cJ11_hugeLength 19 = .ok (.ldc 206, 2) := by decide +kernel
theorem dJ11_hugeLength_21 : decode cJ11_hugeLength 21 = .ok (.invokevirtual 94, 3) := by decide +kernel
theorem dJ11_hugeLength_24 : decode cJ11_hugeLength 24 = .ok (.iload_n 0, 1) := by decide +kernel
theorem dJ11_hugeLength_25 : decode cJ11_hugeLength 25 = .ok (.invokevirtual 98, 3) := by decide +kernel
theorem dJ11_hugeLength_28 : decode cJ11_hugeLength 28 = .ok (.ldc 208, 2) := by decide +kernel
theorem dJ11_hugeLength_30 : decode cJ11_hugeLength 30 = .ok (.invokevirtual 94, 3) := by decide +kernel
theorem dJ11_hugeLength_33 : decode cJ11_hugeLength 33 = .ok (.iload_n 1, 1) := by decide +kernel
theorem dJ11_hugeLength_34 : decode cJ11_hugeLength 34 = .ok (.invokevirtual 98, 3) := by decide +kernel
theorem dJ11_hugeLength_37 : decode cJ11_hugeLength 37 = .ok (.ldc 210, 2) := by decide +kernel
theorem dJ11_hugeLength_39 : decode cJ11_hugeLength 39 = .ok (.invokevirtual 94, 3) := by decide +kernel
theorem dJ11_hugeLength_42 : decode cJ11_hugeLength 42 = .ok (.invokevirtual 101, 3) := by decide +kernel
theorem dJ11_hugeLength_45 : decode cJ11_hugeLength 45 = .ok (.invokespecial 212, 3) := by decide +kernel
theorem dJ11_hugeLength_48 : decode cJ11_hugeLength 48 = .ok (.athrow, 1) := by decide +kernel
theorem dJ11_hugeLength_49 : decode cJ11_hugeLength 49 = .ok (.iload_n 2, 1) := by decide +kernel
theorem dJ11_hugeLength_50 : decode cJ11_hugeLength 50 = .ok (.ldc 200, 2) := by decide +kernel
theorem dJ11_hugeLength_52 : decode cJ11_hugeLength 52 = .ok (.if_icmp .gt 6, 3) := by decide +kernel
theorem dJ11_hugeLength_55 : decode cJ11_hugeLength 55 = .ok (.ldc 200, 2) := by decide +kernel
theorem dJ11_hugeLength_57 : decode cJ11_hugeLength 57 = .ok (.ireturn, 1) := by decide +kernel
theorem dJ11_hugeLength_58 : decode cJ11_hugeLength 58 = .ok (.iload_n 2, 1) := by decide +kernel
theorem dJ11_hugeLength_59 : decode cJ11_hugeLength 59 = .ok (.ireturn, 1) := by decide +kernel
theorem q54 : (Jvm.Cond.initialized "jdk/internal/util/ArraysSupport") ∈ lw_all := lw_g (lw_at lw_m1 13 rfl) rfl
theorem q191 : (Jvm.Cond.static ({ cls := "jdk/internal/util/ArraysSupport", name := "newLength", desc := "(III)I" } : Jvm.MethodName)) ∈ lw_all := lw_g (lw_at lw_m1 150 rfl) rfl
theorem q192 : (Jvm.Cond.code ({ cls := "jdk/internal/util/ArraysSupport", name := "newLength", desc := "(III)I" } : Jvm.MethodName) prog_39_method_27_code (4 : Nat) (Option.some Jvm.ClassFile.FieldType.int)) ∈ lw_all := lw_g (lw_at lw_m1 151 rfl) rfl
theorem q193 : (Jvm.Cond.methodLink "jdk/internal/util/ArraysSupport" (194 : Nat) ({ cls := "java/lang/Math", name := "max", desc := "(II)I" } : Jvm.MethodName)) ∈ lw_all := lw_g (lw_at lw_m1 152 rfl) rfl
theorem q196 : (Jvm.Cond.constant "jdk/internal/util/ArraysSupport" (200 : Nat) (2147483639 : Int32)) ∈ lw_all := lw_g (lw_at lw_m1 155 rfl) rfl
theorem q197 : (Jvm.Cond.methodLink "jdk/internal/util/ArraysSupport" (201 : Nat) ({ cls := "jdk/internal/util/ArraysSupport", name := "hugeLength", desc := "(II)I" } : Jvm.MethodName)) ∈ lw_all := lw_g (lw_at lw_m1 156 rfl) rfl
theorem q198 : (Jvm.Cond.static ({ cls := "jdk/internal/util/ArraysSupport", name := "hugeLength", desc := "(II)I" } : Jvm.MethodName)) ∈ lw_all := lw_g (lw_at lw_m1 157 rfl) rfl
theorem q199 : (Jvm.Cond.code ({ cls := "jdk/internal/util/ArraysSupport", name := "hugeLength", desc := "(II)I" } : Jvm.MethodName) prog_39_method_28_code (3 : Nat) (Option.some Jvm.ClassFile.FieldType.int)) ∈ lw_all := lw_g (lw_at lw_m1 158 rfl) rfl
/-! J12.java_lang_Math -/
def RJ12 : String := "java/lang/Math"
abbrev cJ12_max : ByteArray := prog_20_method_65_code
def yJ12_max : MethodName := ⟨RJ12, "max", "(II)I"⟩
theorem dJ12_max_0 : decode cJ12_max 0 = .ok (.iload_n 0, 1) := by decide +kernel
theorem dJ12_max_1 : decode cJ12_max 1 = .ok (.iload_n 1, 1) := by decide +kernel
theorem dJ12_max_2 : decode cJ12_max 2 = .ok (.if_icmp .lt 7, 3) := by decide +kernel
theorem dJ12_max_5 : decode cJ12_max 5 = .ok (.iload_n 0, 1) := by decide +kernel
theorem dJ12_max_6 : decode cJ12_max 6 = .ok (.goto 4, 3) := by decide +kernel
theorem dJ12_max_9 : decode cJ12_max 9 = .ok (.iload_n 1, 1) := by decide +kernel
theorem dJ12_max_10 : decode cJ12_max 10 = .ok (.ireturn, 1) := by decide +kernel
abbrev cJ12_min : ByteArray := prog_20_method_69_code
def yJ12_min : MethodName := ⟨RJ12, "min", "(II)I"⟩
theorem dJ12_min_0 : decode cJ12_min 0 = .ok (.iload_n 0, 1) := by decide +kernel
theorem dJ12_min_1 : decode cJ12_min 1 = .ok (.iload_n 1, 1) := by decide +kernel
theorem dJ12_min_2 : decode cJ12_min 2 = .ok (.if_icmp .gt 7, 3) := by decide +kernel
theorem dJ12_min_5 : decode cJ12_min 5 = .ok (.iload_n 0, 1) := by decide +kernel
theorem dJ12_min_6 : decode cJ12_min 6 = .ok (.goto 4, 3) := by decide +kernel
theorem dJ12_min_9 : decode cJ12_min 9 = .ok (.iload_n 1, 1) := by decide +kernel
theorem dJ12_min_10 : decode cJ12_min 10 = .ok (.ireturn, 1) := by decide +kernel
theorem q55 : (Jvm.Cond.initialized "java/lang/Math") ∈ lw_all := lw_g (lw_at lw_m1 14 rfl) rfl
theorem q194 : (Jvm.Cond.static ({ cls := "java/lang/Math", name := "max", desc := "(II)I" } : Jvm.MethodName)) ∈ lw_all := lw_g (lw_at lw_m1 153 rfl) rfl
theorem q195 : (Jvm.Cond.code ({ cls := "java/lang/Math", name := "max", desc := "(II)I" } : Jvm.MethodName) prog_20_method_65_code (2 : Nat) (Option.some Jvm.ClassFile.FieldType.int)) ∈ lw_all := lw_g (lw_at lw_m1 154 rfl) rfl
theorem q212 : (Jvm.Cond.static ({ cls := "java/lang/Math", name := "min", desc := "(II)I" } : Jvm.MethodName)) ∈ lw_all := lw_g (lw_at lw_m1 171 rfl) rfl
theorem q213 : (Jvm.Cond.code ({ cls := "java/lang/Math", name := "min", desc := "(II)I" } : Jvm.MethodName) prog_20_method_69_code (2 : Nat) (Option.some Jvm.ClassFile.FieldType.int)) ∈ lw_all := lw_g (lw_at lw_m1 172 rfl) rfl
/-! J13.java_util_Arrays -/
def RJ13 : String := "java/util/Arrays"
abbrev cJ13_copyOf : ByteArray := prog_32_method_121_code
def yJ13_copyOf : MethodName := ⟨RJ13, "copyOf", "([BI)[B"⟩
theorem dJ13_copyOf_0 : decode cJ13_copyOf 0 = .ok (.iload_n 1, 1) := by decide +kernel
theorem dJ13_copyOf_1 : decode cJ13_copyOf 1 = .ok (.aload_n 0, 1) := by decide +kernel
theorem dJ13_copyOf_2 : decode cJ13_copyOf 2 = .ok (.arraylength, 1) := by decide +kernel
theorem dJ13_copyOf_3 : decode cJ13_copyOf 3 = .ok (.if_icmp .ne 11, 3) := by decide +kernel
theorem dJ13_copyOf_6 : decode cJ13_copyOf 6 = .ok (.aload_n 0, 1) := by decide +kernel
theorem dJ13_copyOf_7 : decode cJ13_copyOf 7 = .ok (.invokevirtual 310, 3) := by decide +kernel
theorem dJ13_copyOf_10 : decode cJ13_copyOf 10 = .ok (.checkcast 311, 3) := by decide +kernel
theorem dJ13_copyOf_13 : decode cJ13_copyOf 13 = .ok (.areturn, 1) := by decide +kernel
theorem dJ13_copyOf_14 : decode cJ13_copyOf 14 = .ok (.iload_n 1, 1) := by decide +kernel
theorem dJ13_copyOf_15 : decode cJ13_copyOf 15 = .ok (.newarray .byte, 2) := by decide +kernel
theorem dJ13_copyOf_17 : decode cJ13_copyOf 17 = .ok (.astore_n 2, 1) := by decide +kernel
theorem dJ13_copyOf_18 : decode cJ13_copyOf 18 = .ok (.aload_n 0, 1) := by decide +kernel
theorem dJ13_copyOf_19 : decode cJ13_copyOf 19 = .ok (.iconst 0, 1) := by decide +kernel
theorem dJ13_copyOf_20 : decode cJ13_copyOf 20 = .ok (.aload_n 2, 1) := by decide +kernel
theorem dJ13_copyOf_21 : decode cJ13_copyOf 21 = .ok (.iconst 0, 1) := by decide +kernel
theorem dJ13_copyOf_22 : decode cJ13_copyOf 22 = .ok (.aload_n 0, 1) := by decide +kernel
theorem dJ13_copyOf_23 : decode cJ13_copyOf 23 = .ok (.arraylength, 1) := by decide +kernel
theorem dJ13_copyOf_24 : decode cJ13_copyOf 24 = .ok (.iload_n 1, 1) := by decide +kernel
theorem dJ13_copyOf_25 : decode cJ13_copyOf 25 = .ok (.invokestatic 304, 3) := by decide +kernel
theorem dJ13_copyOf_28 : decode cJ13_copyOf 28 = .ok (.invokestatic 150, 3) := by decide +kernel
theorem dJ13_copyOf_31 : decode cJ13_copyOf 31 = .ok (.aload_n 2, 1) := by decide +kernel
theorem dJ13_copyOf_32 : decode cJ13_copyOf 32 = .ok (.areturn, 1) := by decide +kernel
abbrev cJ13_copyOfRange : ByteArray := prog_32_method_132_code
def yJ13_copyOfRange : MethodName := ⟨RJ13, "copyOfRange", "([BII)[B"⟩
theorem dJ13_copyOfRange_0 : decode cJ13_copyOfRange 0 = .ok (.iload_n 1, 1) := by decide +kernel
theorem dJ13_copyOfRange_1 : decode cJ13_copyOfRange 1 = .ok (.ifCond .ne 9, 3) := by decide +kernel
theorem dJ13_copyOfRange_4 : decode cJ13_copyOfRange 4 = .ok (.iload_n 2, 1) := by decide +kernel
theorem dJ13_copyOfRange_5 : decode cJ13_copyOfRange 5 = .ok (.aload_n 0, 1) := by decide +kernel
theorem dJ13_copyOfRange_6 : decode cJ13_copyOfRange 6 = .ok (.arraylength, 1) := by decide +kernel
theorem dJ13_copyOfRange_7 : decode cJ13_copyOfRange 7 = .ok (.if_icmp .eq 10, 3) := by decide +kernel
theorem dJ13_copyOfRange_10 : decode cJ13_copyOfRange 10 = .ok (.aload_n 0, 1) := by decide +kernel
theorem dJ13_copyOfRange_11 : decode cJ13_copyOfRange 11 = .ok (.iload_n 1, 1) := by decide +kernel
theorem dJ13_copyOfRange_12 : decode cJ13_copyOfRange 12 = .ok (.iload_n 2, 1) := by decide +kernel
theorem dJ13_copyOfRange_13 : decode cJ13_copyOfRange 13 = .ok (.invokestatic 339, 3) := by decide +kernel
theorem dJ13_copyOfRange_16 : decode cJ13_copyOfRange 16 = .ok (.areturn, 1) := by decide +kernel
theorem dJ13_copyOfRange_17 : decode cJ13_copyOfRange 17 = .ok (.aload_n 0, 1) := by decide +kernel
theorem dJ13_copyOfRange_18 : decode cJ13_copyOfRange 18 = .ok (.invokevirtual 310, 3) := by decide +kernel
theorem dJ13_copyOfRange_21 : decode cJ13_copyOfRange 21 = .ok (.checkcast 311, 3) := by decide +kernel
theorem dJ13_copyOfRange_24 : decode cJ13_copyOfRange 24 = .ok (.areturn, 1) := by decide +kernel
abbrev cJ13_copyOfRangeByte : ByteArray := prog_32_method_133_code
def yJ13_copyOfRangeByte : MethodName := ⟨RJ13, "copyOfRangeByte", "([BII)[B"⟩
theorem dJ13_copyOfRangeByte_0 : decode cJ13_copyOfRangeByte 0 = .ok (.iload_n 1, 1) := by decide +kernel
theorem dJ13_copyOfRangeByte_1 : decode cJ13_copyOfRangeByte 1 = .ok (.iload_n 2, 1) := by decide +kernel
theorem dJ13_copyOfRangeByte_2 : decode cJ13_copyOfRangeByte 2 = .ok (.invokestatic 343, 3) := by decide +kernel
theorem dJ13_copyOfRangeByte_5 : decode cJ13_copyOfRangeByte 5 = .ok (.iload_n 2, 1) := by decide +kernel
theorem dJ13_copyOfRangeByte_6 : decode cJ13_copyOfRangeByte 6 = .ok (.iload_n 1, 1) := by decide +kernel
theorem dJ13_copyOfRangeByte_7 : decode cJ13_copyOfRangeByte 7 = .ok (.isub, 1) := by decide +kernel
theorem dJ13_copyOfRangeByte_8 : decode cJ13_copyOfRangeByte 8 = .ok (.istore_n 3, 1) := by decide +kernel
theorem dJ13_copyOfRangeByte_9 : decode cJ13_copyOfRangeByte 9 = .ok (.iload_n 3, 1) := by decide +kernel
theorem dJ13_copyOfRangeByte_10 : decode cJ13_copyOfRangeByte 10 = .ok (.newarray .byte, 2) := by decide +kernel
theorem dJ13_copyOfRangeByte_12 : decode cJ13_copyOfRangeByte 12 = .ok (.astore 4, 2) := by decide +kernel
theorem dJ13_copyOfRangeByte_14 : decode cJ13_copyOfRangeByte 14 = .ok (.aload_n 0, 1) := by decide +kernel
theorem dJ13_copyOfRangeByte_15 : decode cJ13_copyOfRangeByte 15 = .ok (.iload_n 1, 1) := by decide +kernel
theorem dJ13_copyOfRangeByte_16 : decode cJ13_copyOfRangeByte 16 = .ok (.aload 4, 2) := by decide +kernel
theorem dJ13_copyOfRangeByte_18 : decode cJ13_copyOfRangeByte 18 = .ok (.iconst 0, 1) := by decide +kernel
theorem dJ13_copyOfRangeByte_19 : decode cJ13_copyOfRangeByte 19 = .ok (.aload_n 0, 1) := by decide +kernel
theorem dJ13_copyOfRangeByte_20 : decode cJ13_copyOfRangeByte 20 = .ok (.arraylength, 1) := by decide +kernel
theorem dJ13_copyOfRangeByte_21 : decode cJ13_copyOfRangeByte 21 = .ok (.iload_n 1, 1) := by decide +kernel
theorem dJ13_copyOfRangeByte_22 : decode cJ13_copyOfRangeByte 22 = .ok (.isub, 1) := by decide +kernel
theorem dJ13_copyOfRangeByte_23 : decode cJ13_copyOfRangeByte 23 = .ok (.iload_n 3, 1) := by decide +kernel
theorem dJ13_copyOfRangeByte_24 : decode cJ13_copyOfRangeByte 24 = .ok (.invokestatic 304, 3) := by decide +kernel
theorem dJ13_copyOfRangeByte_27 : decode cJ13_copyOfRangeByte 27 = .ok (.invokestatic 150, 3) := by decide +kernel
theorem dJ13_copyOfRangeByte_30 : decode cJ13_copyOfRangeByte 30 = .ok (.aload 4, 2) := by decide +kernel
theorem dJ13_copyOfRangeByte_32 : decode cJ13_copyOfRangeByte 32 = .ok (.areturn, 1) := by decide +kernel
abbrev cJ13_checkLength : ByteArray := prog_32_method_131_code
def yJ13_checkLength : MethodName := ⟨RJ13, "checkLength", "(II)V"⟩
theorem dJ13_checkLength_0 : decode cJ13_checkLength 0 = .ok (.iload_n 1, 1) := by decide +kernel
theorem dJ13_checkLength_1 : decode cJ13_checkLength 1 = .ok (.iload_n 0, 1) := by decide +kernel
theorem dJ13_checkLength_2 : decode cJ13_checkLength 2 = .ok (.if_icmp .ge 35, 3) := by decide +kernel
theorem dJ13_checkLength_5 : decode cJ13_checkLength 5 = .ok (.new 43, 3) := by decide +kernel
theorem dJ13_checkLength_8 : decode cJ13_checkLength 8 = .ok (.dup, 1) := by decide +kernel
theorem dJ13_checkLength_9 : decode cJ13_checkLength 9 = .ok (.new 45, 3) := by decide +kernel
theorem dJ13_checkLength_12 : decode cJ13_checkLength 12 = .ok (.dup, 1) := by decide +kernel
theorem dJ13_checkLength_13 : decode cJ13_checkLength 13 = .ok (.invokespecial 47, 3) := by decide +kernel
theorem dJ13_checkLength_16 : decode cJ13_checkLength 16 = .ok (.iload_n 0, 1) := by decide +kernel
theorem dJ13_checkLength_17 : decode cJ13_checkLength 17 = .ok (.invokevirtual 54, 3) := by decide +kernel
theorem dJ13_checkLength_20 : decode cJ13_checkLength 20 = .ok (.ldc_w 337, 3) := by decide +kernel
theorem dJ13_checkLength_23 : decode cJ13_checkLength 23 = .ok (.invokevirtual 50, 3) := by decide +kernel
theorem dJ13_checkLength_26 : decode cJ13_checkLength 26 = .ok (.iload_n 1, 1) := by decide +kernel
theorem dJ13_checkLength_27 : decode cJ13_checkLength 27 = .ok (.invokevirtual 54, 3) := by decide +kernel
theorem dJ13_checkLength_30 : decode cJ13_checkLength 30 = .ok (.invokevirtual 61, 3) := by decide +kernel
theorem dJ13_checkLength_33 : decode cJ13_checkLength 33 = .ok (.invokespecial 65, 3) := by decide +kernel
theorem dJ13_checkLength_36 : decode cJ13_checkLength 36 = .ok (.athrow, 1) := by decide +kernel
theorem dJ13_checkLength_37 : decode cJ13_checkLength 37 = .ok (.return_, 1) := by decide +kernel
abbrev cJ13_copyOf_2 : ByteArray := prog_32_method_119_code
def yJ13_copyOf_2 : MethodName := ⟨RJ13, "copyOf", "([Ljava/lang/Object;I)[Ljava/lang/Object;"⟩
theorem dJ13_copyOf_2_0 : decode cJ13_copyOf_2 0 = .ok (.aload_n 0, 1) := by decide +kernel
theorem dJ13_copyOf_2_1 : decode cJ13_copyOf_2 1 = .ok (.iload_n 1, 1) := by decide +kernel
theorem dJ13_copyOf_2_2 : decode cJ13_copyOf_2 2 = .ok (.aload_n 0, 1) := by decide +kernel
theorem dJ13_copyOf_2_3 : decode cJ13_copyOf_2 3 = .ok (.invokevirtual 86, 3) := by decide +kernel
theorem dJ13_copyOf_2_6 : decode cJ13_copyOf_2 6 = .ok (.invokestatic 300, 3) := by decide +kernel
theorem dJ13_copyOf_2_9 : decode cJ13_copyOf_2 9 = .ok (.areturn, 1) := by decide +kernel
abbrev cJ13_copyOf_3 : ByteArray := prog_32_method_120_code
def yJ13_copyOf_3 : MethodName := ⟨RJ13, "copyOf", "([Ljava/lang/Object;ILjava/lang/Class;)[Ljava/lang/Object;"⟩
theorem dJ13_copyOf_3_0 : decode cJ13_copyOf_3 0 = .ok (.aload_n 2, 1) := by decide +kernel
theorem dJ13_copyOf_3_1 : decode cJ13_copyOf_3 1 = .ok (.ldc 110, 2) := by decide +kernel
theorem dJ13_copyOf_3_3 : decode cJ13_copyOf_3 3 = .ok (.if_acmp .ne 10, 3) := by decide +kernel
theorem dJ13_copyOf_3_6 : decode cJ13_copyOf_3 6 = .ok (.iload_n 1, 1) := by decide +kernel
theorem dJ13_copyOf_3_7 : decode cJ13_copyOf_3 7 = .ok (.anewarray 2, 3) := by decide +kernel
theorem dJ13_copyOf_3_10 : decode cJ13_copyOf_3 10 = .ok (.goto 14, 3) := by decide +kernel
theorem dJ13_copyOf_3_13 : decode cJ13_copyOf_3 13 = .ok (.aload_n 2, 1) := by decide +kernel
theorem dJ13_copyOf_3_14 : decode cJ13_copyOf_3 14 = .ok (.invokevirtual 90, 3) := by decide +kernel
theorem dJ13_copyOf_3_17 : decode cJ13_copyOf_3 17 = .ok (.iload_n 1, 1) := by decide +kernel
theorem dJ13_copyOf_3_18 : decode cJ13_copyOf_3 18 = .ok (.invokestatic 95, 3) := by decide +kernel
theorem dJ13_copyOf_3_21 : decode cJ13_copyOf_3 21 = .ok (.checkcast 110, 3) := by decide +kernel
theorem dJ13_copyOf_3_24 : decode cJ13_copyOf_3 24 = .ok (.astore_n 3, 1) := by decide +kernel
theorem dJ13_copyOf_3_25 : decode cJ13_copyOf_3 25 = .ok (.aload_n 0, 1) := by decide +kernel
theorem dJ13_copyOf_3_26 : decode cJ13_copyOf_3 26 = .ok (.iconst 0, 1) := by decide +kernel
theorem dJ13_copyOf_3_27 : decode cJ13_copyOf_3 27 = .ok (.aload_n 3, 1) := by decide +kernel
theorem dJ13_copyOf_3_28 : decode cJ13_copyOf_3 28 = .ok (.iconst 0, 1) := by decide +kernel
theorem dJ13_copyOf_3_29 : decode cJ13_copyOf_3 29 = .ok (.aload_n 0, 1) := by decide +kernel
theorem dJ13_copyOf_3_30 : decode cJ13_copyOf_3 30 = .ok (.arraylength, 1) := by decide +kernel
theorem dJ13_copyOf_3_31 : decode cJ13_copyOf_3 31 = .ok (.iload_n 1, 1) := by decide +kernel
theorem dJ13_copyOf_3_32 : decode cJ13_copyOf_3 32 = .ok (.invokestatic 304, 3) := by decide +kernel
theorem dJ13_copyOf_3_35 : decode cJ13_copyOf_3 35 = .ok (.invokestatic 150, 3) := by decide +kernel
theorem dJ13_copyOf_3_38 : decode cJ13_copyOf_3 38 = .ok (.aload_n 3, 1) := by decide +kernel
theorem dJ13_copyOf_3_39 : decode cJ13_copyOf_3 39 = .ok (.areturn, 1) := by decide +kernel
theorem q56 : (Jvm.Cond.initialized "java/util/Arrays") ∈ lw_all := lw_g (lw_at lw_m1 15 rfl) rfl
theorem q202 : (Jvm.Cond.static ({ cls := "java/util/Arrays", name := "copyOf", desc := "([BI)[B" } : Jvm.MethodName)) ∈ lw_all := lw_g (lw_at lw_m1 161 rfl) rfl
theorem q203 : (Jvm.Cond.code ({ cls := "java/util/Arrays", name := "copyOf", desc := "([BI)[B" } : Jvm.MethodName) prog_32_method_121_code (3 : Nat) (Option.some (Jvm.ClassFile.FieldType.array Jvm.ClassFile.FieldType.byte))) ∈ lw_all := lw_g (lw_at lw_m1 162 rfl) rfl
theorem q204 : (Jvm.Cond.methodLink "java/util/Arrays" (310 : Nat) ({ cls := "[B", name := "clone", desc := "()Ljava/lang/Object;" } : Jvm.MethodName)) ∈ lw_all := lw_g (lw_at lw_m1 163 rfl) rfl
theorem q210 : (Jvm.Cond.classLink "java/util/Arrays" (311 : Nat) "[B") ∈ lw_all := lw_g (lw_at lw_m1 169 rfl) rfl
theorem q211 : (Jvm.Cond.methodLink "java/util/Arrays" (304 : Nat) ({ cls := "java/lang/Math", name := "min", desc := "(II)I" } : Jvm.MethodName)) ∈ lw_all := lw_g (lw_at lw_m1 170 rfl) rfl
theorem q214 : (Jvm.Cond.methodLink "java/util/Arrays" (150 : Nat) ({ cls := "java/lang/System", name := "arraycopy", desc := "(Ljava/lang/Object;ILjava/lang/Object;II)V" } : Jvm.MethodName)) ∈ lw_all := lw_g (lw_at lw_m1 173 rfl) rfl
theorem q344 : (Jvm.Cond.static ({ cls := "java/util/Arrays", name := "copyOfRange", desc := "([BII)[B" } : Jvm.MethodName)) ∈ lw_all := lw_g (lw_at lw_m2 63 rfl) rfl
theorem q345 : (Jvm.Cond.code ({ cls := "java/util/Arrays", name := "copyOfRange", desc := "([BII)[B" } : Jvm.MethodName) prog_32_method_132_code (3 : Nat) (Option.some (Jvm.ClassFile.FieldType.array Jvm.ClassFile.FieldType.byte))) ∈ lw_all := lw_g (lw_at lw_m2 64 rfl) rfl
theorem q346 : (Jvm.Cond.methodLink "java/util/Arrays" (339 : Nat) ({ cls := "java/util/Arrays", name := "copyOfRangeByte", desc := "([BII)[B" } : Jvm.MethodName)) ∈ lw_all := lw_g (lw_at lw_m2 65 rfl) rfl
theorem q347 : (Jvm.Cond.static ({ cls := "java/util/Arrays", name := "copyOfRangeByte", desc := "([BII)[B" } : Jvm.MethodName)) ∈ lw_all := lw_g (lw_at lw_m2 66 rfl) rfl
theorem q348 : (Jvm.Cond.code ({ cls := "java/util/Arrays", name := "copyOfRangeByte", desc := "([BII)[B" } : Jvm.MethodName) prog_32_method_133_code (5 : Nat) (Option.some (Jvm.ClassFile.FieldType.array Jvm.ClassFile.FieldType.byte))) ∈ lw_all := lw_g (lw_at lw_m2 67 rfl) rfl
theorem q349 : (Jvm.Cond.methodLink "java/util/Arrays" (343 : Nat) ({ cls := "java/util/Arrays", name := "checkLength", desc := "(II)V" } : Jvm.MethodName)) ∈ lw_all := lw_g (lw_at lw_m2 68 rfl) rfl
theorem q350 : (Jvm.Cond.static ({ cls := "java/util/Arrays", name := "checkLength", desc := "(II)V" } : Jvm.MethodName)) ∈ lw_all := lw_g (lw_at lw_m2 69 rfl) rfl
theorem q351 : (Jvm.Cond.code ({ cls := "java/util/Arrays", name := "checkLength", desc := "(II)V" } : Jvm.MethodName) prog_32_method_131_code (2 : Nat) (Option.none : Option Jvm.ClassFile.FieldType)) ∈ lw_all := lw_g (lw_at lw_m2 70 rfl) rfl
theorem q352 : (Jvm.Cond.classLink "java/util/Arrays" (43 : Nat) "java/lang/IllegalArgumentException") ∈ lw_all := lw_g (lw_at lw_m2 71 rfl) rfl
theorem q353 : (Jvm.Cond.classLink "java/util/Arrays" (45 : Nat) "java/lang/StringBuilder") ∈ lw_all := lw_g (lw_at lw_m2 72 rfl) rfl
theorem q354 : (Jvm.Cond.methodLink "java/util/Arrays" (47 : Nat) ({ cls := "java/lang/StringBuilder", name := "<init>", desc := "()V" } : Jvm.MethodName)) ∈ lw_all := lw_g (lw_at lw_m2 73 rfl) rfl
theorem q355 : (Jvm.Cond.methodLink "java/util/Arrays" (54 : Nat) ({ cls := "java/lang/StringBuilder", name := "append", desc := "(I)Ljava/lang/StringBuilder;" } : Jvm.MethodName)) ∈ lw_all := lw_g (lw_at lw_m2 74 rfl) rfl
theorem q356 : (Jvm.Cond.stringRef "java/util/Arrays" (337 : Nat) " > ") ∈ lw_tbl := lw_at lw_m2 75 rfl
theorem q357 : (Jvm.Cond.methodLink "java/util/Arrays" (50 : Nat) ({ cls := "java/lang/StringBuilder", name := "append", desc := "(Ljava/lang/String;)Ljava/lang/StringBuilder;" } : Jvm.MethodName)) ∈ lw_all := lw_g (lw_at lw_m2 76 rfl) rfl
theorem q358 : (Jvm.Cond.methodLink "java/util/Arrays" (61 : Nat) ({ cls := "java/lang/StringBuilder", name := "toString", desc := "()Ljava/lang/String;" } : Jvm.MethodName)) ∈ lw_all := lw_g (lw_at lw_m2 77 rfl) rfl
theorem q359 : (Jvm.Cond.methodLink "java/util/Arrays" (65 : Nat) ({ cls := "java/lang/IllegalArgumentException", name := "<init>", desc := "(Ljava/lang/String;)V" } : Jvm.MethodName)) ∈ lw_all := lw_g (lw_at lw_m2 78 rfl) rfl
theorem q488 : (Jvm.Cond.static ({ cls := "java/util/Arrays", name := "copyOf", desc := "([Ljava/lang/Object;I)[Ljava/lang/Object;" } : Jvm.MethodName)) ∈ lw_all := lw_g (lw_at lw_m2 207 rfl) rfl
theorem q489 : (Jvm.Cond.code ({ cls := "java/util/Arrays", name := "copyOf", desc := "([Ljava/lang/Object;I)[Ljava/lang/Object;" } : Jvm.MethodName) prog_32_method_119_code (2 : Nat) (Option.some (Jvm.ClassFile.FieldType.array (Jvm.ClassFile.FieldType.object "java/lang/Object")))) ∈ lw_all := lw_g (lw_at lw_m2 208 rfl) rfl
theorem q490 : (Jvm.Cond.methodLink "java/util/Arrays" (86 : Nat) ({ cls := "java/lang/Object", name := "getClass", desc := "()Ljava/lang/Class;" } : Jvm.MethodName)) ∈ lw_all := lw_g (lw_at lw_m2 209 rfl) rfl
theorem q509 : (Jvm.Cond.methodLink "java/util/Arrays" (300 : Nat) ({ cls := "java/util/Arrays", name := "copyOf", desc := "([Ljava/lang/Object;ILjava/lang/Class;)[Ljava/lang/Object;" } : Jvm.MethodName)) ∈ lw_all := lw_g (lw_at lw_m2 228 rfl) rfl
theorem q510 : (Jvm.Cond.static ({ cls := "java/util/Arrays", name := "copyOf", desc := "([Ljava/lang/Object;ILjava/lang/Class;)[Ljava/lang/Object;" } : Jvm.MethodName)) ∈ lw_all := lw_g (lw_at lw_m2 229 rfl) rfl
theorem q511 : (Jvm.Cond.code ({ cls := "java/util/Arrays", name := "copyOf", desc := "([Ljava/lang/Object;ILjava/lang/Class;)[Ljava/lang/Object;" } : Jvm.MethodName) prog_32_method_120_code (4 : Nat) (Option.some (Jvm.ClassFile.FieldType.array (Jvm.ClassFile.FieldType.object "java/lang/Object")))) ∈ lw_all := lw_g (lw_at lw_m2 230 rfl) rfl
theorem q512 : (Jvm.Cond.classLink "java/util/Arrays" (110 : Nat) "[Ljava/lang/Object;") ∈ lw_all := lw_g (lw_at lw_m2 231 rfl) rfl
theorem q513 : (Jvm.Cond.classLink "java/util/Arrays" (2 : Nat) "java/lang/Object") ∈ lw_all := lw_g (lw_at lw_m2 232 rfl) rfl
/-! J14.jdk_internal_util_Preconditions -/
def RJ14 : String := "jdk/internal/util/Preconditions"
abbrev cJ14_checkFromToIndex : ByteArray := prog_40_method_12_code
def yJ14_checkFromToIndex : MethodName := ⟨RJ14, "checkFromToIndex", "(IIILjava/util/function/BiFunction;)I"⟩
theorem dJ14_checkFromToIndex_0 : decode cJ14_checkFromToIndex 0 = .ok (.iload_n 0, 1) := by decide +kernel
theorem dJ14_checkFromToIndex_1 : decode cJ14_checkFromToIndex 1 = .ok (.ifCond .lt 13, 3) := by decide +kernel
theorem dJ14_checkFromToIndex_4 : decode cJ14_checkFromToIndex 4 = .ok (.iload_n 0, 1) := by decide +kernel
theorem dJ14_checkFromToIndex_5 : decode cJ14_checkFromToIndex 5 = .ok (.iload_n 1, 1) := by decide +kernel
theorem dJ14_checkFromToIndex_6 : decode cJ14_checkFromToIndex 6 = .ok (.if_icmp .gt 8, 3) := by decide +kernel
theorem dJ14_checkFromToIndex_9 : decode cJ14_checkFromToIndex 9 = .ok (.iload_n 1, 1) := by decide +kernel
theorem dJ14_checkFromToIndex_10 : decode cJ14_checkFromToIndex 10 = .ok (.iload_n 2, 1) := by decide +kernel
theorem dJ14_checkFromToIndex_11 : decode cJ14_checkFromToIndex 11 = .ok (.if_icmp .le 11, 3) := by decide +kernel
theorem dJ14_checkFromToIndex_14 : decode cJ14_checkFromToIndex 14 = .ok (.aload_n 3, 1) := by decide +kernel
theorem dJ14_checkFromToIndex_15 : decode cJ14_checkFromToIndex 15 = .ok (.iload_n 0, 1) := by decide +kernel
theorem dJ14_checkFromToIndex_16 : decode cJ14_checkFromToIndex 16 = .ok (.iload_n 1, 1) := by decide +kernel
theorem dJ14_checkFromToIndex_17 : decode cJ14_checkFromToIndex 17 = .ok (.iload_n 2, 1) := by decide +kernel
theorem dJ14_checkFromToIndex_18 : decode cJ14_checkFromToIndex 18 = .ok (.invokestatic 99, 3) := by decide +kernel
theorem dJ14_checkFromToIndex_21 : decode cJ14_checkFromToIndex 21 = .ok (.athrow, 1) := by decide +kernel
theorem dJ14_checkFromToIndex_22 : decode cJ14_checkFromToIndex 22 = .ok (.iload_n 0, 1) := by decide +kernel
theorem dJ14_checkFromToIndex_23 : decode cJ14_checkFromToIndex 23 = .ok (.ireturn, 1) := by decide +kernel
abbrev cJ14_checkFromIndexSize : ByteArray := prog_40_method_13_code
def yJ14_checkFromIndexSize : MethodName := ⟨RJ14, "checkFromIndexSize", "(IIILjava/util/function/BiFunction;)I"⟩
theorem dJ14_checkFromIndexSize_0 : decode cJ14_checkFromIndexSize 0 = .ok (.iload_n 2, 1) := by decide +kernel
theorem dJ14_checkFromIndexSize_1 : decode cJ14_checkFromIndexSize 1 = .ok (.iload_n 0, 1) := by decide +kernel
theorem dJ14_checkFromIndexSize_2 : decode cJ14_checkFromIndexSize 2 = .ok (.ior, 1) := by decide +kernel
theorem dJ14_checkFromIndexSize_3 : decode cJ14_checkFromIndexSize 3 = .ok (.iload_n 1, 1) := by decide +kernel
theorem dJ14_checkFromIndexSize_4 : decode cJ14_checkFromIndexSize 4 = .ok (.ior, 1) := by decide +kernel
theorem dJ14_checkFromIndexSize_5 : decode cJ14_checkFromIndexSize 5 = .ok (.ifCond .lt 10, 3) := by decide +kernel
theorem dJ14_checkFromIndexSize_8 : decode cJ14_checkFromIndexSize 8 = .ok (.iload_n 1, 1) := by decide +kernel
theorem dJ14_checkFromIndexSize_9 : decode cJ14_checkFromIndexSize 9 = .ok (.iload_n 2, 1) := by decide +kernel
theorem dJ14_checkFromIndexSize_10 : decode cJ14_checkFromIndexSize 10 = .ok (.iload_n 0, 1) := by decide +kernel
theorem dJ14_checkFromIndexSize_11 : decode cJ14_checkFromIndexSize 11 = .ok (.isub, 1) := by decide +kernel
theorem dJ14_checkFromIndexSize_12 : decode cJ14_checkFromIndexSize 12 = .ok (.if_icmp .le 11, 3) := by decide +kernel
theorem dJ14_checkFromIndexSize_15 : decode cJ14_checkFromIndexSize 15 = .ok (.aload_n 3, 1) := by decide +kernel
theorem dJ14_checkFromIndexSize_16 : decode cJ14_checkFromIndexSize 16 = .ok (.iload_n 0, 1) := by decide +kernel
theorem dJ14_checkFromIndexSize_17 : decode cJ14_checkFromIndexSize 17 = .ok (.iload_n 1, 1) := by decide +kernel
theorem dJ14_checkFromIndexSize_18 : decode cJ14_checkFromIndexSize 18 = .ok (.iload_n 2, 1) := by decide +kernel
theorem dJ14_checkFromIndexSize_19 : decode cJ14_checkFromIndexSize 19 = .ok (.invokestatic 103, 3) := by decide +kernel
theorem dJ14_checkFromIndexSize_22 : decode cJ14_checkFromIndexSize 22 = .ok (.athrow, 1) := by decide +kernel
theorem dJ14_checkFromIndexSize_23 : decode cJ14_checkFromIndexSize 23 = .ok (.iload_n 0, 1) := by decide +kernel
theorem dJ14_checkFromIndexSize_24 : decode cJ14_checkFromIndexSize 24 = .ok (.ireturn, 1) := by decide +kernel
abbrev cJ14_checkIndex : ByteArray := prog_40_method_11_code
def yJ14_checkIndex : MethodName := ⟨RJ14, "checkIndex", "(IILjava/util/function/BiFunction;)I"⟩
theorem dJ14_checkIndex_0 : decode cJ14_checkIndex 0 = .ok (.iload_n 0, 1) := by decide +kernel
theorem dJ14_checkIndex_1 : decode cJ14_checkIndex 1 = .ok (.ifCond .lt 8, 3) := by decide +kernel
theorem dJ14_checkIndex_4 : decode cJ14_checkIndex 4 = .ok (.iload_n 0, 1) := by decide +kernel
theorem dJ14_checkIndex_5 : decode cJ14_checkIndex 5 = .ok (.iload_n 1, 1) := by decide +kernel
theorem dJ14_checkIndex_6 : decode cJ14_checkIndex 6 = .ok (.if_icmp .lt 10, 3) := by decide +kernel
theorem dJ14_checkIndex_9 : decode cJ14_checkIndex 9 = .ok (.aload_n 2, 1) := by decide +kernel
theorem dJ14_checkIndex_10 : decode cJ14_checkIndex 10 = .ok (.iload_n 0, 1) := by decide +kernel
theorem dJ14_checkIndex_11 : decode cJ14_checkIndex 11 = .ok (.iload_n 1, 1) := by decide +kernel
theorem dJ14_checkIndex_12 : decode cJ14_checkIndex 12 = .ok (.invokestatic 95, 3) := by decide +kernel
theorem dJ14_checkIndex_15 : decode cJ14_checkIndex 15 = .ok (.athrow, 1) := by decide +kernel
theorem dJ14_checkIndex_16 : decode cJ14_checkIndex 16 = .ok (.iload_n 0, 1) := by decide +kernel
theorem dJ14_checkIndex_17 : decode cJ14_checkIndex 17 = .ok (.ireturn, 1) := by decide +kernel
theorem q58 : (Jvm.Cond.initialized "jdk/internal/util/Preconditions") ∈ lw_all := lw_g (lw_at lw_m1 17 rfl) rfl
theorem q235 : (Jvm.Cond.laysStatic "jdk/internal/util/Preconditions" "SIOOBE_FORMATTER" "Ljava/util/function/BiFunction;") ∈ lw_tbl := lw_at lw_m1 194 rfl
theorem q237 : (Jvm.Cond.static ({ cls := "jdk/internal/util/Preconditions", name := "checkFromToIndex", desc := "(IIILjava/util/function/BiFunction;)I" } : Jvm.MethodName)) ∈ lw_all := lw_g (lw_at lw_m1 196 rfl) rfl
theorem q238 : (Jvm.Cond.code ({ cls := "jdk/internal/util/Preconditions", name := "checkFromToIndex", desc := "(IIILjava/util/function/BiFunction;)I" } : Jvm.MethodName) prog_40_method_12_code (4 : Nat) (Option.some Jvm.ClassFile.FieldType.int)) ∈ lw_all := lw_g (lw_at lw_m1 197 rfl) rfl
theorem q283 : (Jvm.Cond.static ({ cls := "jdk/internal/util/Preconditions", name := "checkFromIndexSize", desc := "(IIILjava/util/function/BiFunction;)I" } : Jvm.MethodName)) ∈ lw_all := lw_g (lw_at lw_m2 2 rfl) rfl
theorem q284 : (Jvm.Cond.code ({ cls := "jdk/internal/util/Preconditions", name := "checkFromIndexSize", desc := "(IIILjava/util/function/BiFunction;)I" } : Jvm.MethodName) prog_40_method_13_code (4 : Nat) (Option.some Jvm.ClassFile.FieldType.int)) ∈ lw_all := lw_g (lw_at lw_m2 3 rfl) rfl
theorem q573 : (Jvm.Cond.static ({ cls := "jdk/internal/util/Preconditions", name := "checkIndex", desc := "(IILjava/util/function/BiFunction;)I" } : Jvm.MethodName)) ∈ lw_all := lw_g (lw_at lw_m3 52 rfl) rfl
theorem q574 : (Jvm.Cond.code ({ cls := "jdk/internal/util/Preconditions", name := "checkIndex", desc := "(IILjava/util/function/BiFunction;)I" } : Jvm.MethodName) prog_40_method_11_code (3 : Nat) (Option.some Jvm.ClassFile.FieldType.int)) ∈ lw_all := lw_g (lw_at lw_m3 53 rfl) rfl
/-! J16.java_lang_Number -/
def RJ16 : String := "java/lang/Number"
abbrev cJ16_init : ByteArray := prog_21_method_1_code
def yJ16_init : MethodName := ⟨RJ16, "<init>", "()V"⟩
theorem dJ16_init_0 : decode cJ16_init 0 = .ok (.aload_n 0, 1) := by decide +kernel
theorem dJ16_init_1 : decode cJ16_init 1 = .ok (.invokespecial 1, 3) := by decide +kernel
theorem dJ16_init_4 : decode cJ16_init 4 = .ok (.return_, 1) := by decide +kernel
theorem q60 : (Jvm.Cond.initialized "java/lang/Number") ∈ lw_all := lw_g (lw_at lw_m1 19 rfl) rfl
theorem q760 : (Jvm.Cond.instanceMethod ({ cls := "java/lang/Number", name := "<init>", desc := "()V" } : Jvm.MethodName)) ∈ lw_all := lw_g (lw_at lw_m3 239 rfl) rfl
theorem q761 : (Jvm.Cond.code ({ cls := "java/lang/Number", name := "<init>", desc := "()V" } : Jvm.MethodName) prog_21_method_1_code (1 : Nat) (Option.none : Option Jvm.ClassFile.FieldType)) ∈ lw_all := lw_g (lw_at lw_m4 0 rfl) rfl
theorem q762 : (Jvm.Cond.methodLink "java/lang/Number" (1 : Nat) ({ cls := "java/lang/Object", name := "<init>", desc := "()V" } : Jvm.MethodName)) ∈ lw_all := lw_g (lw_at lw_m4 1 rfl) rfl
/-! J17.java_lang_Integer -/
def RJ17 : String := "java/lang/Integer"
def TJ17 : u_T := fun k => match k with
  | _ => ("java/lang/Integer", "value", "I", true)
def tyJ17 : Nat → FieldType := fun k => match k with
  | _ => .int
abbrev wsJ170 : List Cond := u_ws RJ17 TJ17 1
theorem nmJ17 : ∀ a, a < 1 → ∀ b, b < 1 → a ≠ b → (TJ17 a).2.1 ≠ (TJ17 b).2.1 := by decide +kernel
theorem tyJ17_ok : ∀ k, k < 1 → parseFieldDescriptor (TJ17 k).2.2.1 = some (tyJ17 k) := by decide +kernel
abbrev cJ17_stringSize : ByteArray := prog_17_method_13_code
def yJ17_stringSize : MethodName := ⟨RJ17, "stringSize", "(I)I"⟩
theorem dJ17_stringSize_0 : decode cJ17_stringSize 0 = .ok (.iconst 1, 1) := by decide +kernel
theorem dJ17_stringSize_1 : decode cJ17_stringSize 1 = .ok (.istore_n 1, 1) := by decide +kernel
theorem dJ17_stringSize_2 : decode cJ17_stringSize 2 = .ok (.iload_n 0, 1) := by decide +kernel
theorem dJ17_stringSize_3 : decode cJ17_stringSize 3 = .ok (.ifCond .lt 8, 3) := by decide +kernel
theorem dJ17_stringSize_6 : decode cJ17_stringSize 6 = .ok (.iconst 0, 1) := by decide +kernel
theorem dJ17_stringSize_7 : decode cJ17_stringSize 7 = .ok (.istore_n 1, 1) := by decide +kernel
theorem dJ17_stringSize_8 : decode cJ17_stringSize 8 = .ok (.iload_n 0, 1) := by decide +kernel
theorem dJ17_stringSize_9 : decode cJ17_stringSize 9 = .ok (.ineg, 1) := by decide +kernel
theorem dJ17_stringSize_10 : decode cJ17_stringSize 10 = .ok (.istore_n 0, 1) := by decide +kernel
theorem dJ17_stringSize_11 : decode cJ17_stringSize 11 = .ok (.bipush (-10), 2) := by decide +kernel
theorem dJ17_stringSize_13 : decode cJ17_stringSize 13 = .ok (.istore_n 2, 1) := by decide +kernel
theorem dJ17_stringSize_14 : decode cJ17_stringSize 14 = .ok (.iconst 1, 1) := by decide +kernel
theorem dJ17_stringSize_15 : decode cJ17_stringSize 15 = .ok (.istore_n 3, 1) := by decide +kernel
theorem dJ17_stringSize_16 : decode cJ17_stringSize 16 = .ok (.iload_n 3, 1) := by decide +kernel
theorem dJ17_stringSize_17 : decode cJ17_stringSize 17 = .ok (.bipush 10, 2) := by decide +kernel
theorem dJ17_stringSize_19 : decode cJ17_stringSize 19 = .ok (.if_icmp .ge 23, 3) := by decide +kernel
theorem dJ17_stringSize_22 : decode cJ17_stringSize 22 = .ok (.iload_n 0, 1) := by decide +kernel
theorem dJ17_stringSize_23 : decode cJ17_stringSize 23 = .ok (.iload_n 2, 1) := by decide +kernel
theorem dJ17_stringSize_24 : decode cJ17_stringSize 24 = .ok (.if_icmp .le 7, 3) := by decide +kernel
theorem dJ17_stringSize_27 : decode cJ17_stringSize 27 = .ok (.iload_n 3, 1) := by decide +kernel
theorem dJ17_stringSize_28 : decode cJ17_stringSize 28 = .ok (.iload_n 1, 1) := by decide +kernel
theorem dJ17_stringSize_29 : decode cJ17_stringSize 29 = .ok (.iadd, 1) := by decide +kernel
theorem dJ17_stringSize_30 : decode cJ17_stringSize 30 = .ok (.ireturn, 1) := by decide +kernel
theorem dJ17_stringSize_31 : decode cJ17_stringSize 31 = .ok (.bipush 10, 2) := by decide +kernel
theorem dJ17_stringSize_33 : decode cJ17_stringSize 33 = .ok (.iload_n 2, 1) := by decide +kernel
theorem dJ17_stringSize_34 : decode cJ17_stringSize 34 = .ok (.imul, 1) := by decide +kernel
theorem dJ17_stringSize_35 : decode cJ17_stringSize 35 = .ok (.istore_n 2, 1) := by decide +kernel
theorem dJ17_stringSize_36 : decode cJ17_stringSize 36 = .ok (.iinc 3 1, 3) := by decide +kernel
theorem dJ17_stringSize_39 : decode cJ17_stringSize 39 = .ok (.goto (-23), 3) := by decide +kernel
theorem dJ17_stringSize_42 : decode cJ17_stringSize 42 = .ok (.bipush 10, 2) := by decide +kernel
theorem dJ17_stringSize_44 : decode cJ17_stringSize 44 = .ok (.iload_n 1, 1) := by decide +kernel
theorem dJ17_stringSize_45 : decode cJ17_stringSize 45 = .ok (.iadd, 1) := by decide +kernel
theorem dJ17_stringSize_46 : decode cJ17_stringSize 46 = .ok (.ireturn, 1) := by decide +kernel
abbrev cJ17_getChars : ByteArray := prog_17_method_12_code
def yJ17_getChars : MethodName := ⟨RJ17, "getChars", "(II[B)I"⟩
theorem dJ17_getChars_0 : decode cJ17_getChars 0 = .ok (.iload_n 1, 1) := by decide +kernel
theorem dJ17_getChars_1 : decode cJ17_getChars 1 = .ok (.istore 5, 2) := by decide +kernel
theorem dJ17_getChars_3 : decode cJ17_getChars 3 = .ok (.iload_n 0, 1) := by decide +kernel
theorem dJ17_getChars_4 : decode cJ17_getChars 4 = .ok (.ifCond .ge 7, 3) := by decide +kernel
theorem dJ17_getChars_7 : decode cJ17_getChars 7 = .ok (.iconst 1, 1) := by decide +kernel
theorem dJ17_getChars_8 : decode cJ17_getChars 8 = .ok (.goto 4, 3) := by decide +kernel
theorem dJ17_getChars_11 : decode cJ17_getChars 11 = .ok (.iconst 0, 1) := by decide +kernel
theorem dJ17_getChars_12 : decode cJ17_getChars 12 = .ok (.istore 6, 2) := by decide +kernel
theorem dJ17_getChars_14 : decode cJ17_getChars 14 = .ok (.iload 6, 2) := by decide +kernel
theorem dJ17_getChars_16 : decode cJ17_getChars 16 = .ok (.ifCond .ne 6, 3) := by decide +kernel
theorem dJ17_getChars_19 : decode cJ17_getChars 19 = .ok (.iload_n 0, 1) := by decide +kernel
theorem dJ17_getChars_20 : decode cJ17_getChars 20 = .ok (.ineg, 1) := by decide +kernel
theorem dJ17_getChars_21 : decode cJ17_getChars 21 = .ok (.istore_n 0, 1) := by decide +kernel
theorem dJ17_getChars_22 : decode cJ17_getChars 22 = .ok (.iload_n 0, 1) := by decide +kernel
theorem dJ17_getChars_23 : decode cJ17_getChars 23 = .ok (.bipush (-100), 2) := by decide +kernel
theorem dJ17_getChars_25 : decode cJ17_getChars 25 = .ok (.if_icmp .gt 47, 3) := by decide +kernel
theorem dJ17_getChars_28 : decode cJ17_getChars 28 = .ok (.iload_n 0, 1) := by decide +kernel
theorem dJ17_getChars_29 : decode cJ17_getChars 29 = .ok (.bipush 100, 2) := by decide +kernel
theorem dJ17_getChars_31 : decode cJ17_getChars 31 = .ok (.idiv, 1) := by decide +kernel
theorem dJ17_getChars_32 : decode cJ17_getChars 32 = .ok (.istore_n 3, 1) := by decide +kernel
theorem dJ17_getChars_33 : decode cJ17_getChars 33 = .ok (.iload_n 3, 1) := by decide +kernel
theorem dJ17_getChars_34 : decode cJ17_getChars 34 = .ok (.bipush 100, 2) := by decide +kernel
theorem dJ17_getChars_36 : decode cJ17_getChars 36 = .ok (.imul, 1) := by decide +kernel
theorem dJ17_getChars_37 : decode cJ17_getChars 37 = .ok (.iload_n 0, 1) := by decide +kernel
theorem dJ17_getChars_38 : decode cJ17_getChars 38 = .ok (.isub, 1) := by decide +kernel
theorem dJ17_getChars_39 : decode cJ17_getChars 39 = .ok (.istore 4, 2) := by decide +kernel
theorem dJ17_getChars_41 : decode cJ17_getChars 41 = .ok (.iload_n 3, 1) := by decide +kernel
theorem dJ17_getChars_42 : decode cJ17_getChars 42 = .ok (.istore_n 0, 1) := by decide +kernel
theorem dJ17_getChars_43 : decode cJ17_getChars 43 = .ok (.aload_n 2, 1) := by decide +kernel
theorem dJ17_getChars_44 : decode cJ17_getChars 44 = .ok (.iinc 5 (-1), 3) := by decide +kernel
theorem dJ17_getChars_47 : decode cJ17_getChars 47 = .ok (.iload 5, 2) := by decide +kernel
theorem dJ17_getChars_49 : decode cJ17_getChars 49 = .ok (.getstatic 83, 3) := by decide +kernel
theorem dJ17_getChars_52 : decode cJ17_getChars 52 = .ok (.iload 4, 2) := by decide +kernel
theorem dJ17_getChars_54 : decode cJ17_getChars 54 = .ok (.baload, 1) := by decide +kernel
theorem dJ17_getChars_55 : decode cJ17_getChars 55 = .ok (.bastore, 1) := by decide +kernel
theorem dJ17_getChars_56 : decode cJ17_getChars 56 = .ok (.aload_n 2, 1) := by decide +kernel
theorem dJ17_getChars_57 : decode cJ17_getChars 57 = .ok (.iinc 5 (-1), 3) := by decide +kernel
theorem dJ17_getChars_60 : decode cJ17_getChars 60 = .ok (.iload 5, 2) := by decide +kernel
theorem dJ17_getChars_62 : decode cJ17_getChars 62 = .ok (.getstatic 87, 3) := by decide +kernel
theorem dJ17_getChars_65 : decode cJ17_getChars 65 = .ok (.iload 4, 2) := by decide +kernel
theorem dJ17_getChars_67 : decode cJ17_getChars 67 = .ok (.baload, 1) := by decide +kernel
theorem dJ17_getChars_68 : decode cJ17_getChars 68 = .ok (.bastore, 1) := by decide +kernel
theorem dJ17_getChars_69 : decode cJ17_getChars 69 = .ok (.goto (-47), 3) := by decide +kernel
theorem dJ17_getChars_72 : decode cJ17_getChars 72 = .ok (.aload_n 2, 1) := by decide +kernel
theorem dJ17_getChars_73 : decode cJ17_getChars 73 = .ok (.iinc 5 (-1), 3) := by decide +kernel
theorem dJ17_getChars_76 : decode cJ17_getChars 76 = .ok (.iload 5, 2) := by decide +kernel
theorem dJ17_getChars_78 : decode cJ17_getChars 78 = .ok (.getstatic 83, 3) := by decide +kernel
theorem dJ17_getChars_81 : decode cJ17_getChars 81 = .ok (.iload_n 0, 1) := by decide +kernel
theorem dJ17_getChars_82 : decode cJ17_getChars 82 = .ok (.ineg, 1) := by decide +kernel
theorem dJ17_getChars_83 : decode cJ17_getChars 83 = .ok (.baload, 1) := by decide +kernel
theorem dJ17_getChars_84 : decode cJ17_getChars 84 = .ok (.bastore, 1) := by decide +kernel
theorem dJ17_getChars_85 : decode cJ17_getChars 85 = .ok (.iload_n 0, 1) := by decide +kernel
theorem dJ17_getChars_86 : decode cJ17_getChars 86 = .ok (.bipush (-9), 2) := by decide +kernel
theorem dJ17_getChars_88 : decode cJ17_getChars 88 = .ok (.if_icmp .ge 16, 3) := by decide +kernel
theorem dJ17_getChars_91 : decode cJ17_getChars 91 = .ok (.aload_n 2, 1) := by decide +kernel
theorem dJ17_getChars_92 : decode cJ17_getChars 92 = .ok (.iinc 5 (-1), 3) := by decide +kernel
theorem dJ17_getChars_95 : decode cJ17_getChars 95 = .ok (.iload 5, 2) := by decide +kernel
theorem dJ17_getChars_97 : decode cJ17_getChars 97 = .ok (.getstatic 87, 3) := by decide +kernel
theorem dJ17_getChars_100 : decode cJ17_getChars 100 = .ok (.iload_n 0, 1) := by decide +kernel
theorem dJ17_getChars_101 : decode cJ17_getChars 101 = .ok (.ineg, 1) := by decide +kernel
theorem dJ17_getChars_102 : decode cJ17_getChars 102 = .ok (.baload, 1) := by decide +kernel
theorem dJ17_getChars_103 : decode cJ17_getChars 103 = .ok (.bastore, 1) := by decide +kernel
theorem dJ17_getChars_104 : decode cJ17_getChars 104 = .ok (.iload 6, 2) := by decide +kernel
theorem dJ17_getChars_106 : decode cJ17_getChars 106 = .ok (.ifCond .eq 12, 3) := by decide +kernel
theorem dJ17_getChars_109 : decode cJ17_getChars 109 = .ok (.aload_n 2, 1) := by decide +kernel
theorem dJ17_getChars_110 : decode cJ17_getChars 110 = .ok (.iinc 5 (-1), 3) := by decide +kernel
theorem dJ17_getChars_113 : decode cJ17_getChars 113 = .ok (.iload 5, 2) := by decide +kernel
theorem dJ17_getChars_115 : decode cJ17_getChars 115 = .ok (.bipush 45, 2) := by decide +kernel
theorem dJ17_getChars_117 : decode cJ17_getChars 117 = .ok (.bastore, 1) := by decide +kernel
theorem dJ17_getChars_118 : decode cJ17_getChars 118 = .ok (.iload 5, 2) := by decide +kernel
theorem dJ17_getChars_120 : decode cJ17_getChars 120 = .ok (.ireturn, 1) := by decide +kernel
