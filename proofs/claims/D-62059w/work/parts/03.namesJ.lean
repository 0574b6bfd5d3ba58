set_option maxRecDepth 100000
/-! java/util/AbstractCollection -/
def RJ0 : String := "java/util/AbstractCollection"
abbrev cJ0_init : ByteArray := prog_21_method_1_code
def yJ0_init : MethodName := ⟨RJ0, "<init>", "()V"⟩
theorem dJ0_init_0 : decode cJ0_init 0 = .ok (.aload_n 0, 1) := by decide +kernel
theorem dJ0_init_1 : decode cJ0_init 1 = .ok (.invokespecial 1, 3) := by decide +kernel
theorem dJ0_init_4 : decode cJ0_init 4 = .ok (.return_, 1) := by decide +kernel
theorem q39 : (Jvm.Cond.initialized "java/util/AbstractCollection") ∈ lw_all := lw_g (lw_at lw_m1 4 rfl) rfl
theorem q98 : (Jvm.Cond.instanceMethod ({ cls := "java/util/AbstractCollection", name := "<init>", desc := "()V" } : Jvm.MethodName)) ∈ lw_all := lw_g (lw_at lw_m1 63 rfl) rfl
theorem q99 : (Jvm.Cond.code ({ cls := "java/util/AbstractCollection", name := "<init>", desc := "()V" } : Jvm.MethodName) prog_21_method_1_code (1 : Nat) (Option.none : Option Jvm.ClassFile.FieldType)) ∈ lw_all := lw_g (lw_at lw_m1 64 rfl) rfl
theorem q100 : (Jvm.Cond.methodLink "java/util/AbstractCollection" (1 : Nat) ({ cls := "java/lang/Object", name := "<init>", desc := "()V" } : Jvm.MethodName)) ∈ lw_all := lw_g (lw_at lw_m1 65 rfl) rfl

/-! java/util/AbstractList -/
def RJ1 : String := "java/util/AbstractList"
abbrev cJ1_init : ByteArray := prog_22_method_1_code
def yJ1_init : MethodName := ⟨RJ1, "<init>", "()V"⟩
theorem dJ1_init_0 : decode cJ1_init 0 = .ok (.aload_n 0, 1) := by decide +kernel
theorem dJ1_init_1 : decode cJ1_init 1 = .ok (.invokespecial 1, 3) := by decide +kernel
theorem dJ1_init_4 : decode cJ1_init 4 = .ok (.aload_n 0, 1) := by decide +kernel
theorem dJ1_init_5 : decode cJ1_init 5 = .ok (.iconst 0, 1) := by decide +kernel
theorem dJ1_init_6 : decode cJ1_init 6 = .ok (.putfield 7, 3) := by decide +kernel
theorem dJ1_init_9 : decode cJ1_init 9 = .ok (.return_, 1) := by decide +kernel
theorem q40 : (Jvm.Cond.initialized "java/util/AbstractList") ∈ lw_all := lw_g (lw_at lw_m1 5 rfl) rfl
theorem q95 : (Jvm.Cond.instanceMethod ({ cls := "java/util/AbstractList", name := "<init>", desc := "()V" } : Jvm.MethodName)) ∈ lw_all := lw_g (lw_at lw_m1 60 rfl) rfl
theorem q96 : (Jvm.Cond.code ({ cls := "java/util/AbstractList", name := "<init>", desc := "()V" } : Jvm.MethodName) prog_22_method_1_code (1 : Nat) (Option.none : Option Jvm.ClassFile.FieldType)) ∈ lw_all := lw_g (lw_at lw_m1 61 rfl) rfl
theorem q97 : (Jvm.Cond.methodLink "java/util/AbstractList" (1 : Nat) ({ cls := "java/util/AbstractCollection", name := "<init>", desc := "()V" } : Jvm.MethodName)) ∈ lw_all := lw_g (lw_at lw_m1 62 rfl) rfl
theorem q105 : (Jvm.Cond.fieldLink "java/util/AbstractList" (7 : Nat) "java/util/AbstractList" "modCount" "I") ∈ lw_all := lw_g (lw_at lw_m1 70 rfl) rfl
theorem q113 : (Jvm.Cond.soleField "java/util/AbstractList" "modCount") ∈ lw_all := lw_g (lw_at lw_m1 78 rfl) rfl

/-! java/util/ArrayList -/
def RJ2 : String := "java/util/ArrayList"
def TJ2 : u_T := fun k => match k with
  | 0 => ("java/util/AbstractList", "modCount", "I", false)
  | 1 => ("java/util/ArrayList", "elementData", "[Ljava/lang/Object;", false)
  | _ => ("java/util/ArrayList", "size", "I", false)
def tyJ2 : Nat → FieldType := fun k => match k with
  | 0 => .int
  | 1 => .array (.object "java/lang/Object")
  | _ => .int
abbrev wsJ20 : List Cond := u_ws RJ2 TJ2 3
theorem nmJ2 : ∀ a, a < 3 → ∀ b, b < 3 → a ≠ b → (TJ2 a).2.1 ≠ (TJ2 b).2.1 := by decide +kernel
theorem tyJ2_ok : ∀ k, k < 3 → parseFieldDescriptor (TJ2 k).2.2.1 = some (tyJ2 k) := by decide +kernel
abbrev cJ2_init : ByteArray := prog_23_method_2_code
def yJ2_init : MethodName := ⟨RJ2, "<init>", "()V"⟩
theorem dJ2_init_0 : decode cJ2_init 0 = .ok (.aload_n 0, 1) := by decide +kernel
theorem dJ2_init_1 : decode cJ2_init 1 = .ok (.invokespecial 1, 3) := by decide +kernel
theorem dJ2_init_4 : decode cJ2_init 4 = .ok (.aload_n 0, 1) := by decide +kernel
theorem dJ2_init_5 : decode cJ2_init 5 = .ok (.getstatic 39, 3) := by decide +kernel
theorem dJ2_init_8 : decode cJ2_init 8 = .ok (.putfield 9, 3) := by decide +kernel
theorem dJ2_init_11 : decode cJ2_init 11 = .ok (.return_, 1) := by decide +kernel
abbrev cJ2_size : ByteArray := prog_23_method_8_code
def yJ2_size : MethodName := ⟨RJ2, "size", "()I"⟩
theorem dJ2_size_0 : decode cJ2_size 0 = .ok (.aload_n 0, 1) := by decide +kernel
theorem dJ2_size_1 : decode cJ2_size 1 = .ok (.getfield 48, 3) := by decide +kernel
theorem dJ2_size_4 : decode cJ2_size 4 = .ok (.ireturn, 1) := by decide +kernel
abbrev cJ2_get : ByteArray := prog_23_method_20_code
def yJ2_get : MethodName := ⟨RJ2, "get", "(I)Ljava/lang/Object;"⟩
theorem dJ2_get_0 : decode cJ2_get 0 = .ok (.iload_n 1, 1) := by decide +kernel
theorem dJ2_get_1 : decode cJ2_get 1 = .ok (.aload_n 0, 1) := by decide +kernel
theorem dJ2_get_2 : decode cJ2_get 2 = .ok (.getfield 48, 3) := by decide +kernel
theorem dJ2_get_5 : decode cJ2_get 5 = .ok (.invokestatic 118, 3) := by decide +kernel
theorem dJ2_get_8 : decode cJ2_get 8 = .ok (.pop, 1) := by decide +kernel
theorem dJ2_get_9 : decode cJ2_get 9 = .ok (.aload_n 0, 1) := by decide +kernel
theorem dJ2_get_10 : decode cJ2_get 10 = .ok (.iload_n 1, 1) := by decide +kernel
theorem dJ2_get_11 : decode cJ2_get 11 = .ok (.invokevirtual 123, 3) := by decide +kernel
theorem dJ2_get_14 : decode cJ2_get 14 = .ok (.areturn, 1) := by decide +kernel
abbrev cJ2_elementData : ByteArray := prog_23_method_18_code
def yJ2_elementData : MethodName := ⟨RJ2, "elementData", "(I)Ljava/lang/Object;"⟩
theorem dJ2_elementData_0 : decode cJ2_elementData 0 = .ok (.aload_n 0, 1) := by decide +kernel
theorem dJ2_elementData_1 : decode cJ2_elementData 1 = .ok (.getfield 9, 3) := by decide +kernel
theorem dJ2_elementData_4 : decode cJ2_elementData 4 = .ok (.iload_n 1, 1) := by decide +kernel
theorem dJ2_elementData_5 : decode cJ2_elementData 5 = .ok (.aaload, 1) := by decide +kernel
theorem dJ2_elementData_6 : decode cJ2_elementData 6 = .ok (.areturn, 1) := by decide +kernel
abbrev cJ2_add : ByteArray := prog_23_method_25_code
def yJ2_add : MethodName := ⟨RJ2, "add", "(Ljava/lang/Object;)Z"⟩
theorem dJ2_add_0 : decode cJ2_add 0 = .ok (.aload_n 0, 1) := by decide +kernel
theorem dJ2_add_1 : decode cJ2_add 1 = .ok (.dup, 1) := by decide +kernel
theorem dJ2_add_2 : decode cJ2_add 2 = .ok (.getfield 63, 3) := by decide +kernel
theorem dJ2_add_5 : decode cJ2_add 5 = .ok (.iconst 1, 1) := by decide +kernel
theorem dJ2_add_6 : decode cJ2_add 6 = .ok (.iadd, 1) := by decide +kernel
theorem dJ2_add_7 : decode cJ2_add 7 = .ok (.putfield 63, 3) := by decide +kernel
theorem dJ2_add_10 : decode cJ2_add 10 = .ok (.aload_n 0, 1) := by decide +kernel
theorem dJ2_add_11 : decode cJ2_add 11 = .ok (.aload_n 1, 1) := by decide +kernel
theorem dJ2_add_12 : decode cJ2_add 12 = .ok (.aload_n 0, 1) := by decide +kernel
theorem dJ2_add_13 : decode cJ2_add 13 = .ok (.getfield 9, 3) := by decide +kernel
theorem dJ2_add_16 : decode cJ2_add 16 = .ok (.aload_n 0, 1) := by decide +kernel
theorem dJ2_add_17 : decode cJ2_add 17 = .ok (.getfield 48, 3) := by decide +kernel
theorem dJ2_add_20 : decode cJ2_add 20 = .ok (.invokevirtual 131, 3) := by decide +kernel
theorem dJ2_add_23 : decode cJ2_add 23 = .ok (.iconst 1, 1) := by decide +kernel
theorem dJ2_add_24 : decode cJ2_add 24 = .ok (.ireturn, 1) := by decide +kernel
abbrev cJ2_add_2 : ByteArray := prog_23_method_24_code
def yJ2_add_2 : MethodName := ⟨RJ2, "add", "(Ljava/lang/Object;[Ljava/lang/Object;I)V"⟩
theorem dJ2_add_2_0 : decode cJ2_add_2 0 = .ok (.iload_n 3, 1) := by decide +kernel
theorem dJ2_add_2_1 : decode cJ2_add_2 1 = .ok (.aload_n 2, 1) := by decide +kernel
theorem dJ2_add_2_2 : decode cJ2_add_2 2 = .ok (.arraylength, 1) := by decide +kernel
theorem dJ2_add_2_3 : decode cJ2_add_2 3 = .ok (.if_icmp .ne 8, 3) := by decide +kernel
theorem dJ2_add_2_6 : decode cJ2_add_2 6 = .ok (.aload_n 0, 1) := by decide +kernel
theorem dJ2_add_2_7 : decode cJ2_add_2 7 = .ok (.invokevirtual 129, 3) := by decide +kernel
theorem dJ2_add_2_10 : decode cJ2_add_2 10 = .ok (.astore_n 2, 1) := by decide +kernel
theorem dJ2_add_2_11 : decode cJ2_add_2 11 = .ok (.aload_n 2, 1) := by decide +kernel
theorem dJ2_add_2_12 : decode cJ2_add_2 12 = .ok (.iload_n 3, 1) := by decide +kernel
theorem dJ2_add_2_13 : decode cJ2_add_2 13 = .ok (.aload_n 1, 1) := by decide +kernel
theorem dJ2_add_2_14 : decode cJ2_add_2 14 = .ok (.aastore, 1) := by decide +kernel
theorem dJ2_add_2_15 : decode cJ2_add_2 15 = .ok (.aload_n 0, 1) := by decide +kernel
theorem dJ2_add_2_16 : decode cJ2_add_2 16 = .ok (.iload_n 3, 1) := by decide +kernel
theorem dJ2_add_2_17 : decode cJ2_add_2 17 = .ok (.iconst 1, 1) := by decide +kernel
theorem dJ2_add_2_18 : decode cJ2_add_2 18 = .ok (.iadd, 1) := by decide +kernel
theorem dJ2_add_2_19 : decode cJ2_add_2 19 = .ok (.putfield 48, 3) := by decide +kernel
theorem dJ2_add_2_22 : decode cJ2_add_2 22 = .ok (.return_, 1) := by decide +kernel
abbrev cJ2_grow : ByteArray := prog_23_method_7_code
def yJ2_grow : MethodName := ⟨RJ2, "grow", "()[Ljava/lang/Object;"⟩
theorem dJ2_grow_0 : decode cJ2_grow 0 = .ok (.aload_n 0, 1) := by decide +kernel
theorem dJ2_grow_1 : decode cJ2_grow 1 = .ok (.aload_n 0, 1) := by decide +kernel
theorem dJ2_grow_2 : decode cJ2_grow 2 = .ok (.getfield 48, 3) := by decide +kernel
theorem dJ2_grow_5 : decode cJ2_grow 5 = .ok (.iconst 1, 1) := by decide +kernel
theorem dJ2_grow_6 : decode cJ2_grow 6 = .ok (.iadd, 1) := by decide +kernel
theorem dJ2_grow_7 : decode cJ2_grow 7 = .ok (.invokevirtual 69, 3) := by decide +kernel
theorem dJ2_grow_10 : decode cJ2_grow 10 = .ok (.areturn, 1) := by decide +kernel
abbrev cJ2_grow_2 : ByteArray := prog_23_method_6_code
def yJ2_grow_2 : MethodName := ⟨RJ2, "grow", "(I)[Ljava/lang/Object;"⟩
theorem dJ2_grow_2_0 : decode cJ2_grow_2 0 = .ok (.aload_n 0, 1) := by decide +kernel
theorem dJ2_grow_2_1 : decode cJ2_grow_2 1 = .ok (.getfield 9, 3) := by decide +kernel
theorem dJ2_grow_2_4 : decode cJ2_grow_2 4 = .ok (.arraylength, 1) := by decide +kernel
theorem dJ2_grow_2_5 : decode cJ2_grow_2 5 = .ok (.istore_n 2, 1) := by decide +kernel
theorem dJ2_grow_2_6 : decode cJ2_grow_2 6 = .ok (.iload_n 2, 1) := by decide +kernel
theorem dJ2_grow_2_7 : decode cJ2_grow_2 7 = .ok (.ifCond .gt 13, 3) := by decide +kernel
theorem dJ2_grow_2_10 : decode cJ2_grow_2 10 = .ok (.aload_n 0, 1) := by decide +kernel
theorem dJ2_grow_2_11 : decode cJ2_grow_2 11 = .ok (.getfield 9, 3) := by decide +kernel
theorem dJ2_grow_2_14 : decode cJ2_grow_2 14 = .ok (.getstatic 39, 3) := by decide +kernel
theorem dJ2_grow_2_17 : decode cJ2_grow_2 17 = .ok (.if_acmp .eq 28, 3) := by decide +kernel
theorem dJ2_grow_2_20 : decode cJ2_grow_2 20 = .ok (.iload_n 2, 1) := by decide +kernel
theorem dJ2_grow_2_21 : decode cJ2_grow_2 21 = .ok (.iload_n 1, 1) := by decide +kernel
theorem dJ2_grow_2_22 : decode cJ2_grow_2 22 = .ok (.iload_n 2, 1) := by decide +kernel
theorem dJ2_grow_2_23 : decode cJ2_grow_2 23 = .ok (.isub, 1) := by decide +kernel
theorem dJ2_grow_2_24 : decode cJ2_grow_2 24 = .ok (.iload_n 2, 1) := by decide +kernel
theorem dJ2_grow_2_25 : decode cJ2_grow_2 25 = .ok (.iconst 1, 1) := by decide +kernel
theorem dJ2_grow_2_26 : decode cJ2_grow_2 26 = .ok (.ishr, 1) := by decide +kernel
theorem dJ2_grow_2_27 : decode cJ2_grow_2 27 = .ok (.invokestatic 73, 3) := by decide +kernel
theorem dJ2_grow_2_30 : decode cJ2_grow_2 30 = .ok (.istore_n 3, 1) := by decide +kernel
theorem dJ2_grow_2_31 : decode cJ2_grow_2 31 = .ok (.aload_n 0, 1) := by decide +kernel
theorem dJ2_grow_2_32 : decode cJ2_grow_2 32 = .ok (.aload_n 0, 1) := by decide +kernel
theorem dJ2_grow_2_33 : decode cJ2_grow_2 33 = .ok (.getfield 9, 3) := by decide +kernel
theorem dJ2_grow_2_36 : decode cJ2_grow_2 36 = .ok (.iload_n 3, 1) := by decide +kernel
theorem dJ2_grow_2_37 : decode cJ2_grow_2 37 = .ok (.invokestatic 66, 3) := by decide +kernel
theorem dJ2_grow_2_40 : decode cJ2_grow_2 40 = .ok (.dup_x1, 1) := by decide +kernel
theorem dJ2_grow_2_41 : decode cJ2_grow_2 41 = .ok (.putfield 9, 3) := by decide +kernel
theorem dJ2_grow_2_44 : decode cJ2_grow_2 44 = .ok (.areturn, 1) := by decide +kernel
theorem dJ2_grow_2_45 : decode cJ2_grow_2 45 = .ok (.aload_n 0, 1) := by decide +kernel
theorem dJ2_grow_2_46 : decode cJ2_grow_2 46 = .ok (.bipush 10, 2) := by decide +kernel
theorem dJ2_grow_2_48 : decode cJ2_grow_2 48 = .ok (.iload_n 1, 1) := by decide +kernel
theorem dJ2_grow_2_49 : decode cJ2_grow_2 49 = .ok (.invokestatic 79, 3) := by decide +kernel
theorem dJ2_grow_2_52 : decode cJ2_grow_2 52 = .ok (.anewarray 7, 3) := by decide +kernel
theorem dJ2_grow_2_55 : decode cJ2_grow_2 55 = .ok (.dup_x1, 1) := by decide +kernel
theorem dJ2_grow_2_56 : decode cJ2_grow_2 56 = .ok (.putfield 9, 3) := by decide +kernel
theorem dJ2_grow_2_59 : decode cJ2_grow_2 59 = .ok (.areturn, 1) := by decide +kernel
abbrev cJ2_remove : ByteArray := prog_23_method_29_code
def yJ2_remove : MethodName := ⟨RJ2, "remove", "(I)Ljava/lang/Object;"⟩
theorem dJ2_remove_0 : decode cJ2_remove 0 = .ok (.iload_n 1, 1) := by decide +kernel
theorem dJ2_remove_1 : decode cJ2_remove 1 = .ok (.aload_n 0, 1) := by decide +kernel
theorem dJ2_remove_2 : decode cJ2_remove 2 = .ok (.getfield 48, 3) := by decide +kernel
theorem dJ2_remove_5 : decode cJ2_remove 5 = .ok (.invokestatic 118, 3) := by decide +kernel
theorem dJ2_remove_8 : decode cJ2_remove 8 = .ok (.pop, 1) := by decide +kernel
theorem dJ2_remove_9 : decode cJ2_remove 9 = .ok (.aload_n 0, 1) := by decide +kernel
theorem dJ2_remove_10 : decode cJ2_remove 10 = .ok (.getfield 9, 3) := by decide +kernel
theorem dJ2_remove_13 : decode cJ2_remove 13 = .ok (.astore_n 2, 1) := by decide +kernel
theorem dJ2_remove_14 : decode cJ2_remove 14 = .ok (.aload_n 2, 1) := by decide +kernel
theorem dJ2_remove_15 : decode cJ2_remove 15 = .ok (.iload_n 1, 1) := by decide +kernel
theorem dJ2_remove_16 : decode cJ2_remove 16 = .ok (.aaload, 1) := by decide +kernel
theorem dJ2_remove_17 : decode cJ2_remove 17 = .ok (.astore_n 3, 1) := by decide +kernel
theorem dJ2_remove_18 : decode cJ2_remove 18 = .ok (.aload_n 0, 1) := by decide +kernel
theorem dJ2_remove_19 : decode cJ2_remove 19 = .ok (.aload_n 2, 1) := by decide +kernel
theorem dJ2_remove_20 : decode cJ2_remove 20 = .ok (.iload_n 1, 1) := by decide +kernel
theorem dJ2_remove_21 : decode cJ2_remove 21 = .ok (.invokevirtual 144, 3) := by decide +kernel
theorem dJ2_remove_24 : decode cJ2_remove 24 = .ok (.aload_n 3, 1) := by decide +kernel
theorem dJ2_remove_25 : decode cJ2_remove 25 = .ok (.areturn, 1) := by decide +kernel
abbrev cJ2_fastRemove : ByteArray := prog_23_method_39_code
def yJ2_fastRemove : MethodName := ⟨RJ2, "fastRemove", "([Ljava/lang/Object;I)V"⟩
theorem dJ2_fastRemove_0 : decode cJ2_fastRemove 0 = .ok (.aload_n 0, 1) := by decide +kernel
theorem dJ2_fastRemove_1 : decode cJ2_fastRemove 1 = .ok (.dup, 1) := by decide +kernel
theorem dJ2_fastRemove_2 : decode cJ2_fastRemove 2 = .ok (.getfield 63, 3) := by decide +kernel
theorem dJ2_fastRemove_5 : decode cJ2_fastRemove 5 = .ok (.iconst 1, 1) := by decide +kernel
theorem dJ2_fastRemove_6 : decode cJ2_fastRemove 6 = .ok (.iadd, 1) := by decide +kernel
theorem dJ2_fastRemove_7 : decode cJ2_fastRemove 7 = .ok (.putfield 63, 3) := by decide +kernel
theorem dJ2_fastRemove_10 : decode cJ2_fastRemove 10 = .ok (.aload_n 0, 1) := by decide +kernel
theorem dJ2_fastRemove_11 : decode cJ2_fastRemove 11 = .ok (.getfield 48, 3) := by decide +kernel
theorem dJ2_fastRemove_14 : decode cJ2_fastRemove 14 = .ok (.iconst 1, 1) := by decide +kernel
theorem dJ2_fastRemove_15 : decode cJ2_fastRemove 15 = .ok (.isub, 1) := by decide +kernel
theorem dJ2_fastRemove_16 : decode cJ2_fastRemove 16 = .ok (.dup, 1) := by decide +kernel
theorem dJ2_fastRemove_17 : decode cJ2_fastRemove 17 = .ok (.istore_n 3, 1) := by decide +kernel
theorem dJ2_fastRemove_18 : decode cJ2_fastRemove 18 = .ok (.iload_n 2, 1) := by decide +kernel
theorem dJ2_fastRemove_19 : decode cJ2_fastRemove 19 = .ok (.if_icmp .le 15, 3) := by decide +kernel
theorem dJ2_fastRemove_22 : decode cJ2_fastRemove 22 = .ok (.aload_n 1, 1) := by decide +kernel
theorem dJ2_fastRemove_23 : decode cJ2_fastRemove 23 = .ok (.iload_n 2, 1) := by decide +kernel
theorem dJ2_fastRemove_24 : decode cJ2_fastRemove 24 = .ok (.iconst 1, 1) := by decide +kernel
theorem dJ2_fastRemove_25 : decode cJ2_fastRemove 25 = .ok (.iadd, 1) := by decide +kernel
theorem dJ2_fastRemove_26 : decode cJ2_fastRemove 26 = .ok (.aload_n 1, 1) := by decide +kernel
theorem dJ2_fastRemove_27 : decode cJ2_fastRemove 27 = .ok (.iload_n 2, 1) := by decide +kernel
theorem dJ2_fastRemove_28 : decode cJ2_fastRemove 28 = .ok (.iload_n 3, 1) := by decide +kernel
theorem dJ2_fastRemove_29 : decode cJ2_fastRemove 29 = .ok (.iload_n 2, 1) := by decide +kernel
theorem dJ2_fastRemove_30 : decode cJ2_fastRemove 30 = .ok (.isub, 1) := by decide +kernel
theorem dJ2_fastRemove_31 : decode cJ2_fastRemove 31 = .ok (.invokestatic 112, 3) := by decide +kernel
theorem dJ2_fastRemove_34 : decode cJ2_fastRemove 34 = .ok (.aload_n 1, 1) := by decide +kernel
theorem dJ2_fastRemove_35 : decode cJ2_fastRemove 35 = .ok (.aload_n 0, 1) := by decide +kernel
theorem dJ2_fastRemove_36 : decode cJ2_fastRemove 36 = .ok (.iload_n 3, 1) := by decide +kernel
theorem dJ2_fastRemove_37 : decode cJ2_fastRemove 37 = .ok (.dup_x1, 1) := by decide +kernel
theorem dJ2_fastRemove_38 : decode cJ2_fastRemove 38 = .ok (.putfield 48, 3) := by decide +kernel
theorem dJ2_fastRemove_41 : decode cJ2_fastRemove 41 = .ok (.aconst_null, 1) := by decide +kernel
theorem dJ2_fastRemove_42 : decode cJ2_fastRemove 42 = .ok (.aastore, 1) := by decide +kernel
theorem dJ2_fastRemove_43 : decode cJ2_fastRemove 43 = .ok (.return_, 1) := by decide +kernel
theorem q41 : (Jvm.Cond.initialized "java/util/ArrayList") ∈ lw_all := lw_g (lw_at lw_m1 6 rfl) rfl
theorem q90 : (Jvm.Cond.instantiable "java/util/ArrayList" (3 : Nat)) ∈ lw_all := lw_g (lw_at lw_m1 55 rfl) rfl
theorem q92 : (Jvm.Cond.instanceMethod ({ cls := "java/util/ArrayList", name := "<init>", desc := "()V" } : Jvm.MethodName)) ∈ lw_all := lw_g (lw_at lw_m1 57 rfl) rfl
theorem q93 : (Jvm.Cond.code ({ cls := "java/util/ArrayList", name := "<init>", desc := "()V" } : Jvm.MethodName) prog_23_method_2_code (1 : Nat) (Option.none : Option Jvm.ClassFile.FieldType)) ∈ lw_all := lw_g (lw_at lw_m1 58 rfl) rfl
theorem q94 : (Jvm.Cond.methodLink "java/util/ArrayList" (1 : Nat) ({ cls := "java/util/AbstractList", name := "<init>", desc := "()V" } : Jvm.MethodName)) ∈ lw_all := lw_g (lw_at lw_m1 59 rfl) rfl
theorem q101 : (Jvm.Cond.fieldLink "java/util/ArrayList" (39 : Nat) "java/util/ArrayList" "DEFAULTCAPACITY_EMPTY_ELEMENTDATA" "[Ljava/lang/Object;") ∈ lw_all := lw_g (lw_at lw_m1 66 rfl) rfl
theorem q102 : (Jvm.Cond.laysStatic "java/util/ArrayList" "DEFAULTCAPACITY_EMPTY_ELEMENTDATA" "[Ljava/lang/Object;") ∈ lw_tbl := lw_at lw_m1 67 rfl
theorem q103 : (Jvm.Cond.fieldLink "java/util/ArrayList" (9 : Nat) "java/util/ArrayList" "elementData" "[Ljava/lang/Object;") ∈ lw_all := lw_g (lw_at lw_m1 68 rfl) rfl
theorem q104 : (Jvm.Cond.fieldLink "java/util/ArrayList" (48 : Nat) "java/util/ArrayList" "size" "I") ∈ lw_all := lw_g (lw_at lw_m1 69 rfl) rfl
theorem q106 : (Jvm.Cond.fieldLink "java/util/ArrayList" (63 : Nat) "java/util/ArrayList" "modCount" "I") ∈ lw_all := lw_g (lw_at lw_m1 71 rfl) rfl
theorem q107 : (Jvm.Cond.sameField "java/util/ArrayList" "java/util/AbstractList" "modCount" "I") ∈ lw_all := lw_g (lw_at lw_m1 72 rfl) rfl
theorem q108 : (Jvm.Cond.lays "java/util/ArrayList" "java/util/ArrayList" "elementData" "[Ljava/lang/Object;") ∈ lw_all := lw_g (lw_at lw_m1 73 rfl) rfl
theorem q109 : (Jvm.Cond.soleField "java/util/ArrayList" "elementData") ∈ lw_all := lw_g (lw_at lw_m1 74 rfl) rfl
theorem q110 : (Jvm.Cond.lays "java/util/ArrayList" "java/util/ArrayList" "size" "I") ∈ lw_all := lw_g (lw_at lw_m1 75 rfl) rfl
theorem q111 : (Jvm.Cond.soleField "java/util/ArrayList" "size") ∈ lw_all := lw_g (lw_at lw_m1 76 rfl) rfl
theorem q112 : (Jvm.Cond.lays "java/util/ArrayList" "java/util/AbstractList" "modCount" "I") ∈ lw_all := lw_g (lw_at lw_m1 77 rfl) rfl
theorem q114 : (Jvm.Cond.superclass "java/util/ArrayList" "java/util/AbstractList") ∈ lw_all := lw_g (lw_at lw_m1 79 rfl) rfl
theorem q205 : (Jvm.Cond.instanceMethod ({ cls := "java/util/ArrayList", name := "size", desc := "()I" } : Jvm.MethodName)) ∈ lw_all := lw_g (lw_at lw_m1 170 rfl) rfl
theorem q206 : (Jvm.Cond.selects "java/util/ArrayList" ({ cls := "java/util/ArrayList", name := "size", desc := "()I" } : Jvm.MethodName) ({ cls := "java/util/ArrayList", name := "size", desc := "()I" } : Jvm.MethodName)) ∈ lw_all := lw_g (lw_at lw_m1 171 rfl) rfl
theorem q207 : (Jvm.Cond.code ({ cls := "java/util/ArrayList", name := "size", desc := "()I" } : Jvm.MethodName) prog_23_method_8_code (1 : Nat) (Option.some Jvm.ClassFile.FieldType.int)) ∈ lw_all := lw_g (lw_at lw_m1 172 rfl) rfl
theorem q209 : (Jvm.Cond.instanceMethod ({ cls := "java/util/ArrayList", name := "get", desc := "(I)Ljava/lang/Object;" } : Jvm.MethodName)) ∈ lw_all := lw_g (lw_at lw_m1 174 rfl) rfl
theorem q210 : (Jvm.Cond.selects "java/util/ArrayList" ({ cls := "java/util/ArrayList", name := "get", desc := "(I)Ljava/lang/Object;" } : Jvm.MethodName) ({ cls := "java/util/ArrayList", name := "get", desc := "(I)Ljava/lang/Object;" } : Jvm.MethodName)) ∈ lw_all := lw_g (lw_at lw_m1 175 rfl) rfl
theorem q211 : (Jvm.Cond.code ({ cls := "java/util/ArrayList", name := "get", desc := "(I)Ljava/lang/Object;" } : Jvm.MethodName) prog_23_method_20_code (2 : Nat) (Option.some (Jvm.ClassFile.FieldType.object "java/lang/Object"))) ∈ lw_all := lw_g (lw_at lw_m1 176 rfl) rfl
theorem q212 : (Jvm.Cond.methodLink "java/util/ArrayList" (118 : Nat) ({ cls := "java/util/Objects", name := "checkIndex", desc := "(II)I" } : Jvm.MethodName)) ∈ lw_all := lw_g (lw_at lw_m1 177 rfl) rfl
theorem q218 : (Jvm.Cond.methodLink "java/util/ArrayList" (123 : Nat) ({ cls := "java/util/ArrayList", name := "elementData", desc := "(I)Ljava/lang/Object;" } : Jvm.MethodName)) ∈ lw_all := lw_g (lw_at lw_m1 183 rfl) rfl
theorem q219 : (Jvm.Cond.instanceMethod ({ cls := "java/util/ArrayList", name := "elementData", desc := "(I)Ljava/lang/Object;" } : Jvm.MethodName)) ∈ lw_all := lw_g (lw_at lw_m1 184 rfl) rfl
theorem q220 : (Jvm.Cond.selects "java/util/ArrayList" ({ cls := "java/util/ArrayList", name := "elementData", desc := "(I)Ljava/lang/Object;" } : Jvm.MethodName) ({ cls := "java/util/ArrayList", name := "elementData", desc := "(I)Ljava/lang/Object;" } : Jvm.MethodName)) ∈ lw_all := lw_g (lw_at lw_m1 185 rfl) rfl
theorem q221 : (Jvm.Cond.code ({ cls := "java/util/ArrayList", name := "elementData", desc := "(I)Ljava/lang/Object;" } : Jvm.MethodName) prog_23_method_18_code (2 : Nat) (Option.some (Jvm.ClassFile.FieldType.object "java/lang/Object"))) ∈ lw_all := lw_g (lw_at lw_m1 186 rfl) rfl
theorem q538 : (Jvm.Cond.instanceMethod ({ cls := "java/util/ArrayList", name := "add", desc := "(Ljava/lang/Object;)Z" } : Jvm.MethodName)) ∈ lw_all := lw_g (lw_at lw_m3 23 rfl) rfl
theorem q539 : (Jvm.Cond.selects "java/util/ArrayList" ({ cls := "java/util/ArrayList", name := "add", desc := "(Ljava/lang/Object;)Z" } : Jvm.MethodName) ({ cls := "java/util/ArrayList", name := "add", desc := "(Ljava/lang/Object;)Z" } : Jvm.MethodName)) ∈ lw_all := lw_g (lw_at lw_m3 24 rfl) rfl
theorem q540 : (Jvm.Cond.code ({ cls := "java/util/ArrayList", name := "add", desc := "(Ljava/lang/Object;)Z" } : Jvm.MethodName) prog_23_method_25_code (2 : Nat) (Option.some Jvm.ClassFile.FieldType.boolean)) ∈ lw_all := lw_g (lw_at lw_m3 25 rfl) rfl
theorem q541 : (Jvm.Cond.methodLink "java/util/ArrayList" (131 : Nat) ({ cls := "java/util/ArrayList", name := "add", desc := "(Ljava/lang/Object;[Ljava/lang/Object;I)V" } : Jvm.MethodName)) ∈ lw_all := lw_g (lw_at lw_m3 26 rfl) rfl
theorem q542 : (Jvm.Cond.privateMethod ({ cls := "java/util/ArrayList", name := "add", desc := "(Ljava/lang/Object;[Ljava/lang/Object;I)V" } : Jvm.MethodName)) ∈ lw_tbl := lw_at lw_m3 27 rfl
theorem q543 : (Jvm.Cond.instanceMethod ({ cls := "java/util/ArrayList", name := "add", desc := "(Ljava/lang/Object;[Ljava/lang/Object;I)V" } : Jvm.MethodName)) ∈ lw_all := lw_g (lw_at lw_m3 28 rfl) rfl
theorem q544 : (Jvm.Cond.code ({ cls := "java/util/ArrayList", name := "add", desc := "(Ljava/lang/Object;[Ljava/lang/Object;I)V" } : Jvm.MethodName) prog_23_method_24_code (4 : Nat) (Option.none : Option Jvm.ClassFile.FieldType)) ∈ lw_all := lw_g (lw_at lw_m3 29 rfl) rfl
theorem q545 : (Jvm.Cond.methodLink "java/util/ArrayList" (129 : Nat) ({ cls := "java/util/ArrayList", name := "grow", desc := "()[Ljava/lang/Object;" } : Jvm.MethodName)) ∈ lw_all := lw_g (lw_at lw_m3 30 rfl) rfl
theorem q546 : (Jvm.Cond.privateMethod ({ cls := "java/util/ArrayList", name := "grow", desc := "()[Ljava/lang/Object;" } : Jvm.MethodName)) ∈ lw_tbl := lw_at lw_m3 31 rfl
theorem q547 : (Jvm.Cond.instanceMethod ({ cls := "java/util/ArrayList", name := "grow", desc := "()[Ljava/lang/Object;" } : Jvm.MethodName)) ∈ lw_all := lw_g (lw_at lw_m3 32 rfl) rfl
theorem q548 : (Jvm.Cond.code ({ cls := "java/util/ArrayList", name := "grow", desc := "()[Ljava/lang/Object;" } : Jvm.MethodName) prog_23_method_7_code (1 : Nat) (Option.some (Jvm.ClassFile.FieldType.array (Jvm.ClassFile.FieldType.object "java/lang/Object")))) ∈ lw_all := lw_g (lw_at lw_m3 33 rfl) rfl
theorem q549 : (Jvm.Cond.methodLink "java/util/ArrayList" (69 : Nat) ({ cls := "java/util/ArrayList", name := "grow", desc := "(I)[Ljava/lang/Object;" } : Jvm.MethodName)) ∈ lw_all := lw_g (lw_at lw_m3 34 rfl) rfl
theorem q550 : (Jvm.Cond.privateMethod ({ cls := "java/util/ArrayList", name := "grow", desc := "(I)[Ljava/lang/Object;" } : Jvm.MethodName)) ∈ lw_tbl := lw_at lw_m3 35 rfl
theorem q551 : (Jvm.Cond.instanceMethod ({ cls := "java/util/ArrayList", name := "grow", desc := "(I)[Ljava/lang/Object;" } : Jvm.MethodName)) ∈ lw_all := lw_g (lw_at lw_m3 36 rfl) rfl
theorem q552 : (Jvm.Cond.code ({ cls := "java/util/ArrayList", name := "grow", desc := "(I)[Ljava/lang/Object;" } : Jvm.MethodName) prog_23_method_6_code (4 : Nat) (Option.some (Jvm.ClassFile.FieldType.array (Jvm.ClassFile.FieldType.object "java/lang/Object")))) ∈ lw_all := lw_g (lw_at lw_m3 37 rfl) rfl
theorem q553 : (Jvm.Cond.methodLink "java/util/ArrayList" (73 : Nat) ({ cls := "jdk/internal/util/ArraysSupport", name := "newLength", desc := "(III)I" } : Jvm.MethodName)) ∈ lw_all := lw_g (lw_at lw_m3 38 rfl) rfl
theorem q554 : (Jvm.Cond.methodLink "java/util/ArrayList" (66 : Nat) ({ cls := "java/util/Arrays", name := "copyOf", desc := "([Ljava/lang/Object;I)[Ljava/lang/Object;" } : Jvm.MethodName)) ∈ lw_all := lw_g (lw_at lw_m3 39 rfl) rfl
theorem q569 : (Jvm.Cond.selects "java/util/ArrayList" ({ cls := "java/lang/Object", name := "getClass", desc := "()Ljava/lang/Class;" } : Jvm.MethodName) ({ cls := "java/lang/Object", name := "getClass", desc := "()Ljava/lang/Class;" } : Jvm.MethodName)) ∈ lw_all := lw_g (lw_at lw_m3 54 rfl) rfl
theorem q577 : (Jvm.Cond.methodLink "java/util/ArrayList" (79 : Nat) ({ cls := "java/lang/Math", name := "max", desc := "(II)I" } : Jvm.MethodName)) ∈ lw_all := lw_g (lw_at lw_m3 62 rfl) rfl
theorem q578 : (Jvm.Cond.classLink "java/util/ArrayList" (7 : Nat) "java/lang/Object") ∈ lw_all := lw_g (lw_at lw_m3 63 rfl) rfl
theorem q611 : (Jvm.Cond.instanceMethod ({ cls := "java/util/ArrayList", name := "remove", desc := "(I)Ljava/lang/Object;" } : Jvm.MethodName)) ∈ lw_all := lw_g (lw_at lw_m3 96 rfl) rfl
theorem q612 : (Jvm.Cond.selects "java/util/ArrayList" ({ cls := "java/util/ArrayList", name := "remove", desc := "(I)Ljava/lang/Object;" } : Jvm.MethodName) ({ cls := "java/util/ArrayList", name := "remove", desc := "(I)Ljava/lang/Object;" } : Jvm.MethodName)) ∈ lw_all := lw_g (lw_at lw_m3 97 rfl) rfl
theorem q613 : (Jvm.Cond.code ({ cls := "java/util/ArrayList", name := "remove", desc := "(I)Ljava/lang/Object;" } : Jvm.MethodName) prog_23_method_29_code (4 : Nat) (Option.some (Jvm.ClassFile.FieldType.object "java/lang/Object"))) ∈ lw_all := lw_g (lw_at lw_m3 98 rfl) rfl
theorem q614 : (Jvm.Cond.methodLink "java/util/ArrayList" (144 : Nat) ({ cls := "java/util/ArrayList", name := "fastRemove", desc := "([Ljava/lang/Object;I)V" } : Jvm.MethodName)) ∈ lw_all := lw_g (lw_at lw_m3 99 rfl) rfl
theorem q615 : (Jvm.Cond.privateMethod ({ cls := "java/util/ArrayList", name := "fastRemove", desc := "([Ljava/lang/Object;I)V" } : Jvm.MethodName)) ∈ lw_tbl := lw_at lw_m3 100 rfl
theorem q616 : (Jvm.Cond.instanceMethod ({ cls := "java/util/ArrayList", name := "fastRemove", desc := "([Ljava/lang/Object;I)V" } : Jvm.MethodName)) ∈ lw_all := lw_g (lw_at lw_m3 101 rfl) rfl
theorem q617 : (Jvm.Cond.code ({ cls := "java/util/ArrayList", name := "fastRemove", desc := "([Ljava/lang/Object;I)V" } : Jvm.MethodName) prog_23_method_39_code (4 : Nat) (Option.none : Option Jvm.ClassFile.FieldType)) ∈ lw_all := lw_g (lw_at lw_m3 102 rfl) rfl
theorem q618 : (Jvm.Cond.methodLink "java/util/ArrayList" (112 : Nat) ({ cls := "java/lang/System", name := "arraycopy", desc := "(Ljava/lang/Object;ILjava/lang/Object;II)V" } : Jvm.MethodName)) ∈ lw_all := lw_g (lw_at lw_m3 103 rfl) rfl
theorem q1051 : (Jvm.Cond.castable "java/util/ArrayList" "java/lang/Object") ∈ lw_tbl := lw_at lw_m5 56 rfl
theorem in_J2 : ∀ w ∈ wsJ20, w ∈ lw_all := lw_in wsJ20 [112, 108, 110] (by decide +kernel) (by decide +kernel)

/-! java/lang/AbstractStringBuilder -/
def RJ3 : String := "java/lang/AbstractStringBuilder"
abbrev cJ3_init : ByteArray := prog_11_method_2_code
def yJ3_init : MethodName := ⟨RJ3, "<init>", "(I)V"⟩
theorem dJ3_init_0 : decode cJ3_init 0 = .ok (.aload_n 0, 1) := by decide +kernel
theorem dJ3_init_1 : decode cJ3_init 1 = .ok (.invokespecial 3, 3) := by decide +kernel
theorem dJ3_init_4 : decode cJ3_init 4 = .ok (.getstatic 18, 3) := by decide +kernel
theorem dJ3_init_7 : decode cJ3_init 7 = .ok (.ifCond .eq 18, 3) := by decide +kernel
theorem dJ3_init_10 : decode cJ3_init 10 = .ok (.aload_n 0, 1) := by decide +kernel
theorem dJ3_init_11 : decode cJ3_init 11 = .ok (.iload_n 1, 1) := by decide +kernel
theorem dJ3_init_12 : decode cJ3_init 12 = .ok (.newarray .byte, 2) := by decide +kernel
theorem dJ3_init_14 : decode cJ3_init 14 = .ok (.putfield 15, 3) := by decide +kernel
theorem dJ3_init_17 : decode cJ3_init 17 = .ok (.aload_n 0, 1) := by decide +kernel
theorem dJ3_init_18 : decode cJ3_init 18 = .ok (.iconst 0, 1) := by decide +kernel
theorem dJ3_init_19 : decode cJ3_init 19 = .ok (.putfield 22, 3) := by decide +kernel
theorem dJ3_init_22 : decode cJ3_init 22 = .ok (.goto 16, 3) := by decide +kernel
theorem dJ3_init_25 : decode cJ3_init 25 = .ok (.aload_n 0, 1) := by decide +kernel
theorem dJ3_init_26 : decode cJ3_init 26 = .ok (.iload_n 1, 1) := by decide +kernel
theorem dJ3_init_27 : decode cJ3_init 27 = .ok (.invokestatic 26, 3) := by decide +kernel
theorem dJ3_init_30 : decode cJ3_init 30 = .ok (.putfield 15, 3) := by decide +kernel
theorem dJ3_init_33 : decode cJ3_init 33 = .ok (.aload_n 0, 1) := by decide +kernel
theorem dJ3_init_34 : decode cJ3_init 34 = .ok (.iconst 1, 1) := by decide +kernel
theorem dJ3_init_35 : decode cJ3_init 35 = .ok (.putfield 22, 3) := by decide +kernel
theorem dJ3_init_38 : decode cJ3_init 38 = .ok (.return_, 1) := by decide +kernel
abbrev cJ3_setLength : ByteArray := prog_11_method_13_code
def yJ3_setLength : MethodName := ⟨RJ3, "setLength", "(I)V"⟩
theorem dJ3_setLength_0 : decode cJ3_setLength 0 = .ok (.iload_n 1, 1) := by decide +kernel
theorem dJ3_setLength_1 : decode cJ3_setLength 1 = .ok (.ifCond .ge 12, 3) := by decide +kernel
theorem dJ3_setLength_4 : decode cJ3_setLength 4 = .ok (.new 129, 3) := by decide +kernel
theorem dJ3_setLength_7 : decode cJ3_setLength 7 = .ok (.dup, 1) := by decide +kernel
theorem dJ3_setLength_8 : decode cJ3_setLength 8 = .ok (.iload_n 1, 1) := by decide +kernel
theorem dJ3_setLength_9 : decode cJ3_setLength 9 = .ok (.invokespecial 131, 3) := by decide +kernel
theorem dJ3_setLength_12 : decode cJ3_setLength 12 = .ok (.athrow, 1) := by decide +kernel
theorem dJ3_setLength_13 : decode cJ3_setLength 13 = .ok (.aload_n 0, 1) := by decide +kernel
theorem dJ3_setLength_14 : decode cJ3_setLength 14 = .ok (.iload_n 1, 1) := by decide +kernel
theorem dJ3_setLength_15 : decode cJ3_setLength 15 = .ok (.invokevirtual 100, 3) := by decide +kernel
theorem dJ3_setLength_18 : decode cJ3_setLength 18 = .ok (.aload_n 0, 1) := by decide +kernel
theorem dJ3_setLength_19 : decode cJ3_setLength 19 = .ok (.getfield 79, 3) := by decide +kernel
theorem dJ3_setLength_22 : decode cJ3_setLength 22 = .ok (.iload_n 1, 1) := by decide +kernel
theorem dJ3_setLength_23 : decode cJ3_setLength 23 = .ok (.if_icmp .ge 40, 3) := by decide +kernel
theorem dJ3_setLength_26 : decode cJ3_setLength 26 = .ok (.aload_n 0, 1) := by decide +kernel
theorem dJ3_setLength_27 : decode cJ3_setLength 27 = .ok (.invokevirtual 83, 3) := by decide +kernel
theorem dJ3_setLength_30 : decode cJ3_setLength 30 = .ok (.ifCond .eq 18, 3) := by decide +kernel
theorem dJ3_setLength_33 : decode cJ3_setLength 33 = .ok (.aload_n 0, 1) := by decide +kernel
theorem dJ3_setLength_34 : decode cJ3_setLength 34 = .ok (.getfield 15, 3) := by decide +kernel
theorem dJ3_setLength_37 : decode cJ3_setLength 37 = .ok (.aload_n 0, 1) := by decide +kernel
theorem dJ3_setLength_38 : decode cJ3_setLength 38 = .ok (.getfield 79, 3) := by decide +kernel
theorem dJ3_setLength_41 : decode cJ3_setLength 41 = .ok (.iload_n 1, 1) := by decide +kernel
theorem dJ3_setLength_42 : decode cJ3_setLength 42 = .ok (.invokestatic 133, 3) := by decide +kernel
theorem dJ3_setLength_45 : decode cJ3_setLength 45 = .ok (.goto 31, 3) := by decide +kernel
theorem dJ3_setLength_48 : decode cJ3_setLength 48 = .ok (.aload_n 0, 1) := by decide +kernel
theorem dJ3_setLength_49 : decode cJ3_setLength 49 = .ok (.getfield 15, 3) := by decide +kernel
theorem dJ3_setLength_52 : decode cJ3_setLength 52 = .ok (.aload_n 0, 1) := by decide +kernel
theorem dJ3_setLength_53 : decode cJ3_setLength 53 = .ok (.getfield 79, 3) := by decide +kernel
theorem dJ3_setLength_56 : decode cJ3_setLength 56 = .ok (.iload_n 1, 1) := by decide +kernel
theorem dJ3_setLength_57 : decode cJ3_setLength 57 = .ok (.invokestatic 137, 3) := by decide +kernel
theorem dJ3_setLength_60 : decode cJ3_setLength 60 = .ok (.goto 16, 3) := by decide +kernel
theorem dJ3_setLength_63 : decode cJ3_setLength 63 = .ok (.aload_n 0, 1) := by decide +kernel
theorem dJ3_setLength_64 : decode cJ3_setLength 64 = .ok (.getfield 79, 3) := by decide +kernel
theorem dJ3_setLength_67 : decode cJ3_setLength 67 = .ok (.iload_n 1, 1) := by decide +kernel
theorem dJ3_setLength_68 : decode cJ3_setLength 68 = .ok (.if_icmp .le 8, 3) := by decide +kernel
theorem dJ3_setLength_71 : decode cJ3_setLength 71 = .ok (.aload_n 0, 1) := by decide +kernel
theorem dJ3_setLength_72 : decode cJ3_setLength 72 = .ok (.iconst 1, 1) := by decide +kernel
theorem dJ3_setLength_73 : decode cJ3_setLength 73 = .ok (.putfield 73, 3) := by decide +kernel
theorem dJ3_setLength_76 : decode cJ3_setLength 76 = .ok (.aload_n 0, 1) := by decide +kernel
theorem dJ3_setLength_77 : decode cJ3_setLength 77 = .ok (.iload_n 1, 1) := by decide +kernel
theorem dJ3_setLength_78 : decode cJ3_setLength 78 = .ok (.putfield 79, 3) := by decide +kernel
theorem dJ3_setLength_81 : decode cJ3_setLength 81 = .ok (.return_, 1) := by decide +kernel
abbrev cJ3_ensureCapacityInternal : ByteArray := prog_11_method_9_code
def yJ3_ensureCapacityInternal : MethodName := ⟨RJ3, "ensureCapacityInternal", "(I)V"⟩
theorem dJ3_ensureCapacityInternal_0 : decode cJ3_ensureCapacityInternal 0 = .ok (.aload_n 0, 1) := by decide +kernel
theorem dJ3_ensureCapacityInternal_1 : decode cJ3_ensureCapacityInternal 1 = .ok (.getfield 15, 3) := by decide +kernel
theorem dJ3_ensureCapacityInternal_4 : decode cJ3_ensureCapacityInternal 4 = .ok (.arraylength, 1) := by decide +kernel
theorem dJ3_ensureCapacityInternal_5 : decode cJ3_ensureCapacityInternal 5 = .ok (.aload_n 0, 1) := by decide +kernel
theorem dJ3_ensureCapacityInternal_6 : decode cJ3_ensureCapacityInternal 6 = .ok (.getfield 22, 3) := by decide +kernel
theorem dJ3_ensureCapacityInternal_9 : decode cJ3_ensureCapacityInternal 9 = .ok (.ishr, 1) := by decide +kernel
theorem dJ3_ensureCapacityInternal_10 : decode cJ3_ensureCapacityInternal 10 = .ok (.istore_n 2, 1) := by decide +kernel
theorem dJ3_ensureCapacityInternal_11 : decode cJ3_ensureCapacityInternal 11 = .ok (.iload_n 1, 1) := by decide +kernel
theorem dJ3_ensureCapacityInternal_12 : decode cJ3_ensureCapacityInternal 12 = .ok (.iload_n 2, 1) := by decide +kernel
theorem dJ3_ensureCapacityInternal_13 : decode cJ3_ensureCapacityInternal 13 = .ok (.isub, 1) := by decide +kernel
theorem dJ3_ensureCapacityInternal_14 : decode cJ3_ensureCapacityInternal 14 = .ok (.ifCond .le 24, 3) := by decide +kernel
theorem dJ3_ensureCapacityInternal_17 : decode cJ3_ensureCapacityInternal 17 = .ok (.aload_n 0, 1) := by decide +kernel
theorem dJ3_ensureCapacityInternal_18 : decode cJ3_ensureCapacityInternal 18 = .ok (.aload_n 0, 1) := by decide +kernel
theorem dJ3_ensureCapacityInternal_19 : decode cJ3_ensureCapacityInternal 19 = .ok (.getfield 15, 3) := by decide +kernel
theorem dJ3_ensureCapacityInternal_22 : decode cJ3_ensureCapacityInternal 22 = .ok (.aload_n 0, 1) := by decide +kernel
theorem dJ3_ensureCapacityInternal_23 : decode cJ3_ensureCapacityInternal 23 = .ok (.iload_n 1, 1) := by decide +kernel
theorem dJ3_ensureCapacityInternal_24 : decode cJ3_ensureCapacityInternal 24 = .ok (.invokevirtual 104, 3) := by decide +kernel
theorem dJ3_ensureCapacityInternal_27 : decode cJ3_ensureCapacityInternal 27 = .ok (.aload_n 0, 1) := by decide +kernel
theorem dJ3_ensureCapacityInternal_28 : decode cJ3_ensureCapacityInternal 28 = .ok (.getfield 22, 3) := by decide +kernel
theorem dJ3_ensureCapacityInternal_31 : decode cJ3_ensureCapacityInternal 31 = .ok (.ishl, 1) := by decide +kernel
theorem dJ3_ensureCapacityInternal_32 : decode cJ3_ensureCapacityInternal 32 = .ok (.invokestatic 108, 3) := by decide +kernel
theorem dJ3_ensureCapacityInternal_35 : decode cJ3_ensureCapacityInternal 35 = .ok (.putfield 15, 3) := by decide +kernel
theorem dJ3_ensureCapacityInternal_38 : decode cJ3_ensureCapacityInternal 38 = .ok (.return_, 1) := by decide +kernel
abbrev cJ3_newCapacity : ByteArray := prog_11_method_10_code
def yJ3_newCapacity : MethodName := ⟨RJ3, "newCapacity", "(I)I"⟩
theorem dJ3_newCapacity_0 : decode cJ3_newCapacity 0 = .ok (.aload_n 0, 1) := by decide +kernel
theorem dJ3_newCapacity_1 : decode cJ3_newCapacity 1 = .ok (.getfield 15, 3) := by decide +kernel
theorem dJ3_newCapacity_4 : decode cJ3_newCapacity 4 = .ok (.arraylength, 1) := by decide +kernel
theorem dJ3_newCapacity_5 : decode cJ3_newCapacity 5 = .ok (.istore_n 2, 1) := by decide +kernel
theorem dJ3_newCapacity_6 : decode cJ3_newCapacity 6 = .ok (.iload_n 1, 1) := by decide +kernel
theorem dJ3_newCapacity_7 : decode cJ3_newCapacity 7 = .ok (.aload_n 0, 1) := by decide +kernel
theorem dJ3_newCapacity_8 : decode cJ3_newCapacity 8 = .ok (.getfield 22, 3) := by decide +kernel
theorem dJ3_newCapacity_11 : decode cJ3_newCapacity 11 = .ok (.ishl, 1) := by decide +kernel
theorem dJ3_newCapacity_12 : decode cJ3_newCapacity 12 = .ok (.istore_n 3, 1) := by decide +kernel
theorem dJ3_newCapacity_13 : decode cJ3_newCapacity 13 = .ok (.iload_n 3, 1) := by decide +kernel
theorem dJ3_newCapacity_14 : decode cJ3_newCapacity 14 = .ok (.iload_n 2, 1) := by decide +kernel
theorem dJ3_newCapacity_15 : decode cJ3_newCapacity 15 = .ok (.isub, 1) := by decide +kernel
theorem dJ3_newCapacity_16 : decode cJ3_newCapacity 16 = .ok (.istore 4, 2) := by decide +kernel
theorem dJ3_newCapacity_18 : decode cJ3_newCapacity 18 = .ok (.iload_n 2, 1) := by decide +kernel
theorem dJ3_newCapacity_19 : decode cJ3_newCapacity 19 = .ok (.iload 4, 2) := by decide +kernel
theorem dJ3_newCapacity_21 : decode cJ3_newCapacity 21 = .ok (.iload_n 2, 1) := by decide +kernel
theorem dJ3_newCapacity_22 : decode cJ3_newCapacity 22 = .ok (.iconst 2, 1) := by decide +kernel
theorem dJ3_newCapacity_23 : decode cJ3_newCapacity 23 = .ok (.aload_n 0, 1) := by decide +kernel
theorem dJ3_newCapacity_24 : decode cJ3_newCapacity 24 = .ok (.getfield 22, 3) := by decide +kernel
theorem dJ3_newCapacity_27 : decode cJ3_newCapacity 27 = .ok (.ishl, 1) := by decide +kernel
theorem dJ3_newCapacity_28 : decode cJ3_newCapacity 28 = .ok (.iadd, 1) := by decide +kernel
theorem dJ3_newCapacity_29 : decode cJ3_newCapacity 29 = .ok (.invokestatic 114, 3) := by decide +kernel
theorem dJ3_newCapacity_32 : decode cJ3_newCapacity 32 = .ok (.istore 5, 2) := by decide +kernel
theorem dJ3_newCapacity_34 : decode cJ3_newCapacity 34 = .ok (.iload 5, 2) := by decide +kernel
theorem dJ3_newCapacity_36 : decode cJ3_newCapacity 36 = .ok (.ldc 39, 2) := by decide +kernel
theorem dJ3_newCapacity_38 : decode cJ3_newCapacity 38 = .ok (.if_icmp .ne 13, 3) := by decide +kernel
theorem dJ3_newCapacity_41 : decode cJ3_newCapacity 41 = .ok (.new 120, 3) := by decide +kernel
theorem dJ3_newCapacity_44 : decode cJ3_newCapacity 44 = .ok (.dup, 1) := by decide +kernel
theorem dJ3_newCapacity_45 : decode cJ3_newCapacity 45 = .ok (.ldc 122, 2) := by decide +kernel
theorem dJ3_newCapacity_47 : decode cJ3_newCapacity 47 = .ok (.invokespecial 124, 3) := by decide +kernel
theorem dJ3_newCapacity_50 : decode cJ3_newCapacity 50 = .ok (.athrow, 1) := by decide +kernel
theorem dJ3_newCapacity_51 : decode cJ3_newCapacity 51 = .ok (.iload 5, 2) := by decide +kernel
theorem dJ3_newCapacity_53 : decode cJ3_newCapacity 53 = .ok (.aload_n 0, 1) := by decide +kernel
theorem dJ3_newCapacity_54 : decode cJ3_newCapacity 54 = .ok (.getfield 22, 3) := by decide +kernel
theorem dJ3_newCapacity_57 : decode cJ3_newCapacity 57 = .ok (.ishr, 1) := by decide +kernel
theorem dJ3_newCapacity_58 : decode cJ3_newCapacity 58 = .ok (.ireturn, 1) := by decide +kernel
abbrev cJ3_isLatin1 : ByteArray := prog_11_method_68_code
def yJ3_isLatin1 : MethodName := ⟨RJ3, "isLatin1", "()Z"⟩
theorem dJ3_isLatin1_0 : decode cJ3_isLatin1 0 = .ok (.getstatic 18, 3) := by decide +kernel
theorem dJ3_isLatin1_3 : decode cJ3_isLatin1 3 = .ok (.ifCond .eq 14, 3) := by decide +kernel
theorem dJ3_isLatin1_6 : decode cJ3_isLatin1 6 = .ok (.aload_n 0, 1) := by decide +kernel
theorem dJ3_isLatin1_7 : decode cJ3_isLatin1 7 = .ok (.getfield 22, 3) := by decide +kernel
theorem dJ3_isLatin1_10 : decode cJ3_isLatin1 10 = .ok (.ifCond .ne 7, 3) := by decide +kernel
theorem dJ3_isLatin1_13 : decode cJ3_isLatin1 13 = .ok (.iconst 1, 1) := by decide +kernel
theorem dJ3_isLatin1_14 : decode cJ3_isLatin1 14 = .ok (.goto 4, 3) := by decide +kernel
theorem dJ3_isLatin1_17 : decode cJ3_isLatin1 17 = .ok (.iconst 0, 1) := by decide +kernel
theorem dJ3_isLatin1_18 : decode cJ3_isLatin1 18 = .ok (.ireturn, 1) := by decide +kernel
abbrev cJ3_append : ByteArray := prog_11_method_31_code
def yJ3_append : MethodName := ⟨RJ3, "append", "(C)Ljava/lang/AbstractStringBuilder;"⟩
theorem dJ3_append_0 : decode cJ3_append 0 = .ok (.aload_n 0, 1) := by decide +kernel
theorem dJ3_append_1 : decode cJ3_append 1 = .ok (.aload_n 0, 1) := by decide +kernel
theorem dJ3_append_2 : decode cJ3_append 2 = .ok (.getfield 79, 3) := by decide +kernel
theorem dJ3_append_5 : decode cJ3_append 5 = .ok (.iconst 1, 1) := by decide +kernel
theorem dJ3_append_6 : decode cJ3_append 6 = .ok (.iadd, 1) := by decide +kernel
theorem dJ3_append_7 : decode cJ3_append 7 = .ok (.invokevirtual 100, 3) := by decide +kernel
theorem dJ3_append_10 : decode cJ3_append 10 = .ok (.aload_n 0, 1) := by decide +kernel
theorem dJ3_append_11 : decode cJ3_append 11 = .ok (.invokevirtual 83, 3) := by decide +kernel
theorem dJ3_append_14 : decode cJ3_append 14 = .ok (.ifCond .eq 31, 3) := by decide +kernel
theorem dJ3_append_17 : decode cJ3_append 17 = .ok (.iload_n 1, 1) := by decide +kernel
theorem dJ3_append_18 : decode cJ3_append 18 = .ok (.invokestatic 191, 3) := by decide +kernel
theorem dJ3_append_21 : decode cJ3_append 21 = .ok (.ifCond .eq 24, 3) := by decide +kernel
theorem dJ3_append_24 : decode cJ3_append 24 = .ok (.aload_n 0, 1) := by decide +kernel
theorem dJ3_append_25 : decode cJ3_append 25 = .ok (.getfield 15, 3) := by decide +kernel
theorem dJ3_append_28 : decode cJ3_append 28 = .ok (.aload_n 0, 1) := by decide +kernel
theorem dJ3_append_29 : decode cJ3_append 29 = .ok (.dup, 1) := by decide +kernel
theorem dJ3_append_30 : decode cJ3_append 30 = .ok (.getfield 79, 3) := by decide +kernel
theorem dJ3_append_33 : decode cJ3_append 33 = .ok (.dup_x1, 1) := by decide +kernel
theorem dJ3_append_34 : decode cJ3_append 34 = .ok (.iconst 1, 1) := by decide +kernel
theorem dJ3_append_35 : decode cJ3_append 35 = .ok (.iadd, 1) := by decide +kernel
theorem dJ3_append_36 : decode cJ3_append 36 = .ok (.putfield 79, 3) := by decide +kernel
theorem dJ3_append_39 : decode cJ3_append 39 = .ok (.iload_n 1, 1) := by decide +kernel
theorem dJ3_append_40 : decode cJ3_append 40 = .ok (.i2b, 1) := by decide +kernel
theorem dJ3_append_41 : decode cJ3_append 41 = .ok (.bastore, 1) := by decide +kernel
theorem dJ3_append_42 : decode cJ3_append 42 = .ok (.goto 33, 3) := by decide +kernel
theorem dJ3_append_45 : decode cJ3_append 45 = .ok (.aload_n 0, 1) := by decide +kernel
theorem dJ3_append_46 : decode cJ3_append 46 = .ok (.invokevirtual 83, 3) := by decide +kernel
theorem dJ3_append_49 : decode cJ3_append 49 = .ok (.ifCond .eq 7, 3) := by decide +kernel
theorem dJ3_append_52 : decode cJ3_append 52 = .ok (.aload_n 0, 1) := by decide +kernel
theorem dJ3_append_53 : decode cJ3_append 53 = .ok (.invokevirtual 195, 3) := by decide +kernel
theorem dJ3_append_56 : decode cJ3_append 56 = .ok (.aload_n 0, 1) := by decide +kernel
theorem dJ3_append_57 : decode cJ3_append 57 = .ok (.getfield 15, 3) := by decide +kernel
theorem dJ3_append_60 : decode cJ3_append 60 = .ok (.aload_n 0, 1) := by decide +kernel
theorem dJ3_append_61 : decode cJ3_append 61 = .ok (.dup, 1) := by decide +kernel
theorem dJ3_append_62 : decode cJ3_append 62 = .ok (.getfield 79, 3) := by decide +kernel
theorem dJ3_append_65 : decode cJ3_append 65 = .ok (.dup_x1, 1) := by decide +kernel
theorem dJ3_append_66 : decode cJ3_append 66 = .ok (.iconst 1, 1) := by decide +kernel
theorem dJ3_append_67 : decode cJ3_append 67 = .ok (.iadd, 1) := by decide +kernel
theorem dJ3_append_68 : decode cJ3_append 68 = .ok (.putfield 79, 3) := by decide +kernel
theorem dJ3_append_71 : decode cJ3_append 71 = .ok (.iload_n 1, 1) := by decide +kernel
theorem dJ3_append_72 : decode cJ3_append 72 = .ok (.invokestatic 197, 3) := by decide +kernel
theorem dJ3_append_75 : decode cJ3_append 75 = .ok (.aload_n 0, 1) := by decide +kernel
theorem dJ3_append_76 : decode cJ3_append 76 = .ok (.areturn, 1) := by decide +kernel
abbrev cJ3_inflate : ByteArray := prog_11_method_11_code
def yJ3_inflate : MethodName := ⟨RJ3, "inflate", "()V"⟩
theorem dJ3_inflate_0 : decode cJ3_inflate 0 = .ok (.aload_n 0, 1) := by decide +kernel
theorem dJ3_inflate_1 : decode cJ3_inflate 1 = .ok (.invokevirtual 83, 3) := by decide +kernel
theorem dJ3_inflate_4 : decode cJ3_inflate 4 = .ok (.ifCond .ne 4, 3) := by decide +kernel
theorem dJ3_inflate_7 : decode cJ3_inflate 7 = .ok (.return_, 1) := by decide +kernel
theorem dJ3_inflate_8 : decode cJ3_inflate 8 = .ok (.aload_n 0, 1) := by decide +kernel
theorem dJ3_inflate_9 : decode cJ3_inflate 9 = .ok (.getfield 15, 3) := by decide +kernel
theorem dJ3_inflate_12 : decode cJ3_inflate 12 = .ok (.arraylength, 1) := by decide +kernel
theorem dJ3_inflate_13 : decode cJ3_inflate 13 = .ok (.invokestatic 26, 3) := by decide +kernel
theorem dJ3_inflate_16 : decode cJ3_inflate 16 = .ok (.astore_n 1, 1) := by decide +kernel
theorem dJ3_inflate_17 : decode cJ3_inflate 17 = .ok (.aload_n 0, 1) := by decide +kernel
theorem dJ3_inflate_18 : decode cJ3_inflate 18 = .ok (.getfield 15, 3) := by decide +kernel
theorem dJ3_inflate_21 : decode cJ3_inflate 21 = .ok (.iconst 0, 1) := by decide +kernel
theorem dJ3_inflate_22 : decode cJ3_inflate 22 = .ok (.aload_n 1, 1) := by decide +kernel
theorem dJ3_inflate_23 : decode cJ3_inflate 23 = .ok (.iconst 0, 1) := by decide +kernel
theorem dJ3_inflate_24 : decode cJ3_inflate 24 = .ok (.aload_n 0, 1) := by decide +kernel
theorem dJ3_inflate_25 : decode cJ3_inflate 25 = .ok (.getfield 79, 3) := by decide +kernel
theorem dJ3_inflate_28 : decode cJ3_inflate 28 = .ok (.invokestatic 125, 3) := by decide +kernel
theorem dJ3_inflate_31 : decode cJ3_inflate 31 = .ok (.aload_n 0, 1) := by decide +kernel
theorem dJ3_inflate_32 : decode cJ3_inflate 32 = .ok (.aload_n 1, 1) := by decide +kernel
theorem dJ3_inflate_33 : decode cJ3_inflate 33 = .ok (.putfield 15, 3) := by decide +kernel
theorem dJ3_inflate_36 : decode cJ3_inflate 36 = .ok (.aload_n 0, 1) := by decide +kernel
theorem dJ3_inflate_37 : decode cJ3_inflate 37 = .ok (.iconst 1, 1) := by decide +kernel
theorem dJ3_inflate_38 : decode cJ3_inflate 38 = .ok (.putfield 22, 3) := by decide +kernel
theorem dJ3_inflate_41 : decode cJ3_inflate 41 = .ok (.return_, 1) := by decide +kernel
abbrev cJ3_length : ByteArray := prog_11_method_6_code
def yJ3_length : MethodName := ⟨RJ3, "length", "()I"⟩
theorem dJ3_length_0 : decode cJ3_length 0 = .ok (.aload_n 0, 1) := by decide +kernel
theorem dJ3_length_1 : decode cJ3_length 1 = .ok (.getfield 79, 3) := by decide +kernel
theorem dJ3_length_4 : decode cJ3_length 4 = .ok (.ireturn, 1) := by decide +kernel
abbrev cJ3_setCharAt : ByteArray := prog_11_method_20_code
def yJ3_setCharAt : MethodName := ⟨RJ3, "setCharAt", "(IC)V"⟩
theorem dJ3_setCharAt_0 : decode cJ3_setCharAt 0 = .ok (.iload_n 1, 1) := by decide +kernel
theorem dJ3_setCharAt_1 : decode cJ3_setCharAt 1 = .ok (.aload_n 0, 1) := by decide +kernel
theorem dJ3_setCharAt_2 : decode cJ3_setCharAt 2 = .ok (.getfield 79, 3) := by decide +kernel
theorem dJ3_setCharAt_5 : decode cJ3_setCharAt 5 = .ok (.invokestatic 144, 3) := by decide +kernel
theorem dJ3_setCharAt_8 : decode cJ3_setCharAt 8 = .ok (.aload_n 0, 1) := by decide +kernel
theorem dJ3_setCharAt_9 : decode cJ3_setCharAt 9 = .ok (.invokevirtual 83, 3) := by decide +kernel
theorem dJ3_setCharAt_12 : decode cJ3_setCharAt 12 = .ok (.ifCond .eq 21, 3) := by decide +kernel
theorem dJ3_setCharAt_15 : decode cJ3_setCharAt 15 = .ok (.iload_n 2, 1) := by decide +kernel
theorem dJ3_setCharAt_16 : decode cJ3_setCharAt 16 = .ok (.invokestatic 191, 3) := by decide +kernel
theorem dJ3_setCharAt_19 : decode cJ3_setCharAt 19 = .ok (.ifCond .eq 14, 3) := by decide +kernel
theorem dJ3_setCharAt_22 : decode cJ3_setCharAt 22 = .ok (.aload_n 0, 1) := by decide +kernel
theorem dJ3_setCharAt_23 : decode cJ3_setCharAt 23 = .ok (.getfield 15, 3) := by decide +kernel
theorem dJ3_setCharAt_26 : decode cJ3_setCharAt 26 = .ok (.iload_n 1, 1) := by decide +kernel
theorem dJ3_setCharAt_27 : decode cJ3_setCharAt 27 = .ok (.iload_n 2, 1) := by decide +kernel
theorem dJ3_setCharAt_28 : decode cJ3_setCharAt 28 = .ok (.i2b, 1) := by decide +kernel
theorem dJ3_setCharAt_29 : decode cJ3_setCharAt 29 = .ok (.bastore, 1) := by decide +kernel
theorem dJ3_setCharAt_30 : decode cJ3_setCharAt 30 = .ok (.goto 28, 3) := by decide +kernel
theorem dJ3_setCharAt_33 : decode cJ3_setCharAt 33 = .ok (.aload_n 0, 1) := by decide +kernel
theorem dJ3_setCharAt_34 : decode cJ3_setCharAt 34 = .ok (.invokevirtual 83, 3) := by decide +kernel
theorem dJ3_setCharAt_37 : decode cJ3_setCharAt 37 = .ok (.ifCond .eq 7, 3) := by decide +kernel
theorem dJ3_setCharAt_40 : decode cJ3_setCharAt 40 = .ok (.aload_n 0, 1) := by decide +kernel
theorem dJ3_setCharAt_41 : decode cJ3_setCharAt 41 = .ok (.invokevirtual 195, 3) := by decide +kernel
theorem dJ3_setCharAt_44 : decode cJ3_setCharAt 44 = .ok (.aload_n 0, 1) := by decide +kernel
theorem dJ3_setCharAt_45 : decode cJ3_setCharAt 45 = .ok (.getfield 15, 3) := by decide +kernel
theorem dJ3_setCharAt_48 : decode cJ3_setCharAt 48 = .ok (.iload_n 1, 1) := by decide +kernel
theorem dJ3_setCharAt_49 : decode cJ3_setCharAt 49 = .ok (.iload_n 2, 1) := by decide +kernel
theorem dJ3_setCharAt_50 : decode cJ3_setCharAt 50 = .ok (.invokestatic 197, 3) := by decide +kernel
theorem dJ3_setCharAt_53 : decode cJ3_setCharAt 53 = .ok (.aload_n 0, 1) := by decide +kernel
theorem dJ3_setCharAt_54 : decode cJ3_setCharAt 54 = .ok (.iconst 1, 1) := by decide +kernel
theorem dJ3_setCharAt_55 : decode cJ3_setCharAt 55 = .ok (.putfield 73, 3) := by decide +kernel
theorem dJ3_setCharAt_58 : decode cJ3_setCharAt 58 = .ok (.return_, 1) := by decide +kernel
abbrev cJ3_getValue : ByteArray := prog_11_method_64_code
def yJ3_getValue : MethodName := ⟨RJ3, "getValue", "()[B"⟩
theorem dJ3_getValue_0 : decode cJ3_getValue 0 = .ok (.aload_n 0, 1) := by decide +kernel
theorem dJ3_getValue_1 : decode cJ3_getValue 1 = .ok (.getfield 15, 3) := by decide +kernel
theorem dJ3_getValue_4 : decode cJ3_getValue 4 = .ok (.areturn, 1) := by decide +kernel
abbrev cJ3_append_2 : ByteArray := prog_11_method_22_code
def yJ3_append_2 : MethodName := ⟨RJ3, "append", "(Ljava/lang/String;)Ljava/lang/AbstractStringBuilder;"⟩
theorem dJ3_append_2_0 : decode cJ3_append_2 0 = .ok (.aload_n 1, 1) := by decide +kernel
theorem dJ3_append_2_1 : decode cJ3_append_2 1 = .ok (.ifnonnull 8, 3) := by decide +kernel
theorem dJ3_append_2_4 : decode cJ3_append_2 4 = .ok (.aload_n 0, 1) := by decide +kernel
theorem dJ3_append_2_5 : decode cJ3_append_2 5 = .ok (.invokevirtual 204, 3) := by decide +kernel
theorem dJ3_append_2_8 : decode cJ3_append_2 8 = .ok (.areturn, 1) := by decide +kernel
theorem dJ3_append_2_9 : decode cJ3_append_2 9 = .ok (.aload_n 1, 1) := by decide +kernel
theorem dJ3_append_2_10 : decode cJ3_append_2 10 = .ok (.invokevirtual 32, 3) := by decide +kernel
theorem dJ3_append_2_13 : decode cJ3_append_2 13 = .ok (.istore_n 2, 1) := by decide +kernel
theorem dJ3_append_2_14 : decode cJ3_append_2 14 = .ok (.aload_n 0, 1) := by decide +kernel
theorem dJ3_append_2_15 : decode cJ3_append_2 15 = .ok (.aload_n 0, 1) := by decide +kernel
theorem dJ3_append_2_16 : decode cJ3_append_2 16 = .ok (.getfield 79, 3) := by decide +kernel
theorem dJ3_append_2_19 : decode cJ3_append_2 19 = .ok (.iload_n 2, 1) := by decide +kernel
theorem dJ3_append_2_20 : decode cJ3_append_2 20 = .ok (.iadd, 1) := by decide +kernel
theorem dJ3_append_2_21 : decode cJ3_append_2 21 = .ok (.invokevirtual 100, 3) := by decide +kernel
theorem dJ3_append_2_24 : decode cJ3_append_2 24 = .ok (.aload_n 0, 1) := by decide +kernel
theorem dJ3_append_2_25 : decode cJ3_append_2 25 = .ok (.aload_n 0, 1) := by decide +kernel
theorem dJ3_append_2_26 : decode cJ3_append_2 26 = .ok (.getfield 79, 3) := by decide +kernel
theorem dJ3_append_2_29 : decode cJ3_append_2 29 = .ok (.aload_n 1, 1) := by decide +kernel
theorem dJ3_append_2_30 : decode cJ3_append_2 30 = .ok (.invokevirtual 208, 3) := by decide +kernel
theorem dJ3_append_2_33 : decode cJ3_append_2 33 = .ok (.aload_n 0, 1) := by decide +kernel
theorem dJ3_append_2_34 : decode cJ3_append_2 34 = .ok (.dup, 1) := by decide +kernel
theorem dJ3_append_2_35 : decode cJ3_append_2 35 = .ok (.getfield 79, 3) := by decide +kernel
theorem dJ3_append_2_38 : decode cJ3_append_2 38 = .ok (.iload_n 2, 1) := by decide +kernel
theorem dJ3_append_2_39 : decode cJ3_append_2 39 = .ok (.iadd, 1) := by decide +kernel
theorem dJ3_append_2_40 : decode cJ3_append_2 40 = .ok (.putfield 79, 3) := by decide +kernel
theorem dJ3_append_2_43 : decode cJ3_append_2 43 = .ok (.aload_n 0, 1) := by decide +kernel
theorem dJ3_append_2_44 : decode cJ3_append_2 44 = .ok (.areturn, 1) := by decide +kernel
abbrev cJ3_appendNull : ByteArray := prog_11_method_26_code
def yJ3_appendNull : MethodName := ⟨RJ3, "appendNull", "()Ljava/lang/AbstractStringBuilder;"⟩
theorem dJ3_appendNull_0 : decode cJ3_appendNull 0 = .ok (.aload_n 0, 1) := by decide +kernel
theorem dJ3_appendNull_1 : decode cJ3_appendNull 1 = .ok (.aload_n 0, 1) := by decide +kernel
theorem dJ3_appendNull_2 : decode cJ3_appendNull 2 = .ok (.getfield 79, 3) := by decide +kernel
theorem dJ3_appendNull_5 : decode cJ3_appendNull 5 = .ok (.iconst 4, 1) := by decide +kernel
theorem dJ3_appendNull_6 : decode cJ3_appendNull 6 = .ok (.iadd, 1) := by decide +kernel
theorem dJ3_appendNull_7 : decode cJ3_appendNull 7 = .ok (.invokevirtual 100, 3) := by decide +kernel
theorem dJ3_appendNull_10 : decode cJ3_appendNull 10 = .ok (.aload_n 0, 1) := by decide +kernel
theorem dJ3_appendNull_11 : decode cJ3_appendNull 11 = .ok (.getfield 79, 3) := by decide +kernel
theorem dJ3_appendNull_14 : decode cJ3_appendNull 14 = .ok (.istore_n 1, 1) := by decide +kernel
theorem dJ3_appendNull_15 : decode cJ3_appendNull 15 = .ok (.aload_n 0, 1) := by decide +kernel
theorem dJ3_appendNull_16 : decode cJ3_appendNull 16 = .ok (.getfield 15, 3) := by decide +kernel
theorem dJ3_appendNull_19 : decode cJ3_appendNull 19 = .ok (.astore_n 2, 1) := by decide +kernel
theorem dJ3_appendNull_20 : decode cJ3_appendNull 20 = .ok (.aload_n 0, 1) := by decide +kernel
theorem dJ3_appendNull_21 : decode cJ3_appendNull 21 = .ok (.invokevirtual 83, 3) := by decide +kernel
theorem dJ3_appendNull_24 : decode cJ3_appendNull 24 = .ok (.ifCond .eq 38, 3) := by decide +kernel
theorem dJ3_appendNull_27 : decode cJ3_appendNull 27 = .ok (.aload_n 2, 1) := by decide +kernel
theorem dJ3_appendNull_28 : decode cJ3_appendNull 28 = .ok (.iload_n 1, 1) := by decide +kernel
theorem dJ3_appendNull_29 : decode cJ3_appendNull 29 = .ok (.iinc 1 1, 3) := by decide +kernel
theorem dJ3_appendNull_32 : decode cJ3_appendNull 32 = .ok (.bipush 110, 2) := by decide +kernel
theorem dJ3_appendNull_34 : decode cJ3_appendNull 34 = .ok (.bastore, 1) := by decide +kernel
theorem dJ3_appendNull_35 : decode cJ3_appendNull 35 = .ok (.aload_n 2, 1) := by decide +kernel
theorem dJ3_appendNull_36 : decode cJ3_appendNull 36 = .ok (.iload_n 1, 1) := by decide +kernel
theorem dJ3_appendNull_37 : decode cJ3_appendNull 37 = .ok (.iinc 1 1, 3) := by decide +kernel
theorem dJ3_appendNull_40 : decode cJ3_appendNull 40 = .ok (.bipush 117, 2) := by decide +kernel
theorem dJ3_appendNull_42 : decode cJ3_appendNull 42 = .ok (.bastore, 1) := by decide +kernel
theorem dJ3_appendNull_43 : decode cJ3_appendNull 43 = .ok (.aload_n 2, 1) := by decide +kernel
theorem dJ3_appendNull_44 : decode cJ3_appendNull 44 = .ok (.iload_n 1, 1) := by decide +kernel
theorem dJ3_appendNull_45 : decode cJ3_appendNull 45 = .ok (.iinc 1 1, 3) := by decide +kernel
theorem dJ3_appendNull_48 : decode cJ3_appendNull 48 = .ok (.bipush 108, 2) := by decide +kernel
theorem dJ3_appendNull_50 : decode cJ3_appendNull 50 = .ok (.bastore, 1) := by decide +kernel
theorem dJ3_appendNull_51 : decode cJ3_appendNull 51 = .ok (.aload_n 2, 1) := by decide +kernel
theorem dJ3_appendNull_52 : decode cJ3_appendNull 52 = .ok (.iload_n 1, 1) := by decide +kernel
theorem dJ3_appendNull_53 : decode cJ3_appendNull 53 = .ok (.iinc 1 1, 3) := by decide +kernel
theorem dJ3_appendNull_56 : decode cJ3_appendNull 56 = .ok (.bipush 108, 2) := by decide +kernel
theorem dJ3_appendNull_58 : decode cJ3_appendNull 58 = .ok (.bastore, 1) := by decide +kernel
theorem dJ3_appendNull_59 : decode cJ3_appendNull 59 = .ok (.goto 17, 3) := by decide +kernel
theorem dJ3_appendNull_62 : decode cJ3_appendNull 62 = .ok (.aload_n 2, 1) := by decide +kernel
theorem dJ3_appendNull_63 : decode cJ3_appendNull 63 = .ok (.iload_n 1, 1) := by decide +kernel
theorem dJ3_appendNull_64 : decode cJ3_appendNull 64 = .ok (.bipush 110, 2) := by decide +kernel
theorem dJ3_appendNull_66 : decode cJ3_appendNull 66 = .ok (.bipush 117, 2) := by decide +kernel
theorem dJ3_appendNull_68 : decode cJ3_appendNull 68 = .ok (.bipush 108, 2) := by decide +kernel
theorem dJ3_appendNull_70 : decode cJ3_appendNull 70 = .ok (.bipush 108, 2) := by decide +kernel
theorem dJ3_appendNull_72 : decode cJ3_appendNull 72 = .ok (.invokestatic 226, 3) := by decide +kernel
theorem dJ3_appendNull_75 : decode cJ3_appendNull 75 = .ok (.istore_n 1, 1) := by decide +kernel
theorem dJ3_appendNull_76 : decode cJ3_appendNull 76 = .ok (.aload_n 0, 1) := by decide +kernel
theorem dJ3_appendNull_77 : decode cJ3_appendNull 77 = .ok (.iload_n 1, 1) := by decide +kernel
theorem dJ3_appendNull_78 : decode cJ3_appendNull 78 = .ok (.putfield 79, 3) := by decide +kernel
theorem dJ3_appendNull_81 : decode cJ3_appendNull 81 = .ok (.aload_n 0, 1) := by decide +kernel
theorem dJ3_appendNull_82 : decode cJ3_appendNull 82 = .ok (.areturn, 1) := by decide +kernel
abbrev cJ3_putStringAt : ByteArray := prog_11_method_73_code
def yJ3_putStringAt : MethodName := ⟨RJ3, "putStringAt", "(ILjava/lang/String;)V"⟩
theorem dJ3_putStringAt_0 : decode cJ3_putStringAt 0 = .ok (.aload_n 0, 1) := by decide +kernel
theorem dJ3_putStringAt_1 : decode cJ3_putStringAt 1 = .ok (.aload_n 2, 1) := by decide +kernel
theorem dJ3_putStringAt_2 : decode cJ3_putStringAt 2 = .ok (.invokevirtual 397, 3) := by decide +kernel
theorem dJ3_putStringAt_5 : decode cJ3_putStringAt 5 = .ok (.aload_n 2, 1) := by decide +kernel
theorem dJ3_putStringAt_6 : decode cJ3_putStringAt 6 = .ok (.aload_n 0, 1) := by decide +kernel
theorem dJ3_putStringAt_7 : decode cJ3_putStringAt 7 = .ok (.getfield 15, 3) := by decide +kernel
theorem dJ3_putStringAt_10 : decode cJ3_putStringAt 10 = .ok (.iload_n 1, 1) := by decide +kernel
theorem dJ3_putStringAt_11 : decode cJ3_putStringAt 11 = .ok (.aload_n 0, 1) := by decide +kernel
theorem dJ3_putStringAt_12 : decode cJ3_putStringAt 12 = .ok (.getfield 22, 3) := by decide +kernel
theorem dJ3_putStringAt_15 : decode cJ3_putStringAt 15 = .ok (.invokevirtual 399, 3) := by decide +kernel
theorem dJ3_putStringAt_18 : decode cJ3_putStringAt 18 = .ok (.return_, 1) := by decide +kernel
abbrev cJ3_inflateIfNeededFor : ByteArray := prog_11_method_71_code
def yJ3_inflateIfNeededFor : MethodName := ⟨RJ3, "inflateIfNeededFor", "(Ljava/lang/String;)V"⟩
theorem dJ3_inflateIfNeededFor_0 : decode cJ3_inflateIfNeededFor 0 = .ok (.getstatic 18, 3) := by decide +kernel
theorem dJ3_inflateIfNeededFor_3 : decode cJ3_inflateIfNeededFor 3 = .ok (.ifCond .eq 18, 3) := by decide +kernel
theorem dJ3_inflateIfNeededFor_6 : decode cJ3_inflateIfNeededFor 6 = .ok (.aload_n 0, 1) := by decide +kernel
theorem dJ3_inflateIfNeededFor_7 : decode cJ3_inflateIfNeededFor 7 = .ok (.getfield 22, 3) := by decide +kernel
theorem dJ3_inflateIfNeededFor_10 : decode cJ3_inflateIfNeededFor 10 = .ok (.aload_n 1, 1) := by decide +kernel
theorem dJ3_inflateIfNeededFor_11 : decode cJ3_inflateIfNeededFor 11 = .ok (.invokevirtual 40, 3) := by decide +kernel
theorem dJ3_inflateIfNeededFor_14 : decode cJ3_inflateIfNeededFor 14 = .ok (.if_icmp .eq 7, 3) := by decide +kernel
theorem dJ3_inflateIfNeededFor_17 : decode cJ3_inflateIfNeededFor 17 = .ok (.aload_n 0, 1) := by decide +kernel
theorem dJ3_inflateIfNeededFor_18 : decode cJ3_inflateIfNeededFor 18 = .ok (.invokevirtual 195, 3) := by decide +kernel
theorem dJ3_inflateIfNeededFor_21 : decode cJ3_inflateIfNeededFor 21 = .ok (.return_, 1) := by decide +kernel
abbrev cJ3_charAt : ByteArray := prog_11_method_14_code
def yJ3_charAt : MethodName := ⟨RJ3, "charAt", "(I)C"⟩
theorem dJ3_charAt_0 : decode cJ3_charAt 0 = .ok (.aload_n 0, 1) := by decide +kernel
theorem dJ3_charAt_1 : decode cJ3_charAt 1 = .ok (.getfield 22, 3) := by decide +kernel
theorem dJ3_charAt_4 : decode cJ3_charAt 4 = .ok (.istore_n 2, 1) := by decide +kernel
theorem dJ3_charAt_5 : decode cJ3_charAt 5 = .ok (.aload_n 0, 1) := by decide +kernel
theorem dJ3_charAt_6 : decode cJ3_charAt 6 = .ok (.getfield 15, 3) := by decide +kernel
theorem dJ3_charAt_9 : decode cJ3_charAt 9 = .ok (.astore_n 3, 1) := by decide +kernel
theorem dJ3_charAt_10 : decode cJ3_charAt 10 = .ok (.aload_n 0, 1) := by decide +kernel
theorem dJ3_charAt_11 : decode cJ3_charAt 11 = .ok (.getfield 79, 3) := by decide +kernel
theorem dJ3_charAt_14 : decode cJ3_charAt 14 = .ok (.aload_n 3, 1) := by decide +kernel
theorem dJ3_charAt_15 : decode cJ3_charAt 15 = .ok (.arraylength, 1) := by decide +kernel
theorem dJ3_charAt_16 : decode cJ3_charAt 16 = .ok (.iload_n 2, 1) := by decide +kernel
theorem dJ3_charAt_17 : decode cJ3_charAt 17 = .ok (.ishr, 1) := by decide +kernel
theorem dJ3_charAt_18 : decode cJ3_charAt 18 = .ok (.invokestatic 138, 3) := by decide +kernel
theorem dJ3_charAt_21 : decode cJ3_charAt 21 = .ok (.istore 4, 2) := by decide +kernel
theorem dJ3_charAt_23 : decode cJ3_charAt 23 = .ok (.iload_n 1, 1) := by decide +kernel
theorem dJ3_charAt_24 : decode cJ3_charAt 24 = .ok (.iload 4, 2) := by decide +kernel
theorem dJ3_charAt_26 : decode cJ3_charAt 26 = .ok (.invokestatic 144, 3) := by decide +kernel
theorem dJ3_charAt_29 : decode cJ3_charAt 29 = .ok (.iload_n 2, 1) := by decide +kernel
theorem dJ3_charAt_30 : decode cJ3_charAt 30 = .ok (.ifCond .ne 12, 3) := by decide +kernel
theorem dJ3_charAt_33 : decode cJ3_charAt 33 = .ok (.aload_n 3, 1) := by decide +kernel
theorem dJ3_charAt_34 : decode cJ3_charAt 34 = .ok (.iload_n 1, 1) := by decide +kernel
theorem dJ3_charAt_35 : decode cJ3_charAt 35 = .ok (.baload, 1) := by decide +kernel
theorem dJ3_charAt_36 : decode cJ3_charAt 36 = .ok (.sipush 255, 3) := by decide +kernel
theorem dJ3_charAt_39 : decode cJ3_charAt 39 = .ok (.iand, 1) := by decide +kernel
theorem dJ3_charAt_40 : decode cJ3_charAt 40 = .ok (.i2c, 1) := by decide +kernel
theorem dJ3_charAt_41 : decode cJ3_charAt 41 = .ok (.ireturn, 1) := by decide +kernel
theorem dJ3_charAt_42 : decode cJ3_charAt 42 = .ok (.aload_n 3, 1) := by decide +kernel
theorem dJ3_charAt_43 : decode cJ3_charAt 43 = .ok (.iload_n 1, 1) := by decide +kernel
theorem dJ3_charAt_44 : decode cJ3_charAt 44 = .ok (.invokestatic 148, 3) := by decide +kernel
theorem dJ3_charAt_47 : decode cJ3_charAt 47 = .ok (.ireturn, 1) := by decide +kernel
theorem q42 : (Jvm.Cond.initialized "java/lang/AbstractStringBuilder") ∈ lw_all := lw_g (lw_at lw_m1 7 rfl) rfl
theorem q134 : (Jvm.Cond.instanceMethod ({ cls := "java/lang/AbstractStringBuilder", name := "<init>", desc := "(I)V" } : Jvm.MethodName)) ∈ lw_all := lw_g (lw_at lw_m1 99 rfl) rfl
theorem q135 : (Jvm.Cond.code ({ cls := "java/lang/AbstractStringBuilder", name := "<init>", desc := "(I)V" } : Jvm.MethodName) prog_11_method_2_code (2 : Nat) (Option.none : Option Jvm.ClassFile.FieldType)) ∈ lw_all := lw_g (lw_at lw_m1 100 rfl) rfl
theorem q136 : (Jvm.Cond.methodLink "java/lang/AbstractStringBuilder" (3 : Nat) ({ cls := "java/lang/Object", name := "<init>", desc := "()V" } : Jvm.MethodName)) ∈ lw_all := lw_g (lw_at lw_m1 101 rfl) rfl
theorem q137 : (Jvm.Cond.fieldLink "java/lang/AbstractStringBuilder" (18 : Nat) "java/lang/String" "COMPACT_STRINGS" "Z") ∈ lw_all := lw_g (lw_at lw_m1 102 rfl) rfl
theorem q139 : (Jvm.Cond.methodLink "java/lang/AbstractStringBuilder" (26 : Nat) ({ cls := "java/lang/StringUTF16", name := "newBytesFor", desc := "(I)[B" } : Jvm.MethodName)) ∈ lw_all := lw_g (lw_at lw_m1 104 rfl) rfl
theorem q146 : (Jvm.Cond.fieldLink "java/lang/AbstractStringBuilder" (15 : Nat) "java/lang/AbstractStringBuilder" "value" "[B") ∈ lw_all := lw_g (lw_at lw_m1 111 rfl) rfl
theorem q147 : (Jvm.Cond.fieldLink "java/lang/AbstractStringBuilder" (22 : Nat) "java/lang/AbstractStringBuilder" "coder" "B") ∈ lw_all := lw_g (lw_at lw_m1 112 rfl) rfl
theorem q148 : (Jvm.Cond.fieldLink "java/lang/AbstractStringBuilder" (73 : Nat) "java/lang/AbstractStringBuilder" "maybeLatin1" "Z") ∈ lw_all := lw_g (lw_at lw_m1 113 rfl) rfl
theorem q150 : (Jvm.Cond.fieldLink "java/lang/AbstractStringBuilder" (79 : Nat) "java/lang/AbstractStringBuilder" "count" "I") ∈ lw_all := lw_g (lw_at lw_m1 115 rfl) rfl
theorem q152 : (Jvm.Cond.soleField "java/lang/AbstractStringBuilder" "value") ∈ lw_all := lw_g (lw_at lw_m1 117 rfl) rfl
theorem q154 : (Jvm.Cond.soleField "java/lang/AbstractStringBuilder" "coder") ∈ lw_all := lw_g (lw_at lw_m1 119 rfl) rfl
theorem q156 : (Jvm.Cond.soleField "java/lang/AbstractStringBuilder" "maybeLatin1") ∈ lw_all := lw_g (lw_at lw_m1 121 rfl) rfl
theorem q158 : (Jvm.Cond.soleField "java/lang/AbstractStringBuilder" "count") ∈ lw_all := lw_g (lw_at lw_m1 123 rfl) rfl
theorem q289 : (Jvm.Cond.instanceMethod ({ cls := "java/lang/AbstractStringBuilder", name := "setLength", desc := "(I)V" } : Jvm.MethodName)) ∈ lw_all := lw_g (lw_at lw_m2 14 rfl) rfl
theorem q290 : (Jvm.Cond.code ({ cls := "java/lang/AbstractStringBuilder", name := "setLength", desc := "(I)V" } : Jvm.MethodName) prog_11_method_13_code (2 : Nat) (Option.none : Option Jvm.ClassFile.FieldType)) ∈ lw_all := lw_g (lw_at lw_m2 15 rfl) rfl
theorem q291 : (Jvm.Cond.methodLink "java/lang/AbstractStringBuilder" (100 : Nat) ({ cls := "java/lang/AbstractStringBuilder", name := "ensureCapacityInternal", desc := "(I)V" } : Jvm.MethodName)) ∈ lw_all := lw_g (lw_at lw_m2 16 rfl) rfl
theorem q292 : (Jvm.Cond.privateMethod ({ cls := "java/lang/AbstractStringBuilder", name := "ensureCapacityInternal", desc := "(I)V" } : Jvm.MethodName)) ∈ lw_tbl := lw_at lw_m2 17 rfl
theorem q293 : (Jvm.Cond.instanceMethod ({ cls := "java/lang/AbstractStringBuilder", name := "ensureCapacityInternal", desc := "(I)V" } : Jvm.MethodName)) ∈ lw_all := lw_g (lw_at lw_m2 18 rfl) rfl
theorem q294 : (Jvm.Cond.code ({ cls := "java/lang/AbstractStringBuilder", name := "ensureCapacityInternal", desc := "(I)V" } : Jvm.MethodName) prog_11_method_9_code (3 : Nat) (Option.none : Option Jvm.ClassFile.FieldType)) ∈ lw_all := lw_g (lw_at lw_m2 19 rfl) rfl
theorem q295 : (Jvm.Cond.methodLink "java/lang/AbstractStringBuilder" (104 : Nat) ({ cls := "java/lang/AbstractStringBuilder", name := "newCapacity", desc := "(I)I" } : Jvm.MethodName)) ∈ lw_all := lw_g (lw_at lw_m2 20 rfl) rfl
theorem q296 : (Jvm.Cond.privateMethod ({ cls := "java/lang/AbstractStringBuilder", name := "newCapacity", desc := "(I)I" } : Jvm.MethodName)) ∈ lw_tbl := lw_at lw_m2 21 rfl
theorem q297 : (Jvm.Cond.instanceMethod ({ cls := "java/lang/AbstractStringBuilder", name := "newCapacity", desc := "(I)I" } : Jvm.MethodName)) ∈ lw_all := lw_g (lw_at lw_m2 22 rfl) rfl
theorem q298 : (Jvm.Cond.code ({ cls := "java/lang/AbstractStringBuilder", name := "newCapacity", desc := "(I)I" } : Jvm.MethodName) prog_11_method_10_code (6 : Nat) (Option.some Jvm.ClassFile.FieldType.int)) ∈ lw_all := lw_g (lw_at lw_m2 23 rfl) rfl
theorem q299 : (Jvm.Cond.methodLink "java/lang/AbstractStringBuilder" (114 : Nat) ({ cls := "jdk/internal/util/ArraysSupport", name := "newLength", desc := "(III)I" } : Jvm.MethodName)) ∈ lw_all := lw_g (lw_at lw_m2 24 rfl) rfl
theorem q307 : (Jvm.Cond.constant "java/lang/AbstractStringBuilder" (39 : Nat) (2147483647 : Int32)) ∈ lw_all := lw_g (lw_at lw_m2 32 rfl) rfl
theorem q308 : (Jvm.Cond.methodLink "java/lang/AbstractStringBuilder" (108 : Nat) ({ cls := "java/util/Arrays", name := "copyOf", desc := "([BI)[B" } : Jvm.MethodName)) ∈ lw_all := lw_g (lw_at lw_m2 33 rfl) rfl
theorem q324 : (Jvm.Cond.methodLink "java/lang/AbstractStringBuilder" (83 : Nat) ({ cls := "java/lang/AbstractStringBuilder", name := "isLatin1", desc := "()Z" } : Jvm.MethodName)) ∈ lw_all := lw_g (lw_at lw_m2 49 rfl) rfl
theorem q325 : (Jvm.Cond.instanceMethod ({ cls := "java/lang/AbstractStringBuilder", name := "isLatin1", desc := "()Z" } : Jvm.MethodName)) ∈ lw_all := lw_g (lw_at lw_m2 50 rfl) rfl
theorem q326 : (Jvm.Cond.sameMethod "java/lang/AbstractStringBuilder" "java/lang/AbstractStringBuilder" "isLatin1" "()Z") ∈ lw_all := lw_g (lw_at lw_m2 51 rfl) rfl
theorem q328 : (Jvm.Cond.code ({ cls := "java/lang/AbstractStringBuilder", name := "isLatin1", desc := "()Z" } : Jvm.MethodName) prog_11_method_68_code (1 : Nat) (Option.some Jvm.ClassFile.FieldType.boolean)) ∈ lw_all := lw_g (lw_at lw_m2 53 rfl) rfl
theorem q329 : (Jvm.Cond.methodLink "java/lang/AbstractStringBuilder" (133 : Nat) ({ cls := "java/lang/StringLatin1", name := "fillNull", desc := "([BII)V" } : Jvm.MethodName)) ∈ lw_all := lw_g (lw_at lw_m2 54 rfl) rfl
theorem q338 : (Jvm.Cond.methodLink "java/lang/AbstractStringBuilder" (137 : Nat) ({ cls := "java/lang/StringUTF16", name := "fillNull", desc := "([BII)V" } : Jvm.MethodName)) ∈ lw_all := lw_g (lw_at lw_m2 63 rfl) rfl
theorem q347 : (Jvm.Cond.instanceMethod ({ cls := "java/lang/AbstractStringBuilder", name := "append", desc := "(C)Ljava/lang/AbstractStringBuilder;" } : Jvm.MethodName)) ∈ lw_all := lw_g (lw_at lw_m2 72 rfl) rfl
theorem q348 : (Jvm.Cond.code ({ cls := "java/lang/AbstractStringBuilder", name := "append", desc := "(C)Ljava/lang/AbstractStringBuilder;" } : Jvm.MethodName) prog_11_method_31_code (2 : Nat) (Option.some (Jvm.ClassFile.FieldType.object "java/lang/AbstractStringBuilder"))) ∈ lw_all := lw_g (lw_at lw_m2 73 rfl) rfl
theorem q349 : (Jvm.Cond.methodLink "java/lang/AbstractStringBuilder" (191 : Nat) ({ cls := "java/lang/StringLatin1", name := "canEncode", desc := "(C)Z" } : Jvm.MethodName)) ∈ lw_all := lw_g (lw_at lw_m2 74 rfl) rfl
theorem q352 : (Jvm.Cond.methodLink "java/lang/AbstractStringBuilder" (195 : Nat) ({ cls := "java/lang/AbstractStringBuilder", name := "inflate", desc := "()V" } : Jvm.MethodName)) ∈ lw_all := lw_g (lw_at lw_m2 77 rfl) rfl
theorem q353 : (Jvm.Cond.privateMethod ({ cls := "java/lang/AbstractStringBuilder", name := "inflate", desc := "()V" } : Jvm.MethodName)) ∈ lw_tbl := lw_at lw_m2 78 rfl
theorem q354 : (Jvm.Cond.instanceMethod ({ cls := "java/lang/AbstractStringBuilder", name := "inflate", desc := "()V" } : Jvm.MethodName)) ∈ lw_all := lw_g (lw_at lw_m2 79 rfl) rfl
theorem q355 : (Jvm.Cond.code ({ cls := "java/lang/AbstractStringBuilder", name := "inflate", desc := "()V" } : Jvm.MethodName) prog_11_method_11_code (2 : Nat) (Option.none : Option Jvm.ClassFile.FieldType)) ∈ lw_all := lw_g (lw_at lw_m2 80 rfl) rfl
theorem q356 : (Jvm.Cond.methodLink "java/lang/AbstractStringBuilder" (125 : Nat) ({ cls := "java/lang/StringLatin1", name := "inflate", desc := "([BI[BII)V" } : Jvm.MethodName)) ∈ lw_all := lw_g (lw_at lw_m2 81 rfl) rfl
theorem q374 : (Jvm.Cond.methodLink "java/lang/AbstractStringBuilder" (197 : Nat) ({ cls := "java/lang/StringUTF16", name := "putCharSB", desc := "([BII)V" } : Jvm.MethodName)) ∈ lw_all := lw_g (lw_at lw_m2 99 rfl) rfl
theorem q383 : (Jvm.Cond.instanceMethod ({ cls := "java/lang/AbstractStringBuilder", name := "length", desc := "()I" } : Jvm.MethodName)) ∈ lw_all := lw_g (lw_at lw_m2 108 rfl) rfl
theorem q384 : (Jvm.Cond.code ({ cls := "java/lang/AbstractStringBuilder", name := "length", desc := "()I" } : Jvm.MethodName) prog_11_method_6_code (1 : Nat) (Option.some Jvm.ClassFile.FieldType.int)) ∈ lw_all := lw_g (lw_at lw_m2 109 rfl) rfl
theorem q390 : (Jvm.Cond.instanceMethod ({ cls := "java/lang/AbstractStringBuilder", name := "setCharAt", desc := "(IC)V" } : Jvm.MethodName)) ∈ lw_all := lw_g (lw_at lw_m2 115 rfl) rfl
theorem q391 : (Jvm.Cond.code ({ cls := "java/lang/AbstractStringBuilder", name := "setCharAt", desc := "(IC)V" } : Jvm.MethodName) prog_11_method_20_code (3 : Nat) (Option.none : Option Jvm.ClassFile.FieldType)) ∈ lw_all := lw_g (lw_at lw_m2 116 rfl) rfl
theorem q392 : (Jvm.Cond.methodLink "java/lang/AbstractStringBuilder" (144 : Nat) ({ cls := "java/lang/String", name := "checkIndex", desc := "(II)V" } : Jvm.MethodName)) ∈ lw_all := lw_g (lw_at lw_m2 117 rfl) rfl
theorem q409 : (Jvm.Cond.instanceMethod ({ cls := "java/lang/AbstractStringBuilder", name := "getValue", desc := "()[B" } : Jvm.MethodName)) ∈ lw_all := lw_g (lw_at lw_m2 134 rfl) rfl
theorem q410 : (Jvm.Cond.sameMethod "java/lang/AbstractStringBuilder" "java/lang/AbstractStringBuilder" "getValue" "()[B") ∈ lw_all := lw_g (lw_at lw_m2 135 rfl) rfl
theorem q412 : (Jvm.Cond.code ({ cls := "java/lang/AbstractStringBuilder", name := "getValue", desc := "()[B" } : Jvm.MethodName) prog_11_method_64_code (1 : Nat) (Option.some (Jvm.ClassFile.FieldType.array Jvm.ClassFile.FieldType.byte))) ∈ lw_all := lw_g (lw_at lw_m2 137 rfl) rfl
theorem q637 : (Jvm.Cond.instanceMethod ({ cls := "java/lang/AbstractStringBuilder", name := "append", desc := "(Ljava/lang/String;)Ljava/lang/AbstractStringBuilder;" } : Jvm.MethodName)) ∈ lw_all := lw_g (lw_at lw_m3 122 rfl) rfl
theorem q638 : (Jvm.Cond.code ({ cls := "java/lang/AbstractStringBuilder", name := "append", desc := "(Ljava/lang/String;)Ljava/lang/AbstractStringBuilder;" } : Jvm.MethodName) prog_11_method_22_code (3 : Nat) (Option.some (Jvm.ClassFile.FieldType.object "java/lang/AbstractStringBuilder"))) ∈ lw_all := lw_g (lw_at lw_m3 123 rfl) rfl
theorem q639 : (Jvm.Cond.methodLink "java/lang/AbstractStringBuilder" (204 : Nat) ({ cls := "java/lang/AbstractStringBuilder", name := "appendNull", desc := "()Ljava/lang/AbstractStringBuilder;" } : Jvm.MethodName)) ∈ lw_all := lw_g (lw_at lw_m3 124 rfl) rfl
theorem q640 : (Jvm.Cond.privateMethod ({ cls := "java/lang/AbstractStringBuilder", name := "appendNull", desc := "()Ljava/lang/AbstractStringBuilder;" } : Jvm.MethodName)) ∈ lw_tbl := lw_at lw_m3 125 rfl
theorem q641 : (Jvm.Cond.instanceMethod ({ cls := "java/lang/AbstractStringBuilder", name := "appendNull", desc := "()Ljava/lang/AbstractStringBuilder;" } : Jvm.MethodName)) ∈ lw_all := lw_g (lw_at lw_m3 126 rfl) rfl
theorem q642 : (Jvm.Cond.code ({ cls := "java/lang/AbstractStringBuilder", name := "appendNull", desc := "()Ljava/lang/AbstractStringBuilder;" } : Jvm.MethodName) prog_11_method_26_code (3 : Nat) (Option.some (Jvm.ClassFile.FieldType.object "java/lang/AbstractStringBuilder"))) ∈ lw_all := lw_g (lw_at lw_m3 127 rfl) rfl
theorem q643 : (Jvm.Cond.methodLink "java/lang/AbstractStringBuilder" (226 : Nat) ({ cls := "java/lang/StringUTF16", name := "putCharsAt", desc := "([BICCCC)I" } : Jvm.MethodName)) ∈ lw_all := lw_g (lw_at lw_m3 128 rfl) rfl
theorem q655 : (Jvm.Cond.methodLink "java/lang/AbstractStringBuilder" (32 : Nat) ({ cls := "java/lang/String", name := "length", desc := "()I" } : Jvm.MethodName)) ∈ lw_all := lw_g (lw_at lw_m3 140 rfl) rfl
theorem q663 : (Jvm.Cond.methodLink "java/lang/AbstractStringBuilder" (208 : Nat) ({ cls := "java/lang/AbstractStringBuilder", name := "putStringAt", desc := "(ILjava/lang/String;)V" } : Jvm.MethodName)) ∈ lw_all := lw_g (lw_at lw_m3 148 rfl) rfl
theorem q664 : (Jvm.Cond.privateMethod ({ cls := "java/lang/AbstractStringBuilder", name := "putStringAt", desc := "(ILjava/lang/String;)V" } : Jvm.MethodName)) ∈ lw_tbl := lw_at lw_m3 149 rfl
theorem q665 : (Jvm.Cond.instanceMethod ({ cls := "java/lang/AbstractStringBuilder", name := "putStringAt", desc := "(ILjava/lang/String;)V" } : Jvm.MethodName)) ∈ lw_all := lw_g (lw_at lw_m3 150 rfl) rfl
theorem q666 : (Jvm.Cond.code ({ cls := "java/lang/AbstractStringBuilder", name := "putStringAt", desc := "(ILjava/lang/String;)V" } : Jvm.MethodName) prog_11_method_73_code (3 : Nat) (Option.none : Option Jvm.ClassFile.FieldType)) ∈ lw_all := lw_g (lw_at lw_m3 151 rfl) rfl
theorem q667 : (Jvm.Cond.methodLink "java/lang/AbstractStringBuilder" (397 : Nat) ({ cls := "java/lang/AbstractStringBuilder", name := "inflateIfNeededFor", desc := "(Ljava/lang/String;)V" } : Jvm.MethodName)) ∈ lw_all := lw_g (lw_at lw_m3 152 rfl) rfl
theorem q668 : (Jvm.Cond.privateMethod ({ cls := "java/lang/AbstractStringBuilder", name := "inflateIfNeededFor", desc := "(Ljava/lang/String;)V" } : Jvm.MethodName)) ∈ lw_tbl := lw_at lw_m3 153 rfl
theorem q669 : (Jvm.Cond.instanceMethod ({ cls := "java/lang/AbstractStringBuilder", name := "inflateIfNeededFor", desc := "(Ljava/lang/String;)V" } : Jvm.MethodName)) ∈ lw_all := lw_g (lw_at lw_m3 154 rfl) rfl
theorem q670 : (Jvm.Cond.code ({ cls := "java/lang/AbstractStringBuilder", name := "inflateIfNeededFor", desc := "(Ljava/lang/String;)V" } : Jvm.MethodName) prog_11_method_71_code (2 : Nat) (Option.none : Option Jvm.ClassFile.FieldType)) ∈ lw_all := lw_g (lw_at lw_m3 155 rfl) rfl
theorem q671 : (Jvm.Cond.methodLink "java/lang/AbstractStringBuilder" (40 : Nat) ({ cls := "java/lang/String", name := "coder", desc := "()B" } : Jvm.MethodName)) ∈ lw_all := lw_g (lw_at lw_m3 156 rfl) rfl
theorem q672 : (Jvm.Cond.methodLink "java/lang/AbstractStringBuilder" (399 : Nat) ({ cls := "java/lang/String", name := "getBytes", desc := "([BIB)V" } : Jvm.MethodName)) ∈ lw_all := lw_g (lw_at lw_m3 157 rfl) rfl
theorem q687 : (Jvm.Cond.instanceMethod ({ cls := "java/lang/AbstractStringBuilder", name := "charAt", desc := "(I)C" } : Jvm.MethodName)) ∈ lw_all := lw_g (lw_at lw_m3 172 rfl) rfl
theorem q688 : (Jvm.Cond.code ({ cls := "java/lang/AbstractStringBuilder", name := "charAt", desc := "(I)C" } : Jvm.MethodName) prog_11_method_14_code (5 : Nat) (Option.some Jvm.ClassFile.FieldType.char)) ∈ lw_all := lw_g (lw_at lw_m3 173 rfl) rfl
theorem q689 : (Jvm.Cond.methodLink "java/lang/AbstractStringBuilder" (138 : Nat) ({ cls := "java/lang/Math", name := "min", desc := "(II)I" } : Jvm.MethodName)) ∈ lw_all := lw_g (lw_at lw_m3 174 rfl) rfl
theorem q690 : (Jvm.Cond.methodLink "java/lang/AbstractStringBuilder" (148 : Nat) ({ cls := "java/lang/StringUTF16", name := "getChar", desc := "([BI)C" } : Jvm.MethodName)) ∈ lw_all := lw_g (lw_at lw_m3 175 rfl) rfl
theorem q1034 : (Jvm.Cond.sameMethod "java/lang/AbstractStringBuilder" "java/lang/AbstractStringBuilder" "setLength" "(I)V") ∈ lw_all := lw_g (lw_at lw_m5 39 rfl) rfl
theorem q1035 : (Jvm.Cond.sameMethod "java/lang/AbstractStringBuilder" "java/lang/AbstractStringBuilder" "ensureCapacityInternal" "(I)V") ∈ lw_all := lw_g (lw_at lw_m5 40 rfl) rfl
theorem q1036 : (Jvm.Cond.sameMethod "java/lang/AbstractStringBuilder" "java/lang/AbstractStringBuilder" "newCapacity" "(I)I") ∈ lw_all := lw_g (lw_at lw_m5 41 rfl) rfl
theorem q1037 : (Jvm.Cond.sameMethod "java/lang/AbstractStringBuilder" "java/lang/AbstractStringBuilder" "append" "(C)Ljava/lang/AbstractStringBuilder;") ∈ lw_all := lw_g (lw_at lw_m5 42 rfl) rfl
theorem q1038 : (Jvm.Cond.sameMethod "java/lang/AbstractStringBuilder" "java/lang/AbstractStringBuilder" "inflate" "()V") ∈ lw_all := lw_g (lw_at lw_m5 43 rfl) rfl
theorem q1039 : (Jvm.Cond.sameMethod "java/lang/AbstractStringBuilder" "java/lang/AbstractStringBuilder" "length" "()I") ∈ lw_all := lw_g (lw_at lw_m5 44 rfl) rfl
theorem q1040 : (Jvm.Cond.sameMethod "java/lang/AbstractStringBuilder" "java/lang/AbstractStringBuilder" "setCharAt" "(IC)V") ∈ lw_all := lw_g (lw_at lw_m5 45 rfl) rfl
theorem q1042 : (Jvm.Cond.sameMethod "java/lang/AbstractStringBuilder" "java/lang/AbstractStringBuilder" "append" "(Ljava/lang/String;)Ljava/lang/AbstractStringBuilder;") ∈ lw_all := lw_g (lw_at lw_m5 47 rfl) rfl
theorem q1043 : (Jvm.Cond.sameMethod "java/lang/AbstractStringBuilder" "java/lang/AbstractStringBuilder" "appendNull" "()Ljava/lang/AbstractStringBuilder;") ∈ lw_all := lw_g (lw_at lw_m5 48 rfl) rfl
theorem q1044 : (Jvm.Cond.sameMethod "java/lang/AbstractStringBuilder" "java/lang/AbstractStringBuilder" "putStringAt" "(ILjava/lang/String;)V") ∈ lw_all := lw_g (lw_at lw_m5 49 rfl) rfl
theorem q1045 : (Jvm.Cond.sameMethod "java/lang/AbstractStringBuilder" "java/lang/AbstractStringBuilder" "inflateIfNeededFor" "(Ljava/lang/String;)V") ∈ lw_all := lw_g (lw_at lw_m5 50 rfl) rfl
theorem q1046 : (Jvm.Cond.sameMethod "java/lang/AbstractStringBuilder" "java/lang/AbstractStringBuilder" "charAt" "(I)C") ∈ lw_all := lw_g (lw_at lw_m5 51 rfl) rfl

/-! java/lang/StringBuilder -/
def RJ4 : String := "java/lang/StringBuilder"
def TJ4 : u_T := fun k => match k with
  | 0 => ("java/lang/AbstractStringBuilder", "value", "[B", false)
  | 1 => ("java/lang/AbstractStringBuilder", "coder", "B", false)
  | 2 => ("java/lang/AbstractStringBuilder", "maybeLatin1", "Z", false)
  | _ => ("java/lang/AbstractStringBuilder", "count", "I", false)
def tyJ4 : Nat → FieldType := fun k => match k with
  | 0 => .array .byte
  | 1 => .byte
  | 2 => .boolean
  | _ => .int
abbrev wsJ40 : List Cond := u_ws RJ4 TJ4 4
theorem nmJ4 : ∀ a, a < 4 → ∀ b, b < 4 → a ≠ b → (TJ4 a).2.1 ≠ (TJ4 b).2.1 := by decide +kernel
theorem tyJ4_ok : ∀ k, k < 4 → parseFieldDescriptor (TJ4 k).2.2.1 = some (tyJ4 k) := by decide +kernel
abbrev cJ4_init : ByteArray := prog_17_method_1_code
def yJ4_init : MethodName := ⟨RJ4, "<init>", "()V"⟩
theorem dJ4_init_0 : decode cJ4_init 0 = .ok (.aload_n 0, 1) := by decide +kernel
theorem dJ4_init_1 : decode cJ4_init 1 = .ok (.bipush 16, 2) := by decide +kernel
theorem dJ4_init_3 : decode cJ4_init 3 = .ok (.invokespecial 1, 3) := by decide +kernel
theorem dJ4_init_6 : decode cJ4_init 6 = .ok (.return_, 1) := by decide +kernel
abbrev cJ4_setLength : ByteArray := prog_17_method_89_code
def yJ4_setLength : MethodName := ⟨RJ4, "setLength", "(I)V"⟩
theorem dJ4_setLength_0 : decode cJ4_setLength 0 = .ok (.aload_n 0, 1) := by decide +kernel
theorem dJ4_setLength_1 : decode cJ4_setLength 1 = .ok (.iload_n 1, 1) := by decide +kernel
theorem dJ4_setLength_2 : decode cJ4_setLength 2 = .ok (.invokespecial 333, 3) := by decide +kernel
theorem dJ4_setLength_5 : decode cJ4_setLength 5 = .ok (.return_, 1) := by decide +kernel
abbrev cJ4_append : ByteArray := prog_17_method_14_code
def yJ4_append : MethodName := ⟨RJ4, "append", "(C)Ljava/lang/StringBuilder;"⟩
theorem dJ4_append_0 : decode cJ4_append 0 = .ok (.aload_n 0, 1) := by decide +kernel
theorem dJ4_append_1 : decode cJ4_append 1 = .ok (.iload_n 1, 1) := by decide +kernel
theorem dJ4_append_2 : decode cJ4_append 2 = .ok (.invokespecial 50, 3) := by decide +kernel
theorem dJ4_append_5 : decode cJ4_append 5 = .ok (.pop, 1) := by decide +kernel
theorem dJ4_append_6 : decode cJ4_append 6 = .ok (.aload_n 0, 1) := by decide +kernel
theorem dJ4_append_7 : decode cJ4_append 7 = .ok (.areturn, 1) := by decide +kernel
abbrev cJ4_length : ByteArray := prog_17_method_93_code
def yJ4_length : MethodName := ⟨RJ4, "length", "()I"⟩
theorem dJ4_length_0 : decode cJ4_length 0 = .ok (.aload_n 0, 1) := by decide +kernel
theorem dJ4_length_1 : decode cJ4_length 1 = .ok (.invokespecial 343, 3) := by decide +kernel
theorem dJ4_length_4 : decode cJ4_length 4 = .ok (.ireturn, 1) := by decide +kernel
abbrev cJ4_setCharAt : ByteArray := prog_17_method_82_code
def yJ4_setCharAt : MethodName := ⟨RJ4, "setCharAt", "(IC)V"⟩
theorem dJ4_setCharAt_0 : decode cJ4_setCharAt 0 = .ok (.aload_n 0, 1) := by decide +kernel
theorem dJ4_setCharAt_1 : decode cJ4_setCharAt 1 = .ok (.iload_n 1, 1) := by decide +kernel
theorem dJ4_setCharAt_2 : decode cJ4_setCharAt 2 = .ok (.iload_n 2, 1) := by decide +kernel
theorem dJ4_setCharAt_3 : decode cJ4_setCharAt 3 = .ok (.invokespecial 308, 3) := by decide +kernel
theorem dJ4_setCharAt_6 : decode cJ4_setCharAt 6 = .ok (.return_, 1) := by decide +kernel
abbrev cJ4_toString : ByteArray := prog_17_method_42_code
def yJ4_toString : MethodName := ⟨RJ4, "toString", "()Ljava/lang/String;"⟩
theorem dJ4_toString_0 : decode cJ4_toString 0 = .ok (.new 18, 3) := by decide +kernel
theorem dJ4_toString_3 : decode cJ4_toString 3 = .ok (.dup, 1) := by decide +kernel
theorem dJ4_toString_4 : decode cJ4_toString 4 = .ok (.aload_n 0, 1) := by decide +kernel
theorem dJ4_toString_5 : decode cJ4_toString 5 = .ok (.invokespecial 137, 3) := by decide +kernel
theorem dJ4_toString_8 : decode cJ4_toString 8 = .ok (.areturn, 1) := by decide +kernel
abbrev cJ4_append_2 : ByteArray := prog_17_method_7_code
def yJ4_append_2 : MethodName := ⟨RJ4, "append", "(Ljava/lang/String;)Ljava/lang/StringBuilder;"⟩
theorem dJ4_append_2_0 : decode cJ4_append_2 0 = .ok (.aload_n 0, 1) := by decide +kernel
theorem dJ4_append_2_1 : decode cJ4_append_2 1 = .ok (.aload_n 1, 1) := by decide +kernel
theorem dJ4_append_2_2 : decode cJ4_append_2 2 = .ok (.invokespecial 29, 3) := by decide +kernel
theorem dJ4_append_2_5 : decode cJ4_append_2 5 = .ok (.pop, 1) := by decide +kernel
theorem dJ4_append_2_6 : decode cJ4_append_2 6 = .ok (.aload_n 0, 1) := by decide +kernel
theorem dJ4_append_2_7 : decode cJ4_append_2 7 = .ok (.areturn, 1) := by decide +kernel
abbrev cJ4_charAt : ByteArray := prog_17_method_88_code
def yJ4_charAt : MethodName := ⟨RJ4, "charAt", "(I)C"⟩
theorem dJ4_charAt_0 : decode cJ4_charAt 0 = .ok (.aload_n 0, 1) := by decide +kernel
theorem dJ4_charAt_1 : decode cJ4_charAt 1 = .ok (.iload_n 1, 1) := by decide +kernel
theorem dJ4_charAt_2 : decode cJ4_charAt 2 = .ok (.invokespecial 329, 3) := by decide +kernel
theorem dJ4_charAt_5 : decode cJ4_charAt 5 = .ok (.ireturn, 1) := by decide +kernel
theorem q43 : (Jvm.Cond.initialized "java/lang/StringBuilder") ∈ lw_all := lw_g (lw_at lw_m1 8 rfl) rfl
theorem q129 : (Jvm.Cond.instantiable "java/lang/StringBuilder" (4 : Nat)) ∈ lw_all := lw_g (lw_at lw_m1 94 rfl) rfl
theorem q131 : (Jvm.Cond.instanceMethod ({ cls := "java/lang/StringBuilder", name := "<init>", desc := "()V" } : Jvm.MethodName)) ∈ lw_all := lw_g (lw_at lw_m1 96 rfl) rfl
theorem q132 : (Jvm.Cond.code ({ cls := "java/lang/StringBuilder", name := "<init>", desc := "()V" } : Jvm.MethodName) prog_17_method_1_code (1 : Nat) (Option.none : Option Jvm.ClassFile.FieldType)) ∈ lw_all := lw_g (lw_at lw_m1 97 rfl) rfl
theorem q133 : (Jvm.Cond.methodLink "java/lang/StringBuilder" (1 : Nat) ({ cls := "java/lang/AbstractStringBuilder", name := "<init>", desc := "(I)V" } : Jvm.MethodName)) ∈ lw_all := lw_g (lw_at lw_m1 98 rfl) rfl
theorem q151 : (Jvm.Cond.lays "java/lang/StringBuilder" "java/lang/AbstractStringBuilder" "value" "[B") ∈ lw_all := lw_g (lw_at lw_m1 116 rfl) rfl
theorem q153 : (Jvm.Cond.lays "java/lang/StringBuilder" "java/lang/AbstractStringBuilder" "coder" "B") ∈ lw_all := lw_g (lw_at lw_m1 118 rfl) rfl
theorem q155 : (Jvm.Cond.lays "java/lang/StringBuilder" "java/lang/AbstractStringBuilder" "maybeLatin1" "Z") ∈ lw_all := lw_g (lw_at lw_m1 120 rfl) rfl
theorem q157 : (Jvm.Cond.lays "java/lang/StringBuilder" "java/lang/AbstractStringBuilder" "count" "I") ∈ lw_all := lw_g (lw_at lw_m1 122 rfl) rfl
theorem q159 : (Jvm.Cond.superclass "java/lang/StringBuilder" "java/lang/AbstractStringBuilder") ∈ lw_all := lw_g (lw_at lw_m1 124 rfl) rfl
theorem q285 : (Jvm.Cond.instanceMethod ({ cls := "java/lang/StringBuilder", name := "setLength", desc := "(I)V" } : Jvm.MethodName)) ∈ lw_all := lw_g (lw_at lw_m2 10 rfl) rfl
theorem q286 : (Jvm.Cond.selects "java/lang/StringBuilder" ({ cls := "java/lang/StringBuilder", name := "setLength", desc := "(I)V" } : Jvm.MethodName) ({ cls := "java/lang/StringBuilder", name := "setLength", desc := "(I)V" } : Jvm.MethodName)) ∈ lw_all := lw_g (lw_at lw_m2 11 rfl) rfl
theorem q287 : (Jvm.Cond.code ({ cls := "java/lang/StringBuilder", name := "setLength", desc := "(I)V" } : Jvm.MethodName) prog_17_method_89_code (2 : Nat) (Option.none : Option Jvm.ClassFile.FieldType)) ∈ lw_all := lw_g (lw_at lw_m2 12 rfl) rfl
theorem q288 : (Jvm.Cond.methodLink "java/lang/StringBuilder" (333 : Nat) ({ cls := "java/lang/AbstractStringBuilder", name := "setLength", desc := "(I)V" } : Jvm.MethodName)) ∈ lw_all := lw_g (lw_at lw_m2 13 rfl) rfl
theorem q327 : (Jvm.Cond.selects "java/lang/StringBuilder" ({ cls := "java/lang/AbstractStringBuilder", name := "isLatin1", desc := "()Z" } : Jvm.MethodName) ({ cls := "java/lang/AbstractStringBuilder", name := "isLatin1", desc := "()Z" } : Jvm.MethodName)) ∈ lw_all := lw_g (lw_at lw_m2 52 rfl) rfl
theorem q343 : (Jvm.Cond.instanceMethod ({ cls := "java/lang/StringBuilder", name := "append", desc := "(C)Ljava/lang/StringBuilder;" } : Jvm.MethodName)) ∈ lw_all := lw_g (lw_at lw_m2 68 rfl) rfl
theorem q344 : (Jvm.Cond.selects "java/lang/StringBuilder" ({ cls := "java/lang/StringBuilder", name := "append", desc := "(C)Ljava/lang/StringBuilder;" } : Jvm.MethodName) ({ cls := "java/lang/StringBuilder", name := "append", desc := "(C)Ljava/lang/StringBuilder;" } : Jvm.MethodName)) ∈ lw_all := lw_g (lw_at lw_m2 69 rfl) rfl
theorem q345 : (Jvm.Cond.code ({ cls := "java/lang/StringBuilder", name := "append", desc := "(C)Ljava/lang/StringBuilder;" } : Jvm.MethodName) prog_17_method_14_code (2 : Nat) (Option.some (Jvm.ClassFile.FieldType.object "java/lang/StringBuilder"))) ∈ lw_all := lw_g (lw_at lw_m2 70 rfl) rfl
theorem q346 : (Jvm.Cond.methodLink "java/lang/StringBuilder" (50 : Nat) ({ cls := "java/lang/AbstractStringBuilder", name := "append", desc := "(C)Ljava/lang/AbstractStringBuilder;" } : Jvm.MethodName)) ∈ lw_all := lw_g (lw_at lw_m2 71 rfl) rfl
theorem q379 : (Jvm.Cond.instanceMethod ({ cls := "java/lang/StringBuilder", name := "length", desc := "()I" } : Jvm.MethodName)) ∈ lw_all := lw_g (lw_at lw_m2 104 rfl) rfl
theorem q380 : (Jvm.Cond.selects "java/lang/StringBuilder" ({ cls := "java/lang/StringBuilder", name := "length", desc := "()I" } : Jvm.MethodName) ({ cls := "java/lang/StringBuilder", name := "length", desc := "()I" } : Jvm.MethodName)) ∈ lw_all := lw_g (lw_at lw_m2 105 rfl) rfl
theorem q381 : (Jvm.Cond.code ({ cls := "java/lang/StringBuilder", name := "length", desc := "()I" } : Jvm.MethodName) prog_17_method_93_code (1 : Nat) (Option.some Jvm.ClassFile.FieldType.int)) ∈ lw_all := lw_g (lw_at lw_m2 106 rfl) rfl
theorem q382 : (Jvm.Cond.methodLink "java/lang/StringBuilder" (343 : Nat) ({ cls := "java/lang/AbstractStringBuilder", name := "length", desc := "()I" } : Jvm.MethodName)) ∈ lw_all := lw_g (lw_at lw_m2 107 rfl) rfl
theorem q386 : (Jvm.Cond.instanceMethod ({ cls := "java/lang/StringBuilder", name := "setCharAt", desc := "(IC)V" } : Jvm.MethodName)) ∈ lw_all := lw_g (lw_at lw_m2 111 rfl) rfl
theorem q387 : (Jvm.Cond.selects "java/lang/StringBuilder" ({ cls := "java/lang/StringBuilder", name := "setCharAt", desc := "(IC)V" } : Jvm.MethodName) ({ cls := "java/lang/StringBuilder", name := "setCharAt", desc := "(IC)V" } : Jvm.MethodName)) ∈ lw_all := lw_g (lw_at lw_m2 112 rfl) rfl
theorem q388 : (Jvm.Cond.code ({ cls := "java/lang/StringBuilder", name := "setCharAt", desc := "(IC)V" } : Jvm.MethodName) prog_17_method_82_code (3 : Nat) (Option.none : Option Jvm.ClassFile.FieldType)) ∈ lw_all := lw_g (lw_at lw_m2 113 rfl) rfl
theorem q389 : (Jvm.Cond.methodLink "java/lang/StringBuilder" (308 : Nat) ({ cls := "java/lang/AbstractStringBuilder", name := "setCharAt", desc := "(IC)V" } : Jvm.MethodName)) ∈ lw_all := lw_g (lw_at lw_m2 114 rfl) rfl
theorem q396 : (Jvm.Cond.instanceMethod ({ cls := "java/lang/StringBuilder", name := "toString", desc := "()Ljava/lang/String;" } : Jvm.MethodName)) ∈ lw_all := lw_g (lw_at lw_m2 121 rfl) rfl
theorem q397 : (Jvm.Cond.selects "java/lang/StringBuilder" ({ cls := "java/lang/StringBuilder", name := "toString", desc := "()Ljava/lang/String;" } : Jvm.MethodName) ({ cls := "java/lang/StringBuilder", name := "toString", desc := "()Ljava/lang/String;" } : Jvm.MethodName)) ∈ lw_all := lw_g (lw_at lw_m2 122 rfl) rfl
theorem q398 : (Jvm.Cond.code ({ cls := "java/lang/StringBuilder", name := "toString", desc := "()Ljava/lang/String;" } : Jvm.MethodName) prog_17_method_42_code (1 : Nat) (Option.some (Jvm.ClassFile.FieldType.object "java/lang/String"))) ∈ lw_all := lw_g (lw_at lw_m2 123 rfl) rfl
theorem q399 : (Jvm.Cond.classLink "java/lang/StringBuilder" (18 : Nat) "java/lang/String") ∈ lw_all := lw_g (lw_at lw_m2 124 rfl) rfl
theorem q401 : (Jvm.Cond.methodLink "java/lang/StringBuilder" (137 : Nat) ({ cls := "java/lang/String", name := "<init>", desc := "(Ljava/lang/StringBuilder;)V" } : Jvm.MethodName)) ∈ lw_all := lw_g (lw_at lw_m2 126 rfl) rfl
theorem q411 : (Jvm.Cond.selects "java/lang/StringBuilder" ({ cls := "java/lang/AbstractStringBuilder", name := "getValue", desc := "()[B" } : Jvm.MethodName) ({ cls := "java/lang/AbstractStringBuilder", name := "getValue", desc := "()[B" } : Jvm.MethodName)) ∈ lw_all := lw_g (lw_at lw_m2 136 rfl) rfl
theorem q568 : (Jvm.Cond.selects "java/lang/StringBuilder" ({ cls := "java/lang/Object", name := "getClass", desc := "()Ljava/lang/Class;" } : Jvm.MethodName) ({ cls := "java/lang/Object", name := "getClass", desc := "()Ljava/lang/Class;" } : Jvm.MethodName)) ∈ lw_all := lw_g (lw_at lw_m3 53 rfl) rfl
theorem q633 : (Jvm.Cond.instanceMethod ({ cls := "java/lang/StringBuilder", name := "append", desc := "(Ljava/lang/String;)Ljava/lang/StringBuilder;" } : Jvm.MethodName)) ∈ lw_all := lw_g (lw_at lw_m3 118 rfl) rfl
theorem q634 : (Jvm.Cond.selects "java/lang/StringBuilder" ({ cls := "java/lang/StringBuilder", name := "append", desc := "(Ljava/lang/String;)Ljava/lang/StringBuilder;" } : Jvm.MethodName) ({ cls := "java/lang/StringBuilder", name := "append", desc := "(Ljava/lang/String;)Ljava/lang/StringBuilder;" } : Jvm.MethodName)) ∈ lw_all := lw_g (lw_at lw_m3 119 rfl) rfl
theorem q635 : (Jvm.Cond.code ({ cls := "java/lang/StringBuilder", name := "append", desc := "(Ljava/lang/String;)Ljava/lang/StringBuilder;" } : Jvm.MethodName) prog_17_method_7_code (2 : Nat) (Option.some (Jvm.ClassFile.FieldType.object "java/lang/StringBuilder"))) ∈ lw_all := lw_g (lw_at lw_m3 120 rfl) rfl
theorem q636 : (Jvm.Cond.methodLink "java/lang/StringBuilder" (29 : Nat) ({ cls := "java/lang/AbstractStringBuilder", name := "append", desc := "(Ljava/lang/String;)Ljava/lang/AbstractStringBuilder;" } : Jvm.MethodName)) ∈ lw_all := lw_g (lw_at lw_m3 121 rfl) rfl
theorem q683 : (Jvm.Cond.instanceMethod ({ cls := "java/lang/StringBuilder", name := "charAt", desc := "(I)C" } : Jvm.MethodName)) ∈ lw_all := lw_g (lw_at lw_m3 168 rfl) rfl
theorem q684 : (Jvm.Cond.selects "java/lang/StringBuilder" ({ cls := "java/lang/StringBuilder", name := "charAt", desc := "(I)C" } : Jvm.MethodName) ({ cls := "java/lang/StringBuilder", name := "charAt", desc := "(I)C" } : Jvm.MethodName)) ∈ lw_all := lw_g (lw_at lw_m3 169 rfl) rfl
theorem q685 : (Jvm.Cond.code ({ cls := "java/lang/StringBuilder", name := "charAt", desc := "(I)C" } : Jvm.MethodName) prog_17_method_88_code (2 : Nat) (Option.some Jvm.ClassFile.FieldType.char)) ∈ lw_all := lw_g (lw_at lw_m3 170 rfl) rfl
theorem q686 : (Jvm.Cond.methodLink "java/lang/StringBuilder" (329 : Nat) ({ cls := "java/lang/AbstractStringBuilder", name := "charAt", desc := "(I)C" } : Jvm.MethodName)) ∈ lw_all := lw_g (lw_at lw_m3 171 rfl) rfl
theorem q1041 : (Jvm.Cond.selects "java/lang/StringBuilder" ({ cls := "java/lang/AbstractStringBuilder", name := "length", desc := "()I" } : Jvm.MethodName) ({ cls := "java/lang/StringBuilder", name := "length", desc := "()I" } : Jvm.MethodName)) ∈ lw_all := lw_g (lw_at lw_m5 46 rfl) rfl
theorem q1052 : (Jvm.Cond.castable "java/lang/StringBuilder" "java/lang/Object") ∈ lw_tbl := lw_at lw_m5 57 rfl
theorem in_J4 : ∀ w ∈ wsJ40, w ∈ lw_all := lw_in wsJ40 [151, 153, 155, 157] (by decide +kernel) (by decide +kernel)

/-! java/lang/String -/
def RJ5 : String := "java/lang/String"
def TJ5 : u_T := fun k => match k with
  | 0 => ("java/lang/String", "value", "[B", true)
  | 1 => ("java/lang/String", "coder", "B", true)
  | 2 => ("java/lang/String", "hash", "I", false)
  | _ => ("java/lang/String", "hashIsZero", "Z", false)
def tyJ5 : Nat → FieldType := fun k => match k with
  | 0 => .array .byte
  | 1 => .byte
  | 2 => .int
  | _ => .boolean
abbrev wsJ50 : List Cond := u_ws RJ5 TJ5 4
theorem nmJ5 : ∀ a, a < 4 → ∀ b, b < 4 → a ≠ b → (TJ5 a).2.1 ≠ (TJ5 b).2.1 := by decide +kernel
theorem tyJ5_ok : ∀ k, k < 4 → parseFieldDescriptor (TJ5 k).2.2.1 = some (tyJ5 k) := by decide +kernel
abbrev cJ5_charAt : ByteArray := prog_16_method_56_code
def yJ5_charAt : MethodName := ⟨RJ5, "charAt", "(I)C"⟩
theorem dJ5_charAt_0 : decode cJ5_charAt 0 = .ok (.aload_n 0, 1) := by decide +kernel
theorem dJ5_charAt_1 : decode cJ5_charAt 1 = .ok (.invokevirtual 492, 3) := by decide +kernel
theorem dJ5_charAt_4 : decode cJ5_charAt 4 = .ok (.ifCond .eq 12, 3) := by decide +kernel
theorem dJ5_charAt_7 : decode cJ5_charAt 7 = .ok (.aload_n 0, 1) := by decide +kernel
theorem dJ5_charAt_8 : decode cJ5_charAt 8 = .ok (.getfield 9, 3) := by decide +kernel
theorem dJ5_charAt_11 : decode cJ5_charAt 11 = .ok (.iload_n 1, 1) := by decide +kernel
theorem dJ5_charAt_12 : decode cJ5_charAt 12 = .ok (.invokestatic 495, 3) := by decide +kernel
theorem dJ5_charAt_15 : decode cJ5_charAt 15 = .ok (.ireturn, 1) := by decide +kernel
theorem dJ5_charAt_16 : decode cJ5_charAt 16 = .ok (.aload_n 0, 1) := by decide +kernel
theorem dJ5_charAt_17 : decode cJ5_charAt 17 = .ok (.getfield 9, 3) := by decide +kernel
theorem dJ5_charAt_20 : decode cJ5_charAt 20 = .ok (.iload_n 1, 1) := by decide +kernel
theorem dJ5_charAt_21 : decode cJ5_charAt 21 = .ok (.invokestatic 498, 3) := by decide +kernel
theorem dJ5_charAt_24 : decode cJ5_charAt 24 = .ok (.ireturn, 1) := by decide +kernel
abbrev cJ5_isLatin1 : ByteArray := prog_16_method_154_code
def yJ5_isLatin1 : MethodName := ⟨RJ5, "isLatin1", "()Z"⟩
theorem dJ5_isLatin1_0 : decode cJ5_isLatin1 0 = .ok (.getstatic 38, 3) := by decide +kernel
theorem dJ5_isLatin1_3 : decode cJ5_isLatin1 3 = .ok (.ifCond .eq 14, 3) := by decide +kernel
theorem dJ5_isLatin1_6 : decode cJ5_isLatin1 6 = .ok (.aload_n 0, 1) := by decide +kernel
theorem dJ5_isLatin1_7 : decode cJ5_isLatin1 7 = .ok (.getfield 15, 3) := by decide +kernel
theorem dJ5_isLatin1_10 : decode cJ5_isLatin1 10 = .ok (.ifCond .ne 7, 3) := by decide +kernel
theorem dJ5_isLatin1_13 : decode cJ5_isLatin1 13 = .ok (.iconst 1, 1) := by decide +kernel
theorem dJ5_isLatin1_14 : decode cJ5_isLatin1 14 = .ok (.goto 4, 3) := by decide +kernel
theorem dJ5_isLatin1_17 : decode cJ5_isLatin1 17 = .ok (.iconst 0, 1) := by decide +kernel
theorem dJ5_isLatin1_18 : decode cJ5_isLatin1 18 = .ok (.ireturn, 1) := by decide +kernel
abbrev cJ5_checkIndex : ByteArray := prog_16_method_155_code
def yJ5_checkIndex : MethodName := ⟨RJ5, "checkIndex", "(II)V"⟩
theorem dJ5_checkIndex_0 : decode cJ5_checkIndex 0 = .ok (.iload_n 0, 1) := by decide +kernel
theorem dJ5_checkIndex_1 : decode cJ5_checkIndex 1 = .ok (.iload_n 1, 1) := by decide +kernel
theorem dJ5_checkIndex_2 : decode cJ5_checkIndex 2 = .ok (.getstatic 1053, 3) := by decide +kernel
theorem dJ5_checkIndex_5 : decode cJ5_checkIndex 5 = .ok (.invokestatic 1059, 3) := by decide +kernel
theorem dJ5_checkIndex_8 : decode cJ5_checkIndex 8 = .ok (.pop, 1) := by decide +kernel
theorem dJ5_checkIndex_9 : decode cJ5_checkIndex 9 = .ok (.return_, 1) := by decide +kernel
abbrev cJ5_checkBoundsOffCount : ByteArray := prog_16_method_157_code
def yJ5_checkBoundsOffCount : MethodName := ⟨RJ5, "checkBoundsOffCount", "(III)I"⟩
theorem dJ5_checkBoundsOffCount_0 : decode cJ5_checkBoundsOffCount 0 = .ok (.iload_n 0, 1) := by decide +kernel
theorem dJ5_checkBoundsOffCount_1 : decode cJ5_checkBoundsOffCount 1 = .ok (.iload_n 1, 1) := by decide +kernel
theorem dJ5_checkBoundsOffCount_2 : decode cJ5_checkBoundsOffCount 2 = .ok (.iload_n 2, 1) := by decide +kernel
theorem dJ5_checkBoundsOffCount_3 : decode cJ5_checkBoundsOffCount 3 = .ok (.getstatic 1053, 3) := by decide +kernel
theorem dJ5_checkBoundsOffCount_6 : decode cJ5_checkBoundsOffCount 6 = .ok (.invokestatic 1065, 3) := by decide +kernel
theorem dJ5_checkBoundsOffCount_9 : decode cJ5_checkBoundsOffCount 9 = .ok (.ireturn, 1) := by decide +kernel
abbrev cJ5_init : ByteArray := prog_16_method_53_code
def yJ5_init : MethodName := ⟨RJ5, "<init>", "(Ljava/lang/StringBuilder;)V"⟩
theorem dJ5_init_0 : decode cJ5_init 0 = .ok (.aload_n 0, 1) := by decide +kernel
theorem dJ5_init_1 : decode cJ5_init 1 = .ok (.aload_n 1, 1) := by decide +kernel
theorem dJ5_init_2 : decode cJ5_init 2 = .ok (.aconst_null, 1) := by decide +kernel
theorem dJ5_init_3 : decode cJ5_init 3 = .ok (.invokespecial 489, 3) := by decide +kernel
theorem dJ5_init_6 : decode cJ5_init 6 = .ok (.return_, 1) := by decide +kernel
abbrev cJ5_init_2 : ByteArray := prog_16_method_150_code
def yJ5_init_2 : MethodName := ⟨RJ5, "<init>", "(Ljava/lang/AbstractStringBuilder;Ljava/lang/Void;)V"⟩
theorem dJ5_init_2_0 : decode cJ5_init_2 0 = .ok (.aload_n 0, 1) := by decide +kernel
theorem dJ5_init_2_1 : decode cJ5_init_2 1 = .ok (.invokespecial 1, 3) := by decide +kernel
theorem dJ5_init_2_4 : decode cJ5_init_2 4 = .ok (.aload_n 1, 1) := by decide +kernel
theorem dJ5_init_2_5 : decode cJ5_init_2 5 = .ok (.invokevirtual 552, 3) := by decide +kernel
theorem dJ5_init_2_8 : decode cJ5_init_2 8 = .ok (.astore_n 3, 1) := by decide +kernel
theorem dJ5_init_2_9 : decode cJ5_init_2 9 = .ok (.aload_n 1, 1) := by decide +kernel
theorem dJ5_init_2_10 : decode cJ5_init_2 10 = .ok (.invokevirtual 549, 3) := by decide +kernel
theorem dJ5_init_2_13 : decode cJ5_init_2 13 = .ok (.istore 4, 2) := by decide +kernel
theorem dJ5_init_2_15 : decode cJ5_init_2 15 = .ok (.aload_n 1, 1) := by decide +kernel
theorem dJ5_init_2_16 : decode cJ5_init_2 16 = .ok (.invokevirtual 1047, 3) := by decide +kernel
theorem dJ5_init_2_19 : decode cJ5_init_2 19 = .ok (.ifCond .eq 22, 3) := by decide +kernel
theorem dJ5_init_2_22 : decode cJ5_init_2 22 = .ok (.aload_n 0, 1) := by decide +kernel
theorem dJ5_init_2_23 : decode cJ5_init_2 23 = .ok (.iconst 0, 1) := by decide +kernel
theorem dJ5_init_2_24 : decode cJ5_init_2 24 = .ok (.putfield 15, 3) := by decide +kernel
theorem dJ5_init_2_27 : decode cJ5_init_2 27 = .ok (.aload_n 0, 1) := by decide +kernel
theorem dJ5_init_2_28 : decode cJ5_init_2 28 = .ok (.aload_n 3, 1) := by decide +kernel
theorem dJ5_init_2_29 : decode cJ5_init_2 29 = .ok (.iconst 0, 1) := by decide +kernel
theorem dJ5_init_2_30 : decode cJ5_init_2 30 = .ok (.iload 4, 2) := by decide +kernel
theorem dJ5_init_2_32 : decode cJ5_init_2 32 = .ok (.invokestatic 54, 3) := by decide +kernel
theorem dJ5_init_2_35 : decode cJ5_init_2 35 = .ok (.putfield 9, 3) := by decide +kernel
theorem dJ5_init_2_38 : decode cJ5_init_2 38 = .ok (.goto 59, 3) := by decide +kernel
theorem dJ5_init_2_41 : decode cJ5_init_2 41 = .ok (.getstatic 38, 3) := by decide +kernel
theorem dJ5_init_2_44 : decode cJ5_init_2 44 = .ok (.ifCond .eq 35, 3) := by decide +kernel
theorem dJ5_init_2_47 : decode cJ5_init_2 47 = .ok (.aload_n 1, 1) := by decide +kernel
theorem dJ5_init_2_48 : decode cJ5_init_2 48 = .ok (.getfield 1048, 3) := by decide +kernel
theorem dJ5_init_2_51 : decode cJ5_init_2 51 = .ok (.ifCond .eq 28, 3) := by decide +kernel
theorem dJ5_init_2_54 : decode cJ5_init_2 54 = .ok (.aload_n 0, 1) := by decide +kernel
theorem dJ5_init_2_55 : decode cJ5_init_2 55 = .ok (.aload_n 3, 1) := by decide +kernel
theorem dJ5_init_2_56 : decode cJ5_init_2 56 = .ok (.iconst 0, 1) := by decide +kernel
theorem dJ5_init_2_57 : decode cJ5_init_2 57 = .ok (.iload 4, 2) := by decide +kernel
theorem dJ5_init_2_59 : decode cJ5_init_2 59 = .ok (.invokestatic 1051, 3) := by decide +kernel
theorem dJ5_init_2_62 : decode cJ5_init_2 62 = .ok (.putfield 9, 3) := by decide +kernel
theorem dJ5_init_2_65 : decode cJ5_init_2 65 = .ok (.aload_n 0, 1) := by decide +kernel
theorem dJ5_init_2_66 : decode cJ5_init_2 66 = .ok (.aload_n 0, 1) := by decide +kernel
theorem dJ5_init_2_67 : decode cJ5_init_2 67 = .ok (.getfield 9, 3) := by decide +kernel
theorem dJ5_init_2_70 : decode cJ5_init_2 70 = .ok (.iload 4, 2) := by decide +kernel
theorem dJ5_init_2_72 : decode cJ5_init_2 72 = .ok (.invokestatic 47, 3) := by decide +kernel
theorem dJ5_init_2_75 : decode cJ5_init_2 75 = .ok (.putfield 15, 3) := by decide +kernel
theorem dJ5_init_2_78 : decode cJ5_init_2 78 = .ok (.return_, 1) := by decide +kernel
theorem dJ5_init_2_79 : decode cJ5_init_2 79 = .ok (.aload_n 0, 1) := by decide +kernel
theorem dJ5_init_2_80 : decode cJ5_init_2 80 = .ok (.iconst 1, 1) := by decide +kernel
theorem dJ5_init_2_81 : decode cJ5_init_2 81 = .ok (.putfield 15, 3) := by decide +kernel
theorem dJ5_init_2_84 : decode cJ5_init_2 84 = .ok (.aload_n 0, 1) := by decide +kernel
theorem dJ5_init_2_85 : decode cJ5_init_2 85 = .ok (.aload_n 3, 1) := by decide +kernel
theorem dJ5_init_2_86 : decode cJ5_init_2 86 = .ok (.iconst 0, 1) := by decide +kernel
theorem dJ5_init_2_87 : decode cJ5_init_2 87 = .ok (.iload 4, 2) := by decide +kernel
theorem dJ5_init_2_89 : decode cJ5_init_2 89 = .ok (.iconst 1, 1) := by decide +kernel
theorem dJ5_init_2_90 : decode cJ5_init_2 90 = .ok (.ishl, 1) := by decide +kernel
theorem dJ5_init_2_91 : decode cJ5_init_2 91 = .ok (.invokestatic 54, 3) := by decide +kernel
theorem dJ5_init_2_94 : decode cJ5_init_2 94 = .ok (.putfield 9, 3) := by decide +kernel
theorem dJ5_init_2_97 : decode cJ5_init_2 97 = .ok (.return_, 1) := by decide +kernel
abbrev cJ5_checkBoundsBeginEnd : ByteArray := prog_16_method_158_code
def yJ5_checkBoundsBeginEnd : MethodName := ⟨RJ5, "checkBoundsBeginEnd", "(III)V"⟩
theorem dJ5_checkBoundsBeginEnd_0 : decode cJ5_checkBoundsBeginEnd 0 = .ok (.iload_n 0, 1) := by decide +kernel
theorem dJ5_checkBoundsBeginEnd_1 : decode cJ5_checkBoundsBeginEnd 1 = .ok (.iload_n 1, 1) := by decide +kernel
theorem dJ5_checkBoundsBeginEnd_2 : decode cJ5_checkBoundsBeginEnd 2 = .ok (.iload_n 2, 1) := by decide +kernel
theorem dJ5_checkBoundsBeginEnd_3 : decode cJ5_checkBoundsBeginEnd 3 = .ok (.getstatic 1053, 3) := by decide +kernel
theorem dJ5_checkBoundsBeginEnd_6 : decode cJ5_checkBoundsBeginEnd 6 = .ok (.invokestatic 1062, 3) := by decide +kernel
theorem dJ5_checkBoundsBeginEnd_9 : decode cJ5_checkBoundsBeginEnd 9 = .ok (.pop, 1) := by decide +kernel
theorem dJ5_checkBoundsBeginEnd_10 : decode cJ5_checkBoundsBeginEnd 10 = .ok (.return_, 1) := by decide +kernel
abbrev cJ5_length : ByteArray := prog_16_method_54_code
def yJ5_length : MethodName := ⟨RJ5, "length", "()I"⟩
theorem dJ5_length_0 : decode cJ5_length 0 = .ok (.aload_n 0, 1) := by decide +kernel
theorem dJ5_length_1 : decode cJ5_length 1 = .ok (.getfield 9, 3) := by decide +kernel
theorem dJ5_length_4 : decode cJ5_length 4 = .ok (.arraylength, 1) := by decide +kernel
theorem dJ5_length_5 : decode cJ5_length 5 = .ok (.aload_n 0, 1) := by decide +kernel
theorem dJ5_length_6 : decode cJ5_length 6 = .ok (.invokevirtual 335, 3) := by decide +kernel
theorem dJ5_length_9 : decode cJ5_length 9 = .ok (.ishr, 1) := by decide +kernel
theorem dJ5_length_10 : decode cJ5_length 10 = .ok (.ireturn, 1) := by decide +kernel
abbrev cJ5_coder : ByteArray := prog_16_method_152_code
def yJ5_coder : MethodName := ⟨RJ5, "coder", "()B"⟩
theorem dJ5_coder_0 : decode cJ5_coder 0 = .ok (.getstatic 38, 3) := by decide +kernel
theorem dJ5_coder_3 : decode cJ5_coder 3 = .ok (.ifCond .eq 10, 3) := by decide +kernel
theorem dJ5_coder_6 : decode cJ5_coder 6 = .ok (.aload_n 0, 1) := by decide +kernel
theorem dJ5_coder_7 : decode cJ5_coder 7 = .ok (.getfield 15, 3) := by decide +kernel
theorem dJ5_coder_10 : decode cJ5_coder 10 = .ok (.goto 4, 3) := by decide +kernel
theorem dJ5_coder_13 : decode cJ5_coder 13 = .ok (.iconst 1, 1) := by decide +kernel
theorem dJ5_coder_14 : decode cJ5_coder 14 = .ok (.ireturn, 1) := by decide +kernel
abbrev cJ5_getBytes : ByteArray := prog_16_method_147_code
def yJ5_getBytes : MethodName := ⟨RJ5, "getBytes", "([BIB)V"⟩
theorem dJ5_getBytes_0 : decode cJ5_getBytes 0 = .ok (.aload_n 0, 1) := by decide +kernel
theorem dJ5_getBytes_1 : decode cJ5_getBytes 1 = .ok (.invokevirtual 335, 3) := by decide +kernel
theorem dJ5_getBytes_4 : decode cJ5_getBytes 4 = .ok (.iload_n 3, 1) := by decide +kernel
theorem dJ5_getBytes_5 : decode cJ5_getBytes 5 = .ok (.if_icmp .ne 23, 3) := by decide +kernel
theorem dJ5_getBytes_8 : decode cJ5_getBytes 8 = .ok (.aload_n 0, 1) := by decide +kernel
theorem dJ5_getBytes_9 : decode cJ5_getBytes 9 = .ok (.getfield 9, 3) := by decide +kernel
theorem dJ5_getBytes_12 : decode cJ5_getBytes 12 = .ok (.iconst 0, 1) := by decide +kernel
theorem dJ5_getBytes_13 : decode cJ5_getBytes 13 = .ok (.aload_n 1, 1) := by decide +kernel
theorem dJ5_getBytes_14 : decode cJ5_getBytes 14 = .ok (.iload_n 2, 1) := by decide +kernel
theorem dJ5_getBytes_15 : decode cJ5_getBytes 15 = .ok (.iload_n 3, 1) := by decide +kernel
theorem dJ5_getBytes_16 : decode cJ5_getBytes 16 = .ok (.ishl, 1) := by decide +kernel
theorem dJ5_getBytes_17 : decode cJ5_getBytes 17 = .ok (.aload_n 0, 1) := by decide +kernel
theorem dJ5_getBytes_18 : decode cJ5_getBytes 18 = .ok (.getfield 9, 3) := by decide +kernel
theorem dJ5_getBytes_21 : decode cJ5_getBytes 21 = .ok (.arraylength, 1) := by decide +kernel
theorem dJ5_getBytes_22 : decode cJ5_getBytes 22 = .ok (.invokestatic 212, 3) := by decide +kernel
theorem dJ5_getBytes_25 : decode cJ5_getBytes 25 = .ok (.goto 18, 3) := by decide +kernel
theorem dJ5_getBytes_28 : decode cJ5_getBytes 28 = .ok (.aload_n 0, 1) := by decide +kernel
theorem dJ5_getBytes_29 : decode cJ5_getBytes 29 = .ok (.getfield 9, 3) := by decide +kernel
theorem dJ5_getBytes_32 : decode cJ5_getBytes 32 = .ok (.iconst 0, 1) := by decide +kernel
theorem dJ5_getBytes_33 : decode cJ5_getBytes 33 = .ok (.aload_n 1, 1) := by decide +kernel
theorem dJ5_getBytes_34 : decode cJ5_getBytes 34 = .ok (.iload_n 2, 1) := by decide +kernel
theorem dJ5_getBytes_35 : decode cJ5_getBytes 35 = .ok (.aload_n 0, 1) := by decide +kernel
theorem dJ5_getBytes_36 : decode cJ5_getBytes 36 = .ok (.getfield 9, 3) := by decide +kernel
theorem dJ5_getBytes_39 : decode cJ5_getBytes 39 = .ok (.arraylength, 1) := by decide +kernel
theorem dJ5_getBytes_40 : decode cJ5_getBytes 40 = .ok (.invokestatic 106, 3) := by decide +kernel
theorem dJ5_getBytes_43 : decode cJ5_getBytes 43 = .ok (.return_, 1) := by decide +kernel
abbrev cJ5_equals : ByteArray := prog_16_method_66_code
def yJ5_equals : MethodName := ⟨RJ5, "equals", "(Ljava/lang/Object;)Z"⟩
theorem dJ5_equals_0 : decode cJ5_equals 0 = .ok (.aload_n 0, 1) := by decide +kernel
theorem dJ5_equals_1 : decode cJ5_equals 1 = .ok (.aload_n 1, 1) := by decide +kernel
theorem dJ5_equals_2 : decode cJ5_equals 2 = .ok (.if_acmp .ne 5, 3) := by decide +kernel
theorem dJ5_equals_5 : decode cJ5_equals 5 = .ok (.iconst 1, 1) := by decide +kernel
theorem dJ5_equals_6 : decode cJ5_equals 6 = .ok (.ireturn, 1) := by decide +kernel
theorem dJ5_equals_7 : decode cJ5_equals 7 = .ok (.aload_n 1, 1) := by decide +kernel
theorem dJ5_equals_8 : decode cJ5_equals 8 = .ok (.instanceof 10, 3) := by decide +kernel
theorem dJ5_equals_11 : decode cJ5_equals 11 = .ok (.ifCond .eq 43, 3) := by decide +kernel
theorem dJ5_equals_14 : decode cJ5_equals 14 = .ok (.aload_n 1, 1) := by decide +kernel
theorem dJ5_equals_15 : decode cJ5_equals 15 = .ok (.checkcast 10, 3) := by decide +kernel
theorem dJ5_equals_18 : decode cJ5_equals 18 = .ok (.astore_n 2, 1) := by decide +kernel
theorem dJ5_equals_19 : decode cJ5_equals 19 = .ok (.getstatic 38, 3) := by decide +kernel
theorem dJ5_equals_22 : decode cJ5_equals 22 = .ok (.ifCond .eq 14, 3) := by decide +kernel
theorem dJ5_equals_25 : decode cJ5_equals 25 = .ok (.aload_n 0, 1) := by decide +kernel
theorem dJ5_equals_26 : decode cJ5_equals 26 = .ok (.getfield 15, 3) := by decide +kernel
theorem dJ5_equals_29 : decode cJ5_equals 29 = .ok (.aload_n 2, 1) := by decide +kernel
theorem dJ5_equals_30 : decode cJ5_equals 30 = .ok (.getfield 15, 3) := by decide +kernel
theorem dJ5_equals_33 : decode cJ5_equals 33 = .ok (.if_icmp .ne 21, 3) := by decide +kernel
theorem dJ5_equals_36 : decode cJ5_equals 36 = .ok (.aload_n 0, 1) := by decide +kernel
theorem dJ5_equals_37 : decode cJ5_equals 37 = .ok (.getfield 9, 3) := by decide +kernel
theorem dJ5_equals_40 : decode cJ5_equals 40 = .ok (.aload_n 2, 1) := by decide +kernel
theorem dJ5_equals_41 : decode cJ5_equals 41 = .ok (.getfield 9, 3) := by decide +kernel
theorem dJ5_equals_44 : decode cJ5_equals 44 = .ok (.invokestatic 541, 3) := by decide +kernel
theorem dJ5_equals_47 : decode cJ5_equals 47 = .ok (.ifCond .eq 7, 3) := by decide +kernel
theorem dJ5_equals_50 : decode cJ5_equals 50 = .ok (.iconst 1, 1) := by decide +kernel
theorem dJ5_equals_51 : decode cJ5_equals 51 = .ok (.goto 4, 3) := by decide +kernel
theorem dJ5_equals_54 : decode cJ5_equals 54 = .ok (.iconst 0, 1) := by decide +kernel
theorem dJ5_equals_55 : decode cJ5_equals 55 = .ok (.ireturn, 1) := by decide +kernel
theorem q44 : (Jvm.Cond.initialized "java/lang/String") ∈ lw_all := lw_g (lw_at lw_m1 9 rfl) rfl
theorem q138 : (Jvm.Cond.laysStatic "java/lang/String" "COMPACT_STRINGS" "Z") ∈ lw_tbl := lw_at lw_m1 103 rfl
theorem q149 : (Jvm.Cond.fieldLink "java/lang/String" (1048 : Nat) "java/lang/AbstractStringBuilder" "maybeLatin1" "Z") ∈ lw_all := lw_g (lw_at lw_m1 114 rfl) rfl
theorem q228 : (Jvm.Cond.instanceMethod ({ cls := "java/lang/String", name := "charAt", desc := "(I)C" } : Jvm.MethodName)) ∈ lw_all := lw_g (lw_at lw_m1 193 rfl) rfl
theorem q229 : (Jvm.Cond.selects "java/lang/String" ({ cls := "java/lang/String", name := "charAt", desc := "(I)C" } : Jvm.MethodName) ({ cls := "java/lang/String", name := "charAt", desc := "(I)C" } : Jvm.MethodName)) ∈ lw_all := lw_g (lw_at lw_m1 194 rfl) rfl
theorem q230 : (Jvm.Cond.code ({ cls := "java/lang/String", name := "charAt", desc := "(I)C" } : Jvm.MethodName) prog_16_method_56_code (2 : Nat) (Option.some Jvm.ClassFile.FieldType.char)) ∈ lw_all := lw_g (lw_at lw_m1 195 rfl) rfl
theorem q231 : (Jvm.Cond.methodLink "java/lang/String" (492 : Nat) ({ cls := "java/lang/String", name := "isLatin1", desc := "()Z" } : Jvm.MethodName)) ∈ lw_all := lw_g (lw_at lw_m1 196 rfl) rfl
theorem q232 : (Jvm.Cond.instanceMethod ({ cls := "java/lang/String", name := "isLatin1", desc := "()Z" } : Jvm.MethodName)) ∈ lw_all := lw_g (lw_at lw_m1 197 rfl) rfl
theorem q233 : (Jvm.Cond.selects "java/lang/String" ({ cls := "java/lang/String", name := "isLatin1", desc := "()Z" } : Jvm.MethodName) ({ cls := "java/lang/String", name := "isLatin1", desc := "()Z" } : Jvm.MethodName)) ∈ lw_all := lw_g (lw_at lw_m1 198 rfl) rfl
theorem q234 : (Jvm.Cond.code ({ cls := "java/lang/String", name := "isLatin1", desc := "()Z" } : Jvm.MethodName) prog_16_method_154_code (1 : Nat) (Option.some Jvm.ClassFile.FieldType.boolean)) ∈ lw_all := lw_g (lw_at lw_m1 199 rfl) rfl
theorem q235 : (Jvm.Cond.fieldLink "java/lang/String" (38 : Nat) "java/lang/String" "COMPACT_STRINGS" "Z") ∈ lw_all := lw_g (lw_at lw_m1 200 rfl) rfl
theorem q236 : (Jvm.Cond.methodLink "java/lang/String" (495 : Nat) ({ cls := "java/lang/StringLatin1", name := "charAt", desc := "([BI)C" } : Jvm.MethodName)) ∈ lw_all := lw_g (lw_at lw_m1 201 rfl) rfl
theorem q240 : (Jvm.Cond.static ({ cls := "java/lang/String", name := "checkIndex", desc := "(II)V" } : Jvm.MethodName)) ∈ lw_all := lw_g (lw_at lw_m1 205 rfl) rfl
theorem q241 : (Jvm.Cond.code ({ cls := "java/lang/String", name := "checkIndex", desc := "(II)V" } : Jvm.MethodName) prog_16_method_155_code (2 : Nat) (Option.none : Option Jvm.ClassFile.FieldType)) ∈ lw_all := lw_g (lw_at lw_m1 206 rfl) rfl
theorem q242 : (Jvm.Cond.fieldLink "java/lang/String" (1053 : Nat) "jdk/internal/util/Preconditions" "SIOOBE_FORMATTER" "Ljava/util/function/BiFunction;") ∈ lw_all := lw_g (lw_at lw_m1 207 rfl) rfl
theorem q244 : (Jvm.Cond.methodLink "java/lang/String" (1059 : Nat) ({ cls := "jdk/internal/util/Preconditions", name := "checkIndex", desc := "(IILjava/util/function/BiFunction;)I" } : Jvm.MethodName)) ∈ lw_all := lw_g (lw_at lw_m1 209 rfl) rfl
theorem q245 : (Jvm.Cond.methodLink "java/lang/String" (498 : Nat) ({ cls := "java/lang/StringUTF16", name := "charAt", desc := "([BI)C" } : Jvm.MethodName)) ∈ lw_all := lw_g (lw_at lw_m1 210 rfl) rfl
theorem q366 : (Jvm.Cond.static ({ cls := "java/lang/String", name := "checkBoundsOffCount", desc := "(III)I" } : Jvm.MethodName)) ∈ lw_all := lw_g (lw_at lw_m2 91 rfl) rfl
theorem q367 : (Jvm.Cond.code ({ cls := "java/lang/String", name := "checkBoundsOffCount", desc := "(III)I" } : Jvm.MethodName) prog_16_method_157_code (3 : Nat) (Option.some Jvm.ClassFile.FieldType.int)) ∈ lw_all := lw_g (lw_at lw_m2 92 rfl) rfl
theorem q368 : (Jvm.Cond.methodLink "java/lang/String" (1065 : Nat) ({ cls := "jdk/internal/util/Preconditions", name := "checkFromIndexSize", desc := "(IIILjava/util/function/BiFunction;)I" } : Jvm.MethodName)) ∈ lw_all := lw_g (lw_at lw_m2 93 rfl) rfl
theorem q400 : (Jvm.Cond.instantiable "java/lang/String" (4 : Nat)) ∈ lw_all := lw_g (lw_at lw_m2 125 rfl) rfl
theorem q402 : (Jvm.Cond.instanceMethod ({ cls := "java/lang/String", name := "<init>", desc := "(Ljava/lang/StringBuilder;)V" } : Jvm.MethodName)) ∈ lw_all := lw_g (lw_at lw_m2 127 rfl) rfl
theorem q403 : (Jvm.Cond.code ({ cls := "java/lang/String", name := "<init>", desc := "(Ljava/lang/StringBuilder;)V" } : Jvm.MethodName) prog_16_method_53_code (2 : Nat) (Option.none : Option Jvm.ClassFile.FieldType)) ∈ lw_all := lw_g (lw_at lw_m2 128 rfl) rfl
theorem q404 : (Jvm.Cond.methodLink "java/lang/String" (489 : Nat) ({ cls := "java/lang/String", name := "<init>", desc := "(Ljava/lang/AbstractStringBuilder;Ljava/lang/Void;)V" } : Jvm.MethodName)) ∈ lw_all := lw_g (lw_at lw_m2 129 rfl) rfl
theorem q405 : (Jvm.Cond.instanceMethod ({ cls := "java/lang/String", name := "<init>", desc := "(Ljava/lang/AbstractStringBuilder;Ljava/lang/Void;)V" } : Jvm.MethodName)) ∈ lw_all := lw_g (lw_at lw_m2 130 rfl) rfl
theorem q406 : (Jvm.Cond.code ({ cls := "java/lang/String", name := "<init>", desc := "(Ljava/lang/AbstractStringBuilder;Ljava/lang/Void;)V" } : Jvm.MethodName) prog_16_method_150_code (5 : Nat) (Option.none : Option Jvm.ClassFile.FieldType)) ∈ lw_all := lw_g (lw_at lw_m2 131 rfl) rfl
theorem q407 : (Jvm.Cond.methodLink "java/lang/String" (1 : Nat) ({ cls := "java/lang/Object", name := "<init>", desc := "()V" } : Jvm.MethodName)) ∈ lw_all := lw_g (lw_at lw_m2 132 rfl) rfl
theorem q408 : (Jvm.Cond.methodLink "java/lang/String" (552 : Nat) ({ cls := "java/lang/AbstractStringBuilder", name := "getValue", desc := "()[B" } : Jvm.MethodName)) ∈ lw_all := lw_g (lw_at lw_m2 133 rfl) rfl
theorem q413 : (Jvm.Cond.methodLink "java/lang/String" (549 : Nat) ({ cls := "java/lang/AbstractStringBuilder", name := "length", desc := "()I" } : Jvm.MethodName)) ∈ lw_all := lw_g (lw_at lw_m2 138 rfl) rfl
theorem q414 : (Jvm.Cond.methodLink "java/lang/String" (1047 : Nat) ({ cls := "java/lang/AbstractStringBuilder", name := "isLatin1", desc := "()Z" } : Jvm.MethodName)) ∈ lw_all := lw_g (lw_at lw_m2 139 rfl) rfl
theorem q415 : (Jvm.Cond.methodLink "java/lang/String" (54 : Nat) ({ cls := "java/util/Arrays", name := "copyOfRange", desc := "([BII)[B" } : Jvm.MethodName)) ∈ lw_all := lw_g (lw_at lw_m2 140 rfl) rfl
theorem q424 : (Jvm.Cond.methodLink "java/lang/String" (1051 : Nat) ({ cls := "java/lang/StringUTF16", name := "compress", desc := "([BII)[B" } : Jvm.MethodName)) ∈ lw_all := lw_g (lw_at lw_m2 149 rfl) rfl
theorem q431 : (Jvm.Cond.methodLink "java/lang/String" (47 : Nat) ({ cls := "java/lang/StringUTF16", name := "coderFromArrayLen", desc := "([BI)B" } : Jvm.MethodName)) ∈ lw_all := lw_g (lw_at lw_m2 156 rfl) rfl
theorem q434 : (Jvm.Cond.fieldLink "java/lang/String" (9 : Nat) "java/lang/String" "value" "[B") ∈ lw_all := lw_g (lw_at lw_m2 159 rfl) rfl
theorem q435 : (Jvm.Cond.fieldLink "java/lang/String" (15 : Nat) "java/lang/String" "coder" "B") ∈ lw_all := lw_g (lw_at lw_m2 160 rfl) rfl
theorem q436 : (Jvm.Cond.laysFinal "java/lang/String" "java/lang/String" "value" "[B") ∈ lw_all := lw_g (lw_at lw_m2 161 rfl) rfl
theorem q437 : (Jvm.Cond.soleField "java/lang/String" "value") ∈ lw_all := lw_g (lw_at lw_m2 162 rfl) rfl
theorem q438 : (Jvm.Cond.laysFinal "java/lang/String" "java/lang/String" "coder" "B") ∈ lw_all := lw_g (lw_at lw_m2 163 rfl) rfl
theorem q439 : (Jvm.Cond.soleField "java/lang/String" "coder") ∈ lw_all := lw_g (lw_at lw_m2 164 rfl) rfl
theorem q440 : (Jvm.Cond.lays "java/lang/String" "java/lang/String" "hash" "I") ∈ lw_all := lw_g (lw_at lw_m2 165 rfl) rfl
theorem q441 : (Jvm.Cond.soleField "java/lang/String" "hash") ∈ lw_all := lw_g (lw_at lw_m2 166 rfl) rfl
theorem q442 : (Jvm.Cond.lays "java/lang/String" "java/lang/String" "hashIsZero" "Z") ∈ lw_all := lw_g (lw_at lw_m2 167 rfl) rfl
theorem q443 : (Jvm.Cond.soleField "java/lang/String" "hashIsZero") ∈ lw_all := lw_g (lw_at lw_m2 168 rfl) rfl
theorem q444 : (Jvm.Cond.superclass "java/lang/String" "java/lang/Object") ∈ lw_all := lw_g (lw_at lw_m2 169 rfl) rfl
theorem q567 : (Jvm.Cond.selects "java/lang/String" ({ cls := "java/lang/Object", name := "getClass", desc := "()Ljava/lang/Class;" } : Jvm.MethodName) ({ cls := "java/lang/Object", name := "getClass", desc := "()Ljava/lang/Class;" } : Jvm.MethodName)) ∈ lw_all := lw_g (lw_at lw_m3 52 rfl) rfl
theorem q650 : (Jvm.Cond.static ({ cls := "java/lang/String", name := "checkBoundsBeginEnd", desc := "(III)V" } : Jvm.MethodName)) ∈ lw_all := lw_g (lw_at lw_m3 135 rfl) rfl
theorem q651 : (Jvm.Cond.code ({ cls := "java/lang/String", name := "checkBoundsBeginEnd", desc := "(III)V" } : Jvm.MethodName) prog_16_method_158_code (3 : Nat) (Option.none : Option Jvm.ClassFile.FieldType)) ∈ lw_all := lw_g (lw_at lw_m3 136 rfl) rfl
theorem q652 : (Jvm.Cond.methodLink "java/lang/String" (1062 : Nat) ({ cls := "jdk/internal/util/Preconditions", name := "checkFromToIndex", desc := "(IIILjava/util/function/BiFunction;)I" } : Jvm.MethodName)) ∈ lw_all := lw_g (lw_at lw_m3 137 rfl) rfl
theorem q656 : (Jvm.Cond.instanceMethod ({ cls := "java/lang/String", name := "length", desc := "()I" } : Jvm.MethodName)) ∈ lw_all := lw_g (lw_at lw_m3 141 rfl) rfl
theorem q657 : (Jvm.Cond.selects "java/lang/String" ({ cls := "java/lang/String", name := "length", desc := "()I" } : Jvm.MethodName) ({ cls := "java/lang/String", name := "length", desc := "()I" } : Jvm.MethodName)) ∈ lw_all := lw_g (lw_at lw_m3 142 rfl) rfl
theorem q658 : (Jvm.Cond.code ({ cls := "java/lang/String", name := "length", desc := "()I" } : Jvm.MethodName) prog_16_method_54_code (1 : Nat) (Option.some Jvm.ClassFile.FieldType.int)) ∈ lw_all := lw_g (lw_at lw_m3 143 rfl) rfl
theorem q659 : (Jvm.Cond.methodLink "java/lang/String" (335 : Nat) ({ cls := "java/lang/String", name := "coder", desc := "()B" } : Jvm.MethodName)) ∈ lw_all := lw_g (lw_at lw_m3 144 rfl) rfl
theorem q660 : (Jvm.Cond.instanceMethod ({ cls := "java/lang/String", name := "coder", desc := "()B" } : Jvm.MethodName)) ∈ lw_all := lw_g (lw_at lw_m3 145 rfl) rfl
theorem q661 : (Jvm.Cond.selects "java/lang/String" ({ cls := "java/lang/String", name := "coder", desc := "()B" } : Jvm.MethodName) ({ cls := "java/lang/String", name := "coder", desc := "()B" } : Jvm.MethodName)) ∈ lw_all := lw_g (lw_at lw_m3 146 rfl) rfl
theorem q662 : (Jvm.Cond.code ({ cls := "java/lang/String", name := "coder", desc := "()B" } : Jvm.MethodName) prog_16_method_152_code (1 : Nat) (Option.some Jvm.ClassFile.FieldType.byte)) ∈ lw_all := lw_g (lw_at lw_m3 147 rfl) rfl
theorem q673 : (Jvm.Cond.instanceMethod ({ cls := "java/lang/String", name := "getBytes", desc := "([BIB)V" } : Jvm.MethodName)) ∈ lw_all := lw_g (lw_at lw_m3 158 rfl) rfl
theorem q674 : (Jvm.Cond.selects "java/lang/String" ({ cls := "java/lang/String", name := "getBytes", desc := "([BIB)V" } : Jvm.MethodName) ({ cls := "java/lang/String", name := "getBytes", desc := "([BIB)V" } : Jvm.MethodName)) ∈ lw_all := lw_g (lw_at lw_m3 159 rfl) rfl
theorem q675 : (Jvm.Cond.code ({ cls := "java/lang/String", name := "getBytes", desc := "([BIB)V" } : Jvm.MethodName) prog_16_method_147_code (4 : Nat) (Option.none : Option Jvm.ClassFile.FieldType)) ∈ lw_all := lw_g (lw_at lw_m3 160 rfl) rfl
theorem q676 : (Jvm.Cond.methodLink "java/lang/String" (212 : Nat) ({ cls := "java/lang/System", name := "arraycopy", desc := "(Ljava/lang/Object;ILjava/lang/Object;II)V" } : Jvm.MethodName)) ∈ lw_all := lw_g (lw_at lw_m3 161 rfl) rfl
theorem q677 : (Jvm.Cond.methodLink "java/lang/String" (106 : Nat) ({ cls := "java/lang/StringLatin1", name := "inflate", desc := "([BI[BII)V" } : Jvm.MethodName)) ∈ lw_all := lw_g (lw_at lw_m3 162 rfl) rfl
theorem q808 : (Jvm.Cond.instanceMethod ({ cls := "java/lang/String", name := "equals", desc := "(Ljava/lang/Object;)Z" } : Jvm.MethodName)) ∈ lw_all := lw_g (lw_at lw_m4 53 rfl) rfl
theorem q809 : (Jvm.Cond.selects "java/lang/String" ({ cls := "java/lang/String", name := "equals", desc := "(Ljava/lang/Object;)Z" } : Jvm.MethodName) ({ cls := "java/lang/String", name := "equals", desc := "(Ljava/lang/Object;)Z" } : Jvm.MethodName)) ∈ lw_all := lw_g (lw_at lw_m4 54 rfl) rfl
theorem q810 : (Jvm.Cond.code ({ cls := "java/lang/String", name := "equals", desc := "(Ljava/lang/Object;)Z" } : Jvm.MethodName) prog_16_method_66_code (3 : Nat) (Option.some Jvm.ClassFile.FieldType.boolean)) ∈ lw_all := lw_g (lw_at lw_m4 55 rfl) rfl
theorem q811 : (Jvm.Cond.classLink "java/lang/String" (10 : Nat) "java/lang/String") ∈ lw_all := lw_g (lw_at lw_m4 56 rfl) rfl
theorem q812 : (Jvm.Cond.methodLink "java/lang/String" (541 : Nat) ({ cls := "java/lang/StringLatin1", name := "equals", desc := "([B[B)Z" } : Jvm.MethodName)) ∈ lw_all := lw_g (lw_at lw_m4 57 rfl) rfl
theorem q1055 : (Jvm.Cond.castable "java/lang/String" "java/lang/Object") ∈ lw_tbl := lw_at lw_m5 60 rfl
theorem in_J5 : ∀ w ∈ wsJ50, w ∈ lw_all := lw_in wsJ50 [436, 438, 440, 442] (by decide +kernel) (by decide +kernel)

/-! java/lang/StringUTF16 -/
def RJ6 : String := "java/lang/StringUTF16"
abbrev cJ6_newBytesFor : ByteArray := prog_19_method_2_code
def yJ6_newBytesFor : MethodName := ⟨RJ6, "newBytesFor", "(I)[B"⟩
abbrev cJ6_newBytesLength : ByteArray := prog_19_method_3_code
def yJ6_newBytesLength : MethodName := ⟨RJ6, "newBytesLength", "(I)I"⟩
abbrev cJ6_charAt : ByteArray := prog_19_method_83_code
def yJ6_charAt : MethodName := ⟨RJ6, "charAt", "([BI)C"⟩
abbrev cJ6_checkIndex : ByteArray := prog_19_method_91_code
def yJ6_checkIndex : MethodName := ⟨RJ6, "checkIndex", "(I[B)V"⟩
abbrev cJ6_length : ByteArray := prog_19_method_6_code
def yJ6_length : MethodName := ⟨RJ6, "length", "([B)I"⟩
abbrev cJ6_getChar : ByteArray := prog_19_method_5_code
def yJ6_getChar : MethodName := ⟨RJ6, "getChar", "([BI)C"⟩
abbrev cJ6_fillNull : ByteArray := prog_19_method_70_code
def yJ6_fillNull : MethodName := ⟨RJ6, "fillNull", "([BII)V"⟩
abbrev cJ6_inflate : ByteArray := prog_19_method_86_code
def yJ6_inflate : MethodName := ⟨RJ6, "inflate", "([BI[BII)V"⟩
abbrev cJ6_checkBoundsOffCount : ByteArray := prog_19_method_94_code
def yJ6_checkBoundsOffCount : MethodName := ⟨RJ6, "checkBoundsOffCount", "(II[B)V"⟩
abbrev cJ6_putChar : ByteArray := prog_19_method_4_code
def yJ6_putChar : MethodName := ⟨RJ6, "putChar", "([BII)V"⟩
abbrev cJ6_putCharSB : ByteArray := prog_19_method_71_code
def yJ6_putCharSB : MethodName := ⟨RJ6, "putCharSB", "([BII)V"⟩
abbrev cJ6_compress : ByteArray := prog_19_method_17_code
def yJ6_compress : MethodName := ⟨RJ6, "compress", "([BII)[B"⟩
abbrev cJ6_compress_2 : ByteArray := prog_19_method_22_code
def yJ6_compress_2 : MethodName := ⟨RJ6, "compress", "([BI[BII)I"⟩
abbrev cJ6_coderFromArrayLen : ByteArray := prog_19_method_15_code
def yJ6_coderFromArrayLen : MethodName := ⟨RJ6, "coderFromArrayLen", "([BI)B"⟩
abbrev cJ6_putCharsAt : ByteArray := prog_19_method_81_code
def yJ6_putCharsAt : MethodName := ⟨RJ6, "putCharsAt", "([BICCCC)I"⟩
abbrev cJ6_checkBoundsBeginEnd : ByteArray := prog_19_method_93_code
def yJ6_checkBoundsBeginEnd : MethodName := ⟨RJ6, "checkBoundsBeginEnd", "(II[B)V"⟩
theorem q45 : (Jvm.Cond.initialized "java/lang/StringUTF16") ∈ lw_all := lw_g (lw_at lw_m1 10 rfl) rfl
theorem q140 : (Jvm.Cond.static ({ cls := "java/lang/StringUTF16", name := "newBytesFor", desc := "(I)[B" } : Jvm.MethodName)) ∈ lw_all := lw_g (lw_at lw_m1 105 rfl) rfl
theorem q141 : (Jvm.Cond.code ({ cls := "java/lang/StringUTF16", name := "newBytesFor", desc := "(I)[B" } : Jvm.MethodName) prog_19_method_2_code (1 : Nat) (Option.some (Jvm.ClassFile.FieldType.array Jvm.ClassFile.FieldType.byte))) ∈ lw_all := lw_g (lw_at lw_m1 106 rfl) rfl
theorem q142 : (Jvm.Cond.methodLink "java/lang/StringUTF16" (11 : Nat) ({ cls := "java/lang/StringUTF16", name := "newBytesLength", desc := "(I)I" } : Jvm.MethodName)) ∈ lw_all := lw_g (lw_at lw_m1 107 rfl) rfl
theorem q143 : (Jvm.Cond.static ({ cls := "java/lang/StringUTF16", name := "newBytesLength", desc := "(I)I" } : Jvm.MethodName)) ∈ lw_all := lw_g (lw_at lw_m1 108 rfl) rfl
theorem q144 : (Jvm.Cond.code ({ cls := "java/lang/StringUTF16", name := "newBytesLength", desc := "(I)I" } : Jvm.MethodName) prog_19_method_3_code (1 : Nat) (Option.some Jvm.ClassFile.FieldType.int)) ∈ lw_all := lw_g (lw_at lw_m1 109 rfl) rfl
theorem q145 : (Jvm.Cond.constant "java/lang/StringUTF16" (20 : Nat) (1073741823 : Int32)) ∈ lw_all := lw_g (lw_at lw_m1 110 rfl) rfl
theorem q246 : (Jvm.Cond.static ({ cls := "java/lang/StringUTF16", name := "charAt", desc := "([BI)C" } : Jvm.MethodName)) ∈ lw_all := lw_g (lw_at lw_m1 211 rfl) rfl
theorem q247 : (Jvm.Cond.code ({ cls := "java/lang/StringUTF16", name := "charAt", desc := "([BI)C" } : Jvm.MethodName) prog_19_method_83_code (2 : Nat) (Option.some Jvm.ClassFile.FieldType.char)) ∈ lw_all := lw_g (lw_at lw_m1 212 rfl) rfl
theorem q248 : (Jvm.Cond.methodLink "java/lang/StringUTF16" (67 : Nat) ({ cls := "java/lang/StringUTF16", name := "checkIndex", desc := "(I[B)V" } : Jvm.MethodName)) ∈ lw_all := lw_g (lw_at lw_m1 213 rfl) rfl
theorem q249 : (Jvm.Cond.static ({ cls := "java/lang/StringUTF16", name := "checkIndex", desc := "(I[B)V" } : Jvm.MethodName)) ∈ lw_all := lw_g (lw_at lw_m1 214 rfl) rfl
theorem q250 : (Jvm.Cond.code ({ cls := "java/lang/StringUTF16", name := "checkIndex", desc := "(I[B)V" } : Jvm.MethodName) prog_19_method_91_code (2 : Nat) (Option.none : Option Jvm.ClassFile.FieldType)) ∈ lw_all := lw_g (lw_at lw_m1 215 rfl) rfl
theorem q251 : (Jvm.Cond.methodLink "java/lang/StringUTF16" (48 : Nat) ({ cls := "java/lang/StringUTF16", name := "length", desc := "([B)I" } : Jvm.MethodName)) ∈ lw_all := lw_g (lw_at lw_m1 216 rfl) rfl
theorem q252 : (Jvm.Cond.static ({ cls := "java/lang/StringUTF16", name := "length", desc := "([B)I" } : Jvm.MethodName)) ∈ lw_all := lw_g (lw_at lw_m1 217 rfl) rfl
theorem q253 : (Jvm.Cond.code ({ cls := "java/lang/StringUTF16", name := "length", desc := "([B)I" } : Jvm.MethodName) prog_19_method_6_code (1 : Nat) (Option.some Jvm.ClassFile.FieldType.int)) ∈ lw_all := lw_g (lw_at lw_m1 218 rfl) rfl
theorem q254 : (Jvm.Cond.methodLink "java/lang/StringUTF16" (414 : Nat) ({ cls := "java/lang/String", name := "checkIndex", desc := "(II)V" } : Jvm.MethodName)) ∈ lw_all := lw_g (lw_at lw_m1 219 rfl) rfl
theorem q255 : (Jvm.Cond.methodLink "java/lang/StringUTF16" (71 : Nat) ({ cls := "java/lang/StringUTF16", name := "getChar", desc := "([BI)C" } : Jvm.MethodName)) ∈ lw_all := lw_g (lw_at lw_m1 220 rfl) rfl
theorem q256 : (Jvm.Cond.static ({ cls := "java/lang/StringUTF16", name := "getChar", desc := "([BI)C" } : Jvm.MethodName)) ∈ lw_all := lw_g (lw_at lw_m1 221 rfl) rfl
theorem q257 : (Jvm.Cond.code ({ cls := "java/lang/StringUTF16", name := "getChar", desc := "([BI)C" } : Jvm.MethodName) prog_19_method_5_code (2 : Nat) (Option.some Jvm.ClassFile.FieldType.char)) ∈ lw_all := lw_g (lw_at lw_m1 222 rfl) rfl
theorem q258 : (Jvm.Cond.fieldLink "java/lang/StringUTF16" (44 : Nat) "java/lang/StringUTF16" "$assertionsDisabled" "Z") ∈ lw_all := lw_g (lw_at lw_m1 223 rfl) rfl
theorem q259 : (Jvm.Cond.laysStatic "java/lang/StringUTF16" "$assertionsDisabled" "Z") ∈ lw_tbl := lw_at lw_m1 224 rfl
theorem q260 : (Jvm.Cond.fieldLink "java/lang/StringUTF16" (59 : Nat) "java/lang/StringUTF16" "HI_BYTE_SHIFT" "I") ∈ lw_all := lw_g (lw_at lw_m1 225 rfl) rfl
theorem q261 : (Jvm.Cond.laysStatic "java/lang/StringUTF16" "HI_BYTE_SHIFT" "I") ∈ lw_tbl := lw_at lw_m1 226 rfl
theorem q262 : (Jvm.Cond.fieldLink "java/lang/StringUTF16" (63 : Nat) "java/lang/StringUTF16" "LO_BYTE_SHIFT" "I") ∈ lw_all := lw_g (lw_at lw_m1 227 rfl) rfl
theorem q263 : (Jvm.Cond.laysStatic "java/lang/StringUTF16" "LO_BYTE_SHIFT" "I") ∈ lw_tbl := lw_at lw_m1 228 rfl
theorem q339 : (Jvm.Cond.static ({ cls := "java/lang/StringUTF16", name := "fillNull", desc := "([BII)V" } : Jvm.MethodName)) ∈ lw_all := lw_g (lw_at lw_m2 64 rfl) rfl
theorem q340 : (Jvm.Cond.code ({ cls := "java/lang/StringUTF16", name := "fillNull", desc := "([BII)V" } : Jvm.MethodName) prog_19_method_70_code (3 : Nat) (Option.none : Option Jvm.ClassFile.FieldType)) ∈ lw_all := lw_g (lw_at lw_m2 65 rfl) rfl
theorem q341 : (Jvm.Cond.methodLink "java/lang/StringUTF16" (380 : Nat) ({ cls := "java/util/Arrays", name := "fill", desc := "([BIIB)V" } : Jvm.MethodName)) ∈ lw_all := lw_g (lw_at lw_m2 66 rfl) rfl
theorem q360 : (Jvm.Cond.static ({ cls := "java/lang/StringUTF16", name := "inflate", desc := "([BI[BII)V" } : Jvm.MethodName)) ∈ lw_all := lw_g (lw_at lw_m2 85 rfl) rfl
theorem q361 : (Jvm.Cond.code ({ cls := "java/lang/StringUTF16", name := "inflate", desc := "([BI[BII)V" } : Jvm.MethodName) prog_19_method_86_code (6 : Nat) (Option.none : Option Jvm.ClassFile.FieldType)) ∈ lw_all := lw_g (lw_at lw_m2 86 rfl) rfl
theorem q362 : (Jvm.Cond.methodLink "java/lang/StringUTF16" (173 : Nat) ({ cls := "java/lang/StringUTF16", name := "checkBoundsOffCount", desc := "(II[B)V" } : Jvm.MethodName)) ∈ lw_all := lw_g (lw_at lw_m2 87 rfl) rfl
theorem q363 : (Jvm.Cond.static ({ cls := "java/lang/StringUTF16", name := "checkBoundsOffCount", desc := "(II[B)V" } : Jvm.MethodName)) ∈ lw_all := lw_g (lw_at lw_m2 88 rfl) rfl
theorem q364 : (Jvm.Cond.code ({ cls := "java/lang/StringUTF16", name := "checkBoundsOffCount", desc := "(II[B)V" } : Jvm.MethodName) prog_19_method_94_code (3 : Nat) (Option.none : Option Jvm.ClassFile.FieldType)) ∈ lw_all := lw_g (lw_at lw_m2 89 rfl) rfl
theorem q365 : (Jvm.Cond.methodLink "java/lang/StringUTF16" (419 : Nat) ({ cls := "java/lang/String", name := "checkBoundsOffCount", desc := "(III)I" } : Jvm.MethodName)) ∈ lw_all := lw_g (lw_at lw_m2 90 rfl) rfl
theorem q371 : (Jvm.Cond.methodLink "java/lang/StringUTF16" (111 : Nat) ({ cls := "java/lang/StringUTF16", name := "putChar", desc := "([BII)V" } : Jvm.MethodName)) ∈ lw_all := lw_g (lw_at lw_m2 96 rfl) rfl
theorem q372 : (Jvm.Cond.static ({ cls := "java/lang/StringUTF16", name := "putChar", desc := "([BII)V" } : Jvm.MethodName)) ∈ lw_all := lw_g (lw_at lw_m2 97 rfl) rfl
theorem q373 : (Jvm.Cond.code ({ cls := "java/lang/StringUTF16", name := "putChar", desc := "([BII)V" } : Jvm.MethodName) prog_19_method_4_code (3 : Nat) (Option.none : Option Jvm.ClassFile.FieldType)) ∈ lw_all := lw_g (lw_at lw_m2 98 rfl) rfl
theorem q375 : (Jvm.Cond.static ({ cls := "java/lang/StringUTF16", name := "putCharSB", desc := "([BII)V" } : Jvm.MethodName)) ∈ lw_all := lw_g (lw_at lw_m2 100 rfl) rfl
theorem q376 : (Jvm.Cond.code ({ cls := "java/lang/StringUTF16", name := "putCharSB", desc := "([BII)V" } : Jvm.MethodName) prog_19_method_71_code (3 : Nat) (Option.none : Option Jvm.ClassFile.FieldType)) ∈ lw_all := lw_g (lw_at lw_m2 101 rfl) rfl
theorem q425 : (Jvm.Cond.static ({ cls := "java/lang/StringUTF16", name := "compress", desc := "([BII)[B" } : Jvm.MethodName)) ∈ lw_all := lw_g (lw_at lw_m2 150 rfl) rfl
theorem q426 : (Jvm.Cond.code ({ cls := "java/lang/StringUTF16", name := "compress", desc := "([BII)[B" } : Jvm.MethodName) prog_19_method_17_code (6 : Nat) (Option.some (Jvm.ClassFile.FieldType.array Jvm.ClassFile.FieldType.byte))) ∈ lw_all := lw_g (lw_at lw_m2 151 rfl) rfl
theorem q427 : (Jvm.Cond.methodLink "java/lang/StringUTF16" (123 : Nat) ({ cls := "java/lang/StringUTF16", name := "compress", desc := "([BI[BII)I" } : Jvm.MethodName)) ∈ lw_all := lw_g (lw_at lw_m2 152 rfl) rfl
theorem q428 : (Jvm.Cond.static ({ cls := "java/lang/StringUTF16", name := "compress", desc := "([BI[BII)I" } : Jvm.MethodName)) ∈ lw_all := lw_g (lw_at lw_m2 153 rfl) rfl
theorem q429 : (Jvm.Cond.code ({ cls := "java/lang/StringUTF16", name := "compress", desc := "([BI[BII)I" } : Jvm.MethodName) prog_19_method_22_code (7 : Nat) (Option.some Jvm.ClassFile.FieldType.int)) ∈ lw_all := lw_g (lw_at lw_m2 154 rfl) rfl
theorem q430 : (Jvm.Cond.methodLink "java/lang/StringUTF16" (126 : Nat) ({ cls := "java/util/Arrays", name := "copyOfRange", desc := "([BII)[B" } : Jvm.MethodName)) ∈ lw_all := lw_g (lw_at lw_m2 155 rfl) rfl
theorem q432 : (Jvm.Cond.static ({ cls := "java/lang/StringUTF16", name := "coderFromArrayLen", desc := "([BI)B" } : Jvm.MethodName)) ∈ lw_all := lw_g (lw_at lw_m2 157 rfl) rfl
theorem q433 : (Jvm.Cond.code ({ cls := "java/lang/StringUTF16", name := "coderFromArrayLen", desc := "([BI)B" } : Jvm.MethodName) prog_19_method_15_code (2 : Nat) (Option.some Jvm.ClassFile.FieldType.byte)) ∈ lw_all := lw_g (lw_at lw_m2 158 rfl) rfl
theorem q644 : (Jvm.Cond.static ({ cls := "java/lang/StringUTF16", name := "putCharsAt", desc := "([BICCCC)I" } : Jvm.MethodName)) ∈ lw_all := lw_g (lw_at lw_m3 129 rfl) rfl
theorem q645 : (Jvm.Cond.code ({ cls := "java/lang/StringUTF16", name := "putCharsAt", desc := "([BICCCC)I" } : Jvm.MethodName) prog_19_method_81_code (7 : Nat) (Option.some Jvm.ClassFile.FieldType.int)) ∈ lw_all := lw_g (lw_at lw_m3 130 rfl) rfl
theorem q646 : (Jvm.Cond.methodLink "java/lang/StringUTF16" (96 : Nat) ({ cls := "java/lang/StringUTF16", name := "checkBoundsBeginEnd", desc := "(II[B)V" } : Jvm.MethodName)) ∈ lw_all := lw_g (lw_at lw_m3 131 rfl) rfl
theorem q647 : (Jvm.Cond.static ({ cls := "java/lang/StringUTF16", name := "checkBoundsBeginEnd", desc := "(II[B)V" } : Jvm.MethodName)) ∈ lw_all := lw_g (lw_at lw_m3 132 rfl) rfl
theorem q648 : (Jvm.Cond.code ({ cls := "java/lang/StringUTF16", name := "checkBoundsBeginEnd", desc := "(II[B)V" } : Jvm.MethodName) prog_19_method_93_code (3 : Nat) (Option.none : Option Jvm.ClassFile.FieldType)) ∈ lw_all := lw_g (lw_at lw_m3 133 rfl) rfl
theorem q649 : (Jvm.Cond.methodLink "java/lang/StringUTF16" (241 : Nat) ({ cls := "java/lang/String", name := "checkBoundsBeginEnd", desc := "(III)V" } : Jvm.MethodName)) ∈ lw_all := lw_g (lw_at lw_m3 134 rfl) rfl

/-! java/util/Objects -/
def RJ7 : String := "java/util/Objects"
abbrev cJ7_checkIndex : ByteArray := prog_27_method_17_code
def yJ7_checkIndex : MethodName := ⟨RJ7, "checkIndex", "(II)I"⟩
theorem dJ7_checkIndex_0 : decode cJ7_checkIndex 0 = .ok (.iload_n 0, 1) := by decide +kernel
theorem dJ7_checkIndex_1 : decode cJ7_checkIndex 1 = .ok (.iload_n 1, 1) := by decide +kernel
theorem dJ7_checkIndex_2 : decode cJ7_checkIndex 2 = .ok (.aconst_null, 1) := by decide +kernel
theorem dJ7_checkIndex_3 : decode cJ7_checkIndex 3 = .ok (.invokestatic 105, 3) := by decide +kernel
theorem dJ7_checkIndex_6 : decode cJ7_checkIndex 6 = .ok (.ireturn, 1) := by decide +kernel
theorem q47 : (Jvm.Cond.initialized "java/util/Objects") ∈ lw_all := lw_g (lw_at lw_m1 12 rfl) rfl
theorem q213 : (Jvm.Cond.static ({ cls := "java/util/Objects", name := "checkIndex", desc := "(II)I" } : Jvm.MethodName)) ∈ lw_all := lw_g (lw_at lw_m1 178 rfl) rfl
theorem q214 : (Jvm.Cond.code ({ cls := "java/util/Objects", name := "checkIndex", desc := "(II)I" } : Jvm.MethodName) prog_27_method_17_code (2 : Nat) (Option.some Jvm.ClassFile.FieldType.int)) ∈ lw_all := lw_g (lw_at lw_m1 179 rfl) rfl
theorem q215 : (Jvm.Cond.methodLink "java/util/Objects" (105 : Nat) ({ cls := "jdk/internal/util/Preconditions", name := "checkIndex", desc := "(IILjava/util/function/BiFunction;)I" } : Jvm.MethodName)) ∈ lw_all := lw_g (lw_at lw_m1 180 rfl) rfl

/-! jdk/internal/util/Preconditions -/
def RJ8 : String := "jdk/internal/util/Preconditions"
abbrev cJ8_checkIndex : ByteArray := prog_31_method_11_code
def yJ8_checkIndex : MethodName := ⟨RJ8, "checkIndex", "(IILjava/util/function/BiFunction;)I"⟩
theorem dJ8_checkIndex_0 : decode cJ8_checkIndex 0 = .ok (.iload_n 0, 1) := by decide +kernel
theorem dJ8_checkIndex_1 : decode cJ8_checkIndex 1 = .ok (.ifCond .lt 8, 3) := by decide +kernel
theorem dJ8_checkIndex_4 : decode cJ8_checkIndex 4 = .ok (.iload_n 0, 1) := by decide +kernel
theorem dJ8_checkIndex_5 : decode cJ8_checkIndex 5 = .ok (.iload_n 1, 1) := by decide +kernel
theorem dJ8_checkIndex_6 : decode cJ8_checkIndex 6 = .ok (.if_icmp .lt 10, 3) := by decide +kernel
theorem dJ8_checkIndex_9 : decode cJ8_checkIndex 9 = .ok (.aload_n 2, 1) := by decide +kernel
theorem dJ8_checkIndex_10 : decode cJ8_checkIndex 10 = .ok (.iload_n 0, 1) := by decide +kernel
theorem dJ8_checkIndex_11 : decode cJ8_checkIndex 11 = .ok (.iload_n 1, 1) := by decide +kernel
theorem dJ8_checkIndex_12 : decode cJ8_checkIndex 12 = .ok (.invokestatic 95, 3) := by decide +kernel
theorem dJ8_checkIndex_15 : decode cJ8_checkIndex 15 = .ok (.athrow, 1) := by decide +kernel
theorem dJ8_checkIndex_16 : decode cJ8_checkIndex 16 = .ok (.iload_n 0, 1) := by decide +kernel
theorem dJ8_checkIndex_17 : decode cJ8_checkIndex 17 = .ok (.ireturn, 1) := by decide +kernel
abbrev cJ8_checkFromIndexSize : ByteArray := prog_31_method_13_code
def yJ8_checkFromIndexSize : MethodName := ⟨RJ8, "checkFromIndexSize", "(IIILjava/util/function/BiFunction;)I"⟩
theorem dJ8_checkFromIndexSize_0 : decode cJ8_checkFromIndexSize 0 = .ok (.iload_n 2, 1) := by decide +kernel
theorem dJ8_checkFromIndexSize_1 : decode cJ8_checkFromIndexSize 1 = .ok (.iload_n 0, 1) := by decide +kernel
theorem dJ8_checkFromIndexSize_2 : decode cJ8_checkFromIndexSize 2 = .ok (.ior, 1) := by decide +kernel
theorem dJ8_checkFromIndexSize_3 : decode cJ8_checkFromIndexSize 3 = .ok (.iload_n 1, 1) := by decide +kernel
theorem dJ8_checkFromIndexSize_4 : decode cJ8_checkFromIndexSize 4 = .ok (.ior, 1) := by decide +kernel
theorem dJ8_checkFromIndexSize_5 : decode cJ8_checkFromIndexSize 5 = .ok (.ifCond .lt 10, 3) := by decide +kernel
theorem dJ8_checkFromIndexSize_8 : decode cJ8_checkFromIndexSize 8 = .ok (.iload_n 1, 1) := by decide +kernel
theorem dJ8_checkFromIndexSize_9 : decode cJ8_checkFromIndexSize 9 = .ok (.iload_n 2, 1) := by decide +kernel
theorem dJ8_checkFromIndexSize_10 : decode cJ8_checkFromIndexSize 10 = .ok (.iload_n 0, 1) := by decide +kernel
theorem dJ8_checkFromIndexSize_11 : decode cJ8_checkFromIndexSize 11 = .ok (.isub, 1) := by decide +kernel
theorem dJ8_checkFromIndexSize_12 : decode cJ8_checkFromIndexSize 12 = .ok (.if_icmp .le 11, 3) := by decide +kernel
theorem dJ8_checkFromIndexSize_15 : decode cJ8_checkFromIndexSize 15 = .ok (.aload_n 3, 1) := by decide +kernel
theorem dJ8_checkFromIndexSize_16 : decode cJ8_checkFromIndexSize 16 = .ok (.iload_n 0, 1) := by decide +kernel
theorem dJ8_checkFromIndexSize_17 : decode cJ8_checkFromIndexSize 17 = .ok (.iload_n 1, 1) := by decide +kernel
theorem dJ8_checkFromIndexSize_18 : decode cJ8_checkFromIndexSize 18 = .ok (.iload_n 2, 1) := by decide +kernel
theorem dJ8_checkFromIndexSize_19 : decode cJ8_checkFromIndexSize 19 = .ok (.invokestatic 103, 3) := by decide +kernel
theorem dJ8_checkFromIndexSize_22 : decode cJ8_checkFromIndexSize 22 = .ok (.athrow, 1) := by decide +kernel
theorem dJ8_checkFromIndexSize_23 : decode cJ8_checkFromIndexSize 23 = .ok (.iload_n 0, 1) := by decide +kernel
theorem dJ8_checkFromIndexSize_24 : decode cJ8_checkFromIndexSize 24 = .ok (.ireturn, 1) := by decide +kernel
abbrev cJ8_checkFromToIndex : ByteArray := prog_31_method_12_code
def yJ8_checkFromToIndex : MethodName := ⟨RJ8, "checkFromToIndex", "(IIILjava/util/function/BiFunction;)I"⟩
theorem dJ8_checkFromToIndex_0 : decode cJ8_checkFromToIndex 0 = .ok (.iload_n 0, 1) := by decide +kernel
theorem dJ8_checkFromToIndex_1 : decode cJ8_checkFromToIndex 1 = .ok (.ifCond .lt 13, 3) := by decide +kernel
theorem dJ8_checkFromToIndex_4 : decode cJ8_checkFromToIndex 4 = .ok (.iload_n 0, 1) := by decide +kernel
theorem dJ8_checkFromToIndex_5 : decode cJ8_checkFromToIndex 5 = .ok (.iload_n 1, 1) := by decide +kernel
theorem dJ8_checkFromToIndex_6 : decode cJ8_checkFromToIndex 6 = .ok (.if_icmp .gt 8, 3) := by decide +kernel
theorem dJ8_checkFromToIndex_9 : decode cJ8_checkFromToIndex 9 = .ok (.iload_n 1, 1) := by decide +kernel
theorem dJ8_checkFromToIndex_10 : decode cJ8_checkFromToIndex 10 = .ok (.iload_n 2, 1) := by decide +kernel
theorem dJ8_checkFromToIndex_11 : decode cJ8_checkFromToIndex 11 = .ok (.if_icmp .le 11, 3) := by decide +kernel
theorem dJ8_checkFromToIndex_14 : decode cJ8_checkFromToIndex 14 = .ok (.aload_n 3, 1) := by decide +kernel
theorem dJ8_checkFromToIndex_15 : decode cJ8_checkFromToIndex 15 = .ok (.iload_n 0, 1) := by decide +kernel
theorem dJ8_checkFromToIndex_16 : decode cJ8_checkFromToIndex 16 = .ok (.iload_n 1, 1) := by decide +kernel
theorem dJ8_checkFromToIndex_17 : decode cJ8_checkFromToIndex 17 = .ok (.iload_n 2, 1) := by decide +kernel
theorem dJ8_checkFromToIndex_18 : decode cJ8_checkFromToIndex 18 = .ok (.invokestatic 99, 3) := by decide +kernel
theorem dJ8_checkFromToIndex_21 : decode cJ8_checkFromToIndex 21 = .ok (.athrow, 1) := by decide +kernel
theorem dJ8_checkFromToIndex_22 : decode cJ8_checkFromToIndex 22 = .ok (.iload_n 0, 1) := by decide +kernel
theorem dJ8_checkFromToIndex_23 : decode cJ8_checkFromToIndex 23 = .ok (.ireturn, 1) := by decide +kernel
theorem q48 : (Jvm.Cond.initialized "jdk/internal/util/Preconditions") ∈ lw_all := lw_g (lw_at lw_m1 13 rfl) rfl
theorem q216 : (Jvm.Cond.static ({ cls := "jdk/internal/util/Preconditions", name := "checkIndex", desc := "(IILjava/util/function/BiFunction;)I" } : Jvm.MethodName)) ∈ lw_all := lw_g (lw_at lw_m1 181 rfl) rfl
theorem q217 : (Jvm.Cond.code ({ cls := "jdk/internal/util/Preconditions", name := "checkIndex", desc := "(IILjava/util/function/BiFunction;)I" } : Jvm.MethodName) prog_31_method_11_code (3 : Nat) (Option.some Jvm.ClassFile.FieldType.int)) ∈ lw_all := lw_g (lw_at lw_m1 182 rfl) rfl
theorem q243 : (Jvm.Cond.laysStatic "jdk/internal/util/Preconditions" "SIOOBE_FORMATTER" "Ljava/util/function/BiFunction;") ∈ lw_tbl := lw_at lw_m1 208 rfl
theorem q369 : (Jvm.Cond.static ({ cls := "jdk/internal/util/Preconditions", name := "checkFromIndexSize", desc := "(IIILjava/util/function/BiFunction;)I" } : Jvm.MethodName)) ∈ lw_all := lw_g (lw_at lw_m2 94 rfl) rfl
theorem q370 : (Jvm.Cond.code ({ cls := "jdk/internal/util/Preconditions", name := "checkFromIndexSize", desc := "(IIILjava/util/function/BiFunction;)I" } : Jvm.MethodName) prog_31_method_13_code (4 : Nat) (Option.some Jvm.ClassFile.FieldType.int)) ∈ lw_all := lw_g (lw_at lw_m2 95 rfl) rfl
theorem q653 : (Jvm.Cond.static ({ cls := "jdk/internal/util/Preconditions", name := "checkFromToIndex", desc := "(IIILjava/util/function/BiFunction;)I" } : Jvm.MethodName)) ∈ lw_all := lw_g (lw_at lw_m3 138 rfl) rfl
theorem q654 : (Jvm.Cond.code ({ cls := "jdk/internal/util/Preconditions", name := "checkFromToIndex", desc := "(IIILjava/util/function/BiFunction;)I" } : Jvm.MethodName) prog_31_method_12_code (4 : Nat) (Option.some Jvm.ClassFile.FieldType.int)) ∈ lw_all := lw_g (lw_at lw_m3 139 rfl) rfl

/-! java/lang/StringLatin1 -/
def RJ9 : String := "java/lang/StringLatin1"
abbrev cJ9_charAt : ByteArray := prog_18_method_2_code
def yJ9_charAt : MethodName := ⟨RJ9, "charAt", "([BI)C"⟩
theorem dJ9_charAt_0 : decode cJ9_charAt 0 = .ok (.iload_n 1, 1) := by decide +kernel
theorem dJ9_charAt_1 : decode cJ9_charAt 1 = .ok (.aload_n 0, 1) := by decide +kernel
theorem dJ9_charAt_2 : decode cJ9_charAt 2 = .ok (.arraylength, 1) := by decide +kernel
theorem dJ9_charAt_3 : decode cJ9_charAt 3 = .ok (.invokestatic 9, 3) := by decide +kernel
theorem dJ9_charAt_6 : decode cJ9_charAt 6 = .ok (.aload_n 0, 1) := by decide +kernel
theorem dJ9_charAt_7 : decode cJ9_charAt 7 = .ok (.iload_n 1, 1) := by decide +kernel
theorem dJ9_charAt_8 : decode cJ9_charAt 8 = .ok (.baload, 1) := by decide +kernel
theorem dJ9_charAt_9 : decode cJ9_charAt 9 = .ok (.sipush 255, 3) := by decide +kernel
theorem dJ9_charAt_12 : decode cJ9_charAt 12 = .ok (.iand, 1) := by decide +kernel
theorem dJ9_charAt_13 : decode cJ9_charAt 13 = .ok (.i2c, 1) := by decide +kernel
theorem dJ9_charAt_14 : decode cJ9_charAt 14 = .ok (.ireturn, 1) := by decide +kernel
abbrev cJ9_fillNull : ByteArray := prog_18_method_48_code
def yJ9_fillNull : MethodName := ⟨RJ9, "fillNull", "([BII)V"⟩
theorem dJ9_fillNull_0 : decode cJ9_fillNull 0 = .ok (.aload_n 0, 1) := by decide +kernel
theorem dJ9_fillNull_1 : decode cJ9_fillNull 1 = .ok (.iload_n 1, 1) := by decide +kernel
theorem dJ9_fillNull_2 : decode cJ9_fillNull 2 = .ok (.iload_n 2, 1) := by decide +kernel
theorem dJ9_fillNull_3 : decode cJ9_fillNull 3 = .ok (.iconst 0, 1) := by decide +kernel
theorem dJ9_fillNull_4 : decode cJ9_fillNull 4 = .ok (.invokestatic 236, 3) := by decide +kernel
theorem dJ9_fillNull_7 : decode cJ9_fillNull 7 = .ok (.return_, 1) := by decide +kernel
abbrev cJ9_canEncode : ByteArray := prog_18_method_3_code
def yJ9_canEncode : MethodName := ⟨RJ9, "canEncode", "(C)Z"⟩
theorem dJ9_canEncode_0 : decode cJ9_canEncode 0 = .ok (.iload_n 0, 1) := by decide +kernel
theorem dJ9_canEncode_1 : decode cJ9_canEncode 1 = .ok (.sipush 255, 3) := by decide +kernel
theorem dJ9_canEncode_4 : decode cJ9_canEncode 4 = .ok (.if_icmp .gt 7, 3) := by decide +kernel
theorem dJ9_canEncode_7 : decode cJ9_canEncode 7 = .ok (.iconst 1, 1) := by decide +kernel
theorem dJ9_canEncode_8 : decode cJ9_canEncode 8 = .ok (.goto 4, 3) := by decide +kernel
theorem dJ9_canEncode_11 : decode cJ9_canEncode 11 = .ok (.iconst 0, 1) := by decide +kernel
theorem dJ9_canEncode_12 : decode cJ9_canEncode 12 = .ok (.ireturn, 1) := by decide +kernel
abbrev cJ9_inflate : ByteArray := prog_18_method_50_code
def yJ9_inflate : MethodName := ⟨RJ9, "inflate", "([BI[BII)V"⟩
theorem dJ9_inflate_0 : decode cJ9_inflate 0 = .ok (.aload_n 0, 1) := by decide +kernel
theorem dJ9_inflate_1 : decode cJ9_inflate 1 = .ok (.iload_n 1, 1) := by decide +kernel
theorem dJ9_inflate_2 : decode cJ9_inflate 2 = .ok (.aload_n 2, 1) := by decide +kernel
theorem dJ9_inflate_3 : decode cJ9_inflate 3 = .ok (.iload_n 3, 1) := by decide +kernel
theorem dJ9_inflate_4 : decode cJ9_inflate 4 = .ok (.iload 4, 2) := by decide +kernel
theorem dJ9_inflate_6 : decode cJ9_inflate 6 = .ok (.invokestatic 240, 3) := by decide +kernel
theorem dJ9_inflate_9 : decode cJ9_inflate 9 = .ok (.return_, 1) := by decide +kernel
abbrev cJ9_equals : ByteArray := prog_18_method_13_code
def yJ9_equals : MethodName := ⟨RJ9, "equals", "([B[B)Z"⟩
theorem dJ9_equals_0 : decode cJ9_equals 0 = .ok (.aload_n 0, 1) := by decide +kernel
theorem dJ9_equals_1 : decode cJ9_equals 1 = .ok (.arraylength, 1) := by decide +kernel
theorem dJ9_equals_2 : decode cJ9_equals 2 = .ok (.aload_n 1, 1) := by decide +kernel
theorem dJ9_equals_3 : decode cJ9_equals 3 = .ok (.arraylength, 1) := by decide +kernel
theorem dJ9_equals_4 : decode cJ9_equals 4 = .ok (.if_icmp .ne 30, 3) := by decide +kernel
theorem dJ9_equals_7 : decode cJ9_equals 7 = .ok (.iconst 0, 1) := by decide +kernel
theorem dJ9_equals_8 : decode cJ9_equals 8 = .ok (.istore_n 2, 1) := by decide +kernel
theorem dJ9_equals_9 : decode cJ9_equals 9 = .ok (.iload_n 2, 1) := by decide +kernel
theorem dJ9_equals_10 : decode cJ9_equals 10 = .ok (.aload_n 0, 1) := by decide +kernel
theorem dJ9_equals_11 : decode cJ9_equals 11 = .ok (.arraylength, 1) := by decide +kernel
theorem dJ9_equals_12 : decode cJ9_equals 12 = .ok (.if_icmp .ge 20, 3) := by decide +kernel
theorem dJ9_equals_15 : decode cJ9_equals 15 = .ok (.aload_n 0, 1) := by decide +kernel
theorem dJ9_equals_16 : decode cJ9_equals 16 = .ok (.iload_n 2, 1) := by decide +kernel
theorem dJ9_equals_17 : decode cJ9_equals 17 = .ok (.baload, 1) := by decide +kernel
theorem dJ9_equals_18 : decode cJ9_equals 18 = .ok (.aload_n 1, 1) := by decide +kernel
theorem dJ9_equals_19 : decode cJ9_equals 19 = .ok (.iload_n 2, 1) := by decide +kernel
theorem dJ9_equals_20 : decode cJ9_equals 20 = .ok (.baload, 1) := by decide +kernel
theorem dJ9_equals_21 : decode cJ9_equals 21 = .ok (.if_icmp .eq 5, 3) := by decide +kernel
theorem dJ9_equals_24 : decode cJ9_equals 24 = .ok (.iconst 0, 1) := by decide +kernel
theorem dJ9_equals_25 : decode cJ9_equals 25 = .ok (.ireturn, 1) := by decide +kernel
theorem dJ9_equals_26 : decode cJ9_equals 26 = .ok (.iinc 2 1, 3) := by decide +kernel
theorem dJ9_equals_29 : decode cJ9_equals 29 = .ok (.goto (-20), 3) := by decide +kernel
theorem dJ9_equals_32 : decode cJ9_equals 32 = .ok (.iconst 1, 1) := by decide +kernel
theorem dJ9_equals_33 : decode cJ9_equals 33 = .ok (.ireturn, 1) := by decide +kernel
theorem dJ9_equals_34 : decode cJ9_equals 34 = .ok (.iconst 0, 1) := by decide +kernel
theorem dJ9_equals_35 : decode cJ9_equals 35 = .ok (.ireturn, 1) := by decide +kernel
theorem q49 : (Jvm.Cond.initialized "java/lang/StringLatin1") ∈ lw_all := lw_g (lw_at lw_m1 14 rfl) rfl
theorem q237 : (Jvm.Cond.static ({ cls := "java/lang/StringLatin1", name := "charAt", desc := "([BI)C" } : Jvm.MethodName)) ∈ lw_all := lw_g (lw_at lw_m1 202 rfl) rfl
theorem q238 : (Jvm.Cond.code ({ cls := "java/lang/StringLatin1", name := "charAt", desc := "([BI)C" } : Jvm.MethodName) prog_18_method_2_code (2 : Nat) (Option.some Jvm.ClassFile.FieldType.char)) ∈ lw_all := lw_g (lw_at lw_m1 203 rfl) rfl
theorem q239 : (Jvm.Cond.methodLink "java/lang/StringLatin1" (9 : Nat) ({ cls := "java/lang/String", name := "checkIndex", desc := "(II)V" } : Jvm.MethodName)) ∈ lw_all := lw_g (lw_at lw_m1 204 rfl) rfl
theorem q330 : (Jvm.Cond.static ({ cls := "java/lang/StringLatin1", name := "fillNull", desc := "([BII)V" } : Jvm.MethodName)) ∈ lw_all := lw_g (lw_at lw_m2 55 rfl) rfl
theorem q331 : (Jvm.Cond.code ({ cls := "java/lang/StringLatin1", name := "fillNull", desc := "([BII)V" } : Jvm.MethodName) prog_18_method_48_code (3 : Nat) (Option.none : Option Jvm.ClassFile.FieldType)) ∈ lw_all := lw_g (lw_at lw_m2 56 rfl) rfl
theorem q332 : (Jvm.Cond.methodLink "java/lang/StringLatin1" (236 : Nat) ({ cls := "java/util/Arrays", name := "fill", desc := "([BIIB)V" } : Jvm.MethodName)) ∈ lw_all := lw_g (lw_at lw_m2 57 rfl) rfl
theorem q350 : (Jvm.Cond.static ({ cls := "java/lang/StringLatin1", name := "canEncode", desc := "(C)Z" } : Jvm.MethodName)) ∈ lw_all := lw_g (lw_at lw_m2 75 rfl) rfl
theorem q351 : (Jvm.Cond.code ({ cls := "java/lang/StringLatin1", name := "canEncode", desc := "(C)Z" } : Jvm.MethodName) prog_18_method_3_code (1 : Nat) (Option.some Jvm.ClassFile.FieldType.boolean)) ∈ lw_all := lw_g (lw_at lw_m2 76 rfl) rfl
theorem q357 : (Jvm.Cond.static ({ cls := "java/lang/StringLatin1", name := "inflate", desc := "([BI[BII)V" } : Jvm.MethodName)) ∈ lw_all := lw_g (lw_at lw_m2 82 rfl) rfl
theorem q358 : (Jvm.Cond.code ({ cls := "java/lang/StringLatin1", name := "inflate", desc := "([BI[BII)V" } : Jvm.MethodName) prog_18_method_50_code (5 : Nat) (Option.none : Option Jvm.ClassFile.FieldType)) ∈ lw_all := lw_g (lw_at lw_m2 83 rfl) rfl
theorem q359 : (Jvm.Cond.methodLink "java/lang/StringLatin1" (240 : Nat) ({ cls := "java/lang/StringUTF16", name := "inflate", desc := "([BI[BII)V" } : Jvm.MethodName)) ∈ lw_all := lw_g (lw_at lw_m2 84 rfl) rfl
theorem q813 : (Jvm.Cond.static ({ cls := "java/lang/StringLatin1", name := "equals", desc := "([B[B)Z" } : Jvm.MethodName)) ∈ lw_all := lw_g (lw_at lw_m4 58 rfl) rfl
theorem q814 : (Jvm.Cond.code ({ cls := "java/lang/StringLatin1", name := "equals", desc := "([B[B)Z" } : Jvm.MethodName) prog_18_method_13_code (3 : Nat) (Option.some Jvm.ClassFile.FieldType.boolean)) ∈ lw_all := lw_g (lw_at lw_m4 59 rfl) rfl

/-! java/lang/Math -/
def RJ10 : String := "java/lang/Math"
abbrev cJ10_max : ByteArray := prog_14_method_65_code
def yJ10_max : MethodName := ⟨RJ10, "max", "(II)I"⟩
theorem dJ10_max_0 : decode cJ10_max 0 = .ok (.iload_n 0, 1) := by decide +kernel
theorem dJ10_max_1 : decode cJ10_max 1 = .ok (.iload_n 1, 1) := by decide +kernel
theorem dJ10_max_2 : decode cJ10_max 2 = .ok (.if_icmp .lt 7, 3) := by decide +kernel
theorem dJ10_max_5 : decode cJ10_max 5 = .ok (.iload_n 0, 1) := by decide +kernel
theorem dJ10_max_6 : decode cJ10_max 6 = .ok (.goto 4, 3) := by decide +kernel
theorem dJ10_max_9 : decode cJ10_max 9 = .ok (.iload_n 1, 1) := by decide +kernel
theorem dJ10_max_10 : decode cJ10_max 10 = .ok (.ireturn, 1) := by decide +kernel
abbrev cJ10_min : ByteArray := prog_14_method_69_code
def yJ10_min : MethodName := ⟨RJ10, "min", "(II)I"⟩
theorem dJ10_min_0 : decode cJ10_min 0 = .ok (.iload_n 0, 1) := by decide +kernel
theorem dJ10_min_1 : decode cJ10_min 1 = .ok (.iload_n 1, 1) := by decide +kernel
theorem dJ10_min_2 : decode cJ10_min 2 = .ok (.if_icmp .gt 7, 3) := by decide +kernel
theorem dJ10_min_5 : decode cJ10_min 5 = .ok (.iload_n 0, 1) := by decide +kernel
theorem dJ10_min_6 : decode cJ10_min 6 = .ok (.goto 4, 3) := by decide +kernel
theorem dJ10_min_9 : decode cJ10_min 9 = .ok (.iload_n 1, 1) := by decide +kernel
theorem dJ10_min_10 : decode cJ10_min 10 = .ok (.ireturn, 1) := by decide +kernel
theorem q50 : (Jvm.Cond.initialized "java/lang/Math") ∈ lw_all := lw_g (lw_at lw_m1 15 rfl) rfl
theorem q278 : (Jvm.Cond.static ({ cls := "java/lang/Math", name := "max", desc := "(II)I" } : Jvm.MethodName)) ∈ lw_all := lw_g (lw_at lw_m2 3 rfl) rfl
theorem q279 : (Jvm.Cond.code ({ cls := "java/lang/Math", name := "max", desc := "(II)I" } : Jvm.MethodName) prog_14_method_65_code (2 : Nat) (Option.some Jvm.ClassFile.FieldType.int)) ∈ lw_all := lw_g (lw_at lw_m2 4 rfl) rfl
theorem q319 : (Jvm.Cond.static ({ cls := "java/lang/Math", name := "min", desc := "(II)I" } : Jvm.MethodName)) ∈ lw_all := lw_g (lw_at lw_m2 44 rfl) rfl
theorem q320 : (Jvm.Cond.code ({ cls := "java/lang/Math", name := "min", desc := "(II)I" } : Jvm.MethodName) prog_14_method_69_code (2 : Nat) (Option.some Jvm.ClassFile.FieldType.int)) ∈ lw_all := lw_g (lw_at lw_m2 45 rfl) rfl

/-! jdk/internal/util/ArraysSupport -/
def RJ11 : String := "jdk/internal/util/ArraysSupport"
abbrev cJ11_newLength : ByteArray := prog_30_method_27_code
def yJ11_newLength : MethodName := ⟨RJ11, "newLength", "(III)I"⟩
theorem dJ11_newLength_0 : decode cJ11_newLength 0 = .ok (.iload_n 0, 1) := by decide +kernel
theorem dJ11_newLength_1 : decode cJ11_newLength 1 = .ok (.iload_n 1, 1) := by decide +kernel
theorem dJ11_newLength_2 : decode cJ11_newLength 2 = .ok (.iload_n 2, 1) := by decide +kernel
theorem dJ11_newLength_3 : decode cJ11_newLength 3 = .ok (.invokestatic 194, 3) := by decide +kernel
theorem dJ11_newLength_6 : decode cJ11_newLength 6 = .ok (.iadd, 1) := by decide +kernel
theorem dJ11_newLength_7 : decode cJ11_newLength 7 = .ok (.istore_n 3, 1) := by decide +kernel
theorem dJ11_newLength_8 : decode cJ11_newLength 8 = .ok (.iconst 0, 1) := by decide +kernel
theorem dJ11_newLength_9 : decode cJ11_newLength 9 = .ok (.iload_n 3, 1) := by decide +kernel
theorem dJ11_newLength_10 : decode cJ11_newLength 10 = .ok (.if_icmp .ge 11, 3) := by decide +kernel
theorem dJ11_newLength_13 : decode cJ11_newLength 13 = .ok (.iload_n 3, 1) := by decide +kernel
theorem dJ11_newLength_14 : decode cJ11_newLength 14 = .ok (.ldc 200, 2) := by decide +kernel
theorem dJ11_newLength_16 : decode cJ11_newLength 16 = .ok (.if_icmp .gt 5, 3) := by decide +kernel
theorem dJ11_newLength_19 : decode cJ11_newLength 19 = .ok (.iload_n 3, 1) := by decide +kernel
theorem dJ11_newLength_20 : decode cJ11_newLength 20 = .ok (.ireturn, 1) := by decide +kernel
theorem dJ11_newLength_21 : decode cJ11_newLength 21 = .ok (.iload_n 0, 1) := by decide +kernel
theorem dJ11_newLength_22 : decode cJ11_newLength 22 = .ok (.iload_n 1, 1) := by decide +kernel
theorem dJ11_newLength_23 : decode cJ11_newLength 23 = .ok (.invokestatic 201, 3) := by decide +kernel
theorem dJ11_newLength_26 : decode cJ11_newLength 26 = .ok (.ireturn, 1) := by decide +kernel
abbrev cJ11_hugeLength : ByteArray := prog_30_method_28_code
def yJ11_hugeLength : MethodName := ⟨RJ11, "hugeLength", "(II)I"⟩
theorem dJ11_hugeLength_0 : decode cJ11_hugeLength 0 = .ok (.iload_n 0, 1) := by decide +kernel
theorem dJ11_hugeLength_1 : decode cJ11_hugeLength 1 = .ok (.iload_n 1, 1) := by decide +kernel
theorem dJ11_hugeLength_2 : decode cJ11_hugeLength 2 = .ok (.iadd, 1) := by decide +kernel
theorem dJ11_hugeLength_3 : decode cJ11_hugeLength 3 = .ok (.istore_n 2, 1) := by decide +kernel
theorem dJ11_hugeLength_4 : decode cJ11_hugeLength 4 = .ok (.iload_n 2, 1) := by decide +kernel
theorem dJ11_hugeLength_5 : decode cJ11_hugeLength 5 = .ok (.ifCond .ge 44, 3) := by decide +kernel
theorem dJ11_hugeLength_8 : decode cJ11_hugeLength 8 = .ok (.new 204, 3) := by decide +kernel
theorem dJ11_hugeLength_11 : decode cJ11_hugeLength 11 = .ok (.dup, 1) := by decide +kernel
theorem dJ11_hugeLength_12 : decode cJ11_hugeLength 12 = .ok (.new 89, 3) := by decide +kernel
theorem dJ11_hugeLength_15 : decode cJ11_hugeLength 15 = .ok (.dup, 1) := by decide +kernel
theorem dJ11_hugeLength_16 : decode cJ11_hugeLength 16 = .ok (.invokespecial 91, 3) := by decide +kernel
theorem dJ11_hugeLength_19 : decode cJ11_hugeLength 19 = .ok (.ldc 206, 2) := by decide +kernel
theorem dJ11_hugeLength_21 : decode cJ11_hugeLength 21 = .ok (.invokevirtual 94, 3) := by decide +kernel
theorem dJ11_hugeLength_24 : decode cJ11_hugeLength 24 = .ok (.iload_n 0, 1) := by decide +kernel
theorem dJ11_hugeLength_25 : decode cJ11_hugeLength 25 = .ok (.invokevirtual 98, 3) := by decide +kernel
theorem dJ11_hugeLength_28 : decode cJ11_hugeLength 28 = .ok (.ldc 208, 2) := by decide +kernel
theorem dJ11_hugeLength_30 : decode cJ11_hugeLength 30 = .ok (.invokevirtual 94, 3) := by decide +kernel
theorem dJ11_hugeLength_33 : decode cJ11_hugeLength 33 = .ok (.iload_n 1, 1) := by decide +kernel
theorem dJ11_hugeLength_34 : decode cJ11_hugeLength 34 = .ok (.invokevirtual 98, 3) := by decide +kernel
theorem dJ11_hugeLength_37 : decode cJ11_hugeLength 37 = .ok (.ldc 210, 2) := by decide +kernel
theorem dJ11_hugeLength_39 : decode cJ11_hugeLength 39 = .ok (.invokevirtual 94, 3) := by decide +kernel
theorem dJ11_hugeLength_42 : decode cJ11_hugeLength 42 = .ok (.invokevirtual 101, 3) := by decide +kernel
theorem dJ11_hugeLength_45 : decode cJ11_hugeLength 45 = .ok (.invokespecial 212, 3) := by decide +kernel
theorem dJ11_hugeLength_48 : decode cJ11_hugeLength 48 = .ok (.athrow, 1) := by decide +kernel
theorem dJ11_hugeLength_49 : decode cJ11_hugeLength 49 = .ok (.iload_n 2, 1) := by decide +kernel
theorem dJ11_hugeLength_50 : decode cJ11_hugeLength 50 = .ok (.ldc 200, 2) := by decide +kernel
theorem dJ11_hugeLength_52 : decode cJ11_hugeLength 52 = .ok (.if_icmp .gt 6, 3) := by decide +kernel
theorem dJ11_hugeLength_55 : decode cJ11_hugeLength 55 = .ok (.ldc 200, 2) := by decide +kernel
theorem dJ11_hugeLength_57 : decode cJ11_hugeLength 57 = .ok (.ireturn, 1) := by decide +kernel
theorem dJ11_hugeLength_58 : decode cJ11_hugeLength 58 = .ok (.iload_n 2, 1) := by decide +kernel
theorem dJ11_hugeLength_59 : decode cJ11_hugeLength 59 = .ok (.ireturn, 1) := by decide +kernel
theorem q51 : (Jvm.Cond.initialized "jdk/internal/util/ArraysSupport") ∈ lw_all := lw_g (lw_at lw_m1 16 rfl) rfl
theorem q300 : (Jvm.Cond.static ({ cls := "jdk/internal/util/ArraysSupport", name := "newLength", desc := "(III)I" } : Jvm.MethodName)) ∈ lw_all := lw_g (lw_at lw_m2 25 rfl) rfl
theorem q301 : (Jvm.Cond.code ({ cls := "jdk/internal/util/ArraysSupport", name := "newLength", desc := "(III)I" } : Jvm.MethodName) prog_30_method_27_code (4 : Nat) (Option.some Jvm.ClassFile.FieldType.int)) ∈ lw_all := lw_g (lw_at lw_m2 26 rfl) rfl
theorem q302 : (Jvm.Cond.methodLink "jdk/internal/util/ArraysSupport" (194 : Nat) ({ cls := "java/lang/Math", name := "max", desc := "(II)I" } : Jvm.MethodName)) ∈ lw_all := lw_g (lw_at lw_m2 27 rfl) rfl
theorem q303 : (Jvm.Cond.constant "jdk/internal/util/ArraysSupport" (200 : Nat) (2147483639 : Int32)) ∈ lw_all := lw_g (lw_at lw_m2 28 rfl) rfl
theorem q304 : (Jvm.Cond.methodLink "jdk/internal/util/ArraysSupport" (201 : Nat) ({ cls := "jdk/internal/util/ArraysSupport", name := "hugeLength", desc := "(II)I" } : Jvm.MethodName)) ∈ lw_all := lw_g (lw_at lw_m2 29 rfl) rfl
theorem q305 : (Jvm.Cond.static ({ cls := "jdk/internal/util/ArraysSupport", name := "hugeLength", desc := "(II)I" } : Jvm.MethodName)) ∈ lw_all := lw_g (lw_at lw_m2 30 rfl) rfl
theorem q306 : (Jvm.Cond.code ({ cls := "jdk/internal/util/ArraysSupport", name := "hugeLength", desc := "(II)I" } : Jvm.MethodName) prog_30_method_28_code (3 : Nat) (Option.some Jvm.ClassFile.FieldType.int)) ∈ lw_all := lw_g (lw_at lw_m2 31 rfl) rfl

/-! java/util/Arrays -/
def RJ12 : String := "java/util/Arrays"
abbrev cJ12_copyOf : ByteArray := prog_24_method_121_code
def yJ12_copyOf : MethodName := ⟨RJ12, "copyOf", "([BI)[B"⟩
theorem dJ12_copyOf_0 : decode cJ12_copyOf 0 = .ok (.iload_n 1, 1) := by decide +kernel
theorem dJ12_copyOf_1 : decode cJ12_copyOf 1 = .ok (.aload_n 0, 1) := by decide +kernel
theorem dJ12_copyOf_2 : decode cJ12_copyOf 2 = .ok (.arraylength, 1) := by decide +kernel
theorem dJ12_copyOf_3 : decode cJ12_copyOf 3 = .ok (.if_icmp .ne 11, 3) := by decide +kernel
theorem dJ12_copyOf_6 : decode cJ12_copyOf 6 = .ok (.aload_n 0, 1) := by decide +kernel
theorem dJ12_copyOf_7 : decode cJ12_copyOf 7 = .ok (.invokevirtual 310, 3) := by decide +kernel
theorem dJ12_copyOf_10 : decode cJ12_copyOf 10 = .ok (.checkcast 311, 3) := by decide +kernel
theorem dJ12_copyOf_13 : decode cJ12_copyOf 13 = .ok (.areturn, 1) := by decide +kernel
theorem dJ12_copyOf_14 : decode cJ12_copyOf 14 = .ok (.iload_n 1, 1) := by decide +kernel
theorem dJ12_copyOf_15 : decode cJ12_copyOf 15 = .ok (.newarray .byte, 2) := by decide +kernel
theorem dJ12_copyOf_17 : decode cJ12_copyOf 17 = .ok (.astore_n 2, 1) := by decide +kernel
theorem dJ12_copyOf_18 : decode cJ12_copyOf 18 = .ok (.aload_n 0, 1) := by decide +kernel
theorem dJ12_copyOf_19 : decode cJ12_copyOf 19 = .ok (.iconst 0, 1) := by decide +kernel
theorem dJ12_copyOf_20 : decode cJ12_copyOf 20 = .ok (.aload_n 2, 1) := by decide +kernel
theorem dJ12_copyOf_21 : decode cJ12_copyOf 21 = .ok (.iconst 0, 1) := by decide +kernel
theorem dJ12_copyOf_22 : decode cJ12_copyOf 22 = .ok (.aload_n 0, 1) := by decide +kernel
theorem dJ12_copyOf_23 : decode cJ12_copyOf 23 = .ok (.arraylength, 1) := by decide +kernel
theorem dJ12_copyOf_24 : decode cJ12_copyOf 24 = .ok (.iload_n 1, 1) := by decide +kernel
theorem dJ12_copyOf_25 : decode cJ12_copyOf 25 = .ok (.invokestatic 304, 3) := by decide +kernel
theorem dJ12_copyOf_28 : decode cJ12_copyOf 28 = .ok (.invokestatic 150, 3) := by decide +kernel
theorem dJ12_copyOf_31 : decode cJ12_copyOf 31 = .ok (.aload_n 2, 1) := by decide +kernel
theorem dJ12_copyOf_32 : decode cJ12_copyOf 32 = .ok (.areturn, 1) := by decide +kernel
abbrev cJ12_fill : ByteArray := prog_24_method_110_code
def yJ12_fill : MethodName := ⟨RJ12, "fill", "([BIIB)V"⟩
theorem dJ12_fill_0 : decode cJ12_fill 0 = .ok (.aload_n 0, 1) := by decide +kernel
theorem dJ12_fill_1 : decode cJ12_fill 1 = .ok (.arraylength, 1) := by decide +kernel
theorem dJ12_fill_2 : decode cJ12_fill 2 = .ok (.iload_n 1, 1) := by decide +kernel
theorem dJ12_fill_3 : decode cJ12_fill 3 = .ok (.iload_n 2, 1) := by decide +kernel
theorem dJ12_fill_4 : decode cJ12_fill 4 = .ok (.invokestatic 13, 3) := by decide +kernel
theorem dJ12_fill_7 : decode cJ12_fill 7 = .ok (.iload_n 1, 1) := by decide +kernel
theorem dJ12_fill_8 : decode cJ12_fill 8 = .ok (.istore 4, 2) := by decide +kernel
theorem dJ12_fill_10 : decode cJ12_fill 10 = .ok (.iload 4, 2) := by decide +kernel
theorem dJ12_fill_12 : decode cJ12_fill 12 = .ok (.iload_n 2, 1) := by decide +kernel
theorem dJ12_fill_13 : decode cJ12_fill 13 = .ok (.if_icmp .ge 14, 3) := by decide +kernel
theorem dJ12_fill_16 : decode cJ12_fill 16 = .ok (.aload_n 0, 1) := by decide +kernel
theorem dJ12_fill_17 : decode cJ12_fill 17 = .ok (.iload 4, 2) := by decide +kernel
theorem dJ12_fill_19 : decode cJ12_fill 19 = .ok (.iload_n 3, 1) := by decide +kernel
theorem dJ12_fill_20 : decode cJ12_fill 20 = .ok (.bastore, 1) := by decide +kernel
theorem dJ12_fill_21 : decode cJ12_fill 21 = .ok (.iinc 4 1, 3) := by decide +kernel
theorem dJ12_fill_24 : decode cJ12_fill 24 = .ok (.goto (-14), 3) := by decide +kernel
theorem dJ12_fill_27 : decode cJ12_fill 27 = .ok (.return_, 1) := by decide +kernel
abbrev cJ12_rangeCheck : ByteArray := prog_24_method_30_code
def yJ12_rangeCheck : MethodName := ⟨RJ12, "rangeCheck", "(III)V"⟩
theorem dJ12_rangeCheck_0 : decode cJ12_rangeCheck 0 = .ok (.iload_n 1, 1) := by decide +kernel
theorem dJ12_rangeCheck_1 : decode cJ12_rangeCheck 1 = .ok (.iload_n 2, 1) := by decide +kernel
theorem dJ12_rangeCheck_2 : decode cJ12_rangeCheck 2 = .ok (.if_icmp .le 44, 3) := by decide +kernel
theorem dJ12_rangeCheck_5 : decode cJ12_rangeCheck 5 = .ok (.new 43, 3) := by decide +kernel
theorem dJ12_rangeCheck_8 : decode cJ12_rangeCheck 8 = .ok (.dup, 1) := by decide +kernel
theorem dJ12_rangeCheck_9 : decode cJ12_rangeCheck 9 = .ok (.new 45, 3) := by decide +kernel
theorem dJ12_rangeCheck_12 : decode cJ12_rangeCheck 12 = .ok (.dup, 1) := by decide +kernel
theorem dJ12_rangeCheck_13 : decode cJ12_rangeCheck 13 = .ok (.invokespecial 47, 3) := by decide +kernel
theorem dJ12_rangeCheck_16 : decode cJ12_rangeCheck 16 = .ok (.ldc 48, 2) := by decide +kernel
theorem dJ12_rangeCheck_18 : decode cJ12_rangeCheck 18 = .ok (.invokevirtual 50, 3) := by decide +kernel
theorem dJ12_rangeCheck_21 : decode cJ12_rangeCheck 21 = .ok (.iload_n 1, 1) := by decide +kernel
theorem dJ12_rangeCheck_22 : decode cJ12_rangeCheck 22 = .ok (.invokevirtual 54, 3) := by decide +kernel
theorem dJ12_rangeCheck_25 : decode cJ12_rangeCheck 25 = .ok (.ldc 57, 2) := by decide +kernel
theorem dJ12_rangeCheck_27 : decode cJ12_rangeCheck 27 = .ok (.invokevirtual 50, 3) := by decide +kernel
theorem dJ12_rangeCheck_30 : decode cJ12_rangeCheck 30 = .ok (.iload_n 2, 1) := by decide +kernel
theorem dJ12_rangeCheck_31 : decode cJ12_rangeCheck 31 = .ok (.invokevirtual 54, 3) := by decide +kernel
theorem dJ12_rangeCheck_34 : decode cJ12_rangeCheck 34 = .ok (.ldc 59, 2) := by decide +kernel
theorem dJ12_rangeCheck_36 : decode cJ12_rangeCheck 36 = .ok (.invokevirtual 50, 3) := by decide +kernel
theorem dJ12_rangeCheck_39 : decode cJ12_rangeCheck 39 = .ok (.invokevirtual 61, 3) := by decide +kernel
theorem dJ12_rangeCheck_42 : decode cJ12_rangeCheck 42 = .ok (.invokespecial 65, 3) := by decide +kernel
theorem dJ12_rangeCheck_45 : decode cJ12_rangeCheck 45 = .ok (.athrow, 1) := by decide +kernel
theorem dJ12_rangeCheck_46 : decode cJ12_rangeCheck 46 = .ok (.iload_n 1, 1) := by decide +kernel
theorem dJ12_rangeCheck_47 : decode cJ12_rangeCheck 47 = .ok (.ifCond .ge 12, 3) := by decide +kernel
theorem dJ12_rangeCheck_50 : decode cJ12_rangeCheck 50 = .ok (.new 68, 3) := by decide +kernel
theorem dJ12_rangeCheck_53 : decode cJ12_rangeCheck 53 = .ok (.dup, 1) := by decide +kernel
theorem dJ12_rangeCheck_54 : decode cJ12_rangeCheck 54 = .ok (.iload_n 1, 1) := by decide +kernel
theorem dJ12_rangeCheck_55 : decode cJ12_rangeCheck 55 = .ok (.invokespecial 70, 3) := by decide +kernel
theorem dJ12_rangeCheck_58 : decode cJ12_rangeCheck 58 = .ok (.athrow, 1) := by decide +kernel
theorem dJ12_rangeCheck_59 : decode cJ12_rangeCheck 59 = .ok (.iload_n 2, 1) := by decide +kernel
theorem dJ12_rangeCheck_60 : decode cJ12_rangeCheck 60 = .ok (.iload_n 0, 1) := by decide +kernel
theorem dJ12_rangeCheck_61 : decode cJ12_rangeCheck 61 = .ok (.if_icmp .le 12, 3) := by decide +kernel
theorem dJ12_rangeCheck_64 : decode cJ12_rangeCheck 64 = .ok (.new 68, 3) := by decide +kernel
theorem dJ12_rangeCheck_67 : decode cJ12_rangeCheck 67 = .ok (.dup, 1) := by decide +kernel
theorem dJ12_rangeCheck_68 : decode cJ12_rangeCheck 68 = .ok (.iload_n 2, 1) := by decide +kernel
theorem dJ12_rangeCheck_69 : decode cJ12_rangeCheck 69 = .ok (.invokespecial 70, 3) := by decide +kernel
theorem dJ12_rangeCheck_72 : decode cJ12_rangeCheck 72 = .ok (.athrow, 1) := by decide +kernel
theorem dJ12_rangeCheck_73 : decode cJ12_rangeCheck 73 = .ok (.return_, 1) := by decide +kernel
abbrev cJ12_copyOfRange : ByteArray := prog_24_method_132_code
def yJ12_copyOfRange : MethodName := ⟨RJ12, "copyOfRange", "([BII)[B"⟩
theorem dJ12_copyOfRange_0 : decode cJ12_copyOfRange 0 = .ok (.iload_n 1, 1) := by decide +kernel
theorem dJ12_copyOfRange_1 : decode cJ12_copyOfRange 1 = .ok (.ifCond .ne 9, 3) := by decide +kernel
theorem dJ12_copyOfRange_4 : decode cJ12_copyOfRange 4 = .ok (.iload_n 2, 1) := by decide +kernel
theorem dJ12_copyOfRange_5 : decode cJ12_copyOfRange 5 = .ok (.aload_n 0, 1) := by decide +kernel
theorem dJ12_copyOfRange_6 : decode cJ12_copyOfRange 6 = .ok (.arraylength, 1) := by decide +kernel
theorem dJ12_copyOfRange_7 : decode cJ12_copyOfRange 7 = .ok (.if_icmp .eq 10, 3) := by decide +kernel
theorem dJ12_copyOfRange_10 : decode cJ12_copyOfRange 10 = .ok (.aload_n 0, 1) := by decide +kernel
theorem dJ12_copyOfRange_11 : decode cJ12_copyOfRange 11 = .ok (.iload_n 1, 1) := by decide +kernel
theorem dJ12_copyOfRange_12 : decode cJ12_copyOfRange 12 = .ok (.iload_n 2, 1) := by decide +kernel
theorem dJ12_copyOfRange_13 : decode cJ12_copyOfRange 13 = .ok (.invokestatic 339, 3) := by decide +kernel
theorem dJ12_copyOfRange_16 : decode cJ12_copyOfRange 16 = .ok (.areturn, 1) := by decide +kernel
theorem dJ12_copyOfRange_17 : decode cJ12_copyOfRange 17 = .ok (.aload_n 0, 1) := by decide +kernel
theorem dJ12_copyOfRange_18 : decode cJ12_copyOfRange 18 = .ok (.invokevirtual 310, 3) := by decide +kernel
theorem dJ12_copyOfRange_21 : decode cJ12_copyOfRange 21 = .ok (.checkcast 311, 3) := by decide +kernel
theorem dJ12_copyOfRange_24 : decode cJ12_copyOfRange 24 = .ok (.areturn, 1) := by decide +kernel
abbrev cJ12_copyOfRangeByte : ByteArray := prog_24_method_133_code
def yJ12_copyOfRangeByte : MethodName := ⟨RJ12, "copyOfRangeByte", "([BII)[B"⟩
theorem dJ12_copyOfRangeByte_0 : decode cJ12_copyOfRangeByte 0 = .ok (.iload_n 1, 1) := by decide +kernel
theorem dJ12_copyOfRangeByte_1 : decode cJ12_copyOfRangeByte 1 = .ok (.iload_n 2, 1) := by decide +kernel
theorem dJ12_copyOfRangeByte_2 : decode cJ12_copyOfRangeByte 2 = .ok (.invokestatic 343, 3) := by decide +kernel
theorem dJ12_copyOfRangeByte_5 : decode cJ12_copyOfRangeByte 5 = .ok (.iload_n 2, 1) := by decide +kernel
theorem dJ12_copyOfRangeByte_6 : decode cJ12_copyOfRangeByte 6 = .ok (.iload_n 1, 1) := by decide +kernel
theorem dJ12_copyOfRangeByte_7 : decode cJ12_copyOfRangeByte 7 = .ok (.isub, 1) := by decide +kernel
theorem dJ12_copyOfRangeByte_8 : decode cJ12_copyOfRangeByte 8 = .ok (.istore_n 3, 1) := by decide +kernel
theorem dJ12_copyOfRangeByte_9 : decode cJ12_copyOfRangeByte 9 = .ok (.iload_n 3, 1) := by decide +kernel
theorem dJ12_copyOfRangeByte_10 : decode cJ12_copyOfRangeByte 10 = .ok (.newarray .byte, 2) := by decide +kernel
theorem dJ12_copyOfRangeByte_12 : decode cJ12_copyOfRangeByte 12 = .ok (.astore 4, 2) := by decide +kernel
theorem dJ12_copyOfRangeByte_14 : decode cJ12_copyOfRangeByte 14 = .ok (.aload_n 0, 1) := by decide +kernel
theorem dJ12_copyOfRangeByte_15 : decode cJ12_copyOfRangeByte 15 = .ok (.iload_n 1, 1) := by decide +kernel
theorem dJ12_copyOfRangeByte_16 : decode cJ12_copyOfRangeByte 16 = .ok (.aload 4, 2) := by decide +kernel
theorem dJ12_copyOfRangeByte_18 : decode cJ12_copyOfRangeByte 18 = .ok (.iconst 0, 1) := by decide +kernel
theorem dJ12_copyOfRangeByte_19 : decode cJ12_copyOfRangeByte 19 = .ok (.aload_n 0, 1) := by decide +kernel
theorem dJ12_copyOfRangeByte_20 : decode cJ12_copyOfRangeByte 20 = .ok (.arraylength, 1) := by decide +kernel
theorem dJ12_copyOfRangeByte_21 : decode cJ12_copyOfRangeByte 21 = .ok (.iload_n 1, 1) := by decide +kernel
theorem dJ12_copyOfRangeByte_22 : decode cJ12_copyOfRangeByte 22 = .ok (.isub, 1) := by decide +kernel
theorem dJ12_copyOfRangeByte_23 : decode cJ12_copyOfRangeByte 23 = .ok (.iload_n 3, 1) := by decide +kernel
theorem dJ12_copyOfRangeByte_24 : decode cJ12_copyOfRangeByte 24 = .ok (.invokestatic 304, 3) := by decide +kernel
theorem dJ12_copyOfRangeByte_27 : decode cJ12_copyOfRangeByte 27 = .ok (.invokestatic 150, 3) := by decide +kernel
theorem dJ12_copyOfRangeByte_30 : decode cJ12_copyOfRangeByte 30 = .ok (.aload 4, 2) := by decide +kernel
theorem dJ12_copyOfRangeByte_32 : decode cJ12_copyOfRangeByte 32 = .ok (.areturn, 1) := by decide +kernel
abbrev cJ12_checkLength : ByteArray := prog_24_method_131_code
def yJ12_checkLength : MethodName := ⟨RJ12, "checkLength", "(II)V"⟩
theorem dJ12_checkLength_0 : decode cJ12_checkLength 0 = .ok (.iload_n 1, 1) := by decide +kernel
theorem dJ12_checkLength_1 : decode cJ12_checkLength 1 = .ok (.iload_n 0, 1) := by decide +kernel
theorem dJ12_checkLength_2 : decode cJ12_checkLength 2 = .ok (.if_icmp .ge 35, 3) := by decide +kernel
theorem dJ12_checkLength_5 : decode cJ12_checkLength 5 = .ok (.new 43, 3) := by decide +kernel
theorem dJ12_checkLength_8 : decode cJ12_checkLength 8 = .ok (.dup, 1) := by decide +kernel
theorem dJ12_checkLength_9 : decode cJ12_checkLength 9 = .ok (.new 45, 3) := by decide +kernel
theorem dJ12_checkLength_12 : decode cJ12_checkLength 12 = .ok (.dup, 1) := by decide +kernel
theorem dJ12_checkLength_13 : decode cJ12_checkLength 13 = .ok (.invokespecial 47, 3) := by decide +kernel
theorem dJ12_checkLength_16 : decode cJ12_checkLength 16 = .ok (.iload_n 0, 1) := by decide +kernel
theorem dJ12_checkLength_17 : decode cJ12_checkLength 17 = .ok (.invokevirtual 54, 3) := by decide +kernel
theorem dJ12_checkLength_20 : decode cJ12_checkLength 20 = .ok (.ldc_w 337, 3) := by decide +kernel
theorem dJ12_checkLength_23 : decode cJ12_checkLength 23 = .ok (.invokevirtual 50, 3) := by decide +kernel
theorem dJ12_checkLength_26 : decode cJ12_checkLength 26 = .ok (.iload_n 1, 1) := by decide +kernel
theorem dJ12_checkLength_27 : decode cJ12_checkLength 27 = .ok (.invokevirtual 54, 3) := by decide +kernel
theorem dJ12_checkLength_30 : decode cJ12_checkLength 30 = .ok (.invokevirtual 61, 3) := by decide +kernel
theorem dJ12_checkLength_33 : decode cJ12_checkLength 33 = .ok (.invokespecial 65, 3) := by decide +kernel
theorem dJ12_checkLength_36 : decode cJ12_checkLength 36 = .ok (.athrow, 1) := by decide +kernel
theorem dJ12_checkLength_37 : decode cJ12_checkLength 37 = .ok (.return_, 1) := by decide +kernel
abbrev cJ12_copyOf_2 : ByteArray := prog_24_method_119_code
def yJ12_copyOf_2 : MethodName := ⟨RJ12, "copyOf", "([Ljava/lang/Object;I)[Ljava/lang/Object;"⟩
theorem dJ12_copyOf_2_0 : decode cJ12_copyOf_2 0 = .ok (.aload_n 0, 1) := by decide +kernel
theorem dJ12_copyOf_2_1 : decode cJ12_copyOf_2 1 = .ok (.iload_n 1, 1) := by decide +kernel
theorem dJ12_copyOf_2_2 : decode cJ12_copyOf_2 2 = .ok (.aload_n 0, 1) := by decide +kernel
theorem dJ12_copyOf_2_3 : decode cJ12_copyOf_2 3 = .ok (.invokevirtual 86, 3) := by decide +kernel
theorem dJ12_copyOf_2_6 : decode cJ12_copyOf_2 6 = .ok (.invokestatic 300, 3) := by decide +kernel
theorem dJ12_copyOf_2_9 : decode cJ12_copyOf_2 9 = .ok (.areturn, 1) := by decide +kernel
abbrev cJ12_copyOf_3 : ByteArray := prog_24_method_120_code
def yJ12_copyOf_3 : MethodName := ⟨RJ12, "copyOf", "([Ljava/lang/Object;ILjava/lang/Class;)[Ljava/lang/Object;"⟩
theorem dJ12_copyOf_3_0 : decode cJ12_copyOf_3 0 = .ok (.aload_n 2, 1) := by decide +kernel
theorem dJ12_copyOf_3_1 : decode cJ12_copyOf_3 1 = .ok (.ldc 110, 2) := by decide +kernel
theorem dJ12_copyOf_3_3 : decode cJ12_copyOf_3 3 = .ok (.if_acmp .ne 10, 3) := by decide +kernel
theorem dJ12_copyOf_3_6 : decode cJ12_copyOf_3 6 = .ok (.iload_n 1, 1) := by decide +kernel
theorem dJ12_copyOf_3_7 : decode cJ12_copyOf_3 7 = .ok (.anewarray 2, 3) := by decide +kernel
theorem dJ12_copyOf_3_10 : decode cJ12_copyOf_3 10 = .ok (.goto 14, 3) := by decide +kernel
theorem dJ12_copyOf_3_13 : decode cJ12_copyOf_3 13 = .ok (.aload_n 2, 1) := by decide +kernel
theorem dJ12_copyOf_3_14 : decode cJ12_copyOf_3 14 = .ok (.invokevirtual 90, 3) := by decide +kernel
theorem dJ12_copyOf_3_17 : decode cJ12_copyOf_3 17 = .ok (.iload_n 1, 1) := by decide +kernel
theorem dJ12_copyOf_3_18 : decode cJ12_copyOf_3 18 = .ok (.invokestatic 95, 3) := by decide +kernel
theorem dJ12_copyOf_3_21 : decode cJ12_copyOf_3 21 = .ok (.checkcast 110, 3) := by decide +kernel
theorem dJ12_copyOf_3_24 : decode cJ12_copyOf_3 24 = .ok (.astore_n 3, 1) := by decide +kernel
theorem dJ12_copyOf_3_25 : decode cJ12_copyOf_3 25 = .ok (.aload_n 0, 1) := by decide +kernel
theorem dJ12_copyOf_3_26 : decode cJ12_copyOf_3 26 = .ok (.iconst 0, 1) := by decide +kernel
theorem dJ12_copyOf_3_27 : decode cJ12_copyOf_3 27 = .ok (.aload_n 3, 1) := by decide +kernel
theorem dJ12_copyOf_3_28 : decode cJ12_copyOf_3 28 = .ok (.iconst 0, 1) := by decide +kernel
theorem dJ12_copyOf_3_29 : decode cJ12_copyOf_3 29 = .ok (.aload_n 0, 1) := by decide +kernel
theorem dJ12_copyOf_3_30 : decode cJ12_copyOf_3 30 = .ok (.arraylength, 1) := by decide +kernel
theorem dJ12_copyOf_3_31 : decode cJ12_copyOf_3 31 = .ok (.iload_n 1, 1) := by decide +kernel
theorem dJ12_copyOf_3_32 : decode cJ12_copyOf_3 32 = .ok (.invokestatic 304, 3) := by decide +kernel
theorem dJ12_copyOf_3_35 : decode cJ12_copyOf_3 35 = .ok (.invokestatic 150, 3) := by decide +kernel
theorem dJ12_copyOf_3_38 : decode cJ12_copyOf_3 38 = .ok (.aload_n 3, 1) := by decide +kernel
theorem dJ12_copyOf_3_39 : decode cJ12_copyOf_3 39 = .ok (.areturn, 1) := by decide +kernel
theorem q52 : (Jvm.Cond.initialized "java/util/Arrays") ∈ lw_all := lw_g (lw_at lw_m1 17 rfl) rfl
theorem q309 : (Jvm.Cond.static ({ cls := "java/util/Arrays", name := "copyOf", desc := "([BI)[B" } : Jvm.MethodName)) ∈ lw_all := lw_g (lw_at lw_m2 34 rfl) rfl
theorem q310 : (Jvm.Cond.code ({ cls := "java/util/Arrays", name := "copyOf", desc := "([BI)[B" } : Jvm.MethodName) prog_24_method_121_code (3 : Nat) (Option.some (Jvm.ClassFile.FieldType.array Jvm.ClassFile.FieldType.byte))) ∈ lw_all := lw_g (lw_at lw_m2 35 rfl) rfl
theorem q311 : (Jvm.Cond.methodLink "java/util/Arrays" (310 : Nat) ({ cls := "[B", name := "clone", desc := "()Ljava/lang/Object;" } : Jvm.MethodName)) ∈ lw_all := lw_g (lw_at lw_m2 36 rfl) rfl
theorem q317 : (Jvm.Cond.classLink "java/util/Arrays" (311 : Nat) "[B") ∈ lw_all := lw_g (lw_at lw_m2 42 rfl) rfl
theorem q318 : (Jvm.Cond.methodLink "java/util/Arrays" (304 : Nat) ({ cls := "java/lang/Math", name := "min", desc := "(II)I" } : Jvm.MethodName)) ∈ lw_all := lw_g (lw_at lw_m2 43 rfl) rfl
theorem q321 : (Jvm.Cond.methodLink "java/util/Arrays" (150 : Nat) ({ cls := "java/lang/System", name := "arraycopy", desc := "(Ljava/lang/Object;ILjava/lang/Object;II)V" } : Jvm.MethodName)) ∈ lw_all := lw_g (lw_at lw_m2 46 rfl) rfl
theorem q333 : (Jvm.Cond.static ({ cls := "java/util/Arrays", name := "fill", desc := "([BIIB)V" } : Jvm.MethodName)) ∈ lw_all := lw_g (lw_at lw_m2 58 rfl) rfl
theorem q334 : (Jvm.Cond.code ({ cls := "java/util/Arrays", name := "fill", desc := "([BIIB)V" } : Jvm.MethodName) prog_24_method_110_code (5 : Nat) (Option.none : Option Jvm.ClassFile.FieldType)) ∈ lw_all := lw_g (lw_at lw_m2 59 rfl) rfl
theorem q335 : (Jvm.Cond.methodLink "java/util/Arrays" (13 : Nat) ({ cls := "java/util/Arrays", name := "rangeCheck", desc := "(III)V" } : Jvm.MethodName)) ∈ lw_all := lw_g (lw_at lw_m2 60 rfl) rfl
theorem q336 : (Jvm.Cond.static ({ cls := "java/util/Arrays", name := "rangeCheck", desc := "(III)V" } : Jvm.MethodName)) ∈ lw_all := lw_g (lw_at lw_m2 61 rfl) rfl
theorem q337 : (Jvm.Cond.code ({ cls := "java/util/Arrays", name := "rangeCheck", desc := "(III)V" } : Jvm.MethodName) prog_24_method_30_code (3 : Nat) (Option.none : Option Jvm.ClassFile.FieldType)) ∈ lw_all := lw_g (lw_at lw_m2 62 rfl) rfl
theorem q416 : (Jvm.Cond.static ({ cls := "java/util/Arrays", name := "copyOfRange", desc := "([BII)[B" } : Jvm.MethodName)) ∈ lw_all := lw_g (lw_at lw_m2 141 rfl) rfl
theorem q417 : (Jvm.Cond.code ({ cls := "java/util/Arrays", name := "copyOfRange", desc := "([BII)[B" } : Jvm.MethodName) prog_24_method_132_code (3 : Nat) (Option.some (Jvm.ClassFile.FieldType.array Jvm.ClassFile.FieldType.byte))) ∈ lw_all := lw_g (lw_at lw_m2 142 rfl) rfl
theorem q418 : (Jvm.Cond.methodLink "java/util/Arrays" (339 : Nat) ({ cls := "java/util/Arrays", name := "copyOfRangeByte", desc := "([BII)[B" } : Jvm.MethodName)) ∈ lw_all := lw_g (lw_at lw_m2 143 rfl) rfl
theorem q419 : (Jvm.Cond.static ({ cls := "java/util/Arrays", name := "copyOfRangeByte", desc := "([BII)[B" } : Jvm.MethodName)) ∈ lw_all := lw_g (lw_at lw_m2 144 rfl) rfl
theorem q420 : (Jvm.Cond.code ({ cls := "java/util/Arrays", name := "copyOfRangeByte", desc := "([BII)[B" } : Jvm.MethodName) prog_24_method_133_code (5 : Nat) (Option.some (Jvm.ClassFile.FieldType.array Jvm.ClassFile.FieldType.byte))) ∈ lw_all := lw_g (lw_at lw_m2 145 rfl) rfl
theorem q421 : (Jvm.Cond.methodLink "java/util/Arrays" (343 : Nat) ({ cls := "java/util/Arrays", name := "checkLength", desc := "(II)V" } : Jvm.MethodName)) ∈ lw_all := lw_g (lw_at lw_m2 146 rfl) rfl
theorem q422 : (Jvm.Cond.static ({ cls := "java/util/Arrays", name := "checkLength", desc := "(II)V" } : Jvm.MethodName)) ∈ lw_all := lw_g (lw_at lw_m2 147 rfl) rfl
theorem q423 : (Jvm.Cond.code ({ cls := "java/util/Arrays", name := "checkLength", desc := "(II)V" } : Jvm.MethodName) prog_24_method_131_code (2 : Nat) (Option.none : Option Jvm.ClassFile.FieldType)) ∈ lw_all := lw_g (lw_at lw_m2 148 rfl) rfl
theorem q555 : (Jvm.Cond.static ({ cls := "java/util/Arrays", name := "copyOf", desc := "([Ljava/lang/Object;I)[Ljava/lang/Object;" } : Jvm.MethodName)) ∈ lw_all := lw_g (lw_at lw_m3 40 rfl) rfl
theorem q556 : (Jvm.Cond.code ({ cls := "java/util/Arrays", name := "copyOf", desc := "([Ljava/lang/Object;I)[Ljava/lang/Object;" } : Jvm.MethodName) prog_24_method_119_code (2 : Nat) (Option.some (Jvm.ClassFile.FieldType.array (Jvm.ClassFile.FieldType.object "java/lang/Object")))) ∈ lw_all := lw_g (lw_at lw_m3 41 rfl) rfl
theorem q557 : (Jvm.Cond.methodLink "java/util/Arrays" (86 : Nat) ({ cls := "java/lang/Object", name := "getClass", desc := "()Ljava/lang/Class;" } : Jvm.MethodName)) ∈ lw_all := lw_g (lw_at lw_m3 42 rfl) rfl
theorem q571 : (Jvm.Cond.methodLink "java/util/Arrays" (300 : Nat) ({ cls := "java/util/Arrays", name := "copyOf", desc := "([Ljava/lang/Object;ILjava/lang/Class;)[Ljava/lang/Object;" } : Jvm.MethodName)) ∈ lw_all := lw_g (lw_at lw_m3 56 rfl) rfl
theorem q572 : (Jvm.Cond.static ({ cls := "java/util/Arrays", name := "copyOf", desc := "([Ljava/lang/Object;ILjava/lang/Class;)[Ljava/lang/Object;" } : Jvm.MethodName)) ∈ lw_all := lw_g (lw_at lw_m3 57 rfl) rfl
theorem q573 : (Jvm.Cond.code ({ cls := "java/util/Arrays", name := "copyOf", desc := "([Ljava/lang/Object;ILjava/lang/Class;)[Ljava/lang/Object;" } : Jvm.MethodName) prog_24_method_120_code (4 : Nat) (Option.some (Jvm.ClassFile.FieldType.array (Jvm.ClassFile.FieldType.object "java/lang/Object")))) ∈ lw_all := lw_g (lw_at lw_m3 58 rfl) rfl
theorem q574 : (Jvm.Cond.classLink "java/util/Arrays" (110 : Nat) "[Ljava/lang/Object;") ∈ lw_all := lw_g (lw_at lw_m3 59 rfl) rfl
theorem q576 : (Jvm.Cond.classLink "java/util/Arrays" (2 : Nat) "java/lang/Object") ∈ lw_all := lw_g (lw_at lw_m3 61 rfl) rfl

/-! java/lang/Record -/
def RJ13 : String := "java/lang/Record"
abbrev cJ13_init : ByteArray := prog_15_method_1_code
def yJ13_init : MethodName := ⟨RJ13, "<init>", "()V"⟩
theorem dJ13_init_0 : decode cJ13_init 0 = .ok (.aload_n 0, 1) := by decide +kernel
theorem dJ13_init_1 : decode cJ13_init 1 = .ok (.invokespecial 1, 3) := by decide +kernel
theorem dJ13_init_4 : decode cJ13_init 4 = .ok (.return_, 1) := by decide +kernel
theorem q54 : (Jvm.Cond.initialized "java/lang/Record") ∈ lw_all := lw_g (lw_at lw_m1 19 rfl) rfl
theorem q449 : (Jvm.Cond.instanceMethod ({ cls := "java/lang/Record", name := "<init>", desc := "()V" } : Jvm.MethodName)) ∈ lw_all := lw_g (lw_at lw_m2 174 rfl) rfl
theorem q450 : (Jvm.Cond.code ({ cls := "java/lang/Record", name := "<init>", desc := "()V" } : Jvm.MethodName) prog_15_method_1_code (1 : Nat) (Option.none : Option Jvm.ClassFile.FieldType)) ∈ lw_all := lw_g (lw_at lw_m2 175 rfl) rfl
theorem q451 : (Jvm.Cond.methodLink "java/lang/Record" (1 : Nat) ({ cls := "java/lang/Object", name := "<init>", desc := "()V" } : Jvm.MethodName)) ∈ lw_all := lw_g (lw_at lw_m2 176 rfl) rfl

/-! java/lang/Object -/
def RJ14 : String := "java/lang/Object"
abbrev cJ14_init : ByteArray := object_method_1_code
def yJ14_init : MethodName := ⟨RJ14, "<init>", "()V"⟩
theorem dJ14_init_0 : decode cJ14_init 0 = .ok (.return_, 1) := by decide +kernel
theorem q64 : (Jvm.Cond.instanceMethod ({ cls := "java/lang/Object", name := "<init>", desc := "()V" } : Jvm.MethodName)) ∈ lw_all := lw_g (lw_at lw_m1 29 rfl) rfl
theorem q65 : (Jvm.Cond.code ({ cls := "java/lang/Object", name := "<init>", desc := "()V" } : Jvm.MethodName) object_method_1_code (1 : Nat) (Option.none : Option Jvm.ClassFile.FieldType)) ∈ lw_all := lw_g (lw_at lw_m1 30 rfl) rfl
theorem q313 : (Jvm.Cond.native ({ cls := "java/lang/Object", name := "clone", desc := "()Ljava/lang/Object;" } : Jvm.MethodName)) ∈ lw_all := lw_g (lw_at lw_m2 38 rfl) rfl
theorem q314 : (Jvm.Cond.instanceMethod ({ cls := "java/lang/Object", name := "clone", desc := "()Ljava/lang/Object;" } : Jvm.MethodName)) ∈ lw_all := lw_g (lw_at lw_m2 39 rfl) rfl
theorem q558 : (Jvm.Cond.instanceMethod ({ cls := "java/lang/Object", name := "getClass", desc := "()Ljava/lang/Class;" } : Jvm.MethodName)) ∈ lw_all := lw_g (lw_at lw_m3 43 rfl) rfl
theorem q559 : (Jvm.Cond.sameMethod "java/lang/Object" "java/lang/Object" "getClass" "()Ljava/lang/Class;") ∈ lw_all := lw_g (lw_at lw_m3 44 rfl) rfl
theorem q570 : (Jvm.Cond.native ({ cls := "java/lang/Object", name := "getClass", desc := "()Ljava/lang/Class;" } : Jvm.MethodName)) ∈ lw_all := lw_g (lw_at lw_m3 55 rfl) rfl
theorem q1059 : (Jvm.Cond.declares ({ cls := "java/lang/Object", name := "getClass", desc := "()Ljava/lang/Class;" } : Jvm.MethodName)) ∈ lw_tbl := lw_at lw_m5 64 rfl

