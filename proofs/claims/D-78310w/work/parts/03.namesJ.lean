/-! java/util/AbstractCollection -/
set_option maxRecDepth 100000
def RJ0 : String := "java/util/AbstractCollection"
abbrev cJ0_init : ByteArray := prog_32_method_1_code
def yJ0_init : MethodName := ⟨RJ0, "<init>", "()V"⟩
theorem dJ0_init_0 : decode cJ0_init 0 = .ok (.aload_n 0, 1) := by decide +kernel
theorem dJ0_init_1 : decode cJ0_init 1 = .ok (.invokespecial 1, 3) := by decide +kernel
theorem dJ0_init_4 : decode cJ0_init 4 = .ok (.return_, 1) := by decide +kernel
theorem q98 : (Jvm.Cond.initialized "java/util/AbstractCollection") ∈ lw_all := lw_g (lw_at lw_m1 3 rfl) rfl
theorem q163 : (Jvm.Cond.instanceMethod ({ cls := "java/util/AbstractCollection", name := "<init>", desc := "()V" } : Jvm.MethodName)) ∈ lw_all := lw_g (lw_at lw_m1 68 rfl) rfl
theorem q164 : (Jvm.Cond.code ({ cls := "java/util/AbstractCollection", name := "<init>", desc := "()V" } : Jvm.MethodName) prog_32_method_1_code (1 : Nat) (Option.none : Option Jvm.ClassFile.FieldType)) ∈ lw_all := lw_g (lw_at lw_m1 69 rfl) rfl
theorem q165 : (Jvm.Cond.methodLink "java/util/AbstractCollection" (1 : Nat) ({ cls := "java/lang/Object", name := "<init>", desc := "()V" } : Jvm.MethodName)) ∈ lw_all := lw_g (lw_at lw_m1 70 rfl) rfl

/-! java/util/AbstractList -/
set_option maxRecDepth 100000
def RJ1 : String := "java/util/AbstractList"
abbrev cJ1_init : ByteArray := prog_33_method_1_code
def yJ1_init : MethodName := ⟨RJ1, "<init>", "()V"⟩
def dkwJ1_init_0 : List UInt8 := [42, 183, 0, 1, 42, 3, 181, 0, 7, 177]
abbrev dktJ1_init_0 : List UInt8 := dkwJ1_init_0 ++ []
theorem dksJ1_init_0 : cJ1_init.data.toList.drop 0 = dktJ1_init_0 := by decide +kernel
theorem dJ1_init_0 : decode cJ1_init 0 = .ok (.aload_n 0, 1) := dk_42 (dk_at dksJ1_init_0 0 rfl rfl)
theorem dJ1_init_1 : decode cJ1_init 1 = .ok (.invokespecial 1, 3) := dk_183 0 1 (dk_at dksJ1_init_0 1 rfl rfl)
theorem dJ1_init_4 : decode cJ1_init 4 = .ok (.aload_n 0, 1) := dk_42 (dk_at dksJ1_init_0 4 rfl rfl)
theorem dJ1_init_5 : decode cJ1_init 5 = .ok (.iconst 0, 1) := dk_3 (dk_at dksJ1_init_0 5 rfl rfl)
theorem dJ1_init_6 : decode cJ1_init 6 = .ok (.putfield 7, 3) := dk_181 0 7 (dk_at dksJ1_init_0 6 rfl rfl)
theorem dJ1_init_9 : decode cJ1_init 9 = .ok (.return_, 1) := dk_177 (dk_at dksJ1_init_0 9 rfl rfl)
theorem q99 : (Jvm.Cond.initialized "java/util/AbstractList") ∈ lw_all := lw_g (lw_at lw_m1 4 rfl) rfl
theorem q160 : (Jvm.Cond.instanceMethod ({ cls := "java/util/AbstractList", name := "<init>", desc := "()V" } : Jvm.MethodName)) ∈ lw_all := lw_g (lw_at lw_m1 65 rfl) rfl
theorem q161 : (Jvm.Cond.code ({ cls := "java/util/AbstractList", name := "<init>", desc := "()V" } : Jvm.MethodName) prog_33_method_1_code (1 : Nat) (Option.none : Option Jvm.ClassFile.FieldType)) ∈ lw_all := lw_g (lw_at lw_m1 66 rfl) rfl
theorem q162 : (Jvm.Cond.methodLink "java/util/AbstractList" (1 : Nat) ({ cls := "java/util/AbstractCollection", name := "<init>", desc := "()V" } : Jvm.MethodName)) ∈ lw_all := lw_g (lw_at lw_m1 67 rfl) rfl
theorem q170 : (Jvm.Cond.fieldLink "java/util/AbstractList" (7 : Nat) "java/util/AbstractList" "modCount" "I") ∈ lw_all := lw_g (lw_at lw_m1 75 rfl) rfl
theorem q178 : (Jvm.Cond.soleField "java/util/AbstractList" "modCount") ∈ lw_all := lw_g (lw_at lw_m1 83 rfl) rfl

/-! java/util/ArrayList -/
set_option maxRecDepth 100000
def RJ2 : String := "java/util/ArrayList"
def TJ2 : u_T := fun k => match k with
  | 0 => ("java/util/AbstractList", "modCount", "I", false)
  | 1 => ("java/util/ArrayList", "elementData", "[Ljava/lang/Object;", false)
  | _ => ("java/util/ArrayList", "size", "I", false)
def tyJ2 : Nat → FieldType := fun k => match k with
  | 0 => .int
  | 1 => .array (.object "java/lang/Object")
  | _ => .int
abbrev wsJ20 : List Cond := u_ws RJ2 TJ2 3
theorem nmJ2 : ∀ a, a < 3 → ∀ b, b < 3 → a ≠ b → (TJ2 a).2.1 ≠ (TJ2 b).2.1 := by decide +kernel
theorem tyJ2_ok : ∀ k, k < 3 → parseFieldDescriptor (TJ2 k).2.2.1 = some (tyJ2 k) := by decide +kernel
abbrev cJ2_init : ByteArray := prog_36_method_2_code
def yJ2_init : MethodName := ⟨RJ2, "<init>", "()V"⟩
def dkwJ2_init_0 : List UInt8 := [42, 183, 0, 1, 42, 178, 0, 39, 181, 0, 9, 177]
abbrev dktJ2_init_0 : List UInt8 := dkwJ2_init_0 ++ []
theorem dksJ2_init_0 : cJ2_init.data.toList.drop 0 = dktJ2_init_0 := by decide +kernel
theorem dJ2_init_0 : decode cJ2_init 0 = .ok (.aload_n 0, 1) := dk_42 (dk_at dksJ2_init_0 0 rfl rfl)
theorem dJ2_init_1 : decode cJ2_init 1 = .ok (.invokespecial 1, 3) := dk_183 0 1 (dk_at dksJ2_init_0 1 rfl rfl)
theorem dJ2_init_4 : decode cJ2_init 4 = .ok (.aload_n 0, 1) := dk_42 (dk_at dksJ2_init_0 4 rfl rfl)
theorem dJ2_init_5 : decode cJ2_init 5 = .ok (.getstatic 39, 3) := dk_178 0 39 (dk_at dksJ2_init_0 5 rfl rfl)
theorem dJ2_init_8 : decode cJ2_init 8 = .ok (.putfield 9, 3) := dk_181 0 9 (dk_at dksJ2_init_0 8 rfl rfl)
theorem dJ2_init_11 : decode cJ2_init 11 = .ok (.return_, 1) := dk_177 (dk_at dksJ2_init_0 11 rfl rfl)
abbrev cJ2_size : ByteArray := prog_36_method_8_code
def yJ2_size : MethodName := ⟨RJ2, "size", "()I"⟩
theorem dJ2_size_0 : decode cJ2_size 0 = .ok (.aload_n 0, 1) := by decide +kernel
theorem dJ2_size_1 : decode cJ2_size 1 = .ok (.getfield 48, 3) := by decide +kernel
theorem dJ2_size_4 : decode cJ2_size 4 = .ok (.ireturn, 1) := by decide +kernel
abbrev cJ2_remove : ByteArray := prog_36_method_29_code
def yJ2_remove : MethodName := ⟨RJ2, "remove", "(I)Ljava/lang/Object;"⟩
def dkwJ2_remove_1 : List UInt8 := [45, 176]
abbrev dktJ2_remove_1 : List UInt8 := dkwJ2_remove_1 ++ []
def dkwJ2_remove_0 : List UInt8 := [27, 42, 180, 0, 48, 184, 0, 118, 87, 42, 180, 0, 9, 77, 44, 27, 50, 78, 42, 44, 27, 182, 0, 144]
abbrev dktJ2_remove_0 : List UInt8 := dkwJ2_remove_0 ++ dktJ2_remove_1
theorem dksJ2_remove_0 : cJ2_remove.data.toList.drop 0 = dktJ2_remove_0 := by decide +kernel
theorem dksJ2_remove_1 : cJ2_remove.data.toList.drop 24 = dktJ2_remove_1 := dk_seg dksJ2_remove_0 24 rfl rfl
theorem dJ2_remove_0 : decode cJ2_remove 0 = .ok (.iload_n 1, 1) := dk_27 (dk_at dksJ2_remove_0 0 rfl rfl)
theorem dJ2_remove_1 : decode cJ2_remove 1 = .ok (.aload_n 0, 1) := dk_42 (dk_at dksJ2_remove_0 1 rfl rfl)
theorem dJ2_remove_2 : decode cJ2_remove 2 = .ok (.getfield 48, 3) := dk_180 0 48 (dk_at dksJ2_remove_0 2 rfl rfl)
theorem dJ2_remove_5 : decode cJ2_remove 5 = .ok (.invokestatic 118, 3) := dk_184 0 118 (dk_at dksJ2_remove_0 5 rfl rfl)
theorem dJ2_remove_8 : decode cJ2_remove 8 = .ok (.pop, 1) := dk_87 (dk_at dksJ2_remove_0 8 rfl rfl)
theorem dJ2_remove_9 : decode cJ2_remove 9 = .ok (.aload_n 0, 1) := dk_42 (dk_at dksJ2_remove_0 9 rfl rfl)
theorem dJ2_remove_10 : decode cJ2_remove 10 = .ok (.getfield 9, 3) := dk_180 0 9 (dk_at dksJ2_remove_0 10 rfl rfl)
theorem dJ2_remove_13 : decode cJ2_remove 13 = .ok (.astore_n 2, 1) := dk_77 (dk_at dksJ2_remove_0 13 rfl rfl)
theorem dJ2_remove_14 : decode cJ2_remove 14 = .ok (.aload_n 2, 1) := dk_44 (dk_at dksJ2_remove_0 14 rfl rfl)
theorem dJ2_remove_15 : decode cJ2_remove 15 = .ok (.iload_n 1, 1) := dk_27 (dk_at dksJ2_remove_0 15 rfl rfl)
theorem dJ2_remove_16 : decode cJ2_remove 16 = .ok (.aaload, 1) := dk_50 (dk_at dksJ2_remove_0 16 rfl rfl)
theorem dJ2_remove_17 : decode cJ2_remove 17 = .ok (.astore_n 3, 1) := dk_78 (dk_at dksJ2_remove_0 17 rfl rfl)
theorem dJ2_remove_18 : decode cJ2_remove 18 = .ok (.aload_n 0, 1) := dk_42 (dk_at dksJ2_remove_0 18 rfl rfl)
theorem dJ2_remove_19 : decode cJ2_remove 19 = .ok (.aload_n 2, 1) := dk_44 (dk_at dksJ2_remove_0 19 rfl rfl)
theorem dJ2_remove_20 : decode cJ2_remove 20 = .ok (.iload_n 1, 1) := dk_27 (dk_at dksJ2_remove_0 20 rfl rfl)
theorem dJ2_remove_21 : decode cJ2_remove 21 = .ok (.invokevirtual 144, 3) := dk_182 0 144 (dk_at dksJ2_remove_0 21 rfl rfl)
theorem dJ2_remove_24 : decode cJ2_remove 24 = .ok (.aload_n 3, 1) := dk_45 (dk_at dksJ2_remove_1 0 rfl rfl)
theorem dJ2_remove_25 : decode cJ2_remove 25 = .ok (.areturn, 1) := dk_176 (dk_at dksJ2_remove_1 1 rfl rfl)
abbrev cJ2_fastRemove : ByteArray := prog_36_method_39_code
def yJ2_fastRemove : MethodName := ⟨RJ2, "fastRemove", "([Ljava/lang/Object;I)V"⟩
def dkwJ2_fastRemove_1 : List UInt8 := [4, 96, 43, 28, 29, 28, 100, 184, 0, 112, 43, 42, 29, 90, 181, 0, 48, 1, 83, 177]
abbrev dktJ2_fastRemove_1 : List UInt8 := dkwJ2_fastRemove_1 ++ []
def dkwJ2_fastRemove_0 : List UInt8 := [42, 89, 180, 0, 63, 4, 96, 181, 0, 63, 42, 180, 0, 48, 4, 100, 89, 62, 28, 164, 0, 15, 43, 28]
abbrev dktJ2_fastRemove_0 : List UInt8 := dkwJ2_fastRemove_0 ++ dktJ2_fastRemove_1
theorem dksJ2_fastRemove_0 : cJ2_fastRemove.data.toList.drop 0 = dktJ2_fastRemove_0 := by decide +kernel
theorem dksJ2_fastRemove_1 : cJ2_fastRemove.data.toList.drop 24 = dktJ2_fastRemove_1 := dk_seg dksJ2_fastRemove_0 24 rfl rfl
theorem dJ2_fastRemove_0 : decode cJ2_fastRemove 0 = .ok (.aload_n 0, 1) := dk_42 (dk_at dksJ2_fastRemove_0 0 rfl rfl)
theorem dJ2_fastRemove_1 : decode cJ2_fastRemove 1 = .ok (.dup, 1) := dk_89 (dk_at dksJ2_fastRemove_0 1 rfl rfl)
theorem dJ2_fastRemove_2 : decode cJ2_fastRemove 2 = .ok (.getfield 63, 3) := dk_180 0 63 (dk_at dksJ2_fastRemove_0 2 rfl rfl)
theorem dJ2_fastRemove_5 : decode cJ2_fastRemove 5 = .ok (.iconst 1, 1) := dk_4 (dk_at dksJ2_fastRemove_0 5 rfl rfl)
theorem dJ2_fastRemove_6 : decode cJ2_fastRemove 6 = .ok (.iadd, 1) := dk_96 (dk_at dksJ2_fastRemove_0 6 rfl rfl)
theorem dJ2_fastRemove_7 : decode cJ2_fastRemove 7 = .ok (.putfield 63, 3) := dk_181 0 63 (dk_at dksJ2_fastRemove_0 7 rfl rfl)
theorem dJ2_fastRemove_10 : decode cJ2_fastRemove 10 = .ok (.aload_n 0, 1) := dk_42 (dk_at dksJ2_fastRemove_0 10 rfl rfl)
theorem dJ2_fastRemove_11 : decode cJ2_fastRemove 11 = .ok (.getfield 48, 3) := dk_180 0 48 (dk_at dksJ2_fastRemove_0 11 rfl rfl)
theorem dJ2_fastRemove_14 : decode cJ2_fastRemove 14 = .ok (.iconst 1, 1) := dk_4 (dk_at dksJ2_fastRemove_0 14 rfl rfl)
theorem dJ2_fastRemove_15 : decode cJ2_fastRemove 15 = .ok (.isub, 1) := dk_100 (dk_at dksJ2_fastRemove_0 15 rfl rfl)
theorem dJ2_fastRemove_16 : decode cJ2_fastRemove 16 = .ok (.dup, 1) := dk_89 (dk_at dksJ2_fastRemove_0 16 rfl rfl)
theorem dJ2_fastRemove_17 : decode cJ2_fastRemove 17 = .ok (.istore_n 3, 1) := dk_62 (dk_at dksJ2_fastRemove_0 17 rfl rfl)
theorem dJ2_fastRemove_18 : decode cJ2_fastRemove 18 = .ok (.iload_n 2, 1) := dk_28 (dk_at dksJ2_fastRemove_0 18 rfl rfl)
theorem dJ2_fastRemove_19 : decode cJ2_fastRemove 19 = .ok (.if_icmp .le 15, 3) := dk_164 0 15 (dk_at dksJ2_fastRemove_0 19 rfl rfl)
theorem dJ2_fastRemove_22 : decode cJ2_fastRemove 22 = .ok (.aload_n 1, 1) := dk_43 (dk_at dksJ2_fastRemove_0 22 rfl rfl)
theorem dJ2_fastRemove_23 : decode cJ2_fastRemove 23 = .ok (.iload_n 2, 1) := dk_28 (dk_at dksJ2_fastRemove_0 23 rfl rfl)
theorem dJ2_fastRemove_24 : decode cJ2_fastRemove 24 = .ok (.iconst 1, 1) := dk_4 (dk_at dksJ2_fastRemove_1 0 rfl rfl)
theorem dJ2_fastRemove_25 : decode cJ2_fastRemove 25 = .ok (.iadd, 1) := dk_96 (dk_at dksJ2_fastRemove_1 1 rfl rfl)
theorem dJ2_fastRemove_26 : decode cJ2_fastRemove 26 = .ok (.aload_n 1, 1) := dk_43 (dk_at dksJ2_fastRemove_1 2 rfl rfl)
theorem dJ2_fastRemove_27 : decode cJ2_fastRemove 27 = .ok (.iload_n 2, 1) := dk_28 (dk_at dksJ2_fastRemove_1 3 rfl rfl)
theorem dJ2_fastRemove_28 : decode cJ2_fastRemove 28 = .ok (.iload_n 3, 1) := dk_29 (dk_at dksJ2_fastRemove_1 4 rfl rfl)
theorem dJ2_fastRemove_29 : decode cJ2_fastRemove 29 = .ok (.iload_n 2, 1) := dk_28 (dk_at dksJ2_fastRemove_1 5 rfl rfl)
theorem dJ2_fastRemove_30 : decode cJ2_fastRemove 30 = .ok (.isub, 1) := dk_100 (dk_at dksJ2_fastRemove_1 6 rfl rfl)
theorem dJ2_fastRemove_31 : decode cJ2_fastRemove 31 = .ok (.invokestatic 112, 3) := dk_184 0 112 (dk_at dksJ2_fastRemove_1 7 rfl rfl)
theorem dJ2_fastRemove_34 : decode cJ2_fastRemove 34 = .ok (.aload_n 1, 1) := dk_43 (dk_at dksJ2_fastRemove_1 10 rfl rfl)
theorem dJ2_fastRemove_35 : decode cJ2_fastRemove 35 = .ok (.aload_n 0, 1) := dk_42 (dk_at dksJ2_fastRemove_1 11 rfl rfl)
theorem dJ2_fastRemove_36 : decode cJ2_fastRemove 36 = .ok (.iload_n 3, 1) := dk_29 (dk_at dksJ2_fastRemove_1 12 rfl rfl)
theorem dJ2_fastRemove_37 : decode cJ2_fastRemove 37 = .ok (.dup_x1, 1) := dk_90 (dk_at dksJ2_fastRemove_1 13 rfl rfl)
theorem dJ2_fastRemove_38 : decode cJ2_fastRemove 38 = .ok (.putfield 48, 3) := dk_181 0 48 (dk_at dksJ2_fastRemove_1 14 rfl rfl)
theorem dJ2_fastRemove_41 : decode cJ2_fastRemove 41 = .ok (.aconst_null, 1) := dk_1 (dk_at dksJ2_fastRemove_1 17 rfl rfl)
theorem dJ2_fastRemove_42 : decode cJ2_fastRemove 42 = .ok (.aastore, 1) := dk_83 (dk_at dksJ2_fastRemove_1 18 rfl rfl)
theorem dJ2_fastRemove_43 : decode cJ2_fastRemove 43 = .ok (.return_, 1) := dk_177 (dk_at dksJ2_fastRemove_1 19 rfl rfl)
abbrev cJ2_get : ByteArray := prog_36_method_20_code
def yJ2_get : MethodName := ⟨RJ2, "get", "(I)Ljava/lang/Object;"⟩
def dkwJ2_get_0 : List UInt8 := [27, 42, 180, 0, 48, 184, 0, 118, 87, 42, 27, 182, 0, 123, 176]
abbrev dktJ2_get_0 : List UInt8 := dkwJ2_get_0 ++ []
theorem dksJ2_get_0 : cJ2_get.data.toList.drop 0 = dktJ2_get_0 := by decide +kernel
theorem dJ2_get_0 : decode cJ2_get 0 = .ok (.iload_n 1, 1) := dk_27 (dk_at dksJ2_get_0 0 rfl rfl)
theorem dJ2_get_1 : decode cJ2_get 1 = .ok (.aload_n 0, 1) := dk_42 (dk_at dksJ2_get_0 1 rfl rfl)
theorem dJ2_get_2 : decode cJ2_get 2 = .ok (.getfield 48, 3) := dk_180 0 48 (dk_at dksJ2_get_0 2 rfl rfl)
theorem dJ2_get_5 : decode cJ2_get 5 = .ok (.invokestatic 118, 3) := dk_184 0 118 (dk_at dksJ2_get_0 5 rfl rfl)
theorem dJ2_get_8 : decode cJ2_get 8 = .ok (.pop, 1) := dk_87 (dk_at dksJ2_get_0 8 rfl rfl)
theorem dJ2_get_9 : decode cJ2_get 9 = .ok (.aload_n 0, 1) := dk_42 (dk_at dksJ2_get_0 9 rfl rfl)
theorem dJ2_get_10 : decode cJ2_get 10 = .ok (.iload_n 1, 1) := dk_27 (dk_at dksJ2_get_0 10 rfl rfl)
theorem dJ2_get_11 : decode cJ2_get 11 = .ok (.invokevirtual 123, 3) := dk_182 0 123 (dk_at dksJ2_get_0 11 rfl rfl)
theorem dJ2_get_14 : decode cJ2_get 14 = .ok (.areturn, 1) := dk_176 (dk_at dksJ2_get_0 14 rfl rfl)
abbrev cJ2_elementData : ByteArray := prog_36_method_18_code
def yJ2_elementData : MethodName := ⟨RJ2, "elementData", "(I)Ljava/lang/Object;"⟩
def dkwJ2_elementData_0 : List UInt8 := [42, 180, 0, 9, 27, 50, 176]
abbrev dktJ2_elementData_0 : List UInt8 := dkwJ2_elementData_0 ++ []
theorem dksJ2_elementData_0 : cJ2_elementData.data.toList.drop 0 = dktJ2_elementData_0 := by decide +kernel
theorem dJ2_elementData_0 : decode cJ2_elementData 0 = .ok (.aload_n 0, 1) := dk_42 (dk_at dksJ2_elementData_0 0 rfl rfl)
theorem dJ2_elementData_1 : decode cJ2_elementData 1 = .ok (.getfield 9, 3) := dk_180 0 9 (dk_at dksJ2_elementData_0 1 rfl rfl)
theorem dJ2_elementData_4 : decode cJ2_elementData 4 = .ok (.iload_n 1, 1) := dk_27 (dk_at dksJ2_elementData_0 4 rfl rfl)
theorem dJ2_elementData_5 : decode cJ2_elementData 5 = .ok (.aaload, 1) := dk_50 (dk_at dksJ2_elementData_0 5 rfl rfl)
theorem dJ2_elementData_6 : decode cJ2_elementData 6 = .ok (.areturn, 1) := dk_176 (dk_at dksJ2_elementData_0 6 rfl rfl)
abbrev cJ2_add : ByteArray := prog_36_method_25_code
def yJ2_add : MethodName := ⟨RJ2, "add", "(Ljava/lang/Object;)Z"⟩
def dkwJ2_add_1 : List UInt8 := [172]
abbrev dktJ2_add_1 : List UInt8 := dkwJ2_add_1 ++ []
def dkwJ2_add_0 : List UInt8 := [42, 89, 180, 0, 63, 4, 96, 181, 0, 63, 42, 43, 42, 180, 0, 9, 42, 180, 0, 48, 182, 0, 131, 4]
abbrev dktJ2_add_0 : List UInt8 := dkwJ2_add_0 ++ dktJ2_add_1
theorem dksJ2_add_0 : cJ2_add.data.toList.drop 0 = dktJ2_add_0 := by decide +kernel
theorem dksJ2_add_1 : cJ2_add.data.toList.drop 24 = dktJ2_add_1 := dk_seg dksJ2_add_0 24 rfl rfl
theorem dJ2_add_0 : decode cJ2_add 0 = .ok (.aload_n 0, 1) := dk_42 (dk_at dksJ2_add_0 0 rfl rfl)
theorem dJ2_add_1 : decode cJ2_add 1 = .ok (.dup, 1) := dk_89 (dk_at dksJ2_add_0 1 rfl rfl)
theorem dJ2_add_2 : decode cJ2_add 2 = .ok (.getfield 63, 3) := dk_180 0 63 (dk_at dksJ2_add_0 2 rfl rfl)
theorem dJ2_add_5 : decode cJ2_add 5 = .ok (.iconst 1, 1) := dk_4 (dk_at dksJ2_add_0 5 rfl rfl)
theorem dJ2_add_6 : decode cJ2_add 6 = .ok (.iadd, 1) := dk_96 (dk_at dksJ2_add_0 6 rfl rfl)
theorem dJ2_add_7 : decode cJ2_add 7 = .ok (.putfield 63, 3) := dk_181 0 63 (dk_at dksJ2_add_0 7 rfl rfl)
theorem dJ2_add_10 : decode cJ2_add 10 = .ok (.aload_n 0, 1) := dk_42 (dk_at dksJ2_add_0 10 rfl rfl)
theorem dJ2_add_11 : decode cJ2_add 11 = .ok (.aload_n 1, 1) := dk_43 (dk_at dksJ2_add_0 11 rfl rfl)
theorem dJ2_add_12 : decode cJ2_add 12 = .ok (.aload_n 0, 1) := dk_42 (dk_at dksJ2_add_0 12 rfl rfl)
theorem dJ2_add_13 : decode cJ2_add 13 = .ok (.getfield 9, 3) := dk_180 0 9 (dk_at dksJ2_add_0 13 rfl rfl)
theorem dJ2_add_16 : decode cJ2_add 16 = .ok (.aload_n 0, 1) := dk_42 (dk_at dksJ2_add_0 16 rfl rfl)
theorem dJ2_add_17 : decode cJ2_add 17 = .ok (.getfield 48, 3) := dk_180 0 48 (dk_at dksJ2_add_0 17 rfl rfl)
theorem dJ2_add_20 : decode cJ2_add 20 = .ok (.invokevirtual 131, 3) := dk_182 0 131 (dk_at dksJ2_add_0 20 rfl rfl)
theorem dJ2_add_23 : decode cJ2_add 23 = .ok (.iconst 1, 1) := dk_4 (dk_at dksJ2_add_0 23 rfl rfl)
theorem dJ2_add_24 : decode cJ2_add 24 = .ok (.ireturn, 1) := dk_172 (dk_at dksJ2_add_1 0 rfl rfl)
abbrev cJ2_add_2 : ByteArray := prog_36_method_24_code
def yJ2_add_2 : MethodName := ⟨RJ2, "add", "(Ljava/lang/Object;[Ljava/lang/Object;I)V"⟩
def dkwJ2_add_2_0 : List UInt8 := [29, 44, 190, 160, 0, 8, 42, 182, 0, 129, 77, 44, 29, 43, 83, 42, 29, 4, 96, 181, 0, 48, 177]
abbrev dktJ2_add_2_0 : List UInt8 := dkwJ2_add_2_0 ++ []
theorem dksJ2_add_2_0 : cJ2_add_2.data.toList.drop 0 = dktJ2_add_2_0 := by decide +kernel
theorem dJ2_add_2_0 : decode cJ2_add_2 0 = .ok (.iload_n 3, 1) := dk_29 (dk_at dksJ2_add_2_0 0 rfl rfl)
theorem dJ2_add_2_1 : decode cJ2_add_2 1 = .ok (.aload_n 2, 1) := dk_44 (dk_at dksJ2_add_2_0 1 rfl rfl)
theorem dJ2_add_2_2 : decode cJ2_add_2 2 = .ok (.arraylength, 1) := dk_190 (dk_at dksJ2_add_2_0 2 rfl rfl)
theorem dJ2_add_2_3 : decode cJ2_add_2 3 = .ok (.if_icmp .ne 8, 3) := dk_160 0 8 (dk_at dksJ2_add_2_0 3 rfl rfl)
theorem dJ2_add_2_6 : decode cJ2_add_2 6 = .ok (.aload_n 0, 1) := dk_42 (dk_at dksJ2_add_2_0 6 rfl rfl)
theorem dJ2_add_2_7 : decode cJ2_add_2 7 = .ok (.invokevirtual 129, 3) := dk_182 0 129 (dk_at dksJ2_add_2_0 7 rfl rfl)
theorem dJ2_add_2_10 : decode cJ2_add_2 10 = .ok (.astore_n 2, 1) := dk_77 (dk_at dksJ2_add_2_0 10 rfl rfl)
theorem dJ2_add_2_11 : decode cJ2_add_2 11 = .ok (.aload_n 2, 1) := dk_44 (dk_at dksJ2_add_2_0 11 rfl rfl)
theorem dJ2_add_2_12 : decode cJ2_add_2 12 = .ok (.iload_n 3, 1) := dk_29 (dk_at dksJ2_add_2_0 12 rfl rfl)
theorem dJ2_add_2_13 : decode cJ2_add_2 13 = .ok (.aload_n 1, 1) := dk_43 (dk_at dksJ2_add_2_0 13 rfl rfl)
theorem dJ2_add_2_14 : decode cJ2_add_2 14 = .ok (.aastore, 1) := dk_83 (dk_at dksJ2_add_2_0 14 rfl rfl)
theorem dJ2_add_2_15 : decode cJ2_add_2 15 = .ok (.aload_n 0, 1) := dk_42 (dk_at dksJ2_add_2_0 15 rfl rfl)
theorem dJ2_add_2_16 : decode cJ2_add_2 16 = .ok (.iload_n 3, 1) := dk_29 (dk_at dksJ2_add_2_0 16 rfl rfl)
theorem dJ2_add_2_17 : decode cJ2_add_2 17 = .ok (.iconst 1, 1) := dk_4 (dk_at dksJ2_add_2_0 17 rfl rfl)
theorem dJ2_add_2_18 : decode cJ2_add_2 18 = .ok (.iadd, 1) := dk_96 (dk_at dksJ2_add_2_0 18 rfl rfl)
theorem dJ2_add_2_19 : decode cJ2_add_2 19 = .ok (.putfield 48, 3) := dk_181 0 48 (dk_at dksJ2_add_2_0 19 rfl rfl)
theorem dJ2_add_2_22 : decode cJ2_add_2 22 = .ok (.return_, 1) := dk_177 (dk_at dksJ2_add_2_0 22 rfl rfl)
abbrev cJ2_grow : ByteArray := prog_36_method_7_code
def yJ2_grow : MethodName := ⟨RJ2, "grow", "()[Ljava/lang/Object;"⟩
def dkwJ2_grow_0 : List UInt8 := [42, 42, 180, 0, 48, 4, 96, 182, 0, 69, 176]
abbrev dktJ2_grow_0 : List UInt8 := dkwJ2_grow_0 ++ []
theorem dksJ2_grow_0 : cJ2_grow.data.toList.drop 0 = dktJ2_grow_0 := by decide +kernel
theorem dJ2_grow_0 : decode cJ2_grow 0 = .ok (.aload_n 0, 1) := dk_42 (dk_at dksJ2_grow_0 0 rfl rfl)
theorem dJ2_grow_1 : decode cJ2_grow 1 = .ok (.aload_n 0, 1) := dk_42 (dk_at dksJ2_grow_0 1 rfl rfl)
theorem dJ2_grow_2 : decode cJ2_grow 2 = .ok (.getfield 48, 3) := dk_180 0 48 (dk_at dksJ2_grow_0 2 rfl rfl)
theorem dJ2_grow_5 : decode cJ2_grow 5 = .ok (.iconst 1, 1) := dk_4 (dk_at dksJ2_grow_0 5 rfl rfl)
theorem dJ2_grow_6 : decode cJ2_grow 6 = .ok (.iadd, 1) := dk_96 (dk_at dksJ2_grow_0 6 rfl rfl)
theorem dJ2_grow_7 : decode cJ2_grow 7 = .ok (.invokevirtual 69, 3) := dk_182 0 69 (dk_at dksJ2_grow_0 7 rfl rfl)
theorem dJ2_grow_10 : decode cJ2_grow 10 = .ok (.areturn, 1) := dk_176 (dk_at dksJ2_grow_0 10 rfl rfl)
abbrev cJ2_grow_2 : ByteArray := prog_36_method_6_code
def yJ2_grow_2 : MethodName := ⟨RJ2, "grow", "(I)[Ljava/lang/Object;"⟩
def dkwJ2_grow_2_2 : List UInt8 := [27, 184, 0, 79, 189, 0, 7, 90, 181, 0, 9, 176]
abbrev dktJ2_grow_2_2 : List UInt8 := dkwJ2_grow_2_2 ++ []
def dkwJ2_grow_2_1 : List UInt8 := [28, 4, 122, 184, 0, 73, 62, 42, 42, 180, 0, 9, 29, 184, 0, 66, 90, 181, 0, 9, 176, 42, 16, 10]
abbrev dktJ2_grow_2_1 : List UInt8 := dkwJ2_grow_2_1 ++ dktJ2_grow_2_2
def dkwJ2_grow_2_0 : List UInt8 := [42, 180, 0, 9, 190, 61, 28, 157, 0, 13, 42, 180, 0, 9, 178, 0, 39, 165, 0, 28, 28, 27, 28, 100]
abbrev dktJ2_grow_2_0 : List UInt8 := dkwJ2_grow_2_0 ++ dktJ2_grow_2_1
theorem dksJ2_grow_2_0 : cJ2_grow_2.data.toList.drop 0 = dktJ2_grow_2_0 := by decide +kernel
theorem dksJ2_grow_2_1 : cJ2_grow_2.data.toList.drop 24 = dktJ2_grow_2_1 := dk_seg dksJ2_grow_2_0 24 rfl rfl
theorem dksJ2_grow_2_2 : cJ2_grow_2.data.toList.drop 48 = dktJ2_grow_2_2 := dk_seg dksJ2_grow_2_1 24 rfl rfl
theorem dJ2_grow_2_0 : decode cJ2_grow_2 0 = .ok (.aload_n 0, 1) := dk_42 (dk_at dksJ2_grow_2_0 0 rfl rfl)
theorem dJ2_grow_2_1 : decode cJ2_grow_2 1 = .ok (.getfield 9, 3) := dk_180 0 9 (dk_at dksJ2_grow_2_0 1 rfl rfl)
theorem dJ2_grow_2_4 : decode cJ2_grow_2 4 = .ok (.arraylength, 1) := dk_190 (dk_at dksJ2_grow_2_0 4 rfl rfl)
theorem dJ2_grow_2_5 : decode cJ2_grow_2 5 = .ok (.istore_n 2, 1) := dk_61 (dk_at dksJ2_grow_2_0 5 rfl rfl)
theorem dJ2_grow_2_6 : decode cJ2_grow_2 6 = .ok (.iload_n 2, 1) := dk_28 (dk_at dksJ2_grow_2_0 6 rfl rfl)
theorem dJ2_grow_2_7 : decode cJ2_grow_2 7 = .ok (.ifCond .gt 13, 3) := dk_157 0 13 (dk_at dksJ2_grow_2_0 7 rfl rfl)
theorem dJ2_grow_2_10 : decode cJ2_grow_2 10 = .ok (.aload_n 0, 1) := dk_42 (dk_at dksJ2_grow_2_0 10 rfl rfl)
theorem dJ2_grow_2_11 : decode cJ2_grow_2 11 = .ok (.getfield 9, 3) := dk_180 0 9 (dk_at dksJ2_grow_2_0 11 rfl rfl)
theorem dJ2_grow_2_14 : decode cJ2_grow_2 14 = .ok (.getstatic 39, 3) := dk_178 0 39 (dk_at dksJ2_grow_2_0 14 rfl rfl)
theorem dJ2_grow_2_17 : decode cJ2_grow_2 17 = .ok (.if_acmp .eq 28, 3) := dk_165 0 28 (dk_at dksJ2_grow_2_0 17 rfl rfl)
theorem dJ2_grow_2_20 : decode cJ2_grow_2 20 = .ok (.iload_n 2, 1) := dk_28 (dk_at dksJ2_grow_2_0 20 rfl rfl)
theorem dJ2_grow_2_21 : decode cJ2_grow_2 21 = .ok (.iload_n 1, 1) := dk_27 (dk_at dksJ2_grow_2_0 21 rfl rfl)
theorem dJ2_grow_2_22 : decode cJ2_grow_2 22 = .ok (.iload_n 2, 1) := dk_28 (dk_at dksJ2_grow_2_0 22 rfl rfl)
theorem dJ2_grow_2_23 : decode cJ2_grow_2 23 = .ok (.isub, 1) := dk_100 (dk_at dksJ2_grow_2_0 23 rfl rfl)
theorem dJ2_grow_2_24 : decode cJ2_grow_2 24 = .ok (.iload_n 2, 1) := dk_28 (dk_at dksJ2_grow_2_1 0 rfl rfl)
theorem dJ2_grow_2_25 : decode cJ2_grow_2 25 = .ok (.iconst 1, 1) := dk_4 (dk_at dksJ2_grow_2_1 1 rfl rfl)
theorem dJ2_grow_2_26 : decode cJ2_grow_2 26 = .ok (.ishr, 1) := dk_122 (dk_at dksJ2_grow_2_1 2 rfl rfl)
theorem dJ2_grow_2_27 : decode cJ2_grow_2 27 = .ok (.invokestatic 73, 3) := dk_184 0 73 (dk_at dksJ2_grow_2_1 3 rfl rfl)
theorem dJ2_grow_2_30 : decode cJ2_grow_2 30 = .ok (.istore_n 3, 1) := dk_62 (dk_at dksJ2_grow_2_1 6 rfl rfl)
theorem dJ2_grow_2_31 : decode cJ2_grow_2 31 = .ok (.aload_n 0, 1) := dk_42 (dk_at dksJ2_grow_2_1 7 rfl rfl)
theorem dJ2_grow_2_32 : decode cJ2_grow_2 32 = .ok (.aload_n 0, 1) := dk_42 (dk_at dksJ2_grow_2_1 8 rfl rfl)
theorem dJ2_grow_2_33 : decode cJ2_grow_2 33 = .ok (.getfield 9, 3) := dk_180 0 9 (dk_at dksJ2_grow_2_1 9 rfl rfl)
theorem dJ2_grow_2_36 : decode cJ2_grow_2 36 = .ok (.iload_n 3, 1) := dk_29 (dk_at dksJ2_grow_2_1 12 rfl rfl)
theorem dJ2_grow_2_37 : decode cJ2_grow_2 37 = .ok (.invokestatic 66, 3) := dk_184 0 66 (dk_at dksJ2_grow_2_1 13 rfl rfl)
theorem dJ2_grow_2_40 : decode cJ2_grow_2 40 = .ok (.dup_x1, 1) := dk_90 (dk_at dksJ2_grow_2_1 16 rfl rfl)
theorem dJ2_grow_2_41 : decode cJ2_grow_2 41 = .ok (.putfield 9, 3) := dk_181 0 9 (dk_at dksJ2_grow_2_1 17 rfl rfl)
theorem dJ2_grow_2_44 : decode cJ2_grow_2 44 = .ok (.areturn, 1) := dk_176 (dk_at dksJ2_grow_2_1 20 rfl rfl)
theorem dJ2_grow_2_45 : decode cJ2_grow_2 45 = .ok (.aload_n 0, 1) := dk_42 (dk_at dksJ2_grow_2_1 21 rfl rfl)
theorem dJ2_grow_2_46 : decode cJ2_grow_2 46 = .ok (.bipush 10, 2) := dk_16 10 (dk_at dksJ2_grow_2_1 22 rfl rfl)
theorem dJ2_grow_2_48 : decode cJ2_grow_2 48 = .ok (.iload_n 1, 1) := dk_27 (dk_at dksJ2_grow_2_2 0 rfl rfl)
theorem dJ2_grow_2_49 : decode cJ2_grow_2 49 = .ok (.invokestatic 79, 3) := dk_184 0 79 (dk_at dksJ2_grow_2_2 1 rfl rfl)
theorem dJ2_grow_2_52 : decode cJ2_grow_2 52 = .ok (.anewarray 7, 3) := dk_189 0 7 (dk_at dksJ2_grow_2_2 4 rfl rfl)
theorem dJ2_grow_2_55 : decode cJ2_grow_2 55 = .ok (.dup_x1, 1) := dk_90 (dk_at dksJ2_grow_2_2 7 rfl rfl)
theorem dJ2_grow_2_56 : decode cJ2_grow_2 56 = .ok (.putfield 9, 3) := dk_181 0 9 (dk_at dksJ2_grow_2_2 8 rfl rfl)
theorem dJ2_grow_2_59 : decode cJ2_grow_2 59 = .ok (.areturn, 1) := dk_176 (dk_at dksJ2_grow_2_2 11 rfl rfl)
abbrev cJ2_add_3 : ByteArray := prog_36_method_26_code
def yJ2_add_3 : MethodName := ⟨RJ2, "add", "(ILjava/lang/Object;)V"⟩
def dkwJ2_add_3_2 : List UInt8 := [29, 27, 100, 184, 0, 112, 25, 4, 27, 44, 83, 42, 29, 4, 96, 181, 0, 48, 177]
abbrev dktJ2_add_3_2 : List UInt8 := dkwJ2_add_3_2 ++ []
def dkwJ2_add_3_1 : List UInt8 := [180, 0, 9, 89, 58, 4, 190, 160, 0, 9, 42, 182, 0, 129, 58, 4, 25, 4, 27, 25, 4, 27, 4, 96]
abbrev dktJ2_add_3_1 : List UInt8 := dkwJ2_add_3_1 ++ dktJ2_add_3_2
def dkwJ2_add_3_0 : List UInt8 := [42, 27, 182, 0, 135, 42, 89, 180, 0, 63, 4, 96, 181, 0, 63, 42, 180, 0, 48, 89, 62, 42]
abbrev dktJ2_add_3_0 : List UInt8 := dkwJ2_add_3_0 ++ dktJ2_add_3_1
theorem dksJ2_add_3_0 : cJ2_add_3.data.toList.drop 0 = dktJ2_add_3_0 := by decide +kernel
theorem dksJ2_add_3_1 : cJ2_add_3.data.toList.drop 22 = dktJ2_add_3_1 := dk_seg dksJ2_add_3_0 22 rfl rfl
theorem dksJ2_add_3_2 : cJ2_add_3.data.toList.drop 46 = dktJ2_add_3_2 := dk_seg dksJ2_add_3_1 24 rfl rfl
theorem dJ2_add_3_0 : decode cJ2_add_3 0 = .ok (.aload_n 0, 1) := dk_42 (dk_at dksJ2_add_3_0 0 rfl rfl)
theorem dJ2_add_3_1 : decode cJ2_add_3 1 = .ok (.iload_n 1, 1) := dk_27 (dk_at dksJ2_add_3_0 1 rfl rfl)
theorem dJ2_add_3_2 : decode cJ2_add_3 2 = .ok (.invokevirtual 135, 3) := dk_182 0 135 (dk_at dksJ2_add_3_0 2 rfl rfl)
theorem dJ2_add_3_5 : decode cJ2_add_3 5 = .ok (.aload_n 0, 1) := dk_42 (dk_at dksJ2_add_3_0 5 rfl rfl)
theorem dJ2_add_3_6 : decode cJ2_add_3 6 = .ok (.dup, 1) := dk_89 (dk_at dksJ2_add_3_0 6 rfl rfl)
theorem dJ2_add_3_7 : decode cJ2_add_3 7 = .ok (.getfield 63, 3) := dk_180 0 63 (dk_at dksJ2_add_3_0 7 rfl rfl)
theorem dJ2_add_3_10 : decode cJ2_add_3 10 = .ok (.iconst 1, 1) := dk_4 (dk_at dksJ2_add_3_0 10 rfl rfl)
theorem dJ2_add_3_11 : decode cJ2_add_3 11 = .ok (.iadd, 1) := dk_96 (dk_at dksJ2_add_3_0 11 rfl rfl)
theorem dJ2_add_3_12 : decode cJ2_add_3 12 = .ok (.putfield 63, 3) := dk_181 0 63 (dk_at dksJ2_add_3_0 12 rfl rfl)
theorem dJ2_add_3_15 : decode cJ2_add_3 15 = .ok (.aload_n 0, 1) := dk_42 (dk_at dksJ2_add_3_0 15 rfl rfl)
theorem dJ2_add_3_16 : decode cJ2_add_3 16 = .ok (.getfield 48, 3) := dk_180 0 48 (dk_at dksJ2_add_3_0 16 rfl rfl)
theorem dJ2_add_3_19 : decode cJ2_add_3 19 = .ok (.dup, 1) := dk_89 (dk_at dksJ2_add_3_0 19 rfl rfl)
theorem dJ2_add_3_20 : decode cJ2_add_3 20 = .ok (.istore_n 3, 1) := dk_62 (dk_at dksJ2_add_3_0 20 rfl rfl)
theorem dJ2_add_3_21 : decode cJ2_add_3 21 = .ok (.aload_n 0, 1) := dk_42 (dk_at dksJ2_add_3_0 21 rfl rfl)
theorem dJ2_add_3_22 : decode cJ2_add_3 22 = .ok (.getfield 9, 3) := dk_180 0 9 (dk_at dksJ2_add_3_1 0 rfl rfl)
theorem dJ2_add_3_25 : decode cJ2_add_3 25 = .ok (.dup, 1) := dk_89 (dk_at dksJ2_add_3_1 3 rfl rfl)
theorem dJ2_add_3_26 : decode cJ2_add_3 26 = .ok (.astore 4, 2) := dk_58 4 (dk_at dksJ2_add_3_1 4 rfl rfl)
theorem dJ2_add_3_28 : decode cJ2_add_3 28 = .ok (.arraylength, 1) := dk_190 (dk_at dksJ2_add_3_1 6 rfl rfl)
theorem dJ2_add_3_29 : decode cJ2_add_3 29 = .ok (.if_icmp .ne 9, 3) := dk_160 0 9 (dk_at dksJ2_add_3_1 7 rfl rfl)
theorem dJ2_add_3_32 : decode cJ2_add_3 32 = .ok (.aload_n 0, 1) := dk_42 (dk_at dksJ2_add_3_1 10 rfl rfl)
theorem dJ2_add_3_33 : decode cJ2_add_3 33 = .ok (.invokevirtual 129, 3) := dk_182 0 129 (dk_at dksJ2_add_3_1 11 rfl rfl)
theorem dJ2_add_3_36 : decode cJ2_add_3 36 = .ok (.astore 4, 2) := dk_58 4 (dk_at dksJ2_add_3_1 14 rfl rfl)
theorem dJ2_add_3_38 : decode cJ2_add_3 38 = .ok (.aload 4, 2) := dk_25 4 (dk_at dksJ2_add_3_1 16 rfl rfl)
theorem dJ2_add_3_40 : decode cJ2_add_3 40 = .ok (.iload_n 1, 1) := dk_27 (dk_at dksJ2_add_3_1 18 rfl rfl)
theorem dJ2_add_3_41 : decode cJ2_add_3 41 = .ok (.aload 4, 2) := dk_25 4 (dk_at dksJ2_add_3_1 19 rfl rfl)
theorem dJ2_add_3_43 : decode cJ2_add_3 43 = .ok (.iload_n 1, 1) := dk_27 (dk_at dksJ2_add_3_1 21 rfl rfl)
theorem dJ2_add_3_44 : decode cJ2_add_3 44 = .ok (.iconst 1, 1) := dk_4 (dk_at dksJ2_add_3_1 22 rfl rfl)
theorem dJ2_add_3_45 : decode cJ2_add_3 45 = .ok (.iadd, 1) := dk_96 (dk_at dksJ2_add_3_1 23 rfl rfl)
theorem dJ2_add_3_46 : decode cJ2_add_3 46 = .ok (.iload_n 3, 1) := dk_29 (dk_at dksJ2_add_3_2 0 rfl rfl)
theorem dJ2_add_3_47 : decode cJ2_add_3 47 = .ok (.iload_n 1, 1) := dk_27 (dk_at dksJ2_add_3_2 1 rfl rfl)
theorem dJ2_add_3_48 : decode cJ2_add_3 48 = .ok (.isub, 1) := dk_100 (dk_at dksJ2_add_3_2 2 rfl rfl)
theorem dJ2_add_3_49 : decode cJ2_add_3 49 = .ok (.invokestatic 112, 3) := dk_184 0 112 (dk_at dksJ2_add_3_2 3 rfl rfl)
theorem dJ2_add_3_52 : decode cJ2_add_3 52 = .ok (.aload 4, 2) := dk_25 4 (dk_at dksJ2_add_3_2 6 rfl rfl)
theorem dJ2_add_3_54 : decode cJ2_add_3 54 = .ok (.iload_n 1, 1) := dk_27 (dk_at dksJ2_add_3_2 8 rfl rfl)
theorem dJ2_add_3_55 : decode cJ2_add_3 55 = .ok (.aload_n 2, 1) := dk_44 (dk_at dksJ2_add_3_2 9 rfl rfl)
theorem dJ2_add_3_56 : decode cJ2_add_3 56 = .ok (.aastore, 1) := dk_83 (dk_at dksJ2_add_3_2 10 rfl rfl)
theorem dJ2_add_3_57 : decode cJ2_add_3 57 = .ok (.aload_n 0, 1) := dk_42 (dk_at dksJ2_add_3_2 11 rfl rfl)
theorem dJ2_add_3_58 : decode cJ2_add_3 58 = .ok (.iload_n 3, 1) := dk_29 (dk_at dksJ2_add_3_2 12 rfl rfl)
theorem dJ2_add_3_59 : decode cJ2_add_3 59 = .ok (.iconst 1, 1) := dk_4 (dk_at dksJ2_add_3_2 13 rfl rfl)
theorem dJ2_add_3_60 : decode cJ2_add_3 60 = .ok (.iadd, 1) := dk_96 (dk_at dksJ2_add_3_2 14 rfl rfl)
theorem dJ2_add_3_61 : decode cJ2_add_3 61 = .ok (.putfield 48, 3) := dk_181 0 48 (dk_at dksJ2_add_3_2 15 rfl rfl)
theorem dJ2_add_3_64 : decode cJ2_add_3 64 = .ok (.return_, 1) := dk_177 (dk_at dksJ2_add_3_2 18 rfl rfl)
abbrev cJ2_rangeCheckForAdd : ByteArray := prog_36_method_45_code
def yJ2_rangeCheckForAdd : MethodName := ⟨RJ2, "rangeCheckForAdd", "(I)V"⟩
def dkwJ2_rangeCheckForAdd_1 : List UInt8 := [191, 177]
abbrev dktJ2_rangeCheckForAdd_1 : List UInt8 := dkwJ2_rangeCheckForAdd_1 ++ []
def dkwJ2_rangeCheckForAdd_0 : List UInt8 := [27, 42, 180, 0, 48, 163, 0, 7, 27, 156, 0, 16, 187, 0, 187, 89, 42, 27, 182, 0, 198, 183, 0, 193]
abbrev dktJ2_rangeCheckForAdd_0 : List UInt8 := dkwJ2_rangeCheckForAdd_0 ++ dktJ2_rangeCheckForAdd_1
theorem dksJ2_rangeCheckForAdd_0 : cJ2_rangeCheckForAdd.data.toList.drop 0 = dktJ2_rangeCheckForAdd_0 := by decide +kernel
theorem dksJ2_rangeCheckForAdd_1 : cJ2_rangeCheckForAdd.data.toList.drop 24 = dktJ2_rangeCheckForAdd_1 := dk_seg dksJ2_rangeCheckForAdd_0 24 rfl rfl
theorem dJ2_rangeCheckForAdd_0 : decode cJ2_rangeCheckForAdd 0 = .ok (.iload_n 1, 1) := dk_27 (dk_at dksJ2_rangeCheckForAdd_0 0 rfl rfl)
theorem dJ2_rangeCheckForAdd_1 : decode cJ2_rangeCheckForAdd 1 = .ok (.aload_n 0, 1) := dk_42 (dk_at dksJ2_rangeCheckForAdd_0 1 rfl rfl)
theorem dJ2_rangeCheckForAdd_2 : decode cJ2_rangeCheckForAdd 2 = .ok (.getfield 48, 3) := dk_180 0 48 (dk_at dksJ2_rangeCheckForAdd_0 2 rfl rfl)
theorem dJ2_rangeCheckForAdd_5 : decode cJ2_rangeCheckForAdd 5 = .ok (.if_icmp .gt 7, 3) := dk_163 0 7 (dk_at dksJ2_rangeCheckForAdd_0 5 rfl rfl)
theorem dJ2_rangeCheckForAdd_8 : decode cJ2_rangeCheckForAdd 8 = .ok (.iload_n 1, 1) := dk_27 (dk_at dksJ2_rangeCheckForAdd_0 8 rfl rfl)
theorem dJ2_rangeCheckForAdd_9 : decode cJ2_rangeCheckForAdd 9 = .ok (.ifCond .ge 16, 3) := dk_156 0 16 (dk_at dksJ2_rangeCheckForAdd_0 9 rfl rfl)
theorem dJ2_rangeCheckForAdd_12 : decode cJ2_rangeCheckForAdd 12 = .ok (.new 187, 3) := dk_187 0 187 (dk_at dksJ2_rangeCheckForAdd_0 12 rfl rfl)
theorem dJ2_rangeCheckForAdd_15 : decode cJ2_rangeCheckForAdd 15 = .ok (.dup, 1) := dk_89 (dk_at dksJ2_rangeCheckForAdd_0 15 rfl rfl)
theorem dJ2_rangeCheckForAdd_16 : decode cJ2_rangeCheckForAdd 16 = .ok (.aload_n 0, 1) := dk_42 (dk_at dksJ2_rangeCheckForAdd_0 16 rfl rfl)
theorem dJ2_rangeCheckForAdd_17 : decode cJ2_rangeCheckForAdd 17 = .ok (.iload_n 1, 1) := dk_27 (dk_at dksJ2_rangeCheckForAdd_0 17 rfl rfl)
theorem dJ2_rangeCheckForAdd_18 : decode cJ2_rangeCheckForAdd 18 = .ok (.invokevirtual 198, 3) := dk_182 0 198 (dk_at dksJ2_rangeCheckForAdd_0 18 rfl rfl)
theorem dJ2_rangeCheckForAdd_21 : decode cJ2_rangeCheckForAdd 21 = .ok (.invokespecial 193, 3) := dk_183 0 193 (dk_at dksJ2_rangeCheckForAdd_0 21 rfl rfl)
theorem dJ2_rangeCheckForAdd_24 : decode cJ2_rangeCheckForAdd 24 = .ok (.athrow, 1) := dk_191 (dk_at dksJ2_rangeCheckForAdd_1 0 rfl rfl)
theorem dJ2_rangeCheckForAdd_25 : decode cJ2_rangeCheckForAdd 25 = .ok (.return_, 1) := dk_177 (dk_at dksJ2_rangeCheckForAdd_1 1 rfl rfl)
abbrev cJ2_isEmpty : ByteArray := prog_36_method_9_code
def yJ2_isEmpty : MethodName := ⟨RJ2, "isEmpty", "()Z"⟩
def dkwJ2_isEmpty_0 : List UInt8 := [42, 180, 0, 48, 154, 0, 7, 4, 167, 0, 4, 3, 172]
abbrev dktJ2_isEmpty_0 : List UInt8 := dkwJ2_isEmpty_0 ++ []
theorem dksJ2_isEmpty_0 : cJ2_isEmpty.data.toList.drop 0 = dktJ2_isEmpty_0 := by decide +kernel
theorem dJ2_isEmpty_0 : decode cJ2_isEmpty 0 = .ok (.aload_n 0, 1) := dk_42 (dk_at dksJ2_isEmpty_0 0 rfl rfl)
theorem dJ2_isEmpty_1 : decode cJ2_isEmpty 1 = .ok (.getfield 48, 3) := dk_180 0 48 (dk_at dksJ2_isEmpty_0 1 rfl rfl)
theorem dJ2_isEmpty_4 : decode cJ2_isEmpty 4 = .ok (.ifCond .ne 7, 3) := dk_154 0 7 (dk_at dksJ2_isEmpty_0 4 rfl rfl)
theorem dJ2_isEmpty_7 : decode cJ2_isEmpty 7 = .ok (.iconst 1, 1) := dk_4 (dk_at dksJ2_isEmpty_0 7 rfl rfl)
theorem dJ2_isEmpty_8 : decode cJ2_isEmpty 8 = .ok (.goto 4, 3) := dk_167 0 4 (dk_at dksJ2_isEmpty_0 8 rfl rfl)
theorem dJ2_isEmpty_11 : decode cJ2_isEmpty 11 = .ok (.iconst 0, 1) := dk_3 (dk_at dksJ2_isEmpty_0 11 rfl rfl)
theorem dJ2_isEmpty_12 : decode cJ2_isEmpty 12 = .ok (.ireturn, 1) := dk_172 (dk_at dksJ2_isEmpty_0 12 rfl rfl)
abbrev cJ2_clear : ByteArray := prog_36_method_40_code
def yJ2_clear : MethodName := ⟨RJ2, "clear", "()V"⟩
def dkwJ2_clear_1 : List UInt8 := [181, 0, 48, 62, 29, 28, 162, 0, 13, 43, 29, 1, 83, 132, 3, 1, 167, 255, 244, 177]
abbrev dktJ2_clear_1 : List UInt8 := dkwJ2_clear_1 ++ []
def dkwJ2_clear_0 : List UInt8 := [42, 89, 180, 0, 63, 4, 96, 181, 0, 63, 42, 180, 0, 9, 76, 42, 180, 0, 48, 61, 42, 3, 90]
abbrev dktJ2_clear_0 : List UInt8 := dkwJ2_clear_0 ++ dktJ2_clear_1
theorem dksJ2_clear_0 : cJ2_clear.data.toList.drop 0 = dktJ2_clear_0 := by decide +kernel
theorem dksJ2_clear_1 : cJ2_clear.data.toList.drop 23 = dktJ2_clear_1 := dk_seg dksJ2_clear_0 23 rfl rfl
theorem dJ2_clear_0 : decode cJ2_clear 0 = .ok (.aload_n 0, 1) := dk_42 (dk_at dksJ2_clear_0 0 rfl rfl)
theorem dJ2_clear_1 : decode cJ2_clear 1 = .ok (.dup, 1) := dk_89 (dk_at dksJ2_clear_0 1 rfl rfl)
theorem dJ2_clear_2 : decode cJ2_clear 2 = .ok (.getfield 63, 3) := dk_180 0 63 (dk_at dksJ2_clear_0 2 rfl rfl)
theorem dJ2_clear_5 : decode cJ2_clear 5 = .ok (.iconst 1, 1) := dk_4 (dk_at dksJ2_clear_0 5 rfl rfl)
theorem dJ2_clear_6 : decode cJ2_clear 6 = .ok (.iadd, 1) := dk_96 (dk_at dksJ2_clear_0 6 rfl rfl)
theorem dJ2_clear_7 : decode cJ2_clear 7 = .ok (.putfield 63, 3) := dk_181 0 63 (dk_at dksJ2_clear_0 7 rfl rfl)
theorem dJ2_clear_10 : decode cJ2_clear 10 = .ok (.aload_n 0, 1) := dk_42 (dk_at dksJ2_clear_0 10 rfl rfl)
theorem dJ2_clear_11 : decode cJ2_clear 11 = .ok (.getfield 9, 3) := dk_180 0 9 (dk_at dksJ2_clear_0 11 rfl rfl)
theorem dJ2_clear_14 : decode cJ2_clear 14 = .ok (.astore_n 1, 1) := dk_76 (dk_at dksJ2_clear_0 14 rfl rfl)
theorem dJ2_clear_15 : decode cJ2_clear 15 = .ok (.aload_n 0, 1) := dk_42 (dk_at dksJ2_clear_0 15 rfl rfl)
theorem dJ2_clear_16 : decode cJ2_clear 16 = .ok (.getfield 48, 3) := dk_180 0 48 (dk_at dksJ2_clear_0 16 rfl rfl)
theorem dJ2_clear_19 : decode cJ2_clear 19 = .ok (.istore_n 2, 1) := dk_61 (dk_at dksJ2_clear_0 19 rfl rfl)
theorem dJ2_clear_20 : decode cJ2_clear 20 = .ok (.aload_n 0, 1) := dk_42 (dk_at dksJ2_clear_0 20 rfl rfl)
theorem dJ2_clear_21 : decode cJ2_clear 21 = .ok (.iconst 0, 1) := dk_3 (dk_at dksJ2_clear_0 21 rfl rfl)
theorem dJ2_clear_22 : decode cJ2_clear 22 = .ok (.dup_x1, 1) := dk_90 (dk_at dksJ2_clear_0 22 rfl rfl)
theorem dJ2_clear_23 : decode cJ2_clear 23 = .ok (.putfield 48, 3) := dk_181 0 48 (dk_at dksJ2_clear_1 0 rfl rfl)
theorem dJ2_clear_26 : decode cJ2_clear 26 = .ok (.istore_n 3, 1) := dk_62 (dk_at dksJ2_clear_1 3 rfl rfl)
theorem dJ2_clear_27 : decode cJ2_clear 27 = .ok (.iload_n 3, 1) := dk_29 (dk_at dksJ2_clear_1 4 rfl rfl)
theorem dJ2_clear_28 : decode cJ2_clear 28 = .ok (.iload_n 2, 1) := dk_28 (dk_at dksJ2_clear_1 5 rfl rfl)
theorem dJ2_clear_29 : decode cJ2_clear 29 = .ok (.if_icmp .ge 13, 3) := dk_162 0 13 (dk_at dksJ2_clear_1 6 rfl rfl)
theorem dJ2_clear_32 : decode cJ2_clear 32 = .ok (.aload_n 1, 1) := dk_43 (dk_at dksJ2_clear_1 9 rfl rfl)
theorem dJ2_clear_33 : decode cJ2_clear 33 = .ok (.iload_n 3, 1) := dk_29 (dk_at dksJ2_clear_1 10 rfl rfl)
theorem dJ2_clear_34 : decode cJ2_clear 34 = .ok (.aconst_null, 1) := dk_1 (dk_at dksJ2_clear_1 11 rfl rfl)
theorem dJ2_clear_35 : decode cJ2_clear 35 = .ok (.aastore, 1) := dk_83 (dk_at dksJ2_clear_1 12 rfl rfl)
theorem dJ2_clear_36 : decode cJ2_clear 36 = .ok (.iinc 3 1, 3) := dk_132 3 1 (dk_at dksJ2_clear_1 13 rfl rfl)
theorem dJ2_clear_39 : decode cJ2_clear 39 = .ok (.goto (-12), 3) := dk_167 255 244 (dk_at dksJ2_clear_1 16 rfl rfl)
theorem dJ2_clear_42 : decode cJ2_clear 42 = .ok (.return_, 1) := dk_177 (dk_at dksJ2_clear_1 19 rfl rfl)
theorem q100 : (Jvm.Cond.initialized "java/util/ArrayList") ∈ lw_all := lw_g (lw_at lw_m1 5 rfl) rfl
theorem q155 : (Jvm.Cond.instantiable "java/util/ArrayList" (3 : Nat)) ∈ lw_all := lw_g (lw_at lw_m1 60 rfl) rfl
theorem q157 : (Jvm.Cond.instanceMethod ({ cls := "java/util/ArrayList", name := "<init>", desc := "()V" } : Jvm.MethodName)) ∈ lw_all := lw_g (lw_at lw_m1 62 rfl) rfl
theorem q158 : (Jvm.Cond.code ({ cls := "java/util/ArrayList", name := "<init>", desc := "()V" } : Jvm.MethodName) prog_36_method_2_code (1 : Nat) (Option.none : Option Jvm.ClassFile.FieldType)) ∈ lw_all := lw_g (lw_at lw_m1 63 rfl) rfl
theorem q159 : (Jvm.Cond.methodLink "java/util/ArrayList" (1 : Nat) ({ cls := "java/util/AbstractList", name := "<init>", desc := "()V" } : Jvm.MethodName)) ∈ lw_all := lw_g (lw_at lw_m1 64 rfl) rfl
theorem q166 : (Jvm.Cond.fieldLink "java/util/ArrayList" (39 : Nat) "java/util/ArrayList" "DEFAULTCAPACITY_EMPTY_ELEMENTDATA" "[Ljava/lang/Object;") ∈ lw_all := lw_g (lw_at lw_m1 71 rfl) rfl
theorem q167 : (Jvm.Cond.laysStatic "java/util/ArrayList" "DEFAULTCAPACITY_EMPTY_ELEMENTDATA" "[Ljava/lang/Object;") ∈ lw_tbl := lw_at lw_m1 72 rfl
theorem q168 : (Jvm.Cond.fieldLink "java/util/ArrayList" (9 : Nat) "java/util/ArrayList" "elementData" "[Ljava/lang/Object;") ∈ lw_all := lw_g (lw_at lw_m1 73 rfl) rfl
theorem q169 : (Jvm.Cond.fieldLink "java/util/ArrayList" (48 : Nat) "java/util/ArrayList" "size" "I") ∈ lw_all := lw_g (lw_at lw_m1 74 rfl) rfl
theorem q171 : (Jvm.Cond.fieldLink "java/util/ArrayList" (63 : Nat) "java/util/ArrayList" "modCount" "I") ∈ lw_all := lw_g (lw_at lw_m1 76 rfl) rfl
theorem q172 : (Jvm.Cond.sameField "java/util/ArrayList" "java/util/AbstractList" "modCount" "I") ∈ lw_all := lw_g (lw_at lw_m1 77 rfl) rfl
theorem q173 : (Jvm.Cond.lays "java/util/ArrayList" "java/util/ArrayList" "elementData" "[Ljava/lang/Object;") ∈ lw_all := lw_g (lw_at lw_m1 78 rfl) rfl
theorem q174 : (Jvm.Cond.soleField "java/util/ArrayList" "elementData") ∈ lw_all := lw_g (lw_at lw_m1 79 rfl) rfl
theorem q175 : (Jvm.Cond.lays "java/util/ArrayList" "java/util/ArrayList" "size" "I") ∈ lw_all := lw_g (lw_at lw_m1 80 rfl) rfl
theorem q176 : (Jvm.Cond.soleField "java/util/ArrayList" "size") ∈ lw_all := lw_g (lw_at lw_m1 81 rfl) rfl
theorem q177 : (Jvm.Cond.lays "java/util/ArrayList" "java/util/AbstractList" "modCount" "I") ∈ lw_all := lw_g (lw_at lw_m1 82 rfl) rfl
theorem q179 : (Jvm.Cond.superclass "java/util/ArrayList" "java/util/AbstractList") ∈ lw_all := lw_g (lw_at lw_m1 84 rfl) rfl
theorem q259 : (Jvm.Cond.instanceMethod ({ cls := "java/util/ArrayList", name := "size", desc := "()I" } : Jvm.MethodName)) ∈ lw_all := lw_g (lw_at lw_m1 164 rfl) rfl
theorem q260 : (Jvm.Cond.selects "java/util/ArrayList" ({ cls := "java/util/ArrayList", name := "size", desc := "()I" } : Jvm.MethodName) ({ cls := "java/util/ArrayList", name := "size", desc := "()I" } : Jvm.MethodName)) ∈ lw_all := lw_g (lw_at lw_m1 165 rfl) rfl
theorem q261 : (Jvm.Cond.code ({ cls := "java/util/ArrayList", name := "size", desc := "()I" } : Jvm.MethodName) prog_36_method_8_code (1 : Nat) (Option.some Jvm.ClassFile.FieldType.int)) ∈ lw_all := lw_g (lw_at lw_m1 166 rfl) rfl
theorem q487 : (Jvm.Cond.instanceMethod ({ cls := "java/util/ArrayList", name := "remove", desc := "(I)Ljava/lang/Object;" } : Jvm.MethodName)) ∈ lw_all := lw_g (lw_at lw_m2 152 rfl) rfl
theorem q488 : (Jvm.Cond.selects "java/util/ArrayList" ({ cls := "java/util/ArrayList", name := "remove", desc := "(I)Ljava/lang/Object;" } : Jvm.MethodName) ({ cls := "java/util/ArrayList", name := "remove", desc := "(I)Ljava/lang/Object;" } : Jvm.MethodName)) ∈ lw_all := lw_g (lw_at lw_m2 153 rfl) rfl
theorem q489 : (Jvm.Cond.code ({ cls := "java/util/ArrayList", name := "remove", desc := "(I)Ljava/lang/Object;" } : Jvm.MethodName) prog_36_method_29_code (4 : Nat) (Option.some (Jvm.ClassFile.FieldType.object "java/lang/Object"))) ∈ lw_all := lw_g (lw_at lw_m2 154 rfl) rfl
theorem q490 : (Jvm.Cond.methodLink "java/util/ArrayList" (118 : Nat) ({ cls := "java/util/Objects", name := "checkIndex", desc := "(II)I" } : Jvm.MethodName)) ∈ lw_all := lw_g (lw_at lw_m2 155 rfl) rfl
theorem q494 : (Jvm.Cond.methodLink "java/util/ArrayList" (144 : Nat) ({ cls := "java/util/ArrayList", name := "fastRemove", desc := "([Ljava/lang/Object;I)V" } : Jvm.MethodName)) ∈ lw_all := lw_g (lw_at lw_m2 159 rfl) rfl
theorem q495 : (Jvm.Cond.privateMethod ({ cls := "java/util/ArrayList", name := "fastRemove", desc := "([Ljava/lang/Object;I)V" } : Jvm.MethodName)) ∈ lw_tbl := lw_at lw_m2 160 rfl
theorem q496 : (Jvm.Cond.instanceMethod ({ cls := "java/util/ArrayList", name := "fastRemove", desc := "([Ljava/lang/Object;I)V" } : Jvm.MethodName)) ∈ lw_all := lw_g (lw_at lw_m2 161 rfl) rfl
theorem q497 : (Jvm.Cond.code ({ cls := "java/util/ArrayList", name := "fastRemove", desc := "([Ljava/lang/Object;I)V" } : Jvm.MethodName) prog_36_method_39_code (4 : Nat) (Option.none : Option Jvm.ClassFile.FieldType)) ∈ lw_all := lw_g (lw_at lw_m2 162 rfl) rfl
theorem q498 : (Jvm.Cond.methodLink "java/util/ArrayList" (112 : Nat) ({ cls := "java/lang/System", name := "arraycopy", desc := "(Ljava/lang/Object;ILjava/lang/Object;II)V" } : Jvm.MethodName)) ∈ lw_all := lw_g (lw_at lw_m2 163 rfl) rfl
theorem q507 : (Jvm.Cond.instanceMethod ({ cls := "java/util/ArrayList", name := "get", desc := "(I)Ljava/lang/Object;" } : Jvm.MethodName)) ∈ lw_all := lw_g (lw_at lw_m2 172 rfl) rfl
theorem q508 : (Jvm.Cond.selects "java/util/ArrayList" ({ cls := "java/util/ArrayList", name := "get", desc := "(I)Ljava/lang/Object;" } : Jvm.MethodName) ({ cls := "java/util/ArrayList", name := "get", desc := "(I)Ljava/lang/Object;" } : Jvm.MethodName)) ∈ lw_all := lw_g (lw_at lw_m2 173 rfl) rfl
theorem q509 : (Jvm.Cond.code ({ cls := "java/util/ArrayList", name := "get", desc := "(I)Ljava/lang/Object;" } : Jvm.MethodName) prog_36_method_20_code (2 : Nat) (Option.some (Jvm.ClassFile.FieldType.object "java/lang/Object"))) ∈ lw_all := lw_g (lw_at lw_m2 174 rfl) rfl
theorem q510 : (Jvm.Cond.methodLink "java/util/ArrayList" (123 : Nat) ({ cls := "java/util/ArrayList", name := "elementData", desc := "(I)Ljava/lang/Object;" } : Jvm.MethodName)) ∈ lw_all := lw_g (lw_at lw_m2 175 rfl) rfl
theorem q511 : (Jvm.Cond.instanceMethod ({ cls := "java/util/ArrayList", name := "elementData", desc := "(I)Ljava/lang/Object;" } : Jvm.MethodName)) ∈ lw_all := lw_g (lw_at lw_m2 176 rfl) rfl
theorem q512 : (Jvm.Cond.selects "java/util/ArrayList" ({ cls := "java/util/ArrayList", name := "elementData", desc := "(I)Ljava/lang/Object;" } : Jvm.MethodName) ({ cls := "java/util/ArrayList", name := "elementData", desc := "(I)Ljava/lang/Object;" } : Jvm.MethodName)) ∈ lw_all := lw_g (lw_at lw_m2 177 rfl) rfl
theorem q513 : (Jvm.Cond.code ({ cls := "java/util/ArrayList", name := "elementData", desc := "(I)Ljava/lang/Object;" } : Jvm.MethodName) prog_36_method_18_code (2 : Nat) (Option.some (Jvm.ClassFile.FieldType.object "java/lang/Object"))) ∈ lw_all := lw_g (lw_at lw_m2 178 rfl) rfl
theorem q522 : (Jvm.Cond.instanceMethod ({ cls := "java/util/ArrayList", name := "add", desc := "(Ljava/lang/Object;)Z" } : Jvm.MethodName)) ∈ lw_all := lw_g (lw_at lw_m2 187 rfl) rfl
theorem q523 : (Jvm.Cond.selects "java/util/ArrayList" ({ cls := "java/util/ArrayList", name := "add", desc := "(Ljava/lang/Object;)Z" } : Jvm.MethodName) ({ cls := "java/util/ArrayList", name := "add", desc := "(Ljava/lang/Object;)Z" } : Jvm.MethodName)) ∈ lw_all := lw_g (lw_at lw_m2 188 rfl) rfl
theorem q524 : (Jvm.Cond.code ({ cls := "java/util/ArrayList", name := "add", desc := "(Ljava/lang/Object;)Z" } : Jvm.MethodName) prog_36_method_25_code (2 : Nat) (Option.some Jvm.ClassFile.FieldType.boolean)) ∈ lw_all := lw_g (lw_at lw_m2 189 rfl) rfl
theorem q525 : (Jvm.Cond.methodLink "java/util/ArrayList" (131 : Nat) ({ cls := "java/util/ArrayList", name := "add", desc := "(Ljava/lang/Object;[Ljava/lang/Object;I)V" } : Jvm.MethodName)) ∈ lw_all := lw_g (lw_at lw_m2 190 rfl) rfl
theorem q526 : (Jvm.Cond.privateMethod ({ cls := "java/util/ArrayList", name := "add", desc := "(Ljava/lang/Object;[Ljava/lang/Object;I)V" } : Jvm.MethodName)) ∈ lw_tbl := lw_at lw_m2 191 rfl
theorem q527 : (Jvm.Cond.instanceMethod ({ cls := "java/util/ArrayList", name := "add", desc := "(Ljava/lang/Object;[Ljava/lang/Object;I)V" } : Jvm.MethodName)) ∈ lw_all := lw_g (lw_at lw_m2 192 rfl) rfl
theorem q528 : (Jvm.Cond.code ({ cls := "java/util/ArrayList", name := "add", desc := "(Ljava/lang/Object;[Ljava/lang/Object;I)V" } : Jvm.MethodName) prog_36_method_24_code (4 : Nat) (Option.none : Option Jvm.ClassFile.FieldType)) ∈ lw_all := lw_g (lw_at lw_m2 193 rfl) rfl
theorem q529 : (Jvm.Cond.methodLink "java/util/ArrayList" (129 : Nat) ({ cls := "java/util/ArrayList", name := "grow", desc := "()[Ljava/lang/Object;" } : Jvm.MethodName)) ∈ lw_all := lw_g (lw_at lw_m2 194 rfl) rfl
theorem q530 : (Jvm.Cond.privateMethod ({ cls := "java/util/ArrayList", name := "grow", desc := "()[Ljava/lang/Object;" } : Jvm.MethodName)) ∈ lw_tbl := lw_at lw_m2 195 rfl
theorem q531 : (Jvm.Cond.instanceMethod ({ cls := "java/util/ArrayList", name := "grow", desc := "()[Ljava/lang/Object;" } : Jvm.MethodName)) ∈ lw_all := lw_g (lw_at lw_m2 196 rfl) rfl
theorem q532 : (Jvm.Cond.code ({ cls := "java/util/ArrayList", name := "grow", desc := "()[Ljava/lang/Object;" } : Jvm.MethodName) prog_36_method_7_code (1 : Nat) (Option.some (Jvm.ClassFile.FieldType.array (Jvm.ClassFile.FieldType.object "java/lang/Object")))) ∈ lw_all := lw_g (lw_at lw_m2 197 rfl) rfl
theorem q533 : (Jvm.Cond.methodLink "java/util/ArrayList" (69 : Nat) ({ cls := "java/util/ArrayList", name := "grow", desc := "(I)[Ljava/lang/Object;" } : Jvm.MethodName)) ∈ lw_all := lw_g (lw_at lw_m2 198 rfl) rfl
theorem q534 : (Jvm.Cond.privateMethod ({ cls := "java/util/ArrayList", name := "grow", desc := "(I)[Ljava/lang/Object;" } : Jvm.MethodName)) ∈ lw_tbl := lw_at lw_m2 199 rfl
theorem q535 : (Jvm.Cond.instanceMethod ({ cls := "java/util/ArrayList", name := "grow", desc := "(I)[Ljava/lang/Object;" } : Jvm.MethodName)) ∈ lw_all := lw_g (lw_at lw_m2 200 rfl) rfl
theorem q536 : (Jvm.Cond.code ({ cls := "java/util/ArrayList", name := "grow", desc := "(I)[Ljava/lang/Object;" } : Jvm.MethodName) prog_36_method_6_code (4 : Nat) (Option.some (Jvm.ClassFile.FieldType.array (Jvm.ClassFile.FieldType.object "java/lang/Object")))) ∈ lw_all := lw_g (lw_at lw_m2 201 rfl) rfl
theorem q537 : (Jvm.Cond.methodLink "java/util/ArrayList" (73 : Nat) ({ cls := "jdk/internal/util/ArraysSupport", name := "newLength", desc := "(III)I" } : Jvm.MethodName)) ∈ lw_all := lw_g (lw_at lw_m2 202 rfl) rfl
theorem q538 : (Jvm.Cond.methodLink "java/util/ArrayList" (66 : Nat) ({ cls := "java/util/Arrays", name := "copyOf", desc := "([Ljava/lang/Object;I)[Ljava/lang/Object;" } : Jvm.MethodName)) ∈ lw_all := lw_g (lw_at lw_m2 203 rfl) rfl
theorem q557 : (Jvm.Cond.selects "java/util/ArrayList" ({ cls := "java/lang/Object", name := "getClass", desc := "()Ljava/lang/Class;" } : Jvm.MethodName) ({ cls := "java/lang/Object", name := "getClass", desc := "()Ljava/lang/Class;" } : Jvm.MethodName)) ∈ lw_all := lw_g (lw_at lw_m2 222 rfl) rfl
theorem q576 : (Jvm.Cond.methodLink "java/util/ArrayList" (79 : Nat) ({ cls := "java/lang/Math", name := "max", desc := "(II)I" } : Jvm.MethodName)) ∈ lw_all := lw_g (lw_at lw_m3 1 rfl) rfl
theorem q577 : (Jvm.Cond.classLink "java/util/ArrayList" (7 : Nat) "java/lang/Object") ∈ lw_all := lw_g (lw_at lw_m3 2 rfl) rfl
theorem q581 : (Jvm.Cond.instanceMethod ({ cls := "java/util/ArrayList", name := "add", desc := "(ILjava/lang/Object;)V" } : Jvm.MethodName)) ∈ lw_all := lw_g (lw_at lw_m3 6 rfl) rfl
theorem q582 : (Jvm.Cond.selects "java/util/ArrayList" ({ cls := "java/util/ArrayList", name := "add", desc := "(ILjava/lang/Object;)V" } : Jvm.MethodName) ({ cls := "java/util/ArrayList", name := "add", desc := "(ILjava/lang/Object;)V" } : Jvm.MethodName)) ∈ lw_all := lw_g (lw_at lw_m3 7 rfl) rfl
theorem q583 : (Jvm.Cond.code ({ cls := "java/util/ArrayList", name := "add", desc := "(ILjava/lang/Object;)V" } : Jvm.MethodName) prog_36_method_26_code (5 : Nat) (Option.none : Option Jvm.ClassFile.FieldType)) ∈ lw_all := lw_g (lw_at lw_m3 8 rfl) rfl
theorem q584 : (Jvm.Cond.methodLink "java/util/ArrayList" (135 : Nat) ({ cls := "java/util/ArrayList", name := "rangeCheckForAdd", desc := "(I)V" } : Jvm.MethodName)) ∈ lw_all := lw_g (lw_at lw_m3 9 rfl) rfl
theorem q585 : (Jvm.Cond.privateMethod ({ cls := "java/util/ArrayList", name := "rangeCheckForAdd", desc := "(I)V" } : Jvm.MethodName)) ∈ lw_tbl := lw_at lw_m3 10 rfl
theorem q586 : (Jvm.Cond.instanceMethod ({ cls := "java/util/ArrayList", name := "rangeCheckForAdd", desc := "(I)V" } : Jvm.MethodName)) ∈ lw_all := lw_g (lw_at lw_m3 11 rfl) rfl
theorem q587 : (Jvm.Cond.code ({ cls := "java/util/ArrayList", name := "rangeCheckForAdd", desc := "(I)V" } : Jvm.MethodName) prog_36_method_45_code (2 : Nat) (Option.none : Option Jvm.ClassFile.FieldType)) ∈ lw_all := lw_g (lw_at lw_m3 12 rfl) rfl
theorem q2160 : (Jvm.Cond.instanceMethod ({ cls := "java/util/ArrayList", name := "isEmpty", desc := "()Z" } : Jvm.MethodName)) ∈ lw_all := lw_g (lw_at lw_m9 145 rfl) rfl
theorem q2161 : (Jvm.Cond.selects "java/util/ArrayList" ({ cls := "java/util/ArrayList", name := "isEmpty", desc := "()Z" } : Jvm.MethodName) ({ cls := "java/util/ArrayList", name := "isEmpty", desc := "()Z" } : Jvm.MethodName)) ∈ lw_all := lw_g (lw_at lw_m9 146 rfl) rfl
theorem q2162 : (Jvm.Cond.code ({ cls := "java/util/ArrayList", name := "isEmpty", desc := "()Z" } : Jvm.MethodName) prog_36_method_9_code (1 : Nat) (Option.some Jvm.ClassFile.FieldType.boolean)) ∈ lw_all := lw_g (lw_at lw_m9 147 rfl) rfl
theorem q2172 : (Jvm.Cond.instanceMethod ({ cls := "java/util/ArrayList", name := "clear", desc := "()V" } : Jvm.MethodName)) ∈ lw_all := lw_g (lw_at lw_m9 157 rfl) rfl
theorem q2173 : (Jvm.Cond.selects "java/util/ArrayList" ({ cls := "java/util/ArrayList", name := "clear", desc := "()V" } : Jvm.MethodName) ({ cls := "java/util/ArrayList", name := "clear", desc := "()V" } : Jvm.MethodName)) ∈ lw_all := lw_g (lw_at lw_m9 158 rfl) rfl
theorem q2174 : (Jvm.Cond.code ({ cls := "java/util/ArrayList", name := "clear", desc := "()V" } : Jvm.MethodName) prog_36_method_40_code (4 : Nat) (Option.none : Option Jvm.ClassFile.FieldType)) ∈ lw_all := lw_g (lw_at lw_m9 159 rfl) rfl
theorem q2803 : (Jvm.Cond.castable "java/util/ArrayList" "java/lang/Object") ∈ lw_tbl := lw_at lw_m12 68 rfl
theorem in_J2 : ∀ w ∈ wsJ20, w ∈ lw_all := lw_in wsJ20 [177, 173, 175] (by decide +kernel) (by decide +kernel)

/-! java/lang/AbstractStringBuilder -/
set_option maxRecDepth 100000
def RJ3 : String := "java/lang/AbstractStringBuilder"
abbrev cJ3_init : ByteArray := prog_12_method_2_code
def yJ3_init : MethodName := ⟨RJ3, "<init>", "(I)V"⟩
def dkwJ3_init_1 : List UInt8 := [167, 0, 16, 42, 27, 184, 0, 26, 181, 0, 15, 42, 4, 181, 0, 22, 177]
abbrev dktJ3_init_1 : List UInt8 := dkwJ3_init_1 ++ []
def dkwJ3_init_0 : List UInt8 := [42, 183, 0, 3, 178, 0, 18, 153, 0, 18, 42, 27, 188, 8, 181, 0, 15, 42, 3, 181, 0, 22]
abbrev dktJ3_init_0 : List UInt8 := dkwJ3_init_0 ++ dktJ3_init_1
theorem dksJ3_init_0 : cJ3_init.data.toList.drop 0 = dktJ3_init_0 := by decide +kernel
theorem dksJ3_init_1 : cJ3_init.data.toList.drop 22 = dktJ3_init_1 := dk_seg dksJ3_init_0 22 rfl rfl
theorem dJ3_init_0 : decode cJ3_init 0 = .ok (.aload_n 0, 1) := dk_42 (dk_at dksJ3_init_0 0 rfl rfl)
theorem dJ3_init_1 : decode cJ3_init 1 = .ok (.invokespecial 3, 3) := dk_183 0 3 (dk_at dksJ3_init_0 1 rfl rfl)
theorem dJ3_init_4 : decode cJ3_init 4 = .ok (.getstatic 18, 3) := dk_178 0 18 (dk_at dksJ3_init_0 4 rfl rfl)
theorem dJ3_init_7 : decode cJ3_init 7 = .ok (.ifCond .eq 18, 3) := dk_153 0 18 (dk_at dksJ3_init_0 7 rfl rfl)
theorem dJ3_init_10 : decode cJ3_init 10 = .ok (.aload_n 0, 1) := dk_42 (dk_at dksJ3_init_0 10 rfl rfl)
theorem dJ3_init_11 : decode cJ3_init 11 = .ok (.iload_n 1, 1) := dk_27 (dk_at dksJ3_init_0 11 rfl rfl)
theorem dJ3_init_12 : decode cJ3_init 12 = .ok (.newarray .byte, 2) := dk_188_8 (dk_at dksJ3_init_0 12 rfl rfl)
theorem dJ3_init_14 : decode cJ3_init 14 = .ok (.putfield 15, 3) := dk_181 0 15 (dk_at dksJ3_init_0 14 rfl rfl)
theorem dJ3_init_17 : decode cJ3_init 17 = .ok (.aload_n 0, 1) := dk_42 (dk_at dksJ3_init_0 17 rfl rfl)
theorem dJ3_init_18 : decode cJ3_init 18 = .ok (.iconst 0, 1) := dk_3 (dk_at dksJ3_init_0 18 rfl rfl)
theorem dJ3_init_19 : decode cJ3_init 19 = .ok (.putfield 22, 3) := dk_181 0 22 (dk_at dksJ3_init_0 19 rfl rfl)
theorem dJ3_init_22 : decode cJ3_init 22 = .ok (.goto 16, 3) := dk_167 0 16 (dk_at dksJ3_init_1 0 rfl rfl)
theorem dJ3_init_25 : decode cJ3_init 25 = .ok (.aload_n 0, 1) := dk_42 (dk_at dksJ3_init_1 3 rfl rfl)
theorem dJ3_init_26 : decode cJ3_init 26 = .ok (.iload_n 1, 1) := dk_27 (dk_at dksJ3_init_1 4 rfl rfl)
theorem dJ3_init_27 : decode cJ3_init 27 = .ok (.invokestatic 26, 3) := dk_184 0 26 (dk_at dksJ3_init_1 5 rfl rfl)
theorem dJ3_init_30 : decode cJ3_init 30 = .ok (.putfield 15, 3) := dk_181 0 15 (dk_at dksJ3_init_1 8 rfl rfl)
theorem dJ3_init_33 : decode cJ3_init 33 = .ok (.aload_n 0, 1) := dk_42 (dk_at dksJ3_init_1 11 rfl rfl)
theorem dJ3_init_34 : decode cJ3_init 34 = .ok (.iconst 1, 1) := dk_4 (dk_at dksJ3_init_1 12 rfl rfl)
theorem dJ3_init_35 : decode cJ3_init 35 = .ok (.putfield 22, 3) := dk_181 0 22 (dk_at dksJ3_init_1 13 rfl rfl)
theorem dJ3_init_38 : decode cJ3_init 38 = .ok (.return_, 1) := dk_177 (dk_at dksJ3_init_1 16 rfl rfl)
abbrev cJ3_append : ByteArray := prog_12_method_31_code
def yJ3_append : MethodName := ⟨RJ3, "append", "(C)Ljava/lang/AbstractStringBuilder;"⟩
def dkwJ3_append_3 : List UInt8 := [181, 0, 79, 27, 184, 0, 197, 42, 176]
abbrev dktJ3_append_3 : List UInt8 := dkwJ3_append_3 ++ []
def dkwJ3_append_2 : List UInt8 := [182, 0, 83, 153, 0, 7, 42, 182, 0, 195, 42, 180, 0, 15, 42, 89, 180, 0, 79, 90, 4, 96]
abbrev dktJ3_append_2 : List UInt8 := dkwJ3_append_2 ++ dktJ3_append_3
def dkwJ3_append_1 : List UInt8 := [42, 180, 0, 15, 42, 89, 180, 0, 79, 90, 4, 96, 181, 0, 79, 27, 145, 84, 167, 0, 33, 42]
abbrev dktJ3_append_1 : List UInt8 := dkwJ3_append_1 ++ dktJ3_append_2
def dkwJ3_append_0 : List UInt8 := [42, 42, 180, 0, 79, 4, 96, 182, 0, 100, 42, 182, 0, 83, 153, 0, 31, 27, 184, 0, 191, 153, 0, 24]
abbrev dktJ3_append_0 : List UInt8 := dkwJ3_append_0 ++ dktJ3_append_1
theorem dksJ3_append_0 : cJ3_append.data.toList.drop 0 = dktJ3_append_0 := by decide +kernel
theorem dksJ3_append_1 : cJ3_append.data.toList.drop 24 = dktJ3_append_1 := dk_seg dksJ3_append_0 24 rfl rfl
theorem dksJ3_append_2 : cJ3_append.data.toList.drop 46 = dktJ3_append_2 := dk_seg dksJ3_append_1 22 rfl rfl
theorem dksJ3_append_3 : cJ3_append.data.toList.drop 68 = dktJ3_append_3 := dk_seg dksJ3_append_2 22 rfl rfl
theorem dJ3_append_0 : decode cJ3_append 0 = .ok (.aload_n 0, 1) := dk_42 (dk_at dksJ3_append_0 0 rfl rfl)
theorem dJ3_append_1 : decode cJ3_append 1 = .ok (.aload_n 0, 1) := dk_42 (dk_at dksJ3_append_0 1 rfl rfl)
theorem dJ3_append_2 : decode cJ3_append 2 = .ok (.getfield 79, 3) := dk_180 0 79 (dk_at dksJ3_append_0 2 rfl rfl)
theorem dJ3_append_5 : decode cJ3_append 5 = .ok (.iconst 1, 1) := dk_4 (dk_at dksJ3_append_0 5 rfl rfl)
theorem dJ3_append_6 : decode cJ3_append 6 = .ok (.iadd, 1) := dk_96 (dk_at dksJ3_append_0 6 rfl rfl)
theorem dJ3_append_7 : decode cJ3_append 7 = .ok (.invokevirtual 100, 3) := dk_182 0 100 (dk_at dksJ3_append_0 7 rfl rfl)
theorem dJ3_append_10 : decode cJ3_append 10 = .ok (.aload_n 0, 1) := dk_42 (dk_at dksJ3_append_0 10 rfl rfl)
theorem dJ3_append_11 : decode cJ3_append 11 = .ok (.invokevirtual 83, 3) := dk_182 0 83 (dk_at dksJ3_append_0 11 rfl rfl)
theorem dJ3_append_14 : decode cJ3_append 14 = .ok (.ifCond .eq 31, 3) := dk_153 0 31 (dk_at dksJ3_append_0 14 rfl rfl)
theorem dJ3_append_17 : decode cJ3_append 17 = .ok (.iload_n 1, 1) := dk_27 (dk_at dksJ3_append_0 17 rfl rfl)
theorem dJ3_append_18 : decode cJ3_append 18 = .ok (.invokestatic 191, 3) := dk_184 0 191 (dk_at dksJ3_append_0 18 rfl rfl)
theorem dJ3_append_21 : decode cJ3_append 21 = .ok (.ifCond .eq 24, 3) := dk_153 0 24 (dk_at dksJ3_append_0 21 rfl rfl)
theorem dJ3_append_24 : decode cJ3_append 24 = .ok (.aload_n 0, 1) := dk_42 (dk_at dksJ3_append_1 0 rfl rfl)
theorem dJ3_append_25 : decode cJ3_append 25 = .ok (.getfield 15, 3) := dk_180 0 15 (dk_at dksJ3_append_1 1 rfl rfl)
theorem dJ3_append_28 : decode cJ3_append 28 = .ok (.aload_n 0, 1) := dk_42 (dk_at dksJ3_append_1 4 rfl rfl)
theorem dJ3_append_29 : decode cJ3_append 29 = .ok (.dup, 1) := dk_89 (dk_at dksJ3_append_1 5 rfl rfl)
theorem dJ3_append_30 : decode cJ3_append 30 = .ok (.getfield 79, 3) := dk_180 0 79 (dk_at dksJ3_append_1 6 rfl rfl)
theorem dJ3_append_33 : decode cJ3_append 33 = .ok (.dup_x1, 1) := dk_90 (dk_at dksJ3_append_1 9 rfl rfl)
theorem dJ3_append_34 : decode cJ3_append 34 = .ok (.iconst 1, 1) := dk_4 (dk_at dksJ3_append_1 10 rfl rfl)
theorem dJ3_append_35 : decode cJ3_append 35 = .ok (.iadd, 1) := dk_96 (dk_at dksJ3_append_1 11 rfl rfl)
theorem dJ3_append_36 : decode cJ3_append 36 = .ok (.putfield 79, 3) := dk_181 0 79 (dk_at dksJ3_append_1 12 rfl rfl)
theorem dJ3_append_39 : decode cJ3_append 39 = .ok (.iload_n 1, 1) := dk_27 (dk_at dksJ3_append_1 15 rfl rfl)
theorem dJ3_append_40 : decode cJ3_append 40 = .ok (.i2b, 1) := dk_145 (dk_at dksJ3_append_1 16 rfl rfl)
theorem dJ3_append_41 : decode cJ3_append 41 = .ok (.bastore, 1) := dk_84 (dk_at dksJ3_append_1 17 rfl rfl)
theorem dJ3_append_42 : decode cJ3_append 42 = .ok (.goto 33, 3) := dk_167 0 33 (dk_at dksJ3_append_1 18 rfl rfl)
theorem dJ3_append_45 : decode cJ3_append 45 = .ok (.aload_n 0, 1) := dk_42 (dk_at dksJ3_append_1 21 rfl rfl)
theorem dJ3_append_46 : decode cJ3_append 46 = .ok (.invokevirtual 83, 3) := dk_182 0 83 (dk_at dksJ3_append_2 0 rfl rfl)
theorem dJ3_append_49 : decode cJ3_append 49 = .ok (.ifCond .eq 7, 3) := dk_153 0 7 (dk_at dksJ3_append_2 3 rfl rfl)
theorem dJ3_append_52 : decode cJ3_append 52 = .ok (.aload_n 0, 1) := dk_42 (dk_at dksJ3_append_2 6 rfl rfl)
theorem dJ3_append_53 : decode cJ3_append 53 = .ok (.invokevirtual 195, 3) := dk_182 0 195 (dk_at dksJ3_append_2 7 rfl rfl)
theorem dJ3_append_56 : decode cJ3_append 56 = .ok (.aload_n 0, 1) := dk_42 (dk_at dksJ3_append_2 10 rfl rfl)
theorem dJ3_append_57 : decode cJ3_append 57 = .ok (.getfield 15, 3) := dk_180 0 15 (dk_at dksJ3_append_2 11 rfl rfl)
theorem dJ3_append_60 : decode cJ3_append 60 = .ok (.aload_n 0, 1) := dk_42 (dk_at dksJ3_append_2 14 rfl rfl)
theorem dJ3_append_61 : decode cJ3_append 61 = .ok (.dup, 1) := dk_89 (dk_at dksJ3_append_2 15 rfl rfl)
theorem dJ3_append_62 : decode cJ3_append 62 = .ok (.getfield 79, 3) := dk_180 0 79 (dk_at dksJ3_append_2 16 rfl rfl)
theorem dJ3_append_65 : decode cJ3_append 65 = .ok (.dup_x1, 1) := dk_90 (dk_at dksJ3_append_2 19 rfl rfl)
theorem dJ3_append_66 : decode cJ3_append 66 = .ok (.iconst 1, 1) := dk_4 (dk_at dksJ3_append_2 20 rfl rfl)
theorem dJ3_append_67 : decode cJ3_append 67 = .ok (.iadd, 1) := dk_96 (dk_at dksJ3_append_2 21 rfl rfl)
theorem dJ3_append_68 : decode cJ3_append 68 = .ok (.putfield 79, 3) := dk_181 0 79 (dk_at dksJ3_append_3 0 rfl rfl)
theorem dJ3_append_71 : decode cJ3_append 71 = .ok (.iload_n 1, 1) := dk_27 (dk_at dksJ3_append_3 3 rfl rfl)
theorem dJ3_append_72 : decode cJ3_append 72 = .ok (.invokestatic 197, 3) := dk_184 0 197 (dk_at dksJ3_append_3 4 rfl rfl)
theorem dJ3_append_75 : decode cJ3_append 75 = .ok (.aload_n 0, 1) := dk_42 (dk_at dksJ3_append_3 7 rfl rfl)
theorem dJ3_append_76 : decode cJ3_append 76 = .ok (.areturn, 1) := dk_176 (dk_at dksJ3_append_3 8 rfl rfl)
abbrev cJ3_ensureCapacityInternal : ByteArray := prog_12_method_9_code
def yJ3_ensureCapacityInternal : MethodName := ⟨RJ3, "ensureCapacityInternal", "(I)V"⟩
def dkwJ3_ensureCapacityInternal_1 : List UInt8 := [182, 0, 104, 42, 180, 0, 22, 120, 184, 0, 108, 181, 0, 15, 177]
abbrev dktJ3_ensureCapacityInternal_1 : List UInt8 := dkwJ3_ensureCapacityInternal_1 ++ []
def dkwJ3_ensureCapacityInternal_0 : List UInt8 := [42, 180, 0, 15, 190, 42, 180, 0, 22, 122, 61, 27, 28, 100, 158, 0, 24, 42, 42, 180, 0, 15, 42, 27]
abbrev dktJ3_ensureCapacityInternal_0 : List UInt8 := dkwJ3_ensureCapacityInternal_0 ++ dktJ3_ensureCapacityInternal_1
theorem dksJ3_ensureCapacityInternal_0 : cJ3_ensureCapacityInternal.data.toList.drop 0 = dktJ3_ensureCapacityInternal_0 := by decide +kernel
theorem dksJ3_ensureCapacityInternal_1 : cJ3_ensureCapacityInternal.data.toList.drop 24 = dktJ3_ensureCapacityInternal_1 := dk_seg dksJ3_ensureCapacityInternal_0 24 rfl rfl
theorem dJ3_ensureCapacityInternal_0 : decode cJ3_ensureCapacityInternal 0 = .ok (.aload_n 0, 1) := dk_42 (dk_at dksJ3_ensureCapacityInternal_0 0 rfl rfl)
theorem dJ3_ensureCapacityInternal_1 : decode cJ3_ensureCapacityInternal 1 = .ok (.getfield 15, 3) := dk_180 0 15 (dk_at dksJ3_ensureCapacityInternal_0 1 rfl rfl)
theorem dJ3_ensureCapacityInternal_4 : decode cJ3_ensureCapacityInternal 4 = .ok (.arraylength, 1) := dk_190 (dk_at dksJ3_ensureCapacityInternal_0 4 rfl rfl)
theorem dJ3_ensureCapacityInternal_5 : decode cJ3_ensureCapacityInternal 5 = .ok (.aload_n 0, 1) := dk_42 (dk_at dksJ3_ensureCapacityInternal_0 5 rfl rfl)
theorem dJ3_ensureCapacityInternal_6 : decode cJ3_ensureCapacityInternal 6 = .ok (.getfield 22, 3) := dk_180 0 22 (dk_at dksJ3_ensureCapacityInternal_0 6 rfl rfl)
theorem dJ3_ensureCapacityInternal_9 : decode cJ3_ensureCapacityInternal 9 = .ok (.ishr, 1) := dk_122 (dk_at dksJ3_ensureCapacityInternal_0 9 rfl rfl)
theorem dJ3_ensureCapacityInternal_10 : decode cJ3_ensureCapacityInternal 10 = .ok (.istore_n 2, 1) := dk_61 (dk_at dksJ3_ensureCapacityInternal_0 10 rfl rfl)
theorem dJ3_ensureCapacityInternal_11 : decode cJ3_ensureCapacityInternal 11 = .ok (.iload_n 1, 1) := dk_27 (dk_at dksJ3_ensureCapacityInternal_0 11 rfl rfl)
theorem dJ3_ensureCapacityInternal_12 : decode cJ3_ensureCapacityInternal 12 = .ok (.iload_n 2, 1) := dk_28 (dk_at dksJ3_ensureCapacityInternal_0 12 rfl rfl)
theorem dJ3_ensureCapacityInternal_13 : decode cJ3_ensureCapacityInternal 13 = .ok (.isub, 1) := dk_100 (dk_at dksJ3_ensureCapacityInternal_0 13 rfl rfl)
theorem dJ3_ensureCapacityInternal_14 : decode cJ3_ensureCapacityInternal 14 = .ok (.ifCond .le 24, 3) := dk_158 0 24 (dk_at dksJ3_ensureCapacityInternal_0 14 rfl rfl)
theorem dJ3_ensureCapacityInternal_17 : decode cJ3_ensureCapacityInternal 17 = .ok (.aload_n 0, 1) := dk_42 (dk_at dksJ3_ensureCapacityInternal_0 17 rfl rfl)
theorem dJ3_ensureCapacityInternal_18 : decode cJ3_ensureCapacityInternal 18 = .ok (.aload_n 0, 1) := dk_42 (dk_at dksJ3_ensureCapacityInternal_0 18 rfl rfl)
theorem dJ3_ensureCapacityInternal_19 : decode cJ3_ensureCapacityInternal 19 = .ok (.getfield 15, 3) := dk_180 0 15 (dk_at dksJ3_ensureCapacityInternal_0 19 rfl rfl)
theorem dJ3_ensureCapacityInternal_22 : decode cJ3_ensureCapacityInternal 22 = .ok (.aload_n 0, 1) := dk_42 (dk_at dksJ3_ensureCapacityInternal_0 22 rfl rfl)
theorem dJ3_ensureCapacityInternal_23 : decode cJ3_ensureCapacityInternal 23 = .ok (.iload_n 1, 1) := dk_27 (dk_at dksJ3_ensureCapacityInternal_0 23 rfl rfl)
theorem dJ3_ensureCapacityInternal_24 : decode cJ3_ensureCapacityInternal 24 = .ok (.invokevirtual 104, 3) := dk_182 0 104 (dk_at dksJ3_ensureCapacityInternal_1 0 rfl rfl)
theorem dJ3_ensureCapacityInternal_27 : decode cJ3_ensureCapacityInternal 27 = .ok (.aload_n 0, 1) := dk_42 (dk_at dksJ3_ensureCapacityInternal_1 3 rfl rfl)
theorem dJ3_ensureCapacityInternal_28 : decode cJ3_ensureCapacityInternal 28 = .ok (.getfield 22, 3) := dk_180 0 22 (dk_at dksJ3_ensureCapacityInternal_1 4 rfl rfl)
theorem dJ3_ensureCapacityInternal_31 : decode cJ3_ensureCapacityInternal 31 = .ok (.ishl, 1) := dk_120 (dk_at dksJ3_ensureCapacityInternal_1 7 rfl rfl)
theorem dJ3_ensureCapacityInternal_32 : decode cJ3_ensureCapacityInternal 32 = .ok (.invokestatic 108, 3) := dk_184 0 108 (dk_at dksJ3_ensureCapacityInternal_1 8 rfl rfl)
theorem dJ3_ensureCapacityInternal_35 : decode cJ3_ensureCapacityInternal 35 = .ok (.putfield 15, 3) := dk_181 0 15 (dk_at dksJ3_ensureCapacityInternal_1 11 rfl rfl)
theorem dJ3_ensureCapacityInternal_38 : decode cJ3_ensureCapacityInternal 38 = .ok (.return_, 1) := dk_177 (dk_at dksJ3_ensureCapacityInternal_1 14 rfl rfl)
abbrev cJ3_newCapacity : ByteArray := prog_12_method_10_code
def yJ3_newCapacity : MethodName := ⟨RJ3, "newCapacity", "(I)I"⟩
def dkwJ3_newCapacity_2 : List UInt8 := [183, 0, 124, 191, 21, 5, 42, 180, 0, 22, 122, 172]
abbrev dktJ3_newCapacity_2 : List UInt8 := dkwJ3_newCapacity_2 ++ []
def dkwJ3_newCapacity_1 : List UInt8 := [180, 0, 22, 120, 96, 184, 0, 114, 54, 5, 21, 5, 18, 39, 160, 0, 13, 187, 0, 120, 89, 18, 122]
abbrev dktJ3_newCapacity_1 : List UInt8 := dkwJ3_newCapacity_1 ++ dktJ3_newCapacity_2
def dkwJ3_newCapacity_0 : List UInt8 := [42, 180, 0, 15, 190, 61, 27, 42, 180, 0, 22, 120, 62, 29, 28, 100, 54, 4, 28, 21, 4, 28, 5, 42]
abbrev dktJ3_newCapacity_0 : List UInt8 := dkwJ3_newCapacity_0 ++ dktJ3_newCapacity_1
theorem dksJ3_newCapacity_0 : cJ3_newCapacity.data.toList.drop 0 = dktJ3_newCapacity_0 := by decide +kernel
theorem dksJ3_newCapacity_1 : cJ3_newCapacity.data.toList.drop 24 = dktJ3_newCapacity_1 := dk_seg dksJ3_newCapacity_0 24 rfl rfl
theorem dksJ3_newCapacity_2 : cJ3_newCapacity.data.toList.drop 47 = dktJ3_newCapacity_2 := dk_seg dksJ3_newCapacity_1 23 rfl rfl
theorem dJ3_newCapacity_0 : decode cJ3_newCapacity 0 = .ok (.aload_n 0, 1) := dk_42 (dk_at dksJ3_newCapacity_0 0 rfl rfl)
theorem dJ3_newCapacity_1 : decode cJ3_newCapacity 1 = .ok (.getfield 15, 3) := dk_180 0 15 (dk_at dksJ3_newCapacity_0 1 rfl rfl)
theorem dJ3_newCapacity_4 : decode cJ3_newCapacity 4 = .ok (.arraylength, 1) := dk_190 (dk_at dksJ3_newCapacity_0 4 rfl rfl)
theorem dJ3_newCapacity_5 : decode cJ3_newCapacity 5 = .ok (.istore_n 2, 1) := dk_61 (dk_at dksJ3_newCapacity_0 5 rfl rfl)
theorem dJ3_newCapacity_6 : decode cJ3_newCapacity 6 = .ok (.iload_n 1, 1) := dk_27 (dk_at dksJ3_newCapacity_0 6 rfl rfl)
theorem dJ3_newCapacity_7 : decode cJ3_newCapacity 7 = .ok (.aload_n 0, 1) := dk_42 (dk_at dksJ3_newCapacity_0 7 rfl rfl)
theorem dJ3_newCapacity_8 : decode cJ3_newCapacity 8 = .ok (.getfield 22, 3) := dk_180 0 22 (dk_at dksJ3_newCapacity_0 8 rfl rfl)
theorem dJ3_newCapacity_11 : decode cJ3_newCapacity 11 = .ok (.ishl, 1) := dk_120 (dk_at dksJ3_newCapacity_0 11 rfl rfl)
theorem dJ3_newCapacity_12 : decode cJ3_newCapacity 12 = .ok (.istore_n 3, 1) := dk_62 (dk_at dksJ3_newCapacity_0 12 rfl rfl)
theorem dJ3_newCapacity_13 : decode cJ3_newCapacity 13 = .ok (.iload_n 3, 1) := dk_29 (dk_at dksJ3_newCapacity_0 13 rfl rfl)
theorem dJ3_newCapacity_14 : decode cJ3_newCapacity 14 = .ok (.iload_n 2, 1) := dk_28 (dk_at dksJ3_newCapacity_0 14 rfl rfl)
theorem dJ3_newCapacity_15 : decode cJ3_newCapacity 15 = .ok (.isub, 1) := dk_100 (dk_at dksJ3_newCapacity_0 15 rfl rfl)
theorem dJ3_newCapacity_16 : decode cJ3_newCapacity 16 = .ok (.istore 4, 2) := dk_54 4 (dk_at dksJ3_newCapacity_0 16 rfl rfl)
theorem dJ3_newCapacity_18 : decode cJ3_newCapacity 18 = .ok (.iload_n 2, 1) := dk_28 (dk_at dksJ3_newCapacity_0 18 rfl rfl)
theorem dJ3_newCapacity_19 : decode cJ3_newCapacity 19 = .ok (.iload 4, 2) := dk_21 4 (dk_at dksJ3_newCapacity_0 19 rfl rfl)
theorem dJ3_newCapacity_21 : decode cJ3_newCapacity 21 = .ok (.iload_n 2, 1) := dk_28 (dk_at dksJ3_newCapacity_0 21 rfl rfl)
theorem dJ3_newCapacity_22 : decode cJ3_newCapacity 22 = .ok (.iconst 2, 1) := dk_5 (dk_at dksJ3_newCapacity_0 22 rfl rfl)
theorem dJ3_newCapacity_23 : decode cJ3_newCapacity 23 = .ok (.aload_n 0, 1) := dk_42 (dk_at dksJ3_newCapacity_0 23 rfl rfl)
theorem dJ3_newCapacity_24 : decode cJ3_newCapacity 24 = .ok (.getfield 22, 3) := dk_180 0 22 (dk_at dksJ3_newCapacity_1 0 rfl rfl)
theorem dJ3_newCapacity_27 : decode cJ3_newCapacity 27 = .ok (.ishl, 1) := dk_120 (dk_at dksJ3_newCapacity_1 3 rfl rfl)
theorem dJ3_newCapacity_28 : decode cJ3_newCapacity 28 = .ok (.iadd, 1) := dk_96 (dk_at dksJ3_newCapacity_1 4 rfl rfl)
theorem dJ3_newCapacity_29 : decode cJ3_newCapacity 29 = .ok (.invokestatic 114, 3) := dk_184 0 114 (dk_at dksJ3_newCapacity_1 5 rfl rfl)
theorem dJ3_newCapacity_32 : decode cJ3_newCapacity 32 = .ok (.istore 5, 2) := dk_54 5 (dk_at dksJ3_newCapacity_1 8 rfl rfl)
theorem dJ3_newCapacity_34 : decode cJ3_newCapacity 34 = .ok (.iload 5, 2) := dk_21 5 (dk_at dksJ3_newCapacity_1 10 rfl rfl)
theorem dJ3_newCapacity_36 : decode cJ3_newCapacity 36 = .ok (.ldc 39, 2) := dk_18 39 (dk_at dksJ3_newCapacity_1 12 rfl rfl)
theorem dJ3_newCapacity_38 : decode cJ3_newCapacity 38 = .ok (.if_icmp .ne 13, 3) := dk_160 0 13 (dk_at dksJ3_newCapacity_1 14 rfl rfl)
theorem dJ3_newCapacity_41 : decode cJ3_newCapacity 41 = .ok (.new 120, 3) := dk_187 0 120 (dk_at dksJ3_newCapacity_1 17 rfl rfl)
theorem dJ3_newCapacity_44 : decode cJ3_newCapacity 44 = .ok (.dup, 1) := dk_89 (dk_at dksJ3_newCapacity_1 20 rfl rfl)
theorem dJ3_newCapacity_45 : decode cJ3_newCapacity 45 = .ok (.ldc 122, 2) := dk_18 122 (dk_at dksJ3_newCapacity_1 21 rfl rfl)
theorem dJ3_newCapacity_47 : decode cJ3_newCapacity 47 = .ok (.invokespecial 124, 3) := dk_183 0 124 (dk_at dksJ3_newCapacity_2 0 rfl rfl)
theorem dJ3_newCapacity_50 : decode cJ3_newCapacity 50 = .ok (.athrow, 1) := dk_191 (dk_at dksJ3_newCapacity_2 3 rfl rfl)
theorem dJ3_newCapacity_51 : decode cJ3_newCapacity 51 = .ok (.iload 5, 2) := dk_21 5 (dk_at dksJ3_newCapacity_2 4 rfl rfl)
theorem dJ3_newCapacity_53 : decode cJ3_newCapacity 53 = .ok (.aload_n 0, 1) := dk_42 (dk_at dksJ3_newCapacity_2 6 rfl rfl)
theorem dJ3_newCapacity_54 : decode cJ3_newCapacity 54 = .ok (.getfield 22, 3) := dk_180 0 22 (dk_at dksJ3_newCapacity_2 7 rfl rfl)
theorem dJ3_newCapacity_57 : decode cJ3_newCapacity 57 = .ok (.ishr, 1) := dk_122 (dk_at dksJ3_newCapacity_2 10 rfl rfl)
theorem dJ3_newCapacity_58 : decode cJ3_newCapacity 58 = .ok (.ireturn, 1) := dk_172 (dk_at dksJ3_newCapacity_2 11 rfl rfl)
abbrev cJ3_isLatin1 : ByteArray := prog_12_method_68_code
def yJ3_isLatin1 : MethodName := ⟨RJ3, "isLatin1", "()Z"⟩
def dkwJ3_isLatin1_0 : List UInt8 := [178, 0, 18, 153, 0, 14, 42, 180, 0, 22, 154, 0, 7, 4, 167, 0, 4, 3, 172]
abbrev dktJ3_isLatin1_0 : List UInt8 := dkwJ3_isLatin1_0 ++ []
theorem dksJ3_isLatin1_0 : cJ3_isLatin1.data.toList.drop 0 = dktJ3_isLatin1_0 := by decide +kernel
theorem dJ3_isLatin1_0 : decode cJ3_isLatin1 0 = .ok (.getstatic 18, 3) := dk_178 0 18 (dk_at dksJ3_isLatin1_0 0 rfl rfl)
theorem dJ3_isLatin1_3 : decode cJ3_isLatin1 3 = .ok (.ifCond .eq 14, 3) := dk_153 0 14 (dk_at dksJ3_isLatin1_0 3 rfl rfl)
theorem dJ3_isLatin1_6 : decode cJ3_isLatin1 6 = .ok (.aload_n 0, 1) := dk_42 (dk_at dksJ3_isLatin1_0 6 rfl rfl)
theorem dJ3_isLatin1_7 : decode cJ3_isLatin1 7 = .ok (.getfield 22, 3) := dk_180 0 22 (dk_at dksJ3_isLatin1_0 7 rfl rfl)
theorem dJ3_isLatin1_10 : decode cJ3_isLatin1 10 = .ok (.ifCond .ne 7, 3) := dk_154 0 7 (dk_at dksJ3_isLatin1_0 10 rfl rfl)
theorem dJ3_isLatin1_13 : decode cJ3_isLatin1 13 = .ok (.iconst 1, 1) := dk_4 (dk_at dksJ3_isLatin1_0 13 rfl rfl)
theorem dJ3_isLatin1_14 : decode cJ3_isLatin1 14 = .ok (.goto 4, 3) := dk_167 0 4 (dk_at dksJ3_isLatin1_0 14 rfl rfl)
theorem dJ3_isLatin1_17 : decode cJ3_isLatin1 17 = .ok (.iconst 0, 1) := dk_3 (dk_at dksJ3_isLatin1_0 17 rfl rfl)
theorem dJ3_isLatin1_18 : decode cJ3_isLatin1 18 = .ok (.ireturn, 1) := dk_172 (dk_at dksJ3_isLatin1_0 18 rfl rfl)
abbrev cJ3_inflate : ByteArray := prog_12_method_11_code
def yJ3_inflate : MethodName := ⟨RJ3, "inflate", "()V"⟩
def dkwJ3_inflate_1 : List UInt8 := [42, 180, 0, 79, 184, 0, 125, 42, 43, 181, 0, 15, 42, 4, 181, 0, 22, 177]
abbrev dktJ3_inflate_1 : List UInt8 := dkwJ3_inflate_1 ++ []
def dkwJ3_inflate_0 : List UInt8 := [42, 182, 0, 83, 154, 0, 4, 177, 42, 180, 0, 15, 190, 184, 0, 26, 76, 42, 180, 0, 15, 3, 43, 3]
abbrev dktJ3_inflate_0 : List UInt8 := dkwJ3_inflate_0 ++ dktJ3_inflate_1
theorem dksJ3_inflate_0 : cJ3_inflate.data.toList.drop 0 = dktJ3_inflate_0 := by decide +kernel
theorem dksJ3_inflate_1 : cJ3_inflate.data.toList.drop 24 = dktJ3_inflate_1 := dk_seg dksJ3_inflate_0 24 rfl rfl
theorem dJ3_inflate_0 : decode cJ3_inflate 0 = .ok (.aload_n 0, 1) := dk_42 (dk_at dksJ3_inflate_0 0 rfl rfl)
theorem dJ3_inflate_1 : decode cJ3_inflate 1 = .ok (.invokevirtual 83, 3) := dk_182 0 83 (dk_at dksJ3_inflate_0 1 rfl rfl)
theorem dJ3_inflate_4 : decode cJ3_inflate 4 = .ok (.ifCond .ne 4, 3) := dk_154 0 4 (dk_at dksJ3_inflate_0 4 rfl rfl)
theorem dJ3_inflate_7 : decode cJ3_inflate 7 = .ok (.return_, 1) := dk_177 (dk_at dksJ3_inflate_0 7 rfl rfl)
theorem dJ3_inflate_8 : decode cJ3_inflate 8 = .ok (.aload_n 0, 1) := dk_42 (dk_at dksJ3_inflate_0 8 rfl rfl)
theorem dJ3_inflate_9 : decode cJ3_inflate 9 = .ok (.getfield 15, 3) := dk_180 0 15 (dk_at dksJ3_inflate_0 9 rfl rfl)
theorem dJ3_inflate_12 : decode cJ3_inflate 12 = .ok (.arraylength, 1) := dk_190 (dk_at dksJ3_inflate_0 12 rfl rfl)
theorem dJ3_inflate_13 : decode cJ3_inflate 13 = .ok (.invokestatic 26, 3) := dk_184 0 26 (dk_at dksJ3_inflate_0 13 rfl rfl)
theorem dJ3_inflate_16 : decode cJ3_inflate 16 = .ok (.astore_n 1, 1) := dk_76 (dk_at dksJ3_inflate_0 16 rfl rfl)
theorem dJ3_inflate_17 : decode cJ3_inflate 17 = .ok (.aload_n 0, 1) := dk_42 (dk_at dksJ3_inflate_0 17 rfl rfl)
theorem dJ3_inflate_18 : decode cJ3_inflate 18 = .ok (.getfield 15, 3) := dk_180 0 15 (dk_at dksJ3_inflate_0 18 rfl rfl)
theorem dJ3_inflate_21 : decode cJ3_inflate 21 = .ok (.iconst 0, 1) := dk_3 (dk_at dksJ3_inflate_0 21 rfl rfl)
theorem dJ3_inflate_22 : decode cJ3_inflate 22 = .ok (.aload_n 1, 1) := dk_43 (dk_at dksJ3_inflate_0 22 rfl rfl)
theorem dJ3_inflate_23 : decode cJ3_inflate 23 = .ok (.iconst 0, 1) := dk_3 (dk_at dksJ3_inflate_0 23 rfl rfl)
theorem dJ3_inflate_24 : decode cJ3_inflate 24 = .ok (.aload_n 0, 1) := dk_42 (dk_at dksJ3_inflate_1 0 rfl rfl)
theorem dJ3_inflate_25 : decode cJ3_inflate 25 = .ok (.getfield 79, 3) := dk_180 0 79 (dk_at dksJ3_inflate_1 1 rfl rfl)
theorem dJ3_inflate_28 : decode cJ3_inflate 28 = .ok (.invokestatic 125, 3) := dk_184 0 125 (dk_at dksJ3_inflate_1 4 rfl rfl)
theorem dJ3_inflate_31 : decode cJ3_inflate 31 = .ok (.aload_n 0, 1) := dk_42 (dk_at dksJ3_inflate_1 7 rfl rfl)
theorem dJ3_inflate_32 : decode cJ3_inflate 32 = .ok (.aload_n 1, 1) := dk_43 (dk_at dksJ3_inflate_1 8 rfl rfl)
theorem dJ3_inflate_33 : decode cJ3_inflate 33 = .ok (.putfield 15, 3) := dk_181 0 15 (dk_at dksJ3_inflate_1 9 rfl rfl)
theorem dJ3_inflate_36 : decode cJ3_inflate 36 = .ok (.aload_n 0, 1) := dk_42 (dk_at dksJ3_inflate_1 12 rfl rfl)
theorem dJ3_inflate_37 : decode cJ3_inflate 37 = .ok (.iconst 1, 1) := dk_4 (dk_at dksJ3_inflate_1 13 rfl rfl)
theorem dJ3_inflate_38 : decode cJ3_inflate 38 = .ok (.putfield 22, 3) := dk_181 0 22 (dk_at dksJ3_inflate_1 14 rfl rfl)
theorem dJ3_inflate_41 : decode cJ3_inflate 41 = .ok (.return_, 1) := dk_177 (dk_at dksJ3_inflate_1 17 rfl rfl)
abbrev cJ3_getValue : ByteArray := prog_12_method_64_code
def yJ3_getValue : MethodName := ⟨RJ3, "getValue", "()[B"⟩
theorem dJ3_getValue_0 : decode cJ3_getValue 0 = .ok (.aload_n 0, 1) := by decide +kernel
theorem dJ3_getValue_1 : decode cJ3_getValue 1 = .ok (.getfield 15, 3) := by decide +kernel
theorem dJ3_getValue_4 : decode cJ3_getValue 4 = .ok (.areturn, 1) := by decide +kernel
abbrev cJ3_length : ByteArray := prog_12_method_6_code
def yJ3_length : MethodName := ⟨RJ3, "length", "()I"⟩
theorem dJ3_length_0 : decode cJ3_length 0 = .ok (.aload_n 0, 1) := by decide +kernel
theorem dJ3_length_1 : decode cJ3_length 1 = .ok (.getfield 79, 3) := by decide +kernel
theorem dJ3_length_4 : decode cJ3_length 4 = .ok (.ireturn, 1) := by decide +kernel
abbrev cJ3_compareTo : ByteArray := prog_12_method_5_code
def yJ3_compareTo : MethodName := ⟨RJ3, "compareTo", "(Ljava/lang/AbstractStringBuilder;)I"⟩
def dkwJ3_compareTo_4 : List UInt8 := [184, 0, 97, 172]
abbrev dktJ3_compareTo_4 : List UInt8 := dkwJ3_compareTo_4 ++ []
def dkwJ3_compareTo_3 : List UInt8 := [182, 0, 83, 153, 0, 15, 44, 45, 21, 4, 21, 5, 184, 0, 94, 167, 0, 12, 44, 45, 21, 4, 21, 5]
abbrev dktJ3_compareTo_3 : List UInt8 := dkwJ3_compareTo_3 ++ dktJ3_compareTo_4
def dkwJ3_compareTo_2 : List UInt8 := [45, 21, 4, 21, 5, 184, 0, 87, 167, 0, 12, 44, 45, 21, 4, 21, 5, 184, 0, 93, 172, 42]
abbrev dktJ3_compareTo_2 : List UInt8 := dkwJ3_compareTo_2 ++ dktJ3_compareTo_3
def dkwJ3_compareTo_1 : List UInt8 := [180, 0, 79, 54, 5, 42, 180, 0, 22, 43, 180, 0, 22, 160, 0, 32, 42, 182, 0, 83, 153, 0, 15, 44]
abbrev dktJ3_compareTo_1 : List UInt8 := dkwJ3_compareTo_1 ++ dktJ3_compareTo_2
def dkwJ3_compareTo_0 : List UInt8 := [42, 43, 166, 0, 5, 3, 172, 42, 180, 0, 15, 77, 43, 180, 0, 15, 78, 42, 180, 0, 79, 54, 4, 43]
abbrev dktJ3_compareTo_0 : List UInt8 := dkwJ3_compareTo_0 ++ dktJ3_compareTo_1
theorem dksJ3_compareTo_0 : cJ3_compareTo.data.toList.drop 0 = dktJ3_compareTo_0 := by decide +kernel
theorem dksJ3_compareTo_1 : cJ3_compareTo.data.toList.drop 24 = dktJ3_compareTo_1 := dk_seg dksJ3_compareTo_0 24 rfl rfl
theorem dksJ3_compareTo_2 : cJ3_compareTo.data.toList.drop 48 = dktJ3_compareTo_2 := dk_seg dksJ3_compareTo_1 24 rfl rfl
theorem dksJ3_compareTo_3 : cJ3_compareTo.data.toList.drop 70 = dktJ3_compareTo_3 := dk_seg dksJ3_compareTo_2 22 rfl rfl
theorem dksJ3_compareTo_4 : cJ3_compareTo.data.toList.drop 94 = dktJ3_compareTo_4 := dk_seg dksJ3_compareTo_3 24 rfl rfl
theorem dJ3_compareTo_0 : decode cJ3_compareTo 0 = .ok (.aload_n 0, 1) := dk_42 (dk_at dksJ3_compareTo_0 0 rfl rfl)
theorem dJ3_compareTo_1 : decode cJ3_compareTo 1 = .ok (.aload_n 1, 1) := dk_43 (dk_at dksJ3_compareTo_0 1 rfl rfl)
theorem dJ3_compareTo_2 : decode cJ3_compareTo 2 = .ok (.if_acmp .ne 5, 3) := dk_166 0 5 (dk_at dksJ3_compareTo_0 2 rfl rfl)
theorem dJ3_compareTo_5 : decode cJ3_compareTo 5 = .ok (.iconst 0, 1) := dk_3 (dk_at dksJ3_compareTo_0 5 rfl rfl)
theorem dJ3_compareTo_6 : decode cJ3_compareTo 6 = .ok (.ireturn, 1) := dk_172 (dk_at dksJ3_compareTo_0 6 rfl rfl)
theorem dJ3_compareTo_7 : decode cJ3_compareTo 7 = .ok (.aload_n 0, 1) := dk_42 (dk_at dksJ3_compareTo_0 7 rfl rfl)
theorem dJ3_compareTo_8 : decode cJ3_compareTo 8 = .ok (.getfield 15, 3) := dk_180 0 15 (dk_at dksJ3_compareTo_0 8 rfl rfl)
theorem dJ3_compareTo_11 : decode cJ3_compareTo 11 = .ok (.astore_n 2, 1) := dk_77 (dk_at dksJ3_compareTo_0 11 rfl rfl)
theorem dJ3_compareTo_12 : decode cJ3_compareTo 12 = .ok (.aload_n 1, 1) := dk_43 (dk_at dksJ3_compareTo_0 12 rfl rfl)
theorem dJ3_compareTo_13 : decode cJ3_compareTo 13 = .ok (.getfield 15, 3) := dk_180 0 15 (dk_at dksJ3_compareTo_0 13 rfl rfl)
theorem dJ3_compareTo_16 : decode cJ3_compareTo 16 = .ok (.astore_n 3, 1) := dk_78 (dk_at dksJ3_compareTo_0 16 rfl rfl)
theorem dJ3_compareTo_17 : decode cJ3_compareTo 17 = .ok (.aload_n 0, 1) := dk_42 (dk_at dksJ3_compareTo_0 17 rfl rfl)
theorem dJ3_compareTo_18 : decode cJ3_compareTo 18 = .ok (.getfield 79, 3) := dk_180 0 79 (dk_at dksJ3_compareTo_0 18 rfl rfl)
theorem dJ3_compareTo_21 : decode cJ3_compareTo 21 = .ok (.istore 4, 2) := dk_54 4 (dk_at dksJ3_compareTo_0 21 rfl rfl)
theorem dJ3_compareTo_23 : decode cJ3_compareTo 23 = .ok (.aload_n 1, 1) := dk_43 (dk_at dksJ3_compareTo_0 23 rfl rfl)
theorem dJ3_compareTo_24 : decode cJ3_compareTo 24 = .ok (.getfield 79, 3) := dk_180 0 79 (dk_at dksJ3_compareTo_1 0 rfl rfl)
theorem dJ3_compareTo_27 : decode cJ3_compareTo 27 = .ok (.istore 5, 2) := dk_54 5 (dk_at dksJ3_compareTo_1 3 rfl rfl)
theorem dJ3_compareTo_29 : decode cJ3_compareTo 29 = .ok (.aload_n 0, 1) := dk_42 (dk_at dksJ3_compareTo_1 5 rfl rfl)
theorem dJ3_compareTo_30 : decode cJ3_compareTo 30 = .ok (.getfield 22, 3) := dk_180 0 22 (dk_at dksJ3_compareTo_1 6 rfl rfl)
theorem dJ3_compareTo_33 : decode cJ3_compareTo 33 = .ok (.aload_n 1, 1) := dk_43 (dk_at dksJ3_compareTo_1 9 rfl rfl)
theorem dJ3_compareTo_34 : decode cJ3_compareTo 34 = .ok (.getfield 22, 3) := dk_180 0 22 (dk_at dksJ3_compareTo_1 10 rfl rfl)
theorem dJ3_compareTo_37 : decode cJ3_compareTo 37 = .ok (.if_icmp .ne 32, 3) := dk_160 0 32 (dk_at dksJ3_compareTo_1 13 rfl rfl)
theorem dJ3_compareTo_40 : decode cJ3_compareTo 40 = .ok (.aload_n 0, 1) := dk_42 (dk_at dksJ3_compareTo_1 16 rfl rfl)
theorem dJ3_compareTo_41 : decode cJ3_compareTo 41 = .ok (.invokevirtual 83, 3) := dk_182 0 83 (dk_at dksJ3_compareTo_1 17 rfl rfl)
theorem dJ3_compareTo_44 : decode cJ3_compareTo 44 = .ok (.ifCond .eq 15, 3) := dk_153 0 15 (dk_at dksJ3_compareTo_1 20 rfl rfl)
theorem dJ3_compareTo_47 : decode cJ3_compareTo 47 = .ok (.aload_n 2, 1) := dk_44 (dk_at dksJ3_compareTo_1 23 rfl rfl)
theorem dJ3_compareTo_48 : decode cJ3_compareTo 48 = .ok (.aload_n 3, 1) := dk_45 (dk_at dksJ3_compareTo_2 0 rfl rfl)
theorem dJ3_compareTo_49 : decode cJ3_compareTo 49 = .ok (.iload 4, 2) := dk_21 4 (dk_at dksJ3_compareTo_2 1 rfl rfl)
theorem dJ3_compareTo_51 : decode cJ3_compareTo 51 = .ok (.iload 5, 2) := dk_21 5 (dk_at dksJ3_compareTo_2 3 rfl rfl)
theorem dJ3_compareTo_53 : decode cJ3_compareTo 53 = .ok (.invokestatic 87, 3) := dk_184 0 87 (dk_at dksJ3_compareTo_2 5 rfl rfl)
theorem dJ3_compareTo_56 : decode cJ3_compareTo 56 = .ok (.goto 12, 3) := dk_167 0 12 (dk_at dksJ3_compareTo_2 8 rfl rfl)
theorem dJ3_compareTo_59 : decode cJ3_compareTo 59 = .ok (.aload_n 2, 1) := dk_44 (dk_at dksJ3_compareTo_2 11 rfl rfl)
theorem dJ3_compareTo_60 : decode cJ3_compareTo 60 = .ok (.aload_n 3, 1) := dk_45 (dk_at dksJ3_compareTo_2 12 rfl rfl)
theorem dJ3_compareTo_61 : decode cJ3_compareTo 61 = .ok (.iload 4, 2) := dk_21 4 (dk_at dksJ3_compareTo_2 13 rfl rfl)
theorem dJ3_compareTo_63 : decode cJ3_compareTo 63 = .ok (.iload 5, 2) := dk_21 5 (dk_at dksJ3_compareTo_2 15 rfl rfl)
theorem dJ3_compareTo_65 : decode cJ3_compareTo 65 = .ok (.invokestatic 93, 3) := dk_184 0 93 (dk_at dksJ3_compareTo_2 17 rfl rfl)
theorem dJ3_compareTo_68 : decode cJ3_compareTo 68 = .ok (.ireturn, 1) := dk_172 (dk_at dksJ3_compareTo_2 20 rfl rfl)
theorem dJ3_compareTo_69 : decode cJ3_compareTo 69 = .ok (.aload_n 0, 1) := dk_42 (dk_at dksJ3_compareTo_2 21 rfl rfl)
theorem dJ3_compareTo_70 : decode cJ3_compareTo 70 = .ok (.invokevirtual 83, 3) := dk_182 0 83 (dk_at dksJ3_compareTo_3 0 rfl rfl)
theorem dJ3_compareTo_73 : decode cJ3_compareTo 73 = .ok (.ifCond .eq 15, 3) := dk_153 0 15 (dk_at dksJ3_compareTo_3 3 rfl rfl)
theorem dJ3_compareTo_76 : decode cJ3_compareTo 76 = .ok (.aload_n 2, 1) := dk_44 (dk_at dksJ3_compareTo_3 6 rfl rfl)
theorem dJ3_compareTo_77 : decode cJ3_compareTo 77 = .ok (.aload_n 3, 1) := dk_45 (dk_at dksJ3_compareTo_3 7 rfl rfl)
theorem dJ3_compareTo_78 : decode cJ3_compareTo 78 = .ok (.iload 4, 2) := dk_21 4 (dk_at dksJ3_compareTo_3 8 rfl rfl)
theorem dJ3_compareTo_80 : decode cJ3_compareTo 80 = .ok (.iload 5, 2) := dk_21 5 (dk_at dksJ3_compareTo_3 10 rfl rfl)
theorem dJ3_compareTo_82 : decode cJ3_compareTo 82 = .ok (.invokestatic 94, 3) := dk_184 0 94 (dk_at dksJ3_compareTo_3 12 rfl rfl)
theorem dJ3_compareTo_85 : decode cJ3_compareTo 85 = .ok (.goto 12, 3) := dk_167 0 12 (dk_at dksJ3_compareTo_3 15 rfl rfl)
theorem dJ3_compareTo_88 : decode cJ3_compareTo 88 = .ok (.aload_n 2, 1) := dk_44 (dk_at dksJ3_compareTo_3 18 rfl rfl)
theorem dJ3_compareTo_89 : decode cJ3_compareTo 89 = .ok (.aload_n 3, 1) := dk_45 (dk_at dksJ3_compareTo_3 19 rfl rfl)
theorem dJ3_compareTo_90 : decode cJ3_compareTo 90 = .ok (.iload 4, 2) := dk_21 4 (dk_at dksJ3_compareTo_3 20 rfl rfl)
theorem dJ3_compareTo_92 : decode cJ3_compareTo 92 = .ok (.iload 5, 2) := dk_21 5 (dk_at dksJ3_compareTo_3 22 rfl rfl)
theorem dJ3_compareTo_94 : decode cJ3_compareTo 94 = .ok (.invokestatic 97, 3) := dk_184 0 97 (dk_at dksJ3_compareTo_4 0 rfl rfl)
theorem dJ3_compareTo_97 : decode cJ3_compareTo 97 = .ok (.ireturn, 1) := dk_172 (dk_at dksJ3_compareTo_4 3 rfl rfl)
abbrev cJ3_append_2 : ByteArray := prog_12_method_22_code
def yJ3_append_2 : MethodName := ⟨RJ3, "append", "(Ljava/lang/String;)Ljava/lang/AbstractStringBuilder;"⟩
def dkwJ3_append_2_1 : List UInt8 := [42, 42, 180, 0, 79, 43, 182, 0, 208, 42, 89, 180, 0, 79, 28, 96, 181, 0, 79, 42, 176]
abbrev dktJ3_append_2_1 : List UInt8 := dkwJ3_append_2_1 ++ []
def dkwJ3_append_2_0 : List UInt8 := [43, 199, 0, 8, 42, 182, 0, 204, 176, 43, 182, 0, 32, 61, 42, 42, 180, 0, 79, 28, 96, 182, 0, 100]
abbrev dktJ3_append_2_0 : List UInt8 := dkwJ3_append_2_0 ++ dktJ3_append_2_1
theorem dksJ3_append_2_0 : cJ3_append_2.data.toList.drop 0 = dktJ3_append_2_0 := by decide +kernel
theorem dksJ3_append_2_1 : cJ3_append_2.data.toList.drop 24 = dktJ3_append_2_1 := dk_seg dksJ3_append_2_0 24 rfl rfl
theorem dJ3_append_2_0 : decode cJ3_append_2 0 = .ok (.aload_n 1, 1) := dk_43 (dk_at dksJ3_append_2_0 0 rfl rfl)
theorem dJ3_append_2_1 : decode cJ3_append_2 1 = .ok (.ifnonnull 8, 3) := dk_199 0 8 (dk_at dksJ3_append_2_0 1 rfl rfl)
theorem dJ3_append_2_4 : decode cJ3_append_2 4 = .ok (.aload_n 0, 1) := dk_42 (dk_at dksJ3_append_2_0 4 rfl rfl)
theorem dJ3_append_2_5 : decode cJ3_append_2 5 = .ok (.invokevirtual 204, 3) := dk_182 0 204 (dk_at dksJ3_append_2_0 5 rfl rfl)
theorem dJ3_append_2_8 : decode cJ3_append_2 8 = .ok (.areturn, 1) := dk_176 (dk_at dksJ3_append_2_0 8 rfl rfl)
theorem dJ3_append_2_9 : decode cJ3_append_2 9 = .ok (.aload_n 1, 1) := dk_43 (dk_at dksJ3_append_2_0 9 rfl rfl)
theorem dJ3_append_2_10 : decode cJ3_append_2 10 = .ok (.invokevirtual 32, 3) := dk_182 0 32 (dk_at dksJ3_append_2_0 10 rfl rfl)
theorem dJ3_append_2_13 : decode cJ3_append_2 13 = .ok (.istore_n 2, 1) := dk_61 (dk_at dksJ3_append_2_0 13 rfl rfl)
theorem dJ3_append_2_14 : decode cJ3_append_2 14 = .ok (.aload_n 0, 1) := dk_42 (dk_at dksJ3_append_2_0 14 rfl rfl)
theorem dJ3_append_2_15 : decode cJ3_append_2 15 = .ok (.aload_n 0, 1) := dk_42 (dk_at dksJ3_append_2_0 15 rfl rfl)
theorem dJ3_append_2_16 : decode cJ3_append_2 16 = .ok (.getfield 79, 3) := dk_180 0 79 (dk_at dksJ3_append_2_0 16 rfl rfl)
theorem dJ3_append_2_19 : decode cJ3_append_2 19 = .ok (.iload_n 2, 1) := dk_28 (dk_at dksJ3_append_2_0 19 rfl rfl)
theorem dJ3_append_2_20 : decode cJ3_append_2 20 = .ok (.iadd, 1) := dk_96 (dk_at dksJ3_append_2_0 20 rfl rfl)
theorem dJ3_append_2_21 : decode cJ3_append_2 21 = .ok (.invokevirtual 100, 3) := dk_182 0 100 (dk_at dksJ3_append_2_0 21 rfl rfl)
theorem dJ3_append_2_24 : decode cJ3_append_2 24 = .ok (.aload_n 0, 1) := dk_42 (dk_at dksJ3_append_2_1 0 rfl rfl)
theorem dJ3_append_2_25 : decode cJ3_append_2 25 = .ok (.aload_n 0, 1) := dk_42 (dk_at dksJ3_append_2_1 1 rfl rfl)
theorem dJ3_append_2_26 : decode cJ3_append_2 26 = .ok (.getfield 79, 3) := dk_180 0 79 (dk_at dksJ3_append_2_1 2 rfl rfl)
theorem dJ3_append_2_29 : decode cJ3_append_2 29 = .ok (.aload_n 1, 1) := dk_43 (dk_at dksJ3_append_2_1 5 rfl rfl)
theorem dJ3_append_2_30 : decode cJ3_append_2 30 = .ok (.invokevirtual 208, 3) := dk_182 0 208 (dk_at dksJ3_append_2_1 6 rfl rfl)
theorem dJ3_append_2_33 : decode cJ3_append_2 33 = .ok (.aload_n 0, 1) := dk_42 (dk_at dksJ3_append_2_1 9 rfl rfl)
theorem dJ3_append_2_34 : decode cJ3_append_2 34 = .ok (.dup, 1) := dk_89 (dk_at dksJ3_append_2_1 10 rfl rfl)
theorem dJ3_append_2_35 : decode cJ3_append_2 35 = .ok (.getfield 79, 3) := dk_180 0 79 (dk_at dksJ3_append_2_1 11 rfl rfl)
theorem dJ3_append_2_38 : decode cJ3_append_2 38 = .ok (.iload_n 2, 1) := dk_28 (dk_at dksJ3_append_2_1 14 rfl rfl)
theorem dJ3_append_2_39 : decode cJ3_append_2 39 = .ok (.iadd, 1) := dk_96 (dk_at dksJ3_append_2_1 15 rfl rfl)
theorem dJ3_append_2_40 : decode cJ3_append_2 40 = .ok (.putfield 79, 3) := dk_181 0 79 (dk_at dksJ3_append_2_1 16 rfl rfl)
theorem dJ3_append_2_43 : decode cJ3_append_2 43 = .ok (.aload_n 0, 1) := dk_42 (dk_at dksJ3_append_2_1 19 rfl rfl)
theorem dJ3_append_2_44 : decode cJ3_append_2 44 = .ok (.areturn, 1) := dk_176 (dk_at dksJ3_append_2_1 20 rfl rfl)
abbrev cJ3_appendNull : ByteArray := prog_12_method_26_code
def yJ3_appendNull : MethodName := ⟨RJ3, "appendNull", "()Ljava/lang/AbstractStringBuilder;"⟩
def dkwJ3_appendNull_3 : List UInt8 := [184, 0, 226, 60, 42, 27, 181, 0, 79, 42, 176]
abbrev dktJ3_appendNull_3 : List UInt8 := dkwJ3_appendNull_3 ++ []
def dkwJ3_appendNull_2 : List UInt8 := [16, 108, 84, 44, 27, 132, 1, 1, 16, 108, 84, 167, 0, 17, 44, 27, 16, 110, 16, 117, 16, 108, 16, 108]
abbrev dktJ3_appendNull_2 : List UInt8 := dkwJ3_appendNull_2 ++ dktJ3_appendNull_3
def dkwJ3_appendNull_1 : List UInt8 := [153, 0, 38, 44, 27, 132, 1, 1, 16, 110, 84, 44, 27, 132, 1, 1, 16, 117, 84, 44, 27, 132, 1, 1]
abbrev dktJ3_appendNull_1 : List UInt8 := dkwJ3_appendNull_1 ++ dktJ3_appendNull_2
def dkwJ3_appendNull_0 : List UInt8 := [42, 42, 180, 0, 79, 7, 96, 182, 0, 100, 42, 180, 0, 79, 60, 42, 180, 0, 15, 77, 42, 182, 0, 83]
abbrev dktJ3_appendNull_0 : List UInt8 := dkwJ3_appendNull_0 ++ dktJ3_appendNull_1
theorem dksJ3_appendNull_0 : cJ3_appendNull.data.toList.drop 0 = dktJ3_appendNull_0 := by decide +kernel
theorem dksJ3_appendNull_1 : cJ3_appendNull.data.toList.drop 24 = dktJ3_appendNull_1 := dk_seg dksJ3_appendNull_0 24 rfl rfl
theorem dksJ3_appendNull_2 : cJ3_appendNull.data.toList.drop 48 = dktJ3_appendNull_2 := dk_seg dksJ3_appendNull_1 24 rfl rfl
theorem dksJ3_appendNull_3 : cJ3_appendNull.data.toList.drop 72 = dktJ3_appendNull_3 := dk_seg dksJ3_appendNull_2 24 rfl rfl
theorem dJ3_appendNull_0 : decode cJ3_appendNull 0 = .ok (.aload_n 0, 1) := dk_42 (dk_at dksJ3_appendNull_0 0 rfl rfl)
theorem dJ3_appendNull_1 : decode cJ3_appendNull 1 = .ok (.aload_n 0, 1) := dk_42 (dk_at dksJ3_appendNull_0 1 rfl rfl)
theorem dJ3_appendNull_2 : decode cJ3_appendNull 2 = .ok (.getfield 79, 3) := dk_180 0 79 (dk_at dksJ3_appendNull_0 2 rfl rfl)
theorem dJ3_appendNull_5 : decode cJ3_appendNull 5 = .ok (.iconst 4, 1) := dk_7 (dk_at dksJ3_appendNull_0 5 rfl rfl)
theorem dJ3_appendNull_6 : decode cJ3_appendNull 6 = .ok (.iadd, 1) := dk_96 (dk_at dksJ3_appendNull_0 6 rfl rfl)
theorem dJ3_appendNull_7 : decode cJ3_appendNull 7 = .ok (.invokevirtual 100, 3) := dk_182 0 100 (dk_at dksJ3_appendNull_0 7 rfl rfl)
theorem dJ3_appendNull_10 : decode cJ3_appendNull 10 = .ok (.aload_n 0, 1) := dk_42 (dk_at dksJ3_appendNull_0 10 rfl rfl)
theorem dJ3_appendNull_11 : decode cJ3_appendNull 11 = .ok (.getfield 79, 3) := dk_180 0 79 (dk_at dksJ3_appendNull_0 11 rfl rfl)
theorem dJ3_appendNull_14 : decode cJ3_appendNull 14 = .ok (.istore_n 1, 1) := dk_60 (dk_at dksJ3_appendNull_0 14 rfl rfl)
theorem dJ3_appendNull_15 : decode cJ3_appendNull 15 = .ok (.aload_n 0, 1) := dk_42 (dk_at dksJ3_appendNull_0 15 rfl rfl)
theorem dJ3_appendNull_16 : decode cJ3_appendNull 16 = .ok (.getfield 15, 3) := dk_180 0 15 (dk_at dksJ3_appendNull_0 16 rfl rfl)
theorem dJ3_appendNull_19 : decode cJ3_appendNull 19 = .ok (.astore_n 2, 1) := dk_77 (dk_at dksJ3_appendNull_0 19 rfl rfl)
theorem dJ3_appendNull_20 : decode cJ3_appendNull 20 = .ok (.aload_n 0, 1) := dk_42 (dk_at dksJ3_appendNull_0 20 rfl rfl)
theorem dJ3_appendNull_21 : decode cJ3_appendNull 21 = .ok (.invokevirtual 83, 3) := dk_182 0 83 (dk_at dksJ3_appendNull_0 21 rfl rfl)
theorem dJ3_appendNull_24 : decode cJ3_appendNull 24 = .ok (.ifCond .eq 38, 3) := dk_153 0 38 (dk_at dksJ3_appendNull_1 0 rfl rfl)
theorem dJ3_appendNull_27 : decode cJ3_appendNull 27 = .ok (.aload_n 2, 1) := dk_44 (dk_at dksJ3_appendNull_1 3 rfl rfl)
theorem dJ3_appendNull_28 : decode cJ3_appendNull 28 = .ok (.iload_n 1, 1) := dk_27 (dk_at dksJ3_appendNull_1 4 rfl rfl)
theorem dJ3_appendNull_29 : decode cJ3_appendNull 29 = .ok (.iinc 1 1, 3) := dk_132 1 1 (dk_at dksJ3_appendNull_1 5 rfl rfl)
theorem dJ3_appendNull_32 : decode cJ3_appendNull 32 = .ok (.bipush 110, 2) := dk_16 110 (dk_at dksJ3_appendNull_1 8 rfl rfl)
theorem dJ3_appendNull_34 : decode cJ3_appendNull 34 = .ok (.bastore, 1) := dk_84 (dk_at dksJ3_appendNull_1 10 rfl rfl)
theorem dJ3_appendNull_35 : decode cJ3_appendNull 35 = .ok (.aload_n 2, 1) := dk_44 (dk_at dksJ3_appendNull_1 11 rfl rfl)
theorem dJ3_appendNull_36 : decode cJ3_appendNull 36 = .ok (.iload_n 1, 1) := dk_27 (dk_at dksJ3_appendNull_1 12 rfl rfl)
theorem dJ3_appendNull_37 : decode cJ3_appendNull 37 = .ok (.iinc 1 1, 3) := dk_132 1 1 (dk_at dksJ3_appendNull_1 13 rfl rfl)
theorem dJ3_appendNull_40 : decode cJ3_appendNull 40 = .ok (.bipush 117, 2) := dk_16 117 (dk_at dksJ3_appendNull_1 16 rfl rfl)
theorem dJ3_appendNull_42 : decode cJ3_appendNull 42 = .ok (.bastore, 1) := dk_84 (dk_at dksJ3_appendNull_1 18 rfl rfl)
theorem dJ3_appendNull_43 : decode cJ3_appendNull 43 = .ok (.aload_n 2, 1) := dk_44 (dk_at dksJ3_appendNull_1 19 rfl rfl)
theorem dJ3_appendNull_44 : decode cJ3_appendNull 44 = .ok (.iload_n 1, 1) := dk_27 (dk_at dksJ3_appendNull_1 20 rfl rfl)
theorem dJ3_appendNull_45 : decode cJ3_appendNull 45 = .ok (.iinc 1 1, 3) := dk_132 1 1 (dk_at dksJ3_appendNull_1 21 rfl rfl)
theorem dJ3_appendNull_48 : decode cJ3_appendNull 48 = .ok (.bipush 108, 2) := dk_16 108 (dk_at dksJ3_appendNull_2 0 rfl rfl)
theorem dJ3_appendNull_50 : decode cJ3_appendNull 50 = .ok (.bastore, 1) := dk_84 (dk_at dksJ3_appendNull_2 2 rfl rfl)
theorem dJ3_appendNull_51 : decode cJ3_appendNull 51 = .ok (.aload_n 2, 1) := dk_44 (dk_at dksJ3_appendNull_2 3 rfl rfl)
theorem dJ3_appendNull_52 : decode cJ3_appendNull 52 = .ok (.iload_n 1, 1) := dk_27 (dk_at dksJ3_appendNull_2 4 rfl rfl)
theorem dJ3_appendNull_53 : decode cJ3_appendNull 53 = .ok (.iinc 1 1, 3) := dk_132 1 1 (dk_at dksJ3_appendNull_2 5 rfl rfl)
theorem dJ3_appendNull_56 : decode cJ3_appendNull 56 = .ok (.bipush 108, 2) := dk_16 108 (dk_at dksJ3_appendNull_2 8 rfl rfl)
theorem dJ3_appendNull_58 : decode cJ3_appendNull 58 = .ok (.bastore, 1) := dk_84 (dk_at dksJ3_appendNull_2 10 rfl rfl)
theorem dJ3_appendNull_59 : decode cJ3_appendNull 59 = .ok (.goto 17, 3) := dk_167 0 17 (dk_at dksJ3_appendNull_2 11 rfl rfl)
theorem dJ3_appendNull_62 : decode cJ3_appendNull 62 = .ok (.aload_n 2, 1) := dk_44 (dk_at dksJ3_appendNull_2 14 rfl rfl)
theorem dJ3_appendNull_63 : decode cJ3_appendNull 63 = .ok (.iload_n 1, 1) := dk_27 (dk_at dksJ3_appendNull_2 15 rfl rfl)
theorem dJ3_appendNull_64 : decode cJ3_appendNull 64 = .ok (.bipush 110, 2) := dk_16 110 (dk_at dksJ3_appendNull_2 16 rfl rfl)
theorem dJ3_appendNull_66 : decode cJ3_appendNull 66 = .ok (.bipush 117, 2) := dk_16 117 (dk_at dksJ3_appendNull_2 18 rfl rfl)
theorem dJ3_appendNull_68 : decode cJ3_appendNull 68 = .ok (.bipush 108, 2) := dk_16 108 (dk_at dksJ3_appendNull_2 20 rfl rfl)
theorem dJ3_appendNull_70 : decode cJ3_appendNull 70 = .ok (.bipush 108, 2) := dk_16 108 (dk_at dksJ3_appendNull_2 22 rfl rfl)
theorem dJ3_appendNull_72 : decode cJ3_appendNull 72 = .ok (.invokestatic 226, 3) := dk_184 0 226 (dk_at dksJ3_appendNull_3 0 rfl rfl)
theorem dJ3_appendNull_75 : decode cJ3_appendNull 75 = .ok (.istore_n 1, 1) := dk_60 (dk_at dksJ3_appendNull_3 3 rfl rfl)
theorem dJ3_appendNull_76 : decode cJ3_appendNull 76 = .ok (.aload_n 0, 1) := dk_42 (dk_at dksJ3_appendNull_3 4 rfl rfl)
theorem dJ3_appendNull_77 : decode cJ3_appendNull 77 = .ok (.iload_n 1, 1) := dk_27 (dk_at dksJ3_appendNull_3 5 rfl rfl)
theorem dJ3_appendNull_78 : decode cJ3_appendNull 78 = .ok (.putfield 79, 3) := dk_181 0 79 (dk_at dksJ3_appendNull_3 6 rfl rfl)
theorem dJ3_appendNull_81 : decode cJ3_appendNull 81 = .ok (.aload_n 0, 1) := dk_42 (dk_at dksJ3_appendNull_3 9 rfl rfl)
theorem dJ3_appendNull_82 : decode cJ3_appendNull 82 = .ok (.areturn, 1) := dk_176 (dk_at dksJ3_appendNull_3 10 rfl rfl)
abbrev cJ3_putStringAt : ByteArray := prog_12_method_73_code
def yJ3_putStringAt : MethodName := ⟨RJ3, "putStringAt", "(ILjava/lang/String;)V"⟩
def dkwJ3_putStringAt_0 : List UInt8 := [42, 44, 182, 1, 141, 44, 42, 180, 0, 15, 27, 42, 180, 0, 22, 182, 1, 143, 177]
abbrev dktJ3_putStringAt_0 : List UInt8 := dkwJ3_putStringAt_0 ++ []
theorem dksJ3_putStringAt_0 : cJ3_putStringAt.data.toList.drop 0 = dktJ3_putStringAt_0 := by decide +kernel
theorem dJ3_putStringAt_0 : decode cJ3_putStringAt 0 = .ok (.aload_n 0, 1) := dk_42 (dk_at dksJ3_putStringAt_0 0 rfl rfl)
theorem dJ3_putStringAt_1 : decode cJ3_putStringAt 1 = .ok (.aload_n 2, 1) := dk_44 (dk_at dksJ3_putStringAt_0 1 rfl rfl)
theorem dJ3_putStringAt_2 : decode cJ3_putStringAt 2 = .ok (.invokevirtual 397, 3) := dk_182 1 141 (dk_at dksJ3_putStringAt_0 2 rfl rfl)
theorem dJ3_putStringAt_5 : decode cJ3_putStringAt 5 = .ok (.aload_n 2, 1) := dk_44 (dk_at dksJ3_putStringAt_0 5 rfl rfl)
theorem dJ3_putStringAt_6 : decode cJ3_putStringAt 6 = .ok (.aload_n 0, 1) := dk_42 (dk_at dksJ3_putStringAt_0 6 rfl rfl)
theorem dJ3_putStringAt_7 : decode cJ3_putStringAt 7 = .ok (.getfield 15, 3) := dk_180 0 15 (dk_at dksJ3_putStringAt_0 7 rfl rfl)
theorem dJ3_putStringAt_10 : decode cJ3_putStringAt 10 = .ok (.iload_n 1, 1) := dk_27 (dk_at dksJ3_putStringAt_0 10 rfl rfl)
theorem dJ3_putStringAt_11 : decode cJ3_putStringAt 11 = .ok (.aload_n 0, 1) := dk_42 (dk_at dksJ3_putStringAt_0 11 rfl rfl)
theorem dJ3_putStringAt_12 : decode cJ3_putStringAt 12 = .ok (.getfield 22, 3) := dk_180 0 22 (dk_at dksJ3_putStringAt_0 12 rfl rfl)
theorem dJ3_putStringAt_15 : decode cJ3_putStringAt 15 = .ok (.invokevirtual 399, 3) := dk_182 1 143 (dk_at dksJ3_putStringAt_0 15 rfl rfl)
theorem dJ3_putStringAt_18 : decode cJ3_putStringAt 18 = .ok (.return_, 1) := dk_177 (dk_at dksJ3_putStringAt_0 18 rfl rfl)
abbrev cJ3_inflateIfNeededFor : ByteArray := prog_12_method_71_code
def yJ3_inflateIfNeededFor : MethodName := ⟨RJ3, "inflateIfNeededFor", "(Ljava/lang/String;)V"⟩
def dkwJ3_inflateIfNeededFor_0 : List UInt8 := [178, 0, 18, 153, 0, 18, 42, 180, 0, 22, 43, 182, 0, 40, 159, 0, 7, 42, 182, 0, 195, 177]
abbrev dktJ3_inflateIfNeededFor_0 : List UInt8 := dkwJ3_inflateIfNeededFor_0 ++ []
theorem dksJ3_inflateIfNeededFor_0 : cJ3_inflateIfNeededFor.data.toList.drop 0 = dktJ3_inflateIfNeededFor_0 := by decide +kernel
theorem dJ3_inflateIfNeededFor_0 : decode cJ3_inflateIfNeededFor 0 = .ok (.getstatic 18, 3) := dk_178 0 18 (dk_at dksJ3_inflateIfNeededFor_0 0 rfl rfl)
theorem dJ3_inflateIfNeededFor_3 : decode cJ3_inflateIfNeededFor 3 = .ok (.ifCond .eq 18, 3) := dk_153 0 18 (dk_at dksJ3_inflateIfNeededFor_0 3 rfl rfl)
theorem dJ3_inflateIfNeededFor_6 : decode cJ3_inflateIfNeededFor 6 = .ok (.aload_n 0, 1) := dk_42 (dk_at dksJ3_inflateIfNeededFor_0 6 rfl rfl)
theorem dJ3_inflateIfNeededFor_7 : decode cJ3_inflateIfNeededFor 7 = .ok (.getfield 22, 3) := dk_180 0 22 (dk_at dksJ3_inflateIfNeededFor_0 7 rfl rfl)
theorem dJ3_inflateIfNeededFor_10 : decode cJ3_inflateIfNeededFor 10 = .ok (.aload_n 1, 1) := dk_43 (dk_at dksJ3_inflateIfNeededFor_0 10 rfl rfl)
theorem dJ3_inflateIfNeededFor_11 : decode cJ3_inflateIfNeededFor 11 = .ok (.invokevirtual 40, 3) := dk_182 0 40 (dk_at dksJ3_inflateIfNeededFor_0 11 rfl rfl)
theorem dJ3_inflateIfNeededFor_14 : decode cJ3_inflateIfNeededFor 14 = .ok (.if_icmp .eq 7, 3) := dk_159 0 7 (dk_at dksJ3_inflateIfNeededFor_0 14 rfl rfl)
theorem dJ3_inflateIfNeededFor_17 : decode cJ3_inflateIfNeededFor 17 = .ok (.aload_n 0, 1) := dk_42 (dk_at dksJ3_inflateIfNeededFor_0 17 rfl rfl)
theorem dJ3_inflateIfNeededFor_18 : decode cJ3_inflateIfNeededFor 18 = .ok (.invokevirtual 195, 3) := dk_182 0 195 (dk_at dksJ3_inflateIfNeededFor_0 18 rfl rfl)
theorem dJ3_inflateIfNeededFor_21 : decode cJ3_inflateIfNeededFor 21 = .ok (.return_, 1) := dk_177 (dk_at dksJ3_inflateIfNeededFor_0 21 rfl rfl)
theorem q103 : (Jvm.Cond.initialized "java/lang/AbstractStringBuilder") ∈ lw_all := lw_g (lw_at lw_m1 8 rfl) rfl
theorem q299 : (Jvm.Cond.instanceMethod ({ cls := "java/lang/AbstractStringBuilder", name := "<init>", desc := "(I)V" } : Jvm.MethodName)) ∈ lw_all := lw_g (lw_at lw_m1 204 rfl) rfl
theorem q300 : (Jvm.Cond.code ({ cls := "java/lang/AbstractStringBuilder", name := "<init>", desc := "(I)V" } : Jvm.MethodName) prog_12_method_2_code (2 : Nat) (Option.none : Option Jvm.ClassFile.FieldType)) ∈ lw_all := lw_g (lw_at lw_m1 205 rfl) rfl
theorem q301 : (Jvm.Cond.methodLink "java/lang/AbstractStringBuilder" (3 : Nat) ({ cls := "java/lang/Object", name := "<init>", desc := "()V" } : Jvm.MethodName)) ∈ lw_all := lw_g (lw_at lw_m1 206 rfl) rfl
theorem q302 : (Jvm.Cond.fieldLink "java/lang/AbstractStringBuilder" (18 : Nat) "java/lang/String" "COMPACT_STRINGS" "Z") ∈ lw_all := lw_g (lw_at lw_m1 207 rfl) rfl
theorem q304 : (Jvm.Cond.methodLink "java/lang/AbstractStringBuilder" (26 : Nat) ({ cls := "java/lang/StringUTF16", name := "newBytesFor", desc := "(I)[B" } : Jvm.MethodName)) ∈ lw_all := lw_g (lw_at lw_m1 209 rfl) rfl
theorem q311 : (Jvm.Cond.fieldLink "java/lang/AbstractStringBuilder" (15 : Nat) "java/lang/AbstractStringBuilder" "value" "[B") ∈ lw_all := lw_g (lw_at lw_m1 216 rfl) rfl
theorem q312 : (Jvm.Cond.fieldLink "java/lang/AbstractStringBuilder" (22 : Nat) "java/lang/AbstractStringBuilder" "coder" "B") ∈ lw_all := lw_g (lw_at lw_m1 217 rfl) rfl
theorem q314 : (Jvm.Cond.fieldLink "java/lang/AbstractStringBuilder" (79 : Nat) "java/lang/AbstractStringBuilder" "count" "I") ∈ lw_all := lw_g (lw_at lw_m1 219 rfl) rfl
theorem q316 : (Jvm.Cond.soleField "java/lang/AbstractStringBuilder" "value") ∈ lw_all := lw_g (lw_at lw_m1 221 rfl) rfl
theorem q318 : (Jvm.Cond.soleField "java/lang/AbstractStringBuilder" "coder") ∈ lw_all := lw_g (lw_at lw_m1 223 rfl) rfl
theorem q320 : (Jvm.Cond.soleField "java/lang/AbstractStringBuilder" "maybeLatin1") ∈ lw_all := lw_g (lw_at lw_m1 225 rfl) rfl
theorem q322 : (Jvm.Cond.soleField "java/lang/AbstractStringBuilder" "count") ∈ lw_all := lw_g (lw_at lw_m1 227 rfl) rfl
theorem q329 : (Jvm.Cond.instanceMethod ({ cls := "java/lang/AbstractStringBuilder", name := "append", desc := "(C)Ljava/lang/AbstractStringBuilder;" } : Jvm.MethodName)) ∈ lw_all := lw_g (lw_at lw_m1 234 rfl) rfl
theorem q330 : (Jvm.Cond.code ({ cls := "java/lang/AbstractStringBuilder", name := "append", desc := "(C)Ljava/lang/AbstractStringBuilder;" } : Jvm.MethodName) prog_12_method_31_code (2 : Nat) (Option.some (Jvm.ClassFile.FieldType.object "java/lang/AbstractStringBuilder"))) ∈ lw_all := lw_g (lw_at lw_m1 235 rfl) rfl
theorem q331 : (Jvm.Cond.methodLink "java/lang/AbstractStringBuilder" (100 : Nat) ({ cls := "java/lang/AbstractStringBuilder", name := "ensureCapacityInternal", desc := "(I)V" } : Jvm.MethodName)) ∈ lw_all := lw_g (lw_at lw_m1 236 rfl) rfl
theorem q332 : (Jvm.Cond.privateMethod ({ cls := "java/lang/AbstractStringBuilder", name := "ensureCapacityInternal", desc := "(I)V" } : Jvm.MethodName)) ∈ lw_tbl := lw_at lw_m1 237 rfl
theorem q333 : (Jvm.Cond.instanceMethod ({ cls := "java/lang/AbstractStringBuilder", name := "ensureCapacityInternal", desc := "(I)V" } : Jvm.MethodName)) ∈ lw_all := lw_g (lw_at lw_m1 238 rfl) rfl
theorem q334 : (Jvm.Cond.code ({ cls := "java/lang/AbstractStringBuilder", name := "ensureCapacityInternal", desc := "(I)V" } : Jvm.MethodName) prog_12_method_9_code (3 : Nat) (Option.none : Option Jvm.ClassFile.FieldType)) ∈ lw_all := lw_g (lw_at lw_m1 239 rfl) rfl
theorem q335 : (Jvm.Cond.methodLink "java/lang/AbstractStringBuilder" (104 : Nat) ({ cls := "java/lang/AbstractStringBuilder", name := "newCapacity", desc := "(I)I" } : Jvm.MethodName)) ∈ lw_all := lw_g (lw_at lw_m2 0 rfl) rfl
theorem q336 : (Jvm.Cond.privateMethod ({ cls := "java/lang/AbstractStringBuilder", name := "newCapacity", desc := "(I)I" } : Jvm.MethodName)) ∈ lw_tbl := lw_at lw_m2 1 rfl
theorem q337 : (Jvm.Cond.instanceMethod ({ cls := "java/lang/AbstractStringBuilder", name := "newCapacity", desc := "(I)I" } : Jvm.MethodName)) ∈ lw_all := lw_g (lw_at lw_m2 2 rfl) rfl
theorem q338 : (Jvm.Cond.code ({ cls := "java/lang/AbstractStringBuilder", name := "newCapacity", desc := "(I)I" } : Jvm.MethodName) prog_12_method_10_code (6 : Nat) (Option.some Jvm.ClassFile.FieldType.int)) ∈ lw_all := lw_g (lw_at lw_m2 3 rfl) rfl
theorem q339 : (Jvm.Cond.methodLink "java/lang/AbstractStringBuilder" (114 : Nat) ({ cls := "jdk/internal/util/ArraysSupport", name := "newLength", desc := "(III)I" } : Jvm.MethodName)) ∈ lw_all := lw_g (lw_at lw_m2 4 rfl) rfl
theorem q349 : (Jvm.Cond.constant "java/lang/AbstractStringBuilder" (39 : Nat) (2147483647 : Int32)) ∈ lw_all := lw_g (lw_at lw_m2 14 rfl) rfl
theorem q350 : (Jvm.Cond.methodLink "java/lang/AbstractStringBuilder" (108 : Nat) ({ cls := "java/util/Arrays", name := "copyOf", desc := "([BI)[B" } : Jvm.MethodName)) ∈ lw_all := lw_g (lw_at lw_m2 15 rfl) rfl
theorem q366 : (Jvm.Cond.methodLink "java/lang/AbstractStringBuilder" (83 : Nat) ({ cls := "java/lang/AbstractStringBuilder", name := "isLatin1", desc := "()Z" } : Jvm.MethodName)) ∈ lw_all := lw_g (lw_at lw_m2 31 rfl) rfl
theorem q367 : (Jvm.Cond.instanceMethod ({ cls := "java/lang/AbstractStringBuilder", name := "isLatin1", desc := "()Z" } : Jvm.MethodName)) ∈ lw_all := lw_g (lw_at lw_m2 32 rfl) rfl
theorem q368 : (Jvm.Cond.sameMethod "java/lang/AbstractStringBuilder" "java/lang/AbstractStringBuilder" "isLatin1" "()Z") ∈ lw_all := lw_g (lw_at lw_m2 33 rfl) rfl
theorem q370 : (Jvm.Cond.code ({ cls := "java/lang/AbstractStringBuilder", name := "isLatin1", desc := "()Z" } : Jvm.MethodName) prog_12_method_68_code (1 : Nat) (Option.some Jvm.ClassFile.FieldType.boolean)) ∈ lw_all := lw_g (lw_at lw_m2 35 rfl) rfl
theorem q371 : (Jvm.Cond.methodLink "java/lang/AbstractStringBuilder" (191 : Nat) ({ cls := "java/lang/StringLatin1", name := "canEncode", desc := "(C)Z" } : Jvm.MethodName)) ∈ lw_all := lw_g (lw_at lw_m2 36 rfl) rfl
theorem q374 : (Jvm.Cond.methodLink "java/lang/AbstractStringBuilder" (195 : Nat) ({ cls := "java/lang/AbstractStringBuilder", name := "inflate", desc := "()V" } : Jvm.MethodName)) ∈ lw_all := lw_g (lw_at lw_m2 39 rfl) rfl
theorem q375 : (Jvm.Cond.privateMethod ({ cls := "java/lang/AbstractStringBuilder", name := "inflate", desc := "()V" } : Jvm.MethodName)) ∈ lw_tbl := lw_at lw_m2 40 rfl
theorem q376 : (Jvm.Cond.instanceMethod ({ cls := "java/lang/AbstractStringBuilder", name := "inflate", desc := "()V" } : Jvm.MethodName)) ∈ lw_all := lw_g (lw_at lw_m2 41 rfl) rfl
theorem q377 : (Jvm.Cond.code ({ cls := "java/lang/AbstractStringBuilder", name := "inflate", desc := "()V" } : Jvm.MethodName) prog_12_method_11_code (2 : Nat) (Option.none : Option Jvm.ClassFile.FieldType)) ∈ lw_all := lw_g (lw_at lw_m2 42 rfl) rfl
theorem q378 : (Jvm.Cond.methodLink "java/lang/AbstractStringBuilder" (125 : Nat) ({ cls := "java/lang/StringLatin1", name := "inflate", desc := "([BI[BII)V" } : Jvm.MethodName)) ∈ lw_all := lw_g (lw_at lw_m2 43 rfl) rfl
theorem q407 : (Jvm.Cond.methodLink "java/lang/AbstractStringBuilder" (197 : Nat) ({ cls := "java/lang/StringUTF16", name := "putCharSB", desc := "([BII)V" } : Jvm.MethodName)) ∈ lw_all := lw_g (lw_at lw_m2 72 rfl) rfl
theorem q433 : (Jvm.Cond.instanceMethod ({ cls := "java/lang/AbstractStringBuilder", name := "getValue", desc := "()[B" } : Jvm.MethodName)) ∈ lw_all := lw_g (lw_at lw_m2 98 rfl) rfl
theorem q434 : (Jvm.Cond.sameMethod "java/lang/AbstractStringBuilder" "java/lang/AbstractStringBuilder" "getValue" "()[B") ∈ lw_all := lw_g (lw_at lw_m2 99 rfl) rfl
theorem q436 : (Jvm.Cond.code ({ cls := "java/lang/AbstractStringBuilder", name := "getValue", desc := "()[B" } : Jvm.MethodName) prog_12_method_64_code (1 : Nat) (Option.some (Jvm.ClassFile.FieldType.array Jvm.ClassFile.FieldType.byte))) ∈ lw_all := lw_g (lw_at lw_m2 101 rfl) rfl
theorem q438 : (Jvm.Cond.instanceMethod ({ cls := "java/lang/AbstractStringBuilder", name := "length", desc := "()I" } : Jvm.MethodName)) ∈ lw_all := lw_g (lw_at lw_m2 103 rfl) rfl
theorem q439 : (Jvm.Cond.sameMethod "java/lang/AbstractStringBuilder" "java/lang/AbstractStringBuilder" "length" "()I") ∈ lw_all := lw_g (lw_at lw_m2 104 rfl) rfl
theorem q444 : (Jvm.Cond.code ({ cls := "java/lang/AbstractStringBuilder", name := "length", desc := "()I" } : Jvm.MethodName) prog_12_method_6_code (1 : Nat) (Option.some Jvm.ClassFile.FieldType.int)) ∈ lw_all := lw_g (lw_at lw_m2 109 rfl) rfl
theorem q1184 : (Jvm.Cond.instanceMethod ({ cls := "java/lang/AbstractStringBuilder", name := "compareTo", desc := "(Ljava/lang/AbstractStringBuilder;)I" } : Jvm.MethodName)) ∈ lw_all := lw_g (lw_at lw_m5 129 rfl) rfl
theorem q1185 : (Jvm.Cond.code ({ cls := "java/lang/AbstractStringBuilder", name := "compareTo", desc := "(Ljava/lang/AbstractStringBuilder;)I" } : Jvm.MethodName) prog_12_method_5_code (6 : Nat) (Option.some Jvm.ClassFile.FieldType.int)) ∈ lw_all := lw_g (lw_at lw_m5 130 rfl) rfl
theorem q1186 : (Jvm.Cond.methodLink "java/lang/AbstractStringBuilder" (87 : Nat) ({ cls := "java/lang/StringLatin1", name := "compareTo", desc := "([B[BII)I" } : Jvm.MethodName)) ∈ lw_all := lw_g (lw_at lw_m5 131 rfl) rfl
theorem q1187 : (Jvm.Cond.methodLink "java/lang/AbstractStringBuilder" (93 : Nat) ({ cls := "java/lang/StringUTF16", name := "compareTo", desc := "([B[BII)I" } : Jvm.MethodName)) ∈ lw_all := lw_g (lw_at lw_m5 132 rfl) rfl
theorem q1196 : (Jvm.Cond.methodLink "java/lang/AbstractStringBuilder" (94 : Nat) ({ cls := "java/lang/StringLatin1", name := "compareToUTF16", desc := "([B[BII)I" } : Jvm.MethodName)) ∈ lw_all := lw_g (lw_at lw_m5 141 rfl) rfl
theorem q1200 : (Jvm.Cond.methodLink "java/lang/AbstractStringBuilder" (97 : Nat) ({ cls := "java/lang/StringUTF16", name := "compareToLatin1", desc := "([B[BII)I" } : Jvm.MethodName)) ∈ lw_all := lw_g (lw_at lw_m5 145 rfl) rfl
theorem q1617 : (Jvm.Cond.instanceMethod ({ cls := "java/lang/AbstractStringBuilder", name := "append", desc := "(Ljava/lang/String;)Ljava/lang/AbstractStringBuilder;" } : Jvm.MethodName)) ∈ lw_all := lw_g (lw_at lw_m7 82 rfl) rfl
theorem q1618 : (Jvm.Cond.code ({ cls := "java/lang/AbstractStringBuilder", name := "append", desc := "(Ljava/lang/String;)Ljava/lang/AbstractStringBuilder;" } : Jvm.MethodName) prog_12_method_22_code (3 : Nat) (Option.some (Jvm.ClassFile.FieldType.object "java/lang/AbstractStringBuilder"))) ∈ lw_all := lw_g (lw_at lw_m7 83 rfl) rfl
theorem q1619 : (Jvm.Cond.methodLink "java/lang/AbstractStringBuilder" (204 : Nat) ({ cls := "java/lang/AbstractStringBuilder", name := "appendNull", desc := "()Ljava/lang/AbstractStringBuilder;" } : Jvm.MethodName)) ∈ lw_all := lw_g (lw_at lw_m7 84 rfl) rfl
theorem q1620 : (Jvm.Cond.privateMethod ({ cls := "java/lang/AbstractStringBuilder", name := "appendNull", desc := "()Ljava/lang/AbstractStringBuilder;" } : Jvm.MethodName)) ∈ lw_tbl := lw_at lw_m7 85 rfl
theorem q1621 : (Jvm.Cond.instanceMethod ({ cls := "java/lang/AbstractStringBuilder", name := "appendNull", desc := "()Ljava/lang/AbstractStringBuilder;" } : Jvm.MethodName)) ∈ lw_all := lw_g (lw_at lw_m7 86 rfl) rfl
theorem q1622 : (Jvm.Cond.code ({ cls := "java/lang/AbstractStringBuilder", name := "appendNull", desc := "()Ljava/lang/AbstractStringBuilder;" } : Jvm.MethodName) prog_12_method_26_code (3 : Nat) (Option.some (Jvm.ClassFile.FieldType.object "java/lang/AbstractStringBuilder"))) ∈ lw_all := lw_g (lw_at lw_m7 87 rfl) rfl
theorem q1623 : (Jvm.Cond.methodLink "java/lang/AbstractStringBuilder" (226 : Nat) ({ cls := "java/lang/StringUTF16", name := "putCharsAt", desc := "([BICCCC)I" } : Jvm.MethodName)) ∈ lw_all := lw_g (lw_at lw_m7 88 rfl) rfl
theorem q1630 : (Jvm.Cond.methodLink "java/lang/AbstractStringBuilder" (32 : Nat) ({ cls := "java/lang/String", name := "length", desc := "()I" } : Jvm.MethodName)) ∈ lw_all := lw_g (lw_at lw_m7 95 rfl) rfl
theorem q1631 : (Jvm.Cond.methodLink "java/lang/AbstractStringBuilder" (208 : Nat) ({ cls := "java/lang/AbstractStringBuilder", name := "putStringAt", desc := "(ILjava/lang/String;)V" } : Jvm.MethodName)) ∈ lw_all := lw_g (lw_at lw_m7 96 rfl) rfl
theorem q1632 : (Jvm.Cond.privateMethod ({ cls := "java/lang/AbstractStringBuilder", name := "putStringAt", desc := "(ILjava/lang/String;)V" } : Jvm.MethodName)) ∈ lw_tbl := lw_at lw_m7 97 rfl
theorem q1633 : (Jvm.Cond.instanceMethod ({ cls := "java/lang/AbstractStringBuilder", name := "putStringAt", desc := "(ILjava/lang/String;)V" } : Jvm.MethodName)) ∈ lw_all := lw_g (lw_at lw_m7 98 rfl) rfl
theorem q1634 : (Jvm.Cond.code ({ cls := "java/lang/AbstractStringBuilder", name := "putStringAt", desc := "(ILjava/lang/String;)V" } : Jvm.MethodName) prog_12_method_73_code (3 : Nat) (Option.none : Option Jvm.ClassFile.FieldType)) ∈ lw_all := lw_g (lw_at lw_m7 99 rfl) rfl
theorem q1635 : (Jvm.Cond.methodLink "java/lang/AbstractStringBuilder" (397 : Nat) ({ cls := "java/lang/AbstractStringBuilder", name := "inflateIfNeededFor", desc := "(Ljava/lang/String;)V" } : Jvm.MethodName)) ∈ lw_all := lw_g (lw_at lw_m7 100 rfl) rfl
theorem q1636 : (Jvm.Cond.privateMethod ({ cls := "java/lang/AbstractStringBuilder", name := "inflateIfNeededFor", desc := "(Ljava/lang/String;)V" } : Jvm.MethodName)) ∈ lw_tbl := lw_at lw_m7 101 rfl
theorem q1637 : (Jvm.Cond.instanceMethod ({ cls := "java/lang/AbstractStringBuilder", name := "inflateIfNeededFor", desc := "(Ljava/lang/String;)V" } : Jvm.MethodName)) ∈ lw_all := lw_g (lw_at lw_m7 102 rfl) rfl
theorem q1638 : (Jvm.Cond.code ({ cls := "java/lang/AbstractStringBuilder", name := "inflateIfNeededFor", desc := "(Ljava/lang/String;)V" } : Jvm.MethodName) prog_12_method_71_code (2 : Nat) (Option.none : Option Jvm.ClassFile.FieldType)) ∈ lw_all := lw_g (lw_at lw_m7 103 rfl) rfl
theorem q1639 : (Jvm.Cond.methodLink "java/lang/AbstractStringBuilder" (40 : Nat) ({ cls := "java/lang/String", name := "coder", desc := "()B" } : Jvm.MethodName)) ∈ lw_all := lw_g (lw_at lw_m7 104 rfl) rfl
theorem q1640 : (Jvm.Cond.methodLink "java/lang/AbstractStringBuilder" (399 : Nat) ({ cls := "java/lang/String", name := "getBytes", desc := "([BIB)V" } : Jvm.MethodName)) ∈ lw_all := lw_g (lw_at lw_m7 105 rfl) rfl
theorem q2784 : (Jvm.Cond.sameMethod "java/lang/AbstractStringBuilder" "java/lang/AbstractStringBuilder" "append" "(C)Ljava/lang/AbstractStringBuilder;") ∈ lw_all := lw_g (lw_at lw_m12 49 rfl) rfl
theorem q2785 : (Jvm.Cond.sameMethod "java/lang/AbstractStringBuilder" "java/lang/AbstractStringBuilder" "ensureCapacityInternal" "(I)V") ∈ lw_all := lw_g (lw_at lw_m12 50 rfl) rfl
theorem q2786 : (Jvm.Cond.sameMethod "java/lang/AbstractStringBuilder" "java/lang/AbstractStringBuilder" "newCapacity" "(I)I") ∈ lw_all := lw_g (lw_at lw_m12 51 rfl) rfl
theorem q2787 : (Jvm.Cond.sameMethod "java/lang/AbstractStringBuilder" "java/lang/AbstractStringBuilder" "inflate" "()V") ∈ lw_all := lw_g (lw_at lw_m12 52 rfl) rfl
theorem q2788 : (Jvm.Cond.sameMethod "java/lang/AbstractStringBuilder" "java/lang/AbstractStringBuilder" "compareTo" "(Ljava/lang/AbstractStringBuilder;)I") ∈ lw_all := lw_g (lw_at lw_m12 53 rfl) rfl
theorem q2792 : (Jvm.Cond.sameMethod "java/lang/AbstractStringBuilder" "java/lang/AbstractStringBuilder" "append" "(Ljava/lang/String;)Ljava/lang/AbstractStringBuilder;") ∈ lw_all := lw_g (lw_at lw_m12 57 rfl) rfl
theorem q2793 : (Jvm.Cond.sameMethod "java/lang/AbstractStringBuilder" "java/lang/AbstractStringBuilder" "appendNull" "()Ljava/lang/AbstractStringBuilder;") ∈ lw_all := lw_g (lw_at lw_m12 58 rfl) rfl
theorem q2794 : (Jvm.Cond.sameMethod "java/lang/AbstractStringBuilder" "java/lang/AbstractStringBuilder" "putStringAt" "(ILjava/lang/String;)V") ∈ lw_all := lw_g (lw_at lw_m12 59 rfl) rfl
theorem q2795 : (Jvm.Cond.sameMethod "java/lang/AbstractStringBuilder" "java/lang/AbstractStringBuilder" "inflateIfNeededFor" "(Ljava/lang/String;)V") ∈ lw_all := lw_g (lw_at lw_m12 60 rfl) rfl

/-! java/lang/StringBuilder -/
set_option maxRecDepth 100000
def RJ4 : String := "java/lang/StringBuilder"
def TJ4 : u_T := fun k => match k with
  | 0 => ("java/lang/AbstractStringBuilder", "value", "[B", false)
  | 1 => ("java/lang/AbstractStringBuilder", "coder", "B", false)
  | 2 => ("java/lang/AbstractStringBuilder", "maybeLatin1", "Z", false)
  | _ => ("java/lang/AbstractStringBuilder", "count", "I", false)
def tyJ4 : Nat → FieldType := fun k => match k with
  | 0 => .array .byte
  | 1 => .byte
  | 2 => .boolean
  | _ => .int
abbrev wsJ40 : List Cond := u_ws RJ4 TJ4 4
theorem nmJ4 : ∀ a, a < 4 → ∀ b, b < 4 → a ≠ b → (TJ4 a).2.1 ≠ (TJ4 b).2.1 := by decide +kernel
theorem tyJ4_ok : ∀ k, k < 4 → parseFieldDescriptor (TJ4 k).2.2.1 = some (tyJ4 k) := by decide +kernel
abbrev cJ4_init : ByteArray := prog_25_method_1_code
def yJ4_init : MethodName := ⟨RJ4, "<init>", "()V"⟩
def dkwJ4_init_0 : List UInt8 := [42, 16, 16, 183, 0, 1, 177]
abbrev dktJ4_init_0 : List UInt8 := dkwJ4_init_0 ++ []
theorem dksJ4_init_0 : cJ4_init.data.toList.drop 0 = dktJ4_init_0 := by decide +kernel
theorem dJ4_init_0 : decode cJ4_init 0 = .ok (.aload_n 0, 1) := dk_42 (dk_at dksJ4_init_0 0 rfl rfl)
theorem dJ4_init_1 : decode cJ4_init 1 = .ok (.bipush 16, 2) := dk_16 16 (dk_at dksJ4_init_0 1 rfl rfl)
theorem dJ4_init_3 : decode cJ4_init 3 = .ok (.invokespecial 1, 3) := dk_183 0 1 (dk_at dksJ4_init_0 3 rfl rfl)
theorem dJ4_init_6 : decode cJ4_init 6 = .ok (.return_, 1) := dk_177 (dk_at dksJ4_init_0 6 rfl rfl)
abbrev cJ4_append : ByteArray := prog_25_method_14_code
def yJ4_append : MethodName := ⟨RJ4, "append", "(C)Ljava/lang/StringBuilder;"⟩
def dkwJ4_append_0 : List UInt8 := [42, 27, 183, 0, 50, 87, 42, 176]
abbrev dktJ4_append_0 : List UInt8 := dkwJ4_append_0 ++ []
theorem dksJ4_append_0 : cJ4_append.data.toList.drop 0 = dktJ4_append_0 := by decide +kernel
theorem dJ4_append_0 : decode cJ4_append 0 = .ok (.aload_n 0, 1) := dk_42 (dk_at dksJ4_append_0 0 rfl rfl)
theorem dJ4_append_1 : decode cJ4_append 1 = .ok (.iload_n 1, 1) := dk_27 (dk_at dksJ4_append_0 1 rfl rfl)
theorem dJ4_append_2 : decode cJ4_append 2 = .ok (.invokespecial 50, 3) := dk_183 0 50 (dk_at dksJ4_append_0 2 rfl rfl)
theorem dJ4_append_5 : decode cJ4_append 5 = .ok (.pop, 1) := dk_87 (dk_at dksJ4_append_0 5 rfl rfl)
theorem dJ4_append_6 : decode cJ4_append 6 = .ok (.aload_n 0, 1) := dk_42 (dk_at dksJ4_append_0 6 rfl rfl)
theorem dJ4_append_7 : decode cJ4_append 7 = .ok (.areturn, 1) := dk_176 (dk_at dksJ4_append_0 7 rfl rfl)
abbrev cJ4_toString : ByteArray := prog_25_method_42_code
def yJ4_toString : MethodName := ⟨RJ4, "toString", "()Ljava/lang/String;"⟩
def dkwJ4_toString_0 : List UInt8 := [187, 0, 18, 89, 42, 183, 0, 137, 176]
abbrev dktJ4_toString_0 : List UInt8 := dkwJ4_toString_0 ++ []
theorem dksJ4_toString_0 : cJ4_toString.data.toList.drop 0 = dktJ4_toString_0 := by decide +kernel
theorem dJ4_toString_0 : decode cJ4_toString 0 = .ok (.new 18, 3) := dk_187 0 18 (dk_at dksJ4_toString_0 0 rfl rfl)
theorem dJ4_toString_3 : decode cJ4_toString 3 = .ok (.dup, 1) := dk_89 (dk_at dksJ4_toString_0 3 rfl rfl)
theorem dJ4_toString_4 : decode cJ4_toString 4 = .ok (.aload_n 0, 1) := dk_42 (dk_at dksJ4_toString_0 4 rfl rfl)
theorem dJ4_toString_5 : decode cJ4_toString 5 = .ok (.invokespecial 137, 3) := dk_183 0 137 (dk_at dksJ4_toString_0 5 rfl rfl)
theorem dJ4_toString_8 : decode cJ4_toString 8 = .ok (.areturn, 1) := dk_176 (dk_at dksJ4_toString_0 8 rfl rfl)
abbrev cJ4_length : ByteArray := prog_25_method_93_code
def yJ4_length : MethodName := ⟨RJ4, "length", "()I"⟩
theorem dJ4_length_0 : decode cJ4_length 0 = .ok (.aload_n 0, 1) := by decide +kernel
theorem dJ4_length_1 : decode cJ4_length 1 = .ok (.invokespecial 343, 3) := by decide +kernel
theorem dJ4_length_4 : decode cJ4_length 4 = .ok (.ireturn, 1) := by decide +kernel
abbrev cJ4_compareTo : ByteArray := prog_25_method_97_code
def yJ4_compareTo : MethodName := ⟨RJ4, "compareTo", "(Ljava/lang/Object;)I"⟩
def dkwJ4_compareTo_0 : List UInt8 := [42, 43, 192, 0, 24, 182, 1, 90, 172]
abbrev dktJ4_compareTo_0 : List UInt8 := dkwJ4_compareTo_0 ++ []
theorem dksJ4_compareTo_0 : cJ4_compareTo.data.toList.drop 0 = dktJ4_compareTo_0 := by decide +kernel
theorem dJ4_compareTo_0 : decode cJ4_compareTo 0 = .ok (.aload_n 0, 1) := dk_42 (dk_at dksJ4_compareTo_0 0 rfl rfl)
theorem dJ4_compareTo_1 : decode cJ4_compareTo 1 = .ok (.aload_n 1, 1) := dk_43 (dk_at dksJ4_compareTo_0 1 rfl rfl)
theorem dJ4_compareTo_2 : decode cJ4_compareTo 2 = .ok (.checkcast 24, 3) := dk_192 0 24 (dk_at dksJ4_compareTo_0 2 rfl rfl)
theorem dJ4_compareTo_5 : decode cJ4_compareTo 5 = .ok (.invokevirtual 346, 3) := dk_182 1 90 (dk_at dksJ4_compareTo_0 5 rfl rfl)
theorem dJ4_compareTo_8 : decode cJ4_compareTo 8 = .ok (.ireturn, 1) := dk_172 (dk_at dksJ4_compareTo_0 8 rfl rfl)
abbrev cJ4_compareTo_2 : ByteArray := prog_25_method_5_code
def yJ4_compareTo_2 : MethodName := ⟨RJ4, "compareTo", "(Ljava/lang/StringBuilder;)I"⟩
def dkwJ4_compareTo_2_0 : List UInt8 := [42, 43, 183, 0, 13, 172]
abbrev dktJ4_compareTo_2_0 : List UInt8 := dkwJ4_compareTo_2_0 ++ []
theorem dksJ4_compareTo_2_0 : cJ4_compareTo_2.data.toList.drop 0 = dktJ4_compareTo_2_0 := by decide +kernel
theorem dJ4_compareTo_2_0 : decode cJ4_compareTo_2 0 = .ok (.aload_n 0, 1) := dk_42 (dk_at dksJ4_compareTo_2_0 0 rfl rfl)
theorem dJ4_compareTo_2_1 : decode cJ4_compareTo_2 1 = .ok (.aload_n 1, 1) := dk_43 (dk_at dksJ4_compareTo_2_0 1 rfl rfl)
theorem dJ4_compareTo_2_2 : decode cJ4_compareTo_2 2 = .ok (.invokespecial 13, 3) := dk_183 0 13 (dk_at dksJ4_compareTo_2_0 2 rfl rfl)
theorem dJ4_compareTo_2_5 : decode cJ4_compareTo_2 5 = .ok (.ireturn, 1) := dk_172 (dk_at dksJ4_compareTo_2_0 5 rfl rfl)
abbrev cJ4_append_2 : ByteArray := prog_25_method_7_code
def yJ4_append_2 : MethodName := ⟨RJ4, "append", "(Ljava/lang/String;)Ljava/lang/StringBuilder;"⟩
def dkwJ4_append_2_0 : List UInt8 := [42, 43, 183, 0, 29, 87, 42, 176]
abbrev dktJ4_append_2_0 : List UInt8 := dkwJ4_append_2_0 ++ []
theorem dksJ4_append_2_0 : cJ4_append_2.data.toList.drop 0 = dktJ4_append_2_0 := by decide +kernel
theorem dJ4_append_2_0 : decode cJ4_append_2 0 = .ok (.aload_n 0, 1) := dk_42 (dk_at dksJ4_append_2_0 0 rfl rfl)
theorem dJ4_append_2_1 : decode cJ4_append_2 1 = .ok (.aload_n 1, 1) := dk_43 (dk_at dksJ4_append_2_0 1 rfl rfl)
theorem dJ4_append_2_2 : decode cJ4_append_2 2 = .ok (.invokespecial 29, 3) := dk_183 0 29 (dk_at dksJ4_append_2_0 2 rfl rfl)
theorem dJ4_append_2_5 : decode cJ4_append_2 5 = .ok (.pop, 1) := dk_87 (dk_at dksJ4_append_2_0 5 rfl rfl)
theorem dJ4_append_2_6 : decode cJ4_append_2 6 = .ok (.aload_n 0, 1) := dk_42 (dk_at dksJ4_append_2_0 6 rfl rfl)
theorem dJ4_append_2_7 : decode cJ4_append_2 7 = .ok (.areturn, 1) := dk_176 (dk_at dksJ4_append_2_0 7 rfl rfl)
theorem q104 : (Jvm.Cond.initialized "java/lang/StringBuilder") ∈ lw_all := lw_g (lw_at lw_m1 9 rfl) rfl
theorem q294 : (Jvm.Cond.instantiable "java/lang/StringBuilder" (4 : Nat)) ∈ lw_all := lw_g (lw_at lw_m1 199 rfl) rfl
theorem q296 : (Jvm.Cond.instanceMethod ({ cls := "java/lang/StringBuilder", name := "<init>", desc := "()V" } : Jvm.MethodName)) ∈ lw_all := lw_g (lw_at lw_m1 201 rfl) rfl
theorem q297 : (Jvm.Cond.code ({ cls := "java/lang/StringBuilder", name := "<init>", desc := "()V" } : Jvm.MethodName) prog_25_method_1_code (1 : Nat) (Option.none : Option Jvm.ClassFile.FieldType)) ∈ lw_all := lw_g (lw_at lw_m1 202 rfl) rfl
theorem q298 : (Jvm.Cond.methodLink "java/lang/StringBuilder" (1 : Nat) ({ cls := "java/lang/AbstractStringBuilder", name := "<init>", desc := "(I)V" } : Jvm.MethodName)) ∈ lw_all := lw_g (lw_at lw_m1 203 rfl) rfl
theorem q315 : (Jvm.Cond.lays "java/lang/StringBuilder" "java/lang/AbstractStringBuilder" "value" "[B") ∈ lw_all := lw_g (lw_at lw_m1 220 rfl) rfl
theorem q317 : (Jvm.Cond.lays "java/lang/StringBuilder" "java/lang/AbstractStringBuilder" "coder" "B") ∈ lw_all := lw_g (lw_at lw_m1 222 rfl) rfl
theorem q319 : (Jvm.Cond.lays "java/lang/StringBuilder" "java/lang/AbstractStringBuilder" "maybeLatin1" "Z") ∈ lw_all := lw_g (lw_at lw_m1 224 rfl) rfl
theorem q321 : (Jvm.Cond.lays "java/lang/StringBuilder" "java/lang/AbstractStringBuilder" "count" "I") ∈ lw_all := lw_g (lw_at lw_m1 226 rfl) rfl
theorem q323 : (Jvm.Cond.superclass "java/lang/StringBuilder" "java/lang/AbstractStringBuilder") ∈ lw_all := lw_g (lw_at lw_m1 228 rfl) rfl
theorem q325 : (Jvm.Cond.instanceMethod ({ cls := "java/lang/StringBuilder", name := "append", desc := "(C)Ljava/lang/StringBuilder;" } : Jvm.MethodName)) ∈ lw_all := lw_g (lw_at lw_m1 230 rfl) rfl
theorem q326 : (Jvm.Cond.selects "java/lang/StringBuilder" ({ cls := "java/lang/StringBuilder", name := "append", desc := "(C)Ljava/lang/StringBuilder;" } : Jvm.MethodName) ({ cls := "java/lang/StringBuilder", name := "append", desc := "(C)Ljava/lang/StringBuilder;" } : Jvm.MethodName)) ∈ lw_all := lw_g (lw_at lw_m1 231 rfl) rfl
theorem q327 : (Jvm.Cond.code ({ cls := "java/lang/StringBuilder", name := "append", desc := "(C)Ljava/lang/StringBuilder;" } : Jvm.MethodName) prog_25_method_14_code (2 : Nat) (Option.some (Jvm.ClassFile.FieldType.object "java/lang/StringBuilder"))) ∈ lw_all := lw_g (lw_at lw_m1 232 rfl) rfl
theorem q328 : (Jvm.Cond.methodLink "java/lang/StringBuilder" (50 : Nat) ({ cls := "java/lang/AbstractStringBuilder", name := "append", desc := "(C)Ljava/lang/AbstractStringBuilder;" } : Jvm.MethodName)) ∈ lw_all := lw_g (lw_at lw_m1 233 rfl) rfl
theorem q369 : (Jvm.Cond.selects "java/lang/StringBuilder" ({ cls := "java/lang/AbstractStringBuilder", name := "isLatin1", desc := "()Z" } : Jvm.MethodName) ({ cls := "java/lang/AbstractStringBuilder", name := "isLatin1", desc := "()Z" } : Jvm.MethodName)) ∈ lw_all := lw_g (lw_at lw_m2 34 rfl) rfl
theorem q420 : (Jvm.Cond.instanceMethod ({ cls := "java/lang/StringBuilder", name := "toString", desc := "()Ljava/lang/String;" } : Jvm.MethodName)) ∈ lw_all := lw_g (lw_at lw_m2 85 rfl) rfl
theorem q421 : (Jvm.Cond.selects "java/lang/StringBuilder" ({ cls := "java/lang/StringBuilder", name := "toString", desc := "()Ljava/lang/String;" } : Jvm.MethodName) ({ cls := "java/lang/StringBuilder", name := "toString", desc := "()Ljava/lang/String;" } : Jvm.MethodName)) ∈ lw_all := lw_g (lw_at lw_m2 86 rfl) rfl
theorem q422 : (Jvm.Cond.code ({ cls := "java/lang/StringBuilder", name := "toString", desc := "()Ljava/lang/String;" } : Jvm.MethodName) prog_25_method_42_code (1 : Nat) (Option.some (Jvm.ClassFile.FieldType.object "java/lang/String"))) ∈ lw_all := lw_g (lw_at lw_m2 87 rfl) rfl
theorem q423 : (Jvm.Cond.classLink "java/lang/StringBuilder" (18 : Nat) "java/lang/String") ∈ lw_all := lw_g (lw_at lw_m2 88 rfl) rfl
theorem q425 : (Jvm.Cond.methodLink "java/lang/StringBuilder" (137 : Nat) ({ cls := "java/lang/String", name := "<init>", desc := "(Ljava/lang/StringBuilder;)V" } : Jvm.MethodName)) ∈ lw_all := lw_g (lw_at lw_m2 90 rfl) rfl
theorem q435 : (Jvm.Cond.selects "java/lang/StringBuilder" ({ cls := "java/lang/AbstractStringBuilder", name := "getValue", desc := "()[B" } : Jvm.MethodName) ({ cls := "java/lang/AbstractStringBuilder", name := "getValue", desc := "()[B" } : Jvm.MethodName)) ∈ lw_all := lw_g (lw_at lw_m2 100 rfl) rfl
theorem q440 : (Jvm.Cond.selects "java/lang/StringBuilder" ({ cls := "java/lang/AbstractStringBuilder", name := "length", desc := "()I" } : Jvm.MethodName) ({ cls := "java/lang/StringBuilder", name := "length", desc := "()I" } : Jvm.MethodName)) ∈ lw_all := lw_g (lw_at lw_m2 105 rfl) rfl
theorem q441 : (Jvm.Cond.instanceMethod ({ cls := "java/lang/StringBuilder", name := "length", desc := "()I" } : Jvm.MethodName)) ∈ lw_all := lw_g (lw_at lw_m2 106 rfl) rfl
theorem q442 : (Jvm.Cond.code ({ cls := "java/lang/StringBuilder", name := "length", desc := "()I" } : Jvm.MethodName) prog_25_method_93_code (1 : Nat) (Option.some Jvm.ClassFile.FieldType.int)) ∈ lw_all := lw_g (lw_at lw_m2 107 rfl) rfl
theorem q443 : (Jvm.Cond.methodLink "java/lang/StringBuilder" (343 : Nat) ({ cls := "java/lang/AbstractStringBuilder", name := "length", desc := "()I" } : Jvm.MethodName)) ∈ lw_all := lw_g (lw_at lw_m2 108 rfl) rfl
theorem q555 : (Jvm.Cond.selects "java/lang/StringBuilder" ({ cls := "java/lang/Object", name := "getClass", desc := "()Ljava/lang/Class;" } : Jvm.MethodName) ({ cls := "java/lang/Object", name := "getClass", desc := "()Ljava/lang/Class;" } : Jvm.MethodName)) ∈ lw_all := lw_g (lw_at lw_m2 220 rfl) rfl
theorem q955 : (Jvm.Cond.selects "java/lang/StringBuilder" ({ cls := "java/lang/Object", name := "hashCode", desc := "()I" } : Jvm.MethodName) ({ cls := "java/lang/Object", name := "hashCode", desc := "()I" } : Jvm.MethodName)) ∈ lw_all := lw_g (lw_at lw_m4 140 rfl) rfl
theorem q982 : (Jvm.Cond.selects "java/lang/StringBuilder" ({ cls := "java/lang/Object", name := "equals", desc := "(Ljava/lang/Object;)Z" } : Jvm.MethodName) ({ cls := "java/lang/Object", name := "equals", desc := "(Ljava/lang/Object;)Z" } : Jvm.MethodName)) ∈ lw_all := lw_g (lw_at lw_m4 167 rfl) rfl
theorem q1172 : (Jvm.Cond.castable "java/lang/StringBuilder" "java/lang/Comparable") ∈ lw_tbl := lw_at lw_m5 117 rfl
theorem q1173 : (Jvm.Cond.selects "java/lang/StringBuilder" ({ cls := "java/lang/Comparable", name := "compareTo", desc := "(Ljava/lang/Object;)I" } : Jvm.MethodName) ({ cls := "java/lang/StringBuilder", name := "compareTo", desc := "(Ljava/lang/Object;)I" } : Jvm.MethodName)) ∈ lw_all := lw_g (lw_at lw_m5 118 rfl) rfl
theorem q1174 : (Jvm.Cond.unhidden "java/lang/StringBuilder" "compareTo" "(Ljava/lang/Object;)I") ∈ lw_tbl := lw_at lw_m5 119 rfl
theorem q1175 : (Jvm.Cond.instanceMethod ({ cls := "java/lang/StringBuilder", name := "compareTo", desc := "(Ljava/lang/Object;)I" } : Jvm.MethodName)) ∈ lw_all := lw_g (lw_at lw_m5 120 rfl) rfl
theorem q1176 : (Jvm.Cond.publicMethod ({ cls := "java/lang/StringBuilder", name := "compareTo", desc := "(Ljava/lang/Object;)I" } : Jvm.MethodName)) ∈ lw_tbl := lw_at lw_m5 121 rfl
theorem q1177 : (Jvm.Cond.code ({ cls := "java/lang/StringBuilder", name := "compareTo", desc := "(Ljava/lang/Object;)I" } : Jvm.MethodName) prog_25_method_97_code (2 : Nat) (Option.some Jvm.ClassFile.FieldType.int)) ∈ lw_all := lw_g (lw_at lw_m5 122 rfl) rfl
theorem q1178 : (Jvm.Cond.classLink "java/lang/StringBuilder" (24 : Nat) "java/lang/StringBuilder") ∈ lw_all := lw_g (lw_at lw_m5 123 rfl) rfl
theorem q1179 : (Jvm.Cond.methodLink "java/lang/StringBuilder" (346 : Nat) ({ cls := "java/lang/StringBuilder", name := "compareTo", desc := "(Ljava/lang/StringBuilder;)I" } : Jvm.MethodName)) ∈ lw_all := lw_g (lw_at lw_m5 124 rfl) rfl
theorem q1180 : (Jvm.Cond.instanceMethod ({ cls := "java/lang/StringBuilder", name := "compareTo", desc := "(Ljava/lang/StringBuilder;)I" } : Jvm.MethodName)) ∈ lw_all := lw_g (lw_at lw_m5 125 rfl) rfl
theorem q1181 : (Jvm.Cond.selects "java/lang/StringBuilder" ({ cls := "java/lang/StringBuilder", name := "compareTo", desc := "(Ljava/lang/StringBuilder;)I" } : Jvm.MethodName) ({ cls := "java/lang/StringBuilder", name := "compareTo", desc := "(Ljava/lang/StringBuilder;)I" } : Jvm.MethodName)) ∈ lw_all := lw_g (lw_at lw_m5 126 rfl) rfl
theorem q1182 : (Jvm.Cond.code ({ cls := "java/lang/StringBuilder", name := "compareTo", desc := "(Ljava/lang/StringBuilder;)I" } : Jvm.MethodName) prog_25_method_5_code (2 : Nat) (Option.some Jvm.ClassFile.FieldType.int)) ∈ lw_all := lw_g (lw_at lw_m5 127 rfl) rfl
theorem q1183 : (Jvm.Cond.methodLink "java/lang/StringBuilder" (13 : Nat) ({ cls := "java/lang/AbstractStringBuilder", name := "compareTo", desc := "(Ljava/lang/AbstractStringBuilder;)I" } : Jvm.MethodName)) ∈ lw_all := lw_g (lw_at lw_m5 128 rfl) rfl
theorem q1613 : (Jvm.Cond.instanceMethod ({ cls := "java/lang/StringBuilder", name := "append", desc := "(Ljava/lang/String;)Ljava/lang/StringBuilder;" } : Jvm.MethodName)) ∈ lw_all := lw_g (lw_at lw_m7 78 rfl) rfl
theorem q1614 : (Jvm.Cond.selects "java/lang/StringBuilder" ({ cls := "java/lang/StringBuilder", name := "append", desc := "(Ljava/lang/String;)Ljava/lang/StringBuilder;" } : Jvm.MethodName) ({ cls := "java/lang/StringBuilder", name := "append", desc := "(Ljava/lang/String;)Ljava/lang/StringBuilder;" } : Jvm.MethodName)) ∈ lw_all := lw_g (lw_at lw_m7 79 rfl) rfl
theorem q1615 : (Jvm.Cond.code ({ cls := "java/lang/StringBuilder", name := "append", desc := "(Ljava/lang/String;)Ljava/lang/StringBuilder;" } : Jvm.MethodName) prog_25_method_7_code (2 : Nat) (Option.some (Jvm.ClassFile.FieldType.object "java/lang/StringBuilder"))) ∈ lw_all := lw_g (lw_at lw_m7 80 rfl) rfl
theorem q1616 : (Jvm.Cond.methodLink "java/lang/StringBuilder" (29 : Nat) ({ cls := "java/lang/AbstractStringBuilder", name := "append", desc := "(Ljava/lang/String;)Ljava/lang/AbstractStringBuilder;" } : Jvm.MethodName)) ∈ lw_all := lw_g (lw_at lw_m7 81 rfl) rfl
theorem q2806 : (Jvm.Cond.castable "java/lang/StringBuilder" "java/lang/Object") ∈ lw_tbl := lw_at lw_m12 71 rfl
theorem in_J4 : ∀ w ∈ wsJ40, w ∈ lw_all := lw_in wsJ40 [315, 317, 319, 321] (by decide +kernel) (by decide +kernel)

/-! java/lang/String -/
set_option maxRecDepth 100000
def RJ5 : String := "java/lang/String"
def TJ5 : u_T := fun k => match k with
  | 0 => ("java/lang/String", "value", "[B", true)
  | 1 => ("java/lang/String", "coder", "B", true)
  | 2 => ("java/lang/String", "hash", "I", false)
  | _ => ("java/lang/String", "hashIsZero", "Z", false)
def tyJ5 : Nat → FieldType := fun k => match k with
  | 0 => .array .byte
  | 1 => .byte
  | 2 => .int
  | _ => .boolean
abbrev wsJ50 : List Cond := u_ws RJ5 TJ5 4
theorem nmJ5 : ∀ a, a < 4 → ∀ b, b < 4 → a ≠ b → (TJ5 a).2.1 ≠ (TJ5 b).2.1 := by decide +kernel
theorem tyJ5_ok : ∀ k, k < 4 → parseFieldDescriptor (TJ5 k).2.2.1 = some (tyJ5 k) := by decide +kernel
abbrev cJ5_checkBoundsOffCount : ByteArray := prog_24_method_157_code
def yJ5_checkBoundsOffCount : MethodName := ⟨RJ5, "checkBoundsOffCount", "(III)I"⟩
def dkwJ5_checkBoundsOffCount_0 : List UInt8 := [26, 27, 28, 178, 4, 29, 184, 4, 41, 172]
abbrev dktJ5_checkBoundsOffCount_0 : List UInt8 := dkwJ5_checkBoundsOffCount_0 ++ []
theorem dksJ5_checkBoundsOffCount_0 : cJ5_checkBoundsOffCount.data.toList.drop 0 = dktJ5_checkBoundsOffCount_0 := by decide +kernel
theorem dJ5_checkBoundsOffCount_0 : decode cJ5_checkBoundsOffCount 0 = .ok (.iload_n 0, 1) := dk_26 (dk_at dksJ5_checkBoundsOffCount_0 0 rfl rfl)
theorem dJ5_checkBoundsOffCount_1 : decode cJ5_checkBoundsOffCount 1 = .ok (.iload_n 1, 1) := dk_27 (dk_at dksJ5_checkBoundsOffCount_0 1 rfl rfl)
theorem dJ5_checkBoundsOffCount_2 : decode cJ5_checkBoundsOffCount 2 = .ok (.iload_n 2, 1) := dk_28 (dk_at dksJ5_checkBoundsOffCount_0 2 rfl rfl)
theorem dJ5_checkBoundsOffCount_3 : decode cJ5_checkBoundsOffCount 3 = .ok (.getstatic 1053, 3) := dk_178 4 29 (dk_at dksJ5_checkBoundsOffCount_0 3 rfl rfl)
theorem dJ5_checkBoundsOffCount_6 : decode cJ5_checkBoundsOffCount 6 = .ok (.invokestatic 1065, 3) := dk_184 4 41 (dk_at dksJ5_checkBoundsOffCount_0 6 rfl rfl)
theorem dJ5_checkBoundsOffCount_9 : decode cJ5_checkBoundsOffCount 9 = .ok (.ireturn, 1) := dk_172 (dk_at dksJ5_checkBoundsOffCount_0 9 rfl rfl)
abbrev cJ5_checkIndex : ByteArray := prog_24_method_155_code
def yJ5_checkIndex : MethodName := ⟨RJ5, "checkIndex", "(II)V"⟩
def dkwJ5_checkIndex_0 : List UInt8 := [26, 27, 178, 4, 29, 184, 4, 35, 87, 177]
abbrev dktJ5_checkIndex_0 : List UInt8 := dkwJ5_checkIndex_0 ++ []
theorem dksJ5_checkIndex_0 : cJ5_checkIndex.data.toList.drop 0 = dktJ5_checkIndex_0 := by decide +kernel
theorem dJ5_checkIndex_0 : decode cJ5_checkIndex 0 = .ok (.iload_n 0, 1) := dk_26 (dk_at dksJ5_checkIndex_0 0 rfl rfl)
theorem dJ5_checkIndex_1 : decode cJ5_checkIndex 1 = .ok (.iload_n 1, 1) := dk_27 (dk_at dksJ5_checkIndex_0 1 rfl rfl)
theorem dJ5_checkIndex_2 : decode cJ5_checkIndex 2 = .ok (.getstatic 1053, 3) := dk_178 4 29 (dk_at dksJ5_checkIndex_0 2 rfl rfl)
theorem dJ5_checkIndex_5 : decode cJ5_checkIndex 5 = .ok (.invokestatic 1059, 3) := dk_184 4 35 (dk_at dksJ5_checkIndex_0 5 rfl rfl)
theorem dJ5_checkIndex_8 : decode cJ5_checkIndex 8 = .ok (.pop, 1) := dk_87 (dk_at dksJ5_checkIndex_0 8 rfl rfl)
theorem dJ5_checkIndex_9 : decode cJ5_checkIndex 9 = .ok (.return_, 1) := dk_177 (dk_at dksJ5_checkIndex_0 9 rfl rfl)
abbrev cJ5_init : ByteArray := prog_24_method_53_code
def yJ5_init : MethodName := ⟨RJ5, "<init>", "(Ljava/lang/StringBuilder;)V"⟩
def dkwJ5_init_0 : List UInt8 := [42, 43, 1, 183, 1, 233, 177]
abbrev dktJ5_init_0 : List UInt8 := dkwJ5_init_0 ++ []
theorem dksJ5_init_0 : cJ5_init.data.toList.drop 0 = dktJ5_init_0 := by decide +kernel
theorem dJ5_init_0 : decode cJ5_init 0 = .ok (.aload_n 0, 1) := dk_42 (dk_at dksJ5_init_0 0 rfl rfl)
theorem dJ5_init_1 : decode cJ5_init 1 = .ok (.aload_n 1, 1) := dk_43 (dk_at dksJ5_init_0 1 rfl rfl)
theorem dJ5_init_2 : decode cJ5_init 2 = .ok (.aconst_null, 1) := dk_1 (dk_at dksJ5_init_0 2 rfl rfl)
theorem dJ5_init_3 : decode cJ5_init 3 = .ok (.invokespecial 489, 3) := dk_183 1 233 (dk_at dksJ5_init_0 3 rfl rfl)
theorem dJ5_init_6 : decode cJ5_init 6 = .ok (.return_, 1) := dk_177 (dk_at dksJ5_init_0 6 rfl rfl)
abbrev cJ5_init_2 : ByteArray := prog_24_method_150_code
def yJ5_init_2 : MethodName := ⟨RJ5, "<init>", "(Ljava/lang/AbstractStringBuilder;Ljava/lang/Void;)V"⟩
def dkwJ5_init_2_4 : List UInt8 := [181, 0, 9, 177]
abbrev dktJ5_init_2_4 : List UInt8 := dkwJ5_init_2_4 ++ []
def dkwJ5_init_2_3 : List UInt8 := [184, 0, 47, 181, 0, 15, 177, 42, 4, 181, 0, 15, 42, 45, 3, 21, 4, 4, 120, 184, 0, 54]
abbrev dktJ5_init_2_3 : List UInt8 := dkwJ5_init_2_3 ++ dktJ5_init_2_4
def dkwJ5_init_2_2 : List UInt8 := [180, 4, 24, 153, 0, 28, 42, 45, 3, 21, 4, 184, 4, 27, 181, 0, 9, 42, 42, 180, 0, 9, 21, 4]
abbrev dktJ5_init_2_2 : List UInt8 := dkwJ5_init_2_2 ++ dktJ5_init_2_3
def dkwJ5_init_2_1 : List UInt8 := [181, 0, 15, 42, 45, 3, 21, 4, 184, 0, 54, 181, 0, 9, 167, 0, 59, 178, 0, 38, 153, 0, 35, 43]
abbrev dktJ5_init_2_1 : List UInt8 := dkwJ5_init_2_1 ++ dktJ5_init_2_2
def dkwJ5_init_2_0 : List UInt8 := [42, 183, 0, 1, 43, 182, 2, 40, 78, 43, 182, 2, 37, 54, 4, 43, 182, 4, 23, 153, 0, 22, 42, 3]
abbrev dktJ5_init_2_0 : List UInt8 := dkwJ5_init_2_0 ++ dktJ5_init_2_1
theorem dksJ5_init_2_0 : cJ5_init_2.data.toList.drop 0 = dktJ5_init_2_0 := by decide +kernel
theorem dksJ5_init_2_1 : cJ5_init_2.data.toList.drop 24 = dktJ5_init_2_1 := dk_seg dksJ5_init_2_0 24 rfl rfl
theorem dksJ5_init_2_2 : cJ5_init_2.data.toList.drop 48 = dktJ5_init_2_2 := dk_seg dksJ5_init_2_1 24 rfl rfl
theorem dksJ5_init_2_3 : cJ5_init_2.data.toList.drop 72 = dktJ5_init_2_3 := dk_seg dksJ5_init_2_2 24 rfl rfl
theorem dksJ5_init_2_4 : cJ5_init_2.data.toList.drop 94 = dktJ5_init_2_4 := dk_seg dksJ5_init_2_3 22 rfl rfl
theorem dJ5_init_2_0 : decode cJ5_init_2 0 = .ok (.aload_n 0, 1) := dk_42 (dk_at dksJ5_init_2_0 0 rfl rfl)
theorem dJ5_init_2_1 : decode cJ5_init_2 1 = .ok (.invokespecial 1, 3) := dk_183 0 1 (dk_at dksJ5_init_2_0 1 rfl rfl)
theorem dJ5_init_2_4 : decode cJ5_init_2 4 = .ok (.aload_n 1, 1) := dk_43 (dk_at dksJ5_init_2_0 4 rfl rfl)
theorem dJ5_init_2_5 : decode cJ5_init_2 5 = .ok (.invokevirtual 552, 3) := dk_182 2 40 (dk_at dksJ5_init_2_0 5 rfl rfl)
theorem dJ5_init_2_8 : decode cJ5_init_2 8 = .ok (.astore_n 3, 1) := dk_78 (dk_at dksJ5_init_2_0 8 rfl rfl)
theorem dJ5_init_2_9 : decode cJ5_init_2 9 = .ok (.aload_n 1, 1) := dk_43 (dk_at dksJ5_init_2_0 9 rfl rfl)
theorem dJ5_init_2_10 : decode cJ5_init_2 10 = .ok (.invokevirtual 549, 3) := dk_182 2 37 (dk_at dksJ5_init_2_0 10 rfl rfl)
theorem dJ5_init_2_13 : decode cJ5_init_2 13 = .ok (.istore 4, 2) := dk_54 4 (dk_at dksJ5_init_2_0 13 rfl rfl)
theorem dJ5_init_2_15 : decode cJ5_init_2 15 = .ok (.aload_n 1, 1) := dk_43 (dk_at dksJ5_init_2_0 15 rfl rfl)
theorem dJ5_init_2_16 : decode cJ5_init_2 16 = .ok (.invokevirtual 1047, 3) := dk_182 4 23 (dk_at dksJ5_init_2_0 16 rfl rfl)
theorem dJ5_init_2_19 : decode cJ5_init_2 19 = .ok (.ifCond .eq 22, 3) := dk_153 0 22 (dk_at dksJ5_init_2_0 19 rfl rfl)
theorem dJ5_init_2_22 : decode cJ5_init_2 22 = .ok (.aload_n 0, 1) := dk_42 (dk_at dksJ5_init_2_0 22 rfl rfl)
theorem dJ5_init_2_23 : decode cJ5_init_2 23 = .ok (.iconst 0, 1) := dk_3 (dk_at dksJ5_init_2_0 23 rfl rfl)
theorem dJ5_init_2_24 : decode cJ5_init_2 24 = .ok (.putfield 15, 3) := dk_181 0 15 (dk_at dksJ5_init_2_1 0 rfl rfl)
theorem dJ5_init_2_27 : decode cJ5_init_2 27 = .ok (.aload_n 0, 1) := dk_42 (dk_at dksJ5_init_2_1 3 rfl rfl)
theorem dJ5_init_2_28 : decode cJ5_init_2 28 = .ok (.aload_n 3, 1) := dk_45 (dk_at dksJ5_init_2_1 4 rfl rfl)
theorem dJ5_init_2_29 : decode cJ5_init_2 29 = .ok (.iconst 0, 1) := dk_3 (dk_at dksJ5_init_2_1 5 rfl rfl)
theorem dJ5_init_2_30 : decode cJ5_init_2 30 = .ok (.iload 4, 2) := dk_21 4 (dk_at dksJ5_init_2_1 6 rfl rfl)
theorem dJ5_init_2_32 : decode cJ5_init_2 32 = .ok (.invokestatic 54, 3) := dk_184 0 54 (dk_at dksJ5_init_2_1 8 rfl rfl)
theorem dJ5_init_2_35 : decode cJ5_init_2 35 = .ok (.putfield 9, 3) := dk_181 0 9 (dk_at dksJ5_init_2_1 11 rfl rfl)
theorem dJ5_init_2_38 : decode cJ5_init_2 38 = .ok (.goto 59, 3) := dk_167 0 59 (dk_at dksJ5_init_2_1 14 rfl rfl)
theorem dJ5_init_2_41 : decode cJ5_init_2 41 = .ok (.getstatic 38, 3) := dk_178 0 38 (dk_at dksJ5_init_2_1 17 rfl rfl)
theorem dJ5_init_2_44 : decode cJ5_init_2 44 = .ok (.ifCond .eq 35, 3) := dk_153 0 35 (dk_at dksJ5_init_2_1 20 rfl rfl)
theorem dJ5_init_2_47 : decode cJ5_init_2 47 = .ok (.aload_n 1, 1) := dk_43 (dk_at dksJ5_init_2_1 23 rfl rfl)
theorem dJ5_init_2_48 : decode cJ5_init_2 48 = .ok (.getfield 1048, 3) := dk_180 4 24 (dk_at dksJ5_init_2_2 0 rfl rfl)
theorem dJ5_init_2_51 : decode cJ5_init_2 51 = .ok (.ifCond .eq 28, 3) := dk_153 0 28 (dk_at dksJ5_init_2_2 3 rfl rfl)
theorem dJ5_init_2_54 : decode cJ5_init_2 54 = .ok (.aload_n 0, 1) := dk_42 (dk_at dksJ5_init_2_2 6 rfl rfl)
theorem dJ5_init_2_55 : decode cJ5_init_2 55 = .ok (.aload_n 3, 1) := dk_45 (dk_at dksJ5_init_2_2 7 rfl rfl)
theorem dJ5_init_2_56 : decode cJ5_init_2 56 = .ok (.iconst 0, 1) := dk_3 (dk_at dksJ5_init_2_2 8 rfl rfl)
theorem dJ5_init_2_57 : decode cJ5_init_2 57 = .ok (.iload 4, 2) := dk_21 4 (dk_at dksJ5_init_2_2 9 rfl rfl)
theorem dJ5_init_2_59 : decode cJ5_init_2 59 = .ok (.invokestatic 1051, 3) := dk_184 4 27 (dk_at dksJ5_init_2_2 11 rfl rfl)
theorem dJ5_init_2_62 : decode cJ5_init_2 62 = .ok (.putfield 9, 3) := dk_181 0 9 (dk_at dksJ5_init_2_2 14 rfl rfl)
theorem dJ5_init_2_65 : decode cJ5_init_2 65 = .ok (.aload_n 0, 1) := dk_42 (dk_at dksJ5_init_2_2 17 rfl rfl)
theorem dJ5_init_2_66 : decode cJ5_init_2 66 = .ok (.aload_n 0, 1) := dk_42 (dk_at dksJ5_init_2_2 18 rfl rfl)
theorem dJ5_init_2_67 : decode cJ5_init_2 67 = .ok (.getfield 9, 3) := dk_180 0 9 (dk_at dksJ5_init_2_2 19 rfl rfl)
theorem dJ5_init_2_70 : decode cJ5_init_2 70 = .ok (.iload 4, 2) := dk_21 4 (dk_at dksJ5_init_2_2 22 rfl rfl)
theorem dJ5_init_2_72 : decode cJ5_init_2 72 = .ok (.invokestatic 47, 3) := dk_184 0 47 (dk_at dksJ5_init_2_3 0 rfl rfl)
theorem dJ5_init_2_75 : decode cJ5_init_2 75 = .ok (.putfield 15, 3) := dk_181 0 15 (dk_at dksJ5_init_2_3 3 rfl rfl)
theorem dJ5_init_2_78 : decode cJ5_init_2 78 = .ok (.return_, 1) := dk_177 (dk_at dksJ5_init_2_3 6 rfl rfl)
theorem dJ5_init_2_79 : decode cJ5_init_2 79 = .ok (.aload_n 0, 1) := dk_42 (dk_at dksJ5_init_2_3 7 rfl rfl)
theorem dJ5_init_2_80 : decode cJ5_init_2 80 = .ok (.iconst 1, 1) := dk_4 (dk_at dksJ5_init_2_3 8 rfl rfl)
theorem dJ5_init_2_81 : decode cJ5_init_2 81 = .ok (.putfield 15, 3) := dk_181 0 15 (dk_at dksJ5_init_2_3 9 rfl rfl)
theorem dJ5_init_2_84 : decode cJ5_init_2 84 = .ok (.aload_n 0, 1) := dk_42 (dk_at dksJ5_init_2_3 12 rfl rfl)
theorem dJ5_init_2_85 : decode cJ5_init_2 85 = .ok (.aload_n 3, 1) := dk_45 (dk_at dksJ5_init_2_3 13 rfl rfl)
theorem dJ5_init_2_86 : decode cJ5_init_2 86 = .ok (.iconst 0, 1) := dk_3 (dk_at dksJ5_init_2_3 14 rfl rfl)
theorem dJ5_init_2_87 : decode cJ5_init_2 87 = .ok (.iload 4, 2) := dk_21 4 (dk_at dksJ5_init_2_3 15 rfl rfl)
theorem dJ5_init_2_89 : decode cJ5_init_2 89 = .ok (.iconst 1, 1) := dk_4 (dk_at dksJ5_init_2_3 17 rfl rfl)
theorem dJ5_init_2_90 : decode cJ5_init_2 90 = .ok (.ishl, 1) := dk_120 (dk_at dksJ5_init_2_3 18 rfl rfl)
theorem dJ5_init_2_91 : decode cJ5_init_2 91 = .ok (.invokestatic 54, 3) := dk_184 0 54 (dk_at dksJ5_init_2_3 19 rfl rfl)
theorem dJ5_init_2_94 : decode cJ5_init_2 94 = .ok (.putfield 9, 3) := dk_181 0 9 (dk_at dksJ5_init_2_4 0 rfl rfl)
theorem dJ5_init_2_97 : decode cJ5_init_2 97 = .ok (.return_, 1) := dk_177 (dk_at dksJ5_init_2_4 3 rfl rfl)
abbrev cJ5_length : ByteArray := prog_24_method_54_code
def yJ5_length : MethodName := ⟨RJ5, "length", "()I"⟩
def dkwJ5_length_0 : List UInt8 := [42, 180, 0, 9, 190, 42, 182, 1, 79, 122, 172]
abbrev dktJ5_length_0 : List UInt8 := dkwJ5_length_0 ++ []
theorem dksJ5_length_0 : cJ5_length.data.toList.drop 0 = dktJ5_length_0 := by decide +kernel
theorem dJ5_length_0 : decode cJ5_length 0 = .ok (.aload_n 0, 1) := dk_42 (dk_at dksJ5_length_0 0 rfl rfl)
theorem dJ5_length_1 : decode cJ5_length 1 = .ok (.getfield 9, 3) := dk_180 0 9 (dk_at dksJ5_length_0 1 rfl rfl)
theorem dJ5_length_4 : decode cJ5_length 4 = .ok (.arraylength, 1) := dk_190 (dk_at dksJ5_length_0 4 rfl rfl)
theorem dJ5_length_5 : decode cJ5_length 5 = .ok (.aload_n 0, 1) := dk_42 (dk_at dksJ5_length_0 5 rfl rfl)
theorem dJ5_length_6 : decode cJ5_length 6 = .ok (.invokevirtual 335, 3) := dk_182 1 79 (dk_at dksJ5_length_0 6 rfl rfl)
theorem dJ5_length_9 : decode cJ5_length 9 = .ok (.ishr, 1) := dk_122 (dk_at dksJ5_length_0 9 rfl rfl)
theorem dJ5_length_10 : decode cJ5_length 10 = .ok (.ireturn, 1) := dk_172 (dk_at dksJ5_length_0 10 rfl rfl)
abbrev cJ5_coder : ByteArray := prog_24_method_152_code
def yJ5_coder : MethodName := ⟨RJ5, "coder", "()B"⟩
def dkwJ5_coder_0 : List UInt8 := [178, 0, 38, 153, 0, 10, 42, 180, 0, 15, 167, 0, 4, 4, 172]
abbrev dktJ5_coder_0 : List UInt8 := dkwJ5_coder_0 ++ []
theorem dksJ5_coder_0 : cJ5_coder.data.toList.drop 0 = dktJ5_coder_0 := by decide +kernel
theorem dJ5_coder_0 : decode cJ5_coder 0 = .ok (.getstatic 38, 3) := dk_178 0 38 (dk_at dksJ5_coder_0 0 rfl rfl)
theorem dJ5_coder_3 : decode cJ5_coder 3 = .ok (.ifCond .eq 10, 3) := dk_153 0 10 (dk_at dksJ5_coder_0 3 rfl rfl)
theorem dJ5_coder_6 : decode cJ5_coder 6 = .ok (.aload_n 0, 1) := dk_42 (dk_at dksJ5_coder_0 6 rfl rfl)
theorem dJ5_coder_7 : decode cJ5_coder 7 = .ok (.getfield 15, 3) := dk_180 0 15 (dk_at dksJ5_coder_0 7 rfl rfl)
theorem dJ5_coder_10 : decode cJ5_coder 10 = .ok (.goto 4, 3) := dk_167 0 4 (dk_at dksJ5_coder_0 10 rfl rfl)
theorem dJ5_coder_13 : decode cJ5_coder 13 = .ok (.iconst 1, 1) := dk_4 (dk_at dksJ5_coder_0 13 rfl rfl)
theorem dJ5_coder_14 : decode cJ5_coder 14 = .ok (.ireturn, 1) := dk_172 (dk_at dksJ5_coder_0 14 rfl rfl)
abbrev cJ5_substring : ByteArray := prog_24_method_92_code
def yJ5_substring : MethodName := ⟨RJ5, "substring", "(II)Ljava/lang/String;"⟩
def dkwJ5_substring_2 : List UInt8 := [180, 0, 9, 27, 21, 4, 184, 2, 177, 176]
abbrev dktJ5_substring_2 : List UInt8 := dkwJ5_substring_2 ++ []
def dkwJ5_substring_1 : List UInt8 := [100, 54, 4, 42, 182, 1, 236, 153, 0, 16, 42, 180, 0, 9, 27, 21, 4, 184, 2, 173, 167, 0, 13, 42]
abbrev dktJ5_substring_1 : List UInt8 := dkwJ5_substring_1 ++ dktJ5_substring_2
def dkwJ5_substring_0 : List UInt8 := [42, 182, 1, 249, 62, 27, 28, 29, 184, 2, 9, 27, 154, 0, 10, 28, 29, 160, 0, 5, 42, 176, 28, 27]
abbrev dktJ5_substring_0 : List UInt8 := dkwJ5_substring_0 ++ dktJ5_substring_1
theorem dksJ5_substring_0 : cJ5_substring.data.toList.drop 0 = dktJ5_substring_0 := by decide +kernel
theorem dksJ5_substring_1 : cJ5_substring.data.toList.drop 24 = dktJ5_substring_1 := dk_seg dksJ5_substring_0 24 rfl rfl
theorem dksJ5_substring_2 : cJ5_substring.data.toList.drop 48 = dktJ5_substring_2 := dk_seg dksJ5_substring_1 24 rfl rfl
theorem dJ5_substring_0 : decode cJ5_substring 0 = .ok (.aload_n 0, 1) := dk_42 (dk_at dksJ5_substring_0 0 rfl rfl)
theorem dJ5_substring_1 : decode cJ5_substring 1 = .ok (.invokevirtual 505, 3) := dk_182 1 249 (dk_at dksJ5_substring_0 1 rfl rfl)
theorem dJ5_substring_4 : decode cJ5_substring 4 = .ok (.istore_n 3, 1) := dk_62 (dk_at dksJ5_substring_0 4 rfl rfl)
theorem dJ5_substring_5 : decode cJ5_substring 5 = .ok (.iload_n 1, 1) := dk_27 (dk_at dksJ5_substring_0 5 rfl rfl)
theorem dJ5_substring_6 : decode cJ5_substring 6 = .ok (.iload_n 2, 1) := dk_28 (dk_at dksJ5_substring_0 6 rfl rfl)
theorem dJ5_substring_7 : decode cJ5_substring 7 = .ok (.iload_n 3, 1) := dk_29 (dk_at dksJ5_substring_0 7 rfl rfl)
theorem dJ5_substring_8 : decode cJ5_substring 8 = .ok (.invokestatic 521, 3) := dk_184 2 9 (dk_at dksJ5_substring_0 8 rfl rfl)
theorem dJ5_substring_11 : decode cJ5_substring 11 = .ok (.iload_n 1, 1) := dk_27 (dk_at dksJ5_substring_0 11 rfl rfl)
theorem dJ5_substring_12 : decode cJ5_substring 12 = .ok (.ifCond .ne 10, 3) := dk_154 0 10 (dk_at dksJ5_substring_0 12 rfl rfl)
theorem dJ5_substring_15 : decode cJ5_substring 15 = .ok (.iload_n 2, 1) := dk_28 (dk_at dksJ5_substring_0 15 rfl rfl)
theorem dJ5_substring_16 : decode cJ5_substring 16 = .ok (.iload_n 3, 1) := dk_29 (dk_at dksJ5_substring_0 16 rfl rfl)
theorem dJ5_substring_17 : decode cJ5_substring 17 = .ok (.if_icmp .ne 5, 3) := dk_160 0 5 (dk_at dksJ5_substring_0 17 rfl rfl)
theorem dJ5_substring_20 : decode cJ5_substring 20 = .ok (.aload_n 0, 1) := dk_42 (dk_at dksJ5_substring_0 20 rfl rfl)
theorem dJ5_substring_21 : decode cJ5_substring 21 = .ok (.areturn, 1) := dk_176 (dk_at dksJ5_substring_0 21 rfl rfl)
theorem dJ5_substring_22 : decode cJ5_substring 22 = .ok (.iload_n 2, 1) := dk_28 (dk_at dksJ5_substring_0 22 rfl rfl)
theorem dJ5_substring_23 : decode cJ5_substring 23 = .ok (.iload_n 1, 1) := dk_27 (dk_at dksJ5_substring_0 23 rfl rfl)
theorem dJ5_substring_24 : decode cJ5_substring 24 = .ok (.isub, 1) := dk_100 (dk_at dksJ5_substring_1 0 rfl rfl)
theorem dJ5_substring_25 : decode cJ5_substring 25 = .ok (.istore 4, 2) := dk_54 4 (dk_at dksJ5_substring_1 1 rfl rfl)
theorem dJ5_substring_27 : decode cJ5_substring 27 = .ok (.aload_n 0, 1) := dk_42 (dk_at dksJ5_substring_1 3 rfl rfl)
theorem dJ5_substring_28 : decode cJ5_substring 28 = .ok (.invokevirtual 492, 3) := dk_182 1 236 (dk_at dksJ5_substring_1 4 rfl rfl)
theorem dJ5_substring_31 : decode cJ5_substring 31 = .ok (.ifCond .eq 16, 3) := dk_153 0 16 (dk_at dksJ5_substring_1 7 rfl rfl)
theorem dJ5_substring_34 : decode cJ5_substring 34 = .ok (.aload_n 0, 1) := dk_42 (dk_at dksJ5_substring_1 10 rfl rfl)
theorem dJ5_substring_35 : decode cJ5_substring 35 = .ok (.getfield 9, 3) := dk_180 0 9 (dk_at dksJ5_substring_1 11 rfl rfl)
theorem dJ5_substring_38 : decode cJ5_substring 38 = .ok (.iload_n 1, 1) := dk_27 (dk_at dksJ5_substring_1 14 rfl rfl)
theorem dJ5_substring_39 : decode cJ5_substring 39 = .ok (.iload 4, 2) := dk_21 4 (dk_at dksJ5_substring_1 15 rfl rfl)
theorem dJ5_substring_41 : decode cJ5_substring 41 = .ok (.invokestatic 685, 3) := dk_184 2 173 (dk_at dksJ5_substring_1 17 rfl rfl)
theorem dJ5_substring_44 : decode cJ5_substring 44 = .ok (.goto 13, 3) := dk_167 0 13 (dk_at dksJ5_substring_1 20 rfl rfl)
theorem dJ5_substring_47 : decode cJ5_substring 47 = .ok (.aload_n 0, 1) := dk_42 (dk_at dksJ5_substring_1 23 rfl rfl)
theorem dJ5_substring_48 : decode cJ5_substring 48 = .ok (.getfield 9, 3) := dk_180 0 9 (dk_at dksJ5_substring_2 0 rfl rfl)
theorem dJ5_substring_51 : decode cJ5_substring 51 = .ok (.iload_n 1, 1) := dk_27 (dk_at dksJ5_substring_2 3 rfl rfl)
theorem dJ5_substring_52 : decode cJ5_substring 52 = .ok (.iload 4, 2) := dk_21 4 (dk_at dksJ5_substring_2 4 rfl rfl)
theorem dJ5_substring_54 : decode cJ5_substring 54 = .ok (.invokestatic 689, 3) := dk_184 2 177 (dk_at dksJ5_substring_2 6 rfl rfl)
theorem dJ5_substring_57 : decode cJ5_substring 57 = .ok (.areturn, 1) := dk_176 (dk_at dksJ5_substring_2 9 rfl rfl)
abbrev cJ5_checkBoundsBeginEnd : ByteArray := prog_24_method_158_code
def yJ5_checkBoundsBeginEnd : MethodName := ⟨RJ5, "checkBoundsBeginEnd", "(III)V"⟩
def dkwJ5_checkBoundsBeginEnd_0 : List UInt8 := [26, 27, 28, 178, 4, 29, 184, 4, 38, 87, 177]
abbrev dktJ5_checkBoundsBeginEnd_0 : List UInt8 := dkwJ5_checkBoundsBeginEnd_0 ++ []
theorem dksJ5_checkBoundsBeginEnd_0 : cJ5_checkBoundsBeginEnd.data.toList.drop 0 = dktJ5_checkBoundsBeginEnd_0 := by decide +kernel
theorem dJ5_checkBoundsBeginEnd_0 : decode cJ5_checkBoundsBeginEnd 0 = .ok (.iload_n 0, 1) := dk_26 (dk_at dksJ5_checkBoundsBeginEnd_0 0 rfl rfl)
theorem dJ5_checkBoundsBeginEnd_1 : decode cJ5_checkBoundsBeginEnd 1 = .ok (.iload_n 1, 1) := dk_27 (dk_at dksJ5_checkBoundsBeginEnd_0 1 rfl rfl)
theorem dJ5_checkBoundsBeginEnd_2 : decode cJ5_checkBoundsBeginEnd 2 = .ok (.iload_n 2, 1) := dk_28 (dk_at dksJ5_checkBoundsBeginEnd_0 2 rfl rfl)
theorem dJ5_checkBoundsBeginEnd_3 : decode cJ5_checkBoundsBeginEnd 3 = .ok (.getstatic 1053, 3) := dk_178 4 29 (dk_at dksJ5_checkBoundsBeginEnd_0 3 rfl rfl)
theorem dJ5_checkBoundsBeginEnd_6 : decode cJ5_checkBoundsBeginEnd 6 = .ok (.invokestatic 1062, 3) := dk_184 4 38 (dk_at dksJ5_checkBoundsBeginEnd_0 6 rfl rfl)
theorem dJ5_checkBoundsBeginEnd_9 : decode cJ5_checkBoundsBeginEnd 9 = .ok (.pop, 1) := dk_87 (dk_at dksJ5_checkBoundsBeginEnd_0 9 rfl rfl)
theorem dJ5_checkBoundsBeginEnd_10 : decode cJ5_checkBoundsBeginEnd 10 = .ok (.return_, 1) := dk_177 (dk_at dksJ5_checkBoundsBeginEnd_0 10 rfl rfl)
abbrev cJ5_isLatin1 : ByteArray := prog_24_method_154_code
def yJ5_isLatin1 : MethodName := ⟨RJ5, "isLatin1", "()Z"⟩
def dkwJ5_isLatin1_0 : List UInt8 := [178, 0, 38, 153, 0, 14, 42, 180, 0, 15, 154, 0, 7, 4, 167, 0, 4, 3, 172]
abbrev dktJ5_isLatin1_0 : List UInt8 := dkwJ5_isLatin1_0 ++ []
theorem dksJ5_isLatin1_0 : cJ5_isLatin1.data.toList.drop 0 = dktJ5_isLatin1_0 := by decide +kernel
theorem dJ5_isLatin1_0 : decode cJ5_isLatin1 0 = .ok (.getstatic 38, 3) := dk_178 0 38 (dk_at dksJ5_isLatin1_0 0 rfl rfl)
theorem dJ5_isLatin1_3 : decode cJ5_isLatin1 3 = .ok (.ifCond .eq 14, 3) := dk_153 0 14 (dk_at dksJ5_isLatin1_0 3 rfl rfl)
theorem dJ5_isLatin1_6 : decode cJ5_isLatin1 6 = .ok (.aload_n 0, 1) := dk_42 (dk_at dksJ5_isLatin1_0 6 rfl rfl)
theorem dJ5_isLatin1_7 : decode cJ5_isLatin1 7 = .ok (.getfield 15, 3) := dk_180 0 15 (dk_at dksJ5_isLatin1_0 7 rfl rfl)
theorem dJ5_isLatin1_10 : decode cJ5_isLatin1 10 = .ok (.ifCond .ne 7, 3) := dk_154 0 7 (dk_at dksJ5_isLatin1_0 10 rfl rfl)
theorem dJ5_isLatin1_13 : decode cJ5_isLatin1 13 = .ok (.iconst 1, 1) := dk_4 (dk_at dksJ5_isLatin1_0 13 rfl rfl)
theorem dJ5_isLatin1_14 : decode cJ5_isLatin1 14 = .ok (.goto 4, 3) := dk_167 0 4 (dk_at dksJ5_isLatin1_0 14 rfl rfl)
theorem dJ5_isLatin1_17 : decode cJ5_isLatin1 17 = .ok (.iconst 0, 1) := dk_3 (dk_at dksJ5_isLatin1_0 17 rfl rfl)
theorem dJ5_isLatin1_18 : decode cJ5_isLatin1 18 = .ok (.ireturn, 1) := dk_172 (dk_at dksJ5_isLatin1_0 18 rfl rfl)
abbrev cJ5_init_3 : ByteArray := prog_24_method_151_code
def yJ5_init_3 : MethodName := ⟨RJ5, "<init>", "([BB)V"⟩
def dkwJ5_init_3_0 : List UInt8 := [42, 183, 0, 1, 42, 43, 181, 0, 9, 42, 28, 181, 0, 15, 177]
abbrev dktJ5_init_3_0 : List UInt8 := dkwJ5_init_3_0 ++ []
theorem dksJ5_init_3_0 : cJ5_init_3.data.toList.drop 0 = dktJ5_init_3_0 := by decide +kernel
theorem dJ5_init_3_0 : decode cJ5_init_3 0 = .ok (.aload_n 0, 1) := dk_42 (dk_at dksJ5_init_3_0 0 rfl rfl)
theorem dJ5_init_3_1 : decode cJ5_init_3 1 = .ok (.invokespecial 1, 3) := dk_183 0 1 (dk_at dksJ5_init_3_0 1 rfl rfl)
theorem dJ5_init_3_4 : decode cJ5_init_3 4 = .ok (.aload_n 0, 1) := dk_42 (dk_at dksJ5_init_3_0 4 rfl rfl)
theorem dJ5_init_3_5 : decode cJ5_init_3 5 = .ok (.aload_n 1, 1) := dk_43 (dk_at dksJ5_init_3_0 5 rfl rfl)
theorem dJ5_init_3_6 : decode cJ5_init_3 6 = .ok (.putfield 9, 3) := dk_181 0 9 (dk_at dksJ5_init_3_0 6 rfl rfl)
theorem dJ5_init_3_9 : decode cJ5_init_3 9 = .ok (.aload_n 0, 1) := dk_42 (dk_at dksJ5_init_3_0 9 rfl rfl)
theorem dJ5_init_3_10 : decode cJ5_init_3 10 = .ok (.iload_n 2, 1) := dk_28 (dk_at dksJ5_init_3_0 10 rfl rfl)
theorem dJ5_init_3_11 : decode cJ5_init_3 11 = .ok (.putfield 15, 3) := dk_181 0 15 (dk_at dksJ5_init_3_0 11 rfl rfl)
theorem dJ5_init_3_14 : decode cJ5_init_3 14 = .ok (.return_, 1) := dk_177 (dk_at dksJ5_init_3_0 14 rfl rfl)
abbrev cJ5_charAt : ByteArray := prog_24_method_56_code
def yJ5_charAt : MethodName := ⟨RJ5, "charAt", "(I)C"⟩
def dkwJ5_charAt_1 : List UInt8 := [172]
abbrev dktJ5_charAt_1 : List UInt8 := dkwJ5_charAt_1 ++ []
def dkwJ5_charAt_0 : List UInt8 := [42, 182, 1, 236, 153, 0, 12, 42, 180, 0, 9, 27, 184, 1, 239, 172, 42, 180, 0, 9, 27, 184, 1, 242]
abbrev dktJ5_charAt_0 : List UInt8 := dkwJ5_charAt_0 ++ dktJ5_charAt_1
theorem dksJ5_charAt_0 : cJ5_charAt.data.toList.drop 0 = dktJ5_charAt_0 := by decide +kernel
theorem dksJ5_charAt_1 : cJ5_charAt.data.toList.drop 24 = dktJ5_charAt_1 := dk_seg dksJ5_charAt_0 24 rfl rfl
theorem dJ5_charAt_0 : decode cJ5_charAt 0 = .ok (.aload_n 0, 1) := dk_42 (dk_at dksJ5_charAt_0 0 rfl rfl)
theorem dJ5_charAt_1 : decode cJ5_charAt 1 = .ok (.invokevirtual 492, 3) := dk_182 1 236 (dk_at dksJ5_charAt_0 1 rfl rfl)
theorem dJ5_charAt_4 : decode cJ5_charAt 4 = .ok (.ifCond .eq 12, 3) := dk_153 0 12 (dk_at dksJ5_charAt_0 4 rfl rfl)
theorem dJ5_charAt_7 : decode cJ5_charAt 7 = .ok (.aload_n 0, 1) := dk_42 (dk_at dksJ5_charAt_0 7 rfl rfl)
theorem dJ5_charAt_8 : decode cJ5_charAt 8 = .ok (.getfield 9, 3) := dk_180 0 9 (dk_at dksJ5_charAt_0 8 rfl rfl)
theorem dJ5_charAt_11 : decode cJ5_charAt 11 = .ok (.iload_n 1, 1) := dk_27 (dk_at dksJ5_charAt_0 11 rfl rfl)
theorem dJ5_charAt_12 : decode cJ5_charAt 12 = .ok (.invokestatic 495, 3) := dk_184 1 239 (dk_at dksJ5_charAt_0 12 rfl rfl)
theorem dJ5_charAt_15 : decode cJ5_charAt 15 = .ok (.ireturn, 1) := dk_172 (dk_at dksJ5_charAt_0 15 rfl rfl)
theorem dJ5_charAt_16 : decode cJ5_charAt 16 = .ok (.aload_n 0, 1) := dk_42 (dk_at dksJ5_charAt_0 16 rfl rfl)
theorem dJ5_charAt_17 : decode cJ5_charAt 17 = .ok (.getfield 9, 3) := dk_180 0 9 (dk_at dksJ5_charAt_0 17 rfl rfl)
theorem dJ5_charAt_20 : decode cJ5_charAt 20 = .ok (.iload_n 1, 1) := dk_27 (dk_at dksJ5_charAt_0 20 rfl rfl)
theorem dJ5_charAt_21 : decode cJ5_charAt 21 = .ok (.invokestatic 498, 3) := dk_184 1 242 (dk_at dksJ5_charAt_0 21 rfl rfl)
theorem dJ5_charAt_24 : decode cJ5_charAt 24 = .ok (.ireturn, 1) := dk_172 (dk_at dksJ5_charAt_1 0 rfl rfl)
abbrev cJ5_equals : ByteArray := prog_24_method_66_code
def yJ5_equals : MethodName := ⟨RJ5, "equals", "(Ljava/lang/Object;)Z"⟩
def dkwJ5_equals_2 : List UInt8 := [184, 2, 29, 153, 0, 7, 4, 167, 0, 4, 3, 172]
abbrev dktJ5_equals_2 : List UInt8 := dkwJ5_equals_2 ++ []
def dkwJ5_equals_1 : List UInt8 := [153, 0, 14, 42, 180, 0, 15, 44, 180, 0, 15, 160, 0, 21, 42, 180, 0, 9, 44, 180, 0, 9]
abbrev dktJ5_equals_1 : List UInt8 := dkwJ5_equals_1 ++ dktJ5_equals_2
def dkwJ5_equals_0 : List UInt8 := [42, 43, 166, 0, 5, 4, 172, 43, 193, 0, 10, 153, 0, 43, 43, 192, 0, 10, 77, 178, 0, 38]
abbrev dktJ5_equals_0 : List UInt8 := dkwJ5_equals_0 ++ dktJ5_equals_1
theorem dksJ5_equals_0 : cJ5_equals.data.toList.drop 0 = dktJ5_equals_0 := by decide +kernel
theorem dksJ5_equals_1 : cJ5_equals.data.toList.drop 22 = dktJ5_equals_1 := dk_seg dksJ5_equals_0 22 rfl rfl
theorem dksJ5_equals_2 : cJ5_equals.data.toList.drop 44 = dktJ5_equals_2 := dk_seg dksJ5_equals_1 22 rfl rfl
theorem dJ5_equals_0 : decode cJ5_equals 0 = .ok (.aload_n 0, 1) := dk_42 (dk_at dksJ5_equals_0 0 rfl rfl)
theorem dJ5_equals_1 : decode cJ5_equals 1 = .ok (.aload_n 1, 1) := dk_43 (dk_at dksJ5_equals_0 1 rfl rfl)
theorem dJ5_equals_2 : decode cJ5_equals 2 = .ok (.if_acmp .ne 5, 3) := dk_166 0 5 (dk_at dksJ5_equals_0 2 rfl rfl)
theorem dJ5_equals_5 : decode cJ5_equals 5 = .ok (.iconst 1, 1) := dk_4 (dk_at dksJ5_equals_0 5 rfl rfl)
theorem dJ5_equals_6 : decode cJ5_equals 6 = .ok (.ireturn, 1) := dk_172 (dk_at dksJ5_equals_0 6 rfl rfl)
theorem dJ5_equals_7 : decode cJ5_equals 7 = .ok (.aload_n 1, 1) := dk_43 (dk_at dksJ5_equals_0 7 rfl rfl)
theorem dJ5_equals_8 : decode cJ5_equals 8 = .ok (.instanceof 10, 3) := dk_193 0 10 (dk_at dksJ5_equals_0 8 rfl rfl)
theorem dJ5_equals_11 : decode cJ5_equals 11 = .ok (.ifCond .eq 43, 3) := dk_153 0 43 (dk_at dksJ5_equals_0 11 rfl rfl)
theorem dJ5_equals_14 : decode cJ5_equals 14 = .ok (.aload_n 1, 1) := dk_43 (dk_at dksJ5_equals_0 14 rfl rfl)
theorem dJ5_equals_15 : decode cJ5_equals 15 = .ok (.checkcast 10, 3) := dk_192 0 10 (dk_at dksJ5_equals_0 15 rfl rfl)
theorem dJ5_equals_18 : decode cJ5_equals 18 = .ok (.astore_n 2, 1) := dk_77 (dk_at dksJ5_equals_0 18 rfl rfl)
theorem dJ5_equals_19 : decode cJ5_equals 19 = .ok (.getstatic 38, 3) := dk_178 0 38 (dk_at dksJ5_equals_0 19 rfl rfl)
theorem dJ5_equals_22 : decode cJ5_equals 22 = .ok (.ifCond .eq 14, 3) := dk_153 0 14 (dk_at dksJ5_equals_1 0 rfl rfl)
theorem dJ5_equals_25 : decode cJ5_equals 25 = .ok (.aload_n 0, 1) := dk_42 (dk_at dksJ5_equals_1 3 rfl rfl)
theorem dJ5_equals_26 : decode cJ5_equals 26 = .ok (.getfield 15, 3) := dk_180 0 15 (dk_at dksJ5_equals_1 4 rfl rfl)
theorem dJ5_equals_29 : decode cJ5_equals 29 = .ok (.aload_n 2, 1) := dk_44 (dk_at dksJ5_equals_1 7 rfl rfl)
theorem dJ5_equals_30 : decode cJ5_equals 30 = .ok (.getfield 15, 3) := dk_180 0 15 (dk_at dksJ5_equals_1 8 rfl rfl)
theorem dJ5_equals_33 : decode cJ5_equals 33 = .ok (.if_icmp .ne 21, 3) := dk_160 0 21 (dk_at dksJ5_equals_1 11 rfl rfl)
theorem dJ5_equals_36 : decode cJ5_equals 36 = .ok (.aload_n 0, 1) := dk_42 (dk_at dksJ5_equals_1 14 rfl rfl)
theorem dJ5_equals_37 : decode cJ5_equals 37 = .ok (.getfield 9, 3) := dk_180 0 9 (dk_at dksJ5_equals_1 15 rfl rfl)
theorem dJ5_equals_40 : decode cJ5_equals 40 = .ok (.aload_n 2, 1) := dk_44 (dk_at dksJ5_equals_1 18 rfl rfl)
theorem dJ5_equals_41 : decode cJ5_equals 41 = .ok (.getfield 9, 3) := dk_180 0 9 (dk_at dksJ5_equals_1 19 rfl rfl)
theorem dJ5_equals_44 : decode cJ5_equals 44 = .ok (.invokestatic 541, 3) := dk_184 2 29 (dk_at dksJ5_equals_2 0 rfl rfl)
theorem dJ5_equals_47 : decode cJ5_equals 47 = .ok (.ifCond .eq 7, 3) := dk_153 0 7 (dk_at dksJ5_equals_2 3 rfl rfl)
theorem dJ5_equals_50 : decode cJ5_equals 50 = .ok (.iconst 1, 1) := dk_4 (dk_at dksJ5_equals_2 6 rfl rfl)
theorem dJ5_equals_51 : decode cJ5_equals 51 = .ok (.goto 4, 3) := dk_167 0 4 (dk_at dksJ5_equals_2 7 rfl rfl)
theorem dJ5_equals_54 : decode cJ5_equals 54 = .ok (.iconst 0, 1) := dk_3 (dk_at dksJ5_equals_2 10 rfl rfl)
theorem dJ5_equals_55 : decode cJ5_equals 55 = .ok (.ireturn, 1) := dk_172 (dk_at dksJ5_equals_2 11 rfl rfl)
abbrev cJ5_isEmpty : ByteArray := prog_24_method_55_code
def yJ5_isEmpty : MethodName := ⟨RJ5, "isEmpty", "()Z"⟩
def dkwJ5_isEmpty_0 : List UInt8 := [42, 180, 0, 9, 190, 154, 0, 7, 4, 167, 0, 4, 3, 172]
abbrev dktJ5_isEmpty_0 : List UInt8 := dkwJ5_isEmpty_0 ++ []
theorem dksJ5_isEmpty_0 : cJ5_isEmpty.data.toList.drop 0 = dktJ5_isEmpty_0 := by decide +kernel
theorem dJ5_isEmpty_0 : decode cJ5_isEmpty 0 = .ok (.aload_n 0, 1) := dk_42 (dk_at dksJ5_isEmpty_0 0 rfl rfl)
theorem dJ5_isEmpty_1 : decode cJ5_isEmpty 1 = .ok (.getfield 9, 3) := dk_180 0 9 (dk_at dksJ5_isEmpty_0 1 rfl rfl)
theorem dJ5_isEmpty_4 : decode cJ5_isEmpty 4 = .ok (.arraylength, 1) := dk_190 (dk_at dksJ5_isEmpty_0 4 rfl rfl)
theorem dJ5_isEmpty_5 : decode cJ5_isEmpty 5 = .ok (.ifCond .ne 7, 3) := dk_154 0 7 (dk_at dksJ5_isEmpty_0 5 rfl rfl)
theorem dJ5_isEmpty_8 : decode cJ5_isEmpty 8 = .ok (.iconst 1, 1) := dk_4 (dk_at dksJ5_isEmpty_0 8 rfl rfl)
theorem dJ5_isEmpty_9 : decode cJ5_isEmpty 9 = .ok (.goto 4, 3) := dk_167 0 4 (dk_at dksJ5_isEmpty_0 9 rfl rfl)
theorem dJ5_isEmpty_12 : decode cJ5_isEmpty 12 = .ok (.iconst 0, 1) := dk_3 (dk_at dksJ5_isEmpty_0 12 rfl rfl)
theorem dJ5_isEmpty_13 : decode cJ5_isEmpty 13 = .ok (.ireturn, 1) := dk_172 (dk_at dksJ5_isEmpty_0 13 rfl rfl)
abbrev cJ5_hashCode : ByteArray := prog_24_method_78_code
def yJ5_hashCode : MethodName := ⟨RJ5, "hashCode", "()I"⟩
def dkwJ5_hashCode_2 : List UInt8 := [181, 0, 23, 167, 0, 8, 42, 27, 181, 0, 19, 27, 172]
abbrev dktJ5_hashCode_2 : List UInt8 := dkwJ5_hashCode_2 ++ []
def dkwJ5_hashCode_1 : List UInt8 := [180, 0, 9, 184, 2, 116, 167, 0, 10, 42, 180, 0, 9, 184, 2, 120, 60, 27, 154, 0, 11, 42, 4]
abbrev dktJ5_hashCode_1 : List UInt8 := dkwJ5_hashCode_1 ++ dktJ5_hashCode_2
def dkwJ5_hashCode_0 : List UInt8 := [42, 180, 0, 19, 60, 27, 154, 0, 52, 42, 180, 0, 23, 154, 0, 45, 42, 182, 1, 236, 153, 0, 13, 42]
abbrev dktJ5_hashCode_0 : List UInt8 := dkwJ5_hashCode_0 ++ dktJ5_hashCode_1
theorem dksJ5_hashCode_0 : cJ5_hashCode.data.toList.drop 0 = dktJ5_hashCode_0 := by decide +kernel
theorem dksJ5_hashCode_1 : cJ5_hashCode.data.toList.drop 24 = dktJ5_hashCode_1 := dk_seg dksJ5_hashCode_0 24 rfl rfl
theorem dksJ5_hashCode_2 : cJ5_hashCode.data.toList.drop 47 = dktJ5_hashCode_2 := dk_seg dksJ5_hashCode_1 23 rfl rfl
theorem dJ5_hashCode_0 : decode cJ5_hashCode 0 = .ok (.aload_n 0, 1) := dk_42 (dk_at dksJ5_hashCode_0 0 rfl rfl)
theorem dJ5_hashCode_1 : decode cJ5_hashCode 1 = .ok (.getfield 19, 3) := dk_180 0 19 (dk_at dksJ5_hashCode_0 1 rfl rfl)
theorem dJ5_hashCode_4 : decode cJ5_hashCode 4 = .ok (.istore_n 1, 1) := dk_60 (dk_at dksJ5_hashCode_0 4 rfl rfl)
theorem dJ5_hashCode_5 : decode cJ5_hashCode 5 = .ok (.iload_n 1, 1) := dk_27 (dk_at dksJ5_hashCode_0 5 rfl rfl)
theorem dJ5_hashCode_6 : decode cJ5_hashCode 6 = .ok (.ifCond .ne 52, 3) := dk_154 0 52 (dk_at dksJ5_hashCode_0 6 rfl rfl)
theorem dJ5_hashCode_9 : decode cJ5_hashCode 9 = .ok (.aload_n 0, 1) := dk_42 (dk_at dksJ5_hashCode_0 9 rfl rfl)
theorem dJ5_hashCode_10 : decode cJ5_hashCode 10 = .ok (.getfield 23, 3) := dk_180 0 23 (dk_at dksJ5_hashCode_0 10 rfl rfl)
theorem dJ5_hashCode_13 : decode cJ5_hashCode 13 = .ok (.ifCond .ne 45, 3) := dk_154 0 45 (dk_at dksJ5_hashCode_0 13 rfl rfl)
theorem dJ5_hashCode_16 : decode cJ5_hashCode 16 = .ok (.aload_n 0, 1) := dk_42 (dk_at dksJ5_hashCode_0 16 rfl rfl)
theorem dJ5_hashCode_17 : decode cJ5_hashCode 17 = .ok (.invokevirtual 492, 3) := dk_182 1 236 (dk_at dksJ5_hashCode_0 17 rfl rfl)
theorem dJ5_hashCode_20 : decode cJ5_hashCode 20 = .ok (.ifCond .eq 13, 3) := dk_153 0 13 (dk_at dksJ5_hashCode_0 20 rfl rfl)
theorem dJ5_hashCode_23 : decode cJ5_hashCode 23 = .ok (.aload_n 0, 1) := dk_42 (dk_at dksJ5_hashCode_0 23 rfl rfl)
theorem dJ5_hashCode_24 : decode cJ5_hashCode 24 = .ok (.getfield 9, 3) := dk_180 0 9 (dk_at dksJ5_hashCode_1 0 rfl rfl)
theorem dJ5_hashCode_27 : decode cJ5_hashCode 27 = .ok (.invokestatic 628, 3) := dk_184 2 116 (dk_at dksJ5_hashCode_1 3 rfl rfl)
theorem dJ5_hashCode_30 : decode cJ5_hashCode 30 = .ok (.goto 10, 3) := dk_167 0 10 (dk_at dksJ5_hashCode_1 6 rfl rfl)
theorem dJ5_hashCode_33 : decode cJ5_hashCode 33 = .ok (.aload_n 0, 1) := dk_42 (dk_at dksJ5_hashCode_1 9 rfl rfl)
theorem dJ5_hashCode_34 : decode cJ5_hashCode 34 = .ok (.getfield 9, 3) := dk_180 0 9 (dk_at dksJ5_hashCode_1 10 rfl rfl)
theorem dJ5_hashCode_37 : decode cJ5_hashCode 37 = .ok (.invokestatic 632, 3) := dk_184 2 120 (dk_at dksJ5_hashCode_1 13 rfl rfl)
theorem dJ5_hashCode_40 : decode cJ5_hashCode 40 = .ok (.istore_n 1, 1) := dk_60 (dk_at dksJ5_hashCode_1 16 rfl rfl)
theorem dJ5_hashCode_41 : decode cJ5_hashCode 41 = .ok (.iload_n 1, 1) := dk_27 (dk_at dksJ5_hashCode_1 17 rfl rfl)
theorem dJ5_hashCode_42 : decode cJ5_hashCode 42 = .ok (.ifCond .ne 11, 3) := dk_154 0 11 (dk_at dksJ5_hashCode_1 18 rfl rfl)
theorem dJ5_hashCode_45 : decode cJ5_hashCode 45 = .ok (.aload_n 0, 1) := dk_42 (dk_at dksJ5_hashCode_1 21 rfl rfl)
theorem dJ5_hashCode_46 : decode cJ5_hashCode 46 = .ok (.iconst 1, 1) := dk_4 (dk_at dksJ5_hashCode_1 22 rfl rfl)
theorem dJ5_hashCode_47 : decode cJ5_hashCode 47 = .ok (.putfield 23, 3) := dk_181 0 23 (dk_at dksJ5_hashCode_2 0 rfl rfl)
theorem dJ5_hashCode_50 : decode cJ5_hashCode 50 = .ok (.goto 8, 3) := dk_167 0 8 (dk_at dksJ5_hashCode_2 3 rfl rfl)
theorem dJ5_hashCode_53 : decode cJ5_hashCode 53 = .ok (.aload_n 0, 1) := dk_42 (dk_at dksJ5_hashCode_2 6 rfl rfl)
theorem dJ5_hashCode_54 : decode cJ5_hashCode 54 = .ok (.iload_n 1, 1) := dk_27 (dk_at dksJ5_hashCode_2 7 rfl rfl)
theorem dJ5_hashCode_55 : decode cJ5_hashCode 55 = .ok (.putfield 19, 3) := dk_181 0 19 (dk_at dksJ5_hashCode_2 8 rfl rfl)
theorem dJ5_hashCode_58 : decode cJ5_hashCode 58 = .ok (.iload_n 1, 1) := dk_27 (dk_at dksJ5_hashCode_2 11 rfl rfl)
theorem dJ5_hashCode_59 : decode cJ5_hashCode 59 = .ok (.ireturn, 1) := dk_172 (dk_at dksJ5_hashCode_2 12 rfl rfl)
abbrev cJ5_compareTo : ByteArray := prog_24_method_162_code
def yJ5_compareTo : MethodName := ⟨RJ5, "compareTo", "(Ljava/lang/Object;)I"⟩
def dkwJ5_compareTo_0 : List UInt8 := [42, 43, 192, 0, 10, 182, 4, 60, 172]
abbrev dktJ5_compareTo_0 : List UInt8 := dkwJ5_compareTo_0 ++ []
theorem dksJ5_compareTo_0 : cJ5_compareTo.data.toList.drop 0 = dktJ5_compareTo_0 := by decide +kernel
theorem dJ5_compareTo_0 : decode cJ5_compareTo 0 = .ok (.aload_n 0, 1) := dk_42 (dk_at dksJ5_compareTo_0 0 rfl rfl)
theorem dJ5_compareTo_1 : decode cJ5_compareTo 1 = .ok (.aload_n 1, 1) := dk_43 (dk_at dksJ5_compareTo_0 1 rfl rfl)
theorem dJ5_compareTo_2 : decode cJ5_compareTo 2 = .ok (.checkcast 10, 3) := dk_192 0 10 (dk_at dksJ5_compareTo_0 2 rfl rfl)
theorem dJ5_compareTo_5 : decode cJ5_compareTo 5 = .ok (.invokevirtual 1084, 3) := dk_182 4 60 (dk_at dksJ5_compareTo_0 5 rfl rfl)
theorem dJ5_compareTo_8 : decode cJ5_compareTo 8 = .ok (.ireturn, 1) := dk_172 (dk_at dksJ5_compareTo_0 8 rfl rfl)
abbrev cJ5_compareTo_2 : ByteArray := prog_24_method_71_code
def yJ5_compareTo_2 : MethodName := ⟨RJ5, "compareTo", "(Ljava/lang/String;)I"⟩
def dkwJ5_compareTo_2_2 : List UInt8 := [154, 0, 11, 44, 45, 184, 2, 79, 167, 0, 8, 44, 45, 184, 2, 82, 172]
abbrev dktJ5_compareTo_2_2 : List UInt8 := dkwJ5_compareTo_2_2 ++ []
def dkwJ5_compareTo_2_1 : List UInt8 := [160, 0, 22, 21, 4, 154, 0, 11, 44, 45, 184, 2, 74, 167, 0, 8, 44, 45, 184, 2, 78, 172, 21, 4]
abbrev dktJ5_compareTo_2_1 : List UInt8 := dkwJ5_compareTo_2_1 ++ dktJ5_compareTo_2_2
def dkwJ5_compareTo_2_0 : List UInt8 := [42, 180, 0, 9, 77, 43, 180, 0, 9, 78, 42, 182, 1, 79, 54, 4, 21, 4, 43, 182, 1, 79]
abbrev dktJ5_compareTo_2_0 : List UInt8 := dkwJ5_compareTo_2_0 ++ dktJ5_compareTo_2_1
theorem dksJ5_compareTo_2_0 : cJ5_compareTo_2.data.toList.drop 0 = dktJ5_compareTo_2_0 := by decide +kernel
theorem dksJ5_compareTo_2_1 : cJ5_compareTo_2.data.toList.drop 22 = dktJ5_compareTo_2_1 := dk_seg dksJ5_compareTo_2_0 22 rfl rfl
theorem dksJ5_compareTo_2_2 : cJ5_compareTo_2.data.toList.drop 46 = dktJ5_compareTo_2_2 := dk_seg dksJ5_compareTo_2_1 24 rfl rfl
theorem dJ5_compareTo_2_0 : decode cJ5_compareTo_2 0 = .ok (.aload_n 0, 1) := dk_42 (dk_at dksJ5_compareTo_2_0 0 rfl rfl)
theorem dJ5_compareTo_2_1 : decode cJ5_compareTo_2 1 = .ok (.getfield 9, 3) := dk_180 0 9 (dk_at dksJ5_compareTo_2_0 1 rfl rfl)
theorem dJ5_compareTo_2_4 : decode cJ5_compareTo_2 4 = .ok (.astore_n 2, 1) := dk_77 (dk_at dksJ5_compareTo_2_0 4 rfl rfl)
theorem dJ5_compareTo_2_5 : decode cJ5_compareTo_2 5 = .ok (.aload_n 1, 1) := dk_43 (dk_at dksJ5_compareTo_2_0 5 rfl rfl)
theorem dJ5_compareTo_2_6 : decode cJ5_compareTo_2 6 = .ok (.getfield 9, 3) := dk_180 0 9 (dk_at dksJ5_compareTo_2_0 6 rfl rfl)
theorem dJ5_compareTo_2_9 : decode cJ5_compareTo_2 9 = .ok (.astore_n 3, 1) := dk_78 (dk_at dksJ5_compareTo_2_0 9 rfl rfl)
theorem dJ5_compareTo_2_10 : decode cJ5_compareTo_2 10 = .ok (.aload_n 0, 1) := dk_42 (dk_at dksJ5_compareTo_2_0 10 rfl rfl)
theorem dJ5_compareTo_2_11 : decode cJ5_compareTo_2 11 = .ok (.invokevirtual 335, 3) := dk_182 1 79 (dk_at dksJ5_compareTo_2_0 11 rfl rfl)
theorem dJ5_compareTo_2_14 : decode cJ5_compareTo_2 14 = .ok (.istore 4, 2) := dk_54 4 (dk_at dksJ5_compareTo_2_0 14 rfl rfl)
theorem dJ5_compareTo_2_16 : decode cJ5_compareTo_2 16 = .ok (.iload 4, 2) := dk_21 4 (dk_at dksJ5_compareTo_2_0 16 rfl rfl)
theorem dJ5_compareTo_2_18 : decode cJ5_compareTo_2 18 = .ok (.aload_n 1, 1) := dk_43 (dk_at dksJ5_compareTo_2_0 18 rfl rfl)
theorem dJ5_compareTo_2_19 : decode cJ5_compareTo_2 19 = .ok (.invokevirtual 335, 3) := dk_182 1 79 (dk_at dksJ5_compareTo_2_0 19 rfl rfl)
theorem dJ5_compareTo_2_22 : decode cJ5_compareTo_2 22 = .ok (.if_icmp .ne 22, 3) := dk_160 0 22 (dk_at dksJ5_compareTo_2_1 0 rfl rfl)
theorem dJ5_compareTo_2_25 : decode cJ5_compareTo_2 25 = .ok (.iload 4, 2) := dk_21 4 (dk_at dksJ5_compareTo_2_1 3 rfl rfl)
theorem dJ5_compareTo_2_27 : decode cJ5_compareTo_2 27 = .ok (.ifCond .ne 11, 3) := dk_154 0 11 (dk_at dksJ5_compareTo_2_1 5 rfl rfl)
theorem dJ5_compareTo_2_30 : decode cJ5_compareTo_2 30 = .ok (.aload_n 2, 1) := dk_44 (dk_at dksJ5_compareTo_2_1 8 rfl rfl)
theorem dJ5_compareTo_2_31 : decode cJ5_compareTo_2 31 = .ok (.aload_n 3, 1) := dk_45 (dk_at dksJ5_compareTo_2_1 9 rfl rfl)
theorem dJ5_compareTo_2_32 : decode cJ5_compareTo_2 32 = .ok (.invokestatic 586, 3) := dk_184 2 74 (dk_at dksJ5_compareTo_2_1 10 rfl rfl)
theorem dJ5_compareTo_2_35 : decode cJ5_compareTo_2 35 = .ok (.goto 8, 3) := dk_167 0 8 (dk_at dksJ5_compareTo_2_1 13 rfl rfl)
theorem dJ5_compareTo_2_38 : decode cJ5_compareTo_2 38 = .ok (.aload_n 2, 1) := dk_44 (dk_at dksJ5_compareTo_2_1 16 rfl rfl)
theorem dJ5_compareTo_2_39 : decode cJ5_compareTo_2 39 = .ok (.aload_n 3, 1) := dk_45 (dk_at dksJ5_compareTo_2_1 17 rfl rfl)
theorem dJ5_compareTo_2_40 : decode cJ5_compareTo_2 40 = .ok (.invokestatic 590, 3) := dk_184 2 78 (dk_at dksJ5_compareTo_2_1 18 rfl rfl)
theorem dJ5_compareTo_2_43 : decode cJ5_compareTo_2 43 = .ok (.ireturn, 1) := dk_172 (dk_at dksJ5_compareTo_2_1 21 rfl rfl)
theorem dJ5_compareTo_2_44 : decode cJ5_compareTo_2 44 = .ok (.iload 4, 2) := dk_21 4 (dk_at dksJ5_compareTo_2_1 22 rfl rfl)
theorem dJ5_compareTo_2_46 : decode cJ5_compareTo_2 46 = .ok (.ifCond .ne 11, 3) := dk_154 0 11 (dk_at dksJ5_compareTo_2_2 0 rfl rfl)
theorem dJ5_compareTo_2_49 : decode cJ5_compareTo_2 49 = .ok (.aload_n 2, 1) := dk_44 (dk_at dksJ5_compareTo_2_2 3 rfl rfl)
theorem dJ5_compareTo_2_50 : decode cJ5_compareTo_2 50 = .ok (.aload_n 3, 1) := dk_45 (dk_at dksJ5_compareTo_2_2 4 rfl rfl)
theorem dJ5_compareTo_2_51 : decode cJ5_compareTo_2 51 = .ok (.invokestatic 591, 3) := dk_184 2 79 (dk_at dksJ5_compareTo_2_2 5 rfl rfl)
theorem dJ5_compareTo_2_54 : decode cJ5_compareTo_2 54 = .ok (.goto 8, 3) := dk_167 0 8 (dk_at dksJ5_compareTo_2_2 8 rfl rfl)
theorem dJ5_compareTo_2_57 : decode cJ5_compareTo_2 57 = .ok (.aload_n 2, 1) := dk_44 (dk_at dksJ5_compareTo_2_2 11 rfl rfl)
theorem dJ5_compareTo_2_58 : decode cJ5_compareTo_2 58 = .ok (.aload_n 3, 1) := dk_45 (dk_at dksJ5_compareTo_2_2 12 rfl rfl)
theorem dJ5_compareTo_2_59 : decode cJ5_compareTo_2 59 = .ok (.invokestatic 594, 3) := dk_184 2 82 (dk_at dksJ5_compareTo_2_2 13 rfl rfl)
theorem dJ5_compareTo_2_62 : decode cJ5_compareTo_2 62 = .ok (.ireturn, 1) := dk_172 (dk_at dksJ5_compareTo_2_2 16 rfl rfl)
abbrev cJ5_checkOffset : ByteArray := prog_24_method_156_code
def yJ5_checkOffset : MethodName := ⟨RJ5, "checkOffset", "(II)V"⟩
def dkwJ5_checkOffset_0 : List UInt8 := [26, 27, 27, 178, 4, 29, 184, 4, 38, 87, 177]
abbrev dktJ5_checkOffset_0 : List UInt8 := dkwJ5_checkOffset_0 ++ []
theorem dksJ5_checkOffset_0 : cJ5_checkOffset.data.toList.drop 0 = dktJ5_checkOffset_0 := by decide +kernel
theorem dJ5_checkOffset_0 : decode cJ5_checkOffset 0 = .ok (.iload_n 0, 1) := dk_26 (dk_at dksJ5_checkOffset_0 0 rfl rfl)
theorem dJ5_checkOffset_1 : decode cJ5_checkOffset 1 = .ok (.iload_n 1, 1) := dk_27 (dk_at dksJ5_checkOffset_0 1 rfl rfl)
theorem dJ5_checkOffset_2 : decode cJ5_checkOffset 2 = .ok (.iload_n 1, 1) := dk_27 (dk_at dksJ5_checkOffset_0 2 rfl rfl)
theorem dJ5_checkOffset_3 : decode cJ5_checkOffset 3 = .ok (.getstatic 1053, 3) := dk_178 4 29 (dk_at dksJ5_checkOffset_0 3 rfl rfl)
theorem dJ5_checkOffset_6 : decode cJ5_checkOffset 6 = .ok (.invokestatic 1062, 3) := dk_184 4 38 (dk_at dksJ5_checkOffset_0 6 rfl rfl)
theorem dJ5_checkOffset_9 : decode cJ5_checkOffset 9 = .ok (.pop, 1) := dk_87 (dk_at dksJ5_checkOffset_0 9 rfl rfl)
theorem dJ5_checkOffset_10 : decode cJ5_checkOffset 10 = .ok (.return_, 1) := dk_177 (dk_at dksJ5_checkOffset_0 10 rfl rfl)
abbrev cJ5_getBytes : ByteArray := prog_24_method_147_code
def yJ5_getBytes : MethodName := ⟨RJ5, "getBytes", "([BIB)V"⟩
def dkwJ5_getBytes_1 : List UInt8 := [184, 0, 212, 167, 0, 18, 42, 180, 0, 9, 3, 43, 28, 42, 180, 0, 9, 190, 184, 0, 106, 177]
abbrev dktJ5_getBytes_1 : List UInt8 := dkwJ5_getBytes_1 ++ []
def dkwJ5_getBytes_0 : List UInt8 := [42, 182, 1, 79, 29, 160, 0, 23, 42, 180, 0, 9, 3, 43, 28, 29, 120, 42, 180, 0, 9, 190]
abbrev dktJ5_getBytes_0 : List UInt8 := dkwJ5_getBytes_0 ++ dktJ5_getBytes_1
theorem dksJ5_getBytes_0 : cJ5_getBytes.data.toList.drop 0 = dktJ5_getBytes_0 := by decide +kernel
theorem dksJ5_getBytes_1 : cJ5_getBytes.data.toList.drop 22 = dktJ5_getBytes_1 := dk_seg dksJ5_getBytes_0 22 rfl rfl
theorem dJ5_getBytes_0 : decode cJ5_getBytes 0 = .ok (.aload_n 0, 1) := dk_42 (dk_at dksJ5_getBytes_0 0 rfl rfl)
theorem dJ5_getBytes_1 : decode cJ5_getBytes 1 = .ok (.invokevirtual 335, 3) := dk_182 1 79 (dk_at dksJ5_getBytes_0 1 rfl rfl)
theorem dJ5_getBytes_4 : decode cJ5_getBytes 4 = .ok (.iload_n 3, 1) := dk_29 (dk_at dksJ5_getBytes_0 4 rfl rfl)
theorem dJ5_getBytes_5 : decode cJ5_getBytes 5 = .ok (.if_icmp .ne 23, 3) := dk_160 0 23 (dk_at dksJ5_getBytes_0 5 rfl rfl)
theorem dJ5_getBytes_8 : decode cJ5_getBytes 8 = .ok (.aload_n 0, 1) := dk_42 (dk_at dksJ5_getBytes_0 8 rfl rfl)
theorem dJ5_getBytes_9 : decode cJ5_getBytes 9 = .ok (.getfield 9, 3) := dk_180 0 9 (dk_at dksJ5_getBytes_0 9 rfl rfl)
theorem dJ5_getBytes_12 : decode cJ5_getBytes 12 = .ok (.iconst 0, 1) := dk_3 (dk_at dksJ5_getBytes_0 12 rfl rfl)
theorem dJ5_getBytes_13 : decode cJ5_getBytes 13 = .ok (.aload_n 1, 1) := dk_43 (dk_at dksJ5_getBytes_0 13 rfl rfl)
theorem dJ5_getBytes_14 : decode cJ5_getBytes 14 = .ok (.iload_n 2, 1) := dk_28 (dk_at dksJ5_getBytes_0 14 rfl rfl)
theorem dJ5_getBytes_15 : decode cJ5_getBytes 15 = .ok (.iload_n 3, 1) := dk_29 (dk_at dksJ5_getBytes_0 15 rfl rfl)
theorem dJ5_getBytes_16 : decode cJ5_getBytes 16 = .ok (.ishl, 1) := dk_120 (dk_at dksJ5_getBytes_0 16 rfl rfl)
theorem dJ5_getBytes_17 : decode cJ5_getBytes 17 = .ok (.aload_n 0, 1) := dk_42 (dk_at dksJ5_getBytes_0 17 rfl rfl)
theorem dJ5_getBytes_18 : decode cJ5_getBytes 18 = .ok (.getfield 9, 3) := dk_180 0 9 (dk_at dksJ5_getBytes_0 18 rfl rfl)
theorem dJ5_getBytes_21 : decode cJ5_getBytes 21 = .ok (.arraylength, 1) := dk_190 (dk_at dksJ5_getBytes_0 21 rfl rfl)
theorem dJ5_getBytes_22 : decode cJ5_getBytes 22 = .ok (.invokestatic 212, 3) := dk_184 0 212 (dk_at dksJ5_getBytes_1 0 rfl rfl)
theorem dJ5_getBytes_25 : decode cJ5_getBytes 25 = .ok (.goto 18, 3) := dk_167 0 18 (dk_at dksJ5_getBytes_1 3 rfl rfl)
theorem dJ5_getBytes_28 : decode cJ5_getBytes 28 = .ok (.aload_n 0, 1) := dk_42 (dk_at dksJ5_getBytes_1 6 rfl rfl)
theorem dJ5_getBytes_29 : decode cJ5_getBytes 29 = .ok (.getfield 9, 3) := dk_180 0 9 (dk_at dksJ5_getBytes_1 7 rfl rfl)
theorem dJ5_getBytes_32 : decode cJ5_getBytes 32 = .ok (.iconst 0, 1) := dk_3 (dk_at dksJ5_getBytes_1 10 rfl rfl)
theorem dJ5_getBytes_33 : decode cJ5_getBytes 33 = .ok (.aload_n 1, 1) := dk_43 (dk_at dksJ5_getBytes_1 11 rfl rfl)
theorem dJ5_getBytes_34 : decode cJ5_getBytes 34 = .ok (.iload_n 2, 1) := dk_28 (dk_at dksJ5_getBytes_1 12 rfl rfl)
theorem dJ5_getBytes_35 : decode cJ5_getBytes 35 = .ok (.aload_n 0, 1) := dk_42 (dk_at dksJ5_getBytes_1 13 rfl rfl)
theorem dJ5_getBytes_36 : decode cJ5_getBytes 36 = .ok (.getfield 9, 3) := dk_180 0 9 (dk_at dksJ5_getBytes_1 14 rfl rfl)
theorem dJ5_getBytes_39 : decode cJ5_getBytes 39 = .ok (.arraylength, 1) := dk_190 (dk_at dksJ5_getBytes_1 17 rfl rfl)
theorem dJ5_getBytes_40 : decode cJ5_getBytes 40 = .ok (.invokestatic 106, 3) := dk_184 0 106 (dk_at dksJ5_getBytes_1 18 rfl rfl)
theorem dJ5_getBytes_43 : decode cJ5_getBytes 43 = .ok (.return_, 1) := dk_177 (dk_at dksJ5_getBytes_1 21 rfl rfl)
theorem q105 : (Jvm.Cond.initialized "java/lang/String") ∈ lw_all := lw_g (lw_at lw_m1 10 rfl) rfl
theorem q303 : (Jvm.Cond.laysStatic "java/lang/String" "COMPACT_STRINGS" "Z") ∈ lw_tbl := lw_at lw_m1 208 rfl
theorem q313 : (Jvm.Cond.fieldLink "java/lang/String" (1048 : Nat) "java/lang/AbstractStringBuilder" "maybeLatin1" "Z") ∈ lw_all := lw_g (lw_at lw_m1 218 rfl) rfl
theorem q391 : (Jvm.Cond.static ({ cls := "java/lang/String", name := "checkBoundsOffCount", desc := "(III)I" } : Jvm.MethodName)) ∈ lw_all := lw_g (lw_at lw_m2 56 rfl) rfl
theorem q392 : (Jvm.Cond.code ({ cls := "java/lang/String", name := "checkBoundsOffCount", desc := "(III)I" } : Jvm.MethodName) prog_24_method_157_code (3 : Nat) (Option.some Jvm.ClassFile.FieldType.int)) ∈ lw_all := lw_g (lw_at lw_m2 57 rfl) rfl
theorem q393 : (Jvm.Cond.fieldLink "java/lang/String" (1053 : Nat) "jdk/internal/util/Preconditions" "SIOOBE_FORMATTER" "Ljava/util/function/BiFunction;") ∈ lw_all := lw_g (lw_at lw_m2 58 rfl) rfl
theorem q395 : (Jvm.Cond.methodLink "java/lang/String" (1065 : Nat) ({ cls := "jdk/internal/util/Preconditions", name := "checkFromIndexSize", desc := "(IIILjava/util/function/BiFunction;)I" } : Jvm.MethodName)) ∈ lw_all := lw_g (lw_at lw_m2 60 rfl) rfl
theorem q414 : (Jvm.Cond.static ({ cls := "java/lang/String", name := "checkIndex", desc := "(II)V" } : Jvm.MethodName)) ∈ lw_all := lw_g (lw_at lw_m2 79 rfl) rfl
theorem q415 : (Jvm.Cond.code ({ cls := "java/lang/String", name := "checkIndex", desc := "(II)V" } : Jvm.MethodName) prog_24_method_155_code (2 : Nat) (Option.none : Option Jvm.ClassFile.FieldType)) ∈ lw_all := lw_g (lw_at lw_m2 80 rfl) rfl
theorem q416 : (Jvm.Cond.methodLink "java/lang/String" (1059 : Nat) ({ cls := "jdk/internal/util/Preconditions", name := "checkIndex", desc := "(IILjava/util/function/BiFunction;)I" } : Jvm.MethodName)) ∈ lw_all := lw_g (lw_at lw_m2 81 rfl) rfl
theorem q424 : (Jvm.Cond.instantiable "java/lang/String" (4 : Nat)) ∈ lw_all := lw_g (lw_at lw_m2 89 rfl) rfl
theorem q426 : (Jvm.Cond.instanceMethod ({ cls := "java/lang/String", name := "<init>", desc := "(Ljava/lang/StringBuilder;)V" } : Jvm.MethodName)) ∈ lw_all := lw_g (lw_at lw_m2 91 rfl) rfl
theorem q427 : (Jvm.Cond.code ({ cls := "java/lang/String", name := "<init>", desc := "(Ljava/lang/StringBuilder;)V" } : Jvm.MethodName) prog_24_method_53_code (2 : Nat) (Option.none : Option Jvm.ClassFile.FieldType)) ∈ lw_all := lw_g (lw_at lw_m2 92 rfl) rfl
theorem q428 : (Jvm.Cond.methodLink "java/lang/String" (489 : Nat) ({ cls := "java/lang/String", name := "<init>", desc := "(Ljava/lang/AbstractStringBuilder;Ljava/lang/Void;)V" } : Jvm.MethodName)) ∈ lw_all := lw_g (lw_at lw_m2 93 rfl) rfl
theorem q429 : (Jvm.Cond.instanceMethod ({ cls := "java/lang/String", name := "<init>", desc := "(Ljava/lang/AbstractStringBuilder;Ljava/lang/Void;)V" } : Jvm.MethodName)) ∈ lw_all := lw_g (lw_at lw_m2 94 rfl) rfl
theorem q430 : (Jvm.Cond.code ({ cls := "java/lang/String", name := "<init>", desc := "(Ljava/lang/AbstractStringBuilder;Ljava/lang/Void;)V" } : Jvm.MethodName) prog_24_method_150_code (5 : Nat) (Option.none : Option Jvm.ClassFile.FieldType)) ∈ lw_all := lw_g (lw_at lw_m2 95 rfl) rfl
theorem q431 : (Jvm.Cond.methodLink "java/lang/String" (1 : Nat) ({ cls := "java/lang/Object", name := "<init>", desc := "()V" } : Jvm.MethodName)) ∈ lw_all := lw_g (lw_at lw_m2 96 rfl) rfl
theorem q432 : (Jvm.Cond.methodLink "java/lang/String" (552 : Nat) ({ cls := "java/lang/AbstractStringBuilder", name := "getValue", desc := "()[B" } : Jvm.MethodName)) ∈ lw_all := lw_g (lw_at lw_m2 97 rfl) rfl
theorem q437 : (Jvm.Cond.methodLink "java/lang/String" (549 : Nat) ({ cls := "java/lang/AbstractStringBuilder", name := "length", desc := "()I" } : Jvm.MethodName)) ∈ lw_all := lw_g (lw_at lw_m2 102 rfl) rfl
theorem q445 : (Jvm.Cond.methodLink "java/lang/String" (1047 : Nat) ({ cls := "java/lang/AbstractStringBuilder", name := "isLatin1", desc := "()Z" } : Jvm.MethodName)) ∈ lw_all := lw_g (lw_at lw_m2 110 rfl) rfl
theorem q446 : (Jvm.Cond.methodLink "java/lang/String" (54 : Nat) ({ cls := "java/util/Arrays", name := "copyOfRange", desc := "([BII)[B" } : Jvm.MethodName)) ∈ lw_all := lw_g (lw_at lw_m2 111 rfl) rfl
theorem q455 : (Jvm.Cond.fieldLink "java/lang/String" (38 : Nat) "java/lang/String" "COMPACT_STRINGS" "Z") ∈ lw_all := lw_g (lw_at lw_m2 120 rfl) rfl
theorem q456 : (Jvm.Cond.methodLink "java/lang/String" (1051 : Nat) ({ cls := "java/lang/StringUTF16", name := "compress", desc := "([BII)[B" } : Jvm.MethodName)) ∈ lw_all := lw_g (lw_at lw_m2 121 rfl) rfl
theorem q466 : (Jvm.Cond.methodLink "java/lang/String" (47 : Nat) ({ cls := "java/lang/StringUTF16", name := "coderFromArrayLen", desc := "([BI)B" } : Jvm.MethodName)) ∈ lw_all := lw_g (lw_at lw_m2 131 rfl) rfl
theorem q469 : (Jvm.Cond.fieldLink "java/lang/String" (9 : Nat) "java/lang/String" "value" "[B") ∈ lw_all := lw_g (lw_at lw_m2 134 rfl) rfl
theorem q470 : (Jvm.Cond.fieldLink "java/lang/String" (15 : Nat) "java/lang/String" "coder" "B") ∈ lw_all := lw_g (lw_at lw_m2 135 rfl) rfl
theorem q471 : (Jvm.Cond.fieldLink "java/lang/String" (19 : Nat) "java/lang/String" "hash" "I") ∈ lw_all := lw_g (lw_at lw_m2 136 rfl) rfl
theorem q472 : (Jvm.Cond.fieldLink "java/lang/String" (23 : Nat) "java/lang/String" "hashIsZero" "Z") ∈ lw_all := lw_g (lw_at lw_m2 137 rfl) rfl
theorem q473 : (Jvm.Cond.laysFinal "java/lang/String" "java/lang/String" "value" "[B") ∈ lw_all := lw_g (lw_at lw_m2 138 rfl) rfl
theorem q474 : (Jvm.Cond.soleField "java/lang/String" "value") ∈ lw_all := lw_g (lw_at lw_m2 139 rfl) rfl
theorem q475 : (Jvm.Cond.laysFinal "java/lang/String" "java/lang/String" "coder" "B") ∈ lw_all := lw_g (lw_at lw_m2 140 rfl) rfl
theorem q476 : (Jvm.Cond.soleField "java/lang/String" "coder") ∈ lw_all := lw_g (lw_at lw_m2 141 rfl) rfl
theorem q477 : (Jvm.Cond.lays "java/lang/String" "java/lang/String" "hash" "I") ∈ lw_all := lw_g (lw_at lw_m2 142 rfl) rfl
theorem q478 : (Jvm.Cond.soleField "java/lang/String" "hash") ∈ lw_all := lw_g (lw_at lw_m2 143 rfl) rfl
theorem q479 : (Jvm.Cond.lays "java/lang/String" "java/lang/String" "hashIsZero" "Z") ∈ lw_all := lw_g (lw_at lw_m2 144 rfl) rfl
theorem q480 : (Jvm.Cond.soleField "java/lang/String" "hashIsZero") ∈ lw_all := lw_g (lw_at lw_m2 145 rfl) rfl
theorem q481 : (Jvm.Cond.superclass "java/lang/String" "java/lang/Object") ∈ lw_all := lw_g (lw_at lw_m2 146 rfl) rfl
theorem q554 : (Jvm.Cond.selects "java/lang/String" ({ cls := "java/lang/Object", name := "getClass", desc := "()Ljava/lang/Class;" } : Jvm.MethodName) ({ cls := "java/lang/Object", name := "getClass", desc := "()Ljava/lang/Class;" } : Jvm.MethodName)) ∈ lw_all := lw_g (lw_at lw_m2 219 rfl) rfl
theorem q610 : (Jvm.Cond.instanceMethod ({ cls := "java/lang/String", name := "length", desc := "()I" } : Jvm.MethodName)) ∈ lw_all := lw_g (lw_at lw_m3 35 rfl) rfl
theorem q611 : (Jvm.Cond.selects "java/lang/String" ({ cls := "java/lang/String", name := "length", desc := "()I" } : Jvm.MethodName) ({ cls := "java/lang/String", name := "length", desc := "()I" } : Jvm.MethodName)) ∈ lw_all := lw_g (lw_at lw_m3 36 rfl) rfl
theorem q612 : (Jvm.Cond.code ({ cls := "java/lang/String", name := "length", desc := "()I" } : Jvm.MethodName) prog_24_method_54_code (1 : Nat) (Option.some Jvm.ClassFile.FieldType.int)) ∈ lw_all := lw_g (lw_at lw_m3 37 rfl) rfl
theorem q613 : (Jvm.Cond.methodLink "java/lang/String" (335 : Nat) ({ cls := "java/lang/String", name := "coder", desc := "()B" } : Jvm.MethodName)) ∈ lw_all := lw_g (lw_at lw_m3 38 rfl) rfl
theorem q614 : (Jvm.Cond.instanceMethod ({ cls := "java/lang/String", name := "coder", desc := "()B" } : Jvm.MethodName)) ∈ lw_all := lw_g (lw_at lw_m3 39 rfl) rfl
theorem q615 : (Jvm.Cond.selects "java/lang/String" ({ cls := "java/lang/String", name := "coder", desc := "()B" } : Jvm.MethodName) ({ cls := "java/lang/String", name := "coder", desc := "()B" } : Jvm.MethodName)) ∈ lw_all := lw_g (lw_at lw_m3 40 rfl) rfl
theorem q616 : (Jvm.Cond.code ({ cls := "java/lang/String", name := "coder", desc := "()B" } : Jvm.MethodName) prog_24_method_152_code (1 : Nat) (Option.some Jvm.ClassFile.FieldType.byte)) ∈ lw_all := lw_g (lw_at lw_m3 41 rfl) rfl
theorem q618 : (Jvm.Cond.instanceMethod ({ cls := "java/lang/String", name := "substring", desc := "(II)Ljava/lang/String;" } : Jvm.MethodName)) ∈ lw_all := lw_g (lw_at lw_m3 43 rfl) rfl
theorem q619 : (Jvm.Cond.selects "java/lang/String" ({ cls := "java/lang/String", name := "substring", desc := "(II)Ljava/lang/String;" } : Jvm.MethodName) ({ cls := "java/lang/String", name := "substring", desc := "(II)Ljava/lang/String;" } : Jvm.MethodName)) ∈ lw_all := lw_g (lw_at lw_m3 44 rfl) rfl
theorem q620 : (Jvm.Cond.code ({ cls := "java/lang/String", name := "substring", desc := "(II)Ljava/lang/String;" } : Jvm.MethodName) prog_24_method_92_code (5 : Nat) (Option.some (Jvm.ClassFile.FieldType.object "java/lang/String"))) ∈ lw_all := lw_g (lw_at lw_m3 45 rfl) rfl
theorem q621 : (Jvm.Cond.methodLink "java/lang/String" (505 : Nat) ({ cls := "java/lang/String", name := "length", desc := "()I" } : Jvm.MethodName)) ∈ lw_all := lw_g (lw_at lw_m3 46 rfl) rfl
theorem q622 : (Jvm.Cond.methodLink "java/lang/String" (521 : Nat) ({ cls := "java/lang/String", name := "checkBoundsBeginEnd", desc := "(III)V" } : Jvm.MethodName)) ∈ lw_all := lw_g (lw_at lw_m3 47 rfl) rfl
theorem q623 : (Jvm.Cond.static ({ cls := "java/lang/String", name := "checkBoundsBeginEnd", desc := "(III)V" } : Jvm.MethodName)) ∈ lw_all := lw_g (lw_at lw_m3 48 rfl) rfl
theorem q624 : (Jvm.Cond.code ({ cls := "java/lang/String", name := "checkBoundsBeginEnd", desc := "(III)V" } : Jvm.MethodName) prog_24_method_158_code (3 : Nat) (Option.none : Option Jvm.ClassFile.FieldType)) ∈ lw_all := lw_g (lw_at lw_m3 49 rfl) rfl
theorem q625 : (Jvm.Cond.methodLink "java/lang/String" (1062 : Nat) ({ cls := "jdk/internal/util/Preconditions", name := "checkFromToIndex", desc := "(IIILjava/util/function/BiFunction;)I" } : Jvm.MethodName)) ∈ lw_all := lw_g (lw_at lw_m3 50 rfl) rfl
theorem q628 : (Jvm.Cond.methodLink "java/lang/String" (492 : Nat) ({ cls := "java/lang/String", name := "isLatin1", desc := "()Z" } : Jvm.MethodName)) ∈ lw_all := lw_g (lw_at lw_m3 53 rfl) rfl
theorem q629 : (Jvm.Cond.instanceMethod ({ cls := "java/lang/String", name := "isLatin1", desc := "()Z" } : Jvm.MethodName)) ∈ lw_all := lw_g (lw_at lw_m3 54 rfl) rfl
theorem q630 : (Jvm.Cond.selects "java/lang/String" ({ cls := "java/lang/String", name := "isLatin1", desc := "()Z" } : Jvm.MethodName) ({ cls := "java/lang/String", name := "isLatin1", desc := "()Z" } : Jvm.MethodName)) ∈ lw_all := lw_g (lw_at lw_m3 55 rfl) rfl
theorem q631 : (Jvm.Cond.code ({ cls := "java/lang/String", name := "isLatin1", desc := "()Z" } : Jvm.MethodName) prog_24_method_154_code (1 : Nat) (Option.some Jvm.ClassFile.FieldType.boolean)) ∈ lw_all := lw_g (lw_at lw_m3 56 rfl) rfl
theorem q632 : (Jvm.Cond.methodLink "java/lang/String" (685 : Nat) ({ cls := "java/lang/StringLatin1", name := "newString", desc := "([BII)Ljava/lang/String;" } : Jvm.MethodName)) ∈ lw_all := lw_g (lw_at lw_m3 57 rfl) rfl
theorem q639 : (Jvm.Cond.instanceMethod ({ cls := "java/lang/String", name := "<init>", desc := "([BB)V" } : Jvm.MethodName)) ∈ lw_all := lw_g (lw_at lw_m3 64 rfl) rfl
theorem q640 : (Jvm.Cond.code ({ cls := "java/lang/String", name := "<init>", desc := "([BB)V" } : Jvm.MethodName) prog_24_method_151_code (3 : Nat) (Option.none : Option Jvm.ClassFile.FieldType)) ∈ lw_all := lw_g (lw_at lw_m3 65 rfl) rfl
theorem q641 : (Jvm.Cond.methodLink "java/lang/String" (689 : Nat) ({ cls := "java/lang/StringUTF16", name := "newString", desc := "([BII)Ljava/lang/String;" } : Jvm.MethodName)) ∈ lw_all := lw_g (lw_at lw_m3 66 rfl) rfl
theorem q654 : (Jvm.Cond.instanceMethod ({ cls := "java/lang/String", name := "charAt", desc := "(I)C" } : Jvm.MethodName)) ∈ lw_all := lw_g (lw_at lw_m3 79 rfl) rfl
theorem q655 : (Jvm.Cond.selects "java/lang/String" ({ cls := "java/lang/String", name := "charAt", desc := "(I)C" } : Jvm.MethodName) ({ cls := "java/lang/String", name := "charAt", desc := "(I)C" } : Jvm.MethodName)) ∈ lw_all := lw_g (lw_at lw_m3 80 rfl) rfl
theorem q656 : (Jvm.Cond.code ({ cls := "java/lang/String", name := "charAt", desc := "(I)C" } : Jvm.MethodName) prog_24_method_56_code (2 : Nat) (Option.some Jvm.ClassFile.FieldType.char)) ∈ lw_all := lw_g (lw_at lw_m3 81 rfl) rfl
theorem q657 : (Jvm.Cond.methodLink "java/lang/String" (495 : Nat) ({ cls := "java/lang/StringLatin1", name := "charAt", desc := "([BI)C" } : Jvm.MethodName)) ∈ lw_all := lw_g (lw_at lw_m3 82 rfl) rfl
theorem q661 : (Jvm.Cond.methodLink "java/lang/String" (498 : Nat) ({ cls := "java/lang/StringUTF16", name := "charAt", desc := "([BI)C" } : Jvm.MethodName)) ∈ lw_all := lw_g (lw_at lw_m3 86 rfl) rfl
theorem q690 : (Jvm.Cond.instanceMethod ({ cls := "java/lang/String", name := "equals", desc := "(Ljava/lang/Object;)Z" } : Jvm.MethodName)) ∈ lw_all := lw_g (lw_at lw_m3 115 rfl) rfl
theorem q691 : (Jvm.Cond.selects "java/lang/String" ({ cls := "java/lang/String", name := "equals", desc := "(Ljava/lang/Object;)Z" } : Jvm.MethodName) ({ cls := "java/lang/String", name := "equals", desc := "(Ljava/lang/Object;)Z" } : Jvm.MethodName)) ∈ lw_all := lw_g (lw_at lw_m3 116 rfl) rfl
theorem q692 : (Jvm.Cond.code ({ cls := "java/lang/String", name := "equals", desc := "(Ljava/lang/Object;)Z" } : Jvm.MethodName) prog_24_method_66_code (3 : Nat) (Option.some Jvm.ClassFile.FieldType.boolean)) ∈ lw_all := lw_g (lw_at lw_m3 117 rfl) rfl
theorem q693 : (Jvm.Cond.classLink "java/lang/String" (10 : Nat) "java/lang/String") ∈ lw_all := lw_g (lw_at lw_m3 118 rfl) rfl
theorem q694 : (Jvm.Cond.methodLink "java/lang/String" (541 : Nat) ({ cls := "java/lang/StringLatin1", name := "equals", desc := "([B[B)Z" } : Jvm.MethodName)) ∈ lw_all := lw_g (lw_at lw_m3 119 rfl) rfl
theorem q704 : (Jvm.Cond.instanceMethod ({ cls := "java/lang/String", name := "isEmpty", desc := "()Z" } : Jvm.MethodName)) ∈ lw_all := lw_g (lw_at lw_m3 129 rfl) rfl
theorem q705 : (Jvm.Cond.selects "java/lang/String" ({ cls := "java/lang/String", name := "isEmpty", desc := "()Z" } : Jvm.MethodName) ({ cls := "java/lang/String", name := "isEmpty", desc := "()Z" } : Jvm.MethodName)) ∈ lw_all := lw_g (lw_at lw_m3 130 rfl) rfl
theorem q706 : (Jvm.Cond.code ({ cls := "java/lang/String", name := "isEmpty", desc := "()Z" } : Jvm.MethodName) prog_24_method_55_code (1 : Nat) (Option.some Jvm.ClassFile.FieldType.boolean)) ∈ lw_all := lw_g (lw_at lw_m3 131 rfl) rfl
theorem q907 : (Jvm.Cond.selects "java/lang/String" ({ cls := "java/lang/Object", name := "hashCode", desc := "()I" } : Jvm.MethodName) ({ cls := "java/lang/String", name := "hashCode", desc := "()I" } : Jvm.MethodName)) ∈ lw_all := lw_g (lw_at lw_m4 92 rfl) rfl
theorem q908 : (Jvm.Cond.instanceMethod ({ cls := "java/lang/String", name := "hashCode", desc := "()I" } : Jvm.MethodName)) ∈ lw_all := lw_g (lw_at lw_m4 93 rfl) rfl
theorem q909 : (Jvm.Cond.code ({ cls := "java/lang/String", name := "hashCode", desc := "()I" } : Jvm.MethodName) prog_24_method_78_code (2 : Nat) (Option.some Jvm.ClassFile.FieldType.int)) ∈ lw_all := lw_g (lw_at lw_m4 94 rfl) rfl
theorem q910 : (Jvm.Cond.methodLink "java/lang/String" (628 : Nat) ({ cls := "java/lang/StringLatin1", name := "hashCode", desc := "([B)I" } : Jvm.MethodName)) ∈ lw_all := lw_g (lw_at lw_m4 95 rfl) rfl
theorem q951 : (Jvm.Cond.methodLink "java/lang/String" (632 : Nat) ({ cls := "java/lang/StringUTF16", name := "hashCode", desc := "([B)I" } : Jvm.MethodName)) ∈ lw_all := lw_g (lw_at lw_m4 136 rfl) rfl
theorem q981 : (Jvm.Cond.selects "java/lang/String" ({ cls := "java/lang/Object", name := "equals", desc := "(Ljava/lang/Object;)Z" } : Jvm.MethodName) ({ cls := "java/lang/String", name := "equals", desc := "(Ljava/lang/Object;)Z" } : Jvm.MethodName)) ∈ lw_all := lw_g (lw_at lw_m4 166 rfl) rfl
theorem q1026 : (Jvm.Cond.castable "java/lang/String" "java/lang/Comparable") ∈ lw_tbl := lw_at lw_m4 211 rfl
theorem q1027 : (Jvm.Cond.selects "java/lang/String" ({ cls := "java/lang/Comparable", name := "compareTo", desc := "(Ljava/lang/Object;)I" } : Jvm.MethodName) ({ cls := "java/lang/String", name := "compareTo", desc := "(Ljava/lang/Object;)I" } : Jvm.MethodName)) ∈ lw_all := lw_g (lw_at lw_m4 212 rfl) rfl
theorem q1028 : (Jvm.Cond.unhidden "java/lang/String" "compareTo" "(Ljava/lang/Object;)I") ∈ lw_tbl := lw_at lw_m4 213 rfl
theorem q1029 : (Jvm.Cond.instanceMethod ({ cls := "java/lang/String", name := "compareTo", desc := "(Ljava/lang/Object;)I" } : Jvm.MethodName)) ∈ lw_all := lw_g (lw_at lw_m4 214 rfl) rfl
theorem q1030 : (Jvm.Cond.publicMethod ({ cls := "java/lang/String", name := "compareTo", desc := "(Ljava/lang/Object;)I" } : Jvm.MethodName)) ∈ lw_tbl := lw_at lw_m4 215 rfl
theorem q1031 : (Jvm.Cond.code ({ cls := "java/lang/String", name := "compareTo", desc := "(Ljava/lang/Object;)I" } : Jvm.MethodName) prog_24_method_162_code (2 : Nat) (Option.some Jvm.ClassFile.FieldType.int)) ∈ lw_all := lw_g (lw_at lw_m4 216 rfl) rfl
theorem q1032 : (Jvm.Cond.methodLink "java/lang/String" (1084 : Nat) ({ cls := "java/lang/String", name := "compareTo", desc := "(Ljava/lang/String;)I" } : Jvm.MethodName)) ∈ lw_all := lw_g (lw_at lw_m4 217 rfl) rfl
theorem q1033 : (Jvm.Cond.instanceMethod ({ cls := "java/lang/String", name := "compareTo", desc := "(Ljava/lang/String;)I" } : Jvm.MethodName)) ∈ lw_all := lw_g (lw_at lw_m4 218 rfl) rfl
theorem q1034 : (Jvm.Cond.selects "java/lang/String" ({ cls := "java/lang/String", name := "compareTo", desc := "(Ljava/lang/String;)I" } : Jvm.MethodName) ({ cls := "java/lang/String", name := "compareTo", desc := "(Ljava/lang/String;)I" } : Jvm.MethodName)) ∈ lw_all := lw_g (lw_at lw_m4 219 rfl) rfl
theorem q1035 : (Jvm.Cond.code ({ cls := "java/lang/String", name := "compareTo", desc := "(Ljava/lang/String;)I" } : Jvm.MethodName) prog_24_method_71_code (5 : Nat) (Option.some Jvm.ClassFile.FieldType.int)) ∈ lw_all := lw_g (lw_at lw_m4 220 rfl) rfl
theorem q1036 : (Jvm.Cond.methodLink "java/lang/String" (586 : Nat) ({ cls := "java/lang/StringLatin1", name := "compareTo", desc := "([B[B)I" } : Jvm.MethodName)) ∈ lw_all := lw_g (lw_at lw_m4 221 rfl) rfl
theorem q1150 : (Jvm.Cond.methodLink "java/lang/String" (590 : Nat) ({ cls := "java/lang/StringUTF16", name := "compareTo", desc := "([B[B)I" } : Jvm.MethodName)) ∈ lw_all := lw_g (lw_at lw_m5 95 rfl) rfl
theorem q1157 : (Jvm.Cond.methodLink "java/lang/String" (591 : Nat) ({ cls := "java/lang/StringLatin1", name := "compareToUTF16", desc := "([B[B)I" } : Jvm.MethodName)) ∈ lw_all := lw_g (lw_at lw_m5 102 rfl) rfl
theorem q1168 : (Jvm.Cond.methodLink "java/lang/String" (594 : Nat) ({ cls := "java/lang/StringUTF16", name := "compareToLatin1", desc := "([B[B)I" } : Jvm.MethodName)) ∈ lw_all := lw_g (lw_at lw_m5 113 rfl) rfl
theorem q1194 : (Jvm.Cond.static ({ cls := "java/lang/String", name := "checkOffset", desc := "(II)V" } : Jvm.MethodName)) ∈ lw_all := lw_g (lw_at lw_m5 139 rfl) rfl
theorem q1195 : (Jvm.Cond.code ({ cls := "java/lang/String", name := "checkOffset", desc := "(II)V" } : Jvm.MethodName) prog_24_method_156_code (2 : Nat) (Option.none : Option Jvm.ClassFile.FieldType)) ∈ lw_all := lw_g (lw_at lw_m5 140 rfl) rfl
theorem q1641 : (Jvm.Cond.instanceMethod ({ cls := "java/lang/String", name := "getBytes", desc := "([BIB)V" } : Jvm.MethodName)) ∈ lw_all := lw_g (lw_at lw_m7 106 rfl) rfl
theorem q1642 : (Jvm.Cond.selects "java/lang/String" ({ cls := "java/lang/String", name := "getBytes", desc := "([BIB)V" } : Jvm.MethodName) ({ cls := "java/lang/String", name := "getBytes", desc := "([BIB)V" } : Jvm.MethodName)) ∈ lw_all := lw_g (lw_at lw_m7 107 rfl) rfl
theorem q1643 : (Jvm.Cond.code ({ cls := "java/lang/String", name := "getBytes", desc := "([BIB)V" } : Jvm.MethodName) prog_24_method_147_code (4 : Nat) (Option.none : Option Jvm.ClassFile.FieldType)) ∈ lw_all := lw_g (lw_at lw_m7 108 rfl) rfl
theorem q1644 : (Jvm.Cond.methodLink "java/lang/String" (212 : Nat) ({ cls := "java/lang/System", name := "arraycopy", desc := "(Ljava/lang/Object;ILjava/lang/Object;II)V" } : Jvm.MethodName)) ∈ lw_all := lw_g (lw_at lw_m7 109 rfl) rfl
theorem q1645 : (Jvm.Cond.methodLink "java/lang/String" (106 : Nat) ({ cls := "java/lang/StringLatin1", name := "inflate", desc := "([BI[BII)V" } : Jvm.MethodName)) ∈ lw_all := lw_g (lw_at lw_m7 110 rfl) rfl
theorem q2807 : (Jvm.Cond.castable "java/lang/String" "java/lang/Object") ∈ lw_tbl := lw_at lw_m12 72 rfl
theorem in_J5 : ∀ w ∈ wsJ50, w ∈ lw_all := lw_in wsJ50 [473, 475, 477, 479] (by decide +kernel) (by decide +kernel)

/-! jdk/internal/util/ArraysSupport -/
set_option maxRecDepth 100000
def RJ7 : String := "jdk/internal/util/ArraysSupport"
abbrev cJ7_newLength : ByteArray := prog_64_method_27_code
def yJ7_newLength : MethodName := ⟨RJ7, "newLength", "(III)I"⟩
def dkwJ7_newLength_1 : List UInt8 := [184, 0, 201, 172]
abbrev dktJ7_newLength_1 : List UInt8 := dkwJ7_newLength_1 ++ []
def dkwJ7_newLength_0 : List UInt8 := [26, 27, 28, 184, 0, 194, 96, 62, 3, 29, 162, 0, 11, 29, 18, 200, 163, 0, 5, 29, 172, 26, 27]
abbrev dktJ7_newLength_0 : List UInt8 := dkwJ7_newLength_0 ++ dktJ7_newLength_1
theorem dksJ7_newLength_0 : cJ7_newLength.data.toList.drop 0 = dktJ7_newLength_0 := by decide +kernel
theorem dksJ7_newLength_1 : cJ7_newLength.data.toList.drop 23 = dktJ7_newLength_1 := dk_seg dksJ7_newLength_0 23 rfl rfl
theorem dJ7_newLength_0 : decode cJ7_newLength 0 = .ok (.iload_n 0, 1) := dk_26 (dk_at dksJ7_newLength_0 0 rfl rfl)
theorem dJ7_newLength_1 : decode cJ7_newLength 1 = .ok (.iload_n 1, 1) := dk_27 (dk_at dksJ7_newLength_0 1 rfl rfl)
theorem dJ7_newLength_2 : decode cJ7_newLength 2 = .ok (.iload_n 2, 1) := dk_28 (dk_at dksJ7_newLength_0 2 rfl rfl)
theorem dJ7_newLength_3 : decode cJ7_newLength 3 = .ok (.invokestatic 194, 3) := dk_184 0 194 (dk_at dksJ7_newLength_0 3 rfl rfl)
theorem dJ7_newLength_6 : decode cJ7_newLength 6 = .ok (.iadd, 1) := dk_96 (dk_at dksJ7_newLength_0 6 rfl rfl)
theorem dJ7_newLength_7 : decode cJ7_newLength 7 = .ok (.istore_n 3, 1) := dk_62 (dk_at dksJ7_newLength_0 7 rfl rfl)
theorem dJ7_newLength_8 : decode cJ7_newLength 8 = .ok (.iconst 0, 1) := dk_3 (dk_at dksJ7_newLength_0 8 rfl rfl)
theorem dJ7_newLength_9 : decode cJ7_newLength 9 = .ok (.iload_n 3, 1) := dk_29 (dk_at dksJ7_newLength_0 9 rfl rfl)
theorem dJ7_newLength_10 : decode cJ7_newLength 10 = .ok (.if_icmp .ge 11, 3) := dk_162 0 11 (dk_at dksJ7_newLength_0 10 rfl rfl)
theorem dJ7_newLength_13 : decode cJ7_newLength 13 = .ok (.iload_n 3, 1) := dk_29 (dk_at dksJ7_newLength_0 13 rfl rfl)
theorem dJ7_newLength_14 : decode cJ7_newLength 14 = .ok (.ldc 200, 2) := dk_18 200 (dk_at dksJ7_newLength_0 14 rfl rfl)
theorem dJ7_newLength_16 : decode cJ7_newLength 16 = .ok (.if_icmp .gt 5, 3) := dk_163 0 5 (dk_at dksJ7_newLength_0 16 rfl rfl)
theorem dJ7_newLength_19 : decode cJ7_newLength 19 = .ok (.iload_n 3, 1) := dk_29 (dk_at dksJ7_newLength_0 19 rfl rfl)
theorem dJ7_newLength_20 : decode cJ7_newLength 20 = .ok (.ireturn, 1) := dk_172 (dk_at dksJ7_newLength_0 20 rfl rfl)
theorem dJ7_newLength_21 : decode cJ7_newLength 21 = .ok (.iload_n 0, 1) := dk_26 (dk_at dksJ7_newLength_0 21 rfl rfl)
theorem dJ7_newLength_22 : decode cJ7_newLength 22 = .ok (.iload_n 1, 1) := dk_27 (dk_at dksJ7_newLength_0 22 rfl rfl)
theorem dJ7_newLength_23 : decode cJ7_newLength 23 = .ok (.invokestatic 201, 3) := dk_184 0 201 (dk_at dksJ7_newLength_1 0 rfl rfl)
theorem dJ7_newLength_26 : decode cJ7_newLength 26 = .ok (.ireturn, 1) := dk_172 (dk_at dksJ7_newLength_1 3 rfl rfl)
abbrev cJ7_hugeLength : ByteArray := prog_64_method_28_code
def yJ7_hugeLength : MethodName := ⟨RJ7, "hugeLength", "(II)I"⟩
def dkwJ7_hugeLength_2 : List UInt8 := [191, 28, 18, 200, 163, 0, 6, 18, 200, 172, 28, 172]
abbrev dktJ7_hugeLength_2 : List UInt8 := dkwJ7_hugeLength_2 ++ []
def dkwJ7_hugeLength_1 : List UInt8 := [26, 182, 0, 98, 18, 208, 182, 0, 94, 27, 182, 0, 98, 18, 210, 182, 0, 94, 182, 0, 101, 183, 0, 212]
abbrev dktJ7_hugeLength_1 : List UInt8 := dkwJ7_hugeLength_1 ++ dktJ7_hugeLength_2
def dkwJ7_hugeLength_0 : List UInt8 := [26, 27, 96, 61, 28, 156, 0, 44, 187, 0, 204, 89, 187, 0, 89, 89, 183, 0, 91, 18, 206, 182, 0, 94]
abbrev dktJ7_hugeLength_0 : List UInt8 := dkwJ7_hugeLength_0 ++ dktJ7_hugeLength_1
theorem dksJ7_hugeLength_0 : cJ7_hugeLength.data.toList.drop 0 = dktJ7_hugeLength_0 := by decide +kernel
theorem dksJ7_hugeLength_1 : cJ7_hugeLength.data.toList.drop 24 = dktJ7_hugeLength_1 := dk_seg dksJ7_hugeLength_0 24 rfl rfl
theorem dksJ7_hugeLength_2 : cJ7_hugeLength.data.toList.drop 48 = dktJ7_hugeLength_2 := dk_seg dksJ7_hugeLength_1 24 rfl rfl
theorem dJ7_hugeLength_0 : decode cJ7_hugeLength 0 = .ok (.iload_n 0, 1) := dk_26 (dk_at dksJ7_hugeLength_0 0 rfl rfl)
theorem dJ7_hugeLength_1 : decode cJ7_hugeLength 1 = .ok (.iload_n 1, 1) := dk_27 (dk_at dksJ7_hugeLength_0 1 rfl rfl)
theorem dJ7_hugeLength_2 : decode cJ7_hugeLength 2 = .ok (.iadd, 1) := dk_96 (dk_at dksJ7_hugeLength_0 2 rfl rfl)
theorem dJ7_hugeLength_3 : decode cJ7_hugeLength 3 = .ok (.istore_n 2, 1) := dk_61 (dk_at dksJ7_hugeLength_0 3 rfl rfl)
theorem dJ7_hugeLength_4 : decode cJ7_hugeLength 4 = .ok (.iload_n 2, 1) := dk_28 (dk_at dksJ7_hugeLength_0 4 rfl rfl)
theorem dJ7_hugeLength_5 : decode cJ7_hugeLength 5 = .ok (.ifCond .ge 44, 3) := dk_156 0 44 (dk_at dksJ7_hugeLength_0 5 rfl rfl)
theorem dJ7_hugeLength_8 : decode cJ7_hugeLength 8 = .ok (.new 204, 3) := dk_187 0 204 (dk_at dksJ7_hugeLength_0 8 rfl rfl)
theorem dJ7_hugeLength_11 : decode cJ7_hugeLength 11 = .ok (.dup, 1) := dk_89 (dk_at dksJ7_hugeLength_0 11 rfl rfl)
theorem dJ7_hugeLength_12 : decode cJ7_hugeLength 12 = .ok (.new 89, 3) := dk_187 0 89 (dk_at dksJ7_hugeLength_0 12 rfl rfl)
theorem dJ7_hugeLength_15 : decode cJ7_hugeLength 15 = .ok (.dup, 1) := dk_89 (dk_at dksJ7_hugeLength_0 15 rfl rfl)
theorem dJ7_hugeLength_16 : decode cJ7_hugeLength 16 = .ok (.invokespecial 91, 3) := dk_183 0 91 (dk_at dksJ7_hugeLength_0 16 rfl rfl)
theorem dJ7_hugeLength_19 : decode cJ7_hugeLength 19 = .ok (.ldc 206, 2) := dk_18 206 (dk_at dksJ7_hugeLength_0 19 rfl rfl)
theorem dJ7_hugeLength_21 : decode cJ7_hugeLength 21 = .ok (.invokevirtual 94, 3) := dk_182 0 94 (dk_at dksJ7_hugeLength_0 21 rfl rfl)
theorem dJ7_hugeLength_24 : decode cJ7_hugeLength 24 = .ok (.iload_n 0, 1) := dk_26 (dk_at dksJ7_hugeLength_1 0 rfl rfl)
theorem dJ7_hugeLength_25 : decode cJ7_hugeLength 25 = .ok (.invokevirtual 98, 3) := dk_182 0 98 (dk_at dksJ7_hugeLength_1 1 rfl rfl)
theorem dJ7_hugeLength_28 : decode cJ7_hugeLength 28 = .ok (.ldc 208, 2) := dk_18 208 (dk_at dksJ7_hugeLength_1 4 rfl rfl)
theorem dJ7_hugeLength_30 : decode cJ7_hugeLength 30 = .ok (.invokevirtual 94, 3) := dk_182 0 94 (dk_at dksJ7_hugeLength_1 6 rfl rfl)
theorem dJ7_hugeLength_33 : decode cJ7_hugeLength 33 = .ok (.iload_n 1, 1) := dk_27 (dk_at dksJ7_hugeLength_1 9 rfl rfl)
theorem dJ7_hugeLength_34 : decode cJ7_hugeLength 34 = .ok (.invokevirtual 98, 3) := dk_182 0 98 (dk_at dksJ7_hugeLength_1 10 rfl rfl)
theorem dJ7_hugeLength_37 : decode cJ7_hugeLength 37 = .ok (.ldc 210, 2) := dk_18 210 (dk_at dksJ7_hugeLength_1 13 rfl rfl)
theorem dJ7_hugeLength_39 : decode cJ7_hugeLength 39 = .ok (.invokevirtual 94, 3) := dk_182 0 94 (dk_at dksJ7_hugeLength_1 15 rfl rfl)
theorem dJ7_hugeLength_42 : decode cJ7_hugeLength 42 = .ok (.invokevirtual 101, 3) := dk_182 0 101 (dk_at dksJ7_hugeLength_1 18 rfl rfl)
theorem dJ7_hugeLength_45 : decode cJ7_hugeLength 45 = .ok (.invokespecial 212, 3) := dk_183 0 212 (dk_at dksJ7_hugeLength_1 21 rfl rfl)
theorem dJ7_hugeLength_48 : decode cJ7_hugeLength 48 = .ok (.athrow, 1) := dk_191 (dk_at dksJ7_hugeLength_2 0 rfl rfl)
theorem dJ7_hugeLength_49 : decode cJ7_hugeLength 49 = .ok (.iload_n 2, 1) := dk_28 (dk_at dksJ7_hugeLength_2 1 rfl rfl)
theorem dJ7_hugeLength_50 : decode cJ7_hugeLength 50 = .ok (.ldc 200, 2) := dk_18 200 (dk_at dksJ7_hugeLength_2 2 rfl rfl)
theorem dJ7_hugeLength_52 : decode cJ7_hugeLength 52 = .ok (.if_icmp .gt 6, 3) := dk_163 0 6 (dk_at dksJ7_hugeLength_2 4 rfl rfl)
theorem dJ7_hugeLength_55 : decode cJ7_hugeLength 55 = .ok (.ldc 200, 2) := dk_18 200 (dk_at dksJ7_hugeLength_2 7 rfl rfl)
theorem dJ7_hugeLength_57 : decode cJ7_hugeLength 57 = .ok (.ireturn, 1) := dk_172 (dk_at dksJ7_hugeLength_2 9 rfl rfl)
theorem dJ7_hugeLength_58 : decode cJ7_hugeLength 58 = .ok (.iload_n 2, 1) := dk_28 (dk_at dksJ7_hugeLength_2 10 rfl rfl)
theorem dJ7_hugeLength_59 : decode cJ7_hugeLength 59 = .ok (.ireturn, 1) := dk_172 (dk_at dksJ7_hugeLength_2 11 rfl rfl)
abbrev cJ7_vectorizedHashCode : ByteArray := prog_64_method_4_code
def yJ7_vectorizedHashCode : MethodName := ⟨RJ7, "vectorizedHashCode", "(Ljava/lang/Object;IIII)I"⟩
def dkwJ7_vectorizedHashCode_6 : List UInt8 := [183, 0, 91, 18, 92, 182, 0, 94, 21, 4, 182, 0, 98, 182, 0, 101, 183, 0, 105, 191, 172]
abbrev dktJ7_vectorizedHashCode_6 : List UInt8 := dkwJ7_vectorizedHashCode_6 ++ []
def dkwJ7_vectorizedHashCode_5 : List UInt8 := [167, 0, 44, 29, 42, 192, 0, 82, 27, 28, 184, 0, 84, 167, 0, 31, 187, 0, 87, 89, 187, 0, 89, 89]
abbrev dktJ7_vectorizedHashCode_5 : List UInt8 := dkwJ7_vectorizedHashCode_5 ++ dktJ7_vectorizedHashCode_6
def dkwJ7_vectorizedHashCode_4 : List UInt8 := [29, 42, 192, 0, 60, 27, 28, 184, 0, 75, 167, 0, 57, 29, 42, 192, 0, 77, 27, 28, 184, 0, 79]
abbrev dktJ7_vectorizedHashCode_4 : List UInt8 := dkwJ7_vectorizedHashCode_4 ++ dktJ7_vectorizedHashCode_5
def dkwJ7_vectorizedHashCode_3 : List UInt8 := [192, 0, 60, 27, 28, 184, 0, 66, 167, 0, 83, 29, 42, 192, 0, 69, 27, 28, 184, 0, 71, 167, 0, 70]
abbrev dktJ7_vectorizedHashCode_3 : List UInt8 := dkwJ7_vectorizedHashCode_3 ++ dktJ7_vectorizedHashCode_4
def dkwJ7_vectorizedHashCode_2 : List UInt8 := [29, 42, 192, 0, 60, 27, 28, 184, 0, 62, 167, 0, 103, 42, 193, 0, 60, 153, 0, 16, 29, 42]
abbrev dktJ7_vectorizedHashCode_2 : List UInt8 := dkwJ7_vectorizedHashCode_2 ++ dktJ7_vectorizedHashCode_3
def dkwJ7_vectorizedHashCode_1 : List UInt8 := [170, 0, 0, 0, 0, 127, 0, 0, 0, 4, 0, 0, 0, 10, 0, 0, 0, 42, 0, 0, 0, 55, 0, 0, 0, 127, 0, 0, 0, 127, 0, 0, 0, 88, 0, 0, 0, 101, 0, 0, 0, 114]
abbrev dktJ7_vectorizedHashCode_1 : List UInt8 := dkwJ7_vectorizedHashCode_1 ++ dktJ7_vectorizedHashCode_2
def dkwJ7_vectorizedHashCode_0 : List UInt8 := [21, 4]
abbrev dktJ7_vectorizedHashCode_0 : List UInt8 := dkwJ7_vectorizedHashCode_0 ++ dktJ7_vectorizedHashCode_1
theorem dksJ7_vectorizedHashCode_0 : cJ7_vectorizedHashCode.data.toList.drop 0 = dktJ7_vectorizedHashCode_0 := by decide +kernel
theorem dksJ7_vectorizedHashCode_1 : cJ7_vectorizedHashCode.data.toList.drop 2 = dktJ7_vectorizedHashCode_1 := dk_seg dksJ7_vectorizedHashCode_0 2 rfl rfl
theorem dksJ7_vectorizedHashCode_2 : cJ7_vectorizedHashCode.data.toList.drop 44 = dktJ7_vectorizedHashCode_2 := dk_seg dksJ7_vectorizedHashCode_1 42 rfl rfl
theorem dksJ7_vectorizedHashCode_3 : cJ7_vectorizedHashCode.data.toList.drop 66 = dktJ7_vectorizedHashCode_3 := dk_seg dksJ7_vectorizedHashCode_2 22 rfl rfl
theorem dksJ7_vectorizedHashCode_4 : cJ7_vectorizedHashCode.data.toList.drop 90 = dktJ7_vectorizedHashCode_4 := dk_seg dksJ7_vectorizedHashCode_3 24 rfl rfl
theorem dksJ7_vectorizedHashCode_5 : cJ7_vectorizedHashCode.data.toList.drop 113 = dktJ7_vectorizedHashCode_5 := dk_seg dksJ7_vectorizedHashCode_4 23 rfl rfl
theorem dksJ7_vectorizedHashCode_6 : cJ7_vectorizedHashCode.data.toList.drop 137 = dktJ7_vectorizedHashCode_6 := dk_seg dksJ7_vectorizedHashCode_5 24 rfl rfl
theorem dJ7_vectorizedHashCode_0 : decode cJ7_vectorizedHashCode 0 = .ok (.iload 4, 2) := dk_21 4 (dk_at dksJ7_vectorizedHashCode_0 0 rfl rfl)
theorem dJ7_vectorizedHashCode_2 : decode cJ7_vectorizedHashCode 2 = .ok (.tableswitch 127 4 10 #[42, 55, 127, 127, 88, 101, 114], 42) := by decide +kernel
theorem dJ7_vectorizedHashCode_44 : decode cJ7_vectorizedHashCode 44 = .ok (.iload_n 3, 1) := dk_29 (dk_at dksJ7_vectorizedHashCode_2 0 rfl rfl)
theorem dJ7_vectorizedHashCode_45 : decode cJ7_vectorizedHashCode 45 = .ok (.aload_n 0, 1) := dk_42 (dk_at dksJ7_vectorizedHashCode_2 1 rfl rfl)
theorem dJ7_vectorizedHashCode_46 : decode cJ7_vectorizedHashCode 46 = .ok (.checkcast 60, 3) := dk_192 0 60 (dk_at dksJ7_vectorizedHashCode_2 2 rfl rfl)
theorem dJ7_vectorizedHashCode_49 : decode cJ7_vectorizedHashCode 49 = .ok (.iload_n 1, 1) := dk_27 (dk_at dksJ7_vectorizedHashCode_2 5 rfl rfl)
theorem dJ7_vectorizedHashCode_50 : decode cJ7_vectorizedHashCode 50 = .ok (.iload_n 2, 1) := dk_28 (dk_at dksJ7_vectorizedHashCode_2 6 rfl rfl)
theorem dJ7_vectorizedHashCode_51 : decode cJ7_vectorizedHashCode 51 = .ok (.invokestatic 62, 3) := dk_184 0 62 (dk_at dksJ7_vectorizedHashCode_2 7 rfl rfl)
theorem dJ7_vectorizedHashCode_54 : decode cJ7_vectorizedHashCode 54 = .ok (.goto 103, 3) := dk_167 0 103 (dk_at dksJ7_vectorizedHashCode_2 10 rfl rfl)
theorem dJ7_vectorizedHashCode_57 : decode cJ7_vectorizedHashCode 57 = .ok (.aload_n 0, 1) := dk_42 (dk_at dksJ7_vectorizedHashCode_2 13 rfl rfl)
theorem dJ7_vectorizedHashCode_58 : decode cJ7_vectorizedHashCode 58 = .ok (.instanceof 60, 3) := dk_193 0 60 (dk_at dksJ7_vectorizedHashCode_2 14 rfl rfl)
theorem dJ7_vectorizedHashCode_61 : decode cJ7_vectorizedHashCode 61 = .ok (.ifCond .eq 16, 3) := dk_153 0 16 (dk_at dksJ7_vectorizedHashCode_2 17 rfl rfl)
theorem dJ7_vectorizedHashCode_64 : decode cJ7_vectorizedHashCode 64 = .ok (.iload_n 3, 1) := dk_29 (dk_at dksJ7_vectorizedHashCode_2 20 rfl rfl)
theorem dJ7_vectorizedHashCode_65 : decode cJ7_vectorizedHashCode 65 = .ok (.aload_n 0, 1) := dk_42 (dk_at dksJ7_vectorizedHashCode_2 21 rfl rfl)
theorem dJ7_vectorizedHashCode_66 : decode cJ7_vectorizedHashCode 66 = .ok (.checkcast 60, 3) := dk_192 0 60 (dk_at dksJ7_vectorizedHashCode_3 0 rfl rfl)
theorem dJ7_vectorizedHashCode_69 : decode cJ7_vectorizedHashCode 69 = .ok (.iload_n 1, 1) := dk_27 (dk_at dksJ7_vectorizedHashCode_3 3 rfl rfl)
theorem dJ7_vectorizedHashCode_70 : decode cJ7_vectorizedHashCode 70 = .ok (.iload_n 2, 1) := dk_28 (dk_at dksJ7_vectorizedHashCode_3 4 rfl rfl)
theorem dJ7_vectorizedHashCode_71 : decode cJ7_vectorizedHashCode 71 = .ok (.invokestatic 66, 3) := dk_184 0 66 (dk_at dksJ7_vectorizedHashCode_3 5 rfl rfl)
theorem dJ7_vectorizedHashCode_74 : decode cJ7_vectorizedHashCode 74 = .ok (.goto 83, 3) := dk_167 0 83 (dk_at dksJ7_vectorizedHashCode_3 8 rfl rfl)
theorem dJ7_vectorizedHashCode_77 : decode cJ7_vectorizedHashCode 77 = .ok (.iload_n 3, 1) := dk_29 (dk_at dksJ7_vectorizedHashCode_3 11 rfl rfl)
theorem dJ7_vectorizedHashCode_78 : decode cJ7_vectorizedHashCode 78 = .ok (.aload_n 0, 1) := dk_42 (dk_at dksJ7_vectorizedHashCode_3 12 rfl rfl)
theorem dJ7_vectorizedHashCode_79 : decode cJ7_vectorizedHashCode 79 = .ok (.checkcast 69, 3) := dk_192 0 69 (dk_at dksJ7_vectorizedHashCode_3 13 rfl rfl)
theorem dJ7_vectorizedHashCode_82 : decode cJ7_vectorizedHashCode 82 = .ok (.iload_n 1, 1) := dk_27 (dk_at dksJ7_vectorizedHashCode_3 16 rfl rfl)
theorem dJ7_vectorizedHashCode_83 : decode cJ7_vectorizedHashCode 83 = .ok (.iload_n 2, 1) := dk_28 (dk_at dksJ7_vectorizedHashCode_3 17 rfl rfl)
theorem dJ7_vectorizedHashCode_84 : decode cJ7_vectorizedHashCode 84 = .ok (.invokestatic 71, 3) := dk_184 0 71 (dk_at dksJ7_vectorizedHashCode_3 18 rfl rfl)
theorem dJ7_vectorizedHashCode_87 : decode cJ7_vectorizedHashCode 87 = .ok (.goto 70, 3) := dk_167 0 70 (dk_at dksJ7_vectorizedHashCode_3 21 rfl rfl)
theorem dJ7_vectorizedHashCode_90 : decode cJ7_vectorizedHashCode 90 = .ok (.iload_n 3, 1) := dk_29 (dk_at dksJ7_vectorizedHashCode_4 0 rfl rfl)
theorem dJ7_vectorizedHashCode_91 : decode cJ7_vectorizedHashCode 91 = .ok (.aload_n 0, 1) := dk_42 (dk_at dksJ7_vectorizedHashCode_4 1 rfl rfl)
theorem dJ7_vectorizedHashCode_92 : decode cJ7_vectorizedHashCode 92 = .ok (.checkcast 60, 3) := dk_192 0 60 (dk_at dksJ7_vectorizedHashCode_4 2 rfl rfl)
theorem dJ7_vectorizedHashCode_95 : decode cJ7_vectorizedHashCode 95 = .ok (.iload_n 1, 1) := dk_27 (dk_at dksJ7_vectorizedHashCode_4 5 rfl rfl)
theorem dJ7_vectorizedHashCode_96 : decode cJ7_vectorizedHashCode 96 = .ok (.iload_n 2, 1) := dk_28 (dk_at dksJ7_vectorizedHashCode_4 6 rfl rfl)
theorem dJ7_vectorizedHashCode_97 : decode cJ7_vectorizedHashCode 97 = .ok (.invokestatic 75, 3) := dk_184 0 75 (dk_at dksJ7_vectorizedHashCode_4 7 rfl rfl)
theorem dJ7_vectorizedHashCode_100 : decode cJ7_vectorizedHashCode 100 = .ok (.goto 57, 3) := dk_167 0 57 (dk_at dksJ7_vectorizedHashCode_4 10 rfl rfl)
theorem dJ7_vectorizedHashCode_103 : decode cJ7_vectorizedHashCode 103 = .ok (.iload_n 3, 1) := dk_29 (dk_at dksJ7_vectorizedHashCode_4 13 rfl rfl)
theorem dJ7_vectorizedHashCode_104 : decode cJ7_vectorizedHashCode 104 = .ok (.aload_n 0, 1) := dk_42 (dk_at dksJ7_vectorizedHashCode_4 14 rfl rfl)
theorem dJ7_vectorizedHashCode_105 : decode cJ7_vectorizedHashCode 105 = .ok (.checkcast 77, 3) := dk_192 0 77 (dk_at dksJ7_vectorizedHashCode_4 15 rfl rfl)
theorem dJ7_vectorizedHashCode_108 : decode cJ7_vectorizedHashCode 108 = .ok (.iload_n 1, 1) := dk_27 (dk_at dksJ7_vectorizedHashCode_4 18 rfl rfl)
theorem dJ7_vectorizedHashCode_109 : decode cJ7_vectorizedHashCode 109 = .ok (.iload_n 2, 1) := dk_28 (dk_at dksJ7_vectorizedHashCode_4 19 rfl rfl)
theorem dJ7_vectorizedHashCode_110 : decode cJ7_vectorizedHashCode 110 = .ok (.invokestatic 79, 3) := dk_184 0 79 (dk_at dksJ7_vectorizedHashCode_4 20 rfl rfl)
theorem dJ7_vectorizedHashCode_113 : decode cJ7_vectorizedHashCode 113 = .ok (.goto 44, 3) := dk_167 0 44 (dk_at dksJ7_vectorizedHashCode_5 0 rfl rfl)
theorem dJ7_vectorizedHashCode_116 : decode cJ7_vectorizedHashCode 116 = .ok (.iload_n 3, 1) := dk_29 (dk_at dksJ7_vectorizedHashCode_5 3 rfl rfl)
theorem dJ7_vectorizedHashCode_117 : decode cJ7_vectorizedHashCode 117 = .ok (.aload_n 0, 1) := dk_42 (dk_at dksJ7_vectorizedHashCode_5 4 rfl rfl)
theorem dJ7_vectorizedHashCode_118 : decode cJ7_vectorizedHashCode 118 = .ok (.checkcast 82, 3) := dk_192 0 82 (dk_at dksJ7_vectorizedHashCode_5 5 rfl rfl)
theorem dJ7_vectorizedHashCode_121 : decode cJ7_vectorizedHashCode 121 = .ok (.iload_n 1, 1) := dk_27 (dk_at dksJ7_vectorizedHashCode_5 8 rfl rfl)
theorem dJ7_vectorizedHashCode_122 : decode cJ7_vectorizedHashCode 122 = .ok (.iload_n 2, 1) := dk_28 (dk_at dksJ7_vectorizedHashCode_5 9 rfl rfl)
theorem dJ7_vectorizedHashCode_123 : decode cJ7_vectorizedHashCode 123 = .ok (.invokestatic 84, 3) := dk_184 0 84 (dk_at dksJ7_vectorizedHashCode_5 10 rfl rfl)
theorem dJ7_vectorizedHashCode_126 : decode cJ7_vectorizedHashCode 126 = .ok (.goto 31, 3) := dk_167 0 31 (dk_at dksJ7_vectorizedHashCode_5 13 rfl rfl)
theorem dJ7_vectorizedHashCode_129 : decode cJ7_vectorizedHashCode 129 = .ok (.new 87, 3) := dk_187 0 87 (dk_at dksJ7_vectorizedHashCode_5 16 rfl rfl)
theorem dJ7_vectorizedHashCode_132 : decode cJ7_vectorizedHashCode 132 = .ok (.dup, 1) := dk_89 (dk_at dksJ7_vectorizedHashCode_5 19 rfl rfl)
theorem dJ7_vectorizedHashCode_133 : decode cJ7_vectorizedHashCode 133 = .ok (.new 89, 3) := dk_187 0 89 (dk_at dksJ7_vectorizedHashCode_5 20 rfl rfl)
theorem dJ7_vectorizedHashCode_136 : decode cJ7_vectorizedHashCode 136 = .ok (.dup, 1) := dk_89 (dk_at dksJ7_vectorizedHashCode_5 23 rfl rfl)
theorem dJ7_vectorizedHashCode_137 : decode cJ7_vectorizedHashCode 137 = .ok (.invokespecial 91, 3) := dk_183 0 91 (dk_at dksJ7_vectorizedHashCode_6 0 rfl rfl)
theorem dJ7_vectorizedHashCode_140 : decode cJ7_vectorizedHashCode 140 = .ok (.ldc 92, 2) := dk_18 92 (dk_at dksJ7_vectorizedHashCode_6 3 rfl rfl)
theorem dJ7_vectorizedHashCode_142 : decode cJ7_vectorizedHashCode 142 = .ok (.invokevirtual 94, 3) := dk_182 0 94 (dk_at dksJ7_vectorizedHashCode_6 5 rfl rfl)
theorem dJ7_vectorizedHashCode_145 : decode cJ7_vectorizedHashCode 145 = .ok (.iload 4, 2) := dk_21 4 (dk_at dksJ7_vectorizedHashCode_6 8 rfl rfl)
theorem dJ7_vectorizedHashCode_147 : decode cJ7_vectorizedHashCode 147 = .ok (.invokevirtual 98, 3) := dk_182 0 98 (dk_at dksJ7_vectorizedHashCode_6 10 rfl rfl)
theorem dJ7_vectorizedHashCode_150 : decode cJ7_vectorizedHashCode 150 = .ok (.invokevirtual 101, 3) := dk_182 0 101 (dk_at dksJ7_vectorizedHashCode_6 13 rfl rfl)
theorem dJ7_vectorizedHashCode_153 : decode cJ7_vectorizedHashCode 153 = .ok (.invokespecial 105, 3) := dk_183 0 105 (dk_at dksJ7_vectorizedHashCode_6 16 rfl rfl)
theorem dJ7_vectorizedHashCode_156 : decode cJ7_vectorizedHashCode 156 = .ok (.athrow, 1) := dk_191 (dk_at dksJ7_vectorizedHashCode_6 19 rfl rfl)
theorem dJ7_vectorizedHashCode_157 : decode cJ7_vectorizedHashCode 157 = .ok (.ireturn, 1) := dk_172 (dk_at dksJ7_vectorizedHashCode_6 20 rfl rfl)
abbrev cJ7_signedHashCode : ByteArray := prog_64_method_5_code
def yJ7_signedHashCode : MethodName := ⟨RJ7, "signedHashCode", "(I[BII)I"⟩
def dkwJ7_signedHashCode_1 : List UInt8 := [17, 0, 255, 126, 96, 59, 132, 5, 1, 167, 255, 232, 26, 172]
abbrev dktJ7_signedHashCode_1 : List UInt8 := dkwJ7_signedHashCode_1 ++ []
def dkwJ7_signedHashCode_0 : List UInt8 := [28, 29, 96, 54, 4, 28, 54, 5, 21, 5, 21, 4, 162, 0, 23, 16, 31, 26, 104, 43, 21, 5, 51]
abbrev dktJ7_signedHashCode_0 : List UInt8 := dkwJ7_signedHashCode_0 ++ dktJ7_signedHashCode_1
theorem dksJ7_signedHashCode_0 : cJ7_signedHashCode.data.toList.drop 0 = dktJ7_signedHashCode_0 := by decide +kernel
theorem dksJ7_signedHashCode_1 : cJ7_signedHashCode.data.toList.drop 23 = dktJ7_signedHashCode_1 := dk_seg dksJ7_signedHashCode_0 23 rfl rfl
theorem dJ7_signedHashCode_0 : decode cJ7_signedHashCode 0 = .ok (.iload_n 2, 1) := dk_28 (dk_at dksJ7_signedHashCode_0 0 rfl rfl)
theorem dJ7_signedHashCode_1 : decode cJ7_signedHashCode 1 = .ok (.iload_n 3, 1) := dk_29 (dk_at dksJ7_signedHashCode_0 1 rfl rfl)
theorem dJ7_signedHashCode_2 : decode cJ7_signedHashCode 2 = .ok (.iadd, 1) := dk_96 (dk_at dksJ7_signedHashCode_0 2 rfl rfl)
theorem dJ7_signedHashCode_3 : decode cJ7_signedHashCode 3 = .ok (.istore 4, 2) := dk_54 4 (dk_at dksJ7_signedHashCode_0 3 rfl rfl)
theorem dJ7_signedHashCode_5 : decode cJ7_signedHashCode 5 = .ok (.iload_n 2, 1) := dk_28 (dk_at dksJ7_signedHashCode_0 5 rfl rfl)
theorem dJ7_signedHashCode_6 : decode cJ7_signedHashCode 6 = .ok (.istore 5, 2) := dk_54 5 (dk_at dksJ7_signedHashCode_0 6 rfl rfl)
theorem dJ7_signedHashCode_8 : decode cJ7_signedHashCode 8 = .ok (.iload 5, 2) := dk_21 5 (dk_at dksJ7_signedHashCode_0 8 rfl rfl)
theorem dJ7_signedHashCode_10 : decode cJ7_signedHashCode 10 = .ok (.iload 4, 2) := dk_21 4 (dk_at dksJ7_signedHashCode_0 10 rfl rfl)
theorem dJ7_signedHashCode_12 : decode cJ7_signedHashCode 12 = .ok (.if_icmp .ge 23, 3) := dk_162 0 23 (dk_at dksJ7_signedHashCode_0 12 rfl rfl)
theorem dJ7_signedHashCode_15 : decode cJ7_signedHashCode 15 = .ok (.bipush 31, 2) := dk_16 31 (dk_at dksJ7_signedHashCode_0 15 rfl rfl)
theorem dJ7_signedHashCode_17 : decode cJ7_signedHashCode 17 = .ok (.iload_n 0, 1) := dk_26 (dk_at dksJ7_signedHashCode_0 17 rfl rfl)
theorem dJ7_signedHashCode_18 : decode cJ7_signedHashCode 18 = .ok (.imul, 1) := dk_104 (dk_at dksJ7_signedHashCode_0 18 rfl rfl)
theorem dJ7_signedHashCode_19 : decode cJ7_signedHashCode 19 = .ok (.aload_n 1, 1) := dk_43 (dk_at dksJ7_signedHashCode_0 19 rfl rfl)
theorem dJ7_signedHashCode_20 : decode cJ7_signedHashCode 20 = .ok (.iload 5, 2) := dk_21 5 (dk_at dksJ7_signedHashCode_0 20 rfl rfl)
theorem dJ7_signedHashCode_22 : decode cJ7_signedHashCode 22 = .ok (.baload, 1) := dk_51 (dk_at dksJ7_signedHashCode_0 22 rfl rfl)
theorem dJ7_signedHashCode_23 : decode cJ7_signedHashCode 23 = .ok (.sipush 255, 3) := dk_17 0 255 (dk_at dksJ7_signedHashCode_1 0 rfl rfl)
theorem dJ7_signedHashCode_26 : decode cJ7_signedHashCode 26 = .ok (.iand, 1) := dk_126 (dk_at dksJ7_signedHashCode_1 3 rfl rfl)
theorem dJ7_signedHashCode_27 : decode cJ7_signedHashCode 27 = .ok (.iadd, 1) := dk_96 (dk_at dksJ7_signedHashCode_1 4 rfl rfl)
theorem dJ7_signedHashCode_28 : decode cJ7_signedHashCode 28 = .ok (.istore_n 0, 1) := dk_59 (dk_at dksJ7_signedHashCode_1 5 rfl rfl)
theorem dJ7_signedHashCode_29 : decode cJ7_signedHashCode 29 = .ok (.iinc 5 1, 3) := dk_132 5 1 (dk_at dksJ7_signedHashCode_1 6 rfl rfl)
theorem dJ7_signedHashCode_32 : decode cJ7_signedHashCode 32 = .ok (.goto (-24), 3) := dk_167 255 232 (dk_at dksJ7_signedHashCode_1 9 rfl rfl)
theorem dJ7_signedHashCode_35 : decode cJ7_signedHashCode 35 = .ok (.iload_n 0, 1) := dk_26 (dk_at dksJ7_signedHashCode_1 12 rfl rfl)
theorem dJ7_signedHashCode_36 : decode cJ7_signedHashCode 36 = .ok (.ireturn, 1) := dk_172 (dk_at dksJ7_signedHashCode_1 13 rfl rfl)
abbrev cJ7_utf16hashCode : ByteArray := prog_64_method_10_code
def yJ7_utf16hashCode : MethodName := ⟨RJ7, "utf16hashCode", "(I[BII)I"⟩
def dkwJ7_utf16hashCode_1 : List UInt8 := [21, 5, 185, 0, 110, 3, 0, 96, 59, 132, 5, 1, 167, 255, 229, 26, 172]
abbrev dktJ7_utf16hashCode_1 : List UInt8 := dkwJ7_utf16hashCode_1 ++ []
def dkwJ7_utf16hashCode_0 : List UInt8 := [28, 29, 96, 54, 4, 28, 54, 5, 21, 5, 21, 4, 162, 0, 26, 16, 31, 26, 104, 178, 0, 106, 43]
abbrev dktJ7_utf16hashCode_0 : List UInt8 := dkwJ7_utf16hashCode_0 ++ dktJ7_utf16hashCode_1
theorem dksJ7_utf16hashCode_0 : cJ7_utf16hashCode.data.toList.drop 0 = dktJ7_utf16hashCode_0 := by decide +kernel
theorem dksJ7_utf16hashCode_1 : cJ7_utf16hashCode.data.toList.drop 23 = dktJ7_utf16hashCode_1 := dk_seg dksJ7_utf16hashCode_0 23 rfl rfl
theorem dJ7_utf16hashCode_0 : decode cJ7_utf16hashCode 0 = .ok (.iload_n 2, 1) := dk_28 (dk_at dksJ7_utf16hashCode_0 0 rfl rfl)
theorem dJ7_utf16hashCode_1 : decode cJ7_utf16hashCode 1 = .ok (.iload_n 3, 1) := dk_29 (dk_at dksJ7_utf16hashCode_0 1 rfl rfl)
theorem dJ7_utf16hashCode_2 : decode cJ7_utf16hashCode 2 = .ok (.iadd, 1) := dk_96 (dk_at dksJ7_utf16hashCode_0 2 rfl rfl)
theorem dJ7_utf16hashCode_3 : decode cJ7_utf16hashCode 3 = .ok (.istore 4, 2) := dk_54 4 (dk_at dksJ7_utf16hashCode_0 3 rfl rfl)
theorem dJ7_utf16hashCode_5 : decode cJ7_utf16hashCode 5 = .ok (.iload_n 2, 1) := dk_28 (dk_at dksJ7_utf16hashCode_0 5 rfl rfl)
theorem dJ7_utf16hashCode_6 : decode cJ7_utf16hashCode 6 = .ok (.istore 5, 2) := dk_54 5 (dk_at dksJ7_utf16hashCode_0 6 rfl rfl)
theorem dJ7_utf16hashCode_8 : decode cJ7_utf16hashCode 8 = .ok (.iload 5, 2) := dk_21 5 (dk_at dksJ7_utf16hashCode_0 8 rfl rfl)
theorem dJ7_utf16hashCode_10 : decode cJ7_utf16hashCode 10 = .ok (.iload 4, 2) := dk_21 4 (dk_at dksJ7_utf16hashCode_0 10 rfl rfl)
theorem dJ7_utf16hashCode_12 : decode cJ7_utf16hashCode 12 = .ok (.if_icmp .ge 26, 3) := dk_162 0 26 (dk_at dksJ7_utf16hashCode_0 12 rfl rfl)
theorem dJ7_utf16hashCode_15 : decode cJ7_utf16hashCode 15 = .ok (.bipush 31, 2) := dk_16 31 (dk_at dksJ7_utf16hashCode_0 15 rfl rfl)
theorem dJ7_utf16hashCode_17 : decode cJ7_utf16hashCode 17 = .ok (.iload_n 0, 1) := dk_26 (dk_at dksJ7_utf16hashCode_0 17 rfl rfl)
theorem dJ7_utf16hashCode_18 : decode cJ7_utf16hashCode 18 = .ok (.imul, 1) := dk_104 (dk_at dksJ7_utf16hashCode_0 18 rfl rfl)
theorem dJ7_utf16hashCode_19 : decode cJ7_utf16hashCode 19 = .ok (.getstatic 106, 3) := dk_178 0 106 (dk_at dksJ7_utf16hashCode_0 19 rfl rfl)
theorem dJ7_utf16hashCode_22 : decode cJ7_utf16hashCode 22 = .ok (.aload_n 1, 1) := dk_43 (dk_at dksJ7_utf16hashCode_0 22 rfl rfl)
theorem dJ7_utf16hashCode_23 : decode cJ7_utf16hashCode 23 = .ok (.iload 5, 2) := dk_21 5 (dk_at dksJ7_utf16hashCode_1 0 rfl rfl)
theorem dJ7_utf16hashCode_25 : decode cJ7_utf16hashCode 25 = .ok (.invokeinterface 110 3, 5) := by decide +kernel
theorem dJ7_utf16hashCode_30 : decode cJ7_utf16hashCode 30 = .ok (.iadd, 1) := dk_96 (dk_at dksJ7_utf16hashCode_1 7 rfl rfl)
theorem dJ7_utf16hashCode_31 : decode cJ7_utf16hashCode 31 = .ok (.istore_n 0, 1) := dk_59 (dk_at dksJ7_utf16hashCode_1 8 rfl rfl)
theorem dJ7_utf16hashCode_32 : decode cJ7_utf16hashCode 32 = .ok (.iinc 5 1, 3) := dk_132 5 1 (dk_at dksJ7_utf16hashCode_1 9 rfl rfl)
theorem dJ7_utf16hashCode_35 : decode cJ7_utf16hashCode 35 = .ok (.goto (-27), 3) := dk_167 255 229 (dk_at dksJ7_utf16hashCode_1 12 rfl rfl)
theorem dJ7_utf16hashCode_38 : decode cJ7_utf16hashCode 38 = .ok (.iload_n 0, 1) := dk_26 (dk_at dksJ7_utf16hashCode_1 15 rfl rfl)
theorem dJ7_utf16hashCode_39 : decode cJ7_utf16hashCode 39 = .ok (.ireturn, 1) := dk_172 (dk_at dksJ7_utf16hashCode_1 16 rfl rfl)
abbrev cJ7_hashCode : ByteArray := prog_64_method_7_code
def yJ7_hashCode : MethodName := ⟨RJ7, "hashCode", "(I[CII)I"⟩
def dkwJ7_hashCode_1 : List UInt8 := [59, 132, 5, 1, 167, 255, 236, 26, 172]
abbrev dktJ7_hashCode_1 : List UInt8 := dkwJ7_hashCode_1 ++ []
def dkwJ7_hashCode_0 : List UInt8 := [28, 29, 96, 54, 4, 28, 54, 5, 21, 5, 21, 4, 162, 0, 19, 16, 31, 26, 104, 43, 21, 5, 52, 96]
abbrev dktJ7_hashCode_0 : List UInt8 := dkwJ7_hashCode_0 ++ dktJ7_hashCode_1
theorem dksJ7_hashCode_0 : cJ7_hashCode.data.toList.drop 0 = dktJ7_hashCode_0 := by decide +kernel
theorem dksJ7_hashCode_1 : cJ7_hashCode.data.toList.drop 24 = dktJ7_hashCode_1 := dk_seg dksJ7_hashCode_0 24 rfl rfl
theorem dJ7_hashCode_0 : decode cJ7_hashCode 0 = .ok (.iload_n 2, 1) := dk_28 (dk_at dksJ7_hashCode_0 0 rfl rfl)
theorem dJ7_hashCode_1 : decode cJ7_hashCode 1 = .ok (.iload_n 3, 1) := dk_29 (dk_at dksJ7_hashCode_0 1 rfl rfl)
theorem dJ7_hashCode_2 : decode cJ7_hashCode 2 = .ok (.iadd, 1) := dk_96 (dk_at dksJ7_hashCode_0 2 rfl rfl)
theorem dJ7_hashCode_3 : decode cJ7_hashCode 3 = .ok (.istore 4, 2) := dk_54 4 (dk_at dksJ7_hashCode_0 3 rfl rfl)
theorem dJ7_hashCode_5 : decode cJ7_hashCode 5 = .ok (.iload_n 2, 1) := dk_28 (dk_at dksJ7_hashCode_0 5 rfl rfl)
theorem dJ7_hashCode_6 : decode cJ7_hashCode 6 = .ok (.istore 5, 2) := dk_54 5 (dk_at dksJ7_hashCode_0 6 rfl rfl)
theorem dJ7_hashCode_8 : decode cJ7_hashCode 8 = .ok (.iload 5, 2) := dk_21 5 (dk_at dksJ7_hashCode_0 8 rfl rfl)
theorem dJ7_hashCode_10 : decode cJ7_hashCode 10 = .ok (.iload 4, 2) := dk_21 4 (dk_at dksJ7_hashCode_0 10 rfl rfl)
theorem dJ7_hashCode_12 : decode cJ7_hashCode 12 = .ok (.if_icmp .ge 19, 3) := dk_162 0 19 (dk_at dksJ7_hashCode_0 12 rfl rfl)
theorem dJ7_hashCode_15 : decode cJ7_hashCode 15 = .ok (.bipush 31, 2) := dk_16 31 (dk_at dksJ7_hashCode_0 15 rfl rfl)
theorem dJ7_hashCode_17 : decode cJ7_hashCode 17 = .ok (.iload_n 0, 1) := dk_26 (dk_at dksJ7_hashCode_0 17 rfl rfl)
theorem dJ7_hashCode_18 : decode cJ7_hashCode 18 = .ok (.imul, 1) := dk_104 (dk_at dksJ7_hashCode_0 18 rfl rfl)
theorem dJ7_hashCode_19 : decode cJ7_hashCode 19 = .ok (.aload_n 1, 1) := dk_43 (dk_at dksJ7_hashCode_0 19 rfl rfl)
theorem dJ7_hashCode_20 : decode cJ7_hashCode 20 = .ok (.iload 5, 2) := dk_21 5 (dk_at dksJ7_hashCode_0 20 rfl rfl)
theorem dJ7_hashCode_22 : decode cJ7_hashCode 22 = .ok (.caload, 1) := dk_52 (dk_at dksJ7_hashCode_0 22 rfl rfl)
theorem dJ7_hashCode_23 : decode cJ7_hashCode 23 = .ok (.iadd, 1) := dk_96 (dk_at dksJ7_hashCode_0 23 rfl rfl)
theorem dJ7_hashCode_24 : decode cJ7_hashCode 24 = .ok (.istore_n 0, 1) := dk_59 (dk_at dksJ7_hashCode_1 0 rfl rfl)
theorem dJ7_hashCode_25 : decode cJ7_hashCode 25 = .ok (.iinc 5 1, 3) := dk_132 5 1 (dk_at dksJ7_hashCode_1 1 rfl rfl)
theorem dJ7_hashCode_28 : decode cJ7_hashCode 28 = .ok (.goto (-20), 3) := dk_167 255 236 (dk_at dksJ7_hashCode_1 4 rfl rfl)
theorem dJ7_hashCode_31 : decode cJ7_hashCode 31 = .ok (.iload_n 0, 1) := dk_26 (dk_at dksJ7_hashCode_1 7 rfl rfl)
theorem dJ7_hashCode_32 : decode cJ7_hashCode 32 = .ok (.ireturn, 1) := dk_172 (dk_at dksJ7_hashCode_1 8 rfl rfl)
abbrev cJ7_hashCode_2 : ByteArray := prog_64_method_6_code
def yJ7_hashCode_2 : MethodName := ⟨RJ7, "hashCode", "(I[BII)I"⟩
def dkwJ7_hashCode_2_1 : List UInt8 := [59, 132, 5, 1, 167, 255, 236, 26, 172]
abbrev dktJ7_hashCode_2_1 : List UInt8 := dkwJ7_hashCode_2_1 ++ []
def dkwJ7_hashCode_2_0 : List UInt8 := [28, 29, 96, 54, 4, 28, 54, 5, 21, 5, 21, 4, 162, 0, 19, 16, 31, 26, 104, 43, 21, 5, 51, 96]
abbrev dktJ7_hashCode_2_0 : List UInt8 := dkwJ7_hashCode_2_0 ++ dktJ7_hashCode_2_1
theorem dksJ7_hashCode_2_0 : cJ7_hashCode_2.data.toList.drop 0 = dktJ7_hashCode_2_0 := by decide +kernel
theorem dksJ7_hashCode_2_1 : cJ7_hashCode_2.data.toList.drop 24 = dktJ7_hashCode_2_1 := dk_seg dksJ7_hashCode_2_0 24 rfl rfl
theorem dJ7_hashCode_2_0 : decode cJ7_hashCode_2 0 = .ok (.iload_n 2, 1) := dk_28 (dk_at dksJ7_hashCode_2_0 0 rfl rfl)
theorem dJ7_hashCode_2_1 : decode cJ7_hashCode_2 1 = .ok (.iload_n 3, 1) := dk_29 (dk_at dksJ7_hashCode_2_0 1 rfl rfl)
theorem dJ7_hashCode_2_2 : decode cJ7_hashCode_2 2 = .ok (.iadd, 1) := dk_96 (dk_at dksJ7_hashCode_2_0 2 rfl rfl)
theorem dJ7_hashCode_2_3 : decode cJ7_hashCode_2 3 = .ok (.istore 4, 2) := dk_54 4 (dk_at dksJ7_hashCode_2_0 3 rfl rfl)
theorem dJ7_hashCode_2_5 : decode cJ7_hashCode_2 5 = .ok (.iload_n 2, 1) := dk_28 (dk_at dksJ7_hashCode_2_0 5 rfl rfl)
theorem dJ7_hashCode_2_6 : decode cJ7_hashCode_2 6 = .ok (.istore 5, 2) := dk_54 5 (dk_at dksJ7_hashCode_2_0 6 rfl rfl)
theorem dJ7_hashCode_2_8 : decode cJ7_hashCode_2 8 = .ok (.iload 5, 2) := dk_21 5 (dk_at dksJ7_hashCode_2_0 8 rfl rfl)
theorem dJ7_hashCode_2_10 : decode cJ7_hashCode_2 10 = .ok (.iload 4, 2) := dk_21 4 (dk_at dksJ7_hashCode_2_0 10 rfl rfl)
theorem dJ7_hashCode_2_12 : decode cJ7_hashCode_2 12 = .ok (.if_icmp .ge 19, 3) := dk_162 0 19 (dk_at dksJ7_hashCode_2_0 12 rfl rfl)
theorem dJ7_hashCode_2_15 : decode cJ7_hashCode_2 15 = .ok (.bipush 31, 2) := dk_16 31 (dk_at dksJ7_hashCode_2_0 15 rfl rfl)
theorem dJ7_hashCode_2_17 : decode cJ7_hashCode_2 17 = .ok (.iload_n 0, 1) := dk_26 (dk_at dksJ7_hashCode_2_0 17 rfl rfl)
theorem dJ7_hashCode_2_18 : decode cJ7_hashCode_2 18 = .ok (.imul, 1) := dk_104 (dk_at dksJ7_hashCode_2_0 18 rfl rfl)
theorem dJ7_hashCode_2_19 : decode cJ7_hashCode_2 19 = .ok (.aload_n 1, 1) := dk_43 (dk_at dksJ7_hashCode_2_0 19 rfl rfl)
theorem dJ7_hashCode_2_20 : decode cJ7_hashCode_2 20 = .ok (.iload 5, 2) := dk_21 5 (dk_at dksJ7_hashCode_2_0 20 rfl rfl)
theorem dJ7_hashCode_2_22 : decode cJ7_hashCode_2 22 = .ok (.baload, 1) := dk_51 (dk_at dksJ7_hashCode_2_0 22 rfl rfl)
theorem dJ7_hashCode_2_23 : decode cJ7_hashCode_2 23 = .ok (.iadd, 1) := dk_96 (dk_at dksJ7_hashCode_2_0 23 rfl rfl)
theorem dJ7_hashCode_2_24 : decode cJ7_hashCode_2 24 = .ok (.istore_n 0, 1) := dk_59 (dk_at dksJ7_hashCode_2_1 0 rfl rfl)
theorem dJ7_hashCode_2_25 : decode cJ7_hashCode_2 25 = .ok (.iinc 5 1, 3) := dk_132 5 1 (dk_at dksJ7_hashCode_2_1 1 rfl rfl)
theorem dJ7_hashCode_2_28 : decode cJ7_hashCode_2 28 = .ok (.goto (-20), 3) := dk_167 255 236 (dk_at dksJ7_hashCode_2_1 4 rfl rfl)
theorem dJ7_hashCode_2_31 : decode cJ7_hashCode_2 31 = .ok (.iload_n 0, 1) := dk_26 (dk_at dksJ7_hashCode_2_1 7 rfl rfl)
theorem dJ7_hashCode_2_32 : decode cJ7_hashCode_2 32 = .ok (.ireturn, 1) := dk_172 (dk_at dksJ7_hashCode_2_1 8 rfl rfl)
abbrev cJ7_hashCode_3 : ByteArray := prog_64_method_8_code
def yJ7_hashCode_3 : MethodName := ⟨RJ7, "hashCode", "(I[SII)I"⟩
def dkwJ7_hashCode_3_1 : List UInt8 := [59, 132, 5, 1, 167, 255, 236, 26, 172]
abbrev dktJ7_hashCode_3_1 : List UInt8 := dkwJ7_hashCode_3_1 ++ []
def dkwJ7_hashCode_3_0 : List UInt8 := [28, 29, 96, 54, 4, 28, 54, 5, 21, 5, 21, 4, 162, 0, 19, 16, 31, 26, 104, 43, 21, 5, 53, 96]
abbrev dktJ7_hashCode_3_0 : List UInt8 := dkwJ7_hashCode_3_0 ++ dktJ7_hashCode_3_1
theorem dksJ7_hashCode_3_0 : cJ7_hashCode_3.data.toList.drop 0 = dktJ7_hashCode_3_0 := by decide +kernel
theorem dksJ7_hashCode_3_1 : cJ7_hashCode_3.data.toList.drop 24 = dktJ7_hashCode_3_1 := dk_seg dksJ7_hashCode_3_0 24 rfl rfl
theorem dJ7_hashCode_3_0 : decode cJ7_hashCode_3 0 = .ok (.iload_n 2, 1) := dk_28 (dk_at dksJ7_hashCode_3_0 0 rfl rfl)
theorem dJ7_hashCode_3_1 : decode cJ7_hashCode_3 1 = .ok (.iload_n 3, 1) := dk_29 (dk_at dksJ7_hashCode_3_0 1 rfl rfl)
theorem dJ7_hashCode_3_2 : decode cJ7_hashCode_3 2 = .ok (.iadd, 1) := dk_96 (dk_at dksJ7_hashCode_3_0 2 rfl rfl)
theorem dJ7_hashCode_3_3 : decode cJ7_hashCode_3 3 = .ok (.istore 4, 2) := dk_54 4 (dk_at dksJ7_hashCode_3_0 3 rfl rfl)
theorem dJ7_hashCode_3_5 : decode cJ7_hashCode_3 5 = .ok (.iload_n 2, 1) := dk_28 (dk_at dksJ7_hashCode_3_0 5 rfl rfl)
theorem dJ7_hashCode_3_6 : decode cJ7_hashCode_3 6 = .ok (.istore 5, 2) := dk_54 5 (dk_at dksJ7_hashCode_3_0 6 rfl rfl)
theorem dJ7_hashCode_3_8 : decode cJ7_hashCode_3 8 = .ok (.iload 5, 2) := dk_21 5 (dk_at dksJ7_hashCode_3_0 8 rfl rfl)
theorem dJ7_hashCode_3_10 : decode cJ7_hashCode_3 10 = .ok (.iload 4, 2) := dk_21 4 (dk_at dksJ7_hashCode_3_0 10 rfl rfl)
theorem dJ7_hashCode_3_12 : decode cJ7_hashCode_3 12 = .ok (.if_icmp .ge 19, 3) := dk_162 0 19 (dk_at dksJ7_hashCode_3_0 12 rfl rfl)
theorem dJ7_hashCode_3_15 : decode cJ7_hashCode_3 15 = .ok (.bipush 31, 2) := dk_16 31 (dk_at dksJ7_hashCode_3_0 15 rfl rfl)
theorem dJ7_hashCode_3_17 : decode cJ7_hashCode_3 17 = .ok (.iload_n 0, 1) := dk_26 (dk_at dksJ7_hashCode_3_0 17 rfl rfl)
theorem dJ7_hashCode_3_18 : decode cJ7_hashCode_3 18 = .ok (.imul, 1) := dk_104 (dk_at dksJ7_hashCode_3_0 18 rfl rfl)
theorem dJ7_hashCode_3_19 : decode cJ7_hashCode_3 19 = .ok (.aload_n 1, 1) := dk_43 (dk_at dksJ7_hashCode_3_0 19 rfl rfl)
theorem dJ7_hashCode_3_20 : decode cJ7_hashCode_3 20 = .ok (.iload 5, 2) := dk_21 5 (dk_at dksJ7_hashCode_3_0 20 rfl rfl)
theorem dJ7_hashCode_3_22 : decode cJ7_hashCode_3 22 = .ok (.saload, 1) := dk_53 (dk_at dksJ7_hashCode_3_0 22 rfl rfl)
theorem dJ7_hashCode_3_23 : decode cJ7_hashCode_3 23 = .ok (.iadd, 1) := dk_96 (dk_at dksJ7_hashCode_3_0 23 rfl rfl)
theorem dJ7_hashCode_3_24 : decode cJ7_hashCode_3 24 = .ok (.istore_n 0, 1) := dk_59 (dk_at dksJ7_hashCode_3_1 0 rfl rfl)
theorem dJ7_hashCode_3_25 : decode cJ7_hashCode_3 25 = .ok (.iinc 5 1, 3) := dk_132 5 1 (dk_at dksJ7_hashCode_3_1 1 rfl rfl)
theorem dJ7_hashCode_3_28 : decode cJ7_hashCode_3 28 = .ok (.goto (-20), 3) := dk_167 255 236 (dk_at dksJ7_hashCode_3_1 4 rfl rfl)
theorem dJ7_hashCode_3_31 : decode cJ7_hashCode_3 31 = .ok (.iload_n 0, 1) := dk_26 (dk_at dksJ7_hashCode_3_1 7 rfl rfl)
theorem dJ7_hashCode_3_32 : decode cJ7_hashCode_3 32 = .ok (.ireturn, 1) := dk_172 (dk_at dksJ7_hashCode_3_1 8 rfl rfl)
abbrev cJ7_hashCode_4 : ByteArray := prog_64_method_9_code
def yJ7_hashCode_4 : MethodName := ⟨RJ7, "hashCode", "(I[III)I"⟩
def dkwJ7_hashCode_4_1 : List UInt8 := [59, 132, 5, 1, 167, 255, 236, 26, 172]
abbrev dktJ7_hashCode_4_1 : List UInt8 := dkwJ7_hashCode_4_1 ++ []
def dkwJ7_hashCode_4_0 : List UInt8 := [28, 29, 96, 54, 4, 28, 54, 5, 21, 5, 21, 4, 162, 0, 19, 16, 31, 26, 104, 43, 21, 5, 46, 96]
abbrev dktJ7_hashCode_4_0 : List UInt8 := dkwJ7_hashCode_4_0 ++ dktJ7_hashCode_4_1
theorem dksJ7_hashCode_4_0 : cJ7_hashCode_4.data.toList.drop 0 = dktJ7_hashCode_4_0 := by decide +kernel
theorem dksJ7_hashCode_4_1 : cJ7_hashCode_4.data.toList.drop 24 = dktJ7_hashCode_4_1 := dk_seg dksJ7_hashCode_4_0 24 rfl rfl
theorem dJ7_hashCode_4_0 : decode cJ7_hashCode_4 0 = .ok (.iload_n 2, 1) := dk_28 (dk_at dksJ7_hashCode_4_0 0 rfl rfl)
theorem dJ7_hashCode_4_1 : decode cJ7_hashCode_4 1 = .ok (.iload_n 3, 1) := dk_29 (dk_at dksJ7_hashCode_4_0 1 rfl rfl)
theorem dJ7_hashCode_4_2 : decode cJ7_hashCode_4 2 = .ok (.iadd, 1) := dk_96 (dk_at dksJ7_hashCode_4_0 2 rfl rfl)
theorem dJ7_hashCode_4_3 : decode cJ7_hashCode_4 3 = .ok (.istore 4, 2) := dk_54 4 (dk_at dksJ7_hashCode_4_0 3 rfl rfl)
theorem dJ7_hashCode_4_5 : decode cJ7_hashCode_4 5 = .ok (.iload_n 2, 1) := dk_28 (dk_at dksJ7_hashCode_4_0 5 rfl rfl)
theorem dJ7_hashCode_4_6 : decode cJ7_hashCode_4 6 = .ok (.istore 5, 2) := dk_54 5 (dk_at dksJ7_hashCode_4_0 6 rfl rfl)
theorem dJ7_hashCode_4_8 : decode cJ7_hashCode_4 8 = .ok (.iload 5, 2) := dk_21 5 (dk_at dksJ7_hashCode_4_0 8 rfl rfl)
theorem dJ7_hashCode_4_10 : decode cJ7_hashCode_4 10 = .ok (.iload 4, 2) := dk_21 4 (dk_at dksJ7_hashCode_4_0 10 rfl rfl)
theorem dJ7_hashCode_4_12 : decode cJ7_hashCode_4 12 = .ok (.if_icmp .ge 19, 3) := dk_162 0 19 (dk_at dksJ7_hashCode_4_0 12 rfl rfl)
theorem dJ7_hashCode_4_15 : decode cJ7_hashCode_4 15 = .ok (.bipush 31, 2) := dk_16 31 (dk_at dksJ7_hashCode_4_0 15 rfl rfl)
theorem dJ7_hashCode_4_17 : decode cJ7_hashCode_4 17 = .ok (.iload_n 0, 1) := dk_26 (dk_at dksJ7_hashCode_4_0 17 rfl rfl)
theorem dJ7_hashCode_4_18 : decode cJ7_hashCode_4 18 = .ok (.imul, 1) := dk_104 (dk_at dksJ7_hashCode_4_0 18 rfl rfl)
theorem dJ7_hashCode_4_19 : decode cJ7_hashCode_4 19 = .ok (.aload_n 1, 1) := dk_43 (dk_at dksJ7_hashCode_4_0 19 rfl rfl)
theorem dJ7_hashCode_4_20 : decode cJ7_hashCode_4 20 = .ok (.iload 5, 2) := dk_21 5 (dk_at dksJ7_hashCode_4_0 20 rfl rfl)
theorem dJ7_hashCode_4_22 : decode cJ7_hashCode_4 22 = .ok (.iaload, 1) := dk_46 (dk_at dksJ7_hashCode_4_0 22 rfl rfl)
theorem dJ7_hashCode_4_23 : decode cJ7_hashCode_4 23 = .ok (.iadd, 1) := dk_96 (dk_at dksJ7_hashCode_4_0 23 rfl rfl)
theorem dJ7_hashCode_4_24 : decode cJ7_hashCode_4 24 = .ok (.istore_n 0, 1) := dk_59 (dk_at dksJ7_hashCode_4_1 0 rfl rfl)
theorem dJ7_hashCode_4_25 : decode cJ7_hashCode_4 25 = .ok (.iinc 5 1, 3) := dk_132 5 1 (dk_at dksJ7_hashCode_4_1 1 rfl rfl)
theorem dJ7_hashCode_4_28 : decode cJ7_hashCode_4 28 = .ok (.goto (-20), 3) := dk_167 255 236 (dk_at dksJ7_hashCode_4_1 4 rfl rfl)
theorem dJ7_hashCode_4_31 : decode cJ7_hashCode_4 31 = .ok (.iload_n 0, 1) := dk_26 (dk_at dksJ7_hashCode_4_1 7 rfl rfl)
theorem dJ7_hashCode_4_32 : decode cJ7_hashCode_4 32 = .ok (.ireturn, 1) := dk_172 (dk_at dksJ7_hashCode_4_1 8 rfl rfl)
abbrev cJ7_mismatch : ByteArray := prog_64_method_13_code
def yJ7_mismatch : MethodName := ⟨RJ7, "mismatch", "([B[BI)I"⟩
def dkwJ7_mismatch_3 : List UInt8 := [172]
abbrev dktJ7_mismatch_3 : List UInt8 := dkwJ7_mismatch_3 ++ []
def dkwJ7_mismatch_2 : List UInt8 := [62, 29, 28, 162, 0, 20, 42, 29, 51, 43, 29, 51, 159, 0, 5, 29, 172, 132, 3, 1, 167, 255, 237, 2]
abbrev dktJ7_mismatch_2 : List UInt8 := dkwJ7_mismatch_2 ++ dktJ7_mismatch_3
def dkwJ7_mismatch_1 : List UInt8 := [43, 178, 0, 126, 133, 28, 178, 0, 129, 184, 0, 122, 62, 29, 155, 0, 5, 29, 172, 28, 29, 2, 130, 100]
abbrev dktJ7_mismatch_1 : List UInt8 := dkwJ7_mismatch_1 ++ dktJ7_mismatch_2
def dkwJ7_mismatch_0 : List UInt8 := [3, 62, 28, 16, 7, 164, 0, 44, 42, 3, 51, 43, 3, 51, 159, 0, 5, 3, 172, 42, 178, 0, 126, 133]
abbrev dktJ7_mismatch_0 : List UInt8 := dkwJ7_mismatch_0 ++ dktJ7_mismatch_1
theorem dksJ7_mismatch_0 : cJ7_mismatch.data.toList.drop 0 = dktJ7_mismatch_0 := by decide +kernel
theorem dksJ7_mismatch_1 : cJ7_mismatch.data.toList.drop 24 = dktJ7_mismatch_1 := dk_seg dksJ7_mismatch_0 24 rfl rfl
theorem dksJ7_mismatch_2 : cJ7_mismatch.data.toList.drop 48 = dktJ7_mismatch_2 := dk_seg dksJ7_mismatch_1 24 rfl rfl
theorem dksJ7_mismatch_3 : cJ7_mismatch.data.toList.drop 72 = dktJ7_mismatch_3 := dk_seg dksJ7_mismatch_2 24 rfl rfl
theorem dJ7_mismatch_0 : decode cJ7_mismatch 0 = .ok (.iconst 0, 1) := dk_3 (dk_at dksJ7_mismatch_0 0 rfl rfl)
theorem dJ7_mismatch_1 : decode cJ7_mismatch 1 = .ok (.istore_n 3, 1) := dk_62 (dk_at dksJ7_mismatch_0 1 rfl rfl)
theorem dJ7_mismatch_2 : decode cJ7_mismatch 2 = .ok (.iload_n 2, 1) := dk_28 (dk_at dksJ7_mismatch_0 2 rfl rfl)
theorem dJ7_mismatch_3 : decode cJ7_mismatch 3 = .ok (.bipush 7, 2) := dk_16 7 (dk_at dksJ7_mismatch_0 3 rfl rfl)
theorem dJ7_mismatch_5 : decode cJ7_mismatch 5 = .ok (.if_icmp .le 44, 3) := dk_164 0 44 (dk_at dksJ7_mismatch_0 5 rfl rfl)
theorem dJ7_mismatch_8 : decode cJ7_mismatch 8 = .ok (.aload_n 0, 1) := dk_42 (dk_at dksJ7_mismatch_0 8 rfl rfl)
theorem dJ7_mismatch_9 : decode cJ7_mismatch 9 = .ok (.iconst 0, 1) := dk_3 (dk_at dksJ7_mismatch_0 9 rfl rfl)
theorem dJ7_mismatch_10 : decode cJ7_mismatch 10 = .ok (.baload, 1) := dk_51 (dk_at dksJ7_mismatch_0 10 rfl rfl)
theorem dJ7_mismatch_11 : decode cJ7_mismatch 11 = .ok (.aload_n 1, 1) := dk_43 (dk_at dksJ7_mismatch_0 11 rfl rfl)
theorem dJ7_mismatch_12 : decode cJ7_mismatch 12 = .ok (.iconst 0, 1) := dk_3 (dk_at dksJ7_mismatch_0 12 rfl rfl)
theorem dJ7_mismatch_13 : decode cJ7_mismatch 13 = .ok (.baload, 1) := dk_51 (dk_at dksJ7_mismatch_0 13 rfl rfl)
theorem dJ7_mismatch_14 : decode cJ7_mismatch 14 = .ok (.if_icmp .eq 5, 3) := dk_159 0 5 (dk_at dksJ7_mismatch_0 14 rfl rfl)
theorem dJ7_mismatch_17 : decode cJ7_mismatch 17 = .ok (.iconst 0, 1) := dk_3 (dk_at dksJ7_mismatch_0 17 rfl rfl)
theorem dJ7_mismatch_18 : decode cJ7_mismatch 18 = .ok (.ireturn, 1) := dk_172 (dk_at dksJ7_mismatch_0 18 rfl rfl)
theorem dJ7_mismatch_19 : decode cJ7_mismatch 19 = .ok (.aload_n 0, 1) := dk_42 (dk_at dksJ7_mismatch_0 19 rfl rfl)
theorem dJ7_mismatch_20 : decode cJ7_mismatch 20 = .ok (.getstatic 126, 3) := dk_178 0 126 (dk_at dksJ7_mismatch_0 20 rfl rfl)
theorem dJ7_mismatch_23 : decode cJ7_mismatch 23 = .ok (.i2l, 1) := dk_133 (dk_at dksJ7_mismatch_0 23 rfl rfl)
theorem dJ7_mismatch_24 : decode cJ7_mismatch 24 = .ok (.aload_n 1, 1) := dk_43 (dk_at dksJ7_mismatch_1 0 rfl rfl)
theorem dJ7_mismatch_25 : decode cJ7_mismatch 25 = .ok (.getstatic 126, 3) := dk_178 0 126 (dk_at dksJ7_mismatch_1 1 rfl rfl)
theorem dJ7_mismatch_28 : decode cJ7_mismatch 28 = .ok (.i2l, 1) := dk_133 (dk_at dksJ7_mismatch_1 4 rfl rfl)
theorem dJ7_mismatch_29 : decode cJ7_mismatch 29 = .ok (.iload_n 2, 1) := dk_28 (dk_at dksJ7_mismatch_1 5 rfl rfl)
theorem dJ7_mismatch_30 : decode cJ7_mismatch 30 = .ok (.getstatic 129, 3) := dk_178 0 129 (dk_at dksJ7_mismatch_1 6 rfl rfl)
theorem dJ7_mismatch_33 : decode cJ7_mismatch 33 = .ok (.invokestatic 122, 3) := dk_184 0 122 (dk_at dksJ7_mismatch_1 9 rfl rfl)
theorem dJ7_mismatch_36 : decode cJ7_mismatch 36 = .ok (.istore_n 3, 1) := dk_62 (dk_at dksJ7_mismatch_1 12 rfl rfl)
theorem dJ7_mismatch_37 : decode cJ7_mismatch 37 = .ok (.iload_n 3, 1) := dk_29 (dk_at dksJ7_mismatch_1 13 rfl rfl)
theorem dJ7_mismatch_38 : decode cJ7_mismatch 38 = .ok (.ifCond .lt 5, 3) := dk_155 0 5 (dk_at dksJ7_mismatch_1 14 rfl rfl)
theorem dJ7_mismatch_41 : decode cJ7_mismatch 41 = .ok (.iload_n 3, 1) := dk_29 (dk_at dksJ7_mismatch_1 17 rfl rfl)
theorem dJ7_mismatch_42 : decode cJ7_mismatch 42 = .ok (.ireturn, 1) := dk_172 (dk_at dksJ7_mismatch_1 18 rfl rfl)
theorem dJ7_mismatch_43 : decode cJ7_mismatch 43 = .ok (.iload_n 2, 1) := dk_28 (dk_at dksJ7_mismatch_1 19 rfl rfl)
theorem dJ7_mismatch_44 : decode cJ7_mismatch 44 = .ok (.iload_n 3, 1) := dk_29 (dk_at dksJ7_mismatch_1 20 rfl rfl)
theorem dJ7_mismatch_45 : decode cJ7_mismatch 45 = .ok (.iconst (-1), 1) := dk_2 (dk_at dksJ7_mismatch_1 21 rfl rfl)
theorem dJ7_mismatch_46 : decode cJ7_mismatch 46 = .ok (.ixor, 1) := dk_130 (dk_at dksJ7_mismatch_1 22 rfl rfl)
theorem dJ7_mismatch_47 : decode cJ7_mismatch 47 = .ok (.isub, 1) := dk_100 (dk_at dksJ7_mismatch_1 23 rfl rfl)
theorem dJ7_mismatch_48 : decode cJ7_mismatch 48 = .ok (.istore_n 3, 1) := dk_62 (dk_at dksJ7_mismatch_2 0 rfl rfl)
theorem dJ7_mismatch_49 : decode cJ7_mismatch 49 = .ok (.iload_n 3, 1) := dk_29 (dk_at dksJ7_mismatch_2 1 rfl rfl)
theorem dJ7_mismatch_50 : decode cJ7_mismatch 50 = .ok (.iload_n 2, 1) := dk_28 (dk_at dksJ7_mismatch_2 2 rfl rfl)
theorem dJ7_mismatch_51 : decode cJ7_mismatch 51 = .ok (.if_icmp .ge 20, 3) := dk_162 0 20 (dk_at dksJ7_mismatch_2 3 rfl rfl)
theorem dJ7_mismatch_54 : decode cJ7_mismatch 54 = .ok (.aload_n 0, 1) := dk_42 (dk_at dksJ7_mismatch_2 6 rfl rfl)
theorem dJ7_mismatch_55 : decode cJ7_mismatch 55 = .ok (.iload_n 3, 1) := dk_29 (dk_at dksJ7_mismatch_2 7 rfl rfl)
theorem dJ7_mismatch_56 : decode cJ7_mismatch 56 = .ok (.baload, 1) := dk_51 (dk_at dksJ7_mismatch_2 8 rfl rfl)
theorem dJ7_mismatch_57 : decode cJ7_mismatch 57 = .ok (.aload_n 1, 1) := dk_43 (dk_at dksJ7_mismatch_2 9 rfl rfl)
theorem dJ7_mismatch_58 : decode cJ7_mismatch 58 = .ok (.iload_n 3, 1) := dk_29 (dk_at dksJ7_mismatch_2 10 rfl rfl)
theorem dJ7_mismatch_59 : decode cJ7_mismatch 59 = .ok (.baload, 1) := dk_51 (dk_at dksJ7_mismatch_2 11 rfl rfl)
theorem dJ7_mismatch_60 : decode cJ7_mismatch 60 = .ok (.if_icmp .eq 5, 3) := dk_159 0 5 (dk_at dksJ7_mismatch_2 12 rfl rfl)
theorem dJ7_mismatch_63 : decode cJ7_mismatch 63 = .ok (.iload_n 3, 1) := dk_29 (dk_at dksJ7_mismatch_2 15 rfl rfl)
theorem dJ7_mismatch_64 : decode cJ7_mismatch 64 = .ok (.ireturn, 1) := dk_172 (dk_at dksJ7_mismatch_2 16 rfl rfl)
theorem dJ7_mismatch_65 : decode cJ7_mismatch 65 = .ok (.iinc 3 1, 3) := dk_132 3 1 (dk_at dksJ7_mismatch_2 17 rfl rfl)
theorem dJ7_mismatch_68 : decode cJ7_mismatch 68 = .ok (.goto (-19), 3) := dk_167 255 237 (dk_at dksJ7_mismatch_2 20 rfl rfl)
theorem dJ7_mismatch_71 : decode cJ7_mismatch 71 = .ok (.iconst (-1), 1) := dk_2 (dk_at dksJ7_mismatch_2 23 rfl rfl)
theorem dJ7_mismatch_72 : decode cJ7_mismatch 72 = .ok (.ireturn, 1) := dk_172 (dk_at dksJ7_mismatch_3 0 rfl rfl)
abbrev cJ7_vectorizedMismatch : ByteArray := prog_64_method_3_code
def yJ7_vectorizedMismatch : MethodName := ⟨RJ7, "vectorizedMismatch", "(Ljava/lang/Object;JLjava/lang/Object;JII)I"⟩
def dkwJ7_vectorizedMismatch_11 : List UInt8 := [54, 10, 21, 10, 2, 130, 172, 21, 10, 2, 130, 172]
abbrev dktJ7_vectorizedMismatch_11 : List UInt8 := dkwJ7_vectorizedMismatch_11 ++ []
def dkwJ7_vectorizedMismatch_10 : List UInt8 := [178, 0, 46, 21, 7, 96, 122, 54, 17, 21, 9, 21, 8, 120, 21, 17, 96, 172, 21, 10, 21, 11, 100]
abbrev dktJ7_vectorizedMismatch_10 : List UInt8 := dkwJ7_vectorizedMismatch_10 ++ dktJ7_vectorizedMismatch_11
def dkwJ7_vectorizedMismatch_9 : List UInt8 := [153, 0, 18, 21, 16, 184, 0, 58, 178, 0, 46, 21, 7, 96, 122, 167, 0, 15, 21, 16, 184, 0, 11]
abbrev dktJ7_vectorizedMismatch_9 : List UInt8 := dkwJ7_vectorizedMismatch_9 ++ dktJ7_vectorizedMismatch_10
def dkwJ7_vectorizedMismatch_8 : List UInt8 := [182, 0, 54, 54, 15, 21, 14, 21, 15, 159, 0, 54, 21, 14, 21, 15, 130, 54, 16, 178, 0, 36]
abbrev dktJ7_vectorizedMismatch_8 : List UInt8 := dkwJ7_vectorizedMismatch_8 ++ dktJ7_vectorizedMismatch_9
def dkwJ7_vectorizedMismatch_7 : List UInt8 := [55, 12, 178, 0, 26, 42, 31, 22, 12, 97, 182, 0, 54, 54, 14, 178, 0, 26, 45, 22, 4, 22, 12, 97]
abbrev dktJ7_vectorizedMismatch_7 : List UInt8 := dkwJ7_vectorizedMismatch_7 ++ dktJ7_vectorizedMismatch_8
def dkwJ7_vectorizedMismatch_6 : List UInt8 := [4, 178, 0, 51, 21, 7, 100, 120, 54, 11, 21, 10, 21, 11, 161, 0, 104, 21, 9, 133, 178, 0, 20, 121]
abbrev dktJ7_vectorizedMismatch_6 : List UInt8 := dkwJ7_vectorizedMismatch_6 ++ dktJ7_vectorizedMismatch_7
def dkwJ7_vectorizedMismatch_5 : List UInt8 := [132, 9, 1, 167, 255, 148, 21, 6, 21, 9, 21, 8, 120, 100, 54, 10, 21, 7, 178, 0, 51, 162, 0, 126]
abbrev dktJ7_vectorizedMismatch_5 : List UInt8 := dkwJ7_vectorizedMismatch_5 ++ dktJ7_vectorizedMismatch_6
def dkwJ7_vectorizedMismatch_4 : List UInt8 := [22, 16, 184, 0, 49, 178, 0, 46, 21, 7, 96, 122, 54, 18, 21, 9, 21, 8, 120, 21, 18, 96, 172]
abbrev dktJ7_vectorizedMismatch_4 : List UInt8 := dkwJ7_vectorizedMismatch_4 ++ dktJ7_vectorizedMismatch_5
def dkwJ7_vectorizedMismatch_3 : List UInt8 := [55, 16, 178, 0, 36, 153, 0, 18, 22, 16, 184, 0, 40, 178, 0, 46, 21, 7, 96, 122, 167, 0, 15]
abbrev dktJ7_vectorizedMismatch_3 : List UInt8 := dkwJ7_vectorizedMismatch_3 ++ dktJ7_vectorizedMismatch_4
def dkwJ7_vectorizedMismatch_2 : List UInt8 := [22, 4, 22, 10, 97, 182, 0, 30, 55, 14, 22, 12, 22, 14, 148, 153, 0, 54, 22, 12, 22, 14, 131]
abbrev dktJ7_vectorizedMismatch_2 : List UInt8 := dkwJ7_vectorizedMismatch_2 ++ dktJ7_vectorizedMismatch_3
def dkwJ7_vectorizedMismatch_1 : List UInt8 := [178, 0, 20, 121, 55, 10, 178, 0, 26, 42, 31, 22, 10, 97, 182, 0, 30, 55, 12, 178, 0, 26, 45]
abbrev dktJ7_vectorizedMismatch_1 : List UInt8 := dkwJ7_vectorizedMismatch_1 ++ dktJ7_vectorizedMismatch_2
def dkwJ7_vectorizedMismatch_0 : List UInt8 := [178, 0, 20, 21, 7, 100, 54, 8, 3, 54, 9, 21, 9, 21, 6, 21, 8, 122, 162, 0, 104, 21, 9, 133]
abbrev dktJ7_vectorizedMismatch_0 : List UInt8 := dkwJ7_vectorizedMismatch_0 ++ dktJ7_vectorizedMismatch_1
theorem dksJ7_vectorizedMismatch_0 : cJ7_vectorizedMismatch.data.toList.drop 0 = dktJ7_vectorizedMismatch_0 := by decide +kernel
theorem dksJ7_vectorizedMismatch_1 : cJ7_vectorizedMismatch.data.toList.drop 24 = dktJ7_vectorizedMismatch_1 := dk_seg dksJ7_vectorizedMismatch_0 24 rfl rfl
theorem dksJ7_vectorizedMismatch_2 : cJ7_vectorizedMismatch.data.toList.drop 47 = dktJ7_vectorizedMismatch_2 := dk_seg dksJ7_vectorizedMismatch_1 23 rfl rfl
theorem dksJ7_vectorizedMismatch_3 : cJ7_vectorizedMismatch.data.toList.drop 70 = dktJ7_vectorizedMismatch_3 := dk_seg dksJ7_vectorizedMismatch_2 23 rfl rfl
theorem dksJ7_vectorizedMismatch_4 : cJ7_vectorizedMismatch.data.toList.drop 93 = dktJ7_vectorizedMismatch_4 := dk_seg dksJ7_vectorizedMismatch_3 23 rfl rfl
theorem dksJ7_vectorizedMismatch_5 : cJ7_vectorizedMismatch.data.toList.drop 116 = dktJ7_vectorizedMismatch_5 := dk_seg dksJ7_vectorizedMismatch_4 23 rfl rfl
theorem dksJ7_vectorizedMismatch_6 : cJ7_vectorizedMismatch.data.toList.drop 140 = dktJ7_vectorizedMismatch_6 := dk_seg dksJ7_vectorizedMismatch_5 24 rfl rfl
theorem dksJ7_vectorizedMismatch_7 : cJ7_vectorizedMismatch.data.toList.drop 164 = dktJ7_vectorizedMismatch_7 := dk_seg dksJ7_vectorizedMismatch_6 24 rfl rfl
theorem dksJ7_vectorizedMismatch_8 : cJ7_vectorizedMismatch.data.toList.drop 188 = dktJ7_vectorizedMismatch_8 := dk_seg dksJ7_vectorizedMismatch_7 24 rfl rfl
theorem dksJ7_vectorizedMismatch_9 : cJ7_vectorizedMismatch.data.toList.drop 210 = dktJ7_vectorizedMismatch_9 := dk_seg dksJ7_vectorizedMismatch_8 22 rfl rfl
theorem dksJ7_vectorizedMismatch_10 : cJ7_vectorizedMismatch.data.toList.drop 233 = dktJ7_vectorizedMismatch_10 := dk_seg dksJ7_vectorizedMismatch_9 23 rfl rfl
theorem dksJ7_vectorizedMismatch_11 : cJ7_vectorizedMismatch.data.toList.drop 256 = dktJ7_vectorizedMismatch_11 := dk_seg dksJ7_vectorizedMismatch_10 23 rfl rfl
theorem dJ7_vectorizedMismatch_0 : decode cJ7_vectorizedMismatch 0 = .ok (.getstatic 20, 3) := dk_178 0 20 (dk_at dksJ7_vectorizedMismatch_0 0 rfl rfl)
theorem dJ7_vectorizedMismatch_3 : decode cJ7_vectorizedMismatch 3 = .ok (.iload 7, 2) := dk_21 7 (dk_at dksJ7_vectorizedMismatch_0 3 rfl rfl)
theorem dJ7_vectorizedMismatch_5 : decode cJ7_vectorizedMismatch 5 = .ok (.isub, 1) := dk_100 (dk_at dksJ7_vectorizedMismatch_0 5 rfl rfl)
theorem dJ7_vectorizedMismatch_6 : decode cJ7_vectorizedMismatch 6 = .ok (.istore 8, 2) := dk_54 8 (dk_at dksJ7_vectorizedMismatch_0 6 rfl rfl)
theorem dJ7_vectorizedMismatch_8 : decode cJ7_vectorizedMismatch 8 = .ok (.iconst 0, 1) := dk_3 (dk_at dksJ7_vectorizedMismatch_0 8 rfl rfl)
theorem dJ7_vectorizedMismatch_9 : decode cJ7_vectorizedMismatch 9 = .ok (.istore 9, 2) := dk_54 9 (dk_at dksJ7_vectorizedMismatch_0 9 rfl rfl)
theorem dJ7_vectorizedMismatch_11 : decode cJ7_vectorizedMismatch 11 = .ok (.iload 9, 2) := dk_21 9 (dk_at dksJ7_vectorizedMismatch_0 11 rfl rfl)
theorem dJ7_vectorizedMismatch_13 : decode cJ7_vectorizedMismatch 13 = .ok (.iload 6, 2) := dk_21 6 (dk_at dksJ7_vectorizedMismatch_0 13 rfl rfl)
theorem dJ7_vectorizedMismatch_15 : decode cJ7_vectorizedMismatch 15 = .ok (.iload 8, 2) := dk_21 8 (dk_at dksJ7_vectorizedMismatch_0 15 rfl rfl)
theorem dJ7_vectorizedMismatch_17 : decode cJ7_vectorizedMismatch 17 = .ok (.ishr, 1) := dk_122 (dk_at dksJ7_vectorizedMismatch_0 17 rfl rfl)
theorem dJ7_vectorizedMismatch_18 : decode cJ7_vectorizedMismatch 18 = .ok (.if_icmp .ge 104, 3) := dk_162 0 104 (dk_at dksJ7_vectorizedMismatch_0 18 rfl rfl)
theorem dJ7_vectorizedMismatch_21 : decode cJ7_vectorizedMismatch 21 = .ok (.iload 9, 2) := dk_21 9 (dk_at dksJ7_vectorizedMismatch_0 21 rfl rfl)
theorem dJ7_vectorizedMismatch_23 : decode cJ7_vectorizedMismatch 23 = .ok (.i2l, 1) := dk_133 (dk_at dksJ7_vectorizedMismatch_0 23 rfl rfl)
theorem dJ7_vectorizedMismatch_24 : decode cJ7_vectorizedMismatch 24 = .ok (.getstatic 20, 3) := dk_178 0 20 (dk_at dksJ7_vectorizedMismatch_1 0 rfl rfl)
theorem dJ7_vectorizedMismatch_27 : decode cJ7_vectorizedMismatch 27 = .ok (.lshl, 1) := dk_121 (dk_at dksJ7_vectorizedMismatch_1 3 rfl rfl)
theorem dJ7_vectorizedMismatch_28 : decode cJ7_vectorizedMismatch 28 = .ok (.lstore 10, 2) := dk_55 10 (dk_at dksJ7_vectorizedMismatch_1 4 rfl rfl)
theorem dJ7_vectorizedMismatch_30 : decode cJ7_vectorizedMismatch 30 = .ok (.getstatic 26, 3) := dk_178 0 26 (dk_at dksJ7_vectorizedMismatch_1 6 rfl rfl)
theorem dJ7_vectorizedMismatch_33 : decode cJ7_vectorizedMismatch 33 = .ok (.aload_n 0, 1) := dk_42 (dk_at dksJ7_vectorizedMismatch_1 9 rfl rfl)
theorem dJ7_vectorizedMismatch_34 : decode cJ7_vectorizedMismatch 34 = .ok (.lload_n 1, 1) := dk_31 (dk_at dksJ7_vectorizedMismatch_1 10 rfl rfl)
theorem dJ7_vectorizedMismatch_35 : decode cJ7_vectorizedMismatch 35 = .ok (.lload 10, 2) := dk_22 10 (dk_at dksJ7_vectorizedMismatch_1 11 rfl rfl)
theorem dJ7_vectorizedMismatch_37 : decode cJ7_vectorizedMismatch 37 = .ok (.ladd, 1) := dk_97 (dk_at dksJ7_vectorizedMismatch_1 13 rfl rfl)
theorem dJ7_vectorizedMismatch_38 : decode cJ7_vectorizedMismatch 38 = .ok (.invokevirtual 30, 3) := dk_182 0 30 (dk_at dksJ7_vectorizedMismatch_1 14 rfl rfl)
theorem dJ7_vectorizedMismatch_41 : decode cJ7_vectorizedMismatch 41 = .ok (.lstore 12, 2) := dk_55 12 (dk_at dksJ7_vectorizedMismatch_1 17 rfl rfl)
theorem dJ7_vectorizedMismatch_43 : decode cJ7_vectorizedMismatch 43 = .ok (.getstatic 26, 3) := dk_178 0 26 (dk_at dksJ7_vectorizedMismatch_1 19 rfl rfl)
theorem dJ7_vectorizedMismatch_46 : decode cJ7_vectorizedMismatch 46 = .ok (.aload_n 3, 1) := dk_45 (dk_at dksJ7_vectorizedMismatch_1 22 rfl rfl)
theorem dJ7_vectorizedMismatch_47 : decode cJ7_vectorizedMismatch 47 = .ok (.lload 4, 2) := dk_22 4 (dk_at dksJ7_vectorizedMismatch_2 0 rfl rfl)
theorem dJ7_vectorizedMismatch_49 : decode cJ7_vectorizedMismatch 49 = .ok (.lload 10, 2) := dk_22 10 (dk_at dksJ7_vectorizedMismatch_2 2 rfl rfl)
theorem dJ7_vectorizedMismatch_51 : decode cJ7_vectorizedMismatch 51 = .ok (.ladd, 1) := dk_97 (dk_at dksJ7_vectorizedMismatch_2 4 rfl rfl)
theorem dJ7_vectorizedMismatch_52 : decode cJ7_vectorizedMismatch 52 = .ok (.invokevirtual 30, 3) := dk_182 0 30 (dk_at dksJ7_vectorizedMismatch_2 5 rfl rfl)
theorem dJ7_vectorizedMismatch_55 : decode cJ7_vectorizedMismatch 55 = .ok (.lstore 14, 2) := dk_55 14 (dk_at dksJ7_vectorizedMismatch_2 8 rfl rfl)
theorem dJ7_vectorizedMismatch_57 : decode cJ7_vectorizedMismatch 57 = .ok (.lload 12, 2) := dk_22 12 (dk_at dksJ7_vectorizedMismatch_2 10 rfl rfl)
theorem dJ7_vectorizedMismatch_59 : decode cJ7_vectorizedMismatch 59 = .ok (.lload 14, 2) := dk_22 14 (dk_at dksJ7_vectorizedMismatch_2 12 rfl rfl)
theorem dJ7_vectorizedMismatch_61 : decode cJ7_vectorizedMismatch 61 = .ok (.lcmp, 1) := dk_148 (dk_at dksJ7_vectorizedMismatch_2 14 rfl rfl)
theorem dJ7_vectorizedMismatch_62 : decode cJ7_vectorizedMismatch 62 = .ok (.ifCond .eq 54, 3) := dk_153 0 54 (dk_at dksJ7_vectorizedMismatch_2 15 rfl rfl)
theorem dJ7_vectorizedMismatch_65 : decode cJ7_vectorizedMismatch 65 = .ok (.lload 12, 2) := dk_22 12 (dk_at dksJ7_vectorizedMismatch_2 18 rfl rfl)
theorem dJ7_vectorizedMismatch_67 : decode cJ7_vectorizedMismatch 67 = .ok (.lload 14, 2) := dk_22 14 (dk_at dksJ7_vectorizedMismatch_2 20 rfl rfl)
theorem dJ7_vectorizedMismatch_69 : decode cJ7_vectorizedMismatch 69 = .ok (.lxor, 1) := dk_131 (dk_at dksJ7_vectorizedMismatch_2 22 rfl rfl)
theorem dJ7_vectorizedMismatch_70 : decode cJ7_vectorizedMismatch 70 = .ok (.lstore 16, 2) := dk_55 16 (dk_at dksJ7_vectorizedMismatch_3 0 rfl rfl)
theorem dJ7_vectorizedMismatch_72 : decode cJ7_vectorizedMismatch 72 = .ok (.getstatic 36, 3) := dk_178 0 36 (dk_at dksJ7_vectorizedMismatch_3 2 rfl rfl)
theorem dJ7_vectorizedMismatch_75 : decode cJ7_vectorizedMismatch 75 = .ok (.ifCond .eq 18, 3) := dk_153 0 18 (dk_at dksJ7_vectorizedMismatch_3 5 rfl rfl)
theorem dJ7_vectorizedMismatch_78 : decode cJ7_vectorizedMismatch 78 = .ok (.lload 16, 2) := dk_22 16 (dk_at dksJ7_vectorizedMismatch_3 8 rfl rfl)
theorem dJ7_vectorizedMismatch_80 : decode cJ7_vectorizedMismatch 80 = .ok (.invokestatic 40, 3) := dk_184 0 40 (dk_at dksJ7_vectorizedMismatch_3 10 rfl rfl)
theorem dJ7_vectorizedMismatch_83 : decode cJ7_vectorizedMismatch 83 = .ok (.getstatic 46, 3) := dk_178 0 46 (dk_at dksJ7_vectorizedMismatch_3 13 rfl rfl)
theorem dJ7_vectorizedMismatch_86 : decode cJ7_vectorizedMismatch 86 = .ok (.iload 7, 2) := dk_21 7 (dk_at dksJ7_vectorizedMismatch_3 16 rfl rfl)
theorem dJ7_vectorizedMismatch_88 : decode cJ7_vectorizedMismatch 88 = .ok (.iadd, 1) := dk_96 (dk_at dksJ7_vectorizedMismatch_3 18 rfl rfl)
theorem dJ7_vectorizedMismatch_89 : decode cJ7_vectorizedMismatch 89 = .ok (.ishr, 1) := dk_122 (dk_at dksJ7_vectorizedMismatch_3 19 rfl rfl)
theorem dJ7_vectorizedMismatch_90 : decode cJ7_vectorizedMismatch 90 = .ok (.goto 15, 3) := dk_167 0 15 (dk_at dksJ7_vectorizedMismatch_3 20 rfl rfl)
theorem dJ7_vectorizedMismatch_93 : decode cJ7_vectorizedMismatch 93 = .ok (.lload 16, 2) := dk_22 16 (dk_at dksJ7_vectorizedMismatch_4 0 rfl rfl)
theorem dJ7_vectorizedMismatch_95 : decode cJ7_vectorizedMismatch 95 = .ok (.invokestatic 49, 3) := dk_184 0 49 (dk_at dksJ7_vectorizedMismatch_4 2 rfl rfl)
theorem dJ7_vectorizedMismatch_98 : decode cJ7_vectorizedMismatch 98 = .ok (.getstatic 46, 3) := dk_178 0 46 (dk_at dksJ7_vectorizedMismatch_4 5 rfl rfl)
theorem dJ7_vectorizedMismatch_101 : decode cJ7_vectorizedMismatch 101 = .ok (.iload 7, 2) := dk_21 7 (dk_at dksJ7_vectorizedMismatch_4 8 rfl rfl)
theorem dJ7_vectorizedMismatch_103 : decode cJ7_vectorizedMismatch 103 = .ok (.iadd, 1) := dk_96 (dk_at dksJ7_vectorizedMismatch_4 10 rfl rfl)
theorem dJ7_vectorizedMismatch_104 : decode cJ7_vectorizedMismatch 104 = .ok (.ishr, 1) := dk_122 (dk_at dksJ7_vectorizedMismatch_4 11 rfl rfl)
theorem dJ7_vectorizedMismatch_105 : decode cJ7_vectorizedMismatch 105 = .ok (.istore 18, 2) := dk_54 18 (dk_at dksJ7_vectorizedMismatch_4 12 rfl rfl)
theorem dJ7_vectorizedMismatch_107 : decode cJ7_vectorizedMismatch 107 = .ok (.iload 9, 2) := dk_21 9 (dk_at dksJ7_vectorizedMismatch_4 14 rfl rfl)
theorem dJ7_vectorizedMismatch_109 : decode cJ7_vectorizedMismatch 109 = .ok (.iload 8, 2) := dk_21 8 (dk_at dksJ7_vectorizedMismatch_4 16 rfl rfl)
theorem dJ7_vectorizedMismatch_111 : decode cJ7_vectorizedMismatch 111 = .ok (.ishl, 1) := dk_120 (dk_at dksJ7_vectorizedMismatch_4 18 rfl rfl)
theorem dJ7_vectorizedMismatch_112 : decode cJ7_vectorizedMismatch 112 = .ok (.iload 18, 2) := dk_21 18 (dk_at dksJ7_vectorizedMismatch_4 19 rfl rfl)
theorem dJ7_vectorizedMismatch_114 : decode cJ7_vectorizedMismatch 114 = .ok (.iadd, 1) := dk_96 (dk_at dksJ7_vectorizedMismatch_4 21 rfl rfl)
theorem dJ7_vectorizedMismatch_115 : decode cJ7_vectorizedMismatch 115 = .ok (.ireturn, 1) := dk_172 (dk_at dksJ7_vectorizedMismatch_4 22 rfl rfl)
theorem dJ7_vectorizedMismatch_116 : decode cJ7_vectorizedMismatch 116 = .ok (.iinc 9 1, 3) := dk_132 9 1 (dk_at dksJ7_vectorizedMismatch_5 0 rfl rfl)
theorem dJ7_vectorizedMismatch_119 : decode cJ7_vectorizedMismatch 119 = .ok (.goto (-108), 3) := dk_167 255 148 (dk_at dksJ7_vectorizedMismatch_5 3 rfl rfl)
theorem dJ7_vectorizedMismatch_122 : decode cJ7_vectorizedMismatch 122 = .ok (.iload 6, 2) := dk_21 6 (dk_at dksJ7_vectorizedMismatch_5 6 rfl rfl)
theorem dJ7_vectorizedMismatch_124 : decode cJ7_vectorizedMismatch 124 = .ok (.iload 9, 2) := dk_21 9 (dk_at dksJ7_vectorizedMismatch_5 8 rfl rfl)
theorem dJ7_vectorizedMismatch_126 : decode cJ7_vectorizedMismatch 126 = .ok (.iload 8, 2) := dk_21 8 (dk_at dksJ7_vectorizedMismatch_5 10 rfl rfl)
theorem dJ7_vectorizedMismatch_128 : decode cJ7_vectorizedMismatch 128 = .ok (.ishl, 1) := dk_120 (dk_at dksJ7_vectorizedMismatch_5 12 rfl rfl)
theorem dJ7_vectorizedMismatch_129 : decode cJ7_vectorizedMismatch 129 = .ok (.isub, 1) := dk_100 (dk_at dksJ7_vectorizedMismatch_5 13 rfl rfl)
theorem dJ7_vectorizedMismatch_130 : decode cJ7_vectorizedMismatch 130 = .ok (.istore 10, 2) := dk_54 10 (dk_at dksJ7_vectorizedMismatch_5 14 rfl rfl)
theorem dJ7_vectorizedMismatch_132 : decode cJ7_vectorizedMismatch 132 = .ok (.iload 7, 2) := dk_21 7 (dk_at dksJ7_vectorizedMismatch_5 16 rfl rfl)
theorem dJ7_vectorizedMismatch_134 : decode cJ7_vectorizedMismatch 134 = .ok (.getstatic 51, 3) := dk_178 0 51 (dk_at dksJ7_vectorizedMismatch_5 18 rfl rfl)
theorem dJ7_vectorizedMismatch_137 : decode cJ7_vectorizedMismatch 137 = .ok (.if_icmp .ge 126, 3) := dk_162 0 126 (dk_at dksJ7_vectorizedMismatch_5 21 rfl rfl)
theorem dJ7_vectorizedMismatch_140 : decode cJ7_vectorizedMismatch 140 = .ok (.iconst 1, 1) := dk_4 (dk_at dksJ7_vectorizedMismatch_6 0 rfl rfl)
theorem dJ7_vectorizedMismatch_141 : decode cJ7_vectorizedMismatch 141 = .ok (.getstatic 51, 3) := dk_178 0 51 (dk_at dksJ7_vectorizedMismatch_6 1 rfl rfl)
theorem dJ7_vectorizedMismatch_144 : decode cJ7_vectorizedMismatch 144 = .ok (.iload 7, 2) := dk_21 7 (dk_at dksJ7_vectorizedMismatch_6 4 rfl rfl)
theorem dJ7_vectorizedMismatch_146 : decode cJ7_vectorizedMismatch 146 = .ok (.isub, 1) := dk_100 (dk_at dksJ7_vectorizedMismatch_6 6 rfl rfl)
theorem dJ7_vectorizedMismatch_147 : decode cJ7_vectorizedMismatch 147 = .ok (.ishl, 1) := dk_120 (dk_at dksJ7_vectorizedMismatch_6 7 rfl rfl)
theorem dJ7_vectorizedMismatch_148 : decode cJ7_vectorizedMismatch 148 = .ok (.istore 11, 2) := dk_54 11 (dk_at dksJ7_vectorizedMismatch_6 8 rfl rfl)
theorem dJ7_vectorizedMismatch_150 : decode cJ7_vectorizedMismatch 150 = .ok (.iload 10, 2) := dk_21 10 (dk_at dksJ7_vectorizedMismatch_6 10 rfl rfl)
theorem dJ7_vectorizedMismatch_152 : decode cJ7_vectorizedMismatch 152 = .ok (.iload 11, 2) := dk_21 11 (dk_at dksJ7_vectorizedMismatch_6 12 rfl rfl)
theorem dJ7_vectorizedMismatch_154 : decode cJ7_vectorizedMismatch 154 = .ok (.if_icmp .lt 104, 3) := dk_161 0 104 (dk_at dksJ7_vectorizedMismatch_6 14 rfl rfl)
theorem dJ7_vectorizedMismatch_157 : decode cJ7_vectorizedMismatch 157 = .ok (.iload 9, 2) := dk_21 9 (dk_at dksJ7_vectorizedMismatch_6 17 rfl rfl)
theorem dJ7_vectorizedMismatch_159 : decode cJ7_vectorizedMismatch 159 = .ok (.i2l, 1) := dk_133 (dk_at dksJ7_vectorizedMismatch_6 19 rfl rfl)
theorem dJ7_vectorizedMismatch_160 : decode cJ7_vectorizedMismatch 160 = .ok (.getstatic 20, 3) := dk_178 0 20 (dk_at dksJ7_vectorizedMismatch_6 20 rfl rfl)
theorem dJ7_vectorizedMismatch_163 : decode cJ7_vectorizedMismatch 163 = .ok (.lshl, 1) := dk_121 (dk_at dksJ7_vectorizedMismatch_6 23 rfl rfl)
theorem dJ7_vectorizedMismatch_164 : decode cJ7_vectorizedMismatch 164 = .ok (.lstore 12, 2) := dk_55 12 (dk_at dksJ7_vectorizedMismatch_7 0 rfl rfl)
theorem dJ7_vectorizedMismatch_166 : decode cJ7_vectorizedMismatch 166 = .ok (.getstatic 26, 3) := dk_178 0 26 (dk_at dksJ7_vectorizedMismatch_7 2 rfl rfl)
theorem dJ7_vectorizedMismatch_169 : decode cJ7_vectorizedMismatch 169 = .ok (.aload_n 0, 1) := dk_42 (dk_at dksJ7_vectorizedMismatch_7 5 rfl rfl)
theorem dJ7_vectorizedMismatch_170 : decode cJ7_vectorizedMismatch 170 = .ok (.lload_n 1, 1) := dk_31 (dk_at dksJ7_vectorizedMismatch_7 6 rfl rfl)
theorem dJ7_vectorizedMismatch_171 : decode cJ7_vectorizedMismatch 171 = .ok (.lload 12, 2) := dk_22 12 (dk_at dksJ7_vectorizedMismatch_7 7 rfl rfl)
theorem dJ7_vectorizedMismatch_173 : decode cJ7_vectorizedMismatch 173 = .ok (.ladd, 1) := dk_97 (dk_at dksJ7_vectorizedMismatch_7 9 rfl rfl)
theorem dJ7_vectorizedMismatch_174 : decode cJ7_vectorizedMismatch 174 = .ok (.invokevirtual 54, 3) := dk_182 0 54 (dk_at dksJ7_vectorizedMismatch_7 10 rfl rfl)
theorem dJ7_vectorizedMismatch_177 : decode cJ7_vectorizedMismatch 177 = .ok (.istore 14, 2) := dk_54 14 (dk_at dksJ7_vectorizedMismatch_7 13 rfl rfl)
theorem dJ7_vectorizedMismatch_179 : decode cJ7_vectorizedMismatch 179 = .ok (.getstatic 26, 3) := dk_178 0 26 (dk_at dksJ7_vectorizedMismatch_7 15 rfl rfl)
theorem dJ7_vectorizedMismatch_182 : decode cJ7_vectorizedMismatch 182 = .ok (.aload_n 3, 1) := dk_45 (dk_at dksJ7_vectorizedMismatch_7 18 rfl rfl)
theorem dJ7_vectorizedMismatch_183 : decode cJ7_vectorizedMismatch 183 = .ok (.lload 4, 2) := dk_22 4 (dk_at dksJ7_vectorizedMismatch_7 19 rfl rfl)
theorem dJ7_vectorizedMismatch_185 : decode cJ7_vectorizedMismatch 185 = .ok (.lload 12, 2) := dk_22 12 (dk_at dksJ7_vectorizedMismatch_7 21 rfl rfl)
theorem dJ7_vectorizedMismatch_187 : decode cJ7_vectorizedMismatch 187 = .ok (.ladd, 1) := dk_97 (dk_at dksJ7_vectorizedMismatch_7 23 rfl rfl)
theorem dJ7_vectorizedMismatch_188 : decode cJ7_vectorizedMismatch 188 = .ok (.invokevirtual 54, 3) := dk_182 0 54 (dk_at dksJ7_vectorizedMismatch_8 0 rfl rfl)
theorem dJ7_vectorizedMismatch_191 : decode cJ7_vectorizedMismatch 191 = .ok (.istore 15, 2) := dk_54 15 (dk_at dksJ7_vectorizedMismatch_8 3 rfl rfl)
theorem dJ7_vectorizedMismatch_193 : decode cJ7_vectorizedMismatch 193 = .ok (.iload 14, 2) := dk_21 14 (dk_at dksJ7_vectorizedMismatch_8 5 rfl rfl)
theorem dJ7_vectorizedMismatch_195 : decode cJ7_vectorizedMismatch 195 = .ok (.iload 15, 2) := dk_21 15 (dk_at dksJ7_vectorizedMismatch_8 7 rfl rfl)
theorem dJ7_vectorizedMismatch_197 : decode cJ7_vectorizedMismatch 197 = .ok (.if_icmp .eq 54, 3) := dk_159 0 54 (dk_at dksJ7_vectorizedMismatch_8 9 rfl rfl)
theorem dJ7_vectorizedMismatch_200 : decode cJ7_vectorizedMismatch 200 = .ok (.iload 14, 2) := dk_21 14 (dk_at dksJ7_vectorizedMismatch_8 12 rfl rfl)
theorem dJ7_vectorizedMismatch_202 : decode cJ7_vectorizedMismatch 202 = .ok (.iload 15, 2) := dk_21 15 (dk_at dksJ7_vectorizedMismatch_8 14 rfl rfl)
theorem dJ7_vectorizedMismatch_204 : decode cJ7_vectorizedMismatch 204 = .ok (.ixor, 1) := dk_130 (dk_at dksJ7_vectorizedMismatch_8 16 rfl rfl)
theorem dJ7_vectorizedMismatch_205 : decode cJ7_vectorizedMismatch 205 = .ok (.istore 16, 2) := dk_54 16 (dk_at dksJ7_vectorizedMismatch_8 17 rfl rfl)
theorem dJ7_vectorizedMismatch_207 : decode cJ7_vectorizedMismatch 207 = .ok (.getstatic 36, 3) := dk_178 0 36 (dk_at dksJ7_vectorizedMismatch_8 19 rfl rfl)
theorem dJ7_vectorizedMismatch_210 : decode cJ7_vectorizedMismatch 210 = .ok (.ifCond .eq 18, 3) := dk_153 0 18 (dk_at dksJ7_vectorizedMismatch_9 0 rfl rfl)
theorem dJ7_vectorizedMismatch_213 : decode cJ7_vectorizedMismatch 213 = .ok (.iload 16, 2) := dk_21 16 (dk_at dksJ7_vectorizedMismatch_9 3 rfl rfl)
theorem dJ7_vectorizedMismatch_215 : decode cJ7_vectorizedMismatch 215 = .ok (.invokestatic 58, 3) := dk_184 0 58 (dk_at dksJ7_vectorizedMismatch_9 5 rfl rfl)
theorem dJ7_vectorizedMismatch_218 : decode cJ7_vectorizedMismatch 218 = .ok (.getstatic 46, 3) := dk_178 0 46 (dk_at dksJ7_vectorizedMismatch_9 8 rfl rfl)
theorem dJ7_vectorizedMismatch_221 : decode cJ7_vectorizedMismatch 221 = .ok (.iload 7, 2) := dk_21 7 (dk_at dksJ7_vectorizedMismatch_9 11 rfl rfl)
theorem dJ7_vectorizedMismatch_223 : decode cJ7_vectorizedMismatch 223 = .ok (.iadd, 1) := dk_96 (dk_at dksJ7_vectorizedMismatch_9 13 rfl rfl)
theorem dJ7_vectorizedMismatch_224 : decode cJ7_vectorizedMismatch 224 = .ok (.ishr, 1) := dk_122 (dk_at dksJ7_vectorizedMismatch_9 14 rfl rfl)
theorem dJ7_vectorizedMismatch_225 : decode cJ7_vectorizedMismatch 225 = .ok (.goto 15, 3) := dk_167 0 15 (dk_at dksJ7_vectorizedMismatch_9 15 rfl rfl)
theorem dJ7_vectorizedMismatch_228 : decode cJ7_vectorizedMismatch 228 = .ok (.iload 16, 2) := dk_21 16 (dk_at dksJ7_vectorizedMismatch_9 18 rfl rfl)
theorem dJ7_vectorizedMismatch_230 : decode cJ7_vectorizedMismatch 230 = .ok (.invokestatic 11, 3) := dk_184 0 11 (dk_at dksJ7_vectorizedMismatch_9 20 rfl rfl)
theorem dJ7_vectorizedMismatch_233 : decode cJ7_vectorizedMismatch 233 = .ok (.getstatic 46, 3) := dk_178 0 46 (dk_at dksJ7_vectorizedMismatch_10 0 rfl rfl)
theorem dJ7_vectorizedMismatch_236 : decode cJ7_vectorizedMismatch 236 = .ok (.iload 7, 2) := dk_21 7 (dk_at dksJ7_vectorizedMismatch_10 3 rfl rfl)
theorem dJ7_vectorizedMismatch_238 : decode cJ7_vectorizedMismatch 238 = .ok (.iadd, 1) := dk_96 (dk_at dksJ7_vectorizedMismatch_10 5 rfl rfl)
theorem dJ7_vectorizedMismatch_239 : decode cJ7_vectorizedMismatch 239 = .ok (.ishr, 1) := dk_122 (dk_at dksJ7_vectorizedMismatch_10 6 rfl rfl)
theorem dJ7_vectorizedMismatch_240 : decode cJ7_vectorizedMismatch 240 = .ok (.istore 17, 2) := dk_54 17 (dk_at dksJ7_vectorizedMismatch_10 7 rfl rfl)
theorem dJ7_vectorizedMismatch_242 : decode cJ7_vectorizedMismatch 242 = .ok (.iload 9, 2) := dk_21 9 (dk_at dksJ7_vectorizedMismatch_10 9 rfl rfl)
theorem dJ7_vectorizedMismatch_244 : decode cJ7_vectorizedMismatch 244 = .ok (.iload 8, 2) := dk_21 8 (dk_at dksJ7_vectorizedMismatch_10 11 rfl rfl)
theorem dJ7_vectorizedMismatch_246 : decode cJ7_vectorizedMismatch 246 = .ok (.ishl, 1) := dk_120 (dk_at dksJ7_vectorizedMismatch_10 13 rfl rfl)
theorem dJ7_vectorizedMismatch_247 : decode cJ7_vectorizedMismatch 247 = .ok (.iload 17, 2) := dk_21 17 (dk_at dksJ7_vectorizedMismatch_10 14 rfl rfl)
theorem dJ7_vectorizedMismatch_249 : decode cJ7_vectorizedMismatch 249 = .ok (.iadd, 1) := dk_96 (dk_at dksJ7_vectorizedMismatch_10 16 rfl rfl)
theorem dJ7_vectorizedMismatch_250 : decode cJ7_vectorizedMismatch 250 = .ok (.ireturn, 1) := dk_172 (dk_at dksJ7_vectorizedMismatch_10 17 rfl rfl)
theorem dJ7_vectorizedMismatch_251 : decode cJ7_vectorizedMismatch 251 = .ok (.iload 10, 2) := dk_21 10 (dk_at dksJ7_vectorizedMismatch_10 18 rfl rfl)
theorem dJ7_vectorizedMismatch_253 : decode cJ7_vectorizedMismatch 253 = .ok (.iload 11, 2) := dk_21 11 (dk_at dksJ7_vectorizedMismatch_10 20 rfl rfl)
theorem dJ7_vectorizedMismatch_255 : decode cJ7_vectorizedMismatch 255 = .ok (.isub, 1) := dk_100 (dk_at dksJ7_vectorizedMismatch_10 22 rfl rfl)
theorem dJ7_vectorizedMismatch_256 : decode cJ7_vectorizedMismatch 256 = .ok (.istore 10, 2) := dk_54 10 (dk_at dksJ7_vectorizedMismatch_11 0 rfl rfl)
theorem dJ7_vectorizedMismatch_258 : decode cJ7_vectorizedMismatch 258 = .ok (.iload 10, 2) := dk_21 10 (dk_at dksJ7_vectorizedMismatch_11 2 rfl rfl)
theorem dJ7_vectorizedMismatch_260 : decode cJ7_vectorizedMismatch 260 = .ok (.iconst (-1), 1) := dk_2 (dk_at dksJ7_vectorizedMismatch_11 4 rfl rfl)
theorem dJ7_vectorizedMismatch_261 : decode cJ7_vectorizedMismatch 261 = .ok (.ixor, 1) := dk_130 (dk_at dksJ7_vectorizedMismatch_11 5 rfl rfl)
theorem dJ7_vectorizedMismatch_262 : decode cJ7_vectorizedMismatch 262 = .ok (.ireturn, 1) := dk_172 (dk_at dksJ7_vectorizedMismatch_11 6 rfl rfl)
theorem dJ7_vectorizedMismatch_263 : decode cJ7_vectorizedMismatch 263 = .ok (.iload 10, 2) := dk_21 10 (dk_at dksJ7_vectorizedMismatch_11 7 rfl rfl)
theorem dJ7_vectorizedMismatch_265 : decode cJ7_vectorizedMismatch 265 = .ok (.iconst (-1), 1) := dk_2 (dk_at dksJ7_vectorizedMismatch_11 9 rfl rfl)
theorem dJ7_vectorizedMismatch_266 : decode cJ7_vectorizedMismatch 266 = .ok (.ixor, 1) := dk_130 (dk_at dksJ7_vectorizedMismatch_11 10 rfl rfl)
theorem dJ7_vectorizedMismatch_267 : decode cJ7_vectorizedMismatch 267 = .ok (.ireturn, 1) := dk_172 (dk_at dksJ7_vectorizedMismatch_11 11 rfl rfl)
theorem q107 : (Jvm.Cond.initialized "jdk/internal/util/ArraysSupport") ∈ lw_all := lw_g (lw_at lw_m1 12 rfl) rfl
theorem q340 : (Jvm.Cond.static ({ cls := "jdk/internal/util/ArraysSupport", name := "newLength", desc := "(III)I" } : Jvm.MethodName)) ∈ lw_all := lw_g (lw_at lw_m2 5 rfl) rfl
theorem q341 : (Jvm.Cond.code ({ cls := "jdk/internal/util/ArraysSupport", name := "newLength", desc := "(III)I" } : Jvm.MethodName) prog_64_method_27_code (4 : Nat) (Option.some Jvm.ClassFile.FieldType.int)) ∈ lw_all := lw_g (lw_at lw_m2 6 rfl) rfl
theorem q342 : (Jvm.Cond.methodLink "jdk/internal/util/ArraysSupport" (194 : Nat) ({ cls := "java/lang/Math", name := "max", desc := "(II)I" } : Jvm.MethodName)) ∈ lw_all := lw_g (lw_at lw_m2 7 rfl) rfl
theorem q345 : (Jvm.Cond.constant "jdk/internal/util/ArraysSupport" (200 : Nat) (2147483639 : Int32)) ∈ lw_all := lw_g (lw_at lw_m2 10 rfl) rfl
theorem q346 : (Jvm.Cond.methodLink "jdk/internal/util/ArraysSupport" (201 : Nat) ({ cls := "jdk/internal/util/ArraysSupport", name := "hugeLength", desc := "(II)I" } : Jvm.MethodName)) ∈ lw_all := lw_g (lw_at lw_m2 11 rfl) rfl
theorem q347 : (Jvm.Cond.static ({ cls := "jdk/internal/util/ArraysSupport", name := "hugeLength", desc := "(II)I" } : Jvm.MethodName)) ∈ lw_all := lw_g (lw_at lw_m2 12 rfl) rfl
theorem q348 : (Jvm.Cond.code ({ cls := "jdk/internal/util/ArraysSupport", name := "hugeLength", desc := "(II)I" } : Jvm.MethodName) prog_64_method_28_code (3 : Nat) (Option.some Jvm.ClassFile.FieldType.int)) ∈ lw_all := lw_g (lw_at lw_m2 13 rfl) rfl
theorem q914 : (Jvm.Cond.static ({ cls := "jdk/internal/util/ArraysSupport", name := "vectorizedHashCode", desc := "(Ljava/lang/Object;IIII)I" } : Jvm.MethodName)) ∈ lw_all := lw_g (lw_at lw_m4 99 rfl) rfl
theorem q915 : (Jvm.Cond.code ({ cls := "jdk/internal/util/ArraysSupport", name := "vectorizedHashCode", desc := "(Ljava/lang/Object;IIII)I" } : Jvm.MethodName) prog_64_method_4_code (5 : Nat) (Option.some Jvm.ClassFile.FieldType.int)) ∈ lw_all := lw_g (lw_at lw_m4 100 rfl) rfl
theorem q916 : (Jvm.Cond.classLink "jdk/internal/util/ArraysSupport" (60 : Nat) "[B") ∈ lw_all := lw_g (lw_at lw_m4 101 rfl) rfl
theorem q917 : (Jvm.Cond.methodLink "jdk/internal/util/ArraysSupport" (62 : Nat) ({ cls := "jdk/internal/util/ArraysSupport", name := "signedHashCode", desc := "(I[BII)I" } : Jvm.MethodName)) ∈ lw_all := lw_g (lw_at lw_m4 102 rfl) rfl
theorem q918 : (Jvm.Cond.static ({ cls := "jdk/internal/util/ArraysSupport", name := "signedHashCode", desc := "(I[BII)I" } : Jvm.MethodName)) ∈ lw_all := lw_g (lw_at lw_m4 103 rfl) rfl
theorem q919 : (Jvm.Cond.code ({ cls := "jdk/internal/util/ArraysSupport", name := "signedHashCode", desc := "(I[BII)I" } : Jvm.MethodName) prog_64_method_5_code (6 : Nat) (Option.some Jvm.ClassFile.FieldType.int)) ∈ lw_all := lw_g (lw_at lw_m4 104 rfl) rfl
theorem q920 : (Jvm.Cond.methodLink "jdk/internal/util/ArraysSupport" (66 : Nat) ({ cls := "jdk/internal/util/ArraysSupport", name := "utf16hashCode", desc := "(I[BII)I" } : Jvm.MethodName)) ∈ lw_all := lw_g (lw_at lw_m4 105 rfl) rfl
theorem q921 : (Jvm.Cond.static ({ cls := "jdk/internal/util/ArraysSupport", name := "utf16hashCode", desc := "(I[BII)I" } : Jvm.MethodName)) ∈ lw_all := lw_g (lw_at lw_m4 106 rfl) rfl
theorem q922 : (Jvm.Cond.code ({ cls := "jdk/internal/util/ArraysSupport", name := "utf16hashCode", desc := "(I[BII)I" } : Jvm.MethodName) prog_64_method_10_code (6 : Nat) (Option.some Jvm.ClassFile.FieldType.int)) ∈ lw_all := lw_g (lw_at lw_m4 107 rfl) rfl
theorem q923 : (Jvm.Cond.fieldLink "jdk/internal/util/ArraysSupport" (106 : Nat) "jdk/internal/util/ArraysSupport" "JLA" "Ljdk/internal/access/JavaLangAccess;") ∈ lw_all := lw_g (lw_at lw_m4 108 rfl) rfl
theorem q924 : (Jvm.Cond.laysStatic "jdk/internal/util/ArraysSupport" "JLA" "Ljdk/internal/access/JavaLangAccess;") ∈ lw_tbl := lw_at lw_m4 109 rfl
theorem q925 : (Jvm.Cond.interfaceEntry "jdk/internal/util/ArraysSupport" (110 : Nat)) ∈ lw_tbl := lw_at lw_m4 110 rfl
theorem q926 : (Jvm.Cond.methodLink "jdk/internal/util/ArraysSupport" (110 : Nat) ({ cls := "jdk/internal/access/JavaLangAccess", name := "getUTF16Char", desc := "([BI)C" } : Jvm.MethodName)) ∈ lw_all := lw_g (lw_at lw_m4 111 rfl) rfl
theorem q936 : (Jvm.Cond.classLink "jdk/internal/util/ArraysSupport" (69 : Nat) "[C") ∈ lw_all := lw_g (lw_at lw_m4 121 rfl) rfl
theorem q937 : (Jvm.Cond.methodLink "jdk/internal/util/ArraysSupport" (71 : Nat) ({ cls := "jdk/internal/util/ArraysSupport", name := "hashCode", desc := "(I[CII)I" } : Jvm.MethodName)) ∈ lw_all := lw_g (lw_at lw_m4 122 rfl) rfl
theorem q938 : (Jvm.Cond.static ({ cls := "jdk/internal/util/ArraysSupport", name := "hashCode", desc := "(I[CII)I" } : Jvm.MethodName)) ∈ lw_all := lw_g (lw_at lw_m4 123 rfl) rfl
theorem q939 : (Jvm.Cond.code ({ cls := "jdk/internal/util/ArraysSupport", name := "hashCode", desc := "(I[CII)I" } : Jvm.MethodName) prog_64_method_7_code (6 : Nat) (Option.some Jvm.ClassFile.FieldType.int)) ∈ lw_all := lw_g (lw_at lw_m4 124 rfl) rfl
theorem q940 : (Jvm.Cond.methodLink "jdk/internal/util/ArraysSupport" (75 : Nat) ({ cls := "jdk/internal/util/ArraysSupport", name := "hashCode", desc := "(I[BII)I" } : Jvm.MethodName)) ∈ lw_all := lw_g (lw_at lw_m4 125 rfl) rfl
theorem q941 : (Jvm.Cond.static ({ cls := "jdk/internal/util/ArraysSupport", name := "hashCode", desc := "(I[BII)I" } : Jvm.MethodName)) ∈ lw_all := lw_g (lw_at lw_m4 126 rfl) rfl
theorem q942 : (Jvm.Cond.code ({ cls := "jdk/internal/util/ArraysSupport", name := "hashCode", desc := "(I[BII)I" } : Jvm.MethodName) prog_64_method_6_code (6 : Nat) (Option.some Jvm.ClassFile.FieldType.int)) ∈ lw_all := lw_g (lw_at lw_m4 127 rfl) rfl
theorem q943 : (Jvm.Cond.classLink "jdk/internal/util/ArraysSupport" (77 : Nat) "[S") ∈ lw_all := lw_g (lw_at lw_m4 128 rfl) rfl
theorem q944 : (Jvm.Cond.methodLink "jdk/internal/util/ArraysSupport" (79 : Nat) ({ cls := "jdk/internal/util/ArraysSupport", name := "hashCode", desc := "(I[SII)I" } : Jvm.MethodName)) ∈ lw_all := lw_g (lw_at lw_m4 129 rfl) rfl
theorem q945 : (Jvm.Cond.static ({ cls := "jdk/internal/util/ArraysSupport", name := "hashCode", desc := "(I[SII)I" } : Jvm.MethodName)) ∈ lw_all := lw_g (lw_at lw_m4 130 rfl) rfl
theorem q946 : (Jvm.Cond.code ({ cls := "jdk/internal/util/ArraysSupport", name := "hashCode", desc := "(I[SII)I" } : Jvm.MethodName) prog_64_method_8_code (6 : Nat) (Option.some Jvm.ClassFile.FieldType.int)) ∈ lw_all := lw_g (lw_at lw_m4 131 rfl) rfl
theorem q947 : (Jvm.Cond.classLink "jdk/internal/util/ArraysSupport" (82 : Nat) "[I") ∈ lw_all := lw_g (lw_at lw_m4 132 rfl) rfl
theorem q948 : (Jvm.Cond.methodLink "jdk/internal/util/ArraysSupport" (84 : Nat) ({ cls := "jdk/internal/util/ArraysSupport", name := "hashCode", desc := "(I[III)I" } : Jvm.MethodName)) ∈ lw_all := lw_g (lw_at lw_m4 133 rfl) rfl
theorem q949 : (Jvm.Cond.static ({ cls := "jdk/internal/util/ArraysSupport", name := "hashCode", desc := "(I[III)I" } : Jvm.MethodName)) ∈ lw_all := lw_g (lw_at lw_m4 134 rfl) rfl
theorem q950 : (Jvm.Cond.code ({ cls := "jdk/internal/util/ArraysSupport", name := "hashCode", desc := "(I[III)I" } : Jvm.MethodName) prog_64_method_9_code (6 : Nat) (Option.some Jvm.ClassFile.FieldType.int)) ∈ lw_all := lw_g (lw_at lw_m4 135 rfl) rfl
theorem q1044 : (Jvm.Cond.static ({ cls := "jdk/internal/util/ArraysSupport", name := "mismatch", desc := "([B[BI)I" } : Jvm.MethodName)) ∈ lw_all := lw_g (lw_at lw_m4 229 rfl) rfl
theorem q1045 : (Jvm.Cond.code ({ cls := "jdk/internal/util/ArraysSupport", name := "mismatch", desc := "([B[BI)I" } : Jvm.MethodName) prog_64_method_13_code (4 : Nat) (Option.some Jvm.ClassFile.FieldType.int)) ∈ lw_all := lw_g (lw_at lw_m4 230 rfl) rfl
theorem q1046 : (Jvm.Cond.fieldLink "jdk/internal/util/ArraysSupport" (126 : Nat) "jdk/internal/misc/Unsafe" "ARRAY_BYTE_BASE_OFFSET" "I") ∈ lw_all := lw_g (lw_at lw_m4 231 rfl) rfl
theorem q1048 : (Jvm.Cond.fieldLink "jdk/internal/util/ArraysSupport" (129 : Nat) "jdk/internal/util/ArraysSupport" "LOG2_ARRAY_BYTE_INDEX_SCALE" "I") ∈ lw_all := lw_g (lw_at lw_m4 233 rfl) rfl
theorem q1049 : (Jvm.Cond.laysStatic "jdk/internal/util/ArraysSupport" "LOG2_ARRAY_BYTE_INDEX_SCALE" "I") ∈ lw_tbl := lw_at lw_m4 234 rfl
theorem q1050 : (Jvm.Cond.methodLink "jdk/internal/util/ArraysSupport" (122 : Nat) ({ cls := "jdk/internal/util/ArraysSupport", name := "vectorizedMismatch", desc := "(Ljava/lang/Object;JLjava/lang/Object;JII)I" } : Jvm.MethodName)) ∈ lw_all := lw_g (lw_at lw_m4 235 rfl) rfl
theorem q1051 : (Jvm.Cond.static ({ cls := "jdk/internal/util/ArraysSupport", name := "vectorizedMismatch", desc := "(Ljava/lang/Object;JLjava/lang/Object;JII)I" } : Jvm.MethodName)) ∈ lw_all := lw_g (lw_at lw_m4 236 rfl) rfl
theorem q1052 : (Jvm.Cond.code ({ cls := "jdk/internal/util/ArraysSupport", name := "vectorizedMismatch", desc := "(Ljava/lang/Object;JLjava/lang/Object;JII)I" } : Jvm.MethodName) prog_64_method_3_code (19 : Nat) (Option.some Jvm.ClassFile.FieldType.int)) ∈ lw_all := lw_g (lw_at lw_m4 237 rfl) rfl
theorem q1053 : (Jvm.Cond.fieldLink "jdk/internal/util/ArraysSupport" (20 : Nat) "jdk/internal/util/ArraysSupport" "LOG2_ARRAY_LONG_INDEX_SCALE" "I") ∈ lw_all := lw_g (lw_at lw_m4 238 rfl) rfl
theorem q1054 : (Jvm.Cond.laysStatic "jdk/internal/util/ArraysSupport" "LOG2_ARRAY_LONG_INDEX_SCALE" "I") ∈ lw_tbl := lw_at lw_m4 239 rfl
theorem q1055 : (Jvm.Cond.fieldLink "jdk/internal/util/ArraysSupport" (26 : Nat) "jdk/internal/util/ArraysSupport" "U" "Ljdk/internal/misc/Unsafe;") ∈ lw_all := lw_g (lw_at lw_m5 0 rfl) rfl
theorem q1056 : (Jvm.Cond.laysStatic "jdk/internal/util/ArraysSupport" "U" "Ljdk/internal/misc/Unsafe;") ∈ lw_tbl := lw_at lw_m5 1 rfl
theorem q1057 : (Jvm.Cond.methodLink "jdk/internal/util/ArraysSupport" (30 : Nat) ({ cls := "jdk/internal/misc/Unsafe", name := "getLongUnaligned", desc := "(Ljava/lang/Object;J)J" } : Jvm.MethodName)) ∈ lw_all := lw_g (lw_at lw_m5 2 rfl) rfl
theorem q1109 : (Jvm.Cond.fieldLink "jdk/internal/util/ArraysSupport" (36 : Nat) "jdk/internal/util/ArraysSupport" "BIG_ENDIAN" "Z") ∈ lw_all := lw_g (lw_at lw_m5 54 rfl) rfl
theorem q1110 : (Jvm.Cond.laysStatic "jdk/internal/util/ArraysSupport" "BIG_ENDIAN" "Z") ∈ lw_tbl := lw_at lw_m5 55 rfl
theorem q1111 : (Jvm.Cond.methodLink "jdk/internal/util/ArraysSupport" (40 : Nat) ({ cls := "java/lang/Long", name := "numberOfLeadingZeros", desc := "(J)I" } : Jvm.MethodName)) ∈ lw_all := lw_g (lw_at lw_m5 56 rfl) rfl
theorem q1118 : (Jvm.Cond.fieldLink "jdk/internal/util/ArraysSupport" (46 : Nat) "jdk/internal/util/ArraysSupport" "LOG2_BYTE_BIT_SIZE" "I") ∈ lw_all := lw_g (lw_at lw_m5 63 rfl) rfl
theorem q1119 : (Jvm.Cond.laysStatic "jdk/internal/util/ArraysSupport" "LOG2_BYTE_BIT_SIZE" "I") ∈ lw_tbl := lw_at lw_m5 64 rfl
theorem q1120 : (Jvm.Cond.methodLink "jdk/internal/util/ArraysSupport" (49 : Nat) ({ cls := "java/lang/Long", name := "numberOfTrailingZeros", desc := "(J)I" } : Jvm.MethodName)) ∈ lw_all := lw_g (lw_at lw_m5 65 rfl) rfl
theorem q1126 : (Jvm.Cond.fieldLink "jdk/internal/util/ArraysSupport" (51 : Nat) "jdk/internal/util/ArraysSupport" "LOG2_ARRAY_INT_INDEX_SCALE" "I") ∈ lw_all := lw_g (lw_at lw_m5 71 rfl) rfl
theorem q1127 : (Jvm.Cond.laysStatic "jdk/internal/util/ArraysSupport" "LOG2_ARRAY_INT_INDEX_SCALE" "I") ∈ lw_tbl := lw_at lw_m5 72 rfl
theorem q1128 : (Jvm.Cond.methodLink "jdk/internal/util/ArraysSupport" (54 : Nat) ({ cls := "jdk/internal/misc/Unsafe", name := "getIntUnaligned", desc := "(Ljava/lang/Object;J)I" } : Jvm.MethodName)) ∈ lw_all := lw_g (lw_at lw_m5 73 rfl) rfl
theorem q1145 : (Jvm.Cond.methodLink "jdk/internal/util/ArraysSupport" (58 : Nat) ({ cls := "java/lang/Integer", name := "numberOfLeadingZeros", desc := "(I)I" } : Jvm.MethodName)) ∈ lw_all := lw_g (lw_at lw_m5 90 rfl) rfl
theorem q1146 : (Jvm.Cond.methodLink "jdk/internal/util/ArraysSupport" (11 : Nat) ({ cls := "java/lang/Integer", name := "numberOfTrailingZeros", desc := "(I)I" } : Jvm.MethodName)) ∈ lw_all := lw_g (lw_at lw_m5 91 rfl) rfl

/-! java/lang/Math -/
set_option maxRecDepth 100000
def RJ8 : String := "java/lang/Math"
abbrev cJ8_max : ByteArray := prog_21_method_65_code
def yJ8_max : MethodName := ⟨RJ8, "max", "(II)I"⟩
def dkwJ8_max_0 : List UInt8 := [26, 27, 161, 0, 7, 26, 167, 0, 4, 27, 172]
abbrev dktJ8_max_0 : List UInt8 := dkwJ8_max_0 ++ []
theorem dksJ8_max_0 : cJ8_max.data.toList.drop 0 = dktJ8_max_0 := by decide +kernel
theorem dJ8_max_0 : decode cJ8_max 0 = .ok (.iload_n 0, 1) := dk_26 (dk_at dksJ8_max_0 0 rfl rfl)
theorem dJ8_max_1 : decode cJ8_max 1 = .ok (.iload_n 1, 1) := dk_27 (dk_at dksJ8_max_0 1 rfl rfl)
theorem dJ8_max_2 : decode cJ8_max 2 = .ok (.if_icmp .lt 7, 3) := dk_161 0 7 (dk_at dksJ8_max_0 2 rfl rfl)
theorem dJ8_max_5 : decode cJ8_max 5 = .ok (.iload_n 0, 1) := dk_26 (dk_at dksJ8_max_0 5 rfl rfl)
theorem dJ8_max_6 : decode cJ8_max 6 = .ok (.goto 4, 3) := dk_167 0 4 (dk_at dksJ8_max_0 6 rfl rfl)
theorem dJ8_max_9 : decode cJ8_max 9 = .ok (.iload_n 1, 1) := dk_27 (dk_at dksJ8_max_0 9 rfl rfl)
theorem dJ8_max_10 : decode cJ8_max 10 = .ok (.ireturn, 1) := dk_172 (dk_at dksJ8_max_0 10 rfl rfl)
abbrev cJ8_min : ByteArray := prog_21_method_69_code
def yJ8_min : MethodName := ⟨RJ8, "min", "(II)I"⟩
def dkwJ8_min_0 : List UInt8 := [26, 27, 163, 0, 7, 26, 167, 0, 4, 27, 172]
abbrev dktJ8_min_0 : List UInt8 := dkwJ8_min_0 ++ []
theorem dksJ8_min_0 : cJ8_min.data.toList.drop 0 = dktJ8_min_0 := by decide +kernel
theorem dJ8_min_0 : decode cJ8_min 0 = .ok (.iload_n 0, 1) := dk_26 (dk_at dksJ8_min_0 0 rfl rfl)
theorem dJ8_min_1 : decode cJ8_min 1 = .ok (.iload_n 1, 1) := dk_27 (dk_at dksJ8_min_0 1 rfl rfl)
theorem dJ8_min_2 : decode cJ8_min 2 = .ok (.if_icmp .gt 7, 3) := dk_163 0 7 (dk_at dksJ8_min_0 2 rfl rfl)
theorem dJ8_min_5 : decode cJ8_min 5 = .ok (.iload_n 0, 1) := dk_26 (dk_at dksJ8_min_0 5 rfl rfl)
theorem dJ8_min_6 : decode cJ8_min 6 = .ok (.goto 4, 3) := dk_167 0 4 (dk_at dksJ8_min_0 6 rfl rfl)
theorem dJ8_min_9 : decode cJ8_min 9 = .ok (.iload_n 1, 1) := dk_27 (dk_at dksJ8_min_0 9 rfl rfl)
theorem dJ8_min_10 : decode cJ8_min 10 = .ok (.ireturn, 1) := dk_172 (dk_at dksJ8_min_0 10 rfl rfl)
theorem q108 : (Jvm.Cond.initialized "java/lang/Math") ∈ lw_all := lw_g (lw_at lw_m1 13 rfl) rfl
theorem q343 : (Jvm.Cond.static ({ cls := "java/lang/Math", name := "max", desc := "(II)I" } : Jvm.MethodName)) ∈ lw_all := lw_g (lw_at lw_m2 8 rfl) rfl
theorem q344 : (Jvm.Cond.code ({ cls := "java/lang/Math", name := "max", desc := "(II)I" } : Jvm.MethodName) prog_21_method_65_code (2 : Nat) (Option.some Jvm.ClassFile.FieldType.int)) ∈ lw_all := lw_g (lw_at lw_m2 9 rfl) rfl
theorem q361 : (Jvm.Cond.static ({ cls := "java/lang/Math", name := "min", desc := "(II)I" } : Jvm.MethodName)) ∈ lw_all := lw_g (lw_at lw_m2 26 rfl) rfl
theorem q362 : (Jvm.Cond.code ({ cls := "java/lang/Math", name := "min", desc := "(II)I" } : Jvm.MethodName) prog_21_method_69_code (2 : Nat) (Option.some Jvm.ClassFile.FieldType.int)) ∈ lw_all := lw_g (lw_at lw_m2 27 rfl) rfl

/-! java/util/Arrays -/
set_option maxRecDepth 100000
def RJ9 : String := "java/util/Arrays"
abbrev cJ9_copyOf : ByteArray := prog_37_method_121_code
def yJ9_copyOf : MethodName := ⟨RJ9, "copyOf", "([BI)[B"⟩
def dkwJ9_copyOf_1 : List UInt8 := [27, 184, 1, 48, 184, 0, 150, 44, 176]
abbrev dktJ9_copyOf_1 : List UInt8 := dkwJ9_copyOf_1 ++ []
def dkwJ9_copyOf_0 : List UInt8 := [27, 42, 190, 160, 0, 11, 42, 182, 1, 54, 192, 1, 55, 176, 27, 188, 8, 77, 42, 3, 44, 3, 42, 190]
abbrev dktJ9_copyOf_0 : List UInt8 := dkwJ9_copyOf_0 ++ dktJ9_copyOf_1
theorem dksJ9_copyOf_0 : cJ9_copyOf.data.toList.drop 0 = dktJ9_copyOf_0 := by decide +kernel
theorem dksJ9_copyOf_1 : cJ9_copyOf.data.toList.drop 24 = dktJ9_copyOf_1 := dk_seg dksJ9_copyOf_0 24 rfl rfl
theorem dJ9_copyOf_0 : decode cJ9_copyOf 0 = .ok (.iload_n 1, 1) := dk_27 (dk_at dksJ9_copyOf_0 0 rfl rfl)
theorem dJ9_copyOf_1 : decode cJ9_copyOf 1 = .ok (.aload_n 0, 1) := dk_42 (dk_at dksJ9_copyOf_0 1 rfl rfl)
theorem dJ9_copyOf_2 : decode cJ9_copyOf 2 = .ok (.arraylength, 1) := dk_190 (dk_at dksJ9_copyOf_0 2 rfl rfl)
theorem dJ9_copyOf_3 : decode cJ9_copyOf 3 = .ok (.if_icmp .ne 11, 3) := dk_160 0 11 (dk_at dksJ9_copyOf_0 3 rfl rfl)
theorem dJ9_copyOf_6 : decode cJ9_copyOf 6 = .ok (.aload_n 0, 1) := dk_42 (dk_at dksJ9_copyOf_0 6 rfl rfl)
theorem dJ9_copyOf_7 : decode cJ9_copyOf 7 = .ok (.invokevirtual 310, 3) := dk_182 1 54 (dk_at dksJ9_copyOf_0 7 rfl rfl)
theorem dJ9_copyOf_10 : decode cJ9_copyOf 10 = .ok (.checkcast 311, 3) := dk_192 1 55 (dk_at dksJ9_copyOf_0 10 rfl rfl)
theorem dJ9_copyOf_13 : decode cJ9_copyOf 13 = .ok (.areturn, 1) := dk_176 (dk_at dksJ9_copyOf_0 13 rfl rfl)
theorem dJ9_copyOf_14 : decode cJ9_copyOf 14 = .ok (.iload_n 1, 1) := dk_27 (dk_at dksJ9_copyOf_0 14 rfl rfl)
theorem dJ9_copyOf_15 : decode cJ9_copyOf 15 = .ok (.newarray .byte, 2) := dk_188_8 (dk_at dksJ9_copyOf_0 15 rfl rfl)
theorem dJ9_copyOf_17 : decode cJ9_copyOf 17 = .ok (.astore_n 2, 1) := dk_77 (dk_at dksJ9_copyOf_0 17 rfl rfl)
theorem dJ9_copyOf_18 : decode cJ9_copyOf 18 = .ok (.aload_n 0, 1) := dk_42 (dk_at dksJ9_copyOf_0 18 rfl rfl)
theorem dJ9_copyOf_19 : decode cJ9_copyOf 19 = .ok (.iconst 0, 1) := dk_3 (dk_at dksJ9_copyOf_0 19 rfl rfl)
theorem dJ9_copyOf_20 : decode cJ9_copyOf 20 = .ok (.aload_n 2, 1) := dk_44 (dk_at dksJ9_copyOf_0 20 rfl rfl)
theorem dJ9_copyOf_21 : decode cJ9_copyOf 21 = .ok (.iconst 0, 1) := dk_3 (dk_at dksJ9_copyOf_0 21 rfl rfl)
theorem dJ9_copyOf_22 : decode cJ9_copyOf 22 = .ok (.aload_n 0, 1) := dk_42 (dk_at dksJ9_copyOf_0 22 rfl rfl)
theorem dJ9_copyOf_23 : decode cJ9_copyOf 23 = .ok (.arraylength, 1) := dk_190 (dk_at dksJ9_copyOf_0 23 rfl rfl)
theorem dJ9_copyOf_24 : decode cJ9_copyOf 24 = .ok (.iload_n 1, 1) := dk_27 (dk_at dksJ9_copyOf_1 0 rfl rfl)
theorem dJ9_copyOf_25 : decode cJ9_copyOf 25 = .ok (.invokestatic 304, 3) := dk_184 1 48 (dk_at dksJ9_copyOf_1 1 rfl rfl)
theorem dJ9_copyOf_28 : decode cJ9_copyOf 28 = .ok (.invokestatic 150, 3) := dk_184 0 150 (dk_at dksJ9_copyOf_1 4 rfl rfl)
theorem dJ9_copyOf_31 : decode cJ9_copyOf 31 = .ok (.aload_n 2, 1) := dk_44 (dk_at dksJ9_copyOf_1 7 rfl rfl)
theorem dJ9_copyOf_32 : decode cJ9_copyOf 32 = .ok (.areturn, 1) := dk_176 (dk_at dksJ9_copyOf_1 8 rfl rfl)
abbrev cJ9_copyOfRange : ByteArray := prog_37_method_132_code
def yJ9_copyOfRange : MethodName := ⟨RJ9, "copyOfRange", "([BII)[B"⟩
def dkwJ9_copyOfRange_1 : List UInt8 := [176]
abbrev dktJ9_copyOfRange_1 : List UInt8 := dkwJ9_copyOfRange_1 ++ []
def dkwJ9_copyOfRange_0 : List UInt8 := [27, 154, 0, 9, 28, 42, 190, 159, 0, 10, 42, 27, 28, 184, 1, 83, 176, 42, 182, 1, 54, 192, 1, 55]
abbrev dktJ9_copyOfRange_0 : List UInt8 := dkwJ9_copyOfRange_0 ++ dktJ9_copyOfRange_1
theorem dksJ9_copyOfRange_0 : cJ9_copyOfRange.data.toList.drop 0 = dktJ9_copyOfRange_0 := by decide +kernel
theorem dksJ9_copyOfRange_1 : cJ9_copyOfRange.data.toList.drop 24 = dktJ9_copyOfRange_1 := dk_seg dksJ9_copyOfRange_0 24 rfl rfl
theorem dJ9_copyOfRange_0 : decode cJ9_copyOfRange 0 = .ok (.iload_n 1, 1) := dk_27 (dk_at dksJ9_copyOfRange_0 0 rfl rfl)
theorem dJ9_copyOfRange_1 : decode cJ9_copyOfRange 1 = .ok (.ifCond .ne 9, 3) := dk_154 0 9 (dk_at dksJ9_copyOfRange_0 1 rfl rfl)
theorem dJ9_copyOfRange_4 : decode cJ9_copyOfRange 4 = .ok (.iload_n 2, 1) := dk_28 (dk_at dksJ9_copyOfRange_0 4 rfl rfl)
theorem dJ9_copyOfRange_5 : decode cJ9_copyOfRange 5 = .ok (.aload_n 0, 1) := dk_42 (dk_at dksJ9_copyOfRange_0 5 rfl rfl)
theorem dJ9_copyOfRange_6 : decode cJ9_copyOfRange 6 = .ok (.arraylength, 1) := dk_190 (dk_at dksJ9_copyOfRange_0 6 rfl rfl)
theorem dJ9_copyOfRange_7 : decode cJ9_copyOfRange 7 = .ok (.if_icmp .eq 10, 3) := dk_159 0 10 (dk_at dksJ9_copyOfRange_0 7 rfl rfl)
theorem dJ9_copyOfRange_10 : decode cJ9_copyOfRange 10 = .ok (.aload_n 0, 1) := dk_42 (dk_at dksJ9_copyOfRange_0 10 rfl rfl)
theorem dJ9_copyOfRange_11 : decode cJ9_copyOfRange 11 = .ok (.iload_n 1, 1) := dk_27 (dk_at dksJ9_copyOfRange_0 11 rfl rfl)
theorem dJ9_copyOfRange_12 : decode cJ9_copyOfRange 12 = .ok (.iload_n 2, 1) := dk_28 (dk_at dksJ9_copyOfRange_0 12 rfl rfl)
theorem dJ9_copyOfRange_13 : decode cJ9_copyOfRange 13 = .ok (.invokestatic 339, 3) := dk_184 1 83 (dk_at dksJ9_copyOfRange_0 13 rfl rfl)
theorem dJ9_copyOfRange_16 : decode cJ9_copyOfRange 16 = .ok (.areturn, 1) := dk_176 (dk_at dksJ9_copyOfRange_0 16 rfl rfl)
theorem dJ9_copyOfRange_17 : decode cJ9_copyOfRange 17 = .ok (.aload_n 0, 1) := dk_42 (dk_at dksJ9_copyOfRange_0 17 rfl rfl)
theorem dJ9_copyOfRange_18 : decode cJ9_copyOfRange 18 = .ok (.invokevirtual 310, 3) := dk_182 1 54 (dk_at dksJ9_copyOfRange_0 18 rfl rfl)
theorem dJ9_copyOfRange_21 : decode cJ9_copyOfRange 21 = .ok (.checkcast 311, 3) := dk_192 1 55 (dk_at dksJ9_copyOfRange_0 21 rfl rfl)
theorem dJ9_copyOfRange_24 : decode cJ9_copyOfRange 24 = .ok (.areturn, 1) := dk_176 (dk_at dksJ9_copyOfRange_1 0 rfl rfl)
abbrev cJ9_copyOfRangeByte : ByteArray := prog_37_method_133_code
def yJ9_copyOfRangeByte : MethodName := ⟨RJ9, "copyOfRangeByte", "([BII)[B"⟩
def dkwJ9_copyOfRangeByte_1 : List UInt8 := [184, 1, 48, 184, 0, 150, 25, 4, 176]
abbrev dktJ9_copyOfRangeByte_1 : List UInt8 := dkwJ9_copyOfRangeByte_1 ++ []
def dkwJ9_copyOfRangeByte_0 : List UInt8 := [27, 28, 184, 1, 87, 28, 27, 100, 62, 29, 188, 8, 58, 4, 42, 27, 25, 4, 3, 42, 190, 27, 100, 29]
abbrev dktJ9_copyOfRangeByte_0 : List UInt8 := dkwJ9_copyOfRangeByte_0 ++ dktJ9_copyOfRangeByte_1
theorem dksJ9_copyOfRangeByte_0 : cJ9_copyOfRangeByte.data.toList.drop 0 = dktJ9_copyOfRangeByte_0 := by decide +kernel
theorem dksJ9_copyOfRangeByte_1 : cJ9_copyOfRangeByte.data.toList.drop 24 = dktJ9_copyOfRangeByte_1 := dk_seg dksJ9_copyOfRangeByte_0 24 rfl rfl
theorem dJ9_copyOfRangeByte_0 : decode cJ9_copyOfRangeByte 0 = .ok (.iload_n 1, 1) := dk_27 (dk_at dksJ9_copyOfRangeByte_0 0 rfl rfl)
theorem dJ9_copyOfRangeByte_1 : decode cJ9_copyOfRangeByte 1 = .ok (.iload_n 2, 1) := dk_28 (dk_at dksJ9_copyOfRangeByte_0 1 rfl rfl)
theorem dJ9_copyOfRangeByte_2 : decode cJ9_copyOfRangeByte 2 = .ok (.invokestatic 343, 3) := dk_184 1 87 (dk_at dksJ9_copyOfRangeByte_0 2 rfl rfl)
theorem dJ9_copyOfRangeByte_5 : decode cJ9_copyOfRangeByte 5 = .ok (.iload_n 2, 1) := dk_28 (dk_at dksJ9_copyOfRangeByte_0 5 rfl rfl)
theorem dJ9_copyOfRangeByte_6 : decode cJ9_copyOfRangeByte 6 = .ok (.iload_n 1, 1) := dk_27 (dk_at dksJ9_copyOfRangeByte_0 6 rfl rfl)
theorem dJ9_copyOfRangeByte_7 : decode cJ9_copyOfRangeByte 7 = .ok (.isub, 1) := dk_100 (dk_at dksJ9_copyOfRangeByte_0 7 rfl rfl)
theorem dJ9_copyOfRangeByte_8 : decode cJ9_copyOfRangeByte 8 = .ok (.istore_n 3, 1) := dk_62 (dk_at dksJ9_copyOfRangeByte_0 8 rfl rfl)
theorem dJ9_copyOfRangeByte_9 : decode cJ9_copyOfRangeByte 9 = .ok (.iload_n 3, 1) := dk_29 (dk_at dksJ9_copyOfRangeByte_0 9 rfl rfl)
theorem dJ9_copyOfRangeByte_10 : decode cJ9_copyOfRangeByte 10 = .ok (.newarray .byte, 2) := dk_188_8 (dk_at dksJ9_copyOfRangeByte_0 10 rfl rfl)
theorem dJ9_copyOfRangeByte_12 : decode cJ9_copyOfRangeByte 12 = .ok (.astore 4, 2) := dk_58 4 (dk_at dksJ9_copyOfRangeByte_0 12 rfl rfl)
theorem dJ9_copyOfRangeByte_14 : decode cJ9_copyOfRangeByte 14 = .ok (.aload_n 0, 1) := dk_42 (dk_at dksJ9_copyOfRangeByte_0 14 rfl rfl)
theorem dJ9_copyOfRangeByte_15 : decode cJ9_copyOfRangeByte 15 = .ok (.iload_n 1, 1) := dk_27 (dk_at dksJ9_copyOfRangeByte_0 15 rfl rfl)
theorem dJ9_copyOfRangeByte_16 : decode cJ9_copyOfRangeByte 16 = .ok (.aload 4, 2) := dk_25 4 (dk_at dksJ9_copyOfRangeByte_0 16 rfl rfl)
theorem dJ9_copyOfRangeByte_18 : decode cJ9_copyOfRangeByte 18 = .ok (.iconst 0, 1) := dk_3 (dk_at dksJ9_copyOfRangeByte_0 18 rfl rfl)
theorem dJ9_copyOfRangeByte_19 : decode cJ9_copyOfRangeByte 19 = .ok (.aload_n 0, 1) := dk_42 (dk_at dksJ9_copyOfRangeByte_0 19 rfl rfl)
theorem dJ9_copyOfRangeByte_20 : decode cJ9_copyOfRangeByte 20 = .ok (.arraylength, 1) := dk_190 (dk_at dksJ9_copyOfRangeByte_0 20 rfl rfl)
theorem dJ9_copyOfRangeByte_21 : decode cJ9_copyOfRangeByte 21 = .ok (.iload_n 1, 1) := dk_27 (dk_at dksJ9_copyOfRangeByte_0 21 rfl rfl)
theorem dJ9_copyOfRangeByte_22 : decode cJ9_copyOfRangeByte 22 = .ok (.isub, 1) := dk_100 (dk_at dksJ9_copyOfRangeByte_0 22 rfl rfl)
theorem dJ9_copyOfRangeByte_23 : decode cJ9_copyOfRangeByte 23 = .ok (.iload_n 3, 1) := dk_29 (dk_at dksJ9_copyOfRangeByte_0 23 rfl rfl)
theorem dJ9_copyOfRangeByte_24 : decode cJ9_copyOfRangeByte 24 = .ok (.invokestatic 304, 3) := dk_184 1 48 (dk_at dksJ9_copyOfRangeByte_1 0 rfl rfl)
theorem dJ9_copyOfRangeByte_27 : decode cJ9_copyOfRangeByte 27 = .ok (.invokestatic 150, 3) := dk_184 0 150 (dk_at dksJ9_copyOfRangeByte_1 3 rfl rfl)
theorem dJ9_copyOfRangeByte_30 : decode cJ9_copyOfRangeByte 30 = .ok (.aload 4, 2) := dk_25 4 (dk_at dksJ9_copyOfRangeByte_1 6 rfl rfl)
theorem dJ9_copyOfRangeByte_32 : decode cJ9_copyOfRangeByte 32 = .ok (.areturn, 1) := dk_176 (dk_at dksJ9_copyOfRangeByte_1 8 rfl rfl)
abbrev cJ9_checkLength : ByteArray := prog_37_method_131_code
def yJ9_checkLength : MethodName := ⟨RJ9, "checkLength", "(II)V"⟩
def dkwJ9_checkLength_1 : List UInt8 := [182, 0, 50, 27, 182, 0, 54, 182, 0, 61, 183, 0, 65, 191, 177]
abbrev dktJ9_checkLength_1 : List UInt8 := dkwJ9_checkLength_1 ++ []
def dkwJ9_checkLength_0 : List UInt8 := [27, 26, 162, 0, 35, 187, 0, 43, 89, 187, 0, 45, 89, 183, 0, 47, 26, 182, 0, 54, 19, 1, 81]
abbrev dktJ9_checkLength_0 : List UInt8 := dkwJ9_checkLength_0 ++ dktJ9_checkLength_1
theorem dksJ9_checkLength_0 : cJ9_checkLength.data.toList.drop 0 = dktJ9_checkLength_0 := by decide +kernel
theorem dksJ9_checkLength_1 : cJ9_checkLength.data.toList.drop 23 = dktJ9_checkLength_1 := dk_seg dksJ9_checkLength_0 23 rfl rfl
theorem dJ9_checkLength_0 : decode cJ9_checkLength 0 = .ok (.iload_n 1, 1) := dk_27 (dk_at dksJ9_checkLength_0 0 rfl rfl)
theorem dJ9_checkLength_1 : decode cJ9_checkLength 1 = .ok (.iload_n 0, 1) := dk_26 (dk_at dksJ9_checkLength_0 1 rfl rfl)
theorem dJ9_checkLength_2 : decode cJ9_checkLength 2 = .ok (.if_icmp .ge 35, 3) := dk_162 0 35 (dk_at dksJ9_checkLength_0 2 rfl rfl)
theorem dJ9_checkLength_5 : decode cJ9_checkLength 5 = .ok (.new 43, 3) := dk_187 0 43 (dk_at dksJ9_checkLength_0 5 rfl rfl)
theorem dJ9_checkLength_8 : decode cJ9_checkLength 8 = .ok (.dup, 1) := dk_89 (dk_at dksJ9_checkLength_0 8 rfl rfl)
theorem dJ9_checkLength_9 : decode cJ9_checkLength 9 = .ok (.new 45, 3) := dk_187 0 45 (dk_at dksJ9_checkLength_0 9 rfl rfl)
theorem dJ9_checkLength_12 : decode cJ9_checkLength 12 = .ok (.dup, 1) := dk_89 (dk_at dksJ9_checkLength_0 12 rfl rfl)
theorem dJ9_checkLength_13 : decode cJ9_checkLength 13 = .ok (.invokespecial 47, 3) := dk_183 0 47 (dk_at dksJ9_checkLength_0 13 rfl rfl)
theorem dJ9_checkLength_16 : decode cJ9_checkLength 16 = .ok (.iload_n 0, 1) := dk_26 (dk_at dksJ9_checkLength_0 16 rfl rfl)
theorem dJ9_checkLength_17 : decode cJ9_checkLength 17 = .ok (.invokevirtual 54, 3) := dk_182 0 54 (dk_at dksJ9_checkLength_0 17 rfl rfl)
theorem dJ9_checkLength_20 : decode cJ9_checkLength 20 = .ok (.ldc_w 337, 3) := dk_19 1 81 (dk_at dksJ9_checkLength_0 20 rfl rfl)
theorem dJ9_checkLength_23 : decode cJ9_checkLength 23 = .ok (.invokevirtual 50, 3) := dk_182 0 50 (dk_at dksJ9_checkLength_1 0 rfl rfl)
theorem dJ9_checkLength_26 : decode cJ9_checkLength 26 = .ok (.iload_n 1, 1) := dk_27 (dk_at dksJ9_checkLength_1 3 rfl rfl)
theorem dJ9_checkLength_27 : decode cJ9_checkLength 27 = .ok (.invokevirtual 54, 3) := dk_182 0 54 (dk_at dksJ9_checkLength_1 4 rfl rfl)
theorem dJ9_checkLength_30 : decode cJ9_checkLength 30 = .ok (.invokevirtual 61, 3) := dk_182 0 61 (dk_at dksJ9_checkLength_1 7 rfl rfl)
theorem dJ9_checkLength_33 : decode cJ9_checkLength 33 = .ok (.invokespecial 65, 3) := dk_183 0 65 (dk_at dksJ9_checkLength_1 10 rfl rfl)
theorem dJ9_checkLength_36 : decode cJ9_checkLength 36 = .ok (.athrow, 1) := dk_191 (dk_at dksJ9_checkLength_1 13 rfl rfl)
theorem dJ9_checkLength_37 : decode cJ9_checkLength 37 = .ok (.return_, 1) := dk_177 (dk_at dksJ9_checkLength_1 14 rfl rfl)
abbrev cJ9_copyOf_2 : ByteArray := prog_37_method_119_code
def yJ9_copyOf_2 : MethodName := ⟨RJ9, "copyOf", "([Ljava/lang/Object;I)[Ljava/lang/Object;"⟩
def dkwJ9_copyOf_2_0 : List UInt8 := [42, 27, 42, 182, 0, 86, 184, 1, 44, 176]
abbrev dktJ9_copyOf_2_0 : List UInt8 := dkwJ9_copyOf_2_0 ++ []
theorem dksJ9_copyOf_2_0 : cJ9_copyOf_2.data.toList.drop 0 = dktJ9_copyOf_2_0 := by decide +kernel
theorem dJ9_copyOf_2_0 : decode cJ9_copyOf_2 0 = .ok (.aload_n 0, 1) := dk_42 (dk_at dksJ9_copyOf_2_0 0 rfl rfl)
theorem dJ9_copyOf_2_1 : decode cJ9_copyOf_2 1 = .ok (.iload_n 1, 1) := dk_27 (dk_at dksJ9_copyOf_2_0 1 rfl rfl)
theorem dJ9_copyOf_2_2 : decode cJ9_copyOf_2 2 = .ok (.aload_n 0, 1) := dk_42 (dk_at dksJ9_copyOf_2_0 2 rfl rfl)
theorem dJ9_copyOf_2_3 : decode cJ9_copyOf_2 3 = .ok (.invokevirtual 86, 3) := dk_182 0 86 (dk_at dksJ9_copyOf_2_0 3 rfl rfl)
theorem dJ9_copyOf_2_6 : decode cJ9_copyOf_2 6 = .ok (.invokestatic 300, 3) := dk_184 1 44 (dk_at dksJ9_copyOf_2_0 6 rfl rfl)
theorem dJ9_copyOf_2_9 : decode cJ9_copyOf_2 9 = .ok (.areturn, 1) := dk_176 (dk_at dksJ9_copyOf_2_0 9 rfl rfl)
abbrev cJ9_copyOf_3 : ByteArray := prog_37_method_120_code
def yJ9_copyOf_3 : MethodName := ⟨RJ9, "copyOf", "([Ljava/lang/Object;ILjava/lang/Class;)[Ljava/lang/Object;"⟩
def dkwJ9_copyOf_3_1 : List UInt8 := [78, 42, 3, 45, 3, 42, 190, 27, 184, 1, 48, 184, 0, 150, 45, 176]
abbrev dktJ9_copyOf_3_1 : List UInt8 := dkwJ9_copyOf_3_1 ++ []
def dkwJ9_copyOf_3_0 : List UInt8 := [44, 18, 110, 166, 0, 10, 27, 189, 0, 2, 167, 0, 14, 44, 182, 0, 90, 27, 184, 0, 95, 192, 0, 110]
abbrev dktJ9_copyOf_3_0 : List UInt8 := dkwJ9_copyOf_3_0 ++ dktJ9_copyOf_3_1
theorem dksJ9_copyOf_3_0 : cJ9_copyOf_3.data.toList.drop 0 = dktJ9_copyOf_3_0 := by decide +kernel
theorem dksJ9_copyOf_3_1 : cJ9_copyOf_3.data.toList.drop 24 = dktJ9_copyOf_3_1 := dk_seg dksJ9_copyOf_3_0 24 rfl rfl
theorem dJ9_copyOf_3_0 : decode cJ9_copyOf_3 0 = .ok (.aload_n 2, 1) := dk_44 (dk_at dksJ9_copyOf_3_0 0 rfl rfl)
theorem dJ9_copyOf_3_1 : decode cJ9_copyOf_3 1 = .ok (.ldc 110, 2) := dk_18 110 (dk_at dksJ9_copyOf_3_0 1 rfl rfl)
theorem dJ9_copyOf_3_3 : decode cJ9_copyOf_3 3 = .ok (.if_acmp .ne 10, 3) := dk_166 0 10 (dk_at dksJ9_copyOf_3_0 3 rfl rfl)
theorem dJ9_copyOf_3_6 : decode cJ9_copyOf_3 6 = .ok (.iload_n 1, 1) := dk_27 (dk_at dksJ9_copyOf_3_0 6 rfl rfl)
theorem dJ9_copyOf_3_7 : decode cJ9_copyOf_3 7 = .ok (.anewarray 2, 3) := dk_189 0 2 (dk_at dksJ9_copyOf_3_0 7 rfl rfl)
theorem dJ9_copyOf_3_10 : decode cJ9_copyOf_3 10 = .ok (.goto 14, 3) := dk_167 0 14 (dk_at dksJ9_copyOf_3_0 10 rfl rfl)
theorem dJ9_copyOf_3_13 : decode cJ9_copyOf_3 13 = .ok (.aload_n 2, 1) := dk_44 (dk_at dksJ9_copyOf_3_0 13 rfl rfl)
theorem dJ9_copyOf_3_14 : decode cJ9_copyOf_3 14 = .ok (.invokevirtual 90, 3) := dk_182 0 90 (dk_at dksJ9_copyOf_3_0 14 rfl rfl)
theorem dJ9_copyOf_3_17 : decode cJ9_copyOf_3 17 = .ok (.iload_n 1, 1) := dk_27 (dk_at dksJ9_copyOf_3_0 17 rfl rfl)
theorem dJ9_copyOf_3_18 : decode cJ9_copyOf_3 18 = .ok (.invokestatic 95, 3) := dk_184 0 95 (dk_at dksJ9_copyOf_3_0 18 rfl rfl)
theorem dJ9_copyOf_3_21 : decode cJ9_copyOf_3 21 = .ok (.checkcast 110, 3) := dk_192 0 110 (dk_at dksJ9_copyOf_3_0 21 rfl rfl)
theorem dJ9_copyOf_3_24 : decode cJ9_copyOf_3 24 = .ok (.astore_n 3, 1) := dk_78 (dk_at dksJ9_copyOf_3_1 0 rfl rfl)
theorem dJ9_copyOf_3_25 : decode cJ9_copyOf_3 25 = .ok (.aload_n 0, 1) := dk_42 (dk_at dksJ9_copyOf_3_1 1 rfl rfl)
theorem dJ9_copyOf_3_26 : decode cJ9_copyOf_3 26 = .ok (.iconst 0, 1) := dk_3 (dk_at dksJ9_copyOf_3_1 2 rfl rfl)
theorem dJ9_copyOf_3_27 : decode cJ9_copyOf_3 27 = .ok (.aload_n 3, 1) := dk_45 (dk_at dksJ9_copyOf_3_1 3 rfl rfl)
theorem dJ9_copyOf_3_28 : decode cJ9_copyOf_3 28 = .ok (.iconst 0, 1) := dk_3 (dk_at dksJ9_copyOf_3_1 4 rfl rfl)
theorem dJ9_copyOf_3_29 : decode cJ9_copyOf_3 29 = .ok (.aload_n 0, 1) := dk_42 (dk_at dksJ9_copyOf_3_1 5 rfl rfl)
theorem dJ9_copyOf_3_30 : decode cJ9_copyOf_3 30 = .ok (.arraylength, 1) := dk_190 (dk_at dksJ9_copyOf_3_1 6 rfl rfl)
theorem dJ9_copyOf_3_31 : decode cJ9_copyOf_3 31 = .ok (.iload_n 1, 1) := dk_27 (dk_at dksJ9_copyOf_3_1 7 rfl rfl)
theorem dJ9_copyOf_3_32 : decode cJ9_copyOf_3 32 = .ok (.invokestatic 304, 3) := dk_184 1 48 (dk_at dksJ9_copyOf_3_1 8 rfl rfl)
theorem dJ9_copyOf_3_35 : decode cJ9_copyOf_3 35 = .ok (.invokestatic 150, 3) := dk_184 0 150 (dk_at dksJ9_copyOf_3_1 11 rfl rfl)
theorem dJ9_copyOf_3_38 : decode cJ9_copyOf_3 38 = .ok (.aload_n 3, 1) := dk_45 (dk_at dksJ9_copyOf_3_1 14 rfl rfl)
theorem dJ9_copyOf_3_39 : decode cJ9_copyOf_3 39 = .ok (.areturn, 1) := dk_176 (dk_at dksJ9_copyOf_3_1 15 rfl rfl)
theorem q109 : (Jvm.Cond.initialized "java/util/Arrays") ∈ lw_all := lw_g (lw_at lw_m1 14 rfl) rfl
theorem q351 : (Jvm.Cond.static ({ cls := "java/util/Arrays", name := "copyOf", desc := "([BI)[B" } : Jvm.MethodName)) ∈ lw_all := lw_g (lw_at lw_m2 16 rfl) rfl
theorem q352 : (Jvm.Cond.code ({ cls := "java/util/Arrays", name := "copyOf", desc := "([BI)[B" } : Jvm.MethodName) prog_37_method_121_code (3 : Nat) (Option.some (Jvm.ClassFile.FieldType.array Jvm.ClassFile.FieldType.byte))) ∈ lw_all := lw_g (lw_at lw_m2 17 rfl) rfl
theorem q353 : (Jvm.Cond.methodLink "java/util/Arrays" (310 : Nat) ({ cls := "[B", name := "clone", desc := "()Ljava/lang/Object;" } : Jvm.MethodName)) ∈ lw_all := lw_g (lw_at lw_m2 18 rfl) rfl
theorem q359 : (Jvm.Cond.classLink "java/util/Arrays" (311 : Nat) "[B") ∈ lw_all := lw_g (lw_at lw_m2 24 rfl) rfl
theorem q360 : (Jvm.Cond.methodLink "java/util/Arrays" (304 : Nat) ({ cls := "java/lang/Math", name := "min", desc := "(II)I" } : Jvm.MethodName)) ∈ lw_all := lw_g (lw_at lw_m2 25 rfl) rfl
theorem q363 : (Jvm.Cond.methodLink "java/util/Arrays" (150 : Nat) ({ cls := "java/lang/System", name := "arraycopy", desc := "(Ljava/lang/Object;ILjava/lang/Object;II)V" } : Jvm.MethodName)) ∈ lw_all := lw_g (lw_at lw_m2 28 rfl) rfl
theorem q447 : (Jvm.Cond.static ({ cls := "java/util/Arrays", name := "copyOfRange", desc := "([BII)[B" } : Jvm.MethodName)) ∈ lw_all := lw_g (lw_at lw_m2 112 rfl) rfl
theorem q448 : (Jvm.Cond.code ({ cls := "java/util/Arrays", name := "copyOfRange", desc := "([BII)[B" } : Jvm.MethodName) prog_37_method_132_code (3 : Nat) (Option.some (Jvm.ClassFile.FieldType.array Jvm.ClassFile.FieldType.byte))) ∈ lw_all := lw_g (lw_at lw_m2 113 rfl) rfl
theorem q449 : (Jvm.Cond.methodLink "java/util/Arrays" (339 : Nat) ({ cls := "java/util/Arrays", name := "copyOfRangeByte", desc := "([BII)[B" } : Jvm.MethodName)) ∈ lw_all := lw_g (lw_at lw_m2 114 rfl) rfl
theorem q450 : (Jvm.Cond.static ({ cls := "java/util/Arrays", name := "copyOfRangeByte", desc := "([BII)[B" } : Jvm.MethodName)) ∈ lw_all := lw_g (lw_at lw_m2 115 rfl) rfl
theorem q451 : (Jvm.Cond.code ({ cls := "java/util/Arrays", name := "copyOfRangeByte", desc := "([BII)[B" } : Jvm.MethodName) prog_37_method_133_code (5 : Nat) (Option.some (Jvm.ClassFile.FieldType.array Jvm.ClassFile.FieldType.byte))) ∈ lw_all := lw_g (lw_at lw_m2 116 rfl) rfl
theorem q452 : (Jvm.Cond.methodLink "java/util/Arrays" (343 : Nat) ({ cls := "java/util/Arrays", name := "checkLength", desc := "(II)V" } : Jvm.MethodName)) ∈ lw_all := lw_g (lw_at lw_m2 117 rfl) rfl
theorem q453 : (Jvm.Cond.static ({ cls := "java/util/Arrays", name := "checkLength", desc := "(II)V" } : Jvm.MethodName)) ∈ lw_all := lw_g (lw_at lw_m2 118 rfl) rfl
theorem q454 : (Jvm.Cond.code ({ cls := "java/util/Arrays", name := "checkLength", desc := "(II)V" } : Jvm.MethodName) prog_37_method_131_code (2 : Nat) (Option.none : Option Jvm.ClassFile.FieldType)) ∈ lw_all := lw_g (lw_at lw_m2 119 rfl) rfl
theorem q539 : (Jvm.Cond.static ({ cls := "java/util/Arrays", name := "copyOf", desc := "([Ljava/lang/Object;I)[Ljava/lang/Object;" } : Jvm.MethodName)) ∈ lw_all := lw_g (lw_at lw_m2 204 rfl) rfl
theorem q540 : (Jvm.Cond.code ({ cls := "java/util/Arrays", name := "copyOf", desc := "([Ljava/lang/Object;I)[Ljava/lang/Object;" } : Jvm.MethodName) prog_37_method_119_code (2 : Nat) (Option.some (Jvm.ClassFile.FieldType.array (Jvm.ClassFile.FieldType.object "java/lang/Object")))) ∈ lw_all := lw_g (lw_at lw_m2 205 rfl) rfl
theorem q541 : (Jvm.Cond.methodLink "java/util/Arrays" (86 : Nat) ({ cls := "java/lang/Object", name := "getClass", desc := "()Ljava/lang/Class;" } : Jvm.MethodName)) ∈ lw_all := lw_g (lw_at lw_m2 206 rfl) rfl
theorem q570 : (Jvm.Cond.methodLink "java/util/Arrays" (300 : Nat) ({ cls := "java/util/Arrays", name := "copyOf", desc := "([Ljava/lang/Object;ILjava/lang/Class;)[Ljava/lang/Object;" } : Jvm.MethodName)) ∈ lw_all := lw_g (lw_at lw_m2 235 rfl) rfl
theorem q571 : (Jvm.Cond.static ({ cls := "java/util/Arrays", name := "copyOf", desc := "([Ljava/lang/Object;ILjava/lang/Class;)[Ljava/lang/Object;" } : Jvm.MethodName)) ∈ lw_all := lw_g (lw_at lw_m2 236 rfl) rfl
theorem q572 : (Jvm.Cond.code ({ cls := "java/util/Arrays", name := "copyOf", desc := "([Ljava/lang/Object;ILjava/lang/Class;)[Ljava/lang/Object;" } : Jvm.MethodName) prog_37_method_120_code (4 : Nat) (Option.some (Jvm.ClassFile.FieldType.array (Jvm.ClassFile.FieldType.object "java/lang/Object")))) ∈ lw_all := lw_g (lw_at lw_m2 237 rfl) rfl
theorem q573 : (Jvm.Cond.classLink "java/util/Arrays" (110 : Nat) "[Ljava/lang/Object;") ∈ lw_all := lw_g (lw_at lw_m2 238 rfl) rfl
theorem q575 : (Jvm.Cond.classLink "java/util/Arrays" (2 : Nat) "java/lang/Object") ∈ lw_all := lw_g (lw_at lw_m3 0 rfl) rfl

/-! java/lang/StringLatin1 -/
set_option maxRecDepth 100000
def RJ10 : String := "java/lang/StringLatin1"
abbrev cJ10_canEncode : ByteArray := prog_26_method_3_code
def yJ10_canEncode : MethodName := ⟨RJ10, "canEncode", "(C)Z"⟩
def dkwJ10_canEncode_0 : List UInt8 := [26, 17, 0, 255, 163, 0, 7, 4, 167, 0, 4, 3, 172]
abbrev dktJ10_canEncode_0 : List UInt8 := dkwJ10_canEncode_0 ++ []
theorem dksJ10_canEncode_0 : cJ10_canEncode.data.toList.drop 0 = dktJ10_canEncode_0 := by decide +kernel
theorem dJ10_canEncode_0 : decode cJ10_canEncode 0 = .ok (.iload_n 0, 1) := dk_26 (dk_at dksJ10_canEncode_0 0 rfl rfl)
theorem dJ10_canEncode_1 : decode cJ10_canEncode 1 = .ok (.sipush 255, 3) := dk_17 0 255 (dk_at dksJ10_canEncode_0 1 rfl rfl)
theorem dJ10_canEncode_4 : decode cJ10_canEncode 4 = .ok (.if_icmp .gt 7, 3) := dk_163 0 7 (dk_at dksJ10_canEncode_0 4 rfl rfl)
theorem dJ10_canEncode_7 : decode cJ10_canEncode 7 = .ok (.iconst 1, 1) := dk_4 (dk_at dksJ10_canEncode_0 7 rfl rfl)
theorem dJ10_canEncode_8 : decode cJ10_canEncode 8 = .ok (.goto 4, 3) := dk_167 0 4 (dk_at dksJ10_canEncode_0 8 rfl rfl)
theorem dJ10_canEncode_11 : decode cJ10_canEncode 11 = .ok (.iconst 0, 1) := dk_3 (dk_at dksJ10_canEncode_0 11 rfl rfl)
theorem dJ10_canEncode_12 : decode cJ10_canEncode 12 = .ok (.ireturn, 1) := dk_172 (dk_at dksJ10_canEncode_0 12 rfl rfl)
abbrev cJ10_inflate : ByteArray := prog_26_method_50_code
def yJ10_inflate : MethodName := ⟨RJ10, "inflate", "([BI[BII)V"⟩
def dkwJ10_inflate_0 : List UInt8 := [42, 27, 44, 29, 21, 4, 184, 0, 240, 177]
abbrev dktJ10_inflate_0 : List UInt8 := dkwJ10_inflate_0 ++ []
theorem dksJ10_inflate_0 : cJ10_inflate.data.toList.drop 0 = dktJ10_inflate_0 := by decide +kernel
theorem dJ10_inflate_0 : decode cJ10_inflate 0 = .ok (.aload_n 0, 1) := dk_42 (dk_at dksJ10_inflate_0 0 rfl rfl)
theorem dJ10_inflate_1 : decode cJ10_inflate 1 = .ok (.iload_n 1, 1) := dk_27 (dk_at dksJ10_inflate_0 1 rfl rfl)
theorem dJ10_inflate_2 : decode cJ10_inflate 2 = .ok (.aload_n 2, 1) := dk_44 (dk_at dksJ10_inflate_0 2 rfl rfl)
theorem dJ10_inflate_3 : decode cJ10_inflate 3 = .ok (.iload_n 3, 1) := dk_29 (dk_at dksJ10_inflate_0 3 rfl rfl)
theorem dJ10_inflate_4 : decode cJ10_inflate 4 = .ok (.iload 4, 2) := dk_21 4 (dk_at dksJ10_inflate_0 4 rfl rfl)
theorem dJ10_inflate_6 : decode cJ10_inflate 6 = .ok (.invokestatic 240, 3) := dk_184 0 240 (dk_at dksJ10_inflate_0 6 rfl rfl)
theorem dJ10_inflate_9 : decode cJ10_inflate 9 = .ok (.return_, 1) := dk_177 (dk_at dksJ10_inflate_0 9 rfl rfl)
abbrev cJ10_newString : ByteArray := prog_26_method_47_code
def yJ10_newString : MethodName := ⟨RJ10, "newString", "([BII)Ljava/lang/String;"⟩
def dkwJ10_newString_0 : List UInt8 := [28, 154, 0, 6, 18, 151, 176, 187, 0, 1, 89, 42, 27, 27, 28, 96, 184, 0, 232, 3, 183, 0, 112, 176]
abbrev dktJ10_newString_0 : List UInt8 := dkwJ10_newString_0 ++ []
theorem dksJ10_newString_0 : cJ10_newString.data.toList.drop 0 = dktJ10_newString_0 := by decide +kernel
theorem dJ10_newString_0 : decode cJ10_newString 0 = .ok (.iload_n 2, 1) := dk_28 (dk_at dksJ10_newString_0 0 rfl rfl)
theorem dJ10_newString_1 : decode cJ10_newString 1 = .ok (.ifCond .ne 6, 3) := dk_154 0 6 (dk_at dksJ10_newString_0 1 rfl rfl)
theorem dJ10_newString_4 : decode cJ10_newString 4 = .ok (.ldc 151, 2) := dk_18 151 (dk_at dksJ10_newString_0 4 rfl rfl)
theorem dJ10_newString_6 : decode cJ10_newString 6 = .ok (.areturn, 1) := dk_176 (dk_at dksJ10_newString_0 6 rfl rfl)
theorem dJ10_newString_7 : decode cJ10_newString 7 = .ok (.new 1, 3) := dk_187 0 1 (dk_at dksJ10_newString_0 7 rfl rfl)
theorem dJ10_newString_10 : decode cJ10_newString 10 = .ok (.dup, 1) := dk_89 (dk_at dksJ10_newString_0 10 rfl rfl)
theorem dJ10_newString_11 : decode cJ10_newString 11 = .ok (.aload_n 0, 1) := dk_42 (dk_at dksJ10_newString_0 11 rfl rfl)
theorem dJ10_newString_12 : decode cJ10_newString 12 = .ok (.iload_n 1, 1) := dk_27 (dk_at dksJ10_newString_0 12 rfl rfl)
theorem dJ10_newString_13 : decode cJ10_newString 13 = .ok (.iload_n 1, 1) := dk_27 (dk_at dksJ10_newString_0 13 rfl rfl)
theorem dJ10_newString_14 : decode cJ10_newString 14 = .ok (.iload_n 2, 1) := dk_28 (dk_at dksJ10_newString_0 14 rfl rfl)
theorem dJ10_newString_15 : decode cJ10_newString 15 = .ok (.iadd, 1) := dk_96 (dk_at dksJ10_newString_0 15 rfl rfl)
theorem dJ10_newString_16 : decode cJ10_newString 16 = .ok (.invokestatic 232, 3) := dk_184 0 232 (dk_at dksJ10_newString_0 16 rfl rfl)
theorem dJ10_newString_19 : decode cJ10_newString 19 = .ok (.iconst 0, 1) := dk_3 (dk_at dksJ10_newString_0 19 rfl rfl)
theorem dJ10_newString_20 : decode cJ10_newString 20 = .ok (.invokespecial 112, 3) := dk_183 0 112 (dk_at dksJ10_newString_0 20 rfl rfl)
theorem dJ10_newString_23 : decode cJ10_newString 23 = .ok (.areturn, 1) := dk_176 (dk_at dksJ10_newString_0 23 rfl rfl)
abbrev cJ10_charAt : ByteArray := prog_26_method_2_code
def yJ10_charAt : MethodName := ⟨RJ10, "charAt", "([BI)C"⟩
def dkwJ10_charAt_0 : List UInt8 := [27, 42, 190, 184, 0, 9, 42, 27, 51, 17, 0, 255, 126, 146, 172]
abbrev dktJ10_charAt_0 : List UInt8 := dkwJ10_charAt_0 ++ []
theorem dksJ10_charAt_0 : cJ10_charAt.data.toList.drop 0 = dktJ10_charAt_0 := by decide +kernel
theorem dJ10_charAt_0 : decode cJ10_charAt 0 = .ok (.iload_n 1, 1) := dk_27 (dk_at dksJ10_charAt_0 0 rfl rfl)
theorem dJ10_charAt_1 : decode cJ10_charAt 1 = .ok (.aload_n 0, 1) := dk_42 (dk_at dksJ10_charAt_0 1 rfl rfl)
theorem dJ10_charAt_2 : decode cJ10_charAt 2 = .ok (.arraylength, 1) := dk_190 (dk_at dksJ10_charAt_0 2 rfl rfl)
theorem dJ10_charAt_3 : decode cJ10_charAt 3 = .ok (.invokestatic 9, 3) := dk_184 0 9 (dk_at dksJ10_charAt_0 3 rfl rfl)
theorem dJ10_charAt_6 : decode cJ10_charAt 6 = .ok (.aload_n 0, 1) := dk_42 (dk_at dksJ10_charAt_0 6 rfl rfl)
theorem dJ10_charAt_7 : decode cJ10_charAt 7 = .ok (.iload_n 1, 1) := dk_27 (dk_at dksJ10_charAt_0 7 rfl rfl)
theorem dJ10_charAt_8 : decode cJ10_charAt 8 = .ok (.baload, 1) := dk_51 (dk_at dksJ10_charAt_0 8 rfl rfl)
theorem dJ10_charAt_9 : decode cJ10_charAt 9 = .ok (.sipush 255, 3) := dk_17 0 255 (dk_at dksJ10_charAt_0 9 rfl rfl)
theorem dJ10_charAt_12 : decode cJ10_charAt 12 = .ok (.iand, 1) := dk_126 (dk_at dksJ10_charAt_0 12 rfl rfl)
theorem dJ10_charAt_13 : decode cJ10_charAt 13 = .ok (.i2c, 1) := dk_146 (dk_at dksJ10_charAt_0 13 rfl rfl)
theorem dJ10_charAt_14 : decode cJ10_charAt 14 = .ok (.ireturn, 1) := dk_172 (dk_at dksJ10_charAt_0 14 rfl rfl)
abbrev cJ10_equals : ByteArray := prog_26_method_13_code
def yJ10_equals : MethodName := ⟨RJ10, "equals", "([B[B)Z"⟩
def dkwJ10_equals_1 : List UInt8 := [3, 172, 132, 2, 1, 167, 255, 236, 4, 172, 3, 172]
abbrev dktJ10_equals_1 : List UInt8 := dkwJ10_equals_1 ++ []
def dkwJ10_equals_0 : List UInt8 := [42, 190, 43, 190, 160, 0, 30, 3, 61, 28, 42, 190, 162, 0, 20, 42, 28, 51, 43, 28, 51, 159, 0, 5]
abbrev dktJ10_equals_0 : List UInt8 := dkwJ10_equals_0 ++ dktJ10_equals_1
theorem dksJ10_equals_0 : cJ10_equals.data.toList.drop 0 = dktJ10_equals_0 := by decide +kernel
theorem dksJ10_equals_1 : cJ10_equals.data.toList.drop 24 = dktJ10_equals_1 := dk_seg dksJ10_equals_0 24 rfl rfl
theorem dJ10_equals_0 : decode cJ10_equals 0 = .ok (.aload_n 0, 1) := dk_42 (dk_at dksJ10_equals_0 0 rfl rfl)
theorem dJ10_equals_1 : decode cJ10_equals 1 = .ok (.arraylength, 1) := dk_190 (dk_at dksJ10_equals_0 1 rfl rfl)
theorem dJ10_equals_2 : decode cJ10_equals 2 = .ok (.aload_n 1, 1) := dk_43 (dk_at dksJ10_equals_0 2 rfl rfl)
theorem dJ10_equals_3 : decode cJ10_equals 3 = .ok (.arraylength, 1) := dk_190 (dk_at dksJ10_equals_0 3 rfl rfl)
theorem dJ10_equals_4 : decode cJ10_equals 4 = .ok (.if_icmp .ne 30, 3) := dk_160 0 30 (dk_at dksJ10_equals_0 4 rfl rfl)
theorem dJ10_equals_7 : decode cJ10_equals 7 = .ok (.iconst 0, 1) := dk_3 (dk_at dksJ10_equals_0 7 rfl rfl)
theorem dJ10_equals_8 : decode cJ10_equals 8 = .ok (.istore_n 2, 1) := dk_61 (dk_at dksJ10_equals_0 8 rfl rfl)
theorem dJ10_equals_9 : decode cJ10_equals 9 = .ok (.iload_n 2, 1) := dk_28 (dk_at dksJ10_equals_0 9 rfl rfl)
theorem dJ10_equals_10 : decode cJ10_equals 10 = .ok (.aload_n 0, 1) := dk_42 (dk_at dksJ10_equals_0 10 rfl rfl)
theorem dJ10_equals_11 : decode cJ10_equals 11 = .ok (.arraylength, 1) := dk_190 (dk_at dksJ10_equals_0 11 rfl rfl)
theorem dJ10_equals_12 : decode cJ10_equals 12 = .ok (.if_icmp .ge 20, 3) := dk_162 0 20 (dk_at dksJ10_equals_0 12 rfl rfl)
theorem dJ10_equals_15 : decode cJ10_equals 15 = .ok (.aload_n 0, 1) := dk_42 (dk_at dksJ10_equals_0 15 rfl rfl)
theorem dJ10_equals_16 : decode cJ10_equals 16 = .ok (.iload_n 2, 1) := dk_28 (dk_at dksJ10_equals_0 16 rfl rfl)
theorem dJ10_equals_17 : decode cJ10_equals 17 = .ok (.baload, 1) := dk_51 (dk_at dksJ10_equals_0 17 rfl rfl)
theorem dJ10_equals_18 : decode cJ10_equals 18 = .ok (.aload_n 1, 1) := dk_43 (dk_at dksJ10_equals_0 18 rfl rfl)
theorem dJ10_equals_19 : decode cJ10_equals 19 = .ok (.iload_n 2, 1) := dk_28 (dk_at dksJ10_equals_0 19 rfl rfl)
theorem dJ10_equals_20 : decode cJ10_equals 20 = .ok (.baload, 1) := dk_51 (dk_at dksJ10_equals_0 20 rfl rfl)
theorem dJ10_equals_21 : decode cJ10_equals 21 = .ok (.if_icmp .eq 5, 3) := dk_159 0 5 (dk_at dksJ10_equals_0 21 rfl rfl)
theorem dJ10_equals_24 : decode cJ10_equals 24 = .ok (.iconst 0, 1) := dk_3 (dk_at dksJ10_equals_1 0 rfl rfl)
theorem dJ10_equals_25 : decode cJ10_equals 25 = .ok (.ireturn, 1) := dk_172 (dk_at dksJ10_equals_1 1 rfl rfl)
theorem dJ10_equals_26 : decode cJ10_equals 26 = .ok (.iinc 2 1, 3) := dk_132 2 1 (dk_at dksJ10_equals_1 2 rfl rfl)
theorem dJ10_equals_29 : decode cJ10_equals 29 = .ok (.goto (-20), 3) := dk_167 255 236 (dk_at dksJ10_equals_1 5 rfl rfl)
theorem dJ10_equals_32 : decode cJ10_equals 32 = .ok (.iconst 1, 1) := dk_4 (dk_at dksJ10_equals_1 8 rfl rfl)
theorem dJ10_equals_33 : decode cJ10_equals 33 = .ok (.ireturn, 1) := dk_172 (dk_at dksJ10_equals_1 9 rfl rfl)
theorem dJ10_equals_34 : decode cJ10_equals 34 = .ok (.iconst 0, 1) := dk_3 (dk_at dksJ10_equals_1 10 rfl rfl)
theorem dJ10_equals_35 : decode cJ10_equals 35 = .ok (.ireturn, 1) := dk_172 (dk_at dksJ10_equals_1 11 rfl rfl)
abbrev cJ10_hashCode : ByteArray := prog_26_method_21_code
def yJ10_hashCode : MethodName := ⟨RJ10, "hashCode", "([B)I"⟩
def dkwJ10_hashCode_2 : List UInt8 := [3, 167, 0, 22, 42, 3, 51, 17, 0, 255, 126, 167, 0, 12, 42, 3, 42, 190, 3, 7, 184, 0, 84, 172]
abbrev dktJ10_hashCode_2 : List UInt8 := dkwJ10_hashCode_2 ++ []
def dkwJ10_hashCode_1 : List UInt8 := [171, 0, 0, 0, 0, 40, 0, 0, 0, 2, 0, 0, 0, 0, 0, 0, 0, 26, 0, 0, 0, 1, 0, 0, 0, 30]
abbrev dktJ10_hashCode_1 : List UInt8 := dkwJ10_hashCode_1 ++ dktJ10_hashCode_2
def dkwJ10_hashCode_0 : List UInt8 := [42, 190]
abbrev dktJ10_hashCode_0 : List UInt8 := dkwJ10_hashCode_0 ++ dktJ10_hashCode_1
theorem dksJ10_hashCode_0 : cJ10_hashCode.data.toList.drop 0 = dktJ10_hashCode_0 := by decide +kernel
theorem dksJ10_hashCode_1 : cJ10_hashCode.data.toList.drop 2 = dktJ10_hashCode_1 := dk_seg dksJ10_hashCode_0 2 rfl rfl
theorem dksJ10_hashCode_2 : cJ10_hashCode.data.toList.drop 28 = dktJ10_hashCode_2 := dk_seg dksJ10_hashCode_1 26 rfl rfl
theorem dJ10_hashCode_0 : decode cJ10_hashCode 0 = .ok (.aload_n 0, 1) := dk_42 (dk_at dksJ10_hashCode_0 0 rfl rfl)
theorem dJ10_hashCode_1 : decode cJ10_hashCode 1 = .ok (.arraylength, 1) := dk_190 (dk_at dksJ10_hashCode_0 1 rfl rfl)
theorem dJ10_hashCode_2 : decode cJ10_hashCode 2 = .ok (.lookupswitch 40 #[(0, 26), (1, 30)], 26) := by decide +kernel
theorem dJ10_hashCode_28 : decode cJ10_hashCode 28 = .ok (.iconst 0, 1) := dk_3 (dk_at dksJ10_hashCode_2 0 rfl rfl)
theorem dJ10_hashCode_29 : decode cJ10_hashCode 29 = .ok (.goto 22, 3) := dk_167 0 22 (dk_at dksJ10_hashCode_2 1 rfl rfl)
theorem dJ10_hashCode_32 : decode cJ10_hashCode 32 = .ok (.aload_n 0, 1) := dk_42 (dk_at dksJ10_hashCode_2 4 rfl rfl)
theorem dJ10_hashCode_33 : decode cJ10_hashCode 33 = .ok (.iconst 0, 1) := dk_3 (dk_at dksJ10_hashCode_2 5 rfl rfl)
theorem dJ10_hashCode_34 : decode cJ10_hashCode 34 = .ok (.baload, 1) := dk_51 (dk_at dksJ10_hashCode_2 6 rfl rfl)
theorem dJ10_hashCode_35 : decode cJ10_hashCode 35 = .ok (.sipush 255, 3) := dk_17 0 255 (dk_at dksJ10_hashCode_2 7 rfl rfl)
theorem dJ10_hashCode_38 : decode cJ10_hashCode 38 = .ok (.iand, 1) := dk_126 (dk_at dksJ10_hashCode_2 10 rfl rfl)
theorem dJ10_hashCode_39 : decode cJ10_hashCode 39 = .ok (.goto 12, 3) := dk_167 0 12 (dk_at dksJ10_hashCode_2 11 rfl rfl)
theorem dJ10_hashCode_42 : decode cJ10_hashCode 42 = .ok (.aload_n 0, 1) := dk_42 (dk_at dksJ10_hashCode_2 14 rfl rfl)
theorem dJ10_hashCode_43 : decode cJ10_hashCode 43 = .ok (.iconst 0, 1) := dk_3 (dk_at dksJ10_hashCode_2 15 rfl rfl)
theorem dJ10_hashCode_44 : decode cJ10_hashCode 44 = .ok (.aload_n 0, 1) := dk_42 (dk_at dksJ10_hashCode_2 16 rfl rfl)
theorem dJ10_hashCode_45 : decode cJ10_hashCode 45 = .ok (.arraylength, 1) := dk_190 (dk_at dksJ10_hashCode_2 17 rfl rfl)
theorem dJ10_hashCode_46 : decode cJ10_hashCode 46 = .ok (.iconst 0, 1) := dk_3 (dk_at dksJ10_hashCode_2 18 rfl rfl)
theorem dJ10_hashCode_47 : decode cJ10_hashCode 47 = .ok (.iconst 4, 1) := dk_7 (dk_at dksJ10_hashCode_2 19 rfl rfl)
theorem dJ10_hashCode_48 : decode cJ10_hashCode 48 = .ok (.invokestatic 84, 3) := dk_184 0 84 (dk_at dksJ10_hashCode_2 20 rfl rfl)
theorem dJ10_hashCode_51 : decode cJ10_hashCode 51 = .ok (.ireturn, 1) := dk_172 (dk_at dksJ10_hashCode_2 23 rfl rfl)
abbrev cJ10_compareTo : ByteArray := prog_26_method_14_code
def yJ10_compareTo : MethodName := ⟨RJ10, "compareTo", "([B[B)I"⟩
def dkwJ10_compareTo_0 : List UInt8 := [42, 190, 61, 43, 190, 62, 42, 43, 28, 29, 184, 0, 34, 172]
abbrev dktJ10_compareTo_0 : List UInt8 := dkwJ10_compareTo_0 ++ []
theorem dksJ10_compareTo_0 : cJ10_compareTo.data.toList.drop 0 = dktJ10_compareTo_0 := by decide +kernel
theorem dJ10_compareTo_0 : decode cJ10_compareTo 0 = .ok (.aload_n 0, 1) := dk_42 (dk_at dksJ10_compareTo_0 0 rfl rfl)
theorem dJ10_compareTo_1 : decode cJ10_compareTo 1 = .ok (.arraylength, 1) := dk_190 (dk_at dksJ10_compareTo_0 1 rfl rfl)
theorem dJ10_compareTo_2 : decode cJ10_compareTo 2 = .ok (.istore_n 2, 1) := dk_61 (dk_at dksJ10_compareTo_0 2 rfl rfl)
theorem dJ10_compareTo_3 : decode cJ10_compareTo 3 = .ok (.aload_n 1, 1) := dk_43 (dk_at dksJ10_compareTo_0 3 rfl rfl)
theorem dJ10_compareTo_4 : decode cJ10_compareTo 4 = .ok (.arraylength, 1) := dk_190 (dk_at dksJ10_compareTo_0 4 rfl rfl)
theorem dJ10_compareTo_5 : decode cJ10_compareTo 5 = .ok (.istore_n 3, 1) := dk_62 (dk_at dksJ10_compareTo_0 5 rfl rfl)
theorem dJ10_compareTo_6 : decode cJ10_compareTo 6 = .ok (.aload_n 0, 1) := dk_42 (dk_at dksJ10_compareTo_0 6 rfl rfl)
theorem dJ10_compareTo_7 : decode cJ10_compareTo 7 = .ok (.aload_n 1, 1) := dk_43 (dk_at dksJ10_compareTo_0 7 rfl rfl)
theorem dJ10_compareTo_8 : decode cJ10_compareTo 8 = .ok (.iload_n 2, 1) := dk_28 (dk_at dksJ10_compareTo_0 8 rfl rfl)
theorem dJ10_compareTo_9 : decode cJ10_compareTo 9 = .ok (.iload_n 3, 1) := dk_29 (dk_at dksJ10_compareTo_0 9 rfl rfl)
theorem dJ10_compareTo_10 : decode cJ10_compareTo 10 = .ok (.invokestatic 34, 3) := dk_184 0 34 (dk_at dksJ10_compareTo_0 10 rfl rfl)
theorem dJ10_compareTo_13 : decode cJ10_compareTo 13 = .ok (.ireturn, 1) := dk_172 (dk_at dksJ10_compareTo_0 13 rfl rfl)
abbrev cJ10_compareTo_2 : ByteArray := prog_26_method_15_code
def yJ10_compareTo_2 : MethodName := ⟨RJ10, "compareTo", "([B[BII)I"⟩
def dkwJ10_compareTo_2_1 : List UInt8 := [167, 0, 16, 42, 21, 5, 184, 0, 50, 43, 21, 5, 184, 0, 50, 100, 172]
abbrev dktJ10_compareTo_2_1 : List UInt8 := dkwJ10_compareTo_2_1 ++ []
def dkwJ10_compareTo_2_0 : List UInt8 := [28, 29, 184, 0, 38, 54, 4, 42, 43, 21, 4, 184, 0, 44, 54, 5, 21, 5, 156, 0, 9, 28, 29, 100]
abbrev dktJ10_compareTo_2_0 : List UInt8 := dkwJ10_compareTo_2_0 ++ dktJ10_compareTo_2_1
theorem dksJ10_compareTo_2_0 : cJ10_compareTo_2.data.toList.drop 0 = dktJ10_compareTo_2_0 := by decide +kernel
theorem dksJ10_compareTo_2_1 : cJ10_compareTo_2.data.toList.drop 24 = dktJ10_compareTo_2_1 := dk_seg dksJ10_compareTo_2_0 24 rfl rfl
theorem dJ10_compareTo_2_0 : decode cJ10_compareTo_2 0 = .ok (.iload_n 2, 1) := dk_28 (dk_at dksJ10_compareTo_2_0 0 rfl rfl)
theorem dJ10_compareTo_2_1 : decode cJ10_compareTo_2 1 = .ok (.iload_n 3, 1) := dk_29 (dk_at dksJ10_compareTo_2_0 1 rfl rfl)
theorem dJ10_compareTo_2_2 : decode cJ10_compareTo_2 2 = .ok (.invokestatic 38, 3) := dk_184 0 38 (dk_at dksJ10_compareTo_2_0 2 rfl rfl)
theorem dJ10_compareTo_2_5 : decode cJ10_compareTo_2 5 = .ok (.istore 4, 2) := dk_54 4 (dk_at dksJ10_compareTo_2_0 5 rfl rfl)
theorem dJ10_compareTo_2_7 : decode cJ10_compareTo_2 7 = .ok (.aload_n 0, 1) := dk_42 (dk_at dksJ10_compareTo_2_0 7 rfl rfl)
theorem dJ10_compareTo_2_8 : decode cJ10_compareTo_2 8 = .ok (.aload_n 1, 1) := dk_43 (dk_at dksJ10_compareTo_2_0 8 rfl rfl)
theorem dJ10_compareTo_2_9 : decode cJ10_compareTo_2 9 = .ok (.iload 4, 2) := dk_21 4 (dk_at dksJ10_compareTo_2_0 9 rfl rfl)
theorem dJ10_compareTo_2_11 : decode cJ10_compareTo_2 11 = .ok (.invokestatic 44, 3) := dk_184 0 44 (dk_at dksJ10_compareTo_2_0 11 rfl rfl)
theorem dJ10_compareTo_2_14 : decode cJ10_compareTo_2 14 = .ok (.istore 5, 2) := dk_54 5 (dk_at dksJ10_compareTo_2_0 14 rfl rfl)
theorem dJ10_compareTo_2_16 : decode cJ10_compareTo_2 16 = .ok (.iload 5, 2) := dk_21 5 (dk_at dksJ10_compareTo_2_0 16 rfl rfl)
theorem dJ10_compareTo_2_18 : decode cJ10_compareTo_2 18 = .ok (.ifCond .ge 9, 3) := dk_156 0 9 (dk_at dksJ10_compareTo_2_0 18 rfl rfl)
theorem dJ10_compareTo_2_21 : decode cJ10_compareTo_2 21 = .ok (.iload_n 2, 1) := dk_28 (dk_at dksJ10_compareTo_2_0 21 rfl rfl)
theorem dJ10_compareTo_2_22 : decode cJ10_compareTo_2 22 = .ok (.iload_n 3, 1) := dk_29 (dk_at dksJ10_compareTo_2_0 22 rfl rfl)
theorem dJ10_compareTo_2_23 : decode cJ10_compareTo_2 23 = .ok (.isub, 1) := dk_100 (dk_at dksJ10_compareTo_2_0 23 rfl rfl)
theorem dJ10_compareTo_2_24 : decode cJ10_compareTo_2 24 = .ok (.goto 16, 3) := dk_167 0 16 (dk_at dksJ10_compareTo_2_1 0 rfl rfl)
theorem dJ10_compareTo_2_27 : decode cJ10_compareTo_2 27 = .ok (.aload_n 0, 1) := dk_42 (dk_at dksJ10_compareTo_2_1 3 rfl rfl)
theorem dJ10_compareTo_2_28 : decode cJ10_compareTo_2 28 = .ok (.iload 5, 2) := dk_21 5 (dk_at dksJ10_compareTo_2_1 4 rfl rfl)
theorem dJ10_compareTo_2_30 : decode cJ10_compareTo_2 30 = .ok (.invokestatic 50, 3) := dk_184 0 50 (dk_at dksJ10_compareTo_2_1 6 rfl rfl)
theorem dJ10_compareTo_2_33 : decode cJ10_compareTo_2 33 = .ok (.aload_n 1, 1) := dk_43 (dk_at dksJ10_compareTo_2_1 9 rfl rfl)
theorem dJ10_compareTo_2_34 : decode cJ10_compareTo_2 34 = .ok (.iload 5, 2) := dk_21 5 (dk_at dksJ10_compareTo_2_1 10 rfl rfl)
theorem dJ10_compareTo_2_36 : decode cJ10_compareTo_2 36 = .ok (.invokestatic 50, 3) := dk_184 0 50 (dk_at dksJ10_compareTo_2_1 12 rfl rfl)
theorem dJ10_compareTo_2_39 : decode cJ10_compareTo_2 39 = .ok (.isub, 1) := dk_100 (dk_at dksJ10_compareTo_2_1 15 rfl rfl)
theorem dJ10_compareTo_2_40 : decode cJ10_compareTo_2 40 = .ok (.ireturn, 1) := dk_172 (dk_at dksJ10_compareTo_2_1 16 rfl rfl)
abbrev cJ10_getChar : ByteArray := prog_26_method_44_code
def yJ10_getChar : MethodName := ⟨RJ10, "getChar", "([BI)C"⟩
def dkwJ10_getChar_0 : List UInt8 := [42, 27, 51, 17, 0, 255, 126, 146, 172]
abbrev dktJ10_getChar_0 : List UInt8 := dkwJ10_getChar_0 ++ []
theorem dksJ10_getChar_0 : cJ10_getChar.data.toList.drop 0 = dktJ10_getChar_0 := by decide +kernel
theorem dJ10_getChar_0 : decode cJ10_getChar 0 = .ok (.aload_n 0, 1) := dk_42 (dk_at dksJ10_getChar_0 0 rfl rfl)
theorem dJ10_getChar_1 : decode cJ10_getChar 1 = .ok (.iload_n 1, 1) := dk_27 (dk_at dksJ10_getChar_0 1 rfl rfl)
theorem dJ10_getChar_2 : decode cJ10_getChar 2 = .ok (.baload, 1) := dk_51 (dk_at dksJ10_getChar_0 2 rfl rfl)
theorem dJ10_getChar_3 : decode cJ10_getChar 3 = .ok (.sipush 255, 3) := dk_17 0 255 (dk_at dksJ10_getChar_0 3 rfl rfl)
theorem dJ10_getChar_6 : decode cJ10_getChar 6 = .ok (.iand, 1) := dk_126 (dk_at dksJ10_getChar_0 6 rfl rfl)
theorem dJ10_getChar_7 : decode cJ10_getChar 7 = .ok (.i2c, 1) := dk_146 (dk_at dksJ10_getChar_0 7 rfl rfl)
theorem dJ10_getChar_8 : decode cJ10_getChar 8 = .ok (.ireturn, 1) := dk_172 (dk_at dksJ10_getChar_0 8 rfl rfl)
abbrev cJ10_compareToUTF16 : ByteArray := prog_26_method_16_code
def yJ10_compareToUTF16 : MethodName := ⟨RJ10, "compareToUTF16", "([B[B)I"⟩
def dkwJ10_compareToUTF16_0 : List UInt8 := [42, 184, 0, 54, 61, 43, 184, 0, 58, 62, 42, 43, 28, 29, 184, 0, 59, 172]
abbrev dktJ10_compareToUTF16_0 : List UInt8 := dkwJ10_compareToUTF16_0 ++ []
theorem dksJ10_compareToUTF16_0 : cJ10_compareToUTF16.data.toList.drop 0 = dktJ10_compareToUTF16_0 := by decide +kernel
theorem dJ10_compareToUTF16_0 : decode cJ10_compareToUTF16 0 = .ok (.aload_n 0, 1) := dk_42 (dk_at dksJ10_compareToUTF16_0 0 rfl rfl)
theorem dJ10_compareToUTF16_1 : decode cJ10_compareToUTF16 1 = .ok (.invokestatic 54, 3) := dk_184 0 54 (dk_at dksJ10_compareToUTF16_0 1 rfl rfl)
theorem dJ10_compareToUTF16_4 : decode cJ10_compareToUTF16 4 = .ok (.istore_n 2, 1) := dk_61 (dk_at dksJ10_compareToUTF16_0 4 rfl rfl)
theorem dJ10_compareToUTF16_5 : decode cJ10_compareToUTF16 5 = .ok (.aload_n 1, 1) := dk_43 (dk_at dksJ10_compareToUTF16_0 5 rfl rfl)
theorem dJ10_compareToUTF16_6 : decode cJ10_compareToUTF16 6 = .ok (.invokestatic 58, 3) := dk_184 0 58 (dk_at dksJ10_compareToUTF16_0 6 rfl rfl)
theorem dJ10_compareToUTF16_9 : decode cJ10_compareToUTF16 9 = .ok (.istore_n 3, 1) := dk_62 (dk_at dksJ10_compareToUTF16_0 9 rfl rfl)
theorem dJ10_compareToUTF16_10 : decode cJ10_compareToUTF16 10 = .ok (.aload_n 0, 1) := dk_42 (dk_at dksJ10_compareToUTF16_0 10 rfl rfl)
theorem dJ10_compareToUTF16_11 : decode cJ10_compareToUTF16 11 = .ok (.aload_n 1, 1) := dk_43 (dk_at dksJ10_compareToUTF16_0 11 rfl rfl)
theorem dJ10_compareToUTF16_12 : decode cJ10_compareToUTF16 12 = .ok (.iload_n 2, 1) := dk_28 (dk_at dksJ10_compareToUTF16_0 12 rfl rfl)
theorem dJ10_compareToUTF16_13 : decode cJ10_compareToUTF16 13 = .ok (.iload_n 3, 1) := dk_29 (dk_at dksJ10_compareToUTF16_0 13 rfl rfl)
theorem dJ10_compareToUTF16_14 : decode cJ10_compareToUTF16 14 = .ok (.invokestatic 59, 3) := dk_184 0 59 (dk_at dksJ10_compareToUTF16_0 14 rfl rfl)
theorem dJ10_compareToUTF16_17 : decode cJ10_compareToUTF16 17 = .ok (.ireturn, 1) := dk_172 (dk_at dksJ10_compareToUTF16_0 17 rfl rfl)
abbrev cJ10_length : ByteArray := prog_26_method_5_code
def yJ10_length : MethodName := ⟨RJ10, "length", "([B)I"⟩
theorem dJ10_length_0 : decode cJ10_length 0 = .ok (.aload_n 0, 1) := by decide +kernel
theorem dJ10_length_1 : decode cJ10_length 1 = .ok (.arraylength, 1) := by decide +kernel
theorem dJ10_length_2 : decode cJ10_length 2 = .ok (.ireturn, 1) := by decide +kernel
abbrev cJ10_compareToUTF16Values : ByteArray := prog_26_method_18_code
def yJ10_compareToUTF16Values : MethodName := ⟨RJ10, "compareToUTF16Values", "([B[BII)I"⟩
def dkwJ10_compareToUTF16Values_2 : List UInt8 := [132, 5, 1, 167, 255, 217, 28, 29, 100, 172]
abbrev dktJ10_compareToUTF16Values_2 : List UInt8 := dkwJ10_compareToUTF16Values_2 ++ []
def dkwJ10_compareToUTF16Values_1 : List UInt8 := [54, 6, 43, 21, 5, 184, 0, 65, 54, 7, 21, 6, 21, 7, 159, 0, 9, 21, 6, 21, 7, 100, 172]
abbrev dktJ10_compareToUTF16Values_1 : List UInt8 := dkwJ10_compareToUTF16Values_1 ++ dktJ10_compareToUTF16Values_2
def dkwJ10_compareToUTF16Values_0 : List UInt8 := [28, 29, 184, 0, 38, 54, 4, 3, 54, 5, 21, 5, 21, 4, 162, 0, 38, 42, 21, 5, 184, 0, 50]
abbrev dktJ10_compareToUTF16Values_0 : List UInt8 := dkwJ10_compareToUTF16Values_0 ++ dktJ10_compareToUTF16Values_1
theorem dksJ10_compareToUTF16Values_0 : cJ10_compareToUTF16Values.data.toList.drop 0 = dktJ10_compareToUTF16Values_0 := by decide +kernel
theorem dksJ10_compareToUTF16Values_1 : cJ10_compareToUTF16Values.data.toList.drop 23 = dktJ10_compareToUTF16Values_1 := dk_seg dksJ10_compareToUTF16Values_0 23 rfl rfl
theorem dksJ10_compareToUTF16Values_2 : cJ10_compareToUTF16Values.data.toList.drop 46 = dktJ10_compareToUTF16Values_2 := dk_seg dksJ10_compareToUTF16Values_1 23 rfl rfl
theorem dJ10_compareToUTF16Values_0 : decode cJ10_compareToUTF16Values 0 = .ok (.iload_n 2, 1) := dk_28 (dk_at dksJ10_compareToUTF16Values_0 0 rfl rfl)
theorem dJ10_compareToUTF16Values_1 : decode cJ10_compareToUTF16Values 1 = .ok (.iload_n 3, 1) := dk_29 (dk_at dksJ10_compareToUTF16Values_0 1 rfl rfl)
theorem dJ10_compareToUTF16Values_2 : decode cJ10_compareToUTF16Values 2 = .ok (.invokestatic 38, 3) := dk_184 0 38 (dk_at dksJ10_compareToUTF16Values_0 2 rfl rfl)
theorem dJ10_compareToUTF16Values_5 : decode cJ10_compareToUTF16Values 5 = .ok (.istore 4, 2) := dk_54 4 (dk_at dksJ10_compareToUTF16Values_0 5 rfl rfl)
theorem dJ10_compareToUTF16Values_7 : decode cJ10_compareToUTF16Values 7 = .ok (.iconst 0, 1) := dk_3 (dk_at dksJ10_compareToUTF16Values_0 7 rfl rfl)
theorem dJ10_compareToUTF16Values_8 : decode cJ10_compareToUTF16Values 8 = .ok (.istore 5, 2) := dk_54 5 (dk_at dksJ10_compareToUTF16Values_0 8 rfl rfl)
theorem dJ10_compareToUTF16Values_10 : decode cJ10_compareToUTF16Values 10 = .ok (.iload 5, 2) := dk_21 5 (dk_at dksJ10_compareToUTF16Values_0 10 rfl rfl)
theorem dJ10_compareToUTF16Values_12 : decode cJ10_compareToUTF16Values 12 = .ok (.iload 4, 2) := dk_21 4 (dk_at dksJ10_compareToUTF16Values_0 12 rfl rfl)
theorem dJ10_compareToUTF16Values_14 : decode cJ10_compareToUTF16Values 14 = .ok (.if_icmp .ge 38, 3) := dk_162 0 38 (dk_at dksJ10_compareToUTF16Values_0 14 rfl rfl)
theorem dJ10_compareToUTF16Values_17 : decode cJ10_compareToUTF16Values 17 = .ok (.aload_n 0, 1) := dk_42 (dk_at dksJ10_compareToUTF16Values_0 17 rfl rfl)
theorem dJ10_compareToUTF16Values_18 : decode cJ10_compareToUTF16Values 18 = .ok (.iload 5, 2) := dk_21 5 (dk_at dksJ10_compareToUTF16Values_0 18 rfl rfl)
theorem dJ10_compareToUTF16Values_20 : decode cJ10_compareToUTF16Values 20 = .ok (.invokestatic 50, 3) := dk_184 0 50 (dk_at dksJ10_compareToUTF16Values_0 20 rfl rfl)
theorem dJ10_compareToUTF16Values_23 : decode cJ10_compareToUTF16Values 23 = .ok (.istore 6, 2) := dk_54 6 (dk_at dksJ10_compareToUTF16Values_1 0 rfl rfl)
theorem dJ10_compareToUTF16Values_25 : decode cJ10_compareToUTF16Values 25 = .ok (.aload_n 1, 1) := dk_43 (dk_at dksJ10_compareToUTF16Values_1 2 rfl rfl)
theorem dJ10_compareToUTF16Values_26 : decode cJ10_compareToUTF16Values 26 = .ok (.iload 5, 2) := dk_21 5 (dk_at dksJ10_compareToUTF16Values_1 3 rfl rfl)
theorem dJ10_compareToUTF16Values_28 : decode cJ10_compareToUTF16Values 28 = .ok (.invokestatic 65, 3) := dk_184 0 65 (dk_at dksJ10_compareToUTF16Values_1 5 rfl rfl)
theorem dJ10_compareToUTF16Values_31 : decode cJ10_compareToUTF16Values 31 = .ok (.istore 7, 2) := dk_54 7 (dk_at dksJ10_compareToUTF16Values_1 8 rfl rfl)
theorem dJ10_compareToUTF16Values_33 : decode cJ10_compareToUTF16Values 33 = .ok (.iload 6, 2) := dk_21 6 (dk_at dksJ10_compareToUTF16Values_1 10 rfl rfl)
theorem dJ10_compareToUTF16Values_35 : decode cJ10_compareToUTF16Values 35 = .ok (.iload 7, 2) := dk_21 7 (dk_at dksJ10_compareToUTF16Values_1 12 rfl rfl)
theorem dJ10_compareToUTF16Values_37 : decode cJ10_compareToUTF16Values 37 = .ok (.if_icmp .eq 9, 3) := dk_159 0 9 (dk_at dksJ10_compareToUTF16Values_1 14 rfl rfl)
theorem dJ10_compareToUTF16Values_40 : decode cJ10_compareToUTF16Values 40 = .ok (.iload 6, 2) := dk_21 6 (dk_at dksJ10_compareToUTF16Values_1 17 rfl rfl)
theorem dJ10_compareToUTF16Values_42 : decode cJ10_compareToUTF16Values 42 = .ok (.iload 7, 2) := dk_21 7 (dk_at dksJ10_compareToUTF16Values_1 19 rfl rfl)
theorem dJ10_compareToUTF16Values_44 : decode cJ10_compareToUTF16Values 44 = .ok (.isub, 1) := dk_100 (dk_at dksJ10_compareToUTF16Values_1 21 rfl rfl)
theorem dJ10_compareToUTF16Values_45 : decode cJ10_compareToUTF16Values 45 = .ok (.ireturn, 1) := dk_172 (dk_at dksJ10_compareToUTF16Values_1 22 rfl rfl)
theorem dJ10_compareToUTF16Values_46 : decode cJ10_compareToUTF16Values 46 = .ok (.iinc 5 1, 3) := dk_132 5 1 (dk_at dksJ10_compareToUTF16Values_2 0 rfl rfl)
theorem dJ10_compareToUTF16Values_49 : decode cJ10_compareToUTF16Values 49 = .ok (.goto (-39), 3) := dk_167 255 217 (dk_at dksJ10_compareToUTF16Values_2 3 rfl rfl)
theorem dJ10_compareToUTF16Values_52 : decode cJ10_compareToUTF16Values 52 = .ok (.iload_n 2, 1) := dk_28 (dk_at dksJ10_compareToUTF16Values_2 6 rfl rfl)
theorem dJ10_compareToUTF16Values_53 : decode cJ10_compareToUTF16Values 53 = .ok (.iload_n 3, 1) := dk_29 (dk_at dksJ10_compareToUTF16Values_2 7 rfl rfl)
theorem dJ10_compareToUTF16Values_54 : decode cJ10_compareToUTF16Values 54 = .ok (.isub, 1) := dk_100 (dk_at dksJ10_compareToUTF16Values_2 8 rfl rfl)
theorem dJ10_compareToUTF16Values_55 : decode cJ10_compareToUTF16Values 55 = .ok (.ireturn, 1) := dk_172 (dk_at dksJ10_compareToUTF16Values_2 9 rfl rfl)
abbrev cJ10_compareToUTF16_2 : ByteArray := prog_26_method_17_code
def yJ10_compareToUTF16_2 : MethodName := ⟨RJ10, "compareToUTF16", "([B[BII)I"⟩
def dkwJ10_compareToUTF16_2_0 : List UInt8 := [28, 42, 184, 0, 54, 184, 0, 62, 29, 43, 184, 0, 58, 184, 0, 62, 42, 43, 28, 29, 184, 0, 59, 172]
abbrev dktJ10_compareToUTF16_2_0 : List UInt8 := dkwJ10_compareToUTF16_2_0 ++ []
theorem dksJ10_compareToUTF16_2_0 : cJ10_compareToUTF16_2.data.toList.drop 0 = dktJ10_compareToUTF16_2_0 := by decide +kernel
theorem dJ10_compareToUTF16_2_0 : decode cJ10_compareToUTF16_2 0 = .ok (.iload_n 2, 1) := dk_28 (dk_at dksJ10_compareToUTF16_2_0 0 rfl rfl)
theorem dJ10_compareToUTF16_2_1 : decode cJ10_compareToUTF16_2 1 = .ok (.aload_n 0, 1) := dk_42 (dk_at dksJ10_compareToUTF16_2_0 1 rfl rfl)
theorem dJ10_compareToUTF16_2_2 : decode cJ10_compareToUTF16_2 2 = .ok (.invokestatic 54, 3) := dk_184 0 54 (dk_at dksJ10_compareToUTF16_2_0 2 rfl rfl)
theorem dJ10_compareToUTF16_2_5 : decode cJ10_compareToUTF16_2 5 = .ok (.invokestatic 62, 3) := dk_184 0 62 (dk_at dksJ10_compareToUTF16_2_0 5 rfl rfl)
theorem dJ10_compareToUTF16_2_8 : decode cJ10_compareToUTF16_2 8 = .ok (.iload_n 3, 1) := dk_29 (dk_at dksJ10_compareToUTF16_2_0 8 rfl rfl)
theorem dJ10_compareToUTF16_2_9 : decode cJ10_compareToUTF16_2 9 = .ok (.aload_n 1, 1) := dk_43 (dk_at dksJ10_compareToUTF16_2_0 9 rfl rfl)
theorem dJ10_compareToUTF16_2_10 : decode cJ10_compareToUTF16_2 10 = .ok (.invokestatic 58, 3) := dk_184 0 58 (dk_at dksJ10_compareToUTF16_2_0 10 rfl rfl)
theorem dJ10_compareToUTF16_2_13 : decode cJ10_compareToUTF16_2 13 = .ok (.invokestatic 62, 3) := dk_184 0 62 (dk_at dksJ10_compareToUTF16_2_0 13 rfl rfl)
theorem dJ10_compareToUTF16_2_16 : decode cJ10_compareToUTF16_2 16 = .ok (.aload_n 0, 1) := dk_42 (dk_at dksJ10_compareToUTF16_2_0 16 rfl rfl)
theorem dJ10_compareToUTF16_2_17 : decode cJ10_compareToUTF16_2 17 = .ok (.aload_n 1, 1) := dk_43 (dk_at dksJ10_compareToUTF16_2_0 17 rfl rfl)
theorem dJ10_compareToUTF16_2_18 : decode cJ10_compareToUTF16_2 18 = .ok (.iload_n 2, 1) := dk_28 (dk_at dksJ10_compareToUTF16_2_0 18 rfl rfl)
theorem dJ10_compareToUTF16_2_19 : decode cJ10_compareToUTF16_2 19 = .ok (.iload_n 3, 1) := dk_29 (dk_at dksJ10_compareToUTF16_2_0 19 rfl rfl)
theorem dJ10_compareToUTF16_2_20 : decode cJ10_compareToUTF16_2 20 = .ok (.invokestatic 59, 3) := dk_184 0 59 (dk_at dksJ10_compareToUTF16_2_0 20 rfl rfl)
theorem dJ10_compareToUTF16_2_23 : decode cJ10_compareToUTF16_2 23 = .ok (.ireturn, 1) := dk_172 (dk_at dksJ10_compareToUTF16_2_0 23 rfl rfl)
theorem q111 : (Jvm.Cond.initialized "java/lang/StringLatin1") ∈ lw_all := lw_g (lw_at lw_m1 16 rfl) rfl
theorem q372 : (Jvm.Cond.static ({ cls := "java/lang/StringLatin1", name := "canEncode", desc := "(C)Z" } : Jvm.MethodName)) ∈ lw_all := lw_g (lw_at lw_m2 37 rfl) rfl
theorem q373 : (Jvm.Cond.code ({ cls := "java/lang/StringLatin1", name := "canEncode", desc := "(C)Z" } : Jvm.MethodName) prog_26_method_3_code (1 : Nat) (Option.some Jvm.ClassFile.FieldType.boolean)) ∈ lw_all := lw_g (lw_at lw_m2 38 rfl) rfl
theorem q379 : (Jvm.Cond.static ({ cls := "java/lang/StringLatin1", name := "inflate", desc := "([BI[BII)V" } : Jvm.MethodName)) ∈ lw_all := lw_g (lw_at lw_m2 44 rfl) rfl
theorem q380 : (Jvm.Cond.code ({ cls := "java/lang/StringLatin1", name := "inflate", desc := "([BI[BII)V" } : Jvm.MethodName) prog_26_method_50_code (5 : Nat) (Option.none : Option Jvm.ClassFile.FieldType)) ∈ lw_all := lw_g (lw_at lw_m2 45 rfl) rfl
theorem q381 : (Jvm.Cond.methodLink "java/lang/StringLatin1" (240 : Nat) ({ cls := "java/lang/StringUTF16", name := "inflate", desc := "([BI[BII)V" } : Jvm.MethodName)) ∈ lw_all := lw_g (lw_at lw_m2 46 rfl) rfl
theorem q633 : (Jvm.Cond.static ({ cls := "java/lang/StringLatin1", name := "newString", desc := "([BII)Ljava/lang/String;" } : Jvm.MethodName)) ∈ lw_all := lw_g (lw_at lw_m3 58 rfl) rfl
theorem q634 : (Jvm.Cond.code ({ cls := "java/lang/StringLatin1", name := "newString", desc := "([BII)Ljava/lang/String;" } : Jvm.MethodName) prog_26_method_47_code (3 : Nat) (Option.some (Jvm.ClassFile.FieldType.object "java/lang/String"))) ∈ lw_all := lw_g (lw_at lw_m3 59 rfl) rfl
theorem q635 : (Jvm.Cond.stringRef "java/lang/StringLatin1" (151 : Nat) "") ∈ lw_tbl := lw_at lw_m3 60 rfl
theorem q636 : (Jvm.Cond.classLink "java/lang/StringLatin1" (1 : Nat) "java/lang/String") ∈ lw_all := lw_g (lw_at lw_m3 61 rfl) rfl
theorem q637 : (Jvm.Cond.methodLink "java/lang/StringLatin1" (232 : Nat) ({ cls := "java/util/Arrays", name := "copyOfRange", desc := "([BII)[B" } : Jvm.MethodName)) ∈ lw_all := lw_g (lw_at lw_m3 62 rfl) rfl
theorem q638 : (Jvm.Cond.methodLink "java/lang/StringLatin1" (112 : Nat) ({ cls := "java/lang/String", name := "<init>", desc := "([BB)V" } : Jvm.MethodName)) ∈ lw_all := lw_g (lw_at lw_m3 63 rfl) rfl
theorem q658 : (Jvm.Cond.static ({ cls := "java/lang/StringLatin1", name := "charAt", desc := "([BI)C" } : Jvm.MethodName)) ∈ lw_all := lw_g (lw_at lw_m3 83 rfl) rfl
theorem q659 : (Jvm.Cond.code ({ cls := "java/lang/StringLatin1", name := "charAt", desc := "([BI)C" } : Jvm.MethodName) prog_26_method_2_code (2 : Nat) (Option.some Jvm.ClassFile.FieldType.char)) ∈ lw_all := lw_g (lw_at lw_m3 84 rfl) rfl
theorem q660 : (Jvm.Cond.methodLink "java/lang/StringLatin1" (9 : Nat) ({ cls := "java/lang/String", name := "checkIndex", desc := "(II)V" } : Jvm.MethodName)) ∈ lw_all := lw_g (lw_at lw_m3 85 rfl) rfl
theorem q695 : (Jvm.Cond.static ({ cls := "java/lang/StringLatin1", name := "equals", desc := "([B[B)Z" } : Jvm.MethodName)) ∈ lw_all := lw_g (lw_at lw_m3 120 rfl) rfl
theorem q696 : (Jvm.Cond.code ({ cls := "java/lang/StringLatin1", name := "equals", desc := "([B[B)Z" } : Jvm.MethodName) prog_26_method_13_code (3 : Nat) (Option.some Jvm.ClassFile.FieldType.boolean)) ∈ lw_all := lw_g (lw_at lw_m3 121 rfl) rfl
theorem q911 : (Jvm.Cond.static ({ cls := "java/lang/StringLatin1", name := "hashCode", desc := "([B)I" } : Jvm.MethodName)) ∈ lw_all := lw_g (lw_at lw_m4 96 rfl) rfl
theorem q912 : (Jvm.Cond.code ({ cls := "java/lang/StringLatin1", name := "hashCode", desc := "([B)I" } : Jvm.MethodName) prog_26_method_21_code (1 : Nat) (Option.some Jvm.ClassFile.FieldType.int)) ∈ lw_all := lw_g (lw_at lw_m4 97 rfl) rfl
theorem q913 : (Jvm.Cond.methodLink "java/lang/StringLatin1" (84 : Nat) ({ cls := "jdk/internal/util/ArraysSupport", name := "vectorizedHashCode", desc := "(Ljava/lang/Object;IIII)I" } : Jvm.MethodName)) ∈ lw_all := lw_g (lw_at lw_m4 98 rfl) rfl
theorem q1037 : (Jvm.Cond.static ({ cls := "java/lang/StringLatin1", name := "compareTo", desc := "([B[B)I" } : Jvm.MethodName)) ∈ lw_all := lw_g (lw_at lw_m4 222 rfl) rfl
theorem q1038 : (Jvm.Cond.code ({ cls := "java/lang/StringLatin1", name := "compareTo", desc := "([B[B)I" } : Jvm.MethodName) prog_26_method_14_code (4 : Nat) (Option.some Jvm.ClassFile.FieldType.int)) ∈ lw_all := lw_g (lw_at lw_m4 223 rfl) rfl
theorem q1039 : (Jvm.Cond.methodLink "java/lang/StringLatin1" (34 : Nat) ({ cls := "java/lang/StringLatin1", name := "compareTo", desc := "([B[BII)I" } : Jvm.MethodName)) ∈ lw_all := lw_g (lw_at lw_m4 224 rfl) rfl
theorem q1040 : (Jvm.Cond.static ({ cls := "java/lang/StringLatin1", name := "compareTo", desc := "([B[BII)I" } : Jvm.MethodName)) ∈ lw_all := lw_g (lw_at lw_m4 225 rfl) rfl
theorem q1041 : (Jvm.Cond.code ({ cls := "java/lang/StringLatin1", name := "compareTo", desc := "([B[BII)I" } : Jvm.MethodName) prog_26_method_15_code (6 : Nat) (Option.some Jvm.ClassFile.FieldType.int)) ∈ lw_all := lw_g (lw_at lw_m4 226 rfl) rfl
theorem q1042 : (Jvm.Cond.methodLink "java/lang/StringLatin1" (38 : Nat) ({ cls := "java/lang/Math", name := "min", desc := "(II)I" } : Jvm.MethodName)) ∈ lw_all := lw_g (lw_at lw_m4 227 rfl) rfl
theorem q1043 : (Jvm.Cond.methodLink "java/lang/StringLatin1" (44 : Nat) ({ cls := "jdk/internal/util/ArraysSupport", name := "mismatch", desc := "([B[BI)I" } : Jvm.MethodName)) ∈ lw_all := lw_g (lw_at lw_m4 228 rfl) rfl
theorem q1147 : (Jvm.Cond.methodLink "java/lang/StringLatin1" (50 : Nat) ({ cls := "java/lang/StringLatin1", name := "getChar", desc := "([BI)C" } : Jvm.MethodName)) ∈ lw_all := lw_g (lw_at lw_m5 92 rfl) rfl
theorem q1148 : (Jvm.Cond.static ({ cls := "java/lang/StringLatin1", name := "getChar", desc := "([BI)C" } : Jvm.MethodName)) ∈ lw_all := lw_g (lw_at lw_m5 93 rfl) rfl
theorem q1149 : (Jvm.Cond.code ({ cls := "java/lang/StringLatin1", name := "getChar", desc := "([BI)C" } : Jvm.MethodName) prog_26_method_44_code (2 : Nat) (Option.some Jvm.ClassFile.FieldType.char)) ∈ lw_all := lw_g (lw_at lw_m5 94 rfl) rfl
theorem q1158 : (Jvm.Cond.static ({ cls := "java/lang/StringLatin1", name := "compareToUTF16", desc := "([B[B)I" } : Jvm.MethodName)) ∈ lw_all := lw_g (lw_at lw_m5 103 rfl) rfl
theorem q1159 : (Jvm.Cond.code ({ cls := "java/lang/StringLatin1", name := "compareToUTF16", desc := "([B[B)I" } : Jvm.MethodName) prog_26_method_16_code (4 : Nat) (Option.some Jvm.ClassFile.FieldType.int)) ∈ lw_all := lw_g (lw_at lw_m5 104 rfl) rfl
theorem q1160 : (Jvm.Cond.methodLink "java/lang/StringLatin1" (54 : Nat) ({ cls := "java/lang/StringLatin1", name := "length", desc := "([B)I" } : Jvm.MethodName)) ∈ lw_all := lw_g (lw_at lw_m5 105 rfl) rfl
theorem q1161 : (Jvm.Cond.static ({ cls := "java/lang/StringLatin1", name := "length", desc := "([B)I" } : Jvm.MethodName)) ∈ lw_all := lw_g (lw_at lw_m5 106 rfl) rfl
theorem q1162 : (Jvm.Cond.code ({ cls := "java/lang/StringLatin1", name := "length", desc := "([B)I" } : Jvm.MethodName) prog_26_method_5_code (1 : Nat) (Option.some Jvm.ClassFile.FieldType.int)) ∈ lw_all := lw_g (lw_at lw_m5 107 rfl) rfl
theorem q1163 : (Jvm.Cond.methodLink "java/lang/StringLatin1" (58 : Nat) ({ cls := "java/lang/StringUTF16", name := "length", desc := "([B)I" } : Jvm.MethodName)) ∈ lw_all := lw_g (lw_at lw_m5 108 rfl) rfl
theorem q1164 : (Jvm.Cond.methodLink "java/lang/StringLatin1" (59 : Nat) ({ cls := "java/lang/StringLatin1", name := "compareToUTF16Values", desc := "([B[BII)I" } : Jvm.MethodName)) ∈ lw_all := lw_g (lw_at lw_m5 109 rfl) rfl
theorem q1165 : (Jvm.Cond.static ({ cls := "java/lang/StringLatin1", name := "compareToUTF16Values", desc := "([B[BII)I" } : Jvm.MethodName)) ∈ lw_all := lw_g (lw_at lw_m5 110 rfl) rfl
theorem q1166 : (Jvm.Cond.code ({ cls := "java/lang/StringLatin1", name := "compareToUTF16Values", desc := "([B[BII)I" } : Jvm.MethodName) prog_26_method_18_code (8 : Nat) (Option.some Jvm.ClassFile.FieldType.int)) ∈ lw_all := lw_g (lw_at lw_m5 111 rfl) rfl
theorem q1167 : (Jvm.Cond.methodLink "java/lang/StringLatin1" (65 : Nat) ({ cls := "java/lang/StringUTF16", name := "getChar", desc := "([BI)C" } : Jvm.MethodName)) ∈ lw_all := lw_g (lw_at lw_m5 112 rfl) rfl
theorem q1197 : (Jvm.Cond.static ({ cls := "java/lang/StringLatin1", name := "compareToUTF16", desc := "([B[BII)I" } : Jvm.MethodName)) ∈ lw_all := lw_g (lw_at lw_m5 142 rfl) rfl
theorem q1198 : (Jvm.Cond.code ({ cls := "java/lang/StringLatin1", name := "compareToUTF16", desc := "([B[BII)I" } : Jvm.MethodName) prog_26_method_17_code (4 : Nat) (Option.some Jvm.ClassFile.FieldType.int)) ∈ lw_all := lw_g (lw_at lw_m5 143 rfl) rfl
theorem q1199 : (Jvm.Cond.methodLink "java/lang/StringLatin1" (62 : Nat) ({ cls := "java/lang/String", name := "checkOffset", desc := "(II)V" } : Jvm.MethodName)) ∈ lw_all := lw_g (lw_at lw_m5 144 rfl) rfl

/-! jdk/internal/util/Preconditions -/
set_option maxRecDepth 100000
def RJ11 : String := "jdk/internal/util/Preconditions"
abbrev cJ11_checkFromIndexSize : ByteArray := prog_65_method_13_code
def yJ11_checkFromIndexSize : MethodName := ⟨RJ11, "checkFromIndexSize", "(IIILjava/util/function/BiFunction;)I"⟩
def dkwJ11_checkFromIndexSize_1 : List UInt8 := [172]
abbrev dktJ11_checkFromIndexSize_1 : List UInt8 := dkwJ11_checkFromIndexSize_1 ++ []
def dkwJ11_checkFromIndexSize_0 : List UInt8 := [28, 26, 128, 27, 128, 155, 0, 10, 27, 28, 26, 100, 164, 0, 11, 45, 26, 27, 28, 184, 0, 103, 191, 26]
abbrev dktJ11_checkFromIndexSize_0 : List UInt8 := dkwJ11_checkFromIndexSize_0 ++ dktJ11_checkFromIndexSize_1
theorem dksJ11_checkFromIndexSize_0 : cJ11_checkFromIndexSize.data.toList.drop 0 = dktJ11_checkFromIndexSize_0 := by decide +kernel
theorem dksJ11_checkFromIndexSize_1 : cJ11_checkFromIndexSize.data.toList.drop 24 = dktJ11_checkFromIndexSize_1 := dk_seg dksJ11_checkFromIndexSize_0 24 rfl rfl
theorem dJ11_checkFromIndexSize_0 : decode cJ11_checkFromIndexSize 0 = .ok (.iload_n 2, 1) := dk_28 (dk_at dksJ11_checkFromIndexSize_0 0 rfl rfl)
theorem dJ11_checkFromIndexSize_1 : decode cJ11_checkFromIndexSize 1 = .ok (.iload_n 0, 1) := dk_26 (dk_at dksJ11_checkFromIndexSize_0 1 rfl rfl)
theorem dJ11_checkFromIndexSize_2 : decode cJ11_checkFromIndexSize 2 = .ok (.ior, 1) := dk_128 (dk_at dksJ11_checkFromIndexSize_0 2 rfl rfl)
theorem dJ11_checkFromIndexSize_3 : decode cJ11_checkFromIndexSize 3 = .ok (.iload_n 1, 1) := dk_27 (dk_at dksJ11_checkFromIndexSize_0 3 rfl rfl)
theorem dJ11_checkFromIndexSize_4 : decode cJ11_checkFromIndexSize 4 = .ok (.ior, 1) := dk_128 (dk_at dksJ11_checkFromIndexSize_0 4 rfl rfl)
theorem dJ11_checkFromIndexSize_5 : decode cJ11_checkFromIndexSize 5 = .ok (.ifCond .lt 10, 3) := dk_155 0 10 (dk_at dksJ11_checkFromIndexSize_0 5 rfl rfl)
theorem dJ11_checkFromIndexSize_8 : decode cJ11_checkFromIndexSize 8 = .ok (.iload_n 1, 1) := dk_27 (dk_at dksJ11_checkFromIndexSize_0 8 rfl rfl)
theorem dJ11_checkFromIndexSize_9 : decode cJ11_checkFromIndexSize 9 = .ok (.iload_n 2, 1) := dk_28 (dk_at dksJ11_checkFromIndexSize_0 9 rfl rfl)
theorem dJ11_checkFromIndexSize_10 : decode cJ11_checkFromIndexSize 10 = .ok (.iload_n 0, 1) := dk_26 (dk_at dksJ11_checkFromIndexSize_0 10 rfl rfl)
theorem dJ11_checkFromIndexSize_11 : decode cJ11_checkFromIndexSize 11 = .ok (.isub, 1) := dk_100 (dk_at dksJ11_checkFromIndexSize_0 11 rfl rfl)
theorem dJ11_checkFromIndexSize_12 : decode cJ11_checkFromIndexSize 12 = .ok (.if_icmp .le 11, 3) := dk_164 0 11 (dk_at dksJ11_checkFromIndexSize_0 12 rfl rfl)
theorem dJ11_checkFromIndexSize_15 : decode cJ11_checkFromIndexSize 15 = .ok (.aload_n 3, 1) := dk_45 (dk_at dksJ11_checkFromIndexSize_0 15 rfl rfl)
theorem dJ11_checkFromIndexSize_16 : decode cJ11_checkFromIndexSize 16 = .ok (.iload_n 0, 1) := dk_26 (dk_at dksJ11_checkFromIndexSize_0 16 rfl rfl)
theorem dJ11_checkFromIndexSize_17 : decode cJ11_checkFromIndexSize 17 = .ok (.iload_n 1, 1) := dk_27 (dk_at dksJ11_checkFromIndexSize_0 17 rfl rfl)
theorem dJ11_checkFromIndexSize_18 : decode cJ11_checkFromIndexSize 18 = .ok (.iload_n 2, 1) := dk_28 (dk_at dksJ11_checkFromIndexSize_0 18 rfl rfl)
theorem dJ11_checkFromIndexSize_19 : decode cJ11_checkFromIndexSize 19 = .ok (.invokestatic 103, 3) := dk_184 0 103 (dk_at dksJ11_checkFromIndexSize_0 19 rfl rfl)
theorem dJ11_checkFromIndexSize_22 : decode cJ11_checkFromIndexSize 22 = .ok (.athrow, 1) := dk_191 (dk_at dksJ11_checkFromIndexSize_0 22 rfl rfl)
theorem dJ11_checkFromIndexSize_23 : decode cJ11_checkFromIndexSize 23 = .ok (.iload_n 0, 1) := dk_26 (dk_at dksJ11_checkFromIndexSize_0 23 rfl rfl)
theorem dJ11_checkFromIndexSize_24 : decode cJ11_checkFromIndexSize 24 = .ok (.ireturn, 1) := dk_172 (dk_at dksJ11_checkFromIndexSize_1 0 rfl rfl)
abbrev cJ11_checkIndex : ByteArray := prog_65_method_11_code
def yJ11_checkIndex : MethodName := ⟨RJ11, "checkIndex", "(IILjava/util/function/BiFunction;)I"⟩
def dkwJ11_checkIndex_0 : List UInt8 := [26, 155, 0, 8, 26, 27, 161, 0, 10, 44, 26, 27, 184, 0, 95, 191, 26, 172]
abbrev dktJ11_checkIndex_0 : List UInt8 := dkwJ11_checkIndex_0 ++ []
theorem dksJ11_checkIndex_0 : cJ11_checkIndex.data.toList.drop 0 = dktJ11_checkIndex_0 := by decide +kernel
theorem dJ11_checkIndex_0 : decode cJ11_checkIndex 0 = .ok (.iload_n 0, 1) := dk_26 (dk_at dksJ11_checkIndex_0 0 rfl rfl)
theorem dJ11_checkIndex_1 : decode cJ11_checkIndex 1 = .ok (.ifCond .lt 8, 3) := dk_155 0 8 (dk_at dksJ11_checkIndex_0 1 rfl rfl)
theorem dJ11_checkIndex_4 : decode cJ11_checkIndex 4 = .ok (.iload_n 0, 1) := dk_26 (dk_at dksJ11_checkIndex_0 4 rfl rfl)
theorem dJ11_checkIndex_5 : decode cJ11_checkIndex 5 = .ok (.iload_n 1, 1) := dk_27 (dk_at dksJ11_checkIndex_0 5 rfl rfl)
theorem dJ11_checkIndex_6 : decode cJ11_checkIndex 6 = .ok (.if_icmp .lt 10, 3) := dk_161 0 10 (dk_at dksJ11_checkIndex_0 6 rfl rfl)
theorem dJ11_checkIndex_9 : decode cJ11_checkIndex 9 = .ok (.aload_n 2, 1) := dk_44 (dk_at dksJ11_checkIndex_0 9 rfl rfl)
theorem dJ11_checkIndex_10 : decode cJ11_checkIndex 10 = .ok (.iload_n 0, 1) := dk_26 (dk_at dksJ11_checkIndex_0 10 rfl rfl)
theorem dJ11_checkIndex_11 : decode cJ11_checkIndex 11 = .ok (.iload_n 1, 1) := dk_27 (dk_at dksJ11_checkIndex_0 11 rfl rfl)
theorem dJ11_checkIndex_12 : decode cJ11_checkIndex 12 = .ok (.invokestatic 95, 3) := dk_184 0 95 (dk_at dksJ11_checkIndex_0 12 rfl rfl)
theorem dJ11_checkIndex_15 : decode cJ11_checkIndex 15 = .ok (.athrow, 1) := dk_191 (dk_at dksJ11_checkIndex_0 15 rfl rfl)
theorem dJ11_checkIndex_16 : decode cJ11_checkIndex 16 = .ok (.iload_n 0, 1) := dk_26 (dk_at dksJ11_checkIndex_0 16 rfl rfl)
theorem dJ11_checkIndex_17 : decode cJ11_checkIndex 17 = .ok (.ireturn, 1) := dk_172 (dk_at dksJ11_checkIndex_0 17 rfl rfl)
abbrev cJ11_checkFromToIndex : ByteArray := prog_65_method_12_code
def yJ11_checkFromToIndex : MethodName := ⟨RJ11, "checkFromToIndex", "(IIILjava/util/function/BiFunction;)I"⟩
def dkwJ11_checkFromToIndex_0 : List UInt8 := [26, 155, 0, 13, 26, 27, 163, 0, 8, 27, 28, 164, 0, 11, 45, 26, 27, 28, 184, 0, 99, 191, 26, 172]
abbrev dktJ11_checkFromToIndex_0 : List UInt8 := dkwJ11_checkFromToIndex_0 ++ []
theorem dksJ11_checkFromToIndex_0 : cJ11_checkFromToIndex.data.toList.drop 0 = dktJ11_checkFromToIndex_0 := by decide +kernel
theorem dJ11_checkFromToIndex_0 : decode cJ11_checkFromToIndex 0 = .ok (.iload_n 0, 1) := dk_26 (dk_at dksJ11_checkFromToIndex_0 0 rfl rfl)
theorem dJ11_checkFromToIndex_1 : decode cJ11_checkFromToIndex 1 = .ok (.ifCond .lt 13, 3) := dk_155 0 13 (dk_at dksJ11_checkFromToIndex_0 1 rfl rfl)
theorem dJ11_checkFromToIndex_4 : decode cJ11_checkFromToIndex 4 = .ok (.iload_n 0, 1) := dk_26 (dk_at dksJ11_checkFromToIndex_0 4 rfl rfl)
theorem dJ11_checkFromToIndex_5 : decode cJ11_checkFromToIndex 5 = .ok (.iload_n 1, 1) := dk_27 (dk_at dksJ11_checkFromToIndex_0 5 rfl rfl)
theorem dJ11_checkFromToIndex_6 : decode cJ11_checkFromToIndex 6 = .ok (.if_icmp .gt 8, 3) := dk_163 0 8 (dk_at dksJ11_checkFromToIndex_0 6 rfl rfl)
theorem dJ11_checkFromToIndex_9 : decode cJ11_checkFromToIndex 9 = .ok (.iload_n 1, 1) := dk_27 (dk_at dksJ11_checkFromToIndex_0 9 rfl rfl)
theorem dJ11_checkFromToIndex_10 : decode cJ11_checkFromToIndex 10 = .ok (.iload_n 2, 1) := dk_28 (dk_at dksJ11_checkFromToIndex_0 10 rfl rfl)
theorem dJ11_checkFromToIndex_11 : decode cJ11_checkFromToIndex 11 = .ok (.if_icmp .le 11, 3) := dk_164 0 11 (dk_at dksJ11_checkFromToIndex_0 11 rfl rfl)
theorem dJ11_checkFromToIndex_14 : decode cJ11_checkFromToIndex 14 = .ok (.aload_n 3, 1) := dk_45 (dk_at dksJ11_checkFromToIndex_0 14 rfl rfl)
theorem dJ11_checkFromToIndex_15 : decode cJ11_checkFromToIndex 15 = .ok (.iload_n 0, 1) := dk_26 (dk_at dksJ11_checkFromToIndex_0 15 rfl rfl)
theorem dJ11_checkFromToIndex_16 : decode cJ11_checkFromToIndex 16 = .ok (.iload_n 1, 1) := dk_27 (dk_at dksJ11_checkFromToIndex_0 16 rfl rfl)
theorem dJ11_checkFromToIndex_17 : decode cJ11_checkFromToIndex 17 = .ok (.iload_n 2, 1) := dk_28 (dk_at dksJ11_checkFromToIndex_0 17 rfl rfl)
theorem dJ11_checkFromToIndex_18 : decode cJ11_checkFromToIndex 18 = .ok (.invokestatic 99, 3) := dk_184 0 99 (dk_at dksJ11_checkFromToIndex_0 18 rfl rfl)
theorem dJ11_checkFromToIndex_21 : decode cJ11_checkFromToIndex 21 = .ok (.athrow, 1) := dk_191 (dk_at dksJ11_checkFromToIndex_0 21 rfl rfl)
theorem dJ11_checkFromToIndex_22 : decode cJ11_checkFromToIndex 22 = .ok (.iload_n 0, 1) := dk_26 (dk_at dksJ11_checkFromToIndex_0 22 rfl rfl)
theorem dJ11_checkFromToIndex_23 : decode cJ11_checkFromToIndex 23 = .ok (.ireturn, 1) := dk_172 (dk_at dksJ11_checkFromToIndex_0 23 rfl rfl)
theorem q112 : (Jvm.Cond.initialized "jdk/internal/util/Preconditions") ∈ lw_all := lw_g (lw_at lw_m1 17 rfl) rfl
theorem q394 : (Jvm.Cond.laysStatic "jdk/internal/util/Preconditions" "SIOOBE_FORMATTER" "Ljava/util/function/BiFunction;") ∈ lw_tbl := lw_at lw_m2 59 rfl
theorem q396 : (Jvm.Cond.static ({ cls := "jdk/internal/util/Preconditions", name := "checkFromIndexSize", desc := "(IIILjava/util/function/BiFunction;)I" } : Jvm.MethodName)) ∈ lw_all := lw_g (lw_at lw_m2 61 rfl) rfl
theorem q397 : (Jvm.Cond.code ({ cls := "jdk/internal/util/Preconditions", name := "checkFromIndexSize", desc := "(IIILjava/util/function/BiFunction;)I" } : Jvm.MethodName) prog_65_method_13_code (4 : Nat) (Option.some Jvm.ClassFile.FieldType.int)) ∈ lw_all := lw_g (lw_at lw_m2 62 rfl) rfl
theorem q417 : (Jvm.Cond.static ({ cls := "jdk/internal/util/Preconditions", name := "checkIndex", desc := "(IILjava/util/function/BiFunction;)I" } : Jvm.MethodName)) ∈ lw_all := lw_g (lw_at lw_m2 82 rfl) rfl
theorem q418 : (Jvm.Cond.code ({ cls := "jdk/internal/util/Preconditions", name := "checkIndex", desc := "(IILjava/util/function/BiFunction;)I" } : Jvm.MethodName) prog_65_method_11_code (3 : Nat) (Option.some Jvm.ClassFile.FieldType.int)) ∈ lw_all := lw_g (lw_at lw_m2 83 rfl) rfl
theorem q626 : (Jvm.Cond.static ({ cls := "jdk/internal/util/Preconditions", name := "checkFromToIndex", desc := "(IIILjava/util/function/BiFunction;)I" } : Jvm.MethodName)) ∈ lw_all := lw_g (lw_at lw_m3 51 rfl) rfl
theorem q627 : (Jvm.Cond.code ({ cls := "jdk/internal/util/Preconditions", name := "checkFromToIndex", desc := "(IIILjava/util/function/BiFunction;)I" } : Jvm.MethodName) prog_65_method_12_code (4 : Nat) (Option.some Jvm.ClassFile.FieldType.int)) ∈ lw_all := lw_g (lw_at lw_m3 52 rfl) rfl

/-! java/util/Objects -/
set_option maxRecDepth 100000
def RJ12 : String := "java/util/Objects"
abbrev cJ12_checkIndex : ByteArray := prog_55_method_17_code
def yJ12_checkIndex : MethodName := ⟨RJ12, "checkIndex", "(II)I"⟩
def dkwJ12_checkIndex_0 : List UInt8 := [26, 27, 1, 184, 0, 105, 172]
abbrev dktJ12_checkIndex_0 : List UInt8 := dkwJ12_checkIndex_0 ++ []
theorem dksJ12_checkIndex_0 : cJ12_checkIndex.data.toList.drop 0 = dktJ12_checkIndex_0 := by decide +kernel
theorem dJ12_checkIndex_0 : decode cJ12_checkIndex 0 = .ok (.iload_n 0, 1) := dk_26 (dk_at dksJ12_checkIndex_0 0 rfl rfl)
theorem dJ12_checkIndex_1 : decode cJ12_checkIndex 1 = .ok (.iload_n 1, 1) := dk_27 (dk_at dksJ12_checkIndex_0 1 rfl rfl)
theorem dJ12_checkIndex_2 : decode cJ12_checkIndex 2 = .ok (.aconst_null, 1) := dk_1 (dk_at dksJ12_checkIndex_0 2 rfl rfl)
theorem dJ12_checkIndex_3 : decode cJ12_checkIndex 3 = .ok (.invokestatic 105, 3) := dk_184 0 105 (dk_at dksJ12_checkIndex_0 3 rfl rfl)
theorem dJ12_checkIndex_6 : decode cJ12_checkIndex 6 = .ok (.ireturn, 1) := dk_172 (dk_at dksJ12_checkIndex_0 6 rfl rfl)
theorem q113 : (Jvm.Cond.initialized "java/util/Objects") ∈ lw_all := lw_g (lw_at lw_m1 18 rfl) rfl
theorem q491 : (Jvm.Cond.static ({ cls := "java/util/Objects", name := "checkIndex", desc := "(II)I" } : Jvm.MethodName)) ∈ lw_all := lw_g (lw_at lw_m2 156 rfl) rfl
theorem q492 : (Jvm.Cond.code ({ cls := "java/util/Objects", name := "checkIndex", desc := "(II)I" } : Jvm.MethodName) prog_55_method_17_code (2 : Nat) (Option.some Jvm.ClassFile.FieldType.int)) ∈ lw_all := lw_g (lw_at lw_m2 157 rfl) rfl
theorem q493 : (Jvm.Cond.methodLink "java/util/Objects" (105 : Nat) ({ cls := "jdk/internal/util/Preconditions", name := "checkIndex", desc := "(IILjava/util/function/BiFunction;)I" } : Jvm.MethodName)) ∈ lw_all := lw_g (lw_at lw_m2 158 rfl) rfl

/-! java/util/AbstractMap -/
set_option maxRecDepth 100000
def RJ13 : String := "java/util/AbstractMap"
abbrev cJ13_init : ByteArray := prog_34_method_1_code
def yJ13_init : MethodName := ⟨RJ13, "<init>", "()V"⟩
theorem dJ13_init_0 : decode cJ13_init 0 = .ok (.aload_n 0, 1) := by decide +kernel
theorem dJ13_init_1 : decode cJ13_init 1 = .ok (.invokespecial 1, 3) := by decide +kernel
theorem dJ13_init_4 : decode cJ13_init 4 = .ok (.return_, 1) := by decide +kernel
theorem q117 : (Jvm.Cond.initialized "java/util/AbstractMap") ∈ lw_all := lw_g (lw_at lw_m1 22 rfl) rfl
theorem q793 : (Jvm.Cond.instanceMethod ({ cls := "java/util/AbstractMap", name := "<init>", desc := "()V" } : Jvm.MethodName)) ∈ lw_all := lw_g (lw_at lw_m3 218 rfl) rfl
theorem q794 : (Jvm.Cond.code ({ cls := "java/util/AbstractMap", name := "<init>", desc := "()V" } : Jvm.MethodName) prog_34_method_1_code (1 : Nat) (Option.none : Option Jvm.ClassFile.FieldType)) ∈ lw_all := lw_g (lw_at lw_m3 219 rfl) rfl
theorem q795 : (Jvm.Cond.methodLink "java/util/AbstractMap" (1 : Nat) ({ cls := "java/lang/Object", name := "<init>", desc := "()V" } : Jvm.MethodName)) ∈ lw_all := lw_g (lw_at lw_m3 220 rfl) rfl
theorem q825 : (Jvm.Cond.soleField "java/util/AbstractMap" "keySet") ∈ lw_all := lw_g (lw_at lw_m4 10 rfl) rfl
theorem q827 : (Jvm.Cond.soleField "java/util/AbstractMap" "values") ∈ lw_all := lw_g (lw_at lw_m4 12 rfl) rfl

/-! java/util/HashMap -/
set_option maxRecDepth 100000
def RJ14 : String := "java/util/HashMap"
def TJ14 : u_T := fun k => match k with
  | 0 => ("java/util/AbstractMap", "keySet", "Ljava/util/Set;", false)
  | 1 => ("java/util/AbstractMap", "values", "Ljava/util/Collection;", false)
  | 2 => ("java/util/HashMap", "table", "[Ljava/util/HashMap$Node;", false)
  | 3 => ("java/util/HashMap", "entrySet", "Ljava/util/Set;", false)
  | 4 => ("java/util/HashMap", "size", "I", false)
  | 5 => ("java/util/HashMap", "modCount", "I", false)
  | 6 => ("java/util/HashMap", "threshold", "I", false)
  | _ => ("java/util/HashMap", "loadFactor", "F", true)
def tyJ14 : Nat → FieldType := fun k => match k with
  | 0 => .object "java/util/Set"
  | 1 => .object "java/util/Collection"
  | 2 => .array (.object "java/util/HashMap$Node")
  | 3 => .object "java/util/Set"
  | 4 => .int
  | 5 => .int
  | 6 => .int
  | _ => .float
abbrev wsJ140 : List Cond := u_ws RJ14 TJ14 8
theorem nmJ14 : ∀ a, a < 8 → ∀ b, b < 8 → a ≠ b → (TJ14 a).2.1 ≠ (TJ14 b).2.1 := by decide +kernel
theorem tyJ14_ok : ∀ k, k < 8 → parseFieldDescriptor (TJ14 k).2.2.1 = some (tyJ14 k) := by decide +kernel
abbrev cJ14_init : ByteArray := prog_39_method_7_code
def yJ14_init : MethodName := ⟨RJ14, "<init>", "()V"⟩
def dkwJ14_init_0 : List UInt8 := [42, 183, 0, 43, 42, 18, 92, 181, 0, 81, 177]
abbrev dktJ14_init_0 : List UInt8 := dkwJ14_init_0 ++ []
theorem dksJ14_init_0 : cJ14_init.data.toList.drop 0 = dktJ14_init_0 := by decide +kernel
theorem dJ14_init_0 : decode cJ14_init 0 = .ok (.aload_n 0, 1) := dk_42 (dk_at dksJ14_init_0 0 rfl rfl)
theorem dJ14_init_1 : decode cJ14_init 1 = .ok (.invokespecial 43, 3) := dk_183 0 43 (dk_at dksJ14_init_0 1 rfl rfl)
theorem dJ14_init_4 : decode cJ14_init 4 = .ok (.aload_n 0, 1) := dk_42 (dk_at dksJ14_init_0 4 rfl rfl)
theorem dJ14_init_5 : decode cJ14_init 5 = .ok (.ldc 92, 2) := dk_18 92 (dk_at dksJ14_init_0 5 rfl rfl)
theorem dJ14_init_7 : decode cJ14_init 7 = .ok (.putfield 81, 3) := dk_181 0 81 (dk_at dksJ14_init_0 7 rfl rfl)
theorem dJ14_init_10 : decode cJ14_init 10 = .ok (.return_, 1) := dk_177 (dk_at dksJ14_init_0 10 rfl rfl)
abbrev cJ14_getNode : ByteArray := prog_39_method_13_code
def yJ14_getNode : MethodName := ⟨RJ14, "getNode", "(Ljava/lang/Object;)Ljava/util/HashMap$Node;"⟩
def dkwJ14_getNode_6 : List UInt8 := [89, 58, 4, 199, 255, 210, 1, 176]
abbrev dktJ14_getNode_6 : List UInt8 := dkwJ14_getNode_6 ++ []
def dkwJ14_getNode_5 : List UInt8 := [165, 0, 16, 43, 198, 0, 15, 43, 25, 7, 182, 0, 173, 153, 0, 6, 25, 4, 176, 25, 4, 180, 0, 177]
abbrev dktJ14_getNode_5 : List UInt8 := dkwJ14_getNode_5 ++ dktJ14_getNode_6
def dkwJ14_getNode_4 : List UInt8 := [43, 182, 0, 182, 176, 25, 4, 180, 0, 168, 21, 6, 160, 0, 31, 25, 4, 180, 0, 170, 89, 58, 7, 43]
abbrev dktJ14_getNode_4 : List UInt8 := dkwJ14_getNode_4 ++ dktJ14_getNode_5
def dkwJ14_getNode_3 : List UInt8 := [176, 45, 180, 0, 177, 89, 58, 4, 198, 0, 70, 45, 193, 0, 180, 153, 0, 14, 45, 192, 0, 180, 21, 6]
abbrev dktJ14_getNode_3 : List UInt8 := dkwJ14_getNode_3 ++ dktJ14_getNode_4
def dkwJ14_getNode_2 : List UInt8 := [180, 0, 170, 89, 58, 7, 43, 165, 0, 16, 43, 198, 0, 14, 43, 25, 7, 182, 0, 173, 153, 0, 5, 45]
abbrev dktJ14_getNode_2 : List UInt8 := dkwJ14_getNode_2 ++ dktJ14_getNode_3
def dkwJ14_getNode_1 : List UInt8 := [184, 0, 149, 89, 54, 6, 126, 50, 89, 78, 198, 0, 115, 45, 180, 0, 168, 21, 6, 160, 0, 29, 45]
abbrev dktJ14_getNode_1 : List UInt8 := dkwJ14_getNode_1 ++ dktJ14_getNode_2
def dkwJ14_getNode_0 : List UInt8 := [42, 180, 0, 105, 89, 77, 198, 0, 142, 44, 190, 89, 54, 5, 158, 0, 134, 44, 21, 5, 4, 100, 43]
abbrev dktJ14_getNode_0 : List UInt8 := dkwJ14_getNode_0 ++ dktJ14_getNode_1
theorem dksJ14_getNode_0 : cJ14_getNode.data.toList.drop 0 = dktJ14_getNode_0 := by decide +kernel
theorem dksJ14_getNode_1 : cJ14_getNode.data.toList.drop 23 = dktJ14_getNode_1 := dk_seg dksJ14_getNode_0 23 rfl rfl
theorem dksJ14_getNode_2 : cJ14_getNode.data.toList.drop 46 = dktJ14_getNode_2 := dk_seg dksJ14_getNode_1 23 rfl rfl
theorem dksJ14_getNode_3 : cJ14_getNode.data.toList.drop 70 = dktJ14_getNode_3 := dk_seg dksJ14_getNode_2 24 rfl rfl
theorem dksJ14_getNode_4 : cJ14_getNode.data.toList.drop 94 = dktJ14_getNode_4 := dk_seg dksJ14_getNode_3 24 rfl rfl
theorem dksJ14_getNode_5 : cJ14_getNode.data.toList.drop 118 = dktJ14_getNode_5 := dk_seg dksJ14_getNode_4 24 rfl rfl
theorem dksJ14_getNode_6 : cJ14_getNode.data.toList.drop 142 = dktJ14_getNode_6 := dk_seg dksJ14_getNode_5 24 rfl rfl
theorem dJ14_getNode_0 : decode cJ14_getNode 0 = .ok (.aload_n 0, 1) := dk_42 (dk_at dksJ14_getNode_0 0 rfl rfl)
theorem dJ14_getNode_1 : decode cJ14_getNode 1 = .ok (.getfield 105, 3) := dk_180 0 105 (dk_at dksJ14_getNode_0 1 rfl rfl)
theorem dJ14_getNode_4 : decode cJ14_getNode 4 = .ok (.dup, 1) := dk_89 (dk_at dksJ14_getNode_0 4 rfl rfl)
theorem dJ14_getNode_5 : decode cJ14_getNode 5 = .ok (.astore_n 2, 1) := dk_77 (dk_at dksJ14_getNode_0 5 rfl rfl)
theorem dJ14_getNode_6 : decode cJ14_getNode 6 = .ok (.ifnull 142, 3) := dk_198 0 142 (dk_at dksJ14_getNode_0 6 rfl rfl)
theorem dJ14_getNode_9 : decode cJ14_getNode 9 = .ok (.aload_n 2, 1) := dk_44 (dk_at dksJ14_getNode_0 9 rfl rfl)
theorem dJ14_getNode_10 : decode cJ14_getNode 10 = .ok (.arraylength, 1) := dk_190 (dk_at dksJ14_getNode_0 10 rfl rfl)
theorem dJ14_getNode_11 : decode cJ14_getNode 11 = .ok (.dup, 1) := dk_89 (dk_at dksJ14_getNode_0 11 rfl rfl)
theorem dJ14_getNode_12 : decode cJ14_getNode 12 = .ok (.istore 5, 2) := dk_54 5 (dk_at dksJ14_getNode_0 12 rfl rfl)
theorem dJ14_getNode_14 : decode cJ14_getNode 14 = .ok (.ifCond .le 134, 3) := dk_158 0 134 (dk_at dksJ14_getNode_0 14 rfl rfl)
theorem dJ14_getNode_17 : decode cJ14_getNode 17 = .ok (.aload_n 2, 1) := dk_44 (dk_at dksJ14_getNode_0 17 rfl rfl)
theorem dJ14_getNode_18 : decode cJ14_getNode 18 = .ok (.iload 5, 2) := dk_21 5 (dk_at dksJ14_getNode_0 18 rfl rfl)
theorem dJ14_getNode_20 : decode cJ14_getNode 20 = .ok (.iconst 1, 1) := dk_4 (dk_at dksJ14_getNode_0 20 rfl rfl)
theorem dJ14_getNode_21 : decode cJ14_getNode 21 = .ok (.isub, 1) := dk_100 (dk_at dksJ14_getNode_0 21 rfl rfl)
theorem dJ14_getNode_22 : decode cJ14_getNode 22 = .ok (.aload_n 1, 1) := dk_43 (dk_at dksJ14_getNode_0 22 rfl rfl)
theorem dJ14_getNode_23 : decode cJ14_getNode 23 = .ok (.invokestatic 149, 3) := dk_184 0 149 (dk_at dksJ14_getNode_1 0 rfl rfl)
theorem dJ14_getNode_26 : decode cJ14_getNode 26 = .ok (.dup, 1) := dk_89 (dk_at dksJ14_getNode_1 3 rfl rfl)
theorem dJ14_getNode_27 : decode cJ14_getNode 27 = .ok (.istore 6, 2) := dk_54 6 (dk_at dksJ14_getNode_1 4 rfl rfl)
theorem dJ14_getNode_29 : decode cJ14_getNode 29 = .ok (.iand, 1) := dk_126 (dk_at dksJ14_getNode_1 6 rfl rfl)
theorem dJ14_getNode_30 : decode cJ14_getNode 30 = .ok (.aaload, 1) := dk_50 (dk_at dksJ14_getNode_1 7 rfl rfl)
theorem dJ14_getNode_31 : decode cJ14_getNode 31 = .ok (.dup, 1) := dk_89 (dk_at dksJ14_getNode_1 8 rfl rfl)
theorem dJ14_getNode_32 : decode cJ14_getNode 32 = .ok (.astore_n 3, 1) := dk_78 (dk_at dksJ14_getNode_1 9 rfl rfl)
theorem dJ14_getNode_33 : decode cJ14_getNode 33 = .ok (.ifnull 115, 3) := dk_198 0 115 (dk_at dksJ14_getNode_1 10 rfl rfl)
theorem dJ14_getNode_36 : decode cJ14_getNode 36 = .ok (.aload_n 3, 1) := dk_45 (dk_at dksJ14_getNode_1 13 rfl rfl)
theorem dJ14_getNode_37 : decode cJ14_getNode 37 = .ok (.getfield 168, 3) := dk_180 0 168 (dk_at dksJ14_getNode_1 14 rfl rfl)
theorem dJ14_getNode_40 : decode cJ14_getNode 40 = .ok (.iload 6, 2) := dk_21 6 (dk_at dksJ14_getNode_1 17 rfl rfl)
theorem dJ14_getNode_42 : decode cJ14_getNode 42 = .ok (.if_icmp .ne 29, 3) := dk_160 0 29 (dk_at dksJ14_getNode_1 19 rfl rfl)
theorem dJ14_getNode_45 : decode cJ14_getNode 45 = .ok (.aload_n 3, 1) := dk_45 (dk_at dksJ14_getNode_1 22 rfl rfl)
theorem dJ14_getNode_46 : decode cJ14_getNode 46 = .ok (.getfield 170, 3) := dk_180 0 170 (dk_at dksJ14_getNode_2 0 rfl rfl)
theorem dJ14_getNode_49 : decode cJ14_getNode 49 = .ok (.dup, 1) := dk_89 (dk_at dksJ14_getNode_2 3 rfl rfl)
theorem dJ14_getNode_50 : decode cJ14_getNode 50 = .ok (.astore 7, 2) := dk_58 7 (dk_at dksJ14_getNode_2 4 rfl rfl)
theorem dJ14_getNode_52 : decode cJ14_getNode 52 = .ok (.aload_n 1, 1) := dk_43 (dk_at dksJ14_getNode_2 6 rfl rfl)
theorem dJ14_getNode_53 : decode cJ14_getNode 53 = .ok (.if_acmp .eq 16, 3) := dk_165 0 16 (dk_at dksJ14_getNode_2 7 rfl rfl)
theorem dJ14_getNode_56 : decode cJ14_getNode 56 = .ok (.aload_n 1, 1) := dk_43 (dk_at dksJ14_getNode_2 10 rfl rfl)
theorem dJ14_getNode_57 : decode cJ14_getNode 57 = .ok (.ifnull 14, 3) := dk_198 0 14 (dk_at dksJ14_getNode_2 11 rfl rfl)
theorem dJ14_getNode_60 : decode cJ14_getNode 60 = .ok (.aload_n 1, 1) := dk_43 (dk_at dksJ14_getNode_2 14 rfl rfl)
theorem dJ14_getNode_61 : decode cJ14_getNode 61 = .ok (.aload 7, 2) := dk_25 7 (dk_at dksJ14_getNode_2 15 rfl rfl)
theorem dJ14_getNode_63 : decode cJ14_getNode 63 = .ok (.invokevirtual 173, 3) := dk_182 0 173 (dk_at dksJ14_getNode_2 17 rfl rfl)
theorem dJ14_getNode_66 : decode cJ14_getNode 66 = .ok (.ifCond .eq 5, 3) := dk_153 0 5 (dk_at dksJ14_getNode_2 20 rfl rfl)
theorem dJ14_getNode_69 : decode cJ14_getNode 69 = .ok (.aload_n 3, 1) := dk_45 (dk_at dksJ14_getNode_2 23 rfl rfl)
theorem dJ14_getNode_70 : decode cJ14_getNode 70 = .ok (.areturn, 1) := dk_176 (dk_at dksJ14_getNode_3 0 rfl rfl)
theorem dJ14_getNode_71 : decode cJ14_getNode 71 = .ok (.aload_n 3, 1) := dk_45 (dk_at dksJ14_getNode_3 1 rfl rfl)
theorem dJ14_getNode_72 : decode cJ14_getNode 72 = .ok (.getfield 177, 3) := dk_180 0 177 (dk_at dksJ14_getNode_3 2 rfl rfl)
theorem dJ14_getNode_75 : decode cJ14_getNode 75 = .ok (.dup, 1) := dk_89 (dk_at dksJ14_getNode_3 5 rfl rfl)
theorem dJ14_getNode_76 : decode cJ14_getNode 76 = .ok (.astore 4, 2) := dk_58 4 (dk_at dksJ14_getNode_3 6 rfl rfl)
theorem dJ14_getNode_78 : decode cJ14_getNode 78 = .ok (.ifnull 70, 3) := dk_198 0 70 (dk_at dksJ14_getNode_3 8 rfl rfl)
theorem dJ14_getNode_81 : decode cJ14_getNode 81 = .ok (.aload_n 3, 1) := dk_45 (dk_at dksJ14_getNode_3 11 rfl rfl)
theorem dJ14_getNode_82 : decode cJ14_getNode 82 = .ok (.instanceof 180, 3) := dk_193 0 180 (dk_at dksJ14_getNode_3 12 rfl rfl)
theorem dJ14_getNode_85 : decode cJ14_getNode 85 = .ok (.ifCond .eq 14, 3) := dk_153 0 14 (dk_at dksJ14_getNode_3 15 rfl rfl)
theorem dJ14_getNode_88 : decode cJ14_getNode 88 = .ok (.aload_n 3, 1) := dk_45 (dk_at dksJ14_getNode_3 18 rfl rfl)
theorem dJ14_getNode_89 : decode cJ14_getNode 89 = .ok (.checkcast 180, 3) := dk_192 0 180 (dk_at dksJ14_getNode_3 19 rfl rfl)
theorem dJ14_getNode_92 : decode cJ14_getNode 92 = .ok (.iload 6, 2) := dk_21 6 (dk_at dksJ14_getNode_3 22 rfl rfl)
theorem dJ14_getNode_94 : decode cJ14_getNode 94 = .ok (.aload_n 1, 1) := dk_43 (dk_at dksJ14_getNode_4 0 rfl rfl)
theorem dJ14_getNode_95 : decode cJ14_getNode 95 = .ok (.invokevirtual 182, 3) := dk_182 0 182 (dk_at dksJ14_getNode_4 1 rfl rfl)
theorem dJ14_getNode_98 : decode cJ14_getNode 98 = .ok (.areturn, 1) := dk_176 (dk_at dksJ14_getNode_4 4 rfl rfl)
theorem dJ14_getNode_99 : decode cJ14_getNode 99 = .ok (.aload 4, 2) := dk_25 4 (dk_at dksJ14_getNode_4 5 rfl rfl)
theorem dJ14_getNode_101 : decode cJ14_getNode 101 = .ok (.getfield 168, 3) := dk_180 0 168 (dk_at dksJ14_getNode_4 7 rfl rfl)
theorem dJ14_getNode_104 : decode cJ14_getNode 104 = .ok (.iload 6, 2) := dk_21 6 (dk_at dksJ14_getNode_4 10 rfl rfl)
theorem dJ14_getNode_106 : decode cJ14_getNode 106 = .ok (.if_icmp .ne 31, 3) := dk_160 0 31 (dk_at dksJ14_getNode_4 12 rfl rfl)
theorem dJ14_getNode_109 : decode cJ14_getNode 109 = .ok (.aload 4, 2) := dk_25 4 (dk_at dksJ14_getNode_4 15 rfl rfl)
theorem dJ14_getNode_111 : decode cJ14_getNode 111 = .ok (.getfield 170, 3) := dk_180 0 170 (dk_at dksJ14_getNode_4 17 rfl rfl)
theorem dJ14_getNode_114 : decode cJ14_getNode 114 = .ok (.dup, 1) := dk_89 (dk_at dksJ14_getNode_4 20 rfl rfl)
theorem dJ14_getNode_115 : decode cJ14_getNode 115 = .ok (.astore 7, 2) := dk_58 7 (dk_at dksJ14_getNode_4 21 rfl rfl)
theorem dJ14_getNode_117 : decode cJ14_getNode 117 = .ok (.aload_n 1, 1) := dk_43 (dk_at dksJ14_getNode_4 23 rfl rfl)
theorem dJ14_getNode_118 : decode cJ14_getNode 118 = .ok (.if_acmp .eq 16, 3) := dk_165 0 16 (dk_at dksJ14_getNode_5 0 rfl rfl)
theorem dJ14_getNode_121 : decode cJ14_getNode 121 = .ok (.aload_n 1, 1) := dk_43 (dk_at dksJ14_getNode_5 3 rfl rfl)
theorem dJ14_getNode_122 : decode cJ14_getNode 122 = .ok (.ifnull 15, 3) := dk_198 0 15 (dk_at dksJ14_getNode_5 4 rfl rfl)
theorem dJ14_getNode_125 : decode cJ14_getNode 125 = .ok (.aload_n 1, 1) := dk_43 (dk_at dksJ14_getNode_5 7 rfl rfl)
theorem dJ14_getNode_126 : decode cJ14_getNode 126 = .ok (.aload 7, 2) := dk_25 7 (dk_at dksJ14_getNode_5 8 rfl rfl)
theorem dJ14_getNode_128 : decode cJ14_getNode 128 = .ok (.invokevirtual 173, 3) := dk_182 0 173 (dk_at dksJ14_getNode_5 10 rfl rfl)
theorem dJ14_getNode_131 : decode cJ14_getNode 131 = .ok (.ifCond .eq 6, 3) := dk_153 0 6 (dk_at dksJ14_getNode_5 13 rfl rfl)
theorem dJ14_getNode_134 : decode cJ14_getNode 134 = .ok (.aload 4, 2) := dk_25 4 (dk_at dksJ14_getNode_5 16 rfl rfl)
theorem dJ14_getNode_136 : decode cJ14_getNode 136 = .ok (.areturn, 1) := dk_176 (dk_at dksJ14_getNode_5 18 rfl rfl)
theorem dJ14_getNode_137 : decode cJ14_getNode 137 = .ok (.aload 4, 2) := dk_25 4 (dk_at dksJ14_getNode_5 19 rfl rfl)
theorem dJ14_getNode_139 : decode cJ14_getNode 139 = .ok (.getfield 177, 3) := dk_180 0 177 (dk_at dksJ14_getNode_5 21 rfl rfl)
theorem dJ14_getNode_142 : decode cJ14_getNode 142 = .ok (.dup, 1) := dk_89 (dk_at dksJ14_getNode_6 0 rfl rfl)
theorem dJ14_getNode_143 : decode cJ14_getNode 143 = .ok (.astore 4, 2) := dk_58 4 (dk_at dksJ14_getNode_6 1 rfl rfl)
theorem dJ14_getNode_145 : decode cJ14_getNode 145 = .ok (.ifnonnull (-46), 3) := dk_199 255 210 (dk_at dksJ14_getNode_6 3 rfl rfl)
theorem dJ14_getNode_148 : decode cJ14_getNode 148 = .ok (.aconst_null, 1) := dk_1 (dk_at dksJ14_getNode_6 6 rfl rfl)
theorem dJ14_getNode_149 : decode cJ14_getNode 149 = .ok (.areturn, 1) := dk_176 (dk_at dksJ14_getNode_6 7 rfl rfl)
abbrev cJ14_hash : ByteArray := prog_39_method_1_code
def yJ14_hash : MethodName := ⟨RJ14, "hash", "(Ljava/lang/Object;)I"⟩
def dkwJ14_hash_0 : List UInt8 := [42, 199, 0, 7, 3, 167, 0, 14, 42, 182, 0, 1, 89, 60, 27, 16, 16, 124, 130, 172]
abbrev dktJ14_hash_0 : List UInt8 := dkwJ14_hash_0 ++ []
theorem dksJ14_hash_0 : cJ14_hash.data.toList.drop 0 = dktJ14_hash_0 := by decide +kernel
theorem dJ14_hash_0 : decode cJ14_hash 0 = .ok (.aload_n 0, 1) := dk_42 (dk_at dksJ14_hash_0 0 rfl rfl)
theorem dJ14_hash_1 : decode cJ14_hash 1 = .ok (.ifnonnull 7, 3) := dk_199 0 7 (dk_at dksJ14_hash_0 1 rfl rfl)
theorem dJ14_hash_4 : decode cJ14_hash 4 = .ok (.iconst 0, 1) := dk_3 (dk_at dksJ14_hash_0 4 rfl rfl)
theorem dJ14_hash_5 : decode cJ14_hash 5 = .ok (.goto 14, 3) := dk_167 0 14 (dk_at dksJ14_hash_0 5 rfl rfl)
theorem dJ14_hash_8 : decode cJ14_hash 8 = .ok (.aload_n 0, 1) := dk_42 (dk_at dksJ14_hash_0 8 rfl rfl)
theorem dJ14_hash_9 : decode cJ14_hash 9 = .ok (.invokevirtual 1, 3) := dk_182 0 1 (dk_at dksJ14_hash_0 9 rfl rfl)
theorem dJ14_hash_12 : decode cJ14_hash 12 = .ok (.dup, 1) := dk_89 (dk_at dksJ14_hash_0 12 rfl rfl)
theorem dJ14_hash_13 : decode cJ14_hash 13 = .ok (.istore_n 1, 1) := dk_60 (dk_at dksJ14_hash_0 13 rfl rfl)
theorem dJ14_hash_14 : decode cJ14_hash 14 = .ok (.iload_n 1, 1) := dk_27 (dk_at dksJ14_hash_0 14 rfl rfl)
theorem dJ14_hash_15 : decode cJ14_hash 15 = .ok (.bipush 16, 2) := dk_16 16 (dk_at dksJ14_hash_0 15 rfl rfl)
theorem dJ14_hash_17 : decode cJ14_hash 17 = .ok (.iushr, 1) := dk_124 (dk_at dksJ14_hash_0 17 rfl rfl)
theorem dJ14_hash_18 : decode cJ14_hash 18 = .ok (.ixor, 1) := dk_130 (dk_at dksJ14_hash_0 18 rfl rfl)
theorem dJ14_hash_19 : decode cJ14_hash 19 = .ok (.ireturn, 1) := dk_172 (dk_at dksJ14_hash_0 19 rfl rfl)
abbrev cJ14_comparableClassFor : ByteArray := prog_39_method_2_code
def yJ14_comparableClassFor : MethodName := ⟨RJ14, "comparableClassFor", "(Ljava/lang/Object;)Ljava/lang/Class;"⟩
def dkwJ14_comparableClassFor_4 : List UInt8 := [4, 160, 0, 12, 45, 3, 50, 43, 166, 0, 5, 43, 176, 132, 7, 1, 167, 255, 186, 1, 176]
abbrev dktJ14_comparableClassFor_4 : List UInt8 := dkwJ14_comparableClassFor_4 ++ []
def dkwJ14_comparableClassFor_3 : List UInt8 := [185, 0, 23, 1, 0, 18, 7, 166, 0, 30, 25, 4, 185, 0, 27, 1, 0, 89, 78, 198, 0, 18, 45, 190]
abbrev dktJ14_comparableClassFor_3 : List UInt8 := dkwJ14_comparableClassFor_3 ++ dktJ14_comparableClassFor_4
def dkwJ14_comparableClassFor_2 : List UInt8 := [25, 5, 21, 7, 50, 58, 8, 25, 8, 193, 0, 21, 153, 0, 48, 25, 8, 192, 0, 21, 89, 58, 4]
abbrev dktJ14_comparableClassFor_2 : List UInt8 := dkwJ14_comparableClassFor_2 ++ dktJ14_comparableClassFor_3
def dkwJ14_comparableClassFor_1 : List UInt8 := [89, 77, 198, 0, 87, 44, 58, 5, 25, 5, 190, 54, 6, 3, 54, 7, 21, 7, 21, 6, 162, 0, 69]
abbrev dktJ14_comparableClassFor_1 : List UInt8 := dkwJ14_comparableClassFor_1 ++ dktJ14_comparableClassFor_2
def dkwJ14_comparableClassFor_0 : List UInt8 := [42, 193, 0, 7, 153, 0, 109, 42, 182, 0, 9, 89, 76, 18, 13, 166, 0, 5, 43, 176, 43, 182, 0, 15]
abbrev dktJ14_comparableClassFor_0 : List UInt8 := dkwJ14_comparableClassFor_0 ++ dktJ14_comparableClassFor_1
theorem dksJ14_comparableClassFor_0 : cJ14_comparableClassFor.data.toList.drop 0 = dktJ14_comparableClassFor_0 := by decide +kernel
theorem dksJ14_comparableClassFor_1 : cJ14_comparableClassFor.data.toList.drop 24 = dktJ14_comparableClassFor_1 := dk_seg dksJ14_comparableClassFor_0 24 rfl rfl
theorem dksJ14_comparableClassFor_2 : cJ14_comparableClassFor.data.toList.drop 47 = dktJ14_comparableClassFor_2 := dk_seg dksJ14_comparableClassFor_1 23 rfl rfl
theorem dksJ14_comparableClassFor_3 : cJ14_comparableClassFor.data.toList.drop 70 = dktJ14_comparableClassFor_3 := dk_seg dksJ14_comparableClassFor_2 23 rfl rfl
theorem dksJ14_comparableClassFor_4 : cJ14_comparableClassFor.data.toList.drop 94 = dktJ14_comparableClassFor_4 := dk_seg dksJ14_comparableClassFor_3 24 rfl rfl
theorem dJ14_comparableClassFor_0 : decode cJ14_comparableClassFor 0 = .ok (.aload_n 0, 1) := dk_42 (dk_at dksJ14_comparableClassFor_0 0 rfl rfl)
theorem dJ14_comparableClassFor_1 : decode cJ14_comparableClassFor 1 = .ok (.instanceof 7, 3) := dk_193 0 7 (dk_at dksJ14_comparableClassFor_0 1 rfl rfl)
theorem dJ14_comparableClassFor_4 : decode cJ14_comparableClassFor 4 = .ok (.ifCond .eq 109, 3) := dk_153 0 109 (dk_at dksJ14_comparableClassFor_0 4 rfl rfl)
theorem dJ14_comparableClassFor_7 : decode cJ14_comparableClassFor 7 = .ok (.aload_n 0, 1) := dk_42 (dk_at dksJ14_comparableClassFor_0 7 rfl rfl)
theorem dJ14_comparableClassFor_8 : decode cJ14_comparableClassFor 8 = .ok (.invokevirtual 9, 3) := dk_182 0 9 (dk_at dksJ14_comparableClassFor_0 8 rfl rfl)
theorem dJ14_comparableClassFor_11 : decode cJ14_comparableClassFor 11 = .ok (.dup, 1) := dk_89 (dk_at dksJ14_comparableClassFor_0 11 rfl rfl)
theorem dJ14_comparableClassFor_12 : decode cJ14_comparableClassFor 12 = .ok (.astore_n 1, 1) := dk_76 (dk_at dksJ14_comparableClassFor_0 12 rfl rfl)
theorem dJ14_comparableClassFor_13 : decode cJ14_comparableClassFor 13 = .ok (.ldc 13, 2) := dk_18 13 (dk_at dksJ14_comparableClassFor_0 13 rfl rfl)
theorem dJ14_comparableClassFor_15 : decode cJ14_comparableClassFor 15 = .ok (.if_acmp .ne 5, 3) := dk_166 0 5 (dk_at dksJ14_comparableClassFor_0 15 rfl rfl)
theorem dJ14_comparableClassFor_18 : decode cJ14_comparableClassFor 18 = .ok (.aload_n 1, 1) := dk_43 (dk_at dksJ14_comparableClassFor_0 18 rfl rfl)
theorem dJ14_comparableClassFor_19 : decode cJ14_comparableClassFor 19 = .ok (.areturn, 1) := dk_176 (dk_at dksJ14_comparableClassFor_0 19 rfl rfl)
theorem dJ14_comparableClassFor_20 : decode cJ14_comparableClassFor 20 = .ok (.aload_n 1, 1) := dk_43 (dk_at dksJ14_comparableClassFor_0 20 rfl rfl)
theorem dJ14_comparableClassFor_21 : decode cJ14_comparableClassFor 21 = .ok (.invokevirtual 15, 3) := dk_182 0 15 (dk_at dksJ14_comparableClassFor_0 21 rfl rfl)
theorem dJ14_comparableClassFor_24 : decode cJ14_comparableClassFor 24 = .ok (.dup, 1) := dk_89 (dk_at dksJ14_comparableClassFor_1 0 rfl rfl)
theorem dJ14_comparableClassFor_25 : decode cJ14_comparableClassFor 25 = .ok (.astore_n 2, 1) := dk_77 (dk_at dksJ14_comparableClassFor_1 1 rfl rfl)
theorem dJ14_comparableClassFor_26 : decode cJ14_comparableClassFor 26 = .ok (.ifnull 87, 3) := dk_198 0 87 (dk_at dksJ14_comparableClassFor_1 2 rfl rfl)
theorem dJ14_comparableClassFor_29 : decode cJ14_comparableClassFor 29 = .ok (.aload_n 2, 1) := dk_44 (dk_at dksJ14_comparableClassFor_1 5 rfl rfl)
theorem dJ14_comparableClassFor_30 : decode cJ14_comparableClassFor 30 = .ok (.astore 5, 2) := dk_58 5 (dk_at dksJ14_comparableClassFor_1 6 rfl rfl)
theorem dJ14_comparableClassFor_32 : decode cJ14_comparableClassFor 32 = .ok (.aload 5, 2) := dk_25 5 (dk_at dksJ14_comparableClassFor_1 8 rfl rfl)
theorem dJ14_comparableClassFor_34 : decode cJ14_comparableClassFor 34 = .ok (.arraylength, 1) := dk_190 (dk_at dksJ14_comparableClassFor_1 10 rfl rfl)
theorem dJ14_comparableClassFor_35 : decode cJ14_comparableClassFor 35 = .ok (.istore 6, 2) := dk_54 6 (dk_at dksJ14_comparableClassFor_1 11 rfl rfl)
theorem dJ14_comparableClassFor_37 : decode cJ14_comparableClassFor 37 = .ok (.iconst 0, 1) := dk_3 (dk_at dksJ14_comparableClassFor_1 13 rfl rfl)
theorem dJ14_comparableClassFor_38 : decode cJ14_comparableClassFor 38 = .ok (.istore 7, 2) := dk_54 7 (dk_at dksJ14_comparableClassFor_1 14 rfl rfl)
theorem dJ14_comparableClassFor_40 : decode cJ14_comparableClassFor 40 = .ok (.iload 7, 2) := dk_21 7 (dk_at dksJ14_comparableClassFor_1 16 rfl rfl)
theorem dJ14_comparableClassFor_42 : decode cJ14_comparableClassFor 42 = .ok (.iload 6, 2) := dk_21 6 (dk_at dksJ14_comparableClassFor_1 18 rfl rfl)
theorem dJ14_comparableClassFor_44 : decode cJ14_comparableClassFor 44 = .ok (.if_icmp .ge 69, 3) := dk_162 0 69 (dk_at dksJ14_comparableClassFor_1 20 rfl rfl)
theorem dJ14_comparableClassFor_47 : decode cJ14_comparableClassFor 47 = .ok (.aload 5, 2) := dk_25 5 (dk_at dksJ14_comparableClassFor_2 0 rfl rfl)
theorem dJ14_comparableClassFor_49 : decode cJ14_comparableClassFor 49 = .ok (.iload 7, 2) := dk_21 7 (dk_at dksJ14_comparableClassFor_2 2 rfl rfl)
theorem dJ14_comparableClassFor_51 : decode cJ14_comparableClassFor 51 = .ok (.aaload, 1) := dk_50 (dk_at dksJ14_comparableClassFor_2 4 rfl rfl)
theorem dJ14_comparableClassFor_52 : decode cJ14_comparableClassFor 52 = .ok (.astore 8, 2) := dk_58 8 (dk_at dksJ14_comparableClassFor_2 5 rfl rfl)
theorem dJ14_comparableClassFor_54 : decode cJ14_comparableClassFor 54 = .ok (.aload 8, 2) := dk_25 8 (dk_at dksJ14_comparableClassFor_2 7 rfl rfl)
theorem dJ14_comparableClassFor_56 : decode cJ14_comparableClassFor 56 = .ok (.instanceof 21, 3) := dk_193 0 21 (dk_at dksJ14_comparableClassFor_2 9 rfl rfl)
theorem dJ14_comparableClassFor_59 : decode cJ14_comparableClassFor 59 = .ok (.ifCond .eq 48, 3) := dk_153 0 48 (dk_at dksJ14_comparableClassFor_2 12 rfl rfl)
theorem dJ14_comparableClassFor_62 : decode cJ14_comparableClassFor 62 = .ok (.aload 8, 2) := dk_25 8 (dk_at dksJ14_comparableClassFor_2 15 rfl rfl)
theorem dJ14_comparableClassFor_64 : decode cJ14_comparableClassFor 64 = .ok (.checkcast 21, 3) := dk_192 0 21 (dk_at dksJ14_comparableClassFor_2 17 rfl rfl)
theorem dJ14_comparableClassFor_67 : decode cJ14_comparableClassFor 67 = .ok (.dup, 1) := dk_89 (dk_at dksJ14_comparableClassFor_2 20 rfl rfl)
theorem dJ14_comparableClassFor_68 : decode cJ14_comparableClassFor 68 = .ok (.astore 4, 2) := dk_58 4 (dk_at dksJ14_comparableClassFor_2 21 rfl rfl)
theorem dJ14_comparableClassFor_70 : decode cJ14_comparableClassFor 70 = .ok (.invokeinterface 23 1, 5) := by decide +kernel
theorem dJ14_comparableClassFor_75 : decode cJ14_comparableClassFor 75 = .ok (.ldc 7, 2) := dk_18 7 (dk_at dksJ14_comparableClassFor_3 5 rfl rfl)
theorem dJ14_comparableClassFor_77 : decode cJ14_comparableClassFor 77 = .ok (.if_acmp .ne 30, 3) := dk_166 0 30 (dk_at dksJ14_comparableClassFor_3 7 rfl rfl)
theorem dJ14_comparableClassFor_80 : decode cJ14_comparableClassFor 80 = .ok (.aload 4, 2) := dk_25 4 (dk_at dksJ14_comparableClassFor_3 10 rfl rfl)
theorem dJ14_comparableClassFor_82 : decode cJ14_comparableClassFor 82 = .ok (.invokeinterface 27 1, 5) := by decide +kernel
theorem dJ14_comparableClassFor_87 : decode cJ14_comparableClassFor 87 = .ok (.dup, 1) := dk_89 (dk_at dksJ14_comparableClassFor_3 17 rfl rfl)
theorem dJ14_comparableClassFor_88 : decode cJ14_comparableClassFor 88 = .ok (.astore_n 3, 1) := dk_78 (dk_at dksJ14_comparableClassFor_3 18 rfl rfl)
theorem dJ14_comparableClassFor_89 : decode cJ14_comparableClassFor 89 = .ok (.ifnull 18, 3) := dk_198 0 18 (dk_at dksJ14_comparableClassFor_3 19 rfl rfl)
theorem dJ14_comparableClassFor_92 : decode cJ14_comparableClassFor 92 = .ok (.aload_n 3, 1) := dk_45 (dk_at dksJ14_comparableClassFor_3 22 rfl rfl)
theorem dJ14_comparableClassFor_93 : decode cJ14_comparableClassFor 93 = .ok (.arraylength, 1) := dk_190 (dk_at dksJ14_comparableClassFor_3 23 rfl rfl)
theorem dJ14_comparableClassFor_94 : decode cJ14_comparableClassFor 94 = .ok (.iconst 1, 1) := dk_4 (dk_at dksJ14_comparableClassFor_4 0 rfl rfl)
theorem dJ14_comparableClassFor_95 : decode cJ14_comparableClassFor 95 = .ok (.if_icmp .ne 12, 3) := dk_160 0 12 (dk_at dksJ14_comparableClassFor_4 1 rfl rfl)
theorem dJ14_comparableClassFor_98 : decode cJ14_comparableClassFor 98 = .ok (.aload_n 3, 1) := dk_45 (dk_at dksJ14_comparableClassFor_4 4 rfl rfl)
theorem dJ14_comparableClassFor_99 : decode cJ14_comparableClassFor 99 = .ok (.iconst 0, 1) := dk_3 (dk_at dksJ14_comparableClassFor_4 5 rfl rfl)
theorem dJ14_comparableClassFor_100 : decode cJ14_comparableClassFor 100 = .ok (.aaload, 1) := dk_50 (dk_at dksJ14_comparableClassFor_4 6 rfl rfl)
theorem dJ14_comparableClassFor_101 : decode cJ14_comparableClassFor 101 = .ok (.aload_n 1, 1) := dk_43 (dk_at dksJ14_comparableClassFor_4 7 rfl rfl)
theorem dJ14_comparableClassFor_102 : decode cJ14_comparableClassFor 102 = .ok (.if_acmp .ne 5, 3) := dk_166 0 5 (dk_at dksJ14_comparableClassFor_4 8 rfl rfl)
theorem dJ14_comparableClassFor_105 : decode cJ14_comparableClassFor 105 = .ok (.aload_n 1, 1) := dk_43 (dk_at dksJ14_comparableClassFor_4 11 rfl rfl)
theorem dJ14_comparableClassFor_106 : decode cJ14_comparableClassFor 106 = .ok (.areturn, 1) := dk_176 (dk_at dksJ14_comparableClassFor_4 12 rfl rfl)
theorem dJ14_comparableClassFor_107 : decode cJ14_comparableClassFor 107 = .ok (.iinc 7 1, 3) := dk_132 7 1 (dk_at dksJ14_comparableClassFor_4 13 rfl rfl)
theorem dJ14_comparableClassFor_110 : decode cJ14_comparableClassFor 110 = .ok (.goto (-70), 3) := dk_167 255 186 (dk_at dksJ14_comparableClassFor_4 16 rfl rfl)
theorem dJ14_comparableClassFor_113 : decode cJ14_comparableClassFor 113 = .ok (.aconst_null, 1) := dk_1 (dk_at dksJ14_comparableClassFor_4 19 rfl rfl)
theorem dJ14_comparableClassFor_114 : decode cJ14_comparableClassFor 114 = .ok (.areturn, 1) := dk_176 (dk_at dksJ14_comparableClassFor_4 20 rfl rfl)
abbrev cJ14_compareComparables : ByteArray := prog_39_method_3_code
def yJ14_compareComparables : MethodName := ⟨RJ14, "compareComparables", "(Ljava/lang/Class;Ljava/lang/Object;Ljava/lang/Object;)I"⟩
def dkwJ14_compareComparables_1 : List UInt8 := [185, 0, 30, 2, 0, 172]
abbrev dktJ14_compareComparables_1 : List UInt8 := dkwJ14_compareComparables_1 ++ []
def dkwJ14_compareComparables_0 : List UInt8 := [44, 198, 0, 11, 44, 182, 0, 9, 42, 165, 0, 7, 3, 167, 0, 13, 43, 192, 0, 7, 44]
abbrev dktJ14_compareComparables_0 : List UInt8 := dkwJ14_compareComparables_0 ++ dktJ14_compareComparables_1
theorem dksJ14_compareComparables_0 : cJ14_compareComparables.data.toList.drop 0 = dktJ14_compareComparables_0 := by decide +kernel
theorem dksJ14_compareComparables_1 : cJ14_compareComparables.data.toList.drop 21 = dktJ14_compareComparables_1 := dk_seg dksJ14_compareComparables_0 21 rfl rfl
theorem dJ14_compareComparables_0 : decode cJ14_compareComparables 0 = .ok (.aload_n 2, 1) := dk_44 (dk_at dksJ14_compareComparables_0 0 rfl rfl)
theorem dJ14_compareComparables_1 : decode cJ14_compareComparables 1 = .ok (.ifnull 11, 3) := dk_198 0 11 (dk_at dksJ14_compareComparables_0 1 rfl rfl)
theorem dJ14_compareComparables_4 : decode cJ14_compareComparables 4 = .ok (.aload_n 2, 1) := dk_44 (dk_at dksJ14_compareComparables_0 4 rfl rfl)
theorem dJ14_compareComparables_5 : decode cJ14_compareComparables 5 = .ok (.invokevirtual 9, 3) := dk_182 0 9 (dk_at dksJ14_compareComparables_0 5 rfl rfl)
theorem dJ14_compareComparables_8 : decode cJ14_compareComparables 8 = .ok (.aload_n 0, 1) := dk_42 (dk_at dksJ14_compareComparables_0 8 rfl rfl)
theorem dJ14_compareComparables_9 : decode cJ14_compareComparables 9 = .ok (.if_acmp .eq 7, 3) := dk_165 0 7 (dk_at dksJ14_compareComparables_0 9 rfl rfl)
theorem dJ14_compareComparables_12 : decode cJ14_compareComparables 12 = .ok (.iconst 0, 1) := dk_3 (dk_at dksJ14_compareComparables_0 12 rfl rfl)
theorem dJ14_compareComparables_13 : decode cJ14_compareComparables 13 = .ok (.goto 13, 3) := dk_167 0 13 (dk_at dksJ14_compareComparables_0 13 rfl rfl)
theorem dJ14_compareComparables_16 : decode cJ14_compareComparables 16 = .ok (.aload_n 1, 1) := dk_43 (dk_at dksJ14_compareComparables_0 16 rfl rfl)
theorem dJ14_compareComparables_17 : decode cJ14_compareComparables 17 = .ok (.checkcast 7, 3) := dk_192 0 7 (dk_at dksJ14_compareComparables_0 17 rfl rfl)
theorem dJ14_compareComparables_20 : decode cJ14_compareComparables 20 = .ok (.aload_n 2, 1) := dk_44 (dk_at dksJ14_compareComparables_0 20 rfl rfl)
theorem dJ14_compareComparables_21 : decode cJ14_compareComparables 21 = .ok (.invokeinterface 30 2, 5) := by decide +kernel
theorem dJ14_compareComparables_26 : decode cJ14_compareComparables 26 = .ok (.ireturn, 1) := dk_172 (dk_at dksJ14_compareComparables_1 5 rfl rfl)
abbrev cJ14_get : ByteArray := prog_39_method_12_code
def yJ14_get : MethodName := ⟨RJ14, "get", "(Ljava/lang/Object;)Ljava/lang/Object;"⟩
def dkwJ14_get_0 : List UInt8 := [42, 43, 182, 0, 158, 89, 77, 199, 0, 7, 1, 167, 0, 7, 44, 180, 0, 162, 176]
abbrev dktJ14_get_0 : List UInt8 := dkwJ14_get_0 ++ []
theorem dksJ14_get_0 : cJ14_get.data.toList.drop 0 = dktJ14_get_0 := by decide +kernel
theorem dJ14_get_0 : decode cJ14_get 0 = .ok (.aload_n 0, 1) := dk_42 (dk_at dksJ14_get_0 0 rfl rfl)
theorem dJ14_get_1 : decode cJ14_get 1 = .ok (.aload_n 1, 1) := dk_43 (dk_at dksJ14_get_0 1 rfl rfl)
theorem dJ14_get_2 : decode cJ14_get 2 = .ok (.invokevirtual 158, 3) := dk_182 0 158 (dk_at dksJ14_get_0 2 rfl rfl)
theorem dJ14_get_5 : decode cJ14_get 5 = .ok (.dup, 1) := dk_89 (dk_at dksJ14_get_0 5 rfl rfl)
theorem dJ14_get_6 : decode cJ14_get 6 = .ok (.astore_n 2, 1) := dk_77 (dk_at dksJ14_get_0 6 rfl rfl)
theorem dJ14_get_7 : decode cJ14_get 7 = .ok (.ifnonnull 7, 3) := dk_199 0 7 (dk_at dksJ14_get_0 7 rfl rfl)
theorem dJ14_get_10 : decode cJ14_get 10 = .ok (.aconst_null, 1) := dk_1 (dk_at dksJ14_get_0 10 rfl rfl)
theorem dJ14_get_11 : decode cJ14_get 11 = .ok (.goto 7, 3) := dk_167 0 7 (dk_at dksJ14_get_0 11 rfl rfl)
theorem dJ14_get_14 : decode cJ14_get 14 = .ok (.aload_n 2, 1) := dk_44 (dk_at dksJ14_get_0 14 rfl rfl)
theorem dJ14_get_15 : decode cJ14_get 15 = .ok (.getfield 162, 3) := dk_180 0 162 (dk_at dksJ14_get_0 15 rfl rfl)
theorem dJ14_get_18 : decode cJ14_get 18 = .ok (.areturn, 1) := dk_176 (dk_at dksJ14_get_0 18 rfl rfl)
abbrev cJ14_put : ByteArray := prog_39_method_15_code
def yJ14_put : MethodName := ⟨RJ14, "put", "(Ljava/lang/Object;Ljava/lang/Object;)Ljava/lang/Object;"⟩
def dkwJ14_put_0 : List UInt8 := [42, 43, 184, 0, 149, 43, 44, 3, 4, 182, 0, 152, 176]
abbrev dktJ14_put_0 : List UInt8 := dkwJ14_put_0 ++ []
theorem dksJ14_put_0 : cJ14_put.data.toList.drop 0 = dktJ14_put_0 := by decide +kernel
theorem dJ14_put_0 : decode cJ14_put 0 = .ok (.aload_n 0, 1) := dk_42 (dk_at dksJ14_put_0 0 rfl rfl)
theorem dJ14_put_1 : decode cJ14_put 1 = .ok (.aload_n 1, 1) := dk_43 (dk_at dksJ14_put_0 1 rfl rfl)
theorem dJ14_put_2 : decode cJ14_put 2 = .ok (.invokestatic 149, 3) := dk_184 0 149 (dk_at dksJ14_put_0 2 rfl rfl)
theorem dJ14_put_5 : decode cJ14_put 5 = .ok (.aload_n 1, 1) := dk_43 (dk_at dksJ14_put_0 5 rfl rfl)
theorem dJ14_put_6 : decode cJ14_put 6 = .ok (.aload_n 2, 1) := dk_44 (dk_at dksJ14_put_0 6 rfl rfl)
theorem dJ14_put_7 : decode cJ14_put 7 = .ok (.iconst 0, 1) := dk_3 (dk_at dksJ14_put_0 7 rfl rfl)
theorem dJ14_put_8 : decode cJ14_put 8 = .ok (.iconst 1, 1) := dk_4 (dk_at dksJ14_put_0 8 rfl rfl)
theorem dJ14_put_9 : decode cJ14_put 9 = .ok (.invokevirtual 152, 3) := dk_182 0 152 (dk_at dksJ14_put_0 9 rfl rfl)
theorem dJ14_put_12 : decode cJ14_put 12 = .ok (.areturn, 1) := dk_176 (dk_at dksJ14_put_0 12 rfl rfl)
abbrev cJ14_putVal : ByteArray := prog_39_method_16_code
def yJ14_putVal : MethodName := ⟨RJ14, "putVal", "(ILjava/lang/Object;Ljava/lang/Object;ZZ)Ljava/lang/Object;"⟩
def dkwJ14_putVal_12 : List UInt8 := [181, 0, 156, 42, 180, 0, 88, 164, 0, 8, 42, 182, 0, 117, 87, 42, 21, 5, 182, 0, 205, 1, 176]
abbrev dktJ14_putVal_12 : List UInt8 := dkwJ14_putVal_12 ++ []
def dkwJ14_putVal_11 : List UInt8 := [182, 0, 198, 25, 12, 176, 42, 89, 180, 0, 202, 4, 96, 181, 0, 202, 42, 89, 180, 0, 156, 4, 96, 90]
abbrev dktJ14_putVal_11 : List UInt8 := dkwJ14_putVal_11 ++ dktJ14_putVal_12
def dkwJ14_putVal_10 : List UInt8 := [180, 0, 162, 58, 12, 21, 4, 153, 0, 8, 25, 12, 199, 0, 9, 25, 10, 45, 181, 0, 162, 42, 25, 10]
abbrev dktJ14_putVal_10 : List UInt8 := dkwJ14_putVal_10 ++ dktJ14_putVal_11
def dkwJ14_putVal_9 : List UInt8 := [153, 0, 6, 167, 0, 13, 25, 10, 58, 7, 132, 12, 1, 167, 255, 171, 25, 10, 198, 0, 35, 25, 10]
abbrev dktJ14_putVal_9 : List UInt8 := dkwJ14_putVal_9 ++ dktJ14_putVal_10
def dkwJ14_putVal_8 : List UInt8 := [25, 10, 180, 0, 170, 89, 58, 11, 44, 165, 0, 29, 44, 198, 0, 15, 44, 25, 11, 182, 0, 173]
abbrev dktJ14_putVal_8 : List UInt8 := dkwJ14_putVal_8 ++ dktJ14_putVal_9
def dkwJ14_putVal_7 : List UInt8 := [16, 7, 161, 0, 60, 42, 25, 6, 27, 182, 0, 194, 167, 0, 50, 25, 10, 180, 0, 168, 27, 160, 0, 31]
abbrev dktJ14_putVal_7 : List UInt8 := dkwJ14_putVal_7 ++ dktJ14_putVal_8
def dkwJ14_putVal_6 : List UInt8 := [180, 0, 177, 89, 58, 10, 199, 0, 33, 25, 7, 42, 27, 44, 45, 1, 182, 0, 186, 181, 0, 177, 21, 12]
abbrev dktJ14_putVal_6 : List UInt8 := dkwJ14_putVal_6 ++ dktJ14_putVal_7
def dkwJ14_putVal_5 : List UInt8 := [192, 0, 180, 42, 25, 6, 27, 44, 45, 182, 0, 190, 58, 10, 167, 0, 94, 3, 54, 12, 25, 7]
abbrev dktJ14_putVal_5 : List UInt8 := dkwJ14_putVal_5 ++ dktJ14_putVal_6
def dkwJ14_putVal_4 : List UInt8 := [182, 0, 173, 153, 0, 10, 25, 7, 58, 10, 167, 0, 121, 25, 7, 193, 0, 180, 153, 0, 22, 25, 7]
abbrev dktJ14_putVal_4 : List UInt8 := dkwJ14_putVal_4 ++ dktJ14_putVal_5
def dkwJ14_putVal_3 : List UInt8 := [160, 0, 35, 25, 7, 180, 0, 170, 89, 58, 11, 44, 165, 0, 16, 44, 198, 0, 19, 44, 25, 11]
abbrev dktJ14_putVal_3 : List UInt8 := dkwJ14_putVal_3 ++ dktJ14_putVal_4
def dkwJ14_putVal_2 : List UInt8 := [25, 6, 21, 9, 42, 27, 44, 45, 1, 182, 0, 186, 83, 167, 0, 199, 25, 7, 180, 0, 168, 27]
abbrev dktJ14_putVal_2 : List UInt8 := dkwJ14_putVal_2 ++ dktJ14_putVal_3
def dkwJ14_putVal_1 : List UInt8 := [58, 6, 190, 54, 8, 25, 6, 21, 8, 4, 100, 27, 126, 89, 54, 9, 50, 89, 58, 7, 199, 0, 19]
abbrev dktJ14_putVal_1 : List UInt8 := dkwJ14_putVal_1 ++ dktJ14_putVal_2
def dkwJ14_putVal_0 : List UInt8 := [42, 180, 0, 105, 89, 58, 6, 198, 0, 12, 25, 6, 190, 89, 54, 8, 154, 0, 13, 42, 182, 0, 117, 89]
abbrev dktJ14_putVal_0 : List UInt8 := dkwJ14_putVal_0 ++ dktJ14_putVal_1
theorem dksJ14_putVal_0 : cJ14_putVal.data.toList.drop 0 = dktJ14_putVal_0 := by decide +kernel
theorem dksJ14_putVal_1 : cJ14_putVal.data.toList.drop 24 = dktJ14_putVal_1 := dk_seg dksJ14_putVal_0 24 rfl rfl
theorem dksJ14_putVal_2 : cJ14_putVal.data.toList.drop 47 = dktJ14_putVal_2 := dk_seg dksJ14_putVal_1 23 rfl rfl
theorem dksJ14_putVal_3 : cJ14_putVal.data.toList.drop 69 = dktJ14_putVal_3 := dk_seg dksJ14_putVal_2 22 rfl rfl
theorem dksJ14_putVal_4 : cJ14_putVal.data.toList.drop 91 = dktJ14_putVal_4 := dk_seg dksJ14_putVal_3 22 rfl rfl
theorem dksJ14_putVal_5 : cJ14_putVal.data.toList.drop 114 = dktJ14_putVal_5 := dk_seg dksJ14_putVal_4 23 rfl rfl
theorem dksJ14_putVal_6 : cJ14_putVal.data.toList.drop 136 = dktJ14_putVal_6 := dk_seg dksJ14_putVal_5 22 rfl rfl
theorem dksJ14_putVal_7 : cJ14_putVal.data.toList.drop 160 = dktJ14_putVal_7 := dk_seg dksJ14_putVal_6 24 rfl rfl
theorem dksJ14_putVal_8 : cJ14_putVal.data.toList.drop 184 = dktJ14_putVal_8 := dk_seg dksJ14_putVal_7 24 rfl rfl
theorem dksJ14_putVal_9 : cJ14_putVal.data.toList.drop 206 = dktJ14_putVal_9 := dk_seg dksJ14_putVal_8 22 rfl rfl
theorem dksJ14_putVal_10 : cJ14_putVal.data.toList.drop 229 = dktJ14_putVal_10 := dk_seg dksJ14_putVal_9 23 rfl rfl
theorem dksJ14_putVal_11 : cJ14_putVal.data.toList.drop 253 = dktJ14_putVal_11 := dk_seg dksJ14_putVal_10 24 rfl rfl
theorem dksJ14_putVal_12 : cJ14_putVal.data.toList.drop 277 = dktJ14_putVal_12 := dk_seg dksJ14_putVal_11 24 rfl rfl
theorem dJ14_putVal_0 : decode cJ14_putVal 0 = .ok (.aload_n 0, 1) := dk_42 (dk_at dksJ14_putVal_0 0 rfl rfl)
theorem dJ14_putVal_1 : decode cJ14_putVal 1 = .ok (.getfield 105, 3) := dk_180 0 105 (dk_at dksJ14_putVal_0 1 rfl rfl)
theorem dJ14_putVal_4 : decode cJ14_putVal 4 = .ok (.dup, 1) := dk_89 (dk_at dksJ14_putVal_0 4 rfl rfl)
theorem dJ14_putVal_5 : decode cJ14_putVal 5 = .ok (.astore 6, 2) := dk_58 6 (dk_at dksJ14_putVal_0 5 rfl rfl)
theorem dJ14_putVal_7 : decode cJ14_putVal 7 = .ok (.ifnull 12, 3) := dk_198 0 12 (dk_at dksJ14_putVal_0 7 rfl rfl)
theorem dJ14_putVal_10 : decode cJ14_putVal 10 = .ok (.aload 6, 2) := dk_25 6 (dk_at dksJ14_putVal_0 10 rfl rfl)
theorem dJ14_putVal_12 : decode cJ14_putVal 12 = .ok (.arraylength, 1) := dk_190 (dk_at dksJ14_putVal_0 12 rfl rfl)
theorem dJ14_putVal_13 : decode cJ14_putVal 13 = .ok (.dup, 1) := dk_89 (dk_at dksJ14_putVal_0 13 rfl rfl)
theorem dJ14_putVal_14 : decode cJ14_putVal 14 = .ok (.istore 8, 2) := dk_54 8 (dk_at dksJ14_putVal_0 14 rfl rfl)
theorem dJ14_putVal_16 : decode cJ14_putVal 16 = .ok (.ifCond .ne 13, 3) := dk_154 0 13 (dk_at dksJ14_putVal_0 16 rfl rfl)
theorem dJ14_putVal_19 : decode cJ14_putVal 19 = .ok (.aload_n 0, 1) := dk_42 (dk_at dksJ14_putVal_0 19 rfl rfl)
theorem dJ14_putVal_20 : decode cJ14_putVal 20 = .ok (.invokevirtual 117, 3) := dk_182 0 117 (dk_at dksJ14_putVal_0 20 rfl rfl)
theorem dJ14_putVal_23 : decode cJ14_putVal 23 = .ok (.dup, 1) := dk_89 (dk_at dksJ14_putVal_0 23 rfl rfl)
theorem dJ14_putVal_24 : decode cJ14_putVal 24 = .ok (.astore 6, 2) := dk_58 6 (dk_at dksJ14_putVal_1 0 rfl rfl)
theorem dJ14_putVal_26 : decode cJ14_putVal 26 = .ok (.arraylength, 1) := dk_190 (dk_at dksJ14_putVal_1 2 rfl rfl)
theorem dJ14_putVal_27 : decode cJ14_putVal 27 = .ok (.istore 8, 2) := dk_54 8 (dk_at dksJ14_putVal_1 3 rfl rfl)
theorem dJ14_putVal_29 : decode cJ14_putVal 29 = .ok (.aload 6, 2) := dk_25 6 (dk_at dksJ14_putVal_1 5 rfl rfl)
theorem dJ14_putVal_31 : decode cJ14_putVal 31 = .ok (.iload 8, 2) := dk_21 8 (dk_at dksJ14_putVal_1 7 rfl rfl)
theorem dJ14_putVal_33 : decode cJ14_putVal 33 = .ok (.iconst 1, 1) := dk_4 (dk_at dksJ14_putVal_1 9 rfl rfl)
theorem dJ14_putVal_34 : decode cJ14_putVal 34 = .ok (.isub, 1) := dk_100 (dk_at dksJ14_putVal_1 10 rfl rfl)
theorem dJ14_putVal_35 : decode cJ14_putVal 35 = .ok (.iload_n 1, 1) := dk_27 (dk_at dksJ14_putVal_1 11 rfl rfl)
theorem dJ14_putVal_36 : decode cJ14_putVal 36 = .ok (.iand, 1) := dk_126 (dk_at dksJ14_putVal_1 12 rfl rfl)
theorem dJ14_putVal_37 : decode cJ14_putVal 37 = .ok (.dup, 1) := dk_89 (dk_at dksJ14_putVal_1 13 rfl rfl)
theorem dJ14_putVal_38 : decode cJ14_putVal 38 = .ok (.istore 9, 2) := dk_54 9 (dk_at dksJ14_putVal_1 14 rfl rfl)
theorem dJ14_putVal_40 : decode cJ14_putVal 40 = .ok (.aaload, 1) := dk_50 (dk_at dksJ14_putVal_1 16 rfl rfl)
theorem dJ14_putVal_41 : decode cJ14_putVal 41 = .ok (.dup, 1) := dk_89 (dk_at dksJ14_putVal_1 17 rfl rfl)
theorem dJ14_putVal_42 : decode cJ14_putVal 42 = .ok (.astore 7, 2) := dk_58 7 (dk_at dksJ14_putVal_1 18 rfl rfl)
theorem dJ14_putVal_44 : decode cJ14_putVal 44 = .ok (.ifnonnull 19, 3) := dk_199 0 19 (dk_at dksJ14_putVal_1 20 rfl rfl)
theorem dJ14_putVal_47 : decode cJ14_putVal 47 = .ok (.aload 6, 2) := dk_25 6 (dk_at dksJ14_putVal_2 0 rfl rfl)
theorem dJ14_putVal_49 : decode cJ14_putVal 49 = .ok (.iload 9, 2) := dk_21 9 (dk_at dksJ14_putVal_2 2 rfl rfl)
theorem dJ14_putVal_51 : decode cJ14_putVal 51 = .ok (.aload_n 0, 1) := dk_42 (dk_at dksJ14_putVal_2 4 rfl rfl)
theorem dJ14_putVal_52 : decode cJ14_putVal 52 = .ok (.iload_n 1, 1) := dk_27 (dk_at dksJ14_putVal_2 5 rfl rfl)
theorem dJ14_putVal_53 : decode cJ14_putVal 53 = .ok (.aload_n 2, 1) := dk_44 (dk_at dksJ14_putVal_2 6 rfl rfl)
theorem dJ14_putVal_54 : decode cJ14_putVal 54 = .ok (.aload_n 3, 1) := dk_45 (dk_at dksJ14_putVal_2 7 rfl rfl)
theorem dJ14_putVal_55 : decode cJ14_putVal 55 = .ok (.aconst_null, 1) := dk_1 (dk_at dksJ14_putVal_2 8 rfl rfl)
theorem dJ14_putVal_56 : decode cJ14_putVal 56 = .ok (.invokevirtual 186, 3) := dk_182 0 186 (dk_at dksJ14_putVal_2 9 rfl rfl)
theorem dJ14_putVal_59 : decode cJ14_putVal 59 = .ok (.aastore, 1) := dk_83 (dk_at dksJ14_putVal_2 12 rfl rfl)
theorem dJ14_putVal_60 : decode cJ14_putVal 60 = .ok (.goto 199, 3) := dk_167 0 199 (dk_at dksJ14_putVal_2 13 rfl rfl)
theorem dJ14_putVal_63 : decode cJ14_putVal 63 = .ok (.aload 7, 2) := dk_25 7 (dk_at dksJ14_putVal_2 16 rfl rfl)
theorem dJ14_putVal_65 : decode cJ14_putVal 65 = .ok (.getfield 168, 3) := dk_180 0 168 (dk_at dksJ14_putVal_2 18 rfl rfl)
theorem dJ14_putVal_68 : decode cJ14_putVal 68 = .ok (.iload_n 1, 1) := dk_27 (dk_at dksJ14_putVal_2 21 rfl rfl)
theorem dJ14_putVal_69 : decode cJ14_putVal 69 = .ok (.if_icmp .ne 35, 3) := dk_160 0 35 (dk_at dksJ14_putVal_3 0 rfl rfl)
theorem dJ14_putVal_72 : decode cJ14_putVal 72 = .ok (.aload 7, 2) := dk_25 7 (dk_at dksJ14_putVal_3 3 rfl rfl)
theorem dJ14_putVal_74 : decode cJ14_putVal 74 = .ok (.getfield 170, 3) := dk_180 0 170 (dk_at dksJ14_putVal_3 5 rfl rfl)
theorem dJ14_putVal_77 : decode cJ14_putVal 77 = .ok (.dup, 1) := dk_89 (dk_at dksJ14_putVal_3 8 rfl rfl)
theorem dJ14_putVal_78 : decode cJ14_putVal 78 = .ok (.astore 11, 2) := dk_58 11 (dk_at dksJ14_putVal_3 9 rfl rfl)
theorem dJ14_putVal_80 : decode cJ14_putVal 80 = .ok (.aload_n 2, 1) := dk_44 (dk_at dksJ14_putVal_3 11 rfl rfl)
theorem dJ14_putVal_81 : decode cJ14_putVal 81 = .ok (.if_acmp .eq 16, 3) := dk_165 0 16 (dk_at dksJ14_putVal_3 12 rfl rfl)
theorem dJ14_putVal_84 : decode cJ14_putVal 84 = .ok (.aload_n 2, 1) := dk_44 (dk_at dksJ14_putVal_3 15 rfl rfl)
theorem dJ14_putVal_85 : decode cJ14_putVal 85 = .ok (.ifnull 19, 3) := dk_198 0 19 (dk_at dksJ14_putVal_3 16 rfl rfl)
theorem dJ14_putVal_88 : decode cJ14_putVal 88 = .ok (.aload_n 2, 1) := dk_44 (dk_at dksJ14_putVal_3 19 rfl rfl)
theorem dJ14_putVal_89 : decode cJ14_putVal 89 = .ok (.aload 11, 2) := dk_25 11 (dk_at dksJ14_putVal_3 20 rfl rfl)
theorem dJ14_putVal_91 : decode cJ14_putVal 91 = .ok (.invokevirtual 173, 3) := dk_182 0 173 (dk_at dksJ14_putVal_4 0 rfl rfl)
theorem dJ14_putVal_94 : decode cJ14_putVal 94 = .ok (.ifCond .eq 10, 3) := dk_153 0 10 (dk_at dksJ14_putVal_4 3 rfl rfl)
theorem dJ14_putVal_97 : decode cJ14_putVal 97 = .ok (.aload 7, 2) := dk_25 7 (dk_at dksJ14_putVal_4 6 rfl rfl)
theorem dJ14_putVal_99 : decode cJ14_putVal 99 = .ok (.astore 10, 2) := dk_58 10 (dk_at dksJ14_putVal_4 8 rfl rfl)
theorem dJ14_putVal_101 : decode cJ14_putVal 101 = .ok (.goto 121, 3) := dk_167 0 121 (dk_at dksJ14_putVal_4 10 rfl rfl)
theorem dJ14_putVal_104 : decode cJ14_putVal 104 = .ok (.aload 7, 2) := dk_25 7 (dk_at dksJ14_putVal_4 13 rfl rfl)
theorem dJ14_putVal_106 : decode cJ14_putVal 106 = .ok (.instanceof 180, 3) := dk_193 0 180 (dk_at dksJ14_putVal_4 15 rfl rfl)
theorem dJ14_putVal_109 : decode cJ14_putVal 109 = .ok (.ifCond .eq 22, 3) := dk_153 0 22 (dk_at dksJ14_putVal_4 18 rfl rfl)
theorem dJ14_putVal_112 : decode cJ14_putVal 112 = .ok (.aload 7, 2) := dk_25 7 (dk_at dksJ14_putVal_4 21 rfl rfl)
theorem dJ14_putVal_114 : decode cJ14_putVal 114 = .ok (.checkcast 180, 3) := dk_192 0 180 (dk_at dksJ14_putVal_5 0 rfl rfl)
theorem dJ14_putVal_117 : decode cJ14_putVal 117 = .ok (.aload_n 0, 1) := dk_42 (dk_at dksJ14_putVal_5 3 rfl rfl)
theorem dJ14_putVal_118 : decode cJ14_putVal 118 = .ok (.aload 6, 2) := dk_25 6 (dk_at dksJ14_putVal_5 4 rfl rfl)
theorem dJ14_putVal_120 : decode cJ14_putVal 120 = .ok (.iload_n 1, 1) := dk_27 (dk_at dksJ14_putVal_5 6 rfl rfl)
theorem dJ14_putVal_121 : decode cJ14_putVal 121 = .ok (.aload_n 2, 1) := dk_44 (dk_at dksJ14_putVal_5 7 rfl rfl)
theorem dJ14_putVal_122 : decode cJ14_putVal 122 = .ok (.aload_n 3, 1) := dk_45 (dk_at dksJ14_putVal_5 8 rfl rfl)
theorem dJ14_putVal_123 : decode cJ14_putVal 123 = .ok (.invokevirtual 190, 3) := dk_182 0 190 (dk_at dksJ14_putVal_5 9 rfl rfl)
theorem dJ14_putVal_126 : decode cJ14_putVal 126 = .ok (.astore 10, 2) := dk_58 10 (dk_at dksJ14_putVal_5 12 rfl rfl)
theorem dJ14_putVal_128 : decode cJ14_putVal 128 = .ok (.goto 94, 3) := dk_167 0 94 (dk_at dksJ14_putVal_5 14 rfl rfl)
theorem dJ14_putVal_131 : decode cJ14_putVal 131 = .ok (.iconst 0, 1) := dk_3 (dk_at dksJ14_putVal_5 17 rfl rfl)
theorem dJ14_putVal_132 : decode cJ14_putVal 132 = .ok (.istore 12, 2) := dk_54 12 (dk_at dksJ14_putVal_5 18 rfl rfl)
theorem dJ14_putVal_134 : decode cJ14_putVal 134 = .ok (.aload 7, 2) := dk_25 7 (dk_at dksJ14_putVal_5 20 rfl rfl)
theorem dJ14_putVal_136 : decode cJ14_putVal 136 = .ok (.getfield 177, 3) := dk_180 0 177 (dk_at dksJ14_putVal_6 0 rfl rfl)
theorem dJ14_putVal_139 : decode cJ14_putVal 139 = .ok (.dup, 1) := dk_89 (dk_at dksJ14_putVal_6 3 rfl rfl)
theorem dJ14_putVal_140 : decode cJ14_putVal 140 = .ok (.astore 10, 2) := dk_58 10 (dk_at dksJ14_putVal_6 4 rfl rfl)
theorem dJ14_putVal_142 : decode cJ14_putVal 142 = .ok (.ifnonnull 33, 3) := dk_199 0 33 (dk_at dksJ14_putVal_6 6 rfl rfl)
theorem dJ14_putVal_145 : decode cJ14_putVal 145 = .ok (.aload 7, 2) := dk_25 7 (dk_at dksJ14_putVal_6 9 rfl rfl)
theorem dJ14_putVal_147 : decode cJ14_putVal 147 = .ok (.aload_n 0, 1) := dk_42 (dk_at dksJ14_putVal_6 11 rfl rfl)
theorem dJ14_putVal_148 : decode cJ14_putVal 148 = .ok (.iload_n 1, 1) := dk_27 (dk_at dksJ14_putVal_6 12 rfl rfl)
theorem dJ14_putVal_149 : decode cJ14_putVal 149 = .ok (.aload_n 2, 1) := dk_44 (dk_at dksJ14_putVal_6 13 rfl rfl)
theorem dJ14_putVal_150 : decode cJ14_putVal 150 = .ok (.aload_n 3, 1) := dk_45 (dk_at dksJ14_putVal_6 14 rfl rfl)
theorem dJ14_putVal_151 : decode cJ14_putVal 151 = .ok (.aconst_null, 1) := dk_1 (dk_at dksJ14_putVal_6 15 rfl rfl)
theorem dJ14_putVal_152 : decode cJ14_putVal 152 = .ok (.invokevirtual 186, 3) := dk_182 0 186 (dk_at dksJ14_putVal_6 16 rfl rfl)
theorem dJ14_putVal_155 : decode cJ14_putVal 155 = .ok (.putfield 177, 3) := dk_181 0 177 (dk_at dksJ14_putVal_6 19 rfl rfl)
theorem dJ14_putVal_158 : decode cJ14_putVal 158 = .ok (.iload 12, 2) := dk_21 12 (dk_at dksJ14_putVal_6 22 rfl rfl)
theorem dJ14_putVal_160 : decode cJ14_putVal 160 = .ok (.bipush 7, 2) := dk_16 7 (dk_at dksJ14_putVal_7 0 rfl rfl)
theorem dJ14_putVal_162 : decode cJ14_putVal 162 = .ok (.if_icmp .lt 60, 3) := dk_161 0 60 (dk_at dksJ14_putVal_7 2 rfl rfl)
theorem dJ14_putVal_165 : decode cJ14_putVal 165 = .ok (.aload_n 0, 1) := dk_42 (dk_at dksJ14_putVal_7 5 rfl rfl)
theorem dJ14_putVal_166 : decode cJ14_putVal 166 = .ok (.aload 6, 2) := dk_25 6 (dk_at dksJ14_putVal_7 6 rfl rfl)
theorem dJ14_putVal_168 : decode cJ14_putVal 168 = .ok (.iload_n 1, 1) := dk_27 (dk_at dksJ14_putVal_7 8 rfl rfl)
theorem dJ14_putVal_169 : decode cJ14_putVal 169 = .ok (.invokevirtual 194, 3) := dk_182 0 194 (dk_at dksJ14_putVal_7 9 rfl rfl)
theorem dJ14_putVal_172 : decode cJ14_putVal 172 = .ok (.goto 50, 3) := dk_167 0 50 (dk_at dksJ14_putVal_7 12 rfl rfl)
theorem dJ14_putVal_175 : decode cJ14_putVal 175 = .ok (.aload 10, 2) := dk_25 10 (dk_at dksJ14_putVal_7 15 rfl rfl)
theorem dJ14_putVal_177 : decode cJ14_putVal 177 = .ok (.getfield 168, 3) := dk_180 0 168 (dk_at dksJ14_putVal_7 17 rfl rfl)
theorem dJ14_putVal_180 : decode cJ14_putVal 180 = .ok (.iload_n 1, 1) := dk_27 (dk_at dksJ14_putVal_7 20 rfl rfl)
theorem dJ14_putVal_181 : decode cJ14_putVal 181 = .ok (.if_icmp .ne 31, 3) := dk_160 0 31 (dk_at dksJ14_putVal_7 21 rfl rfl)
theorem dJ14_putVal_184 : decode cJ14_putVal 184 = .ok (.aload 10, 2) := dk_25 10 (dk_at dksJ14_putVal_8 0 rfl rfl)
theorem dJ14_putVal_186 : decode cJ14_putVal 186 = .ok (.getfield 170, 3) := dk_180 0 170 (dk_at dksJ14_putVal_8 2 rfl rfl)
theorem dJ14_putVal_189 : decode cJ14_putVal 189 = .ok (.dup, 1) := dk_89 (dk_at dksJ14_putVal_8 5 rfl rfl)
theorem dJ14_putVal_190 : decode cJ14_putVal 190 = .ok (.astore 11, 2) := dk_58 11 (dk_at dksJ14_putVal_8 6 rfl rfl)
theorem dJ14_putVal_192 : decode cJ14_putVal 192 = .ok (.aload_n 2, 1) := dk_44 (dk_at dksJ14_putVal_8 8 rfl rfl)
theorem dJ14_putVal_193 : decode cJ14_putVal 193 = .ok (.if_acmp .eq 29, 3) := dk_165 0 29 (dk_at dksJ14_putVal_8 9 rfl rfl)
theorem dJ14_putVal_196 : decode cJ14_putVal 196 = .ok (.aload_n 2, 1) := dk_44 (dk_at dksJ14_putVal_8 12 rfl rfl)
theorem dJ14_putVal_197 : decode cJ14_putVal 197 = .ok (.ifnull 15, 3) := dk_198 0 15 (dk_at dksJ14_putVal_8 13 rfl rfl)
theorem dJ14_putVal_200 : decode cJ14_putVal 200 = .ok (.aload_n 2, 1) := dk_44 (dk_at dksJ14_putVal_8 16 rfl rfl)
theorem dJ14_putVal_201 : decode cJ14_putVal 201 = .ok (.aload 11, 2) := dk_25 11 (dk_at dksJ14_putVal_8 17 rfl rfl)
theorem dJ14_putVal_203 : decode cJ14_putVal 203 = .ok (.invokevirtual 173, 3) := dk_182 0 173 (dk_at dksJ14_putVal_8 19 rfl rfl)
theorem dJ14_putVal_206 : decode cJ14_putVal 206 = .ok (.ifCond .eq 6, 3) := dk_153 0 6 (dk_at dksJ14_putVal_9 0 rfl rfl)
theorem dJ14_putVal_209 : decode cJ14_putVal 209 = .ok (.goto 13, 3) := dk_167 0 13 (dk_at dksJ14_putVal_9 3 rfl rfl)
theorem dJ14_putVal_212 : decode cJ14_putVal 212 = .ok (.aload 10, 2) := dk_25 10 (dk_at dksJ14_putVal_9 6 rfl rfl)
theorem dJ14_putVal_214 : decode cJ14_putVal 214 = .ok (.astore 7, 2) := dk_58 7 (dk_at dksJ14_putVal_9 8 rfl rfl)
theorem dJ14_putVal_216 : decode cJ14_putVal 216 = .ok (.iinc 12 1, 3) := dk_132 12 1 (dk_at dksJ14_putVal_9 10 rfl rfl)
theorem dJ14_putVal_219 : decode cJ14_putVal 219 = .ok (.goto (-85), 3) := dk_167 255 171 (dk_at dksJ14_putVal_9 13 rfl rfl)
theorem dJ14_putVal_222 : decode cJ14_putVal 222 = .ok (.aload 10, 2) := dk_25 10 (dk_at dksJ14_putVal_9 16 rfl rfl)
theorem dJ14_putVal_224 : decode cJ14_putVal 224 = .ok (.ifnull 35, 3) := dk_198 0 35 (dk_at dksJ14_putVal_9 18 rfl rfl)
theorem dJ14_putVal_227 : decode cJ14_putVal 227 = .ok (.aload 10, 2) := dk_25 10 (dk_at dksJ14_putVal_9 21 rfl rfl)
theorem dJ14_putVal_229 : decode cJ14_putVal 229 = .ok (.getfield 162, 3) := dk_180 0 162 (dk_at dksJ14_putVal_10 0 rfl rfl)
theorem dJ14_putVal_232 : decode cJ14_putVal 232 = .ok (.astore 12, 2) := dk_58 12 (dk_at dksJ14_putVal_10 3 rfl rfl)
theorem dJ14_putVal_234 : decode cJ14_putVal 234 = .ok (.iload 4, 2) := dk_21 4 (dk_at dksJ14_putVal_10 5 rfl rfl)
theorem dJ14_putVal_236 : decode cJ14_putVal 236 = .ok (.ifCond .eq 8, 3) := dk_153 0 8 (dk_at dksJ14_putVal_10 7 rfl rfl)
theorem dJ14_putVal_239 : decode cJ14_putVal 239 = .ok (.aload 12, 2) := dk_25 12 (dk_at dksJ14_putVal_10 10 rfl rfl)
theorem dJ14_putVal_241 : decode cJ14_putVal 241 = .ok (.ifnonnull 9, 3) := dk_199 0 9 (dk_at dksJ14_putVal_10 12 rfl rfl)
theorem dJ14_putVal_244 : decode cJ14_putVal 244 = .ok (.aload 10, 2) := dk_25 10 (dk_at dksJ14_putVal_10 15 rfl rfl)
theorem dJ14_putVal_246 : decode cJ14_putVal 246 = .ok (.aload_n 3, 1) := dk_45 (dk_at dksJ14_putVal_10 17 rfl rfl)
theorem dJ14_putVal_247 : decode cJ14_putVal 247 = .ok (.putfield 162, 3) := dk_181 0 162 (dk_at dksJ14_putVal_10 18 rfl rfl)
theorem dJ14_putVal_250 : decode cJ14_putVal 250 = .ok (.aload_n 0, 1) := dk_42 (dk_at dksJ14_putVal_10 21 rfl rfl)
theorem dJ14_putVal_251 : decode cJ14_putVal 251 = .ok (.aload 10, 2) := dk_25 10 (dk_at dksJ14_putVal_10 22 rfl rfl)
theorem dJ14_putVal_253 : decode cJ14_putVal 253 = .ok (.invokevirtual 198, 3) := dk_182 0 198 (dk_at dksJ14_putVal_11 0 rfl rfl)
theorem dJ14_putVal_256 : decode cJ14_putVal 256 = .ok (.aload 12, 2) := dk_25 12 (dk_at dksJ14_putVal_11 3 rfl rfl)
theorem dJ14_putVal_258 : decode cJ14_putVal 258 = .ok (.areturn, 1) := dk_176 (dk_at dksJ14_putVal_11 5 rfl rfl)
theorem dJ14_putVal_259 : decode cJ14_putVal 259 = .ok (.aload_n 0, 1) := dk_42 (dk_at dksJ14_putVal_11 6 rfl rfl)
theorem dJ14_putVal_260 : decode cJ14_putVal 260 = .ok (.dup, 1) := dk_89 (dk_at dksJ14_putVal_11 7 rfl rfl)
theorem dJ14_putVal_261 : decode cJ14_putVal 261 = .ok (.getfield 202, 3) := dk_180 0 202 (dk_at dksJ14_putVal_11 8 rfl rfl)
theorem dJ14_putVal_264 : decode cJ14_putVal 264 = .ok (.iconst 1, 1) := dk_4 (dk_at dksJ14_putVal_11 11 rfl rfl)
theorem dJ14_putVal_265 : decode cJ14_putVal 265 = .ok (.iadd, 1) := dk_96 (dk_at dksJ14_putVal_11 12 rfl rfl)
theorem dJ14_putVal_266 : decode cJ14_putVal 266 = .ok (.putfield 202, 3) := dk_181 0 202 (dk_at dksJ14_putVal_11 13 rfl rfl)
theorem dJ14_putVal_269 : decode cJ14_putVal 269 = .ok (.aload_n 0, 1) := dk_42 (dk_at dksJ14_putVal_11 16 rfl rfl)
theorem dJ14_putVal_270 : decode cJ14_putVal 270 = .ok (.dup, 1) := dk_89 (dk_at dksJ14_putVal_11 17 rfl rfl)
theorem dJ14_putVal_271 : decode cJ14_putVal 271 = .ok (.getfield 156, 3) := dk_180 0 156 (dk_at dksJ14_putVal_11 18 rfl rfl)
theorem dJ14_putVal_274 : decode cJ14_putVal 274 = .ok (.iconst 1, 1) := dk_4 (dk_at dksJ14_putVal_11 21 rfl rfl)
theorem dJ14_putVal_275 : decode cJ14_putVal 275 = .ok (.iadd, 1) := dk_96 (dk_at dksJ14_putVal_11 22 rfl rfl)
theorem dJ14_putVal_276 : decode cJ14_putVal 276 = .ok (.dup_x1, 1) := dk_90 (dk_at dksJ14_putVal_11 23 rfl rfl)
theorem dJ14_putVal_277 : decode cJ14_putVal 277 = .ok (.putfield 156, 3) := dk_181 0 156 (dk_at dksJ14_putVal_12 0 rfl rfl)
theorem dJ14_putVal_280 : decode cJ14_putVal 280 = .ok (.aload_n 0, 1) := dk_42 (dk_at dksJ14_putVal_12 3 rfl rfl)
theorem dJ14_putVal_281 : decode cJ14_putVal 281 = .ok (.getfield 88, 3) := dk_180 0 88 (dk_at dksJ14_putVal_12 4 rfl rfl)
theorem dJ14_putVal_284 : decode cJ14_putVal 284 = .ok (.if_icmp .le 8, 3) := dk_164 0 8 (dk_at dksJ14_putVal_12 7 rfl rfl)
theorem dJ14_putVal_287 : decode cJ14_putVal 287 = .ok (.aload_n 0, 1) := dk_42 (dk_at dksJ14_putVal_12 10 rfl rfl)
theorem dJ14_putVal_288 : decode cJ14_putVal 288 = .ok (.invokevirtual 117, 3) := dk_182 0 117 (dk_at dksJ14_putVal_12 11 rfl rfl)
theorem dJ14_putVal_291 : decode cJ14_putVal 291 = .ok (.pop, 1) := dk_87 (dk_at dksJ14_putVal_12 14 rfl rfl)
theorem dJ14_putVal_292 : decode cJ14_putVal 292 = .ok (.aload_n 0, 1) := dk_42 (dk_at dksJ14_putVal_12 15 rfl rfl)
theorem dJ14_putVal_293 : decode cJ14_putVal 293 = .ok (.iload 5, 2) := dk_21 5 (dk_at dksJ14_putVal_12 16 rfl rfl)
theorem dJ14_putVal_295 : decode cJ14_putVal 295 = .ok (.invokevirtual 205, 3) := dk_182 0 205 (dk_at dksJ14_putVal_12 18 rfl rfl)
theorem dJ14_putVal_298 : decode cJ14_putVal 298 = .ok (.aconst_null, 1) := dk_1 (dk_at dksJ14_putVal_12 21 rfl rfl)
theorem dJ14_putVal_299 : decode cJ14_putVal 299 = .ok (.areturn, 1) := dk_176 (dk_at dksJ14_putVal_12 22 rfl rfl)
abbrev cJ14_resize : ByteArray := prog_39_method_17_code
def yJ14_resize : MethodName := ⟨RJ14, "resize", "()[Ljava/util/HashMap$Node;"⟩
def dkwJ14_resize_15 : List UInt8 := [25, 6, 176]
abbrev dktJ14_resize_15 : List UInt8 := dkwJ14_resize_15 ++ []
def dkwJ14_resize_14 : List UInt8 := [198, 0, 18, 25, 12, 1, 181, 0, 177, 25, 6, 21, 7, 28, 96, 25, 11, 83, 132, 7, 1, 167, 255, 57]
abbrev dktJ14_resize_14 : List UInt8 := dkwJ14_resize_14 ++ dktJ14_resize_15
def dkwJ14_resize_13 : List UInt8 := [199, 255, 185, 25, 10, 198, 0, 16, 25, 10, 1, 181, 0, 177, 25, 6, 21, 7, 25, 9, 83, 25, 12]
abbrev dktJ14_resize_13 : List UInt8 := dkwJ14_resize_13 ++ dktJ14_resize_14
def dkwJ14_resize_12 : List UInt8 := [25, 8, 58, 11, 167, 0, 10, 25, 12, 25, 8, 181, 0, 177, 25, 8, 58, 12, 25, 13, 89, 58, 8]
abbrev dktJ14_resize_12 : List UInt8 := dkwJ14_resize_12 ++ dktJ14_resize_13
def dkwJ14_resize_11 : List UInt8 := [58, 9, 167, 0, 10, 25, 10, 25, 8, 181, 0, 177, 25, 8, 58, 10, 167, 0, 26, 25, 12, 199, 0, 10]
abbrev dktJ14_resize_11 : List UInt8 := dkwJ14_resize_11 ++ dktJ14_resize_12
def dkwJ14_resize_10 : List UInt8 := [25, 8, 180, 0, 177, 58, 13, 25, 8, 180, 0, 168, 28, 126, 154, 0, 29, 25, 10, 199, 0, 10, 25, 8]
abbrev dktJ14_resize_10 : List UInt8 := dkwJ14_resize_10 ++ dktJ14_resize_11
def dkwJ14_resize_9 : List UInt8 := [42, 25, 6, 21, 7, 28, 182, 0, 211, 167, 0, 127, 1, 58, 9, 1, 58, 10, 1, 58, 11, 1, 58, 12]
abbrev dktJ14_resize_9 : List UInt8 := dkwJ14_resize_9 ++ dktJ14_resize_10
def dkwJ14_resize_8 : List UInt8 := [21, 4, 4, 100, 126, 25, 8, 83, 167, 0, 152, 25, 8, 193, 0, 180, 153, 0, 20, 25, 8, 192, 0, 180]
abbrev dktJ14_resize_8 : List UInt8 := dkwJ14_resize_8 ++ dktJ14_resize_9
def dkwJ14_resize_7 : List UInt8 := [198, 0, 183, 43, 21, 7, 1, 83, 25, 8, 180, 0, 177, 199, 0, 21, 25, 6, 25, 8, 180, 0, 168]
abbrev dktJ14_resize_7 : List UInt8 := dkwJ14_resize_7 ++ dktJ14_resize_8
def dkwJ14_resize_6 : List UInt8 := [181, 0, 105, 43, 198, 0, 208, 3, 54, 7, 21, 7, 28, 162, 0, 199, 43, 21, 7, 50, 89, 58, 8]
abbrev dktJ14_resize_6 : List UInt8 := dkwJ14_resize_6 ++ dktJ14_resize_7
def dkwJ14_resize_5 : List UInt8 := [167, 0, 5, 18, 209, 54, 5, 42, 21, 5, 181, 0, 88, 21, 4, 189, 0, 163, 58, 6, 42, 25, 6]
abbrev dktJ14_resize_5 : List UInt8 := dkwJ14_resize_5 ++ dktJ14_resize_6
def dkwJ14_resize_4 : List UInt8 := [180, 0, 81, 106, 56, 6, 21, 4, 18, 42, 162, 0, 17, 23, 6, 18, 210, 150, 156, 0, 9, 23, 6, 139]
abbrev dktJ14_resize_4 : List UInt8 := dkwJ14_resize_4 ++ dktJ14_resize_5
def dkwJ14_resize_3 : List UInt8 := [54, 4, 167, 0, 11, 16, 16, 54, 4, 16, 12, 54, 5, 21, 5, 154, 0, 38, 21, 4, 134, 42]
abbrev dktJ14_resize_3 : List UInt8 := dkwJ14_resize_3 ++ dktJ14_resize_4
def dkwJ14_resize_2 : List UInt8 := [18, 42, 162, 0, 35, 28, 16, 16, 161, 0, 29, 29, 4, 120, 54, 5, 167, 0, 21, 29, 158, 0, 9, 29]
abbrev dktJ14_resize_2 : List UInt8 := dkwJ14_resize_2 ++ dktJ14_resize_3
def dkwJ14_resize_1 : List UInt8 := [28, 158, 0, 42, 28, 18, 42, 161, 0, 11, 42, 18, 209, 181, 0, 88, 43, 176, 28, 4, 120, 89, 54, 4]
abbrev dktJ14_resize_1 : List UInt8 := dkwJ14_resize_1 ++ dktJ14_resize_2
def dkwJ14_resize_0 : List UInt8 := [42, 180, 0, 105, 76, 43, 199, 0, 7, 3, 167, 0, 5, 43, 190, 61, 42, 180, 0, 88, 62, 3, 54, 5]
abbrev dktJ14_resize_0 : List UInt8 := dkwJ14_resize_0 ++ dktJ14_resize_1
theorem dksJ14_resize_0 : cJ14_resize.data.toList.drop 0 = dktJ14_resize_0 := by decide +kernel
theorem dksJ14_resize_1 : cJ14_resize.data.toList.drop 24 = dktJ14_resize_1 := dk_seg dksJ14_resize_0 24 rfl rfl
theorem dksJ14_resize_2 : cJ14_resize.data.toList.drop 48 = dktJ14_resize_2 := dk_seg dksJ14_resize_1 24 rfl rfl
theorem dksJ14_resize_3 : cJ14_resize.data.toList.drop 72 = dktJ14_resize_3 := dk_seg dksJ14_resize_2 24 rfl rfl
theorem dksJ14_resize_4 : cJ14_resize.data.toList.drop 94 = dktJ14_resize_4 := dk_seg dksJ14_resize_3 22 rfl rfl
theorem dksJ14_resize_5 : cJ14_resize.data.toList.drop 118 = dktJ14_resize_5 := dk_seg dksJ14_resize_4 24 rfl rfl
theorem dksJ14_resize_6 : cJ14_resize.data.toList.drop 141 = dktJ14_resize_6 := dk_seg dksJ14_resize_5 23 rfl rfl
theorem dksJ14_resize_7 : cJ14_resize.data.toList.drop 164 = dktJ14_resize_7 := dk_seg dksJ14_resize_6 23 rfl rfl
theorem dksJ14_resize_8 : cJ14_resize.data.toList.drop 187 = dktJ14_resize_8 := dk_seg dksJ14_resize_7 23 rfl rfl
theorem dksJ14_resize_9 : cJ14_resize.data.toList.drop 211 = dktJ14_resize_9 := dk_seg dksJ14_resize_8 24 rfl rfl
theorem dksJ14_resize_10 : cJ14_resize.data.toList.drop 235 = dktJ14_resize_10 := dk_seg dksJ14_resize_9 24 rfl rfl
theorem dksJ14_resize_11 : cJ14_resize.data.toList.drop 259 = dktJ14_resize_11 := dk_seg dksJ14_resize_10 24 rfl rfl
theorem dksJ14_resize_12 : cJ14_resize.data.toList.drop 283 = dktJ14_resize_12 := dk_seg dksJ14_resize_11 24 rfl rfl
theorem dksJ14_resize_13 : cJ14_resize.data.toList.drop 306 = dktJ14_resize_13 := dk_seg dksJ14_resize_12 23 rfl rfl
theorem dksJ14_resize_14 : cJ14_resize.data.toList.drop 329 = dktJ14_resize_14 := dk_seg dksJ14_resize_13 23 rfl rfl
theorem dksJ14_resize_15 : cJ14_resize.data.toList.drop 353 = dktJ14_resize_15 := dk_seg dksJ14_resize_14 24 rfl rfl
theorem dJ14_resize_0 : decode cJ14_resize 0 = .ok (.aload_n 0, 1) := dk_42 (dk_at dksJ14_resize_0 0 rfl rfl)
theorem dJ14_resize_1 : decode cJ14_resize 1 = .ok (.getfield 105, 3) := dk_180 0 105 (dk_at dksJ14_resize_0 1 rfl rfl)
theorem dJ14_resize_4 : decode cJ14_resize 4 = .ok (.astore_n 1, 1) := dk_76 (dk_at dksJ14_resize_0 4 rfl rfl)
theorem dJ14_resize_5 : decode cJ14_resize 5 = .ok (.aload_n 1, 1) := dk_43 (dk_at dksJ14_resize_0 5 rfl rfl)
theorem dJ14_resize_6 : decode cJ14_resize 6 = .ok (.ifnonnull 7, 3) := dk_199 0 7 (dk_at dksJ14_resize_0 6 rfl rfl)
theorem dJ14_resize_9 : decode cJ14_resize 9 = .ok (.iconst 0, 1) := dk_3 (dk_at dksJ14_resize_0 9 rfl rfl)
theorem dJ14_resize_10 : decode cJ14_resize 10 = .ok (.goto 5, 3) := dk_167 0 5 (dk_at dksJ14_resize_0 10 rfl rfl)
theorem dJ14_resize_13 : decode cJ14_resize 13 = .ok (.aload_n 1, 1) := dk_43 (dk_at dksJ14_resize_0 13 rfl rfl)
theorem dJ14_resize_14 : decode cJ14_resize 14 = .ok (.arraylength, 1) := dk_190 (dk_at dksJ14_resize_0 14 rfl rfl)
theorem dJ14_resize_15 : decode cJ14_resize 15 = .ok (.istore_n 2, 1) := dk_61 (dk_at dksJ14_resize_0 15 rfl rfl)
theorem dJ14_resize_16 : decode cJ14_resize 16 = .ok (.aload_n 0, 1) := dk_42 (dk_at dksJ14_resize_0 16 rfl rfl)
theorem dJ14_resize_17 : decode cJ14_resize 17 = .ok (.getfield 88, 3) := dk_180 0 88 (dk_at dksJ14_resize_0 17 rfl rfl)
theorem dJ14_resize_20 : decode cJ14_resize 20 = .ok (.istore_n 3, 1) := dk_62 (dk_at dksJ14_resize_0 20 rfl rfl)
theorem dJ14_resize_21 : decode cJ14_resize 21 = .ok (.iconst 0, 1) := dk_3 (dk_at dksJ14_resize_0 21 rfl rfl)
theorem dJ14_resize_22 : decode cJ14_resize 22 = .ok (.istore 5, 2) := dk_54 5 (dk_at dksJ14_resize_0 22 rfl rfl)
theorem dJ14_resize_24 : decode cJ14_resize 24 = .ok (.iload_n 2, 1) := dk_28 (dk_at dksJ14_resize_1 0 rfl rfl)
theorem dJ14_resize_25 : decode cJ14_resize 25 = .ok (.ifCond .le 42, 3) := dk_158 0 42 (dk_at dksJ14_resize_1 1 rfl rfl)
theorem dJ14_resize_28 : decode cJ14_resize 28 = .ok (.iload_n 2, 1) := dk_28 (dk_at dksJ14_resize_1 4 rfl rfl)
theorem dJ14_resize_29 : decode cJ14_resize 29 = .ok (.ldc 42, 2) := dk_18 42 (dk_at dksJ14_resize_1 5 rfl rfl)
theorem dJ14_resize_31 : decode cJ14_resize 31 = .ok (.if_icmp .lt 11, 3) := dk_161 0 11 (dk_at dksJ14_resize_1 7 rfl rfl)
theorem dJ14_resize_34 : decode cJ14_resize 34 = .ok (.aload_n 0, 1) := dk_42 (dk_at dksJ14_resize_1 10 rfl rfl)
theorem dJ14_resize_35 : decode cJ14_resize 35 = .ok (.ldc 209, 2) := dk_18 209 (dk_at dksJ14_resize_1 11 rfl rfl)
theorem dJ14_resize_37 : decode cJ14_resize 37 = .ok (.putfield 88, 3) := dk_181 0 88 (dk_at dksJ14_resize_1 13 rfl rfl)
theorem dJ14_resize_40 : decode cJ14_resize 40 = .ok (.aload_n 1, 1) := dk_43 (dk_at dksJ14_resize_1 16 rfl rfl)
theorem dJ14_resize_41 : decode cJ14_resize 41 = .ok (.areturn, 1) := dk_176 (dk_at dksJ14_resize_1 17 rfl rfl)
theorem dJ14_resize_42 : decode cJ14_resize 42 = .ok (.iload_n 2, 1) := dk_28 (dk_at dksJ14_resize_1 18 rfl rfl)
theorem dJ14_resize_43 : decode cJ14_resize 43 = .ok (.iconst 1, 1) := dk_4 (dk_at dksJ14_resize_1 19 rfl rfl)
theorem dJ14_resize_44 : decode cJ14_resize 44 = .ok (.ishl, 1) := dk_120 (dk_at dksJ14_resize_1 20 rfl rfl)
theorem dJ14_resize_45 : decode cJ14_resize 45 = .ok (.dup, 1) := dk_89 (dk_at dksJ14_resize_1 21 rfl rfl)
theorem dJ14_resize_46 : decode cJ14_resize 46 = .ok (.istore 4, 2) := dk_54 4 (dk_at dksJ14_resize_1 22 rfl rfl)
theorem dJ14_resize_48 : decode cJ14_resize 48 = .ok (.ldc 42, 2) := dk_18 42 (dk_at dksJ14_resize_2 0 rfl rfl)
theorem dJ14_resize_50 : decode cJ14_resize 50 = .ok (.if_icmp .ge 35, 3) := dk_162 0 35 (dk_at dksJ14_resize_2 2 rfl rfl)
theorem dJ14_resize_53 : decode cJ14_resize 53 = .ok (.iload_n 2, 1) := dk_28 (dk_at dksJ14_resize_2 5 rfl rfl)
theorem dJ14_resize_54 : decode cJ14_resize 54 = .ok (.bipush 16, 2) := dk_16 16 (dk_at dksJ14_resize_2 6 rfl rfl)
theorem dJ14_resize_56 : decode cJ14_resize 56 = .ok (.if_icmp .lt 29, 3) := dk_161 0 29 (dk_at dksJ14_resize_2 8 rfl rfl)
theorem dJ14_resize_59 : decode cJ14_resize 59 = .ok (.iload_n 3, 1) := dk_29 (dk_at dksJ14_resize_2 11 rfl rfl)
theorem dJ14_resize_60 : decode cJ14_resize 60 = .ok (.iconst 1, 1) := dk_4 (dk_at dksJ14_resize_2 12 rfl rfl)
theorem dJ14_resize_61 : decode cJ14_resize 61 = .ok (.ishl, 1) := dk_120 (dk_at dksJ14_resize_2 13 rfl rfl)
theorem dJ14_resize_62 : decode cJ14_resize 62 = .ok (.istore 5, 2) := dk_54 5 (dk_at dksJ14_resize_2 14 rfl rfl)
theorem dJ14_resize_64 : decode cJ14_resize 64 = .ok (.goto 21, 3) := dk_167 0 21 (dk_at dksJ14_resize_2 16 rfl rfl)
theorem dJ14_resize_67 : decode cJ14_resize 67 = .ok (.iload_n 3, 1) := dk_29 (dk_at dksJ14_resize_2 19 rfl rfl)
theorem dJ14_resize_68 : decode cJ14_resize 68 = .ok (.ifCond .le 9, 3) := dk_158 0 9 (dk_at dksJ14_resize_2 20 rfl rfl)
theorem dJ14_resize_71 : decode cJ14_resize 71 = .ok (.iload_n 3, 1) := dk_29 (dk_at dksJ14_resize_2 23 rfl rfl)
theorem dJ14_resize_72 : decode cJ14_resize 72 = .ok (.istore 4, 2) := dk_54 4 (dk_at dksJ14_resize_3 0 rfl rfl)
theorem dJ14_resize_74 : decode cJ14_resize 74 = .ok (.goto 11, 3) := dk_167 0 11 (dk_at dksJ14_resize_3 2 rfl rfl)
theorem dJ14_resize_77 : decode cJ14_resize 77 = .ok (.bipush 16, 2) := dk_16 16 (dk_at dksJ14_resize_3 5 rfl rfl)
theorem dJ14_resize_79 : decode cJ14_resize 79 = .ok (.istore 4, 2) := dk_54 4 (dk_at dksJ14_resize_3 7 rfl rfl)
theorem dJ14_resize_81 : decode cJ14_resize 81 = .ok (.bipush 12, 2) := dk_16 12 (dk_at dksJ14_resize_3 9 rfl rfl)
theorem dJ14_resize_83 : decode cJ14_resize 83 = .ok (.istore 5, 2) := dk_54 5 (dk_at dksJ14_resize_3 11 rfl rfl)
theorem dJ14_resize_85 : decode cJ14_resize 85 = .ok (.iload 5, 2) := dk_21 5 (dk_at dksJ14_resize_3 13 rfl rfl)
theorem dJ14_resize_87 : decode cJ14_resize 87 = .ok (.ifCond .ne 38, 3) := dk_154 0 38 (dk_at dksJ14_resize_3 15 rfl rfl)
theorem dJ14_resize_90 : decode cJ14_resize 90 = .ok (.iload 4, 2) := dk_21 4 (dk_at dksJ14_resize_3 18 rfl rfl)
theorem dJ14_resize_92 : decode cJ14_resize 92 = .ok (.i2f, 1) := dk_134 (dk_at dksJ14_resize_3 20 rfl rfl)
theorem dJ14_resize_93 : decode cJ14_resize 93 = .ok (.aload_n 0, 1) := dk_42 (dk_at dksJ14_resize_3 21 rfl rfl)
theorem dJ14_resize_94 : decode cJ14_resize 94 = .ok (.getfield 81, 3) := dk_180 0 81 (dk_at dksJ14_resize_4 0 rfl rfl)
theorem dJ14_resize_97 : decode cJ14_resize 97 = .ok (.fmul, 1) := dk_106 (dk_at dksJ14_resize_4 3 rfl rfl)
theorem dJ14_resize_98 : decode cJ14_resize 98 = .ok (.fstore 6, 2) := dk_56 6 (dk_at dksJ14_resize_4 4 rfl rfl)
theorem dJ14_resize_100 : decode cJ14_resize 100 = .ok (.iload 4, 2) := dk_21 4 (dk_at dksJ14_resize_4 6 rfl rfl)
theorem dJ14_resize_102 : decode cJ14_resize 102 = .ok (.ldc 42, 2) := dk_18 42 (dk_at dksJ14_resize_4 8 rfl rfl)
theorem dJ14_resize_104 : decode cJ14_resize 104 = .ok (.if_icmp .ge 17, 3) := dk_162 0 17 (dk_at dksJ14_resize_4 10 rfl rfl)
theorem dJ14_resize_107 : decode cJ14_resize 107 = .ok (.fload 6, 2) := dk_23 6 (dk_at dksJ14_resize_4 13 rfl rfl)
theorem dJ14_resize_109 : decode cJ14_resize 109 = .ok (.ldc 210, 2) := dk_18 210 (dk_at dksJ14_resize_4 15 rfl rfl)
theorem dJ14_resize_111 : decode cJ14_resize 111 = .ok (.fcmp .g, 1) := dk_150 (dk_at dksJ14_resize_4 17 rfl rfl)
theorem dJ14_resize_112 : decode cJ14_resize 112 = .ok (.ifCond .ge 9, 3) := dk_156 0 9 (dk_at dksJ14_resize_4 18 rfl rfl)
theorem dJ14_resize_115 : decode cJ14_resize 115 = .ok (.fload 6, 2) := dk_23 6 (dk_at dksJ14_resize_4 21 rfl rfl)
theorem dJ14_resize_117 : decode cJ14_resize 117 = .ok (.f2i, 1) := dk_139 (dk_at dksJ14_resize_4 23 rfl rfl)
theorem dJ14_resize_118 : decode cJ14_resize 118 = .ok (.goto 5, 3) := dk_167 0 5 (dk_at dksJ14_resize_5 0 rfl rfl)
theorem dJ14_resize_121 : decode cJ14_resize 121 = .ok (.ldc 209, 2) := dk_18 209 (dk_at dksJ14_resize_5 3 rfl rfl)
theorem dJ14_resize_123 : decode cJ14_resize 123 = .ok (.istore 5, 2) := dk_54 5 (dk_at dksJ14_resize_5 5 rfl rfl)
theorem dJ14_resize_125 : decode cJ14_resize 125 = .ok (.aload_n 0, 1) := dk_42 (dk_at dksJ14_resize_5 7 rfl rfl)
theorem dJ14_resize_126 : decode cJ14_resize 126 = .ok (.iload 5, 2) := dk_21 5 (dk_at dksJ14_resize_5 8 rfl rfl)
theorem dJ14_resize_128 : decode cJ14_resize 128 = .ok (.putfield 88, 3) := dk_181 0 88 (dk_at dksJ14_resize_5 10 rfl rfl)
theorem dJ14_resize_131 : decode cJ14_resize 131 = .ok (.iload 4, 2) := dk_21 4 (dk_at dksJ14_resize_5 13 rfl rfl)
theorem dJ14_resize_133 : decode cJ14_resize 133 = .ok (.anewarray 163, 3) := dk_189 0 163 (dk_at dksJ14_resize_5 15 rfl rfl)
theorem dJ14_resize_136 : decode cJ14_resize 136 = .ok (.astore 6, 2) := dk_58 6 (dk_at dksJ14_resize_5 18 rfl rfl)
theorem dJ14_resize_138 : decode cJ14_resize 138 = .ok (.aload_n 0, 1) := dk_42 (dk_at dksJ14_resize_5 20 rfl rfl)
theorem dJ14_resize_139 : decode cJ14_resize 139 = .ok (.aload 6, 2) := dk_25 6 (dk_at dksJ14_resize_5 21 rfl rfl)
theorem dJ14_resize_141 : decode cJ14_resize 141 = .ok (.putfield 105, 3) := dk_181 0 105 (dk_at dksJ14_resize_6 0 rfl rfl)
theorem dJ14_resize_144 : decode cJ14_resize 144 = .ok (.aload_n 1, 1) := dk_43 (dk_at dksJ14_resize_6 3 rfl rfl)
theorem dJ14_resize_145 : decode cJ14_resize 145 = .ok (.ifnull 208, 3) := dk_198 0 208 (dk_at dksJ14_resize_6 4 rfl rfl)
theorem dJ14_resize_148 : decode cJ14_resize 148 = .ok (.iconst 0, 1) := dk_3 (dk_at dksJ14_resize_6 7 rfl rfl)
theorem dJ14_resize_149 : decode cJ14_resize 149 = .ok (.istore 7, 2) := dk_54 7 (dk_at dksJ14_resize_6 8 rfl rfl)
theorem dJ14_resize_151 : decode cJ14_resize 151 = .ok (.iload 7, 2) := dk_21 7 (dk_at dksJ14_resize_6 10 rfl rfl)
theorem dJ14_resize_153 : decode cJ14_resize 153 = .ok (.iload_n 2, 1) := dk_28 (dk_at dksJ14_resize_6 12 rfl rfl)
theorem dJ14_resize_154 : decode cJ14_resize 154 = .ok (.if_icmp .ge 199, 3) := dk_162 0 199 (dk_at dksJ14_resize_6 13 rfl rfl)
theorem dJ14_resize_157 : decode cJ14_resize 157 = .ok (.aload_n 1, 1) := dk_43 (dk_at dksJ14_resize_6 16 rfl rfl)
theorem dJ14_resize_158 : decode cJ14_resize 158 = .ok (.iload 7, 2) := dk_21 7 (dk_at dksJ14_resize_6 17 rfl rfl)
theorem dJ14_resize_160 : decode cJ14_resize 160 = .ok (.aaload, 1) := dk_50 (dk_at dksJ14_resize_6 19 rfl rfl)
theorem dJ14_resize_161 : decode cJ14_resize 161 = .ok (.dup, 1) := dk_89 (dk_at dksJ14_resize_6 20 rfl rfl)
theorem dJ14_resize_162 : decode cJ14_resize 162 = .ok (.astore 8, 2) := dk_58 8 (dk_at dksJ14_resize_6 21 rfl rfl)
theorem dJ14_resize_164 : decode cJ14_resize 164 = .ok (.ifnull 183, 3) := dk_198 0 183 (dk_at dksJ14_resize_7 0 rfl rfl)
theorem dJ14_resize_167 : decode cJ14_resize 167 = .ok (.aload_n 1, 1) := dk_43 (dk_at dksJ14_resize_7 3 rfl rfl)
theorem dJ14_resize_168 : decode cJ14_resize 168 = .ok (.iload 7, 2) := dk_21 7 (dk_at dksJ14_resize_7 4 rfl rfl)
theorem dJ14_resize_170 : decode cJ14_resize 170 = .ok (.aconst_null, 1) := dk_1 (dk_at dksJ14_resize_7 6 rfl rfl)
theorem dJ14_resize_171 : decode cJ14_resize 171 = .ok (.aastore, 1) := dk_83 (dk_at dksJ14_resize_7 7 rfl rfl)
theorem dJ14_resize_172 : decode cJ14_resize 172 = .ok (.aload 8, 2) := dk_25 8 (dk_at dksJ14_resize_7 8 rfl rfl)
theorem dJ14_resize_174 : decode cJ14_resize 174 = .ok (.getfield 177, 3) := dk_180 0 177 (dk_at dksJ14_resize_7 10 rfl rfl)
theorem dJ14_resize_177 : decode cJ14_resize 177 = .ok (.ifnonnull 21, 3) := dk_199 0 21 (dk_at dksJ14_resize_7 13 rfl rfl)
theorem dJ14_resize_180 : decode cJ14_resize 180 = .ok (.aload 6, 2) := dk_25 6 (dk_at dksJ14_resize_7 16 rfl rfl)
theorem dJ14_resize_182 : decode cJ14_resize 182 = .ok (.aload 8, 2) := dk_25 8 (dk_at dksJ14_resize_7 18 rfl rfl)
theorem dJ14_resize_184 : decode cJ14_resize 184 = .ok (.getfield 168, 3) := dk_180 0 168 (dk_at dksJ14_resize_7 20 rfl rfl)
theorem dJ14_resize_187 : decode cJ14_resize 187 = .ok (.iload 4, 2) := dk_21 4 (dk_at dksJ14_resize_8 0 rfl rfl)
theorem dJ14_resize_189 : decode cJ14_resize 189 = .ok (.iconst 1, 1) := dk_4 (dk_at dksJ14_resize_8 2 rfl rfl)
theorem dJ14_resize_190 : decode cJ14_resize 190 = .ok (.isub, 1) := dk_100 (dk_at dksJ14_resize_8 3 rfl rfl)
theorem dJ14_resize_191 : decode cJ14_resize 191 = .ok (.iand, 1) := dk_126 (dk_at dksJ14_resize_8 4 rfl rfl)
theorem dJ14_resize_192 : decode cJ14_resize 192 = .ok (.aload 8, 2) := dk_25 8 (dk_at dksJ14_resize_8 5 rfl rfl)
theorem dJ14_resize_194 : decode cJ14_resize 194 = .ok (.aastore, 1) := dk_83 (dk_at dksJ14_resize_8 7 rfl rfl)
theorem dJ14_resize_195 : decode cJ14_resize 195 = .ok (.goto 152, 3) := dk_167 0 152 (dk_at dksJ14_resize_8 8 rfl rfl)
theorem dJ14_resize_198 : decode cJ14_resize 198 = .ok (.aload 8, 2) := dk_25 8 (dk_at dksJ14_resize_8 11 rfl rfl)
theorem dJ14_resize_200 : decode cJ14_resize 200 = .ok (.instanceof 180, 3) := dk_193 0 180 (dk_at dksJ14_resize_8 13 rfl rfl)
theorem dJ14_resize_203 : decode cJ14_resize 203 = .ok (.ifCond .eq 20, 3) := dk_153 0 20 (dk_at dksJ14_resize_8 16 rfl rfl)
theorem dJ14_resize_206 : decode cJ14_resize 206 = .ok (.aload 8, 2) := dk_25 8 (dk_at dksJ14_resize_8 19 rfl rfl)
theorem dJ14_resize_208 : decode cJ14_resize 208 = .ok (.checkcast 180, 3) := dk_192 0 180 (dk_at dksJ14_resize_8 21 rfl rfl)
theorem dJ14_resize_211 : decode cJ14_resize 211 = .ok (.aload_n 0, 1) := dk_42 (dk_at dksJ14_resize_9 0 rfl rfl)
theorem dJ14_resize_212 : decode cJ14_resize 212 = .ok (.aload 6, 2) := dk_25 6 (dk_at dksJ14_resize_9 1 rfl rfl)
theorem dJ14_resize_214 : decode cJ14_resize 214 = .ok (.iload 7, 2) := dk_21 7 (dk_at dksJ14_resize_9 3 rfl rfl)
theorem dJ14_resize_216 : decode cJ14_resize 216 = .ok (.iload_n 2, 1) := dk_28 (dk_at dksJ14_resize_9 5 rfl rfl)
theorem dJ14_resize_217 : decode cJ14_resize 217 = .ok (.invokevirtual 211, 3) := dk_182 0 211 (dk_at dksJ14_resize_9 6 rfl rfl)
theorem dJ14_resize_220 : decode cJ14_resize 220 = .ok (.goto 127, 3) := dk_167 0 127 (dk_at dksJ14_resize_9 9 rfl rfl)
theorem dJ14_resize_223 : decode cJ14_resize 223 = .ok (.aconst_null, 1) := dk_1 (dk_at dksJ14_resize_9 12 rfl rfl)
theorem dJ14_resize_224 : decode cJ14_resize 224 = .ok (.astore 9, 2) := dk_58 9 (dk_at dksJ14_resize_9 13 rfl rfl)
theorem dJ14_resize_226 : decode cJ14_resize 226 = .ok (.aconst_null, 1) := dk_1 (dk_at dksJ14_resize_9 15 rfl rfl)
theorem dJ14_resize_227 : decode cJ14_resize 227 = .ok (.astore 10, 2) := dk_58 10 (dk_at dksJ14_resize_9 16 rfl rfl)
theorem dJ14_resize_229 : decode cJ14_resize 229 = .ok (.aconst_null, 1) := dk_1 (dk_at dksJ14_resize_9 18 rfl rfl)
theorem dJ14_resize_230 : decode cJ14_resize 230 = .ok (.astore 11, 2) := dk_58 11 (dk_at dksJ14_resize_9 19 rfl rfl)
theorem dJ14_resize_232 : decode cJ14_resize 232 = .ok (.aconst_null, 1) := dk_1 (dk_at dksJ14_resize_9 21 rfl rfl)
theorem dJ14_resize_233 : decode cJ14_resize 233 = .ok (.astore 12, 2) := dk_58 12 (dk_at dksJ14_resize_9 22 rfl rfl)
theorem dJ14_resize_235 : decode cJ14_resize 235 = .ok (.aload 8, 2) := dk_25 8 (dk_at dksJ14_resize_10 0 rfl rfl)
theorem dJ14_resize_237 : decode cJ14_resize 237 = .ok (.getfield 177, 3) := dk_180 0 177 (dk_at dksJ14_resize_10 2 rfl rfl)
theorem dJ14_resize_240 : decode cJ14_resize 240 = .ok (.astore 13, 2) := dk_58 13 (dk_at dksJ14_resize_10 5 rfl rfl)
theorem dJ14_resize_242 : decode cJ14_resize 242 = .ok (.aload 8, 2) := dk_25 8 (dk_at dksJ14_resize_10 7 rfl rfl)
theorem dJ14_resize_244 : decode cJ14_resize 244 = .ok (.getfield 168, 3) := dk_180 0 168 (dk_at dksJ14_resize_10 9 rfl rfl)
theorem dJ14_resize_247 : decode cJ14_resize 247 = .ok (.iload_n 2, 1) := dk_28 (dk_at dksJ14_resize_10 12 rfl rfl)
theorem dJ14_resize_248 : decode cJ14_resize 248 = .ok (.iand, 1) := dk_126 (dk_at dksJ14_resize_10 13 rfl rfl)
theorem dJ14_resize_249 : decode cJ14_resize 249 = .ok (.ifCond .ne 29, 3) := dk_154 0 29 (dk_at dksJ14_resize_10 14 rfl rfl)
theorem dJ14_resize_252 : decode cJ14_resize 252 = .ok (.aload 10, 2) := dk_25 10 (dk_at dksJ14_resize_10 17 rfl rfl)
theorem dJ14_resize_254 : decode cJ14_resize 254 = .ok (.ifnonnull 10, 3) := dk_199 0 10 (dk_at dksJ14_resize_10 19 rfl rfl)
theorem dJ14_resize_257 : decode cJ14_resize 257 = .ok (.aload 8, 2) := dk_25 8 (dk_at dksJ14_resize_10 22 rfl rfl)
theorem dJ14_resize_259 : decode cJ14_resize 259 = .ok (.astore 9, 2) := dk_58 9 (dk_at dksJ14_resize_11 0 rfl rfl)
theorem dJ14_resize_261 : decode cJ14_resize 261 = .ok (.goto 10, 3) := dk_167 0 10 (dk_at dksJ14_resize_11 2 rfl rfl)
theorem dJ14_resize_264 : decode cJ14_resize 264 = .ok (.aload 10, 2) := dk_25 10 (dk_at dksJ14_resize_11 5 rfl rfl)
theorem dJ14_resize_266 : decode cJ14_resize 266 = .ok (.aload 8, 2) := dk_25 8 (dk_at dksJ14_resize_11 7 rfl rfl)
theorem dJ14_resize_268 : decode cJ14_resize 268 = .ok (.putfield 177, 3) := dk_181 0 177 (dk_at dksJ14_resize_11 9 rfl rfl)
theorem dJ14_resize_271 : decode cJ14_resize 271 = .ok (.aload 8, 2) := dk_25 8 (dk_at dksJ14_resize_11 12 rfl rfl)
theorem dJ14_resize_273 : decode cJ14_resize 273 = .ok (.astore 10, 2) := dk_58 10 (dk_at dksJ14_resize_11 14 rfl rfl)
theorem dJ14_resize_275 : decode cJ14_resize 275 = .ok (.goto 26, 3) := dk_167 0 26 (dk_at dksJ14_resize_11 16 rfl rfl)
theorem dJ14_resize_278 : decode cJ14_resize 278 = .ok (.aload 12, 2) := dk_25 12 (dk_at dksJ14_resize_11 19 rfl rfl)
theorem dJ14_resize_280 : decode cJ14_resize 280 = .ok (.ifnonnull 10, 3) := dk_199 0 10 (dk_at dksJ14_resize_11 21 rfl rfl)
theorem dJ14_resize_283 : decode cJ14_resize 283 = .ok (.aload 8, 2) := dk_25 8 (dk_at dksJ14_resize_12 0 rfl rfl)
theorem dJ14_resize_285 : decode cJ14_resize 285 = .ok (.astore 11, 2) := dk_58 11 (dk_at dksJ14_resize_12 2 rfl rfl)
theorem dJ14_resize_287 : decode cJ14_resize 287 = .ok (.goto 10, 3) := dk_167 0 10 (dk_at dksJ14_resize_12 4 rfl rfl)
theorem dJ14_resize_290 : decode cJ14_resize 290 = .ok (.aload 12, 2) := dk_25 12 (dk_at dksJ14_resize_12 7 rfl rfl)
theorem dJ14_resize_292 : decode cJ14_resize 292 = .ok (.aload 8, 2) := dk_25 8 (dk_at dksJ14_resize_12 9 rfl rfl)
theorem dJ14_resize_294 : decode cJ14_resize 294 = .ok (.putfield 177, 3) := dk_181 0 177 (dk_at dksJ14_resize_12 11 rfl rfl)
theorem dJ14_resize_297 : decode cJ14_resize 297 = .ok (.aload 8, 2) := dk_25 8 (dk_at dksJ14_resize_12 14 rfl rfl)
theorem dJ14_resize_299 : decode cJ14_resize 299 = .ok (.astore 12, 2) := dk_58 12 (dk_at dksJ14_resize_12 16 rfl rfl)
theorem dJ14_resize_301 : decode cJ14_resize 301 = .ok (.aload 13, 2) := dk_25 13 (dk_at dksJ14_resize_12 18 rfl rfl)
theorem dJ14_resize_303 : decode cJ14_resize 303 = .ok (.dup, 1) := dk_89 (dk_at dksJ14_resize_12 20 rfl rfl)
theorem dJ14_resize_304 : decode cJ14_resize 304 = .ok (.astore 8, 2) := dk_58 8 (dk_at dksJ14_resize_12 21 rfl rfl)
theorem dJ14_resize_306 : decode cJ14_resize 306 = .ok (.ifnonnull (-71), 3) := dk_199 255 185 (dk_at dksJ14_resize_13 0 rfl rfl)
theorem dJ14_resize_309 : decode cJ14_resize 309 = .ok (.aload 10, 2) := dk_25 10 (dk_at dksJ14_resize_13 3 rfl rfl)
theorem dJ14_resize_311 : decode cJ14_resize 311 = .ok (.ifnull 16, 3) := dk_198 0 16 (dk_at dksJ14_resize_13 5 rfl rfl)
theorem dJ14_resize_314 : decode cJ14_resize 314 = .ok (.aload 10, 2) := dk_25 10 (dk_at dksJ14_resize_13 8 rfl rfl)
theorem dJ14_resize_316 : decode cJ14_resize 316 = .ok (.aconst_null, 1) := dk_1 (dk_at dksJ14_resize_13 10 rfl rfl)
theorem dJ14_resize_317 : decode cJ14_resize 317 = .ok (.putfield 177, 3) := dk_181 0 177 (dk_at dksJ14_resize_13 11 rfl rfl)
theorem dJ14_resize_320 : decode cJ14_resize 320 = .ok (.aload 6, 2) := dk_25 6 (dk_at dksJ14_resize_13 14 rfl rfl)
theorem dJ14_resize_322 : decode cJ14_resize 322 = .ok (.iload 7, 2) := dk_21 7 (dk_at dksJ14_resize_13 16 rfl rfl)
theorem dJ14_resize_324 : decode cJ14_resize 324 = .ok (.aload 9, 2) := dk_25 9 (dk_at dksJ14_resize_13 18 rfl rfl)
theorem dJ14_resize_326 : decode cJ14_resize 326 = .ok (.aastore, 1) := dk_83 (dk_at dksJ14_resize_13 20 rfl rfl)
theorem dJ14_resize_327 : decode cJ14_resize 327 = .ok (.aload 12, 2) := dk_25 12 (dk_at dksJ14_resize_13 21 rfl rfl)
theorem dJ14_resize_329 : decode cJ14_resize 329 = .ok (.ifnull 18, 3) := dk_198 0 18 (dk_at dksJ14_resize_14 0 rfl rfl)
theorem dJ14_resize_332 : decode cJ14_resize 332 = .ok (.aload 12, 2) := dk_25 12 (dk_at dksJ14_resize_14 3 rfl rfl)
theorem dJ14_resize_334 : decode cJ14_resize 334 = .ok (.aconst_null, 1) := dk_1 (dk_at dksJ14_resize_14 5 rfl rfl)
theorem dJ14_resize_335 : decode cJ14_resize 335 = .ok (.putfield 177, 3) := dk_181 0 177 (dk_at dksJ14_resize_14 6 rfl rfl)
theorem dJ14_resize_338 : decode cJ14_resize 338 = .ok (.aload 6, 2) := dk_25 6 (dk_at dksJ14_resize_14 9 rfl rfl)
theorem dJ14_resize_340 : decode cJ14_resize 340 = .ok (.iload 7, 2) := dk_21 7 (dk_at dksJ14_resize_14 11 rfl rfl)
theorem dJ14_resize_342 : decode cJ14_resize 342 = .ok (.iload_n 2, 1) := dk_28 (dk_at dksJ14_resize_14 13 rfl rfl)
theorem dJ14_resize_343 : decode cJ14_resize 343 = .ok (.iadd, 1) := dk_96 (dk_at dksJ14_resize_14 14 rfl rfl)
theorem dJ14_resize_344 : decode cJ14_resize 344 = .ok (.aload 11, 2) := dk_25 11 (dk_at dksJ14_resize_14 15 rfl rfl)
theorem dJ14_resize_346 : decode cJ14_resize 346 = .ok (.aastore, 1) := dk_83 (dk_at dksJ14_resize_14 17 rfl rfl)
theorem dJ14_resize_347 : decode cJ14_resize 347 = .ok (.iinc 7 1, 3) := dk_132 7 1 (dk_at dksJ14_resize_14 18 rfl rfl)
theorem dJ14_resize_350 : decode cJ14_resize 350 = .ok (.goto (-199), 3) := dk_167 255 57 (dk_at dksJ14_resize_14 21 rfl rfl)
theorem dJ14_resize_353 : decode cJ14_resize 353 = .ok (.aload 6, 2) := dk_25 6 (dk_at dksJ14_resize_15 0 rfl rfl)
theorem dJ14_resize_355 : decode cJ14_resize 355 = .ok (.areturn, 1) := dk_176 (dk_at dksJ14_resize_15 2 rfl rfl)
abbrev cJ14_replacementNode : ByteArray := prog_39_method_47_code
def yJ14_replacementNode : MethodName := ⟨RJ14, "replacementNode", "(Ljava/util/HashMap$Node;Ljava/util/HashMap$Node;)Ljava/util/HashMap$Node;"⟩
def dkwJ14_replacementNode_0 : List UInt8 := [187, 0, 163, 89, 43, 180, 0, 168, 43, 180, 0, 170, 43, 180, 0, 162, 44, 183, 1, 119, 176]
abbrev dktJ14_replacementNode_0 : List UInt8 := dkwJ14_replacementNode_0 ++ []
theorem dksJ14_replacementNode_0 : cJ14_replacementNode.data.toList.drop 0 = dktJ14_replacementNode_0 := by decide +kernel
theorem dJ14_replacementNode_0 : decode cJ14_replacementNode 0 = .ok (.new 163, 3) := dk_187 0 163 (dk_at dksJ14_replacementNode_0 0 rfl rfl)
theorem dJ14_replacementNode_3 : decode cJ14_replacementNode 3 = .ok (.dup, 1) := dk_89 (dk_at dksJ14_replacementNode_0 3 rfl rfl)
theorem dJ14_replacementNode_4 : decode cJ14_replacementNode 4 = .ok (.aload_n 1, 1) := dk_43 (dk_at dksJ14_replacementNode_0 4 rfl rfl)
theorem dJ14_replacementNode_5 : decode cJ14_replacementNode 5 = .ok (.getfield 168, 3) := dk_180 0 168 (dk_at dksJ14_replacementNode_0 5 rfl rfl)
theorem dJ14_replacementNode_8 : decode cJ14_replacementNode 8 = .ok (.aload_n 1, 1) := dk_43 (dk_at dksJ14_replacementNode_0 8 rfl rfl)
theorem dJ14_replacementNode_9 : decode cJ14_replacementNode 9 = .ok (.getfield 170, 3) := dk_180 0 170 (dk_at dksJ14_replacementNode_0 9 rfl rfl)
theorem dJ14_replacementNode_12 : decode cJ14_replacementNode 12 = .ok (.aload_n 1, 1) := dk_43 (dk_at dksJ14_replacementNode_0 12 rfl rfl)
theorem dJ14_replacementNode_13 : decode cJ14_replacementNode 13 = .ok (.getfield 162, 3) := dk_180 0 162 (dk_at dksJ14_replacementNode_0 13 rfl rfl)
theorem dJ14_replacementNode_16 : decode cJ14_replacementNode 16 = .ok (.aload_n 2, 1) := dk_44 (dk_at dksJ14_replacementNode_0 16 rfl rfl)
theorem dJ14_replacementNode_17 : decode cJ14_replacementNode 17 = .ok (.invokespecial 375, 3) := dk_183 1 119 (dk_at dksJ14_replacementNode_0 17 rfl rfl)
theorem dJ14_replacementNode_20 : decode cJ14_replacementNode 20 = .ok (.areturn, 1) := dk_176 (dk_at dksJ14_replacementNode_0 20 rfl rfl)
abbrev cJ14_newNode : ByteArray := prog_39_method_46_code
def yJ14_newNode : MethodName := ⟨RJ14, "newNode", "(ILjava/lang/Object;Ljava/lang/Object;Ljava/util/HashMap$Node;)Ljava/util/HashMap$Node;"⟩
def dkwJ14_newNode_0 : List UInt8 := [187, 0, 163, 89, 27, 44, 45, 25, 4, 183, 1, 119, 176]
abbrev dktJ14_newNode_0 : List UInt8 := dkwJ14_newNode_0 ++ []
theorem dksJ14_newNode_0 : cJ14_newNode.data.toList.drop 0 = dktJ14_newNode_0 := by decide +kernel
theorem dJ14_newNode_0 : decode cJ14_newNode 0 = .ok (.new 163, 3) := dk_187 0 163 (dk_at dksJ14_newNode_0 0 rfl rfl)
theorem dJ14_newNode_3 : decode cJ14_newNode 3 = .ok (.dup, 1) := dk_89 (dk_at dksJ14_newNode_0 3 rfl rfl)
theorem dJ14_newNode_4 : decode cJ14_newNode 4 = .ok (.iload_n 1, 1) := dk_27 (dk_at dksJ14_newNode_0 4 rfl rfl)
theorem dJ14_newNode_5 : decode cJ14_newNode 5 = .ok (.aload_n 2, 1) := dk_44 (dk_at dksJ14_newNode_0 5 rfl rfl)
theorem dJ14_newNode_6 : decode cJ14_newNode 6 = .ok (.aload_n 3, 1) := dk_45 (dk_at dksJ14_newNode_0 6 rfl rfl)
theorem dJ14_newNode_7 : decode cJ14_newNode 7 = .ok (.aload 4, 2) := dk_25 4 (dk_at dksJ14_newNode_0 7 rfl rfl)
theorem dJ14_newNode_9 : decode cJ14_newNode 9 = .ok (.invokespecial 375, 3) := dk_183 1 119 (dk_at dksJ14_newNode_0 9 rfl rfl)
theorem dJ14_newNode_12 : decode cJ14_newNode 12 = .ok (.areturn, 1) := dk_176 (dk_at dksJ14_newNode_0 12 rfl rfl)
abbrev cJ14_newTreeNode : ByteArray := prog_39_method_48_code
def yJ14_newTreeNode : MethodName := ⟨RJ14, "newTreeNode", "(ILjava/lang/Object;Ljava/lang/Object;Ljava/util/HashMap$Node;)Ljava/util/HashMap$TreeNode;"⟩
def dkwJ14_newTreeNode_0 : List UInt8 := [187, 0, 180, 89, 27, 44, 45, 25, 4, 183, 1, 122, 176]
abbrev dktJ14_newTreeNode_0 : List UInt8 := dkwJ14_newTreeNode_0 ++ []
theorem dksJ14_newTreeNode_0 : cJ14_newTreeNode.data.toList.drop 0 = dktJ14_newTreeNode_0 := by decide +kernel
theorem dJ14_newTreeNode_0 : decode cJ14_newTreeNode 0 = .ok (.new 180, 3) := dk_187 0 180 (dk_at dksJ14_newTreeNode_0 0 rfl rfl)
theorem dJ14_newTreeNode_3 : decode cJ14_newTreeNode 3 = .ok (.dup, 1) := dk_89 (dk_at dksJ14_newTreeNode_0 3 rfl rfl)
theorem dJ14_newTreeNode_4 : decode cJ14_newTreeNode 4 = .ok (.iload_n 1, 1) := dk_27 (dk_at dksJ14_newTreeNode_0 4 rfl rfl)
theorem dJ14_newTreeNode_5 : decode cJ14_newTreeNode 5 = .ok (.aload_n 2, 1) := dk_44 (dk_at dksJ14_newTreeNode_0 5 rfl rfl)
theorem dJ14_newTreeNode_6 : decode cJ14_newTreeNode 6 = .ok (.aload_n 3, 1) := dk_45 (dk_at dksJ14_newTreeNode_0 6 rfl rfl)
theorem dJ14_newTreeNode_7 : decode cJ14_newTreeNode 7 = .ok (.aload 4, 2) := dk_25 4 (dk_at dksJ14_newTreeNode_0 7 rfl rfl)
theorem dJ14_newTreeNode_9 : decode cJ14_newTreeNode 9 = .ok (.invokespecial 378, 3) := dk_183 1 122 (dk_at dksJ14_newTreeNode_0 9 rfl rfl)
theorem dJ14_newTreeNode_12 : decode cJ14_newTreeNode 12 = .ok (.areturn, 1) := dk_176 (dk_at dksJ14_newTreeNode_0 12 rfl rfl)
abbrev cJ14_treeifyBin : ByteArray := prog_39_method_18_code
def yJ14_treeifyBin : MethodName := ⟨RJ14, "treeifyBin", "([Ljava/util/HashMap$Node;I)V"⟩
def dkwJ14_treeifyBin_4 : List UInt8 := [21, 4, 25, 6, 91, 83, 198, 0, 9, 25, 6, 43, 182, 0, 224, 177]
abbrev dktJ14_treeifyBin_4 : List UInt8 := dkwJ14_treeifyBin_4 ++ []
def dkwJ14_treeifyBin_3 : List UInt8 := [25, 7, 25, 8, 181, 0, 223, 25, 8, 58, 7, 25, 5, 180, 0, 177, 89, 58, 5, 199, 255, 209, 43]
abbrev dktJ14_treeifyBin_3 : List UInt8 := dkwJ14_treeifyBin_3 ++ dktJ14_treeifyBin_4
def dkwJ14_treeifyBin_2 : List UInt8 := [182, 0, 215, 58, 8, 25, 7, 199, 0, 10, 25, 8, 58, 6, 167, 0, 17, 25, 8, 25, 7, 181, 0, 219]
abbrev dktJ14_treeifyBin_2 : List UInt8 := dkwJ14_treeifyBin_2 ++ dktJ14_treeifyBin_3
def dkwJ14_treeifyBin_1 : List UInt8 := [100, 28, 126, 89, 54, 4, 50, 89, 58, 5, 198, 0, 75, 1, 58, 6, 1, 58, 7, 42, 25, 5, 1]
abbrev dktJ14_treeifyBin_1 : List UInt8 := dkwJ14_treeifyBin_1 ++ dktJ14_treeifyBin_2
def dkwJ14_treeifyBin_0 : List UInt8 := [43, 198, 0, 12, 43, 190, 89, 62, 16, 64, 162, 0, 11, 42, 182, 0, 117, 87, 167, 0, 91, 43, 29, 4]
abbrev dktJ14_treeifyBin_0 : List UInt8 := dkwJ14_treeifyBin_0 ++ dktJ14_treeifyBin_1
theorem dksJ14_treeifyBin_0 : cJ14_treeifyBin.data.toList.drop 0 = dktJ14_treeifyBin_0 := by decide +kernel
theorem dksJ14_treeifyBin_1 : cJ14_treeifyBin.data.toList.drop 24 = dktJ14_treeifyBin_1 := dk_seg dksJ14_treeifyBin_0 24 rfl rfl
theorem dksJ14_treeifyBin_2 : cJ14_treeifyBin.data.toList.drop 47 = dktJ14_treeifyBin_2 := dk_seg dksJ14_treeifyBin_1 23 rfl rfl
theorem dksJ14_treeifyBin_3 : cJ14_treeifyBin.data.toList.drop 71 = dktJ14_treeifyBin_3 := dk_seg dksJ14_treeifyBin_2 24 rfl rfl
theorem dksJ14_treeifyBin_4 : cJ14_treeifyBin.data.toList.drop 94 = dktJ14_treeifyBin_4 := dk_seg dksJ14_treeifyBin_3 23 rfl rfl
theorem dJ14_treeifyBin_0 : decode cJ14_treeifyBin 0 = .ok (.aload_n 1, 1) := dk_43 (dk_at dksJ14_treeifyBin_0 0 rfl rfl)
theorem dJ14_treeifyBin_1 : decode cJ14_treeifyBin 1 = .ok (.ifnull 12, 3) := dk_198 0 12 (dk_at dksJ14_treeifyBin_0 1 rfl rfl)
theorem dJ14_treeifyBin_4 : decode cJ14_treeifyBin 4 = .ok (.aload_n 1, 1) := dk_43 (dk_at dksJ14_treeifyBin_0 4 rfl rfl)
theorem dJ14_treeifyBin_5 : decode cJ14_treeifyBin 5 = .ok (.arraylength, 1) := dk_190 (dk_at dksJ14_treeifyBin_0 5 rfl rfl)
theorem dJ14_treeifyBin_6 : decode cJ14_treeifyBin 6 = .ok (.dup, 1) := dk_89 (dk_at dksJ14_treeifyBin_0 6 rfl rfl)
theorem dJ14_treeifyBin_7 : decode cJ14_treeifyBin 7 = .ok (.istore_n 3, 1) := dk_62 (dk_at dksJ14_treeifyBin_0 7 rfl rfl)
theorem dJ14_treeifyBin_8 : decode cJ14_treeifyBin 8 = .ok (.bipush 64, 2) := dk_16 64 (dk_at dksJ14_treeifyBin_0 8 rfl rfl)
theorem dJ14_treeifyBin_10 : decode cJ14_treeifyBin 10 = .ok (.if_icmp .ge 11, 3) := dk_162 0 11 (dk_at dksJ14_treeifyBin_0 10 rfl rfl)
theorem dJ14_treeifyBin_13 : decode cJ14_treeifyBin 13 = .ok (.aload_n 0, 1) := dk_42 (dk_at dksJ14_treeifyBin_0 13 rfl rfl)
theorem dJ14_treeifyBin_14 : decode cJ14_treeifyBin 14 = .ok (.invokevirtual 117, 3) := dk_182 0 117 (dk_at dksJ14_treeifyBin_0 14 rfl rfl)
theorem dJ14_treeifyBin_17 : decode cJ14_treeifyBin 17 = .ok (.pop, 1) := dk_87 (dk_at dksJ14_treeifyBin_0 17 rfl rfl)
theorem dJ14_treeifyBin_18 : decode cJ14_treeifyBin 18 = .ok (.goto 91, 3) := dk_167 0 91 (dk_at dksJ14_treeifyBin_0 18 rfl rfl)
theorem dJ14_treeifyBin_21 : decode cJ14_treeifyBin 21 = .ok (.aload_n 1, 1) := dk_43 (dk_at dksJ14_treeifyBin_0 21 rfl rfl)
theorem dJ14_treeifyBin_22 : decode cJ14_treeifyBin 22 = .ok (.iload_n 3, 1) := dk_29 (dk_at dksJ14_treeifyBin_0 22 rfl rfl)
theorem dJ14_treeifyBin_23 : decode cJ14_treeifyBin 23 = .ok (.iconst 1, 1) := dk_4 (dk_at dksJ14_treeifyBin_0 23 rfl rfl)
theorem dJ14_treeifyBin_24 : decode cJ14_treeifyBin 24 = .ok (.isub, 1) := dk_100 (dk_at dksJ14_treeifyBin_1 0 rfl rfl)
theorem dJ14_treeifyBin_25 : decode cJ14_treeifyBin 25 = .ok (.iload_n 2, 1) := dk_28 (dk_at dksJ14_treeifyBin_1 1 rfl rfl)
theorem dJ14_treeifyBin_26 : decode cJ14_treeifyBin 26 = .ok (.iand, 1) := dk_126 (dk_at dksJ14_treeifyBin_1 2 rfl rfl)
theorem dJ14_treeifyBin_27 : decode cJ14_treeifyBin 27 = .ok (.dup, 1) := dk_89 (dk_at dksJ14_treeifyBin_1 3 rfl rfl)
theorem dJ14_treeifyBin_28 : decode cJ14_treeifyBin 28 = .ok (.istore 4, 2) := dk_54 4 (dk_at dksJ14_treeifyBin_1 4 rfl rfl)
theorem dJ14_treeifyBin_30 : decode cJ14_treeifyBin 30 = .ok (.aaload, 1) := dk_50 (dk_at dksJ14_treeifyBin_1 6 rfl rfl)
theorem dJ14_treeifyBin_31 : decode cJ14_treeifyBin 31 = .ok (.dup, 1) := dk_89 (dk_at dksJ14_treeifyBin_1 7 rfl rfl)
theorem dJ14_treeifyBin_32 : decode cJ14_treeifyBin 32 = .ok (.astore 5, 2) := dk_58 5 (dk_at dksJ14_treeifyBin_1 8 rfl rfl)
theorem dJ14_treeifyBin_34 : decode cJ14_treeifyBin 34 = .ok (.ifnull 75, 3) := dk_198 0 75 (dk_at dksJ14_treeifyBin_1 10 rfl rfl)
theorem dJ14_treeifyBin_37 : decode cJ14_treeifyBin 37 = .ok (.aconst_null, 1) := dk_1 (dk_at dksJ14_treeifyBin_1 13 rfl rfl)
theorem dJ14_treeifyBin_38 : decode cJ14_treeifyBin 38 = .ok (.astore 6, 2) := dk_58 6 (dk_at dksJ14_treeifyBin_1 14 rfl rfl)
theorem dJ14_treeifyBin_40 : decode cJ14_treeifyBin 40 = .ok (.aconst_null, 1) := dk_1 (dk_at dksJ14_treeifyBin_1 16 rfl rfl)
theorem dJ14_treeifyBin_41 : decode cJ14_treeifyBin 41 = .ok (.astore 7, 2) := dk_58 7 (dk_at dksJ14_treeifyBin_1 17 rfl rfl)
theorem dJ14_treeifyBin_43 : decode cJ14_treeifyBin 43 = .ok (.aload_n 0, 1) := dk_42 (dk_at dksJ14_treeifyBin_1 19 rfl rfl)
theorem dJ14_treeifyBin_44 : decode cJ14_treeifyBin 44 = .ok (.aload 5, 2) := dk_25 5 (dk_at dksJ14_treeifyBin_1 20 rfl rfl)
theorem dJ14_treeifyBin_46 : decode cJ14_treeifyBin 46 = .ok (.aconst_null, 1) := dk_1 (dk_at dksJ14_treeifyBin_1 22 rfl rfl)
theorem dJ14_treeifyBin_47 : decode cJ14_treeifyBin 47 = .ok (.invokevirtual 215, 3) := dk_182 0 215 (dk_at dksJ14_treeifyBin_2 0 rfl rfl)
theorem dJ14_treeifyBin_50 : decode cJ14_treeifyBin 50 = .ok (.astore 8, 2) := dk_58 8 (dk_at dksJ14_treeifyBin_2 3 rfl rfl)
theorem dJ14_treeifyBin_52 : decode cJ14_treeifyBin 52 = .ok (.aload 7, 2) := dk_25 7 (dk_at dksJ14_treeifyBin_2 5 rfl rfl)
theorem dJ14_treeifyBin_54 : decode cJ14_treeifyBin 54 = .ok (.ifnonnull 10, 3) := dk_199 0 10 (dk_at dksJ14_treeifyBin_2 7 rfl rfl)
theorem dJ14_treeifyBin_57 : decode cJ14_treeifyBin 57 = .ok (.aload 8, 2) := dk_25 8 (dk_at dksJ14_treeifyBin_2 10 rfl rfl)
theorem dJ14_treeifyBin_59 : decode cJ14_treeifyBin 59 = .ok (.astore 6, 2) := dk_58 6 (dk_at dksJ14_treeifyBin_2 12 rfl rfl)
theorem dJ14_treeifyBin_61 : decode cJ14_treeifyBin 61 = .ok (.goto 17, 3) := dk_167 0 17 (dk_at dksJ14_treeifyBin_2 14 rfl rfl)
theorem dJ14_treeifyBin_64 : decode cJ14_treeifyBin 64 = .ok (.aload 8, 2) := dk_25 8 (dk_at dksJ14_treeifyBin_2 17 rfl rfl)
theorem dJ14_treeifyBin_66 : decode cJ14_treeifyBin 66 = .ok (.aload 7, 2) := dk_25 7 (dk_at dksJ14_treeifyBin_2 19 rfl rfl)
theorem dJ14_treeifyBin_68 : decode cJ14_treeifyBin 68 = .ok (.putfield 219, 3) := dk_181 0 219 (dk_at dksJ14_treeifyBin_2 21 rfl rfl)
theorem dJ14_treeifyBin_71 : decode cJ14_treeifyBin 71 = .ok (.aload 7, 2) := dk_25 7 (dk_at dksJ14_treeifyBin_3 0 rfl rfl)
theorem dJ14_treeifyBin_73 : decode cJ14_treeifyBin 73 = .ok (.aload 8, 2) := dk_25 8 (dk_at dksJ14_treeifyBin_3 2 rfl rfl)
theorem dJ14_treeifyBin_75 : decode cJ14_treeifyBin 75 = .ok (.putfield 223, 3) := dk_181 0 223 (dk_at dksJ14_treeifyBin_3 4 rfl rfl)
theorem dJ14_treeifyBin_78 : decode cJ14_treeifyBin 78 = .ok (.aload 8, 2) := dk_25 8 (dk_at dksJ14_treeifyBin_3 7 rfl rfl)
theorem dJ14_treeifyBin_80 : decode cJ14_treeifyBin 80 = .ok (.astore 7, 2) := dk_58 7 (dk_at dksJ14_treeifyBin_3 9 rfl rfl)
theorem dJ14_treeifyBin_82 : decode cJ14_treeifyBin 82 = .ok (.aload 5, 2) := dk_25 5 (dk_at dksJ14_treeifyBin_3 11 rfl rfl)
theorem dJ14_treeifyBin_84 : decode cJ14_treeifyBin 84 = .ok (.getfield 177, 3) := dk_180 0 177 (dk_at dksJ14_treeifyBin_3 13 rfl rfl)
theorem dJ14_treeifyBin_87 : decode cJ14_treeifyBin 87 = .ok (.dup, 1) := dk_89 (dk_at dksJ14_treeifyBin_3 16 rfl rfl)
theorem dJ14_treeifyBin_88 : decode cJ14_treeifyBin 88 = .ok (.astore 5, 2) := dk_58 5 (dk_at dksJ14_treeifyBin_3 17 rfl rfl)
theorem dJ14_treeifyBin_90 : decode cJ14_treeifyBin 90 = .ok (.ifnonnull (-47), 3) := dk_199 255 209 (dk_at dksJ14_treeifyBin_3 19 rfl rfl)
theorem dJ14_treeifyBin_93 : decode cJ14_treeifyBin 93 = .ok (.aload_n 1, 1) := dk_43 (dk_at dksJ14_treeifyBin_3 22 rfl rfl)
theorem dJ14_treeifyBin_94 : decode cJ14_treeifyBin 94 = .ok (.iload 4, 2) := dk_21 4 (dk_at dksJ14_treeifyBin_4 0 rfl rfl)
theorem dJ14_treeifyBin_96 : decode cJ14_treeifyBin 96 = .ok (.aload 6, 2) := dk_25 6 (dk_at dksJ14_treeifyBin_4 2 rfl rfl)
theorem dJ14_treeifyBin_98 : decode cJ14_treeifyBin 98 = .ok (.dup_x2, 1) := dk_91 (dk_at dksJ14_treeifyBin_4 4 rfl rfl)
theorem dJ14_treeifyBin_99 : decode cJ14_treeifyBin 99 = .ok (.aastore, 1) := dk_83 (dk_at dksJ14_treeifyBin_4 5 rfl rfl)
theorem dJ14_treeifyBin_100 : decode cJ14_treeifyBin 100 = .ok (.ifnull 9, 3) := dk_198 0 9 (dk_at dksJ14_treeifyBin_4 6 rfl rfl)
theorem dJ14_treeifyBin_103 : decode cJ14_treeifyBin 103 = .ok (.aload 6, 2) := dk_25 6 (dk_at dksJ14_treeifyBin_4 9 rfl rfl)
theorem dJ14_treeifyBin_105 : decode cJ14_treeifyBin 105 = .ok (.aload_n 1, 1) := dk_43 (dk_at dksJ14_treeifyBin_4 11 rfl rfl)
theorem dJ14_treeifyBin_106 : decode cJ14_treeifyBin 106 = .ok (.invokevirtual 224, 3) := dk_182 0 224 (dk_at dksJ14_treeifyBin_4 12 rfl rfl)
theorem dJ14_treeifyBin_109 : decode cJ14_treeifyBin 109 = .ok (.return_, 1) := dk_177 (dk_at dksJ14_treeifyBin_4 15 rfl rfl)
abbrev cJ14_replacementTreeNode : ByteArray := prog_39_method_49_code
def yJ14_replacementTreeNode : MethodName := ⟨RJ14, "replacementTreeNode", "(Ljava/util/HashMap$Node;Ljava/util/HashMap$Node;)Ljava/util/HashMap$TreeNode;"⟩
def dkwJ14_replacementTreeNode_0 : List UInt8 := [187, 0, 180, 89, 43, 180, 0, 168, 43, 180, 0, 170, 43, 180, 0, 162, 44, 183, 1, 122, 176]
abbrev dktJ14_replacementTreeNode_0 : List UInt8 := dkwJ14_replacementTreeNode_0 ++ []
theorem dksJ14_replacementTreeNode_0 : cJ14_replacementTreeNode.data.toList.drop 0 = dktJ14_replacementTreeNode_0 := by decide +kernel
theorem dJ14_replacementTreeNode_0 : decode cJ14_replacementTreeNode 0 = .ok (.new 180, 3) := dk_187 0 180 (dk_at dksJ14_replacementTreeNode_0 0 rfl rfl)
theorem dJ14_replacementTreeNode_3 : decode cJ14_replacementTreeNode 3 = .ok (.dup, 1) := dk_89 (dk_at dksJ14_replacementTreeNode_0 3 rfl rfl)
theorem dJ14_replacementTreeNode_4 : decode cJ14_replacementTreeNode 4 = .ok (.aload_n 1, 1) := dk_43 (dk_at dksJ14_replacementTreeNode_0 4 rfl rfl)
theorem dJ14_replacementTreeNode_5 : decode cJ14_replacementTreeNode 5 = .ok (.getfield 168, 3) := dk_180 0 168 (dk_at dksJ14_replacementTreeNode_0 5 rfl rfl)
theorem dJ14_replacementTreeNode_8 : decode cJ14_replacementTreeNode 8 = .ok (.aload_n 1, 1) := dk_43 (dk_at dksJ14_replacementTreeNode_0 8 rfl rfl)
theorem dJ14_replacementTreeNode_9 : decode cJ14_replacementTreeNode 9 = .ok (.getfield 170, 3) := dk_180 0 170 (dk_at dksJ14_replacementTreeNode_0 9 rfl rfl)
theorem dJ14_replacementTreeNode_12 : decode cJ14_replacementTreeNode 12 = .ok (.aload_n 1, 1) := dk_43 (dk_at dksJ14_replacementTreeNode_0 12 rfl rfl)
theorem dJ14_replacementTreeNode_13 : decode cJ14_replacementTreeNode 13 = .ok (.getfield 162, 3) := dk_180 0 162 (dk_at dksJ14_replacementTreeNode_0 13 rfl rfl)
theorem dJ14_replacementTreeNode_16 : decode cJ14_replacementTreeNode 16 = .ok (.aload_n 2, 1) := dk_44 (dk_at dksJ14_replacementTreeNode_0 16 rfl rfl)
theorem dJ14_replacementTreeNode_17 : decode cJ14_replacementTreeNode 17 = .ok (.invokespecial 378, 3) := dk_183 1 122 (dk_at dksJ14_replacementTreeNode_0 17 rfl rfl)
theorem dJ14_replacementTreeNode_20 : decode cJ14_replacementTreeNode 20 = .ok (.areturn, 1) := dk_176 (dk_at dksJ14_replacementTreeNode_0 20 rfl rfl)
abbrev cJ14_afterNodeAccess : ByteArray := prog_39_method_51_code
def yJ14_afterNodeAccess : MethodName := ⟨RJ14, "afterNodeAccess", "(Ljava/util/HashMap$Node;)V"⟩
theorem dJ14_afterNodeAccess_0 : decode cJ14_afterNodeAccess 0 = .ok (.return_, 1) := by decide +kernel
abbrev cJ14_afterNodeInsertion : ByteArray := prog_39_method_52_code
def yJ14_afterNodeInsertion : MethodName := ⟨RJ14, "afterNodeInsertion", "(Z)V"⟩
theorem dJ14_afterNodeInsertion_0 : decode cJ14_afterNodeInsertion 0 = .ok (.return_, 1) := by decide +kernel
abbrev cJ14_containsKey : ByteArray := prog_39_method_14_code
def yJ14_containsKey : MethodName := ⟨RJ14, "containsKey", "(Ljava/lang/Object;)Z"⟩
def dkwJ14_containsKey_0 : List UInt8 := [42, 43, 182, 0, 158, 198, 0, 7, 4, 167, 0, 4, 3, 172]
abbrev dktJ14_containsKey_0 : List UInt8 := dkwJ14_containsKey_0 ++ []
theorem dksJ14_containsKey_0 : cJ14_containsKey.data.toList.drop 0 = dktJ14_containsKey_0 := by decide +kernel
theorem dJ14_containsKey_0 : decode cJ14_containsKey 0 = .ok (.aload_n 0, 1) := dk_42 (dk_at dksJ14_containsKey_0 0 rfl rfl)
theorem dJ14_containsKey_1 : decode cJ14_containsKey 1 = .ok (.aload_n 1, 1) := dk_43 (dk_at dksJ14_containsKey_0 1 rfl rfl)
theorem dJ14_containsKey_2 : decode cJ14_containsKey 2 = .ok (.invokevirtual 158, 3) := dk_182 0 158 (dk_at dksJ14_containsKey_0 2 rfl rfl)
theorem dJ14_containsKey_5 : decode cJ14_containsKey 5 = .ok (.ifnull 7, 3) := dk_198 0 7 (dk_at dksJ14_containsKey_0 5 rfl rfl)
theorem dJ14_containsKey_8 : decode cJ14_containsKey 8 = .ok (.iconst 1, 1) := dk_4 (dk_at dksJ14_containsKey_0 8 rfl rfl)
theorem dJ14_containsKey_9 : decode cJ14_containsKey 9 = .ok (.goto 4, 3) := dk_167 0 4 (dk_at dksJ14_containsKey_0 9 rfl rfl)
theorem dJ14_containsKey_12 : decode cJ14_containsKey 12 = .ok (.iconst 0, 1) := dk_3 (dk_at dksJ14_containsKey_0 12 rfl rfl)
theorem dJ14_containsKey_13 : decode cJ14_containsKey 13 = .ok (.ireturn, 1) := dk_172 (dk_at dksJ14_containsKey_0 13 rfl rfl)
abbrev cJ14_size : ByteArray := prog_39_method_10_code
def yJ14_size : MethodName := ⟨RJ14, "size", "()I"⟩
theorem dJ14_size_0 : decode cJ14_size 0 = .ok (.aload_n 0, 1) := by decide +kernel
theorem dJ14_size_1 : decode cJ14_size 1 = .ok (.getfield 156, 3) := by decide +kernel
theorem dJ14_size_4 : decode cJ14_size 4 = .ok (.ireturn, 1) := by decide +kernel
abbrev cJ14_keySet : ByteArray := prog_39_method_24_code
def yJ14_keySet : MethodName := ⟨RJ14, "keySet", "()Ljava/util/Set;"⟩
def dkwJ14_keySet_1 : List UInt8 := [176]
abbrev dktJ14_keySet_1 : List UInt8 := dkwJ14_keySet_1 ++ []
def dkwJ14_keySet_0 : List UInt8 := [42, 180, 0, 239, 76, 43, 199, 0, 17, 187, 0, 243, 89, 42, 183, 0, 245, 76, 42, 43, 181, 0, 239, 43]
abbrev dktJ14_keySet_0 : List UInt8 := dkwJ14_keySet_0 ++ dktJ14_keySet_1
theorem dksJ14_keySet_0 : cJ14_keySet.data.toList.drop 0 = dktJ14_keySet_0 := by decide +kernel
theorem dksJ14_keySet_1 : cJ14_keySet.data.toList.drop 24 = dktJ14_keySet_1 := dk_seg dksJ14_keySet_0 24 rfl rfl
theorem dJ14_keySet_0 : decode cJ14_keySet 0 = .ok (.aload_n 0, 1) := dk_42 (dk_at dksJ14_keySet_0 0 rfl rfl)
theorem dJ14_keySet_1 : decode cJ14_keySet 1 = .ok (.getfield 239, 3) := dk_180 0 239 (dk_at dksJ14_keySet_0 1 rfl rfl)
theorem dJ14_keySet_4 : decode cJ14_keySet 4 = .ok (.astore_n 1, 1) := dk_76 (dk_at dksJ14_keySet_0 4 rfl rfl)
theorem dJ14_keySet_5 : decode cJ14_keySet 5 = .ok (.aload_n 1, 1) := dk_43 (dk_at dksJ14_keySet_0 5 rfl rfl)
theorem dJ14_keySet_6 : decode cJ14_keySet 6 = .ok (.ifnonnull 17, 3) := dk_199 0 17 (dk_at dksJ14_keySet_0 6 rfl rfl)
theorem dJ14_keySet_9 : decode cJ14_keySet 9 = .ok (.new 243, 3) := dk_187 0 243 (dk_at dksJ14_keySet_0 9 rfl rfl)
theorem dJ14_keySet_12 : decode cJ14_keySet 12 = .ok (.dup, 1) := dk_89 (dk_at dksJ14_keySet_0 12 rfl rfl)
theorem dJ14_keySet_13 : decode cJ14_keySet 13 = .ok (.aload_n 0, 1) := dk_42 (dk_at dksJ14_keySet_0 13 rfl rfl)
theorem dJ14_keySet_14 : decode cJ14_keySet 14 = .ok (.invokespecial 245, 3) := dk_183 0 245 (dk_at dksJ14_keySet_0 14 rfl rfl)
theorem dJ14_keySet_17 : decode cJ14_keySet 17 = .ok (.astore_n 1, 1) := dk_76 (dk_at dksJ14_keySet_0 17 rfl rfl)
theorem dJ14_keySet_18 : decode cJ14_keySet 18 = .ok (.aload_n 0, 1) := dk_42 (dk_at dksJ14_keySet_0 18 rfl rfl)
theorem dJ14_keySet_19 : decode cJ14_keySet 19 = .ok (.aload_n 1, 1) := dk_43 (dk_at dksJ14_keySet_0 19 rfl rfl)
theorem dJ14_keySet_20 : decode cJ14_keySet 20 = .ok (.putfield 239, 3) := dk_181 0 239 (dk_at dksJ14_keySet_0 20 rfl rfl)
theorem dJ14_keySet_23 : decode cJ14_keySet 23 = .ok (.aload_n 1, 1) := dk_43 (dk_at dksJ14_keySet_0 23 rfl rfl)
theorem dJ14_keySet_24 : decode cJ14_keySet 24 = .ok (.areturn, 1) := dk_176 (dk_at dksJ14_keySet_1 0 rfl rfl)
theorem q118 : (Jvm.Cond.initialized "java/util/HashMap") ∈ lw_all := lw_g (lw_at lw_m1 23 rfl) rfl
theorem q558 : (Jvm.Cond.selects "java/util/HashMap" ({ cls := "java/lang/Object", name := "getClass", desc := "()Ljava/lang/Class;" } : Jvm.MethodName) ({ cls := "java/lang/Object", name := "getClass", desc := "()Ljava/lang/Class;" } : Jvm.MethodName)) ∈ lw_all := lw_g (lw_at lw_m2 223 rfl) rfl
theorem q788 : (Jvm.Cond.instantiable "java/util/HashMap" (8 : Nat)) ∈ lw_all := lw_g (lw_at lw_m3 213 rfl) rfl
theorem q790 : (Jvm.Cond.instanceMethod ({ cls := "java/util/HashMap", name := "<init>", desc := "()V" } : Jvm.MethodName)) ∈ lw_all := lw_g (lw_at lw_m3 215 rfl) rfl
theorem q791 : (Jvm.Cond.code ({ cls := "java/util/HashMap", name := "<init>", desc := "()V" } : Jvm.MethodName) prog_39_method_7_code (1 : Nat) (Option.none : Option Jvm.ClassFile.FieldType)) ∈ lw_all := lw_g (lw_at lw_m3 216 rfl) rfl
theorem q792 : (Jvm.Cond.methodLink "java/util/HashMap" (43 : Nat) ({ cls := "java/util/AbstractMap", name := "<init>", desc := "()V" } : Jvm.MethodName)) ∈ lw_all := lw_g (lw_at lw_m3 217 rfl) rfl
theorem q796 : (Jvm.Cond.constantFloat "java/util/HashMap" (92 : Nat) (1061158912 : UInt32)) ∈ lw_all := lw_g (lw_at lw_m3 221 rfl) rfl
theorem q798 : (Jvm.Cond.fieldLink "java/util/HashMap" (105 : Nat) "java/util/HashMap" "table" "[Ljava/util/HashMap$Node;") ∈ lw_all := lw_g (lw_at lw_m3 223 rfl) rfl
theorem q800 : (Jvm.Cond.fieldLink "java/util/HashMap" (156 : Nat) "java/util/HashMap" "size" "I") ∈ lw_all := lw_g (lw_at lw_m3 225 rfl) rfl
theorem q805 : (Jvm.Cond.fieldLink "java/util/HashMap" (202 : Nat) "java/util/HashMap" "modCount" "I") ∈ lw_all := lw_g (lw_at lw_m3 230 rfl) rfl
theorem q806 : (Jvm.Cond.fieldLink "java/util/HashMap" (88 : Nat) "java/util/HashMap" "threshold" "I") ∈ lw_all := lw_g (lw_at lw_m3 231 rfl) rfl
theorem q807 : (Jvm.Cond.fieldLink "java/util/HashMap" (81 : Nat) "java/util/HashMap" "loadFactor" "F") ∈ lw_all := lw_g (lw_at lw_m3 232 rfl) rfl
theorem q808 : (Jvm.Cond.fieldLink "java/util/HashMap" (239 : Nat) "java/util/HashMap" "keySet" "Ljava/util/Set;") ∈ lw_all := lw_g (lw_at lw_m3 233 rfl) rfl
theorem q809 : (Jvm.Cond.sameField "java/util/HashMap" "java/util/AbstractMap" "keySet" "Ljava/util/Set;") ∈ lw_all := lw_g (lw_at lw_m3 234 rfl) rfl
theorem q812 : (Jvm.Cond.lays "java/util/HashMap" "java/util/HashMap" "table" "[Ljava/util/HashMap$Node;") ∈ lw_all := lw_g (lw_at lw_m3 237 rfl) rfl
theorem q813 : (Jvm.Cond.soleField "java/util/HashMap" "table") ∈ lw_all := lw_g (lw_at lw_m3 238 rfl) rfl
theorem q814 : (Jvm.Cond.lays "java/util/HashMap" "java/util/HashMap" "entrySet" "Ljava/util/Set;") ∈ lw_all := lw_g (lw_at lw_m3 239 rfl) rfl
theorem q815 : (Jvm.Cond.soleField "java/util/HashMap" "entrySet") ∈ lw_all := lw_g (lw_at lw_m4 0 rfl) rfl
theorem q816 : (Jvm.Cond.lays "java/util/HashMap" "java/util/HashMap" "size" "I") ∈ lw_all := lw_g (lw_at lw_m4 1 rfl) rfl
theorem q817 : (Jvm.Cond.soleField "java/util/HashMap" "size") ∈ lw_all := lw_g (lw_at lw_m4 2 rfl) rfl
theorem q818 : (Jvm.Cond.lays "java/util/HashMap" "java/util/HashMap" "modCount" "I") ∈ lw_all := lw_g (lw_at lw_m4 3 rfl) rfl
theorem q819 : (Jvm.Cond.soleField "java/util/HashMap" "modCount") ∈ lw_all := lw_g (lw_at lw_m4 4 rfl) rfl
theorem q820 : (Jvm.Cond.lays "java/util/HashMap" "java/util/HashMap" "threshold" "I") ∈ lw_all := lw_g (lw_at lw_m4 5 rfl) rfl
theorem q821 : (Jvm.Cond.soleField "java/util/HashMap" "threshold") ∈ lw_all := lw_g (lw_at lw_m4 6 rfl) rfl
theorem q822 : (Jvm.Cond.laysFinal "java/util/HashMap" "java/util/HashMap" "loadFactor" "F") ∈ lw_all := lw_g (lw_at lw_m4 7 rfl) rfl
theorem q823 : (Jvm.Cond.soleField "java/util/HashMap" "loadFactor") ∈ lw_all := lw_g (lw_at lw_m4 8 rfl) rfl
theorem q824 : (Jvm.Cond.lays "java/util/HashMap" "java/util/AbstractMap" "keySet" "Ljava/util/Set;") ∈ lw_all := lw_g (lw_at lw_m4 9 rfl) rfl
theorem q826 : (Jvm.Cond.lays "java/util/HashMap" "java/util/AbstractMap" "values" "Ljava/util/Collection;") ∈ lw_all := lw_g (lw_at lw_m4 11 rfl) rfl
theorem q828 : (Jvm.Cond.superclass "java/util/HashMap" "java/util/AbstractMap") ∈ lw_all := lw_g (lw_at lw_m4 13 rfl) rfl
theorem q872 : (Jvm.Cond.instanceMethod ({ cls := "java/util/HashMap", name := "get", desc := "(Ljava/lang/Object;)Ljava/lang/Object;" } : Jvm.MethodName)) ∈ lw_all := lw_g (lw_at lw_m4 57 rfl) rfl
theorem q873 : (Jvm.Cond.selects "java/util/HashMap" ({ cls := "java/util/HashMap", name := "get", desc := "(Ljava/lang/Object;)Ljava/lang/Object;" } : Jvm.MethodName) ({ cls := "java/util/HashMap", name := "get", desc := "(Ljava/lang/Object;)Ljava/lang/Object;" } : Jvm.MethodName)) ∈ lw_all := lw_g (lw_at lw_m4 58 rfl) rfl
theorem q874 : (Jvm.Cond.sameMethod "java/util/HashMap" "java/util/HashMap" "get" "(Ljava/lang/Object;)Ljava/lang/Object;") ∈ lw_all := lw_g (lw_at lw_m4 59 rfl) rfl
theorem q880 : (Jvm.Cond.declares ({ cls := "java/util/HashMap", name := "getNode", desc := "(Ljava/lang/Object;)Ljava/util/HashMap$Node;" } : Jvm.MethodName)) ∈ lw_tbl := lw_at lw_m4 65 rfl
theorem q882 : (Jvm.Cond.instanceMethod ({ cls := "java/util/HashMap", name := "getNode", desc := "(Ljava/lang/Object;)Ljava/util/HashMap$Node;" } : Jvm.MethodName)) ∈ lw_all := lw_g (lw_at lw_m4 67 rfl) rfl
theorem q883 : (Jvm.Cond.code ({ cls := "java/util/HashMap", name := "getNode", desc := "(Ljava/lang/Object;)Ljava/util/HashMap$Node;" } : Jvm.MethodName) prog_39_method_13_code (8 : Nat) (Option.some (Jvm.ClassFile.FieldType.object "java/util/HashMap$Node"))) ∈ lw_all := lw_g (lw_at lw_m4 68 rfl) rfl
theorem q884 : (Jvm.Cond.methodLink "java/util/HashMap" (149 : Nat) ({ cls := "java/util/HashMap", name := "hash", desc := "(Ljava/lang/Object;)I" } : Jvm.MethodName)) ∈ lw_all := lw_g (lw_at lw_m4 69 rfl) rfl
theorem q885 : (Jvm.Cond.static ({ cls := "java/util/HashMap", name := "hash", desc := "(Ljava/lang/Object;)I" } : Jvm.MethodName)) ∈ lw_all := lw_g (lw_at lw_m4 70 rfl) rfl
theorem q886 : (Jvm.Cond.code ({ cls := "java/util/HashMap", name := "hash", desc := "(Ljava/lang/Object;)I" } : Jvm.MethodName) prog_39_method_1_code (2 : Nat) (Option.some Jvm.ClassFile.FieldType.int)) ∈ lw_all := lw_g (lw_at lw_m4 71 rfl) rfl
theorem q888 : (Jvm.Cond.methodLink "java/util/HashMap" (1 : Nat) ({ cls := "java/lang/Object", name := "hashCode", desc := "()I" } : Jvm.MethodName)) ∈ lw_all := lw_g (lw_at lw_m4 73 rfl) rfl
theorem q960 : (Jvm.Cond.methodLink "java/util/HashMap" (173 : Nat) ({ cls := "java/lang/Object", name := "equals", desc := "(Ljava/lang/Object;)Z" } : Jvm.MethodName)) ∈ lw_all := lw_g (lw_at lw_m4 145 rfl) rfl
theorem q986 : (Jvm.Cond.classLink "java/util/HashMap" (180 : Nat) "java/util/HashMap$TreeNode") ∈ lw_all := lw_g (lw_at lw_m4 171 rfl) rfl
theorem q987 : (Jvm.Cond.methodLink "java/util/HashMap" (182 : Nat) ({ cls := "java/util/HashMap$TreeNode", name := "getTreeNode", desc := "(ILjava/lang/Object;)Ljava/util/HashMap$TreeNode;" } : Jvm.MethodName)) ∈ lw_all := lw_g (lw_at lw_m4 172 rfl) rfl
theorem q1001 : (Jvm.Cond.static ({ cls := "java/util/HashMap", name := "comparableClassFor", desc := "(Ljava/lang/Object;)Ljava/lang/Class;" } : Jvm.MethodName)) ∈ lw_all := lw_g (lw_at lw_m4 186 rfl) rfl
theorem q1002 : (Jvm.Cond.code ({ cls := "java/util/HashMap", name := "comparableClassFor", desc := "(Ljava/lang/Object;)Ljava/lang/Class;" } : Jvm.MethodName) prog_39_method_2_code (9 : Nat) (Option.some (Jvm.ClassFile.FieldType.object "java/lang/Class"))) ∈ lw_all := lw_g (lw_at lw_m4 187 rfl) rfl
theorem q1003 : (Jvm.Cond.classLink "java/util/HashMap" (7 : Nat) "java/lang/Comparable") ∈ lw_all := lw_g (lw_at lw_m4 188 rfl) rfl
theorem q1004 : (Jvm.Cond.methodLink "java/util/HashMap" (9 : Nat) ({ cls := "java/lang/Object", name := "getClass", desc := "()Ljava/lang/Class;" } : Jvm.MethodName)) ∈ lw_all := lw_g (lw_at lw_m4 189 rfl) rfl
theorem q1005 : (Jvm.Cond.classLink "java/util/HashMap" (13 : Nat) "java/lang/String") ∈ lw_all := lw_g (lw_at lw_m4 190 rfl) rfl
theorem q1007 : (Jvm.Cond.static ({ cls := "java/util/HashMap", name := "compareComparables", desc := "(Ljava/lang/Class;Ljava/lang/Object;Ljava/lang/Object;)I" } : Jvm.MethodName)) ∈ lw_all := lw_g (lw_at lw_m4 192 rfl) rfl
theorem q1008 : (Jvm.Cond.code ({ cls := "java/util/HashMap", name := "compareComparables", desc := "(Ljava/lang/Class;Ljava/lang/Object;Ljava/lang/Object;)I" } : Jvm.MethodName) prog_39_method_3_code (3 : Nat) (Option.some Jvm.ClassFile.FieldType.int)) ∈ lw_all := lw_g (lw_at lw_m4 193 rfl) rfl
theorem q1009 : (Jvm.Cond.interfaceEntry "java/util/HashMap" (30 : Nat)) ∈ lw_tbl := lw_at lw_m4 194 rfl
theorem q1010 : (Jvm.Cond.methodLink "java/util/HashMap" (30 : Nat) ({ cls := "java/lang/Comparable", name := "compareTo", desc := "(Ljava/lang/Object;)I" } : Jvm.MethodName)) ∈ lw_all := lw_g (lw_at lw_m4 195 rfl) rfl
theorem q1209 : (Jvm.Cond.code ({ cls := "java/util/HashMap", name := "get", desc := "(Ljava/lang/Object;)Ljava/lang/Object;" } : Jvm.MethodName) prog_39_method_12_code (3 : Nat) (Option.some (Jvm.ClassFile.FieldType.object "java/lang/Object"))) ∈ lw_all := lw_g (lw_at lw_m5 154 rfl) rfl
theorem q1210 : (Jvm.Cond.methodLink "java/util/HashMap" (158 : Nat) ({ cls := "java/util/HashMap", name := "getNode", desc := "(Ljava/lang/Object;)Ljava/util/HashMap$Node;" } : Jvm.MethodName)) ∈ lw_all := lw_g (lw_at lw_m5 155 rfl) rfl
theorem q1214 : (Jvm.Cond.instanceMethod ({ cls := "java/util/HashMap", name := "put", desc := "(Ljava/lang/Object;Ljava/lang/Object;)Ljava/lang/Object;" } : Jvm.MethodName)) ∈ lw_all := lw_g (lw_at lw_m5 159 rfl) rfl
theorem q1215 : (Jvm.Cond.selects "java/util/HashMap" ({ cls := "java/util/HashMap", name := "put", desc := "(Ljava/lang/Object;Ljava/lang/Object;)Ljava/lang/Object;" } : Jvm.MethodName) ({ cls := "java/util/HashMap", name := "put", desc := "(Ljava/lang/Object;Ljava/lang/Object;)Ljava/lang/Object;" } : Jvm.MethodName)) ∈ lw_all := lw_g (lw_at lw_m5 160 rfl) rfl
theorem q1216 : (Jvm.Cond.sameMethod "java/util/HashMap" "java/util/HashMap" "put" "(Ljava/lang/Object;Ljava/lang/Object;)Ljava/lang/Object;") ∈ lw_all := lw_g (lw_at lw_m5 161 rfl) rfl
theorem q1218 : (Jvm.Cond.code ({ cls := "java/util/HashMap", name := "put", desc := "(Ljava/lang/Object;Ljava/lang/Object;)Ljava/lang/Object;" } : Jvm.MethodName) prog_39_method_15_code (3 : Nat) (Option.some (Jvm.ClassFile.FieldType.object "java/lang/Object"))) ∈ lw_all := lw_g (lw_at lw_m5 163 rfl) rfl
theorem q1219 : (Jvm.Cond.methodLink "java/util/HashMap" (152 : Nat) ({ cls := "java/util/HashMap", name := "putVal", desc := "(ILjava/lang/Object;Ljava/lang/Object;ZZ)Ljava/lang/Object;" } : Jvm.MethodName)) ∈ lw_all := lw_g (lw_at lw_m5 164 rfl) rfl
theorem q1220 : (Jvm.Cond.instanceMethod ({ cls := "java/util/HashMap", name := "putVal", desc := "(ILjava/lang/Object;Ljava/lang/Object;ZZ)Ljava/lang/Object;" } : Jvm.MethodName)) ∈ lw_all := lw_g (lw_at lw_m5 165 rfl) rfl
theorem q1221 : (Jvm.Cond.selects "java/util/HashMap" ({ cls := "java/util/HashMap", name := "putVal", desc := "(ILjava/lang/Object;Ljava/lang/Object;ZZ)Ljava/lang/Object;" } : Jvm.MethodName) ({ cls := "java/util/HashMap", name := "putVal", desc := "(ILjava/lang/Object;Ljava/lang/Object;ZZ)Ljava/lang/Object;" } : Jvm.MethodName)) ∈ lw_all := lw_g (lw_at lw_m5 166 rfl) rfl
theorem q1222 : (Jvm.Cond.sameMethod "java/util/HashMap" "java/util/HashMap" "putVal" "(ILjava/lang/Object;Ljava/lang/Object;ZZ)Ljava/lang/Object;") ∈ lw_all := lw_g (lw_at lw_m5 167 rfl) rfl
theorem q1224 : (Jvm.Cond.code ({ cls := "java/util/HashMap", name := "putVal", desc := "(ILjava/lang/Object;Ljava/lang/Object;ZZ)Ljava/lang/Object;" } : Jvm.MethodName) prog_39_method_16_code (13 : Nat) (Option.some (Jvm.ClassFile.FieldType.object "java/lang/Object"))) ∈ lw_all := lw_g (lw_at lw_m5 169 rfl) rfl
theorem q1225 : (Jvm.Cond.methodLink "java/util/HashMap" (117 : Nat) ({ cls := "java/util/HashMap", name := "resize", desc := "()[Ljava/util/HashMap$Node;" } : Jvm.MethodName)) ∈ lw_all := lw_g (lw_at lw_m5 170 rfl) rfl
theorem q1226 : (Jvm.Cond.instanceMethod ({ cls := "java/util/HashMap", name := "resize", desc := "()[Ljava/util/HashMap$Node;" } : Jvm.MethodName)) ∈ lw_all := lw_g (lw_at lw_m5 171 rfl) rfl
theorem q1227 : (Jvm.Cond.selects "java/util/HashMap" ({ cls := "java/util/HashMap", name := "resize", desc := "()[Ljava/util/HashMap$Node;" } : Jvm.MethodName) ({ cls := "java/util/HashMap", name := "resize", desc := "()[Ljava/util/HashMap$Node;" } : Jvm.MethodName)) ∈ lw_all := lw_g (lw_at lw_m5 172 rfl) rfl
theorem q1228 : (Jvm.Cond.sameMethod "java/util/HashMap" "java/util/HashMap" "resize" "()[Ljava/util/HashMap$Node;") ∈ lw_all := lw_g (lw_at lw_m5 173 rfl) rfl
theorem q1230 : (Jvm.Cond.code ({ cls := "java/util/HashMap", name := "resize", desc := "()[Ljava/util/HashMap$Node;" } : Jvm.MethodName) prog_39_method_17_code (14 : Nat) (Option.some (Jvm.ClassFile.FieldType.array (Jvm.ClassFile.FieldType.object "java/util/HashMap$Node")))) ∈ lw_all := lw_g (lw_at lw_m5 175 rfl) rfl
theorem q1231 : (Jvm.Cond.constant "java/util/HashMap" (42 : Nat) (1073741824 : Int32)) ∈ lw_all := lw_g (lw_at lw_m5 176 rfl) rfl
theorem q1232 : (Jvm.Cond.constant "java/util/HashMap" (209 : Nat) (2147483647 : Int32)) ∈ lw_all := lw_g (lw_at lw_m5 177 rfl) rfl
theorem q1233 : (Jvm.Cond.constantFloat "java/util/HashMap" (210 : Nat) (1317011456 : UInt32)) ∈ lw_all := lw_g (lw_at lw_m5 178 rfl) rfl
theorem q1234 : (Jvm.Cond.classLink "java/util/HashMap" (163 : Nat) "java/util/HashMap$Node") ∈ lw_all := lw_g (lw_at lw_m5 179 rfl) rfl
theorem q1236 : (Jvm.Cond.methodLink "java/util/HashMap" (211 : Nat) ({ cls := "java/util/HashMap$TreeNode", name := "split", desc := "(Ljava/util/HashMap;[Ljava/util/HashMap$Node;II)V" } : Jvm.MethodName)) ∈ lw_all := lw_g (lw_at lw_m5 181 rfl) rfl
theorem q1246 : (Jvm.Cond.instanceMethod ({ cls := "java/util/HashMap", name := "replacementNode", desc := "(Ljava/util/HashMap$Node;Ljava/util/HashMap$Node;)Ljava/util/HashMap$Node;" } : Jvm.MethodName)) ∈ lw_all := lw_g (lw_at lw_m5 191 rfl) rfl
theorem q1247 : (Jvm.Cond.selects "java/util/HashMap" ({ cls := "java/util/HashMap", name := "replacementNode", desc := "(Ljava/util/HashMap$Node;Ljava/util/HashMap$Node;)Ljava/util/HashMap$Node;" } : Jvm.MethodName) ({ cls := "java/util/HashMap", name := "replacementNode", desc := "(Ljava/util/HashMap$Node;Ljava/util/HashMap$Node;)Ljava/util/HashMap$Node;" } : Jvm.MethodName)) ∈ lw_all := lw_g (lw_at lw_m5 192 rfl) rfl
theorem q1248 : (Jvm.Cond.sameMethod "java/util/HashMap" "java/util/HashMap" "replacementNode" "(Ljava/util/HashMap$Node;Ljava/util/HashMap$Node;)Ljava/util/HashMap$Node;") ∈ lw_all := lw_g (lw_at lw_m5 193 rfl) rfl
theorem q1269 : (Jvm.Cond.fieldLink "java/util/HashMap" (168 : Nat) "java/util/HashMap$Node" "hash" "I") ∈ lw_all := lw_g (lw_at lw_m5 214 rfl) rfl
theorem q1276 : (Jvm.Cond.fieldLink "java/util/HashMap" (170 : Nat) "java/util/HashMap$Node" "key" "Ljava/lang/Object;") ∈ lw_all := lw_g (lw_at lw_m5 221 rfl) rfl
theorem q1280 : (Jvm.Cond.fieldLink "java/util/HashMap" (162 : Nat) "java/util/HashMap$Node" "value" "Ljava/lang/Object;") ∈ lw_all := lw_g (lw_at lw_m5 225 rfl) rfl
theorem q1287 : (Jvm.Cond.fieldLink "java/util/HashMap" (177 : Nat) "java/util/HashMap$Node" "next" "Ljava/util/HashMap$Node;") ∈ lw_all := lw_g (lw_at lw_m5 232 rfl) rfl
theorem q1288 : (Jvm.Cond.fieldLink "java/util/HashMap" (223 : Nat) "java/util/HashMap$TreeNode" "next" "Ljava/util/HashMap$Node;") ∈ lw_all := lw_g (lw_at lw_m5 233 rfl) rfl
theorem q1307 : (Jvm.Cond.code ({ cls := "java/util/HashMap", name := "replacementNode", desc := "(Ljava/util/HashMap$Node;Ljava/util/HashMap$Node;)Ljava/util/HashMap$Node;" } : Jvm.MethodName) prog_39_method_47_code (3 : Nat) (Option.some (Jvm.ClassFile.FieldType.object "java/util/HashMap$Node"))) ∈ lw_all := lw_g (lw_at lw_m6 12 rfl) rfl
theorem q1309 : (Jvm.Cond.methodLink "java/util/HashMap" (375 : Nat) ({ cls := "java/util/HashMap$Node", name := "<init>", desc := "(ILjava/lang/Object;Ljava/lang/Object;Ljava/util/HashMap$Node;)V" } : Jvm.MethodName)) ∈ lw_all := lw_g (lw_at lw_m6 14 rfl) rfl
theorem q1333 : (Jvm.Cond.methodLink "java/util/HashMap" (186 : Nat) ({ cls := "java/util/HashMap", name := "newNode", desc := "(ILjava/lang/Object;Ljava/lang/Object;Ljava/util/HashMap$Node;)Ljava/util/HashMap$Node;" } : Jvm.MethodName)) ∈ lw_all := lw_g (lw_at lw_m6 38 rfl) rfl
theorem q1334 : (Jvm.Cond.instanceMethod ({ cls := "java/util/HashMap", name := "newNode", desc := "(ILjava/lang/Object;Ljava/lang/Object;Ljava/util/HashMap$Node;)Ljava/util/HashMap$Node;" } : Jvm.MethodName)) ∈ lw_all := lw_g (lw_at lw_m6 39 rfl) rfl
theorem q1335 : (Jvm.Cond.selects "java/util/HashMap" ({ cls := "java/util/HashMap", name := "newNode", desc := "(ILjava/lang/Object;Ljava/lang/Object;Ljava/util/HashMap$Node;)Ljava/util/HashMap$Node;" } : Jvm.MethodName) ({ cls := "java/util/HashMap", name := "newNode", desc := "(ILjava/lang/Object;Ljava/lang/Object;Ljava/util/HashMap$Node;)Ljava/util/HashMap$Node;" } : Jvm.MethodName)) ∈ lw_all := lw_g (lw_at lw_m6 40 rfl) rfl
theorem q1336 : (Jvm.Cond.sameMethod "java/util/HashMap" "java/util/HashMap" "newNode" "(ILjava/lang/Object;Ljava/lang/Object;Ljava/util/HashMap$Node;)Ljava/util/HashMap$Node;") ∈ lw_all := lw_g (lw_at lw_m6 41 rfl) rfl
theorem q1344 : (Jvm.Cond.code ({ cls := "java/util/HashMap", name := "newNode", desc := "(ILjava/lang/Object;Ljava/lang/Object;Ljava/util/HashMap$Node;)Ljava/util/HashMap$Node;" } : Jvm.MethodName) prog_39_method_46_code (5 : Nat) (Option.some (Jvm.ClassFile.FieldType.object "java/util/HashMap$Node"))) ∈ lw_all := lw_g (lw_at lw_m6 49 rfl) rfl
theorem q1345 : (Jvm.Cond.methodLink "java/util/HashMap" (190 : Nat) ({ cls := "java/util/HashMap$TreeNode", name := "putTreeVal", desc := "(Ljava/util/HashMap;[Ljava/util/HashMap$Node;ILjava/lang/Object;Ljava/lang/Object;)Ljava/util/HashMap$TreeNode;" } : Jvm.MethodName)) ∈ lw_all := lw_g (lw_at lw_m6 50 rfl) rfl
theorem q1350 : (Jvm.Cond.instanceMethod ({ cls := "java/util/HashMap", name := "newTreeNode", desc := "(ILjava/lang/Object;Ljava/lang/Object;Ljava/util/HashMap$Node;)Ljava/util/HashMap$TreeNode;" } : Jvm.MethodName)) ∈ lw_all := lw_g (lw_at lw_m6 55 rfl) rfl
theorem q1351 : (Jvm.Cond.selects "java/util/HashMap" ({ cls := "java/util/HashMap", name := "newTreeNode", desc := "(ILjava/lang/Object;Ljava/lang/Object;Ljava/util/HashMap$Node;)Ljava/util/HashMap$TreeNode;" } : Jvm.MethodName) ({ cls := "java/util/HashMap", name := "newTreeNode", desc := "(ILjava/lang/Object;Ljava/lang/Object;Ljava/util/HashMap$Node;)Ljava/util/HashMap$TreeNode;" } : Jvm.MethodName)) ∈ lw_all := lw_g (lw_at lw_m6 56 rfl) rfl
theorem q1352 : (Jvm.Cond.sameMethod "java/util/HashMap" "java/util/HashMap" "newTreeNode" "(ILjava/lang/Object;Ljava/lang/Object;Ljava/util/HashMap$Node;)Ljava/util/HashMap$TreeNode;") ∈ lw_all := lw_g (lw_at lw_m6 57 rfl) rfl
theorem q1366 : (Jvm.Cond.fieldLink "java/util/HashMap" (219 : Nat) "java/util/HashMap$TreeNode" "prev" "Ljava/util/HashMap$TreeNode;") ∈ lw_all := lw_g (lw_at lw_m6 71 rfl) rfl
theorem q1385 : (Jvm.Cond.code ({ cls := "java/util/HashMap", name := "newTreeNode", desc := "(ILjava/lang/Object;Ljava/lang/Object;Ljava/util/HashMap$Node;)Ljava/util/HashMap$TreeNode;" } : Jvm.MethodName) prog_39_method_48_code (5 : Nat) (Option.some (Jvm.ClassFile.FieldType.object "java/util/HashMap$TreeNode"))) ∈ lw_all := lw_g (lw_at lw_m6 90 rfl) rfl
theorem q1386 : (Jvm.Cond.methodLink "java/util/HashMap" (378 : Nat) ({ cls := "java/util/HashMap$TreeNode", name := "<init>", desc := "(ILjava/lang/Object;Ljava/lang/Object;Ljava/util/HashMap$Node;)V" } : Jvm.MethodName)) ∈ lw_all := lw_g (lw_at lw_m6 91 rfl) rfl
theorem q1387 : (Jvm.Cond.methodLink "java/util/HashMap" (194 : Nat) ({ cls := "java/util/HashMap", name := "treeifyBin", desc := "([Ljava/util/HashMap$Node;I)V" } : Jvm.MethodName)) ∈ lw_all := lw_g (lw_at lw_m6 92 rfl) rfl
theorem q1388 : (Jvm.Cond.instanceMethod ({ cls := "java/util/HashMap", name := "treeifyBin", desc := "([Ljava/util/HashMap$Node;I)V" } : Jvm.MethodName)) ∈ lw_all := lw_g (lw_at lw_m6 93 rfl) rfl
theorem q1389 : (Jvm.Cond.selects "java/util/HashMap" ({ cls := "java/util/HashMap", name := "treeifyBin", desc := "([Ljava/util/HashMap$Node;I)V" } : Jvm.MethodName) ({ cls := "java/util/HashMap", name := "treeifyBin", desc := "([Ljava/util/HashMap$Node;I)V" } : Jvm.MethodName)) ∈ lw_all := lw_g (lw_at lw_m6 94 rfl) rfl
theorem q1390 : (Jvm.Cond.sameMethod "java/util/HashMap" "java/util/HashMap" "treeifyBin" "([Ljava/util/HashMap$Node;I)V") ∈ lw_all := lw_g (lw_at lw_m6 95 rfl) rfl
theorem q1392 : (Jvm.Cond.code ({ cls := "java/util/HashMap", name := "treeifyBin", desc := "([Ljava/util/HashMap$Node;I)V" } : Jvm.MethodName) prog_39_method_18_code (9 : Nat) (Option.none : Option Jvm.ClassFile.FieldType)) ∈ lw_all := lw_g (lw_at lw_m6 97 rfl) rfl
theorem q1393 : (Jvm.Cond.methodLink "java/util/HashMap" (215 : Nat) ({ cls := "java/util/HashMap", name := "replacementTreeNode", desc := "(Ljava/util/HashMap$Node;Ljava/util/HashMap$Node;)Ljava/util/HashMap$TreeNode;" } : Jvm.MethodName)) ∈ lw_all := lw_g (lw_at lw_m6 98 rfl) rfl
theorem q1394 : (Jvm.Cond.instanceMethod ({ cls := "java/util/HashMap", name := "replacementTreeNode", desc := "(Ljava/util/HashMap$Node;Ljava/util/HashMap$Node;)Ljava/util/HashMap$TreeNode;" } : Jvm.MethodName)) ∈ lw_all := lw_g (lw_at lw_m6 99 rfl) rfl
theorem q1395 : (Jvm.Cond.selects "java/util/HashMap" ({ cls := "java/util/HashMap", name := "replacementTreeNode", desc := "(Ljava/util/HashMap$Node;Ljava/util/HashMap$Node;)Ljava/util/HashMap$TreeNode;" } : Jvm.MethodName) ({ cls := "java/util/HashMap", name := "replacementTreeNode", desc := "(Ljava/util/HashMap$Node;Ljava/util/HashMap$Node;)Ljava/util/HashMap$TreeNode;" } : Jvm.MethodName)) ∈ lw_all := lw_g (lw_at lw_m6 100 rfl) rfl
theorem q1396 : (Jvm.Cond.sameMethod "java/util/HashMap" "java/util/HashMap" "replacementTreeNode" "(Ljava/util/HashMap$Node;Ljava/util/HashMap$Node;)Ljava/util/HashMap$TreeNode;") ∈ lw_all := lw_g (lw_at lw_m6 101 rfl) rfl
theorem q1400 : (Jvm.Cond.code ({ cls := "java/util/HashMap", name := "replacementTreeNode", desc := "(Ljava/util/HashMap$Node;Ljava/util/HashMap$Node;)Ljava/util/HashMap$TreeNode;" } : Jvm.MethodName) prog_39_method_49_code (3 : Nat) (Option.some (Jvm.ClassFile.FieldType.object "java/util/HashMap$TreeNode"))) ∈ lw_all := lw_g (lw_at lw_m6 105 rfl) rfl
theorem q1401 : (Jvm.Cond.methodLink "java/util/HashMap" (224 : Nat) ({ cls := "java/util/HashMap$TreeNode", name := "treeify", desc := "([Ljava/util/HashMap$Node;)V" } : Jvm.MethodName)) ∈ lw_all := lw_g (lw_at lw_m6 106 rfl) rfl
theorem q1402 : (Jvm.Cond.methodLink "java/util/HashMap" (198 : Nat) ({ cls := "java/util/HashMap", name := "afterNodeAccess", desc := "(Ljava/util/HashMap$Node;)V" } : Jvm.MethodName)) ∈ lw_all := lw_g (lw_at lw_m6 107 rfl) rfl
theorem q1403 : (Jvm.Cond.instanceMethod ({ cls := "java/util/HashMap", name := "afterNodeAccess", desc := "(Ljava/util/HashMap$Node;)V" } : Jvm.MethodName)) ∈ lw_all := lw_g (lw_at lw_m6 108 rfl) rfl
theorem q1404 : (Jvm.Cond.selects "java/util/HashMap" ({ cls := "java/util/HashMap", name := "afterNodeAccess", desc := "(Ljava/util/HashMap$Node;)V" } : Jvm.MethodName) ({ cls := "java/util/HashMap", name := "afterNodeAccess", desc := "(Ljava/util/HashMap$Node;)V" } : Jvm.MethodName)) ∈ lw_all := lw_g (lw_at lw_m6 109 rfl) rfl
theorem q1405 : (Jvm.Cond.sameMethod "java/util/HashMap" "java/util/HashMap" "afterNodeAccess" "(Ljava/util/HashMap$Node;)V") ∈ lw_all := lw_g (lw_at lw_m6 110 rfl) rfl
theorem q1407 : (Jvm.Cond.code ({ cls := "java/util/HashMap", name := "afterNodeAccess", desc := "(Ljava/util/HashMap$Node;)V" } : Jvm.MethodName) prog_39_method_51_code (2 : Nat) (Option.none : Option Jvm.ClassFile.FieldType)) ∈ lw_all := lw_g (lw_at lw_m6 112 rfl) rfl
theorem q1408 : (Jvm.Cond.methodLink "java/util/HashMap" (205 : Nat) ({ cls := "java/util/HashMap", name := "afterNodeInsertion", desc := "(Z)V" } : Jvm.MethodName)) ∈ lw_all := lw_g (lw_at lw_m6 113 rfl) rfl
theorem q1409 : (Jvm.Cond.instanceMethod ({ cls := "java/util/HashMap", name := "afterNodeInsertion", desc := "(Z)V" } : Jvm.MethodName)) ∈ lw_all := lw_g (lw_at lw_m6 114 rfl) rfl
theorem q1410 : (Jvm.Cond.selects "java/util/HashMap" ({ cls := "java/util/HashMap", name := "afterNodeInsertion", desc := "(Z)V" } : Jvm.MethodName) ({ cls := "java/util/HashMap", name := "afterNodeInsertion", desc := "(Z)V" } : Jvm.MethodName)) ∈ lw_all := lw_g (lw_at lw_m6 115 rfl) rfl
theorem q1411 : (Jvm.Cond.sameMethod "java/util/HashMap" "java/util/HashMap" "afterNodeInsertion" "(Z)V") ∈ lw_all := lw_g (lw_at lw_m6 116 rfl) rfl
theorem q1419 : (Jvm.Cond.code ({ cls := "java/util/HashMap", name := "afterNodeInsertion", desc := "(Z)V" } : Jvm.MethodName) prog_39_method_52_code (2 : Nat) (Option.none : Option Jvm.ClassFile.FieldType)) ∈ lw_all := lw_g (lw_at lw_m6 124 rfl) rfl
theorem q1433 : (Jvm.Cond.instanceMethod ({ cls := "java/util/HashMap", name := "containsKey", desc := "(Ljava/lang/Object;)Z" } : Jvm.MethodName)) ∈ lw_all := lw_g (lw_at lw_m6 138 rfl) rfl
theorem q1434 : (Jvm.Cond.selects "java/util/HashMap" ({ cls := "java/util/HashMap", name := "containsKey", desc := "(Ljava/lang/Object;)Z" } : Jvm.MethodName) ({ cls := "java/util/HashMap", name := "containsKey", desc := "(Ljava/lang/Object;)Z" } : Jvm.MethodName)) ∈ lw_all := lw_g (lw_at lw_m6 139 rfl) rfl
theorem q1435 : (Jvm.Cond.sameMethod "java/util/HashMap" "java/util/HashMap" "containsKey" "(Ljava/lang/Object;)Z") ∈ lw_all := lw_g (lw_at lw_m6 140 rfl) rfl
theorem q1437 : (Jvm.Cond.code ({ cls := "java/util/HashMap", name := "containsKey", desc := "(Ljava/lang/Object;)Z" } : Jvm.MethodName) prog_39_method_14_code (2 : Nat) (Option.some Jvm.ClassFile.FieldType.boolean)) ∈ lw_all := lw_g (lw_at lw_m6 142 rfl) rfl
theorem q1974 : (Jvm.Cond.declares ({ cls := "java/util/HashMap", name := "put", desc := "(Ljava/lang/Object;Ljava/lang/Object;)Ljava/lang/Object;" } : Jvm.MethodName)) ∈ lw_tbl := lw_at lw_m8 199 rfl
theorem q1978 : (Jvm.Cond.declares ({ cls := "java/util/HashMap", name := "size", desc := "()I" } : Jvm.MethodName)) ∈ lw_tbl := lw_at lw_m8 203 rfl
theorem q1980 : (Jvm.Cond.instanceMethod ({ cls := "java/util/HashMap", name := "size", desc := "()I" } : Jvm.MethodName)) ∈ lw_all := lw_g (lw_at lw_m8 205 rfl) rfl
theorem q1981 : (Jvm.Cond.code ({ cls := "java/util/HashMap", name := "size", desc := "()I" } : Jvm.MethodName) prog_39_method_10_code (1 : Nat) (Option.some Jvm.ClassFile.FieldType.int)) ∈ lw_all := lw_g (lw_at lw_m8 206 rfl) rfl
theorem q2053 : (Jvm.Cond.instanceMethod ({ cls := "java/util/HashMap", name := "keySet", desc := "()Ljava/util/Set;" } : Jvm.MethodName)) ∈ lw_all := lw_g (lw_at lw_m9 38 rfl) rfl
theorem q2054 : (Jvm.Cond.selects "java/util/HashMap" ({ cls := "java/util/HashMap", name := "keySet", desc := "()Ljava/util/Set;" } : Jvm.MethodName) ({ cls := "java/util/HashMap", name := "keySet", desc := "()Ljava/util/Set;" } : Jvm.MethodName)) ∈ lw_all := lw_g (lw_at lw_m9 39 rfl) rfl
theorem q2055 : (Jvm.Cond.sameMethod "java/util/HashMap" "java/util/HashMap" "keySet" "()Ljava/util/Set;") ∈ lw_all := lw_g (lw_at lw_m9 40 rfl) rfl
theorem q2057 : (Jvm.Cond.code ({ cls := "java/util/HashMap", name := "keySet", desc := "()Ljava/util/Set;" } : Jvm.MethodName) prog_39_method_24_code (2 : Nat) (Option.some (Jvm.ClassFile.FieldType.object "java/util/Set"))) ∈ lw_all := lw_g (lw_at lw_m9 42 rfl) rfl
theorem q2058 : (Jvm.Cond.classLink "java/util/HashMap" (243 : Nat) "java/util/HashMap$KeySet") ∈ lw_all := lw_g (lw_at lw_m9 43 rfl) rfl
theorem q2060 : (Jvm.Cond.methodLink "java/util/HashMap" (245 : Nat) ({ cls := "java/util/HashMap$KeySet", name := "<init>", desc := "(Ljava/util/HashMap;)V" } : Jvm.MethodName)) ∈ lw_all := lw_g (lw_at lw_m9 45 rfl) rfl
theorem q2789 : (Jvm.Cond.sameMethod "java/util/HashMap" "java/util/HashMap" "getNode" "(Ljava/lang/Object;)Ljava/util/HashMap$Node;") ∈ lw_all := lw_g (lw_at lw_m12 54 rfl) rfl
theorem q2790 : (Jvm.Cond.selects "java/util/HashMap" ({ cls := "java/util/HashMap", name := "getNode", desc := "(Ljava/lang/Object;)Ljava/util/HashMap$Node;" } : Jvm.MethodName) ({ cls := "java/util/HashMap", name := "getNode", desc := "(Ljava/lang/Object;)Ljava/util/HashMap$Node;" } : Jvm.MethodName)) ∈ lw_all := lw_g (lw_at lw_m12 55 rfl) rfl
theorem q2811 : (Jvm.Cond.castable "java/util/HashMap" "java/lang/Object") ∈ lw_tbl := lw_at lw_m12 76 rfl
theorem in_J14 : ∀ w ∈ wsJ140, w ∈ lw_all := lw_in wsJ140 [824, 826, 812, 814, 816, 818, 820, 822] (by decide +kernel) (by decide +kernel)

/-! java/util/AbstractSet -/
set_option maxRecDepth 100000
def RJ15 : String := "java/util/AbstractSet"
abbrev cJ15_init : ByteArray := prog_35_method_1_code
def yJ15_init : MethodName := ⟨RJ15, "<init>", "()V"⟩
theorem dJ15_init_0 : decode cJ15_init 0 = .ok (.aload_n 0, 1) := by decide +kernel
theorem dJ15_init_1 : decode cJ15_init 1 = .ok (.invokespecial 1, 3) := by decide +kernel
theorem dJ15_init_4 : decode cJ15_init 4 = .ok (.return_, 1) := by decide +kernel
theorem q119 : (Jvm.Cond.initialized "java/util/AbstractSet") ∈ lw_all := lw_g (lw_at lw_m1 24 rfl) rfl
theorem q835 : (Jvm.Cond.instanceMethod ({ cls := "java/util/AbstractSet", name := "<init>", desc := "()V" } : Jvm.MethodName)) ∈ lw_all := lw_g (lw_at lw_m4 20 rfl) rfl
theorem q836 : (Jvm.Cond.code ({ cls := "java/util/AbstractSet", name := "<init>", desc := "()V" } : Jvm.MethodName) prog_35_method_1_code (1 : Nat) (Option.none : Option Jvm.ClassFile.FieldType)) ∈ lw_all := lw_g (lw_at lw_m4 21 rfl) rfl
theorem q837 : (Jvm.Cond.methodLink "java/util/AbstractSet" (1 : Nat) ({ cls := "java/util/AbstractCollection", name := "<init>", desc := "()V" } : Jvm.MethodName)) ∈ lw_all := lw_g (lw_at lw_m4 22 rfl) rfl

/-! java/util/HashSet -/
set_option maxRecDepth 100000
def RJ16 : String := "java/util/HashSet"
def TJ16 : u_T := fun k => match k with
  | _ => ("java/util/HashSet", "map", "Ljava/util/HashMap;", false)
def tyJ16 : Nat → FieldType := fun k => match k with
  | _ => .object "java/util/HashMap"
abbrev wsJ160 : List Cond := u_ws RJ16 TJ16 1
theorem nmJ16 : ∀ a, a < 1 → ∀ b, b < 1 → a ≠ b → (TJ16 a).2.1 ≠ (TJ16 b).2.1 := by decide +kernel
theorem tyJ16_ok : ∀ k, k < 1 → parseFieldDescriptor (TJ16 k).2.2.1 = some (tyJ16 k) := by decide +kernel
abbrev cJ16_init : ByteArray := prog_45_method_1_code
def yJ16_init : MethodName := ⟨RJ16, "<init>", "()V"⟩
def dkwJ16_init_0 : List UInt8 := [42, 183, 0, 1, 42, 187, 0, 7, 89, 183, 0, 9, 181, 0, 10, 177]
abbrev dktJ16_init_0 : List UInt8 := dkwJ16_init_0 ++ []
theorem dksJ16_init_0 : cJ16_init.data.toList.drop 0 = dktJ16_init_0 := by decide +kernel
theorem dJ16_init_0 : decode cJ16_init 0 = .ok (.aload_n 0, 1) := dk_42 (dk_at dksJ16_init_0 0 rfl rfl)
theorem dJ16_init_1 : decode cJ16_init 1 = .ok (.invokespecial 1, 3) := dk_183 0 1 (dk_at dksJ16_init_0 1 rfl rfl)
theorem dJ16_init_4 : decode cJ16_init 4 = .ok (.aload_n 0, 1) := dk_42 (dk_at dksJ16_init_0 4 rfl rfl)
theorem dJ16_init_5 : decode cJ16_init 5 = .ok (.new 7, 3) := dk_187 0 7 (dk_at dksJ16_init_0 5 rfl rfl)
theorem dJ16_init_8 : decode cJ16_init 8 = .ok (.dup, 1) := dk_89 (dk_at dksJ16_init_0 8 rfl rfl)
theorem dJ16_init_9 : decode cJ16_init 9 = .ok (.invokespecial 9, 3) := dk_183 0 9 (dk_at dksJ16_init_0 9 rfl rfl)
theorem dJ16_init_12 : decode cJ16_init 12 = .ok (.putfield 10, 3) := dk_181 0 10 (dk_at dksJ16_init_0 12 rfl rfl)
theorem dJ16_init_15 : decode cJ16_init 15 = .ok (.return_, 1) := dk_177 (dk_at dksJ16_init_0 15 rfl rfl)
abbrev cJ16_add : ByteArray := prog_45_method_10_code
def yJ16_add : MethodName := ⟨RJ16, "add", "(Ljava/lang/Object;)Z"⟩
def dkwJ16_add_0 : List UInt8 := [42, 180, 0, 10, 43, 178, 0, 64, 182, 0, 68, 199, 0, 7, 4, 167, 0, 4, 3, 172]
abbrev dktJ16_add_0 : List UInt8 := dkwJ16_add_0 ++ []
theorem dksJ16_add_0 : cJ16_add.data.toList.drop 0 = dktJ16_add_0 := by decide +kernel
theorem dJ16_add_0 : decode cJ16_add 0 = .ok (.aload_n 0, 1) := dk_42 (dk_at dksJ16_add_0 0 rfl rfl)
theorem dJ16_add_1 : decode cJ16_add 1 = .ok (.getfield 10, 3) := dk_180 0 10 (dk_at dksJ16_add_0 1 rfl rfl)
theorem dJ16_add_4 : decode cJ16_add 4 = .ok (.aload_n 1, 1) := dk_43 (dk_at dksJ16_add_0 4 rfl rfl)
theorem dJ16_add_5 : decode cJ16_add 5 = .ok (.getstatic 64, 3) := dk_178 0 64 (dk_at dksJ16_add_0 5 rfl rfl)
theorem dJ16_add_8 : decode cJ16_add 8 = .ok (.invokevirtual 68, 3) := dk_182 0 68 (dk_at dksJ16_add_0 8 rfl rfl)
theorem dJ16_add_11 : decode cJ16_add 11 = .ok (.ifnonnull 7, 3) := dk_199 0 7 (dk_at dksJ16_add_0 11 rfl rfl)
theorem dJ16_add_14 : decode cJ16_add 14 = .ok (.iconst 1, 1) := dk_4 (dk_at dksJ16_add_0 14 rfl rfl)
theorem dJ16_add_15 : decode cJ16_add 15 = .ok (.goto 4, 3) := dk_167 0 4 (dk_at dksJ16_add_0 15 rfl rfl)
theorem dJ16_add_18 : decode cJ16_add 18 = .ok (.iconst 0, 1) := dk_3 (dk_at dksJ16_add_0 18 rfl rfl)
theorem dJ16_add_19 : decode cJ16_add 19 = .ok (.ireturn, 1) := dk_172 (dk_at dksJ16_add_0 19 rfl rfl)
abbrev cJ16_contains : ByteArray := prog_45_method_9_code
def yJ16_contains : MethodName := ⟨RJ16, "contains", "(Ljava/lang/Object;)Z"⟩
def dkwJ16_contains_0 : List UInt8 := [42, 180, 0, 10, 43, 182, 0, 60, 172]
abbrev dktJ16_contains_0 : List UInt8 := dkwJ16_contains_0 ++ []
theorem dksJ16_contains_0 : cJ16_contains.data.toList.drop 0 = dktJ16_contains_0 := by decide +kernel
theorem dJ16_contains_0 : decode cJ16_contains 0 = .ok (.aload_n 0, 1) := dk_42 (dk_at dksJ16_contains_0 0 rfl rfl)
theorem dJ16_contains_1 : decode cJ16_contains 1 = .ok (.getfield 10, 3) := dk_180 0 10 (dk_at dksJ16_contains_0 1 rfl rfl)
theorem dJ16_contains_4 : decode cJ16_contains 4 = .ok (.aload_n 1, 1) := dk_43 (dk_at dksJ16_contains_0 4 rfl rfl)
theorem dJ16_contains_5 : decode cJ16_contains 5 = .ok (.invokevirtual 60, 3) := dk_182 0 60 (dk_at dksJ16_contains_0 5 rfl rfl)
theorem dJ16_contains_8 : decode cJ16_contains 8 = .ok (.ireturn, 1) := dk_172 (dk_at dksJ16_contains_0 8 rfl rfl)
abbrev cJ16_iterator : ByteArray := prog_45_method_6_code
def yJ16_iterator : MethodName := ⟨RJ16, "iterator", "()Ljava/util/Iterator;"⟩
def dkwJ16_iterator_0 : List UInt8 := [42, 180, 0, 10, 182, 0, 45, 185, 0, 49, 1, 0, 176]
abbrev dktJ16_iterator_0 : List UInt8 := dkwJ16_iterator_0 ++ []
theorem dksJ16_iterator_0 : cJ16_iterator.data.toList.drop 0 = dktJ16_iterator_0 := by decide +kernel
theorem dJ16_iterator_0 : decode cJ16_iterator 0 = .ok (.aload_n 0, 1) := dk_42 (dk_at dksJ16_iterator_0 0 rfl rfl)
theorem dJ16_iterator_1 : decode cJ16_iterator 1 = .ok (.getfield 10, 3) := dk_180 0 10 (dk_at dksJ16_iterator_0 1 rfl rfl)
theorem dJ16_iterator_4 : decode cJ16_iterator 4 = .ok (.invokevirtual 45, 3) := dk_182 0 45 (dk_at dksJ16_iterator_0 4 rfl rfl)
theorem dJ16_iterator_7 : decode cJ16_iterator 7 = .ok (.invokeinterface 49 1, 5) := by decide +kernel
theorem dJ16_iterator_12 : decode cJ16_iterator 12 = .ok (.areturn, 1) := dk_176 (dk_at dksJ16_iterator_0 12 rfl rfl)
theorem q120 : (Jvm.Cond.initialized "java/util/HashSet") ∈ lw_all := lw_g (lw_at lw_m1 25 rfl) rfl
theorem q563 : (Jvm.Cond.selects "java/util/HashSet" ({ cls := "java/lang/Object", name := "getClass", desc := "()Ljava/lang/Class;" } : Jvm.MethodName) ({ cls := "java/lang/Object", name := "getClass", desc := "()Ljava/lang/Class;" } : Jvm.MethodName)) ∈ lw_all := lw_g (lw_at lw_m2 228 rfl) rfl
theorem q830 : (Jvm.Cond.instantiable "java/util/HashSet" (1 : Nat)) ∈ lw_all := lw_g (lw_at lw_m4 15 rfl) rfl
theorem q832 : (Jvm.Cond.instanceMethod ({ cls := "java/util/HashSet", name := "<init>", desc := "()V" } : Jvm.MethodName)) ∈ lw_all := lw_g (lw_at lw_m4 17 rfl) rfl
theorem q833 : (Jvm.Cond.code ({ cls := "java/util/HashSet", name := "<init>", desc := "()V" } : Jvm.MethodName) prog_45_method_1_code (1 : Nat) (Option.none : Option Jvm.ClassFile.FieldType)) ∈ lw_all := lw_g (lw_at lw_m4 18 rfl) rfl
theorem q834 : (Jvm.Cond.methodLink "java/util/HashSet" (1 : Nat) ({ cls := "java/util/AbstractSet", name := "<init>", desc := "()V" } : Jvm.MethodName)) ∈ lw_all := lw_g (lw_at lw_m4 19 rfl) rfl
theorem q838 : (Jvm.Cond.classLink "java/util/HashSet" (7 : Nat) "java/util/HashMap") ∈ lw_all := lw_g (lw_at lw_m4 23 rfl) rfl
theorem q839 : (Jvm.Cond.methodLink "java/util/HashSet" (9 : Nat) ({ cls := "java/util/HashMap", name := "<init>", desc := "()V" } : Jvm.MethodName)) ∈ lw_all := lw_g (lw_at lw_m4 24 rfl) rfl
theorem q840 : (Jvm.Cond.fieldLink "java/util/HashSet" (10 : Nat) "java/util/HashSet" "map" "Ljava/util/HashMap;") ∈ lw_all := lw_g (lw_at lw_m4 25 rfl) rfl
theorem q841 : (Jvm.Cond.lays "java/util/HashSet" "java/util/HashSet" "map" "Ljava/util/HashMap;") ∈ lw_all := lw_g (lw_at lw_m4 26 rfl) rfl
theorem q842 : (Jvm.Cond.soleField "java/util/HashSet" "map") ∈ lw_all := lw_g (lw_at lw_m4 27 rfl) rfl
theorem q843 : (Jvm.Cond.superclass "java/util/HashSet" "java/util/AbstractSet") ∈ lw_all := lw_g (lw_at lw_m4 28 rfl) rfl
theorem q1421 : (Jvm.Cond.instanceMethod ({ cls := "java/util/HashSet", name := "add", desc := "(Ljava/lang/Object;)Z" } : Jvm.MethodName)) ∈ lw_all := lw_g (lw_at lw_m6 126 rfl) rfl
theorem q1422 : (Jvm.Cond.selects "java/util/HashSet" ({ cls := "java/util/HashSet", name := "add", desc := "(Ljava/lang/Object;)Z" } : Jvm.MethodName) ({ cls := "java/util/HashSet", name := "add", desc := "(Ljava/lang/Object;)Z" } : Jvm.MethodName)) ∈ lw_all := lw_g (lw_at lw_m6 127 rfl) rfl
theorem q1423 : (Jvm.Cond.code ({ cls := "java/util/HashSet", name := "add", desc := "(Ljava/lang/Object;)Z" } : Jvm.MethodName) prog_45_method_10_code (2 : Nat) (Option.some Jvm.ClassFile.FieldType.boolean)) ∈ lw_all := lw_g (lw_at lw_m6 128 rfl) rfl
theorem q1424 : (Jvm.Cond.fieldLink "java/util/HashSet" (64 : Nat) "java/util/HashSet" "PRESENT" "Ljava/lang/Object;") ∈ lw_all := lw_g (lw_at lw_m6 129 rfl) rfl
theorem q1425 : (Jvm.Cond.laysStatic "java/util/HashSet" "PRESENT" "Ljava/lang/Object;") ∈ lw_tbl := lw_at lw_m6 130 rfl
theorem q1426 : (Jvm.Cond.methodLink "java/util/HashSet" (68 : Nat) ({ cls := "java/util/HashMap", name := "put", desc := "(Ljava/lang/Object;Ljava/lang/Object;)Ljava/lang/Object;" } : Jvm.MethodName)) ∈ lw_all := lw_g (lw_at lw_m6 131 rfl) rfl
theorem q1429 : (Jvm.Cond.instanceMethod ({ cls := "java/util/HashSet", name := "contains", desc := "(Ljava/lang/Object;)Z" } : Jvm.MethodName)) ∈ lw_all := lw_g (lw_at lw_m6 134 rfl) rfl
theorem q1430 : (Jvm.Cond.selects "java/util/HashSet" ({ cls := "java/util/HashSet", name := "contains", desc := "(Ljava/lang/Object;)Z" } : Jvm.MethodName) ({ cls := "java/util/HashSet", name := "contains", desc := "(Ljava/lang/Object;)Z" } : Jvm.MethodName)) ∈ lw_all := lw_g (lw_at lw_m6 135 rfl) rfl
theorem q1431 : (Jvm.Cond.code ({ cls := "java/util/HashSet", name := "contains", desc := "(Ljava/lang/Object;)Z" } : Jvm.MethodName) prog_45_method_9_code (2 : Nat) (Option.some Jvm.ClassFile.FieldType.boolean)) ∈ lw_all := lw_g (lw_at lw_m6 136 rfl) rfl
theorem q1432 : (Jvm.Cond.methodLink "java/util/HashSet" (60 : Nat) ({ cls := "java/util/HashMap", name := "containsKey", desc := "(Ljava/lang/Object;)Z" } : Jvm.MethodName)) ∈ lw_all := lw_g (lw_at lw_m6 137 rfl) rfl
theorem q2046 : (Jvm.Cond.castable "java/util/HashSet" "java/util/Set") ∈ lw_tbl := lw_at lw_m9 31 rfl
theorem q2047 : (Jvm.Cond.selects "java/util/HashSet" ({ cls := "java/util/Set", name := "iterator", desc := "()Ljava/util/Iterator;" } : Jvm.MethodName) ({ cls := "java/util/HashSet", name := "iterator", desc := "()Ljava/util/Iterator;" } : Jvm.MethodName)) ∈ lw_all := lw_g (lw_at lw_m9 32 rfl) rfl
theorem q2048 : (Jvm.Cond.unhidden "java/util/HashSet" "iterator" "()Ljava/util/Iterator;") ∈ lw_tbl := lw_at lw_m9 33 rfl
theorem q2049 : (Jvm.Cond.instanceMethod ({ cls := "java/util/HashSet", name := "iterator", desc := "()Ljava/util/Iterator;" } : Jvm.MethodName)) ∈ lw_all := lw_g (lw_at lw_m9 34 rfl) rfl
theorem q2050 : (Jvm.Cond.publicMethod ({ cls := "java/util/HashSet", name := "iterator", desc := "()Ljava/util/Iterator;" } : Jvm.MethodName)) ∈ lw_tbl := lw_at lw_m9 35 rfl
theorem q2051 : (Jvm.Cond.code ({ cls := "java/util/HashSet", name := "iterator", desc := "()Ljava/util/Iterator;" } : Jvm.MethodName) prog_45_method_6_code (1 : Nat) (Option.some (Jvm.ClassFile.FieldType.object "java/util/Iterator"))) ∈ lw_all := lw_g (lw_at lw_m9 36 rfl) rfl
theorem q2052 : (Jvm.Cond.methodLink "java/util/HashSet" (45 : Nat) ({ cls := "java/util/HashMap", name := "keySet", desc := "()Ljava/util/Set;" } : Jvm.MethodName)) ∈ lw_all := lw_g (lw_at lw_m9 37 rfl) rfl
theorem q2068 : (Jvm.Cond.interfaceEntry "java/util/HashSet" (49 : Nat)) ∈ lw_tbl := lw_at lw_m9 53 rfl
theorem q2069 : (Jvm.Cond.methodLink "java/util/HashSet" (49 : Nat) ({ cls := "java/util/Set", name := "iterator", desc := "()Ljava/util/Iterator;" } : Jvm.MethodName)) ∈ lw_all := lw_g (lw_at lw_m9 54 rfl) rfl
theorem q2812 : (Jvm.Cond.castable "java/util/HashSet" "java/lang/Object") ∈ lw_tbl := lw_at lw_m12 77 rfl
theorem in_J16 : ∀ w ∈ wsJ160, w ∈ lw_all := lw_in wsJ160 [841] (by decide +kernel) (by decide +kernel)

/-! java/lang/Number -/
set_option maxRecDepth 100000
def RJ17 : String := "java/lang/Number"
abbrev cJ17_init : ByteArray := prog_22_method_1_code
def yJ17_init : MethodName := ⟨RJ17, "<init>", "()V"⟩
theorem dJ17_init_0 : decode cJ17_init 0 = .ok (.aload_n 0, 1) := by decide +kernel
theorem dJ17_init_1 : decode cJ17_init 1 = .ok (.invokespecial 1, 3) := by decide +kernel
theorem dJ17_init_4 : decode cJ17_init 4 = .ok (.return_, 1) := by decide +kernel
theorem q121 : (Jvm.Cond.initialized "java/lang/Number") ∈ lw_all := lw_g (lw_at lw_m1 26 rfl) rfl
theorem q864 : (Jvm.Cond.instanceMethod ({ cls := "java/lang/Number", name := "<init>", desc := "()V" } : Jvm.MethodName)) ∈ lw_all := lw_g (lw_at lw_m4 49 rfl) rfl
theorem q865 : (Jvm.Cond.code ({ cls := "java/lang/Number", name := "<init>", desc := "()V" } : Jvm.MethodName) prog_22_method_1_code (1 : Nat) (Option.none : Option Jvm.ClassFile.FieldType)) ∈ lw_all := lw_g (lw_at lw_m4 50 rfl) rfl
theorem q866 : (Jvm.Cond.methodLink "java/lang/Number" (1 : Nat) ({ cls := "java/lang/Object", name := "<init>", desc := "()V" } : Jvm.MethodName)) ∈ lw_all := lw_g (lw_at lw_m4 51 rfl) rfl

/-! java/lang/Integer -/
set_option maxRecDepth 100000
def RJ18 : String := "java/lang/Integer"
def TJ18 : u_T := fun k => match k with
  | _ => ("java/lang/Integer", "value", "I", true)
def tyJ18 : Nat → FieldType := fun k => match k with
  | _ => .int
abbrev wsJ180 : List Cond := u_ws RJ18 TJ18 1
theorem nmJ18 : ∀ a, a < 1 → ∀ b, b < 1 → a ≠ b → (TJ18 a).2.1 ≠ (TJ18 b).2.1 := by decide +kernel
theorem tyJ18_ok : ∀ k, k < 1 → parseFieldDescriptor (TJ18 k).2.2.1 = some (tyJ18 k) := by decide +kernel
abbrev cJ18_valueOf : ByteArray := prog_17_method_22_code
def yJ18_valueOf : MethodName := ⟨RJ18, "valueOf", "(I)Ljava/lang/Integer;"⟩
def dkwJ18_valueOf_1 : List UInt8 := [187, 0, 1, 89, 26, 183, 0, 199, 176]
abbrev dktJ18_valueOf_1 : List UInt8 := dkwJ18_valueOf_1 ++ []
def dkwJ18_valueOf_0 : List UInt8 := [26, 16, 128, 161, 0, 20, 26, 178, 0, 191, 163, 0, 13, 178, 0, 195, 26, 17, 0, 128, 96, 50, 176]
abbrev dktJ18_valueOf_0 : List UInt8 := dkwJ18_valueOf_0 ++ dktJ18_valueOf_1
theorem dksJ18_valueOf_0 : cJ18_valueOf.data.toList.drop 0 = dktJ18_valueOf_0 := by decide +kernel
theorem dksJ18_valueOf_1 : cJ18_valueOf.data.toList.drop 23 = dktJ18_valueOf_1 := dk_seg dksJ18_valueOf_0 23 rfl rfl
theorem dJ18_valueOf_0 : decode cJ18_valueOf 0 = .ok (.iload_n 0, 1) := dk_26 (dk_at dksJ18_valueOf_0 0 rfl rfl)
theorem dJ18_valueOf_1 : decode cJ18_valueOf 1 = .ok (.bipush (-128), 2) := dk_16 128 (dk_at dksJ18_valueOf_0 1 rfl rfl)
theorem dJ18_valueOf_3 : decode cJ18_valueOf 3 = .ok (.if_icmp .lt 20, 3) := dk_161 0 20 (dk_at dksJ18_valueOf_0 3 rfl rfl)
theorem dJ18_valueOf_6 : decode cJ18_valueOf 6 = .ok (.iload_n 0, 1) := dk_26 (dk_at dksJ18_valueOf_0 6 rfl rfl)
theorem dJ18_valueOf_7 : decode cJ18_valueOf 7 = .ok (.getstatic 191, 3) := dk_178 0 191 (dk_at dksJ18_valueOf_0 7 rfl rfl)
theorem dJ18_valueOf_10 : decode cJ18_valueOf 10 = .ok (.if_icmp .gt 13, 3) := dk_163 0 13 (dk_at dksJ18_valueOf_0 10 rfl rfl)
theorem dJ18_valueOf_13 : decode cJ18_valueOf 13 = .ok (.getstatic 195, 3) := dk_178 0 195 (dk_at dksJ18_valueOf_0 13 rfl rfl)
theorem dJ18_valueOf_16 : decode cJ18_valueOf 16 = .ok (.iload_n 0, 1) := dk_26 (dk_at dksJ18_valueOf_0 16 rfl rfl)
theorem dJ18_valueOf_17 : decode cJ18_valueOf 17 = .ok (.sipush 128, 3) := dk_17 0 128 (dk_at dksJ18_valueOf_0 17 rfl rfl)
theorem dJ18_valueOf_20 : decode cJ18_valueOf 20 = .ok (.iadd, 1) := dk_96 (dk_at dksJ18_valueOf_0 20 rfl rfl)
theorem dJ18_valueOf_21 : decode cJ18_valueOf 21 = .ok (.aaload, 1) := dk_50 (dk_at dksJ18_valueOf_0 21 rfl rfl)
theorem dJ18_valueOf_22 : decode cJ18_valueOf 22 = .ok (.areturn, 1) := dk_176 (dk_at dksJ18_valueOf_0 22 rfl rfl)
theorem dJ18_valueOf_23 : decode cJ18_valueOf 23 = .ok (.new 1, 3) := dk_187 0 1 (dk_at dksJ18_valueOf_1 0 rfl rfl)
theorem dJ18_valueOf_26 : decode cJ18_valueOf 26 = .ok (.dup, 1) := dk_89 (dk_at dksJ18_valueOf_1 3 rfl rfl)
theorem dJ18_valueOf_27 : decode cJ18_valueOf 27 = .ok (.iload_n 0, 1) := dk_26 (dk_at dksJ18_valueOf_1 4 rfl rfl)
theorem dJ18_valueOf_28 : decode cJ18_valueOf 28 = .ok (.invokespecial 199, 3) := dk_183 0 199 (dk_at dksJ18_valueOf_1 5 rfl rfl)
theorem dJ18_valueOf_31 : decode cJ18_valueOf 31 = .ok (.areturn, 1) := dk_176 (dk_at dksJ18_valueOf_1 8 rfl rfl)
abbrev cJ18_init : ByteArray := prog_17_method_23_code
def yJ18_init : MethodName := ⟨RJ18, "<init>", "(I)V"⟩
def dkwJ18_init_0 : List UInt8 := [42, 183, 0, 202, 42, 27, 181, 0, 205, 177]
abbrev dktJ18_init_0 : List UInt8 := dkwJ18_init_0 ++ []
theorem dksJ18_init_0 : cJ18_init.data.toList.drop 0 = dktJ18_init_0 := by decide +kernel
theorem dJ18_init_0 : decode cJ18_init 0 = .ok (.aload_n 0, 1) := dk_42 (dk_at dksJ18_init_0 0 rfl rfl)
theorem dJ18_init_1 : decode cJ18_init 1 = .ok (.invokespecial 202, 3) := dk_183 0 202 (dk_at dksJ18_init_0 1 rfl rfl)
theorem dJ18_init_4 : decode cJ18_init 4 = .ok (.aload_n 0, 1) := dk_42 (dk_at dksJ18_init_0 4 rfl rfl)
theorem dJ18_init_5 : decode cJ18_init 5 = .ok (.iload_n 1, 1) := dk_27 (dk_at dksJ18_init_0 5 rfl rfl)
theorem dJ18_init_6 : decode cJ18_init 6 = .ok (.putfield 205, 3) := dk_181 0 205 (dk_at dksJ18_init_0 6 rfl rfl)
theorem dJ18_init_9 : decode cJ18_init 9 = .ok (.return_, 1) := dk_177 (dk_at dksJ18_init_0 9 rfl rfl)
abbrev cJ18_hashCode : ByteArray := prog_17_method_32_code
def yJ18_hashCode : MethodName := ⟨RJ18, "hashCode", "()I"⟩
def dkwJ18_hashCode_0 : List UInt8 := [42, 180, 0, 205, 184, 0, 208, 172]
abbrev dktJ18_hashCode_0 : List UInt8 := dkwJ18_hashCode_0 ++ []
theorem dksJ18_hashCode_0 : cJ18_hashCode.data.toList.drop 0 = dktJ18_hashCode_0 := by decide +kernel
theorem dJ18_hashCode_0 : decode cJ18_hashCode 0 = .ok (.aload_n 0, 1) := dk_42 (dk_at dksJ18_hashCode_0 0 rfl rfl)
theorem dJ18_hashCode_1 : decode cJ18_hashCode 1 = .ok (.getfield 205, 3) := dk_180 0 205 (dk_at dksJ18_hashCode_0 1 rfl rfl)
theorem dJ18_hashCode_4 : decode cJ18_hashCode 4 = .ok (.invokestatic 208, 3) := dk_184 0 208 (dk_at dksJ18_hashCode_0 4 rfl rfl)
theorem dJ18_hashCode_7 : decode cJ18_hashCode 7 = .ok (.ireturn, 1) := dk_172 (dk_at dksJ18_hashCode_0 7 rfl rfl)
abbrev cJ18_hashCode_2 : ByteArray := prog_17_method_33_code
def yJ18_hashCode_2 : MethodName := ⟨RJ18, "hashCode", "(I)I"⟩
theorem dJ18_hashCode_2_0 : decode cJ18_hashCode_2 0 = .ok (.iload_n 0, 1) := by decide +kernel
theorem dJ18_hashCode_2_1 : decode cJ18_hashCode_2 1 = .ok (.ireturn, 1) := by decide +kernel
abbrev cJ18_equals : ByteArray := prog_17_method_34_code
def yJ18_equals : MethodName := ⟨RJ18, "equals", "(Ljava/lang/Object;)Z"⟩
def dkwJ18_equals_1 : List UInt8 := [167, 0, 4, 3, 172, 3, 172]
abbrev dktJ18_equals_1 : List UInt8 := dkwJ18_equals_1 ++ []
def dkwJ18_equals_0 : List UInt8 := [43, 193, 0, 1, 153, 0, 23, 42, 180, 0, 205, 43, 192, 0, 1, 182, 0, 211, 160, 0, 7, 4]
abbrev dktJ18_equals_0 : List UInt8 := dkwJ18_equals_0 ++ dktJ18_equals_1
theorem dksJ18_equals_0 : cJ18_equals.data.toList.drop 0 = dktJ18_equals_0 := by decide +kernel
theorem dksJ18_equals_1 : cJ18_equals.data.toList.drop 22 = dktJ18_equals_1 := dk_seg dksJ18_equals_0 22 rfl rfl
theorem dJ18_equals_0 : decode cJ18_equals 0 = .ok (.aload_n 1, 1) := dk_43 (dk_at dksJ18_equals_0 0 rfl rfl)
theorem dJ18_equals_1 : decode cJ18_equals 1 = .ok (.instanceof 1, 3) := dk_193 0 1 (dk_at dksJ18_equals_0 1 rfl rfl)
theorem dJ18_equals_4 : decode cJ18_equals 4 = .ok (.ifCond .eq 23, 3) := dk_153 0 23 (dk_at dksJ18_equals_0 4 rfl rfl)
theorem dJ18_equals_7 : decode cJ18_equals 7 = .ok (.aload_n 0, 1) := dk_42 (dk_at dksJ18_equals_0 7 rfl rfl)
theorem dJ18_equals_8 : decode cJ18_equals 8 = .ok (.getfield 205, 3) := dk_180 0 205 (dk_at dksJ18_equals_0 8 rfl rfl)
theorem dJ18_equals_11 : decode cJ18_equals 11 = .ok (.aload_n 1, 1) := dk_43 (dk_at dksJ18_equals_0 11 rfl rfl)
theorem dJ18_equals_12 : decode cJ18_equals 12 = .ok (.checkcast 1, 3) := dk_192 0 1 (dk_at dksJ18_equals_0 12 rfl rfl)
theorem dJ18_equals_15 : decode cJ18_equals 15 = .ok (.invokevirtual 211, 3) := dk_182 0 211 (dk_at dksJ18_equals_0 15 rfl rfl)
theorem dJ18_equals_18 : decode cJ18_equals 18 = .ok (.if_icmp .ne 7, 3) := dk_160 0 7 (dk_at dksJ18_equals_0 18 rfl rfl)
theorem dJ18_equals_21 : decode cJ18_equals 21 = .ok (.iconst 1, 1) := dk_4 (dk_at dksJ18_equals_0 21 rfl rfl)
theorem dJ18_equals_22 : decode cJ18_equals 22 = .ok (.goto 4, 3) := dk_167 0 4 (dk_at dksJ18_equals_1 0 rfl rfl)
theorem dJ18_equals_25 : decode cJ18_equals 25 = .ok (.iconst 0, 1) := dk_3 (dk_at dksJ18_equals_1 3 rfl rfl)
theorem dJ18_equals_26 : decode cJ18_equals 26 = .ok (.ireturn, 1) := dk_172 (dk_at dksJ18_equals_1 4 rfl rfl)
theorem dJ18_equals_27 : decode cJ18_equals 27 = .ok (.iconst 0, 1) := dk_3 (dk_at dksJ18_equals_1 5 rfl rfl)
theorem dJ18_equals_28 : decode cJ18_equals 28 = .ok (.ireturn, 1) := dk_172 (dk_at dksJ18_equals_1 6 rfl rfl)
abbrev cJ18_intValue : ByteArray := prog_17_method_27_code
def yJ18_intValue : MethodName := ⟨RJ18, "intValue", "()I"⟩
theorem dJ18_intValue_0 : decode cJ18_intValue 0 = .ok (.aload_n 0, 1) := by decide +kernel
theorem dJ18_intValue_1 : decode cJ18_intValue 1 = .ok (.getfield 205, 3) := by decide +kernel
theorem dJ18_intValue_4 : decode cJ18_intValue 4 = .ok (.ireturn, 1) := by decide +kernel
abbrev cJ18_compareTo : ByteArray := prog_17_method_63_code
def yJ18_compareTo : MethodName := ⟨RJ18, "compareTo", "(Ljava/lang/Object;)I"⟩
def dkwJ18_compareTo_0 : List UInt8 := [42, 43, 192, 0, 1, 182, 1, 28, 172]
abbrev dktJ18_compareTo_0 : List UInt8 := dkwJ18_compareTo_0 ++ []
theorem dksJ18_compareTo_0 : cJ18_compareTo.data.toList.drop 0 = dktJ18_compareTo_0 := by decide +kernel
theorem dJ18_compareTo_0 : decode cJ18_compareTo 0 = .ok (.aload_n 0, 1) := dk_42 (dk_at dksJ18_compareTo_0 0 rfl rfl)
theorem dJ18_compareTo_1 : decode cJ18_compareTo 1 = .ok (.aload_n 1, 1) := dk_43 (dk_at dksJ18_compareTo_0 1 rfl rfl)
theorem dJ18_compareTo_2 : decode cJ18_compareTo 2 = .ok (.checkcast 1, 3) := dk_192 0 1 (dk_at dksJ18_compareTo_0 2 rfl rfl)
theorem dJ18_compareTo_5 : decode cJ18_compareTo 5 = .ok (.invokevirtual 284, 3) := dk_182 1 28 (dk_at dksJ18_compareTo_0 5 rfl rfl)
theorem dJ18_compareTo_8 : decode cJ18_compareTo 8 = .ok (.ireturn, 1) := dk_172 (dk_at dksJ18_compareTo_0 8 rfl rfl)
abbrev cJ18_compareTo_2 : ByteArray := prog_17_method_39_code
def yJ18_compareTo_2 : MethodName := ⟨RJ18, "compareTo", "(Ljava/lang/Integer;)I"⟩
def dkwJ18_compareTo_2_0 : List UInt8 := [42, 180, 0, 205, 43, 180, 0, 205, 184, 1, 3, 172]
abbrev dktJ18_compareTo_2_0 : List UInt8 := dkwJ18_compareTo_2_0 ++ []
theorem dksJ18_compareTo_2_0 : cJ18_compareTo_2.data.toList.drop 0 = dktJ18_compareTo_2_0 := by decide +kernel
theorem dJ18_compareTo_2_0 : decode cJ18_compareTo_2 0 = .ok (.aload_n 0, 1) := dk_42 (dk_at dksJ18_compareTo_2_0 0 rfl rfl)
theorem dJ18_compareTo_2_1 : decode cJ18_compareTo_2 1 = .ok (.getfield 205, 3) := dk_180 0 205 (dk_at dksJ18_compareTo_2_0 1 rfl rfl)
theorem dJ18_compareTo_2_4 : decode cJ18_compareTo_2 4 = .ok (.aload_n 1, 1) := dk_43 (dk_at dksJ18_compareTo_2_0 4 rfl rfl)
theorem dJ18_compareTo_2_5 : decode cJ18_compareTo_2 5 = .ok (.getfield 205, 3) := dk_180 0 205 (dk_at dksJ18_compareTo_2_0 5 rfl rfl)
theorem dJ18_compareTo_2_8 : decode cJ18_compareTo_2 8 = .ok (.invokestatic 259, 3) := dk_184 1 3 (dk_at dksJ18_compareTo_2_0 8 rfl rfl)
theorem dJ18_compareTo_2_11 : decode cJ18_compareTo_2 11 = .ok (.ireturn, 1) := dk_172 (dk_at dksJ18_compareTo_2_0 11 rfl rfl)
abbrev cJ18_compare : ByteArray := prog_17_method_40_code
def yJ18_compare : MethodName := ⟨RJ18, "compare", "(II)I"⟩
def dkwJ18_compare_0 : List UInt8 := [26, 27, 162, 0, 7, 2, 167, 0, 13, 26, 27, 160, 0, 7, 3, 167, 0, 4, 4, 172]
abbrev dktJ18_compare_0 : List UInt8 := dkwJ18_compare_0 ++ []
theorem dksJ18_compare_0 : cJ18_compare.data.toList.drop 0 = dktJ18_compare_0 := by decide +kernel
theorem dJ18_compare_0 : decode cJ18_compare 0 = .ok (.iload_n 0, 1) := dk_26 (dk_at dksJ18_compare_0 0 rfl rfl)
theorem dJ18_compare_1 : decode cJ18_compare 1 = .ok (.iload_n 1, 1) := dk_27 (dk_at dksJ18_compare_0 1 rfl rfl)
theorem dJ18_compare_2 : decode cJ18_compare 2 = .ok (.if_icmp .ge 7, 3) := dk_162 0 7 (dk_at dksJ18_compare_0 2 rfl rfl)
theorem dJ18_compare_5 : decode cJ18_compare 5 = .ok (.iconst (-1), 1) := dk_2 (dk_at dksJ18_compare_0 5 rfl rfl)
theorem dJ18_compare_6 : decode cJ18_compare 6 = .ok (.goto 13, 3) := dk_167 0 13 (dk_at dksJ18_compare_0 6 rfl rfl)
theorem dJ18_compare_9 : decode cJ18_compare 9 = .ok (.iload_n 0, 1) := dk_26 (dk_at dksJ18_compare_0 9 rfl rfl)
theorem dJ18_compare_10 : decode cJ18_compare 10 = .ok (.iload_n 1, 1) := dk_27 (dk_at dksJ18_compare_0 10 rfl rfl)
theorem dJ18_compare_11 : decode cJ18_compare 11 = .ok (.if_icmp .ne 7, 3) := dk_160 0 7 (dk_at dksJ18_compare_0 11 rfl rfl)
theorem dJ18_compare_14 : decode cJ18_compare 14 = .ok (.iconst 0, 1) := dk_3 (dk_at dksJ18_compare_0 14 rfl rfl)
theorem dJ18_compare_15 : decode cJ18_compare 15 = .ok (.goto 4, 3) := dk_167 0 4 (dk_at dksJ18_compare_0 15 rfl rfl)
theorem dJ18_compare_18 : decode cJ18_compare 18 = .ok (.iconst 1, 1) := dk_4 (dk_at dksJ18_compare_0 18 rfl rfl)
theorem dJ18_compare_19 : decode cJ18_compare 19 = .ok (.ireturn, 1) := dk_172 (dk_at dksJ18_compare_0 19 rfl rfl)
abbrev cJ18_numberOfLeadingZeros : ByteArray := prog_17_method_47_code
def yJ18_numberOfLeadingZeros : MethodName := ⟨RJ18, "numberOfLeadingZeros", "(I)I"⟩
def dkwJ18_numberOfLeadingZeros_3 : List UInt8 := [5, 124, 59, 27, 26, 4, 124, 100, 172]
abbrev dktJ18_numberOfLeadingZeros_3 : List UInt8 := dkwJ18_numberOfLeadingZeros_3 ++ []
def dkwJ18_numberOfLeadingZeros_2 : List UInt8 := [124, 59, 26, 16, 16, 161, 0, 10, 132, 1, 252, 26, 7, 124, 59, 26, 7, 161, 0, 10, 132, 1, 254, 26]
abbrev dktJ18_numberOfLeadingZeros_2 : List UInt8 := dkwJ18_numberOfLeadingZeros_2 ++ dktJ18_numberOfLeadingZeros_3
def dkwJ18_numberOfLeadingZeros_1 : List UInt8 := [161, 0, 11, 132, 1, 240, 26, 16, 16, 124, 59, 26, 17, 1, 0, 161, 0, 11, 132, 1, 248, 26, 16, 8]
abbrev dktJ18_numberOfLeadingZeros_1 : List UInt8 := dkwJ18_numberOfLeadingZeros_1 ++ dktJ18_numberOfLeadingZeros_2
def dkwJ18_numberOfLeadingZeros_0 : List UInt8 := [26, 157, 0, 14, 26, 154, 0, 8, 16, 32, 167, 0, 4, 3, 172, 16, 31, 60, 26, 19, 1, 8]
abbrev dktJ18_numberOfLeadingZeros_0 : List UInt8 := dkwJ18_numberOfLeadingZeros_0 ++ dktJ18_numberOfLeadingZeros_1
theorem dksJ18_numberOfLeadingZeros_0 : cJ18_numberOfLeadingZeros.data.toList.drop 0 = dktJ18_numberOfLeadingZeros_0 := by decide +kernel
theorem dksJ18_numberOfLeadingZeros_1 : cJ18_numberOfLeadingZeros.data.toList.drop 22 = dktJ18_numberOfLeadingZeros_1 := dk_seg dksJ18_numberOfLeadingZeros_0 22 rfl rfl
theorem dksJ18_numberOfLeadingZeros_2 : cJ18_numberOfLeadingZeros.data.toList.drop 46 = dktJ18_numberOfLeadingZeros_2 := dk_seg dksJ18_numberOfLeadingZeros_1 24 rfl rfl
theorem dksJ18_numberOfLeadingZeros_3 : cJ18_numberOfLeadingZeros.data.toList.drop 70 = dktJ18_numberOfLeadingZeros_3 := dk_seg dksJ18_numberOfLeadingZeros_2 24 rfl rfl
theorem dJ18_numberOfLeadingZeros_0 : decode cJ18_numberOfLeadingZeros 0 = .ok (.iload_n 0, 1) := dk_26 (dk_at dksJ18_numberOfLeadingZeros_0 0 rfl rfl)
theorem dJ18_numberOfLeadingZeros_1 : decode cJ18_numberOfLeadingZeros 1 = .ok (.ifCond .gt 14, 3) := dk_157 0 14 (dk_at dksJ18_numberOfLeadingZeros_0 1 rfl rfl)
theorem dJ18_numberOfLeadingZeros_4 : decode cJ18_numberOfLeadingZeros 4 = .ok (.iload_n 0, 1) := dk_26 (dk_at dksJ18_numberOfLeadingZeros_0 4 rfl rfl)
theorem dJ18_numberOfLeadingZeros_5 : decode cJ18_numberOfLeadingZeros 5 = .ok (.ifCond .ne 8, 3) := dk_154 0 8 (dk_at dksJ18_numberOfLeadingZeros_0 5 rfl rfl)
theorem dJ18_numberOfLeadingZeros_8 : decode cJ18_numberOfLeadingZeros 8 = .ok (.bipush 32, 2) := dk_16 32 (dk_at dksJ18_numberOfLeadingZeros_0 8 rfl rfl)
theorem dJ18_numberOfLeadingZeros_10 : decode cJ18_numberOfLeadingZeros 10 = .ok (.goto 4, 3) := dk_167 0 4 (dk_at dksJ18_numberOfLeadingZeros_0 10 rfl rfl)
theorem dJ18_numberOfLeadingZeros_13 : decode cJ18_numberOfLeadingZeros 13 = .ok (.iconst 0, 1) := dk_3 (dk_at dksJ18_numberOfLeadingZeros_0 13 rfl rfl)
theorem dJ18_numberOfLeadingZeros_14 : decode cJ18_numberOfLeadingZeros 14 = .ok (.ireturn, 1) := dk_172 (dk_at dksJ18_numberOfLeadingZeros_0 14 rfl rfl)
theorem dJ18_numberOfLeadingZeros_15 : decode cJ18_numberOfLeadingZeros 15 = .ok (.bipush 31, 2) := dk_16 31 (dk_at dksJ18_numberOfLeadingZeros_0 15 rfl rfl)
theorem dJ18_numberOfLeadingZeros_17 : decode cJ18_numberOfLeadingZeros 17 = .ok (.istore_n 1, 1) := dk_60 (dk_at dksJ18_numberOfLeadingZeros_0 17 rfl rfl)
theorem dJ18_numberOfLeadingZeros_18 : decode cJ18_numberOfLeadingZeros 18 = .ok (.iload_n 0, 1) := dk_26 (dk_at dksJ18_numberOfLeadingZeros_0 18 rfl rfl)
theorem dJ18_numberOfLeadingZeros_19 : decode cJ18_numberOfLeadingZeros 19 = .ok (.ldc_w 264, 3) := dk_19 1 8 (dk_at dksJ18_numberOfLeadingZeros_0 19 rfl rfl)
theorem dJ18_numberOfLeadingZeros_22 : decode cJ18_numberOfLeadingZeros 22 = .ok (.if_icmp .lt 11, 3) := dk_161 0 11 (dk_at dksJ18_numberOfLeadingZeros_1 0 rfl rfl)
theorem dJ18_numberOfLeadingZeros_25 : decode cJ18_numberOfLeadingZeros 25 = .ok (.iinc 1 (-16), 3) := dk_132 1 240 (dk_at dksJ18_numberOfLeadingZeros_1 3 rfl rfl)
theorem dJ18_numberOfLeadingZeros_28 : decode cJ18_numberOfLeadingZeros 28 = .ok (.iload_n 0, 1) := dk_26 (dk_at dksJ18_numberOfLeadingZeros_1 6 rfl rfl)
theorem dJ18_numberOfLeadingZeros_29 : decode cJ18_numberOfLeadingZeros 29 = .ok (.bipush 16, 2) := dk_16 16 (dk_at dksJ18_numberOfLeadingZeros_1 7 rfl rfl)
theorem dJ18_numberOfLeadingZeros_31 : decode cJ18_numberOfLeadingZeros 31 = .ok (.iushr, 1) := dk_124 (dk_at dksJ18_numberOfLeadingZeros_1 9 rfl rfl)
theorem dJ18_numberOfLeadingZeros_32 : decode cJ18_numberOfLeadingZeros 32 = .ok (.istore_n 0, 1) := dk_59 (dk_at dksJ18_numberOfLeadingZeros_1 10 rfl rfl)
theorem dJ18_numberOfLeadingZeros_33 : decode cJ18_numberOfLeadingZeros 33 = .ok (.iload_n 0, 1) := dk_26 (dk_at dksJ18_numberOfLeadingZeros_1 11 rfl rfl)
theorem dJ18_numberOfLeadingZeros_34 : decode cJ18_numberOfLeadingZeros 34 = .ok (.sipush 256, 3) := dk_17 1 0 (dk_at dksJ18_numberOfLeadingZeros_1 12 rfl rfl)
theorem dJ18_numberOfLeadingZeros_37 : decode cJ18_numberOfLeadingZeros 37 = .ok (.if_icmp .lt 11, 3) := dk_161 0 11 (dk_at dksJ18_numberOfLeadingZeros_1 15 rfl rfl)
theorem dJ18_numberOfLeadingZeros_40 : decode cJ18_numberOfLeadingZeros 40 = .ok (.iinc 1 (-8), 3) := dk_132 1 248 (dk_at dksJ18_numberOfLeadingZeros_1 18 rfl rfl)
theorem dJ18_numberOfLeadingZeros_43 : decode cJ18_numberOfLeadingZeros 43 = .ok (.iload_n 0, 1) := dk_26 (dk_at dksJ18_numberOfLeadingZeros_1 21 rfl rfl)
theorem dJ18_numberOfLeadingZeros_44 : decode cJ18_numberOfLeadingZeros 44 = .ok (.bipush 8, 2) := dk_16 8 (dk_at dksJ18_numberOfLeadingZeros_1 22 rfl rfl)
theorem dJ18_numberOfLeadingZeros_46 : decode cJ18_numberOfLeadingZeros 46 = .ok (.iushr, 1) := dk_124 (dk_at dksJ18_numberOfLeadingZeros_2 0 rfl rfl)
theorem dJ18_numberOfLeadingZeros_47 : decode cJ18_numberOfLeadingZeros 47 = .ok (.istore_n 0, 1) := dk_59 (dk_at dksJ18_numberOfLeadingZeros_2 1 rfl rfl)
theorem dJ18_numberOfLeadingZeros_48 : decode cJ18_numberOfLeadingZeros 48 = .ok (.iload_n 0, 1) := dk_26 (dk_at dksJ18_numberOfLeadingZeros_2 2 rfl rfl)
theorem dJ18_numberOfLeadingZeros_49 : decode cJ18_numberOfLeadingZeros 49 = .ok (.bipush 16, 2) := dk_16 16 (dk_at dksJ18_numberOfLeadingZeros_2 3 rfl rfl)
theorem dJ18_numberOfLeadingZeros_51 : decode cJ18_numberOfLeadingZeros 51 = .ok (.if_icmp .lt 10, 3) := dk_161 0 10 (dk_at dksJ18_numberOfLeadingZeros_2 5 rfl rfl)
theorem dJ18_numberOfLeadingZeros_54 : decode cJ18_numberOfLeadingZeros 54 = .ok (.iinc 1 (-4), 3) := dk_132 1 252 (dk_at dksJ18_numberOfLeadingZeros_2 8 rfl rfl)
theorem dJ18_numberOfLeadingZeros_57 : decode cJ18_numberOfLeadingZeros 57 = .ok (.iload_n 0, 1) := dk_26 (dk_at dksJ18_numberOfLeadingZeros_2 11 rfl rfl)
theorem dJ18_numberOfLeadingZeros_58 : decode cJ18_numberOfLeadingZeros 58 = .ok (.iconst 4, 1) := dk_7 (dk_at dksJ18_numberOfLeadingZeros_2 12 rfl rfl)
theorem dJ18_numberOfLeadingZeros_59 : decode cJ18_numberOfLeadingZeros 59 = .ok (.iushr, 1) := dk_124 (dk_at dksJ18_numberOfLeadingZeros_2 13 rfl rfl)
theorem dJ18_numberOfLeadingZeros_60 : decode cJ18_numberOfLeadingZeros 60 = .ok (.istore_n 0, 1) := dk_59 (dk_at dksJ18_numberOfLeadingZeros_2 14 rfl rfl)
theorem dJ18_numberOfLeadingZeros_61 : decode cJ18_numberOfLeadingZeros 61 = .ok (.iload_n 0, 1) := dk_26 (dk_at dksJ18_numberOfLeadingZeros_2 15 rfl rfl)
theorem dJ18_numberOfLeadingZeros_62 : decode cJ18_numberOfLeadingZeros 62 = .ok (.iconst 4, 1) := dk_7 (dk_at dksJ18_numberOfLeadingZeros_2 16 rfl rfl)
theorem dJ18_numberOfLeadingZeros_63 : decode cJ18_numberOfLeadingZeros 63 = .ok (.if_icmp .lt 10, 3) := dk_161 0 10 (dk_at dksJ18_numberOfLeadingZeros_2 17 rfl rfl)
theorem dJ18_numberOfLeadingZeros_66 : decode cJ18_numberOfLeadingZeros 66 = .ok (.iinc 1 (-2), 3) := dk_132 1 254 (dk_at dksJ18_numberOfLeadingZeros_2 20 rfl rfl)
theorem dJ18_numberOfLeadingZeros_69 : decode cJ18_numberOfLeadingZeros 69 = .ok (.iload_n 0, 1) := dk_26 (dk_at dksJ18_numberOfLeadingZeros_2 23 rfl rfl)
theorem dJ18_numberOfLeadingZeros_70 : decode cJ18_numberOfLeadingZeros 70 = .ok (.iconst 2, 1) := dk_5 (dk_at dksJ18_numberOfLeadingZeros_3 0 rfl rfl)
theorem dJ18_numberOfLeadingZeros_71 : decode cJ18_numberOfLeadingZeros 71 = .ok (.iushr, 1) := dk_124 (dk_at dksJ18_numberOfLeadingZeros_3 1 rfl rfl)
theorem dJ18_numberOfLeadingZeros_72 : decode cJ18_numberOfLeadingZeros 72 = .ok (.istore_n 0, 1) := dk_59 (dk_at dksJ18_numberOfLeadingZeros_3 2 rfl rfl)
theorem dJ18_numberOfLeadingZeros_73 : decode cJ18_numberOfLeadingZeros 73 = .ok (.iload_n 1, 1) := dk_27 (dk_at dksJ18_numberOfLeadingZeros_3 3 rfl rfl)
theorem dJ18_numberOfLeadingZeros_74 : decode cJ18_numberOfLeadingZeros 74 = .ok (.iload_n 0, 1) := dk_26 (dk_at dksJ18_numberOfLeadingZeros_3 4 rfl rfl)
theorem dJ18_numberOfLeadingZeros_75 : decode cJ18_numberOfLeadingZeros 75 = .ok (.iconst 1, 1) := dk_4 (dk_at dksJ18_numberOfLeadingZeros_3 5 rfl rfl)
theorem dJ18_numberOfLeadingZeros_76 : decode cJ18_numberOfLeadingZeros 76 = .ok (.iushr, 1) := dk_124 (dk_at dksJ18_numberOfLeadingZeros_3 6 rfl rfl)
theorem dJ18_numberOfLeadingZeros_77 : decode cJ18_numberOfLeadingZeros 77 = .ok (.isub, 1) := dk_100 (dk_at dksJ18_numberOfLeadingZeros_3 7 rfl rfl)
theorem dJ18_numberOfLeadingZeros_78 : decode cJ18_numberOfLeadingZeros 78 = .ok (.ireturn, 1) := dk_172 (dk_at dksJ18_numberOfLeadingZeros_3 8 rfl rfl)
abbrev cJ18_numberOfTrailingZeros : ByteArray := prog_17_method_48_code
def yJ18_numberOfTrailingZeros : MethodName := ⟨RJ18, "numberOfTrailingZeros", "(I)I"⟩
def dkwJ18_numberOfTrailingZeros_3 : List UInt8 := [5, 124, 59, 27, 26, 4, 124, 96, 172]
abbrev dktJ18_numberOfTrailingZeros_3 : List UInt8 := dkwJ18_numberOfTrailingZeros_3 ++ []
def dkwJ18_numberOfTrailingZeros_2 : List UInt8 := [124, 59, 26, 16, 16, 164, 0, 10, 132, 1, 4, 26, 7, 124, 59, 26, 7, 164, 0, 10, 132, 1, 2, 26]
abbrev dktJ18_numberOfTrailingZeros_2 : List UInt8 := dkwJ18_numberOfTrailingZeros_2 ++ dktJ18_numberOfTrailingZeros_3
def dkwJ18_numberOfTrailingZeros_1 : List UInt8 := [164, 0, 11, 132, 1, 16, 26, 16, 16, 124, 59, 26, 17, 1, 0, 164, 0, 11, 132, 1, 8, 26, 16, 8]
abbrev dktJ18_numberOfTrailingZeros_1 : List UInt8 := dkwJ18_numberOfTrailingZeros_1 ++ dktJ18_numberOfTrailingZeros_2
def dkwJ18_numberOfTrailingZeros_0 : List UInt8 := [26, 2, 130, 26, 4, 100, 126, 59, 26, 157, 0, 8, 26, 16, 32, 126, 172, 4, 60, 26, 19, 1, 8]
abbrev dktJ18_numberOfTrailingZeros_0 : List UInt8 := dkwJ18_numberOfTrailingZeros_0 ++ dktJ18_numberOfTrailingZeros_1
theorem dksJ18_numberOfTrailingZeros_0 : cJ18_numberOfTrailingZeros.data.toList.drop 0 = dktJ18_numberOfTrailingZeros_0 := by decide +kernel
theorem dksJ18_numberOfTrailingZeros_1 : cJ18_numberOfTrailingZeros.data.toList.drop 23 = dktJ18_numberOfTrailingZeros_1 := dk_seg dksJ18_numberOfTrailingZeros_0 23 rfl rfl
theorem dksJ18_numberOfTrailingZeros_2 : cJ18_numberOfTrailingZeros.data.toList.drop 47 = dktJ18_numberOfTrailingZeros_2 := dk_seg dksJ18_numberOfTrailingZeros_1 24 rfl rfl
theorem dksJ18_numberOfTrailingZeros_3 : cJ18_numberOfTrailingZeros.data.toList.drop 71 = dktJ18_numberOfTrailingZeros_3 := dk_seg dksJ18_numberOfTrailingZeros_2 24 rfl rfl
theorem dJ18_numberOfTrailingZeros_0 : decode cJ18_numberOfTrailingZeros 0 = .ok (.iload_n 0, 1) := dk_26 (dk_at dksJ18_numberOfTrailingZeros_0 0 rfl rfl)
theorem dJ18_numberOfTrailingZeros_1 : decode cJ18_numberOfTrailingZeros 1 = .ok (.iconst (-1), 1) := dk_2 (dk_at dksJ18_numberOfTrailingZeros_0 1 rfl rfl)
theorem dJ18_numberOfTrailingZeros_2 : decode cJ18_numberOfTrailingZeros 2 = .ok (.ixor, 1) := dk_130 (dk_at dksJ18_numberOfTrailingZeros_0 2 rfl rfl)
theorem dJ18_numberOfTrailingZeros_3 : decode cJ18_numberOfTrailingZeros 3 = .ok (.iload_n 0, 1) := dk_26 (dk_at dksJ18_numberOfTrailingZeros_0 3 rfl rfl)
theorem dJ18_numberOfTrailingZeros_4 : decode cJ18_numberOfTrailingZeros 4 = .ok (.iconst 1, 1) := dk_4 (dk_at dksJ18_numberOfTrailingZeros_0 4 rfl rfl)
theorem dJ18_numberOfTrailingZeros_5 : decode cJ18_numberOfTrailingZeros 5 = .ok (.isub, 1) := dk_100 (dk_at dksJ18_numberOfTrailingZeros_0 5 rfl rfl)
theorem dJ18_numberOfTrailingZeros_6 : decode cJ18_numberOfTrailingZeros 6 = .ok (.iand, 1) := dk_126 (dk_at dksJ18_numberOfTrailingZeros_0 6 rfl rfl)
theorem dJ18_numberOfTrailingZeros_7 : decode cJ18_numberOfTrailingZeros 7 = .ok (.istore_n 0, 1) := dk_59 (dk_at dksJ18_numberOfTrailingZeros_0 7 rfl rfl)
theorem dJ18_numberOfTrailingZeros_8 : decode cJ18_numberOfTrailingZeros 8 = .ok (.iload_n 0, 1) := dk_26 (dk_at dksJ18_numberOfTrailingZeros_0 8 rfl rfl)
theorem dJ18_numberOfTrailingZeros_9 : decode cJ18_numberOfTrailingZeros 9 = .ok (.ifCond .gt 8, 3) := dk_157 0 8 (dk_at dksJ18_numberOfTrailingZeros_0 9 rfl rfl)
theorem dJ18_numberOfTrailingZeros_12 : decode cJ18_numberOfTrailingZeros 12 = .ok (.iload_n 0, 1) := dk_26 (dk_at dksJ18_numberOfTrailingZeros_0 12 rfl rfl)
theorem dJ18_numberOfTrailingZeros_13 : decode cJ18_numberOfTrailingZeros 13 = .ok (.bipush 32, 2) := dk_16 32 (dk_at dksJ18_numberOfTrailingZeros_0 13 rfl rfl)
theorem dJ18_numberOfTrailingZeros_15 : decode cJ18_numberOfTrailingZeros 15 = .ok (.iand, 1) := dk_126 (dk_at dksJ18_numberOfTrailingZeros_0 15 rfl rfl)
theorem dJ18_numberOfTrailingZeros_16 : decode cJ18_numberOfTrailingZeros 16 = .ok (.ireturn, 1) := dk_172 (dk_at dksJ18_numberOfTrailingZeros_0 16 rfl rfl)
theorem dJ18_numberOfTrailingZeros_17 : decode cJ18_numberOfTrailingZeros 17 = .ok (.iconst 1, 1) := dk_4 (dk_at dksJ18_numberOfTrailingZeros_0 17 rfl rfl)
theorem dJ18_numberOfTrailingZeros_18 : decode cJ18_numberOfTrailingZeros 18 = .ok (.istore_n 1, 1) := dk_60 (dk_at dksJ18_numberOfTrailingZeros_0 18 rfl rfl)
theorem dJ18_numberOfTrailingZeros_19 : decode cJ18_numberOfTrailingZeros 19 = .ok (.iload_n 0, 1) := dk_26 (dk_at dksJ18_numberOfTrailingZeros_0 19 rfl rfl)
theorem dJ18_numberOfTrailingZeros_20 : decode cJ18_numberOfTrailingZeros 20 = .ok (.ldc_w 264, 3) := dk_19 1 8 (dk_at dksJ18_numberOfTrailingZeros_0 20 rfl rfl)
theorem dJ18_numberOfTrailingZeros_23 : decode cJ18_numberOfTrailingZeros 23 = .ok (.if_icmp .le 11, 3) := dk_164 0 11 (dk_at dksJ18_numberOfTrailingZeros_1 0 rfl rfl)
theorem dJ18_numberOfTrailingZeros_26 : decode cJ18_numberOfTrailingZeros 26 = .ok (.iinc 1 16, 3) := dk_132 1 16 (dk_at dksJ18_numberOfTrailingZeros_1 3 rfl rfl)
theorem dJ18_numberOfTrailingZeros_29 : decode cJ18_numberOfTrailingZeros 29 = .ok (.iload_n 0, 1) := dk_26 (dk_at dksJ18_numberOfTrailingZeros_1 6 rfl rfl)
theorem dJ18_numberOfTrailingZeros_30 : decode cJ18_numberOfTrailingZeros 30 = .ok (.bipush 16, 2) := dk_16 16 (dk_at dksJ18_numberOfTrailingZeros_1 7 rfl rfl)
theorem dJ18_numberOfTrailingZeros_32 : decode cJ18_numberOfTrailingZeros 32 = .ok (.iushr, 1) := dk_124 (dk_at dksJ18_numberOfTrailingZeros_1 9 rfl rfl)
theorem dJ18_numberOfTrailingZeros_33 : decode cJ18_numberOfTrailingZeros 33 = .ok (.istore_n 0, 1) := dk_59 (dk_at dksJ18_numberOfTrailingZeros_1 10 rfl rfl)
theorem dJ18_numberOfTrailingZeros_34 : decode cJ18_numberOfTrailingZeros 34 = .ok (.iload_n 0, 1) := dk_26 (dk_at dksJ18_numberOfTrailingZeros_1 11 rfl rfl)
theorem dJ18_numberOfTrailingZeros_35 : decode cJ18_numberOfTrailingZeros 35 = .ok (.sipush 256, 3) := dk_17 1 0 (dk_at dksJ18_numberOfTrailingZeros_1 12 rfl rfl)
theorem dJ18_numberOfTrailingZeros_38 : decode cJ18_numberOfTrailingZeros 38 = .ok (.if_icmp .le 11, 3) := dk_164 0 11 (dk_at dksJ18_numberOfTrailingZeros_1 15 rfl rfl)
theorem dJ18_numberOfTrailingZeros_41 : decode cJ18_numberOfTrailingZeros 41 = .ok (.iinc 1 8, 3) := dk_132 1 8 (dk_at dksJ18_numberOfTrailingZeros_1 18 rfl rfl)
theorem dJ18_numberOfTrailingZeros_44 : decode cJ18_numberOfTrailingZeros 44 = .ok (.iload_n 0, 1) := dk_26 (dk_at dksJ18_numberOfTrailingZeros_1 21 rfl rfl)
theorem dJ18_numberOfTrailingZeros_45 : decode cJ18_numberOfTrailingZeros 45 = .ok (.bipush 8, 2) := dk_16 8 (dk_at dksJ18_numberOfTrailingZeros_1 22 rfl rfl)
theorem dJ18_numberOfTrailingZeros_47 : decode cJ18_numberOfTrailingZeros 47 = .ok (.iushr, 1) := dk_124 (dk_at dksJ18_numberOfTrailingZeros_2 0 rfl rfl)
theorem dJ18_numberOfTrailingZeros_48 : decode cJ18_numberOfTrailingZeros 48 = .ok (.istore_n 0, 1) := dk_59 (dk_at dksJ18_numberOfTrailingZeros_2 1 rfl rfl)
theorem dJ18_numberOfTrailingZeros_49 : decode cJ18_numberOfTrailingZeros 49 = .ok (.iload_n 0, 1) := dk_26 (dk_at dksJ18_numberOfTrailingZeros_2 2 rfl rfl)
theorem dJ18_numberOfTrailingZeros_50 : decode cJ18_numberOfTrailingZeros 50 = .ok (.bipush 16, 2) := dk_16 16 (dk_at dksJ18_numberOfTrailingZeros_2 3 rfl rfl)
theorem dJ18_numberOfTrailingZeros_52 : decode cJ18_numberOfTrailingZeros 52 = .ok (.if_icmp .le 10, 3) := dk_164 0 10 (dk_at dksJ18_numberOfTrailingZeros_2 5 rfl rfl)
theorem dJ18_numberOfTrailingZeros_55 : decode cJ18_numberOfTrailingZeros 55 = .ok (.iinc 1 4, 3) := dk_132 1 4 (dk_at dksJ18_numberOfTrailingZeros_2 8 rfl rfl)
theorem dJ18_numberOfTrailingZeros_58 : decode cJ18_numberOfTrailingZeros 58 = .ok (.iload_n 0, 1) := dk_26 (dk_at dksJ18_numberOfTrailingZeros_2 11 rfl rfl)
theorem dJ18_numberOfTrailingZeros_59 : decode cJ18_numberOfTrailingZeros 59 = .ok (.iconst 4, 1) := dk_7 (dk_at dksJ18_numberOfTrailingZeros_2 12 rfl rfl)
theorem dJ18_numberOfTrailingZeros_60 : decode cJ18_numberOfTrailingZeros 60 = .ok (.iushr, 1) := dk_124 (dk_at dksJ18_numberOfTrailingZeros_2 13 rfl rfl)
theorem dJ18_numberOfTrailingZeros_61 : decode cJ18_numberOfTrailingZeros 61 = .ok (.istore_n 0, 1) := dk_59 (dk_at dksJ18_numberOfTrailingZeros_2 14 rfl rfl)
theorem dJ18_numberOfTrailingZeros_62 : decode cJ18_numberOfTrailingZeros 62 = .ok (.iload_n 0, 1) := dk_26 (dk_at dksJ18_numberOfTrailingZeros_2 15 rfl rfl)
theorem dJ18_numberOfTrailingZeros_63 : decode cJ18_numberOfTrailingZeros 63 = .ok (.iconst 4, 1) := dk_7 (dk_at dksJ18_numberOfTrailingZeros_2 16 rfl rfl)
theorem dJ18_numberOfTrailingZeros_64 : decode cJ18_numberOfTrailingZeros 64 = .ok (.if_icmp .le 10, 3) := dk_164 0 10 (dk_at dksJ18_numberOfTrailingZeros_2 17 rfl rfl)
theorem dJ18_numberOfTrailingZeros_67 : decode cJ18_numberOfTrailingZeros 67 = .ok (.iinc 1 2, 3) := dk_132 1 2 (dk_at dksJ18_numberOfTrailingZeros_2 20 rfl rfl)
theorem dJ18_numberOfTrailingZeros_70 : decode cJ18_numberOfTrailingZeros 70 = .ok (.iload_n 0, 1) := dk_26 (dk_at dksJ18_numberOfTrailingZeros_2 23 rfl rfl)
theorem dJ18_numberOfTrailingZeros_71 : decode cJ18_numberOfTrailingZeros 71 = .ok (.iconst 2, 1) := dk_5 (dk_at dksJ18_numberOfTrailingZeros_3 0 rfl rfl)
theorem dJ18_numberOfTrailingZeros_72 : decode cJ18_numberOfTrailingZeros 72 = .ok (.iushr, 1) := dk_124 (dk_at dksJ18_numberOfTrailingZeros_3 1 rfl rfl)
theorem dJ18_numberOfTrailingZeros_73 : decode cJ18_numberOfTrailingZeros 73 = .ok (.istore_n 0, 1) := dk_59 (dk_at dksJ18_numberOfTrailingZeros_3 2 rfl rfl)
theorem dJ18_numberOfTrailingZeros_74 : decode cJ18_numberOfTrailingZeros 74 = .ok (.iload_n 1, 1) := dk_27 (dk_at dksJ18_numberOfTrailingZeros_3 3 rfl rfl)
theorem dJ18_numberOfTrailingZeros_75 : decode cJ18_numberOfTrailingZeros 75 = .ok (.iload_n 0, 1) := dk_26 (dk_at dksJ18_numberOfTrailingZeros_3 4 rfl rfl)
theorem dJ18_numberOfTrailingZeros_76 : decode cJ18_numberOfTrailingZeros 76 = .ok (.iconst 1, 1) := dk_4 (dk_at dksJ18_numberOfTrailingZeros_3 5 rfl rfl)
theorem dJ18_numberOfTrailingZeros_77 : decode cJ18_numberOfTrailingZeros 77 = .ok (.iushr, 1) := dk_124 (dk_at dksJ18_numberOfTrailingZeros_3 6 rfl rfl)
theorem dJ18_numberOfTrailingZeros_78 : decode cJ18_numberOfTrailingZeros 78 = .ok (.iadd, 1) := dk_96 (dk_at dksJ18_numberOfTrailingZeros_3 7 rfl rfl)
theorem dJ18_numberOfTrailingZeros_79 : decode cJ18_numberOfTrailingZeros 79 = .ok (.ireturn, 1) := dk_172 (dk_at dksJ18_numberOfTrailingZeros_3 8 rfl rfl)
abbrev cJ18_bitCount : ByteArray := prog_17_method_49_code
def yJ18_bitCount : MethodName := ⟨RJ18, "bitCount", "(I)I"⟩
def dkwJ18_bitCount_2 : List UInt8 := [26, 16, 63, 126, 172]
abbrev dktJ18_bitCount_2 : List UInt8 := dkwJ18_bitCount_2 ++ []
def dkwJ18_bitCount_1 : List UInt8 := [26, 26, 7, 124, 96, 19, 1, 11, 126, 59, 26, 26, 16, 8, 124, 96, 59, 26, 26, 16, 16, 124, 96, 59]
abbrev dktJ18_bitCount_1 : List UInt8 := dkwJ18_bitCount_1 ++ dktJ18_bitCount_2
def dkwJ18_bitCount_0 : List UInt8 := [26, 26, 4, 124, 19, 1, 9, 126, 100, 59, 26, 19, 1, 10, 126, 26, 5, 124, 19, 1, 10, 126, 96, 59]
abbrev dktJ18_bitCount_0 : List UInt8 := dkwJ18_bitCount_0 ++ dktJ18_bitCount_1
theorem dksJ18_bitCount_0 : cJ18_bitCount.data.toList.drop 0 = dktJ18_bitCount_0 := by decide +kernel
theorem dksJ18_bitCount_1 : cJ18_bitCount.data.toList.drop 24 = dktJ18_bitCount_1 := dk_seg dksJ18_bitCount_0 24 rfl rfl
theorem dksJ18_bitCount_2 : cJ18_bitCount.data.toList.drop 48 = dktJ18_bitCount_2 := dk_seg dksJ18_bitCount_1 24 rfl rfl
theorem dJ18_bitCount_0 : decode cJ18_bitCount 0 = .ok (.iload_n 0, 1) := dk_26 (dk_at dksJ18_bitCount_0 0 rfl rfl)
theorem dJ18_bitCount_1 : decode cJ18_bitCount 1 = .ok (.iload_n 0, 1) := dk_26 (dk_at dksJ18_bitCount_0 1 rfl rfl)
theorem dJ18_bitCount_2 : decode cJ18_bitCount 2 = .ok (.iconst 1, 1) := dk_4 (dk_at dksJ18_bitCount_0 2 rfl rfl)
theorem dJ18_bitCount_3 : decode cJ18_bitCount 3 = .ok (.iushr, 1) := dk_124 (dk_at dksJ18_bitCount_0 3 rfl rfl)
theorem dJ18_bitCount_4 : decode cJ18_bitCount 4 = .ok (.ldc_w 265, 3) := dk_19 1 9 (dk_at dksJ18_bitCount_0 4 rfl rfl)
theorem dJ18_bitCount_7 : decode cJ18_bitCount 7 = .ok (.iand, 1) := dk_126 (dk_at dksJ18_bitCount_0 7 rfl rfl)
theorem dJ18_bitCount_8 : decode cJ18_bitCount 8 = .ok (.isub, 1) := dk_100 (dk_at dksJ18_bitCount_0 8 rfl rfl)
theorem dJ18_bitCount_9 : decode cJ18_bitCount 9 = .ok (.istore_n 0, 1) := dk_59 (dk_at dksJ18_bitCount_0 9 rfl rfl)
theorem dJ18_bitCount_10 : decode cJ18_bitCount 10 = .ok (.iload_n 0, 1) := dk_26 (dk_at dksJ18_bitCount_0 10 rfl rfl)
theorem dJ18_bitCount_11 : decode cJ18_bitCount 11 = .ok (.ldc_w 266, 3) := dk_19 1 10 (dk_at dksJ18_bitCount_0 11 rfl rfl)
theorem dJ18_bitCount_14 : decode cJ18_bitCount 14 = .ok (.iand, 1) := dk_126 (dk_at dksJ18_bitCount_0 14 rfl rfl)
theorem dJ18_bitCount_15 : decode cJ18_bitCount 15 = .ok (.iload_n 0, 1) := dk_26 (dk_at dksJ18_bitCount_0 15 rfl rfl)
theorem dJ18_bitCount_16 : decode cJ18_bitCount 16 = .ok (.iconst 2, 1) := dk_5 (dk_at dksJ18_bitCount_0 16 rfl rfl)
theorem dJ18_bitCount_17 : decode cJ18_bitCount 17 = .ok (.iushr, 1) := dk_124 (dk_at dksJ18_bitCount_0 17 rfl rfl)
theorem dJ18_bitCount_18 : decode cJ18_bitCount 18 = .ok (.ldc_w 266, 3) := dk_19 1 10 (dk_at dksJ18_bitCount_0 18 rfl rfl)
theorem dJ18_bitCount_21 : decode cJ18_bitCount 21 = .ok (.iand, 1) := dk_126 (dk_at dksJ18_bitCount_0 21 rfl rfl)
theorem dJ18_bitCount_22 : decode cJ18_bitCount 22 = .ok (.iadd, 1) := dk_96 (dk_at dksJ18_bitCount_0 22 rfl rfl)
theorem dJ18_bitCount_23 : decode cJ18_bitCount 23 = .ok (.istore_n 0, 1) := dk_59 (dk_at dksJ18_bitCount_0 23 rfl rfl)
theorem dJ18_bitCount_24 : decode cJ18_bitCount 24 = .ok (.iload_n 0, 1) := dk_26 (dk_at dksJ18_bitCount_1 0 rfl rfl)
theorem dJ18_bitCount_25 : decode cJ18_bitCount 25 = .ok (.iload_n 0, 1) := dk_26 (dk_at dksJ18_bitCount_1 1 rfl rfl)
theorem dJ18_bitCount_26 : decode cJ18_bitCount 26 = .ok (.iconst 4, 1) := dk_7 (dk_at dksJ18_bitCount_1 2 rfl rfl)
theorem dJ18_bitCount_27 : decode cJ18_bitCount 27 = .ok (.iushr, 1) := dk_124 (dk_at dksJ18_bitCount_1 3 rfl rfl)
theorem dJ18_bitCount_28 : decode cJ18_bitCount 28 = .ok (.iadd, 1) := dk_96 (dk_at dksJ18_bitCount_1 4 rfl rfl)
theorem dJ18_bitCount_29 : decode cJ18_bitCount 29 = .ok (.ldc_w 267, 3) := dk_19 1 11 (dk_at dksJ18_bitCount_1 5 rfl rfl)
theorem dJ18_bitCount_32 : decode cJ18_bitCount 32 = .ok (.iand, 1) := dk_126 (dk_at dksJ18_bitCount_1 8 rfl rfl)
theorem dJ18_bitCount_33 : decode cJ18_bitCount 33 = .ok (.istore_n 0, 1) := dk_59 (dk_at dksJ18_bitCount_1 9 rfl rfl)
theorem dJ18_bitCount_34 : decode cJ18_bitCount 34 = .ok (.iload_n 0, 1) := dk_26 (dk_at dksJ18_bitCount_1 10 rfl rfl)
theorem dJ18_bitCount_35 : decode cJ18_bitCount 35 = .ok (.iload_n 0, 1) := dk_26 (dk_at dksJ18_bitCount_1 11 rfl rfl)
theorem dJ18_bitCount_36 : decode cJ18_bitCount 36 = .ok (.bipush 8, 2) := dk_16 8 (dk_at dksJ18_bitCount_1 12 rfl rfl)
theorem dJ18_bitCount_38 : decode cJ18_bitCount 38 = .ok (.iushr, 1) := dk_124 (dk_at dksJ18_bitCount_1 14 rfl rfl)
theorem dJ18_bitCount_39 : decode cJ18_bitCount 39 = .ok (.iadd, 1) := dk_96 (dk_at dksJ18_bitCount_1 15 rfl rfl)
theorem dJ18_bitCount_40 : decode cJ18_bitCount 40 = .ok (.istore_n 0, 1) := dk_59 (dk_at dksJ18_bitCount_1 16 rfl rfl)
theorem dJ18_bitCount_41 : decode cJ18_bitCount 41 = .ok (.iload_n 0, 1) := dk_26 (dk_at dksJ18_bitCount_1 17 rfl rfl)
theorem dJ18_bitCount_42 : decode cJ18_bitCount 42 = .ok (.iload_n 0, 1) := dk_26 (dk_at dksJ18_bitCount_1 18 rfl rfl)
theorem dJ18_bitCount_43 : decode cJ18_bitCount 43 = .ok (.bipush 16, 2) := dk_16 16 (dk_at dksJ18_bitCount_1 19 rfl rfl)
theorem dJ18_bitCount_45 : decode cJ18_bitCount 45 = .ok (.iushr, 1) := dk_124 (dk_at dksJ18_bitCount_1 21 rfl rfl)
theorem dJ18_bitCount_46 : decode cJ18_bitCount 46 = .ok (.iadd, 1) := dk_96 (dk_at dksJ18_bitCount_1 22 rfl rfl)
theorem dJ18_bitCount_47 : decode cJ18_bitCount 47 = .ok (.istore_n 0, 1) := dk_59 (dk_at dksJ18_bitCount_1 23 rfl rfl)
theorem dJ18_bitCount_48 : decode cJ18_bitCount 48 = .ok (.iload_n 0, 1) := dk_26 (dk_at dksJ18_bitCount_2 0 rfl rfl)
theorem dJ18_bitCount_49 : decode cJ18_bitCount 49 = .ok (.bipush 63, 2) := dk_16 63 (dk_at dksJ18_bitCount_2 1 rfl rfl)
theorem dJ18_bitCount_51 : decode cJ18_bitCount 51 = .ok (.iand, 1) := dk_126 (dk_at dksJ18_bitCount_2 3 rfl rfl)
theorem dJ18_bitCount_52 : decode cJ18_bitCount 52 = .ok (.ireturn, 1) := dk_172 (dk_at dksJ18_bitCount_2 4 rfl rfl)
theorem q122 : (Jvm.Cond.initialized "java/lang/Integer") ∈ lw_all := lw_g (lw_at lw_m1 27 rfl) rfl
theorem q553 : (Jvm.Cond.selects "java/lang/Integer" ({ cls := "java/lang/Object", name := "getClass", desc := "()Ljava/lang/Class;" } : Jvm.MethodName) ({ cls := "java/lang/Object", name := "getClass", desc := "()Ljava/lang/Class;" } : Jvm.MethodName)) ∈ lw_all := lw_g (lw_at lw_m2 218 rfl) rfl
theorem q852 : (Jvm.Cond.static ({ cls := "java/lang/Integer", name := "valueOf", desc := "(I)Ljava/lang/Integer;" } : Jvm.MethodName)) ∈ lw_all := lw_g (lw_at lw_m4 37 rfl) rfl
theorem q853 : (Jvm.Cond.code ({ cls := "java/lang/Integer", name := "valueOf", desc := "(I)Ljava/lang/Integer;" } : Jvm.MethodName) prog_17_method_22_code (1 : Nat) (Option.some (Jvm.ClassFile.FieldType.object "java/lang/Integer"))) ∈ lw_all := lw_g (lw_at lw_m4 38 rfl) rfl
theorem q854 : (Jvm.Cond.fieldLink "java/lang/Integer" (191 : Nat) "java/lang/Integer$IntegerCache" "high" "I") ∈ lw_all := lw_g (lw_at lw_m4 39 rfl) rfl
theorem q856 : (Jvm.Cond.fieldLink "java/lang/Integer" (195 : Nat) "java/lang/Integer$IntegerCache" "cache" "[Ljava/lang/Integer;") ∈ lw_all := lw_g (lw_at lw_m4 41 rfl) rfl
theorem q858 : (Jvm.Cond.classLink "java/lang/Integer" (1 : Nat) "java/lang/Integer") ∈ lw_all := lw_g (lw_at lw_m4 43 rfl) rfl
theorem q859 : (Jvm.Cond.instantiable "java/lang/Integer" (1 : Nat)) ∈ lw_all := lw_g (lw_at lw_m4 44 rfl) rfl
theorem q860 : (Jvm.Cond.methodLink "java/lang/Integer" (199 : Nat) ({ cls := "java/lang/Integer", name := "<init>", desc := "(I)V" } : Jvm.MethodName)) ∈ lw_all := lw_g (lw_at lw_m4 45 rfl) rfl
theorem q861 : (Jvm.Cond.instanceMethod ({ cls := "java/lang/Integer", name := "<init>", desc := "(I)V" } : Jvm.MethodName)) ∈ lw_all := lw_g (lw_at lw_m4 46 rfl) rfl
theorem q862 : (Jvm.Cond.code ({ cls := "java/lang/Integer", name := "<init>", desc := "(I)V" } : Jvm.MethodName) prog_17_method_23_code (2 : Nat) (Option.none : Option Jvm.ClassFile.FieldType)) ∈ lw_all := lw_g (lw_at lw_m4 47 rfl) rfl
theorem q863 : (Jvm.Cond.methodLink "java/lang/Integer" (202 : Nat) ({ cls := "java/lang/Number", name := "<init>", desc := "()V" } : Jvm.MethodName)) ∈ lw_all := lw_g (lw_at lw_m4 48 rfl) rfl
theorem q867 : (Jvm.Cond.fieldLink "java/lang/Integer" (205 : Nat) "java/lang/Integer" "value" "I") ∈ lw_all := lw_g (lw_at lw_m4 52 rfl) rfl
theorem q868 : (Jvm.Cond.laysFinal "java/lang/Integer" "java/lang/Integer" "value" "I") ∈ lw_all := lw_g (lw_at lw_m4 53 rfl) rfl
theorem q869 : (Jvm.Cond.soleField "java/lang/Integer" "value") ∈ lw_all := lw_g (lw_at lw_m4 54 rfl) rfl
theorem q870 : (Jvm.Cond.superclass "java/lang/Integer" "java/lang/Number") ∈ lw_all := lw_g (lw_at lw_m4 55 rfl) rfl
theorem q901 : (Jvm.Cond.selects "java/lang/Integer" ({ cls := "java/lang/Object", name := "hashCode", desc := "()I" } : Jvm.MethodName) ({ cls := "java/lang/Integer", name := "hashCode", desc := "()I" } : Jvm.MethodName)) ∈ lw_all := lw_g (lw_at lw_m4 86 rfl) rfl
theorem q902 : (Jvm.Cond.instanceMethod ({ cls := "java/lang/Integer", name := "hashCode", desc := "()I" } : Jvm.MethodName)) ∈ lw_all := lw_g (lw_at lw_m4 87 rfl) rfl
theorem q903 : (Jvm.Cond.code ({ cls := "java/lang/Integer", name := "hashCode", desc := "()I" } : Jvm.MethodName) prog_17_method_32_code (1 : Nat) (Option.some Jvm.ClassFile.FieldType.int)) ∈ lw_all := lw_g (lw_at lw_m4 88 rfl) rfl
theorem q904 : (Jvm.Cond.methodLink "java/lang/Integer" (208 : Nat) ({ cls := "java/lang/Integer", name := "hashCode", desc := "(I)I" } : Jvm.MethodName)) ∈ lw_all := lw_g (lw_at lw_m4 89 rfl) rfl
theorem q905 : (Jvm.Cond.static ({ cls := "java/lang/Integer", name := "hashCode", desc := "(I)I" } : Jvm.MethodName)) ∈ lw_all := lw_g (lw_at lw_m4 90 rfl) rfl
theorem q906 : (Jvm.Cond.code ({ cls := "java/lang/Integer", name := "hashCode", desc := "(I)I" } : Jvm.MethodName) prog_17_method_33_code (1 : Nat) (Option.some Jvm.ClassFile.FieldType.int)) ∈ lw_all := lw_g (lw_at lw_m4 91 rfl) rfl
theorem q974 : (Jvm.Cond.selects "java/lang/Integer" ({ cls := "java/lang/Object", name := "equals", desc := "(Ljava/lang/Object;)Z" } : Jvm.MethodName) ({ cls := "java/lang/Integer", name := "equals", desc := "(Ljava/lang/Object;)Z" } : Jvm.MethodName)) ∈ lw_all := lw_g (lw_at lw_m4 159 rfl) rfl
theorem q975 : (Jvm.Cond.instanceMethod ({ cls := "java/lang/Integer", name := "equals", desc := "(Ljava/lang/Object;)Z" } : Jvm.MethodName)) ∈ lw_all := lw_g (lw_at lw_m4 160 rfl) rfl
theorem q976 : (Jvm.Cond.code ({ cls := "java/lang/Integer", name := "equals", desc := "(Ljava/lang/Object;)Z" } : Jvm.MethodName) prog_17_method_34_code (2 : Nat) (Option.some Jvm.ClassFile.FieldType.boolean)) ∈ lw_all := lw_g (lw_at lw_m4 161 rfl) rfl
theorem q977 : (Jvm.Cond.methodLink "java/lang/Integer" (211 : Nat) ({ cls := "java/lang/Integer", name := "intValue", desc := "()I" } : Jvm.MethodName)) ∈ lw_all := lw_g (lw_at lw_m4 162 rfl) rfl
theorem q978 : (Jvm.Cond.instanceMethod ({ cls := "java/lang/Integer", name := "intValue", desc := "()I" } : Jvm.MethodName)) ∈ lw_all := lw_g (lw_at lw_m4 163 rfl) rfl
theorem q979 : (Jvm.Cond.selects "java/lang/Integer" ({ cls := "java/lang/Integer", name := "intValue", desc := "()I" } : Jvm.MethodName) ({ cls := "java/lang/Integer", name := "intValue", desc := "()I" } : Jvm.MethodName)) ∈ lw_all := lw_g (lw_at lw_m4 164 rfl) rfl
theorem q980 : (Jvm.Cond.code ({ cls := "java/lang/Integer", name := "intValue", desc := "()I" } : Jvm.MethodName) prog_17_method_27_code (1 : Nat) (Option.some Jvm.ClassFile.FieldType.int)) ∈ lw_all := lw_g (lw_at lw_m4 165 rfl) rfl
theorem q1013 : (Jvm.Cond.castable "java/lang/Integer" "java/lang/Comparable") ∈ lw_tbl := lw_at lw_m4 198 rfl
theorem q1014 : (Jvm.Cond.selects "java/lang/Integer" ({ cls := "java/lang/Comparable", name := "compareTo", desc := "(Ljava/lang/Object;)I" } : Jvm.MethodName) ({ cls := "java/lang/Integer", name := "compareTo", desc := "(Ljava/lang/Object;)I" } : Jvm.MethodName)) ∈ lw_all := lw_g (lw_at lw_m4 199 rfl) rfl
theorem q1015 : (Jvm.Cond.unhidden "java/lang/Integer" "compareTo" "(Ljava/lang/Object;)I") ∈ lw_tbl := lw_at lw_m4 200 rfl
theorem q1016 : (Jvm.Cond.instanceMethod ({ cls := "java/lang/Integer", name := "compareTo", desc := "(Ljava/lang/Object;)I" } : Jvm.MethodName)) ∈ lw_all := lw_g (lw_at lw_m4 201 rfl) rfl
theorem q1017 : (Jvm.Cond.publicMethod ({ cls := "java/lang/Integer", name := "compareTo", desc := "(Ljava/lang/Object;)I" } : Jvm.MethodName)) ∈ lw_tbl := lw_at lw_m4 202 rfl
theorem q1018 : (Jvm.Cond.code ({ cls := "java/lang/Integer", name := "compareTo", desc := "(Ljava/lang/Object;)I" } : Jvm.MethodName) prog_17_method_63_code (2 : Nat) (Option.some Jvm.ClassFile.FieldType.int)) ∈ lw_all := lw_g (lw_at lw_m4 203 rfl) rfl
theorem q1019 : (Jvm.Cond.methodLink "java/lang/Integer" (284 : Nat) ({ cls := "java/lang/Integer", name := "compareTo", desc := "(Ljava/lang/Integer;)I" } : Jvm.MethodName)) ∈ lw_all := lw_g (lw_at lw_m4 204 rfl) rfl
theorem q1020 : (Jvm.Cond.instanceMethod ({ cls := "java/lang/Integer", name := "compareTo", desc := "(Ljava/lang/Integer;)I" } : Jvm.MethodName)) ∈ lw_all := lw_g (lw_at lw_m4 205 rfl) rfl
theorem q1021 : (Jvm.Cond.selects "java/lang/Integer" ({ cls := "java/lang/Integer", name := "compareTo", desc := "(Ljava/lang/Integer;)I" } : Jvm.MethodName) ({ cls := "java/lang/Integer", name := "compareTo", desc := "(Ljava/lang/Integer;)I" } : Jvm.MethodName)) ∈ lw_all := lw_g (lw_at lw_m4 206 rfl) rfl
theorem q1022 : (Jvm.Cond.code ({ cls := "java/lang/Integer", name := "compareTo", desc := "(Ljava/lang/Integer;)I" } : Jvm.MethodName) prog_17_method_39_code (2 : Nat) (Option.some Jvm.ClassFile.FieldType.int)) ∈ lw_all := lw_g (lw_at lw_m4 207 rfl) rfl
theorem q1023 : (Jvm.Cond.methodLink "java/lang/Integer" (259 : Nat) ({ cls := "java/lang/Integer", name := "compare", desc := "(II)I" } : Jvm.MethodName)) ∈ lw_all := lw_g (lw_at lw_m4 208 rfl) rfl
theorem q1024 : (Jvm.Cond.static ({ cls := "java/lang/Integer", name := "compare", desc := "(II)I" } : Jvm.MethodName)) ∈ lw_all := lw_g (lw_at lw_m4 209 rfl) rfl
theorem q1025 : (Jvm.Cond.code ({ cls := "java/lang/Integer", name := "compare", desc := "(II)I" } : Jvm.MethodName) prog_17_method_40_code (2 : Nat) (Option.some Jvm.ClassFile.FieldType.int)) ∈ lw_all := lw_g (lw_at lw_m4 210 rfl) rfl
theorem q1115 : (Jvm.Cond.static ({ cls := "java/lang/Integer", name := "numberOfLeadingZeros", desc := "(I)I" } : Jvm.MethodName)) ∈ lw_all := lw_g (lw_at lw_m5 60 rfl) rfl
theorem q1116 : (Jvm.Cond.code ({ cls := "java/lang/Integer", name := "numberOfLeadingZeros", desc := "(I)I" } : Jvm.MethodName) prog_17_method_47_code (2 : Nat) (Option.some Jvm.ClassFile.FieldType.int)) ∈ lw_all := lw_g (lw_at lw_m5 61 rfl) rfl
theorem q1117 : (Jvm.Cond.constant "java/lang/Integer" (264 : Nat) (65536 : Int32)) ∈ lw_all := lw_g (lw_at lw_m5 62 rfl) rfl
theorem q1124 : (Jvm.Cond.static ({ cls := "java/lang/Integer", name := "numberOfTrailingZeros", desc := "(I)I" } : Jvm.MethodName)) ∈ lw_all := lw_g (lw_at lw_m5 69 rfl) rfl
theorem q1125 : (Jvm.Cond.code ({ cls := "java/lang/Integer", name := "numberOfTrailingZeros", desc := "(I)I" } : Jvm.MethodName) prog_17_method_48_code (2 : Nat) (Option.some Jvm.ClassFile.FieldType.int)) ∈ lw_all := lw_g (lw_at lw_m5 70 rfl) rfl
theorem q1671 : (Jvm.Cond.static ({ cls := "java/lang/Integer", name := "bitCount", desc := "(I)I" } : Jvm.MethodName)) ∈ lw_all := lw_g (lw_at lw_m7 136 rfl) rfl
theorem q1672 : (Jvm.Cond.code ({ cls := "java/lang/Integer", name := "bitCount", desc := "(I)I" } : Jvm.MethodName) prog_17_method_49_code (1 : Nat) (Option.some Jvm.ClassFile.FieldType.int)) ∈ lw_all := lw_g (lw_at lw_m7 137 rfl) rfl
theorem q1673 : (Jvm.Cond.constant "java/lang/Integer" (265 : Nat) (1431655765 : Int32)) ∈ lw_all := lw_g (lw_at lw_m7 138 rfl) rfl
theorem q1674 : (Jvm.Cond.constant "java/lang/Integer" (266 : Nat) (858993459 : Int32)) ∈ lw_all := lw_g (lw_at lw_m7 139 rfl) rfl
theorem q1675 : (Jvm.Cond.constant "java/lang/Integer" (267 : Nat) (252645135 : Int32)) ∈ lw_all := lw_g (lw_at lw_m7 140 rfl) rfl
theorem q2813 : (Jvm.Cond.castable "java/lang/Integer" "java/lang/Object") ∈ lw_tbl := lw_at lw_m12 78 rfl
theorem in_J18 : ∀ w ∈ wsJ180, w ∈ lw_all := lw_in wsJ180 [868] (by decide +kernel) (by decide +kernel)

/-! java/util/HashMap$Node -/
set_option maxRecDepth 100000
def RJ21 : String := "java/util/HashMap$Node"
def TJ21 : u_T := fun k => match k with
  | 0 => ("java/util/HashMap$Node", "hash", "I", true)
  | 1 => ("java/util/HashMap$Node", "key", "Ljava/lang/Object;", true)
  | 2 => ("java/util/HashMap$Node", "value", "Ljava/lang/Object;", false)
  | _ => ("java/util/HashMap$Node", "next", "Ljava/util/HashMap$Node;", false)
def tyJ21 : Nat → FieldType := fun k => match k with
  | 0 => .int
  | 1 => .object "java/lang/Object"
  | 2 => .object "java/lang/Object"
  | _ => .object "java/util/HashMap$Node"
abbrev wsJ210 : List Cond := u_ws RJ21 TJ21 4
theorem nmJ21 : ∀ a, a < 4 → ∀ b, b < 4 → a ≠ b → (TJ21 a).2.1 ≠ (TJ21 b).2.1 := by decide +kernel
theorem tyJ21_ok : ∀ k, k < 4 → parseFieldDescriptor (TJ21 k).2.2.1 = some (tyJ21 k) := by decide +kernel
abbrev cJ21_init : ByteArray := prog_43_method_1_code
def yJ21_init : MethodName := ⟨RJ21, "<init>", "(ILjava/lang/Object;Ljava/lang/Object;Ljava/util/HashMap$Node;)V"⟩
def dkwJ21_init_1 : List UInt8 := [181, 0, 20, 177]
abbrev dktJ21_init_1 : List UInt8 := dkwJ21_init_1 ++ []
def dkwJ21_init_0 : List UInt8 := [42, 183, 0, 1, 42, 27, 181, 0, 7, 42, 44, 181, 0, 13, 42, 45, 181, 0, 17, 42, 25, 4]
abbrev dktJ21_init_0 : List UInt8 := dkwJ21_init_0 ++ dktJ21_init_1
theorem dksJ21_init_0 : cJ21_init.data.toList.drop 0 = dktJ21_init_0 := by decide +kernel
theorem dksJ21_init_1 : cJ21_init.data.toList.drop 22 = dktJ21_init_1 := dk_seg dksJ21_init_0 22 rfl rfl
theorem dJ21_init_0 : decode cJ21_init 0 = .ok (.aload_n 0, 1) := dk_42 (dk_at dksJ21_init_0 0 rfl rfl)
theorem dJ21_init_1 : decode cJ21_init 1 = .ok (.invokespecial 1, 3) := dk_183 0 1 (dk_at dksJ21_init_0 1 rfl rfl)
theorem dJ21_init_4 : decode cJ21_init 4 = .ok (.aload_n 0, 1) := dk_42 (dk_at dksJ21_init_0 4 rfl rfl)
theorem dJ21_init_5 : decode cJ21_init 5 = .ok (.iload_n 1, 1) := dk_27 (dk_at dksJ21_init_0 5 rfl rfl)
theorem dJ21_init_6 : decode cJ21_init 6 = .ok (.putfield 7, 3) := dk_181 0 7 (dk_at dksJ21_init_0 6 rfl rfl)
theorem dJ21_init_9 : decode cJ21_init 9 = .ok (.aload_n 0, 1) := dk_42 (dk_at dksJ21_init_0 9 rfl rfl)
theorem dJ21_init_10 : decode cJ21_init 10 = .ok (.aload_n 2, 1) := dk_44 (dk_at dksJ21_init_0 10 rfl rfl)
theorem dJ21_init_11 : decode cJ21_init 11 = .ok (.putfield 13, 3) := dk_181 0 13 (dk_at dksJ21_init_0 11 rfl rfl)
theorem dJ21_init_14 : decode cJ21_init 14 = .ok (.aload_n 0, 1) := dk_42 (dk_at dksJ21_init_0 14 rfl rfl)
theorem dJ21_init_15 : decode cJ21_init 15 = .ok (.aload_n 3, 1) := dk_45 (dk_at dksJ21_init_0 15 rfl rfl)
theorem dJ21_init_16 : decode cJ21_init 16 = .ok (.putfield 17, 3) := dk_181 0 17 (dk_at dksJ21_init_0 16 rfl rfl)
theorem dJ21_init_19 : decode cJ21_init 19 = .ok (.aload_n 0, 1) := dk_42 (dk_at dksJ21_init_0 19 rfl rfl)
theorem dJ21_init_20 : decode cJ21_init 20 = .ok (.aload 4, 2) := dk_25 4 (dk_at dksJ21_init_0 20 rfl rfl)
theorem dJ21_init_22 : decode cJ21_init 22 = .ok (.putfield 20, 3) := dk_181 0 20 (dk_at dksJ21_init_1 0 rfl rfl)
theorem dJ21_init_25 : decode cJ21_init 25 = .ok (.return_, 1) := dk_177 (dk_at dksJ21_init_1 3 rfl rfl)
abbrev cJ21_getKey : ByteArray := prog_43_method_2_code
def yJ21_getKey : MethodName := ⟨RJ21, "getKey", "()Ljava/lang/Object;"⟩
theorem dJ21_getKey_0 : decode cJ21_getKey 0 = .ok (.aload_n 0, 1) := by decide +kernel
theorem dJ21_getKey_1 : decode cJ21_getKey 1 = .ok (.getfield 13, 3) := by decide +kernel
theorem dJ21_getKey_4 : decode cJ21_getKey 4 = .ok (.areturn, 1) := by decide +kernel
theorem q127 : (Jvm.Cond.initialized "java/util/HashMap$Node") ∈ lw_all := lw_g (lw_at lw_m1 32 rfl) rfl
theorem q561 : (Jvm.Cond.selects "java/util/HashMap$Node" ({ cls := "java/lang/Object", name := "getClass", desc := "()Ljava/lang/Class;" } : Jvm.MethodName) ({ cls := "java/lang/Object", name := "getClass", desc := "()Ljava/lang/Class;" } : Jvm.MethodName)) ∈ lw_all := lw_g (lw_at lw_m2 226 rfl) rfl
theorem q1257 : (Jvm.Cond.instanceMethod ({ cls := "java/util/HashMap$Node", name := "<init>", desc := "(ILjava/lang/Object;Ljava/lang/Object;Ljava/util/HashMap$Node;)V" } : Jvm.MethodName)) ∈ lw_all := lw_g (lw_at lw_m5 202 rfl) rfl
theorem q1258 : (Jvm.Cond.code ({ cls := "java/util/HashMap$Node", name := "<init>", desc := "(ILjava/lang/Object;Ljava/lang/Object;Ljava/util/HashMap$Node;)V" } : Jvm.MethodName) prog_43_method_1_code (5 : Nat) (Option.none : Option Jvm.ClassFile.FieldType)) ∈ lw_all := lw_g (lw_at lw_m5 203 rfl) rfl
theorem q1259 : (Jvm.Cond.methodLink "java/util/HashMap$Node" (1 : Nat) ({ cls := "java/lang/Object", name := "<init>", desc := "()V" } : Jvm.MethodName)) ∈ lw_all := lw_g (lw_at lw_m5 204 rfl) rfl
theorem q1264 : (Jvm.Cond.fieldLink "java/util/HashMap$Node" (7 : Nat) "java/util/HashMap$Node" "hash" "I") ∈ lw_all := lw_g (lw_at lw_m5 209 rfl) rfl
theorem q1270 : (Jvm.Cond.fieldLink "java/util/HashMap$Node" (13 : Nat) "java/util/HashMap$Node" "key" "Ljava/lang/Object;") ∈ lw_all := lw_g (lw_at lw_m5 215 rfl) rfl
theorem q1277 : (Jvm.Cond.fieldLink "java/util/HashMap$Node" (17 : Nat) "java/util/HashMap$Node" "value" "Ljava/lang/Object;") ∈ lw_all := lw_g (lw_at lw_m5 222 rfl) rfl
theorem q1282 : (Jvm.Cond.fieldLink "java/util/HashMap$Node" (20 : Nat) "java/util/HashMap$Node" "next" "Ljava/util/HashMap$Node;") ∈ lw_all := lw_g (lw_at lw_m5 227 rfl) rfl
theorem q1294 : (Jvm.Cond.soleField "java/util/HashMap$Node" "hash") ∈ lw_all := lw_g (lw_at lw_m5 239 rfl) rfl
theorem q1296 : (Jvm.Cond.soleField "java/util/HashMap$Node" "key") ∈ lw_all := lw_g (lw_at lw_m6 1 rfl) rfl
theorem q1298 : (Jvm.Cond.soleField "java/util/HashMap$Node" "value") ∈ lw_all := lw_g (lw_at lw_m6 3 rfl) rfl
theorem q1300 : (Jvm.Cond.soleField "java/util/HashMap$Node" "next") ∈ lw_all := lw_g (lw_at lw_m6 5 rfl) rfl
theorem q1308 : (Jvm.Cond.instantiable "java/util/HashMap$Node" (4 : Nat)) ∈ lw_all := lw_g (lw_at lw_m6 13 rfl) rfl
theorem q1310 : (Jvm.Cond.laysFinal "java/util/HashMap$Node" "java/util/HashMap$Node" "hash" "I") ∈ lw_all := lw_g (lw_at lw_m6 15 rfl) rfl
theorem q1311 : (Jvm.Cond.laysFinal "java/util/HashMap$Node" "java/util/HashMap$Node" "key" "Ljava/lang/Object;") ∈ lw_all := lw_g (lw_at lw_m6 16 rfl) rfl
theorem q1312 : (Jvm.Cond.lays "java/util/HashMap$Node" "java/util/HashMap$Node" "value" "Ljava/lang/Object;") ∈ lw_all := lw_g (lw_at lw_m6 17 rfl) rfl
theorem q1313 : (Jvm.Cond.lays "java/util/HashMap$Node" "java/util/HashMap$Node" "next" "Ljava/util/HashMap$Node;") ∈ lw_all := lw_g (lw_at lw_m6 18 rfl) rfl
theorem q1314 : (Jvm.Cond.superclass "java/util/HashMap$Node" "java/lang/Object") ∈ lw_all := lw_g (lw_at lw_m6 19 rfl) rfl
theorem q2145 : (Jvm.Cond.declares ({ cls := "java/util/HashMap$Node", name := "getKey", desc := "()Ljava/lang/Object;" } : Jvm.MethodName)) ∈ lw_tbl := lw_at lw_m9 130 rfl
theorem q2148 : (Jvm.Cond.instanceMethod ({ cls := "java/util/HashMap$Node", name := "getKey", desc := "()Ljava/lang/Object;" } : Jvm.MethodName)) ∈ lw_all := lw_g (lw_at lw_m9 133 rfl) rfl
theorem q2149 : (Jvm.Cond.code ({ cls := "java/util/HashMap$Node", name := "getKey", desc := "()Ljava/lang/Object;" } : Jvm.MethodName) prog_43_method_2_code (1 : Nat) (Option.some (Jvm.ClassFile.FieldType.object "java/lang/Object"))) ∈ lw_all := lw_g (lw_at lw_m9 134 rfl) rfl
theorem q2801 : (Jvm.Cond.castable "java/util/HashMap$Node" "java/lang/Object") ∈ lw_tbl := lw_at lw_m12 66 rfl
theorem in_J21 : ∀ w ∈ wsJ210, w ∈ lw_all := lw_in wsJ210 [1310, 1311, 1312, 1313] (by decide +kernel) (by decide +kernel)

/-! java/util/LinkedHashMap$Entry -/
set_option maxRecDepth 100000
def RJ22 : String := "java/util/LinkedHashMap$Entry"
def TJ22 : u_T := fun k => match k with
  | 0 => ("java/util/HashMap$Node", "hash", "I", true)
  | 1 => ("java/util/HashMap$Node", "key", "Ljava/lang/Object;", true)
  | 2 => ("java/util/HashMap$Node", "value", "Ljava/lang/Object;", false)
  | 3 => ("java/util/HashMap$Node", "next", "Ljava/util/HashMap$Node;", false)
  | 4 => ("java/util/LinkedHashMap$Entry", "before", "Ljava/util/LinkedHashMap$Entry;", false)
  | _ => ("java/util/LinkedHashMap$Entry", "after", "Ljava/util/LinkedHashMap$Entry;", false)
def tyJ22 : Nat → FieldType := fun k => match k with
  | 0 => .int
  | 1 => .object "java/lang/Object"
  | 2 => .object "java/lang/Object"
  | 3 => .object "java/util/HashMap$Node"
  | 4 => .object "java/util/LinkedHashMap$Entry"
  | _ => .object "java/util/LinkedHashMap$Entry"
abbrev wsJ220 : List Cond := u_ws RJ22 TJ22 6
theorem nmJ22 : ∀ a, a < 6 → ∀ b, b < 6 → a ≠ b → (TJ22 a).2.1 ≠ (TJ22 b).2.1 := by decide +kernel
theorem tyJ22_ok : ∀ k, k < 6 → parseFieldDescriptor (TJ22 k).2.2.1 = some (tyJ22 k) := by decide +kernel
abbrev cJ22_init : ByteArray := prog_48_method_1_code
def yJ22_init : MethodName := ⟨RJ22, "<init>", "(ILjava/lang/Object;Ljava/lang/Object;Ljava/util/HashMap$Node;)V"⟩
def dkwJ22_init_0 : List UInt8 := [42, 27, 44, 45, 25, 4, 183, 0, 1, 177]
abbrev dktJ22_init_0 : List UInt8 := dkwJ22_init_0 ++ []
theorem dksJ22_init_0 : cJ22_init.data.toList.drop 0 = dktJ22_init_0 := by decide +kernel
theorem dJ22_init_0 : decode cJ22_init 0 = .ok (.aload_n 0, 1) := dk_42 (dk_at dksJ22_init_0 0 rfl rfl)
theorem dJ22_init_1 : decode cJ22_init 1 = .ok (.iload_n 1, 1) := dk_27 (dk_at dksJ22_init_0 1 rfl rfl)
theorem dJ22_init_2 : decode cJ22_init 2 = .ok (.aload_n 2, 1) := dk_44 (dk_at dksJ22_init_0 2 rfl rfl)
theorem dJ22_init_3 : decode cJ22_init 3 = .ok (.aload_n 3, 1) := dk_45 (dk_at dksJ22_init_0 3 rfl rfl)
theorem dJ22_init_4 : decode cJ22_init 4 = .ok (.aload 4, 2) := dk_25 4 (dk_at dksJ22_init_0 4 rfl rfl)
theorem dJ22_init_6 : decode cJ22_init 6 = .ok (.invokespecial 1, 3) := dk_183 0 1 (dk_at dksJ22_init_0 6 rfl rfl)
theorem dJ22_init_9 : decode cJ22_init 9 = .ok (.return_, 1) := dk_177 (dk_at dksJ22_init_0 9 rfl rfl)
theorem q128 : (Jvm.Cond.initialized "java/util/LinkedHashMap$Entry") ∈ lw_all := lw_g (lw_at lw_m1 33 rfl) rfl
theorem q565 : (Jvm.Cond.selects "java/util/LinkedHashMap$Entry" ({ cls := "java/lang/Object", name := "getClass", desc := "()Ljava/lang/Class;" } : Jvm.MethodName) ({ cls := "java/lang/Object", name := "getClass", desc := "()Ljava/lang/Class;" } : Jvm.MethodName)) ∈ lw_all := lw_g (lw_at lw_m2 230 rfl) rfl
theorem q1252 : (Jvm.Cond.instantiable "java/util/LinkedHashMap$Entry" (6 : Nat)) ∈ lw_all := lw_g (lw_at lw_m5 197 rfl) rfl
theorem q1254 : (Jvm.Cond.instanceMethod ({ cls := "java/util/LinkedHashMap$Entry", name := "<init>", desc := "(ILjava/lang/Object;Ljava/lang/Object;Ljava/util/HashMap$Node;)V" } : Jvm.MethodName)) ∈ lw_all := lw_g (lw_at lw_m5 199 rfl) rfl
theorem q1255 : (Jvm.Cond.code ({ cls := "java/util/LinkedHashMap$Entry", name := "<init>", desc := "(ILjava/lang/Object;Ljava/lang/Object;Ljava/util/HashMap$Node;)V" } : Jvm.MethodName) prog_48_method_1_code (5 : Nat) (Option.none : Option Jvm.ClassFile.FieldType)) ∈ lw_all := lw_g (lw_at lw_m5 200 rfl) rfl
theorem q1256 : (Jvm.Cond.methodLink "java/util/LinkedHashMap$Entry" (1 : Nat) ({ cls := "java/util/HashMap$Node", name := "<init>", desc := "(ILjava/lang/Object;Ljava/lang/Object;Ljava/util/HashMap$Node;)V" } : Jvm.MethodName)) ∈ lw_all := lw_g (lw_at lw_m5 201 rfl) rfl
theorem q1268 : (Jvm.Cond.sameField "java/util/LinkedHashMap$Entry" "java/util/HashMap$Node" "hash" "I") ∈ lw_all := lw_g (lw_at lw_m5 213 rfl) rfl
theorem q1275 : (Jvm.Cond.sameField "java/util/LinkedHashMap$Entry" "java/util/HashMap$Node" "key" "Ljava/lang/Object;") ∈ lw_all := lw_g (lw_at lw_m5 220 rfl) rfl
theorem q1279 : (Jvm.Cond.sameField "java/util/LinkedHashMap$Entry" "java/util/HashMap$Node" "value" "Ljava/lang/Object;") ∈ lw_all := lw_g (lw_at lw_m5 224 rfl) rfl
theorem q1289 : (Jvm.Cond.lays "java/util/LinkedHashMap$Entry" "java/util/LinkedHashMap$Entry" "before" "Ljava/util/LinkedHashMap$Entry;") ∈ lw_all := lw_g (lw_at lw_m5 234 rfl) rfl
theorem q1290 : (Jvm.Cond.soleField "java/util/LinkedHashMap$Entry" "before") ∈ lw_all := lw_g (lw_at lw_m5 235 rfl) rfl
theorem q1291 : (Jvm.Cond.lays "java/util/LinkedHashMap$Entry" "java/util/LinkedHashMap$Entry" "after" "Ljava/util/LinkedHashMap$Entry;") ∈ lw_all := lw_g (lw_at lw_m5 236 rfl) rfl
theorem q1292 : (Jvm.Cond.soleField "java/util/LinkedHashMap$Entry" "after") ∈ lw_all := lw_g (lw_at lw_m5 237 rfl) rfl
theorem q1293 : (Jvm.Cond.laysFinal "java/util/LinkedHashMap$Entry" "java/util/HashMap$Node" "hash" "I") ∈ lw_all := lw_g (lw_at lw_m5 238 rfl) rfl
theorem q1295 : (Jvm.Cond.laysFinal "java/util/LinkedHashMap$Entry" "java/util/HashMap$Node" "key" "Ljava/lang/Object;") ∈ lw_all := lw_g (lw_at lw_m6 0 rfl) rfl
theorem q1297 : (Jvm.Cond.lays "java/util/LinkedHashMap$Entry" "java/util/HashMap$Node" "value" "Ljava/lang/Object;") ∈ lw_all := lw_g (lw_at lw_m6 2 rfl) rfl
theorem q1299 : (Jvm.Cond.lays "java/util/LinkedHashMap$Entry" "java/util/HashMap$Node" "next" "Ljava/util/HashMap$Node;") ∈ lw_all := lw_g (lw_at lw_m6 4 rfl) rfl
theorem q1301 : (Jvm.Cond.superclass "java/util/LinkedHashMap$Entry" "java/util/HashMap$Node") ∈ lw_all := lw_g (lw_at lw_m6 6 rfl) rfl
theorem q2144 : (Jvm.Cond.sameMethod "java/util/LinkedHashMap$Entry" "java/util/HashMap$Node" "getKey" "()Ljava/lang/Object;") ∈ lw_all := lw_g (lw_at lw_m9 129 rfl) rfl
theorem q2147 : (Jvm.Cond.selects "java/util/LinkedHashMap$Entry" ({ cls := "java/util/LinkedHashMap$Entry", name := "getKey", desc := "()Ljava/lang/Object;" } : Jvm.MethodName) ({ cls := "java/util/HashMap$Node", name := "getKey", desc := "()Ljava/lang/Object;" } : Jvm.MethodName)) ∈ lw_all := lw_g (lw_at lw_m9 132 rfl) rfl
theorem q2819 : (Jvm.Cond.castable "java/util/LinkedHashMap$Entry" "java/lang/Object") ∈ lw_tbl := lw_at lw_m12 84 rfl
theorem q2825 : (Jvm.Cond.castable "java/util/LinkedHashMap$Entry" "java/util/HashMap$Node") ∈ lw_tbl := lw_at lw_m12 90 rfl
theorem in_J22 : ∀ w ∈ wsJ220, w ∈ lw_all := lw_in wsJ220 [1293, 1295, 1297, 1299, 1289, 1291] (by decide +kernel) (by decide +kernel)

/-! java/lang/Record -/
set_option maxRecDepth 100000
def RJ24 : String := "java/lang/Record"
abbrev cJ24_init : ByteArray := prog_23_method_1_code
def yJ24_init : MethodName := ⟨RJ24, "<init>", "()V"⟩
theorem dJ24_init_0 : decode cJ24_init 0 = .ok (.aload_n 0, 1) := by decide +kernel
theorem dJ24_init_1 : decode cJ24_init 1 = .ok (.invokespecial 1, 3) := by decide +kernel
theorem dJ24_init_4 : decode cJ24_init 4 = .ok (.return_, 1) := by decide +kernel
theorem q130 : (Jvm.Cond.initialized "java/lang/Record") ∈ lw_all := lw_g (lw_at lw_m1 35 rfl) rfl
theorem q1742 : (Jvm.Cond.instanceMethod ({ cls := "java/lang/Record", name := "<init>", desc := "()V" } : Jvm.MethodName)) ∈ lw_all := lw_g (lw_at lw_m7 207 rfl) rfl
theorem q1743 : (Jvm.Cond.code ({ cls := "java/lang/Record", name := "<init>", desc := "()V" } : Jvm.MethodName) prog_23_method_1_code (1 : Nat) (Option.none : Option Jvm.ClassFile.FieldType)) ∈ lw_all := lw_g (lw_at lw_m7 208 rfl) rfl
theorem q1744 : (Jvm.Cond.methodLink "java/lang/Record" (1 : Nat) ({ cls := "java/lang/Object", name := "<init>", desc := "()V" } : Jvm.MethodName)) ∈ lw_all := lw_g (lw_at lw_m7 209 rfl) rfl

/-! java/util/LinkedHashMap -/
set_option maxRecDepth 100000
def RJ25 : String := "java/util/LinkedHashMap"
def TJ25 : u_T := fun k => match k with
  | 0 => ("java/util/AbstractMap", "keySet", "Ljava/util/Set;", false)
  | 1 => ("java/util/AbstractMap", "values", "Ljava/util/Collection;", false)
  | 2 => ("java/util/HashMap", "table", "[Ljava/util/HashMap$Node;", false)
  | 3 => ("java/util/HashMap", "entrySet", "Ljava/util/Set;", false)
  | 4 => ("java/util/HashMap", "size", "I", false)
  | 5 => ("java/util/HashMap", "modCount", "I", false)
  | 6 => ("java/util/HashMap", "threshold", "I", false)
  | 7 => ("java/util/HashMap", "loadFactor", "F", true)
  | 8 => ("java/util/LinkedHashMap", "head", "Ljava/util/LinkedHashMap$Entry;", false)
  | 9 => ("java/util/LinkedHashMap", "tail", "Ljava/util/LinkedHashMap$Entry;", false)
  | 10 => ("java/util/LinkedHashMap", "accessOrder", "Z", true)
  | _ => ("java/util/LinkedHashMap", "putMode", "I", false)
def tyJ25 : Nat → FieldType := fun k => match k with
  | 0 => .object "java/util/Set"
  | 1 => .object "java/util/Collection"
  | 2 => .array (.object "java/util/HashMap$Node")
  | 3 => .object "java/util/Set"
  | 4 => .int
  | 5 => .int
  | 6 => .int
  | 7 => .float
  | 8 => .object "java/util/LinkedHashMap$Entry"
  | 9 => .object "java/util/LinkedHashMap$Entry"
  | 10 => .boolean
  | _ => .int
abbrev wsJ250 : List Cond := u_ws RJ25 TJ25 12
theorem nmJ25 : ∀ a, a < 12 → ∀ b, b < 12 → a ≠ b → (TJ25 a).2.1 ≠ (TJ25 b).2.1 := by decide +kernel
theorem tyJ25_ok : ∀ k, k < 12 → parseFieldDescriptor (TJ25 k).2.2.1 = some (tyJ25 k) := by decide +kernel
abbrev cJ25_get : ByteArray := prog_47_method_20_code
def yJ25_get : MethodName := ⟨RJ25, "get", "(Ljava/lang/Object;)Ljava/lang/Object;"⟩
def dkwJ25_get_1 : List UInt8 := [44, 180, 0, 107, 176]
abbrev dktJ25_get_1 : List UInt8 := dkwJ25_get_1 ++ []
def dkwJ25_get_0 : List UInt8 := [42, 43, 182, 0, 99, 89, 77, 199, 0, 5, 1, 176, 42, 180, 0, 64, 153, 0, 8, 42, 44, 182, 0, 103]
abbrev dktJ25_get_0 : List UInt8 := dkwJ25_get_0 ++ dktJ25_get_1
theorem dksJ25_get_0 : cJ25_get.data.toList.drop 0 = dktJ25_get_0 := by decide +kernel
theorem dksJ25_get_1 : cJ25_get.data.toList.drop 24 = dktJ25_get_1 := dk_seg dksJ25_get_0 24 rfl rfl
theorem dJ25_get_0 : decode cJ25_get 0 = .ok (.aload_n 0, 1) := dk_42 (dk_at dksJ25_get_0 0 rfl rfl)
theorem dJ25_get_1 : decode cJ25_get 1 = .ok (.aload_n 1, 1) := dk_43 (dk_at dksJ25_get_0 1 rfl rfl)
theorem dJ25_get_2 : decode cJ25_get 2 = .ok (.invokevirtual 99, 3) := dk_182 0 99 (dk_at dksJ25_get_0 2 rfl rfl)
theorem dJ25_get_5 : decode cJ25_get 5 = .ok (.dup, 1) := dk_89 (dk_at dksJ25_get_0 5 rfl rfl)
theorem dJ25_get_6 : decode cJ25_get 6 = .ok (.astore_n 2, 1) := dk_77 (dk_at dksJ25_get_0 6 rfl rfl)
theorem dJ25_get_7 : decode cJ25_get 7 = .ok (.ifnonnull 5, 3) := dk_199 0 5 (dk_at dksJ25_get_0 7 rfl rfl)
theorem dJ25_get_10 : decode cJ25_get 10 = .ok (.aconst_null, 1) := dk_1 (dk_at dksJ25_get_0 10 rfl rfl)
theorem dJ25_get_11 : decode cJ25_get 11 = .ok (.areturn, 1) := dk_176 (dk_at dksJ25_get_0 11 rfl rfl)
theorem dJ25_get_12 : decode cJ25_get 12 = .ok (.aload_n 0, 1) := dk_42 (dk_at dksJ25_get_0 12 rfl rfl)
theorem dJ25_get_13 : decode cJ25_get 13 = .ok (.getfield 64, 3) := dk_180 0 64 (dk_at dksJ25_get_0 13 rfl rfl)
theorem dJ25_get_16 : decode cJ25_get 16 = .ok (.ifCond .eq 8, 3) := dk_153 0 8 (dk_at dksJ25_get_0 16 rfl rfl)
theorem dJ25_get_19 : decode cJ25_get 19 = .ok (.aload_n 0, 1) := dk_42 (dk_at dksJ25_get_0 19 rfl rfl)
theorem dJ25_get_20 : decode cJ25_get 20 = .ok (.aload_n 2, 1) := dk_44 (dk_at dksJ25_get_0 20 rfl rfl)
theorem dJ25_get_21 : decode cJ25_get 21 = .ok (.invokevirtual 103, 3) := dk_182 0 103 (dk_at dksJ25_get_0 21 rfl rfl)
theorem dJ25_get_24 : decode cJ25_get 24 = .ok (.aload_n 2, 1) := dk_44 (dk_at dksJ25_get_1 0 rfl rfl)
theorem dJ25_get_25 : decode cJ25_get 25 = .ok (.getfield 107, 3) := dk_180 0 107 (dk_at dksJ25_get_1 1 rfl rfl)
theorem dJ25_get_28 : decode cJ25_get 28 = .ok (.areturn, 1) := dk_176 (dk_at dksJ25_get_1 4 rfl rfl)
abbrev cJ25_afterNodeAccess : ByteArray := prog_47_method_10_code
def yJ25_afterNodeAccess : MethodName := ⟨RJ25, "afterNodeAccess", "(Ljava/util/HashMap$Node;)V"⟩
def dkwJ25_afterNodeAccess_11 : List UInt8 := [181, 0, 7, 42, 89, 180, 0, 68, 4, 96, 181, 0, 68, 177]
abbrev dktJ25_afterNodeAccess_11 : List UInt8 := dkwJ25_afterNodeAccess_11 ++ []
def dkwJ25_afterNodeAccess_10 : List UInt8 := [25, 4, 181, 0, 11, 167, 0, 15, 25, 4, 45, 181, 0, 14, 45, 25, 4, 181, 0, 19, 42, 25, 4]
abbrev dktJ25_afterNodeAccess_10 : List UInt8 := dkwJ25_afterNodeAccess_10 ++ dktJ25_afterNodeAccess_11
def dkwJ25_afterNodeAccess_9 : List UInt8 := [25, 5, 198, 0, 13, 25, 5, 25, 6, 181, 0, 14, 167, 0, 6, 25, 6, 78, 45, 199, 0, 12, 42]
abbrev dktJ25_afterNodeAccess_9 : List UInt8 := dkwJ25_afterNodeAccess_9 ++ dktJ25_afterNodeAccess_10
def dkwJ25_afterNodeAccess_8 : List UInt8 := [181, 0, 19, 25, 6, 199, 0, 12, 42, 25, 5, 181, 0, 11, 167, 0, 10, 25, 6, 25, 5, 181, 0, 19]
abbrev dktJ25_afterNodeAccess_8 : List UInt8 := dkwJ25_afterNodeAccess_8 ++ dktJ25_afterNodeAccess_9
def dkwJ25_afterNodeAccess_7 : List UInt8 := [43, 192, 0, 15, 58, 4, 25, 4, 180, 0, 19, 58, 5, 25, 4, 180, 0, 14, 58, 6, 25, 4, 1]
abbrev dktJ25_afterNodeAccess_7 : List UInt8 := dkwJ25_afterNodeAccess_7 ++ dktJ25_afterNodeAccess_8
def dkwJ25_afterNodeAccess_6 : List UInt8 := [181, 0, 68, 167, 0, 127, 42, 180, 0, 1, 4, 160, 0, 119, 42, 180, 0, 7, 89, 78, 43, 165, 0, 109]
abbrev dktJ25_afterNodeAccess_6 : List UInt8 := dkwJ25_afterNodeAccess_6 ++ dktJ25_afterNodeAccess_7
def dkwJ25_afterNodeAccess_5 : List UInt8 := [181, 0, 19, 44, 25, 4, 181, 0, 14, 42, 25, 4, 181, 0, 11, 42, 89, 180, 0, 68, 4, 96]
abbrev dktJ25_afterNodeAccess_5 : List UInt8 := dkwJ25_afterNodeAccess_5 ++ dktJ25_afterNodeAccess_6
def dkwJ25_afterNodeAccess_4 : List UInt8 := [167, 0, 6, 25, 5, 77, 44, 199, 0, 12, 42, 25, 4, 181, 0, 7, 167, 0, 15, 25, 4, 44]
abbrev dktJ25_afterNodeAccess_4 : List UInt8 := dkwJ25_afterNodeAccess_4 ++ dktJ25_afterNodeAccess_5
def dkwJ25_afterNodeAccess_3 : List UInt8 := [167, 0, 10, 25, 5, 25, 6, 181, 0, 14, 25, 6, 198, 0, 13, 25, 6, 25, 5, 181, 0, 19]
abbrev dktJ25_afterNodeAccess_3 : List UInt8 := dkwJ25_afterNodeAccess_3 ++ dktJ25_afterNodeAccess_4
def dkwJ25_afterNodeAccess_2 : List UInt8 := [180, 0, 14, 58, 6, 25, 4, 1, 181, 0, 14, 25, 5, 199, 0, 12, 42, 25, 6, 181, 0, 7]
abbrev dktJ25_afterNodeAccess_2 : List UInt8 := dkwJ25_afterNodeAccess_2 ++ dktJ25_afterNodeAccess_3
def dkwJ25_afterNodeAccess_1 : List UInt8 := [180, 0, 11, 89, 77, 43, 165, 0, 112, 43, 192, 0, 15, 58, 4, 25, 4, 180, 0, 19, 58, 5, 25, 4]
abbrev dktJ25_afterNodeAccess_1 : List UInt8 := dkwJ25_afterNodeAccess_1 ++ dktJ25_afterNodeAccess_2
def dkwJ25_afterNodeAccess_0 : List UInt8 := [42, 180, 0, 1, 5, 159, 0, 17, 42, 180, 0, 1, 154, 0, 129, 42, 180, 0, 64, 153, 0, 122, 42]
abbrev dktJ25_afterNodeAccess_0 : List UInt8 := dkwJ25_afterNodeAccess_0 ++ dktJ25_afterNodeAccess_1
theorem dksJ25_afterNodeAccess_0 : cJ25_afterNodeAccess.data.toList.drop 0 = dktJ25_afterNodeAccess_0 := by decide +kernel
theorem dksJ25_afterNodeAccess_1 : cJ25_afterNodeAccess.data.toList.drop 23 = dktJ25_afterNodeAccess_1 := dk_seg dksJ25_afterNodeAccess_0 23 rfl rfl
theorem dksJ25_afterNodeAccess_2 : cJ25_afterNodeAccess.data.toList.drop 47 = dktJ25_afterNodeAccess_2 := dk_seg dksJ25_afterNodeAccess_1 24 rfl rfl
theorem dksJ25_afterNodeAccess_3 : cJ25_afterNodeAccess.data.toList.drop 69 = dktJ25_afterNodeAccess_3 := dk_seg dksJ25_afterNodeAccess_2 22 rfl rfl
theorem dksJ25_afterNodeAccess_4 : cJ25_afterNodeAccess.data.toList.drop 91 = dktJ25_afterNodeAccess_4 := dk_seg dksJ25_afterNodeAccess_3 22 rfl rfl
theorem dksJ25_afterNodeAccess_5 : cJ25_afterNodeAccess.data.toList.drop 113 = dktJ25_afterNodeAccess_5 := dk_seg dksJ25_afterNodeAccess_4 22 rfl rfl
theorem dksJ25_afterNodeAccess_6 : cJ25_afterNodeAccess.data.toList.drop 135 = dktJ25_afterNodeAccess_6 := dk_seg dksJ25_afterNodeAccess_5 22 rfl rfl
theorem dksJ25_afterNodeAccess_7 : cJ25_afterNodeAccess.data.toList.drop 159 = dktJ25_afterNodeAccess_7 := dk_seg dksJ25_afterNodeAccess_6 24 rfl rfl
theorem dksJ25_afterNodeAccess_8 : cJ25_afterNodeAccess.data.toList.drop 182 = dktJ25_afterNodeAccess_8 := dk_seg dksJ25_afterNodeAccess_7 23 rfl rfl
theorem dksJ25_afterNodeAccess_9 : cJ25_afterNodeAccess.data.toList.drop 206 = dktJ25_afterNodeAccess_9 := dk_seg dksJ25_afterNodeAccess_8 24 rfl rfl
theorem dksJ25_afterNodeAccess_10 : cJ25_afterNodeAccess.data.toList.drop 229 = dktJ25_afterNodeAccess_10 := dk_seg dksJ25_afterNodeAccess_9 23 rfl rfl
theorem dksJ25_afterNodeAccess_11 : cJ25_afterNodeAccess.data.toList.drop 252 = dktJ25_afterNodeAccess_11 := dk_seg dksJ25_afterNodeAccess_10 23 rfl rfl
theorem dJ25_afterNodeAccess_0 : decode cJ25_afterNodeAccess 0 = .ok (.aload_n 0, 1) := dk_42 (dk_at dksJ25_afterNodeAccess_0 0 rfl rfl)
theorem dJ25_afterNodeAccess_1 : decode cJ25_afterNodeAccess 1 = .ok (.getfield 1, 3) := dk_180 0 1 (dk_at dksJ25_afterNodeAccess_0 1 rfl rfl)
theorem dJ25_afterNodeAccess_4 : decode cJ25_afterNodeAccess 4 = .ok (.iconst 2, 1) := dk_5 (dk_at dksJ25_afterNodeAccess_0 4 rfl rfl)
theorem dJ25_afterNodeAccess_5 : decode cJ25_afterNodeAccess 5 = .ok (.if_icmp .eq 17, 3) := dk_159 0 17 (dk_at dksJ25_afterNodeAccess_0 5 rfl rfl)
theorem dJ25_afterNodeAccess_8 : decode cJ25_afterNodeAccess 8 = .ok (.aload_n 0, 1) := dk_42 (dk_at dksJ25_afterNodeAccess_0 8 rfl rfl)
theorem dJ25_afterNodeAccess_9 : decode cJ25_afterNodeAccess 9 = .ok (.getfield 1, 3) := dk_180 0 1 (dk_at dksJ25_afterNodeAccess_0 9 rfl rfl)
theorem dJ25_afterNodeAccess_12 : decode cJ25_afterNodeAccess 12 = .ok (.ifCond .ne 129, 3) := dk_154 0 129 (dk_at dksJ25_afterNodeAccess_0 12 rfl rfl)
theorem dJ25_afterNodeAccess_15 : decode cJ25_afterNodeAccess 15 = .ok (.aload_n 0, 1) := dk_42 (dk_at dksJ25_afterNodeAccess_0 15 rfl rfl)
theorem dJ25_afterNodeAccess_16 : decode cJ25_afterNodeAccess 16 = .ok (.getfield 64, 3) := dk_180 0 64 (dk_at dksJ25_afterNodeAccess_0 16 rfl rfl)
theorem dJ25_afterNodeAccess_19 : decode cJ25_afterNodeAccess 19 = .ok (.ifCond .eq 122, 3) := dk_153 0 122 (dk_at dksJ25_afterNodeAccess_0 19 rfl rfl)
theorem dJ25_afterNodeAccess_22 : decode cJ25_afterNodeAccess 22 = .ok (.aload_n 0, 1) := dk_42 (dk_at dksJ25_afterNodeAccess_0 22 rfl rfl)
theorem dJ25_afterNodeAccess_23 : decode cJ25_afterNodeAccess 23 = .ok (.getfield 11, 3) := dk_180 0 11 (dk_at dksJ25_afterNodeAccess_1 0 rfl rfl)
theorem dJ25_afterNodeAccess_26 : decode cJ25_afterNodeAccess 26 = .ok (.dup, 1) := dk_89 (dk_at dksJ25_afterNodeAccess_1 3 rfl rfl)
theorem dJ25_afterNodeAccess_27 : decode cJ25_afterNodeAccess 27 = .ok (.astore_n 2, 1) := dk_77 (dk_at dksJ25_afterNodeAccess_1 4 rfl rfl)
theorem dJ25_afterNodeAccess_28 : decode cJ25_afterNodeAccess 28 = .ok (.aload_n 1, 1) := dk_43 (dk_at dksJ25_afterNodeAccess_1 5 rfl rfl)
theorem dJ25_afterNodeAccess_29 : decode cJ25_afterNodeAccess 29 = .ok (.if_acmp .eq 112, 3) := dk_165 0 112 (dk_at dksJ25_afterNodeAccess_1 6 rfl rfl)
theorem dJ25_afterNodeAccess_32 : decode cJ25_afterNodeAccess 32 = .ok (.aload_n 1, 1) := dk_43 (dk_at dksJ25_afterNodeAccess_1 9 rfl rfl)
theorem dJ25_afterNodeAccess_33 : decode cJ25_afterNodeAccess 33 = .ok (.checkcast 15, 3) := dk_192 0 15 (dk_at dksJ25_afterNodeAccess_1 10 rfl rfl)
theorem dJ25_afterNodeAccess_36 : decode cJ25_afterNodeAccess 36 = .ok (.astore 4, 2) := dk_58 4 (dk_at dksJ25_afterNodeAccess_1 13 rfl rfl)
theorem dJ25_afterNodeAccess_38 : decode cJ25_afterNodeAccess 38 = .ok (.aload 4, 2) := dk_25 4 (dk_at dksJ25_afterNodeAccess_1 15 rfl rfl)
theorem dJ25_afterNodeAccess_40 : decode cJ25_afterNodeAccess 40 = .ok (.getfield 19, 3) := dk_180 0 19 (dk_at dksJ25_afterNodeAccess_1 17 rfl rfl)
theorem dJ25_afterNodeAccess_43 : decode cJ25_afterNodeAccess 43 = .ok (.astore 5, 2) := dk_58 5 (dk_at dksJ25_afterNodeAccess_1 20 rfl rfl)
theorem dJ25_afterNodeAccess_45 : decode cJ25_afterNodeAccess 45 = .ok (.aload 4, 2) := dk_25 4 (dk_at dksJ25_afterNodeAccess_1 22 rfl rfl)
theorem dJ25_afterNodeAccess_47 : decode cJ25_afterNodeAccess 47 = .ok (.getfield 14, 3) := dk_180 0 14 (dk_at dksJ25_afterNodeAccess_2 0 rfl rfl)
theorem dJ25_afterNodeAccess_50 : decode cJ25_afterNodeAccess 50 = .ok (.astore 6, 2) := dk_58 6 (dk_at dksJ25_afterNodeAccess_2 3 rfl rfl)
theorem dJ25_afterNodeAccess_52 : decode cJ25_afterNodeAccess 52 = .ok (.aload 4, 2) := dk_25 4 (dk_at dksJ25_afterNodeAccess_2 5 rfl rfl)
theorem dJ25_afterNodeAccess_54 : decode cJ25_afterNodeAccess 54 = .ok (.aconst_null, 1) := dk_1 (dk_at dksJ25_afterNodeAccess_2 7 rfl rfl)
theorem dJ25_afterNodeAccess_55 : decode cJ25_afterNodeAccess 55 = .ok (.putfield 14, 3) := dk_181 0 14 (dk_at dksJ25_afterNodeAccess_2 8 rfl rfl)
theorem dJ25_afterNodeAccess_58 : decode cJ25_afterNodeAccess 58 = .ok (.aload 5, 2) := dk_25 5 (dk_at dksJ25_afterNodeAccess_2 11 rfl rfl)
theorem dJ25_afterNodeAccess_60 : decode cJ25_afterNodeAccess 60 = .ok (.ifnonnull 12, 3) := dk_199 0 12 (dk_at dksJ25_afterNodeAccess_2 13 rfl rfl)
theorem dJ25_afterNodeAccess_63 : decode cJ25_afterNodeAccess 63 = .ok (.aload_n 0, 1) := dk_42 (dk_at dksJ25_afterNodeAccess_2 16 rfl rfl)
theorem dJ25_afterNodeAccess_64 : decode cJ25_afterNodeAccess 64 = .ok (.aload 6, 2) := dk_25 6 (dk_at dksJ25_afterNodeAccess_2 17 rfl rfl)
theorem dJ25_afterNodeAccess_66 : decode cJ25_afterNodeAccess 66 = .ok (.putfield 7, 3) := dk_181 0 7 (dk_at dksJ25_afterNodeAccess_2 19 rfl rfl)
theorem dJ25_afterNodeAccess_69 : decode cJ25_afterNodeAccess 69 = .ok (.goto 10, 3) := dk_167 0 10 (dk_at dksJ25_afterNodeAccess_3 0 rfl rfl)
theorem dJ25_afterNodeAccess_72 : decode cJ25_afterNodeAccess 72 = .ok (.aload 5, 2) := dk_25 5 (dk_at dksJ25_afterNodeAccess_3 3 rfl rfl)
theorem dJ25_afterNodeAccess_74 : decode cJ25_afterNodeAccess 74 = .ok (.aload 6, 2) := dk_25 6 (dk_at dksJ25_afterNodeAccess_3 5 rfl rfl)
theorem dJ25_afterNodeAccess_76 : decode cJ25_afterNodeAccess 76 = .ok (.putfield 14, 3) := dk_181 0 14 (dk_at dksJ25_afterNodeAccess_3 7 rfl rfl)
theorem dJ25_afterNodeAccess_79 : decode cJ25_afterNodeAccess 79 = .ok (.aload 6, 2) := dk_25 6 (dk_at dksJ25_afterNodeAccess_3 10 rfl rfl)
theorem dJ25_afterNodeAccess_81 : decode cJ25_afterNodeAccess 81 = .ok (.ifnull 13, 3) := dk_198 0 13 (dk_at dksJ25_afterNodeAccess_3 12 rfl rfl)
theorem dJ25_afterNodeAccess_84 : decode cJ25_afterNodeAccess 84 = .ok (.aload 6, 2) := dk_25 6 (dk_at dksJ25_afterNodeAccess_3 15 rfl rfl)
theorem dJ25_afterNodeAccess_86 : decode cJ25_afterNodeAccess 86 = .ok (.aload 5, 2) := dk_25 5 (dk_at dksJ25_afterNodeAccess_3 17 rfl rfl)
theorem dJ25_afterNodeAccess_88 : decode cJ25_afterNodeAccess 88 = .ok (.putfield 19, 3) := dk_181 0 19 (dk_at dksJ25_afterNodeAccess_3 19 rfl rfl)
theorem dJ25_afterNodeAccess_91 : decode cJ25_afterNodeAccess 91 = .ok (.goto 6, 3) := dk_167 0 6 (dk_at dksJ25_afterNodeAccess_4 0 rfl rfl)
theorem dJ25_afterNodeAccess_94 : decode cJ25_afterNodeAccess 94 = .ok (.aload 5, 2) := dk_25 5 (dk_at dksJ25_afterNodeAccess_4 3 rfl rfl)
theorem dJ25_afterNodeAccess_96 : decode cJ25_afterNodeAccess 96 = .ok (.astore_n 2, 1) := dk_77 (dk_at dksJ25_afterNodeAccess_4 5 rfl rfl)
theorem dJ25_afterNodeAccess_97 : decode cJ25_afterNodeAccess 97 = .ok (.aload_n 2, 1) := dk_44 (dk_at dksJ25_afterNodeAccess_4 6 rfl rfl)
theorem dJ25_afterNodeAccess_98 : decode cJ25_afterNodeAccess 98 = .ok (.ifnonnull 12, 3) := dk_199 0 12 (dk_at dksJ25_afterNodeAccess_4 7 rfl rfl)
theorem dJ25_afterNodeAccess_101 : decode cJ25_afterNodeAccess 101 = .ok (.aload_n 0, 1) := dk_42 (dk_at dksJ25_afterNodeAccess_4 10 rfl rfl)
theorem dJ25_afterNodeAccess_102 : decode cJ25_afterNodeAccess 102 = .ok (.aload 4, 2) := dk_25 4 (dk_at dksJ25_afterNodeAccess_4 11 rfl rfl)
theorem dJ25_afterNodeAccess_104 : decode cJ25_afterNodeAccess 104 = .ok (.putfield 7, 3) := dk_181 0 7 (dk_at dksJ25_afterNodeAccess_4 13 rfl rfl)
theorem dJ25_afterNodeAccess_107 : decode cJ25_afterNodeAccess 107 = .ok (.goto 15, 3) := dk_167 0 15 (dk_at dksJ25_afterNodeAccess_4 16 rfl rfl)
theorem dJ25_afterNodeAccess_110 : decode cJ25_afterNodeAccess 110 = .ok (.aload 4, 2) := dk_25 4 (dk_at dksJ25_afterNodeAccess_4 19 rfl rfl)
theorem dJ25_afterNodeAccess_112 : decode cJ25_afterNodeAccess 112 = .ok (.aload_n 2, 1) := dk_44 (dk_at dksJ25_afterNodeAccess_4 21 rfl rfl)
theorem dJ25_afterNodeAccess_113 : decode cJ25_afterNodeAccess 113 = .ok (.putfield 19, 3) := dk_181 0 19 (dk_at dksJ25_afterNodeAccess_5 0 rfl rfl)
theorem dJ25_afterNodeAccess_116 : decode cJ25_afterNodeAccess 116 = .ok (.aload_n 2, 1) := dk_44 (dk_at dksJ25_afterNodeAccess_5 3 rfl rfl)
theorem dJ25_afterNodeAccess_117 : decode cJ25_afterNodeAccess 117 = .ok (.aload 4, 2) := dk_25 4 (dk_at dksJ25_afterNodeAccess_5 4 rfl rfl)
theorem dJ25_afterNodeAccess_119 : decode cJ25_afterNodeAccess 119 = .ok (.putfield 14, 3) := dk_181 0 14 (dk_at dksJ25_afterNodeAccess_5 6 rfl rfl)
theorem dJ25_afterNodeAccess_122 : decode cJ25_afterNodeAccess 122 = .ok (.aload_n 0, 1) := dk_42 (dk_at dksJ25_afterNodeAccess_5 9 rfl rfl)
theorem dJ25_afterNodeAccess_123 : decode cJ25_afterNodeAccess 123 = .ok (.aload 4, 2) := dk_25 4 (dk_at dksJ25_afterNodeAccess_5 10 rfl rfl)
theorem dJ25_afterNodeAccess_125 : decode cJ25_afterNodeAccess 125 = .ok (.putfield 11, 3) := dk_181 0 11 (dk_at dksJ25_afterNodeAccess_5 12 rfl rfl)
theorem dJ25_afterNodeAccess_128 : decode cJ25_afterNodeAccess 128 = .ok (.aload_n 0, 1) := dk_42 (dk_at dksJ25_afterNodeAccess_5 15 rfl rfl)
theorem dJ25_afterNodeAccess_129 : decode cJ25_afterNodeAccess 129 = .ok (.dup, 1) := dk_89 (dk_at dksJ25_afterNodeAccess_5 16 rfl rfl)
theorem dJ25_afterNodeAccess_130 : decode cJ25_afterNodeAccess 130 = .ok (.getfield 68, 3) := dk_180 0 68 (dk_at dksJ25_afterNodeAccess_5 17 rfl rfl)
theorem dJ25_afterNodeAccess_133 : decode cJ25_afterNodeAccess 133 = .ok (.iconst 1, 1) := dk_4 (dk_at dksJ25_afterNodeAccess_5 20 rfl rfl)
theorem dJ25_afterNodeAccess_134 : decode cJ25_afterNodeAccess 134 = .ok (.iadd, 1) := dk_96 (dk_at dksJ25_afterNodeAccess_5 21 rfl rfl)
theorem dJ25_afterNodeAccess_135 : decode cJ25_afterNodeAccess 135 = .ok (.putfield 68, 3) := dk_181 0 68 (dk_at dksJ25_afterNodeAccess_6 0 rfl rfl)
theorem dJ25_afterNodeAccess_138 : decode cJ25_afterNodeAccess 138 = .ok (.goto 127, 3) := dk_167 0 127 (dk_at dksJ25_afterNodeAccess_6 3 rfl rfl)
theorem dJ25_afterNodeAccess_141 : decode cJ25_afterNodeAccess 141 = .ok (.aload_n 0, 1) := dk_42 (dk_at dksJ25_afterNodeAccess_6 6 rfl rfl)
theorem dJ25_afterNodeAccess_142 : decode cJ25_afterNodeAccess 142 = .ok (.getfield 1, 3) := dk_180 0 1 (dk_at dksJ25_afterNodeAccess_6 7 rfl rfl)
theorem dJ25_afterNodeAccess_145 : decode cJ25_afterNodeAccess 145 = .ok (.iconst 1, 1) := dk_4 (dk_at dksJ25_afterNodeAccess_6 10 rfl rfl)
theorem dJ25_afterNodeAccess_146 : decode cJ25_afterNodeAccess 146 = .ok (.if_icmp .ne 119, 3) := dk_160 0 119 (dk_at dksJ25_afterNodeAccess_6 11 rfl rfl)
theorem dJ25_afterNodeAccess_149 : decode cJ25_afterNodeAccess 149 = .ok (.aload_n 0, 1) := dk_42 (dk_at dksJ25_afterNodeAccess_6 14 rfl rfl)
theorem dJ25_afterNodeAccess_150 : decode cJ25_afterNodeAccess 150 = .ok (.getfield 7, 3) := dk_180 0 7 (dk_at dksJ25_afterNodeAccess_6 15 rfl rfl)
theorem dJ25_afterNodeAccess_153 : decode cJ25_afterNodeAccess 153 = .ok (.dup, 1) := dk_89 (dk_at dksJ25_afterNodeAccess_6 18 rfl rfl)
theorem dJ25_afterNodeAccess_154 : decode cJ25_afterNodeAccess 154 = .ok (.astore_n 3, 1) := dk_78 (dk_at dksJ25_afterNodeAccess_6 19 rfl rfl)
theorem dJ25_afterNodeAccess_155 : decode cJ25_afterNodeAccess 155 = .ok (.aload_n 1, 1) := dk_43 (dk_at dksJ25_afterNodeAccess_6 20 rfl rfl)
theorem dJ25_afterNodeAccess_156 : decode cJ25_afterNodeAccess 156 = .ok (.if_acmp .eq 109, 3) := dk_165 0 109 (dk_at dksJ25_afterNodeAccess_6 21 rfl rfl)
theorem dJ25_afterNodeAccess_159 : decode cJ25_afterNodeAccess 159 = .ok (.aload_n 1, 1) := dk_43 (dk_at dksJ25_afterNodeAccess_7 0 rfl rfl)
theorem dJ25_afterNodeAccess_160 : decode cJ25_afterNodeAccess 160 = .ok (.checkcast 15, 3) := dk_192 0 15 (dk_at dksJ25_afterNodeAccess_7 1 rfl rfl)
theorem dJ25_afterNodeAccess_163 : decode cJ25_afterNodeAccess 163 = .ok (.astore 4, 2) := dk_58 4 (dk_at dksJ25_afterNodeAccess_7 4 rfl rfl)
theorem dJ25_afterNodeAccess_165 : decode cJ25_afterNodeAccess 165 = .ok (.aload 4, 2) := dk_25 4 (dk_at dksJ25_afterNodeAccess_7 6 rfl rfl)
theorem dJ25_afterNodeAccess_167 : decode cJ25_afterNodeAccess 167 = .ok (.getfield 19, 3) := dk_180 0 19 (dk_at dksJ25_afterNodeAccess_7 8 rfl rfl)
theorem dJ25_afterNodeAccess_170 : decode cJ25_afterNodeAccess 170 = .ok (.astore 5, 2) := dk_58 5 (dk_at dksJ25_afterNodeAccess_7 11 rfl rfl)
theorem dJ25_afterNodeAccess_172 : decode cJ25_afterNodeAccess 172 = .ok (.aload 4, 2) := dk_25 4 (dk_at dksJ25_afterNodeAccess_7 13 rfl rfl)
theorem dJ25_afterNodeAccess_174 : decode cJ25_afterNodeAccess 174 = .ok (.getfield 14, 3) := dk_180 0 14 (dk_at dksJ25_afterNodeAccess_7 15 rfl rfl)
theorem dJ25_afterNodeAccess_177 : decode cJ25_afterNodeAccess 177 = .ok (.astore 6, 2) := dk_58 6 (dk_at dksJ25_afterNodeAccess_7 18 rfl rfl)
theorem dJ25_afterNodeAccess_179 : decode cJ25_afterNodeAccess 179 = .ok (.aload 4, 2) := dk_25 4 (dk_at dksJ25_afterNodeAccess_7 20 rfl rfl)
theorem dJ25_afterNodeAccess_181 : decode cJ25_afterNodeAccess 181 = .ok (.aconst_null, 1) := dk_1 (dk_at dksJ25_afterNodeAccess_7 22 rfl rfl)
theorem dJ25_afterNodeAccess_182 : decode cJ25_afterNodeAccess 182 = .ok (.putfield 19, 3) := dk_181 0 19 (dk_at dksJ25_afterNodeAccess_8 0 rfl rfl)
theorem dJ25_afterNodeAccess_185 : decode cJ25_afterNodeAccess 185 = .ok (.aload 6, 2) := dk_25 6 (dk_at dksJ25_afterNodeAccess_8 3 rfl rfl)
theorem dJ25_afterNodeAccess_187 : decode cJ25_afterNodeAccess 187 = .ok (.ifnonnull 12, 3) := dk_199 0 12 (dk_at dksJ25_afterNodeAccess_8 5 rfl rfl)
theorem dJ25_afterNodeAccess_190 : decode cJ25_afterNodeAccess 190 = .ok (.aload_n 0, 1) := dk_42 (dk_at dksJ25_afterNodeAccess_8 8 rfl rfl)
theorem dJ25_afterNodeAccess_191 : decode cJ25_afterNodeAccess 191 = .ok (.aload 5, 2) := dk_25 5 (dk_at dksJ25_afterNodeAccess_8 9 rfl rfl)
theorem dJ25_afterNodeAccess_193 : decode cJ25_afterNodeAccess 193 = .ok (.putfield 11, 3) := dk_181 0 11 (dk_at dksJ25_afterNodeAccess_8 11 rfl rfl)
theorem dJ25_afterNodeAccess_196 : decode cJ25_afterNodeAccess 196 = .ok (.goto 10, 3) := dk_167 0 10 (dk_at dksJ25_afterNodeAccess_8 14 rfl rfl)
theorem dJ25_afterNodeAccess_199 : decode cJ25_afterNodeAccess 199 = .ok (.aload 6, 2) := dk_25 6 (dk_at dksJ25_afterNodeAccess_8 17 rfl rfl)
theorem dJ25_afterNodeAccess_201 : decode cJ25_afterNodeAccess 201 = .ok (.aload 5, 2) := dk_25 5 (dk_at dksJ25_afterNodeAccess_8 19 rfl rfl)
theorem dJ25_afterNodeAccess_203 : decode cJ25_afterNodeAccess 203 = .ok (.putfield 19, 3) := dk_181 0 19 (dk_at dksJ25_afterNodeAccess_8 21 rfl rfl)
theorem dJ25_afterNodeAccess_206 : decode cJ25_afterNodeAccess 206 = .ok (.aload 5, 2) := dk_25 5 (dk_at dksJ25_afterNodeAccess_9 0 rfl rfl)
theorem dJ25_afterNodeAccess_208 : decode cJ25_afterNodeAccess 208 = .ok (.ifnull 13, 3) := dk_198 0 13 (dk_at dksJ25_afterNodeAccess_9 2 rfl rfl)
theorem dJ25_afterNodeAccess_211 : decode cJ25_afterNodeAccess 211 = .ok (.aload 5, 2) := dk_25 5 (dk_at dksJ25_afterNodeAccess_9 5 rfl rfl)
theorem dJ25_afterNodeAccess_213 : decode cJ25_afterNodeAccess 213 = .ok (.aload 6, 2) := dk_25 6 (dk_at dksJ25_afterNodeAccess_9 7 rfl rfl)
theorem dJ25_afterNodeAccess_215 : decode cJ25_afterNodeAccess 215 = .ok (.putfield 14, 3) := dk_181 0 14 (dk_at dksJ25_afterNodeAccess_9 9 rfl rfl)
theorem dJ25_afterNodeAccess_218 : decode cJ25_afterNodeAccess 218 = .ok (.goto 6, 3) := dk_167 0 6 (dk_at dksJ25_afterNodeAccess_9 12 rfl rfl)
theorem dJ25_afterNodeAccess_221 : decode cJ25_afterNodeAccess 221 = .ok (.aload 6, 2) := dk_25 6 (dk_at dksJ25_afterNodeAccess_9 15 rfl rfl)
theorem dJ25_afterNodeAccess_223 : decode cJ25_afterNodeAccess 223 = .ok (.astore_n 3, 1) := dk_78 (dk_at dksJ25_afterNodeAccess_9 17 rfl rfl)
theorem dJ25_afterNodeAccess_224 : decode cJ25_afterNodeAccess 224 = .ok (.aload_n 3, 1) := dk_45 (dk_at dksJ25_afterNodeAccess_9 18 rfl rfl)
theorem dJ25_afterNodeAccess_225 : decode cJ25_afterNodeAccess 225 = .ok (.ifnonnull 12, 3) := dk_199 0 12 (dk_at dksJ25_afterNodeAccess_9 19 rfl rfl)
theorem dJ25_afterNodeAccess_228 : decode cJ25_afterNodeAccess 228 = .ok (.aload_n 0, 1) := dk_42 (dk_at dksJ25_afterNodeAccess_9 22 rfl rfl)
theorem dJ25_afterNodeAccess_229 : decode cJ25_afterNodeAccess 229 = .ok (.aload 4, 2) := dk_25 4 (dk_at dksJ25_afterNodeAccess_10 0 rfl rfl)
theorem dJ25_afterNodeAccess_231 : decode cJ25_afterNodeAccess 231 = .ok (.putfield 11, 3) := dk_181 0 11 (dk_at dksJ25_afterNodeAccess_10 2 rfl rfl)
theorem dJ25_afterNodeAccess_234 : decode cJ25_afterNodeAccess 234 = .ok (.goto 15, 3) := dk_167 0 15 (dk_at dksJ25_afterNodeAccess_10 5 rfl rfl)
theorem dJ25_afterNodeAccess_237 : decode cJ25_afterNodeAccess 237 = .ok (.aload 4, 2) := dk_25 4 (dk_at dksJ25_afterNodeAccess_10 8 rfl rfl)
theorem dJ25_afterNodeAccess_239 : decode cJ25_afterNodeAccess 239 = .ok (.aload_n 3, 1) := dk_45 (dk_at dksJ25_afterNodeAccess_10 10 rfl rfl)
theorem dJ25_afterNodeAccess_240 : decode cJ25_afterNodeAccess 240 = .ok (.putfield 14, 3) := dk_181 0 14 (dk_at dksJ25_afterNodeAccess_10 11 rfl rfl)
theorem dJ25_afterNodeAccess_243 : decode cJ25_afterNodeAccess 243 = .ok (.aload_n 3, 1) := dk_45 (dk_at dksJ25_afterNodeAccess_10 14 rfl rfl)
theorem dJ25_afterNodeAccess_244 : decode cJ25_afterNodeAccess 244 = .ok (.aload 4, 2) := dk_25 4 (dk_at dksJ25_afterNodeAccess_10 15 rfl rfl)
theorem dJ25_afterNodeAccess_246 : decode cJ25_afterNodeAccess 246 = .ok (.putfield 19, 3) := dk_181 0 19 (dk_at dksJ25_afterNodeAccess_10 17 rfl rfl)
theorem dJ25_afterNodeAccess_249 : decode cJ25_afterNodeAccess 249 = .ok (.aload_n 0, 1) := dk_42 (dk_at dksJ25_afterNodeAccess_10 20 rfl rfl)
theorem dJ25_afterNodeAccess_250 : decode cJ25_afterNodeAccess 250 = .ok (.aload 4, 2) := dk_25 4 (dk_at dksJ25_afterNodeAccess_10 21 rfl rfl)
theorem dJ25_afterNodeAccess_252 : decode cJ25_afterNodeAccess 252 = .ok (.putfield 7, 3) := dk_181 0 7 (dk_at dksJ25_afterNodeAccess_11 0 rfl rfl)
theorem dJ25_afterNodeAccess_255 : decode cJ25_afterNodeAccess 255 = .ok (.aload_n 0, 1) := dk_42 (dk_at dksJ25_afterNodeAccess_11 3 rfl rfl)
theorem dJ25_afterNodeAccess_256 : decode cJ25_afterNodeAccess 256 = .ok (.dup, 1) := dk_89 (dk_at dksJ25_afterNodeAccess_11 4 rfl rfl)
theorem dJ25_afterNodeAccess_257 : decode cJ25_afterNodeAccess 257 = .ok (.getfield 68, 3) := dk_180 0 68 (dk_at dksJ25_afterNodeAccess_11 5 rfl rfl)
theorem dJ25_afterNodeAccess_260 : decode cJ25_afterNodeAccess 260 = .ok (.iconst 1, 1) := dk_4 (dk_at dksJ25_afterNodeAccess_11 8 rfl rfl)
theorem dJ25_afterNodeAccess_261 : decode cJ25_afterNodeAccess 261 = .ok (.iadd, 1) := dk_96 (dk_at dksJ25_afterNodeAccess_11 9 rfl rfl)
theorem dJ25_afterNodeAccess_262 : decode cJ25_afterNodeAccess 262 = .ok (.putfield 68, 3) := dk_181 0 68 (dk_at dksJ25_afterNodeAccess_11 10 rfl rfl)
theorem dJ25_afterNodeAccess_265 : decode cJ25_afterNodeAccess 265 = .ok (.return_, 1) := dk_177 (dk_at dksJ25_afterNodeAccess_11 13 rfl rfl)
abbrev cJ25_replacementNode : ByteArray := prog_47_method_5_code
def yJ25_replacementNode : MethodName := ⟨RJ25, "replacementNode", "(Ljava/util/HashMap$Node;Ljava/util/HashMap$Node;)Ljava/util/HashMap$Node;"⟩
def dkwJ25_replacementNode_1 : List UInt8 := [183, 0, 28, 58, 4, 42, 45, 25, 4, 182, 0, 46, 25, 4, 176]
abbrev dktJ25_replacementNode_1 : List UInt8 := dkwJ25_replacementNode_1 ++ []
def dkwJ25_replacementNode_0 : List UInt8 := [43, 192, 0, 15, 78, 187, 0, 15, 89, 45, 180, 0, 36, 45, 180, 0, 39, 45, 180, 0, 43, 44]
abbrev dktJ25_replacementNode_0 : List UInt8 := dkwJ25_replacementNode_0 ++ dktJ25_replacementNode_1
theorem dksJ25_replacementNode_0 : cJ25_replacementNode.data.toList.drop 0 = dktJ25_replacementNode_0 := by decide +kernel
theorem dksJ25_replacementNode_1 : cJ25_replacementNode.data.toList.drop 22 = dktJ25_replacementNode_1 := dk_seg dksJ25_replacementNode_0 22 rfl rfl
theorem dJ25_replacementNode_0 : decode cJ25_replacementNode 0 = .ok (.aload_n 1, 1) := dk_43 (dk_at dksJ25_replacementNode_0 0 rfl rfl)
theorem dJ25_replacementNode_1 : decode cJ25_replacementNode 1 = .ok (.checkcast 15, 3) := dk_192 0 15 (dk_at dksJ25_replacementNode_0 1 rfl rfl)
theorem dJ25_replacementNode_4 : decode cJ25_replacementNode 4 = .ok (.astore_n 3, 1) := dk_78 (dk_at dksJ25_replacementNode_0 4 rfl rfl)
theorem dJ25_replacementNode_5 : decode cJ25_replacementNode 5 = .ok (.new 15, 3) := dk_187 0 15 (dk_at dksJ25_replacementNode_0 5 rfl rfl)
theorem dJ25_replacementNode_8 : decode cJ25_replacementNode 8 = .ok (.dup, 1) := dk_89 (dk_at dksJ25_replacementNode_0 8 rfl rfl)
theorem dJ25_replacementNode_9 : decode cJ25_replacementNode 9 = .ok (.aload_n 3, 1) := dk_45 (dk_at dksJ25_replacementNode_0 9 rfl rfl)
theorem dJ25_replacementNode_10 : decode cJ25_replacementNode 10 = .ok (.getfield 36, 3) := dk_180 0 36 (dk_at dksJ25_replacementNode_0 10 rfl rfl)
theorem dJ25_replacementNode_13 : decode cJ25_replacementNode 13 = .ok (.aload_n 3, 1) := dk_45 (dk_at dksJ25_replacementNode_0 13 rfl rfl)
theorem dJ25_replacementNode_14 : decode cJ25_replacementNode 14 = .ok (.getfield 39, 3) := dk_180 0 39 (dk_at dksJ25_replacementNode_0 14 rfl rfl)
theorem dJ25_replacementNode_17 : decode cJ25_replacementNode 17 = .ok (.aload_n 3, 1) := dk_45 (dk_at dksJ25_replacementNode_0 17 rfl rfl)
theorem dJ25_replacementNode_18 : decode cJ25_replacementNode 18 = .ok (.getfield 43, 3) := dk_180 0 43 (dk_at dksJ25_replacementNode_0 18 rfl rfl)
theorem dJ25_replacementNode_21 : decode cJ25_replacementNode 21 = .ok (.aload_n 2, 1) := dk_44 (dk_at dksJ25_replacementNode_0 21 rfl rfl)
theorem dJ25_replacementNode_22 : decode cJ25_replacementNode 22 = .ok (.invokespecial 28, 3) := dk_183 0 28 (dk_at dksJ25_replacementNode_1 0 rfl rfl)
theorem dJ25_replacementNode_25 : decode cJ25_replacementNode 25 = .ok (.astore 4, 2) := dk_58 4 (dk_at dksJ25_replacementNode_1 3 rfl rfl)
theorem dJ25_replacementNode_27 : decode cJ25_replacementNode 27 = .ok (.aload_n 0, 1) := dk_42 (dk_at dksJ25_replacementNode_1 5 rfl rfl)
theorem dJ25_replacementNode_28 : decode cJ25_replacementNode 28 = .ok (.aload_n 3, 1) := dk_45 (dk_at dksJ25_replacementNode_1 6 rfl rfl)
theorem dJ25_replacementNode_29 : decode cJ25_replacementNode 29 = .ok (.aload 4, 2) := dk_25 4 (dk_at dksJ25_replacementNode_1 7 rfl rfl)
theorem dJ25_replacementNode_31 : decode cJ25_replacementNode 31 = .ok (.invokevirtual 46, 3) := dk_182 0 46 (dk_at dksJ25_replacementNode_1 9 rfl rfl)
theorem dJ25_replacementNode_34 : decode cJ25_replacementNode 34 = .ok (.aload 4, 2) := dk_25 4 (dk_at dksJ25_replacementNode_1 12 rfl rfl)
theorem dJ25_replacementNode_36 : decode cJ25_replacementNode 36 = .ok (.areturn, 1) := dk_176 (dk_at dksJ25_replacementNode_1 14 rfl rfl)
abbrev cJ25_transferLinks : ByteArray := prog_47_method_2_code
def yJ25_transferLinks : MethodName := ⟨RJ25, "transferLinks", "(Ljava/util/LinkedHashMap$Entry;Ljava/util/LinkedHashMap$Entry;)V"⟩
def dkwJ25_transferLinks_2 : List UInt8 := [181, 0, 11, 167, 0, 9, 25, 4, 44, 181, 0, 19, 177]
abbrev dktJ25_transferLinks_2 : List UInt8 := dkwJ25_transferLinks_2 ++ []
def dkwJ25_transferLinks_1 : List UInt8 := [199, 0, 11, 42, 44, 181, 0, 7, 167, 0, 8, 45, 44, 181, 0, 14, 25, 4, 199, 0, 11, 42, 44]
abbrev dktJ25_transferLinks_1 : List UInt8 := dkwJ25_transferLinks_1 ++ dktJ25_transferLinks_2
def dkwJ25_transferLinks_0 : List UInt8 := [44, 43, 180, 0, 19, 90, 181, 0, 19, 78, 44, 43, 180, 0, 14, 90, 181, 0, 14, 58, 4, 45]
abbrev dktJ25_transferLinks_0 : List UInt8 := dkwJ25_transferLinks_0 ++ dktJ25_transferLinks_1
theorem dksJ25_transferLinks_0 : cJ25_transferLinks.data.toList.drop 0 = dktJ25_transferLinks_0 := by decide +kernel
theorem dksJ25_transferLinks_1 : cJ25_transferLinks.data.toList.drop 22 = dktJ25_transferLinks_1 := dk_seg dksJ25_transferLinks_0 22 rfl rfl
theorem dksJ25_transferLinks_2 : cJ25_transferLinks.data.toList.drop 45 = dktJ25_transferLinks_2 := dk_seg dksJ25_transferLinks_1 23 rfl rfl
theorem dJ25_transferLinks_0 : decode cJ25_transferLinks 0 = .ok (.aload_n 2, 1) := dk_44 (dk_at dksJ25_transferLinks_0 0 rfl rfl)
theorem dJ25_transferLinks_1 : decode cJ25_transferLinks 1 = .ok (.aload_n 1, 1) := dk_43 (dk_at dksJ25_transferLinks_0 1 rfl rfl)
theorem dJ25_transferLinks_2 : decode cJ25_transferLinks 2 = .ok (.getfield 19, 3) := dk_180 0 19 (dk_at dksJ25_transferLinks_0 2 rfl rfl)
theorem dJ25_transferLinks_5 : decode cJ25_transferLinks 5 = .ok (.dup_x1, 1) := dk_90 (dk_at dksJ25_transferLinks_0 5 rfl rfl)
theorem dJ25_transferLinks_6 : decode cJ25_transferLinks 6 = .ok (.putfield 19, 3) := dk_181 0 19 (dk_at dksJ25_transferLinks_0 6 rfl rfl)
theorem dJ25_transferLinks_9 : decode cJ25_transferLinks 9 = .ok (.astore_n 3, 1) := dk_78 (dk_at dksJ25_transferLinks_0 9 rfl rfl)
theorem dJ25_transferLinks_10 : decode cJ25_transferLinks 10 = .ok (.aload_n 2, 1) := dk_44 (dk_at dksJ25_transferLinks_0 10 rfl rfl)
theorem dJ25_transferLinks_11 : decode cJ25_transferLinks 11 = .ok (.aload_n 1, 1) := dk_43 (dk_at dksJ25_transferLinks_0 11 rfl rfl)
theorem dJ25_transferLinks_12 : decode cJ25_transferLinks 12 = .ok (.getfield 14, 3) := dk_180 0 14 (dk_at dksJ25_transferLinks_0 12 rfl rfl)
theorem dJ25_transferLinks_15 : decode cJ25_transferLinks 15 = .ok (.dup_x1, 1) := dk_90 (dk_at dksJ25_transferLinks_0 15 rfl rfl)
theorem dJ25_transferLinks_16 : decode cJ25_transferLinks 16 = .ok (.putfield 14, 3) := dk_181 0 14 (dk_at dksJ25_transferLinks_0 16 rfl rfl)
theorem dJ25_transferLinks_19 : decode cJ25_transferLinks 19 = .ok (.astore 4, 2) := dk_58 4 (dk_at dksJ25_transferLinks_0 19 rfl rfl)
theorem dJ25_transferLinks_21 : decode cJ25_transferLinks 21 = .ok (.aload_n 3, 1) := dk_45 (dk_at dksJ25_transferLinks_0 21 rfl rfl)
theorem dJ25_transferLinks_22 : decode cJ25_transferLinks 22 = .ok (.ifnonnull 11, 3) := dk_199 0 11 (dk_at dksJ25_transferLinks_1 0 rfl rfl)
theorem dJ25_transferLinks_25 : decode cJ25_transferLinks 25 = .ok (.aload_n 0, 1) := dk_42 (dk_at dksJ25_transferLinks_1 3 rfl rfl)
theorem dJ25_transferLinks_26 : decode cJ25_transferLinks 26 = .ok (.aload_n 2, 1) := dk_44 (dk_at dksJ25_transferLinks_1 4 rfl rfl)
theorem dJ25_transferLinks_27 : decode cJ25_transferLinks 27 = .ok (.putfield 7, 3) := dk_181 0 7 (dk_at dksJ25_transferLinks_1 5 rfl rfl)
theorem dJ25_transferLinks_30 : decode cJ25_transferLinks 30 = .ok (.goto 8, 3) := dk_167 0 8 (dk_at dksJ25_transferLinks_1 8 rfl rfl)
theorem dJ25_transferLinks_33 : decode cJ25_transferLinks 33 = .ok (.aload_n 3, 1) := dk_45 (dk_at dksJ25_transferLinks_1 11 rfl rfl)
theorem dJ25_transferLinks_34 : decode cJ25_transferLinks 34 = .ok (.aload_n 2, 1) := dk_44 (dk_at dksJ25_transferLinks_1 12 rfl rfl)
theorem dJ25_transferLinks_35 : decode cJ25_transferLinks 35 = .ok (.putfield 14, 3) := dk_181 0 14 (dk_at dksJ25_transferLinks_1 13 rfl rfl)
theorem dJ25_transferLinks_38 : decode cJ25_transferLinks 38 = .ok (.aload 4, 2) := dk_25 4 (dk_at dksJ25_transferLinks_1 16 rfl rfl)
theorem dJ25_transferLinks_40 : decode cJ25_transferLinks 40 = .ok (.ifnonnull 11, 3) := dk_199 0 11 (dk_at dksJ25_transferLinks_1 18 rfl rfl)
theorem dJ25_transferLinks_43 : decode cJ25_transferLinks 43 = .ok (.aload_n 0, 1) := dk_42 (dk_at dksJ25_transferLinks_1 21 rfl rfl)
theorem dJ25_transferLinks_44 : decode cJ25_transferLinks 44 = .ok (.aload_n 2, 1) := dk_44 (dk_at dksJ25_transferLinks_1 22 rfl rfl)
theorem dJ25_transferLinks_45 : decode cJ25_transferLinks 45 = .ok (.putfield 11, 3) := dk_181 0 11 (dk_at dksJ25_transferLinks_2 0 rfl rfl)
theorem dJ25_transferLinks_48 : decode cJ25_transferLinks 48 = .ok (.goto 9, 3) := dk_167 0 9 (dk_at dksJ25_transferLinks_2 3 rfl rfl)
theorem dJ25_transferLinks_51 : decode cJ25_transferLinks 51 = .ok (.aload 4, 2) := dk_25 4 (dk_at dksJ25_transferLinks_2 6 rfl rfl)
theorem dJ25_transferLinks_53 : decode cJ25_transferLinks 53 = .ok (.aload_n 2, 1) := dk_44 (dk_at dksJ25_transferLinks_2 8 rfl rfl)
theorem dJ25_transferLinks_54 : decode cJ25_transferLinks 54 = .ok (.putfield 19, 3) := dk_181 0 19 (dk_at dksJ25_transferLinks_2 9 rfl rfl)
theorem dJ25_transferLinks_57 : decode cJ25_transferLinks 57 = .ok (.return_, 1) := dk_177 (dk_at dksJ25_transferLinks_2 12 rfl rfl)
abbrev cJ25_newNode : ByteArray := prog_47_method_4_code
def yJ25_newNode : MethodName := ⟨RJ25, "newNode", "(ILjava/lang/Object;Ljava/lang/Object;Ljava/util/HashMap$Node;)Ljava/util/HashMap$Node;"⟩
def dkwJ25_newNode_0 : List UInt8 := [187, 0, 15, 89, 27, 44, 45, 25, 4, 183, 0, 28, 58, 5, 42, 25, 5, 182, 0, 32, 25, 5, 176]
abbrev dktJ25_newNode_0 : List UInt8 := dkwJ25_newNode_0 ++ []
theorem dksJ25_newNode_0 : cJ25_newNode.data.toList.drop 0 = dktJ25_newNode_0 := by decide +kernel
theorem dJ25_newNode_0 : decode cJ25_newNode 0 = .ok (.new 15, 3) := dk_187 0 15 (dk_at dksJ25_newNode_0 0 rfl rfl)
theorem dJ25_newNode_3 : decode cJ25_newNode 3 = .ok (.dup, 1) := dk_89 (dk_at dksJ25_newNode_0 3 rfl rfl)
theorem dJ25_newNode_4 : decode cJ25_newNode 4 = .ok (.iload_n 1, 1) := dk_27 (dk_at dksJ25_newNode_0 4 rfl rfl)
theorem dJ25_newNode_5 : decode cJ25_newNode 5 = .ok (.aload_n 2, 1) := dk_44 (dk_at dksJ25_newNode_0 5 rfl rfl)
theorem dJ25_newNode_6 : decode cJ25_newNode 6 = .ok (.aload_n 3, 1) := dk_45 (dk_at dksJ25_newNode_0 6 rfl rfl)
theorem dJ25_newNode_7 : decode cJ25_newNode 7 = .ok (.aload 4, 2) := dk_25 4 (dk_at dksJ25_newNode_0 7 rfl rfl)
theorem dJ25_newNode_9 : decode cJ25_newNode 9 = .ok (.invokespecial 28, 3) := dk_183 0 28 (dk_at dksJ25_newNode_0 9 rfl rfl)
theorem dJ25_newNode_12 : decode cJ25_newNode 12 = .ok (.astore 5, 2) := dk_58 5 (dk_at dksJ25_newNode_0 12 rfl rfl)
theorem dJ25_newNode_14 : decode cJ25_newNode 14 = .ok (.aload_n 0, 1) := dk_42 (dk_at dksJ25_newNode_0 14 rfl rfl)
theorem dJ25_newNode_15 : decode cJ25_newNode 15 = .ok (.aload 5, 2) := dk_25 5 (dk_at dksJ25_newNode_0 15 rfl rfl)
theorem dJ25_newNode_17 : decode cJ25_newNode 17 = .ok (.invokevirtual 32, 3) := dk_182 0 32 (dk_at dksJ25_newNode_0 17 rfl rfl)
theorem dJ25_newNode_20 : decode cJ25_newNode 20 = .ok (.aload 5, 2) := dk_25 5 (dk_at dksJ25_newNode_0 20 rfl rfl)
theorem dJ25_newNode_22 : decode cJ25_newNode 22 = .ok (.areturn, 1) := dk_176 (dk_at dksJ25_newNode_0 22 rfl rfl)
abbrev cJ25_linkNodeAtEnd : ByteArray := prog_47_method_1_code
def yJ25_linkNodeAtEnd : MethodName := ⟨RJ25, "linkNodeAtEnd", "(Ljava/util/LinkedHashMap$Entry;)V"⟩
def dkwJ25_linkNodeAtEnd_3 : List UInt8 := [181, 0, 14, 177]
abbrev dktJ25_linkNodeAtEnd_3 : List UInt8 := dkwJ25_linkNodeAtEnd_3 ++ []
def dkwJ25_linkNodeAtEnd_2 : List UInt8 := [42, 43, 181, 0, 11, 44, 199, 0, 11, 42, 43, 181, 0, 7, 167, 0, 13, 43, 44, 181, 0, 19, 44, 43]
abbrev dktJ25_linkNodeAtEnd_2 : List UInt8 := dkwJ25_linkNodeAtEnd_2 ++ dktJ25_linkNodeAtEnd_3
def dkwJ25_linkNodeAtEnd_1 : List UInt8 := [181, 0, 11, 167, 0, 13, 43, 44, 181, 0, 14, 44, 43, 181, 0, 19, 167, 0, 35, 42, 180, 0, 11, 77]
abbrev dktJ25_linkNodeAtEnd_1 : List UInt8 := dkwJ25_linkNodeAtEnd_1 ++ dktJ25_linkNodeAtEnd_2
def dkwJ25_linkNodeAtEnd_0 : List UInt8 := [42, 180, 0, 1, 4, 160, 0, 38, 42, 180, 0, 7, 77, 42, 43, 181, 0, 7, 44, 199, 0, 11, 42, 43]
abbrev dktJ25_linkNodeAtEnd_0 : List UInt8 := dkwJ25_linkNodeAtEnd_0 ++ dktJ25_linkNodeAtEnd_1
theorem dksJ25_linkNodeAtEnd_0 : cJ25_linkNodeAtEnd.data.toList.drop 0 = dktJ25_linkNodeAtEnd_0 := by decide +kernel
theorem dksJ25_linkNodeAtEnd_1 : cJ25_linkNodeAtEnd.data.toList.drop 24 = dktJ25_linkNodeAtEnd_1 := dk_seg dksJ25_linkNodeAtEnd_0 24 rfl rfl
theorem dksJ25_linkNodeAtEnd_2 : cJ25_linkNodeAtEnd.data.toList.drop 48 = dktJ25_linkNodeAtEnd_2 := dk_seg dksJ25_linkNodeAtEnd_1 24 rfl rfl
theorem dksJ25_linkNodeAtEnd_3 : cJ25_linkNodeAtEnd.data.toList.drop 72 = dktJ25_linkNodeAtEnd_3 := dk_seg dksJ25_linkNodeAtEnd_2 24 rfl rfl
theorem dJ25_linkNodeAtEnd_0 : decode cJ25_linkNodeAtEnd 0 = .ok (.aload_n 0, 1) := dk_42 (dk_at dksJ25_linkNodeAtEnd_0 0 rfl rfl)
theorem dJ25_linkNodeAtEnd_1 : decode cJ25_linkNodeAtEnd 1 = .ok (.getfield 1, 3) := dk_180 0 1 (dk_at dksJ25_linkNodeAtEnd_0 1 rfl rfl)
theorem dJ25_linkNodeAtEnd_4 : decode cJ25_linkNodeAtEnd 4 = .ok (.iconst 1, 1) := dk_4 (dk_at dksJ25_linkNodeAtEnd_0 4 rfl rfl)
theorem dJ25_linkNodeAtEnd_5 : decode cJ25_linkNodeAtEnd 5 = .ok (.if_icmp .ne 38, 3) := dk_160 0 38 (dk_at dksJ25_linkNodeAtEnd_0 5 rfl rfl)
theorem dJ25_linkNodeAtEnd_8 : decode cJ25_linkNodeAtEnd 8 = .ok (.aload_n 0, 1) := dk_42 (dk_at dksJ25_linkNodeAtEnd_0 8 rfl rfl)
theorem dJ25_linkNodeAtEnd_9 : decode cJ25_linkNodeAtEnd 9 = .ok (.getfield 7, 3) := dk_180 0 7 (dk_at dksJ25_linkNodeAtEnd_0 9 rfl rfl)
theorem dJ25_linkNodeAtEnd_12 : decode cJ25_linkNodeAtEnd 12 = .ok (.astore_n 2, 1) := dk_77 (dk_at dksJ25_linkNodeAtEnd_0 12 rfl rfl)
theorem dJ25_linkNodeAtEnd_13 : decode cJ25_linkNodeAtEnd 13 = .ok (.aload_n 0, 1) := dk_42 (dk_at dksJ25_linkNodeAtEnd_0 13 rfl rfl)
theorem dJ25_linkNodeAtEnd_14 : decode cJ25_linkNodeAtEnd 14 = .ok (.aload_n 1, 1) := dk_43 (dk_at dksJ25_linkNodeAtEnd_0 14 rfl rfl)
theorem dJ25_linkNodeAtEnd_15 : decode cJ25_linkNodeAtEnd 15 = .ok (.putfield 7, 3) := dk_181 0 7 (dk_at dksJ25_linkNodeAtEnd_0 15 rfl rfl)
theorem dJ25_linkNodeAtEnd_18 : decode cJ25_linkNodeAtEnd 18 = .ok (.aload_n 2, 1) := dk_44 (dk_at dksJ25_linkNodeAtEnd_0 18 rfl rfl)
theorem dJ25_linkNodeAtEnd_19 : decode cJ25_linkNodeAtEnd 19 = .ok (.ifnonnull 11, 3) := dk_199 0 11 (dk_at dksJ25_linkNodeAtEnd_0 19 rfl rfl)
theorem dJ25_linkNodeAtEnd_22 : decode cJ25_linkNodeAtEnd 22 = .ok (.aload_n 0, 1) := dk_42 (dk_at dksJ25_linkNodeAtEnd_0 22 rfl rfl)
theorem dJ25_linkNodeAtEnd_23 : decode cJ25_linkNodeAtEnd 23 = .ok (.aload_n 1, 1) := dk_43 (dk_at dksJ25_linkNodeAtEnd_0 23 rfl rfl)
theorem dJ25_linkNodeAtEnd_24 : decode cJ25_linkNodeAtEnd 24 = .ok (.putfield 11, 3) := dk_181 0 11 (dk_at dksJ25_linkNodeAtEnd_1 0 rfl rfl)
theorem dJ25_linkNodeAtEnd_27 : decode cJ25_linkNodeAtEnd 27 = .ok (.goto 13, 3) := dk_167 0 13 (dk_at dksJ25_linkNodeAtEnd_1 3 rfl rfl)
theorem dJ25_linkNodeAtEnd_30 : decode cJ25_linkNodeAtEnd 30 = .ok (.aload_n 1, 1) := dk_43 (dk_at dksJ25_linkNodeAtEnd_1 6 rfl rfl)
theorem dJ25_linkNodeAtEnd_31 : decode cJ25_linkNodeAtEnd 31 = .ok (.aload_n 2, 1) := dk_44 (dk_at dksJ25_linkNodeAtEnd_1 7 rfl rfl)
theorem dJ25_linkNodeAtEnd_32 : decode cJ25_linkNodeAtEnd 32 = .ok (.putfield 14, 3) := dk_181 0 14 (dk_at dksJ25_linkNodeAtEnd_1 8 rfl rfl)
theorem dJ25_linkNodeAtEnd_35 : decode cJ25_linkNodeAtEnd 35 = .ok (.aload_n 2, 1) := dk_44 (dk_at dksJ25_linkNodeAtEnd_1 11 rfl rfl)
theorem dJ25_linkNodeAtEnd_36 : decode cJ25_linkNodeAtEnd 36 = .ok (.aload_n 1, 1) := dk_43 (dk_at dksJ25_linkNodeAtEnd_1 12 rfl rfl)
theorem dJ25_linkNodeAtEnd_37 : decode cJ25_linkNodeAtEnd 37 = .ok (.putfield 19, 3) := dk_181 0 19 (dk_at dksJ25_linkNodeAtEnd_1 13 rfl rfl)
theorem dJ25_linkNodeAtEnd_40 : decode cJ25_linkNodeAtEnd 40 = .ok (.goto 35, 3) := dk_167 0 35 (dk_at dksJ25_linkNodeAtEnd_1 16 rfl rfl)
theorem dJ25_linkNodeAtEnd_43 : decode cJ25_linkNodeAtEnd 43 = .ok (.aload_n 0, 1) := dk_42 (dk_at dksJ25_linkNodeAtEnd_1 19 rfl rfl)
theorem dJ25_linkNodeAtEnd_44 : decode cJ25_linkNodeAtEnd 44 = .ok (.getfield 11, 3) := dk_180 0 11 (dk_at dksJ25_linkNodeAtEnd_1 20 rfl rfl)
theorem dJ25_linkNodeAtEnd_47 : decode cJ25_linkNodeAtEnd 47 = .ok (.astore_n 2, 1) := dk_77 (dk_at dksJ25_linkNodeAtEnd_1 23 rfl rfl)
theorem dJ25_linkNodeAtEnd_48 : decode cJ25_linkNodeAtEnd 48 = .ok (.aload_n 0, 1) := dk_42 (dk_at dksJ25_linkNodeAtEnd_2 0 rfl rfl)
theorem dJ25_linkNodeAtEnd_49 : decode cJ25_linkNodeAtEnd 49 = .ok (.aload_n 1, 1) := dk_43 (dk_at dksJ25_linkNodeAtEnd_2 1 rfl rfl)
theorem dJ25_linkNodeAtEnd_50 : decode cJ25_linkNodeAtEnd 50 = .ok (.putfield 11, 3) := dk_181 0 11 (dk_at dksJ25_linkNodeAtEnd_2 2 rfl rfl)
theorem dJ25_linkNodeAtEnd_53 : decode cJ25_linkNodeAtEnd 53 = .ok (.aload_n 2, 1) := dk_44 (dk_at dksJ25_linkNodeAtEnd_2 5 rfl rfl)
theorem dJ25_linkNodeAtEnd_54 : decode cJ25_linkNodeAtEnd 54 = .ok (.ifnonnull 11, 3) := dk_199 0 11 (dk_at dksJ25_linkNodeAtEnd_2 6 rfl rfl)
theorem dJ25_linkNodeAtEnd_57 : decode cJ25_linkNodeAtEnd 57 = .ok (.aload_n 0, 1) := dk_42 (dk_at dksJ25_linkNodeAtEnd_2 9 rfl rfl)
theorem dJ25_linkNodeAtEnd_58 : decode cJ25_linkNodeAtEnd 58 = .ok (.aload_n 1, 1) := dk_43 (dk_at dksJ25_linkNodeAtEnd_2 10 rfl rfl)
theorem dJ25_linkNodeAtEnd_59 : decode cJ25_linkNodeAtEnd 59 = .ok (.putfield 7, 3) := dk_181 0 7 (dk_at dksJ25_linkNodeAtEnd_2 11 rfl rfl)
theorem dJ25_linkNodeAtEnd_62 : decode cJ25_linkNodeAtEnd 62 = .ok (.goto 13, 3) := dk_167 0 13 (dk_at dksJ25_linkNodeAtEnd_2 14 rfl rfl)
theorem dJ25_linkNodeAtEnd_65 : decode cJ25_linkNodeAtEnd 65 = .ok (.aload_n 1, 1) := dk_43 (dk_at dksJ25_linkNodeAtEnd_2 17 rfl rfl)
theorem dJ25_linkNodeAtEnd_66 : decode cJ25_linkNodeAtEnd 66 = .ok (.aload_n 2, 1) := dk_44 (dk_at dksJ25_linkNodeAtEnd_2 18 rfl rfl)
theorem dJ25_linkNodeAtEnd_67 : decode cJ25_linkNodeAtEnd 67 = .ok (.putfield 19, 3) := dk_181 0 19 (dk_at dksJ25_linkNodeAtEnd_2 19 rfl rfl)
theorem dJ25_linkNodeAtEnd_70 : decode cJ25_linkNodeAtEnd 70 = .ok (.aload_n 2, 1) := dk_44 (dk_at dksJ25_linkNodeAtEnd_2 22 rfl rfl)
theorem dJ25_linkNodeAtEnd_71 : decode cJ25_linkNodeAtEnd 71 = .ok (.aload_n 1, 1) := dk_43 (dk_at dksJ25_linkNodeAtEnd_2 23 rfl rfl)
theorem dJ25_linkNodeAtEnd_72 : decode cJ25_linkNodeAtEnd 72 = .ok (.putfield 14, 3) := dk_181 0 14 (dk_at dksJ25_linkNodeAtEnd_3 0 rfl rfl)
theorem dJ25_linkNodeAtEnd_75 : decode cJ25_linkNodeAtEnd 75 = .ok (.return_, 1) := dk_177 (dk_at dksJ25_linkNodeAtEnd_3 3 rfl rfl)
abbrev cJ25_newTreeNode : ByteArray := prog_47_method_6_code
def yJ25_newTreeNode : MethodName := ⟨RJ25, "newTreeNode", "(ILjava/lang/Object;Ljava/lang/Object;Ljava/util/HashMap$Node;)Ljava/util/HashMap$TreeNode;"⟩
def dkwJ25_newTreeNode_0 : List UInt8 := [187, 0, 50, 89, 27, 44, 45, 25, 4, 183, 0, 52, 58, 5, 42, 25, 5, 182, 0, 32, 25, 5, 176]
abbrev dktJ25_newTreeNode_0 : List UInt8 := dkwJ25_newTreeNode_0 ++ []
theorem dksJ25_newTreeNode_0 : cJ25_newTreeNode.data.toList.drop 0 = dktJ25_newTreeNode_0 := by decide +kernel
theorem dJ25_newTreeNode_0 : decode cJ25_newTreeNode 0 = .ok (.new 50, 3) := dk_187 0 50 (dk_at dksJ25_newTreeNode_0 0 rfl rfl)
theorem dJ25_newTreeNode_3 : decode cJ25_newTreeNode 3 = .ok (.dup, 1) := dk_89 (dk_at dksJ25_newTreeNode_0 3 rfl rfl)
theorem dJ25_newTreeNode_4 : decode cJ25_newTreeNode 4 = .ok (.iload_n 1, 1) := dk_27 (dk_at dksJ25_newTreeNode_0 4 rfl rfl)
theorem dJ25_newTreeNode_5 : decode cJ25_newTreeNode 5 = .ok (.aload_n 2, 1) := dk_44 (dk_at dksJ25_newTreeNode_0 5 rfl rfl)
theorem dJ25_newTreeNode_6 : decode cJ25_newTreeNode 6 = .ok (.aload_n 3, 1) := dk_45 (dk_at dksJ25_newTreeNode_0 6 rfl rfl)
theorem dJ25_newTreeNode_7 : decode cJ25_newTreeNode 7 = .ok (.aload 4, 2) := dk_25 4 (dk_at dksJ25_newTreeNode_0 7 rfl rfl)
theorem dJ25_newTreeNode_9 : decode cJ25_newTreeNode 9 = .ok (.invokespecial 52, 3) := dk_183 0 52 (dk_at dksJ25_newTreeNode_0 9 rfl rfl)
theorem dJ25_newTreeNode_12 : decode cJ25_newTreeNode 12 = .ok (.astore 5, 2) := dk_58 5 (dk_at dksJ25_newTreeNode_0 12 rfl rfl)
theorem dJ25_newTreeNode_14 : decode cJ25_newTreeNode 14 = .ok (.aload_n 0, 1) := dk_42 (dk_at dksJ25_newTreeNode_0 14 rfl rfl)
theorem dJ25_newTreeNode_15 : decode cJ25_newTreeNode 15 = .ok (.aload 5, 2) := dk_25 5 (dk_at dksJ25_newTreeNode_0 15 rfl rfl)
theorem dJ25_newTreeNode_17 : decode cJ25_newTreeNode 17 = .ok (.invokevirtual 32, 3) := dk_182 0 32 (dk_at dksJ25_newTreeNode_0 17 rfl rfl)
theorem dJ25_newTreeNode_20 : decode cJ25_newTreeNode 20 = .ok (.aload 5, 2) := dk_25 5 (dk_at dksJ25_newTreeNode_0 20 rfl rfl)
theorem dJ25_newTreeNode_22 : decode cJ25_newTreeNode 22 = .ok (.areturn, 1) := dk_176 (dk_at dksJ25_newTreeNode_0 22 rfl rfl)
abbrev cJ25_replacementTreeNode : ByteArray := prog_47_method_7_code
def yJ25_replacementTreeNode : MethodName := ⟨RJ25, "replacementTreeNode", "(Ljava/util/HashMap$Node;Ljava/util/HashMap$Node;)Ljava/util/HashMap$TreeNode;"⟩
def dkwJ25_replacementTreeNode_1 : List UInt8 := [183, 0, 52, 58, 4, 42, 45, 25, 4, 182, 0, 46, 25, 4, 176]
abbrev dktJ25_replacementTreeNode_1 : List UInt8 := dkwJ25_replacementTreeNode_1 ++ []
def dkwJ25_replacementTreeNode_0 : List UInt8 := [43, 192, 0, 15, 78, 187, 0, 50, 89, 45, 180, 0, 36, 45, 180, 0, 39, 45, 180, 0, 43, 44]
abbrev dktJ25_replacementTreeNode_0 : List UInt8 := dkwJ25_replacementTreeNode_0 ++ dktJ25_replacementTreeNode_1
theorem dksJ25_replacementTreeNode_0 : cJ25_replacementTreeNode.data.toList.drop 0 = dktJ25_replacementTreeNode_0 := by decide +kernel
theorem dksJ25_replacementTreeNode_1 : cJ25_replacementTreeNode.data.toList.drop 22 = dktJ25_replacementTreeNode_1 := dk_seg dksJ25_replacementTreeNode_0 22 rfl rfl
theorem dJ25_replacementTreeNode_0 : decode cJ25_replacementTreeNode 0 = .ok (.aload_n 1, 1) := dk_43 (dk_at dksJ25_replacementTreeNode_0 0 rfl rfl)
theorem dJ25_replacementTreeNode_1 : decode cJ25_replacementTreeNode 1 = .ok (.checkcast 15, 3) := dk_192 0 15 (dk_at dksJ25_replacementTreeNode_0 1 rfl rfl)
theorem dJ25_replacementTreeNode_4 : decode cJ25_replacementTreeNode 4 = .ok (.astore_n 3, 1) := dk_78 (dk_at dksJ25_replacementTreeNode_0 4 rfl rfl)
theorem dJ25_replacementTreeNode_5 : decode cJ25_replacementTreeNode 5 = .ok (.new 50, 3) := dk_187 0 50 (dk_at dksJ25_replacementTreeNode_0 5 rfl rfl)
theorem dJ25_replacementTreeNode_8 : decode cJ25_replacementTreeNode 8 = .ok (.dup, 1) := dk_89 (dk_at dksJ25_replacementTreeNode_0 8 rfl rfl)
theorem dJ25_replacementTreeNode_9 : decode cJ25_replacementTreeNode 9 = .ok (.aload_n 3, 1) := dk_45 (dk_at dksJ25_replacementTreeNode_0 9 rfl rfl)
theorem dJ25_replacementTreeNode_10 : decode cJ25_replacementTreeNode 10 = .ok (.getfield 36, 3) := dk_180 0 36 (dk_at dksJ25_replacementTreeNode_0 10 rfl rfl)
theorem dJ25_replacementTreeNode_13 : decode cJ25_replacementTreeNode 13 = .ok (.aload_n 3, 1) := dk_45 (dk_at dksJ25_replacementTreeNode_0 13 rfl rfl)
theorem dJ25_replacementTreeNode_14 : decode cJ25_replacementTreeNode 14 = .ok (.getfield 39, 3) := dk_180 0 39 (dk_at dksJ25_replacementTreeNode_0 14 rfl rfl)
theorem dJ25_replacementTreeNode_17 : decode cJ25_replacementTreeNode 17 = .ok (.aload_n 3, 1) := dk_45 (dk_at dksJ25_replacementTreeNode_0 17 rfl rfl)
theorem dJ25_replacementTreeNode_18 : decode cJ25_replacementTreeNode 18 = .ok (.getfield 43, 3) := dk_180 0 43 (dk_at dksJ25_replacementTreeNode_0 18 rfl rfl)
theorem dJ25_replacementTreeNode_21 : decode cJ25_replacementTreeNode 21 = .ok (.aload_n 2, 1) := dk_44 (dk_at dksJ25_replacementTreeNode_0 21 rfl rfl)
theorem dJ25_replacementTreeNode_22 : decode cJ25_replacementTreeNode 22 = .ok (.invokespecial 52, 3) := dk_183 0 52 (dk_at dksJ25_replacementTreeNode_1 0 rfl rfl)
theorem dJ25_replacementTreeNode_25 : decode cJ25_replacementTreeNode 25 = .ok (.astore 4, 2) := dk_58 4 (dk_at dksJ25_replacementTreeNode_1 3 rfl rfl)
theorem dJ25_replacementTreeNode_27 : decode cJ25_replacementTreeNode 27 = .ok (.aload_n 0, 1) := dk_42 (dk_at dksJ25_replacementTreeNode_1 5 rfl rfl)
theorem dJ25_replacementTreeNode_28 : decode cJ25_replacementTreeNode 28 = .ok (.aload_n 3, 1) := dk_45 (dk_at dksJ25_replacementTreeNode_1 6 rfl rfl)
theorem dJ25_replacementTreeNode_29 : decode cJ25_replacementTreeNode 29 = .ok (.aload 4, 2) := dk_25 4 (dk_at dksJ25_replacementTreeNode_1 7 rfl rfl)
theorem dJ25_replacementTreeNode_31 : decode cJ25_replacementTreeNode 31 = .ok (.invokevirtual 46, 3) := dk_182 0 46 (dk_at dksJ25_replacementTreeNode_1 9 rfl rfl)
theorem dJ25_replacementTreeNode_34 : decode cJ25_replacementTreeNode 34 = .ok (.aload 4, 2) := dk_25 4 (dk_at dksJ25_replacementTreeNode_1 12 rfl rfl)
theorem dJ25_replacementTreeNode_36 : decode cJ25_replacementTreeNode 36 = .ok (.areturn, 1) := dk_176 (dk_at dksJ25_replacementTreeNode_1 14 rfl rfl)
abbrev cJ25_afterNodeInsertion : ByteArray := prog_47_method_9_code
def yJ25_afterNodeInsertion : MethodName := ⟨RJ25, "afterNodeInsertion", "(Z)V"⟩
def dkwJ25_afterNodeInsertion_1 : List UInt8 := [180, 0, 39, 78, 42, 45, 184, 0, 57, 45, 1, 3, 4, 182, 0, 60, 87, 177]
abbrev dktJ25_afterNodeInsertion_1 : List UInt8 := dkwJ25_afterNodeInsertion_1 ++ []
def dkwJ25_afterNodeInsertion_0 : List UInt8 := [27, 153, 0, 38, 42, 180, 0, 7, 89, 77, 198, 0, 29, 42, 44, 182, 0, 53, 153, 0, 21, 44]
abbrev dktJ25_afterNodeInsertion_0 : List UInt8 := dkwJ25_afterNodeInsertion_0 ++ dktJ25_afterNodeInsertion_1
theorem dksJ25_afterNodeInsertion_0 : cJ25_afterNodeInsertion.data.toList.drop 0 = dktJ25_afterNodeInsertion_0 := by decide +kernel
theorem dksJ25_afterNodeInsertion_1 : cJ25_afterNodeInsertion.data.toList.drop 22 = dktJ25_afterNodeInsertion_1 := dk_seg dksJ25_afterNodeInsertion_0 22 rfl rfl
theorem dJ25_afterNodeInsertion_0 : decode cJ25_afterNodeInsertion 0 = .ok (.iload_n 1, 1) := dk_27 (dk_at dksJ25_afterNodeInsertion_0 0 rfl rfl)
theorem dJ25_afterNodeInsertion_1 : decode cJ25_afterNodeInsertion 1 = .ok (.ifCond .eq 38, 3) := dk_153 0 38 (dk_at dksJ25_afterNodeInsertion_0 1 rfl rfl)
theorem dJ25_afterNodeInsertion_4 : decode cJ25_afterNodeInsertion 4 = .ok (.aload_n 0, 1) := dk_42 (dk_at dksJ25_afterNodeInsertion_0 4 rfl rfl)
theorem dJ25_afterNodeInsertion_5 : decode cJ25_afterNodeInsertion 5 = .ok (.getfield 7, 3) := dk_180 0 7 (dk_at dksJ25_afterNodeInsertion_0 5 rfl rfl)
theorem dJ25_afterNodeInsertion_8 : decode cJ25_afterNodeInsertion 8 = .ok (.dup, 1) := dk_89 (dk_at dksJ25_afterNodeInsertion_0 8 rfl rfl)
theorem dJ25_afterNodeInsertion_9 : decode cJ25_afterNodeInsertion 9 = .ok (.astore_n 2, 1) := dk_77 (dk_at dksJ25_afterNodeInsertion_0 9 rfl rfl)
theorem dJ25_afterNodeInsertion_10 : decode cJ25_afterNodeInsertion 10 = .ok (.ifnull 29, 3) := dk_198 0 29 (dk_at dksJ25_afterNodeInsertion_0 10 rfl rfl)
theorem dJ25_afterNodeInsertion_13 : decode cJ25_afterNodeInsertion 13 = .ok (.aload_n 0, 1) := dk_42 (dk_at dksJ25_afterNodeInsertion_0 13 rfl rfl)
theorem dJ25_afterNodeInsertion_14 : decode cJ25_afterNodeInsertion 14 = .ok (.aload_n 2, 1) := dk_44 (dk_at dksJ25_afterNodeInsertion_0 14 rfl rfl)
theorem dJ25_afterNodeInsertion_15 : decode cJ25_afterNodeInsertion 15 = .ok (.invokevirtual 53, 3) := dk_182 0 53 (dk_at dksJ25_afterNodeInsertion_0 15 rfl rfl)
theorem dJ25_afterNodeInsertion_18 : decode cJ25_afterNodeInsertion 18 = .ok (.ifCond .eq 21, 3) := dk_153 0 21 (dk_at dksJ25_afterNodeInsertion_0 18 rfl rfl)
theorem dJ25_afterNodeInsertion_21 : decode cJ25_afterNodeInsertion 21 = .ok (.aload_n 2, 1) := dk_44 (dk_at dksJ25_afterNodeInsertion_0 21 rfl rfl)
theorem dJ25_afterNodeInsertion_22 : decode cJ25_afterNodeInsertion 22 = .ok (.getfield 39, 3) := dk_180 0 39 (dk_at dksJ25_afterNodeInsertion_1 0 rfl rfl)
theorem dJ25_afterNodeInsertion_25 : decode cJ25_afterNodeInsertion 25 = .ok (.astore_n 3, 1) := dk_78 (dk_at dksJ25_afterNodeInsertion_1 3 rfl rfl)
theorem dJ25_afterNodeInsertion_26 : decode cJ25_afterNodeInsertion 26 = .ok (.aload_n 0, 1) := dk_42 (dk_at dksJ25_afterNodeInsertion_1 4 rfl rfl)
theorem dJ25_afterNodeInsertion_27 : decode cJ25_afterNodeInsertion 27 = .ok (.aload_n 3, 1) := dk_45 (dk_at dksJ25_afterNodeInsertion_1 5 rfl rfl)
theorem dJ25_afterNodeInsertion_28 : decode cJ25_afterNodeInsertion 28 = .ok (.invokestatic 57, 3) := dk_184 0 57 (dk_at dksJ25_afterNodeInsertion_1 6 rfl rfl)
theorem dJ25_afterNodeInsertion_31 : decode cJ25_afterNodeInsertion 31 = .ok (.aload_n 3, 1) := dk_45 (dk_at dksJ25_afterNodeInsertion_1 9 rfl rfl)
theorem dJ25_afterNodeInsertion_32 : decode cJ25_afterNodeInsertion 32 = .ok (.aconst_null, 1) := dk_1 (dk_at dksJ25_afterNodeInsertion_1 10 rfl rfl)
theorem dJ25_afterNodeInsertion_33 : decode cJ25_afterNodeInsertion 33 = .ok (.iconst 0, 1) := dk_3 (dk_at dksJ25_afterNodeInsertion_1 11 rfl rfl)
theorem dJ25_afterNodeInsertion_34 : decode cJ25_afterNodeInsertion 34 = .ok (.iconst 1, 1) := dk_4 (dk_at dksJ25_afterNodeInsertion_1 12 rfl rfl)
theorem dJ25_afterNodeInsertion_35 : decode cJ25_afterNodeInsertion 35 = .ok (.invokevirtual 60, 3) := dk_182 0 60 (dk_at dksJ25_afterNodeInsertion_1 13 rfl rfl)
theorem dJ25_afterNodeInsertion_38 : decode cJ25_afterNodeInsertion 38 = .ok (.pop, 1) := dk_87 (dk_at dksJ25_afterNodeInsertion_1 16 rfl rfl)
theorem dJ25_afterNodeInsertion_39 : decode cJ25_afterNodeInsertion 39 = .ok (.return_, 1) := dk_177 (dk_at dksJ25_afterNodeInsertion_1 17 rfl rfl)
abbrev cJ25_removeEldestEntry : ByteArray := prog_47_method_23_code
def yJ25_removeEldestEntry : MethodName := ⟨RJ25, "removeEldestEntry", "(Ljava/util/Map$Entry;)Z"⟩
theorem dJ25_removeEldestEntry_0 : decode cJ25_removeEldestEntry 0 = .ok (.iconst 0, 1) := by decide +kernel
theorem dJ25_removeEldestEntry_1 : decode cJ25_removeEldestEntry 1 = .ok (.ireturn, 1) := by decide +kernel
abbrev cJ25_init : ByteArray := prog_47_method_16_code
def yJ25_init : MethodName := ⟨RJ25, "<init>", "()V"⟩
def dkwJ25_init_0 : List UInt8 := [42, 183, 0, 87, 42, 3, 181, 0, 1, 42, 3, 181, 0, 64, 177]
abbrev dktJ25_init_0 : List UInt8 := dkwJ25_init_0 ++ []
theorem dksJ25_init_0 : cJ25_init.data.toList.drop 0 = dktJ25_init_0 := by decide +kernel
theorem dJ25_init_0 : decode cJ25_init 0 = .ok (.aload_n 0, 1) := dk_42 (dk_at dksJ25_init_0 0 rfl rfl)
theorem dJ25_init_1 : decode cJ25_init 1 = .ok (.invokespecial 87, 3) := dk_183 0 87 (dk_at dksJ25_init_0 1 rfl rfl)
theorem dJ25_init_4 : decode cJ25_init 4 = .ok (.aload_n 0, 1) := dk_42 (dk_at dksJ25_init_0 4 rfl rfl)
theorem dJ25_init_5 : decode cJ25_init 5 = .ok (.iconst 0, 1) := dk_3 (dk_at dksJ25_init_0 5 rfl rfl)
theorem dJ25_init_6 : decode cJ25_init 6 = .ok (.putfield 1, 3) := dk_181 0 1 (dk_at dksJ25_init_0 6 rfl rfl)
theorem dJ25_init_9 : decode cJ25_init 9 = .ok (.aload_n 0, 1) := dk_42 (dk_at dksJ25_init_0 9 rfl rfl)
theorem dJ25_init_10 : decode cJ25_init 10 = .ok (.iconst 0, 1) := dk_3 (dk_at dksJ25_init_0 10 rfl rfl)
theorem dJ25_init_11 : decode cJ25_init 11 = .ok (.putfield 64, 3) := dk_181 0 64 (dk_at dksJ25_init_0 11 rfl rfl)
theorem dJ25_init_14 : decode cJ25_init 14 = .ok (.return_, 1) := dk_177 (dk_at dksJ25_init_0 14 rfl rfl)
abbrev cJ25_keySet : ByteArray := prog_47_method_24_code
def yJ25_keySet : MethodName := ⟨RJ25, "keySet", "()Ljava/util/Set;"⟩
theorem dJ25_keySet_0 : decode cJ25_keySet 0 = .ok (.aload_n 0, 1) := by decide +kernel
theorem dJ25_keySet_1 : decode cJ25_keySet 1 = .ok (.invokevirtual 113, 3) := by decide +kernel
theorem dJ25_keySet_4 : decode cJ25_keySet 4 = .ok (.areturn, 1) := by decide +kernel
abbrev cJ25_sequencedKeySet : ByteArray := prog_47_method_25_code
def yJ25_sequencedKeySet : MethodName := ⟨RJ25, "sequencedKeySet", "()Ljava/util/SequencedSet;"⟩
def dkwJ25_sequencedKeySet_1 : List UInt8 := [44, 176, 43, 192, 0, 126, 176]
abbrev dktJ25_sequencedKeySet_1 : List UInt8 := dkwJ25_sequencedKeySet_1 ++ []
def dkwJ25_sequencedKeySet_0 : List UInt8 := [42, 180, 0, 117, 76, 43, 199, 0, 20, 187, 0, 121, 89, 42, 3, 183, 0, 123, 77, 42, 44, 181, 0, 117]
abbrev dktJ25_sequencedKeySet_0 : List UInt8 := dkwJ25_sequencedKeySet_0 ++ dktJ25_sequencedKeySet_1
theorem dksJ25_sequencedKeySet_0 : cJ25_sequencedKeySet.data.toList.drop 0 = dktJ25_sequencedKeySet_0 := by decide +kernel
theorem dksJ25_sequencedKeySet_1 : cJ25_sequencedKeySet.data.toList.drop 24 = dktJ25_sequencedKeySet_1 := dk_seg dksJ25_sequencedKeySet_0 24 rfl rfl
theorem dJ25_sequencedKeySet_0 : decode cJ25_sequencedKeySet 0 = .ok (.aload_n 0, 1) := dk_42 (dk_at dksJ25_sequencedKeySet_0 0 rfl rfl)
theorem dJ25_sequencedKeySet_1 : decode cJ25_sequencedKeySet 1 = .ok (.getfield 117, 3) := dk_180 0 117 (dk_at dksJ25_sequencedKeySet_0 1 rfl rfl)
theorem dJ25_sequencedKeySet_4 : decode cJ25_sequencedKeySet 4 = .ok (.astore_n 1, 1) := dk_76 (dk_at dksJ25_sequencedKeySet_0 4 rfl rfl)
theorem dJ25_sequencedKeySet_5 : decode cJ25_sequencedKeySet 5 = .ok (.aload_n 1, 1) := dk_43 (dk_at dksJ25_sequencedKeySet_0 5 rfl rfl)
theorem dJ25_sequencedKeySet_6 : decode cJ25_sequencedKeySet 6 = .ok (.ifnonnull 20, 3) := dk_199 0 20 (dk_at dksJ25_sequencedKeySet_0 6 rfl rfl)
theorem dJ25_sequencedKeySet_9 : decode cJ25_sequencedKeySet 9 = .ok (.new 121, 3) := dk_187 0 121 (dk_at dksJ25_sequencedKeySet_0 9 rfl rfl)
theorem dJ25_sequencedKeySet_12 : decode cJ25_sequencedKeySet 12 = .ok (.dup, 1) := dk_89 (dk_at dksJ25_sequencedKeySet_0 12 rfl rfl)
theorem dJ25_sequencedKeySet_13 : decode cJ25_sequencedKeySet 13 = .ok (.aload_n 0, 1) := dk_42 (dk_at dksJ25_sequencedKeySet_0 13 rfl rfl)
theorem dJ25_sequencedKeySet_14 : decode cJ25_sequencedKeySet 14 = .ok (.iconst 0, 1) := dk_3 (dk_at dksJ25_sequencedKeySet_0 14 rfl rfl)
theorem dJ25_sequencedKeySet_15 : decode cJ25_sequencedKeySet 15 = .ok (.invokespecial 123, 3) := dk_183 0 123 (dk_at dksJ25_sequencedKeySet_0 15 rfl rfl)
theorem dJ25_sequencedKeySet_18 : decode cJ25_sequencedKeySet 18 = .ok (.astore_n 2, 1) := dk_77 (dk_at dksJ25_sequencedKeySet_0 18 rfl rfl)
theorem dJ25_sequencedKeySet_19 : decode cJ25_sequencedKeySet 19 = .ok (.aload_n 0, 1) := dk_42 (dk_at dksJ25_sequencedKeySet_0 19 rfl rfl)
theorem dJ25_sequencedKeySet_20 : decode cJ25_sequencedKeySet 20 = .ok (.aload_n 2, 1) := dk_44 (dk_at dksJ25_sequencedKeySet_0 20 rfl rfl)
theorem dJ25_sequencedKeySet_21 : decode cJ25_sequencedKeySet 21 = .ok (.putfield 117, 3) := dk_181 0 117 (dk_at dksJ25_sequencedKeySet_0 21 rfl rfl)
theorem dJ25_sequencedKeySet_24 : decode cJ25_sequencedKeySet 24 = .ok (.aload_n 2, 1) := dk_44 (dk_at dksJ25_sequencedKeySet_1 0 rfl rfl)
theorem dJ25_sequencedKeySet_25 : decode cJ25_sequencedKeySet 25 = .ok (.areturn, 1) := dk_176 (dk_at dksJ25_sequencedKeySet_1 1 rfl rfl)
theorem dJ25_sequencedKeySet_26 : decode cJ25_sequencedKeySet 26 = .ok (.aload_n 1, 1) := dk_43 (dk_at dksJ25_sequencedKeySet_1 2 rfl rfl)
theorem dJ25_sequencedKeySet_27 : decode cJ25_sequencedKeySet 27 = .ok (.checkcast 126, 3) := dk_192 0 126 (dk_at dksJ25_sequencedKeySet_1 3 rfl rfl)
theorem dJ25_sequencedKeySet_30 : decode cJ25_sequencedKeySet 30 = .ok (.areturn, 1) := dk_176 (dk_at dksJ25_sequencedKeySet_1 6 rfl rfl)
theorem q133 : (Jvm.Cond.initialized "java/util/LinkedHashMap") ∈ lw_all := lw_g (lw_at lw_m1 38 rfl) rfl
theorem q564 : (Jvm.Cond.selects "java/util/LinkedHashMap" ({ cls := "java/lang/Object", name := "getClass", desc := "()Ljava/lang/Class;" } : Jvm.MethodName) ({ cls := "java/lang/Object", name := "getClass", desc := "()Ljava/lang/Class;" } : Jvm.MethodName)) ∈ lw_all := lw_g (lw_at lw_m2 229 rfl) rfl
theorem q803 : (Jvm.Cond.sameField "java/util/LinkedHashMap" "java/util/HashMap" "modCount" "I") ∈ lw_all := lw_g (lw_at lw_m3 228 rfl) rfl
theorem q804 : (Jvm.Cond.fieldLink "java/util/LinkedHashMap" (68 : Nat) "java/util/LinkedHashMap" "modCount" "I") ∈ lw_all := lw_g (lw_at lw_m3 229 rfl) rfl
theorem q810 : (Jvm.Cond.fieldLink "java/util/LinkedHashMap" (117 : Nat) "java/util/LinkedHashMap" "keySet" "Ljava/util/Set;") ∈ lw_all := lw_g (lw_at lw_m3 235 rfl) rfl
theorem q811 : (Jvm.Cond.sameField "java/util/LinkedHashMap" "java/util/AbstractMap" "keySet" "Ljava/util/Set;") ∈ lw_all := lw_g (lw_at lw_m3 236 rfl) rfl
theorem q875 : (Jvm.Cond.selects "java/util/LinkedHashMap" ({ cls := "java/util/HashMap", name := "get", desc := "(Ljava/lang/Object;)Ljava/lang/Object;" } : Jvm.MethodName) ({ cls := "java/util/LinkedHashMap", name := "get", desc := "(Ljava/lang/Object;)Ljava/lang/Object;" } : Jvm.MethodName)) ∈ lw_all := lw_g (lw_at lw_m4 60 rfl) rfl
theorem q876 : (Jvm.Cond.instanceMethod ({ cls := "java/util/LinkedHashMap", name := "get", desc := "(Ljava/lang/Object;)Ljava/lang/Object;" } : Jvm.MethodName)) ∈ lw_all := lw_g (lw_at lw_m4 61 rfl) rfl
theorem q877 : (Jvm.Cond.code ({ cls := "java/util/LinkedHashMap", name := "get", desc := "(Ljava/lang/Object;)Ljava/lang/Object;" } : Jvm.MethodName) prog_47_method_20_code (3 : Nat) (Option.some (Jvm.ClassFile.FieldType.object "java/lang/Object"))) ∈ lw_all := lw_g (lw_at lw_m4 62 rfl) rfl
theorem q878 : (Jvm.Cond.methodLink "java/util/LinkedHashMap" (99 : Nat) ({ cls := "java/util/LinkedHashMap", name := "getNode", desc := "(Ljava/lang/Object;)Ljava/util/HashMap$Node;" } : Jvm.MethodName)) ∈ lw_all := lw_g (lw_at lw_m4 63 rfl) rfl
theorem q879 : (Jvm.Cond.sameMethod "java/util/LinkedHashMap" "java/util/HashMap" "getNode" "(Ljava/lang/Object;)Ljava/util/HashMap$Node;") ∈ lw_all := lw_g (lw_at lw_m4 64 rfl) rfl
theorem q881 : (Jvm.Cond.selects "java/util/LinkedHashMap" ({ cls := "java/util/LinkedHashMap", name := "getNode", desc := "(Ljava/lang/Object;)Ljava/util/HashMap$Node;" } : Jvm.MethodName) ({ cls := "java/util/HashMap", name := "getNode", desc := "(Ljava/lang/Object;)Ljava/util/HashMap$Node;" } : Jvm.MethodName)) ∈ lw_all := lw_g (lw_at lw_m4 66 rfl) rfl
theorem q1204 : (Jvm.Cond.methodLink "java/util/LinkedHashMap" (103 : Nat) ({ cls := "java/util/LinkedHashMap", name := "afterNodeAccess", desc := "(Ljava/util/HashMap$Node;)V" } : Jvm.MethodName)) ∈ lw_all := lw_g (lw_at lw_m5 149 rfl) rfl
theorem q1205 : (Jvm.Cond.instanceMethod ({ cls := "java/util/LinkedHashMap", name := "afterNodeAccess", desc := "(Ljava/util/HashMap$Node;)V" } : Jvm.MethodName)) ∈ lw_all := lw_g (lw_at lw_m5 150 rfl) rfl
theorem q1206 : (Jvm.Cond.selects "java/util/LinkedHashMap" ({ cls := "java/util/LinkedHashMap", name := "afterNodeAccess", desc := "(Ljava/util/HashMap$Node;)V" } : Jvm.MethodName) ({ cls := "java/util/LinkedHashMap", name := "afterNodeAccess", desc := "(Ljava/util/HashMap$Node;)V" } : Jvm.MethodName)) ∈ lw_all := lw_g (lw_at lw_m5 151 rfl) rfl
theorem q1207 : (Jvm.Cond.code ({ cls := "java/util/LinkedHashMap", name := "afterNodeAccess", desc := "(Ljava/util/HashMap$Node;)V" } : Jvm.MethodName) prog_47_method_10_code (7 : Nat) (Option.none : Option Jvm.ClassFile.FieldType)) ∈ lw_all := lw_g (lw_at lw_m5 152 rfl) rfl
theorem q1208 : (Jvm.Cond.classLink "java/util/LinkedHashMap" (15 : Nat) "java/util/LinkedHashMap$Entry") ∈ lw_all := lw_g (lw_at lw_m5 153 rfl) rfl
theorem q1217 : (Jvm.Cond.selects "java/util/LinkedHashMap" ({ cls := "java/util/HashMap", name := "put", desc := "(Ljava/lang/Object;Ljava/lang/Object;)Ljava/lang/Object;" } : Jvm.MethodName) ({ cls := "java/util/HashMap", name := "put", desc := "(Ljava/lang/Object;Ljava/lang/Object;)Ljava/lang/Object;" } : Jvm.MethodName)) ∈ lw_all := lw_g (lw_at lw_m5 162 rfl) rfl
theorem q1223 : (Jvm.Cond.selects "java/util/LinkedHashMap" ({ cls := "java/util/HashMap", name := "putVal", desc := "(ILjava/lang/Object;Ljava/lang/Object;ZZ)Ljava/lang/Object;" } : Jvm.MethodName) ({ cls := "java/util/HashMap", name := "putVal", desc := "(ILjava/lang/Object;Ljava/lang/Object;ZZ)Ljava/lang/Object;" } : Jvm.MethodName)) ∈ lw_all := lw_g (lw_at lw_m5 168 rfl) rfl
theorem q1229 : (Jvm.Cond.selects "java/util/LinkedHashMap" ({ cls := "java/util/HashMap", name := "resize", desc := "()[Ljava/util/HashMap$Node;" } : Jvm.MethodName) ({ cls := "java/util/HashMap", name := "resize", desc := "()[Ljava/util/HashMap$Node;" } : Jvm.MethodName)) ∈ lw_all := lw_g (lw_at lw_m5 174 rfl) rfl
theorem q1249 : (Jvm.Cond.selects "java/util/LinkedHashMap" ({ cls := "java/util/HashMap", name := "replacementNode", desc := "(Ljava/util/HashMap$Node;Ljava/util/HashMap$Node;)Ljava/util/HashMap$Node;" } : Jvm.MethodName) ({ cls := "java/util/LinkedHashMap", name := "replacementNode", desc := "(Ljava/util/HashMap$Node;Ljava/util/HashMap$Node;)Ljava/util/HashMap$Node;" } : Jvm.MethodName)) ∈ lw_all := lw_g (lw_at lw_m5 194 rfl) rfl
theorem q1250 : (Jvm.Cond.instanceMethod ({ cls := "java/util/LinkedHashMap", name := "replacementNode", desc := "(Ljava/util/HashMap$Node;Ljava/util/HashMap$Node;)Ljava/util/HashMap$Node;" } : Jvm.MethodName)) ∈ lw_all := lw_g (lw_at lw_m5 195 rfl) rfl
theorem q1251 : (Jvm.Cond.code ({ cls := "java/util/LinkedHashMap", name := "replacementNode", desc := "(Ljava/util/HashMap$Node;Ljava/util/HashMap$Node;)Ljava/util/HashMap$Node;" } : Jvm.MethodName) prog_47_method_5_code (5 : Nat) (Option.some (Jvm.ClassFile.FieldType.object "java/util/HashMap$Node"))) ∈ lw_all := lw_g (lw_at lw_m5 196 rfl) rfl
theorem q1253 : (Jvm.Cond.methodLink "java/util/LinkedHashMap" (28 : Nat) ({ cls := "java/util/LinkedHashMap$Entry", name := "<init>", desc := "(ILjava/lang/Object;Ljava/lang/Object;Ljava/util/HashMap$Node;)V" } : Jvm.MethodName)) ∈ lw_all := lw_g (lw_at lw_m5 198 rfl) rfl
theorem q1260 : (Jvm.Cond.fieldLink "java/util/LinkedHashMap" (19 : Nat) "java/util/LinkedHashMap$Entry" "before" "Ljava/util/LinkedHashMap$Entry;") ∈ lw_all := lw_g (lw_at lw_m5 205 rfl) rfl
theorem q1262 : (Jvm.Cond.fieldLink "java/util/LinkedHashMap" (14 : Nat) "java/util/LinkedHashMap$Entry" "after" "Ljava/util/LinkedHashMap$Entry;") ∈ lw_all := lw_g (lw_at lw_m5 207 rfl) rfl
theorem q1267 : (Jvm.Cond.fieldLink "java/util/LinkedHashMap" (36 : Nat) "java/util/LinkedHashMap$Entry" "hash" "I") ∈ lw_all := lw_g (lw_at lw_m5 212 rfl) rfl
theorem q1274 : (Jvm.Cond.fieldLink "java/util/LinkedHashMap" (39 : Nat) "java/util/LinkedHashMap$Entry" "key" "Ljava/lang/Object;") ∈ lw_all := lw_g (lw_at lw_m5 219 rfl) rfl
theorem q1278 : (Jvm.Cond.fieldLink "java/util/LinkedHashMap" (43 : Nat) "java/util/LinkedHashMap$Entry" "value" "Ljava/lang/Object;") ∈ lw_all := lw_g (lw_at lw_m5 223 rfl) rfl
theorem q1281 : (Jvm.Cond.fieldLink "java/util/LinkedHashMap" (107 : Nat) "java/util/HashMap$Node" "value" "Ljava/lang/Object;") ∈ lw_all := lw_g (lw_at lw_m5 226 rfl) rfl
theorem q1302 : (Jvm.Cond.methodLink "java/util/LinkedHashMap" (46 : Nat) ({ cls := "java/util/LinkedHashMap", name := "transferLinks", desc := "(Ljava/util/LinkedHashMap$Entry;Ljava/util/LinkedHashMap$Entry;)V" } : Jvm.MethodName)) ∈ lw_all := lw_g (lw_at lw_m6 7 rfl) rfl
theorem q1303 : (Jvm.Cond.privateMethod ({ cls := "java/util/LinkedHashMap", name := "transferLinks", desc := "(Ljava/util/LinkedHashMap$Entry;Ljava/util/LinkedHashMap$Entry;)V" } : Jvm.MethodName)) ∈ lw_tbl := lw_at lw_m6 8 rfl
theorem q1304 : (Jvm.Cond.instanceMethod ({ cls := "java/util/LinkedHashMap", name := "transferLinks", desc := "(Ljava/util/LinkedHashMap$Entry;Ljava/util/LinkedHashMap$Entry;)V" } : Jvm.MethodName)) ∈ lw_all := lw_g (lw_at lw_m6 9 rfl) rfl
theorem q1305 : (Jvm.Cond.instantiable "java/util/LinkedHashMap" (12 : Nat)) ∈ lw_all := lw_g (lw_at lw_m6 10 rfl) rfl
theorem q1306 : (Jvm.Cond.code ({ cls := "java/util/LinkedHashMap", name := "transferLinks", desc := "(Ljava/util/LinkedHashMap$Entry;Ljava/util/LinkedHashMap$Entry;)V" } : Jvm.MethodName) prog_47_method_2_code (5 : Nat) (Option.none : Option Jvm.ClassFile.FieldType)) ∈ lw_all := lw_g (lw_at lw_m6 11 rfl) rfl
theorem q1337 : (Jvm.Cond.selects "java/util/LinkedHashMap" ({ cls := "java/util/HashMap", name := "newNode", desc := "(ILjava/lang/Object;Ljava/lang/Object;Ljava/util/HashMap$Node;)Ljava/util/HashMap$Node;" } : Jvm.MethodName) ({ cls := "java/util/LinkedHashMap", name := "newNode", desc := "(ILjava/lang/Object;Ljava/lang/Object;Ljava/util/HashMap$Node;)Ljava/util/HashMap$Node;" } : Jvm.MethodName)) ∈ lw_all := lw_g (lw_at lw_m6 42 rfl) rfl
theorem q1338 : (Jvm.Cond.instanceMethod ({ cls := "java/util/LinkedHashMap", name := "newNode", desc := "(ILjava/lang/Object;Ljava/lang/Object;Ljava/util/HashMap$Node;)Ljava/util/HashMap$Node;" } : Jvm.MethodName)) ∈ lw_all := lw_g (lw_at lw_m6 43 rfl) rfl
theorem q1339 : (Jvm.Cond.code ({ cls := "java/util/LinkedHashMap", name := "newNode", desc := "(ILjava/lang/Object;Ljava/lang/Object;Ljava/util/HashMap$Node;)Ljava/util/HashMap$Node;" } : Jvm.MethodName) prog_47_method_4_code (6 : Nat) (Option.some (Jvm.ClassFile.FieldType.object "java/util/HashMap$Node"))) ∈ lw_all := lw_g (lw_at lw_m6 44 rfl) rfl
theorem q1340 : (Jvm.Cond.methodLink "java/util/LinkedHashMap" (32 : Nat) ({ cls := "java/util/LinkedHashMap", name := "linkNodeAtEnd", desc := "(Ljava/util/LinkedHashMap$Entry;)V" } : Jvm.MethodName)) ∈ lw_all := lw_g (lw_at lw_m6 45 rfl) rfl
theorem q1341 : (Jvm.Cond.privateMethod ({ cls := "java/util/LinkedHashMap", name := "linkNodeAtEnd", desc := "(Ljava/util/LinkedHashMap$Entry;)V" } : Jvm.MethodName)) ∈ lw_tbl := lw_at lw_m6 46 rfl
theorem q1342 : (Jvm.Cond.instanceMethod ({ cls := "java/util/LinkedHashMap", name := "linkNodeAtEnd", desc := "(Ljava/util/LinkedHashMap$Entry;)V" } : Jvm.MethodName)) ∈ lw_all := lw_g (lw_at lw_m6 47 rfl) rfl
theorem q1343 : (Jvm.Cond.code ({ cls := "java/util/LinkedHashMap", name := "linkNodeAtEnd", desc := "(Ljava/util/LinkedHashMap$Entry;)V" } : Jvm.MethodName) prog_47_method_1_code (3 : Nat) (Option.none : Option Jvm.ClassFile.FieldType)) ∈ lw_all := lw_g (lw_at lw_m6 48 rfl) rfl
theorem q1353 : (Jvm.Cond.selects "java/util/LinkedHashMap" ({ cls := "java/util/HashMap", name := "newTreeNode", desc := "(ILjava/lang/Object;Ljava/lang/Object;Ljava/util/HashMap$Node;)Ljava/util/HashMap$TreeNode;" } : Jvm.MethodName) ({ cls := "java/util/LinkedHashMap", name := "newTreeNode", desc := "(ILjava/lang/Object;Ljava/lang/Object;Ljava/util/HashMap$Node;)Ljava/util/HashMap$TreeNode;" } : Jvm.MethodName)) ∈ lw_all := lw_g (lw_at lw_m6 58 rfl) rfl
theorem q1354 : (Jvm.Cond.instanceMethod ({ cls := "java/util/LinkedHashMap", name := "newTreeNode", desc := "(ILjava/lang/Object;Ljava/lang/Object;Ljava/util/HashMap$Node;)Ljava/util/HashMap$TreeNode;" } : Jvm.MethodName)) ∈ lw_all := lw_g (lw_at lw_m6 59 rfl) rfl
theorem q1355 : (Jvm.Cond.code ({ cls := "java/util/LinkedHashMap", name := "newTreeNode", desc := "(ILjava/lang/Object;Ljava/lang/Object;Ljava/util/HashMap$Node;)Ljava/util/HashMap$TreeNode;" } : Jvm.MethodName) prog_47_method_6_code (6 : Nat) (Option.some (Jvm.ClassFile.FieldType.object "java/util/HashMap$TreeNode"))) ∈ lw_all := lw_g (lw_at lw_m6 60 rfl) rfl
theorem q1356 : (Jvm.Cond.classLink "java/util/LinkedHashMap" (50 : Nat) "java/util/HashMap$TreeNode") ∈ lw_all := lw_g (lw_at lw_m6 61 rfl) rfl
theorem q1358 : (Jvm.Cond.methodLink "java/util/LinkedHashMap" (52 : Nat) ({ cls := "java/util/HashMap$TreeNode", name := "<init>", desc := "(ILjava/lang/Object;Ljava/lang/Object;Ljava/util/HashMap$Node;)V" } : Jvm.MethodName)) ∈ lw_all := lw_g (lw_at lw_m6 63 rfl) rfl
theorem q1391 : (Jvm.Cond.selects "java/util/LinkedHashMap" ({ cls := "java/util/HashMap", name := "treeifyBin", desc := "([Ljava/util/HashMap$Node;I)V" } : Jvm.MethodName) ({ cls := "java/util/HashMap", name := "treeifyBin", desc := "([Ljava/util/HashMap$Node;I)V" } : Jvm.MethodName)) ∈ lw_all := lw_g (lw_at lw_m6 96 rfl) rfl
theorem q1397 : (Jvm.Cond.selects "java/util/LinkedHashMap" ({ cls := "java/util/HashMap", name := "replacementTreeNode", desc := "(Ljava/util/HashMap$Node;Ljava/util/HashMap$Node;)Ljava/util/HashMap$TreeNode;" } : Jvm.MethodName) ({ cls := "java/util/LinkedHashMap", name := "replacementTreeNode", desc := "(Ljava/util/HashMap$Node;Ljava/util/HashMap$Node;)Ljava/util/HashMap$TreeNode;" } : Jvm.MethodName)) ∈ lw_all := lw_g (lw_at lw_m6 102 rfl) rfl
theorem q1398 : (Jvm.Cond.instanceMethod ({ cls := "java/util/LinkedHashMap", name := "replacementTreeNode", desc := "(Ljava/util/HashMap$Node;Ljava/util/HashMap$Node;)Ljava/util/HashMap$TreeNode;" } : Jvm.MethodName)) ∈ lw_all := lw_g (lw_at lw_m6 103 rfl) rfl
theorem q1399 : (Jvm.Cond.code ({ cls := "java/util/LinkedHashMap", name := "replacementTreeNode", desc := "(Ljava/util/HashMap$Node;Ljava/util/HashMap$Node;)Ljava/util/HashMap$TreeNode;" } : Jvm.MethodName) prog_47_method_7_code (5 : Nat) (Option.some (Jvm.ClassFile.FieldType.object "java/util/HashMap$TreeNode"))) ∈ lw_all := lw_g (lw_at lw_m6 104 rfl) rfl
theorem q1406 : (Jvm.Cond.selects "java/util/LinkedHashMap" ({ cls := "java/util/HashMap", name := "afterNodeAccess", desc := "(Ljava/util/HashMap$Node;)V" } : Jvm.MethodName) ({ cls := "java/util/LinkedHashMap", name := "afterNodeAccess", desc := "(Ljava/util/HashMap$Node;)V" } : Jvm.MethodName)) ∈ lw_all := lw_g (lw_at lw_m6 111 rfl) rfl
theorem q1412 : (Jvm.Cond.selects "java/util/LinkedHashMap" ({ cls := "java/util/HashMap", name := "afterNodeInsertion", desc := "(Z)V" } : Jvm.MethodName) ({ cls := "java/util/LinkedHashMap", name := "afterNodeInsertion", desc := "(Z)V" } : Jvm.MethodName)) ∈ lw_all := lw_g (lw_at lw_m6 117 rfl) rfl
theorem q1413 : (Jvm.Cond.instanceMethod ({ cls := "java/util/LinkedHashMap", name := "afterNodeInsertion", desc := "(Z)V" } : Jvm.MethodName)) ∈ lw_all := lw_g (lw_at lw_m6 118 rfl) rfl
theorem q1414 : (Jvm.Cond.code ({ cls := "java/util/LinkedHashMap", name := "afterNodeInsertion", desc := "(Z)V" } : Jvm.MethodName) prog_47_method_9_code (4 : Nat) (Option.none : Option Jvm.ClassFile.FieldType)) ∈ lw_all := lw_g (lw_at lw_m6 119 rfl) rfl
theorem q1415 : (Jvm.Cond.methodLink "java/util/LinkedHashMap" (53 : Nat) ({ cls := "java/util/LinkedHashMap", name := "removeEldestEntry", desc := "(Ljava/util/Map$Entry;)Z" } : Jvm.MethodName)) ∈ lw_all := lw_g (lw_at lw_m6 120 rfl) rfl
theorem q1416 : (Jvm.Cond.instanceMethod ({ cls := "java/util/LinkedHashMap", name := "removeEldestEntry", desc := "(Ljava/util/Map$Entry;)Z" } : Jvm.MethodName)) ∈ lw_all := lw_g (lw_at lw_m6 121 rfl) rfl
theorem q1417 : (Jvm.Cond.selects "java/util/LinkedHashMap" ({ cls := "java/util/LinkedHashMap", name := "removeEldestEntry", desc := "(Ljava/util/Map$Entry;)Z" } : Jvm.MethodName) ({ cls := "java/util/LinkedHashMap", name := "removeEldestEntry", desc := "(Ljava/util/Map$Entry;)Z" } : Jvm.MethodName)) ∈ lw_all := lw_g (lw_at lw_m6 122 rfl) rfl
theorem q1418 : (Jvm.Cond.code ({ cls := "java/util/LinkedHashMap", name := "removeEldestEntry", desc := "(Ljava/util/Map$Entry;)Z" } : Jvm.MethodName) prog_47_method_23_code (2 : Nat) (Option.some Jvm.ClassFile.FieldType.boolean)) ∈ lw_all := lw_g (lw_at lw_m6 123 rfl) rfl
theorem q1436 : (Jvm.Cond.selects "java/util/LinkedHashMap" ({ cls := "java/util/HashMap", name := "containsKey", desc := "(Ljava/lang/Object;)Z" } : Jvm.MethodName) ({ cls := "java/util/HashMap", name := "containsKey", desc := "(Ljava/lang/Object;)Z" } : Jvm.MethodName)) ∈ lw_all := lw_g (lw_at lw_m6 141 rfl) rfl
theorem q1945 : (Jvm.Cond.instanceMethod ({ cls := "java/util/LinkedHashMap", name := "<init>", desc := "()V" } : Jvm.MethodName)) ∈ lw_all := lw_g (lw_at lw_m8 170 rfl) rfl
theorem q1946 : (Jvm.Cond.code ({ cls := "java/util/LinkedHashMap", name := "<init>", desc := "()V" } : Jvm.MethodName) prog_47_method_16_code (1 : Nat) (Option.none : Option Jvm.ClassFile.FieldType)) ∈ lw_all := lw_g (lw_at lw_m8 171 rfl) rfl
theorem q1947 : (Jvm.Cond.methodLink "java/util/LinkedHashMap" (87 : Nat) ({ cls := "java/util/HashMap", name := "<init>", desc := "()V" } : Jvm.MethodName)) ∈ lw_all := lw_g (lw_at lw_m8 172 rfl) rfl
theorem q1948 : (Jvm.Cond.fieldLink "java/util/LinkedHashMap" (7 : Nat) "java/util/LinkedHashMap" "head" "Ljava/util/LinkedHashMap$Entry;") ∈ lw_all := lw_g (lw_at lw_m8 173 rfl) rfl
theorem q1951 : (Jvm.Cond.fieldLink "java/util/LinkedHashMap" (11 : Nat) "java/util/LinkedHashMap" "tail" "Ljava/util/LinkedHashMap$Entry;") ∈ lw_all := lw_g (lw_at lw_m8 176 rfl) rfl
theorem q1952 : (Jvm.Cond.fieldLink "java/util/LinkedHashMap" (64 : Nat) "java/util/LinkedHashMap" "accessOrder" "Z") ∈ lw_all := lw_g (lw_at lw_m8 177 rfl) rfl
theorem q1953 : (Jvm.Cond.fieldLink "java/util/LinkedHashMap" (1 : Nat) "java/util/LinkedHashMap" "putMode" "I") ∈ lw_all := lw_g (lw_at lw_m8 178 rfl) rfl
theorem q1954 : (Jvm.Cond.lays "java/util/LinkedHashMap" "java/util/LinkedHashMap" "head" "Ljava/util/LinkedHashMap$Entry;") ∈ lw_all := lw_g (lw_at lw_m8 179 rfl) rfl
theorem q1955 : (Jvm.Cond.soleField "java/util/LinkedHashMap" "head") ∈ lw_all := lw_g (lw_at lw_m8 180 rfl) rfl
theorem q1956 : (Jvm.Cond.lays "java/util/LinkedHashMap" "java/util/LinkedHashMap" "tail" "Ljava/util/LinkedHashMap$Entry;") ∈ lw_all := lw_g (lw_at lw_m8 181 rfl) rfl
theorem q1957 : (Jvm.Cond.soleField "java/util/LinkedHashMap" "tail") ∈ lw_all := lw_g (lw_at lw_m8 182 rfl) rfl
theorem q1958 : (Jvm.Cond.laysFinal "java/util/LinkedHashMap" "java/util/LinkedHashMap" "accessOrder" "Z") ∈ lw_all := lw_g (lw_at lw_m8 183 rfl) rfl
theorem q1959 : (Jvm.Cond.soleField "java/util/LinkedHashMap" "accessOrder") ∈ lw_all := lw_g (lw_at lw_m8 184 rfl) rfl
theorem q1960 : (Jvm.Cond.lays "java/util/LinkedHashMap" "java/util/LinkedHashMap" "putMode" "I") ∈ lw_all := lw_g (lw_at lw_m8 185 rfl) rfl
theorem q1961 : (Jvm.Cond.soleField "java/util/LinkedHashMap" "putMode") ∈ lw_all := lw_g (lw_at lw_m8 186 rfl) rfl
theorem q1962 : (Jvm.Cond.lays "java/util/LinkedHashMap" "java/util/HashMap" "table" "[Ljava/util/HashMap$Node;") ∈ lw_all := lw_g (lw_at lw_m8 187 rfl) rfl
theorem q1963 : (Jvm.Cond.lays "java/util/LinkedHashMap" "java/util/HashMap" "entrySet" "Ljava/util/Set;") ∈ lw_all := lw_g (lw_at lw_m8 188 rfl) rfl
theorem q1964 : (Jvm.Cond.lays "java/util/LinkedHashMap" "java/util/HashMap" "size" "I") ∈ lw_all := lw_g (lw_at lw_m8 189 rfl) rfl
theorem q1965 : (Jvm.Cond.lays "java/util/LinkedHashMap" "java/util/HashMap" "modCount" "I") ∈ lw_all := lw_g (lw_at lw_m8 190 rfl) rfl
theorem q1966 : (Jvm.Cond.lays "java/util/LinkedHashMap" "java/util/HashMap" "threshold" "I") ∈ lw_all := lw_g (lw_at lw_m8 191 rfl) rfl
theorem q1967 : (Jvm.Cond.laysFinal "java/util/LinkedHashMap" "java/util/HashMap" "loadFactor" "F") ∈ lw_all := lw_g (lw_at lw_m8 192 rfl) rfl
theorem q1968 : (Jvm.Cond.lays "java/util/LinkedHashMap" "java/util/AbstractMap" "keySet" "Ljava/util/Set;") ∈ lw_all := lw_g (lw_at lw_m8 193 rfl) rfl
theorem q1969 : (Jvm.Cond.lays "java/util/LinkedHashMap" "java/util/AbstractMap" "values" "Ljava/util/Collection;") ∈ lw_all := lw_g (lw_at lw_m8 194 rfl) rfl
theorem q1970 : (Jvm.Cond.superclass "java/util/LinkedHashMap" "java/util/HashMap") ∈ lw_all := lw_g (lw_at lw_m8 195 rfl) rfl
theorem q1973 : (Jvm.Cond.sameMethod "java/util/LinkedHashMap" "java/util/HashMap" "put" "(Ljava/lang/Object;Ljava/lang/Object;)Ljava/lang/Object;") ∈ lw_all := lw_g (lw_at lw_m8 198 rfl) rfl
theorem q1975 : (Jvm.Cond.selects "java/util/LinkedHashMap" ({ cls := "java/util/LinkedHashMap", name := "put", desc := "(Ljava/lang/Object;Ljava/lang/Object;)Ljava/lang/Object;" } : Jvm.MethodName) ({ cls := "java/util/HashMap", name := "put", desc := "(Ljava/lang/Object;Ljava/lang/Object;)Ljava/lang/Object;" } : Jvm.MethodName)) ∈ lw_all := lw_g (lw_at lw_m8 200 rfl) rfl
theorem q1977 : (Jvm.Cond.sameMethod "java/util/LinkedHashMap" "java/util/HashMap" "size" "()I") ∈ lw_all := lw_g (lw_at lw_m8 202 rfl) rfl
theorem q1979 : (Jvm.Cond.selects "java/util/LinkedHashMap" ({ cls := "java/util/LinkedHashMap", name := "size", desc := "()I" } : Jvm.MethodName) ({ cls := "java/util/HashMap", name := "size", desc := "()I" } : Jvm.MethodName)) ∈ lw_all := lw_g (lw_at lw_m8 204 rfl) rfl
theorem q1990 : (Jvm.Cond.instanceMethod ({ cls := "java/util/LinkedHashMap", name := "keySet", desc := "()Ljava/util/Set;" } : Jvm.MethodName)) ∈ lw_all := lw_g (lw_at lw_m8 215 rfl) rfl
theorem q1991 : (Jvm.Cond.selects "java/util/LinkedHashMap" ({ cls := "java/util/LinkedHashMap", name := "keySet", desc := "()Ljava/util/Set;" } : Jvm.MethodName) ({ cls := "java/util/LinkedHashMap", name := "keySet", desc := "()Ljava/util/Set;" } : Jvm.MethodName)) ∈ lw_all := lw_g (lw_at lw_m8 216 rfl) rfl
theorem q1992 : (Jvm.Cond.code ({ cls := "java/util/LinkedHashMap", name := "keySet", desc := "()Ljava/util/Set;" } : Jvm.MethodName) prog_47_method_24_code (1 : Nat) (Option.some (Jvm.ClassFile.FieldType.object "java/util/Set"))) ∈ lw_all := lw_g (lw_at lw_m8 217 rfl) rfl
theorem q1993 : (Jvm.Cond.methodLink "java/util/LinkedHashMap" (113 : Nat) ({ cls := "java/util/LinkedHashMap", name := "sequencedKeySet", desc := "()Ljava/util/SequencedSet;" } : Jvm.MethodName)) ∈ lw_all := lw_g (lw_at lw_m8 218 rfl) rfl
theorem q1994 : (Jvm.Cond.instanceMethod ({ cls := "java/util/LinkedHashMap", name := "sequencedKeySet", desc := "()Ljava/util/SequencedSet;" } : Jvm.MethodName)) ∈ lw_all := lw_g (lw_at lw_m8 219 rfl) rfl
theorem q1995 : (Jvm.Cond.selects "java/util/LinkedHashMap" ({ cls := "java/util/LinkedHashMap", name := "sequencedKeySet", desc := "()Ljava/util/SequencedSet;" } : Jvm.MethodName) ({ cls := "java/util/LinkedHashMap", name := "sequencedKeySet", desc := "()Ljava/util/SequencedSet;" } : Jvm.MethodName)) ∈ lw_all := lw_g (lw_at lw_m8 220 rfl) rfl
theorem q1996 : (Jvm.Cond.code ({ cls := "java/util/LinkedHashMap", name := "sequencedKeySet", desc := "()Ljava/util/SequencedSet;" } : Jvm.MethodName) prog_47_method_25_code (3 : Nat) (Option.some (Jvm.ClassFile.FieldType.object "java/util/SequencedSet"))) ∈ lw_all := lw_g (lw_at lw_m8 221 rfl) rfl
theorem q1997 : (Jvm.Cond.classLink "java/util/LinkedHashMap" (121 : Nat) "java/util/LinkedHashMap$LinkedKeySet") ∈ lw_all := lw_g (lw_at lw_m8 222 rfl) rfl
theorem q1999 : (Jvm.Cond.methodLink "java/util/LinkedHashMap" (123 : Nat) ({ cls := "java/util/LinkedHashMap$LinkedKeySet", name := "<init>", desc := "(Ljava/util/LinkedHashMap;Z)V" } : Jvm.MethodName)) ∈ lw_all := lw_g (lw_at lw_m8 224 rfl) rfl
theorem q2010 : (Jvm.Cond.classLink "java/util/LinkedHashMap" (126 : Nat) "java/util/SequencedSet") ∈ lw_all := lw_g (lw_at lw_m8 235 rfl) rfl
theorem q2056 : (Jvm.Cond.selects "java/util/LinkedHashMap" ({ cls := "java/util/HashMap", name := "keySet", desc := "()Ljava/util/Set;" } : Jvm.MethodName) ({ cls := "java/util/LinkedHashMap", name := "keySet", desc := "()Ljava/util/Set;" } : Jvm.MethodName)) ∈ lw_all := lw_g (lw_at lw_m9 41 rfl) rfl
theorem q2791 : (Jvm.Cond.selects "java/util/LinkedHashMap" ({ cls := "java/util/HashMap", name := "getNode", desc := "(Ljava/lang/Object;)Ljava/util/HashMap$Node;" } : Jvm.MethodName) ({ cls := "java/util/HashMap", name := "getNode", desc := "(Ljava/lang/Object;)Ljava/util/HashMap$Node;" } : Jvm.MethodName)) ∈ lw_all := lw_g (lw_at lw_m12 56 rfl) rfl
theorem q2796 : (Jvm.Cond.selects "java/util/LinkedHashMap" ({ cls := "java/util/LinkedHashMap", name := "get", desc := "(Ljava/lang/Object;)Ljava/lang/Object;" } : Jvm.MethodName) ({ cls := "java/util/LinkedHashMap", name := "get", desc := "(Ljava/lang/Object;)Ljava/lang/Object;" } : Jvm.MethodName)) ∈ lw_all := lw_g (lw_at lw_m12 61 rfl) rfl
theorem q2818 : (Jvm.Cond.castable "java/util/LinkedHashMap" "java/lang/Object") ∈ lw_tbl := lw_at lw_m12 83 rfl
theorem in_J25 : ∀ w ∈ wsJ250, w ∈ lw_all := lw_in wsJ250 [1968, 1969, 1962, 1963, 1964, 1965, 1966, 1967, 1954, 1956, 1958, 1960] (by decide +kernel) (by decide +kernel)

/-! java/util/LinkedHashMap$LinkedKeySet -/
set_option maxRecDepth 100000
def RJ26 : String := "java/util/LinkedHashMap$LinkedKeySet"
def TJ26 : u_T := fun k => match k with
  | 0 => ("java/util/LinkedHashMap$LinkedKeySet", "reversed", "Z", true)
  | _ => ("java/util/LinkedHashMap$LinkedKeySet", "this$0", "Ljava/util/LinkedHashMap;", true)
def tyJ26 : Nat → FieldType := fun k => match k with
  | 0 => .boolean
  | _ => .object "java/util/LinkedHashMap"
abbrev wsJ260 : List Cond := u_ws RJ26 TJ26 2
theorem nmJ26 : ∀ a, a < 2 → ∀ b, b < 2 → a ≠ b → (TJ26 a).2.1 ≠ (TJ26 b).2.1 := by decide +kernel
theorem tyJ26_ok : ∀ k, k < 2 → parseFieldDescriptor (TJ26 k).2.2.1 = some (tyJ26 k) := by decide +kernel
abbrev cJ26_init : ByteArray := prog_51_method_1_code
def yJ26_init : MethodName := ⟨RJ26, "<init>", "(Ljava/util/LinkedHashMap;Z)V"⟩
def dkwJ26_init_0 : List UInt8 := [42, 43, 181, 0, 1, 42, 183, 0, 7, 42, 28, 181, 0, 13, 177]
abbrev dktJ26_init_0 : List UInt8 := dkwJ26_init_0 ++ []
theorem dksJ26_init_0 : cJ26_init.data.toList.drop 0 = dktJ26_init_0 := by decide +kernel
theorem dJ26_init_0 : decode cJ26_init 0 = .ok (.aload_n 0, 1) := dk_42 (dk_at dksJ26_init_0 0 rfl rfl)
theorem dJ26_init_1 : decode cJ26_init 1 = .ok (.aload_n 1, 1) := dk_43 (dk_at dksJ26_init_0 1 rfl rfl)
theorem dJ26_init_2 : decode cJ26_init 2 = .ok (.putfield 1, 3) := dk_181 0 1 (dk_at dksJ26_init_0 2 rfl rfl)
theorem dJ26_init_5 : decode cJ26_init 5 = .ok (.aload_n 0, 1) := dk_42 (dk_at dksJ26_init_0 5 rfl rfl)
theorem dJ26_init_6 : decode cJ26_init 6 = .ok (.invokespecial 7, 3) := dk_183 0 7 (dk_at dksJ26_init_0 6 rfl rfl)
theorem dJ26_init_9 : decode cJ26_init 9 = .ok (.aload_n 0, 1) := dk_42 (dk_at dksJ26_init_0 9 rfl rfl)
theorem dJ26_init_10 : decode cJ26_init 10 = .ok (.iload_n 2, 1) := dk_28 (dk_at dksJ26_init_0 10 rfl rfl)
theorem dJ26_init_11 : decode cJ26_init 11 = .ok (.putfield 13, 3) := dk_181 0 13 (dk_at dksJ26_init_0 11 rfl rfl)
theorem dJ26_init_14 : decode cJ26_init 14 = .ok (.return_, 1) := dk_177 (dk_at dksJ26_init_0 14 rfl rfl)
abbrev cJ26_iterator : ByteArray := prog_51_method_4_code
def yJ26_iterator : MethodName := ⟨RJ26, "iterator", "()Ljava/util/Iterator;"⟩
def dkwJ26_iterator_0 : List UInt8 := [187, 0, 26, 89, 42, 180, 0, 1, 42, 180, 0, 13, 183, 0, 28, 176]
abbrev dktJ26_iterator_0 : List UInt8 := dkwJ26_iterator_0 ++ []
theorem dksJ26_iterator_0 : cJ26_iterator.data.toList.drop 0 = dktJ26_iterator_0 := by decide +kernel
theorem dJ26_iterator_0 : decode cJ26_iterator 0 = .ok (.new 26, 3) := dk_187 0 26 (dk_at dksJ26_iterator_0 0 rfl rfl)
theorem dJ26_iterator_3 : decode cJ26_iterator 3 = .ok (.dup, 1) := dk_89 (dk_at dksJ26_iterator_0 3 rfl rfl)
theorem dJ26_iterator_4 : decode cJ26_iterator 4 = .ok (.aload_n 0, 1) := dk_42 (dk_at dksJ26_iterator_0 4 rfl rfl)
theorem dJ26_iterator_5 : decode cJ26_iterator 5 = .ok (.getfield 1, 3) := dk_180 0 1 (dk_at dksJ26_iterator_0 5 rfl rfl)
theorem dJ26_iterator_8 : decode cJ26_iterator 8 = .ok (.aload_n 0, 1) := dk_42 (dk_at dksJ26_iterator_0 8 rfl rfl)
theorem dJ26_iterator_9 : decode cJ26_iterator 9 = .ok (.getfield 13, 3) := dk_180 0 13 (dk_at dksJ26_iterator_0 9 rfl rfl)
theorem dJ26_iterator_12 : decode cJ26_iterator 12 = .ok (.invokespecial 28, 3) := dk_183 0 28 (dk_at dksJ26_iterator_0 12 rfl rfl)
theorem dJ26_iterator_15 : decode cJ26_iterator 15 = .ok (.areturn, 1) := dk_176 (dk_at dksJ26_iterator_0 15 rfl rfl)
theorem q134 : (Jvm.Cond.initialized "java/util/LinkedHashMap$LinkedKeySet") ∈ lw_all := lw_g (lw_at lw_m1 39 rfl) rfl
theorem q567 : (Jvm.Cond.selects "java/util/LinkedHashMap$LinkedKeySet" ({ cls := "java/lang/Object", name := "getClass", desc := "()Ljava/lang/Class;" } : Jvm.MethodName) ({ cls := "java/lang/Object", name := "getClass", desc := "()Ljava/lang/Class;" } : Jvm.MethodName)) ∈ lw_all := lw_g (lw_at lw_m2 232 rfl) rfl
theorem q1998 : (Jvm.Cond.instantiable "java/util/LinkedHashMap$LinkedKeySet" (2 : Nat)) ∈ lw_all := lw_g (lw_at lw_m8 223 rfl) rfl
theorem q2000 : (Jvm.Cond.instanceMethod ({ cls := "java/util/LinkedHashMap$LinkedKeySet", name := "<init>", desc := "(Ljava/util/LinkedHashMap;Z)V" } : Jvm.MethodName)) ∈ lw_all := lw_g (lw_at lw_m8 225 rfl) rfl
theorem q2001 : (Jvm.Cond.code ({ cls := "java/util/LinkedHashMap$LinkedKeySet", name := "<init>", desc := "(Ljava/util/LinkedHashMap;Z)V" } : Jvm.MethodName) prog_51_method_1_code (3 : Nat) (Option.none : Option Jvm.ClassFile.FieldType)) ∈ lw_all := lw_g (lw_at lw_m8 226 rfl) rfl
theorem q2002 : (Jvm.Cond.methodLink "java/util/LinkedHashMap$LinkedKeySet" (7 : Nat) ({ cls := "java/util/AbstractSet", name := "<init>", desc := "()V" } : Jvm.MethodName)) ∈ lw_all := lw_g (lw_at lw_m8 227 rfl) rfl
theorem q2003 : (Jvm.Cond.fieldLink "java/util/LinkedHashMap$LinkedKeySet" (13 : Nat) "java/util/LinkedHashMap$LinkedKeySet" "reversed" "Z") ∈ lw_all := lw_g (lw_at lw_m8 228 rfl) rfl
theorem q2004 : (Jvm.Cond.fieldLink "java/util/LinkedHashMap$LinkedKeySet" (1 : Nat) "java/util/LinkedHashMap$LinkedKeySet" "this$0" "Ljava/util/LinkedHashMap;") ∈ lw_all := lw_g (lw_at lw_m8 229 rfl) rfl
theorem q2005 : (Jvm.Cond.laysFinal "java/util/LinkedHashMap$LinkedKeySet" "java/util/LinkedHashMap$LinkedKeySet" "reversed" "Z") ∈ lw_all := lw_g (lw_at lw_m8 230 rfl) rfl
theorem q2006 : (Jvm.Cond.soleField "java/util/LinkedHashMap$LinkedKeySet" "reversed") ∈ lw_all := lw_g (lw_at lw_m8 231 rfl) rfl
theorem q2007 : (Jvm.Cond.laysFinal "java/util/LinkedHashMap$LinkedKeySet" "java/util/LinkedHashMap$LinkedKeySet" "this$0" "Ljava/util/LinkedHashMap;") ∈ lw_all := lw_g (lw_at lw_m8 232 rfl) rfl
theorem q2008 : (Jvm.Cond.soleField "java/util/LinkedHashMap$LinkedKeySet" "this$0") ∈ lw_all := lw_g (lw_at lw_m8 233 rfl) rfl
theorem q2009 : (Jvm.Cond.superclass "java/util/LinkedHashMap$LinkedKeySet" "java/util/AbstractSet") ∈ lw_all := lw_g (lw_at lw_m8 234 rfl) rfl
theorem q2070 : (Jvm.Cond.castable "java/util/LinkedHashMap$LinkedKeySet" "java/util/Set") ∈ lw_tbl := lw_at lw_m9 55 rfl
theorem q2071 : (Jvm.Cond.selects "java/util/LinkedHashMap$LinkedKeySet" ({ cls := "java/util/Set", name := "iterator", desc := "()Ljava/util/Iterator;" } : Jvm.MethodName) ({ cls := "java/util/LinkedHashMap$LinkedKeySet", name := "iterator", desc := "()Ljava/util/Iterator;" } : Jvm.MethodName)) ∈ lw_all := lw_g (lw_at lw_m9 56 rfl) rfl
theorem q2072 : (Jvm.Cond.unhidden "java/util/LinkedHashMap$LinkedKeySet" "iterator" "()Ljava/util/Iterator;") ∈ lw_tbl := lw_at lw_m9 57 rfl
theorem q2073 : (Jvm.Cond.instanceMethod ({ cls := "java/util/LinkedHashMap$LinkedKeySet", name := "iterator", desc := "()Ljava/util/Iterator;" } : Jvm.MethodName)) ∈ lw_all := lw_g (lw_at lw_m9 58 rfl) rfl
theorem q2074 : (Jvm.Cond.publicMethod ({ cls := "java/util/LinkedHashMap$LinkedKeySet", name := "iterator", desc := "()Ljava/util/Iterator;" } : Jvm.MethodName)) ∈ lw_tbl := lw_at lw_m9 59 rfl
theorem q2075 : (Jvm.Cond.code ({ cls := "java/util/LinkedHashMap$LinkedKeySet", name := "iterator", desc := "()Ljava/util/Iterator;" } : Jvm.MethodName) prog_51_method_4_code (1 : Nat) (Option.some (Jvm.ClassFile.FieldType.object "java/util/Iterator"))) ∈ lw_all := lw_g (lw_at lw_m9 60 rfl) rfl
theorem q2076 : (Jvm.Cond.classLink "java/util/LinkedHashMap$LinkedKeySet" (26 : Nat) "java/util/LinkedHashMap$LinkedKeyIterator") ∈ lw_all := lw_g (lw_at lw_m9 61 rfl) rfl
theorem q2078 : (Jvm.Cond.methodLink "java/util/LinkedHashMap$LinkedKeySet" (28 : Nat) ({ cls := "java/util/LinkedHashMap$LinkedKeyIterator", name := "<init>", desc := "(Ljava/util/LinkedHashMap;Z)V" } : Jvm.MethodName)) ∈ lw_all := lw_g (lw_at lw_m9 63 rfl) rfl
theorem q2797 : (Jvm.Cond.castable "java/util/LinkedHashMap$LinkedKeySet" "java/util/SequencedSet") ∈ lw_tbl := lw_at lw_m12 62 rfl
theorem q2820 : (Jvm.Cond.castable "java/util/LinkedHashMap$LinkedKeySet" "java/lang/Object") ∈ lw_tbl := lw_at lw_m12 85 rfl
theorem in_J26 : ∀ w ∈ wsJ260, w ∈ lw_all := lw_in wsJ260 [2005, 2007] (by decide +kernel) (by decide +kernel)

/-! java/util/HashMap$HashIterator -/
set_option maxRecDepth 100000
def RJ27 : String := "java/util/HashMap$HashIterator"
abbrev cJ27_init : ByteArray := prog_40_method_1_code
def yJ27_init : MethodName := ⟨RJ27, "<init>", "(Ljava/util/HashMap;)V"⟩
def dkwJ27_init_3 : List UInt8 := [181, 0, 26, 198, 255, 229, 177]
abbrev dktJ27_init_3 : List UInt8 := dkwJ27_init_3 ++ []
def dkwJ27_init_2 : List UInt8 := [42, 180, 0, 33, 44, 190, 162, 0, 24, 42, 44, 42, 89, 180, 0, 33, 90, 4, 96, 181, 0, 33, 50, 90]
abbrev dktJ27_init_2 : List UInt8 := dkwJ27_init_2 ++ dktJ27_init_3
def dkwJ27_init_1 : List UInt8 := [1, 90, 181, 0, 26, 181, 0, 30, 42, 3, 181, 0, 33, 44, 198, 0, 40, 43, 180, 0, 36, 158, 0, 33]
abbrev dktJ27_init_1 : List UInt8 := dkwJ27_init_1 ++ dktJ27_init_2
def dkwJ27_init_0 : List UInt8 := [42, 43, 181, 0, 1, 42, 183, 0, 7, 42, 43, 180, 0, 13, 181, 0, 19, 43, 180, 0, 22, 77, 42, 42]
abbrev dktJ27_init_0 : List UInt8 := dkwJ27_init_0 ++ dktJ27_init_1
theorem dksJ27_init_0 : cJ27_init.data.toList.drop 0 = dktJ27_init_0 := by decide +kernel
theorem dksJ27_init_1 : cJ27_init.data.toList.drop 24 = dktJ27_init_1 := dk_seg dksJ27_init_0 24 rfl rfl
theorem dksJ27_init_2 : cJ27_init.data.toList.drop 48 = dktJ27_init_2 := dk_seg dksJ27_init_1 24 rfl rfl
theorem dksJ27_init_3 : cJ27_init.data.toList.drop 72 = dktJ27_init_3 := dk_seg dksJ27_init_2 24 rfl rfl
theorem dJ27_init_0 : decode cJ27_init 0 = .ok (.aload_n 0, 1) := dk_42 (dk_at dksJ27_init_0 0 rfl rfl)
theorem dJ27_init_1 : decode cJ27_init 1 = .ok (.aload_n 1, 1) := dk_43 (dk_at dksJ27_init_0 1 rfl rfl)
theorem dJ27_init_2 : decode cJ27_init 2 = .ok (.putfield 1, 3) := dk_181 0 1 (dk_at dksJ27_init_0 2 rfl rfl)
theorem dJ27_init_5 : decode cJ27_init 5 = .ok (.aload_n 0, 1) := dk_42 (dk_at dksJ27_init_0 5 rfl rfl)
theorem dJ27_init_6 : decode cJ27_init 6 = .ok (.invokespecial 7, 3) := dk_183 0 7 (dk_at dksJ27_init_0 6 rfl rfl)
theorem dJ27_init_9 : decode cJ27_init 9 = .ok (.aload_n 0, 1) := dk_42 (dk_at dksJ27_init_0 9 rfl rfl)
theorem dJ27_init_10 : decode cJ27_init 10 = .ok (.aload_n 1, 1) := dk_43 (dk_at dksJ27_init_0 10 rfl rfl)
theorem dJ27_init_11 : decode cJ27_init 11 = .ok (.getfield 13, 3) := dk_180 0 13 (dk_at dksJ27_init_0 11 rfl rfl)
theorem dJ27_init_14 : decode cJ27_init 14 = .ok (.putfield 19, 3) := dk_181 0 19 (dk_at dksJ27_init_0 14 rfl rfl)
theorem dJ27_init_17 : decode cJ27_init 17 = .ok (.aload_n 1, 1) := dk_43 (dk_at dksJ27_init_0 17 rfl rfl)
theorem dJ27_init_18 : decode cJ27_init 18 = .ok (.getfield 22, 3) := dk_180 0 22 (dk_at dksJ27_init_0 18 rfl rfl)
theorem dJ27_init_21 : decode cJ27_init 21 = .ok (.astore_n 2, 1) := dk_77 (dk_at dksJ27_init_0 21 rfl rfl)
theorem dJ27_init_22 : decode cJ27_init 22 = .ok (.aload_n 0, 1) := dk_42 (dk_at dksJ27_init_0 22 rfl rfl)
theorem dJ27_init_23 : decode cJ27_init 23 = .ok (.aload_n 0, 1) := dk_42 (dk_at dksJ27_init_0 23 rfl rfl)
theorem dJ27_init_24 : decode cJ27_init 24 = .ok (.aconst_null, 1) := dk_1 (dk_at dksJ27_init_1 0 rfl rfl)
theorem dJ27_init_25 : decode cJ27_init 25 = .ok (.dup_x1, 1) := dk_90 (dk_at dksJ27_init_1 1 rfl rfl)
theorem dJ27_init_26 : decode cJ27_init 26 = .ok (.putfield 26, 3) := dk_181 0 26 (dk_at dksJ27_init_1 2 rfl rfl)
theorem dJ27_init_29 : decode cJ27_init 29 = .ok (.putfield 30, 3) := dk_181 0 30 (dk_at dksJ27_init_1 5 rfl rfl)
theorem dJ27_init_32 : decode cJ27_init 32 = .ok (.aload_n 0, 1) := dk_42 (dk_at dksJ27_init_1 8 rfl rfl)
theorem dJ27_init_33 : decode cJ27_init 33 = .ok (.iconst 0, 1) := dk_3 (dk_at dksJ27_init_1 9 rfl rfl)
theorem dJ27_init_34 : decode cJ27_init 34 = .ok (.putfield 33, 3) := dk_181 0 33 (dk_at dksJ27_init_1 10 rfl rfl)
theorem dJ27_init_37 : decode cJ27_init 37 = .ok (.aload_n 2, 1) := dk_44 (dk_at dksJ27_init_1 13 rfl rfl)
theorem dJ27_init_38 : decode cJ27_init 38 = .ok (.ifnull 40, 3) := dk_198 0 40 (dk_at dksJ27_init_1 14 rfl rfl)
theorem dJ27_init_41 : decode cJ27_init 41 = .ok (.aload_n 1, 1) := dk_43 (dk_at dksJ27_init_1 17 rfl rfl)
theorem dJ27_init_42 : decode cJ27_init 42 = .ok (.getfield 36, 3) := dk_180 0 36 (dk_at dksJ27_init_1 18 rfl rfl)
theorem dJ27_init_45 : decode cJ27_init 45 = .ok (.ifCond .le 33, 3) := dk_158 0 33 (dk_at dksJ27_init_1 21 rfl rfl)
theorem dJ27_init_48 : decode cJ27_init 48 = .ok (.aload_n 0, 1) := dk_42 (dk_at dksJ27_init_2 0 rfl rfl)
theorem dJ27_init_49 : decode cJ27_init 49 = .ok (.getfield 33, 3) := dk_180 0 33 (dk_at dksJ27_init_2 1 rfl rfl)
theorem dJ27_init_52 : decode cJ27_init 52 = .ok (.aload_n 2, 1) := dk_44 (dk_at dksJ27_init_2 4 rfl rfl)
theorem dJ27_init_53 : decode cJ27_init 53 = .ok (.arraylength, 1) := dk_190 (dk_at dksJ27_init_2 5 rfl rfl)
theorem dJ27_init_54 : decode cJ27_init 54 = .ok (.if_icmp .ge 24, 3) := dk_162 0 24 (dk_at dksJ27_init_2 6 rfl rfl)
theorem dJ27_init_57 : decode cJ27_init 57 = .ok (.aload_n 0, 1) := dk_42 (dk_at dksJ27_init_2 9 rfl rfl)
theorem dJ27_init_58 : decode cJ27_init 58 = .ok (.aload_n 2, 1) := dk_44 (dk_at dksJ27_init_2 10 rfl rfl)
theorem dJ27_init_59 : decode cJ27_init 59 = .ok (.aload_n 0, 1) := dk_42 (dk_at dksJ27_init_2 11 rfl rfl)
theorem dJ27_init_60 : decode cJ27_init 60 = .ok (.dup, 1) := dk_89 (dk_at dksJ27_init_2 12 rfl rfl)
theorem dJ27_init_61 : decode cJ27_init 61 = .ok (.getfield 33, 3) := dk_180 0 33 (dk_at dksJ27_init_2 13 rfl rfl)
theorem dJ27_init_64 : decode cJ27_init 64 = .ok (.dup_x1, 1) := dk_90 (dk_at dksJ27_init_2 16 rfl rfl)
theorem dJ27_init_65 : decode cJ27_init 65 = .ok (.iconst 1, 1) := dk_4 (dk_at dksJ27_init_2 17 rfl rfl)
theorem dJ27_init_66 : decode cJ27_init 66 = .ok (.iadd, 1) := dk_96 (dk_at dksJ27_init_2 18 rfl rfl)
theorem dJ27_init_67 : decode cJ27_init 67 = .ok (.putfield 33, 3) := dk_181 0 33 (dk_at dksJ27_init_2 19 rfl rfl)
theorem dJ27_init_70 : decode cJ27_init 70 = .ok (.aaload, 1) := dk_50 (dk_at dksJ27_init_2 22 rfl rfl)
theorem dJ27_init_71 : decode cJ27_init 71 = .ok (.dup_x1, 1) := dk_90 (dk_at dksJ27_init_2 23 rfl rfl)
theorem dJ27_init_72 : decode cJ27_init 72 = .ok (.putfield 26, 3) := dk_181 0 26 (dk_at dksJ27_init_3 0 rfl rfl)
theorem dJ27_init_75 : decode cJ27_init 75 = .ok (.ifnull (-27), 3) := dk_198 255 229 (dk_at dksJ27_init_3 3 rfl rfl)
theorem dJ27_init_78 : decode cJ27_init 78 = .ok (.return_, 1) := dk_177 (dk_at dksJ27_init_3 6 rfl rfl)
abbrev cJ27_hasNext : ByteArray := prog_40_method_2_code
def yJ27_hasNext : MethodName := ⟨RJ27, "hasNext", "()Z"⟩
def dkwJ27_hasNext_0 : List UInt8 := [42, 180, 0, 26, 198, 0, 7, 4, 167, 0, 4, 3, 172]
abbrev dktJ27_hasNext_0 : List UInt8 := dkwJ27_hasNext_0 ++ []
theorem dksJ27_hasNext_0 : cJ27_hasNext.data.toList.drop 0 = dktJ27_hasNext_0 := by decide +kernel
theorem dJ27_hasNext_0 : decode cJ27_hasNext 0 = .ok (.aload_n 0, 1) := dk_42 (dk_at dksJ27_hasNext_0 0 rfl rfl)
theorem dJ27_hasNext_1 : decode cJ27_hasNext 1 = .ok (.getfield 26, 3) := dk_180 0 26 (dk_at dksJ27_hasNext_0 1 rfl rfl)
theorem dJ27_hasNext_4 : decode cJ27_hasNext 4 = .ok (.ifnull 7, 3) := dk_198 0 7 (dk_at dksJ27_hasNext_0 4 rfl rfl)
theorem dJ27_hasNext_7 : decode cJ27_hasNext 7 = .ok (.iconst 1, 1) := dk_4 (dk_at dksJ27_hasNext_0 7 rfl rfl)
theorem dJ27_hasNext_8 : decode cJ27_hasNext 8 = .ok (.goto 4, 3) := dk_167 0 4 (dk_at dksJ27_hasNext_0 8 rfl rfl)
theorem dJ27_hasNext_11 : decode cJ27_hasNext 11 = .ok (.iconst 0, 1) := dk_3 (dk_at dksJ27_hasNext_0 11 rfl rfl)
theorem dJ27_hasNext_12 : decode cJ27_hasNext 12 = .ok (.ireturn, 1) := dk_172 (dk_at dksJ27_hasNext_0 12 rfl rfl)
abbrev cJ27_nextNode : ByteArray := prog_40_method_3_code
def yJ27_nextNode : MethodName := ⟨RJ27, "nextNode", "()Ljava/util/HashMap$Node;"⟩
def dkwJ27_nextNode_4 : List UInt8 := [181, 0, 26, 198, 255, 229, 44, 176]
abbrev dktJ27_nextNode_4 : List UInt8 := dkwJ27_nextNode_4 ++ []
def dkwJ27_nextNode_3 : List UInt8 := [180, 0, 33, 43, 190, 162, 0, 24, 42, 43, 42, 89, 180, 0, 33, 90, 4, 96, 181, 0, 33, 50, 90]
abbrev dktJ27_nextNode_3 : List UInt8 := dkwJ27_nextNode_3 ++ dktJ27_nextNode_4
def dkwJ27_nextNode_2 : List UInt8 := [180, 0, 45, 90, 181, 0, 26, 199, 0, 45, 42, 180, 0, 1, 180, 0, 22, 89, 76, 198, 0, 33, 42]
abbrev dktJ27_nextNode_2 : List UInt8 := dkwJ27_nextNode_2 ++ dktJ27_nextNode_3
def dkwJ27_nextNode_1 : List UInt8 := [183, 0, 41, 191, 44, 199, 0, 11, 187, 0, 42, 89, 183, 0, 44, 191, 42, 42, 44, 90, 181, 0, 30]
abbrev dktJ27_nextNode_1 : List UInt8 := dkwJ27_nextNode_1 ++ dktJ27_nextNode_2
def dkwJ27_nextNode_0 : List UInt8 := [42, 180, 0, 26, 77, 42, 180, 0, 1, 180, 0, 13, 42, 180, 0, 19, 159, 0, 11, 187, 0, 39, 89]
abbrev dktJ27_nextNode_0 : List UInt8 := dkwJ27_nextNode_0 ++ dktJ27_nextNode_1
theorem dksJ27_nextNode_0 : cJ27_nextNode.data.toList.drop 0 = dktJ27_nextNode_0 := by decide +kernel
theorem dksJ27_nextNode_1 : cJ27_nextNode.data.toList.drop 23 = dktJ27_nextNode_1 := dk_seg dksJ27_nextNode_0 23 rfl rfl
theorem dksJ27_nextNode_2 : cJ27_nextNode.data.toList.drop 46 = dktJ27_nextNode_2 := dk_seg dksJ27_nextNode_1 23 rfl rfl
theorem dksJ27_nextNode_3 : cJ27_nextNode.data.toList.drop 69 = dktJ27_nextNode_3 := dk_seg dksJ27_nextNode_2 23 rfl rfl
theorem dksJ27_nextNode_4 : cJ27_nextNode.data.toList.drop 92 = dktJ27_nextNode_4 := dk_seg dksJ27_nextNode_3 23 rfl rfl
theorem dJ27_nextNode_0 : decode cJ27_nextNode 0 = .ok (.aload_n 0, 1) := dk_42 (dk_at dksJ27_nextNode_0 0 rfl rfl)
theorem dJ27_nextNode_1 : decode cJ27_nextNode 1 = .ok (.getfield 26, 3) := dk_180 0 26 (dk_at dksJ27_nextNode_0 1 rfl rfl)
theorem dJ27_nextNode_4 : decode cJ27_nextNode 4 = .ok (.astore_n 2, 1) := dk_77 (dk_at dksJ27_nextNode_0 4 rfl rfl)
theorem dJ27_nextNode_5 : decode cJ27_nextNode 5 = .ok (.aload_n 0, 1) := dk_42 (dk_at dksJ27_nextNode_0 5 rfl rfl)
theorem dJ27_nextNode_6 : decode cJ27_nextNode 6 = .ok (.getfield 1, 3) := dk_180 0 1 (dk_at dksJ27_nextNode_0 6 rfl rfl)
theorem dJ27_nextNode_9 : decode cJ27_nextNode 9 = .ok (.getfield 13, 3) := dk_180 0 13 (dk_at dksJ27_nextNode_0 9 rfl rfl)
theorem dJ27_nextNode_12 : decode cJ27_nextNode 12 = .ok (.aload_n 0, 1) := dk_42 (dk_at dksJ27_nextNode_0 12 rfl rfl)
theorem dJ27_nextNode_13 : decode cJ27_nextNode 13 = .ok (.getfield 19, 3) := dk_180 0 19 (dk_at dksJ27_nextNode_0 13 rfl rfl)
theorem dJ27_nextNode_16 : decode cJ27_nextNode 16 = .ok (.if_icmp .eq 11, 3) := dk_159 0 11 (dk_at dksJ27_nextNode_0 16 rfl rfl)
theorem dJ27_nextNode_19 : decode cJ27_nextNode 19 = .ok (.new 39, 3) := dk_187 0 39 (dk_at dksJ27_nextNode_0 19 rfl rfl)
theorem dJ27_nextNode_22 : decode cJ27_nextNode 22 = .ok (.dup, 1) := dk_89 (dk_at dksJ27_nextNode_0 22 rfl rfl)
theorem dJ27_nextNode_23 : decode cJ27_nextNode 23 = .ok (.invokespecial 41, 3) := dk_183 0 41 (dk_at dksJ27_nextNode_1 0 rfl rfl)
theorem dJ27_nextNode_26 : decode cJ27_nextNode 26 = .ok (.athrow, 1) := dk_191 (dk_at dksJ27_nextNode_1 3 rfl rfl)
theorem dJ27_nextNode_27 : decode cJ27_nextNode 27 = .ok (.aload_n 2, 1) := dk_44 (dk_at dksJ27_nextNode_1 4 rfl rfl)
theorem dJ27_nextNode_28 : decode cJ27_nextNode 28 = .ok (.ifnonnull 11, 3) := dk_199 0 11 (dk_at dksJ27_nextNode_1 5 rfl rfl)
theorem dJ27_nextNode_31 : decode cJ27_nextNode 31 = .ok (.new 42, 3) := dk_187 0 42 (dk_at dksJ27_nextNode_1 8 rfl rfl)
theorem dJ27_nextNode_34 : decode cJ27_nextNode 34 = .ok (.dup, 1) := dk_89 (dk_at dksJ27_nextNode_1 11 rfl rfl)
theorem dJ27_nextNode_35 : decode cJ27_nextNode 35 = .ok (.invokespecial 44, 3) := dk_183 0 44 (dk_at dksJ27_nextNode_1 12 rfl rfl)
theorem dJ27_nextNode_38 : decode cJ27_nextNode 38 = .ok (.athrow, 1) := dk_191 (dk_at dksJ27_nextNode_1 15 rfl rfl)
theorem dJ27_nextNode_39 : decode cJ27_nextNode 39 = .ok (.aload_n 0, 1) := dk_42 (dk_at dksJ27_nextNode_1 16 rfl rfl)
theorem dJ27_nextNode_40 : decode cJ27_nextNode 40 = .ok (.aload_n 0, 1) := dk_42 (dk_at dksJ27_nextNode_1 17 rfl rfl)
theorem dJ27_nextNode_41 : decode cJ27_nextNode 41 = .ok (.aload_n 2, 1) := dk_44 (dk_at dksJ27_nextNode_1 18 rfl rfl)
theorem dJ27_nextNode_42 : decode cJ27_nextNode 42 = .ok (.dup_x1, 1) := dk_90 (dk_at dksJ27_nextNode_1 19 rfl rfl)
theorem dJ27_nextNode_43 : decode cJ27_nextNode 43 = .ok (.putfield 30, 3) := dk_181 0 30 (dk_at dksJ27_nextNode_1 20 rfl rfl)
theorem dJ27_nextNode_46 : decode cJ27_nextNode 46 = .ok (.getfield 45, 3) := dk_180 0 45 (dk_at dksJ27_nextNode_2 0 rfl rfl)
theorem dJ27_nextNode_49 : decode cJ27_nextNode 49 = .ok (.dup_x1, 1) := dk_90 (dk_at dksJ27_nextNode_2 3 rfl rfl)
theorem dJ27_nextNode_50 : decode cJ27_nextNode 50 = .ok (.putfield 26, 3) := dk_181 0 26 (dk_at dksJ27_nextNode_2 4 rfl rfl)
theorem dJ27_nextNode_53 : decode cJ27_nextNode 53 = .ok (.ifnonnull 45, 3) := dk_199 0 45 (dk_at dksJ27_nextNode_2 7 rfl rfl)
theorem dJ27_nextNode_56 : decode cJ27_nextNode 56 = .ok (.aload_n 0, 1) := dk_42 (dk_at dksJ27_nextNode_2 10 rfl rfl)
theorem dJ27_nextNode_57 : decode cJ27_nextNode 57 = .ok (.getfield 1, 3) := dk_180 0 1 (dk_at dksJ27_nextNode_2 11 rfl rfl)
theorem dJ27_nextNode_60 : decode cJ27_nextNode 60 = .ok (.getfield 22, 3) := dk_180 0 22 (dk_at dksJ27_nextNode_2 14 rfl rfl)
theorem dJ27_nextNode_63 : decode cJ27_nextNode 63 = .ok (.dup, 1) := dk_89 (dk_at dksJ27_nextNode_2 17 rfl rfl)
theorem dJ27_nextNode_64 : decode cJ27_nextNode 64 = .ok (.astore_n 1, 1) := dk_76 (dk_at dksJ27_nextNode_2 18 rfl rfl)
theorem dJ27_nextNode_65 : decode cJ27_nextNode 65 = .ok (.ifnull 33, 3) := dk_198 0 33 (dk_at dksJ27_nextNode_2 19 rfl rfl)
theorem dJ27_nextNode_68 : decode cJ27_nextNode 68 = .ok (.aload_n 0, 1) := dk_42 (dk_at dksJ27_nextNode_2 22 rfl rfl)
theorem dJ27_nextNode_69 : decode cJ27_nextNode 69 = .ok (.getfield 33, 3) := dk_180 0 33 (dk_at dksJ27_nextNode_3 0 rfl rfl)
theorem dJ27_nextNode_72 : decode cJ27_nextNode 72 = .ok (.aload_n 1, 1) := dk_43 (dk_at dksJ27_nextNode_3 3 rfl rfl)
theorem dJ27_nextNode_73 : decode cJ27_nextNode 73 = .ok (.arraylength, 1) := dk_190 (dk_at dksJ27_nextNode_3 4 rfl rfl)
theorem dJ27_nextNode_74 : decode cJ27_nextNode 74 = .ok (.if_icmp .ge 24, 3) := dk_162 0 24 (dk_at dksJ27_nextNode_3 5 rfl rfl)
theorem dJ27_nextNode_77 : decode cJ27_nextNode 77 = .ok (.aload_n 0, 1) := dk_42 (dk_at dksJ27_nextNode_3 8 rfl rfl)
theorem dJ27_nextNode_78 : decode cJ27_nextNode 78 = .ok (.aload_n 1, 1) := dk_43 (dk_at dksJ27_nextNode_3 9 rfl rfl)
theorem dJ27_nextNode_79 : decode cJ27_nextNode 79 = .ok (.aload_n 0, 1) := dk_42 (dk_at dksJ27_nextNode_3 10 rfl rfl)
theorem dJ27_nextNode_80 : decode cJ27_nextNode 80 = .ok (.dup, 1) := dk_89 (dk_at dksJ27_nextNode_3 11 rfl rfl)
theorem dJ27_nextNode_81 : decode cJ27_nextNode 81 = .ok (.getfield 33, 3) := dk_180 0 33 (dk_at dksJ27_nextNode_3 12 rfl rfl)
theorem dJ27_nextNode_84 : decode cJ27_nextNode 84 = .ok (.dup_x1, 1) := dk_90 (dk_at dksJ27_nextNode_3 15 rfl rfl)
theorem dJ27_nextNode_85 : decode cJ27_nextNode 85 = .ok (.iconst 1, 1) := dk_4 (dk_at dksJ27_nextNode_3 16 rfl rfl)
theorem dJ27_nextNode_86 : decode cJ27_nextNode 86 = .ok (.iadd, 1) := dk_96 (dk_at dksJ27_nextNode_3 17 rfl rfl)
theorem dJ27_nextNode_87 : decode cJ27_nextNode 87 = .ok (.putfield 33, 3) := dk_181 0 33 (dk_at dksJ27_nextNode_3 18 rfl rfl)
theorem dJ27_nextNode_90 : decode cJ27_nextNode 90 = .ok (.aaload, 1) := dk_50 (dk_at dksJ27_nextNode_3 21 rfl rfl)
theorem dJ27_nextNode_91 : decode cJ27_nextNode 91 = .ok (.dup_x1, 1) := dk_90 (dk_at dksJ27_nextNode_3 22 rfl rfl)
theorem dJ27_nextNode_92 : decode cJ27_nextNode 92 = .ok (.putfield 26, 3) := dk_181 0 26 (dk_at dksJ27_nextNode_4 0 rfl rfl)
theorem dJ27_nextNode_95 : decode cJ27_nextNode 95 = .ok (.ifnull (-27), 3) := dk_198 255 229 (dk_at dksJ27_nextNode_4 3 rfl rfl)
theorem dJ27_nextNode_98 : decode cJ27_nextNode 98 = .ok (.aload_n 2, 1) := dk_44 (dk_at dksJ27_nextNode_4 6 rfl rfl)
theorem dJ27_nextNode_99 : decode cJ27_nextNode 99 = .ok (.areturn, 1) := dk_176 (dk_at dksJ27_nextNode_4 7 rfl rfl)
theorem q135 : (Jvm.Cond.initialized "java/util/HashMap$HashIterator") ∈ lw_all := lw_g (lw_at lw_m1 40 rfl) rfl
theorem q797 : (Jvm.Cond.fieldLink "java/util/HashMap$HashIterator" (22 : Nat) "java/util/HashMap" "table" "[Ljava/util/HashMap$Node;") ∈ lw_all := lw_g (lw_at lw_m3 222 rfl) rfl
theorem q799 : (Jvm.Cond.fieldLink "java/util/HashMap$HashIterator" (36 : Nat) "java/util/HashMap" "size" "I") ∈ lw_all := lw_g (lw_at lw_m3 224 rfl) rfl
theorem q801 : (Jvm.Cond.fieldLink "java/util/HashMap$HashIterator" (13 : Nat) "java/util/HashMap" "modCount" "I") ∈ lw_all := lw_g (lw_at lw_m3 226 rfl) rfl
theorem q1283 : (Jvm.Cond.fieldLink "java/util/HashMap$HashIterator" (45 : Nat) "java/util/HashMap$Node" "next" "Ljava/util/HashMap$Node;") ∈ lw_all := lw_g (lw_at lw_m5 228 rfl) rfl
theorem q2027 : (Jvm.Cond.instanceMethod ({ cls := "java/util/HashMap$HashIterator", name := "<init>", desc := "(Ljava/util/HashMap;)V" } : Jvm.MethodName)) ∈ lw_all := lw_g (lw_at lw_m9 12 rfl) rfl
theorem q2028 : (Jvm.Cond.code ({ cls := "java/util/HashMap$HashIterator", name := "<init>", desc := "(Ljava/util/HashMap;)V" } : Jvm.MethodName) prog_40_method_1_code (3 : Nat) (Option.none : Option Jvm.ClassFile.FieldType)) ∈ lw_all := lw_g (lw_at lw_m9 13 rfl) rfl
theorem q2029 : (Jvm.Cond.methodLink "java/util/HashMap$HashIterator" (7 : Nat) ({ cls := "java/lang/Object", name := "<init>", desc := "()V" } : Jvm.MethodName)) ∈ lw_all := lw_g (lw_at lw_m9 14 rfl) rfl
theorem q2030 : (Jvm.Cond.fieldLink "java/util/HashMap$HashIterator" (26 : Nat) "java/util/HashMap$HashIterator" "next" "Ljava/util/HashMap$Node;") ∈ lw_all := lw_g (lw_at lw_m9 15 rfl) rfl
theorem q2031 : (Jvm.Cond.fieldLink "java/util/HashMap$HashIterator" (30 : Nat) "java/util/HashMap$HashIterator" "current" "Ljava/util/HashMap$Node;") ∈ lw_all := lw_g (lw_at lw_m9 16 rfl) rfl
theorem q2032 : (Jvm.Cond.fieldLink "java/util/HashMap$HashIterator" (19 : Nat) "java/util/HashMap$HashIterator" "expectedModCount" "I") ∈ lw_all := lw_g (lw_at lw_m9 17 rfl) rfl
theorem q2033 : (Jvm.Cond.fieldLink "java/util/HashMap$HashIterator" (33 : Nat) "java/util/HashMap$HashIterator" "index" "I") ∈ lw_all := lw_g (lw_at lw_m9 18 rfl) rfl
theorem q2034 : (Jvm.Cond.fieldLink "java/util/HashMap$HashIterator" (1 : Nat) "java/util/HashMap$HashIterator" "this$0" "Ljava/util/HashMap;") ∈ lw_all := lw_g (lw_at lw_m9 19 rfl) rfl
theorem q2036 : (Jvm.Cond.soleField "java/util/HashMap$HashIterator" "next") ∈ lw_all := lw_g (lw_at lw_m9 21 rfl) rfl
theorem q2038 : (Jvm.Cond.soleField "java/util/HashMap$HashIterator" "current") ∈ lw_all := lw_g (lw_at lw_m9 23 rfl) rfl
theorem q2040 : (Jvm.Cond.soleField "java/util/HashMap$HashIterator" "expectedModCount") ∈ lw_all := lw_g (lw_at lw_m9 25 rfl) rfl
theorem q2042 : (Jvm.Cond.soleField "java/util/HashMap$HashIterator" "index") ∈ lw_all := lw_g (lw_at lw_m9 27 rfl) rfl
theorem q2044 : (Jvm.Cond.soleField "java/util/HashMap$HashIterator" "this$0") ∈ lw_all := lw_g (lw_at lw_m9 29 rfl) rfl
theorem q2108 : (Jvm.Cond.instanceMethod ({ cls := "java/util/HashMap$HashIterator", name := "hasNext", desc := "()Z" } : Jvm.MethodName)) ∈ lw_all := lw_g (lw_at lw_m9 93 rfl) rfl
theorem q2109 : (Jvm.Cond.publicMethod ({ cls := "java/util/HashMap$HashIterator", name := "hasNext", desc := "()Z" } : Jvm.MethodName)) ∈ lw_tbl := lw_at lw_m9 94 rfl
theorem q2110 : (Jvm.Cond.code ({ cls := "java/util/HashMap$HashIterator", name := "hasNext", desc := "()Z" } : Jvm.MethodName) prog_40_method_2_code (1 : Nat) (Option.some Jvm.ClassFile.FieldType.boolean)) ∈ lw_all := lw_g (lw_at lw_m9 95 rfl) rfl
theorem q2128 : (Jvm.Cond.declares ({ cls := "java/util/HashMap$HashIterator", name := "nextNode", desc := "()Ljava/util/HashMap$Node;" } : Jvm.MethodName)) ∈ lw_tbl := lw_at lw_m9 113 rfl
theorem q2130 : (Jvm.Cond.instanceMethod ({ cls := "java/util/HashMap$HashIterator", name := "nextNode", desc := "()Ljava/util/HashMap$Node;" } : Jvm.MethodName)) ∈ lw_all := lw_g (lw_at lw_m9 115 rfl) rfl
theorem q2131 : (Jvm.Cond.code ({ cls := "java/util/HashMap$HashIterator", name := "nextNode", desc := "()Ljava/util/HashMap$Node;" } : Jvm.MethodName) prog_40_method_3_code (3 : Nat) (Option.some (Jvm.ClassFile.FieldType.object "java/util/HashMap$Node"))) ∈ lw_all := lw_g (lw_at lw_m9 116 rfl) rfl

/-! java/util/HashMap$KeyIterator -/
set_option maxRecDepth 100000
def RJ28 : String := "java/util/HashMap$KeyIterator"
def TJ28 : u_T := fun k => match k with
  | 0 => ("java/util/HashMap$HashIterator", "next", "Ljava/util/HashMap$Node;", false)
  | 1 => ("java/util/HashMap$HashIterator", "current", "Ljava/util/HashMap$Node;", false)
  | 2 => ("java/util/HashMap$HashIterator", "expectedModCount", "I", false)
  | 3 => ("java/util/HashMap$HashIterator", "index", "I", false)
  | _ => ("java/util/HashMap$HashIterator", "this$0", "Ljava/util/HashMap;", true)
def tyJ28 : Nat → FieldType := fun k => match k with
  | 0 => .object "java/util/HashMap$Node"
  | 1 => .object "java/util/HashMap$Node"
  | 2 => .int
  | 3 => .int
  | _ => .object "java/util/HashMap"
abbrev wsJ280 : List Cond := u_ws RJ28 TJ28 5
theorem nmJ28 : ∀ a, a < 5 → ∀ b, b < 5 → a ≠ b → (TJ28 a).2.1 ≠ (TJ28 b).2.1 := by decide +kernel
theorem tyJ28_ok : ∀ k, k < 5 → parseFieldDescriptor (TJ28 k).2.2.1 = some (tyJ28 k) := by decide +kernel
abbrev cJ28_init : ByteArray := prog_41_method_1_code
def yJ28_init : MethodName := ⟨RJ28, "<init>", "(Ljava/util/HashMap;)V"⟩
def dkwJ28_init_0 : List UInt8 := [42, 43, 183, 0, 1, 177]
abbrev dktJ28_init_0 : List UInt8 := dkwJ28_init_0 ++ []
theorem dksJ28_init_0 : cJ28_init.data.toList.drop 0 = dktJ28_init_0 := by decide +kernel
theorem dJ28_init_0 : decode cJ28_init 0 = .ok (.aload_n 0, 1) := dk_42 (dk_at dksJ28_init_0 0 rfl rfl)
theorem dJ28_init_1 : decode cJ28_init 1 = .ok (.aload_n 1, 1) := dk_43 (dk_at dksJ28_init_0 1 rfl rfl)
theorem dJ28_init_2 : decode cJ28_init 2 = .ok (.invokespecial 1, 3) := dk_183 0 1 (dk_at dksJ28_init_0 2 rfl rfl)
theorem dJ28_init_5 : decode cJ28_init 5 = .ok (.return_, 1) := dk_177 (dk_at dksJ28_init_0 5 rfl rfl)
abbrev cJ28_next : ByteArray := prog_41_method_2_code
def yJ28_next : MethodName := ⟨RJ28, "next", "()Ljava/lang/Object;"⟩
def dkwJ28_next_0 : List UInt8 := [42, 182, 0, 7, 180, 0, 13, 176]
abbrev dktJ28_next_0 : List UInt8 := dkwJ28_next_0 ++ []
theorem dksJ28_next_0 : cJ28_next.data.toList.drop 0 = dktJ28_next_0 := by decide +kernel
theorem dJ28_next_0 : decode cJ28_next 0 = .ok (.aload_n 0, 1) := dk_42 (dk_at dksJ28_next_0 0 rfl rfl)
theorem dJ28_next_1 : decode cJ28_next 1 = .ok (.invokevirtual 7, 3) := dk_182 0 7 (dk_at dksJ28_next_0 1 rfl rfl)
theorem dJ28_next_4 : decode cJ28_next 4 = .ok (.getfield 13, 3) := dk_180 0 13 (dk_at dksJ28_next_0 4 rfl rfl)
theorem dJ28_next_7 : decode cJ28_next 7 = .ok (.areturn, 1) := dk_176 (dk_at dksJ28_next_0 7 rfl rfl)
theorem q136 : (Jvm.Cond.initialized "java/util/HashMap$KeyIterator") ∈ lw_all := lw_g (lw_at lw_m1 41 rfl) rfl
theorem q559 : (Jvm.Cond.selects "java/util/HashMap$KeyIterator" ({ cls := "java/lang/Object", name := "getClass", desc := "()Ljava/lang/Class;" } : Jvm.MethodName) ({ cls := "java/lang/Object", name := "getClass", desc := "()Ljava/lang/Class;" } : Jvm.MethodName)) ∈ lw_all := lw_g (lw_at lw_m2 224 rfl) rfl
theorem q1271 : (Jvm.Cond.fieldLink "java/util/HashMap$KeyIterator" (13 : Nat) "java/util/HashMap$Node" "key" "Ljava/lang/Object;") ∈ lw_all := lw_g (lw_at lw_m5 216 rfl) rfl
theorem q2022 : (Jvm.Cond.instantiable "java/util/HashMap$KeyIterator" (5 : Nat)) ∈ lw_all := lw_g (lw_at lw_m9 7 rfl) rfl
theorem q2024 : (Jvm.Cond.instanceMethod ({ cls := "java/util/HashMap$KeyIterator", name := "<init>", desc := "(Ljava/util/HashMap;)V" } : Jvm.MethodName)) ∈ lw_all := lw_g (lw_at lw_m9 9 rfl) rfl
theorem q2025 : (Jvm.Cond.code ({ cls := "java/util/HashMap$KeyIterator", name := "<init>", desc := "(Ljava/util/HashMap;)V" } : Jvm.MethodName) prog_41_method_1_code (2 : Nat) (Option.none : Option Jvm.ClassFile.FieldType)) ∈ lw_all := lw_g (lw_at lw_m9 10 rfl) rfl
theorem q2026 : (Jvm.Cond.methodLink "java/util/HashMap$KeyIterator" (1 : Nat) ({ cls := "java/util/HashMap$HashIterator", name := "<init>", desc := "(Ljava/util/HashMap;)V" } : Jvm.MethodName)) ∈ lw_all := lw_g (lw_at lw_m9 11 rfl) rfl
theorem q2035 : (Jvm.Cond.lays "java/util/HashMap$KeyIterator" "java/util/HashMap$HashIterator" "next" "Ljava/util/HashMap$Node;") ∈ lw_all := lw_g (lw_at lw_m9 20 rfl) rfl
theorem q2037 : (Jvm.Cond.lays "java/util/HashMap$KeyIterator" "java/util/HashMap$HashIterator" "current" "Ljava/util/HashMap$Node;") ∈ lw_all := lw_g (lw_at lw_m9 22 rfl) rfl
theorem q2039 : (Jvm.Cond.lays "java/util/HashMap$KeyIterator" "java/util/HashMap$HashIterator" "expectedModCount" "I") ∈ lw_all := lw_g (lw_at lw_m9 24 rfl) rfl
theorem q2041 : (Jvm.Cond.lays "java/util/HashMap$KeyIterator" "java/util/HashMap$HashIterator" "index" "I") ∈ lw_all := lw_g (lw_at lw_m9 26 rfl) rfl
theorem q2043 : (Jvm.Cond.laysFinal "java/util/HashMap$KeyIterator" "java/util/HashMap$HashIterator" "this$0" "Ljava/util/HashMap;") ∈ lw_all := lw_g (lw_at lw_m9 28 rfl) rfl
theorem q2045 : (Jvm.Cond.superclass "java/util/HashMap$KeyIterator" "java/util/HashMap$HashIterator") ∈ lw_all := lw_g (lw_at lw_m9 30 rfl) rfl
theorem q2105 : (Jvm.Cond.castable "java/util/HashMap$KeyIterator" "java/util/Iterator") ∈ lw_tbl := lw_at lw_m9 90 rfl
theorem q2106 : (Jvm.Cond.selects "java/util/HashMap$KeyIterator" ({ cls := "java/util/Iterator", name := "hasNext", desc := "()Z" } : Jvm.MethodName) ({ cls := "java/util/HashMap$HashIterator", name := "hasNext", desc := "()Z" } : Jvm.MethodName)) ∈ lw_all := lw_g (lw_at lw_m9 91 rfl) rfl
theorem q2107 : (Jvm.Cond.unhidden "java/util/HashMap$KeyIterator" "hasNext" "()Z") ∈ lw_tbl := lw_at lw_m9 92 rfl
theorem q2121 : (Jvm.Cond.selects "java/util/HashMap$KeyIterator" ({ cls := "java/util/Iterator", name := "next", desc := "()Ljava/lang/Object;" } : Jvm.MethodName) ({ cls := "java/util/HashMap$KeyIterator", name := "next", desc := "()Ljava/lang/Object;" } : Jvm.MethodName)) ∈ lw_all := lw_g (lw_at lw_m9 106 rfl) rfl
theorem q2122 : (Jvm.Cond.unhidden "java/util/HashMap$KeyIterator" "next" "()Ljava/lang/Object;") ∈ lw_tbl := lw_at lw_m9 107 rfl
theorem q2123 : (Jvm.Cond.instanceMethod ({ cls := "java/util/HashMap$KeyIterator", name := "next", desc := "()Ljava/lang/Object;" } : Jvm.MethodName)) ∈ lw_all := lw_g (lw_at lw_m9 108 rfl) rfl
theorem q2124 : (Jvm.Cond.publicMethod ({ cls := "java/util/HashMap$KeyIterator", name := "next", desc := "()Ljava/lang/Object;" } : Jvm.MethodName)) ∈ lw_tbl := lw_at lw_m9 109 rfl
theorem q2125 : (Jvm.Cond.code ({ cls := "java/util/HashMap$KeyIterator", name := "next", desc := "()Ljava/lang/Object;" } : Jvm.MethodName) prog_41_method_2_code (1 : Nat) (Option.some (Jvm.ClassFile.FieldType.object "java/lang/Object"))) ∈ lw_all := lw_g (lw_at lw_m9 110 rfl) rfl
theorem q2126 : (Jvm.Cond.methodLink "java/util/HashMap$KeyIterator" (7 : Nat) ({ cls := "java/util/HashMap$KeyIterator", name := "nextNode", desc := "()Ljava/util/HashMap$Node;" } : Jvm.MethodName)) ∈ lw_all := lw_g (lw_at lw_m9 111 rfl) rfl
theorem q2127 : (Jvm.Cond.sameMethod "java/util/HashMap$KeyIterator" "java/util/HashMap$HashIterator" "nextNode" "()Ljava/util/HashMap$Node;") ∈ lw_all := lw_g (lw_at lw_m9 112 rfl) rfl
theorem q2129 : (Jvm.Cond.selects "java/util/HashMap$KeyIterator" ({ cls := "java/util/HashMap$KeyIterator", name := "nextNode", desc := "()Ljava/util/HashMap$Node;" } : Jvm.MethodName) ({ cls := "java/util/HashMap$HashIterator", name := "nextNode", desc := "()Ljava/util/HashMap$Node;" } : Jvm.MethodName)) ∈ lw_all := lw_g (lw_at lw_m9 114 rfl) rfl
theorem q2822 : (Jvm.Cond.castable "java/util/HashMap$KeyIterator" "java/lang/Object") ∈ lw_tbl := lw_at lw_m12 87 rfl
theorem in_J28 : ∀ w ∈ wsJ280, w ∈ lw_all := lw_in wsJ280 [2035, 2037, 2039, 2041, 2043] (by decide +kernel) (by decide +kernel)

/-! java/util/HashMap$KeySet -/
set_option maxRecDepth 100000
def RJ29 : String := "java/util/HashMap$KeySet"
def TJ29 : u_T := fun k => match k with
  | _ => ("java/util/HashMap$KeySet", "this$0", "Ljava/util/HashMap;", true)
def tyJ29 : Nat → FieldType := fun k => match k with
  | _ => .object "java/util/HashMap"
abbrev wsJ290 : List Cond := u_ws RJ29 TJ29 1
theorem nmJ29 : ∀ a, a < 1 → ∀ b, b < 1 → a ≠ b → (TJ29 a).2.1 ≠ (TJ29 b).2.1 := by decide +kernel
theorem tyJ29_ok : ∀ k, k < 1 → parseFieldDescriptor (TJ29 k).2.2.1 = some (tyJ29 k) := by decide +kernel
abbrev cJ29_iterator : ByteArray := prog_42_method_4_code
def yJ29_iterator : MethodName := ⟨RJ29, "iterator", "()Ljava/util/Iterator;"⟩
def dkwJ29_iterator_0 : List UInt8 := [187, 0, 22, 89, 42, 180, 0, 1, 183, 0, 24, 176]
abbrev dktJ29_iterator_0 : List UInt8 := dkwJ29_iterator_0 ++ []
theorem dksJ29_iterator_0 : cJ29_iterator.data.toList.drop 0 = dktJ29_iterator_0 := by decide +kernel
theorem dJ29_iterator_0 : decode cJ29_iterator 0 = .ok (.new 22, 3) := dk_187 0 22 (dk_at dksJ29_iterator_0 0 rfl rfl)
theorem dJ29_iterator_3 : decode cJ29_iterator 3 = .ok (.dup, 1) := dk_89 (dk_at dksJ29_iterator_0 3 rfl rfl)
theorem dJ29_iterator_4 : decode cJ29_iterator 4 = .ok (.aload_n 0, 1) := dk_42 (dk_at dksJ29_iterator_0 4 rfl rfl)
theorem dJ29_iterator_5 : decode cJ29_iterator 5 = .ok (.getfield 1, 3) := dk_180 0 1 (dk_at dksJ29_iterator_0 5 rfl rfl)
theorem dJ29_iterator_8 : decode cJ29_iterator 8 = .ok (.invokespecial 24, 3) := dk_183 0 24 (dk_at dksJ29_iterator_0 8 rfl rfl)
theorem dJ29_iterator_11 : decode cJ29_iterator 11 = .ok (.areturn, 1) := dk_176 (dk_at dksJ29_iterator_0 11 rfl rfl)
abbrev cJ29_init : ByteArray := prog_42_method_1_code
def yJ29_init : MethodName := ⟨RJ29, "<init>", "(Ljava/util/HashMap;)V"⟩
def dkwJ29_init_0 : List UInt8 := [42, 43, 181, 0, 1, 42, 183, 0, 7, 177]
abbrev dktJ29_init_0 : List UInt8 := dkwJ29_init_0 ++ []
theorem dksJ29_init_0 : cJ29_init.data.toList.drop 0 = dktJ29_init_0 := by decide +kernel
theorem dJ29_init_0 : decode cJ29_init 0 = .ok (.aload_n 0, 1) := dk_42 (dk_at dksJ29_init_0 0 rfl rfl)
theorem dJ29_init_1 : decode cJ29_init 1 = .ok (.aload_n 1, 1) := dk_43 (dk_at dksJ29_init_0 1 rfl rfl)
theorem dJ29_init_2 : decode cJ29_init 2 = .ok (.putfield 1, 3) := dk_181 0 1 (dk_at dksJ29_init_0 2 rfl rfl)
theorem dJ29_init_5 : decode cJ29_init 5 = .ok (.aload_n 0, 1) := dk_42 (dk_at dksJ29_init_0 5 rfl rfl)
theorem dJ29_init_6 : decode cJ29_init 6 = .ok (.invokespecial 7, 3) := dk_183 0 7 (dk_at dksJ29_init_0 6 rfl rfl)
theorem dJ29_init_9 : decode cJ29_init 9 = .ok (.return_, 1) := dk_177 (dk_at dksJ29_init_0 9 rfl rfl)
theorem q137 : (Jvm.Cond.initialized "java/util/HashMap$KeySet") ∈ lw_all := lw_g (lw_at lw_m1 42 rfl) rfl
theorem q560 : (Jvm.Cond.selects "java/util/HashMap$KeySet" ({ cls := "java/lang/Object", name := "getClass", desc := "()Ljava/lang/Class;" } : Jvm.MethodName) ({ cls := "java/lang/Object", name := "getClass", desc := "()Ljava/lang/Class;" } : Jvm.MethodName)) ∈ lw_all := lw_g (lw_at lw_m2 225 rfl) rfl
theorem q2015 : (Jvm.Cond.castable "java/util/HashMap$KeySet" "java/util/Set") ∈ lw_tbl := lw_at lw_m9 0 rfl
theorem q2016 : (Jvm.Cond.selects "java/util/HashMap$KeySet" ({ cls := "java/util/Set", name := "iterator", desc := "()Ljava/util/Iterator;" } : Jvm.MethodName) ({ cls := "java/util/HashMap$KeySet", name := "iterator", desc := "()Ljava/util/Iterator;" } : Jvm.MethodName)) ∈ lw_all := lw_g (lw_at lw_m9 1 rfl) rfl
theorem q2017 : (Jvm.Cond.unhidden "java/util/HashMap$KeySet" "iterator" "()Ljava/util/Iterator;") ∈ lw_tbl := lw_at lw_m9 2 rfl
theorem q2018 : (Jvm.Cond.instanceMethod ({ cls := "java/util/HashMap$KeySet", name := "iterator", desc := "()Ljava/util/Iterator;" } : Jvm.MethodName)) ∈ lw_all := lw_g (lw_at lw_m9 3 rfl) rfl
theorem q2019 : (Jvm.Cond.publicMethod ({ cls := "java/util/HashMap$KeySet", name := "iterator", desc := "()Ljava/util/Iterator;" } : Jvm.MethodName)) ∈ lw_tbl := lw_at lw_m9 4 rfl
theorem q2020 : (Jvm.Cond.code ({ cls := "java/util/HashMap$KeySet", name := "iterator", desc := "()Ljava/util/Iterator;" } : Jvm.MethodName) prog_42_method_4_code (1 : Nat) (Option.some (Jvm.ClassFile.FieldType.object "java/util/Iterator"))) ∈ lw_all := lw_g (lw_at lw_m9 5 rfl) rfl
theorem q2021 : (Jvm.Cond.classLink "java/util/HashMap$KeySet" (22 : Nat) "java/util/HashMap$KeyIterator") ∈ lw_all := lw_g (lw_at lw_m9 6 rfl) rfl
theorem q2023 : (Jvm.Cond.methodLink "java/util/HashMap$KeySet" (24 : Nat) ({ cls := "java/util/HashMap$KeyIterator", name := "<init>", desc := "(Ljava/util/HashMap;)V" } : Jvm.MethodName)) ∈ lw_all := lw_g (lw_at lw_m9 8 rfl) rfl
theorem q2059 : (Jvm.Cond.instantiable "java/util/HashMap$KeySet" (1 : Nat)) ∈ lw_all := lw_g (lw_at lw_m9 44 rfl) rfl
theorem q2061 : (Jvm.Cond.instanceMethod ({ cls := "java/util/HashMap$KeySet", name := "<init>", desc := "(Ljava/util/HashMap;)V" } : Jvm.MethodName)) ∈ lw_all := lw_g (lw_at lw_m9 46 rfl) rfl
theorem q2062 : (Jvm.Cond.code ({ cls := "java/util/HashMap$KeySet", name := "<init>", desc := "(Ljava/util/HashMap;)V" } : Jvm.MethodName) prog_42_method_1_code (2 : Nat) (Option.none : Option Jvm.ClassFile.FieldType)) ∈ lw_all := lw_g (lw_at lw_m9 47 rfl) rfl
theorem q2063 : (Jvm.Cond.methodLink "java/util/HashMap$KeySet" (7 : Nat) ({ cls := "java/util/AbstractSet", name := "<init>", desc := "()V" } : Jvm.MethodName)) ∈ lw_all := lw_g (lw_at lw_m9 48 rfl) rfl
theorem q2064 : (Jvm.Cond.fieldLink "java/util/HashMap$KeySet" (1 : Nat) "java/util/HashMap$KeySet" "this$0" "Ljava/util/HashMap;") ∈ lw_all := lw_g (lw_at lw_m9 49 rfl) rfl
theorem q2065 : (Jvm.Cond.laysFinal "java/util/HashMap$KeySet" "java/util/HashMap$KeySet" "this$0" "Ljava/util/HashMap;") ∈ lw_all := lw_g (lw_at lw_m9 50 rfl) rfl
theorem q2066 : (Jvm.Cond.soleField "java/util/HashMap$KeySet" "this$0") ∈ lw_all := lw_g (lw_at lw_m9 51 rfl) rfl
theorem q2067 : (Jvm.Cond.superclass "java/util/HashMap$KeySet" "java/util/AbstractSet") ∈ lw_all := lw_g (lw_at lw_m9 52 rfl) rfl
theorem q2821 : (Jvm.Cond.castable "java/util/HashMap$KeySet" "java/lang/Object") ∈ lw_tbl := lw_at lw_m12 86 rfl
theorem in_J29 : ∀ w ∈ wsJ290, w ∈ lw_all := lw_in wsJ290 [2065] (by decide +kernel) (by decide +kernel)

/-! java/util/LinkedHashMap$LinkedHashIterator -/
set_option maxRecDepth 100000
def RJ30 : String := "java/util/LinkedHashMap$LinkedHashIterator"
abbrev cJ30_init : ByteArray := prog_49_method_1_code
def yJ30_init : MethodName := ⟨RJ30, "<init>", "(Ljava/util/LinkedHashMap;Z)V"⟩
def dkwJ30_init_1 : List UInt8 := [167, 0, 7, 43, 180, 0, 23, 181, 0, 26, 42, 43, 180, 0, 29, 181, 0, 33, 42, 1, 181, 0, 36, 177]
abbrev dktJ30_init_1 : List UInt8 := dkwJ30_init_1 ++ []
def dkwJ30_init_0 : List UInt8 := [42, 43, 181, 0, 1, 42, 183, 0, 7, 42, 28, 181, 0, 13, 42, 28, 153, 0, 10, 43, 180, 0, 17]
abbrev dktJ30_init_0 : List UInt8 := dkwJ30_init_0 ++ dktJ30_init_1
theorem dksJ30_init_0 : cJ30_init.data.toList.drop 0 = dktJ30_init_0 := by decide +kernel
theorem dksJ30_init_1 : cJ30_init.data.toList.drop 23 = dktJ30_init_1 := dk_seg dksJ30_init_0 23 rfl rfl
theorem dJ30_init_0 : decode cJ30_init 0 = .ok (.aload_n 0, 1) := dk_42 (dk_at dksJ30_init_0 0 rfl rfl)
theorem dJ30_init_1 : decode cJ30_init 1 = .ok (.aload_n 1, 1) := dk_43 (dk_at dksJ30_init_0 1 rfl rfl)
theorem dJ30_init_2 : decode cJ30_init 2 = .ok (.putfield 1, 3) := dk_181 0 1 (dk_at dksJ30_init_0 2 rfl rfl)
theorem dJ30_init_5 : decode cJ30_init 5 = .ok (.aload_n 0, 1) := dk_42 (dk_at dksJ30_init_0 5 rfl rfl)
theorem dJ30_init_6 : decode cJ30_init 6 = .ok (.invokespecial 7, 3) := dk_183 0 7 (dk_at dksJ30_init_0 6 rfl rfl)
theorem dJ30_init_9 : decode cJ30_init 9 = .ok (.aload_n 0, 1) := dk_42 (dk_at dksJ30_init_0 9 rfl rfl)
theorem dJ30_init_10 : decode cJ30_init 10 = .ok (.iload_n 2, 1) := dk_28 (dk_at dksJ30_init_0 10 rfl rfl)
theorem dJ30_init_11 : decode cJ30_init 11 = .ok (.putfield 13, 3) := dk_181 0 13 (dk_at dksJ30_init_0 11 rfl rfl)
theorem dJ30_init_14 : decode cJ30_init 14 = .ok (.aload_n 0, 1) := dk_42 (dk_at dksJ30_init_0 14 rfl rfl)
theorem dJ30_init_15 : decode cJ30_init 15 = .ok (.iload_n 2, 1) := dk_28 (dk_at dksJ30_init_0 15 rfl rfl)
theorem dJ30_init_16 : decode cJ30_init 16 = .ok (.ifCond .eq 10, 3) := dk_153 0 10 (dk_at dksJ30_init_0 16 rfl rfl)
theorem dJ30_init_19 : decode cJ30_init 19 = .ok (.aload_n 1, 1) := dk_43 (dk_at dksJ30_init_0 19 rfl rfl)
theorem dJ30_init_20 : decode cJ30_init 20 = .ok (.getfield 17, 3) := dk_180 0 17 (dk_at dksJ30_init_0 20 rfl rfl)
theorem dJ30_init_23 : decode cJ30_init 23 = .ok (.goto 7, 3) := dk_167 0 7 (dk_at dksJ30_init_1 0 rfl rfl)
theorem dJ30_init_26 : decode cJ30_init 26 = .ok (.aload_n 1, 1) := dk_43 (dk_at dksJ30_init_1 3 rfl rfl)
theorem dJ30_init_27 : decode cJ30_init 27 = .ok (.getfield 23, 3) := dk_180 0 23 (dk_at dksJ30_init_1 4 rfl rfl)
theorem dJ30_init_30 : decode cJ30_init 30 = .ok (.putfield 26, 3) := dk_181 0 26 (dk_at dksJ30_init_1 7 rfl rfl)
theorem dJ30_init_33 : decode cJ30_init 33 = .ok (.aload_n 0, 1) := dk_42 (dk_at dksJ30_init_1 10 rfl rfl)
theorem dJ30_init_34 : decode cJ30_init 34 = .ok (.aload_n 1, 1) := dk_43 (dk_at dksJ30_init_1 11 rfl rfl)
theorem dJ30_init_35 : decode cJ30_init 35 = .ok (.getfield 29, 3) := dk_180 0 29 (dk_at dksJ30_init_1 12 rfl rfl)
theorem dJ30_init_38 : decode cJ30_init 38 = .ok (.putfield 33, 3) := dk_181 0 33 (dk_at dksJ30_init_1 15 rfl rfl)
theorem dJ30_init_41 : decode cJ30_init 41 = .ok (.aload_n 0, 1) := dk_42 (dk_at dksJ30_init_1 18 rfl rfl)
theorem dJ30_init_42 : decode cJ30_init 42 = .ok (.aconst_null, 1) := dk_1 (dk_at dksJ30_init_1 19 rfl rfl)
theorem dJ30_init_43 : decode cJ30_init 43 = .ok (.putfield 36, 3) := dk_181 0 36 (dk_at dksJ30_init_1 20 rfl rfl)
theorem dJ30_init_46 : decode cJ30_init 46 = .ok (.return_, 1) := dk_177 (dk_at dksJ30_init_1 23 rfl rfl)
abbrev cJ30_hasNext : ByteArray := prog_49_method_2_code
def yJ30_hasNext : MethodName := ⟨RJ30, "hasNext", "()Z"⟩
def dkwJ30_hasNext_0 : List UInt8 := [42, 180, 0, 26, 198, 0, 7, 4, 167, 0, 4, 3, 172]
abbrev dktJ30_hasNext_0 : List UInt8 := dkwJ30_hasNext_0 ++ []
theorem dksJ30_hasNext_0 : cJ30_hasNext.data.toList.drop 0 = dktJ30_hasNext_0 := by decide +kernel
theorem dJ30_hasNext_0 : decode cJ30_hasNext 0 = .ok (.aload_n 0, 1) := dk_42 (dk_at dksJ30_hasNext_0 0 rfl rfl)
theorem dJ30_hasNext_1 : decode cJ30_hasNext 1 = .ok (.getfield 26, 3) := dk_180 0 26 (dk_at dksJ30_hasNext_0 1 rfl rfl)
theorem dJ30_hasNext_4 : decode cJ30_hasNext 4 = .ok (.ifnull 7, 3) := dk_198 0 7 (dk_at dksJ30_hasNext_0 4 rfl rfl)
theorem dJ30_hasNext_7 : decode cJ30_hasNext 7 = .ok (.iconst 1, 1) := dk_4 (dk_at dksJ30_hasNext_0 7 rfl rfl)
theorem dJ30_hasNext_8 : decode cJ30_hasNext 8 = .ok (.goto 4, 3) := dk_167 0 4 (dk_at dksJ30_hasNext_0 8 rfl rfl)
theorem dJ30_hasNext_11 : decode cJ30_hasNext 11 = .ok (.iconst 0, 1) := dk_3 (dk_at dksJ30_hasNext_0 11 rfl rfl)
theorem dJ30_hasNext_12 : decode cJ30_hasNext 12 = .ok (.ireturn, 1) := dk_172 (dk_at dksJ30_hasNext_0 12 rfl rfl)
abbrev cJ30_nextNode : ByteArray := prog_49_method_3_code
def yJ30_nextNode : MethodName := ⟨RJ30, "nextNode", "()Ljava/util/LinkedHashMap$Entry;"⟩
def dkwJ30_nextNode_2 : List UInt8 := [180, 0, 13, 153, 0, 10, 43, 180, 0, 45, 167, 0, 7, 43, 180, 0, 50, 181, 0, 26, 43, 176]
abbrev dktJ30_nextNode_2 : List UInt8 := dkwJ30_nextNode_2 ++ []
def dkwJ30_nextNode_1 : List UInt8 := [183, 0, 41, 191, 43, 199, 0, 11, 187, 0, 42, 89, 183, 0, 44, 191, 42, 43, 181, 0, 36, 42, 42]
abbrev dktJ30_nextNode_1 : List UInt8 := dkwJ30_nextNode_1 ++ dktJ30_nextNode_2
def dkwJ30_nextNode_0 : List UInt8 := [42, 180, 0, 26, 76, 42, 180, 0, 1, 180, 0, 29, 42, 180, 0, 33, 159, 0, 11, 187, 0, 39, 89]
abbrev dktJ30_nextNode_0 : List UInt8 := dkwJ30_nextNode_0 ++ dktJ30_nextNode_1
theorem dksJ30_nextNode_0 : cJ30_nextNode.data.toList.drop 0 = dktJ30_nextNode_0 := by decide +kernel
theorem dksJ30_nextNode_1 : cJ30_nextNode.data.toList.drop 23 = dktJ30_nextNode_1 := dk_seg dksJ30_nextNode_0 23 rfl rfl
theorem dksJ30_nextNode_2 : cJ30_nextNode.data.toList.drop 46 = dktJ30_nextNode_2 := dk_seg dksJ30_nextNode_1 23 rfl rfl
theorem dJ30_nextNode_0 : decode cJ30_nextNode 0 = .ok (.aload_n 0, 1) := dk_42 (dk_at dksJ30_nextNode_0 0 rfl rfl)
theorem dJ30_nextNode_1 : decode cJ30_nextNode 1 = .ok (.getfield 26, 3) := dk_180 0 26 (dk_at dksJ30_nextNode_0 1 rfl rfl)
theorem dJ30_nextNode_4 : decode cJ30_nextNode 4 = .ok (.astore_n 1, 1) := dk_76 (dk_at dksJ30_nextNode_0 4 rfl rfl)
theorem dJ30_nextNode_5 : decode cJ30_nextNode 5 = .ok (.aload_n 0, 1) := dk_42 (dk_at dksJ30_nextNode_0 5 rfl rfl)
theorem dJ30_nextNode_6 : decode cJ30_nextNode 6 = .ok (.getfield 1, 3) := dk_180 0 1 (dk_at dksJ30_nextNode_0 6 rfl rfl)
theorem dJ30_nextNode_9 : decode cJ30_nextNode 9 = .ok (.getfield 29, 3) := dk_180 0 29 (dk_at dksJ30_nextNode_0 9 rfl rfl)
theorem dJ30_nextNode_12 : decode cJ30_nextNode 12 = .ok (.aload_n 0, 1) := dk_42 (dk_at dksJ30_nextNode_0 12 rfl rfl)
theorem dJ30_nextNode_13 : decode cJ30_nextNode 13 = .ok (.getfield 33, 3) := dk_180 0 33 (dk_at dksJ30_nextNode_0 13 rfl rfl)
theorem dJ30_nextNode_16 : decode cJ30_nextNode 16 = .ok (.if_icmp .eq 11, 3) := dk_159 0 11 (dk_at dksJ30_nextNode_0 16 rfl rfl)
theorem dJ30_nextNode_19 : decode cJ30_nextNode 19 = .ok (.new 39, 3) := dk_187 0 39 (dk_at dksJ30_nextNode_0 19 rfl rfl)
theorem dJ30_nextNode_22 : decode cJ30_nextNode 22 = .ok (.dup, 1) := dk_89 (dk_at dksJ30_nextNode_0 22 rfl rfl)
theorem dJ30_nextNode_23 : decode cJ30_nextNode 23 = .ok (.invokespecial 41, 3) := dk_183 0 41 (dk_at dksJ30_nextNode_1 0 rfl rfl)
theorem dJ30_nextNode_26 : decode cJ30_nextNode 26 = .ok (.athrow, 1) := dk_191 (dk_at dksJ30_nextNode_1 3 rfl rfl)
theorem dJ30_nextNode_27 : decode cJ30_nextNode 27 = .ok (.aload_n 1, 1) := dk_43 (dk_at dksJ30_nextNode_1 4 rfl rfl)
theorem dJ30_nextNode_28 : decode cJ30_nextNode 28 = .ok (.ifnonnull 11, 3) := dk_199 0 11 (dk_at dksJ30_nextNode_1 5 rfl rfl)
theorem dJ30_nextNode_31 : decode cJ30_nextNode 31 = .ok (.new 42, 3) := dk_187 0 42 (dk_at dksJ30_nextNode_1 8 rfl rfl)
theorem dJ30_nextNode_34 : decode cJ30_nextNode 34 = .ok (.dup, 1) := dk_89 (dk_at dksJ30_nextNode_1 11 rfl rfl)
theorem dJ30_nextNode_35 : decode cJ30_nextNode 35 = .ok (.invokespecial 44, 3) := dk_183 0 44 (dk_at dksJ30_nextNode_1 12 rfl rfl)
theorem dJ30_nextNode_38 : decode cJ30_nextNode 38 = .ok (.athrow, 1) := dk_191 (dk_at dksJ30_nextNode_1 15 rfl rfl)
theorem dJ30_nextNode_39 : decode cJ30_nextNode 39 = .ok (.aload_n 0, 1) := dk_42 (dk_at dksJ30_nextNode_1 16 rfl rfl)
theorem dJ30_nextNode_40 : decode cJ30_nextNode 40 = .ok (.aload_n 1, 1) := dk_43 (dk_at dksJ30_nextNode_1 17 rfl rfl)
theorem dJ30_nextNode_41 : decode cJ30_nextNode 41 = .ok (.putfield 36, 3) := dk_181 0 36 (dk_at dksJ30_nextNode_1 18 rfl rfl)
theorem dJ30_nextNode_44 : decode cJ30_nextNode 44 = .ok (.aload_n 0, 1) := dk_42 (dk_at dksJ30_nextNode_1 21 rfl rfl)
theorem dJ30_nextNode_45 : decode cJ30_nextNode 45 = .ok (.aload_n 0, 1) := dk_42 (dk_at dksJ30_nextNode_1 22 rfl rfl)
theorem dJ30_nextNode_46 : decode cJ30_nextNode 46 = .ok (.getfield 13, 3) := dk_180 0 13 (dk_at dksJ30_nextNode_2 0 rfl rfl)
theorem dJ30_nextNode_49 : decode cJ30_nextNode 49 = .ok (.ifCond .eq 10, 3) := dk_153 0 10 (dk_at dksJ30_nextNode_2 3 rfl rfl)
theorem dJ30_nextNode_52 : decode cJ30_nextNode 52 = .ok (.aload_n 1, 1) := dk_43 (dk_at dksJ30_nextNode_2 6 rfl rfl)
theorem dJ30_nextNode_53 : decode cJ30_nextNode 53 = .ok (.getfield 45, 3) := dk_180 0 45 (dk_at dksJ30_nextNode_2 7 rfl rfl)
theorem dJ30_nextNode_56 : decode cJ30_nextNode 56 = .ok (.goto 7, 3) := dk_167 0 7 (dk_at dksJ30_nextNode_2 10 rfl rfl)
theorem dJ30_nextNode_59 : decode cJ30_nextNode 59 = .ok (.aload_n 1, 1) := dk_43 (dk_at dksJ30_nextNode_2 13 rfl rfl)
theorem dJ30_nextNode_60 : decode cJ30_nextNode 60 = .ok (.getfield 50, 3) := dk_180 0 50 (dk_at dksJ30_nextNode_2 14 rfl rfl)
theorem dJ30_nextNode_63 : decode cJ30_nextNode 63 = .ok (.putfield 26, 3) := dk_181 0 26 (dk_at dksJ30_nextNode_2 17 rfl rfl)
theorem dJ30_nextNode_66 : decode cJ30_nextNode 66 = .ok (.aload_n 1, 1) := dk_43 (dk_at dksJ30_nextNode_2 20 rfl rfl)
theorem dJ30_nextNode_67 : decode cJ30_nextNode 67 = .ok (.areturn, 1) := dk_176 (dk_at dksJ30_nextNode_2 21 rfl rfl)
theorem q138 : (Jvm.Cond.initialized "java/util/LinkedHashMap$LinkedHashIterator") ∈ lw_all := lw_g (lw_at lw_m1 43 rfl) rfl
theorem q802 : (Jvm.Cond.fieldLink "java/util/LinkedHashMap$LinkedHashIterator" (29 : Nat) "java/util/LinkedHashMap" "modCount" "I") ∈ lw_all := lw_g (lw_at lw_m3 227 rfl) rfl
theorem q1261 : (Jvm.Cond.fieldLink "java/util/LinkedHashMap$LinkedHashIterator" (45 : Nat) "java/util/LinkedHashMap$Entry" "before" "Ljava/util/LinkedHashMap$Entry;") ∈ lw_all := lw_g (lw_at lw_m5 206 rfl) rfl
theorem q1263 : (Jvm.Cond.fieldLink "java/util/LinkedHashMap$LinkedHashIterator" (50 : Nat) "java/util/LinkedHashMap$Entry" "after" "Ljava/util/LinkedHashMap$Entry;") ∈ lw_all := lw_g (lw_at lw_m5 208 rfl) rfl
theorem q1949 : (Jvm.Cond.fieldLink "java/util/LinkedHashMap$LinkedHashIterator" (23 : Nat) "java/util/LinkedHashMap" "head" "Ljava/util/LinkedHashMap$Entry;") ∈ lw_all := lw_g (lw_at lw_m8 174 rfl) rfl
theorem q1950 : (Jvm.Cond.fieldLink "java/util/LinkedHashMap$LinkedHashIterator" (17 : Nat) "java/util/LinkedHashMap" "tail" "Ljava/util/LinkedHashMap$Entry;") ∈ lw_all := lw_g (lw_at lw_m8 175 rfl) rfl
theorem q2082 : (Jvm.Cond.instanceMethod ({ cls := "java/util/LinkedHashMap$LinkedHashIterator", name := "<init>", desc := "(Ljava/util/LinkedHashMap;Z)V" } : Jvm.MethodName)) ∈ lw_all := lw_g (lw_at lw_m9 67 rfl) rfl
theorem q2083 : (Jvm.Cond.code ({ cls := "java/util/LinkedHashMap$LinkedHashIterator", name := "<init>", desc := "(Ljava/util/LinkedHashMap;Z)V" } : Jvm.MethodName) prog_49_method_1_code (3 : Nat) (Option.none : Option Jvm.ClassFile.FieldType)) ∈ lw_all := lw_g (lw_at lw_m9 68 rfl) rfl
theorem q2084 : (Jvm.Cond.methodLink "java/util/LinkedHashMap$LinkedHashIterator" (7 : Nat) ({ cls := "java/lang/Object", name := "<init>", desc := "()V" } : Jvm.MethodName)) ∈ lw_all := lw_g (lw_at lw_m9 69 rfl) rfl
theorem q2085 : (Jvm.Cond.fieldLink "java/util/LinkedHashMap$LinkedHashIterator" (26 : Nat) "java/util/LinkedHashMap$LinkedHashIterator" "next" "Ljava/util/LinkedHashMap$Entry;") ∈ lw_all := lw_g (lw_at lw_m9 70 rfl) rfl
theorem q2086 : (Jvm.Cond.fieldLink "java/util/LinkedHashMap$LinkedHashIterator" (36 : Nat) "java/util/LinkedHashMap$LinkedHashIterator" "current" "Ljava/util/LinkedHashMap$Entry;") ∈ lw_all := lw_g (lw_at lw_m9 71 rfl) rfl
theorem q2087 : (Jvm.Cond.fieldLink "java/util/LinkedHashMap$LinkedHashIterator" (33 : Nat) "java/util/LinkedHashMap$LinkedHashIterator" "expectedModCount" "I") ∈ lw_all := lw_g (lw_at lw_m9 72 rfl) rfl
theorem q2088 : (Jvm.Cond.fieldLink "java/util/LinkedHashMap$LinkedHashIterator" (13 : Nat) "java/util/LinkedHashMap$LinkedHashIterator" "reversed" "Z") ∈ lw_all := lw_g (lw_at lw_m9 73 rfl) rfl
theorem q2089 : (Jvm.Cond.fieldLink "java/util/LinkedHashMap$LinkedHashIterator" (1 : Nat) "java/util/LinkedHashMap$LinkedHashIterator" "this$0" "Ljava/util/LinkedHashMap;") ∈ lw_all := lw_g (lw_at lw_m9 74 rfl) rfl
theorem q2091 : (Jvm.Cond.soleField "java/util/LinkedHashMap$LinkedHashIterator" "next") ∈ lw_all := lw_g (lw_at lw_m9 76 rfl) rfl
theorem q2093 : (Jvm.Cond.soleField "java/util/LinkedHashMap$LinkedHashIterator" "current") ∈ lw_all := lw_g (lw_at lw_m9 78 rfl) rfl
theorem q2095 : (Jvm.Cond.soleField "java/util/LinkedHashMap$LinkedHashIterator" "expectedModCount") ∈ lw_all := lw_g (lw_at lw_m9 80 rfl) rfl
theorem q2097 : (Jvm.Cond.soleField "java/util/LinkedHashMap$LinkedHashIterator" "reversed") ∈ lw_all := lw_g (lw_at lw_m9 82 rfl) rfl
theorem q2099 : (Jvm.Cond.soleField "java/util/LinkedHashMap$LinkedHashIterator" "this$0") ∈ lw_all := lw_g (lw_at lw_m9 84 rfl) rfl
theorem q2114 : (Jvm.Cond.instanceMethod ({ cls := "java/util/LinkedHashMap$LinkedHashIterator", name := "hasNext", desc := "()Z" } : Jvm.MethodName)) ∈ lw_all := lw_g (lw_at lw_m9 99 rfl) rfl
theorem q2115 : (Jvm.Cond.publicMethod ({ cls := "java/util/LinkedHashMap$LinkedHashIterator", name := "hasNext", desc := "()Z" } : Jvm.MethodName)) ∈ lw_tbl := lw_at lw_m9 100 rfl
theorem q2116 : (Jvm.Cond.code ({ cls := "java/util/LinkedHashMap$LinkedHashIterator", name := "hasNext", desc := "()Z" } : Jvm.MethodName) prog_49_method_2_code (1 : Nat) (Option.some Jvm.ClassFile.FieldType.boolean)) ∈ lw_all := lw_g (lw_at lw_m9 101 rfl) rfl
theorem q2139 : (Jvm.Cond.declares ({ cls := "java/util/LinkedHashMap$LinkedHashIterator", name := "nextNode", desc := "()Ljava/util/LinkedHashMap$Entry;" } : Jvm.MethodName)) ∈ lw_tbl := lw_at lw_m9 124 rfl
theorem q2141 : (Jvm.Cond.instanceMethod ({ cls := "java/util/LinkedHashMap$LinkedHashIterator", name := "nextNode", desc := "()Ljava/util/LinkedHashMap$Entry;" } : Jvm.MethodName)) ∈ lw_all := lw_g (lw_at lw_m9 126 rfl) rfl
theorem q2142 : (Jvm.Cond.code ({ cls := "java/util/LinkedHashMap$LinkedHashIterator", name := "nextNode", desc := "()Ljava/util/LinkedHashMap$Entry;" } : Jvm.MethodName) prog_49_method_3_code (2 : Nat) (Option.some (Jvm.ClassFile.FieldType.object "java/util/LinkedHashMap$Entry"))) ∈ lw_all := lw_g (lw_at lw_m9 127 rfl) rfl

/-! java/util/LinkedHashMap$LinkedKeyIterator -/
set_option maxRecDepth 100000
def RJ31 : String := "java/util/LinkedHashMap$LinkedKeyIterator"
def TJ31 : u_T := fun k => match k with
  | 0 => ("java/util/LinkedHashMap$LinkedHashIterator", "next", "Ljava/util/LinkedHashMap$Entry;", false)
  | 1 => ("java/util/LinkedHashMap$LinkedHashIterator", "current", "Ljava/util/LinkedHashMap$Entry;", false)
  | 2 => ("java/util/LinkedHashMap$LinkedHashIterator", "expectedModCount", "I", false)
  | 3 => ("java/util/LinkedHashMap$LinkedHashIterator", "reversed", "Z", false)
  | _ => ("java/util/LinkedHashMap$LinkedHashIterator", "this$0", "Ljava/util/LinkedHashMap;", true)
def tyJ31 : Nat → FieldType := fun k => match k with
  | 0 => .object "java/util/LinkedHashMap$Entry"
  | 1 => .object "java/util/LinkedHashMap$Entry"
  | 2 => .int
  | 3 => .boolean
  | _ => .object "java/util/LinkedHashMap"
abbrev wsJ310 : List Cond := u_ws RJ31 TJ31 5
theorem nmJ31 : ∀ a, a < 5 → ∀ b, b < 5 → a ≠ b → (TJ31 a).2.1 ≠ (TJ31 b).2.1 := by decide +kernel
theorem tyJ31_ok : ∀ k, k < 5 → parseFieldDescriptor (TJ31 k).2.2.1 = some (tyJ31 k) := by decide +kernel
abbrev cJ31_init : ByteArray := prog_50_method_1_code
def yJ31_init : MethodName := ⟨RJ31, "<init>", "(Ljava/util/LinkedHashMap;Z)V"⟩
def dkwJ31_init_0 : List UInt8 := [42, 43, 28, 183, 0, 1, 177]
abbrev dktJ31_init_0 : List UInt8 := dkwJ31_init_0 ++ []
theorem dksJ31_init_0 : cJ31_init.data.toList.drop 0 = dktJ31_init_0 := by decide +kernel
theorem dJ31_init_0 : decode cJ31_init 0 = .ok (.aload_n 0, 1) := dk_42 (dk_at dksJ31_init_0 0 rfl rfl)
theorem dJ31_init_1 : decode cJ31_init 1 = .ok (.aload_n 1, 1) := dk_43 (dk_at dksJ31_init_0 1 rfl rfl)
theorem dJ31_init_2 : decode cJ31_init 2 = .ok (.iload_n 2, 1) := dk_28 (dk_at dksJ31_init_0 2 rfl rfl)
theorem dJ31_init_3 : decode cJ31_init 3 = .ok (.invokespecial 1, 3) := dk_183 0 1 (dk_at dksJ31_init_0 3 rfl rfl)
theorem dJ31_init_6 : decode cJ31_init 6 = .ok (.return_, 1) := dk_177 (dk_at dksJ31_init_0 6 rfl rfl)
abbrev cJ31_next : ByteArray := prog_50_method_2_code
def yJ31_next : MethodName := ⟨RJ31, "next", "()Ljava/lang/Object;"⟩
def dkwJ31_next_0 : List UInt8 := [42, 182, 0, 7, 182, 0, 13, 176]
abbrev dktJ31_next_0 : List UInt8 := dkwJ31_next_0 ++ []
theorem dksJ31_next_0 : cJ31_next.data.toList.drop 0 = dktJ31_next_0 := by decide +kernel
theorem dJ31_next_0 : decode cJ31_next 0 = .ok (.aload_n 0, 1) := dk_42 (dk_at dksJ31_next_0 0 rfl rfl)
theorem dJ31_next_1 : decode cJ31_next 1 = .ok (.invokevirtual 7, 3) := dk_182 0 7 (dk_at dksJ31_next_0 1 rfl rfl)
theorem dJ31_next_4 : decode cJ31_next 4 = .ok (.invokevirtual 13, 3) := dk_182 0 13 (dk_at dksJ31_next_0 4 rfl rfl)
theorem dJ31_next_7 : decode cJ31_next 7 = .ok (.areturn, 1) := dk_176 (dk_at dksJ31_next_0 7 rfl rfl)
theorem q139 : (Jvm.Cond.initialized "java/util/LinkedHashMap$LinkedKeyIterator") ∈ lw_all := lw_g (lw_at lw_m1 44 rfl) rfl
theorem q566 : (Jvm.Cond.selects "java/util/LinkedHashMap$LinkedKeyIterator" ({ cls := "java/lang/Object", name := "getClass", desc := "()Ljava/lang/Class;" } : Jvm.MethodName) ({ cls := "java/lang/Object", name := "getClass", desc := "()Ljava/lang/Class;" } : Jvm.MethodName)) ∈ lw_all := lw_g (lw_at lw_m2 231 rfl) rfl
theorem q2077 : (Jvm.Cond.instantiable "java/util/LinkedHashMap$LinkedKeyIterator" (5 : Nat)) ∈ lw_all := lw_g (lw_at lw_m9 62 rfl) rfl
theorem q2079 : (Jvm.Cond.instanceMethod ({ cls := "java/util/LinkedHashMap$LinkedKeyIterator", name := "<init>", desc := "(Ljava/util/LinkedHashMap;Z)V" } : Jvm.MethodName)) ∈ lw_all := lw_g (lw_at lw_m9 64 rfl) rfl
theorem q2080 : (Jvm.Cond.code ({ cls := "java/util/LinkedHashMap$LinkedKeyIterator", name := "<init>", desc := "(Ljava/util/LinkedHashMap;Z)V" } : Jvm.MethodName) prog_50_method_1_code (3 : Nat) (Option.none : Option Jvm.ClassFile.FieldType)) ∈ lw_all := lw_g (lw_at lw_m9 65 rfl) rfl
theorem q2081 : (Jvm.Cond.methodLink "java/util/LinkedHashMap$LinkedKeyIterator" (1 : Nat) ({ cls := "java/util/LinkedHashMap$LinkedHashIterator", name := "<init>", desc := "(Ljava/util/LinkedHashMap;Z)V" } : Jvm.MethodName)) ∈ lw_all := lw_g (lw_at lw_m9 66 rfl) rfl
theorem q2090 : (Jvm.Cond.lays "java/util/LinkedHashMap$LinkedKeyIterator" "java/util/LinkedHashMap$LinkedHashIterator" "next" "Ljava/util/LinkedHashMap$Entry;") ∈ lw_all := lw_g (lw_at lw_m9 75 rfl) rfl
theorem q2092 : (Jvm.Cond.lays "java/util/LinkedHashMap$LinkedKeyIterator" "java/util/LinkedHashMap$LinkedHashIterator" "current" "Ljava/util/LinkedHashMap$Entry;") ∈ lw_all := lw_g (lw_at lw_m9 77 rfl) rfl
theorem q2094 : (Jvm.Cond.lays "java/util/LinkedHashMap$LinkedKeyIterator" "java/util/LinkedHashMap$LinkedHashIterator" "expectedModCount" "I") ∈ lw_all := lw_g (lw_at lw_m9 79 rfl) rfl
theorem q2096 : (Jvm.Cond.lays "java/util/LinkedHashMap$LinkedKeyIterator" "java/util/LinkedHashMap$LinkedHashIterator" "reversed" "Z") ∈ lw_all := lw_g (lw_at lw_m9 81 rfl) rfl
theorem q2098 : (Jvm.Cond.laysFinal "java/util/LinkedHashMap$LinkedKeyIterator" "java/util/LinkedHashMap$LinkedHashIterator" "this$0" "Ljava/util/LinkedHashMap;") ∈ lw_all := lw_g (lw_at lw_m9 83 rfl) rfl
theorem q2100 : (Jvm.Cond.superclass "java/util/LinkedHashMap$LinkedKeyIterator" "java/util/LinkedHashMap$LinkedHashIterator") ∈ lw_all := lw_g (lw_at lw_m9 85 rfl) rfl
theorem q2111 : (Jvm.Cond.castable "java/util/LinkedHashMap$LinkedKeyIterator" "java/util/Iterator") ∈ lw_tbl := lw_at lw_m9 96 rfl
theorem q2112 : (Jvm.Cond.selects "java/util/LinkedHashMap$LinkedKeyIterator" ({ cls := "java/util/Iterator", name := "hasNext", desc := "()Z" } : Jvm.MethodName) ({ cls := "java/util/LinkedHashMap$LinkedHashIterator", name := "hasNext", desc := "()Z" } : Jvm.MethodName)) ∈ lw_all := lw_g (lw_at lw_m9 97 rfl) rfl
theorem q2113 : (Jvm.Cond.unhidden "java/util/LinkedHashMap$LinkedKeyIterator" "hasNext" "()Z") ∈ lw_tbl := lw_at lw_m9 98 rfl
theorem q2132 : (Jvm.Cond.selects "java/util/LinkedHashMap$LinkedKeyIterator" ({ cls := "java/util/Iterator", name := "next", desc := "()Ljava/lang/Object;" } : Jvm.MethodName) ({ cls := "java/util/LinkedHashMap$LinkedKeyIterator", name := "next", desc := "()Ljava/lang/Object;" } : Jvm.MethodName)) ∈ lw_all := lw_g (lw_at lw_m9 117 rfl) rfl
theorem q2133 : (Jvm.Cond.unhidden "java/util/LinkedHashMap$LinkedKeyIterator" "next" "()Ljava/lang/Object;") ∈ lw_tbl := lw_at lw_m9 118 rfl
theorem q2134 : (Jvm.Cond.instanceMethod ({ cls := "java/util/LinkedHashMap$LinkedKeyIterator", name := "next", desc := "()Ljava/lang/Object;" } : Jvm.MethodName)) ∈ lw_all := lw_g (lw_at lw_m9 119 rfl) rfl
theorem q2135 : (Jvm.Cond.publicMethod ({ cls := "java/util/LinkedHashMap$LinkedKeyIterator", name := "next", desc := "()Ljava/lang/Object;" } : Jvm.MethodName)) ∈ lw_tbl := lw_at lw_m9 120 rfl
theorem q2136 : (Jvm.Cond.code ({ cls := "java/util/LinkedHashMap$LinkedKeyIterator", name := "next", desc := "()Ljava/lang/Object;" } : Jvm.MethodName) prog_50_method_2_code (1 : Nat) (Option.some (Jvm.ClassFile.FieldType.object "java/lang/Object"))) ∈ lw_all := lw_g (lw_at lw_m9 121 rfl) rfl
theorem q2137 : (Jvm.Cond.methodLink "java/util/LinkedHashMap$LinkedKeyIterator" (7 : Nat) ({ cls := "java/util/LinkedHashMap$LinkedKeyIterator", name := "nextNode", desc := "()Ljava/util/LinkedHashMap$Entry;" } : Jvm.MethodName)) ∈ lw_all := lw_g (lw_at lw_m9 122 rfl) rfl
theorem q2138 : (Jvm.Cond.sameMethod "java/util/LinkedHashMap$LinkedKeyIterator" "java/util/LinkedHashMap$LinkedHashIterator" "nextNode" "()Ljava/util/LinkedHashMap$Entry;") ∈ lw_all := lw_g (lw_at lw_m9 123 rfl) rfl
theorem q2140 : (Jvm.Cond.selects "java/util/LinkedHashMap$LinkedKeyIterator" ({ cls := "java/util/LinkedHashMap$LinkedKeyIterator", name := "nextNode", desc := "()Ljava/util/LinkedHashMap$Entry;" } : Jvm.MethodName) ({ cls := "java/util/LinkedHashMap$LinkedHashIterator", name := "nextNode", desc := "()Ljava/util/LinkedHashMap$Entry;" } : Jvm.MethodName)) ∈ lw_all := lw_g (lw_at lw_m9 125 rfl) rfl
theorem q2143 : (Jvm.Cond.methodLink "java/util/LinkedHashMap$LinkedKeyIterator" (13 : Nat) ({ cls := "java/util/LinkedHashMap$Entry", name := "getKey", desc := "()Ljava/lang/Object;" } : Jvm.MethodName)) ∈ lw_all := lw_g (lw_at lw_m9 128 rfl) rfl
theorem q2823 : (Jvm.Cond.castable "java/util/LinkedHashMap$LinkedKeyIterator" "java/lang/Object") ∈ lw_tbl := lw_at lw_m12 88 rfl
theorem in_J31 : ∀ w ∈ wsJ310, w ∈ lw_all := lw_in wsJ310 [2090, 2092, 2094, 2096, 2098] (by decide +kernel) (by decide +kernel)

/-! java/lang/Object -/
set_option maxRecDepth 100000
def RJ32 : String := "java/lang/Object"
abbrev cJ32_init : ByteArray := object_method_1_code
def yJ32_init : MethodName := ⟨RJ32, "<init>", "()V"⟩
theorem dJ32_init_0 : decode cJ32_init 0 = .ok (.return_, 1) := by decide +kernel
abbrev cJ32_equals : ByteArray := object_method_4_code
def yJ32_equals : MethodName := ⟨RJ32, "equals", "(Ljava/lang/Object;)Z"⟩
def dkwJ32_equals_0 : List UInt8 := [42, 43, 166, 0, 7, 4, 167, 0, 4, 3, 172]
abbrev dktJ32_equals_0 : List UInt8 := dkwJ32_equals_0 ++ []
theorem dksJ32_equals_0 : cJ32_equals.data.toList.drop 0 = dktJ32_equals_0 := by decide +kernel
theorem dJ32_equals_0 : decode cJ32_equals 0 = .ok (.aload_n 0, 1) := dk_42 (dk_at dksJ32_equals_0 0 rfl rfl)
theorem dJ32_equals_1 : decode cJ32_equals 1 = .ok (.aload_n 1, 1) := dk_43 (dk_at dksJ32_equals_0 1 rfl rfl)
theorem dJ32_equals_2 : decode cJ32_equals 2 = .ok (.if_acmp .ne 7, 3) := dk_166 0 7 (dk_at dksJ32_equals_0 2 rfl rfl)
theorem dJ32_equals_5 : decode cJ32_equals 5 = .ok (.iconst 1, 1) := dk_4 (dk_at dksJ32_equals_0 5 rfl rfl)
theorem dJ32_equals_6 : decode cJ32_equals 6 = .ok (.goto 4, 3) := dk_167 0 4 (dk_at dksJ32_equals_0 6 rfl rfl)
theorem dJ32_equals_9 : decode cJ32_equals 9 = .ok (.iconst 0, 1) := dk_3 (dk_at dksJ32_equals_0 9 rfl rfl)
theorem dJ32_equals_10 : decode cJ32_equals 10 = .ok (.ireturn, 1) := dk_172 (dk_at dksJ32_equals_0 10 rfl rfl)
theorem q146 : (Jvm.Cond.instanceMethod ({ cls := "java/lang/Object", name := "<init>", desc := "()V" } : Jvm.MethodName)) ∈ lw_all := lw_g (lw_at lw_m1 51 rfl) rfl
theorem q147 : (Jvm.Cond.code ({ cls := "java/lang/Object", name := "<init>", desc := "()V" } : Jvm.MethodName) object_method_1_code (1 : Nat) (Option.none : Option Jvm.ClassFile.FieldType)) ∈ lw_all := lw_g (lw_at lw_m1 52 rfl) rfl
theorem q355 : (Jvm.Cond.native ({ cls := "java/lang/Object", name := "clone", desc := "()Ljava/lang/Object;" } : Jvm.MethodName)) ∈ lw_all := lw_g (lw_at lw_m2 20 rfl) rfl
theorem q356 : (Jvm.Cond.instanceMethod ({ cls := "java/lang/Object", name := "clone", desc := "()Ljava/lang/Object;" } : Jvm.MethodName)) ∈ lw_all := lw_g (lw_at lw_m2 21 rfl) rfl
theorem q542 : (Jvm.Cond.instanceMethod ({ cls := "java/lang/Object", name := "getClass", desc := "()Ljava/lang/Class;" } : Jvm.MethodName)) ∈ lw_all := lw_g (lw_at lw_m2 207 rfl) rfl
theorem q543 : (Jvm.Cond.sameMethod "java/lang/Object" "java/lang/Object" "getClass" "()Ljava/lang/Class;") ∈ lw_all := lw_g (lw_at lw_m2 208 rfl) rfl
theorem q569 : (Jvm.Cond.native ({ cls := "java/lang/Object", name := "getClass", desc := "()Ljava/lang/Class;" } : Jvm.MethodName)) ∈ lw_all := lw_g (lw_at lw_m2 234 rfl) rfl
theorem q887 : (Jvm.Cond.declares ({ cls := "java/lang/Object", name := "hashCode", desc := "()I" } : Jvm.MethodName)) ∈ lw_tbl := lw_at lw_m4 72 rfl
theorem q889 : (Jvm.Cond.instanceMethod ({ cls := "java/lang/Object", name := "hashCode", desc := "()I" } : Jvm.MethodName)) ∈ lw_all := lw_g (lw_at lw_m4 74 rfl) rfl
theorem q890 : (Jvm.Cond.sameMethod "java/lang/Object" "java/lang/Object" "hashCode" "()I") ∈ lw_all := lw_g (lw_at lw_m4 75 rfl) rfl
theorem q958 : (Jvm.Cond.native ({ cls := "java/lang/Object", name := "hashCode", desc := "()I" } : Jvm.MethodName)) ∈ lw_all := lw_g (lw_at lw_m4 143 rfl) rfl
theorem q959 : (Jvm.Cond.declares ({ cls := "java/lang/Object", name := "equals", desc := "(Ljava/lang/Object;)Z" } : Jvm.MethodName)) ∈ lw_tbl := lw_at lw_m4 144 rfl
theorem q961 : (Jvm.Cond.instanceMethod ({ cls := "java/lang/Object", name := "equals", desc := "(Ljava/lang/Object;)Z" } : Jvm.MethodName)) ∈ lw_all := lw_g (lw_at lw_m4 146 rfl) rfl
theorem q962 : (Jvm.Cond.sameMethod "java/lang/Object" "java/lang/Object" "equals" "(Ljava/lang/Object;)Z") ∈ lw_all := lw_g (lw_at lw_m4 147 rfl) rfl
theorem q985 : (Jvm.Cond.code ({ cls := "java/lang/Object", name := "equals", desc := "(Ljava/lang/Object;)Z" } : Jvm.MethodName) object_method_4_code (2 : Nat) (Option.some Jvm.ClassFile.FieldType.boolean)) ∈ lw_all := lw_g (lw_at lw_m4 170 rfl) rfl
theorem q2828 : (Jvm.Cond.declares ({ cls := "java/lang/Object", name := "getClass", desc := "()Ljava/lang/Class;" } : Jvm.MethodName)) ∈ lw_tbl := lw_at lw_m12 93 rfl
