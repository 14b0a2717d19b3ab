/-! AutoIndenter$State -/
set_option maxRecDepth 100000
def RX1 : String := "AutoIndenter$State"
def TX1 : u_T := fun k => match k with
  | 0 => ("AutoIndenter$State", "lines", "Ljava/util/ArrayList;", true)
  | 1 => ("AutoIndenter$State", "rules", "[LAutoIndenter$Rule;", true)
  | 2 => ("AutoIndenter$State", "step", "I", false)
  | 3 => ("AutoIndenter$State", "base", "I", false)
  | _ => ("AutoIndenter$State", "comment", "I", false)
def tyX1 : Nat → FieldType := fun k => match k with
  | 0 => .object "java/util/ArrayList"
  | 1 => .array (.object "AutoIndenter$Rule")
  | 2 => .int
  | 3 => .int
  | _ => .int
abbrev wsX10 : List Cond := u_ws RX1 TX1 5
theorem nmX1 : ∀ a, a < 5 → ∀ b, b < 5 → a ≠ b → (TX1 a).2.1 ≠ (TX1 b).2.1 := by decide +kernel
theorem tyX1_ok : ∀ k, k < 5 → parseFieldDescriptor (TX1 k).2.2.1 = some (tyX1 k) := by decide +kernel
abbrev cX1_init : ByteArray := prog_5_method_1_code
def yX1_init : MethodName := ⟨RX1, "<init>", "()V"⟩
def dkwX1_init_1 : List UInt8 := [42, 7, 181, 0, 24, 42, 16, 35, 181, 0, 28, 177]
abbrev dktX1_init_1 : List UInt8 := dkwX1_init_1 ++ []
def dkwX1_init_0 : List UInt8 := [42, 183, 0, 3, 42, 187, 0, 9, 89, 183, 0, 11, 181, 0, 12, 42, 16, 12, 189, 0, 18, 181, 0, 20]
abbrev dktX1_init_0 : List UInt8 := dkwX1_init_0 ++ dktX1_init_1
theorem dksX1_init_0 : cX1_init.data.toList.drop 0 = dktX1_init_0 := by decide +kernel
theorem dksX1_init_1 : cX1_init.data.toList.drop 24 = dktX1_init_1 := dk_seg dksX1_init_0 24 rfl rfl
theorem dX1_init_0 : decode cX1_init 0 = .ok (.aload_n 0, 1) := dk_42 (dk_at dksX1_init_0 0 rfl rfl)
theorem dX1_init_1 : decode cX1_init 1 = .ok (.invokespecial 3, 3) := dk_183 0 3 (dk_at dksX1_init_0 1 rfl rfl)
theorem dX1_init_4 : decode cX1_init 4 = .ok (.aload_n 0, 1) := dk_42 (dk_at dksX1_init_0 4 rfl rfl)
theorem dX1_init_5 : decode cX1_init 5 = .ok (.new 9, 3) := dk_187 0 9 (dk_at dksX1_init_0 5 rfl rfl)
theorem dX1_init_8 : decode cX1_init 8 = .ok (.dup, 1) := dk_89 (dk_at dksX1_init_0 8 rfl rfl)
theorem dX1_init_9 : decode cX1_init 9 = .ok (.invokespecial 11, 3) := dk_183 0 11 (dk_at dksX1_init_0 9 rfl rfl)
theorem dX1_init_12 : decode cX1_init 12 = .ok (.putfield 12, 3) := dk_181 0 12 (dk_at dksX1_init_0 12 rfl rfl)
theorem dX1_init_15 : decode cX1_init 15 = .ok (.aload_n 0, 1) := dk_42 (dk_at dksX1_init_0 15 rfl rfl)
theorem dX1_init_16 : decode cX1_init 16 = .ok (.bipush 12, 2) := dk_16 12 (dk_at dksX1_init_0 16 rfl rfl)
theorem dX1_init_18 : decode cX1_init 18 = .ok (.anewarray 18, 3) := dk_189 0 18 (dk_at dksX1_init_0 18 rfl rfl)
theorem dX1_init_21 : decode cX1_init 21 = .ok (.putfield 20, 3) := dk_181 0 20 (dk_at dksX1_init_0 21 rfl rfl)
theorem dX1_init_24 : decode cX1_init 24 = .ok (.aload_n 0, 1) := dk_42 (dk_at dksX1_init_1 0 rfl rfl)
theorem dX1_init_25 : decode cX1_init 25 = .ok (.iconst 4, 1) := dk_7 (dk_at dksX1_init_1 1 rfl rfl)
theorem dX1_init_26 : decode cX1_init 26 = .ok (.putfield 24, 3) := dk_181 0 24 (dk_at dksX1_init_1 2 rfl rfl)
theorem dX1_init_29 : decode cX1_init 29 = .ok (.aload_n 0, 1) := dk_42 (dk_at dksX1_init_1 5 rfl rfl)
theorem dX1_init_30 : decode cX1_init 30 = .ok (.bipush 35, 2) := dk_16 35 (dk_at dksX1_init_1 6 rfl rfl)
theorem dX1_init_32 : decode cX1_init 32 = .ok (.putfield 28, 3) := dk_181 0 28 (dk_at dksX1_init_1 8 rfl rfl)
theorem dX1_init_35 : decode cX1_init 35 = .ok (.return_, 1) := dk_177 (dk_at dksX1_init_1 11 rfl rfl)
abbrev cX1_copy : ByteArray := prog_5_method_2_code
def yX1_copy : MethodName := ⟨RX1, "copy", "()LAutoIndenter$State;"⟩
def dkwX1_copy_3 : List UInt8 := [181, 0, 24, 43, 42, 180, 0, 56, 181, 0, 56, 43, 42, 180, 0, 28, 181, 0, 28, 43, 176]
abbrev dktX1_copy_3 : List UInt8 := dkwX1_copy_3 ++ []
def dkwX1_copy_2 : List UInt8 := [167, 255, 220, 42, 180, 0, 20, 3, 43, 180, 0, 20, 3, 16, 12, 184, 0, 50, 43, 42, 180, 0, 24]
abbrev dktX1_copy_2 : List UInt8 := dkwX1_copy_2 ++ dktX1_copy_3
def dkwX1_copy_1 : List UInt8 := [180, 0, 12, 42, 180, 0, 12, 28, 182, 0, 36, 192, 0, 40, 182, 0, 42, 182, 0, 46, 87, 132, 2, 1]
abbrev dktX1_copy_1 : List UInt8 := dkwX1_copy_1 ++ dktX1_copy_2
def dkwX1_copy_0 : List UInt8 := [187, 0, 13, 89, 183, 0, 31, 76, 3, 61, 28, 42, 180, 0, 12, 182, 0, 32, 162, 0, 31, 43]
abbrev dktX1_copy_0 : List UInt8 := dkwX1_copy_0 ++ dktX1_copy_1
theorem dksX1_copy_0 : cX1_copy.data.toList.drop 0 = dktX1_copy_0 := by decide +kernel
theorem dksX1_copy_1 : cX1_copy.data.toList.drop 22 = dktX1_copy_1 := dk_seg dksX1_copy_0 22 rfl rfl
theorem dksX1_copy_2 : cX1_copy.data.toList.drop 46 = dktX1_copy_2 := dk_seg dksX1_copy_1 24 rfl rfl
theorem dksX1_copy_3 : cX1_copy.data.toList.drop 69 = dktX1_copy_3 := dk_seg dksX1_copy_2 23 rfl rfl
theorem dX1_copy_0 : decode cX1_copy 0 = .ok (.new 13, 3) := dk_187 0 13 (dk_at dksX1_copy_0 0 rfl rfl)
theorem dX1_copy_3 : decode cX1_copy 3 = .ok (.dup, 1) := dk_89 (dk_at dksX1_copy_0 3 rfl rfl)
theorem dX1_copy_4 : decode cX1_copy 4 = .ok (.invokespecial 31, 3) := dk_183 0 31 (dk_at dksX1_copy_0 4 rfl rfl)
theorem dX1_copy_7 : decode cX1_copy 7 = .ok (.astore_n 1, 1) := dk_76 (dk_at dksX1_copy_0 7 rfl rfl)
theorem dX1_copy_8 : decode cX1_copy 8 = .ok (.iconst 0, 1) := dk_3 (dk_at dksX1_copy_0 8 rfl rfl)
theorem dX1_copy_9 : decode cX1_copy 9 = .ok (.istore_n 2, 1) := dk_61 (dk_at dksX1_copy_0 9 rfl rfl)
theorem dX1_copy_10 : decode cX1_copy 10 = .ok (.iload_n 2, 1) := dk_28 (dk_at dksX1_copy_0 10 rfl rfl)
theorem dX1_copy_11 : decode cX1_copy 11 = .ok (.aload_n 0, 1) := dk_42 (dk_at dksX1_copy_0 11 rfl rfl)
theorem dX1_copy_12 : decode cX1_copy 12 = .ok (.getfield 12, 3) := dk_180 0 12 (dk_at dksX1_copy_0 12 rfl rfl)
theorem dX1_copy_15 : decode cX1_copy 15 = .ok (.invokevirtual 32, 3) := dk_182 0 32 (dk_at dksX1_copy_0 15 rfl rfl)
theorem dX1_copy_18 : decode cX1_copy 18 = .ok (.if_icmp .ge 31, 3) := dk_162 0 31 (dk_at dksX1_copy_0 18 rfl rfl)
theorem dX1_copy_21 : decode cX1_copy 21 = .ok (.aload_n 1, 1) := dk_43 (dk_at dksX1_copy_0 21 rfl rfl)
theorem dX1_copy_22 : decode cX1_copy 22 = .ok (.getfield 12, 3) := dk_180 0 12 (dk_at dksX1_copy_1 0 rfl rfl)
theorem dX1_copy_25 : decode cX1_copy 25 = .ok (.aload_n 0, 1) := dk_42 (dk_at dksX1_copy_1 3 rfl rfl)
theorem dX1_copy_26 : decode cX1_copy 26 = .ok (.getfield 12, 3) := dk_180 0 12 (dk_at dksX1_copy_1 4 rfl rfl)
theorem dX1_copy_29 : decode cX1_copy 29 = .ok (.iload_n 2, 1) := dk_28 (dk_at dksX1_copy_1 7 rfl rfl)
theorem dX1_copy_30 : decode cX1_copy 30 = .ok (.invokevirtual 36, 3) := dk_182 0 36 (dk_at dksX1_copy_1 8 rfl rfl)
theorem dX1_copy_33 : decode cX1_copy 33 = .ok (.checkcast 40, 3) := dk_192 0 40 (dk_at dksX1_copy_1 11 rfl rfl)
theorem dX1_copy_36 : decode cX1_copy 36 = .ok (.invokevirtual 42, 3) := dk_182 0 42 (dk_at dksX1_copy_1 14 rfl rfl)
theorem dX1_copy_39 : decode cX1_copy 39 = .ok (.invokevirtual 46, 3) := dk_182 0 46 (dk_at dksX1_copy_1 17 rfl rfl)
theorem dX1_copy_42 : decode cX1_copy 42 = .ok (.pop, 1) := dk_87 (dk_at dksX1_copy_1 20 rfl rfl)
theorem dX1_copy_43 : decode cX1_copy 43 = .ok (.iinc 2 1, 3) := dk_132 2 1 (dk_at dksX1_copy_1 21 rfl rfl)
theorem dX1_copy_46 : decode cX1_copy 46 = .ok (.goto (-36), 3) := dk_167 255 220 (dk_at dksX1_copy_2 0 rfl rfl)
theorem dX1_copy_49 : decode cX1_copy 49 = .ok (.aload_n 0, 1) := dk_42 (dk_at dksX1_copy_2 3 rfl rfl)
theorem dX1_copy_50 : decode cX1_copy 50 = .ok (.getfield 20, 3) := dk_180 0 20 (dk_at dksX1_copy_2 4 rfl rfl)
theorem dX1_copy_53 : decode cX1_copy 53 = .ok (.iconst 0, 1) := dk_3 (dk_at dksX1_copy_2 7 rfl rfl)
theorem dX1_copy_54 : decode cX1_copy 54 = .ok (.aload_n 1, 1) := dk_43 (dk_at dksX1_copy_2 8 rfl rfl)
theorem dX1_copy_55 : decode cX1_copy 55 = .ok (.getfield 20, 3) := dk_180 0 20 (dk_at dksX1_copy_2 9 rfl rfl)
theorem dX1_copy_58 : decode cX1_copy 58 = .ok (.iconst 0, 1) := dk_3 (dk_at dksX1_copy_2 12 rfl rfl)
theorem dX1_copy_59 : decode cX1_copy 59 = .ok (.bipush 12, 2) := dk_16 12 (dk_at dksX1_copy_2 13 rfl rfl)
theorem dX1_copy_61 : decode cX1_copy 61 = .ok (.invokestatic 50, 3) := dk_184 0 50 (dk_at dksX1_copy_2 15 rfl rfl)
theorem dX1_copy_64 : decode cX1_copy 64 = .ok (.aload_n 1, 1) := dk_43 (dk_at dksX1_copy_2 18 rfl rfl)
theorem dX1_copy_65 : decode cX1_copy 65 = .ok (.aload_n 0, 1) := dk_42 (dk_at dksX1_copy_2 19 rfl rfl)
theorem dX1_copy_66 : decode cX1_copy 66 = .ok (.getfield 24, 3) := dk_180 0 24 (dk_at dksX1_copy_2 20 rfl rfl)
theorem dX1_copy_69 : decode cX1_copy 69 = .ok (.putfield 24, 3) := dk_181 0 24 (dk_at dksX1_copy_3 0 rfl rfl)
theorem dX1_copy_72 : decode cX1_copy 72 = .ok (.aload_n 1, 1) := dk_43 (dk_at dksX1_copy_3 3 rfl rfl)
theorem dX1_copy_73 : decode cX1_copy 73 = .ok (.aload_n 0, 1) := dk_42 (dk_at dksX1_copy_3 4 rfl rfl)
theorem dX1_copy_74 : decode cX1_copy 74 = .ok (.getfield 56, 3) := dk_180 0 56 (dk_at dksX1_copy_3 5 rfl rfl)
theorem dX1_copy_77 : decode cX1_copy 77 = .ok (.putfield 56, 3) := dk_181 0 56 (dk_at dksX1_copy_3 8 rfl rfl)
theorem dX1_copy_80 : decode cX1_copy 80 = .ok (.aload_n 1, 1) := dk_43 (dk_at dksX1_copy_3 11 rfl rfl)
theorem dX1_copy_81 : decode cX1_copy 81 = .ok (.aload_n 0, 1) := dk_42 (dk_at dksX1_copy_3 12 rfl rfl)
theorem dX1_copy_82 : decode cX1_copy 82 = .ok (.getfield 28, 3) := dk_180 0 28 (dk_at dksX1_copy_3 13 rfl rfl)
theorem dX1_copy_85 : decode cX1_copy 85 = .ok (.putfield 28, 3) := dk_181 0 28 (dk_at dksX1_copy_3 16 rfl rfl)
theorem dX1_copy_88 : decode cX1_copy 88 = .ok (.aload_n 1, 1) := dk_43 (dk_at dksX1_copy_3 19 rfl rfl)
theorem dX1_copy_89 : decode cX1_copy 89 = .ok (.areturn, 1) := dk_176 (dk_at dksX1_copy_3 20 rfl rfl)
theorem q97 : (Jvm.Cond.initialized "AutoIndenter$State") ∈ lw_all := lw_g (lw_at lw_m1 2 rfl) rfl
theorem q149 : (Jvm.Cond.instantiable "AutoIndenter$State" (5 : Nat)) ∈ lw_all := lw_g (lw_at lw_m1 54 rfl) rfl
theorem q151 : (Jvm.Cond.instanceMethod ({ cls := "AutoIndenter$State", name := "<init>", desc := "()V" } : Jvm.MethodName)) ∈ lw_all := lw_g (lw_at lw_m1 56 rfl) rfl
theorem q152 : (Jvm.Cond.code ({ cls := "AutoIndenter$State", name := "<init>", desc := "()V" } : Jvm.MethodName) prog_5_method_1_code (1 : Nat) (Option.none : Option Jvm.ClassFile.FieldType)) ∈ lw_all := lw_g (lw_at lw_m1 57 rfl) rfl
theorem q153 : (Jvm.Cond.methodLink "AutoIndenter$State" (3 : Nat) ({ cls := "java/lang/Object", name := "<init>", desc := "()V" } : Jvm.MethodName)) ∈ lw_all := lw_g (lw_at lw_m1 58 rfl) rfl
theorem q154 : (Jvm.Cond.classLink "AutoIndenter$State" (9 : Nat) "java/util/ArrayList") ∈ lw_all := lw_g (lw_at lw_m1 59 rfl) rfl
theorem q156 : (Jvm.Cond.methodLink "AutoIndenter$State" (11 : Nat) ({ cls := "java/util/ArrayList", name := "<init>", desc := "()V" } : Jvm.MethodName)) ∈ lw_all := lw_g (lw_at lw_m1 61 rfl) rfl
theorem q180 : (Jvm.Cond.classLink "AutoIndenter$State" (18 : Nat) "AutoIndenter$Rule") ∈ lw_all := lw_g (lw_at lw_m1 85 rfl) rfl
theorem q182 : (Jvm.Cond.fieldLink "AutoIndenter$State" (12 : Nat) "AutoIndenter$State" "lines" "Ljava/util/ArrayList;") ∈ lw_all := lw_g (lw_at lw_m1 87 rfl) rfl
theorem q186 : (Jvm.Cond.fieldLink "AutoIndenter$State" (20 : Nat) "AutoIndenter$State" "rules" "[LAutoIndenter$Rule;") ∈ lw_all := lw_g (lw_at lw_m1 91 rfl) rfl
theorem q190 : (Jvm.Cond.fieldLink "AutoIndenter$State" (24 : Nat) "AutoIndenter$State" "step" "I") ∈ lw_all := lw_g (lw_at lw_m1 95 rfl) rfl
theorem q192 : (Jvm.Cond.fieldLink "AutoIndenter$State" (56 : Nat) "AutoIndenter$State" "base" "I") ∈ lw_all := lw_g (lw_at lw_m1 97 rfl) rfl
theorem q194 : (Jvm.Cond.fieldLink "AutoIndenter$State" (28 : Nat) "AutoIndenter$State" "comment" "I") ∈ lw_all := lw_g (lw_at lw_m1 99 rfl) rfl
theorem q197 : (Jvm.Cond.laysFinal "AutoIndenter$State" "AutoIndenter$State" "lines" "Ljava/util/ArrayList;") ∈ lw_all := lw_g (lw_at lw_m1 102 rfl) rfl
theorem q198 : (Jvm.Cond.soleField "AutoIndenter$State" "lines") ∈ lw_all := lw_g (lw_at lw_m1 103 rfl) rfl
theorem q199 : (Jvm.Cond.laysFinal "AutoIndenter$State" "AutoIndenter$State" "rules" "[LAutoIndenter$Rule;") ∈ lw_all := lw_g (lw_at lw_m1 104 rfl) rfl
theorem q200 : (Jvm.Cond.soleField "AutoIndenter$State" "rules") ∈ lw_all := lw_g (lw_at lw_m1 105 rfl) rfl
theorem q201 : (Jvm.Cond.lays "AutoIndenter$State" "AutoIndenter$State" "step" "I") ∈ lw_all := lw_g (lw_at lw_m1 106 rfl) rfl
theorem q202 : (Jvm.Cond.soleField "AutoIndenter$State" "step") ∈ lw_all := lw_g (lw_at lw_m1 107 rfl) rfl
theorem q203 : (Jvm.Cond.lays "AutoIndenter$State" "AutoIndenter$State" "base" "I") ∈ lw_all := lw_g (lw_at lw_m1 108 rfl) rfl
theorem q204 : (Jvm.Cond.soleField "AutoIndenter$State" "base") ∈ lw_all := lw_g (lw_at lw_m1 109 rfl) rfl
theorem q205 : (Jvm.Cond.lays "AutoIndenter$State" "AutoIndenter$State" "comment" "I") ∈ lw_all := lw_g (lw_at lw_m1 110 rfl) rfl
theorem q206 : (Jvm.Cond.soleField "AutoIndenter$State" "comment") ∈ lw_all := lw_g (lw_at lw_m1 111 rfl) rfl
theorem q207 : (Jvm.Cond.superclass "AutoIndenter$State" "java/lang/Object") ∈ lw_all := lw_g (lw_at lw_m1 112 rfl) rfl
theorem q500 : (Jvm.Cond.instanceMethod ({ cls := "AutoIndenter$State", name := "copy", desc := "()LAutoIndenter$State;" } : Jvm.MethodName)) ∈ lw_all := lw_g (lw_at lw_m2 165 rfl) rfl
theorem q501 : (Jvm.Cond.selects "AutoIndenter$State" ({ cls := "AutoIndenter$State", name := "copy", desc := "()LAutoIndenter$State;" } : Jvm.MethodName) ({ cls := "AutoIndenter$State", name := "copy", desc := "()LAutoIndenter$State;" } : Jvm.MethodName)) ∈ lw_all := lw_g (lw_at lw_m2 166 rfl) rfl
theorem q502 : (Jvm.Cond.code ({ cls := "AutoIndenter$State", name := "copy", desc := "()LAutoIndenter$State;" } : Jvm.MethodName) prog_5_method_2_code (3 : Nat) (Option.some (Jvm.ClassFile.FieldType.object "AutoIndenter$State"))) ∈ lw_all := lw_g (lw_at lw_m2 167 rfl) rfl
theorem q503 : (Jvm.Cond.classLink "AutoIndenter$State" (13 : Nat) "AutoIndenter$State") ∈ lw_all := lw_g (lw_at lw_m2 168 rfl) rfl
theorem q504 : (Jvm.Cond.methodLink "AutoIndenter$State" (31 : Nat) ({ cls := "AutoIndenter$State", name := "<init>", desc := "()V" } : Jvm.MethodName)) ∈ lw_all := lw_g (lw_at lw_m2 169 rfl) rfl
theorem q505 : (Jvm.Cond.methodLink "AutoIndenter$State" (32 : Nat) ({ cls := "java/util/ArrayList", name := "size", desc := "()I" } : Jvm.MethodName)) ∈ lw_all := lw_g (lw_at lw_m2 170 rfl) rfl
theorem q506 : (Jvm.Cond.methodLink "AutoIndenter$State" (36 : Nat) ({ cls := "java/util/ArrayList", name := "get", desc := "(I)Ljava/lang/Object;" } : Jvm.MethodName)) ∈ lw_all := lw_g (lw_at lw_m2 171 rfl) rfl
theorem q514 : (Jvm.Cond.classLink "AutoIndenter$State" (40 : Nat) "AutoIndenter$Line") ∈ lw_all := lw_g (lw_at lw_m2 179 rfl) rfl
theorem q515 : (Jvm.Cond.methodLink "AutoIndenter$State" (42 : Nat) ({ cls := "AutoIndenter$Line", name := "copy", desc := "()LAutoIndenter$Line;" } : Jvm.MethodName)) ∈ lw_all := lw_g (lw_at lw_m2 180 rfl) rfl
theorem q521 : (Jvm.Cond.methodLink "AutoIndenter$State" (46 : Nat) ({ cls := "java/util/ArrayList", name := "add", desc := "(Ljava/lang/Object;)Z" } : Jvm.MethodName)) ∈ lw_all := lw_g (lw_at lw_m2 186 rfl) rfl
theorem q548 : (Jvm.Cond.selects "AutoIndenter$State" ({ cls := "java/lang/Object", name := "getClass", desc := "()Ljava/lang/Class;" } : Jvm.MethodName) ({ cls := "java/lang/Object", name := "getClass", desc := "()Ljava/lang/Class;" } : Jvm.MethodName)) ∈ lw_all := lw_g (lw_at lw_m2 213 rfl) rfl
theorem q578 : (Jvm.Cond.methodLink "AutoIndenter$State" (50 : Nat) ({ cls := "java/lang/System", name := "arraycopy", desc := "(Ljava/lang/Object;ILjava/lang/Object;II)V" } : Jvm.MethodName)) ∈ lw_all := lw_g (lw_at lw_m3 3 rfl) rfl
theorem q896 : (Jvm.Cond.selects "AutoIndenter$State" ({ cls := "java/lang/Object", name := "hashCode", desc := "()I" } : Jvm.MethodName) ({ cls := "java/lang/Object", name := "hashCode", desc := "()I" } : Jvm.MethodName)) ∈ lw_all := lw_g (lw_at lw_m4 81 rfl) rfl
theorem q969 : (Jvm.Cond.selects "AutoIndenter$State" ({ cls := "java/lang/Object", name := "equals", desc := "(Ljava/lang/Object;)Z" } : Jvm.MethodName) ({ cls := "java/lang/Object", name := "equals", desc := "(Ljava/lang/Object;)Z" } : Jvm.MethodName)) ∈ lw_all := lw_g (lw_at lw_m4 154 rfl) rfl
theorem q2800 : (Jvm.Cond.castable "AutoIndenter$State" "java/lang/Object") ∈ lw_tbl := lw_at lw_m12 65 rfl
theorem in_X1 : ∀ w ∈ wsX10, w ∈ lw_all := lw_in wsX10 [197, 199, 201, 203, 205] (by decide +kernel) (by decide +kernel)

/-! AutoIndenter$Line -/
set_option maxRecDepth 100000
def RX3 : String := "AutoIndenter$Line"
def TX3 : u_T := fun k => match k with
  | 0 => ("AutoIndenter$Line", "indentation", "I", false)
  | 1 => ("AutoIndenter$Line", "content", "Ljava/lang/String;", false)
  | _ => ("AutoIndenter$Line", "isPinned", "Z", false)
def tyX3 : Nat → FieldType := fun k => match k with
  | 0 => .int
  | 1 => .object "java/lang/String"
  | _ => .boolean
abbrev wsX30 : List Cond := u_ws RX3 TX3 3
theorem nmX3 : ∀ a, a < 3 → ∀ b, b < 3 → a ≠ b → (TX3 a).2.1 ≠ (TX3 b).2.1 := by decide +kernel
theorem tyX3_ok : ∀ k, k < 3 → parseFieldDescriptor (TX3 k).2.2.1 = some (tyX3 k) := by decide +kernel
abbrev cX3_init : ByteArray := prog_2_method_1_code
def yX3_init : MethodName := ⟨RX3, "<init>", "(ILjava/lang/String;)V"⟩
def dkwX3_init_0 : List UInt8 := [42, 183, 0, 1, 42, 27, 181, 0, 7, 42, 44, 181, 0, 13, 177]
abbrev dktX3_init_0 : List UInt8 := dkwX3_init_0 ++ []
theorem dksX3_init_0 : cX3_init.data.toList.drop 0 = dktX3_init_0 := by decide +kernel
theorem dX3_init_0 : decode cX3_init 0 = .ok (.aload_n 0, 1) := dk_42 (dk_at dksX3_init_0 0 rfl rfl)
theorem dX3_init_1 : decode cX3_init 1 = .ok (.invokespecial 1, 3) := dk_183 0 1 (dk_at dksX3_init_0 1 rfl rfl)
theorem dX3_init_4 : decode cX3_init 4 = .ok (.aload_n 0, 1) := dk_42 (dk_at dksX3_init_0 4 rfl rfl)
theorem dX3_init_5 : decode cX3_init 5 = .ok (.iload_n 1, 1) := dk_27 (dk_at dksX3_init_0 5 rfl rfl)
theorem dX3_init_6 : decode cX3_init 6 = .ok (.putfield 7, 3) := dk_181 0 7 (dk_at dksX3_init_0 6 rfl rfl)
theorem dX3_init_9 : decode cX3_init 9 = .ok (.aload_n 0, 1) := dk_42 (dk_at dksX3_init_0 9 rfl rfl)
theorem dX3_init_10 : decode cX3_init 10 = .ok (.aload_n 2, 1) := dk_44 (dk_at dksX3_init_0 10 rfl rfl)
theorem dX3_init_11 : decode cX3_init 11 = .ok (.putfield 13, 3) := dk_181 0 13 (dk_at dksX3_init_0 11 rfl rfl)
theorem dX3_init_14 : decode cX3_init 14 = .ok (.return_, 1) := dk_177 (dk_at dksX3_init_0 14 rfl rfl)
abbrev cX3_copy : ByteArray := prog_2_method_2_code
def yX3_copy : MethodName := ⟨RX3, "copy", "()LAutoIndenter$Line;"⟩
def dkwX3_copy_1 : List UInt8 := [43, 176]
abbrev dktX3_copy_1 : List UInt8 := dkwX3_copy_1 ++ []
def dkwX3_copy_0 : List UInt8 := [187, 0, 8, 89, 42, 180, 0, 7, 42, 180, 0, 13, 183, 0, 17, 76, 43, 42, 180, 0, 20, 181, 0, 20]
abbrev dktX3_copy_0 : List UInt8 := dkwX3_copy_0 ++ dktX3_copy_1
theorem dksX3_copy_0 : cX3_copy.data.toList.drop 0 = dktX3_copy_0 := by decide +kernel
theorem dksX3_copy_1 : cX3_copy.data.toList.drop 24 = dktX3_copy_1 := dk_seg dksX3_copy_0 24 rfl rfl
theorem dX3_copy_0 : decode cX3_copy 0 = .ok (.new 8, 3) := dk_187 0 8 (dk_at dksX3_copy_0 0 rfl rfl)
theorem dX3_copy_3 : decode cX3_copy 3 = .ok (.dup, 1) := dk_89 (dk_at dksX3_copy_0 3 rfl rfl)
theorem dX3_copy_4 : decode cX3_copy 4 = .ok (.aload_n 0, 1) := dk_42 (dk_at dksX3_copy_0 4 rfl rfl)
theorem dX3_copy_5 : decode cX3_copy 5 = .ok (.getfield 7, 3) := dk_180 0 7 (dk_at dksX3_copy_0 5 rfl rfl)
theorem dX3_copy_8 : decode cX3_copy 8 = .ok (.aload_n 0, 1) := dk_42 (dk_at dksX3_copy_0 8 rfl rfl)
theorem dX3_copy_9 : decode cX3_copy 9 = .ok (.getfield 13, 3) := dk_180 0 13 (dk_at dksX3_copy_0 9 rfl rfl)
theorem dX3_copy_12 : decode cX3_copy 12 = .ok (.invokespecial 17, 3) := dk_183 0 17 (dk_at dksX3_copy_0 12 rfl rfl)
theorem dX3_copy_15 : decode cX3_copy 15 = .ok (.astore_n 1, 1) := dk_76 (dk_at dksX3_copy_0 15 rfl rfl)
theorem dX3_copy_16 : decode cX3_copy 16 = .ok (.aload_n 1, 1) := dk_43 (dk_at dksX3_copy_0 16 rfl rfl)
theorem dX3_copy_17 : decode cX3_copy 17 = .ok (.aload_n 0, 1) := dk_42 (dk_at dksX3_copy_0 17 rfl rfl)
theorem dX3_copy_18 : decode cX3_copy 18 = .ok (.getfield 20, 3) := dk_180 0 20 (dk_at dksX3_copy_0 18 rfl rfl)
theorem dX3_copy_21 : decode cX3_copy 21 = .ok (.putfield 20, 3) := dk_181 0 20 (dk_at dksX3_copy_0 21 rfl rfl)
theorem dX3_copy_24 : decode cX3_copy 24 = .ok (.aload_n 1, 1) := dk_43 (dk_at dksX3_copy_1 0 rfl rfl)
theorem dX3_copy_25 : decode cX3_copy 25 = .ok (.areturn, 1) := dk_176 (dk_at dksX3_copy_1 1 rfl rfl)
abbrev cX3_isBlank : ByteArray := prog_2_method_3_code
def yX3_isBlank : MethodName := ⟨RX3, "isBlank", "()Z"⟩
def dkwX3_isBlank_0 : List UInt8 := [42, 180, 0, 13, 182, 0, 24, 172]
abbrev dktX3_isBlank_0 : List UInt8 := dkwX3_isBlank_0 ++ []
theorem dksX3_isBlank_0 : cX3_isBlank.data.toList.drop 0 = dktX3_isBlank_0 := by decide +kernel
theorem dX3_isBlank_0 : decode cX3_isBlank 0 = .ok (.aload_n 0, 1) := dk_42 (dk_at dksX3_isBlank_0 0 rfl rfl)
theorem dX3_isBlank_1 : decode cX3_isBlank 1 = .ok (.getfield 13, 3) := dk_180 0 13 (dk_at dksX3_isBlank_0 1 rfl rfl)
theorem dX3_isBlank_4 : decode cX3_isBlank 4 = .ok (.invokevirtual 24, 3) := dk_182 0 24 (dk_at dksX3_isBlank_0 4 rfl rfl)
theorem dX3_isBlank_7 : decode cX3_isBlank 7 = .ok (.ireturn, 1) := dk_172 (dk_at dksX3_isBlank_0 7 rfl rfl)
theorem q102 : (Jvm.Cond.initialized "AutoIndenter$Line") ∈ lw_all := lw_g (lw_at lw_m1 7 rfl) rfl
theorem q267 : (Jvm.Cond.instantiable "AutoIndenter$Line" (3 : Nat)) ∈ lw_all := lw_g (lw_at lw_m1 172 rfl) rfl
theorem q270 : (Jvm.Cond.instanceMethod ({ cls := "AutoIndenter$Line", name := "<init>", desc := "(ILjava/lang/String;)V" } : Jvm.MethodName)) ∈ lw_all := lw_g (lw_at lw_m1 175 rfl) rfl
theorem q271 : (Jvm.Cond.code ({ cls := "AutoIndenter$Line", name := "<init>", desc := "(ILjava/lang/String;)V" } : Jvm.MethodName) prog_2_method_1_code (3 : Nat) (Option.none : Option Jvm.ClassFile.FieldType)) ∈ lw_all := lw_g (lw_at lw_m1 176 rfl) rfl
theorem q272 : (Jvm.Cond.methodLink "AutoIndenter$Line" (1 : Nat) ({ cls := "java/lang/Object", name := "<init>", desc := "()V" } : Jvm.MethodName)) ∈ lw_all := lw_g (lw_at lw_m1 177 rfl) rfl
theorem q273 : (Jvm.Cond.fieldLink "AutoIndenter$Line" (7 : Nat) "AutoIndenter$Line" "indentation" "I") ∈ lw_all := lw_g (lw_at lw_m1 178 rfl) rfl
theorem q276 : (Jvm.Cond.fieldLink "AutoIndenter$Line" (13 : Nat) "AutoIndenter$Line" "content" "Ljava/lang/String;") ∈ lw_all := lw_g (lw_at lw_m1 181 rfl) rfl
theorem q279 : (Jvm.Cond.fieldLink "AutoIndenter$Line" (20 : Nat) "AutoIndenter$Line" "isPinned" "Z") ∈ lw_all := lw_g (lw_at lw_m1 184 rfl) rfl
theorem q282 : (Jvm.Cond.lays "AutoIndenter$Line" "AutoIndenter$Line" "indentation" "I") ∈ lw_all := lw_g (lw_at lw_m1 187 rfl) rfl
theorem q283 : (Jvm.Cond.soleField "AutoIndenter$Line" "indentation") ∈ lw_all := lw_g (lw_at lw_m1 188 rfl) rfl
theorem q284 : (Jvm.Cond.lays "AutoIndenter$Line" "AutoIndenter$Line" "content" "Ljava/lang/String;") ∈ lw_all := lw_g (lw_at lw_m1 189 rfl) rfl
theorem q285 : (Jvm.Cond.soleField "AutoIndenter$Line" "content") ∈ lw_all := lw_g (lw_at lw_m1 190 rfl) rfl
theorem q286 : (Jvm.Cond.lays "AutoIndenter$Line" "AutoIndenter$Line" "isPinned" "Z") ∈ lw_all := lw_g (lw_at lw_m1 191 rfl) rfl
theorem q287 : (Jvm.Cond.soleField "AutoIndenter$Line" "isPinned") ∈ lw_all := lw_g (lw_at lw_m1 192 rfl) rfl
theorem q288 : (Jvm.Cond.superclass "AutoIndenter$Line" "java/lang/Object") ∈ lw_all := lw_g (lw_at lw_m1 193 rfl) rfl
theorem q516 : (Jvm.Cond.instanceMethod ({ cls := "AutoIndenter$Line", name := "copy", desc := "()LAutoIndenter$Line;" } : Jvm.MethodName)) ∈ lw_all := lw_g (lw_at lw_m2 181 rfl) rfl
theorem q517 : (Jvm.Cond.selects "AutoIndenter$Line" ({ cls := "AutoIndenter$Line", name := "copy", desc := "()LAutoIndenter$Line;" } : Jvm.MethodName) ({ cls := "AutoIndenter$Line", name := "copy", desc := "()LAutoIndenter$Line;" } : Jvm.MethodName)) ∈ lw_all := lw_g (lw_at lw_m2 182 rfl) rfl
theorem q518 : (Jvm.Cond.code ({ cls := "AutoIndenter$Line", name := "copy", desc := "()LAutoIndenter$Line;" } : Jvm.MethodName) prog_2_method_2_code (2 : Nat) (Option.some (Jvm.ClassFile.FieldType.object "AutoIndenter$Line"))) ∈ lw_all := lw_g (lw_at lw_m2 183 rfl) rfl
theorem q519 : (Jvm.Cond.classLink "AutoIndenter$Line" (8 : Nat) "AutoIndenter$Line") ∈ lw_all := lw_g (lw_at lw_m2 184 rfl) rfl
theorem q520 : (Jvm.Cond.methodLink "AutoIndenter$Line" (17 : Nat) ({ cls := "AutoIndenter$Line", name := "<init>", desc := "(ILjava/lang/String;)V" } : Jvm.MethodName)) ∈ lw_all := lw_g (lw_at lw_m2 185 rfl) rfl
theorem q545 : (Jvm.Cond.selects "AutoIndenter$Line" ({ cls := "java/lang/Object", name := "getClass", desc := "()Ljava/lang/Class;" } : Jvm.MethodName) ({ cls := "java/lang/Object", name := "getClass", desc := "()Ljava/lang/Class;" } : Jvm.MethodName)) ∈ lw_all := lw_g (lw_at lw_m2 210 rfl) rfl
theorem q892 : (Jvm.Cond.selects "AutoIndenter$Line" ({ cls := "java/lang/Object", name := "hashCode", desc := "()I" } : Jvm.MethodName) ({ cls := "java/lang/Object", name := "hashCode", desc := "()I" } : Jvm.MethodName)) ∈ lw_all := lw_g (lw_at lw_m4 77 rfl) rfl
theorem q964 : (Jvm.Cond.selects "AutoIndenter$Line" ({ cls := "java/lang/Object", name := "equals", desc := "(Ljava/lang/Object;)Z" } : Jvm.MethodName) ({ cls := "java/lang/Object", name := "equals", desc := "(Ljava/lang/Object;)Z" } : Jvm.MethodName)) ∈ lw_all := lw_g (lw_at lw_m4 149 rfl) rfl
theorem q1579 : (Jvm.Cond.instanceMethod ({ cls := "AutoIndenter$Line", name := "isBlank", desc := "()Z" } : Jvm.MethodName)) ∈ lw_all := lw_g (lw_at lw_m7 44 rfl) rfl
theorem q1580 : (Jvm.Cond.selects "AutoIndenter$Line" ({ cls := "AutoIndenter$Line", name := "isBlank", desc := "()Z" } : Jvm.MethodName) ({ cls := "AutoIndenter$Line", name := "isBlank", desc := "()Z" } : Jvm.MethodName)) ∈ lw_all := lw_g (lw_at lw_m7 45 rfl) rfl
theorem q1581 : (Jvm.Cond.code ({ cls := "AutoIndenter$Line", name := "isBlank", desc := "()Z" } : Jvm.MethodName) prog_2_method_3_code (1 : Nat) (Option.some Jvm.ClassFile.FieldType.boolean)) ∈ lw_all := lw_g (lw_at lw_m7 46 rfl) rfl
theorem q1582 : (Jvm.Cond.methodLink "AutoIndenter$Line" (24 : Nat) ({ cls := "java/lang/String", name := "isEmpty", desc := "()Z" } : Jvm.MethodName)) ∈ lw_all := lw_g (lw_at lw_m7 47 rfl) rfl
theorem q2805 : (Jvm.Cond.castable "AutoIndenter$Line" "java/lang/Object") ∈ lw_tbl := lw_at lw_m12 70 rfl
theorem in_X3 : ∀ w ∈ wsX30, w ∈ lw_all := lw_in wsX30 [282, 284, 286] (by decide +kernel) (by decide +kernel)

/-! AutoIndenter$Walk -/
set_option maxRecDepth 100000
def RX4 : String := "AutoIndenter$Walk"
def TX4 : u_T := fun k => match k with
  | 0 => ("AutoIndenter$Walk", "state", "LAutoIndenter$State;", true)
  | 1 => ("AutoIndenter$Walk", "tokens", "LAutoIndenter$Tokens;", true)
  | 2 => ("AutoIndenter$Walk", "step", "I", false)
  | 3 => ("AutoIndenter$Walk", "base", "I", false)
  | 4 => ("AutoIndenter$Walk", "indentations", "[I", true)
  | 5 => ("AutoIndenter$Walk", "openings", "[I", true)
  | 6 => ("AutoIndenter$Walk", "columns", "[I", true)
  | 7 => ("AutoIndenter$Walk", "height", "I", false)
  | 8 => ("AutoIndenter$Walk", "lastOpened", "Z", false)
  | 9 => ("AutoIndenter$Walk", "strays", "I", false)
  | 10 => ("AutoIndenter$Walk", "lost", "I", false)
  | 11 => ("AutoIndenter$Walk", "openedBy", "[I", true)
  | 12 => ("AutoIndenter$Walk", "closedBy", "[I", true)
  | 13 => ("AutoIndenter$Walk", "column", "I", false)
  | 14 => ("AutoIndenter$Walk", "reason", "I", false)
  | _ => ("AutoIndenter$Walk", "rule", "I", false)
def tyX4 : Nat → FieldType := fun k => match k with
  | 0 => .object "AutoIndenter$State"
  | 1 => .object "AutoIndenter$Tokens"
  | 2 => .int
  | 3 => .int
  | 4 => .array .int
  | 5 => .array .int
  | 6 => .array .int
  | 7 => .int
  | 8 => .boolean
  | 9 => .int
  | 10 => .int
  | 11 => .array .int
  | 12 => .array .int
  | 13 => .int
  | 14 => .int
  | _ => .int
abbrev wsX40 : List Cond := u_ws RX4 TX4 16
set_option maxRecDepth 100000 in
theorem nmX4 : ∀ a, a < 16 → ∀ b, b < 16 → a ≠ b → (TX4 a).2.1 ≠ (TX4 b).2.1 := by decide +kernel
set_option maxRecDepth 100000 in
theorem tyX4_ok : ∀ k, k < 16 → parseFieldDescriptor (TX4 k).2.2.1 = some (tyX4 k) := by decide +kernel
abbrev cX4_init : ByteArray := prog_8_method_1_code
def yX4_init : MethodName := ⟨RX4, "<init>", "(LAutoIndenter$Tokens;)V"⟩
def dkwX4_init_2 : List UInt8 := [182, 0, 36, 188, 10, 181, 0, 42, 42, 43, 180, 0, 32, 182, 0, 36, 188, 10, 181, 0, 45, 177]
abbrev dktX4_init_2 : List UInt8 := dkwX4_init_2 ++ []
def dkwX4_init_1 : List UInt8 := [188, 10, 181, 0, 18, 42, 43, 180, 0, 21, 181, 0, 27, 42, 43, 181, 0, 28, 42, 43, 180, 0, 32]
abbrev dktX4_init_1 : List UInt8 := dkwX4_init_1 ++ dktX4_init_2
def dkwX4_init_0 : List UInt8 := [42, 183, 0, 3, 42, 16, 20, 188, 10, 181, 0, 9, 42, 16, 12, 188, 10, 181, 0, 15, 42, 16, 12]
abbrev dktX4_init_0 : List UInt8 := dkwX4_init_0 ++ dktX4_init_1
theorem dksX4_init_0 : cX4_init.data.toList.drop 0 = dktX4_init_0 := by decide +kernel
theorem dksX4_init_1 : cX4_init.data.toList.drop 23 = dktX4_init_1 := dk_seg dksX4_init_0 23 rfl rfl
theorem dksX4_init_2 : cX4_init.data.toList.drop 46 = dktX4_init_2 := dk_seg dksX4_init_1 23 rfl rfl
theorem dX4_init_0 : decode cX4_init 0 = .ok (.aload_n 0, 1) := dk_42 (dk_at dksX4_init_0 0 rfl rfl)
theorem dX4_init_1 : decode cX4_init 1 = .ok (.invokespecial 3, 3) := dk_183 0 3 (dk_at dksX4_init_0 1 rfl rfl)
theorem dX4_init_4 : decode cX4_init 4 = .ok (.aload_n 0, 1) := dk_42 (dk_at dksX4_init_0 4 rfl rfl)
theorem dX4_init_5 : decode cX4_init 5 = .ok (.bipush 20, 2) := dk_16 20 (dk_at dksX4_init_0 5 rfl rfl)
theorem dX4_init_7 : decode cX4_init 7 = .ok (.newarray .int, 2) := dk_188_10 (dk_at dksX4_init_0 7 rfl rfl)
theorem dX4_init_9 : decode cX4_init 9 = .ok (.putfield 9, 3) := dk_181 0 9 (dk_at dksX4_init_0 9 rfl rfl)
theorem dX4_init_12 : decode cX4_init 12 = .ok (.aload_n 0, 1) := dk_42 (dk_at dksX4_init_0 12 rfl rfl)
theorem dX4_init_13 : decode cX4_init 13 = .ok (.bipush 12, 2) := dk_16 12 (dk_at dksX4_init_0 13 rfl rfl)
theorem dX4_init_15 : decode cX4_init 15 = .ok (.newarray .int, 2) := dk_188_10 (dk_at dksX4_init_0 15 rfl rfl)
theorem dX4_init_17 : decode cX4_init 17 = .ok (.putfield 15, 3) := dk_181 0 15 (dk_at dksX4_init_0 17 rfl rfl)
theorem dX4_init_20 : decode cX4_init 20 = .ok (.aload_n 0, 1) := dk_42 (dk_at dksX4_init_0 20 rfl rfl)
theorem dX4_init_21 : decode cX4_init 21 = .ok (.bipush 12, 2) := dk_16 12 (dk_at dksX4_init_0 21 rfl rfl)
theorem dX4_init_23 : decode cX4_init 23 = .ok (.newarray .int, 2) := dk_188_10 (dk_at dksX4_init_1 0 rfl rfl)
theorem dX4_init_25 : decode cX4_init 25 = .ok (.putfield 18, 3) := dk_181 0 18 (dk_at dksX4_init_1 2 rfl rfl)
theorem dX4_init_28 : decode cX4_init 28 = .ok (.aload_n 0, 1) := dk_42 (dk_at dksX4_init_1 5 rfl rfl)
theorem dX4_init_29 : decode cX4_init 29 = .ok (.aload_n 1, 1) := dk_43 (dk_at dksX4_init_1 6 rfl rfl)
theorem dX4_init_30 : decode cX4_init 30 = .ok (.getfield 21, 3) := dk_180 0 21 (dk_at dksX4_init_1 7 rfl rfl)
theorem dX4_init_33 : decode cX4_init 33 = .ok (.putfield 27, 3) := dk_181 0 27 (dk_at dksX4_init_1 10 rfl rfl)
theorem dX4_init_36 : decode cX4_init 36 = .ok (.aload_n 0, 1) := dk_42 (dk_at dksX4_init_1 13 rfl rfl)
theorem dX4_init_37 : decode cX4_init 37 = .ok (.aload_n 1, 1) := dk_43 (dk_at dksX4_init_1 14 rfl rfl)
theorem dX4_init_38 : decode cX4_init 38 = .ok (.putfield 28, 3) := dk_181 0 28 (dk_at dksX4_init_1 15 rfl rfl)
theorem dX4_init_41 : decode cX4_init 41 = .ok (.aload_n 0, 1) := dk_42 (dk_at dksX4_init_1 18 rfl rfl)
theorem dX4_init_42 : decode cX4_init 42 = .ok (.aload_n 1, 1) := dk_43 (dk_at dksX4_init_1 19 rfl rfl)
theorem dX4_init_43 : decode cX4_init 43 = .ok (.getfield 32, 3) := dk_180 0 32 (dk_at dksX4_init_1 20 rfl rfl)
theorem dX4_init_46 : decode cX4_init 46 = .ok (.invokevirtual 36, 3) := dk_182 0 36 (dk_at dksX4_init_2 0 rfl rfl)
theorem dX4_init_49 : decode cX4_init 49 = .ok (.newarray .int, 2) := dk_188_10 (dk_at dksX4_init_2 3 rfl rfl)
theorem dX4_init_51 : decode cX4_init 51 = .ok (.putfield 42, 3) := dk_181 0 42 (dk_at dksX4_init_2 5 rfl rfl)
theorem dX4_init_54 : decode cX4_init 54 = .ok (.aload_n 0, 1) := dk_42 (dk_at dksX4_init_2 8 rfl rfl)
theorem dX4_init_55 : decode cX4_init 55 = .ok (.aload_n 1, 1) := dk_43 (dk_at dksX4_init_2 9 rfl rfl)
theorem dX4_init_56 : decode cX4_init 56 = .ok (.getfield 32, 3) := dk_180 0 32 (dk_at dksX4_init_2 10 rfl rfl)
theorem dX4_init_59 : decode cX4_init 59 = .ok (.invokevirtual 36, 3) := dk_182 0 36 (dk_at dksX4_init_2 13 rfl rfl)
theorem dX4_init_62 : decode cX4_init 62 = .ok (.newarray .int, 2) := dk_188_10 (dk_at dksX4_init_2 16 rfl rfl)
theorem dX4_init_64 : decode cX4_init 64 = .ok (.putfield 45, 3) := dk_181 0 45 (dk_at dksX4_init_2 18 rfl rfl)
theorem dX4_init_67 : decode cX4_init 67 = .ok (.return_, 1) := dk_177 (dk_at dksX4_init_2 21 rfl rfl)
abbrev cX4_begin : ByteArray := prog_8_method_2_code
def yX4_begin : MethodName := ⟨RX4, "begin", "(II)V"⟩
def dkwX4_begin_4 : List UInt8 := [182, 0, 73, 192, 0, 77, 180, 0, 79, 79, 132, 3, 1, 167, 255, 216, 177]
abbrev dktX4_begin_4 : List UInt8 := dkwX4_begin_4 ++ []
def dkwX4_begin_3 : List UInt8 := [180, 0, 68, 182, 0, 36, 162, 0, 32, 42, 180, 0, 9, 29, 42, 180, 0, 27, 180, 0, 68, 29]
abbrev dktX4_begin_3 : List UInt8 := dkwX4_begin_3 ++ dktX4_begin_4
def dkwX4_begin_2 : List UInt8 := [16, 247, 79, 42, 180, 0, 45, 29, 16, 247, 79, 132, 3, 1, 167, 255, 228, 3, 62, 29, 42, 180, 0, 27]
abbrev dktX4_begin_2 : List UInt8 := dkwX4_begin_2 ++ dktX4_begin_3
def dkwX4_begin_1 : List UInt8 := [181, 0, 62, 42, 3, 181, 0, 65, 3, 62, 29, 42, 180, 0, 42, 190, 162, 0, 25, 42, 180, 0, 42, 29]
abbrev dktX4_begin_1 : List UInt8 := dkwX4_begin_1 ++ dktX4_begin_2
def dkwX4_begin_0 : List UInt8 := [42, 27, 181, 0, 48, 42, 28, 181, 0, 52, 42, 3, 181, 0, 55, 42, 3, 181, 0, 58, 42, 3]
abbrev dktX4_begin_0 : List UInt8 := dkwX4_begin_0 ++ dktX4_begin_1
theorem dksX4_begin_0 : cX4_begin.data.toList.drop 0 = dktX4_begin_0 := by decide +kernel
theorem dksX4_begin_1 : cX4_begin.data.toList.drop 22 = dktX4_begin_1 := dk_seg dksX4_begin_0 22 rfl rfl
theorem dksX4_begin_2 : cX4_begin.data.toList.drop 46 = dktX4_begin_2 := dk_seg dksX4_begin_1 24 rfl rfl
theorem dksX4_begin_3 : cX4_begin.data.toList.drop 70 = dktX4_begin_3 := dk_seg dksX4_begin_2 24 rfl rfl
theorem dksX4_begin_4 : cX4_begin.data.toList.drop 92 = dktX4_begin_4 := dk_seg dksX4_begin_3 22 rfl rfl
theorem dX4_begin_0 : decode cX4_begin 0 = .ok (.aload_n 0, 1) := dk_42 (dk_at dksX4_begin_0 0 rfl rfl)
theorem dX4_begin_1 : decode cX4_begin 1 = .ok (.iload_n 1, 1) := dk_27 (dk_at dksX4_begin_0 1 rfl rfl)
theorem dX4_begin_2 : decode cX4_begin 2 = .ok (.putfield 48, 3) := dk_181 0 48 (dk_at dksX4_begin_0 2 rfl rfl)
theorem dX4_begin_5 : decode cX4_begin 5 = .ok (.aload_n 0, 1) := dk_42 (dk_at dksX4_begin_0 5 rfl rfl)
theorem dX4_begin_6 : decode cX4_begin 6 = .ok (.iload_n 2, 1) := dk_28 (dk_at dksX4_begin_0 6 rfl rfl)
theorem dX4_begin_7 : decode cX4_begin 7 = .ok (.putfield 52, 3) := dk_181 0 52 (dk_at dksX4_begin_0 7 rfl rfl)
theorem dX4_begin_10 : decode cX4_begin 10 = .ok (.aload_n 0, 1) := dk_42 (dk_at dksX4_begin_0 10 rfl rfl)
theorem dX4_begin_11 : decode cX4_begin 11 = .ok (.iconst 0, 1) := dk_3 (dk_at dksX4_begin_0 11 rfl rfl)
theorem dX4_begin_12 : decode cX4_begin 12 = .ok (.putfield 55, 3) := dk_181 0 55 (dk_at dksX4_begin_0 12 rfl rfl)
theorem dX4_begin_15 : decode cX4_begin 15 = .ok (.aload_n 0, 1) := dk_42 (dk_at dksX4_begin_0 15 rfl rfl)
theorem dX4_begin_16 : decode cX4_begin 16 = .ok (.iconst 0, 1) := dk_3 (dk_at dksX4_begin_0 16 rfl rfl)
theorem dX4_begin_17 : decode cX4_begin 17 = .ok (.putfield 58, 3) := dk_181 0 58 (dk_at dksX4_begin_0 17 rfl rfl)
theorem dX4_begin_20 : decode cX4_begin 20 = .ok (.aload_n 0, 1) := dk_42 (dk_at dksX4_begin_0 20 rfl rfl)
theorem dX4_begin_21 : decode cX4_begin 21 = .ok (.iconst 0, 1) := dk_3 (dk_at dksX4_begin_0 21 rfl rfl)
theorem dX4_begin_22 : decode cX4_begin 22 = .ok (.putfield 62, 3) := dk_181 0 62 (dk_at dksX4_begin_1 0 rfl rfl)
theorem dX4_begin_25 : decode cX4_begin 25 = .ok (.aload_n 0, 1) := dk_42 (dk_at dksX4_begin_1 3 rfl rfl)
theorem dX4_begin_26 : decode cX4_begin 26 = .ok (.iconst 0, 1) := dk_3 (dk_at dksX4_begin_1 4 rfl rfl)
theorem dX4_begin_27 : decode cX4_begin 27 = .ok (.putfield 65, 3) := dk_181 0 65 (dk_at dksX4_begin_1 5 rfl rfl)
theorem dX4_begin_30 : decode cX4_begin 30 = .ok (.iconst 0, 1) := dk_3 (dk_at dksX4_begin_1 8 rfl rfl)
theorem dX4_begin_31 : decode cX4_begin 31 = .ok (.istore_n 3, 1) := dk_62 (dk_at dksX4_begin_1 9 rfl rfl)
theorem dX4_begin_32 : decode cX4_begin 32 = .ok (.iload_n 3, 1) := dk_29 (dk_at dksX4_begin_1 10 rfl rfl)
theorem dX4_begin_33 : decode cX4_begin 33 = .ok (.aload_n 0, 1) := dk_42 (dk_at dksX4_begin_1 11 rfl rfl)
theorem dX4_begin_34 : decode cX4_begin 34 = .ok (.getfield 42, 3) := dk_180 0 42 (dk_at dksX4_begin_1 12 rfl rfl)
theorem dX4_begin_37 : decode cX4_begin 37 = .ok (.arraylength, 1) := dk_190 (dk_at dksX4_begin_1 15 rfl rfl)
theorem dX4_begin_38 : decode cX4_begin 38 = .ok (.if_icmp .ge 25, 3) := dk_162 0 25 (dk_at dksX4_begin_1 16 rfl rfl)
theorem dX4_begin_41 : decode cX4_begin 41 = .ok (.aload_n 0, 1) := dk_42 (dk_at dksX4_begin_1 19 rfl rfl)
theorem dX4_begin_42 : decode cX4_begin 42 = .ok (.getfield 42, 3) := dk_180 0 42 (dk_at dksX4_begin_1 20 rfl rfl)
theorem dX4_begin_45 : decode cX4_begin 45 = .ok (.iload_n 3, 1) := dk_29 (dk_at dksX4_begin_1 23 rfl rfl)
theorem dX4_begin_46 : decode cX4_begin 46 = .ok (.bipush (-9), 2) := dk_16 247 (dk_at dksX4_begin_2 0 rfl rfl)
theorem dX4_begin_48 : decode cX4_begin 48 = .ok (.iastore, 1) := dk_79 (dk_at dksX4_begin_2 2 rfl rfl)
theorem dX4_begin_49 : decode cX4_begin 49 = .ok (.aload_n 0, 1) := dk_42 (dk_at dksX4_begin_2 3 rfl rfl)
theorem dX4_begin_50 : decode cX4_begin 50 = .ok (.getfield 45, 3) := dk_180 0 45 (dk_at dksX4_begin_2 4 rfl rfl)
theorem dX4_begin_53 : decode cX4_begin 53 = .ok (.iload_n 3, 1) := dk_29 (dk_at dksX4_begin_2 7 rfl rfl)
theorem dX4_begin_54 : decode cX4_begin 54 = .ok (.bipush (-9), 2) := dk_16 247 (dk_at dksX4_begin_2 8 rfl rfl)
theorem dX4_begin_56 : decode cX4_begin 56 = .ok (.iastore, 1) := dk_79 (dk_at dksX4_begin_2 10 rfl rfl)
theorem dX4_begin_57 : decode cX4_begin 57 = .ok (.iinc 3 1, 3) := dk_132 3 1 (dk_at dksX4_begin_2 11 rfl rfl)
theorem dX4_begin_60 : decode cX4_begin 60 = .ok (.goto (-28), 3) := dk_167 255 228 (dk_at dksX4_begin_2 14 rfl rfl)
theorem dX4_begin_63 : decode cX4_begin 63 = .ok (.iconst 0, 1) := dk_3 (dk_at dksX4_begin_2 17 rfl rfl)
theorem dX4_begin_64 : decode cX4_begin 64 = .ok (.istore_n 3, 1) := dk_62 (dk_at dksX4_begin_2 18 rfl rfl)
theorem dX4_begin_65 : decode cX4_begin 65 = .ok (.iload_n 3, 1) := dk_29 (dk_at dksX4_begin_2 19 rfl rfl)
theorem dX4_begin_66 : decode cX4_begin 66 = .ok (.aload_n 0, 1) := dk_42 (dk_at dksX4_begin_2 20 rfl rfl)
theorem dX4_begin_67 : decode cX4_begin 67 = .ok (.getfield 27, 3) := dk_180 0 27 (dk_at dksX4_begin_2 21 rfl rfl)
theorem dX4_begin_70 : decode cX4_begin 70 = .ok (.getfield 68, 3) := dk_180 0 68 (dk_at dksX4_begin_3 0 rfl rfl)
theorem dX4_begin_73 : decode cX4_begin 73 = .ok (.invokevirtual 36, 3) := dk_182 0 36 (dk_at dksX4_begin_3 3 rfl rfl)
theorem dX4_begin_76 : decode cX4_begin 76 = .ok (.if_icmp .ge 32, 3) := dk_162 0 32 (dk_at dksX4_begin_3 6 rfl rfl)
theorem dX4_begin_79 : decode cX4_begin 79 = .ok (.aload_n 0, 1) := dk_42 (dk_at dksX4_begin_3 9 rfl rfl)
theorem dX4_begin_80 : decode cX4_begin 80 = .ok (.getfield 9, 3) := dk_180 0 9 (dk_at dksX4_begin_3 10 rfl rfl)
theorem dX4_begin_83 : decode cX4_begin 83 = .ok (.iload_n 3, 1) := dk_29 (dk_at dksX4_begin_3 13 rfl rfl)
theorem dX4_begin_84 : decode cX4_begin 84 = .ok (.aload_n 0, 1) := dk_42 (dk_at dksX4_begin_3 14 rfl rfl)
theorem dX4_begin_85 : decode cX4_begin 85 = .ok (.getfield 27, 3) := dk_180 0 27 (dk_at dksX4_begin_3 15 rfl rfl)
theorem dX4_begin_88 : decode cX4_begin 88 = .ok (.getfield 68, 3) := dk_180 0 68 (dk_at dksX4_begin_3 18 rfl rfl)
theorem dX4_begin_91 : decode cX4_begin 91 = .ok (.iload_n 3, 1) := dk_29 (dk_at dksX4_begin_3 21 rfl rfl)
theorem dX4_begin_92 : decode cX4_begin 92 = .ok (.invokevirtual 73, 3) := dk_182 0 73 (dk_at dksX4_begin_4 0 rfl rfl)
theorem dX4_begin_95 : decode cX4_begin 95 = .ok (.checkcast 77, 3) := dk_192 0 77 (dk_at dksX4_begin_4 3 rfl rfl)
theorem dX4_begin_98 : decode cX4_begin 98 = .ok (.getfield 79, 3) := dk_180 0 79 (dk_at dksX4_begin_4 6 rfl rfl)
theorem dX4_begin_101 : decode cX4_begin 101 = .ok (.iastore, 1) := dk_79 (dk_at dksX4_begin_4 9 rfl rfl)
theorem dX4_begin_102 : decode cX4_begin 102 = .ok (.iinc 3 1, 3) := dk_132 3 1 (dk_at dksX4_begin_4 10 rfl rfl)
theorem dX4_begin_105 : decode cX4_begin 105 = .ok (.goto (-40), 3) := dk_167 255 216 (dk_at dksX4_begin_4 13 rfl rfl)
theorem dX4_begin_108 : decode cX4_begin 108 = .ok (.return_, 1) := dk_177 (dk_at dksX4_begin_4 16 rfl rfl)
abbrev cX4_passTo : ByteArray := prog_8_method_8_code
def yX4_passTo : MethodName := ⟨RX4, "passTo", "(I)V"⟩
def dkwX4_passTo_0 : List UInt8 := [3, 61, 28, 27, 162, 0, 14, 42, 28, 182, 0, 142, 132, 2, 1, 167, 255, 243, 177]
abbrev dktX4_passTo_0 : List UInt8 := dkwX4_passTo_0 ++ []
theorem dksX4_passTo_0 : cX4_passTo.data.toList.drop 0 = dktX4_passTo_0 := by decide +kernel
theorem dX4_passTo_0 : decode cX4_passTo 0 = .ok (.iconst 0, 1) := dk_3 (dk_at dksX4_passTo_0 0 rfl rfl)
theorem dX4_passTo_1 : decode cX4_passTo 1 = .ok (.istore_n 2, 1) := dk_61 (dk_at dksX4_passTo_0 1 rfl rfl)
theorem dX4_passTo_2 : decode cX4_passTo 2 = .ok (.iload_n 2, 1) := dk_28 (dk_at dksX4_passTo_0 2 rfl rfl)
theorem dX4_passTo_3 : decode cX4_passTo 3 = .ok (.iload_n 1, 1) := dk_27 (dk_at dksX4_passTo_0 3 rfl rfl)
theorem dX4_passTo_4 : decode cX4_passTo 4 = .ok (.if_icmp .ge 14, 3) := dk_162 0 14 (dk_at dksX4_passTo_0 4 rfl rfl)
theorem dX4_passTo_7 : decode cX4_passTo 7 = .ok (.aload_n 0, 1) := dk_42 (dk_at dksX4_passTo_0 7 rfl rfl)
theorem dX4_passTo_8 : decode cX4_passTo 8 = .ok (.iload_n 2, 1) := dk_28 (dk_at dksX4_passTo_0 8 rfl rfl)
theorem dX4_passTo_9 : decode cX4_passTo 9 = .ok (.invokevirtual 142, 3) := dk_182 0 142 (dk_at dksX4_passTo_0 9 rfl rfl)
theorem dX4_passTo_12 : decode cX4_passTo 12 = .ok (.iinc 2 1, 3) := dk_132 2 1 (dk_at dksX4_passTo_0 12 rfl rfl)
theorem dX4_passTo_15 : decode cX4_passTo 15 = .ok (.goto (-13), 3) := dk_167 255 243 (dk_at dksX4_passTo_0 15 rfl rfl)
theorem dX4_passTo_18 : decode cX4_passTo 18 = .ok (.return_, 1) := dk_177 (dk_at dksX4_passTo_0 18 rfl rfl)
abbrev cX4_pass : ByteArray := prog_8_method_7_code
def yX4_pass : MethodName := ⟨RX4, "pass", "(I)V"⟩
def dkwX4_pass_6 : List UInt8 := [181, 0, 58, 42, 180, 0, 58, 153, 0, 8, 42, 28, 182, 0, 138, 132, 2, 1, 167, 255, 109, 177]
abbrev dktX4_pass_6 : List UInt8 := dkwX4_pass_6 ++ []
def dkwX4_pass_5 : List UInt8 := [180, 0, 131, 153, 0, 7, 4, 167, 0, 4, 3, 96, 181, 0, 62, 42, 45, 42, 180, 0, 55, 184, 0, 134]
abbrev dktX4_pass_5 : List UInt8 := dkwX4_pass_5 ++ dktX4_pass_6
def dkwX4_pass_4 : List UInt8 := [21, 4, 100, 96, 181, 0, 65, 42, 21, 4, 181, 0, 55, 167, 0, 24, 42, 89, 180, 0, 62, 45]
abbrev dktX4_pass_4 : List UInt8 := dkwX4_pass_4 ++ dktX4_pass_5
def dkwX4_pass_3 : List UInt8 := [180, 0, 45, 42, 180, 0, 15, 21, 4, 46, 28, 79, 42, 89, 180, 0, 65, 42, 180, 0, 55, 4, 100]
abbrev dktX4_pass_3 : List UInt8 := dkwX4_pass_3 ++ dktX4_pass_4
def dkwX4_pass_2 : List UInt8 := [182, 0, 127, 54, 4, 21, 4, 155, 0, 56, 42, 180, 0, 42, 28, 42, 180, 0, 15, 21, 4, 46, 79, 42]
abbrev dktX4_pass_2 : List UInt8 := dkwX4_pass_2 ++ dktX4_pass_3
def dkwX4_pass_1 : List UInt8 := [162, 0, 138, 42, 180, 0, 28, 180, 0, 32, 28, 182, 0, 73, 192, 0, 86, 78, 42, 45, 42, 180, 0, 55]
abbrev dktX4_pass_1 : List UInt8 := dkwX4_pass_1 ++ dktX4_pass_2
def dkwX4_pass_0 : List UInt8 := [42, 180, 0, 28, 180, 0, 108, 27, 46, 61, 28, 42, 180, 0, 28, 180, 0, 108, 27, 4, 96, 46]
abbrev dktX4_pass_0 : List UInt8 := dkwX4_pass_0 ++ dktX4_pass_1
theorem dksX4_pass_0 : cX4_pass.data.toList.drop 0 = dktX4_pass_0 := by decide +kernel
theorem dksX4_pass_1 : cX4_pass.data.toList.drop 22 = dktX4_pass_1 := dk_seg dksX4_pass_0 22 rfl rfl
theorem dksX4_pass_2 : cX4_pass.data.toList.drop 46 = dktX4_pass_2 := dk_seg dksX4_pass_1 24 rfl rfl
theorem dksX4_pass_3 : cX4_pass.data.toList.drop 70 = dktX4_pass_3 := dk_seg dksX4_pass_2 24 rfl rfl
theorem dksX4_pass_4 : cX4_pass.data.toList.drop 93 = dktX4_pass_4 := dk_seg dksX4_pass_3 23 rfl rfl
theorem dksX4_pass_5 : cX4_pass.data.toList.drop 115 = dktX4_pass_5 := dk_seg dksX4_pass_4 22 rfl rfl
theorem dksX4_pass_6 : cX4_pass.data.toList.drop 139 = dktX4_pass_6 := dk_seg dksX4_pass_5 24 rfl rfl
theorem dX4_pass_0 : decode cX4_pass 0 = .ok (.aload_n 0, 1) := dk_42 (dk_at dksX4_pass_0 0 rfl rfl)
theorem dX4_pass_1 : decode cX4_pass 1 = .ok (.getfield 28, 3) := dk_180 0 28 (dk_at dksX4_pass_0 1 rfl rfl)
theorem dX4_pass_4 : decode cX4_pass 4 = .ok (.getfield 108, 3) := dk_180 0 108 (dk_at dksX4_pass_0 4 rfl rfl)
theorem dX4_pass_7 : decode cX4_pass 7 = .ok (.iload_n 1, 1) := dk_27 (dk_at dksX4_pass_0 7 rfl rfl)
theorem dX4_pass_8 : decode cX4_pass 8 = .ok (.iaload, 1) := dk_46 (dk_at dksX4_pass_0 8 rfl rfl)
theorem dX4_pass_9 : decode cX4_pass 9 = .ok (.istore_n 2, 1) := dk_61 (dk_at dksX4_pass_0 9 rfl rfl)
theorem dX4_pass_10 : decode cX4_pass 10 = .ok (.iload_n 2, 1) := dk_28 (dk_at dksX4_pass_0 10 rfl rfl)
theorem dX4_pass_11 : decode cX4_pass 11 = .ok (.aload_n 0, 1) := dk_42 (dk_at dksX4_pass_0 11 rfl rfl)
theorem dX4_pass_12 : decode cX4_pass 12 = .ok (.getfield 28, 3) := dk_180 0 28 (dk_at dksX4_pass_0 12 rfl rfl)
theorem dX4_pass_15 : decode cX4_pass 15 = .ok (.getfield 108, 3) := dk_180 0 108 (dk_at dksX4_pass_0 15 rfl rfl)
theorem dX4_pass_18 : decode cX4_pass 18 = .ok (.iload_n 1, 1) := dk_27 (dk_at dksX4_pass_0 18 rfl rfl)
theorem dX4_pass_19 : decode cX4_pass 19 = .ok (.iconst 1, 1) := dk_4 (dk_at dksX4_pass_0 19 rfl rfl)
theorem dX4_pass_20 : decode cX4_pass 20 = .ok (.iadd, 1) := dk_96 (dk_at dksX4_pass_0 20 rfl rfl)
theorem dX4_pass_21 : decode cX4_pass 21 = .ok (.iaload, 1) := dk_46 (dk_at dksX4_pass_0 21 rfl rfl)
theorem dX4_pass_22 : decode cX4_pass 22 = .ok (.if_icmp .ge 138, 3) := dk_162 0 138 (dk_at dksX4_pass_1 0 rfl rfl)
theorem dX4_pass_25 : decode cX4_pass 25 = .ok (.aload_n 0, 1) := dk_42 (dk_at dksX4_pass_1 3 rfl rfl)
theorem dX4_pass_26 : decode cX4_pass 26 = .ok (.getfield 28, 3) := dk_180 0 28 (dk_at dksX4_pass_1 4 rfl rfl)
theorem dX4_pass_29 : decode cX4_pass 29 = .ok (.getfield 32, 3) := dk_180 0 32 (dk_at dksX4_pass_1 7 rfl rfl)
theorem dX4_pass_32 : decode cX4_pass 32 = .ok (.iload_n 2, 1) := dk_28 (dk_at dksX4_pass_1 10 rfl rfl)
theorem dX4_pass_33 : decode cX4_pass 33 = .ok (.invokevirtual 73, 3) := dk_182 0 73 (dk_at dksX4_pass_1 11 rfl rfl)
theorem dX4_pass_36 : decode cX4_pass 36 = .ok (.checkcast 86, 3) := dk_192 0 86 (dk_at dksX4_pass_1 14 rfl rfl)
theorem dX4_pass_39 : decode cX4_pass 39 = .ok (.astore_n 3, 1) := dk_78 (dk_at dksX4_pass_1 17 rfl rfl)
theorem dX4_pass_40 : decode cX4_pass 40 = .ok (.aload_n 0, 1) := dk_42 (dk_at dksX4_pass_1 18 rfl rfl)
theorem dX4_pass_41 : decode cX4_pass 41 = .ok (.aload_n 3, 1) := dk_45 (dk_at dksX4_pass_1 19 rfl rfl)
theorem dX4_pass_42 : decode cX4_pass 42 = .ok (.aload_n 0, 1) := dk_42 (dk_at dksX4_pass_1 20 rfl rfl)
theorem dX4_pass_43 : decode cX4_pass 43 = .ok (.getfield 55, 3) := dk_180 0 55 (dk_at dksX4_pass_1 21 rfl rfl)
theorem dX4_pass_46 : decode cX4_pass 46 = .ok (.invokevirtual 127, 3) := dk_182 0 127 (dk_at dksX4_pass_2 0 rfl rfl)
theorem dX4_pass_49 : decode cX4_pass 49 = .ok (.istore 4, 2) := dk_54 4 (dk_at dksX4_pass_2 3 rfl rfl)
theorem dX4_pass_51 : decode cX4_pass 51 = .ok (.iload 4, 2) := dk_21 4 (dk_at dksX4_pass_2 5 rfl rfl)
theorem dX4_pass_53 : decode cX4_pass 53 = .ok (.ifCond .lt 56, 3) := dk_155 0 56 (dk_at dksX4_pass_2 7 rfl rfl)
theorem dX4_pass_56 : decode cX4_pass 56 = .ok (.aload_n 0, 1) := dk_42 (dk_at dksX4_pass_2 10 rfl rfl)
theorem dX4_pass_57 : decode cX4_pass 57 = .ok (.getfield 42, 3) := dk_180 0 42 (dk_at dksX4_pass_2 11 rfl rfl)
theorem dX4_pass_60 : decode cX4_pass 60 = .ok (.iload_n 2, 1) := dk_28 (dk_at dksX4_pass_2 14 rfl rfl)
theorem dX4_pass_61 : decode cX4_pass 61 = .ok (.aload_n 0, 1) := dk_42 (dk_at dksX4_pass_2 15 rfl rfl)
theorem dX4_pass_62 : decode cX4_pass 62 = .ok (.getfield 15, 3) := dk_180 0 15 (dk_at dksX4_pass_2 16 rfl rfl)
theorem dX4_pass_65 : decode cX4_pass 65 = .ok (.iload 4, 2) := dk_21 4 (dk_at dksX4_pass_2 19 rfl rfl)
theorem dX4_pass_67 : decode cX4_pass 67 = .ok (.iaload, 1) := dk_46 (dk_at dksX4_pass_2 21 rfl rfl)
theorem dX4_pass_68 : decode cX4_pass 68 = .ok (.iastore, 1) := dk_79 (dk_at dksX4_pass_2 22 rfl rfl)
theorem dX4_pass_69 : decode cX4_pass 69 = .ok (.aload_n 0, 1) := dk_42 (dk_at dksX4_pass_2 23 rfl rfl)
theorem dX4_pass_70 : decode cX4_pass 70 = .ok (.getfield 45, 3) := dk_180 0 45 (dk_at dksX4_pass_3 0 rfl rfl)
theorem dX4_pass_73 : decode cX4_pass 73 = .ok (.aload_n 0, 1) := dk_42 (dk_at dksX4_pass_3 3 rfl rfl)
theorem dX4_pass_74 : decode cX4_pass 74 = .ok (.getfield 15, 3) := dk_180 0 15 (dk_at dksX4_pass_3 4 rfl rfl)
theorem dX4_pass_77 : decode cX4_pass 77 = .ok (.iload 4, 2) := dk_21 4 (dk_at dksX4_pass_3 7 rfl rfl)
theorem dX4_pass_79 : decode cX4_pass 79 = .ok (.iaload, 1) := dk_46 (dk_at dksX4_pass_3 9 rfl rfl)
theorem dX4_pass_80 : decode cX4_pass 80 = .ok (.iload_n 2, 1) := dk_28 (dk_at dksX4_pass_3 10 rfl rfl)
theorem dX4_pass_81 : decode cX4_pass 81 = .ok (.iastore, 1) := dk_79 (dk_at dksX4_pass_3 11 rfl rfl)
theorem dX4_pass_82 : decode cX4_pass 82 = .ok (.aload_n 0, 1) := dk_42 (dk_at dksX4_pass_3 12 rfl rfl)
theorem dX4_pass_83 : decode cX4_pass 83 = .ok (.dup, 1) := dk_89 (dk_at dksX4_pass_3 13 rfl rfl)
theorem dX4_pass_84 : decode cX4_pass 84 = .ok (.getfield 65, 3) := dk_180 0 65 (dk_at dksX4_pass_3 14 rfl rfl)
theorem dX4_pass_87 : decode cX4_pass 87 = .ok (.aload_n 0, 1) := dk_42 (dk_at dksX4_pass_3 17 rfl rfl)
theorem dX4_pass_88 : decode cX4_pass 88 = .ok (.getfield 55, 3) := dk_180 0 55 (dk_at dksX4_pass_3 18 rfl rfl)
theorem dX4_pass_91 : decode cX4_pass 91 = .ok (.iconst 1, 1) := dk_4 (dk_at dksX4_pass_3 21 rfl rfl)
theorem dX4_pass_92 : decode cX4_pass 92 = .ok (.isub, 1) := dk_100 (dk_at dksX4_pass_3 22 rfl rfl)
theorem dX4_pass_93 : decode cX4_pass 93 = .ok (.iload 4, 2) := dk_21 4 (dk_at dksX4_pass_4 0 rfl rfl)
theorem dX4_pass_95 : decode cX4_pass 95 = .ok (.isub, 1) := dk_100 (dk_at dksX4_pass_4 2 rfl rfl)
theorem dX4_pass_96 : decode cX4_pass 96 = .ok (.iadd, 1) := dk_96 (dk_at dksX4_pass_4 3 rfl rfl)
theorem dX4_pass_97 : decode cX4_pass 97 = .ok (.putfield 65, 3) := dk_181 0 65 (dk_at dksX4_pass_4 4 rfl rfl)
theorem dX4_pass_100 : decode cX4_pass 100 = .ok (.aload_n 0, 1) := dk_42 (dk_at dksX4_pass_4 7 rfl rfl)
theorem dX4_pass_101 : decode cX4_pass 101 = .ok (.iload 4, 2) := dk_21 4 (dk_at dksX4_pass_4 8 rfl rfl)
theorem dX4_pass_103 : decode cX4_pass 103 = .ok (.putfield 55, 3) := dk_181 0 55 (dk_at dksX4_pass_4 10 rfl rfl)
theorem dX4_pass_106 : decode cX4_pass 106 = .ok (.goto 24, 3) := dk_167 0 24 (dk_at dksX4_pass_4 13 rfl rfl)
theorem dX4_pass_109 : decode cX4_pass 109 = .ok (.aload_n 0, 1) := dk_42 (dk_at dksX4_pass_4 16 rfl rfl)
theorem dX4_pass_110 : decode cX4_pass 110 = .ok (.dup, 1) := dk_89 (dk_at dksX4_pass_4 17 rfl rfl)
theorem dX4_pass_111 : decode cX4_pass 111 = .ok (.getfield 62, 3) := dk_180 0 62 (dk_at dksX4_pass_4 18 rfl rfl)
theorem dX4_pass_114 : decode cX4_pass 114 = .ok (.aload_n 3, 1) := dk_45 (dk_at dksX4_pass_4 21 rfl rfl)
theorem dX4_pass_115 : decode cX4_pass 115 = .ok (.getfield 131, 3) := dk_180 0 131 (dk_at dksX4_pass_5 0 rfl rfl)
theorem dX4_pass_118 : decode cX4_pass 118 = .ok (.ifCond .eq 7, 3) := dk_153 0 7 (dk_at dksX4_pass_5 3 rfl rfl)
theorem dX4_pass_121 : decode cX4_pass 121 = .ok (.iconst 1, 1) := dk_4 (dk_at dksX4_pass_5 6 rfl rfl)
theorem dX4_pass_122 : decode cX4_pass 122 = .ok (.goto 4, 3) := dk_167 0 4 (dk_at dksX4_pass_5 7 rfl rfl)
theorem dX4_pass_125 : decode cX4_pass 125 = .ok (.iconst 0, 1) := dk_3 (dk_at dksX4_pass_5 10 rfl rfl)
theorem dX4_pass_126 : decode cX4_pass 126 = .ok (.iadd, 1) := dk_96 (dk_at dksX4_pass_5 11 rfl rfl)
theorem dX4_pass_127 : decode cX4_pass 127 = .ok (.putfield 62, 3) := dk_181 0 62 (dk_at dksX4_pass_5 12 rfl rfl)
theorem dX4_pass_130 : decode cX4_pass 130 = .ok (.aload_n 0, 1) := dk_42 (dk_at dksX4_pass_5 15 rfl rfl)
theorem dX4_pass_131 : decode cX4_pass 131 = .ok (.aload_n 3, 1) := dk_45 (dk_at dksX4_pass_5 16 rfl rfl)
theorem dX4_pass_132 : decode cX4_pass 132 = .ok (.aload_n 0, 1) := dk_42 (dk_at dksX4_pass_5 17 rfl rfl)
theorem dX4_pass_133 : decode cX4_pass 133 = .ok (.getfield 55, 3) := dk_180 0 55 (dk_at dksX4_pass_5 18 rfl rfl)
theorem dX4_pass_136 : decode cX4_pass 136 = .ok (.invokestatic 134, 3) := dk_184 0 134 (dk_at dksX4_pass_5 21 rfl rfl)
theorem dX4_pass_139 : decode cX4_pass 139 = .ok (.putfield 58, 3) := dk_181 0 58 (dk_at dksX4_pass_6 0 rfl rfl)
theorem dX4_pass_142 : decode cX4_pass 142 = .ok (.aload_n 0, 1) := dk_42 (dk_at dksX4_pass_6 3 rfl rfl)
theorem dX4_pass_143 : decode cX4_pass 143 = .ok (.getfield 58, 3) := dk_180 0 58 (dk_at dksX4_pass_6 4 rfl rfl)
theorem dX4_pass_146 : decode cX4_pass 146 = .ok (.ifCond .eq 8, 3) := dk_153 0 8 (dk_at dksX4_pass_6 7 rfl rfl)
theorem dX4_pass_149 : decode cX4_pass 149 = .ok (.aload_n 0, 1) := dk_42 (dk_at dksX4_pass_6 10 rfl rfl)
theorem dX4_pass_150 : decode cX4_pass 150 = .ok (.iload_n 2, 1) := dk_28 (dk_at dksX4_pass_6 11 rfl rfl)
theorem dX4_pass_151 : decode cX4_pass 151 = .ok (.invokevirtual 138, 3) := dk_182 0 138 (dk_at dksX4_pass_6 12 rfl rfl)
theorem dX4_pass_154 : decode cX4_pass 154 = .ok (.iinc 2 1, 3) := dk_132 2 1 (dk_at dksX4_pass_6 15 rfl rfl)
theorem dX4_pass_157 : decode cX4_pass 157 = .ok (.goto (-147), 3) := dk_167 255 109 (dk_at dksX4_pass_6 18 rfl rfl)
theorem dX4_pass_160 : decode cX4_pass 160 = .ok (.return_, 1) := dk_177 (dk_at dksX4_pass_6 21 rfl rfl)
abbrev cX4_closes : ByteArray := prog_8_method_4_code
def yX4_closes : MethodName := ⟨RX4, "closes", "(LAutoIndenter$Token;I)I"⟩
def dkwX4_closes_3 : List UInt8 := [167, 255, 220, 29, 156, 0, 8, 16, 247, 167, 0, 4, 29, 172]
abbrev dktX4_closes_3 : List UInt8 := dkwX4_closes_3 ++ []
def dkwX4_closes_2 : List UInt8 := [182, 0, 91, 180, 0, 105, 42, 29, 182, 0, 91, 180, 0, 105, 161, 0, 6, 16, 247, 172, 132, 4, 1]
abbrev dktX4_closes_2 : List UInt8 := dkwX4_closes_2 ++ dktX4_closes_3
def dkwX4_closes_1 : List UInt8 := [132, 3, 255, 167, 255, 234, 29, 4, 96, 54, 4, 29, 155, 0, 38, 21, 4, 28, 162, 0, 32, 42, 21, 4]
abbrev dktX4_closes_1 : List UInt8 := dkwX4_closes_1 ++ dktX4_closes_2
def dkwX4_closes_0 : List UInt8 := [28, 4, 100, 62, 29, 155, 0, 24, 42, 29, 182, 0, 91, 43, 180, 0, 95, 182, 0, 99, 154, 0, 9]
abbrev dktX4_closes_0 : List UInt8 := dkwX4_closes_0 ++ dktX4_closes_1
theorem dksX4_closes_0 : cX4_closes.data.toList.drop 0 = dktX4_closes_0 := by decide +kernel
theorem dksX4_closes_1 : cX4_closes.data.toList.drop 23 = dktX4_closes_1 := dk_seg dksX4_closes_0 23 rfl rfl
theorem dksX4_closes_2 : cX4_closes.data.toList.drop 47 = dktX4_closes_2 := dk_seg dksX4_closes_1 24 rfl rfl
theorem dksX4_closes_3 : cX4_closes.data.toList.drop 70 = dktX4_closes_3 := dk_seg dksX4_closes_2 23 rfl rfl
theorem dX4_closes_0 : decode cX4_closes 0 = .ok (.iload_n 2, 1) := dk_28 (dk_at dksX4_closes_0 0 rfl rfl)
theorem dX4_closes_1 : decode cX4_closes 1 = .ok (.iconst 1, 1) := dk_4 (dk_at dksX4_closes_0 1 rfl rfl)
theorem dX4_closes_2 : decode cX4_closes 2 = .ok (.isub, 1) := dk_100 (dk_at dksX4_closes_0 2 rfl rfl)
theorem dX4_closes_3 : decode cX4_closes 3 = .ok (.istore_n 3, 1) := dk_62 (dk_at dksX4_closes_0 3 rfl rfl)
theorem dX4_closes_4 : decode cX4_closes 4 = .ok (.iload_n 3, 1) := dk_29 (dk_at dksX4_closes_0 4 rfl rfl)
theorem dX4_closes_5 : decode cX4_closes 5 = .ok (.ifCond .lt 24, 3) := dk_155 0 24 (dk_at dksX4_closes_0 5 rfl rfl)
theorem dX4_closes_8 : decode cX4_closes 8 = .ok (.aload_n 0, 1) := dk_42 (dk_at dksX4_closes_0 8 rfl rfl)
theorem dX4_closes_9 : decode cX4_closes 9 = .ok (.iload_n 3, 1) := dk_29 (dk_at dksX4_closes_0 9 rfl rfl)
theorem dX4_closes_10 : decode cX4_closes 10 = .ok (.invokevirtual 91, 3) := dk_182 0 91 (dk_at dksX4_closes_0 10 rfl rfl)
theorem dX4_closes_13 : decode cX4_closes 13 = .ok (.aload_n 1, 1) := dk_43 (dk_at dksX4_closes_0 13 rfl rfl)
theorem dX4_closes_14 : decode cX4_closes 14 = .ok (.getfield 95, 3) := dk_180 0 95 (dk_at dksX4_closes_0 14 rfl rfl)
theorem dX4_closes_17 : decode cX4_closes 17 = .ok (.invokevirtual 99, 3) := dk_182 0 99 (dk_at dksX4_closes_0 17 rfl rfl)
theorem dX4_closes_20 : decode cX4_closes 20 = .ok (.ifCond .ne 9, 3) := dk_154 0 9 (dk_at dksX4_closes_0 20 rfl rfl)
theorem dX4_closes_23 : decode cX4_closes 23 = .ok (.iinc 3 (-1), 3) := dk_132 3 255 (dk_at dksX4_closes_1 0 rfl rfl)
theorem dX4_closes_26 : decode cX4_closes 26 = .ok (.goto (-22), 3) := dk_167 255 234 (dk_at dksX4_closes_1 3 rfl rfl)
theorem dX4_closes_29 : decode cX4_closes 29 = .ok (.iload_n 3, 1) := dk_29 (dk_at dksX4_closes_1 6 rfl rfl)
theorem dX4_closes_30 : decode cX4_closes 30 = .ok (.iconst 1, 1) := dk_4 (dk_at dksX4_closes_1 7 rfl rfl)
theorem dX4_closes_31 : decode cX4_closes 31 = .ok (.iadd, 1) := dk_96 (dk_at dksX4_closes_1 8 rfl rfl)
theorem dX4_closes_32 : decode cX4_closes 32 = .ok (.istore 4, 2) := dk_54 4 (dk_at dksX4_closes_1 9 rfl rfl)
theorem dX4_closes_34 : decode cX4_closes 34 = .ok (.iload_n 3, 1) := dk_29 (dk_at dksX4_closes_1 11 rfl rfl)
theorem dX4_closes_35 : decode cX4_closes 35 = .ok (.ifCond .lt 38, 3) := dk_155 0 38 (dk_at dksX4_closes_1 12 rfl rfl)
theorem dX4_closes_38 : decode cX4_closes 38 = .ok (.iload 4, 2) := dk_21 4 (dk_at dksX4_closes_1 15 rfl rfl)
theorem dX4_closes_40 : decode cX4_closes 40 = .ok (.iload_n 2, 1) := dk_28 (dk_at dksX4_closes_1 17 rfl rfl)
theorem dX4_closes_41 : decode cX4_closes 41 = .ok (.if_icmp .ge 32, 3) := dk_162 0 32 (dk_at dksX4_closes_1 18 rfl rfl)
theorem dX4_closes_44 : decode cX4_closes 44 = .ok (.aload_n 0, 1) := dk_42 (dk_at dksX4_closes_1 21 rfl rfl)
theorem dX4_closes_45 : decode cX4_closes 45 = .ok (.iload 4, 2) := dk_21 4 (dk_at dksX4_closes_1 22 rfl rfl)
theorem dX4_closes_47 : decode cX4_closes 47 = .ok (.invokevirtual 91, 3) := dk_182 0 91 (dk_at dksX4_closes_2 0 rfl rfl)
theorem dX4_closes_50 : decode cX4_closes 50 = .ok (.getfield 105, 3) := dk_180 0 105 (dk_at dksX4_closes_2 3 rfl rfl)
theorem dX4_closes_53 : decode cX4_closes 53 = .ok (.aload_n 0, 1) := dk_42 (dk_at dksX4_closes_2 6 rfl rfl)
theorem dX4_closes_54 : decode cX4_closes 54 = .ok (.iload_n 3, 1) := dk_29 (dk_at dksX4_closes_2 7 rfl rfl)
theorem dX4_closes_55 : decode cX4_closes 55 = .ok (.invokevirtual 91, 3) := dk_182 0 91 (dk_at dksX4_closes_2 8 rfl rfl)
theorem dX4_closes_58 : decode cX4_closes 58 = .ok (.getfield 105, 3) := dk_180 0 105 (dk_at dksX4_closes_2 11 rfl rfl)
theorem dX4_closes_61 : decode cX4_closes 61 = .ok (.if_icmp .lt 6, 3) := dk_161 0 6 (dk_at dksX4_closes_2 14 rfl rfl)
theorem dX4_closes_64 : decode cX4_closes 64 = .ok (.bipush (-9), 2) := dk_16 247 (dk_at dksX4_closes_2 17 rfl rfl)
theorem dX4_closes_66 : decode cX4_closes 66 = .ok (.ireturn, 1) := dk_172 (dk_at dksX4_closes_2 19 rfl rfl)
theorem dX4_closes_67 : decode cX4_closes 67 = .ok (.iinc 4 1, 3) := dk_132 4 1 (dk_at dksX4_closes_2 20 rfl rfl)
theorem dX4_closes_70 : decode cX4_closes 70 = .ok (.goto (-36), 3) := dk_167 255 220 (dk_at dksX4_closes_3 0 rfl rfl)
theorem dX4_closes_73 : decode cX4_closes 73 = .ok (.iload_n 3, 1) := dk_29 (dk_at dksX4_closes_3 3 rfl rfl)
theorem dX4_closes_74 : decode cX4_closes 74 = .ok (.ifCond .ge 8, 3) := dk_156 0 8 (dk_at dksX4_closes_3 4 rfl rfl)
theorem dX4_closes_77 : decode cX4_closes 77 = .ok (.bipush (-9), 2) := dk_16 247 (dk_at dksX4_closes_3 7 rfl rfl)
theorem dX4_closes_79 : decode cX4_closes 79 = .ok (.goto 4, 3) := dk_167 0 4 (dk_at dksX4_closes_3 9 rfl rfl)
theorem dX4_closes_82 : decode cX4_closes 82 = .ok (.iload_n 3, 1) := dk_29 (dk_at dksX4_closes_3 12 rfl rfl)
theorem dX4_closes_83 : decode cX4_closes 83 = .ok (.ireturn, 1) := dk_172 (dk_at dksX4_closes_3 13 rfl rfl)
abbrev cX4_ruleOf : ByteArray := prog_8_method_3_code
def yX4_ruleOf : MethodName := ⟨RX4, "ruleOf", "(I)LAutoIndenter$Rule;"⟩
def dkwX4_ruleOf_1 : List UInt8 := [192, 0, 86, 180, 0, 88, 50, 176]
abbrev dktX4_ruleOf_1 : List UInt8 := dkwX4_ruleOf_1 ++ []
def dkwX4_ruleOf_0 : List UInt8 := [42, 180, 0, 27, 180, 0, 82, 42, 180, 0, 28, 180, 0, 32, 42, 180, 0, 15, 27, 46, 182, 0, 73]
abbrev dktX4_ruleOf_0 : List UInt8 := dkwX4_ruleOf_0 ++ dktX4_ruleOf_1
theorem dksX4_ruleOf_0 : cX4_ruleOf.data.toList.drop 0 = dktX4_ruleOf_0 := by decide +kernel
theorem dksX4_ruleOf_1 : cX4_ruleOf.data.toList.drop 23 = dktX4_ruleOf_1 := dk_seg dksX4_ruleOf_0 23 rfl rfl
theorem dX4_ruleOf_0 : decode cX4_ruleOf 0 = .ok (.aload_n 0, 1) := dk_42 (dk_at dksX4_ruleOf_0 0 rfl rfl)
theorem dX4_ruleOf_1 : decode cX4_ruleOf 1 = .ok (.getfield 27, 3) := dk_180 0 27 (dk_at dksX4_ruleOf_0 1 rfl rfl)
theorem dX4_ruleOf_4 : decode cX4_ruleOf 4 = .ok (.getfield 82, 3) := dk_180 0 82 (dk_at dksX4_ruleOf_0 4 rfl rfl)
theorem dX4_ruleOf_7 : decode cX4_ruleOf 7 = .ok (.aload_n 0, 1) := dk_42 (dk_at dksX4_ruleOf_0 7 rfl rfl)
theorem dX4_ruleOf_8 : decode cX4_ruleOf 8 = .ok (.getfield 28, 3) := dk_180 0 28 (dk_at dksX4_ruleOf_0 8 rfl rfl)
theorem dX4_ruleOf_11 : decode cX4_ruleOf 11 = .ok (.getfield 32, 3) := dk_180 0 32 (dk_at dksX4_ruleOf_0 11 rfl rfl)
theorem dX4_ruleOf_14 : decode cX4_ruleOf 14 = .ok (.aload_n 0, 1) := dk_42 (dk_at dksX4_ruleOf_0 14 rfl rfl)
theorem dX4_ruleOf_15 : decode cX4_ruleOf 15 = .ok (.getfield 15, 3) := dk_180 0 15 (dk_at dksX4_ruleOf_0 15 rfl rfl)
theorem dX4_ruleOf_18 : decode cX4_ruleOf 18 = .ok (.iload_n 1, 1) := dk_27 (dk_at dksX4_ruleOf_0 18 rfl rfl)
theorem dX4_ruleOf_19 : decode cX4_ruleOf 19 = .ok (.iaload, 1) := dk_46 (dk_at dksX4_ruleOf_0 19 rfl rfl)
theorem dX4_ruleOf_20 : decode cX4_ruleOf 20 = .ok (.invokevirtual 73, 3) := dk_182 0 73 (dk_at dksX4_ruleOf_0 20 rfl rfl)
theorem dX4_ruleOf_23 : decode cX4_ruleOf 23 = .ok (.checkcast 86, 3) := dk_192 0 86 (dk_at dksX4_ruleOf_1 0 rfl rfl)
theorem dX4_ruleOf_26 : decode cX4_ruleOf 26 = .ok (.getfield 88, 3) := dk_180 0 88 (dk_at dksX4_ruleOf_1 3 rfl rfl)
theorem dX4_ruleOf_29 : decode cX4_ruleOf 29 = .ok (.aaload, 1) := dk_50 (dk_at dksX4_ruleOf_1 6 rfl rfl)
theorem dX4_ruleOf_30 : decode cX4_ruleOf 30 = .ok (.areturn, 1) := dk_176 (dk_at dksX4_ruleOf_1 7 rfl rfl)
abbrev cX4_opens : ByteArray := prog_8_method_5_code
def yX4_opens : MethodName := ⟨RX4, "opens", "(LAutoIndenter$Token;I)Z"⟩
def dkwX4_opens_0 : List UInt8 := [42, 180, 0, 88, 16, 247, 159, 0, 13, 27, 16, 12, 162, 0, 7, 4, 167, 0, 4, 3, 172]
abbrev dktX4_opens_0 : List UInt8 := dkwX4_opens_0 ++ []
theorem dksX4_opens_0 : cX4_opens.data.toList.drop 0 = dktX4_opens_0 := by decide +kernel
theorem dX4_opens_0 : decode cX4_opens 0 = .ok (.aload_n 0, 1) := dk_42 (dk_at dksX4_opens_0 0 rfl rfl)
theorem dX4_opens_1 : decode cX4_opens 1 = .ok (.getfield 88, 3) := dk_180 0 88 (dk_at dksX4_opens_0 1 rfl rfl)
theorem dX4_opens_4 : decode cX4_opens 4 = .ok (.bipush (-9), 2) := dk_16 247 (dk_at dksX4_opens_0 4 rfl rfl)
theorem dX4_opens_6 : decode cX4_opens 6 = .ok (.if_icmp .eq 13, 3) := dk_159 0 13 (dk_at dksX4_opens_0 6 rfl rfl)
theorem dX4_opens_9 : decode cX4_opens 9 = .ok (.iload_n 1, 1) := dk_27 (dk_at dksX4_opens_0 9 rfl rfl)
theorem dX4_opens_10 : decode cX4_opens 10 = .ok (.bipush 12, 2) := dk_16 12 (dk_at dksX4_opens_0 10 rfl rfl)
theorem dX4_opens_12 : decode cX4_opens 12 = .ok (.if_icmp .ge 7, 3) := dk_162 0 7 (dk_at dksX4_opens_0 12 rfl rfl)
theorem dX4_opens_15 : decode cX4_opens 15 = .ok (.iconst 1, 1) := dk_4 (dk_at dksX4_opens_0 15 rfl rfl)
theorem dX4_opens_16 : decode cX4_opens 16 = .ok (.goto 4, 3) := dk_167 0 4 (dk_at dksX4_opens_0 16 rfl rfl)
theorem dX4_opens_19 : decode cX4_opens 19 = .ok (.iconst 0, 1) := dk_3 (dk_at dksX4_opens_0 19 rfl rfl)
theorem dX4_opens_20 : decode cX4_opens 20 = .ok (.ireturn, 1) := dk_172 (dk_at dksX4_opens_0 20 rfl rfl)
abbrev cX4_push : ByteArray := prog_8_method_6_code
def yX4_push : MethodName := ⟨RX4, "push", "(I)V"⟩
def dkwX4_push_6 : List UInt8 := [180, 0, 120, 42, 180, 0, 48, 104, 96, 184, 0, 123, 79, 42, 89, 180, 0, 55, 4, 96, 181, 0, 55, 177]
abbrev dktX4_push_6 : List UInt8 := dkwX4_push_6 ++ []
def dkwX4_push_5 : List UInt8 := [182, 0, 73, 192, 0, 86, 180, 0, 117, 96, 167, 0, 25, 42, 180, 0, 9, 44, 180, 0, 111, 46, 45]
abbrev dktX4_push_5 : List UInt8 := dkwX4_push_5 ++ dktX4_push_6
def dkwX4_push_4 : List UInt8 := [21, 5, 153, 0, 35, 42, 180, 0, 9, 44, 180, 0, 111, 46, 42, 180, 0, 28, 180, 0, 32, 27, 4, 96]
abbrev dktX4_push_4 : List UInt8 := dkwX4_push_4 ++ dktX4_push_5
def dkwX4_push_3 : List UInt8 := [167, 0, 4, 3, 54, 5, 42, 180, 0, 15, 42, 180, 0, 55, 27, 79, 42, 180, 0, 18, 42, 180, 0, 55]
abbrev dktX4_push_3 : List UInt8 := dkwX4_push_3 ++ dktX4_push_4
def dkwX4_push_2 : List UInt8 := [162, 0, 7, 4, 167, 0, 4, 3, 54, 4, 45, 180, 0, 114, 4, 160, 0, 12, 21, 4, 153, 0, 7, 4]
abbrev dktX4_push_2 : List UInt8 := dkwX4_push_2 ++ dktX4_push_3
def dkwX4_push_1 : List UInt8 := [180, 0, 88, 50, 78, 27, 4, 96, 42, 180, 0, 28, 180, 0, 108, 44, 180, 0, 111, 4, 96, 46]
abbrev dktX4_push_1 : List UInt8 := dkwX4_push_1 ++ dktX4_push_2
def dkwX4_push_0 : List UInt8 := [42, 180, 0, 28, 180, 0, 32, 27, 182, 0, 73, 192, 0, 86, 77, 42, 180, 0, 27, 180, 0, 82, 44]
abbrev dktX4_push_0 : List UInt8 := dkwX4_push_0 ++ dktX4_push_1
theorem dksX4_push_0 : cX4_push.data.toList.drop 0 = dktX4_push_0 := by decide +kernel
theorem dksX4_push_1 : cX4_push.data.toList.drop 23 = dktX4_push_1 := dk_seg dksX4_push_0 23 rfl rfl
theorem dksX4_push_2 : cX4_push.data.toList.drop 45 = dktX4_push_2 := dk_seg dksX4_push_1 22 rfl rfl
theorem dksX4_push_3 : cX4_push.data.toList.drop 69 = dktX4_push_3 := dk_seg dksX4_push_2 24 rfl rfl
theorem dksX4_push_4 : cX4_push.data.toList.drop 93 = dktX4_push_4 := dk_seg dksX4_push_3 24 rfl rfl
theorem dksX4_push_5 : cX4_push.data.toList.drop 117 = dktX4_push_5 := dk_seg dksX4_push_4 24 rfl rfl
theorem dksX4_push_6 : cX4_push.data.toList.drop 140 = dktX4_push_6 := dk_seg dksX4_push_5 23 rfl rfl
theorem dX4_push_0 : decode cX4_push 0 = .ok (.aload_n 0, 1) := dk_42 (dk_at dksX4_push_0 0 rfl rfl)
theorem dX4_push_1 : decode cX4_push 1 = .ok (.getfield 28, 3) := dk_180 0 28 (dk_at dksX4_push_0 1 rfl rfl)
theorem dX4_push_4 : decode cX4_push 4 = .ok (.getfield 32, 3) := dk_180 0 32 (dk_at dksX4_push_0 4 rfl rfl)
theorem dX4_push_7 : decode cX4_push 7 = .ok (.iload_n 1, 1) := dk_27 (dk_at dksX4_push_0 7 rfl rfl)
theorem dX4_push_8 : decode cX4_push 8 = .ok (.invokevirtual 73, 3) := dk_182 0 73 (dk_at dksX4_push_0 8 rfl rfl)
theorem dX4_push_11 : decode cX4_push 11 = .ok (.checkcast 86, 3) := dk_192 0 86 (dk_at dksX4_push_0 11 rfl rfl)
theorem dX4_push_14 : decode cX4_push 14 = .ok (.astore_n 2, 1) := dk_77 (dk_at dksX4_push_0 14 rfl rfl)
theorem dX4_push_15 : decode cX4_push 15 = .ok (.aload_n 0, 1) := dk_42 (dk_at dksX4_push_0 15 rfl rfl)
theorem dX4_push_16 : decode cX4_push 16 = .ok (.getfield 27, 3) := dk_180 0 27 (dk_at dksX4_push_0 16 rfl rfl)
theorem dX4_push_19 : decode cX4_push 19 = .ok (.getfield 82, 3) := dk_180 0 82 (dk_at dksX4_push_0 19 rfl rfl)
theorem dX4_push_22 : decode cX4_push 22 = .ok (.aload_n 2, 1) := dk_44 (dk_at dksX4_push_0 22 rfl rfl)
theorem dX4_push_23 : decode cX4_push 23 = .ok (.getfield 88, 3) := dk_180 0 88 (dk_at dksX4_push_1 0 rfl rfl)
theorem dX4_push_26 : decode cX4_push 26 = .ok (.aaload, 1) := dk_50 (dk_at dksX4_push_1 3 rfl rfl)
theorem dX4_push_27 : decode cX4_push 27 = .ok (.astore_n 3, 1) := dk_78 (dk_at dksX4_push_1 4 rfl rfl)
theorem dX4_push_28 : decode cX4_push 28 = .ok (.iload_n 1, 1) := dk_27 (dk_at dksX4_push_1 5 rfl rfl)
theorem dX4_push_29 : decode cX4_push 29 = .ok (.iconst 1, 1) := dk_4 (dk_at dksX4_push_1 6 rfl rfl)
theorem dX4_push_30 : decode cX4_push 30 = .ok (.iadd, 1) := dk_96 (dk_at dksX4_push_1 7 rfl rfl)
theorem dX4_push_31 : decode cX4_push 31 = .ok (.aload_n 0, 1) := dk_42 (dk_at dksX4_push_1 8 rfl rfl)
theorem dX4_push_32 : decode cX4_push 32 = .ok (.getfield 28, 3) := dk_180 0 28 (dk_at dksX4_push_1 9 rfl rfl)
theorem dX4_push_35 : decode cX4_push 35 = .ok (.getfield 108, 3) := dk_180 0 108 (dk_at dksX4_push_1 12 rfl rfl)
theorem dX4_push_38 : decode cX4_push 38 = .ok (.aload_n 2, 1) := dk_44 (dk_at dksX4_push_1 15 rfl rfl)
theorem dX4_push_39 : decode cX4_push 39 = .ok (.getfield 111, 3) := dk_180 0 111 (dk_at dksX4_push_1 16 rfl rfl)
theorem dX4_push_42 : decode cX4_push 42 = .ok (.iconst 1, 1) := dk_4 (dk_at dksX4_push_1 19 rfl rfl)
theorem dX4_push_43 : decode cX4_push 43 = .ok (.iadd, 1) := dk_96 (dk_at dksX4_push_1 20 rfl rfl)
theorem dX4_push_44 : decode cX4_push 44 = .ok (.iaload, 1) := dk_46 (dk_at dksX4_push_1 21 rfl rfl)
theorem dX4_push_45 : decode cX4_push 45 = .ok (.if_icmp .ge 7, 3) := dk_162 0 7 (dk_at dksX4_push_2 0 rfl rfl)
theorem dX4_push_48 : decode cX4_push 48 = .ok (.iconst 1, 1) := dk_4 (dk_at dksX4_push_2 3 rfl rfl)
theorem dX4_push_49 : decode cX4_push 49 = .ok (.goto 4, 3) := dk_167 0 4 (dk_at dksX4_push_2 4 rfl rfl)
theorem dX4_push_52 : decode cX4_push 52 = .ok (.iconst 0, 1) := dk_3 (dk_at dksX4_push_2 7 rfl rfl)
theorem dX4_push_53 : decode cX4_push 53 = .ok (.istore 4, 2) := dk_54 4 (dk_at dksX4_push_2 8 rfl rfl)
theorem dX4_push_55 : decode cX4_push 55 = .ok (.aload_n 3, 1) := dk_45 (dk_at dksX4_push_2 10 rfl rfl)
theorem dX4_push_56 : decode cX4_push 56 = .ok (.getfield 114, 3) := dk_180 0 114 (dk_at dksX4_push_2 11 rfl rfl)
theorem dX4_push_59 : decode cX4_push 59 = .ok (.iconst 1, 1) := dk_4 (dk_at dksX4_push_2 14 rfl rfl)
theorem dX4_push_60 : decode cX4_push 60 = .ok (.if_icmp .ne 12, 3) := dk_160 0 12 (dk_at dksX4_push_2 15 rfl rfl)
theorem dX4_push_63 : decode cX4_push 63 = .ok (.iload 4, 2) := dk_21 4 (dk_at dksX4_push_2 18 rfl rfl)
theorem dX4_push_65 : decode cX4_push 65 = .ok (.ifCond .eq 7, 3) := dk_153 0 7 (dk_at dksX4_push_2 20 rfl rfl)
theorem dX4_push_68 : decode cX4_push 68 = .ok (.iconst 1, 1) := dk_4 (dk_at dksX4_push_2 23 rfl rfl)
theorem dX4_push_69 : decode cX4_push 69 = .ok (.goto 4, 3) := dk_167 0 4 (dk_at dksX4_push_3 0 rfl rfl)
theorem dX4_push_72 : decode cX4_push 72 = .ok (.iconst 0, 1) := dk_3 (dk_at dksX4_push_3 3 rfl rfl)
theorem dX4_push_73 : decode cX4_push 73 = .ok (.istore 5, 2) := dk_54 5 (dk_at dksX4_push_3 4 rfl rfl)
theorem dX4_push_75 : decode cX4_push 75 = .ok (.aload_n 0, 1) := dk_42 (dk_at dksX4_push_3 6 rfl rfl)
theorem dX4_push_76 : decode cX4_push 76 = .ok (.getfield 15, 3) := dk_180 0 15 (dk_at dksX4_push_3 7 rfl rfl)
theorem dX4_push_79 : decode cX4_push 79 = .ok (.aload_n 0, 1) := dk_42 (dk_at dksX4_push_3 10 rfl rfl)
theorem dX4_push_80 : decode cX4_push 80 = .ok (.getfield 55, 3) := dk_180 0 55 (dk_at dksX4_push_3 11 rfl rfl)
theorem dX4_push_83 : decode cX4_push 83 = .ok (.iload_n 1, 1) := dk_27 (dk_at dksX4_push_3 14 rfl rfl)
theorem dX4_push_84 : decode cX4_push 84 = .ok (.iastore, 1) := dk_79 (dk_at dksX4_push_3 15 rfl rfl)
theorem dX4_push_85 : decode cX4_push 85 = .ok (.aload_n 0, 1) := dk_42 (dk_at dksX4_push_3 16 rfl rfl)
theorem dX4_push_86 : decode cX4_push 86 = .ok (.getfield 18, 3) := dk_180 0 18 (dk_at dksX4_push_3 17 rfl rfl)
theorem dX4_push_89 : decode cX4_push 89 = .ok (.aload_n 0, 1) := dk_42 (dk_at dksX4_push_3 20 rfl rfl)
theorem dX4_push_90 : decode cX4_push 90 = .ok (.getfield 55, 3) := dk_180 0 55 (dk_at dksX4_push_3 21 rfl rfl)
theorem dX4_push_93 : decode cX4_push 93 = .ok (.iload 5, 2) := dk_21 5 (dk_at dksX4_push_4 0 rfl rfl)
theorem dX4_push_95 : decode cX4_push 95 = .ok (.ifCond .eq 35, 3) := dk_153 0 35 (dk_at dksX4_push_4 2 rfl rfl)
theorem dX4_push_98 : decode cX4_push 98 = .ok (.aload_n 0, 1) := dk_42 (dk_at dksX4_push_4 5 rfl rfl)
theorem dX4_push_99 : decode cX4_push 99 = .ok (.getfield 9, 3) := dk_180 0 9 (dk_at dksX4_push_4 6 rfl rfl)
theorem dX4_push_102 : decode cX4_push 102 = .ok (.aload_n 2, 1) := dk_44 (dk_at dksX4_push_4 9 rfl rfl)
theorem dX4_push_103 : decode cX4_push 103 = .ok (.getfield 111, 3) := dk_180 0 111 (dk_at dksX4_push_4 10 rfl rfl)
theorem dX4_push_106 : decode cX4_push 106 = .ok (.iaload, 1) := dk_46 (dk_at dksX4_push_4 13 rfl rfl)
theorem dX4_push_107 : decode cX4_push 107 = .ok (.aload_n 0, 1) := dk_42 (dk_at dksX4_push_4 14 rfl rfl)
theorem dX4_push_108 : decode cX4_push 108 = .ok (.getfield 28, 3) := dk_180 0 28 (dk_at dksX4_push_4 15 rfl rfl)
theorem dX4_push_111 : decode cX4_push 111 = .ok (.getfield 32, 3) := dk_180 0 32 (dk_at dksX4_push_4 18 rfl rfl)
theorem dX4_push_114 : decode cX4_push 114 = .ok (.iload_n 1, 1) := dk_27 (dk_at dksX4_push_4 21 rfl rfl)
theorem dX4_push_115 : decode cX4_push 115 = .ok (.iconst 1, 1) := dk_4 (dk_at dksX4_push_4 22 rfl rfl)
theorem dX4_push_116 : decode cX4_push 116 = .ok (.iadd, 1) := dk_96 (dk_at dksX4_push_4 23 rfl rfl)
theorem dX4_push_117 : decode cX4_push 117 = .ok (.invokevirtual 73, 3) := dk_182 0 73 (dk_at dksX4_push_5 0 rfl rfl)
theorem dX4_push_120 : decode cX4_push 120 = .ok (.checkcast 86, 3) := dk_192 0 86 (dk_at dksX4_push_5 3 rfl rfl)
theorem dX4_push_123 : decode cX4_push 123 = .ok (.getfield 117, 3) := dk_180 0 117 (dk_at dksX4_push_5 6 rfl rfl)
theorem dX4_push_126 : decode cX4_push 126 = .ok (.iadd, 1) := dk_96 (dk_at dksX4_push_5 9 rfl rfl)
theorem dX4_push_127 : decode cX4_push 127 = .ok (.goto 25, 3) := dk_167 0 25 (dk_at dksX4_push_5 10 rfl rfl)
theorem dX4_push_130 : decode cX4_push 130 = .ok (.aload_n 0, 1) := dk_42 (dk_at dksX4_push_5 13 rfl rfl)
theorem dX4_push_131 : decode cX4_push 131 = .ok (.getfield 9, 3) := dk_180 0 9 (dk_at dksX4_push_5 14 rfl rfl)
theorem dX4_push_134 : decode cX4_push 134 = .ok (.aload_n 2, 1) := dk_44 (dk_at dksX4_push_5 17 rfl rfl)
theorem dX4_push_135 : decode cX4_push 135 = .ok (.getfield 111, 3) := dk_180 0 111 (dk_at dksX4_push_5 18 rfl rfl)
theorem dX4_push_138 : decode cX4_push 138 = .ok (.iaload, 1) := dk_46 (dk_at dksX4_push_5 21 rfl rfl)
theorem dX4_push_139 : decode cX4_push 139 = .ok (.aload_n 3, 1) := dk_45 (dk_at dksX4_push_5 22 rfl rfl)
theorem dX4_push_140 : decode cX4_push 140 = .ok (.getfield 120, 3) := dk_180 0 120 (dk_at dksX4_push_6 0 rfl rfl)
theorem dX4_push_143 : decode cX4_push 143 = .ok (.aload_n 0, 1) := dk_42 (dk_at dksX4_push_6 3 rfl rfl)
theorem dX4_push_144 : decode cX4_push 144 = .ok (.getfield 48, 3) := dk_180 0 48 (dk_at dksX4_push_6 4 rfl rfl)
theorem dX4_push_147 : decode cX4_push 147 = .ok (.imul, 1) := dk_104 (dk_at dksX4_push_6 7 rfl rfl)
theorem dX4_push_148 : decode cX4_push 148 = .ok (.iadd, 1) := dk_96 (dk_at dksX4_push_6 8 rfl rfl)
theorem dX4_push_149 : decode cX4_push 149 = .ok (.invokestatic 123, 3) := dk_184 0 123 (dk_at dksX4_push_6 9 rfl rfl)
theorem dX4_push_152 : decode cX4_push 152 = .ok (.iastore, 1) := dk_79 (dk_at dksX4_push_6 12 rfl rfl)
theorem dX4_push_153 : decode cX4_push 153 = .ok (.aload_n 0, 1) := dk_42 (dk_at dksX4_push_6 13 rfl rfl)
theorem dX4_push_154 : decode cX4_push 154 = .ok (.dup, 1) := dk_89 (dk_at dksX4_push_6 14 rfl rfl)
theorem dX4_push_155 : decode cX4_push 155 = .ok (.getfield 55, 3) := dk_180 0 55 (dk_at dksX4_push_6 15 rfl rfl)
theorem dX4_push_158 : decode cX4_push 158 = .ok (.iconst 1, 1) := dk_4 (dk_at dksX4_push_6 18 rfl rfl)
theorem dX4_push_159 : decode cX4_push 159 = .ok (.iadd, 1) := dk_96 (dk_at dksX4_push_6 19 rfl rfl)
theorem dX4_push_160 : decode cX4_push 160 = .ok (.putfield 55, 3) := dk_181 0 55 (dk_at dksX4_push_6 20 rfl rfl)
theorem dX4_push_163 : decode cX4_push 163 = .ok (.return_, 1) := dk_177 (dk_at dksX4_push_6 23 rfl rfl)
abbrev cX4_isDecided : ByteArray := prog_8_method_13_code
def yX4_isDecided : MethodName := ⟨RX4, "isDecided", "(I)Z"⟩
def dkwX4_isDecided_1 : List UInt8 := [180, 0, 183, 27, 51, 154, 0, 7, 4, 167, 0, 4, 3, 172]
abbrev dktX4_isDecided_1 : List UInt8 := dkwX4_isDecided_1 ++ []
def dkwX4_isDecided_0 : List UInt8 := [42, 180, 0, 27, 180, 0, 68, 27, 182, 0, 73, 192, 0, 77, 182, 0, 179, 154, 0, 19, 42, 180, 0, 28]
abbrev dktX4_isDecided_0 : List UInt8 := dkwX4_isDecided_0 ++ dktX4_isDecided_1
theorem dksX4_isDecided_0 : cX4_isDecided.data.toList.drop 0 = dktX4_isDecided_0 := by decide +kernel
theorem dksX4_isDecided_1 : cX4_isDecided.data.toList.drop 24 = dktX4_isDecided_1 := dk_seg dksX4_isDecided_0 24 rfl rfl
theorem dX4_isDecided_0 : decode cX4_isDecided 0 = .ok (.aload_n 0, 1) := dk_42 (dk_at dksX4_isDecided_0 0 rfl rfl)
theorem dX4_isDecided_1 : decode cX4_isDecided 1 = .ok (.getfield 27, 3) := dk_180 0 27 (dk_at dksX4_isDecided_0 1 rfl rfl)
theorem dX4_isDecided_4 : decode cX4_isDecided 4 = .ok (.getfield 68, 3) := dk_180 0 68 (dk_at dksX4_isDecided_0 4 rfl rfl)
theorem dX4_isDecided_7 : decode cX4_isDecided 7 = .ok (.iload_n 1, 1) := dk_27 (dk_at dksX4_isDecided_0 7 rfl rfl)
theorem dX4_isDecided_8 : decode cX4_isDecided 8 = .ok (.invokevirtual 73, 3) := dk_182 0 73 (dk_at dksX4_isDecided_0 8 rfl rfl)
theorem dX4_isDecided_11 : decode cX4_isDecided 11 = .ok (.checkcast 77, 3) := dk_192 0 77 (dk_at dksX4_isDecided_0 11 rfl rfl)
theorem dX4_isDecided_14 : decode cX4_isDecided 14 = .ok (.invokevirtual 179, 3) := dk_182 0 179 (dk_at dksX4_isDecided_0 14 rfl rfl)
theorem dX4_isDecided_17 : decode cX4_isDecided 17 = .ok (.ifCond .ne 19, 3) := dk_154 0 19 (dk_at dksX4_isDecided_0 17 rfl rfl)
theorem dX4_isDecided_20 : decode cX4_isDecided 20 = .ok (.aload_n 0, 1) := dk_42 (dk_at dksX4_isDecided_0 20 rfl rfl)
theorem dX4_isDecided_21 : decode cX4_isDecided 21 = .ok (.getfield 28, 3) := dk_180 0 28 (dk_at dksX4_isDecided_0 21 rfl rfl)
theorem dX4_isDecided_24 : decode cX4_isDecided 24 = .ok (.getfield 183, 3) := dk_180 0 183 (dk_at dksX4_isDecided_1 0 rfl rfl)
theorem dX4_isDecided_27 : decode cX4_isDecided 27 = .ok (.iload_n 1, 1) := dk_27 (dk_at dksX4_isDecided_1 3 rfl rfl)
theorem dX4_isDecided_28 : decode cX4_isDecided 28 = .ok (.baload, 1) := dk_51 (dk_at dksX4_isDecided_1 4 rfl rfl)
theorem dX4_isDecided_29 : decode cX4_isDecided 29 = .ok (.ifCond .ne 7, 3) := dk_154 0 7 (dk_at dksX4_isDecided_1 5 rfl rfl)
theorem dX4_isDecided_32 : decode cX4_isDecided 32 = .ok (.iconst 1, 1) := dk_4 (dk_at dksX4_isDecided_1 8 rfl rfl)
theorem dX4_isDecided_33 : decode cX4_isDecided 33 = .ok (.goto 4, 3) := dk_167 0 4 (dk_at dksX4_isDecided_1 9 rfl rfl)
theorem dX4_isDecided_36 : decode cX4_isDecided 36 = .ok (.iconst 0, 1) := dk_3 (dk_at dksX4_isDecided_1 12 rfl rfl)
theorem dX4_isDecided_37 : decode cX4_isDecided 37 = .ok (.ireturn, 1) := dk_172 (dk_at dksX4_isDecided_1 13 rfl rfl)
abbrev cX4_decide : ByteArray := prog_8_method_10_code
def yX4_decide : MethodName := ⟨RX4, "decide", "(I)V"⟩
def dkwX4_decide_20 : List UInt8 := [96, 8, 21, 9, 182, 0, 161, 42, 42, 180, 0, 145, 184, 0, 123, 181, 0, 145, 177]
abbrev dktX4_decide_20 : List UInt8 := dkwX4_decide_20 ++ []
def dkwX4_decide_19 : List UInt8 := [164, 0, 31, 42, 21, 5, 42, 180, 0, 27, 180, 0, 82, 21, 9, 50, 180, 0, 120, 42, 180, 0, 48, 104]
abbrev dktX4_decide_19 : List UInt8 := dkwX4_decide_19 ++ dktX4_decide_20
def dkwX4_decide_18 : List UInt8 := [21, 9, 16, 247, 159, 0, 49, 42, 180, 0, 27, 180, 0, 82, 21, 9, 50, 180, 0, 105, 21, 6]
abbrev dktX4_decide_18 : List UInt8 := dkwX4_decide_18 ++ dktX4_decide_19
def dkwX4_decide_17 : List UInt8 := [180, 0, 108, 27, 46, 4, 100, 182, 0, 73, 192, 0, 86, 180, 0, 174, 167, 0, 5, 16, 247, 54, 9]
abbrev dktX4_decide_17 : List UInt8 := dkwX4_decide_17 ++ dktX4_decide_18
def dkwX4_decide_16 : List UInt8 := [46, 158, 0, 40, 42, 180, 0, 58, 154, 0, 33, 42, 180, 0, 28, 180, 0, 32, 42, 180, 0, 28]
abbrev dktX4_decide_16 : List UInt8 := dkwX4_decide_16 ++ dktX4_decide_17
def dkwX4_decide_15 : List UInt8 := [180, 0, 48, 104, 96, 7, 21, 8, 182, 0, 161, 21, 7, 153, 0, 52, 42, 180, 0, 28, 180, 0, 108, 27]
abbrev dktX4_decide_15 : List UInt8 := dkwX4_decide_15 ++ dktX4_decide_16
def dkwX4_decide_14 : List UInt8 := [180, 0, 105, 54, 6, 42, 21, 5, 42, 180, 0, 27, 180, 0, 82, 21, 8, 50, 180, 0, 120, 42]
abbrev dktX4_decide_14 : List UInt8 := dkwX4_decide_14 ++ dktX4_decide_15
def dkwX4_decide_13 : List UInt8 := [180, 0, 82, 21, 8, 50, 180, 0, 105, 21, 6, 164, 0, 46, 42, 180, 0, 27, 180, 0, 82, 21, 8, 50]
abbrev dktX4_decide_13 : List UInt8 := dkwX4_decide_13 ++ dktX4_decide_14
def dkwX4_decide_12 : List UInt8 := [182, 0, 168, 180, 0, 171, 167, 0, 5, 16, 247, 54, 8, 21, 8, 16, 247, 159, 0, 64, 42, 180, 0, 27]
abbrev dktX4_decide_12 : List UInt8 := dkwX4_decide_12 ++ dktX4_decide_13
def dkwX4_decide_11 : List UInt8 := [182, 0, 165, 158, 0, 7, 4, 167, 0, 4, 3, 54, 7, 21, 7, 153, 0, 18, 42, 180, 0, 28, 27, 3]
abbrev dktX4_decide_11 : List UInt8 := dkwX4_decide_11 ++ dktX4_decide_12
def dkwX4_decide_10 : List UInt8 := [180, 0, 15, 29, 46, 182, 0, 73, 192, 0, 86, 180, 0, 88, 182, 0, 161, 42, 180, 0, 28, 27]
abbrev dktX4_decide_10 : List UInt8 := dkwX4_decide_10 ++ dktX4_decide_11
def dkwX4_decide_9 : List UInt8 := [182, 0, 91, 180, 0, 105, 54, 6, 42, 42, 29, 182, 0, 158, 6, 42, 180, 0, 28, 180, 0, 32, 42]
abbrev dktX4_decide_9 : List UInt8 := dkwX4_decide_9 ++ dktX4_decide_10
def dkwX4_decide_8 : List UInt8 := [182, 0, 73, 192, 0, 86, 180, 0, 88, 181, 0, 155, 2, 54, 6, 29, 16, 247, 159, 0, 45, 42, 29]
abbrev dktX4_decide_8 : List UInt8 := dkwX4_decide_8 ++ dktX4_decide_9
def dkwX4_decide_7 : List UInt8 := [154, 0, 8, 16, 247, 167, 0, 27, 42, 180, 0, 28, 180, 0, 32, 42, 180, 0, 15, 28, 4, 100, 46]
abbrev dktX4_decide_7 : List UInt8 := dkwX4_decide_7 ++ dktX4_decide_8
def dkwX4_decide_6 : List UInt8 := [167, 0, 18, 42, 28, 4, 100, 182, 0, 148, 153, 0, 7, 5, 167, 0, 4, 4, 181, 0, 152, 42, 28]
abbrev dktX4_decide_6 : List UInt8 := dkwX4_decide_6 ++ dktX4_decide_7
def dkwX4_decide_5 : List UInt8 := [4, 100, 46, 167, 0, 7, 42, 180, 0, 52, 54, 5, 42, 21, 5, 181, 0, 145, 42, 28, 154, 0, 7, 3]
abbrev dktX4_decide_5 : List UInt8 := dkwX4_decide_5 ++ dktX4_decide_6
def dkwX4_decide_4 : List UInt8 := [155, 0, 9, 21, 7, 61, 21, 7, 62, 132, 5, 1, 167, 255, 173, 28, 158, 0, 14, 42, 180, 0, 18, 28]
abbrev dktX4_decide_4 : List UInt8 := dkwX4_decide_4 ++ dktX4_decide_5
def dkwX4_decide_3 : List UInt8 := [155, 0, 17, 25, 6, 21, 7, 184, 0, 134, 154, 0, 7, 4, 167, 0, 4, 3, 54, 4, 21, 7]
abbrev dktX4_decide_3 : List UInt8 := dkwX4_decide_3 ++ dktX4_decide_4
def dkwX4_decide_2 : List UInt8 := [180, 0, 32, 21, 5, 182, 0, 73, 192, 0, 86, 58, 6, 42, 25, 6, 28, 182, 0, 127, 54, 7, 21, 7]
abbrev dktX4_decide_2 : List UInt8 := dkwX4_decide_2 ++ dktX4_decide_3
def dkwX4_decide_1 : List UInt8 := [42, 180, 0, 28, 180, 0, 108, 27, 4, 96, 46, 162, 0, 73, 21, 4, 153, 0, 68, 42, 180, 0, 28]
abbrev dktX4_decide_1 : List UInt8 := dkwX4_decide_1 ++ dktX4_decide_2
def dkwX4_decide_0 : List UInt8 := [42, 180, 0, 55, 61, 16, 247, 62, 4, 54, 4, 42, 180, 0, 28, 180, 0, 108, 27, 46, 54, 5, 21, 5]
abbrev dktX4_decide_0 : List UInt8 := dkwX4_decide_0 ++ dktX4_decide_1
theorem dksX4_decide_0 : cX4_decide.data.toList.drop 0 = dktX4_decide_0 := by decide +kernel
theorem dksX4_decide_1 : cX4_decide.data.toList.drop 24 = dktX4_decide_1 := dk_seg dksX4_decide_0 24 rfl rfl
theorem dksX4_decide_2 : cX4_decide.data.toList.drop 47 = dktX4_decide_2 := dk_seg dksX4_decide_1 23 rfl rfl
theorem dksX4_decide_3 : cX4_decide.data.toList.drop 71 = dktX4_decide_3 := dk_seg dksX4_decide_2 24 rfl rfl
theorem dksX4_decide_4 : cX4_decide.data.toList.drop 93 = dktX4_decide_4 := dk_seg dksX4_decide_3 22 rfl rfl
theorem dksX4_decide_5 : cX4_decide.data.toList.drop 117 = dktX4_decide_5 := dk_seg dksX4_decide_4 24 rfl rfl
theorem dksX4_decide_6 : cX4_decide.data.toList.drop 141 = dktX4_decide_6 := dk_seg dksX4_decide_5 24 rfl rfl
theorem dksX4_decide_7 : cX4_decide.data.toList.drop 164 = dktX4_decide_7 := dk_seg dksX4_decide_6 23 rfl rfl
theorem dksX4_decide_8 : cX4_decide.data.toList.drop 187 = dktX4_decide_8 := dk_seg dksX4_decide_7 23 rfl rfl
theorem dksX4_decide_9 : cX4_decide.data.toList.drop 210 = dktX4_decide_9 := dk_seg dksX4_decide_8 23 rfl rfl
theorem dksX4_decide_10 : cX4_decide.data.toList.drop 233 = dktX4_decide_10 := dk_seg dksX4_decide_9 23 rfl rfl
theorem dksX4_decide_11 : cX4_decide.data.toList.drop 255 = dktX4_decide_11 := dk_seg dksX4_decide_10 22 rfl rfl
theorem dksX4_decide_12 : cX4_decide.data.toList.drop 279 = dktX4_decide_12 := dk_seg dksX4_decide_11 24 rfl rfl
theorem dksX4_decide_13 : cX4_decide.data.toList.drop 303 = dktX4_decide_13 := dk_seg dksX4_decide_12 24 rfl rfl
theorem dksX4_decide_14 : cX4_decide.data.toList.drop 327 = dktX4_decide_14 := dk_seg dksX4_decide_13 24 rfl rfl
theorem dksX4_decide_15 : cX4_decide.data.toList.drop 349 = dktX4_decide_15 := dk_seg dksX4_decide_14 22 rfl rfl
theorem dksX4_decide_16 : cX4_decide.data.toList.drop 373 = dktX4_decide_16 := dk_seg dksX4_decide_15 24 rfl rfl
theorem dksX4_decide_17 : cX4_decide.data.toList.drop 395 = dktX4_decide_17 := dk_seg dksX4_decide_16 22 rfl rfl
theorem dksX4_decide_18 : cX4_decide.data.toList.drop 418 = dktX4_decide_18 := dk_seg dksX4_decide_17 23 rfl rfl
theorem dksX4_decide_19 : cX4_decide.data.toList.drop 440 = dktX4_decide_19 := dk_seg dksX4_decide_18 22 rfl rfl
theorem dksX4_decide_20 : cX4_decide.data.toList.drop 464 = dktX4_decide_20 := dk_seg dksX4_decide_19 24 rfl rfl
theorem dX4_decide_0 : decode cX4_decide 0 = .ok (.aload_n 0, 1) := dk_42 (dk_at dksX4_decide_0 0 rfl rfl)
theorem dX4_decide_1 : decode cX4_decide 1 = .ok (.getfield 55, 3) := dk_180 0 55 (dk_at dksX4_decide_0 1 rfl rfl)
theorem dX4_decide_4 : decode cX4_decide 4 = .ok (.istore_n 2, 1) := dk_61 (dk_at dksX4_decide_0 4 rfl rfl)
theorem dX4_decide_5 : decode cX4_decide 5 = .ok (.bipush (-9), 2) := dk_16 247 (dk_at dksX4_decide_0 5 rfl rfl)
theorem dX4_decide_7 : decode cX4_decide 7 = .ok (.istore_n 3, 1) := dk_62 (dk_at dksX4_decide_0 7 rfl rfl)
theorem dX4_decide_8 : decode cX4_decide 8 = .ok (.iconst 1, 1) := dk_4 (dk_at dksX4_decide_0 8 rfl rfl)
theorem dX4_decide_9 : decode cX4_decide 9 = .ok (.istore 4, 2) := dk_54 4 (dk_at dksX4_decide_0 9 rfl rfl)
theorem dX4_decide_11 : decode cX4_decide 11 = .ok (.aload_n 0, 1) := dk_42 (dk_at dksX4_decide_0 11 rfl rfl)
theorem dX4_decide_12 : decode cX4_decide 12 = .ok (.getfield 28, 3) := dk_180 0 28 (dk_at dksX4_decide_0 12 rfl rfl)
theorem dX4_decide_15 : decode cX4_decide 15 = .ok (.getfield 108, 3) := dk_180 0 108 (dk_at dksX4_decide_0 15 rfl rfl)
theorem dX4_decide_18 : decode cX4_decide 18 = .ok (.iload_n 1, 1) := dk_27 (dk_at dksX4_decide_0 18 rfl rfl)
theorem dX4_decide_19 : decode cX4_decide 19 = .ok (.iaload, 1) := dk_46 (dk_at dksX4_decide_0 19 rfl rfl)
theorem dX4_decide_20 : decode cX4_decide 20 = .ok (.istore 5, 2) := dk_54 5 (dk_at dksX4_decide_0 20 rfl rfl)
theorem dX4_decide_22 : decode cX4_decide 22 = .ok (.iload 5, 2) := dk_21 5 (dk_at dksX4_decide_0 22 rfl rfl)
theorem dX4_decide_24 : decode cX4_decide 24 = .ok (.aload_n 0, 1) := dk_42 (dk_at dksX4_decide_1 0 rfl rfl)
theorem dX4_decide_25 : decode cX4_decide 25 = .ok (.getfield 28, 3) := dk_180 0 28 (dk_at dksX4_decide_1 1 rfl rfl)
theorem dX4_decide_28 : decode cX4_decide 28 = .ok (.getfield 108, 3) := dk_180 0 108 (dk_at dksX4_decide_1 4 rfl rfl)
theorem dX4_decide_31 : decode cX4_decide 31 = .ok (.iload_n 1, 1) := dk_27 (dk_at dksX4_decide_1 7 rfl rfl)
theorem dX4_decide_32 : decode cX4_decide 32 = .ok (.iconst 1, 1) := dk_4 (dk_at dksX4_decide_1 8 rfl rfl)
theorem dX4_decide_33 : decode cX4_decide 33 = .ok (.iadd, 1) := dk_96 (dk_at dksX4_decide_1 9 rfl rfl)
theorem dX4_decide_34 : decode cX4_decide 34 = .ok (.iaload, 1) := dk_46 (dk_at dksX4_decide_1 10 rfl rfl)
theorem dX4_decide_35 : decode cX4_decide 35 = .ok (.if_icmp .ge 73, 3) := dk_162 0 73 (dk_at dksX4_decide_1 11 rfl rfl)
theorem dX4_decide_38 : decode cX4_decide 38 = .ok (.iload 4, 2) := dk_21 4 (dk_at dksX4_decide_1 14 rfl rfl)
theorem dX4_decide_40 : decode cX4_decide 40 = .ok (.ifCond .eq 68, 3) := dk_153 0 68 (dk_at dksX4_decide_1 16 rfl rfl)
theorem dX4_decide_43 : decode cX4_decide 43 = .ok (.aload_n 0, 1) := dk_42 (dk_at dksX4_decide_1 19 rfl rfl)
theorem dX4_decide_44 : decode cX4_decide 44 = .ok (.getfield 28, 3) := dk_180 0 28 (dk_at dksX4_decide_1 20 rfl rfl)
theorem dX4_decide_47 : decode cX4_decide 47 = .ok (.getfield 32, 3) := dk_180 0 32 (dk_at dksX4_decide_2 0 rfl rfl)
theorem dX4_decide_50 : decode cX4_decide 50 = .ok (.iload 5, 2) := dk_21 5 (dk_at dksX4_decide_2 3 rfl rfl)
theorem dX4_decide_52 : decode cX4_decide 52 = .ok (.invokevirtual 73, 3) := dk_182 0 73 (dk_at dksX4_decide_2 5 rfl rfl)
theorem dX4_decide_55 : decode cX4_decide 55 = .ok (.checkcast 86, 3) := dk_192 0 86 (dk_at dksX4_decide_2 8 rfl rfl)
theorem dX4_decide_58 : decode cX4_decide 58 = .ok (.astore 6, 2) := dk_58 6 (dk_at dksX4_decide_2 11 rfl rfl)
theorem dX4_decide_60 : decode cX4_decide 60 = .ok (.aload_n 0, 1) := dk_42 (dk_at dksX4_decide_2 13 rfl rfl)
theorem dX4_decide_61 : decode cX4_decide 61 = .ok (.aload 6, 2) := dk_25 6 (dk_at dksX4_decide_2 14 rfl rfl)
theorem dX4_decide_63 : decode cX4_decide 63 = .ok (.iload_n 2, 1) := dk_28 (dk_at dksX4_decide_2 16 rfl rfl)
theorem dX4_decide_64 : decode cX4_decide 64 = .ok (.invokevirtual 127, 3) := dk_182 0 127 (dk_at dksX4_decide_2 17 rfl rfl)
theorem dX4_decide_67 : decode cX4_decide 67 = .ok (.istore 7, 2) := dk_54 7 (dk_at dksX4_decide_2 20 rfl rfl)
theorem dX4_decide_69 : decode cX4_decide 69 = .ok (.iload 7, 2) := dk_21 7 (dk_at dksX4_decide_2 22 rfl rfl)
theorem dX4_decide_71 : decode cX4_decide 71 = .ok (.ifCond .lt 17, 3) := dk_155 0 17 (dk_at dksX4_decide_3 0 rfl rfl)
theorem dX4_decide_74 : decode cX4_decide 74 = .ok (.aload 6, 2) := dk_25 6 (dk_at dksX4_decide_3 3 rfl rfl)
theorem dX4_decide_76 : decode cX4_decide 76 = .ok (.iload 7, 2) := dk_21 7 (dk_at dksX4_decide_3 5 rfl rfl)
theorem dX4_decide_78 : decode cX4_decide 78 = .ok (.invokestatic 134, 3) := dk_184 0 134 (dk_at dksX4_decide_3 7 rfl rfl)
theorem dX4_decide_81 : decode cX4_decide 81 = .ok (.ifCond .ne 7, 3) := dk_154 0 7 (dk_at dksX4_decide_3 10 rfl rfl)
theorem dX4_decide_84 : decode cX4_decide 84 = .ok (.iconst 1, 1) := dk_4 (dk_at dksX4_decide_3 13 rfl rfl)
theorem dX4_decide_85 : decode cX4_decide 85 = .ok (.goto 4, 3) := dk_167 0 4 (dk_at dksX4_decide_3 14 rfl rfl)
theorem dX4_decide_88 : decode cX4_decide 88 = .ok (.iconst 0, 1) := dk_3 (dk_at dksX4_decide_3 17 rfl rfl)
theorem dX4_decide_89 : decode cX4_decide 89 = .ok (.istore 4, 2) := dk_54 4 (dk_at dksX4_decide_3 18 rfl rfl)
theorem dX4_decide_91 : decode cX4_decide 91 = .ok (.iload 7, 2) := dk_21 7 (dk_at dksX4_decide_3 20 rfl rfl)
theorem dX4_decide_93 : decode cX4_decide 93 = .ok (.ifCond .lt 9, 3) := dk_155 0 9 (dk_at dksX4_decide_4 0 rfl rfl)
theorem dX4_decide_96 : decode cX4_decide 96 = .ok (.iload 7, 2) := dk_21 7 (dk_at dksX4_decide_4 3 rfl rfl)
theorem dX4_decide_98 : decode cX4_decide 98 = .ok (.istore_n 2, 1) := dk_61 (dk_at dksX4_decide_4 5 rfl rfl)
theorem dX4_decide_99 : decode cX4_decide 99 = .ok (.iload 7, 2) := dk_21 7 (dk_at dksX4_decide_4 6 rfl rfl)
theorem dX4_decide_101 : decode cX4_decide 101 = .ok (.istore_n 3, 1) := dk_62 (dk_at dksX4_decide_4 8 rfl rfl)
theorem dX4_decide_102 : decode cX4_decide 102 = .ok (.iinc 5 1, 3) := dk_132 5 1 (dk_at dksX4_decide_4 9 rfl rfl)
theorem dX4_decide_105 : decode cX4_decide 105 = .ok (.goto (-83), 3) := dk_167 255 173 (dk_at dksX4_decide_4 12 rfl rfl)
theorem dX4_decide_108 : decode cX4_decide 108 = .ok (.iload_n 2, 1) := dk_28 (dk_at dksX4_decide_4 15 rfl rfl)
theorem dX4_decide_109 : decode cX4_decide 109 = .ok (.ifCond .le 14, 3) := dk_158 0 14 (dk_at dksX4_decide_4 16 rfl rfl)
theorem dX4_decide_112 : decode cX4_decide 112 = .ok (.aload_n 0, 1) := dk_42 (dk_at dksX4_decide_4 19 rfl rfl)
theorem dX4_decide_113 : decode cX4_decide 113 = .ok (.getfield 18, 3) := dk_180 0 18 (dk_at dksX4_decide_4 20 rfl rfl)
theorem dX4_decide_116 : decode cX4_decide 116 = .ok (.iload_n 2, 1) := dk_28 (dk_at dksX4_decide_4 23 rfl rfl)
theorem dX4_decide_117 : decode cX4_decide 117 = .ok (.iconst 1, 1) := dk_4 (dk_at dksX4_decide_5 0 rfl rfl)
theorem dX4_decide_118 : decode cX4_decide 118 = .ok (.isub, 1) := dk_100 (dk_at dksX4_decide_5 1 rfl rfl)
theorem dX4_decide_119 : decode cX4_decide 119 = .ok (.iaload, 1) := dk_46 (dk_at dksX4_decide_5 2 rfl rfl)
theorem dX4_decide_120 : decode cX4_decide 120 = .ok (.goto 7, 3) := dk_167 0 7 (dk_at dksX4_decide_5 3 rfl rfl)
theorem dX4_decide_123 : decode cX4_decide 123 = .ok (.aload_n 0, 1) := dk_42 (dk_at dksX4_decide_5 6 rfl rfl)
theorem dX4_decide_124 : decode cX4_decide 124 = .ok (.getfield 52, 3) := dk_180 0 52 (dk_at dksX4_decide_5 7 rfl rfl)
theorem dX4_decide_127 : decode cX4_decide 127 = .ok (.istore 5, 2) := dk_54 5 (dk_at dksX4_decide_5 10 rfl rfl)
theorem dX4_decide_129 : decode cX4_decide 129 = .ok (.aload_n 0, 1) := dk_42 (dk_at dksX4_decide_5 12 rfl rfl)
theorem dX4_decide_130 : decode cX4_decide 130 = .ok (.iload 5, 2) := dk_21 5 (dk_at dksX4_decide_5 13 rfl rfl)
theorem dX4_decide_132 : decode cX4_decide 132 = .ok (.putfield 145, 3) := dk_181 0 145 (dk_at dksX4_decide_5 15 rfl rfl)
theorem dX4_decide_135 : decode cX4_decide 135 = .ok (.aload_n 0, 1) := dk_42 (dk_at dksX4_decide_5 18 rfl rfl)
theorem dX4_decide_136 : decode cX4_decide 136 = .ok (.iload_n 2, 1) := dk_28 (dk_at dksX4_decide_5 19 rfl rfl)
theorem dX4_decide_137 : decode cX4_decide 137 = .ok (.ifCond .ne 7, 3) := dk_154 0 7 (dk_at dksX4_decide_5 20 rfl rfl)
theorem dX4_decide_140 : decode cX4_decide 140 = .ok (.iconst 0, 1) := dk_3 (dk_at dksX4_decide_5 23 rfl rfl)
theorem dX4_decide_141 : decode cX4_decide 141 = .ok (.goto 18, 3) := dk_167 0 18 (dk_at dksX4_decide_6 0 rfl rfl)
theorem dX4_decide_144 : decode cX4_decide 144 = .ok (.aload_n 0, 1) := dk_42 (dk_at dksX4_decide_6 3 rfl rfl)
theorem dX4_decide_145 : decode cX4_decide 145 = .ok (.iload_n 2, 1) := dk_28 (dk_at dksX4_decide_6 4 rfl rfl)
theorem dX4_decide_146 : decode cX4_decide 146 = .ok (.iconst 1, 1) := dk_4 (dk_at dksX4_decide_6 5 rfl rfl)
theorem dX4_decide_147 : decode cX4_decide 147 = .ok (.isub, 1) := dk_100 (dk_at dksX4_decide_6 6 rfl rfl)
theorem dX4_decide_148 : decode cX4_decide 148 = .ok (.invokevirtual 148, 3) := dk_182 0 148 (dk_at dksX4_decide_6 7 rfl rfl)
theorem dX4_decide_151 : decode cX4_decide 151 = .ok (.ifCond .eq 7, 3) := dk_153 0 7 (dk_at dksX4_decide_6 10 rfl rfl)
theorem dX4_decide_154 : decode cX4_decide 154 = .ok (.iconst 2, 1) := dk_5 (dk_at dksX4_decide_6 13 rfl rfl)
theorem dX4_decide_155 : decode cX4_decide 155 = .ok (.goto 4, 3) := dk_167 0 4 (dk_at dksX4_decide_6 14 rfl rfl)
theorem dX4_decide_158 : decode cX4_decide 158 = .ok (.iconst 1, 1) := dk_4 (dk_at dksX4_decide_6 17 rfl rfl)
theorem dX4_decide_159 : decode cX4_decide 159 = .ok (.putfield 152, 3) := dk_181 0 152 (dk_at dksX4_decide_6 18 rfl rfl)
theorem dX4_decide_162 : decode cX4_decide 162 = .ok (.aload_n 0, 1) := dk_42 (dk_at dksX4_decide_6 21 rfl rfl)
theorem dX4_decide_163 : decode cX4_decide 163 = .ok (.iload_n 2, 1) := dk_28 (dk_at dksX4_decide_6 22 rfl rfl)
theorem dX4_decide_164 : decode cX4_decide 164 = .ok (.ifCond .ne 8, 3) := dk_154 0 8 (dk_at dksX4_decide_7 0 rfl rfl)
theorem dX4_decide_167 : decode cX4_decide 167 = .ok (.bipush (-9), 2) := dk_16 247 (dk_at dksX4_decide_7 3 rfl rfl)
theorem dX4_decide_169 : decode cX4_decide 169 = .ok (.goto 27, 3) := dk_167 0 27 (dk_at dksX4_decide_7 5 rfl rfl)
theorem dX4_decide_172 : decode cX4_decide 172 = .ok (.aload_n 0, 1) := dk_42 (dk_at dksX4_decide_7 8 rfl rfl)
theorem dX4_decide_173 : decode cX4_decide 173 = .ok (.getfield 28, 3) := dk_180 0 28 (dk_at dksX4_decide_7 9 rfl rfl)
theorem dX4_decide_176 : decode cX4_decide 176 = .ok (.getfield 32, 3) := dk_180 0 32 (dk_at dksX4_decide_7 12 rfl rfl)
theorem dX4_decide_179 : decode cX4_decide 179 = .ok (.aload_n 0, 1) := dk_42 (dk_at dksX4_decide_7 15 rfl rfl)
theorem dX4_decide_180 : decode cX4_decide 180 = .ok (.getfield 15, 3) := dk_180 0 15 (dk_at dksX4_decide_7 16 rfl rfl)
theorem dX4_decide_183 : decode cX4_decide 183 = .ok (.iload_n 2, 1) := dk_28 (dk_at dksX4_decide_7 19 rfl rfl)
theorem dX4_decide_184 : decode cX4_decide 184 = .ok (.iconst 1, 1) := dk_4 (dk_at dksX4_decide_7 20 rfl rfl)
theorem dX4_decide_185 : decode cX4_decide 185 = .ok (.isub, 1) := dk_100 (dk_at dksX4_decide_7 21 rfl rfl)
theorem dX4_decide_186 : decode cX4_decide 186 = .ok (.iaload, 1) := dk_46 (dk_at dksX4_decide_7 22 rfl rfl)
theorem dX4_decide_187 : decode cX4_decide 187 = .ok (.invokevirtual 73, 3) := dk_182 0 73 (dk_at dksX4_decide_8 0 rfl rfl)
theorem dX4_decide_190 : decode cX4_decide 190 = .ok (.checkcast 86, 3) := dk_192 0 86 (dk_at dksX4_decide_8 3 rfl rfl)
theorem dX4_decide_193 : decode cX4_decide 193 = .ok (.getfield 88, 3) := dk_180 0 88 (dk_at dksX4_decide_8 6 rfl rfl)
theorem dX4_decide_196 : decode cX4_decide 196 = .ok (.putfield 155, 3) := dk_181 0 155 (dk_at dksX4_decide_8 9 rfl rfl)
theorem dX4_decide_199 : decode cX4_decide 199 = .ok (.iconst (-1), 1) := dk_2 (dk_at dksX4_decide_8 12 rfl rfl)
theorem dX4_decide_200 : decode cX4_decide 200 = .ok (.istore 6, 2) := dk_54 6 (dk_at dksX4_decide_8 13 rfl rfl)
theorem dX4_decide_202 : decode cX4_decide 202 = .ok (.iload_n 3, 1) := dk_29 (dk_at dksX4_decide_8 15 rfl rfl)
theorem dX4_decide_203 : decode cX4_decide 203 = .ok (.bipush (-9), 2) := dk_16 247 (dk_at dksX4_decide_8 16 rfl rfl)
theorem dX4_decide_205 : decode cX4_decide 205 = .ok (.if_icmp .eq 45, 3) := dk_159 0 45 (dk_at dksX4_decide_8 18 rfl rfl)
theorem dX4_decide_208 : decode cX4_decide 208 = .ok (.aload_n 0, 1) := dk_42 (dk_at dksX4_decide_8 21 rfl rfl)
theorem dX4_decide_209 : decode cX4_decide 209 = .ok (.iload_n 3, 1) := dk_29 (dk_at dksX4_decide_8 22 rfl rfl)
theorem dX4_decide_210 : decode cX4_decide 210 = .ok (.invokevirtual 91, 3) := dk_182 0 91 (dk_at dksX4_decide_9 0 rfl rfl)
theorem dX4_decide_213 : decode cX4_decide 213 = .ok (.getfield 105, 3) := dk_180 0 105 (dk_at dksX4_decide_9 3 rfl rfl)
theorem dX4_decide_216 : decode cX4_decide 216 = .ok (.istore 6, 2) := dk_54 6 (dk_at dksX4_decide_9 6 rfl rfl)
theorem dX4_decide_218 : decode cX4_decide 218 = .ok (.aload_n 0, 1) := dk_42 (dk_at dksX4_decide_9 8 rfl rfl)
theorem dX4_decide_219 : decode cX4_decide 219 = .ok (.aload_n 0, 1) := dk_42 (dk_at dksX4_decide_9 9 rfl rfl)
theorem dX4_decide_220 : decode cX4_decide 220 = .ok (.iload_n 3, 1) := dk_29 (dk_at dksX4_decide_9 10 rfl rfl)
theorem dX4_decide_221 : decode cX4_decide 221 = .ok (.invokevirtual 158, 3) := dk_182 0 158 (dk_at dksX4_decide_9 11 rfl rfl)
theorem dX4_decide_224 : decode cX4_decide 224 = .ok (.iconst 3, 1) := dk_6 (dk_at dksX4_decide_9 14 rfl rfl)
theorem dX4_decide_225 : decode cX4_decide 225 = .ok (.aload_n 0, 1) := dk_42 (dk_at dksX4_decide_9 15 rfl rfl)
theorem dX4_decide_226 : decode cX4_decide 226 = .ok (.getfield 28, 3) := dk_180 0 28 (dk_at dksX4_decide_9 16 rfl rfl)
theorem dX4_decide_229 : decode cX4_decide 229 = .ok (.getfield 32, 3) := dk_180 0 32 (dk_at dksX4_decide_9 19 rfl rfl)
theorem dX4_decide_232 : decode cX4_decide 232 = .ok (.aload_n 0, 1) := dk_42 (dk_at dksX4_decide_9 22 rfl rfl)
theorem dX4_decide_233 : decode cX4_decide 233 = .ok (.getfield 15, 3) := dk_180 0 15 (dk_at dksX4_decide_10 0 rfl rfl)
theorem dX4_decide_236 : decode cX4_decide 236 = .ok (.iload_n 3, 1) := dk_29 (dk_at dksX4_decide_10 3 rfl rfl)
theorem dX4_decide_237 : decode cX4_decide 237 = .ok (.iaload, 1) := dk_46 (dk_at dksX4_decide_10 4 rfl rfl)
theorem dX4_decide_238 : decode cX4_decide 238 = .ok (.invokevirtual 73, 3) := dk_182 0 73 (dk_at dksX4_decide_10 5 rfl rfl)
theorem dX4_decide_241 : decode cX4_decide 241 = .ok (.checkcast 86, 3) := dk_192 0 86 (dk_at dksX4_decide_10 8 rfl rfl)
theorem dX4_decide_244 : decode cX4_decide 244 = .ok (.getfield 88, 3) := dk_180 0 88 (dk_at dksX4_decide_10 11 rfl rfl)
theorem dX4_decide_247 : decode cX4_decide 247 = .ok (.invokevirtual 161, 3) := dk_182 0 161 (dk_at dksX4_decide_10 14 rfl rfl)
theorem dX4_decide_250 : decode cX4_decide 250 = .ok (.aload_n 0, 1) := dk_42 (dk_at dksX4_decide_10 17 rfl rfl)
theorem dX4_decide_251 : decode cX4_decide 251 = .ok (.getfield 28, 3) := dk_180 0 28 (dk_at dksX4_decide_10 18 rfl rfl)
theorem dX4_decide_254 : decode cX4_decide 254 = .ok (.iload_n 1, 1) := dk_27 (dk_at dksX4_decide_10 21 rfl rfl)
theorem dX4_decide_255 : decode cX4_decide 255 = .ok (.invokevirtual 165, 3) := dk_182 0 165 (dk_at dksX4_decide_11 0 rfl rfl)
theorem dX4_decide_258 : decode cX4_decide 258 = .ok (.ifCond .le 7, 3) := dk_158 0 7 (dk_at dksX4_decide_11 3 rfl rfl)
theorem dX4_decide_261 : decode cX4_decide 261 = .ok (.iconst 1, 1) := dk_4 (dk_at dksX4_decide_11 6 rfl rfl)
theorem dX4_decide_262 : decode cX4_decide 262 = .ok (.goto 4, 3) := dk_167 0 4 (dk_at dksX4_decide_11 7 rfl rfl)
theorem dX4_decide_265 : decode cX4_decide 265 = .ok (.iconst 0, 1) := dk_3 (dk_at dksX4_decide_11 10 rfl rfl)
theorem dX4_decide_266 : decode cX4_decide 266 = .ok (.istore 7, 2) := dk_54 7 (dk_at dksX4_decide_11 11 rfl rfl)
theorem dX4_decide_268 : decode cX4_decide 268 = .ok (.iload 7, 2) := dk_21 7 (dk_at dksX4_decide_11 13 rfl rfl)
theorem dX4_decide_270 : decode cX4_decide 270 = .ok (.ifCond .eq 18, 3) := dk_153 0 18 (dk_at dksX4_decide_11 15 rfl rfl)
theorem dX4_decide_273 : decode cX4_decide 273 = .ok (.aload_n 0, 1) := dk_42 (dk_at dksX4_decide_11 18 rfl rfl)
theorem dX4_decide_274 : decode cX4_decide 274 = .ok (.getfield 28, 3) := dk_180 0 28 (dk_at dksX4_decide_11 19 rfl rfl)
theorem dX4_decide_277 : decode cX4_decide 277 = .ok (.iload_n 1, 1) := dk_27 (dk_at dksX4_decide_11 22 rfl rfl)
theorem dX4_decide_278 : decode cX4_decide 278 = .ok (.iconst 0, 1) := dk_3 (dk_at dksX4_decide_11 23 rfl rfl)
theorem dX4_decide_279 : decode cX4_decide 279 = .ok (.invokevirtual 168, 3) := dk_182 0 168 (dk_at dksX4_decide_12 0 rfl rfl)
theorem dX4_decide_282 : decode cX4_decide 282 = .ok (.getfield 171, 3) := dk_180 0 171 (dk_at dksX4_decide_12 3 rfl rfl)
theorem dX4_decide_285 : decode cX4_decide 285 = .ok (.goto 5, 3) := dk_167 0 5 (dk_at dksX4_decide_12 6 rfl rfl)
theorem dX4_decide_288 : decode cX4_decide 288 = .ok (.bipush (-9), 2) := dk_16 247 (dk_at dksX4_decide_12 9 rfl rfl)
theorem dX4_decide_290 : decode cX4_decide 290 = .ok (.istore 8, 2) := dk_54 8 (dk_at dksX4_decide_12 11 rfl rfl)
theorem dX4_decide_292 : decode cX4_decide 292 = .ok (.iload 8, 2) := dk_21 8 (dk_at dksX4_decide_12 13 rfl rfl)
theorem dX4_decide_294 : decode cX4_decide 294 = .ok (.bipush (-9), 2) := dk_16 247 (dk_at dksX4_decide_12 15 rfl rfl)
theorem dX4_decide_296 : decode cX4_decide 296 = .ok (.if_icmp .eq 64, 3) := dk_159 0 64 (dk_at dksX4_decide_12 17 rfl rfl)
theorem dX4_decide_299 : decode cX4_decide 299 = .ok (.aload_n 0, 1) := dk_42 (dk_at dksX4_decide_12 20 rfl rfl)
theorem dX4_decide_300 : decode cX4_decide 300 = .ok (.getfield 27, 3) := dk_180 0 27 (dk_at dksX4_decide_12 21 rfl rfl)
theorem dX4_decide_303 : decode cX4_decide 303 = .ok (.getfield 82, 3) := dk_180 0 82 (dk_at dksX4_decide_13 0 rfl rfl)
theorem dX4_decide_306 : decode cX4_decide 306 = .ok (.iload 8, 2) := dk_21 8 (dk_at dksX4_decide_13 3 rfl rfl)
theorem dX4_decide_308 : decode cX4_decide 308 = .ok (.aaload, 1) := dk_50 (dk_at dksX4_decide_13 5 rfl rfl)
theorem dX4_decide_309 : decode cX4_decide 309 = .ok (.getfield 105, 3) := dk_180 0 105 (dk_at dksX4_decide_13 6 rfl rfl)
theorem dX4_decide_312 : decode cX4_decide 312 = .ok (.iload 6, 2) := dk_21 6 (dk_at dksX4_decide_13 9 rfl rfl)
theorem dX4_decide_314 : decode cX4_decide 314 = .ok (.if_icmp .le 46, 3) := dk_164 0 46 (dk_at dksX4_decide_13 11 rfl rfl)
theorem dX4_decide_317 : decode cX4_decide 317 = .ok (.aload_n 0, 1) := dk_42 (dk_at dksX4_decide_13 14 rfl rfl)
theorem dX4_decide_318 : decode cX4_decide 318 = .ok (.getfield 27, 3) := dk_180 0 27 (dk_at dksX4_decide_13 15 rfl rfl)
theorem dX4_decide_321 : decode cX4_decide 321 = .ok (.getfield 82, 3) := dk_180 0 82 (dk_at dksX4_decide_13 18 rfl rfl)
theorem dX4_decide_324 : decode cX4_decide 324 = .ok (.iload 8, 2) := dk_21 8 (dk_at dksX4_decide_13 21 rfl rfl)
theorem dX4_decide_326 : decode cX4_decide 326 = .ok (.aaload, 1) := dk_50 (dk_at dksX4_decide_13 23 rfl rfl)
theorem dX4_decide_327 : decode cX4_decide 327 = .ok (.getfield 105, 3) := dk_180 0 105 (dk_at dksX4_decide_14 0 rfl rfl)
theorem dX4_decide_330 : decode cX4_decide 330 = .ok (.istore 6, 2) := dk_54 6 (dk_at dksX4_decide_14 3 rfl rfl)
theorem dX4_decide_332 : decode cX4_decide 332 = .ok (.aload_n 0, 1) := dk_42 (dk_at dksX4_decide_14 5 rfl rfl)
theorem dX4_decide_333 : decode cX4_decide 333 = .ok (.iload 5, 2) := dk_21 5 (dk_at dksX4_decide_14 6 rfl rfl)
theorem dX4_decide_335 : decode cX4_decide 335 = .ok (.aload_n 0, 1) := dk_42 (dk_at dksX4_decide_14 8 rfl rfl)
theorem dX4_decide_336 : decode cX4_decide 336 = .ok (.getfield 27, 3) := dk_180 0 27 (dk_at dksX4_decide_14 9 rfl rfl)
theorem dX4_decide_339 : decode cX4_decide 339 = .ok (.getfield 82, 3) := dk_180 0 82 (dk_at dksX4_decide_14 12 rfl rfl)
theorem dX4_decide_342 : decode cX4_decide 342 = .ok (.iload 8, 2) := dk_21 8 (dk_at dksX4_decide_14 15 rfl rfl)
theorem dX4_decide_344 : decode cX4_decide 344 = .ok (.aaload, 1) := dk_50 (dk_at dksX4_decide_14 17 rfl rfl)
theorem dX4_decide_345 : decode cX4_decide 345 = .ok (.getfield 120, 3) := dk_180 0 120 (dk_at dksX4_decide_14 18 rfl rfl)
theorem dX4_decide_348 : decode cX4_decide 348 = .ok (.aload_n 0, 1) := dk_42 (dk_at dksX4_decide_14 21 rfl rfl)
theorem dX4_decide_349 : decode cX4_decide 349 = .ok (.getfield 48, 3) := dk_180 0 48 (dk_at dksX4_decide_15 0 rfl rfl)
theorem dX4_decide_352 : decode cX4_decide 352 = .ok (.imul, 1) := dk_104 (dk_at dksX4_decide_15 3 rfl rfl)
theorem dX4_decide_353 : decode cX4_decide 353 = .ok (.iadd, 1) := dk_96 (dk_at dksX4_decide_15 4 rfl rfl)
theorem dX4_decide_354 : decode cX4_decide 354 = .ok (.iconst 4, 1) := dk_7 (dk_at dksX4_decide_15 5 rfl rfl)
theorem dX4_decide_355 : decode cX4_decide 355 = .ok (.iload 8, 2) := dk_21 8 (dk_at dksX4_decide_15 6 rfl rfl)
theorem dX4_decide_357 : decode cX4_decide 357 = .ok (.invokevirtual 161, 3) := dk_182 0 161 (dk_at dksX4_decide_15 8 rfl rfl)
theorem dX4_decide_360 : decode cX4_decide 360 = .ok (.iload 7, 2) := dk_21 7 (dk_at dksX4_decide_15 11 rfl rfl)
theorem dX4_decide_362 : decode cX4_decide 362 = .ok (.ifCond .eq 52, 3) := dk_153 0 52 (dk_at dksX4_decide_15 13 rfl rfl)
theorem dX4_decide_365 : decode cX4_decide 365 = .ok (.aload_n 0, 1) := dk_42 (dk_at dksX4_decide_15 16 rfl rfl)
theorem dX4_decide_366 : decode cX4_decide 366 = .ok (.getfield 28, 3) := dk_180 0 28 (dk_at dksX4_decide_15 17 rfl rfl)
theorem dX4_decide_369 : decode cX4_decide 369 = .ok (.getfield 108, 3) := dk_180 0 108 (dk_at dksX4_decide_15 20 rfl rfl)
theorem dX4_decide_372 : decode cX4_decide 372 = .ok (.iload_n 1, 1) := dk_27 (dk_at dksX4_decide_15 23 rfl rfl)
theorem dX4_decide_373 : decode cX4_decide 373 = .ok (.iaload, 1) := dk_46 (dk_at dksX4_decide_16 0 rfl rfl)
theorem dX4_decide_374 : decode cX4_decide 374 = .ok (.ifCond .le 40, 3) := dk_158 0 40 (dk_at dksX4_decide_16 1 rfl rfl)
theorem dX4_decide_377 : decode cX4_decide 377 = .ok (.aload_n 0, 1) := dk_42 (dk_at dksX4_decide_16 4 rfl rfl)
theorem dX4_decide_378 : decode cX4_decide 378 = .ok (.getfield 58, 3) := dk_180 0 58 (dk_at dksX4_decide_16 5 rfl rfl)
theorem dX4_decide_381 : decode cX4_decide 381 = .ok (.ifCond .ne 33, 3) := dk_154 0 33 (dk_at dksX4_decide_16 8 rfl rfl)
theorem dX4_decide_384 : decode cX4_decide 384 = .ok (.aload_n 0, 1) := dk_42 (dk_at dksX4_decide_16 11 rfl rfl)
theorem dX4_decide_385 : decode cX4_decide 385 = .ok (.getfield 28, 3) := dk_180 0 28 (dk_at dksX4_decide_16 12 rfl rfl)
theorem dX4_decide_388 : decode cX4_decide 388 = .ok (.getfield 32, 3) := dk_180 0 32 (dk_at dksX4_decide_16 15 rfl rfl)
theorem dX4_decide_391 : decode cX4_decide 391 = .ok (.aload_n 0, 1) := dk_42 (dk_at dksX4_decide_16 18 rfl rfl)
theorem dX4_decide_392 : decode cX4_decide 392 = .ok (.getfield 28, 3) := dk_180 0 28 (dk_at dksX4_decide_16 19 rfl rfl)
theorem dX4_decide_395 : decode cX4_decide 395 = .ok (.getfield 108, 3) := dk_180 0 108 (dk_at dksX4_decide_17 0 rfl rfl)
theorem dX4_decide_398 : decode cX4_decide 398 = .ok (.iload_n 1, 1) := dk_27 (dk_at dksX4_decide_17 3 rfl rfl)
theorem dX4_decide_399 : decode cX4_decide 399 = .ok (.iaload, 1) := dk_46 (dk_at dksX4_decide_17 4 rfl rfl)
theorem dX4_decide_400 : decode cX4_decide 400 = .ok (.iconst 1, 1) := dk_4 (dk_at dksX4_decide_17 5 rfl rfl)
theorem dX4_decide_401 : decode cX4_decide 401 = .ok (.isub, 1) := dk_100 (dk_at dksX4_decide_17 6 rfl rfl)
theorem dX4_decide_402 : decode cX4_decide 402 = .ok (.invokevirtual 73, 3) := dk_182 0 73 (dk_at dksX4_decide_17 7 rfl rfl)
theorem dX4_decide_405 : decode cX4_decide 405 = .ok (.checkcast 86, 3) := dk_192 0 86 (dk_at dksX4_decide_17 10 rfl rfl)
theorem dX4_decide_408 : decode cX4_decide 408 = .ok (.getfield 174, 3) := dk_180 0 174 (dk_at dksX4_decide_17 13 rfl rfl)
theorem dX4_decide_411 : decode cX4_decide 411 = .ok (.goto 5, 3) := dk_167 0 5 (dk_at dksX4_decide_17 16 rfl rfl)
theorem dX4_decide_414 : decode cX4_decide 414 = .ok (.bipush (-9), 2) := dk_16 247 (dk_at dksX4_decide_17 19 rfl rfl)
theorem dX4_decide_416 : decode cX4_decide 416 = .ok (.istore 9, 2) := dk_54 9 (dk_at dksX4_decide_17 21 rfl rfl)
theorem dX4_decide_418 : decode cX4_decide 418 = .ok (.iload 9, 2) := dk_21 9 (dk_at dksX4_decide_18 0 rfl rfl)
theorem dX4_decide_420 : decode cX4_decide 420 = .ok (.bipush (-9), 2) := dk_16 247 (dk_at dksX4_decide_18 2 rfl rfl)
theorem dX4_decide_422 : decode cX4_decide 422 = .ok (.if_icmp .eq 49, 3) := dk_159 0 49 (dk_at dksX4_decide_18 4 rfl rfl)
theorem dX4_decide_425 : decode cX4_decide 425 = .ok (.aload_n 0, 1) := dk_42 (dk_at dksX4_decide_18 7 rfl rfl)
theorem dX4_decide_426 : decode cX4_decide 426 = .ok (.getfield 27, 3) := dk_180 0 27 (dk_at dksX4_decide_18 8 rfl rfl)
theorem dX4_decide_429 : decode cX4_decide 429 = .ok (.getfield 82, 3) := dk_180 0 82 (dk_at dksX4_decide_18 11 rfl rfl)
theorem dX4_decide_432 : decode cX4_decide 432 = .ok (.iload 9, 2) := dk_21 9 (dk_at dksX4_decide_18 14 rfl rfl)
theorem dX4_decide_434 : decode cX4_decide 434 = .ok (.aaload, 1) := dk_50 (dk_at dksX4_decide_18 16 rfl rfl)
theorem dX4_decide_435 : decode cX4_decide 435 = .ok (.getfield 105, 3) := dk_180 0 105 (dk_at dksX4_decide_18 17 rfl rfl)
theorem dX4_decide_438 : decode cX4_decide 438 = .ok (.iload 6, 2) := dk_21 6 (dk_at dksX4_decide_18 20 rfl rfl)
theorem dX4_decide_440 : decode cX4_decide 440 = .ok (.if_icmp .le 31, 3) := dk_164 0 31 (dk_at dksX4_decide_19 0 rfl rfl)
theorem dX4_decide_443 : decode cX4_decide 443 = .ok (.aload_n 0, 1) := dk_42 (dk_at dksX4_decide_19 3 rfl rfl)
theorem dX4_decide_444 : decode cX4_decide 444 = .ok (.iload 5, 2) := dk_21 5 (dk_at dksX4_decide_19 4 rfl rfl)
theorem dX4_decide_446 : decode cX4_decide 446 = .ok (.aload_n 0, 1) := dk_42 (dk_at dksX4_decide_19 6 rfl rfl)
theorem dX4_decide_447 : decode cX4_decide 447 = .ok (.getfield 27, 3) := dk_180 0 27 (dk_at dksX4_decide_19 7 rfl rfl)
theorem dX4_decide_450 : decode cX4_decide 450 = .ok (.getfield 82, 3) := dk_180 0 82 (dk_at dksX4_decide_19 10 rfl rfl)
theorem dX4_decide_453 : decode cX4_decide 453 = .ok (.iload 9, 2) := dk_21 9 (dk_at dksX4_decide_19 13 rfl rfl)
theorem dX4_decide_455 : decode cX4_decide 455 = .ok (.aaload, 1) := dk_50 (dk_at dksX4_decide_19 15 rfl rfl)
theorem dX4_decide_456 : decode cX4_decide 456 = .ok (.getfield 120, 3) := dk_180 0 120 (dk_at dksX4_decide_19 16 rfl rfl)
theorem dX4_decide_459 : decode cX4_decide 459 = .ok (.aload_n 0, 1) := dk_42 (dk_at dksX4_decide_19 19 rfl rfl)
theorem dX4_decide_460 : decode cX4_decide 460 = .ok (.getfield 48, 3) := dk_180 0 48 (dk_at dksX4_decide_19 20 rfl rfl)
theorem dX4_decide_463 : decode cX4_decide 463 = .ok (.imul, 1) := dk_104 (dk_at dksX4_decide_19 23 rfl rfl)
theorem dX4_decide_464 : decode cX4_decide 464 = .ok (.iadd, 1) := dk_96 (dk_at dksX4_decide_20 0 rfl rfl)
theorem dX4_decide_465 : decode cX4_decide 465 = .ok (.iconst 5, 1) := dk_8 (dk_at dksX4_decide_20 1 rfl rfl)
theorem dX4_decide_466 : decode cX4_decide 466 = .ok (.iload 9, 2) := dk_21 9 (dk_at dksX4_decide_20 2 rfl rfl)
theorem dX4_decide_468 : decode cX4_decide 468 = .ok (.invokevirtual 161, 3) := dk_182 0 161 (dk_at dksX4_decide_20 4 rfl rfl)
theorem dX4_decide_471 : decode cX4_decide 471 = .ok (.aload_n 0, 1) := dk_42 (dk_at dksX4_decide_20 7 rfl rfl)
theorem dX4_decide_472 : decode cX4_decide 472 = .ok (.aload_n 0, 1) := dk_42 (dk_at dksX4_decide_20 8 rfl rfl)
theorem dX4_decide_473 : decode cX4_decide 473 = .ok (.getfield 145, 3) := dk_180 0 145 (dk_at dksX4_decide_20 9 rfl rfl)
theorem dX4_decide_476 : decode cX4_decide 476 = .ok (.invokestatic 123, 3) := dk_184 0 123 (dk_at dksX4_decide_20 12 rfl rfl)
theorem dX4_decide_479 : decode cX4_decide 479 = .ok (.putfield 145, 3) := dk_181 0 145 (dk_at dksX4_decide_20 15 rfl rfl)
theorem dX4_decide_482 : decode cX4_decide 482 = .ok (.return_, 1) := dk_177 (dk_at dksX4_decide_20 18 rfl rfl)
abbrev cX4_isAligned : ByteArray := prog_8_method_9_code
def yX4_isAligned : MethodName := ⟨RX4, "isAligned", "(I)Z"⟩
def dkwX4_isAligned_2 : List UInt8 := [96, 46, 162, 0, 7, 4, 167, 0, 4, 3, 172]
abbrev dktX4_isAligned_2 : List UInt8 := dkwX4_isAligned_2 ++ []
def dkwX4_isAligned_1 : List UInt8 := [180, 0, 28, 180, 0, 108, 42, 180, 0, 28, 180, 0, 32, 28, 182, 0, 73, 192, 0, 86, 180, 0, 111, 4]
abbrev dktX4_isAligned_1 : List UInt8 := dkwX4_isAligned_1 ++ dktX4_isAligned_2
def dkwX4_isAligned_0 : List UInt8 := [42, 180, 0, 15, 27, 46, 61, 42, 27, 182, 0, 91, 180, 0, 114, 4, 160, 0, 40, 28, 4, 96, 42]
abbrev dktX4_isAligned_0 : List UInt8 := dkwX4_isAligned_0 ++ dktX4_isAligned_1
theorem dksX4_isAligned_0 : cX4_isAligned.data.toList.drop 0 = dktX4_isAligned_0 := by decide +kernel
theorem dksX4_isAligned_1 : cX4_isAligned.data.toList.drop 23 = dktX4_isAligned_1 := dk_seg dksX4_isAligned_0 23 rfl rfl
theorem dksX4_isAligned_2 : cX4_isAligned.data.toList.drop 47 = dktX4_isAligned_2 := dk_seg dksX4_isAligned_1 24 rfl rfl
theorem dX4_isAligned_0 : decode cX4_isAligned 0 = .ok (.aload_n 0, 1) := dk_42 (dk_at dksX4_isAligned_0 0 rfl rfl)
theorem dX4_isAligned_1 : decode cX4_isAligned 1 = .ok (.getfield 15, 3) := dk_180 0 15 (dk_at dksX4_isAligned_0 1 rfl rfl)
theorem dX4_isAligned_4 : decode cX4_isAligned 4 = .ok (.iload_n 1, 1) := dk_27 (dk_at dksX4_isAligned_0 4 rfl rfl)
theorem dX4_isAligned_5 : decode cX4_isAligned 5 = .ok (.iaload, 1) := dk_46 (dk_at dksX4_isAligned_0 5 rfl rfl)
theorem dX4_isAligned_6 : decode cX4_isAligned 6 = .ok (.istore_n 2, 1) := dk_61 (dk_at dksX4_isAligned_0 6 rfl rfl)
theorem dX4_isAligned_7 : decode cX4_isAligned 7 = .ok (.aload_n 0, 1) := dk_42 (dk_at dksX4_isAligned_0 7 rfl rfl)
theorem dX4_isAligned_8 : decode cX4_isAligned 8 = .ok (.iload_n 1, 1) := dk_27 (dk_at dksX4_isAligned_0 8 rfl rfl)
theorem dX4_isAligned_9 : decode cX4_isAligned 9 = .ok (.invokevirtual 91, 3) := dk_182 0 91 (dk_at dksX4_isAligned_0 9 rfl rfl)
theorem dX4_isAligned_12 : decode cX4_isAligned 12 = .ok (.getfield 114, 3) := dk_180 0 114 (dk_at dksX4_isAligned_0 12 rfl rfl)
theorem dX4_isAligned_15 : decode cX4_isAligned 15 = .ok (.iconst 1, 1) := dk_4 (dk_at dksX4_isAligned_0 15 rfl rfl)
theorem dX4_isAligned_16 : decode cX4_isAligned 16 = .ok (.if_icmp .ne 40, 3) := dk_160 0 40 (dk_at dksX4_isAligned_0 16 rfl rfl)
theorem dX4_isAligned_19 : decode cX4_isAligned 19 = .ok (.iload_n 2, 1) := dk_28 (dk_at dksX4_isAligned_0 19 rfl rfl)
theorem dX4_isAligned_20 : decode cX4_isAligned 20 = .ok (.iconst 1, 1) := dk_4 (dk_at dksX4_isAligned_0 20 rfl rfl)
theorem dX4_isAligned_21 : decode cX4_isAligned 21 = .ok (.iadd, 1) := dk_96 (dk_at dksX4_isAligned_0 21 rfl rfl)
theorem dX4_isAligned_22 : decode cX4_isAligned 22 = .ok (.aload_n 0, 1) := dk_42 (dk_at dksX4_isAligned_0 22 rfl rfl)
theorem dX4_isAligned_23 : decode cX4_isAligned 23 = .ok (.getfield 28, 3) := dk_180 0 28 (dk_at dksX4_isAligned_1 0 rfl rfl)
theorem dX4_isAligned_26 : decode cX4_isAligned 26 = .ok (.getfield 108, 3) := dk_180 0 108 (dk_at dksX4_isAligned_1 3 rfl rfl)
theorem dX4_isAligned_29 : decode cX4_isAligned 29 = .ok (.aload_n 0, 1) := dk_42 (dk_at dksX4_isAligned_1 6 rfl rfl)
theorem dX4_isAligned_30 : decode cX4_isAligned 30 = .ok (.getfield 28, 3) := dk_180 0 28 (dk_at dksX4_isAligned_1 7 rfl rfl)
theorem dX4_isAligned_33 : decode cX4_isAligned 33 = .ok (.getfield 32, 3) := dk_180 0 32 (dk_at dksX4_isAligned_1 10 rfl rfl)
theorem dX4_isAligned_36 : decode cX4_isAligned 36 = .ok (.iload_n 2, 1) := dk_28 (dk_at dksX4_isAligned_1 13 rfl rfl)
theorem dX4_isAligned_37 : decode cX4_isAligned 37 = .ok (.invokevirtual 73, 3) := dk_182 0 73 (dk_at dksX4_isAligned_1 14 rfl rfl)
theorem dX4_isAligned_40 : decode cX4_isAligned 40 = .ok (.checkcast 86, 3) := dk_192 0 86 (dk_at dksX4_isAligned_1 17 rfl rfl)
theorem dX4_isAligned_43 : decode cX4_isAligned 43 = .ok (.getfield 111, 3) := dk_180 0 111 (dk_at dksX4_isAligned_1 20 rfl rfl)
theorem dX4_isAligned_46 : decode cX4_isAligned 46 = .ok (.iconst 1, 1) := dk_4 (dk_at dksX4_isAligned_1 23 rfl rfl)
theorem dX4_isAligned_47 : decode cX4_isAligned 47 = .ok (.iadd, 1) := dk_96 (dk_at dksX4_isAligned_2 0 rfl rfl)
theorem dX4_isAligned_48 : decode cX4_isAligned 48 = .ok (.iaload, 1) := dk_46 (dk_at dksX4_isAligned_2 1 rfl rfl)
theorem dX4_isAligned_49 : decode cX4_isAligned 49 = .ok (.if_icmp .ge 7, 3) := dk_162 0 7 (dk_at dksX4_isAligned_2 2 rfl rfl)
theorem dX4_isAligned_52 : decode cX4_isAligned 52 = .ok (.iconst 1, 1) := dk_4 (dk_at dksX4_isAligned_2 5 rfl rfl)
theorem dX4_isAligned_53 : decode cX4_isAligned 53 = .ok (.goto 4, 3) := dk_167 0 4 (dk_at dksX4_isAligned_2 6 rfl rfl)
theorem dX4_isAligned_56 : decode cX4_isAligned 56 = .ok (.iconst 0, 1) := dk_3 (dk_at dksX4_isAligned_2 9 rfl rfl)
theorem dX4_isAligned_57 : decode cX4_isAligned 57 = .ok (.ireturn, 1) := dk_172 (dk_at dksX4_isAligned_2 10 rfl rfl)
abbrev cX4_closing : ByteArray := prog_8_method_12_code
def yX4_closing : MethodName := ⟨RX4, "closing", "(I)I"⟩
def dkwX4_closing_3 : List UInt8 := [180, 0, 117, 96, 172]
abbrev dktX4_closing_3 : List UInt8 := dkwX4_closing_3 ++ []
def dkwX4_closing_2 : List UInt8 := [4, 160, 0, 12, 42, 180, 0, 18, 27, 46, 167, 0, 17, 42, 180, 0, 9, 44, 180, 0, 111, 46, 44]
abbrev dktX4_closing_2 : List UInt8 := dkwX4_closing_2 ++ dktX4_closing_3
def dkwX4_closing_1 : List UInt8 := [182, 0, 91, 180, 0, 177, 62, 29, 154, 0, 15, 42, 180, 0, 9, 44, 180, 0, 111, 46, 167, 0, 31, 29]
abbrev dktX4_closing_1 : List UInt8 := dkwX4_closing_1 ++ dktX4_closing_2
def dkwX4_closing_0 : List UInt8 := [42, 180, 0, 28, 180, 0, 32, 42, 180, 0, 15, 27, 46, 182, 0, 73, 192, 0, 86, 77, 42, 27]
abbrev dktX4_closing_0 : List UInt8 := dkwX4_closing_0 ++ dktX4_closing_1
theorem dksX4_closing_0 : cX4_closing.data.toList.drop 0 = dktX4_closing_0 := by decide +kernel
theorem dksX4_closing_1 : cX4_closing.data.toList.drop 22 = dktX4_closing_1 := dk_seg dksX4_closing_0 22 rfl rfl
theorem dksX4_closing_2 : cX4_closing.data.toList.drop 46 = dktX4_closing_2 := dk_seg dksX4_closing_1 24 rfl rfl
theorem dksX4_closing_3 : cX4_closing.data.toList.drop 69 = dktX4_closing_3 := dk_seg dksX4_closing_2 23 rfl rfl
theorem dX4_closing_0 : decode cX4_closing 0 = .ok (.aload_n 0, 1) := dk_42 (dk_at dksX4_closing_0 0 rfl rfl)
theorem dX4_closing_1 : decode cX4_closing 1 = .ok (.getfield 28, 3) := dk_180 0 28 (dk_at dksX4_closing_0 1 rfl rfl)
theorem dX4_closing_4 : decode cX4_closing 4 = .ok (.getfield 32, 3) := dk_180 0 32 (dk_at dksX4_closing_0 4 rfl rfl)
theorem dX4_closing_7 : decode cX4_closing 7 = .ok (.aload_n 0, 1) := dk_42 (dk_at dksX4_closing_0 7 rfl rfl)
theorem dX4_closing_8 : decode cX4_closing 8 = .ok (.getfield 15, 3) := dk_180 0 15 (dk_at dksX4_closing_0 8 rfl rfl)
theorem dX4_closing_11 : decode cX4_closing 11 = .ok (.iload_n 1, 1) := dk_27 (dk_at dksX4_closing_0 11 rfl rfl)
theorem dX4_closing_12 : decode cX4_closing 12 = .ok (.iaload, 1) := dk_46 (dk_at dksX4_closing_0 12 rfl rfl)
theorem dX4_closing_13 : decode cX4_closing 13 = .ok (.invokevirtual 73, 3) := dk_182 0 73 (dk_at dksX4_closing_0 13 rfl rfl)
theorem dX4_closing_16 : decode cX4_closing 16 = .ok (.checkcast 86, 3) := dk_192 0 86 (dk_at dksX4_closing_0 16 rfl rfl)
theorem dX4_closing_19 : decode cX4_closing 19 = .ok (.astore_n 2, 1) := dk_77 (dk_at dksX4_closing_0 19 rfl rfl)
theorem dX4_closing_20 : decode cX4_closing 20 = .ok (.aload_n 0, 1) := dk_42 (dk_at dksX4_closing_0 20 rfl rfl)
theorem dX4_closing_21 : decode cX4_closing 21 = .ok (.iload_n 1, 1) := dk_27 (dk_at dksX4_closing_0 21 rfl rfl)
theorem dX4_closing_22 : decode cX4_closing 22 = .ok (.invokevirtual 91, 3) := dk_182 0 91 (dk_at dksX4_closing_1 0 rfl rfl)
theorem dX4_closing_25 : decode cX4_closing 25 = .ok (.getfield 177, 3) := dk_180 0 177 (dk_at dksX4_closing_1 3 rfl rfl)
theorem dX4_closing_28 : decode cX4_closing 28 = .ok (.istore_n 3, 1) := dk_62 (dk_at dksX4_closing_1 6 rfl rfl)
theorem dX4_closing_29 : decode cX4_closing 29 = .ok (.iload_n 3, 1) := dk_29 (dk_at dksX4_closing_1 7 rfl rfl)
theorem dX4_closing_30 : decode cX4_closing 30 = .ok (.ifCond .ne 15, 3) := dk_154 0 15 (dk_at dksX4_closing_1 8 rfl rfl)
theorem dX4_closing_33 : decode cX4_closing 33 = .ok (.aload_n 0, 1) := dk_42 (dk_at dksX4_closing_1 11 rfl rfl)
theorem dX4_closing_34 : decode cX4_closing 34 = .ok (.getfield 9, 3) := dk_180 0 9 (dk_at dksX4_closing_1 12 rfl rfl)
theorem dX4_closing_37 : decode cX4_closing 37 = .ok (.aload_n 2, 1) := dk_44 (dk_at dksX4_closing_1 15 rfl rfl)
theorem dX4_closing_38 : decode cX4_closing 38 = .ok (.getfield 111, 3) := dk_180 0 111 (dk_at dksX4_closing_1 16 rfl rfl)
theorem dX4_closing_41 : decode cX4_closing 41 = .ok (.iaload, 1) := dk_46 (dk_at dksX4_closing_1 19 rfl rfl)
theorem dX4_closing_42 : decode cX4_closing 42 = .ok (.goto 31, 3) := dk_167 0 31 (dk_at dksX4_closing_1 20 rfl rfl)
theorem dX4_closing_45 : decode cX4_closing 45 = .ok (.iload_n 3, 1) := dk_29 (dk_at dksX4_closing_1 23 rfl rfl)
theorem dX4_closing_46 : decode cX4_closing 46 = .ok (.iconst 1, 1) := dk_4 (dk_at dksX4_closing_2 0 rfl rfl)
theorem dX4_closing_47 : decode cX4_closing 47 = .ok (.if_icmp .ne 12, 3) := dk_160 0 12 (dk_at dksX4_closing_2 1 rfl rfl)
theorem dX4_closing_50 : decode cX4_closing 50 = .ok (.aload_n 0, 1) := dk_42 (dk_at dksX4_closing_2 4 rfl rfl)
theorem dX4_closing_51 : decode cX4_closing 51 = .ok (.getfield 18, 3) := dk_180 0 18 (dk_at dksX4_closing_2 5 rfl rfl)
theorem dX4_closing_54 : decode cX4_closing 54 = .ok (.iload_n 1, 1) := dk_27 (dk_at dksX4_closing_2 8 rfl rfl)
theorem dX4_closing_55 : decode cX4_closing 55 = .ok (.iaload, 1) := dk_46 (dk_at dksX4_closing_2 9 rfl rfl)
theorem dX4_closing_56 : decode cX4_closing 56 = .ok (.goto 17, 3) := dk_167 0 17 (dk_at dksX4_closing_2 10 rfl rfl)
theorem dX4_closing_59 : decode cX4_closing 59 = .ok (.aload_n 0, 1) := dk_42 (dk_at dksX4_closing_2 13 rfl rfl)
theorem dX4_closing_60 : decode cX4_closing 60 = .ok (.getfield 9, 3) := dk_180 0 9 (dk_at dksX4_closing_2 14 rfl rfl)
theorem dX4_closing_63 : decode cX4_closing 63 = .ok (.aload_n 2, 1) := dk_44 (dk_at dksX4_closing_2 17 rfl rfl)
theorem dX4_closing_64 : decode cX4_closing 64 = .ok (.getfield 111, 3) := dk_180 0 111 (dk_at dksX4_closing_2 18 rfl rfl)
theorem dX4_closing_67 : decode cX4_closing 67 = .ok (.iaload, 1) := dk_46 (dk_at dksX4_closing_2 21 rfl rfl)
theorem dX4_closing_68 : decode cX4_closing 68 = .ok (.aload_n 2, 1) := dk_44 (dk_at dksX4_closing_2 22 rfl rfl)
theorem dX4_closing_69 : decode cX4_closing 69 = .ok (.getfield 117, 3) := dk_180 0 117 (dk_at dksX4_closing_3 0 rfl rfl)
theorem dX4_closing_72 : decode cX4_closing 72 = .ok (.iadd, 1) := dk_96 (dk_at dksX4_closing_3 3 rfl rfl)
theorem dX4_closing_73 : decode cX4_closing 73 = .ok (.ireturn, 1) := dk_172 (dk_at dksX4_closing_3 4 rfl rfl)
abbrev cX4_take : ByteArray := prog_8_method_11_code
def yX4_take : MethodName := ⟨RX4, "take", "(III)V"⟩
def dkwX4_take_0 : List UInt8 := [42, 27, 181, 0, 145, 42, 28, 181, 0, 152, 42, 29, 181, 0, 155, 177]
abbrev dktX4_take_0 : List UInt8 := dkwX4_take_0 ++ []
theorem dksX4_take_0 : cX4_take.data.toList.drop 0 = dktX4_take_0 := by decide +kernel
theorem dX4_take_0 : decode cX4_take 0 = .ok (.aload_n 0, 1) := dk_42 (dk_at dksX4_take_0 0 rfl rfl)
theorem dX4_take_1 : decode cX4_take 1 = .ok (.iload_n 1, 1) := dk_27 (dk_at dksX4_take_0 1 rfl rfl)
theorem dX4_take_2 : decode cX4_take 2 = .ok (.putfield 145, 3) := dk_181 0 145 (dk_at dksX4_take_0 2 rfl rfl)
theorem dX4_take_5 : decode cX4_take 5 = .ok (.aload_n 0, 1) := dk_42 (dk_at dksX4_take_0 5 rfl rfl)
theorem dX4_take_6 : decode cX4_take 6 = .ok (.iload_n 2, 1) := dk_28 (dk_at dksX4_take_0 6 rfl rfl)
theorem dX4_take_7 : decode cX4_take 7 = .ok (.putfield 152, 3) := dk_181 0 152 (dk_at dksX4_take_0 7 rfl rfl)
theorem dX4_take_10 : decode cX4_take 10 = .ok (.aload_n 0, 1) := dk_42 (dk_at dksX4_take_0 10 rfl rfl)
theorem dX4_take_11 : decode cX4_take 11 = .ok (.iload_n 3, 1) := dk_29 (dk_at dksX4_take_0 11 rfl rfl)
theorem dX4_take_12 : decode cX4_take 12 = .ok (.putfield 155, 3) := dk_181 0 155 (dk_at dksX4_take_0 12 rfl rfl)
theorem dX4_take_15 : decode cX4_take 15 = .ok (.return_, 1) := dk_177 (dk_at dksX4_take_0 15 rfl rfl)
abbrev cX4_reindent : ByteArray := prog_8_method_14_code
def yX4_reindent : MethodName := ⟨RX4, "reindent", "(II)I"⟩
def dkwX4_reindent_4 : List UInt8 := [132, 4, 1, 167, 255, 169, 29, 172]
abbrev dktX4_reindent_4 : List UInt8 := dkwX4_reindent_4 ++ []
def dkwX4_reindent_3 : List UInt8 := [120, 167, 0, 4, 3, 128, 62, 42, 180, 0, 9, 21, 4, 42, 180, 0, 145, 79, 42, 21, 4, 182, 0, 142]
abbrev dktX4_reindent_3 : List UInt8 := dkwX4_reindent_3 ++ dktX4_reindent_4
def dkwX4_reindent_2 : List UInt8 := [42, 21, 4, 182, 0, 196, 29, 42, 180, 0, 9, 21, 4, 46, 42, 180, 0, 145, 159, 0, 10, 4, 21, 4]
abbrev dktX4_reindent_2 : List UInt8 := dkwX4_reindent_2 ++ dktX4_reindent_3
def dkwX4_reindent_1 : List UInt8 := [153, 0, 66, 42, 180, 0, 27, 180, 0, 68, 21, 4, 182, 0, 73, 192, 0, 77, 180, 0, 193, 154, 0, 45]
abbrev dktX4_reindent_1 : List UInt8 := dkwX4_reindent_1 ++ dktX4_reindent_2
def dkwX4_reindent_0 : List UInt8 := [3, 62, 42, 27, 182, 0, 187, 27, 54, 4, 21, 4, 28, 162, 0, 87, 42, 21, 4, 182, 0, 190]
abbrev dktX4_reindent_0 : List UInt8 := dkwX4_reindent_0 ++ dktX4_reindent_1
theorem dksX4_reindent_0 : cX4_reindent.data.toList.drop 0 = dktX4_reindent_0 := by decide +kernel
theorem dksX4_reindent_1 : cX4_reindent.data.toList.drop 22 = dktX4_reindent_1 := dk_seg dksX4_reindent_0 22 rfl rfl
theorem dksX4_reindent_2 : cX4_reindent.data.toList.drop 46 = dktX4_reindent_2 := dk_seg dksX4_reindent_1 24 rfl rfl
theorem dksX4_reindent_3 : cX4_reindent.data.toList.drop 70 = dktX4_reindent_3 := dk_seg dksX4_reindent_2 24 rfl rfl
theorem dksX4_reindent_4 : cX4_reindent.data.toList.drop 94 = dktX4_reindent_4 := dk_seg dksX4_reindent_3 24 rfl rfl
theorem dX4_reindent_0 : decode cX4_reindent 0 = .ok (.iconst 0, 1) := dk_3 (dk_at dksX4_reindent_0 0 rfl rfl)
theorem dX4_reindent_1 : decode cX4_reindent 1 = .ok (.istore_n 3, 1) := dk_62 (dk_at dksX4_reindent_0 1 rfl rfl)
theorem dX4_reindent_2 : decode cX4_reindent 2 = .ok (.aload_n 0, 1) := dk_42 (dk_at dksX4_reindent_0 2 rfl rfl)
theorem dX4_reindent_3 : decode cX4_reindent 3 = .ok (.iload_n 1, 1) := dk_27 (dk_at dksX4_reindent_0 3 rfl rfl)
theorem dX4_reindent_4 : decode cX4_reindent 4 = .ok (.invokevirtual 187, 3) := dk_182 0 187 (dk_at dksX4_reindent_0 4 rfl rfl)
theorem dX4_reindent_7 : decode cX4_reindent 7 = .ok (.iload_n 1, 1) := dk_27 (dk_at dksX4_reindent_0 7 rfl rfl)
theorem dX4_reindent_8 : decode cX4_reindent 8 = .ok (.istore 4, 2) := dk_54 4 (dk_at dksX4_reindent_0 8 rfl rfl)
theorem dX4_reindent_10 : decode cX4_reindent 10 = .ok (.iload 4, 2) := dk_21 4 (dk_at dksX4_reindent_0 10 rfl rfl)
theorem dX4_reindent_12 : decode cX4_reindent 12 = .ok (.iload_n 2, 1) := dk_28 (dk_at dksX4_reindent_0 12 rfl rfl)
theorem dX4_reindent_13 : decode cX4_reindent 13 = .ok (.if_icmp .ge 87, 3) := dk_162 0 87 (dk_at dksX4_reindent_0 13 rfl rfl)
theorem dX4_reindent_16 : decode cX4_reindent 16 = .ok (.aload_n 0, 1) := dk_42 (dk_at dksX4_reindent_0 16 rfl rfl)
theorem dX4_reindent_17 : decode cX4_reindent 17 = .ok (.iload 4, 2) := dk_21 4 (dk_at dksX4_reindent_0 17 rfl rfl)
theorem dX4_reindent_19 : decode cX4_reindent 19 = .ok (.invokevirtual 190, 3) := dk_182 0 190 (dk_at dksX4_reindent_0 19 rfl rfl)
theorem dX4_reindent_22 : decode cX4_reindent 22 = .ok (.ifCond .eq 66, 3) := dk_153 0 66 (dk_at dksX4_reindent_1 0 rfl rfl)
theorem dX4_reindent_25 : decode cX4_reindent 25 = .ok (.aload_n 0, 1) := dk_42 (dk_at dksX4_reindent_1 3 rfl rfl)
theorem dX4_reindent_26 : decode cX4_reindent 26 = .ok (.getfield 27, 3) := dk_180 0 27 (dk_at dksX4_reindent_1 4 rfl rfl)
theorem dX4_reindent_29 : decode cX4_reindent 29 = .ok (.getfield 68, 3) := dk_180 0 68 (dk_at dksX4_reindent_1 7 rfl rfl)
theorem dX4_reindent_32 : decode cX4_reindent 32 = .ok (.iload 4, 2) := dk_21 4 (dk_at dksX4_reindent_1 10 rfl rfl)
theorem dX4_reindent_34 : decode cX4_reindent 34 = .ok (.invokevirtual 73, 3) := dk_182 0 73 (dk_at dksX4_reindent_1 12 rfl rfl)
theorem dX4_reindent_37 : decode cX4_reindent 37 = .ok (.checkcast 77, 3) := dk_192 0 77 (dk_at dksX4_reindent_1 15 rfl rfl)
theorem dX4_reindent_40 : decode cX4_reindent 40 = .ok (.getfield 193, 3) := dk_180 0 193 (dk_at dksX4_reindent_1 18 rfl rfl)
theorem dX4_reindent_43 : decode cX4_reindent 43 = .ok (.ifCond .ne 45, 3) := dk_154 0 45 (dk_at dksX4_reindent_1 21 rfl rfl)
theorem dX4_reindent_46 : decode cX4_reindent 46 = .ok (.aload_n 0, 1) := dk_42 (dk_at dksX4_reindent_2 0 rfl rfl)
theorem dX4_reindent_47 : decode cX4_reindent 47 = .ok (.iload 4, 2) := dk_21 4 (dk_at dksX4_reindent_2 1 rfl rfl)
theorem dX4_reindent_49 : decode cX4_reindent 49 = .ok (.invokevirtual 196, 3) := dk_182 0 196 (dk_at dksX4_reindent_2 3 rfl rfl)
theorem dX4_reindent_52 : decode cX4_reindent 52 = .ok (.iload_n 3, 1) := dk_29 (dk_at dksX4_reindent_2 6 rfl rfl)
theorem dX4_reindent_53 : decode cX4_reindent 53 = .ok (.aload_n 0, 1) := dk_42 (dk_at dksX4_reindent_2 7 rfl rfl)
theorem dX4_reindent_54 : decode cX4_reindent 54 = .ok (.getfield 9, 3) := dk_180 0 9 (dk_at dksX4_reindent_2 8 rfl rfl)
theorem dX4_reindent_57 : decode cX4_reindent 57 = .ok (.iload 4, 2) := dk_21 4 (dk_at dksX4_reindent_2 11 rfl rfl)
theorem dX4_reindent_59 : decode cX4_reindent 59 = .ok (.iaload, 1) := dk_46 (dk_at dksX4_reindent_2 13 rfl rfl)
theorem dX4_reindent_60 : decode cX4_reindent 60 = .ok (.aload_n 0, 1) := dk_42 (dk_at dksX4_reindent_2 14 rfl rfl)
theorem dX4_reindent_61 : decode cX4_reindent 61 = .ok (.getfield 145, 3) := dk_180 0 145 (dk_at dksX4_reindent_2 15 rfl rfl)
theorem dX4_reindent_64 : decode cX4_reindent 64 = .ok (.if_icmp .eq 10, 3) := dk_159 0 10 (dk_at dksX4_reindent_2 18 rfl rfl)
theorem dX4_reindent_67 : decode cX4_reindent 67 = .ok (.iconst 1, 1) := dk_4 (dk_at dksX4_reindent_2 21 rfl rfl)
theorem dX4_reindent_68 : decode cX4_reindent 68 = .ok (.iload 4, 2) := dk_21 4 (dk_at dksX4_reindent_2 22 rfl rfl)
theorem dX4_reindent_70 : decode cX4_reindent 70 = .ok (.ishl, 1) := dk_120 (dk_at dksX4_reindent_3 0 rfl rfl)
theorem dX4_reindent_71 : decode cX4_reindent 71 = .ok (.goto 4, 3) := dk_167 0 4 (dk_at dksX4_reindent_3 1 rfl rfl)
theorem dX4_reindent_74 : decode cX4_reindent 74 = .ok (.iconst 0, 1) := dk_3 (dk_at dksX4_reindent_3 4 rfl rfl)
theorem dX4_reindent_75 : decode cX4_reindent 75 = .ok (.ior, 1) := dk_128 (dk_at dksX4_reindent_3 5 rfl rfl)
theorem dX4_reindent_76 : decode cX4_reindent 76 = .ok (.istore_n 3, 1) := dk_62 (dk_at dksX4_reindent_3 6 rfl rfl)
theorem dX4_reindent_77 : decode cX4_reindent 77 = .ok (.aload_n 0, 1) := dk_42 (dk_at dksX4_reindent_3 7 rfl rfl)
theorem dX4_reindent_78 : decode cX4_reindent 78 = .ok (.getfield 9, 3) := dk_180 0 9 (dk_at dksX4_reindent_3 8 rfl rfl)
theorem dX4_reindent_81 : decode cX4_reindent 81 = .ok (.iload 4, 2) := dk_21 4 (dk_at dksX4_reindent_3 11 rfl rfl)
theorem dX4_reindent_83 : decode cX4_reindent 83 = .ok (.aload_n 0, 1) := dk_42 (dk_at dksX4_reindent_3 13 rfl rfl)
theorem dX4_reindent_84 : decode cX4_reindent 84 = .ok (.getfield 145, 3) := dk_180 0 145 (dk_at dksX4_reindent_3 14 rfl rfl)
theorem dX4_reindent_87 : decode cX4_reindent 87 = .ok (.iastore, 1) := dk_79 (dk_at dksX4_reindent_3 17 rfl rfl)
theorem dX4_reindent_88 : decode cX4_reindent 88 = .ok (.aload_n 0, 1) := dk_42 (dk_at dksX4_reindent_3 18 rfl rfl)
theorem dX4_reindent_89 : decode cX4_reindent 89 = .ok (.iload 4, 2) := dk_21 4 (dk_at dksX4_reindent_3 19 rfl rfl)
theorem dX4_reindent_91 : decode cX4_reindent 91 = .ok (.invokevirtual 142, 3) := dk_182 0 142 (dk_at dksX4_reindent_3 21 rfl rfl)
theorem dX4_reindent_94 : decode cX4_reindent 94 = .ok (.iinc 4 1, 3) := dk_132 4 1 (dk_at dksX4_reindent_4 0 rfl rfl)
theorem dX4_reindent_97 : decode cX4_reindent 97 = .ok (.goto (-87), 3) := dk_167 255 169 (dk_at dksX4_reindent_4 3 rfl rfl)
theorem dX4_reindent_100 : decode cX4_reindent 100 = .ok (.iload_n 3, 1) := dk_29 (dk_at dksX4_reindent_4 6 rfl rfl)
theorem dX4_reindent_101 : decode cX4_reindent 101 = .ok (.ireturn, 1) := dk_172 (dk_at dksX4_reindent_4 7 rfl rfl)
theorem q114 : (Jvm.Cond.initialized "AutoIndenter$Walk") ∈ lw_all := lw_g (lw_at lw_m1 19 rfl) rfl
theorem q184 : (Jvm.Cond.fieldLinkNest "AutoIndenter$Walk" (68 : Nat) "AutoIndenter$State" "lines" "Ljava/util/ArrayList;" "AutoIndenter") ∈ lw_tbl := lw_at lw_m1 89 rfl
theorem q188 : (Jvm.Cond.fieldLinkNest "AutoIndenter$Walk" (82 : Nat) "AutoIndenter$State" "rules" "[LAutoIndenter$Rule;" "AutoIndenter") ∈ lw_tbl := lw_at lw_m1 93 rfl
theorem q274 : (Jvm.Cond.fieldLinkNest "AutoIndenter$Walk" (79 : Nat) "AutoIndenter$Line" "indentation" "I" "AutoIndenter") ∈ lw_tbl := lw_at lw_m1 179 rfl
theorem q280 : (Jvm.Cond.fieldLinkNest "AutoIndenter$Walk" (193 : Nat) "AutoIndenter$Line" "isPinned" "Z" "AutoIndenter") ∈ lw_tbl := lw_at lw_m1 185 rfl
theorem q551 : (Jvm.Cond.selects "AutoIndenter$Walk" ({ cls := "java/lang/Object", name := "getClass", desc := "()Ljava/lang/Class;" } : Jvm.MethodName) ({ cls := "java/lang/Object", name := "getClass", desc := "()Ljava/lang/Class;" } : Jvm.MethodName)) ∈ lw_all := lw_g (lw_at lw_m2 216 rfl) rfl
theorem q673 : (Jvm.Cond.instantiable "AutoIndenter$Walk" (16 : Nat)) ∈ lw_all := lw_g (lw_at lw_m3 98 rfl) rfl
theorem q723 : (Jvm.Cond.fieldLinkNest "AutoIndenter$Walk" (111 : Nat) "AutoIndenter$Token" "line" "I" "AutoIndenter") ∈ lw_tbl := lw_at lw_m3 148 rfl
theorem q726 : (Jvm.Cond.fieldLinkNest "AutoIndenter$Walk" (117 : Nat) "AutoIndenter$Token" "at" "I" "AutoIndenter") ∈ lw_tbl := lw_at lw_m3 151 rfl
theorem q733 : (Jvm.Cond.fieldLinkNest "AutoIndenter$Walk" (95 : Nat) "AutoIndenter$Token" "text" "Ljava/lang/String;" "AutoIndenter") ∈ lw_tbl := lw_at lw_m3 158 rfl
theorem q738 : (Jvm.Cond.fieldLinkNest "AutoIndenter$Walk" (88 : Nat) "AutoIndenter$Token" "pair" "I" "AutoIndenter") ∈ lw_tbl := lw_at lw_m3 163 rfl
theorem q743 : (Jvm.Cond.fieldLinkNest "AutoIndenter$Walk" (171 : Nat) "AutoIndenter$Token" "starter" "I" "AutoIndenter") ∈ lw_tbl := lw_at lw_m3 168 rfl
theorem q746 : (Jvm.Cond.fieldLinkNest "AutoIndenter$Walk" (174 : Nat) "AutoIndenter$Token" "joiner" "I" "AutoIndenter") ∈ lw_tbl := lw_at lw_m3 171 rfl
theorem q747 : (Jvm.Cond.fieldLinkNest "AutoIndenter$Walk" (131 : Nat) "AutoIndenter$Token" "isCloser" "Z" "AutoIndenter") ∈ lw_tbl := lw_at lw_m3 172 rfl
theorem q899 : (Jvm.Cond.selects "AutoIndenter$Walk" ({ cls := "java/lang/Object", name := "hashCode", desc := "()I" } : Jvm.MethodName) ({ cls := "java/lang/Object", name := "hashCode", desc := "()I" } : Jvm.MethodName)) ∈ lw_all := lw_g (lw_at lw_m4 84 rfl) rfl
theorem q972 : (Jvm.Cond.selects "AutoIndenter$Walk" ({ cls := "java/lang/Object", name := "equals", desc := "(Ljava/lang/Object;)Z" } : Jvm.MethodName) ({ cls := "java/lang/Object", name := "equals", desc := "(Ljava/lang/Object;)Z" } : Jvm.MethodName)) ∈ lw_all := lw_g (lw_at lw_m4 157 rfl) rfl
theorem q1438 : (Jvm.Cond.fieldLinkNest "AutoIndenter$Walk" (21 : Nat) "AutoIndenter$Tokens" "state" "LAutoIndenter$State;" "AutoIndenter") ∈ lw_tbl := lw_at lw_m6 143 rfl
theorem q1441 : (Jvm.Cond.fieldLinkNest "AutoIndenter$Walk" (32 : Nat) "AutoIndenter$Tokens" "all" "Ljava/util/ArrayList;" "AutoIndenter") ∈ lw_tbl := lw_at lw_m6 146 rfl
theorem q1447 : (Jvm.Cond.fieldLinkNest "AutoIndenter$Walk" (108 : Nat) "AutoIndenter$Tokens" "first" "[I" "AutoIndenter") ∈ lw_tbl := lw_at lw_m6 152 rfl
theorem q1450 : (Jvm.Cond.fieldLinkNest "AutoIndenter$Walk" (183 : Nat) "AutoIndenter$Tokens" "isProtected" "[Z" "AutoIndenter") ∈ lw_tbl := lw_at lw_m6 155 rfl
theorem q1469 : (Jvm.Cond.instanceMethod ({ cls := "AutoIndenter$Walk", name := "<init>", desc := "(LAutoIndenter$Tokens;)V" } : Jvm.MethodName)) ∈ lw_all := lw_g (lw_at lw_m6 174 rfl) rfl
theorem q1470 : (Jvm.Cond.code ({ cls := "AutoIndenter$Walk", name := "<init>", desc := "(LAutoIndenter$Tokens;)V" } : Jvm.MethodName) prog_8_method_1_code (2 : Nat) (Option.none : Option Jvm.ClassFile.FieldType)) ∈ lw_all := lw_g (lw_at lw_m6 175 rfl) rfl
theorem q1471 : (Jvm.Cond.methodLink "AutoIndenter$Walk" (3 : Nat) ({ cls := "java/lang/Object", name := "<init>", desc := "()V" } : Jvm.MethodName)) ∈ lw_all := lw_g (lw_at lw_m6 176 rfl) rfl
theorem q1472 : (Jvm.Cond.methodLink "AutoIndenter$Walk" (36 : Nat) ({ cls := "java/util/ArrayList", name := "size", desc := "()I" } : Jvm.MethodName)) ∈ lw_all := lw_g (lw_at lw_m6 177 rfl) rfl
theorem q1473 : (Jvm.Cond.fieldLink "AutoIndenter$Walk" (27 : Nat) "AutoIndenter$Walk" "state" "LAutoIndenter$State;") ∈ lw_all := lw_g (lw_at lw_m6 178 rfl) rfl
theorem q1474 : (Jvm.Cond.fieldLink "AutoIndenter$Walk" (28 : Nat) "AutoIndenter$Walk" "tokens" "LAutoIndenter$Tokens;") ∈ lw_all := lw_g (lw_at lw_m6 179 rfl) rfl
theorem q1476 : (Jvm.Cond.fieldLink "AutoIndenter$Walk" (48 : Nat) "AutoIndenter$Walk" "step" "I") ∈ lw_all := lw_g (lw_at lw_m6 181 rfl) rfl
theorem q1477 : (Jvm.Cond.fieldLink "AutoIndenter$Walk" (52 : Nat) "AutoIndenter$Walk" "base" "I") ∈ lw_all := lw_g (lw_at lw_m6 182 rfl) rfl
theorem q1478 : (Jvm.Cond.fieldLink "AutoIndenter$Walk" (9 : Nat) "AutoIndenter$Walk" "indentations" "[I") ∈ lw_all := lw_g (lw_at lw_m6 183 rfl) rfl
theorem q1480 : (Jvm.Cond.fieldLink "AutoIndenter$Walk" (15 : Nat) "AutoIndenter$Walk" "openings" "[I") ∈ lw_all := lw_g (lw_at lw_m6 185 rfl) rfl
theorem q1482 : (Jvm.Cond.fieldLink "AutoIndenter$Walk" (18 : Nat) "AutoIndenter$Walk" "columns" "[I") ∈ lw_all := lw_g (lw_at lw_m6 187 rfl) rfl
theorem q1484 : (Jvm.Cond.fieldLink "AutoIndenter$Walk" (55 : Nat) "AutoIndenter$Walk" "height" "I") ∈ lw_all := lw_g (lw_at lw_m6 189 rfl) rfl
theorem q1486 : (Jvm.Cond.fieldLink "AutoIndenter$Walk" (58 : Nat) "AutoIndenter$Walk" "lastOpened" "Z") ∈ lw_all := lw_g (lw_at lw_m6 191 rfl) rfl
theorem q1487 : (Jvm.Cond.fieldLink "AutoIndenter$Walk" (62 : Nat) "AutoIndenter$Walk" "strays" "I") ∈ lw_all := lw_g (lw_at lw_m6 192 rfl) rfl
theorem q1489 : (Jvm.Cond.fieldLink "AutoIndenter$Walk" (65 : Nat) "AutoIndenter$Walk" "lost" "I") ∈ lw_all := lw_g (lw_at lw_m6 194 rfl) rfl
theorem q1491 : (Jvm.Cond.fieldLink "AutoIndenter$Walk" (42 : Nat) "AutoIndenter$Walk" "openedBy" "[I") ∈ lw_all := lw_g (lw_at lw_m6 196 rfl) rfl
theorem q1493 : (Jvm.Cond.fieldLink "AutoIndenter$Walk" (45 : Nat) "AutoIndenter$Walk" "closedBy" "[I") ∈ lw_all := lw_g (lw_at lw_m6 198 rfl) rfl
theorem q1495 : (Jvm.Cond.fieldLink "AutoIndenter$Walk" (145 : Nat) "AutoIndenter$Walk" "column" "I") ∈ lw_all := lw_g (lw_at lw_m6 200 rfl) rfl
theorem q1497 : (Jvm.Cond.fieldLink "AutoIndenter$Walk" (152 : Nat) "AutoIndenter$Walk" "reason" "I") ∈ lw_all := lw_g (lw_at lw_m6 202 rfl) rfl
theorem q1499 : (Jvm.Cond.fieldLink "AutoIndenter$Walk" (155 : Nat) "AutoIndenter$Walk" "rule" "I") ∈ lw_all := lw_g (lw_at lw_m6 204 rfl) rfl
theorem q1501 : (Jvm.Cond.laysFinal "AutoIndenter$Walk" "AutoIndenter$Walk" "state" "LAutoIndenter$State;") ∈ lw_all := lw_g (lw_at lw_m6 206 rfl) rfl
theorem q1502 : (Jvm.Cond.soleField "AutoIndenter$Walk" "state") ∈ lw_all := lw_g (lw_at lw_m6 207 rfl) rfl
theorem q1503 : (Jvm.Cond.laysFinal "AutoIndenter$Walk" "AutoIndenter$Walk" "tokens" "LAutoIndenter$Tokens;") ∈ lw_all := lw_g (lw_at lw_m6 208 rfl) rfl
theorem q1504 : (Jvm.Cond.soleField "AutoIndenter$Walk" "tokens") ∈ lw_all := lw_g (lw_at lw_m6 209 rfl) rfl
theorem q1505 : (Jvm.Cond.lays "AutoIndenter$Walk" "AutoIndenter$Walk" "step" "I") ∈ lw_all := lw_g (lw_at lw_m6 210 rfl) rfl
theorem q1506 : (Jvm.Cond.soleField "AutoIndenter$Walk" "step") ∈ lw_all := lw_g (lw_at lw_m6 211 rfl) rfl
theorem q1507 : (Jvm.Cond.lays "AutoIndenter$Walk" "AutoIndenter$Walk" "base" "I") ∈ lw_all := lw_g (lw_at lw_m6 212 rfl) rfl
theorem q1508 : (Jvm.Cond.soleField "AutoIndenter$Walk" "base") ∈ lw_all := lw_g (lw_at lw_m6 213 rfl) rfl
theorem q1509 : (Jvm.Cond.laysFinal "AutoIndenter$Walk" "AutoIndenter$Walk" "indentations" "[I") ∈ lw_all := lw_g (lw_at lw_m6 214 rfl) rfl
theorem q1510 : (Jvm.Cond.soleField "AutoIndenter$Walk" "indentations") ∈ lw_all := lw_g (lw_at lw_m6 215 rfl) rfl
theorem q1511 : (Jvm.Cond.laysFinal "AutoIndenter$Walk" "AutoIndenter$Walk" "openings" "[I") ∈ lw_all := lw_g (lw_at lw_m6 216 rfl) rfl
theorem q1512 : (Jvm.Cond.soleField "AutoIndenter$Walk" "openings") ∈ lw_all := lw_g (lw_at lw_m6 217 rfl) rfl
theorem q1513 : (Jvm.Cond.laysFinal "AutoIndenter$Walk" "AutoIndenter$Walk" "columns" "[I") ∈ lw_all := lw_g (lw_at lw_m6 218 rfl) rfl
theorem q1514 : (Jvm.Cond.soleField "AutoIndenter$Walk" "columns") ∈ lw_all := lw_g (lw_at lw_m6 219 rfl) rfl
theorem q1515 : (Jvm.Cond.lays "AutoIndenter$Walk" "AutoIndenter$Walk" "height" "I") ∈ lw_all := lw_g (lw_at lw_m6 220 rfl) rfl
theorem q1516 : (Jvm.Cond.soleField "AutoIndenter$Walk" "height") ∈ lw_all := lw_g (lw_at lw_m6 221 rfl) rfl
theorem q1517 : (Jvm.Cond.lays "AutoIndenter$Walk" "AutoIndenter$Walk" "lastOpened" "Z") ∈ lw_all := lw_g (lw_at lw_m6 222 rfl) rfl
theorem q1518 : (Jvm.Cond.soleField "AutoIndenter$Walk" "lastOpened") ∈ lw_all := lw_g (lw_at lw_m6 223 rfl) rfl
theorem q1519 : (Jvm.Cond.lays "AutoIndenter$Walk" "AutoIndenter$Walk" "strays" "I") ∈ lw_all := lw_g (lw_at lw_m6 224 rfl) rfl
theorem q1520 : (Jvm.Cond.soleField "AutoIndenter$Walk" "strays") ∈ lw_all := lw_g (lw_at lw_m6 225 rfl) rfl
theorem q1521 : (Jvm.Cond.lays "AutoIndenter$Walk" "AutoIndenter$Walk" "lost" "I") ∈ lw_all := lw_g (lw_at lw_m6 226 rfl) rfl
theorem q1522 : (Jvm.Cond.soleField "AutoIndenter$Walk" "lost") ∈ lw_all := lw_g (lw_at lw_m6 227 rfl) rfl
theorem q1523 : (Jvm.Cond.laysFinal "AutoIndenter$Walk" "AutoIndenter$Walk" "openedBy" "[I") ∈ lw_all := lw_g (lw_at lw_m6 228 rfl) rfl
theorem q1524 : (Jvm.Cond.soleField "AutoIndenter$Walk" "openedBy") ∈ lw_all := lw_g (lw_at lw_m6 229 rfl) rfl
theorem q1525 : (Jvm.Cond.laysFinal "AutoIndenter$Walk" "AutoIndenter$Walk" "closedBy" "[I") ∈ lw_all := lw_g (lw_at lw_m6 230 rfl) rfl
theorem q1526 : (Jvm.Cond.soleField "AutoIndenter$Walk" "closedBy") ∈ lw_all := lw_g (lw_at lw_m6 231 rfl) rfl
theorem q1527 : (Jvm.Cond.lays "AutoIndenter$Walk" "AutoIndenter$Walk" "column" "I") ∈ lw_all := lw_g (lw_at lw_m6 232 rfl) rfl
theorem q1528 : (Jvm.Cond.soleField "AutoIndenter$Walk" "column") ∈ lw_all := lw_g (lw_at lw_m6 233 rfl) rfl
theorem q1529 : (Jvm.Cond.lays "AutoIndenter$Walk" "AutoIndenter$Walk" "reason" "I") ∈ lw_all := lw_g (lw_at lw_m6 234 rfl) rfl
theorem q1530 : (Jvm.Cond.soleField "AutoIndenter$Walk" "reason") ∈ lw_all := lw_g (lw_at lw_m6 235 rfl) rfl
theorem q1531 : (Jvm.Cond.lays "AutoIndenter$Walk" "AutoIndenter$Walk" "rule" "I") ∈ lw_all := lw_g (lw_at lw_m6 236 rfl) rfl
theorem q1532 : (Jvm.Cond.soleField "AutoIndenter$Walk" "rule") ∈ lw_all := lw_g (lw_at lw_m6 237 rfl) rfl
theorem q1533 : (Jvm.Cond.superclass "AutoIndenter$Walk" "java/lang/Object") ∈ lw_all := lw_g (lw_at lw_m6 238 rfl) rfl
theorem q1535 : (Jvm.Cond.instanceMethod ({ cls := "AutoIndenter$Walk", name := "begin", desc := "(II)V" } : Jvm.MethodName)) ∈ lw_all := lw_g (lw_at lw_m7 0 rfl) rfl
theorem q1536 : (Jvm.Cond.selects "AutoIndenter$Walk" ({ cls := "AutoIndenter$Walk", name := "begin", desc := "(II)V" } : Jvm.MethodName) ({ cls := "AutoIndenter$Walk", name := "begin", desc := "(II)V" } : Jvm.MethodName)) ∈ lw_all := lw_g (lw_at lw_m7 1 rfl) rfl
theorem q1537 : (Jvm.Cond.code ({ cls := "AutoIndenter$Walk", name := "begin", desc := "(II)V" } : Jvm.MethodName) prog_8_method_2_code (4 : Nat) (Option.none : Option Jvm.ClassFile.FieldType)) ∈ lw_all := lw_g (lw_at lw_m7 2 rfl) rfl
theorem q1538 : (Jvm.Cond.methodLink "AutoIndenter$Walk" (73 : Nat) ({ cls := "java/util/ArrayList", name := "get", desc := "(I)Ljava/lang/Object;" } : Jvm.MethodName)) ∈ lw_all := lw_g (lw_at lw_m7 3 rfl) rfl
theorem q1539 : (Jvm.Cond.classLink "AutoIndenter$Walk" (77 : Nat) "AutoIndenter$Line") ∈ lw_all := lw_g (lw_at lw_m7 4 rfl) rfl
theorem q1541 : (Jvm.Cond.instanceMethod ({ cls := "AutoIndenter$Walk", name := "passTo", desc := "(I)V" } : Jvm.MethodName)) ∈ lw_all := lw_g (lw_at lw_m7 6 rfl) rfl
theorem q1542 : (Jvm.Cond.selects "AutoIndenter$Walk" ({ cls := "AutoIndenter$Walk", name := "passTo", desc := "(I)V" } : Jvm.MethodName) ({ cls := "AutoIndenter$Walk", name := "passTo", desc := "(I)V" } : Jvm.MethodName)) ∈ lw_all := lw_g (lw_at lw_m7 7 rfl) rfl
theorem q1543 : (Jvm.Cond.code ({ cls := "AutoIndenter$Walk", name := "passTo", desc := "(I)V" } : Jvm.MethodName) prog_8_method_8_code (3 : Nat) (Option.none : Option Jvm.ClassFile.FieldType)) ∈ lw_all := lw_g (lw_at lw_m7 8 rfl) rfl
theorem q1544 : (Jvm.Cond.methodLink "AutoIndenter$Walk" (142 : Nat) ({ cls := "AutoIndenter$Walk", name := "pass", desc := "(I)V" } : Jvm.MethodName)) ∈ lw_all := lw_g (lw_at lw_m7 9 rfl) rfl
theorem q1545 : (Jvm.Cond.privateMethod ({ cls := "AutoIndenter$Walk", name := "pass", desc := "(I)V" } : Jvm.MethodName)) ∈ lw_tbl := lw_at lw_m7 10 rfl
theorem q1546 : (Jvm.Cond.instanceMethod ({ cls := "AutoIndenter$Walk", name := "pass", desc := "(I)V" } : Jvm.MethodName)) ∈ lw_all := lw_g (lw_at lw_m7 11 rfl) rfl
theorem q1547 : (Jvm.Cond.code ({ cls := "AutoIndenter$Walk", name := "pass", desc := "(I)V" } : Jvm.MethodName) prog_8_method_7_code (5 : Nat) (Option.none : Option Jvm.ClassFile.FieldType)) ∈ lw_all := lw_g (lw_at lw_m7 12 rfl) rfl
theorem q1548 : (Jvm.Cond.classLink "AutoIndenter$Walk" (86 : Nat) "AutoIndenter$Token") ∈ lw_all := lw_g (lw_at lw_m7 13 rfl) rfl
theorem q1549 : (Jvm.Cond.methodLink "AutoIndenter$Walk" (127 : Nat) ({ cls := "AutoIndenter$Walk", name := "closes", desc := "(LAutoIndenter$Token;I)I" } : Jvm.MethodName)) ∈ lw_all := lw_g (lw_at lw_m7 14 rfl) rfl
theorem q1550 : (Jvm.Cond.privateMethod ({ cls := "AutoIndenter$Walk", name := "closes", desc := "(LAutoIndenter$Token;I)I" } : Jvm.MethodName)) ∈ lw_tbl := lw_at lw_m7 15 rfl
theorem q1551 : (Jvm.Cond.instanceMethod ({ cls := "AutoIndenter$Walk", name := "closes", desc := "(LAutoIndenter$Token;I)I" } : Jvm.MethodName)) ∈ lw_all := lw_g (lw_at lw_m7 16 rfl) rfl
theorem q1552 : (Jvm.Cond.code ({ cls := "AutoIndenter$Walk", name := "closes", desc := "(LAutoIndenter$Token;I)I" } : Jvm.MethodName) prog_8_method_4_code (5 : Nat) (Option.some Jvm.ClassFile.FieldType.int)) ∈ lw_all := lw_g (lw_at lw_m7 17 rfl) rfl
theorem q1553 : (Jvm.Cond.methodLink "AutoIndenter$Walk" (91 : Nat) ({ cls := "AutoIndenter$Walk", name := "ruleOf", desc := "(I)LAutoIndenter$Rule;" } : Jvm.MethodName)) ∈ lw_all := lw_g (lw_at lw_m7 18 rfl) rfl
theorem q1554 : (Jvm.Cond.privateMethod ({ cls := "AutoIndenter$Walk", name := "ruleOf", desc := "(I)LAutoIndenter$Rule;" } : Jvm.MethodName)) ∈ lw_tbl := lw_at lw_m7 19 rfl
theorem q1555 : (Jvm.Cond.instanceMethod ({ cls := "AutoIndenter$Walk", name := "ruleOf", desc := "(I)LAutoIndenter$Rule;" } : Jvm.MethodName)) ∈ lw_all := lw_g (lw_at lw_m7 20 rfl) rfl
theorem q1556 : (Jvm.Cond.code ({ cls := "AutoIndenter$Walk", name := "ruleOf", desc := "(I)LAutoIndenter$Rule;" } : Jvm.MethodName) prog_8_method_3_code (2 : Nat) (Option.some (Jvm.ClassFile.FieldType.object "AutoIndenter$Rule"))) ∈ lw_all := lw_g (lw_at lw_m7 21 rfl) rfl
theorem q1557 : (Jvm.Cond.methodLink "AutoIndenter$Walk" (99 : Nat) ({ cls := "AutoIndenter$Rule", name := "closesBy", desc := "(Ljava/lang/String;)Z" } : Jvm.MethodName)) ∈ lw_all := lw_g (lw_at lw_m7 22 rfl) rfl
theorem q1562 : (Jvm.Cond.methodLink "AutoIndenter$Walk" (134 : Nat) ({ cls := "AutoIndenter$Walk", name := "opens", desc := "(LAutoIndenter$Token;I)Z" } : Jvm.MethodName)) ∈ lw_all := lw_g (lw_at lw_m7 27 rfl) rfl
theorem q1563 : (Jvm.Cond.static ({ cls := "AutoIndenter$Walk", name := "opens", desc := "(LAutoIndenter$Token;I)Z" } : Jvm.MethodName)) ∈ lw_all := lw_g (lw_at lw_m7 28 rfl) rfl
theorem q1564 : (Jvm.Cond.code ({ cls := "AutoIndenter$Walk", name := "opens", desc := "(LAutoIndenter$Token;I)Z" } : Jvm.MethodName) prog_8_method_5_code (2 : Nat) (Option.some Jvm.ClassFile.FieldType.boolean)) ∈ lw_all := lw_g (lw_at lw_m7 29 rfl) rfl
theorem q1565 : (Jvm.Cond.methodLink "AutoIndenter$Walk" (138 : Nat) ({ cls := "AutoIndenter$Walk", name := "push", desc := "(I)V" } : Jvm.MethodName)) ∈ lw_all := lw_g (lw_at lw_m7 30 rfl) rfl
theorem q1566 : (Jvm.Cond.privateMethod ({ cls := "AutoIndenter$Walk", name := "push", desc := "(I)V" } : Jvm.MethodName)) ∈ lw_tbl := lw_at lw_m7 31 rfl
theorem q1567 : (Jvm.Cond.instanceMethod ({ cls := "AutoIndenter$Walk", name := "push", desc := "(I)V" } : Jvm.MethodName)) ∈ lw_all := lw_g (lw_at lw_m7 32 rfl) rfl
theorem q1568 : (Jvm.Cond.code ({ cls := "AutoIndenter$Walk", name := "push", desc := "(I)V" } : Jvm.MethodName) prog_8_method_6_code (6 : Nat) (Option.none : Option Jvm.ClassFile.FieldType)) ∈ lw_all := lw_g (lw_at lw_m7 33 rfl) rfl
theorem q1569 : (Jvm.Cond.methodLinkNest "AutoIndenter$Walk" (123 : Nat) ({ cls := "AutoIndenter", name := "held", desc := "(I)I" } : Jvm.MethodName) "AutoIndenter") ∈ lw_tbl := lw_at lw_m7 34 rfl
theorem q1575 : (Jvm.Cond.instanceMethod ({ cls := "AutoIndenter$Walk", name := "isDecided", desc := "(I)Z" } : Jvm.MethodName)) ∈ lw_all := lw_g (lw_at lw_m7 40 rfl) rfl
theorem q1576 : (Jvm.Cond.selects "AutoIndenter$Walk" ({ cls := "AutoIndenter$Walk", name := "isDecided", desc := "(I)Z" } : Jvm.MethodName) ({ cls := "AutoIndenter$Walk", name := "isDecided", desc := "(I)Z" } : Jvm.MethodName)) ∈ lw_all := lw_g (lw_at lw_m7 41 rfl) rfl
theorem q1577 : (Jvm.Cond.code ({ cls := "AutoIndenter$Walk", name := "isDecided", desc := "(I)Z" } : Jvm.MethodName) prog_8_method_13_code (2 : Nat) (Option.some Jvm.ClassFile.FieldType.boolean)) ∈ lw_all := lw_g (lw_at lw_m7 42 rfl) rfl
theorem q1578 : (Jvm.Cond.methodLink "AutoIndenter$Walk" (179 : Nat) ({ cls := "AutoIndenter$Line", name := "isBlank", desc := "()Z" } : Jvm.MethodName)) ∈ lw_all := lw_g (lw_at lw_m7 43 rfl) rfl
theorem q1584 : (Jvm.Cond.instanceMethod ({ cls := "AutoIndenter$Walk", name := "decide", desc := "(I)V" } : Jvm.MethodName)) ∈ lw_all := lw_g (lw_at lw_m7 49 rfl) rfl
theorem q1585 : (Jvm.Cond.selects "AutoIndenter$Walk" ({ cls := "AutoIndenter$Walk", name := "decide", desc := "(I)V" } : Jvm.MethodName) ({ cls := "AutoIndenter$Walk", name := "decide", desc := "(I)V" } : Jvm.MethodName)) ∈ lw_all := lw_g (lw_at lw_m7 50 rfl) rfl
theorem q1586 : (Jvm.Cond.code ({ cls := "AutoIndenter$Walk", name := "decide", desc := "(I)V" } : Jvm.MethodName) prog_8_method_10_code (10 : Nat) (Option.none : Option Jvm.ClassFile.FieldType)) ∈ lw_all := lw_g (lw_at lw_m7 51 rfl) rfl
theorem q1587 : (Jvm.Cond.methodLink "AutoIndenter$Walk" (148 : Nat) ({ cls := "AutoIndenter$Walk", name := "isAligned", desc := "(I)Z" } : Jvm.MethodName)) ∈ lw_all := lw_g (lw_at lw_m7 52 rfl) rfl
theorem q1588 : (Jvm.Cond.privateMethod ({ cls := "AutoIndenter$Walk", name := "isAligned", desc := "(I)Z" } : Jvm.MethodName)) ∈ lw_tbl := lw_at lw_m7 53 rfl
theorem q1589 : (Jvm.Cond.instanceMethod ({ cls := "AutoIndenter$Walk", name := "isAligned", desc := "(I)Z" } : Jvm.MethodName)) ∈ lw_all := lw_g (lw_at lw_m7 54 rfl) rfl
theorem q1590 : (Jvm.Cond.code ({ cls := "AutoIndenter$Walk", name := "isAligned", desc := "(I)Z" } : Jvm.MethodName) prog_8_method_9_code (3 : Nat) (Option.some Jvm.ClassFile.FieldType.boolean)) ∈ lw_all := lw_g (lw_at lw_m7 55 rfl) rfl
theorem q1591 : (Jvm.Cond.methodLink "AutoIndenter$Walk" (158 : Nat) ({ cls := "AutoIndenter$Walk", name := "closing", desc := "(I)I" } : Jvm.MethodName)) ∈ lw_all := lw_g (lw_at lw_m7 56 rfl) rfl
theorem q1592 : (Jvm.Cond.privateMethod ({ cls := "AutoIndenter$Walk", name := "closing", desc := "(I)I" } : Jvm.MethodName)) ∈ lw_tbl := lw_at lw_m7 57 rfl
theorem q1593 : (Jvm.Cond.instanceMethod ({ cls := "AutoIndenter$Walk", name := "closing", desc := "(I)I" } : Jvm.MethodName)) ∈ lw_all := lw_g (lw_at lw_m7 58 rfl) rfl
theorem q1594 : (Jvm.Cond.code ({ cls := "AutoIndenter$Walk", name := "closing", desc := "(I)I" } : Jvm.MethodName) prog_8_method_12_code (4 : Nat) (Option.some Jvm.ClassFile.FieldType.int)) ∈ lw_all := lw_g (lw_at lw_m7 59 rfl) rfl
theorem q1595 : (Jvm.Cond.methodLink "AutoIndenter$Walk" (161 : Nat) ({ cls := "AutoIndenter$Walk", name := "take", desc := "(III)V" } : Jvm.MethodName)) ∈ lw_all := lw_g (lw_at lw_m7 60 rfl) rfl
theorem q1596 : (Jvm.Cond.privateMethod ({ cls := "AutoIndenter$Walk", name := "take", desc := "(III)V" } : Jvm.MethodName)) ∈ lw_tbl := lw_at lw_m7 61 rfl
theorem q1597 : (Jvm.Cond.instanceMethod ({ cls := "AutoIndenter$Walk", name := "take", desc := "(III)V" } : Jvm.MethodName)) ∈ lw_all := lw_g (lw_at lw_m7 62 rfl) rfl
theorem q1598 : (Jvm.Cond.code ({ cls := "AutoIndenter$Walk", name := "take", desc := "(III)V" } : Jvm.MethodName) prog_8_method_11_code (4 : Nat) (Option.none : Option Jvm.ClassFile.FieldType)) ∈ lw_all := lw_g (lw_at lw_m7 63 rfl) rfl
theorem q1599 : (Jvm.Cond.methodLink "AutoIndenter$Walk" (165 : Nat) ({ cls := "AutoIndenter$Tokens", name := "count", desc := "(I)I" } : Jvm.MethodName)) ∈ lw_all := lw_g (lw_at lw_m7 64 rfl) rfl
theorem q1603 : (Jvm.Cond.methodLink "AutoIndenter$Walk" (168 : Nat) ({ cls := "AutoIndenter$Tokens", name := "get", desc := "(II)LAutoIndenter$Token;" } : Jvm.MethodName)) ∈ lw_all := lw_g (lw_at lw_m7 68 rfl) rfl
theorem q1664 : (Jvm.Cond.instanceMethod ({ cls := "AutoIndenter$Walk", name := "reindent", desc := "(II)I" } : Jvm.MethodName)) ∈ lw_all := lw_g (lw_at lw_m7 129 rfl) rfl
theorem q1665 : (Jvm.Cond.selects "AutoIndenter$Walk" ({ cls := "AutoIndenter$Walk", name := "reindent", desc := "(II)I" } : Jvm.MethodName) ({ cls := "AutoIndenter$Walk", name := "reindent", desc := "(II)I" } : Jvm.MethodName)) ∈ lw_all := lw_g (lw_at lw_m7 130 rfl) rfl
theorem q1666 : (Jvm.Cond.code ({ cls := "AutoIndenter$Walk", name := "reindent", desc := "(II)I" } : Jvm.MethodName) prog_8_method_14_code (5 : Nat) (Option.some Jvm.ClassFile.FieldType.int)) ∈ lw_all := lw_g (lw_at lw_m7 131 rfl) rfl
theorem q1667 : (Jvm.Cond.methodLink "AutoIndenter$Walk" (187 : Nat) ({ cls := "AutoIndenter$Walk", name := "passTo", desc := "(I)V" } : Jvm.MethodName)) ∈ lw_all := lw_g (lw_at lw_m7 132 rfl) rfl
theorem q1668 : (Jvm.Cond.methodLink "AutoIndenter$Walk" (190 : Nat) ({ cls := "AutoIndenter$Walk", name := "isDecided", desc := "(I)Z" } : Jvm.MethodName)) ∈ lw_all := lw_g (lw_at lw_m7 133 rfl) rfl
theorem q1669 : (Jvm.Cond.methodLink "AutoIndenter$Walk" (196 : Nat) ({ cls := "AutoIndenter$Walk", name := "decide", desc := "(I)V" } : Jvm.MethodName)) ∈ lw_all := lw_g (lw_at lw_m7 134 rfl) rfl
theorem q1749 : (Jvm.Cond.fieldLinkNest "AutoIndenter$Walk" (105 : Nat) "AutoIndenter$Rule" "precedence" "I" "AutoIndenter") ∈ lw_tbl := lw_at lw_m7 214 rfl
theorem q1753 : (Jvm.Cond.fieldLinkNest "AutoIndenter$Walk" (120 : Nat) "AutoIndenter$Rule" "steps" "I" "AutoIndenter") ∈ lw_tbl := lw_at lw_m7 218 rfl
theorem q1756 : (Jvm.Cond.fieldLinkNest "AutoIndenter$Walk" (114 : Nat) "AutoIndenter$Rule" "mode" "I" "AutoIndenter") ∈ lw_tbl := lw_at lw_m7 221 rfl
theorem q1759 : (Jvm.Cond.fieldLinkNest "AutoIndenter$Walk" (177 : Nat) "AutoIndenter$Rule" "closing" "I" "AutoIndenter") ∈ lw_tbl := lw_at lw_m7 224 rfl
theorem q2808 : (Jvm.Cond.castable "AutoIndenter$Walk" "java/lang/Object") ∈ lw_tbl := lw_at lw_m12 73 rfl
theorem in_X4 : ∀ w ∈ wsX40, w ∈ lw_all := lw_in wsX40 [1501, 1503, 1505, 1507, 1509, 1511, 1513, 1515, 1517, 1519, 1521, 1523, 1525, 1527, 1529, 1531] (by decide +kernel) (by decide +kernel)

/-! AutoIndenter$Tokens -/
set_option maxRecDepth 100000
def RX5 : String := "AutoIndenter$Tokens"
def TX5 : u_T := fun k => match k with
  | 0 => ("AutoIndenter$Tokens", "state", "LAutoIndenter$State;", true)
  | 1 => ("AutoIndenter$Tokens", "all", "Ljava/util/ArrayList;", true)
  | 2 => ("AutoIndenter$Tokens", "texts", "Ljava/util/ArrayList;", true)
  | 3 => ("AutoIndenter$Tokens", "ofRules", "I", true)
  | 4 => ("AutoIndenter$Tokens", "first", "[I", true)
  | 5 => ("AutoIndenter$Tokens", "isProtected", "[Z", true)
  | _ => ("AutoIndenter$Tokens", "isOpen", "Z", false)
def tyX5 : Nat → FieldType := fun k => match k with
  | 0 => .object "AutoIndenter$State"
  | 1 => .object "java/util/ArrayList"
  | 2 => .object "java/util/ArrayList"
  | 3 => .int
  | 4 => .array .int
  | 5 => .array .boolean
  | _ => .boolean
abbrev wsX50 : List Cond := u_ws RX5 TX5 7
theorem nmX5 : ∀ a, a < 7 → ∀ b, b < 7 → a ≠ b → (TX5 a).2.1 ≠ (TX5 b).2.1 := by decide +kernel
theorem tyX5_ok : ∀ k, k < 7 → parseFieldDescriptor (TX5 k).2.2.1 = some (tyX5 k) := by decide +kernel
abbrev cX5_init : ByteArray := prog_7_method_1_code
def yX5_init : MethodName := ⟨RX5, "<init>", "(LAutoIndenter$State;)V"⟩
def dkwX5_init_7 : List UInt8 := [167, 255, 208, 42, 182, 0, 79, 177]
abbrev dktX5_init_7 : List UInt8 := dkwX5_init_7 ++ []
def dkwX5_init_6 : List UInt8 := [180, 0, 72, 182, 0, 75, 42, 180, 0, 21, 28, 4, 96, 42, 180, 0, 12, 182, 0, 56, 79, 132, 2, 1]
abbrev dktX5_init_6 : List UInt8 := dkwX5_init_6 ++ dktX5_init_7
def dkwX5_init_5 : List UInt8 := [43, 180, 0, 63, 182, 0, 56, 162, 0, 43, 42, 28, 43, 180, 0, 63, 28, 182, 0, 66, 192, 0, 70]
abbrev dktX5_init_5 : List UInt8 := dkwX5_init_5 ++ dktX5_init_6
def dkwX5_init_4 : List UInt8 := [182, 0, 45, 87, 132, 2, 1, 167, 255, 203, 42, 42, 180, 0, 18, 182, 0, 56, 181, 0, 60, 3, 61, 28]
abbrev dktX5_init_4 : List UInt8 := dkwX5_init_4 ++ dktX5_init_5
def dkwX5_init_3 : List UInt8 := [182, 0, 45, 87, 42, 45, 180, 0, 49, 4, 160, 0, 10, 45, 180, 0, 53, 167, 0, 7, 45, 180, 0, 39]
abbrev dktX5_init_3 : List UInt8 := dkwX5_init_3 ++ dktX5_init_4
def dkwX5_init_2 : List UInt8 := [3, 61, 28, 16, 12, 162, 0, 53, 43, 180, 0, 33, 28, 50, 78, 45, 198, 0, 36, 42, 45, 180, 0, 39]
abbrev dktX5_init_2 : List UInt8 := dkwX5_init_2 ++ dktX5_init_3
def dkwX5_init_1 : List UInt8 := [181, 0, 18, 42, 16, 21, 188, 10, 181, 0, 21, 42, 16, 20, 188, 4, 181, 0, 25, 42, 43, 181, 0, 29]
abbrev dktX5_init_1 : List UInt8 := dkwX5_init_1 ++ dktX5_init_2
def dkwX5_init_0 : List UInt8 := [42, 183, 0, 3, 42, 187, 0, 9, 89, 183, 0, 11, 181, 0, 12, 42, 187, 0, 9, 89, 183, 0, 11]
abbrev dktX5_init_0 : List UInt8 := dkwX5_init_0 ++ dktX5_init_1
theorem dksX5_init_0 : cX5_init.data.toList.drop 0 = dktX5_init_0 := by decide +kernel
theorem dksX5_init_1 : cX5_init.data.toList.drop 23 = dktX5_init_1 := dk_seg dksX5_init_0 23 rfl rfl
theorem dksX5_init_2 : cX5_init.data.toList.drop 47 = dktX5_init_2 := dk_seg dksX5_init_1 24 rfl rfl
theorem dksX5_init_3 : cX5_init.data.toList.drop 71 = dktX5_init_3 := dk_seg dksX5_init_2 24 rfl rfl
theorem dksX5_init_4 : cX5_init.data.toList.drop 95 = dktX5_init_4 := dk_seg dksX5_init_3 24 rfl rfl
theorem dksX5_init_5 : cX5_init.data.toList.drop 119 = dktX5_init_5 := dk_seg dksX5_init_4 24 rfl rfl
theorem dksX5_init_6 : cX5_init.data.toList.drop 142 = dktX5_init_6 := dk_seg dksX5_init_5 23 rfl rfl
theorem dksX5_init_7 : cX5_init.data.toList.drop 166 = dktX5_init_7 := dk_seg dksX5_init_6 24 rfl rfl
theorem dX5_init_0 : decode cX5_init 0 = .ok (.aload_n 0, 1) := dk_42 (dk_at dksX5_init_0 0 rfl rfl)
theorem dX5_init_1 : decode cX5_init 1 = .ok (.invokespecial 3, 3) := dk_183 0 3 (dk_at dksX5_init_0 1 rfl rfl)
theorem dX5_init_4 : decode cX5_init 4 = .ok (.aload_n 0, 1) := dk_42 (dk_at dksX5_init_0 4 rfl rfl)
theorem dX5_init_5 : decode cX5_init 5 = .ok (.new 9, 3) := dk_187 0 9 (dk_at dksX5_init_0 5 rfl rfl)
theorem dX5_init_8 : decode cX5_init 8 = .ok (.dup, 1) := dk_89 (dk_at dksX5_init_0 8 rfl rfl)
theorem dX5_init_9 : decode cX5_init 9 = .ok (.invokespecial 11, 3) := dk_183 0 11 (dk_at dksX5_init_0 9 rfl rfl)
theorem dX5_init_12 : decode cX5_init 12 = .ok (.putfield 12, 3) := dk_181 0 12 (dk_at dksX5_init_0 12 rfl rfl)
theorem dX5_init_15 : decode cX5_init 15 = .ok (.aload_n 0, 1) := dk_42 (dk_at dksX5_init_0 15 rfl rfl)
theorem dX5_init_16 : decode cX5_init 16 = .ok (.new 9, 3) := dk_187 0 9 (dk_at dksX5_init_0 16 rfl rfl)
theorem dX5_init_19 : decode cX5_init 19 = .ok (.dup, 1) := dk_89 (dk_at dksX5_init_0 19 rfl rfl)
theorem dX5_init_20 : decode cX5_init 20 = .ok (.invokespecial 11, 3) := dk_183 0 11 (dk_at dksX5_init_0 20 rfl rfl)
theorem dX5_init_23 : decode cX5_init 23 = .ok (.putfield 18, 3) := dk_181 0 18 (dk_at dksX5_init_1 0 rfl rfl)
theorem dX5_init_26 : decode cX5_init 26 = .ok (.aload_n 0, 1) := dk_42 (dk_at dksX5_init_1 3 rfl rfl)
theorem dX5_init_27 : decode cX5_init 27 = .ok (.bipush 21, 2) := dk_16 21 (dk_at dksX5_init_1 4 rfl rfl)
theorem dX5_init_29 : decode cX5_init 29 = .ok (.newarray .int, 2) := dk_188_10 (dk_at dksX5_init_1 6 rfl rfl)
theorem dX5_init_31 : decode cX5_init 31 = .ok (.putfield 21, 3) := dk_181 0 21 (dk_at dksX5_init_1 8 rfl rfl)
theorem dX5_init_34 : decode cX5_init 34 = .ok (.aload_n 0, 1) := dk_42 (dk_at dksX5_init_1 11 rfl rfl)
theorem dX5_init_35 : decode cX5_init 35 = .ok (.bipush 20, 2) := dk_16 20 (dk_at dksX5_init_1 12 rfl rfl)
theorem dX5_init_37 : decode cX5_init 37 = .ok (.newarray .boolean, 2) := dk_188_4 (dk_at dksX5_init_1 14 rfl rfl)
theorem dX5_init_39 : decode cX5_init 39 = .ok (.putfield 25, 3) := dk_181 0 25 (dk_at dksX5_init_1 16 rfl rfl)
theorem dX5_init_42 : decode cX5_init 42 = .ok (.aload_n 0, 1) := dk_42 (dk_at dksX5_init_1 19 rfl rfl)
theorem dX5_init_43 : decode cX5_init 43 = .ok (.aload_n 1, 1) := dk_43 (dk_at dksX5_init_1 20 rfl rfl)
theorem dX5_init_44 : decode cX5_init 44 = .ok (.putfield 29, 3) := dk_181 0 29 (dk_at dksX5_init_1 21 rfl rfl)
theorem dX5_init_47 : decode cX5_init 47 = .ok (.iconst 0, 1) := dk_3 (dk_at dksX5_init_2 0 rfl rfl)
theorem dX5_init_48 : decode cX5_init 48 = .ok (.istore_n 2, 1) := dk_61 (dk_at dksX5_init_2 1 rfl rfl)
theorem dX5_init_49 : decode cX5_init 49 = .ok (.iload_n 2, 1) := dk_28 (dk_at dksX5_init_2 2 rfl rfl)
theorem dX5_init_50 : decode cX5_init 50 = .ok (.bipush 12, 2) := dk_16 12 (dk_at dksX5_init_2 3 rfl rfl)
theorem dX5_init_52 : decode cX5_init 52 = .ok (.if_icmp .ge 53, 3) := dk_162 0 53 (dk_at dksX5_init_2 5 rfl rfl)
theorem dX5_init_55 : decode cX5_init 55 = .ok (.aload_n 1, 1) := dk_43 (dk_at dksX5_init_2 8 rfl rfl)
theorem dX5_init_56 : decode cX5_init 56 = .ok (.getfield 33, 3) := dk_180 0 33 (dk_at dksX5_init_2 9 rfl rfl)
theorem dX5_init_59 : decode cX5_init 59 = .ok (.iload_n 2, 1) := dk_28 (dk_at dksX5_init_2 12 rfl rfl)
theorem dX5_init_60 : decode cX5_init 60 = .ok (.aaload, 1) := dk_50 (dk_at dksX5_init_2 13 rfl rfl)
theorem dX5_init_61 : decode cX5_init 61 = .ok (.astore_n 3, 1) := dk_78 (dk_at dksX5_init_2 14 rfl rfl)
theorem dX5_init_62 : decode cX5_init 62 = .ok (.aload_n 3, 1) := dk_45 (dk_at dksX5_init_2 15 rfl rfl)
theorem dX5_init_63 : decode cX5_init 63 = .ok (.ifnull 36, 3) := dk_198 0 36 (dk_at dksX5_init_2 16 rfl rfl)
theorem dX5_init_66 : decode cX5_init 66 = .ok (.aload_n 0, 1) := dk_42 (dk_at dksX5_init_2 19 rfl rfl)
theorem dX5_init_67 : decode cX5_init 67 = .ok (.aload_n 3, 1) := dk_45 (dk_at dksX5_init_2 20 rfl rfl)
theorem dX5_init_68 : decode cX5_init 68 = .ok (.getfield 39, 3) := dk_180 0 39 (dk_at dksX5_init_2 21 rfl rfl)
theorem dX5_init_71 : decode cX5_init 71 = .ok (.invokevirtual 45, 3) := dk_182 0 45 (dk_at dksX5_init_3 0 rfl rfl)
theorem dX5_init_74 : decode cX5_init 74 = .ok (.pop, 1) := dk_87 (dk_at dksX5_init_3 3 rfl rfl)
theorem dX5_init_75 : decode cX5_init 75 = .ok (.aload_n 0, 1) := dk_42 (dk_at dksX5_init_3 4 rfl rfl)
theorem dX5_init_76 : decode cX5_init 76 = .ok (.aload_n 3, 1) := dk_45 (dk_at dksX5_init_3 5 rfl rfl)
theorem dX5_init_77 : decode cX5_init 77 = .ok (.getfield 49, 3) := dk_180 0 49 (dk_at dksX5_init_3 6 rfl rfl)
theorem dX5_init_80 : decode cX5_init 80 = .ok (.iconst 1, 1) := dk_4 (dk_at dksX5_init_3 9 rfl rfl)
theorem dX5_init_81 : decode cX5_init 81 = .ok (.if_icmp .ne 10, 3) := dk_160 0 10 (dk_at dksX5_init_3 10 rfl rfl)
theorem dX5_init_84 : decode cX5_init 84 = .ok (.aload_n 3, 1) := dk_45 (dk_at dksX5_init_3 13 rfl rfl)
theorem dX5_init_85 : decode cX5_init 85 = .ok (.getfield 53, 3) := dk_180 0 53 (dk_at dksX5_init_3 14 rfl rfl)
theorem dX5_init_88 : decode cX5_init 88 = .ok (.goto 7, 3) := dk_167 0 7 (dk_at dksX5_init_3 17 rfl rfl)
theorem dX5_init_91 : decode cX5_init 91 = .ok (.aload_n 3, 1) := dk_45 (dk_at dksX5_init_3 20 rfl rfl)
theorem dX5_init_92 : decode cX5_init 92 = .ok (.getfield 39, 3) := dk_180 0 39 (dk_at dksX5_init_3 21 rfl rfl)
theorem dX5_init_95 : decode cX5_init 95 = .ok (.invokevirtual 45, 3) := dk_182 0 45 (dk_at dksX5_init_4 0 rfl rfl)
theorem dX5_init_98 : decode cX5_init 98 = .ok (.pop, 1) := dk_87 (dk_at dksX5_init_4 3 rfl rfl)
theorem dX5_init_99 : decode cX5_init 99 = .ok (.iinc 2 1, 3) := dk_132 2 1 (dk_at dksX5_init_4 4 rfl rfl)
theorem dX5_init_102 : decode cX5_init 102 = .ok (.goto (-53), 3) := dk_167 255 203 (dk_at dksX5_init_4 7 rfl rfl)
theorem dX5_init_105 : decode cX5_init 105 = .ok (.aload_n 0, 1) := dk_42 (dk_at dksX5_init_4 10 rfl rfl)
theorem dX5_init_106 : decode cX5_init 106 = .ok (.aload_n 0, 1) := dk_42 (dk_at dksX5_init_4 11 rfl rfl)
theorem dX5_init_107 : decode cX5_init 107 = .ok (.getfield 18, 3) := dk_180 0 18 (dk_at dksX5_init_4 12 rfl rfl)
theorem dX5_init_110 : decode cX5_init 110 = .ok (.invokevirtual 56, 3) := dk_182 0 56 (dk_at dksX5_init_4 15 rfl rfl)
theorem dX5_init_113 : decode cX5_init 113 = .ok (.putfield 60, 3) := dk_181 0 60 (dk_at dksX5_init_4 18 rfl rfl)
theorem dX5_init_116 : decode cX5_init 116 = .ok (.iconst 0, 1) := dk_3 (dk_at dksX5_init_4 21 rfl rfl)
theorem dX5_init_117 : decode cX5_init 117 = .ok (.istore_n 2, 1) := dk_61 (dk_at dksX5_init_4 22 rfl rfl)
theorem dX5_init_118 : decode cX5_init 118 = .ok (.iload_n 2, 1) := dk_28 (dk_at dksX5_init_4 23 rfl rfl)
theorem dX5_init_119 : decode cX5_init 119 = .ok (.aload_n 1, 1) := dk_43 (dk_at dksX5_init_5 0 rfl rfl)
theorem dX5_init_120 : decode cX5_init 120 = .ok (.getfield 63, 3) := dk_180 0 63 (dk_at dksX5_init_5 1 rfl rfl)
theorem dX5_init_123 : decode cX5_init 123 = .ok (.invokevirtual 56, 3) := dk_182 0 56 (dk_at dksX5_init_5 4 rfl rfl)
theorem dX5_init_126 : decode cX5_init 126 = .ok (.if_icmp .ge 43, 3) := dk_162 0 43 (dk_at dksX5_init_5 7 rfl rfl)
theorem dX5_init_129 : decode cX5_init 129 = .ok (.aload_n 0, 1) := dk_42 (dk_at dksX5_init_5 10 rfl rfl)
theorem dX5_init_130 : decode cX5_init 130 = .ok (.iload_n 2, 1) := dk_28 (dk_at dksX5_init_5 11 rfl rfl)
theorem dX5_init_131 : decode cX5_init 131 = .ok (.aload_n 1, 1) := dk_43 (dk_at dksX5_init_5 12 rfl rfl)
theorem dX5_init_132 : decode cX5_init 132 = .ok (.getfield 63, 3) := dk_180 0 63 (dk_at dksX5_init_5 13 rfl rfl)
theorem dX5_init_135 : decode cX5_init 135 = .ok (.iload_n 2, 1) := dk_28 (dk_at dksX5_init_5 16 rfl rfl)
theorem dX5_init_136 : decode cX5_init 136 = .ok (.invokevirtual 66, 3) := dk_182 0 66 (dk_at dksX5_init_5 17 rfl rfl)
theorem dX5_init_139 : decode cX5_init 139 = .ok (.checkcast 70, 3) := dk_192 0 70 (dk_at dksX5_init_5 20 rfl rfl)
theorem dX5_init_142 : decode cX5_init 142 = .ok (.getfield 72, 3) := dk_180 0 72 (dk_at dksX5_init_6 0 rfl rfl)
theorem dX5_init_145 : decode cX5_init 145 = .ok (.invokevirtual 75, 3) := dk_182 0 75 (dk_at dksX5_init_6 3 rfl rfl)
theorem dX5_init_148 : decode cX5_init 148 = .ok (.aload_n 0, 1) := dk_42 (dk_at dksX5_init_6 6 rfl rfl)
theorem dX5_init_149 : decode cX5_init 149 = .ok (.getfield 21, 3) := dk_180 0 21 (dk_at dksX5_init_6 7 rfl rfl)
theorem dX5_init_152 : decode cX5_init 152 = .ok (.iload_n 2, 1) := dk_28 (dk_at dksX5_init_6 10 rfl rfl)
theorem dX5_init_153 : decode cX5_init 153 = .ok (.iconst 1, 1) := dk_4 (dk_at dksX5_init_6 11 rfl rfl)
theorem dX5_init_154 : decode cX5_init 154 = .ok (.iadd, 1) := dk_96 (dk_at dksX5_init_6 12 rfl rfl)
theorem dX5_init_155 : decode cX5_init 155 = .ok (.aload_n 0, 1) := dk_42 (dk_at dksX5_init_6 13 rfl rfl)
theorem dX5_init_156 : decode cX5_init 156 = .ok (.getfield 12, 3) := dk_180 0 12 (dk_at dksX5_init_6 14 rfl rfl)
theorem dX5_init_159 : decode cX5_init 159 = .ok (.invokevirtual 56, 3) := dk_182 0 56 (dk_at dksX5_init_6 17 rfl rfl)
theorem dX5_init_162 : decode cX5_init 162 = .ok (.iastore, 1) := dk_79 (dk_at dksX5_init_6 20 rfl rfl)
theorem dX5_init_163 : decode cX5_init 163 = .ok (.iinc 2 1, 3) := dk_132 2 1 (dk_at dksX5_init_6 21 rfl rfl)
theorem dX5_init_166 : decode cX5_init 166 = .ok (.goto (-48), 3) := dk_167 255 208 (dk_at dksX5_init_7 0 rfl rfl)
theorem dX5_init_169 : decode cX5_init 169 = .ok (.aload_n 0, 1) := dk_42 (dk_at dksX5_init_7 3 rfl rfl)
theorem dX5_init_170 : decode cX5_init 170 = .ok (.invokevirtual 79, 3) := dk_182 0 79 (dk_at dksX5_init_7 4 rfl rfl)
theorem dX5_init_173 : decode cX5_init 173 = .ok (.return_, 1) := dk_177 (dk_at dksX5_init_7 7 rfl rfl)
abbrev cX5_wordOf : ByteArray := prog_7_method_2_code
def yX5_wordOf : MethodName := ⟨RX5, "wordOf", "(Ljava/lang/String;)I"⟩
def dkwX5_wordOf_2 : List UInt8 := [42, 180, 0, 18, 43, 182, 0, 88, 87, 28, 172]
abbrev dktX5_wordOf_2 : List UInt8 := dkwX5_wordOf_2 ++ []
def dkwX5_wordOf_1 : List UInt8 := [43, 182, 0, 84, 154, 0, 9, 132, 2, 1, 167, 255, 224, 28, 42, 180, 0, 18, 182, 0, 56, 160, 0, 12]
abbrev dktX5_wordOf_1 : List UInt8 := dkwX5_wordOf_1 ++ dktX5_wordOf_2
def dkwX5_wordOf_0 : List UInt8 := [3, 61, 28, 42, 180, 0, 18, 182, 0, 56, 162, 0, 27, 42, 180, 0, 18, 28, 182, 0, 66, 192, 0, 82]
abbrev dktX5_wordOf_0 : List UInt8 := dkwX5_wordOf_0 ++ dktX5_wordOf_1
theorem dksX5_wordOf_0 : cX5_wordOf.data.toList.drop 0 = dktX5_wordOf_0 := by decide +kernel
theorem dksX5_wordOf_1 : cX5_wordOf.data.toList.drop 24 = dktX5_wordOf_1 := dk_seg dksX5_wordOf_0 24 rfl rfl
theorem dksX5_wordOf_2 : cX5_wordOf.data.toList.drop 48 = dktX5_wordOf_2 := dk_seg dksX5_wordOf_1 24 rfl rfl
theorem dX5_wordOf_0 : decode cX5_wordOf 0 = .ok (.iconst 0, 1) := dk_3 (dk_at dksX5_wordOf_0 0 rfl rfl)
theorem dX5_wordOf_1 : decode cX5_wordOf 1 = .ok (.istore_n 2, 1) := dk_61 (dk_at dksX5_wordOf_0 1 rfl rfl)
theorem dX5_wordOf_2 : decode cX5_wordOf 2 = .ok (.iload_n 2, 1) := dk_28 (dk_at dksX5_wordOf_0 2 rfl rfl)
theorem dX5_wordOf_3 : decode cX5_wordOf 3 = .ok (.aload_n 0, 1) := dk_42 (dk_at dksX5_wordOf_0 3 rfl rfl)
theorem dX5_wordOf_4 : decode cX5_wordOf 4 = .ok (.getfield 18, 3) := dk_180 0 18 (dk_at dksX5_wordOf_0 4 rfl rfl)
theorem dX5_wordOf_7 : decode cX5_wordOf 7 = .ok (.invokevirtual 56, 3) := dk_182 0 56 (dk_at dksX5_wordOf_0 7 rfl rfl)
theorem dX5_wordOf_10 : decode cX5_wordOf 10 = .ok (.if_icmp .ge 27, 3) := dk_162 0 27 (dk_at dksX5_wordOf_0 10 rfl rfl)
theorem dX5_wordOf_13 : decode cX5_wordOf 13 = .ok (.aload_n 0, 1) := dk_42 (dk_at dksX5_wordOf_0 13 rfl rfl)
theorem dX5_wordOf_14 : decode cX5_wordOf 14 = .ok (.getfield 18, 3) := dk_180 0 18 (dk_at dksX5_wordOf_0 14 rfl rfl)
theorem dX5_wordOf_17 : decode cX5_wordOf 17 = .ok (.iload_n 2, 1) := dk_28 (dk_at dksX5_wordOf_0 17 rfl rfl)
theorem dX5_wordOf_18 : decode cX5_wordOf 18 = .ok (.invokevirtual 66, 3) := dk_182 0 66 (dk_at dksX5_wordOf_0 18 rfl rfl)
theorem dX5_wordOf_21 : decode cX5_wordOf 21 = .ok (.checkcast 82, 3) := dk_192 0 82 (dk_at dksX5_wordOf_0 21 rfl rfl)
theorem dX5_wordOf_24 : decode cX5_wordOf 24 = .ok (.aload_n 1, 1) := dk_43 (dk_at dksX5_wordOf_1 0 rfl rfl)
theorem dX5_wordOf_25 : decode cX5_wordOf 25 = .ok (.invokevirtual 84, 3) := dk_182 0 84 (dk_at dksX5_wordOf_1 1 rfl rfl)
theorem dX5_wordOf_28 : decode cX5_wordOf 28 = .ok (.ifCond .ne 9, 3) := dk_154 0 9 (dk_at dksX5_wordOf_1 4 rfl rfl)
theorem dX5_wordOf_31 : decode cX5_wordOf 31 = .ok (.iinc 2 1, 3) := dk_132 2 1 (dk_at dksX5_wordOf_1 7 rfl rfl)
theorem dX5_wordOf_34 : decode cX5_wordOf 34 = .ok (.goto (-32), 3) := dk_167 255 224 (dk_at dksX5_wordOf_1 10 rfl rfl)
theorem dX5_wordOf_37 : decode cX5_wordOf 37 = .ok (.iload_n 2, 1) := dk_28 (dk_at dksX5_wordOf_1 13 rfl rfl)
theorem dX5_wordOf_38 : decode cX5_wordOf 38 = .ok (.aload_n 0, 1) := dk_42 (dk_at dksX5_wordOf_1 14 rfl rfl)
theorem dX5_wordOf_39 : decode cX5_wordOf 39 = .ok (.getfield 18, 3) := dk_180 0 18 (dk_at dksX5_wordOf_1 15 rfl rfl)
theorem dX5_wordOf_42 : decode cX5_wordOf 42 = .ok (.invokevirtual 56, 3) := dk_182 0 56 (dk_at dksX5_wordOf_1 18 rfl rfl)
theorem dX5_wordOf_45 : decode cX5_wordOf 45 = .ok (.if_icmp .ne 12, 3) := dk_160 0 12 (dk_at dksX5_wordOf_1 21 rfl rfl)
theorem dX5_wordOf_48 : decode cX5_wordOf 48 = .ok (.aload_n 0, 1) := dk_42 (dk_at dksX5_wordOf_2 0 rfl rfl)
theorem dX5_wordOf_49 : decode cX5_wordOf 49 = .ok (.getfield 18, 3) := dk_180 0 18 (dk_at dksX5_wordOf_2 1 rfl rfl)
theorem dX5_wordOf_52 : decode cX5_wordOf 52 = .ok (.aload_n 1, 1) := dk_43 (dk_at dksX5_wordOf_2 4 rfl rfl)
theorem dX5_wordOf_53 : decode cX5_wordOf 53 = .ok (.invokevirtual 88, 3) := dk_182 0 88 (dk_at dksX5_wordOf_2 5 rfl rfl)
theorem dX5_wordOf_56 : decode cX5_wordOf 56 = .ok (.pop, 1) := dk_87 (dk_at dksX5_wordOf_2 8 rfl rfl)
theorem dX5_wordOf_57 : decode cX5_wordOf 57 = .ok (.iload_n 2, 1) := dk_28 (dk_at dksX5_wordOf_2 9 rfl rfl)
theorem dX5_wordOf_58 : decode cX5_wordOf 58 = .ok (.ireturn, 1) := dk_172 (dk_at dksX5_wordOf_2 10 rfl rfl)
abbrev cX5_divide : ByteArray := prog_7_method_9_code
def yX5_divide : MethodName := ⟨RX5, "divide", "(ILjava/lang/String;)V"⟩
def dkwX5_divide_10 : List UInt8 := [25, 7, 182, 0, 45, 183, 0, 129, 182, 0, 88, 87, 21, 5, 62, 167, 255, 48, 177]
abbrev dktX5_divide_10 : List UInt8 := dkwX5_divide_10 ++ []
def dkwX5_divide_9 : List UInt8 := [187, 0, 91, 89, 27, 29, 21, 5, 29, 100, 21, 6, 153, 0, 7, 3, 167, 0, 4, 4, 25, 7, 42]
abbrev dktX5_divide_9 : List UInt8 := dkwX5_divide_9 ++ dktX5_divide_10
def dkwX5_divide_8 : List UInt8 := [29, 184, 0, 135, 167, 0, 5, 21, 5, 54, 5, 44, 29, 21, 5, 182, 0, 138, 58, 7, 42, 180, 0, 12]
abbrev dktX5_divide_8 : List UInt8 := dkwX5_divide_8 ++ dktX5_divide_9
def dkwX5_divide_7 : List UInt8 := [87, 167, 0, 82, 21, 4, 16, 32, 159, 0, 75, 21, 4, 184, 0, 114, 54, 6, 21, 6, 153, 0, 11, 44]
abbrev dktX5_divide_7 : List UInt8 := dkwX5_divide_7 ++ dktX5_divide_8
def dkwX5_divide_6 : List UInt8 := [42, 180, 0, 12, 187, 0, 91, 89, 27, 29, 21, 5, 29, 100, 5, 1, 16, 247, 183, 0, 129, 182, 0, 88]
abbrev dktX5_divide_6 : List UInt8 := dkwX5_divide_6 ++ dktX5_divide_7
def dkwX5_divide_5 : List UInt8 := [183, 0, 129, 182, 0, 88, 87, 167, 0, 124, 21, 4, 16, 34, 160, 0, 38, 44, 29, 184, 0, 132, 54, 5]
abbrev dktX5_divide_5 : List UInt8 := dkwX5_divide_5 ++ dktX5_divide_6
def dkwX5_divide_4 : List UInt8 := [182, 0, 122, 54, 5, 42, 180, 0, 12, 187, 0, 91, 89, 27, 29, 21, 5, 29, 100, 5, 1, 16, 247]
abbrev dktX5_divide_4 : List UInt8 := dkwX5_divide_4 ++ dktX5_divide_5
def dkwX5_divide_3 : List UInt8 := [160, 0, 4, 177, 44, 29, 184, 0, 100, 153, 0, 46, 42, 4, 181, 0, 104, 42, 44, 29, 6, 96]
abbrev dktX5_divide_3 : List UInt8 := dkwX5_divide_3 ++ dktX5_divide_4
def dkwX5_divide_2 : List UInt8 := [162, 0, 206, 44, 29, 182, 0, 96, 54, 4, 29, 4, 96, 54, 5, 21, 4, 42, 180, 0, 29, 180, 0, 126]
abbrev dktX5_divide_2 : List UInt8 := dkwX5_divide_2 ++ dktX5_divide_3
def dkwX5_divide_1 : List UInt8 := [84, 42, 180, 0, 104, 153, 0, 12, 42, 44, 3, 182, 0, 122, 167, 0, 4, 3, 62, 29, 44, 182, 0, 93]
abbrev dktX5_divide_1 : List UInt8 := dkwX5_divide_1 ++ dktX5_divide_2
def dkwX5_divide_0 : List UInt8 := [42, 180, 0, 25, 27, 42, 180, 0, 104, 153, 0, 14, 44, 182, 0, 118, 154, 0, 7, 4, 167, 0, 4, 3]
abbrev dktX5_divide_0 : List UInt8 := dkwX5_divide_0 ++ dktX5_divide_1
theorem dksX5_divide_0 : cX5_divide.data.toList.drop 0 = dktX5_divide_0 := by decide +kernel
theorem dksX5_divide_1 : cX5_divide.data.toList.drop 24 = dktX5_divide_1 := dk_seg dksX5_divide_0 24 rfl rfl
theorem dksX5_divide_2 : cX5_divide.data.toList.drop 48 = dktX5_divide_2 := dk_seg dksX5_divide_1 24 rfl rfl
theorem dksX5_divide_3 : cX5_divide.data.toList.drop 72 = dktX5_divide_3 := dk_seg dksX5_divide_2 24 rfl rfl
theorem dksX5_divide_4 : cX5_divide.data.toList.drop 94 = dktX5_divide_4 := dk_seg dksX5_divide_3 22 rfl rfl
theorem dksX5_divide_5 : cX5_divide.data.toList.drop 117 = dktX5_divide_5 := dk_seg dksX5_divide_4 23 rfl rfl
theorem dksX5_divide_6 : cX5_divide.data.toList.drop 141 = dktX5_divide_6 := dk_seg dksX5_divide_5 24 rfl rfl
theorem dksX5_divide_7 : cX5_divide.data.toList.drop 165 = dktX5_divide_7 := dk_seg dksX5_divide_6 24 rfl rfl
theorem dksX5_divide_8 : cX5_divide.data.toList.drop 189 = dktX5_divide_8 := dk_seg dksX5_divide_7 24 rfl rfl
theorem dksX5_divide_9 : cX5_divide.data.toList.drop 213 = dktX5_divide_9 := dk_seg dksX5_divide_8 24 rfl rfl
theorem dksX5_divide_10 : cX5_divide.data.toList.drop 236 = dktX5_divide_10 := dk_seg dksX5_divide_9 23 rfl rfl
theorem dX5_divide_0 : decode cX5_divide 0 = .ok (.aload_n 0, 1) := dk_42 (dk_at dksX5_divide_0 0 rfl rfl)
theorem dX5_divide_1 : decode cX5_divide 1 = .ok (.getfield 25, 3) := dk_180 0 25 (dk_at dksX5_divide_0 1 rfl rfl)
theorem dX5_divide_4 : decode cX5_divide 4 = .ok (.iload_n 1, 1) := dk_27 (dk_at dksX5_divide_0 4 rfl rfl)
theorem dX5_divide_5 : decode cX5_divide 5 = .ok (.aload_n 0, 1) := dk_42 (dk_at dksX5_divide_0 5 rfl rfl)
theorem dX5_divide_6 : decode cX5_divide 6 = .ok (.getfield 104, 3) := dk_180 0 104 (dk_at dksX5_divide_0 6 rfl rfl)
theorem dX5_divide_9 : decode cX5_divide 9 = .ok (.ifCond .eq 14, 3) := dk_153 0 14 (dk_at dksX5_divide_0 9 rfl rfl)
theorem dX5_divide_12 : decode cX5_divide 12 = .ok (.aload_n 2, 1) := dk_44 (dk_at dksX5_divide_0 12 rfl rfl)
theorem dX5_divide_13 : decode cX5_divide 13 = .ok (.invokevirtual 118, 3) := dk_182 0 118 (dk_at dksX5_divide_0 13 rfl rfl)
theorem dX5_divide_16 : decode cX5_divide 16 = .ok (.ifCond .ne 7, 3) := dk_154 0 7 (dk_at dksX5_divide_0 16 rfl rfl)
theorem dX5_divide_19 : decode cX5_divide 19 = .ok (.iconst 1, 1) := dk_4 (dk_at dksX5_divide_0 19 rfl rfl)
theorem dX5_divide_20 : decode cX5_divide 20 = .ok (.goto 4, 3) := dk_167 0 4 (dk_at dksX5_divide_0 20 rfl rfl)
theorem dX5_divide_23 : decode cX5_divide 23 = .ok (.iconst 0, 1) := dk_3 (dk_at dksX5_divide_0 23 rfl rfl)
theorem dX5_divide_24 : decode cX5_divide 24 = .ok (.bastore, 1) := dk_84 (dk_at dksX5_divide_1 0 rfl rfl)
theorem dX5_divide_25 : decode cX5_divide 25 = .ok (.aload_n 0, 1) := dk_42 (dk_at dksX5_divide_1 1 rfl rfl)
theorem dX5_divide_26 : decode cX5_divide 26 = .ok (.getfield 104, 3) := dk_180 0 104 (dk_at dksX5_divide_1 2 rfl rfl)
theorem dX5_divide_29 : decode cX5_divide 29 = .ok (.ifCond .eq 12, 3) := dk_153 0 12 (dk_at dksX5_divide_1 5 rfl rfl)
theorem dX5_divide_32 : decode cX5_divide 32 = .ok (.aload_n 0, 1) := dk_42 (dk_at dksX5_divide_1 8 rfl rfl)
theorem dX5_divide_33 : decode cX5_divide 33 = .ok (.aload_n 2, 1) := dk_44 (dk_at dksX5_divide_1 9 rfl rfl)
theorem dX5_divide_34 : decode cX5_divide 34 = .ok (.iconst 0, 1) := dk_3 (dk_at dksX5_divide_1 10 rfl rfl)
theorem dX5_divide_35 : decode cX5_divide 35 = .ok (.invokevirtual 122, 3) := dk_182 0 122 (dk_at dksX5_divide_1 11 rfl rfl)
theorem dX5_divide_38 : decode cX5_divide 38 = .ok (.goto 4, 3) := dk_167 0 4 (dk_at dksX5_divide_1 14 rfl rfl)
theorem dX5_divide_41 : decode cX5_divide 41 = .ok (.iconst 0, 1) := dk_3 (dk_at dksX5_divide_1 17 rfl rfl)
theorem dX5_divide_42 : decode cX5_divide 42 = .ok (.istore_n 3, 1) := dk_62 (dk_at dksX5_divide_1 18 rfl rfl)
theorem dX5_divide_43 : decode cX5_divide 43 = .ok (.iload_n 3, 1) := dk_29 (dk_at dksX5_divide_1 19 rfl rfl)
theorem dX5_divide_44 : decode cX5_divide 44 = .ok (.aload_n 2, 1) := dk_44 (dk_at dksX5_divide_1 20 rfl rfl)
theorem dX5_divide_45 : decode cX5_divide 45 = .ok (.invokevirtual 93, 3) := dk_182 0 93 (dk_at dksX5_divide_1 21 rfl rfl)
theorem dX5_divide_48 : decode cX5_divide 48 = .ok (.if_icmp .ge 206, 3) := dk_162 0 206 (dk_at dksX5_divide_2 0 rfl rfl)
theorem dX5_divide_51 : decode cX5_divide 51 = .ok (.aload_n 2, 1) := dk_44 (dk_at dksX5_divide_2 3 rfl rfl)
theorem dX5_divide_52 : decode cX5_divide 52 = .ok (.iload_n 3, 1) := dk_29 (dk_at dksX5_divide_2 4 rfl rfl)
theorem dX5_divide_53 : decode cX5_divide 53 = .ok (.invokevirtual 96, 3) := dk_182 0 96 (dk_at dksX5_divide_2 5 rfl rfl)
theorem dX5_divide_56 : decode cX5_divide 56 = .ok (.istore 4, 2) := dk_54 4 (dk_at dksX5_divide_2 8 rfl rfl)
theorem dX5_divide_58 : decode cX5_divide 58 = .ok (.iload_n 3, 1) := dk_29 (dk_at dksX5_divide_2 10 rfl rfl)
theorem dX5_divide_59 : decode cX5_divide 59 = .ok (.iconst 1, 1) := dk_4 (dk_at dksX5_divide_2 11 rfl rfl)
theorem dX5_divide_60 : decode cX5_divide 60 = .ok (.iadd, 1) := dk_96 (dk_at dksX5_divide_2 12 rfl rfl)
theorem dX5_divide_61 : decode cX5_divide 61 = .ok (.istore 5, 2) := dk_54 5 (dk_at dksX5_divide_2 13 rfl rfl)
theorem dX5_divide_63 : decode cX5_divide 63 = .ok (.iload 4, 2) := dk_21 4 (dk_at dksX5_divide_2 15 rfl rfl)
theorem dX5_divide_65 : decode cX5_divide 65 = .ok (.aload_n 0, 1) := dk_42 (dk_at dksX5_divide_2 17 rfl rfl)
theorem dX5_divide_66 : decode cX5_divide 66 = .ok (.getfield 29, 3) := dk_180 0 29 (dk_at dksX5_divide_2 18 rfl rfl)
theorem dX5_divide_69 : decode cX5_divide 69 = .ok (.getfield 126, 3) := dk_180 0 126 (dk_at dksX5_divide_2 21 rfl rfl)
theorem dX5_divide_72 : decode cX5_divide 72 = .ok (.if_icmp .ne 4, 3) := dk_160 0 4 (dk_at dksX5_divide_3 0 rfl rfl)
theorem dX5_divide_75 : decode cX5_divide 75 = .ok (.return_, 1) := dk_177 (dk_at dksX5_divide_3 3 rfl rfl)
theorem dX5_divide_76 : decode cX5_divide 76 = .ok (.aload_n 2, 1) := dk_44 (dk_at dksX5_divide_3 4 rfl rfl)
theorem dX5_divide_77 : decode cX5_divide 77 = .ok (.iload_n 3, 1) := dk_29 (dk_at dksX5_divide_3 5 rfl rfl)
theorem dX5_divide_78 : decode cX5_divide 78 = .ok (.invokestatic 100, 3) := dk_184 0 100 (dk_at dksX5_divide_3 6 rfl rfl)
theorem dX5_divide_81 : decode cX5_divide 81 = .ok (.ifCond .eq 46, 3) := dk_153 0 46 (dk_at dksX5_divide_3 9 rfl rfl)
theorem dX5_divide_84 : decode cX5_divide 84 = .ok (.aload_n 0, 1) := dk_42 (dk_at dksX5_divide_3 12 rfl rfl)
theorem dX5_divide_85 : decode cX5_divide 85 = .ok (.iconst 1, 1) := dk_4 (dk_at dksX5_divide_3 13 rfl rfl)
theorem dX5_divide_86 : decode cX5_divide 86 = .ok (.putfield 104, 3) := dk_181 0 104 (dk_at dksX5_divide_3 14 rfl rfl)
theorem dX5_divide_89 : decode cX5_divide 89 = .ok (.aload_n 0, 1) := dk_42 (dk_at dksX5_divide_3 17 rfl rfl)
theorem dX5_divide_90 : decode cX5_divide 90 = .ok (.aload_n 2, 1) := dk_44 (dk_at dksX5_divide_3 18 rfl rfl)
theorem dX5_divide_91 : decode cX5_divide 91 = .ok (.iload_n 3, 1) := dk_29 (dk_at dksX5_divide_3 19 rfl rfl)
theorem dX5_divide_92 : decode cX5_divide 92 = .ok (.iconst 3, 1) := dk_6 (dk_at dksX5_divide_3 20 rfl rfl)
theorem dX5_divide_93 : decode cX5_divide 93 = .ok (.iadd, 1) := dk_96 (dk_at dksX5_divide_3 21 rfl rfl)
theorem dX5_divide_94 : decode cX5_divide 94 = .ok (.invokevirtual 122, 3) := dk_182 0 122 (dk_at dksX5_divide_4 0 rfl rfl)
theorem dX5_divide_97 : decode cX5_divide 97 = .ok (.istore 5, 2) := dk_54 5 (dk_at dksX5_divide_4 3 rfl rfl)
theorem dX5_divide_99 : decode cX5_divide 99 = .ok (.aload_n 0, 1) := dk_42 (dk_at dksX5_divide_4 5 rfl rfl)
theorem dX5_divide_100 : decode cX5_divide 100 = .ok (.getfield 12, 3) := dk_180 0 12 (dk_at dksX5_divide_4 6 rfl rfl)
theorem dX5_divide_103 : decode cX5_divide 103 = .ok (.new 91, 3) := dk_187 0 91 (dk_at dksX5_divide_4 9 rfl rfl)
theorem dX5_divide_106 : decode cX5_divide 106 = .ok (.dup, 1) := dk_89 (dk_at dksX5_divide_4 12 rfl rfl)
theorem dX5_divide_107 : decode cX5_divide 107 = .ok (.iload_n 1, 1) := dk_27 (dk_at dksX5_divide_4 13 rfl rfl)
theorem dX5_divide_108 : decode cX5_divide 108 = .ok (.iload_n 3, 1) := dk_29 (dk_at dksX5_divide_4 14 rfl rfl)
theorem dX5_divide_109 : decode cX5_divide 109 = .ok (.iload 5, 2) := dk_21 5 (dk_at dksX5_divide_4 15 rfl rfl)
theorem dX5_divide_111 : decode cX5_divide 111 = .ok (.iload_n 3, 1) := dk_29 (dk_at dksX5_divide_4 17 rfl rfl)
theorem dX5_divide_112 : decode cX5_divide 112 = .ok (.isub, 1) := dk_100 (dk_at dksX5_divide_4 18 rfl rfl)
theorem dX5_divide_113 : decode cX5_divide 113 = .ok (.iconst 2, 1) := dk_5 (dk_at dksX5_divide_4 19 rfl rfl)
theorem dX5_divide_114 : decode cX5_divide 114 = .ok (.aconst_null, 1) := dk_1 (dk_at dksX5_divide_4 20 rfl rfl)
theorem dX5_divide_115 : decode cX5_divide 115 = .ok (.bipush (-9), 2) := dk_16 247 (dk_at dksX5_divide_4 21 rfl rfl)
theorem dX5_divide_117 : decode cX5_divide 117 = .ok (.invokespecial 129, 3) := dk_183 0 129 (dk_at dksX5_divide_5 0 rfl rfl)
theorem dX5_divide_120 : decode cX5_divide 120 = .ok (.invokevirtual 88, 3) := dk_182 0 88 (dk_at dksX5_divide_5 3 rfl rfl)
theorem dX5_divide_123 : decode cX5_divide 123 = .ok (.pop, 1) := dk_87 (dk_at dksX5_divide_5 6 rfl rfl)
theorem dX5_divide_124 : decode cX5_divide 124 = .ok (.goto 124, 3) := dk_167 0 124 (dk_at dksX5_divide_5 7 rfl rfl)
theorem dX5_divide_127 : decode cX5_divide 127 = .ok (.iload 4, 2) := dk_21 4 (dk_at dksX5_divide_5 10 rfl rfl)
theorem dX5_divide_129 : decode cX5_divide 129 = .ok (.bipush 34, 2) := dk_16 34 (dk_at dksX5_divide_5 12 rfl rfl)
theorem dX5_divide_131 : decode cX5_divide 131 = .ok (.if_icmp .ne 38, 3) := dk_160 0 38 (dk_at dksX5_divide_5 14 rfl rfl)
theorem dX5_divide_134 : decode cX5_divide 134 = .ok (.aload_n 2, 1) := dk_44 (dk_at dksX5_divide_5 17 rfl rfl)
theorem dX5_divide_135 : decode cX5_divide 135 = .ok (.iload_n 3, 1) := dk_29 (dk_at dksX5_divide_5 18 rfl rfl)
theorem dX5_divide_136 : decode cX5_divide 136 = .ok (.invokestatic 132, 3) := dk_184 0 132 (dk_at dksX5_divide_5 19 rfl rfl)
theorem dX5_divide_139 : decode cX5_divide 139 = .ok (.istore 5, 2) := dk_54 5 (dk_at dksX5_divide_5 22 rfl rfl)
theorem dX5_divide_141 : decode cX5_divide 141 = .ok (.aload_n 0, 1) := dk_42 (dk_at dksX5_divide_6 0 rfl rfl)
theorem dX5_divide_142 : decode cX5_divide 142 = .ok (.getfield 12, 3) := dk_180 0 12 (dk_at dksX5_divide_6 1 rfl rfl)
theorem dX5_divide_145 : decode cX5_divide 145 = .ok (.new 91, 3) := dk_187 0 91 (dk_at dksX5_divide_6 4 rfl rfl)
theorem dX5_divide_148 : decode cX5_divide 148 = .ok (.dup, 1) := dk_89 (dk_at dksX5_divide_6 7 rfl rfl)
theorem dX5_divide_149 : decode cX5_divide 149 = .ok (.iload_n 1, 1) := dk_27 (dk_at dksX5_divide_6 8 rfl rfl)
theorem dX5_divide_150 : decode cX5_divide 150 = .ok (.iload_n 3, 1) := dk_29 (dk_at dksX5_divide_6 9 rfl rfl)
theorem dX5_divide_151 : decode cX5_divide 151 = .ok (.iload 5, 2) := dk_21 5 (dk_at dksX5_divide_6 10 rfl rfl)
theorem dX5_divide_153 : decode cX5_divide 153 = .ok (.iload_n 3, 1) := dk_29 (dk_at dksX5_divide_6 12 rfl rfl)
theorem dX5_divide_154 : decode cX5_divide 154 = .ok (.isub, 1) := dk_100 (dk_at dksX5_divide_6 13 rfl rfl)
theorem dX5_divide_155 : decode cX5_divide 155 = .ok (.iconst 2, 1) := dk_5 (dk_at dksX5_divide_6 14 rfl rfl)
theorem dX5_divide_156 : decode cX5_divide 156 = .ok (.aconst_null, 1) := dk_1 (dk_at dksX5_divide_6 15 rfl rfl)
theorem dX5_divide_157 : decode cX5_divide 157 = .ok (.bipush (-9), 2) := dk_16 247 (dk_at dksX5_divide_6 16 rfl rfl)
theorem dX5_divide_159 : decode cX5_divide 159 = .ok (.invokespecial 129, 3) := dk_183 0 129 (dk_at dksX5_divide_6 18 rfl rfl)
theorem dX5_divide_162 : decode cX5_divide 162 = .ok (.invokevirtual 88, 3) := dk_182 0 88 (dk_at dksX5_divide_6 21 rfl rfl)
theorem dX5_divide_165 : decode cX5_divide 165 = .ok (.pop, 1) := dk_87 (dk_at dksX5_divide_7 0 rfl rfl)
theorem dX5_divide_166 : decode cX5_divide 166 = .ok (.goto 82, 3) := dk_167 0 82 (dk_at dksX5_divide_7 1 rfl rfl)
theorem dX5_divide_169 : decode cX5_divide 169 = .ok (.iload 4, 2) := dk_21 4 (dk_at dksX5_divide_7 4 rfl rfl)
theorem dX5_divide_171 : decode cX5_divide 171 = .ok (.bipush 32, 2) := dk_16 32 (dk_at dksX5_divide_7 6 rfl rfl)
theorem dX5_divide_173 : decode cX5_divide 173 = .ok (.if_icmp .eq 75, 3) := dk_159 0 75 (dk_at dksX5_divide_7 8 rfl rfl)
theorem dX5_divide_176 : decode cX5_divide 176 = .ok (.iload 4, 2) := dk_21 4 (dk_at dksX5_divide_7 11 rfl rfl)
theorem dX5_divide_178 : decode cX5_divide 178 = .ok (.invokestatic 114, 3) := dk_184 0 114 (dk_at dksX5_divide_7 13 rfl rfl)
theorem dX5_divide_181 : decode cX5_divide 181 = .ok (.istore 6, 2) := dk_54 6 (dk_at dksX5_divide_7 16 rfl rfl)
theorem dX5_divide_183 : decode cX5_divide 183 = .ok (.iload 6, 2) := dk_21 6 (dk_at dksX5_divide_7 18 rfl rfl)
theorem dX5_divide_185 : decode cX5_divide 185 = .ok (.ifCond .eq 11, 3) := dk_153 0 11 (dk_at dksX5_divide_7 20 rfl rfl)
theorem dX5_divide_188 : decode cX5_divide 188 = .ok (.aload_n 2, 1) := dk_44 (dk_at dksX5_divide_7 23 rfl rfl)
theorem dX5_divide_189 : decode cX5_divide 189 = .ok (.iload_n 3, 1) := dk_29 (dk_at dksX5_divide_8 0 rfl rfl)
theorem dX5_divide_190 : decode cX5_divide 190 = .ok (.invokestatic 135, 3) := dk_184 0 135 (dk_at dksX5_divide_8 1 rfl rfl)
theorem dX5_divide_193 : decode cX5_divide 193 = .ok (.goto 5, 3) := dk_167 0 5 (dk_at dksX5_divide_8 4 rfl rfl)
theorem dX5_divide_196 : decode cX5_divide 196 = .ok (.iload 5, 2) := dk_21 5 (dk_at dksX5_divide_8 7 rfl rfl)
theorem dX5_divide_198 : decode cX5_divide 198 = .ok (.istore 5, 2) := dk_54 5 (dk_at dksX5_divide_8 9 rfl rfl)
theorem dX5_divide_200 : decode cX5_divide 200 = .ok (.aload_n 2, 1) := dk_44 (dk_at dksX5_divide_8 11 rfl rfl)
theorem dX5_divide_201 : decode cX5_divide 201 = .ok (.iload_n 3, 1) := dk_29 (dk_at dksX5_divide_8 12 rfl rfl)
theorem dX5_divide_202 : decode cX5_divide 202 = .ok (.iload 5, 2) := dk_21 5 (dk_at dksX5_divide_8 13 rfl rfl)
theorem dX5_divide_204 : decode cX5_divide 204 = .ok (.invokevirtual 138, 3) := dk_182 0 138 (dk_at dksX5_divide_8 15 rfl rfl)
theorem dX5_divide_207 : decode cX5_divide 207 = .ok (.astore 7, 2) := dk_58 7 (dk_at dksX5_divide_8 18 rfl rfl)
theorem dX5_divide_209 : decode cX5_divide 209 = .ok (.aload_n 0, 1) := dk_42 (dk_at dksX5_divide_8 20 rfl rfl)
theorem dX5_divide_210 : decode cX5_divide 210 = .ok (.getfield 12, 3) := dk_180 0 12 (dk_at dksX5_divide_8 21 rfl rfl)
theorem dX5_divide_213 : decode cX5_divide 213 = .ok (.new 91, 3) := dk_187 0 91 (dk_at dksX5_divide_9 0 rfl rfl)
theorem dX5_divide_216 : decode cX5_divide 216 = .ok (.dup, 1) := dk_89 (dk_at dksX5_divide_9 3 rfl rfl)
theorem dX5_divide_217 : decode cX5_divide 217 = .ok (.iload_n 1, 1) := dk_27 (dk_at dksX5_divide_9 4 rfl rfl)
theorem dX5_divide_218 : decode cX5_divide 218 = .ok (.iload_n 3, 1) := dk_29 (dk_at dksX5_divide_9 5 rfl rfl)
theorem dX5_divide_219 : decode cX5_divide 219 = .ok (.iload 5, 2) := dk_21 5 (dk_at dksX5_divide_9 6 rfl rfl)
theorem dX5_divide_221 : decode cX5_divide 221 = .ok (.iload_n 3, 1) := dk_29 (dk_at dksX5_divide_9 8 rfl rfl)
theorem dX5_divide_222 : decode cX5_divide 222 = .ok (.isub, 1) := dk_100 (dk_at dksX5_divide_9 9 rfl rfl)
theorem dX5_divide_223 : decode cX5_divide 223 = .ok (.iload 6, 2) := dk_21 6 (dk_at dksX5_divide_9 10 rfl rfl)
theorem dX5_divide_225 : decode cX5_divide 225 = .ok (.ifCond .eq 7, 3) := dk_153 0 7 (dk_at dksX5_divide_9 12 rfl rfl)
theorem dX5_divide_228 : decode cX5_divide 228 = .ok (.iconst 0, 1) := dk_3 (dk_at dksX5_divide_9 15 rfl rfl)
theorem dX5_divide_229 : decode cX5_divide 229 = .ok (.goto 4, 3) := dk_167 0 4 (dk_at dksX5_divide_9 16 rfl rfl)
theorem dX5_divide_232 : decode cX5_divide 232 = .ok (.iconst 1, 1) := dk_4 (dk_at dksX5_divide_9 19 rfl rfl)
theorem dX5_divide_233 : decode cX5_divide 233 = .ok (.aload 7, 2) := dk_25 7 (dk_at dksX5_divide_9 20 rfl rfl)
theorem dX5_divide_235 : decode cX5_divide 235 = .ok (.aload_n 0, 1) := dk_42 (dk_at dksX5_divide_9 22 rfl rfl)
theorem dX5_divide_236 : decode cX5_divide 236 = .ok (.aload 7, 2) := dk_25 7 (dk_at dksX5_divide_10 0 rfl rfl)
theorem dX5_divide_238 : decode cX5_divide 238 = .ok (.invokevirtual 45, 3) := dk_182 0 45 (dk_at dksX5_divide_10 2 rfl rfl)
theorem dX5_divide_241 : decode cX5_divide 241 = .ok (.invokespecial 129, 3) := dk_183 0 129 (dk_at dksX5_divide_10 5 rfl rfl)
theorem dX5_divide_244 : decode cX5_divide 244 = .ok (.invokevirtual 88, 3) := dk_182 0 88 (dk_at dksX5_divide_10 8 rfl rfl)
theorem dX5_divide_247 : decode cX5_divide 247 = .ok (.pop, 1) := dk_87 (dk_at dksX5_divide_10 11 rfl rfl)
theorem dX5_divide_248 : decode cX5_divide 248 = .ok (.iload 5, 2) := dk_21 5 (dk_at dksX5_divide_10 12 rfl rfl)
theorem dX5_divide_250 : decode cX5_divide 250 = .ok (.istore_n 3, 1) := dk_62 (dk_at dksX5_divide_10 14 rfl rfl)
theorem dX5_divide_251 : decode cX5_divide 251 = .ok (.goto (-208), 3) := dk_167 255 48 (dk_at dksX5_divide_10 15 rfl rfl)
theorem dX5_divide_254 : decode cX5_divide 254 = .ok (.return_, 1) := dk_177 (dk_at dksX5_divide_10 18 rfl rfl)
abbrev cX5_literalEnd : ByteArray := prog_7_method_6_code
def yX5_literalEnd : MethodName := ⟨RX5, "literalEnd", "(Ljava/lang/String;I)I"⟩
def dkwX5_literalEnd_1 : List UInt8 := [6, 96, 172, 132, 3, 1, 167, 255, 228, 29, 172]
abbrev dktX5_literalEnd_1 : List UInt8 := dkwX5_literalEnd_1 ++ []
def dkwX5_literalEnd_0 : List UInt8 := [28, 62, 29, 43, 182, 0, 93, 162, 0, 26, 43, 29, 184, 0, 100, 153, 0, 12, 42, 3, 181, 0, 104, 29]
abbrev dktX5_literalEnd_0 : List UInt8 := dkwX5_literalEnd_0 ++ dktX5_literalEnd_1
theorem dksX5_literalEnd_0 : cX5_literalEnd.data.toList.drop 0 = dktX5_literalEnd_0 := by decide +kernel
theorem dksX5_literalEnd_1 : cX5_literalEnd.data.toList.drop 24 = dktX5_literalEnd_1 := dk_seg dksX5_literalEnd_0 24 rfl rfl
theorem dX5_literalEnd_0 : decode cX5_literalEnd 0 = .ok (.iload_n 2, 1) := dk_28 (dk_at dksX5_literalEnd_0 0 rfl rfl)
theorem dX5_literalEnd_1 : decode cX5_literalEnd 1 = .ok (.istore_n 3, 1) := dk_62 (dk_at dksX5_literalEnd_0 1 rfl rfl)
theorem dX5_literalEnd_2 : decode cX5_literalEnd 2 = .ok (.iload_n 3, 1) := dk_29 (dk_at dksX5_literalEnd_0 2 rfl rfl)
theorem dX5_literalEnd_3 : decode cX5_literalEnd 3 = .ok (.aload_n 1, 1) := dk_43 (dk_at dksX5_literalEnd_0 3 rfl rfl)
theorem dX5_literalEnd_4 : decode cX5_literalEnd 4 = .ok (.invokevirtual 93, 3) := dk_182 0 93 (dk_at dksX5_literalEnd_0 4 rfl rfl)
theorem dX5_literalEnd_7 : decode cX5_literalEnd 7 = .ok (.if_icmp .ge 26, 3) := dk_162 0 26 (dk_at dksX5_literalEnd_0 7 rfl rfl)
theorem dX5_literalEnd_10 : decode cX5_literalEnd 10 = .ok (.aload_n 1, 1) := dk_43 (dk_at dksX5_literalEnd_0 10 rfl rfl)
theorem dX5_literalEnd_11 : decode cX5_literalEnd 11 = .ok (.iload_n 3, 1) := dk_29 (dk_at dksX5_literalEnd_0 11 rfl rfl)
theorem dX5_literalEnd_12 : decode cX5_literalEnd 12 = .ok (.invokestatic 100, 3) := dk_184 0 100 (dk_at dksX5_literalEnd_0 12 rfl rfl)
theorem dX5_literalEnd_15 : decode cX5_literalEnd 15 = .ok (.ifCond .eq 12, 3) := dk_153 0 12 (dk_at dksX5_literalEnd_0 15 rfl rfl)
theorem dX5_literalEnd_18 : decode cX5_literalEnd 18 = .ok (.aload_n 0, 1) := dk_42 (dk_at dksX5_literalEnd_0 18 rfl rfl)
theorem dX5_literalEnd_19 : decode cX5_literalEnd 19 = .ok (.iconst 0, 1) := dk_3 (dk_at dksX5_literalEnd_0 19 rfl rfl)
theorem dX5_literalEnd_20 : decode cX5_literalEnd 20 = .ok (.putfield 104, 3) := dk_181 0 104 (dk_at dksX5_literalEnd_0 20 rfl rfl)
theorem dX5_literalEnd_23 : decode cX5_literalEnd 23 = .ok (.iload_n 3, 1) := dk_29 (dk_at dksX5_literalEnd_0 23 rfl rfl)
theorem dX5_literalEnd_24 : decode cX5_literalEnd 24 = .ok (.iconst 3, 1) := dk_6 (dk_at dksX5_literalEnd_1 0 rfl rfl)
theorem dX5_literalEnd_25 : decode cX5_literalEnd 25 = .ok (.iadd, 1) := dk_96 (dk_at dksX5_literalEnd_1 1 rfl rfl)
theorem dX5_literalEnd_26 : decode cX5_literalEnd 26 = .ok (.ireturn, 1) := dk_172 (dk_at dksX5_literalEnd_1 2 rfl rfl)
theorem dX5_literalEnd_27 : decode cX5_literalEnd 27 = .ok (.iinc 3 1, 3) := dk_132 3 1 (dk_at dksX5_literalEnd_1 3 rfl rfl)
theorem dX5_literalEnd_30 : decode cX5_literalEnd 30 = .ok (.goto (-28), 3) := dk_167 255 228 (dk_at dksX5_literalEnd_1 6 rfl rfl)
theorem dX5_literalEnd_33 : decode cX5_literalEnd 33 = .ok (.iload_n 3, 1) := dk_29 (dk_at dksX5_literalEnd_1 9 rfl rfl)
theorem dX5_literalEnd_34 : decode cX5_literalEnd 34 = .ok (.ireturn, 1) := dk_172 (dk_at dksX5_literalEnd_1 10 rfl rfl)
abbrev cX5_isLiteral : ByteArray := prog_7_method_5_code
def yX5_isLiteral : MethodName := ⟨RX5, "isLiteral", "(Ljava/lang/String;I)Z"⟩
def dkwX5_isLiteral_2 : List UInt8 := [3, 172]
abbrev dktX5_isLiteral_2 : List UInt8 := dkwX5_isLiteral_2 ++ []
def dkwX5_isLiteral_1 : List UInt8 := [182, 0, 96, 16, 34, 160, 0, 19, 42, 27, 5, 96, 182, 0, 96, 16, 34, 160, 0, 7, 4, 167, 0, 4]
abbrev dktX5_isLiteral_1 : List UInt8 := dkwX5_isLiteral_1 ++ dktX5_isLiteral_2
def dkwX5_isLiteral_0 : List UInt8 := [27, 5, 96, 42, 182, 0, 93, 162, 0, 41, 42, 27, 182, 0, 96, 16, 34, 160, 0, 31, 42, 27, 4, 96]
abbrev dktX5_isLiteral_0 : List UInt8 := dkwX5_isLiteral_0 ++ dktX5_isLiteral_1
theorem dksX5_isLiteral_0 : cX5_isLiteral.data.toList.drop 0 = dktX5_isLiteral_0 := by decide +kernel
theorem dksX5_isLiteral_1 : cX5_isLiteral.data.toList.drop 24 = dktX5_isLiteral_1 := dk_seg dksX5_isLiteral_0 24 rfl rfl
theorem dksX5_isLiteral_2 : cX5_isLiteral.data.toList.drop 48 = dktX5_isLiteral_2 := dk_seg dksX5_isLiteral_1 24 rfl rfl
theorem dX5_isLiteral_0 : decode cX5_isLiteral 0 = .ok (.iload_n 1, 1) := dk_27 (dk_at dksX5_isLiteral_0 0 rfl rfl)
theorem dX5_isLiteral_1 : decode cX5_isLiteral 1 = .ok (.iconst 2, 1) := dk_5 (dk_at dksX5_isLiteral_0 1 rfl rfl)
theorem dX5_isLiteral_2 : decode cX5_isLiteral 2 = .ok (.iadd, 1) := dk_96 (dk_at dksX5_isLiteral_0 2 rfl rfl)
theorem dX5_isLiteral_3 : decode cX5_isLiteral 3 = .ok (.aload_n 0, 1) := dk_42 (dk_at dksX5_isLiteral_0 3 rfl rfl)
theorem dX5_isLiteral_4 : decode cX5_isLiteral 4 = .ok (.invokevirtual 93, 3) := dk_182 0 93 (dk_at dksX5_isLiteral_0 4 rfl rfl)
theorem dX5_isLiteral_7 : decode cX5_isLiteral 7 = .ok (.if_icmp .ge 41, 3) := dk_162 0 41 (dk_at dksX5_isLiteral_0 7 rfl rfl)
theorem dX5_isLiteral_10 : decode cX5_isLiteral 10 = .ok (.aload_n 0, 1) := dk_42 (dk_at dksX5_isLiteral_0 10 rfl rfl)
theorem dX5_isLiteral_11 : decode cX5_isLiteral 11 = .ok (.iload_n 1, 1) := dk_27 (dk_at dksX5_isLiteral_0 11 rfl rfl)
theorem dX5_isLiteral_12 : decode cX5_isLiteral 12 = .ok (.invokevirtual 96, 3) := dk_182 0 96 (dk_at dksX5_isLiteral_0 12 rfl rfl)
theorem dX5_isLiteral_15 : decode cX5_isLiteral 15 = .ok (.bipush 34, 2) := dk_16 34 (dk_at dksX5_isLiteral_0 15 rfl rfl)
theorem dX5_isLiteral_17 : decode cX5_isLiteral 17 = .ok (.if_icmp .ne 31, 3) := dk_160 0 31 (dk_at dksX5_isLiteral_0 17 rfl rfl)
theorem dX5_isLiteral_20 : decode cX5_isLiteral 20 = .ok (.aload_n 0, 1) := dk_42 (dk_at dksX5_isLiteral_0 20 rfl rfl)
theorem dX5_isLiteral_21 : decode cX5_isLiteral 21 = .ok (.iload_n 1, 1) := dk_27 (dk_at dksX5_isLiteral_0 21 rfl rfl)
theorem dX5_isLiteral_22 : decode cX5_isLiteral 22 = .ok (.iconst 1, 1) := dk_4 (dk_at dksX5_isLiteral_0 22 rfl rfl)
theorem dX5_isLiteral_23 : decode cX5_isLiteral 23 = .ok (.iadd, 1) := dk_96 (dk_at dksX5_isLiteral_0 23 rfl rfl)
theorem dX5_isLiteral_24 : decode cX5_isLiteral 24 = .ok (.invokevirtual 96, 3) := dk_182 0 96 (dk_at dksX5_isLiteral_1 0 rfl rfl)
theorem dX5_isLiteral_27 : decode cX5_isLiteral 27 = .ok (.bipush 34, 2) := dk_16 34 (dk_at dksX5_isLiteral_1 3 rfl rfl)
theorem dX5_isLiteral_29 : decode cX5_isLiteral 29 = .ok (.if_icmp .ne 19, 3) := dk_160 0 19 (dk_at dksX5_isLiteral_1 5 rfl rfl)
theorem dX5_isLiteral_32 : decode cX5_isLiteral 32 = .ok (.aload_n 0, 1) := dk_42 (dk_at dksX5_isLiteral_1 8 rfl rfl)
theorem dX5_isLiteral_33 : decode cX5_isLiteral 33 = .ok (.iload_n 1, 1) := dk_27 (dk_at dksX5_isLiteral_1 9 rfl rfl)
theorem dX5_isLiteral_34 : decode cX5_isLiteral 34 = .ok (.iconst 2, 1) := dk_5 (dk_at dksX5_isLiteral_1 10 rfl rfl)
theorem dX5_isLiteral_35 : decode cX5_isLiteral 35 = .ok (.iadd, 1) := dk_96 (dk_at dksX5_isLiteral_1 11 rfl rfl)
theorem dX5_isLiteral_36 : decode cX5_isLiteral 36 = .ok (.invokevirtual 96, 3) := dk_182 0 96 (dk_at dksX5_isLiteral_1 12 rfl rfl)
theorem dX5_isLiteral_39 : decode cX5_isLiteral 39 = .ok (.bipush 34, 2) := dk_16 34 (dk_at dksX5_isLiteral_1 15 rfl rfl)
theorem dX5_isLiteral_41 : decode cX5_isLiteral 41 = .ok (.if_icmp .ne 7, 3) := dk_160 0 7 (dk_at dksX5_isLiteral_1 17 rfl rfl)
theorem dX5_isLiteral_44 : decode cX5_isLiteral 44 = .ok (.iconst 1, 1) := dk_4 (dk_at dksX5_isLiteral_1 20 rfl rfl)
theorem dX5_isLiteral_45 : decode cX5_isLiteral 45 = .ok (.goto 4, 3) := dk_167 0 4 (dk_at dksX5_isLiteral_1 21 rfl rfl)
theorem dX5_isLiteral_48 : decode cX5_isLiteral 48 = .ok (.iconst 0, 1) := dk_3 (dk_at dksX5_isLiteral_2 0 rfl rfl)
theorem dX5_isLiteral_49 : decode cX5_isLiteral 49 = .ok (.ireturn, 1) := dk_172 (dk_at dksX5_isLiteral_2 1 rfl rfl)
abbrev cX5_stringEnd : ByteArray := prog_7_method_7_code
def yX5_stringEnd : MethodName := ⟨RX5, "stringEnd", "(Ljava/lang/String;I)I"⟩
def dkwX5_stringEnd_2 : List UInt8 := [4, 96, 184, 0, 108, 172]
abbrev dktX5_stringEnd_2 : List UInt8 := dkwX5_stringEnd_2 ++ []
def dkwX5_stringEnd_1 : List UInt8 := [28, 182, 0, 96, 16, 92, 160, 0, 7, 5, 167, 0, 4, 4, 96, 61, 167, 255, 220, 42, 182, 0, 93, 28]
abbrev dktX5_stringEnd_1 : List UInt8 := dkwX5_stringEnd_1 ++ dktX5_stringEnd_2
def dkwX5_stringEnd_0 : List UInt8 := [27, 4, 96, 61, 28, 42, 182, 0, 93, 162, 0, 34, 42, 28, 182, 0, 96, 16, 34, 159, 0, 24, 28, 42]
abbrev dktX5_stringEnd_0 : List UInt8 := dkwX5_stringEnd_0 ++ dktX5_stringEnd_1
theorem dksX5_stringEnd_0 : cX5_stringEnd.data.toList.drop 0 = dktX5_stringEnd_0 := by decide +kernel
theorem dksX5_stringEnd_1 : cX5_stringEnd.data.toList.drop 24 = dktX5_stringEnd_1 := dk_seg dksX5_stringEnd_0 24 rfl rfl
theorem dksX5_stringEnd_2 : cX5_stringEnd.data.toList.drop 48 = dktX5_stringEnd_2 := dk_seg dksX5_stringEnd_1 24 rfl rfl
theorem dX5_stringEnd_0 : decode cX5_stringEnd 0 = .ok (.iload_n 1, 1) := dk_27 (dk_at dksX5_stringEnd_0 0 rfl rfl)
theorem dX5_stringEnd_1 : decode cX5_stringEnd 1 = .ok (.iconst 1, 1) := dk_4 (dk_at dksX5_stringEnd_0 1 rfl rfl)
theorem dX5_stringEnd_2 : decode cX5_stringEnd 2 = .ok (.iadd, 1) := dk_96 (dk_at dksX5_stringEnd_0 2 rfl rfl)
theorem dX5_stringEnd_3 : decode cX5_stringEnd 3 = .ok (.istore_n 2, 1) := dk_61 (dk_at dksX5_stringEnd_0 3 rfl rfl)
theorem dX5_stringEnd_4 : decode cX5_stringEnd 4 = .ok (.iload_n 2, 1) := dk_28 (dk_at dksX5_stringEnd_0 4 rfl rfl)
theorem dX5_stringEnd_5 : decode cX5_stringEnd 5 = .ok (.aload_n 0, 1) := dk_42 (dk_at dksX5_stringEnd_0 5 rfl rfl)
theorem dX5_stringEnd_6 : decode cX5_stringEnd 6 = .ok (.invokevirtual 93, 3) := dk_182 0 93 (dk_at dksX5_stringEnd_0 6 rfl rfl)
theorem dX5_stringEnd_9 : decode cX5_stringEnd 9 = .ok (.if_icmp .ge 34, 3) := dk_162 0 34 (dk_at dksX5_stringEnd_0 9 rfl rfl)
theorem dX5_stringEnd_12 : decode cX5_stringEnd 12 = .ok (.aload_n 0, 1) := dk_42 (dk_at dksX5_stringEnd_0 12 rfl rfl)
theorem dX5_stringEnd_13 : decode cX5_stringEnd 13 = .ok (.iload_n 2, 1) := dk_28 (dk_at dksX5_stringEnd_0 13 rfl rfl)
theorem dX5_stringEnd_14 : decode cX5_stringEnd 14 = .ok (.invokevirtual 96, 3) := dk_182 0 96 (dk_at dksX5_stringEnd_0 14 rfl rfl)
theorem dX5_stringEnd_17 : decode cX5_stringEnd 17 = .ok (.bipush 34, 2) := dk_16 34 (dk_at dksX5_stringEnd_0 17 rfl rfl)
theorem dX5_stringEnd_19 : decode cX5_stringEnd 19 = .ok (.if_icmp .eq 24, 3) := dk_159 0 24 (dk_at dksX5_stringEnd_0 19 rfl rfl)
theorem dX5_stringEnd_22 : decode cX5_stringEnd 22 = .ok (.iload_n 2, 1) := dk_28 (dk_at dksX5_stringEnd_0 22 rfl rfl)
theorem dX5_stringEnd_23 : decode cX5_stringEnd 23 = .ok (.aload_n 0, 1) := dk_42 (dk_at dksX5_stringEnd_0 23 rfl rfl)
theorem dX5_stringEnd_24 : decode cX5_stringEnd 24 = .ok (.iload_n 2, 1) := dk_28 (dk_at dksX5_stringEnd_1 0 rfl rfl)
theorem dX5_stringEnd_25 : decode cX5_stringEnd 25 = .ok (.invokevirtual 96, 3) := dk_182 0 96 (dk_at dksX5_stringEnd_1 1 rfl rfl)
theorem dX5_stringEnd_28 : decode cX5_stringEnd 28 = .ok (.bipush 92, 2) := dk_16 92 (dk_at dksX5_stringEnd_1 4 rfl rfl)
theorem dX5_stringEnd_30 : decode cX5_stringEnd 30 = .ok (.if_icmp .ne 7, 3) := dk_160 0 7 (dk_at dksX5_stringEnd_1 6 rfl rfl)
theorem dX5_stringEnd_33 : decode cX5_stringEnd 33 = .ok (.iconst 2, 1) := dk_5 (dk_at dksX5_stringEnd_1 9 rfl rfl)
theorem dX5_stringEnd_34 : decode cX5_stringEnd 34 = .ok (.goto 4, 3) := dk_167 0 4 (dk_at dksX5_stringEnd_1 10 rfl rfl)
theorem dX5_stringEnd_37 : decode cX5_stringEnd 37 = .ok (.iconst 1, 1) := dk_4 (dk_at dksX5_stringEnd_1 13 rfl rfl)
theorem dX5_stringEnd_38 : decode cX5_stringEnd 38 = .ok (.iadd, 1) := dk_96 (dk_at dksX5_stringEnd_1 14 rfl rfl)
theorem dX5_stringEnd_39 : decode cX5_stringEnd 39 = .ok (.istore_n 2, 1) := dk_61 (dk_at dksX5_stringEnd_1 15 rfl rfl)
theorem dX5_stringEnd_40 : decode cX5_stringEnd 40 = .ok (.goto (-36), 3) := dk_167 255 220 (dk_at dksX5_stringEnd_1 16 rfl rfl)
theorem dX5_stringEnd_43 : decode cX5_stringEnd 43 = .ok (.aload_n 0, 1) := dk_42 (dk_at dksX5_stringEnd_1 19 rfl rfl)
theorem dX5_stringEnd_44 : decode cX5_stringEnd 44 = .ok (.invokevirtual 93, 3) := dk_182 0 93 (dk_at dksX5_stringEnd_1 20 rfl rfl)
theorem dX5_stringEnd_47 : decode cX5_stringEnd 47 = .ok (.iload_n 2, 1) := dk_28 (dk_at dksX5_stringEnd_1 23 rfl rfl)
theorem dX5_stringEnd_48 : decode cX5_stringEnd 48 = .ok (.iconst 1, 1) := dk_4 (dk_at dksX5_stringEnd_2 0 rfl rfl)
theorem dX5_stringEnd_49 : decode cX5_stringEnd 49 = .ok (.iadd, 1) := dk_96 (dk_at dksX5_stringEnd_2 1 rfl rfl)
theorem dX5_stringEnd_50 : decode cX5_stringEnd 50 = .ok (.invokestatic 108, 3) := dk_184 0 108 (dk_at dksX5_stringEnd_2 2 rfl rfl)
theorem dX5_stringEnd_53 : decode cX5_stringEnd 53 = .ok (.ireturn, 1) := dk_172 (dk_at dksX5_stringEnd_2 5 rfl rfl)
abbrev cX5_wordEnd : ByteArray := prog_7_method_8_code
def yX5_wordEnd : MethodName := ⟨RX5, "wordEnd", "(Ljava/lang/String;I)I"⟩
def dkwX5_wordEnd_1 : List UInt8 := [167, 255, 234, 28, 172]
abbrev dktX5_wordEnd_1 : List UInt8 := dkwX5_wordEnd_1 ++ []
def dkwX5_wordEnd_0 : List UInt8 := [27, 61, 28, 42, 182, 0, 93, 162, 0, 20, 42, 28, 182, 0, 96, 184, 0, 114, 153, 0, 9, 132, 2, 1]
abbrev dktX5_wordEnd_0 : List UInt8 := dkwX5_wordEnd_0 ++ dktX5_wordEnd_1
theorem dksX5_wordEnd_0 : cX5_wordEnd.data.toList.drop 0 = dktX5_wordEnd_0 := by decide +kernel
theorem dksX5_wordEnd_1 : cX5_wordEnd.data.toList.drop 24 = dktX5_wordEnd_1 := dk_seg dksX5_wordEnd_0 24 rfl rfl
theorem dX5_wordEnd_0 : decode cX5_wordEnd 0 = .ok (.iload_n 1, 1) := dk_27 (dk_at dksX5_wordEnd_0 0 rfl rfl)
theorem dX5_wordEnd_1 : decode cX5_wordEnd 1 = .ok (.istore_n 2, 1) := dk_61 (dk_at dksX5_wordEnd_0 1 rfl rfl)
theorem dX5_wordEnd_2 : decode cX5_wordEnd 2 = .ok (.iload_n 2, 1) := dk_28 (dk_at dksX5_wordEnd_0 2 rfl rfl)
theorem dX5_wordEnd_3 : decode cX5_wordEnd 3 = .ok (.aload_n 0, 1) := dk_42 (dk_at dksX5_wordEnd_0 3 rfl rfl)
theorem dX5_wordEnd_4 : decode cX5_wordEnd 4 = .ok (.invokevirtual 93, 3) := dk_182 0 93 (dk_at dksX5_wordEnd_0 4 rfl rfl)
theorem dX5_wordEnd_7 : decode cX5_wordEnd 7 = .ok (.if_icmp .ge 20, 3) := dk_162 0 20 (dk_at dksX5_wordEnd_0 7 rfl rfl)
theorem dX5_wordEnd_10 : decode cX5_wordEnd 10 = .ok (.aload_n 0, 1) := dk_42 (dk_at dksX5_wordEnd_0 10 rfl rfl)
theorem dX5_wordEnd_11 : decode cX5_wordEnd 11 = .ok (.iload_n 2, 1) := dk_28 (dk_at dksX5_wordEnd_0 11 rfl rfl)
theorem dX5_wordEnd_12 : decode cX5_wordEnd 12 = .ok (.invokevirtual 96, 3) := dk_182 0 96 (dk_at dksX5_wordEnd_0 12 rfl rfl)
theorem dX5_wordEnd_15 : decode cX5_wordEnd 15 = .ok (.invokestatic 114, 3) := dk_184 0 114 (dk_at dksX5_wordEnd_0 15 rfl rfl)
theorem dX5_wordEnd_18 : decode cX5_wordEnd 18 = .ok (.ifCond .eq 9, 3) := dk_153 0 9 (dk_at dksX5_wordEnd_0 18 rfl rfl)
theorem dX5_wordEnd_21 : decode cX5_wordEnd 21 = .ok (.iinc 2 1, 3) := dk_132 2 1 (dk_at dksX5_wordEnd_0 21 rfl rfl)
theorem dX5_wordEnd_24 : decode cX5_wordEnd 24 = .ok (.goto (-22), 3) := dk_167 255 234 (dk_at dksX5_wordEnd_1 0 rfl rfl)
theorem dX5_wordEnd_27 : decode cX5_wordEnd 27 = .ok (.iload_n 2, 1) := dk_28 (dk_at dksX5_wordEnd_1 3 rfl rfl)
theorem dX5_wordEnd_28 : decode cX5_wordEnd 28 = .ok (.ireturn, 1) := dk_172 (dk_at dksX5_wordEnd_1 4 rfl rfl)
abbrev cX5_findRules : ByteArray := prog_7_method_10_code
def yX5_findRules : MethodName := ⟨RX5, "findRules", "()V"⟩
def dkwX5_findRules_10 : List UInt8 := [167, 255, 149, 177]
abbrev dktX5_findRules_10 : List UInt8 := dkwX5_findRules_10 ++ []
def dkwX5_findRules_9 : List UInt8 := [181, 0, 176, 25, 6, 25, 4, 25, 6, 180, 0, 159, 184, 0, 152, 182, 0, 179, 181, 0, 182, 132, 5, 1]
abbrev dktX5_findRules_9 : List UInt8 := dkwX5_findRules_9 ++ dktX5_findRules_10
def dkwX5_findRules_8 : List UInt8 := [25, 6, 180, 0, 159, 184, 0, 166, 181, 0, 173, 25, 6, 45, 25, 6, 180, 0, 159, 184, 0, 166]
abbrev dktX5_findRules_8 : List UInt8 := dkwX5_findRules_8 ++ dktX5_findRules_9
def dkwX5_findRules_7 : List UInt8 := [100, 184, 0, 162, 153, 0, 63, 25, 6, 43, 25, 6, 180, 0, 159, 184, 0, 166, 181, 0, 170, 25, 6, 44]
abbrev dktX5_findRules_7 : List UInt8 := dkwX5_findRules_7 ++ dktX5_findRules_8
def dkwX5_findRules_6 : List UInt8 := [180, 0, 12, 21, 5, 182, 0, 66, 192, 0, 91, 58, 6, 25, 6, 180, 0, 159, 3, 42, 180, 0, 60, 4]
abbrev dktX5_findRules_6 : List UInt8 := dkwX5_findRules_6 ++ dktX5_findRules_7
def dkwX5_findRules_5 : List UInt8 := [87, 132, 5, 1, 167, 255, 169, 3, 54, 5, 21, 5, 42, 180, 0, 12, 182, 0, 56, 162, 0, 101, 42]
abbrev dktX5_findRules_5 : List UInt8 := dkwX5_findRules_5 ++ dktX5_findRules_6
def dkwX5_findRules_4 : List UInt8 := [180, 0, 49, 4, 160, 0, 21, 25, 4, 42, 25, 6, 180, 0, 53, 182, 0, 45, 184, 0, 152, 182, 0, 158]
abbrev dktX5_findRules_4 : List UInt8 := dkwX5_findRules_4 ++ dktX5_findRules_5
def dkwX5_findRules_3 : List UInt8 := [167, 0, 17, 25, 6, 180, 0, 49, 5, 160, 0, 7, 44, 167, 0, 4, 45, 21, 5, 182, 0, 148, 25, 6]
abbrev dktX5_findRules_3 : List UInt8 := dkwX5_findRules_3 ++ dktX5_findRules_4
def dkwX5_findRules_2 : List UInt8 := [180, 0, 33, 21, 5, 50, 58, 6, 25, 6, 198, 0, 63, 42, 25, 6, 180, 0, 49, 4, 160, 0, 7, 43]
abbrev dktX5_findRules_2 : List UInt8 := dkwX5_findRules_2 ++ dktX5_findRules_3
def dkwX5_findRules_1 : List UInt8 := [187, 0, 145, 89, 183, 0, 147, 58, 4, 3, 54, 5, 21, 5, 16, 12, 162, 0, 86, 42, 180, 0, 29]
abbrev dktX5_findRules_1 : List UInt8 := dkwX5_findRules_1 ++ dktX5_findRules_2
def dkwX5_findRules_0 : List UInt8 := [187, 0, 142, 89, 183, 0, 144, 76, 187, 0, 142, 89, 183, 0, 144, 77, 187, 0, 142, 89, 183, 0, 144, 78]
abbrev dktX5_findRules_0 : List UInt8 := dkwX5_findRules_0 ++ dktX5_findRules_1
theorem dksX5_findRules_0 : cX5_findRules.data.toList.drop 0 = dktX5_findRules_0 := by decide +kernel
theorem dksX5_findRules_1 : cX5_findRules.data.toList.drop 24 = dktX5_findRules_1 := dk_seg dksX5_findRules_0 24 rfl rfl
theorem dksX5_findRules_2 : cX5_findRules.data.toList.drop 47 = dktX5_findRules_2 := dk_seg dksX5_findRules_1 23 rfl rfl
theorem dksX5_findRules_3 : cX5_findRules.data.toList.drop 71 = dktX5_findRules_3 := dk_seg dksX5_findRules_2 24 rfl rfl
theorem dksX5_findRules_4 : cX5_findRules.data.toList.drop 95 = dktX5_findRules_4 := dk_seg dksX5_findRules_3 24 rfl rfl
theorem dksX5_findRules_5 : cX5_findRules.data.toList.drop 119 = dktX5_findRules_5 := dk_seg dksX5_findRules_4 24 rfl rfl
theorem dksX5_findRules_6 : cX5_findRules.data.toList.drop 142 = dktX5_findRules_6 := dk_seg dksX5_findRules_5 23 rfl rfl
theorem dksX5_findRules_7 : cX5_findRules.data.toList.drop 166 = dktX5_findRules_7 := dk_seg dksX5_findRules_6 24 rfl rfl
theorem dksX5_findRules_8 : cX5_findRules.data.toList.drop 190 = dktX5_findRules_8 := dk_seg dksX5_findRules_7 24 rfl rfl
theorem dksX5_findRules_9 : cX5_findRules.data.toList.drop 212 = dktX5_findRules_9 := dk_seg dksX5_findRules_8 22 rfl rfl
theorem dksX5_findRules_10 : cX5_findRules.data.toList.drop 236 = dktX5_findRules_10 := dk_seg dksX5_findRules_9 24 rfl rfl
theorem dX5_findRules_0 : decode cX5_findRules 0 = .ok (.new 142, 3) := dk_187 0 142 (dk_at dksX5_findRules_0 0 rfl rfl)
theorem dX5_findRules_3 : decode cX5_findRules 3 = .ok (.dup, 1) := dk_89 (dk_at dksX5_findRules_0 3 rfl rfl)
theorem dX5_findRules_4 : decode cX5_findRules 4 = .ok (.invokespecial 144, 3) := dk_183 0 144 (dk_at dksX5_findRules_0 4 rfl rfl)
theorem dX5_findRules_7 : decode cX5_findRules 7 = .ok (.astore_n 1, 1) := dk_76 (dk_at dksX5_findRules_0 7 rfl rfl)
theorem dX5_findRules_8 : decode cX5_findRules 8 = .ok (.new 142, 3) := dk_187 0 142 (dk_at dksX5_findRules_0 8 rfl rfl)
theorem dX5_findRules_11 : decode cX5_findRules 11 = .ok (.dup, 1) := dk_89 (dk_at dksX5_findRules_0 11 rfl rfl)
theorem dX5_findRules_12 : decode cX5_findRules 12 = .ok (.invokespecial 144, 3) := dk_183 0 144 (dk_at dksX5_findRules_0 12 rfl rfl)
theorem dX5_findRules_15 : decode cX5_findRules 15 = .ok (.astore_n 2, 1) := dk_77 (dk_at dksX5_findRules_0 15 rfl rfl)
theorem dX5_findRules_16 : decode cX5_findRules 16 = .ok (.new 142, 3) := dk_187 0 142 (dk_at dksX5_findRules_0 16 rfl rfl)
theorem dX5_findRules_19 : decode cX5_findRules 19 = .ok (.dup, 1) := dk_89 (dk_at dksX5_findRules_0 19 rfl rfl)
theorem dX5_findRules_20 : decode cX5_findRules 20 = .ok (.invokespecial 144, 3) := dk_183 0 144 (dk_at dksX5_findRules_0 20 rfl rfl)
theorem dX5_findRules_23 : decode cX5_findRules 23 = .ok (.astore_n 3, 1) := dk_78 (dk_at dksX5_findRules_0 23 rfl rfl)
theorem dX5_findRules_24 : decode cX5_findRules 24 = .ok (.new 145, 3) := dk_187 0 145 (dk_at dksX5_findRules_1 0 rfl rfl)
theorem dX5_findRules_27 : decode cX5_findRules 27 = .ok (.dup, 1) := dk_89 (dk_at dksX5_findRules_1 3 rfl rfl)
theorem dX5_findRules_28 : decode cX5_findRules 28 = .ok (.invokespecial 147, 3) := dk_183 0 147 (dk_at dksX5_findRules_1 4 rfl rfl)
theorem dX5_findRules_31 : decode cX5_findRules 31 = .ok (.astore 4, 2) := dk_58 4 (dk_at dksX5_findRules_1 7 rfl rfl)
theorem dX5_findRules_33 : decode cX5_findRules 33 = .ok (.iconst 0, 1) := dk_3 (dk_at dksX5_findRules_1 9 rfl rfl)
theorem dX5_findRules_34 : decode cX5_findRules 34 = .ok (.istore 5, 2) := dk_54 5 (dk_at dksX5_findRules_1 10 rfl rfl)
theorem dX5_findRules_36 : decode cX5_findRules 36 = .ok (.iload 5, 2) := dk_21 5 (dk_at dksX5_findRules_1 12 rfl rfl)
theorem dX5_findRules_38 : decode cX5_findRules 38 = .ok (.bipush 12, 2) := dk_16 12 (dk_at dksX5_findRules_1 14 rfl rfl)
theorem dX5_findRules_40 : decode cX5_findRules 40 = .ok (.if_icmp .ge 86, 3) := dk_162 0 86 (dk_at dksX5_findRules_1 16 rfl rfl)
theorem dX5_findRules_43 : decode cX5_findRules 43 = .ok (.aload_n 0, 1) := dk_42 (dk_at dksX5_findRules_1 19 rfl rfl)
theorem dX5_findRules_44 : decode cX5_findRules 44 = .ok (.getfield 29, 3) := dk_180 0 29 (dk_at dksX5_findRules_1 20 rfl rfl)
theorem dX5_findRules_47 : decode cX5_findRules 47 = .ok (.getfield 33, 3) := dk_180 0 33 (dk_at dksX5_findRules_2 0 rfl rfl)
theorem dX5_findRules_50 : decode cX5_findRules 50 = .ok (.iload 5, 2) := dk_21 5 (dk_at dksX5_findRules_2 3 rfl rfl)
theorem dX5_findRules_52 : decode cX5_findRules 52 = .ok (.aaload, 1) := dk_50 (dk_at dksX5_findRules_2 5 rfl rfl)
theorem dX5_findRules_53 : decode cX5_findRules 53 = .ok (.astore 6, 2) := dk_58 6 (dk_at dksX5_findRules_2 6 rfl rfl)
theorem dX5_findRules_55 : decode cX5_findRules 55 = .ok (.aload 6, 2) := dk_25 6 (dk_at dksX5_findRules_2 8 rfl rfl)
theorem dX5_findRules_57 : decode cX5_findRules 57 = .ok (.ifnull 63, 3) := dk_198 0 63 (dk_at dksX5_findRules_2 10 rfl rfl)
theorem dX5_findRules_60 : decode cX5_findRules 60 = .ok (.aload_n 0, 1) := dk_42 (dk_at dksX5_findRules_2 13 rfl rfl)
theorem dX5_findRules_61 : decode cX5_findRules 61 = .ok (.aload 6, 2) := dk_25 6 (dk_at dksX5_findRules_2 14 rfl rfl)
theorem dX5_findRules_63 : decode cX5_findRules 63 = .ok (.getfield 49, 3) := dk_180 0 49 (dk_at dksX5_findRules_2 16 rfl rfl)
theorem dX5_findRules_66 : decode cX5_findRules 66 = .ok (.iconst 1, 1) := dk_4 (dk_at dksX5_findRules_2 19 rfl rfl)
theorem dX5_findRules_67 : decode cX5_findRules 67 = .ok (.if_icmp .ne 7, 3) := dk_160 0 7 (dk_at dksX5_findRules_2 20 rfl rfl)
theorem dX5_findRules_70 : decode cX5_findRules 70 = .ok (.aload_n 1, 1) := dk_43 (dk_at dksX5_findRules_2 23 rfl rfl)
theorem dX5_findRules_71 : decode cX5_findRules 71 = .ok (.goto 17, 3) := dk_167 0 17 (dk_at dksX5_findRules_3 0 rfl rfl)
theorem dX5_findRules_74 : decode cX5_findRules 74 = .ok (.aload 6, 2) := dk_25 6 (dk_at dksX5_findRules_3 3 rfl rfl)
theorem dX5_findRules_76 : decode cX5_findRules 76 = .ok (.getfield 49, 3) := dk_180 0 49 (dk_at dksX5_findRules_3 5 rfl rfl)
theorem dX5_findRules_79 : decode cX5_findRules 79 = .ok (.iconst 2, 1) := dk_5 (dk_at dksX5_findRules_3 8 rfl rfl)
theorem dX5_findRules_80 : decode cX5_findRules 80 = .ok (.if_icmp .ne 7, 3) := dk_160 0 7 (dk_at dksX5_findRules_3 9 rfl rfl)
theorem dX5_findRules_83 : decode cX5_findRules 83 = .ok (.aload_n 2, 1) := dk_44 (dk_at dksX5_findRules_3 12 rfl rfl)
theorem dX5_findRules_84 : decode cX5_findRules 84 = .ok (.goto 4, 3) := dk_167 0 4 (dk_at dksX5_findRules_3 13 rfl rfl)
theorem dX5_findRules_87 : decode cX5_findRules 87 = .ok (.aload_n 3, 1) := dk_45 (dk_at dksX5_findRules_3 16 rfl rfl)
theorem dX5_findRules_88 : decode cX5_findRules 88 = .ok (.iload 5, 2) := dk_21 5 (dk_at dksX5_findRules_3 17 rfl rfl)
theorem dX5_findRules_90 : decode cX5_findRules 90 = .ok (.invokevirtual 148, 3) := dk_182 0 148 (dk_at dksX5_findRules_3 19 rfl rfl)
theorem dX5_findRules_93 : decode cX5_findRules 93 = .ok (.aload 6, 2) := dk_25 6 (dk_at dksX5_findRules_3 22 rfl rfl)
theorem dX5_findRules_95 : decode cX5_findRules 95 = .ok (.getfield 49, 3) := dk_180 0 49 (dk_at dksX5_findRules_4 0 rfl rfl)
theorem dX5_findRules_98 : decode cX5_findRules 98 = .ok (.iconst 1, 1) := dk_4 (dk_at dksX5_findRules_4 3 rfl rfl)
theorem dX5_findRules_99 : decode cX5_findRules 99 = .ok (.if_icmp .ne 21, 3) := dk_160 0 21 (dk_at dksX5_findRules_4 4 rfl rfl)
theorem dX5_findRules_102 : decode cX5_findRules 102 = .ok (.aload 4, 2) := dk_25 4 (dk_at dksX5_findRules_4 7 rfl rfl)
theorem dX5_findRules_104 : decode cX5_findRules 104 = .ok (.aload_n 0, 1) := dk_42 (dk_at dksX5_findRules_4 9 rfl rfl)
theorem dX5_findRules_105 : decode cX5_findRules 105 = .ok (.aload 6, 2) := dk_25 6 (dk_at dksX5_findRules_4 10 rfl rfl)
theorem dX5_findRules_107 : decode cX5_findRules 107 = .ok (.getfield 53, 3) := dk_180 0 53 (dk_at dksX5_findRules_4 12 rfl rfl)
theorem dX5_findRules_110 : decode cX5_findRules 110 = .ok (.invokevirtual 45, 3) := dk_182 0 45 (dk_at dksX5_findRules_4 15 rfl rfl)
theorem dX5_findRules_113 : decode cX5_findRules 113 = .ok (.invokestatic 152, 3) := dk_184 0 152 (dk_at dksX5_findRules_4 18 rfl rfl)
theorem dX5_findRules_116 : decode cX5_findRules 116 = .ok (.invokevirtual 158, 3) := dk_182 0 158 (dk_at dksX5_findRules_4 21 rfl rfl)
theorem dX5_findRules_119 : decode cX5_findRules 119 = .ok (.pop, 1) := dk_87 (dk_at dksX5_findRules_5 0 rfl rfl)
theorem dX5_findRules_120 : decode cX5_findRules 120 = .ok (.iinc 5 1, 3) := dk_132 5 1 (dk_at dksX5_findRules_5 1 rfl rfl)
theorem dX5_findRules_123 : decode cX5_findRules 123 = .ok (.goto (-87), 3) := dk_167 255 169 (dk_at dksX5_findRules_5 4 rfl rfl)
theorem dX5_findRules_126 : decode cX5_findRules 126 = .ok (.iconst 0, 1) := dk_3 (dk_at dksX5_findRules_5 7 rfl rfl)
theorem dX5_findRules_127 : decode cX5_findRules 127 = .ok (.istore 5, 2) := dk_54 5 (dk_at dksX5_findRules_5 8 rfl rfl)
theorem dX5_findRules_129 : decode cX5_findRules 129 = .ok (.iload 5, 2) := dk_21 5 (dk_at dksX5_findRules_5 10 rfl rfl)
theorem dX5_findRules_131 : decode cX5_findRules 131 = .ok (.aload_n 0, 1) := dk_42 (dk_at dksX5_findRules_5 12 rfl rfl)
theorem dX5_findRules_132 : decode cX5_findRules 132 = .ok (.getfield 12, 3) := dk_180 0 12 (dk_at dksX5_findRules_5 13 rfl rfl)
theorem dX5_findRules_135 : decode cX5_findRules 135 = .ok (.invokevirtual 56, 3) := dk_182 0 56 (dk_at dksX5_findRules_5 16 rfl rfl)
theorem dX5_findRules_138 : decode cX5_findRules 138 = .ok (.if_icmp .ge 101, 3) := dk_162 0 101 (dk_at dksX5_findRules_5 19 rfl rfl)
theorem dX5_findRules_141 : decode cX5_findRules 141 = .ok (.aload_n 0, 1) := dk_42 (dk_at dksX5_findRules_5 22 rfl rfl)
theorem dX5_findRules_142 : decode cX5_findRules 142 = .ok (.getfield 12, 3) := dk_180 0 12 (dk_at dksX5_findRules_6 0 rfl rfl)
theorem dX5_findRules_145 : decode cX5_findRules 145 = .ok (.iload 5, 2) := dk_21 5 (dk_at dksX5_findRules_6 3 rfl rfl)
theorem dX5_findRules_147 : decode cX5_findRules 147 = .ok (.invokevirtual 66, 3) := dk_182 0 66 (dk_at dksX5_findRules_6 5 rfl rfl)
theorem dX5_findRules_150 : decode cX5_findRules 150 = .ok (.checkcast 91, 3) := dk_192 0 91 (dk_at dksX5_findRules_6 8 rfl rfl)
theorem dX5_findRules_153 : decode cX5_findRules 153 = .ok (.astore 6, 2) := dk_58 6 (dk_at dksX5_findRules_6 11 rfl rfl)
theorem dX5_findRules_155 : decode cX5_findRules 155 = .ok (.aload 6, 2) := dk_25 6 (dk_at dksX5_findRules_6 13 rfl rfl)
theorem dX5_findRules_157 : decode cX5_findRules 157 = .ok (.getfield 159, 3) := dk_180 0 159 (dk_at dksX5_findRules_6 15 rfl rfl)
theorem dX5_findRules_160 : decode cX5_findRules 160 = .ok (.iconst 0, 1) := dk_3 (dk_at dksX5_findRules_6 18 rfl rfl)
theorem dX5_findRules_161 : decode cX5_findRules 161 = .ok (.aload_n 0, 1) := dk_42 (dk_at dksX5_findRules_6 19 rfl rfl)
theorem dX5_findRules_162 : decode cX5_findRules 162 = .ok (.getfield 60, 3) := dk_180 0 60 (dk_at dksX5_findRules_6 20 rfl rfl)
theorem dX5_findRules_165 : decode cX5_findRules 165 = .ok (.iconst 1, 1) := dk_4 (dk_at dksX5_findRules_6 23 rfl rfl)
theorem dX5_findRules_166 : decode cX5_findRules 166 = .ok (.isub, 1) := dk_100 (dk_at dksX5_findRules_7 0 rfl rfl)
theorem dX5_findRules_167 : decode cX5_findRules 167 = .ok (.invokestatic 162, 3) := dk_184 0 162 (dk_at dksX5_findRules_7 1 rfl rfl)
theorem dX5_findRules_170 : decode cX5_findRules 170 = .ok (.ifCond .eq 63, 3) := dk_153 0 63 (dk_at dksX5_findRules_7 4 rfl rfl)
theorem dX5_findRules_173 : decode cX5_findRules 173 = .ok (.aload 6, 2) := dk_25 6 (dk_at dksX5_findRules_7 7 rfl rfl)
theorem dX5_findRules_175 : decode cX5_findRules 175 = .ok (.aload_n 1, 1) := dk_43 (dk_at dksX5_findRules_7 9 rfl rfl)
theorem dX5_findRules_176 : decode cX5_findRules 176 = .ok (.aload 6, 2) := dk_25 6 (dk_at dksX5_findRules_7 10 rfl rfl)
theorem dX5_findRules_178 : decode cX5_findRules 178 = .ok (.getfield 159, 3) := dk_180 0 159 (dk_at dksX5_findRules_7 12 rfl rfl)
theorem dX5_findRules_181 : decode cX5_findRules 181 = .ok (.invokestatic 166, 3) := dk_184 0 166 (dk_at dksX5_findRules_7 15 rfl rfl)
theorem dX5_findRules_184 : decode cX5_findRules 184 = .ok (.putfield 170, 3) := dk_181 0 170 (dk_at dksX5_findRules_7 18 rfl rfl)
theorem dX5_findRules_187 : decode cX5_findRules 187 = .ok (.aload 6, 2) := dk_25 6 (dk_at dksX5_findRules_7 21 rfl rfl)
theorem dX5_findRules_189 : decode cX5_findRules 189 = .ok (.aload_n 2, 1) := dk_44 (dk_at dksX5_findRules_7 23 rfl rfl)
theorem dX5_findRules_190 : decode cX5_findRules 190 = .ok (.aload 6, 2) := dk_25 6 (dk_at dksX5_findRules_8 0 rfl rfl)
theorem dX5_findRules_192 : decode cX5_findRules 192 = .ok (.getfield 159, 3) := dk_180 0 159 (dk_at dksX5_findRules_8 2 rfl rfl)
theorem dX5_findRules_195 : decode cX5_findRules 195 = .ok (.invokestatic 166, 3) := dk_184 0 166 (dk_at dksX5_findRules_8 5 rfl rfl)
theorem dX5_findRules_198 : decode cX5_findRules 198 = .ok (.putfield 173, 3) := dk_181 0 173 (dk_at dksX5_findRules_8 8 rfl rfl)
theorem dX5_findRules_201 : decode cX5_findRules 201 = .ok (.aload 6, 2) := dk_25 6 (dk_at dksX5_findRules_8 11 rfl rfl)
theorem dX5_findRules_203 : decode cX5_findRules 203 = .ok (.aload_n 3, 1) := dk_45 (dk_at dksX5_findRules_8 13 rfl rfl)
theorem dX5_findRules_204 : decode cX5_findRules 204 = .ok (.aload 6, 2) := dk_25 6 (dk_at dksX5_findRules_8 14 rfl rfl)
theorem dX5_findRules_206 : decode cX5_findRules 206 = .ok (.getfield 159, 3) := dk_180 0 159 (dk_at dksX5_findRules_8 16 rfl rfl)
theorem dX5_findRules_209 : decode cX5_findRules 209 = .ok (.invokestatic 166, 3) := dk_184 0 166 (dk_at dksX5_findRules_8 19 rfl rfl)
theorem dX5_findRules_212 : decode cX5_findRules 212 = .ok (.putfield 176, 3) := dk_181 0 176 (dk_at dksX5_findRules_9 0 rfl rfl)
theorem dX5_findRules_215 : decode cX5_findRules 215 = .ok (.aload 6, 2) := dk_25 6 (dk_at dksX5_findRules_9 3 rfl rfl)
theorem dX5_findRules_217 : decode cX5_findRules 217 = .ok (.aload 4, 2) := dk_25 4 (dk_at dksX5_findRules_9 5 rfl rfl)
theorem dX5_findRules_219 : decode cX5_findRules 219 = .ok (.aload 6, 2) := dk_25 6 (dk_at dksX5_findRules_9 7 rfl rfl)
theorem dX5_findRules_221 : decode cX5_findRules 221 = .ok (.getfield 159, 3) := dk_180 0 159 (dk_at dksX5_findRules_9 9 rfl rfl)
theorem dX5_findRules_224 : decode cX5_findRules 224 = .ok (.invokestatic 152, 3) := dk_184 0 152 (dk_at dksX5_findRules_9 12 rfl rfl)
theorem dX5_findRules_227 : decode cX5_findRules 227 = .ok (.invokevirtual 179, 3) := dk_182 0 179 (dk_at dksX5_findRules_9 15 rfl rfl)
theorem dX5_findRules_230 : decode cX5_findRules 230 = .ok (.putfield 182, 3) := dk_181 0 182 (dk_at dksX5_findRules_9 18 rfl rfl)
theorem dX5_findRules_233 : decode cX5_findRules 233 = .ok (.iinc 5 1, 3) := dk_132 5 1 (dk_at dksX5_findRules_9 21 rfl rfl)
theorem dX5_findRules_236 : decode cX5_findRules 236 = .ok (.goto (-107), 3) := dk_167 255 149 (dk_at dksX5_findRules_10 0 rfl rfl)
theorem dX5_findRules_239 : decode cX5_findRules 239 = .ok (.return_, 1) := dk_177 (dk_at dksX5_findRules_10 3 rfl rfl)
abbrev cX5_use : ByteArray := prog_7_method_11_code
def yX5_use : MethodName := ⟨RX5, "use", "(Ljava/util/HashMap;I)V"⟩
def dkwX5_use_3 : List UInt8 := [177]
abbrev dktX5_use_3 : List UInt8 := dkwX5_use_3 ++ []
def dkwX5_use_2 : List UInt8 := [180, 0, 33, 28, 50, 180, 0, 185, 162, 0, 16, 43, 29, 184, 0, 152, 28, 184, 0, 152, 182, 0, 188, 87]
abbrev dktX5_use_2 : List UInt8 := dkwX5_use_2 ++ dktX5_use_3
def dkwX5_use_1 : List UInt8 := [21, 4, 16, 247, 159, 0, 31, 42, 180, 0, 29, 180, 0, 33, 21, 4, 50, 180, 0, 185, 42, 180, 0, 29]
abbrev dktX5_use_1 : List UInt8 := dkwX5_use_1 ++ dktX5_use_2
def dkwX5_use_0 : List UInt8 := [42, 42, 180, 0, 29, 180, 0, 33, 28, 50, 180, 0, 39, 182, 0, 45, 62, 43, 29, 184, 0, 166, 54, 4]
abbrev dktX5_use_0 : List UInt8 := dkwX5_use_0 ++ dktX5_use_1
theorem dksX5_use_0 : cX5_use.data.toList.drop 0 = dktX5_use_0 := by decide +kernel
theorem dksX5_use_1 : cX5_use.data.toList.drop 24 = dktX5_use_1 := dk_seg dksX5_use_0 24 rfl rfl
theorem dksX5_use_2 : cX5_use.data.toList.drop 48 = dktX5_use_2 := dk_seg dksX5_use_1 24 rfl rfl
theorem dksX5_use_3 : cX5_use.data.toList.drop 72 = dktX5_use_3 := dk_seg dksX5_use_2 24 rfl rfl
theorem dX5_use_0 : decode cX5_use 0 = .ok (.aload_n 0, 1) := dk_42 (dk_at dksX5_use_0 0 rfl rfl)
theorem dX5_use_1 : decode cX5_use 1 = .ok (.aload_n 0, 1) := dk_42 (dk_at dksX5_use_0 1 rfl rfl)
theorem dX5_use_2 : decode cX5_use 2 = .ok (.getfield 29, 3) := dk_180 0 29 (dk_at dksX5_use_0 2 rfl rfl)
theorem dX5_use_5 : decode cX5_use 5 = .ok (.getfield 33, 3) := dk_180 0 33 (dk_at dksX5_use_0 5 rfl rfl)
theorem dX5_use_8 : decode cX5_use 8 = .ok (.iload_n 2, 1) := dk_28 (dk_at dksX5_use_0 8 rfl rfl)
theorem dX5_use_9 : decode cX5_use 9 = .ok (.aaload, 1) := dk_50 (dk_at dksX5_use_0 9 rfl rfl)
theorem dX5_use_10 : decode cX5_use 10 = .ok (.getfield 39, 3) := dk_180 0 39 (dk_at dksX5_use_0 10 rfl rfl)
theorem dX5_use_13 : decode cX5_use 13 = .ok (.invokevirtual 45, 3) := dk_182 0 45 (dk_at dksX5_use_0 13 rfl rfl)
theorem dX5_use_16 : decode cX5_use 16 = .ok (.istore_n 3, 1) := dk_62 (dk_at dksX5_use_0 16 rfl rfl)
theorem dX5_use_17 : decode cX5_use 17 = .ok (.aload_n 1, 1) := dk_43 (dk_at dksX5_use_0 17 rfl rfl)
theorem dX5_use_18 : decode cX5_use 18 = .ok (.iload_n 3, 1) := dk_29 (dk_at dksX5_use_0 18 rfl rfl)
theorem dX5_use_19 : decode cX5_use 19 = .ok (.invokestatic 166, 3) := dk_184 0 166 (dk_at dksX5_use_0 19 rfl rfl)
theorem dX5_use_22 : decode cX5_use 22 = .ok (.istore 4, 2) := dk_54 4 (dk_at dksX5_use_0 22 rfl rfl)
theorem dX5_use_24 : decode cX5_use 24 = .ok (.iload 4, 2) := dk_21 4 (dk_at dksX5_use_1 0 rfl rfl)
theorem dX5_use_26 : decode cX5_use 26 = .ok (.bipush (-9), 2) := dk_16 247 (dk_at dksX5_use_1 2 rfl rfl)
theorem dX5_use_28 : decode cX5_use 28 = .ok (.if_icmp .eq 31, 3) := dk_159 0 31 (dk_at dksX5_use_1 4 rfl rfl)
theorem dX5_use_31 : decode cX5_use 31 = .ok (.aload_n 0, 1) := dk_42 (dk_at dksX5_use_1 7 rfl rfl)
theorem dX5_use_32 : decode cX5_use 32 = .ok (.getfield 29, 3) := dk_180 0 29 (dk_at dksX5_use_1 8 rfl rfl)
theorem dX5_use_35 : decode cX5_use 35 = .ok (.getfield 33, 3) := dk_180 0 33 (dk_at dksX5_use_1 11 rfl rfl)
theorem dX5_use_38 : decode cX5_use 38 = .ok (.iload 4, 2) := dk_21 4 (dk_at dksX5_use_1 14 rfl rfl)
theorem dX5_use_40 : decode cX5_use 40 = .ok (.aaload, 1) := dk_50 (dk_at dksX5_use_1 16 rfl rfl)
theorem dX5_use_41 : decode cX5_use 41 = .ok (.getfield 185, 3) := dk_180 0 185 (dk_at dksX5_use_1 17 rfl rfl)
theorem dX5_use_44 : decode cX5_use 44 = .ok (.aload_n 0, 1) := dk_42 (dk_at dksX5_use_1 20 rfl rfl)
theorem dX5_use_45 : decode cX5_use 45 = .ok (.getfield 29, 3) := dk_180 0 29 (dk_at dksX5_use_1 21 rfl rfl)
theorem dX5_use_48 : decode cX5_use 48 = .ok (.getfield 33, 3) := dk_180 0 33 (dk_at dksX5_use_2 0 rfl rfl)
theorem dX5_use_51 : decode cX5_use 51 = .ok (.iload_n 2, 1) := dk_28 (dk_at dksX5_use_2 3 rfl rfl)
theorem dX5_use_52 : decode cX5_use 52 = .ok (.aaload, 1) := dk_50 (dk_at dksX5_use_2 4 rfl rfl)
theorem dX5_use_53 : decode cX5_use 53 = .ok (.getfield 185, 3) := dk_180 0 185 (dk_at dksX5_use_2 5 rfl rfl)
theorem dX5_use_56 : decode cX5_use 56 = .ok (.if_icmp .ge 16, 3) := dk_162 0 16 (dk_at dksX5_use_2 8 rfl rfl)
theorem dX5_use_59 : decode cX5_use 59 = .ok (.aload_n 1, 1) := dk_43 (dk_at dksX5_use_2 11 rfl rfl)
theorem dX5_use_60 : decode cX5_use 60 = .ok (.iload_n 3, 1) := dk_29 (dk_at dksX5_use_2 12 rfl rfl)
theorem dX5_use_61 : decode cX5_use 61 = .ok (.invokestatic 152, 3) := dk_184 0 152 (dk_at dksX5_use_2 13 rfl rfl)
theorem dX5_use_64 : decode cX5_use 64 = .ok (.iload_n 2, 1) := dk_28 (dk_at dksX5_use_2 16 rfl rfl)
theorem dX5_use_65 : decode cX5_use 65 = .ok (.invokestatic 152, 3) := dk_184 0 152 (dk_at dksX5_use_2 17 rfl rfl)
theorem dX5_use_68 : decode cX5_use 68 = .ok (.invokevirtual 188, 3) := dk_182 0 188 (dk_at dksX5_use_2 20 rfl rfl)
theorem dX5_use_71 : decode cX5_use 71 = .ok (.pop, 1) := dk_87 (dk_at dksX5_use_2 23 rfl rfl)
theorem dX5_use_72 : decode cX5_use 72 = .ok (.return_, 1) := dk_177 (dk_at dksX5_use_3 0 rfl rfl)
abbrev cX5_numberOf : ByteArray := prog_7_method_12_code
def yX5_numberOf : MethodName := ⟨RX5, "numberOf", "(Ljava/util/HashMap;I)I"⟩
def dkwX5_numberOf_1 : List UInt8 := [182, 0, 195, 172]
abbrev dktX5_numberOf_1 : List UInt8 := dkwX5_numberOf_1 ++ []
def dkwX5_numberOf_0 : List UInt8 := [42, 27, 184, 0, 152, 182, 0, 192, 192, 0, 153, 77, 44, 199, 0, 8, 16, 247, 167, 0, 7, 44]
abbrev dktX5_numberOf_0 : List UInt8 := dkwX5_numberOf_0 ++ dktX5_numberOf_1
theorem dksX5_numberOf_0 : cX5_numberOf.data.toList.drop 0 = dktX5_numberOf_0 := by decide +kernel
theorem dksX5_numberOf_1 : cX5_numberOf.data.toList.drop 22 = dktX5_numberOf_1 := dk_seg dksX5_numberOf_0 22 rfl rfl
theorem dX5_numberOf_0 : decode cX5_numberOf 0 = .ok (.aload_n 0, 1) := dk_42 (dk_at dksX5_numberOf_0 0 rfl rfl)
theorem dX5_numberOf_1 : decode cX5_numberOf 1 = .ok (.iload_n 1, 1) := dk_27 (dk_at dksX5_numberOf_0 1 rfl rfl)
theorem dX5_numberOf_2 : decode cX5_numberOf 2 = .ok (.invokestatic 152, 3) := dk_184 0 152 (dk_at dksX5_numberOf_0 2 rfl rfl)
theorem dX5_numberOf_5 : decode cX5_numberOf 5 = .ok (.invokevirtual 192, 3) := dk_182 0 192 (dk_at dksX5_numberOf_0 5 rfl rfl)
theorem dX5_numberOf_8 : decode cX5_numberOf 8 = .ok (.checkcast 153, 3) := dk_192 0 153 (dk_at dksX5_numberOf_0 8 rfl rfl)
theorem dX5_numberOf_11 : decode cX5_numberOf 11 = .ok (.astore_n 2, 1) := dk_77 (dk_at dksX5_numberOf_0 11 rfl rfl)
theorem dX5_numberOf_12 : decode cX5_numberOf 12 = .ok (.aload_n 2, 1) := dk_44 (dk_at dksX5_numberOf_0 12 rfl rfl)
theorem dX5_numberOf_13 : decode cX5_numberOf 13 = .ok (.ifnonnull 8, 3) := dk_199 0 8 (dk_at dksX5_numberOf_0 13 rfl rfl)
theorem dX5_numberOf_16 : decode cX5_numberOf 16 = .ok (.bipush (-9), 2) := dk_16 247 (dk_at dksX5_numberOf_0 16 rfl rfl)
theorem dX5_numberOf_18 : decode cX5_numberOf 18 = .ok (.goto 7, 3) := dk_167 0 7 (dk_at dksX5_numberOf_0 18 rfl rfl)
theorem dX5_numberOf_21 : decode cX5_numberOf 21 = .ok (.aload_n 2, 1) := dk_44 (dk_at dksX5_numberOf_0 21 rfl rfl)
theorem dX5_numberOf_22 : decode cX5_numberOf 22 = .ok (.invokevirtual 195, 3) := dk_182 0 195 (dk_at dksX5_numberOf_1 0 rfl rfl)
theorem dX5_numberOf_25 : decode cX5_numberOf 25 = .ok (.ireturn, 1) := dk_172 (dk_at dksX5_numberOf_1 3 rfl rfl)
abbrev cX5_count : ByteArray := prog_7_method_3_code
def yX5_count : MethodName := ⟨RX5, "count", "(I)I"⟩
def dkwX5_count_0 : List UInt8 := [42, 180, 0, 21, 27, 4, 96, 46, 42, 180, 0, 21, 27, 46, 100, 172]
abbrev dktX5_count_0 : List UInt8 := dkwX5_count_0 ++ []
theorem dksX5_count_0 : cX5_count.data.toList.drop 0 = dktX5_count_0 := by decide +kernel
theorem dX5_count_0 : decode cX5_count 0 = .ok (.aload_n 0, 1) := dk_42 (dk_at dksX5_count_0 0 rfl rfl)
theorem dX5_count_1 : decode cX5_count 1 = .ok (.getfield 21, 3) := dk_180 0 21 (dk_at dksX5_count_0 1 rfl rfl)
theorem dX5_count_4 : decode cX5_count 4 = .ok (.iload_n 1, 1) := dk_27 (dk_at dksX5_count_0 4 rfl rfl)
theorem dX5_count_5 : decode cX5_count 5 = .ok (.iconst 1, 1) := dk_4 (dk_at dksX5_count_0 5 rfl rfl)
theorem dX5_count_6 : decode cX5_count 6 = .ok (.iadd, 1) := dk_96 (dk_at dksX5_count_0 6 rfl rfl)
theorem dX5_count_7 : decode cX5_count 7 = .ok (.iaload, 1) := dk_46 (dk_at dksX5_count_0 7 rfl rfl)
theorem dX5_count_8 : decode cX5_count 8 = .ok (.aload_n 0, 1) := dk_42 (dk_at dksX5_count_0 8 rfl rfl)
theorem dX5_count_9 : decode cX5_count 9 = .ok (.getfield 21, 3) := dk_180 0 21 (dk_at dksX5_count_0 9 rfl rfl)
theorem dX5_count_12 : decode cX5_count 12 = .ok (.iload_n 1, 1) := dk_27 (dk_at dksX5_count_0 12 rfl rfl)
theorem dX5_count_13 : decode cX5_count 13 = .ok (.iaload, 1) := dk_46 (dk_at dksX5_count_0 13 rfl rfl)
theorem dX5_count_14 : decode cX5_count 14 = .ok (.isub, 1) := dk_100 (dk_at dksX5_count_0 14 rfl rfl)
theorem dX5_count_15 : decode cX5_count 15 = .ok (.ireturn, 1) := dk_172 (dk_at dksX5_count_0 15 rfl rfl)
abbrev cX5_get : ByteArray := prog_7_method_4_code
def yX5_get : MethodName := ⟨RX5, "get", "(II)LAutoIndenter$Token;"⟩
def dkwX5_get_0 : List UInt8 := [42, 180, 0, 12, 42, 180, 0, 21, 27, 46, 28, 96, 182, 0, 66, 192, 0, 91, 176]
abbrev dktX5_get_0 : List UInt8 := dkwX5_get_0 ++ []
theorem dksX5_get_0 : cX5_get.data.toList.drop 0 = dktX5_get_0 := by decide +kernel
theorem dX5_get_0 : decode cX5_get 0 = .ok (.aload_n 0, 1) := dk_42 (dk_at dksX5_get_0 0 rfl rfl)
theorem dX5_get_1 : decode cX5_get 1 = .ok (.getfield 12, 3) := dk_180 0 12 (dk_at dksX5_get_0 1 rfl rfl)
theorem dX5_get_4 : decode cX5_get 4 = .ok (.aload_n 0, 1) := dk_42 (dk_at dksX5_get_0 4 rfl rfl)
theorem dX5_get_5 : decode cX5_get 5 = .ok (.getfield 21, 3) := dk_180 0 21 (dk_at dksX5_get_0 5 rfl rfl)
theorem dX5_get_8 : decode cX5_get 8 = .ok (.iload_n 1, 1) := dk_27 (dk_at dksX5_get_0 8 rfl rfl)
theorem dX5_get_9 : decode cX5_get 9 = .ok (.iaload, 1) := dk_46 (dk_at dksX5_get_0 9 rfl rfl)
theorem dX5_get_10 : decode cX5_get 10 = .ok (.iload_n 2, 1) := dk_28 (dk_at dksX5_get_0 10 rfl rfl)
theorem dX5_get_11 : decode cX5_get 11 = .ok (.iadd, 1) := dk_96 (dk_at dksX5_get_0 11 rfl rfl)
theorem dX5_get_12 : decode cX5_get 12 = .ok (.invokevirtual 66, 3) := dk_182 0 66 (dk_at dksX5_get_0 12 rfl rfl)
theorem dX5_get_15 : decode cX5_get 15 = .ok (.checkcast 91, 3) := dk_192 0 91 (dk_at dksX5_get_0 15 rfl rfl)
theorem dX5_get_18 : decode cX5_get 18 = .ok (.areturn, 1) := dk_176 (dk_at dksX5_get_0 18 rfl rfl)
theorem q115 : (Jvm.Cond.initialized "AutoIndenter$Tokens") ∈ lw_all := lw_g (lw_at lw_m1 20 rfl) rfl
theorem q183 : (Jvm.Cond.fieldLinkNest "AutoIndenter$Tokens" (63 : Nat) "AutoIndenter$State" "lines" "Ljava/util/ArrayList;" "AutoIndenter") ∈ lw_tbl := lw_at lw_m1 88 rfl
theorem q187 : (Jvm.Cond.fieldLinkNest "AutoIndenter$Tokens" (33 : Nat) "AutoIndenter$State" "rules" "[LAutoIndenter$Rule;" "AutoIndenter") ∈ lw_tbl := lw_at lw_m1 92 rfl
theorem q195 : (Jvm.Cond.fieldLinkNest "AutoIndenter$Tokens" (126 : Nat) "AutoIndenter$State" "comment" "I" "AutoIndenter") ∈ lw_tbl := lw_at lw_m1 100 rfl
theorem q277 : (Jvm.Cond.fieldLinkNest "AutoIndenter$Tokens" (72 : Nat) "AutoIndenter$Line" "content" "Ljava/lang/String;" "AutoIndenter") ∈ lw_tbl := lw_at lw_m1 182 rfl
theorem q550 : (Jvm.Cond.selects "AutoIndenter$Tokens" ({ cls := "java/lang/Object", name := "getClass", desc := "()Ljava/lang/Class;" } : Jvm.MethodName) ({ cls := "java/lang/Object", name := "getClass", desc := "()Ljava/lang/Class;" } : Jvm.MethodName)) ∈ lw_all := lw_g (lw_at lw_m2 215 rfl) rfl
theorem q675 : (Jvm.Cond.instantiable "AutoIndenter$Tokens" (7 : Nat)) ∈ lw_all := lw_g (lw_at lw_m3 100 rfl) rfl
theorem q677 : (Jvm.Cond.instanceMethod ({ cls := "AutoIndenter$Tokens", name := "<init>", desc := "(LAutoIndenter$State;)V" } : Jvm.MethodName)) ∈ lw_all := lw_g (lw_at lw_m3 102 rfl) rfl
theorem q678 : (Jvm.Cond.code ({ cls := "AutoIndenter$Tokens", name := "<init>", desc := "(LAutoIndenter$State;)V" } : Jvm.MethodName) prog_7_method_1_code (4 : Nat) (Option.none : Option Jvm.ClassFile.FieldType)) ∈ lw_all := lw_g (lw_at lw_m3 103 rfl) rfl
theorem q679 : (Jvm.Cond.methodLink "AutoIndenter$Tokens" (3 : Nat) ({ cls := "java/lang/Object", name := "<init>", desc := "()V" } : Jvm.MethodName)) ∈ lw_all := lw_g (lw_at lw_m3 104 rfl) rfl
theorem q680 : (Jvm.Cond.classLink "AutoIndenter$Tokens" (9 : Nat) "java/util/ArrayList") ∈ lw_all := lw_g (lw_at lw_m3 105 rfl) rfl
theorem q681 : (Jvm.Cond.methodLink "AutoIndenter$Tokens" (11 : Nat) ({ cls := "java/util/ArrayList", name := "<init>", desc := "()V" } : Jvm.MethodName)) ∈ lw_all := lw_g (lw_at lw_m3 106 rfl) rfl
theorem q682 : (Jvm.Cond.methodLink "AutoIndenter$Tokens" (45 : Nat) ({ cls := "AutoIndenter$Tokens", name := "wordOf", desc := "(Ljava/lang/String;)I" } : Jvm.MethodName)) ∈ lw_all := lw_g (lw_at lw_m3 107 rfl) rfl
theorem q683 : (Jvm.Cond.privateMethod ({ cls := "AutoIndenter$Tokens", name := "wordOf", desc := "(Ljava/lang/String;)I" } : Jvm.MethodName)) ∈ lw_tbl := lw_at lw_m3 108 rfl
theorem q684 : (Jvm.Cond.instanceMethod ({ cls := "AutoIndenter$Tokens", name := "wordOf", desc := "(Ljava/lang/String;)I" } : Jvm.MethodName)) ∈ lw_all := lw_g (lw_at lw_m3 109 rfl) rfl
theorem q685 : (Jvm.Cond.code ({ cls := "AutoIndenter$Tokens", name := "wordOf", desc := "(Ljava/lang/String;)I" } : Jvm.MethodName) prog_7_method_2_code (3 : Nat) (Option.some Jvm.ClassFile.FieldType.int)) ∈ lw_all := lw_g (lw_at lw_m3 110 rfl) rfl
theorem q686 : (Jvm.Cond.methodLink "AutoIndenter$Tokens" (56 : Nat) ({ cls := "java/util/ArrayList", name := "size", desc := "()I" } : Jvm.MethodName)) ∈ lw_all := lw_g (lw_at lw_m3 111 rfl) rfl
theorem q687 : (Jvm.Cond.methodLink "AutoIndenter$Tokens" (66 : Nat) ({ cls := "java/util/ArrayList", name := "get", desc := "(I)Ljava/lang/Object;" } : Jvm.MethodName)) ∈ lw_all := lw_g (lw_at lw_m3 112 rfl) rfl
theorem q688 : (Jvm.Cond.classLink "AutoIndenter$Tokens" (82 : Nat) "java/lang/String") ∈ lw_all := lw_g (lw_at lw_m3 113 rfl) rfl
theorem q689 : (Jvm.Cond.methodLink "AutoIndenter$Tokens" (84 : Nat) ({ cls := "java/lang/String", name := "equals", desc := "(Ljava/lang/Object;)Z" } : Jvm.MethodName)) ∈ lw_all := lw_g (lw_at lw_m3 114 rfl) rfl
theorem q697 : (Jvm.Cond.methodLink "AutoIndenter$Tokens" (88 : Nat) ({ cls := "java/util/ArrayList", name := "add", desc := "(Ljava/lang/Object;)Z" } : Jvm.MethodName)) ∈ lw_all := lw_g (lw_at lw_m3 122 rfl) rfl
theorem q698 : (Jvm.Cond.classLink "AutoIndenter$Tokens" (70 : Nat) "AutoIndenter$Line") ∈ lw_all := lw_g (lw_at lw_m3 123 rfl) rfl
theorem q699 : (Jvm.Cond.methodLink "AutoIndenter$Tokens" (75 : Nat) ({ cls := "AutoIndenter$Tokens", name := "divide", desc := "(ILjava/lang/String;)V" } : Jvm.MethodName)) ∈ lw_all := lw_g (lw_at lw_m3 124 rfl) rfl
theorem q700 : (Jvm.Cond.privateMethod ({ cls := "AutoIndenter$Tokens", name := "divide", desc := "(ILjava/lang/String;)V" } : Jvm.MethodName)) ∈ lw_tbl := lw_at lw_m3 125 rfl
theorem q701 : (Jvm.Cond.instanceMethod ({ cls := "AutoIndenter$Tokens", name := "divide", desc := "(ILjava/lang/String;)V" } : Jvm.MethodName)) ∈ lw_all := lw_g (lw_at lw_m3 126 rfl) rfl
theorem q702 : (Jvm.Cond.code ({ cls := "AutoIndenter$Tokens", name := "divide", desc := "(ILjava/lang/String;)V" } : Jvm.MethodName) prog_7_method_9_code (8 : Nat) (Option.none : Option Jvm.ClassFile.FieldType)) ∈ lw_all := lw_g (lw_at lw_m3 127 rfl) rfl
theorem q703 : (Jvm.Cond.methodLink "AutoIndenter$Tokens" (118 : Nat) ({ cls := "java/lang/String", name := "isEmpty", desc := "()Z" } : Jvm.MethodName)) ∈ lw_all := lw_g (lw_at lw_m3 128 rfl) rfl
theorem q707 : (Jvm.Cond.methodLink "AutoIndenter$Tokens" (122 : Nat) ({ cls := "AutoIndenter$Tokens", name := "literalEnd", desc := "(Ljava/lang/String;I)I" } : Jvm.MethodName)) ∈ lw_all := lw_g (lw_at lw_m3 132 rfl) rfl
theorem q708 : (Jvm.Cond.privateMethod ({ cls := "AutoIndenter$Tokens", name := "literalEnd", desc := "(Ljava/lang/String;I)I" } : Jvm.MethodName)) ∈ lw_tbl := lw_at lw_m3 133 rfl
theorem q709 : (Jvm.Cond.instanceMethod ({ cls := "AutoIndenter$Tokens", name := "literalEnd", desc := "(Ljava/lang/String;I)I" } : Jvm.MethodName)) ∈ lw_all := lw_g (lw_at lw_m3 134 rfl) rfl
theorem q710 : (Jvm.Cond.code ({ cls := "AutoIndenter$Tokens", name := "literalEnd", desc := "(Ljava/lang/String;I)I" } : Jvm.MethodName) prog_7_method_6_code (4 : Nat) (Option.some Jvm.ClassFile.FieldType.int)) ∈ lw_all := lw_g (lw_at lw_m3 135 rfl) rfl
theorem q711 : (Jvm.Cond.methodLink "AutoIndenter$Tokens" (93 : Nat) ({ cls := "java/lang/String", name := "length", desc := "()I" } : Jvm.MethodName)) ∈ lw_all := lw_g (lw_at lw_m3 136 rfl) rfl
theorem q712 : (Jvm.Cond.methodLink "AutoIndenter$Tokens" (100 : Nat) ({ cls := "AutoIndenter$Tokens", name := "isLiteral", desc := "(Ljava/lang/String;I)Z" } : Jvm.MethodName)) ∈ lw_all := lw_g (lw_at lw_m3 137 rfl) rfl
theorem q713 : (Jvm.Cond.static ({ cls := "AutoIndenter$Tokens", name := "isLiteral", desc := "(Ljava/lang/String;I)Z" } : Jvm.MethodName)) ∈ lw_all := lw_g (lw_at lw_m3 138 rfl) rfl
theorem q714 : (Jvm.Cond.code ({ cls := "AutoIndenter$Tokens", name := "isLiteral", desc := "(Ljava/lang/String;I)Z" } : Jvm.MethodName) prog_7_method_5_code (2 : Nat) (Option.some Jvm.ClassFile.FieldType.boolean)) ∈ lw_all := lw_g (lw_at lw_m3 139 rfl) rfl
theorem q715 : (Jvm.Cond.methodLink "AutoIndenter$Tokens" (96 : Nat) ({ cls := "java/lang/String", name := "charAt", desc := "(I)C" } : Jvm.MethodName)) ∈ lw_all := lw_g (lw_at lw_m3 140 rfl) rfl
theorem q716 : (Jvm.Cond.classLink "AutoIndenter$Tokens" (91 : Nat) "AutoIndenter$Token") ∈ lw_all := lw_g (lw_at lw_m3 141 rfl) rfl
theorem q718 : (Jvm.Cond.methodLink "AutoIndenter$Tokens" (129 : Nat) ({ cls := "AutoIndenter$Token", name := "<init>", desc := "(IIIILjava/lang/String;I)V" } : Jvm.MethodName)) ∈ lw_all := lw_g (lw_at lw_m3 143 rfl) rfl
theorem q735 : (Jvm.Cond.fieldLinkNest "AutoIndenter$Tokens" (159 : Nat) "AutoIndenter$Token" "word" "I" "AutoIndenter") ∈ lw_tbl := lw_at lw_m3 160 rfl
theorem q739 : (Jvm.Cond.fieldLinkNest "AutoIndenter$Tokens" (170 : Nat) "AutoIndenter$Token" "pair" "I" "AutoIndenter") ∈ lw_tbl := lw_at lw_m3 164 rfl
theorem q742 : (Jvm.Cond.fieldLinkNest "AutoIndenter$Tokens" (173 : Nat) "AutoIndenter$Token" "starter" "I" "AutoIndenter") ∈ lw_tbl := lw_at lw_m3 167 rfl
theorem q745 : (Jvm.Cond.fieldLinkNest "AutoIndenter$Tokens" (176 : Nat) "AutoIndenter$Token" "joiner" "I" "AutoIndenter") ∈ lw_tbl := lw_at lw_m3 170 rfl
theorem q748 : (Jvm.Cond.fieldLinkNest "AutoIndenter$Tokens" (182 : Nat) "AutoIndenter$Token" "isCloser" "Z" "AutoIndenter") ∈ lw_tbl := lw_at lw_m3 173 rfl
theorem q772 : (Jvm.Cond.methodLink "AutoIndenter$Tokens" (132 : Nat) ({ cls := "AutoIndenter$Tokens", name := "stringEnd", desc := "(Ljava/lang/String;I)I" } : Jvm.MethodName)) ∈ lw_all := lw_g (lw_at lw_m3 197 rfl) rfl
theorem q773 : (Jvm.Cond.static ({ cls := "AutoIndenter$Tokens", name := "stringEnd", desc := "(Ljava/lang/String;I)I" } : Jvm.MethodName)) ∈ lw_all := lw_g (lw_at lw_m3 198 rfl) rfl
theorem q774 : (Jvm.Cond.code ({ cls := "AutoIndenter$Tokens", name := "stringEnd", desc := "(Ljava/lang/String;I)I" } : Jvm.MethodName) prog_7_method_7_code (3 : Nat) (Option.some Jvm.ClassFile.FieldType.int)) ∈ lw_all := lw_g (lw_at lw_m3 199 rfl) rfl
theorem q775 : (Jvm.Cond.methodLink "AutoIndenter$Tokens" (108 : Nat) ({ cls := "java/lang/Math", name := "min", desc := "(II)I" } : Jvm.MethodName)) ∈ lw_all := lw_g (lw_at lw_m3 200 rfl) rfl
theorem q776 : (Jvm.Cond.methodLinkNest "AutoIndenter$Tokens" (114 : Nat) ({ cls := "AutoIndenter", name := "isWordByte", desc := "(I)Z" } : Jvm.MethodName) "AutoIndenter") ∈ lw_tbl := lw_at lw_m3 201 rfl
theorem q779 : (Jvm.Cond.methodLink "AutoIndenter$Tokens" (135 : Nat) ({ cls := "AutoIndenter$Tokens", name := "wordEnd", desc := "(Ljava/lang/String;I)I" } : Jvm.MethodName)) ∈ lw_all := lw_g (lw_at lw_m3 204 rfl) rfl
theorem q780 : (Jvm.Cond.static ({ cls := "AutoIndenter$Tokens", name := "wordEnd", desc := "(Ljava/lang/String;I)I" } : Jvm.MethodName)) ∈ lw_all := lw_g (lw_at lw_m3 205 rfl) rfl
theorem q781 : (Jvm.Cond.code ({ cls := "AutoIndenter$Tokens", name := "wordEnd", desc := "(Ljava/lang/String;I)I" } : Jvm.MethodName) prog_7_method_8_code (3 : Nat) (Option.some Jvm.ClassFile.FieldType.int)) ∈ lw_all := lw_g (lw_at lw_m3 206 rfl) rfl
theorem q782 : (Jvm.Cond.methodLink "AutoIndenter$Tokens" (138 : Nat) ({ cls := "java/lang/String", name := "substring", desc := "(II)Ljava/lang/String;" } : Jvm.MethodName)) ∈ lw_all := lw_g (lw_at lw_m3 207 rfl) rfl
theorem q783 : (Jvm.Cond.methodLink "AutoIndenter$Tokens" (79 : Nat) ({ cls := "AutoIndenter$Tokens", name := "findRules", desc := "()V" } : Jvm.MethodName)) ∈ lw_all := lw_g (lw_at lw_m3 208 rfl) rfl
theorem q784 : (Jvm.Cond.privateMethod ({ cls := "AutoIndenter$Tokens", name := "findRules", desc := "()V" } : Jvm.MethodName)) ∈ lw_tbl := lw_at lw_m3 209 rfl
theorem q785 : (Jvm.Cond.instanceMethod ({ cls := "AutoIndenter$Tokens", name := "findRules", desc := "()V" } : Jvm.MethodName)) ∈ lw_all := lw_g (lw_at lw_m3 210 rfl) rfl
theorem q786 : (Jvm.Cond.code ({ cls := "AutoIndenter$Tokens", name := "findRules", desc := "()V" } : Jvm.MethodName) prog_7_method_10_code (7 : Nat) (Option.none : Option Jvm.ClassFile.FieldType)) ∈ lw_all := lw_g (lw_at lw_m3 211 rfl) rfl
theorem q787 : (Jvm.Cond.classLink "AutoIndenter$Tokens" (142 : Nat) "java/util/HashMap") ∈ lw_all := lw_g (lw_at lw_m3 212 rfl) rfl
theorem q789 : (Jvm.Cond.methodLink "AutoIndenter$Tokens" (144 : Nat) ({ cls := "java/util/HashMap", name := "<init>", desc := "()V" } : Jvm.MethodName)) ∈ lw_all := lw_g (lw_at lw_m3 214 rfl) rfl
theorem q829 : (Jvm.Cond.classLink "AutoIndenter$Tokens" (145 : Nat) "java/util/HashSet") ∈ lw_all := lw_g (lw_at lw_m4 14 rfl) rfl
theorem q831 : (Jvm.Cond.methodLink "AutoIndenter$Tokens" (147 : Nat) ({ cls := "java/util/HashSet", name := "<init>", desc := "()V" } : Jvm.MethodName)) ∈ lw_all := lw_g (lw_at lw_m4 16 rfl) rfl
theorem q844 : (Jvm.Cond.methodLink "AutoIndenter$Tokens" (148 : Nat) ({ cls := "AutoIndenter$Tokens", name := "use", desc := "(Ljava/util/HashMap;I)V" } : Jvm.MethodName)) ∈ lw_all := lw_g (lw_at lw_m4 29 rfl) rfl
theorem q845 : (Jvm.Cond.privateMethod ({ cls := "AutoIndenter$Tokens", name := "use", desc := "(Ljava/util/HashMap;I)V" } : Jvm.MethodName)) ∈ lw_tbl := lw_at lw_m4 30 rfl
theorem q846 : (Jvm.Cond.instanceMethod ({ cls := "AutoIndenter$Tokens", name := "use", desc := "(Ljava/util/HashMap;I)V" } : Jvm.MethodName)) ∈ lw_all := lw_g (lw_at lw_m4 31 rfl) rfl
theorem q847 : (Jvm.Cond.code ({ cls := "AutoIndenter$Tokens", name := "use", desc := "(Ljava/util/HashMap;I)V" } : Jvm.MethodName) prog_7_method_11_code (5 : Nat) (Option.none : Option Jvm.ClassFile.FieldType)) ∈ lw_all := lw_g (lw_at lw_m4 32 rfl) rfl
theorem q848 : (Jvm.Cond.methodLink "AutoIndenter$Tokens" (166 : Nat) ({ cls := "AutoIndenter$Tokens", name := "numberOf", desc := "(Ljava/util/HashMap;I)I" } : Jvm.MethodName)) ∈ lw_all := lw_g (lw_at lw_m4 33 rfl) rfl
theorem q849 : (Jvm.Cond.static ({ cls := "AutoIndenter$Tokens", name := "numberOf", desc := "(Ljava/util/HashMap;I)I" } : Jvm.MethodName)) ∈ lw_all := lw_g (lw_at lw_m4 34 rfl) rfl
theorem q850 : (Jvm.Cond.code ({ cls := "AutoIndenter$Tokens", name := "numberOf", desc := "(Ljava/util/HashMap;I)I" } : Jvm.MethodName) prog_7_method_12_code (3 : Nat) (Option.some Jvm.ClassFile.FieldType.int)) ∈ lw_all := lw_g (lw_at lw_m4 35 rfl) rfl
theorem q851 : (Jvm.Cond.methodLink "AutoIndenter$Tokens" (152 : Nat) ({ cls := "java/lang/Integer", name := "valueOf", desc := "(I)Ljava/lang/Integer;" } : Jvm.MethodName)) ∈ lw_all := lw_g (lw_at lw_m4 36 rfl) rfl
theorem q871 : (Jvm.Cond.methodLink "AutoIndenter$Tokens" (192 : Nat) ({ cls := "java/util/HashMap", name := "get", desc := "(Ljava/lang/Object;)Ljava/lang/Object;" } : Jvm.MethodName)) ∈ lw_all := lw_g (lw_at lw_m4 56 rfl) rfl
theorem q898 : (Jvm.Cond.selects "AutoIndenter$Tokens" ({ cls := "java/lang/Object", name := "hashCode", desc := "()I" } : Jvm.MethodName) ({ cls := "java/lang/Object", name := "hashCode", desc := "()I" } : Jvm.MethodName)) ∈ lw_all := lw_g (lw_at lw_m4 83 rfl) rfl
theorem q971 : (Jvm.Cond.selects "AutoIndenter$Tokens" ({ cls := "java/lang/Object", name := "equals", desc := "(Ljava/lang/Object;)Z" } : Jvm.MethodName) ({ cls := "java/lang/Object", name := "equals", desc := "(Ljava/lang/Object;)Z" } : Jvm.MethodName)) ∈ lw_all := lw_g (lw_at lw_m4 156 rfl) rfl
theorem q1211 : (Jvm.Cond.classLink "AutoIndenter$Tokens" (153 : Nat) "java/lang/Integer") ∈ lw_all := lw_g (lw_at lw_m5 156 rfl) rfl
theorem q1212 : (Jvm.Cond.methodLink "AutoIndenter$Tokens" (195 : Nat) ({ cls := "java/lang/Integer", name := "intValue", desc := "()I" } : Jvm.MethodName)) ∈ lw_all := lw_g (lw_at lw_m5 157 rfl) rfl
theorem q1213 : (Jvm.Cond.methodLink "AutoIndenter$Tokens" (188 : Nat) ({ cls := "java/util/HashMap", name := "put", desc := "(Ljava/lang/Object;Ljava/lang/Object;)Ljava/lang/Object;" } : Jvm.MethodName)) ∈ lw_all := lw_g (lw_at lw_m5 158 rfl) rfl
theorem q1420 : (Jvm.Cond.methodLink "AutoIndenter$Tokens" (158 : Nat) ({ cls := "java/util/HashSet", name := "add", desc := "(Ljava/lang/Object;)Z" } : Jvm.MethodName)) ∈ lw_all := lw_g (lw_at lw_m6 125 rfl) rfl
theorem q1427 : (Jvm.Cond.methodLinkNest "AutoIndenter$Tokens" (162 : Nat) ({ cls := "AutoIndenter", name := "isIn", desc := "(III)Z" } : Jvm.MethodName) "AutoIndenter") ∈ lw_tbl := lw_at lw_m6 132 rfl
theorem q1428 : (Jvm.Cond.methodLink "AutoIndenter$Tokens" (179 : Nat) ({ cls := "java/util/HashSet", name := "contains", desc := "(Ljava/lang/Object;)Z" } : Jvm.MethodName)) ∈ lw_all := lw_g (lw_at lw_m6 133 rfl) rfl
theorem q1439 : (Jvm.Cond.fieldLink "AutoIndenter$Tokens" (29 : Nat) "AutoIndenter$Tokens" "state" "LAutoIndenter$State;") ∈ lw_all := lw_g (lw_at lw_m6 144 rfl) rfl
theorem q1440 : (Jvm.Cond.fieldLink "AutoIndenter$Tokens" (12 : Nat) "AutoIndenter$Tokens" "all" "Ljava/util/ArrayList;") ∈ lw_all := lw_g (lw_at lw_m6 145 rfl) rfl
theorem q1443 : (Jvm.Cond.fieldLink "AutoIndenter$Tokens" (18 : Nat) "AutoIndenter$Tokens" "texts" "Ljava/util/ArrayList;") ∈ lw_all := lw_g (lw_at lw_m6 148 rfl) rfl
theorem q1445 : (Jvm.Cond.fieldLink "AutoIndenter$Tokens" (60 : Nat) "AutoIndenter$Tokens" "ofRules" "I") ∈ lw_all := lw_g (lw_at lw_m6 150 rfl) rfl
theorem q1446 : (Jvm.Cond.fieldLink "AutoIndenter$Tokens" (21 : Nat) "AutoIndenter$Tokens" "first" "[I") ∈ lw_all := lw_g (lw_at lw_m6 151 rfl) rfl
theorem q1449 : (Jvm.Cond.fieldLink "AutoIndenter$Tokens" (25 : Nat) "AutoIndenter$Tokens" "isProtected" "[Z") ∈ lw_all := lw_g (lw_at lw_m6 154 rfl) rfl
theorem q1452 : (Jvm.Cond.fieldLink "AutoIndenter$Tokens" (104 : Nat) "AutoIndenter$Tokens" "isOpen" "Z") ∈ lw_all := lw_g (lw_at lw_m6 157 rfl) rfl
theorem q1453 : (Jvm.Cond.laysFinal "AutoIndenter$Tokens" "AutoIndenter$Tokens" "state" "LAutoIndenter$State;") ∈ lw_all := lw_g (lw_at lw_m6 158 rfl) rfl
theorem q1454 : (Jvm.Cond.soleField "AutoIndenter$Tokens" "state") ∈ lw_all := lw_g (lw_at lw_m6 159 rfl) rfl
theorem q1455 : (Jvm.Cond.laysFinal "AutoIndenter$Tokens" "AutoIndenter$Tokens" "all" "Ljava/util/ArrayList;") ∈ lw_all := lw_g (lw_at lw_m6 160 rfl) rfl
theorem q1456 : (Jvm.Cond.soleField "AutoIndenter$Tokens" "all") ∈ lw_all := lw_g (lw_at lw_m6 161 rfl) rfl
theorem q1457 : (Jvm.Cond.laysFinal "AutoIndenter$Tokens" "AutoIndenter$Tokens" "texts" "Ljava/util/ArrayList;") ∈ lw_all := lw_g (lw_at lw_m6 162 rfl) rfl
theorem q1458 : (Jvm.Cond.soleField "AutoIndenter$Tokens" "texts") ∈ lw_all := lw_g (lw_at lw_m6 163 rfl) rfl
theorem q1459 : (Jvm.Cond.laysFinal "AutoIndenter$Tokens" "AutoIndenter$Tokens" "ofRules" "I") ∈ lw_all := lw_g (lw_at lw_m6 164 rfl) rfl
theorem q1460 : (Jvm.Cond.soleField "AutoIndenter$Tokens" "ofRules") ∈ lw_all := lw_g (lw_at lw_m6 165 rfl) rfl
theorem q1461 : (Jvm.Cond.laysFinal "AutoIndenter$Tokens" "AutoIndenter$Tokens" "first" "[I") ∈ lw_all := lw_g (lw_at lw_m6 166 rfl) rfl
theorem q1462 : (Jvm.Cond.soleField "AutoIndenter$Tokens" "first") ∈ lw_all := lw_g (lw_at lw_m6 167 rfl) rfl
theorem q1463 : (Jvm.Cond.laysFinal "AutoIndenter$Tokens" "AutoIndenter$Tokens" "isProtected" "[Z") ∈ lw_all := lw_g (lw_at lw_m6 168 rfl) rfl
theorem q1464 : (Jvm.Cond.soleField "AutoIndenter$Tokens" "isProtected") ∈ lw_all := lw_g (lw_at lw_m6 169 rfl) rfl
theorem q1465 : (Jvm.Cond.lays "AutoIndenter$Tokens" "AutoIndenter$Tokens" "isOpen" "Z") ∈ lw_all := lw_g (lw_at lw_m6 170 rfl) rfl
theorem q1466 : (Jvm.Cond.soleField "AutoIndenter$Tokens" "isOpen") ∈ lw_all := lw_g (lw_at lw_m6 171 rfl) rfl
theorem q1467 : (Jvm.Cond.superclass "AutoIndenter$Tokens" "java/lang/Object") ∈ lw_all := lw_g (lw_at lw_m6 172 rfl) rfl
theorem q1600 : (Jvm.Cond.instanceMethod ({ cls := "AutoIndenter$Tokens", name := "count", desc := "(I)I" } : Jvm.MethodName)) ∈ lw_all := lw_g (lw_at lw_m7 65 rfl) rfl
theorem q1601 : (Jvm.Cond.selects "AutoIndenter$Tokens" ({ cls := "AutoIndenter$Tokens", name := "count", desc := "(I)I" } : Jvm.MethodName) ({ cls := "AutoIndenter$Tokens", name := "count", desc := "(I)I" } : Jvm.MethodName)) ∈ lw_all := lw_g (lw_at lw_m7 66 rfl) rfl
theorem q1602 : (Jvm.Cond.code ({ cls := "AutoIndenter$Tokens", name := "count", desc := "(I)I" } : Jvm.MethodName) prog_7_method_3_code (2 : Nat) (Option.some Jvm.ClassFile.FieldType.int)) ∈ lw_all := lw_g (lw_at lw_m7 67 rfl) rfl
theorem q1604 : (Jvm.Cond.instanceMethod ({ cls := "AutoIndenter$Tokens", name := "get", desc := "(II)LAutoIndenter$Token;" } : Jvm.MethodName)) ∈ lw_all := lw_g (lw_at lw_m7 69 rfl) rfl
theorem q1605 : (Jvm.Cond.selects "AutoIndenter$Tokens" ({ cls := "AutoIndenter$Tokens", name := "get", desc := "(II)LAutoIndenter$Token;" } : Jvm.MethodName) ({ cls := "AutoIndenter$Tokens", name := "get", desc := "(II)LAutoIndenter$Token;" } : Jvm.MethodName)) ∈ lw_all := lw_g (lw_at lw_m7 70 rfl) rfl
theorem q1606 : (Jvm.Cond.code ({ cls := "AutoIndenter$Tokens", name := "get", desc := "(II)LAutoIndenter$Token;" } : Jvm.MethodName) prog_7_method_4_code (3 : Nat) (Option.some (Jvm.ClassFile.FieldType.object "AutoIndenter$Token"))) ∈ lw_all := lw_g (lw_at lw_m7 71 rfl) rfl
theorem q1746 : (Jvm.Cond.fieldLinkNest "AutoIndenter$Tokens" (49 : Nat) "AutoIndenter$Rule" "sort" "I" "AutoIndenter") ∈ lw_tbl := lw_at lw_m7 211 rfl
theorem q1750 : (Jvm.Cond.fieldLinkNest "AutoIndenter$Tokens" (185 : Nat) "AutoIndenter$Rule" "precedence" "I" "AutoIndenter") ∈ lw_tbl := lw_at lw_m7 215 rfl
theorem q1762 : (Jvm.Cond.fieldLinkNest "AutoIndenter$Tokens" (39 : Nat) "AutoIndenter$Rule" "text" "Ljava/lang/String;" "AutoIndenter") ∈ lw_tbl := lw_at lw_m7 227 rfl
theorem q1765 : (Jvm.Cond.fieldLinkNest "AutoIndenter$Tokens" (53 : Nat) "AutoIndenter$Rule" "closer" "Ljava/lang/String;" "AutoIndenter") ∈ lw_tbl := lw_at lw_m7 230 rfl
theorem q2809 : (Jvm.Cond.castable "AutoIndenter$Tokens" "java/lang/Object") ∈ lw_tbl := lw_at lw_m12 74 rfl
theorem in_X5 : ∀ w ∈ wsX50, w ∈ lw_all := lw_in wsX50 [1453, 1455, 1457, 1459, 1461, 1463, 1465] (by decide +kernel) (by decide +kernel)

/-! AutoIndenter$Token -/
set_option maxRecDepth 100000
def RX6 : String := "AutoIndenter$Token"
def TX6 : u_T := fun k => match k with
  | 0 => ("AutoIndenter$Token", "line", "I", true)
  | 1 => ("AutoIndenter$Token", "at", "I", true)
  | 2 => ("AutoIndenter$Token", "length", "I", true)
  | 3 => ("AutoIndenter$Token", "kind", "I", true)
  | 4 => ("AutoIndenter$Token", "text", "Ljava/lang/String;", true)
  | 5 => ("AutoIndenter$Token", "word", "I", true)
  | 6 => ("AutoIndenter$Token", "pair", "I", false)
  | 7 => ("AutoIndenter$Token", "starter", "I", false)
  | 8 => ("AutoIndenter$Token", "joiner", "I", false)
  | _ => ("AutoIndenter$Token", "isCloser", "Z", false)
def tyX6 : Nat → FieldType := fun k => match k with
  | 0 => .int
  | 1 => .int
  | 2 => .int
  | 3 => .int
  | 4 => .object "java/lang/String"
  | 5 => .int
  | 6 => .int
  | 7 => .int
  | 8 => .int
  | _ => .boolean
abbrev wsX60 : List Cond := u_ws RX6 TX6 10
theorem nmX6 : ∀ a, a < 10 → ∀ b, b < 10 → a ≠ b → (TX6 a).2.1 ≠ (TX6 b).2.1 := by decide +kernel
theorem tyX6_ok : ∀ k, k < 10 → parseFieldDescriptor (TX6 k).2.2.1 = some (tyX6 k) := by decide +kernel
abbrev cX6_init : ByteArray := prog_6_method_1_code
def yX6_init : MethodName := ⟨RX6, "<init>", "(IIIILjava/lang/String;I)V"⟩
def dkwX6_init_2 : List UInt8 := [181, 0, 33, 42, 21, 6, 181, 0, 37, 177]
abbrev dktX6_init_2 : List UInt8 := dkwX6_init_2 ++ []
def dkwX6_init_1 : List UInt8 := [181, 0, 21, 42, 28, 181, 0, 24, 42, 29, 181, 0, 27, 42, 21, 4, 181, 0, 30, 42, 25, 5]
abbrev dktX6_init_1 : List UInt8 := dkwX6_init_1 ++ dktX6_init_2
def dkwX6_init_0 : List UInt8 := [42, 183, 0, 3, 42, 16, 247, 181, 0, 9, 42, 16, 247, 181, 0, 15, 42, 16, 247, 181, 0, 18, 42, 27]
abbrev dktX6_init_0 : List UInt8 := dkwX6_init_0 ++ dktX6_init_1
theorem dksX6_init_0 : cX6_init.data.toList.drop 0 = dktX6_init_0 := by decide +kernel
theorem dksX6_init_1 : cX6_init.data.toList.drop 24 = dktX6_init_1 := dk_seg dksX6_init_0 24 rfl rfl
theorem dksX6_init_2 : cX6_init.data.toList.drop 46 = dktX6_init_2 := dk_seg dksX6_init_1 22 rfl rfl
theorem dX6_init_0 : decode cX6_init 0 = .ok (.aload_n 0, 1) := dk_42 (dk_at dksX6_init_0 0 rfl rfl)
theorem dX6_init_1 : decode cX6_init 1 = .ok (.invokespecial 3, 3) := dk_183 0 3 (dk_at dksX6_init_0 1 rfl rfl)
theorem dX6_init_4 : decode cX6_init 4 = .ok (.aload_n 0, 1) := dk_42 (dk_at dksX6_init_0 4 rfl rfl)
theorem dX6_init_5 : decode cX6_init 5 = .ok (.bipush (-9), 2) := dk_16 247 (dk_at dksX6_init_0 5 rfl rfl)
theorem dX6_init_7 : decode cX6_init 7 = .ok (.putfield 9, 3) := dk_181 0 9 (dk_at dksX6_init_0 7 rfl rfl)
theorem dX6_init_10 : decode cX6_init 10 = .ok (.aload_n 0, 1) := dk_42 (dk_at dksX6_init_0 10 rfl rfl)
theorem dX6_init_11 : decode cX6_init 11 = .ok (.bipush (-9), 2) := dk_16 247 (dk_at dksX6_init_0 11 rfl rfl)
theorem dX6_init_13 : decode cX6_init 13 = .ok (.putfield 15, 3) := dk_181 0 15 (dk_at dksX6_init_0 13 rfl rfl)
theorem dX6_init_16 : decode cX6_init 16 = .ok (.aload_n 0, 1) := dk_42 (dk_at dksX6_init_0 16 rfl rfl)
theorem dX6_init_17 : decode cX6_init 17 = .ok (.bipush (-9), 2) := dk_16 247 (dk_at dksX6_init_0 17 rfl rfl)
theorem dX6_init_19 : decode cX6_init 19 = .ok (.putfield 18, 3) := dk_181 0 18 (dk_at dksX6_init_0 19 rfl rfl)
theorem dX6_init_22 : decode cX6_init 22 = .ok (.aload_n 0, 1) := dk_42 (dk_at dksX6_init_0 22 rfl rfl)
theorem dX6_init_23 : decode cX6_init 23 = .ok (.iload_n 1, 1) := dk_27 (dk_at dksX6_init_0 23 rfl rfl)
theorem dX6_init_24 : decode cX6_init 24 = .ok (.putfield 21, 3) := dk_181 0 21 (dk_at dksX6_init_1 0 rfl rfl)
theorem dX6_init_27 : decode cX6_init 27 = .ok (.aload_n 0, 1) := dk_42 (dk_at dksX6_init_1 3 rfl rfl)
theorem dX6_init_28 : decode cX6_init 28 = .ok (.iload_n 2, 1) := dk_28 (dk_at dksX6_init_1 4 rfl rfl)
theorem dX6_init_29 : decode cX6_init 29 = .ok (.putfield 24, 3) := dk_181 0 24 (dk_at dksX6_init_1 5 rfl rfl)
theorem dX6_init_32 : decode cX6_init 32 = .ok (.aload_n 0, 1) := dk_42 (dk_at dksX6_init_1 8 rfl rfl)
theorem dX6_init_33 : decode cX6_init 33 = .ok (.iload_n 3, 1) := dk_29 (dk_at dksX6_init_1 9 rfl rfl)
theorem dX6_init_34 : decode cX6_init 34 = .ok (.putfield 27, 3) := dk_181 0 27 (dk_at dksX6_init_1 10 rfl rfl)
theorem dX6_init_37 : decode cX6_init 37 = .ok (.aload_n 0, 1) := dk_42 (dk_at dksX6_init_1 13 rfl rfl)
theorem dX6_init_38 : decode cX6_init 38 = .ok (.iload 4, 2) := dk_21 4 (dk_at dksX6_init_1 14 rfl rfl)
theorem dX6_init_40 : decode cX6_init 40 = .ok (.putfield 30, 3) := dk_181 0 30 (dk_at dksX6_init_1 16 rfl rfl)
theorem dX6_init_43 : decode cX6_init 43 = .ok (.aload_n 0, 1) := dk_42 (dk_at dksX6_init_1 19 rfl rfl)
theorem dX6_init_44 : decode cX6_init 44 = .ok (.aload 5, 2) := dk_25 5 (dk_at dksX6_init_1 20 rfl rfl)
theorem dX6_init_46 : decode cX6_init 46 = .ok (.putfield 33, 3) := dk_181 0 33 (dk_at dksX6_init_2 0 rfl rfl)
theorem dX6_init_49 : decode cX6_init 49 = .ok (.aload_n 0, 1) := dk_42 (dk_at dksX6_init_2 3 rfl rfl)
theorem dX6_init_50 : decode cX6_init 50 = .ok (.iload 6, 2) := dk_21 6 (dk_at dksX6_init_2 4 rfl rfl)
theorem dX6_init_52 : decode cX6_init 52 = .ok (.putfield 37, 3) := dk_181 0 37 (dk_at dksX6_init_2 6 rfl rfl)
theorem dX6_init_55 : decode cX6_init 55 = .ok (.return_, 1) := dk_177 (dk_at dksX6_init_2 9 rfl rfl)
theorem q116 : (Jvm.Cond.initialized "AutoIndenter$Token") ∈ lw_all := lw_g (lw_at lw_m1 21 rfl) rfl
theorem q549 : (Jvm.Cond.selects "AutoIndenter$Token" ({ cls := "java/lang/Object", name := "getClass", desc := "()Ljava/lang/Class;" } : Jvm.MethodName) ({ cls := "java/lang/Object", name := "getClass", desc := "()Ljava/lang/Class;" } : Jvm.MethodName)) ∈ lw_all := lw_g (lw_at lw_m2 214 rfl) rfl
theorem q717 : (Jvm.Cond.instantiable "AutoIndenter$Token" (10 : Nat)) ∈ lw_all := lw_g (lw_at lw_m3 142 rfl) rfl
theorem q719 : (Jvm.Cond.instanceMethod ({ cls := "AutoIndenter$Token", name := "<init>", desc := "(IIIILjava/lang/String;I)V" } : Jvm.MethodName)) ∈ lw_all := lw_g (lw_at lw_m3 144 rfl) rfl
theorem q720 : (Jvm.Cond.code ({ cls := "AutoIndenter$Token", name := "<init>", desc := "(IIIILjava/lang/String;I)V" } : Jvm.MethodName) prog_6_method_1_code (7 : Nat) (Option.none : Option Jvm.ClassFile.FieldType)) ∈ lw_all := lw_g (lw_at lw_m3 145 rfl) rfl
theorem q721 : (Jvm.Cond.methodLink "AutoIndenter$Token" (3 : Nat) ({ cls := "java/lang/Object", name := "<init>", desc := "()V" } : Jvm.MethodName)) ∈ lw_all := lw_g (lw_at lw_m3 146 rfl) rfl
theorem q722 : (Jvm.Cond.fieldLink "AutoIndenter$Token" (21 : Nat) "AutoIndenter$Token" "line" "I") ∈ lw_all := lw_g (lw_at lw_m3 147 rfl) rfl
theorem q725 : (Jvm.Cond.fieldLink "AutoIndenter$Token" (24 : Nat) "AutoIndenter$Token" "at" "I") ∈ lw_all := lw_g (lw_at lw_m3 150 rfl) rfl
theorem q728 : (Jvm.Cond.fieldLink "AutoIndenter$Token" (27 : Nat) "AutoIndenter$Token" "length" "I") ∈ lw_all := lw_g (lw_at lw_m3 153 rfl) rfl
theorem q730 : (Jvm.Cond.fieldLink "AutoIndenter$Token" (30 : Nat) "AutoIndenter$Token" "kind" "I") ∈ lw_all := lw_g (lw_at lw_m3 155 rfl) rfl
theorem q732 : (Jvm.Cond.fieldLink "AutoIndenter$Token" (33 : Nat) "AutoIndenter$Token" "text" "Ljava/lang/String;") ∈ lw_all := lw_g (lw_at lw_m3 157 rfl) rfl
theorem q734 : (Jvm.Cond.fieldLink "AutoIndenter$Token" (37 : Nat) "AutoIndenter$Token" "word" "I") ∈ lw_all := lw_g (lw_at lw_m3 159 rfl) rfl
theorem q737 : (Jvm.Cond.fieldLink "AutoIndenter$Token" (9 : Nat) "AutoIndenter$Token" "pair" "I") ∈ lw_all := lw_g (lw_at lw_m3 162 rfl) rfl
theorem q741 : (Jvm.Cond.fieldLink "AutoIndenter$Token" (15 : Nat) "AutoIndenter$Token" "starter" "I") ∈ lw_all := lw_g (lw_at lw_m3 166 rfl) rfl
theorem q744 : (Jvm.Cond.fieldLink "AutoIndenter$Token" (18 : Nat) "AutoIndenter$Token" "joiner" "I") ∈ lw_all := lw_g (lw_at lw_m3 169 rfl) rfl
theorem q749 : (Jvm.Cond.laysFinal "AutoIndenter$Token" "AutoIndenter$Token" "line" "I") ∈ lw_all := lw_g (lw_at lw_m3 174 rfl) rfl
theorem q750 : (Jvm.Cond.soleField "AutoIndenter$Token" "line") ∈ lw_all := lw_g (lw_at lw_m3 175 rfl) rfl
theorem q751 : (Jvm.Cond.laysFinal "AutoIndenter$Token" "AutoIndenter$Token" "at" "I") ∈ lw_all := lw_g (lw_at lw_m3 176 rfl) rfl
theorem q752 : (Jvm.Cond.soleField "AutoIndenter$Token" "at") ∈ lw_all := lw_g (lw_at lw_m3 177 rfl) rfl
theorem q753 : (Jvm.Cond.laysFinal "AutoIndenter$Token" "AutoIndenter$Token" "length" "I") ∈ lw_all := lw_g (lw_at lw_m3 178 rfl) rfl
theorem q754 : (Jvm.Cond.soleField "AutoIndenter$Token" "length") ∈ lw_all := lw_g (lw_at lw_m3 179 rfl) rfl
theorem q755 : (Jvm.Cond.laysFinal "AutoIndenter$Token" "AutoIndenter$Token" "kind" "I") ∈ lw_all := lw_g (lw_at lw_m3 180 rfl) rfl
theorem q756 : (Jvm.Cond.soleField "AutoIndenter$Token" "kind") ∈ lw_all := lw_g (lw_at lw_m3 181 rfl) rfl
theorem q757 : (Jvm.Cond.laysFinal "AutoIndenter$Token" "AutoIndenter$Token" "text" "Ljava/lang/String;") ∈ lw_all := lw_g (lw_at lw_m3 182 rfl) rfl
theorem q758 : (Jvm.Cond.soleField "AutoIndenter$Token" "text") ∈ lw_all := lw_g (lw_at lw_m3 183 rfl) rfl
theorem q759 : (Jvm.Cond.laysFinal "AutoIndenter$Token" "AutoIndenter$Token" "word" "I") ∈ lw_all := lw_g (lw_at lw_m3 184 rfl) rfl
theorem q760 : (Jvm.Cond.soleField "AutoIndenter$Token" "word") ∈ lw_all := lw_g (lw_at lw_m3 185 rfl) rfl
theorem q761 : (Jvm.Cond.lays "AutoIndenter$Token" "AutoIndenter$Token" "pair" "I") ∈ lw_all := lw_g (lw_at lw_m3 186 rfl) rfl
theorem q762 : (Jvm.Cond.soleField "AutoIndenter$Token" "pair") ∈ lw_all := lw_g (lw_at lw_m3 187 rfl) rfl
theorem q763 : (Jvm.Cond.lays "AutoIndenter$Token" "AutoIndenter$Token" "starter" "I") ∈ lw_all := lw_g (lw_at lw_m3 188 rfl) rfl
theorem q764 : (Jvm.Cond.soleField "AutoIndenter$Token" "starter") ∈ lw_all := lw_g (lw_at lw_m3 189 rfl) rfl
theorem q765 : (Jvm.Cond.lays "AutoIndenter$Token" "AutoIndenter$Token" "joiner" "I") ∈ lw_all := lw_g (lw_at lw_m3 190 rfl) rfl
theorem q766 : (Jvm.Cond.soleField "AutoIndenter$Token" "joiner") ∈ lw_all := lw_g (lw_at lw_m3 191 rfl) rfl
theorem q767 : (Jvm.Cond.lays "AutoIndenter$Token" "AutoIndenter$Token" "isCloser" "Z") ∈ lw_all := lw_g (lw_at lw_m3 192 rfl) rfl
theorem q768 : (Jvm.Cond.soleField "AutoIndenter$Token" "isCloser") ∈ lw_all := lw_g (lw_at lw_m3 193 rfl) rfl
theorem q769 : (Jvm.Cond.superclass "AutoIndenter$Token" "java/lang/Object") ∈ lw_all := lw_g (lw_at lw_m3 194 rfl) rfl
theorem q897 : (Jvm.Cond.selects "AutoIndenter$Token" ({ cls := "java/lang/Object", name := "hashCode", desc := "()I" } : Jvm.MethodName) ({ cls := "java/lang/Object", name := "hashCode", desc := "()I" } : Jvm.MethodName)) ∈ lw_all := lw_g (lw_at lw_m4 82 rfl) rfl
theorem q970 : (Jvm.Cond.selects "AutoIndenter$Token" ({ cls := "java/lang/Object", name := "equals", desc := "(Ljava/lang/Object;)Z" } : Jvm.MethodName) ({ cls := "java/lang/Object", name := "equals", desc := "(Ljava/lang/Object;)Z" } : Jvm.MethodName)) ∈ lw_all := lw_g (lw_at lw_m4 155 rfl) rfl
theorem q2810 : (Jvm.Cond.castable "AutoIndenter$Token" "java/lang/Object") ∈ lw_tbl := lw_at lw_m12 75 rfl
theorem in_X6 : ∀ w ∈ wsX60, w ∈ lw_all := lw_in wsX60 [749, 751, 753, 755, 757, 759, 761, 763, 765, 767] (by decide +kernel) (by decide +kernel)

/-! AutoIndenter$Rule -/
set_option maxRecDepth 100000
def RX7 : String := "AutoIndenter$Rule"
def TX7 : u_T := fun k => match k with
  | 0 => ("AutoIndenter$Rule", "sort", "I", true)
  | 1 => ("AutoIndenter$Rule", "precedence", "I", true)
  | 2 => ("AutoIndenter$Rule", "steps", "I", true)
  | 3 => ("AutoIndenter$Rule", "mode", "I", true)
  | 4 => ("AutoIndenter$Rule", "closing", "I", true)
  | 5 => ("AutoIndenter$Rule", "text", "Ljava/lang/String;", true)
  | _ => ("AutoIndenter$Rule", "closer", "Ljava/lang/String;", true)
def tyX7 : Nat → FieldType := fun k => match k with
  | 0 => .int
  | 1 => .int
  | 2 => .int
  | 3 => .int
  | 4 => .int
  | 5 => .object "java/lang/String"
  | _ => .object "java/lang/String"
abbrev wsX70 : List Cond := u_ws RX7 TX7 7
theorem nmX7 : ∀ a, a < 7 → ∀ b, b < 7 → a ≠ b → (TX7 a).2.1 ≠ (TX7 b).2.1 := by decide +kernel
theorem tyX7_ok : ∀ k, k < 7 → parseFieldDescriptor (TX7 k).2.2.1 = some (tyX7 k) := by decide +kernel
abbrev cX7_closesBy : ByteArray := prog_3_method_2_code
def yX7_closesBy : MethodName := ⟨RX7, "closesBy", "(Ljava/lang/String;)Z"⟩
def dkwX7_closesBy_1 : List UInt8 := [172]
abbrev dktX7_closesBy_1 : List UInt8 := dkwX7_closesBy_1 ++ []
def dkwX7_closesBy_0 : List UInt8 := [42, 180, 0, 9, 4, 160, 0, 18, 42, 180, 0, 31, 43, 182, 0, 34, 153, 0, 7, 4, 167, 0, 4, 3]
abbrev dktX7_closesBy_0 : List UInt8 := dkwX7_closesBy_0 ++ dktX7_closesBy_1
theorem dksX7_closesBy_0 : cX7_closesBy.data.toList.drop 0 = dktX7_closesBy_0 := by decide +kernel
theorem dksX7_closesBy_1 : cX7_closesBy.data.toList.drop 24 = dktX7_closesBy_1 := dk_seg dksX7_closesBy_0 24 rfl rfl
theorem dX7_closesBy_0 : decode cX7_closesBy 0 = .ok (.aload_n 0, 1) := dk_42 (dk_at dksX7_closesBy_0 0 rfl rfl)
theorem dX7_closesBy_1 : decode cX7_closesBy 1 = .ok (.getfield 9, 3) := dk_180 0 9 (dk_at dksX7_closesBy_0 1 rfl rfl)
theorem dX7_closesBy_4 : decode cX7_closesBy 4 = .ok (.iconst 1, 1) := dk_4 (dk_at dksX7_closesBy_0 4 rfl rfl)
theorem dX7_closesBy_5 : decode cX7_closesBy 5 = .ok (.if_icmp .ne 18, 3) := dk_160 0 18 (dk_at dksX7_closesBy_0 5 rfl rfl)
theorem dX7_closesBy_8 : decode cX7_closesBy 8 = .ok (.aload_n 0, 1) := dk_42 (dk_at dksX7_closesBy_0 8 rfl rfl)
theorem dX7_closesBy_9 : decode cX7_closesBy 9 = .ok (.getfield 31, 3) := dk_180 0 31 (dk_at dksX7_closesBy_0 9 rfl rfl)
theorem dX7_closesBy_12 : decode cX7_closesBy 12 = .ok (.aload_n 1, 1) := dk_43 (dk_at dksX7_closesBy_0 12 rfl rfl)
theorem dX7_closesBy_13 : decode cX7_closesBy 13 = .ok (.invokevirtual 34, 3) := dk_182 0 34 (dk_at dksX7_closesBy_0 13 rfl rfl)
theorem dX7_closesBy_16 : decode cX7_closesBy 16 = .ok (.ifCond .eq 7, 3) := dk_153 0 7 (dk_at dksX7_closesBy_0 16 rfl rfl)
theorem dX7_closesBy_19 : decode cX7_closesBy 19 = .ok (.iconst 1, 1) := dk_4 (dk_at dksX7_closesBy_0 19 rfl rfl)
theorem dX7_closesBy_20 : decode cX7_closesBy 20 = .ok (.goto 4, 3) := dk_167 0 4 (dk_at dksX7_closesBy_0 20 rfl rfl)
theorem dX7_closesBy_23 : decode cX7_closesBy 23 = .ok (.iconst 0, 1) := dk_3 (dk_at dksX7_closesBy_0 23 rfl rfl)
theorem dX7_closesBy_24 : decode cX7_closesBy 24 = .ok (.ireturn, 1) := dk_172 (dk_at dksX7_closesBy_1 0 rfl rfl)
abbrev cX7_init : ByteArray := prog_3_method_1_code
def yX7_init : MethodName := ⟨RX7, "<init>", "(IIIIILjava/lang/String;Ljava/lang/String;)V"⟩
def dkwX7_init_1 : List UInt8 := [181, 0, 21, 42, 21, 5, 181, 0, 24, 42, 25, 6, 181, 0, 27, 42, 25, 7, 181, 0, 31, 177]
abbrev dktX7_init_1 : List UInt8 := dkwX7_init_1 ++ []
def dkwX7_init_0 : List UInt8 := [42, 183, 0, 3, 42, 27, 181, 0, 9, 42, 28, 181, 0, 15, 42, 29, 181, 0, 18, 42, 21, 4]
abbrev dktX7_init_0 : List UInt8 := dkwX7_init_0 ++ dktX7_init_1
theorem dksX7_init_0 : cX7_init.data.toList.drop 0 = dktX7_init_0 := by decide +kernel
theorem dksX7_init_1 : cX7_init.data.toList.drop 22 = dktX7_init_1 := dk_seg dksX7_init_0 22 rfl rfl
theorem dX7_init_0 : decode cX7_init 0 = .ok (.aload_n 0, 1) := dk_42 (dk_at dksX7_init_0 0 rfl rfl)
theorem dX7_init_1 : decode cX7_init 1 = .ok (.invokespecial 3, 3) := dk_183 0 3 (dk_at dksX7_init_0 1 rfl rfl)
theorem dX7_init_4 : decode cX7_init 4 = .ok (.aload_n 0, 1) := dk_42 (dk_at dksX7_init_0 4 rfl rfl)
theorem dX7_init_5 : decode cX7_init 5 = .ok (.iload_n 1, 1) := dk_27 (dk_at dksX7_init_0 5 rfl rfl)
theorem dX7_init_6 : decode cX7_init 6 = .ok (.putfield 9, 3) := dk_181 0 9 (dk_at dksX7_init_0 6 rfl rfl)
theorem dX7_init_9 : decode cX7_init 9 = .ok (.aload_n 0, 1) := dk_42 (dk_at dksX7_init_0 9 rfl rfl)
theorem dX7_init_10 : decode cX7_init 10 = .ok (.iload_n 2, 1) := dk_28 (dk_at dksX7_init_0 10 rfl rfl)
theorem dX7_init_11 : decode cX7_init 11 = .ok (.putfield 15, 3) := dk_181 0 15 (dk_at dksX7_init_0 11 rfl rfl)
theorem dX7_init_14 : decode cX7_init 14 = .ok (.aload_n 0, 1) := dk_42 (dk_at dksX7_init_0 14 rfl rfl)
theorem dX7_init_15 : decode cX7_init 15 = .ok (.iload_n 3, 1) := dk_29 (dk_at dksX7_init_0 15 rfl rfl)
theorem dX7_init_16 : decode cX7_init 16 = .ok (.putfield 18, 3) := dk_181 0 18 (dk_at dksX7_init_0 16 rfl rfl)
theorem dX7_init_19 : decode cX7_init 19 = .ok (.aload_n 0, 1) := dk_42 (dk_at dksX7_init_0 19 rfl rfl)
theorem dX7_init_20 : decode cX7_init 20 = .ok (.iload 4, 2) := dk_21 4 (dk_at dksX7_init_0 20 rfl rfl)
theorem dX7_init_22 : decode cX7_init 22 = .ok (.putfield 21, 3) := dk_181 0 21 (dk_at dksX7_init_1 0 rfl rfl)
theorem dX7_init_25 : decode cX7_init 25 = .ok (.aload_n 0, 1) := dk_42 (dk_at dksX7_init_1 3 rfl rfl)
theorem dX7_init_26 : decode cX7_init 26 = .ok (.iload 5, 2) := dk_21 5 (dk_at dksX7_init_1 4 rfl rfl)
theorem dX7_init_28 : decode cX7_init 28 = .ok (.putfield 24, 3) := dk_181 0 24 (dk_at dksX7_init_1 6 rfl rfl)
theorem dX7_init_31 : decode cX7_init 31 = .ok (.aload_n 0, 1) := dk_42 (dk_at dksX7_init_1 9 rfl rfl)
theorem dX7_init_32 : decode cX7_init 32 = .ok (.aload 6, 2) := dk_25 6 (dk_at dksX7_init_1 10 rfl rfl)
theorem dX7_init_34 : decode cX7_init 34 = .ok (.putfield 27, 3) := dk_181 0 27 (dk_at dksX7_init_1 12 rfl rfl)
theorem dX7_init_37 : decode cX7_init 37 = .ok (.aload_n 0, 1) := dk_42 (dk_at dksX7_init_1 15 rfl rfl)
theorem dX7_init_38 : decode cX7_init 38 = .ok (.aload 7, 2) := dk_25 7 (dk_at dksX7_init_1 16 rfl rfl)
theorem dX7_init_40 : decode cX7_init 40 = .ok (.putfield 31, 3) := dk_181 0 31 (dk_at dksX7_init_1 18 rfl rfl)
theorem dX7_init_43 : decode cX7_init 43 = .ok (.return_, 1) := dk_177 (dk_at dksX7_init_1 21 rfl rfl)
theorem q131 : (Jvm.Cond.initialized "AutoIndenter$Rule") ∈ lw_all := lw_g (lw_at lw_m1 36 rfl) rfl
theorem q546 : (Jvm.Cond.selects "AutoIndenter$Rule" ({ cls := "java/lang/Object", name := "getClass", desc := "()Ljava/lang/Class;" } : Jvm.MethodName) ({ cls := "java/lang/Object", name := "getClass", desc := "()Ljava/lang/Class;" } : Jvm.MethodName)) ∈ lw_all := lw_g (lw_at lw_m2 211 rfl) rfl
theorem q1558 : (Jvm.Cond.instanceMethod ({ cls := "AutoIndenter$Rule", name := "closesBy", desc := "(Ljava/lang/String;)Z" } : Jvm.MethodName)) ∈ lw_all := lw_g (lw_at lw_m7 23 rfl) rfl
theorem q1559 : (Jvm.Cond.selects "AutoIndenter$Rule" ({ cls := "AutoIndenter$Rule", name := "closesBy", desc := "(Ljava/lang/String;)Z" } : Jvm.MethodName) ({ cls := "AutoIndenter$Rule", name := "closesBy", desc := "(Ljava/lang/String;)Z" } : Jvm.MethodName)) ∈ lw_all := lw_g (lw_at lw_m7 24 rfl) rfl
theorem q1560 : (Jvm.Cond.code ({ cls := "AutoIndenter$Rule", name := "closesBy", desc := "(Ljava/lang/String;)Z" } : Jvm.MethodName) prog_3_method_2_code (2 : Nat) (Option.some Jvm.ClassFile.FieldType.boolean)) ∈ lw_all := lw_g (lw_at lw_m7 25 rfl) rfl
theorem q1561 : (Jvm.Cond.methodLink "AutoIndenter$Rule" (34 : Nat) ({ cls := "java/lang/String", name := "equals", desc := "(Ljava/lang/Object;)Z" } : Jvm.MethodName)) ∈ lw_all := lw_g (lw_at lw_m7 26 rfl) rfl
theorem q1737 : (Jvm.Cond.instantiable "AutoIndenter$Rule" (7 : Nat)) ∈ lw_all := lw_g (lw_at lw_m7 202 rfl) rfl
theorem q1739 : (Jvm.Cond.instanceMethod ({ cls := "AutoIndenter$Rule", name := "<init>", desc := "(IIIIILjava/lang/String;Ljava/lang/String;)V" } : Jvm.MethodName)) ∈ lw_all := lw_g (lw_at lw_m7 204 rfl) rfl
theorem q1740 : (Jvm.Cond.code ({ cls := "AutoIndenter$Rule", name := "<init>", desc := "(IIIIILjava/lang/String;Ljava/lang/String;)V" } : Jvm.MethodName) prog_3_method_1_code (8 : Nat) (Option.none : Option Jvm.ClassFile.FieldType)) ∈ lw_all := lw_g (lw_at lw_m7 205 rfl) rfl
theorem q1741 : (Jvm.Cond.methodLink "AutoIndenter$Rule" (3 : Nat) ({ cls := "java/lang/Record", name := "<init>", desc := "()V" } : Jvm.MethodName)) ∈ lw_all := lw_g (lw_at lw_m7 206 rfl) rfl
theorem q1745 : (Jvm.Cond.fieldLink "AutoIndenter$Rule" (9 : Nat) "AutoIndenter$Rule" "sort" "I") ∈ lw_all := lw_g (lw_at lw_m7 210 rfl) rfl
theorem q1748 : (Jvm.Cond.fieldLink "AutoIndenter$Rule" (15 : Nat) "AutoIndenter$Rule" "precedence" "I") ∈ lw_all := lw_g (lw_at lw_m7 213 rfl) rfl
theorem q1752 : (Jvm.Cond.fieldLink "AutoIndenter$Rule" (18 : Nat) "AutoIndenter$Rule" "steps" "I") ∈ lw_all := lw_g (lw_at lw_m7 217 rfl) rfl
theorem q1755 : (Jvm.Cond.fieldLink "AutoIndenter$Rule" (21 : Nat) "AutoIndenter$Rule" "mode" "I") ∈ lw_all := lw_g (lw_at lw_m7 220 rfl) rfl
theorem q1758 : (Jvm.Cond.fieldLink "AutoIndenter$Rule" (24 : Nat) "AutoIndenter$Rule" "closing" "I") ∈ lw_all := lw_g (lw_at lw_m7 223 rfl) rfl
theorem q1761 : (Jvm.Cond.fieldLink "AutoIndenter$Rule" (27 : Nat) "AutoIndenter$Rule" "text" "Ljava/lang/String;") ∈ lw_all := lw_g (lw_at lw_m7 226 rfl) rfl
theorem q1764 : (Jvm.Cond.fieldLink "AutoIndenter$Rule" (31 : Nat) "AutoIndenter$Rule" "closer" "Ljava/lang/String;") ∈ lw_all := lw_g (lw_at lw_m7 229 rfl) rfl
theorem q1767 : (Jvm.Cond.laysFinal "AutoIndenter$Rule" "AutoIndenter$Rule" "sort" "I") ∈ lw_all := lw_g (lw_at lw_m7 232 rfl) rfl
theorem q1768 : (Jvm.Cond.soleField "AutoIndenter$Rule" "sort") ∈ lw_all := lw_g (lw_at lw_m7 233 rfl) rfl
theorem q1769 : (Jvm.Cond.laysFinal "AutoIndenter$Rule" "AutoIndenter$Rule" "precedence" "I") ∈ lw_all := lw_g (lw_at lw_m7 234 rfl) rfl
theorem q1770 : (Jvm.Cond.soleField "AutoIndenter$Rule" "precedence") ∈ lw_all := lw_g (lw_at lw_m7 235 rfl) rfl
theorem q1771 : (Jvm.Cond.laysFinal "AutoIndenter$Rule" "AutoIndenter$Rule" "steps" "I") ∈ lw_all := lw_g (lw_at lw_m7 236 rfl) rfl
theorem q1772 : (Jvm.Cond.soleField "AutoIndenter$Rule" "steps") ∈ lw_all := lw_g (lw_at lw_m7 237 rfl) rfl
theorem q1773 : (Jvm.Cond.laysFinal "AutoIndenter$Rule" "AutoIndenter$Rule" "mode" "I") ∈ lw_all := lw_g (lw_at lw_m7 238 rfl) rfl
theorem q1774 : (Jvm.Cond.soleField "AutoIndenter$Rule" "mode") ∈ lw_all := lw_g (lw_at lw_m7 239 rfl) rfl
theorem q1775 : (Jvm.Cond.laysFinal "AutoIndenter$Rule" "AutoIndenter$Rule" "closing" "I") ∈ lw_all := lw_g (lw_at lw_m8 0 rfl) rfl
theorem q1776 : (Jvm.Cond.soleField "AutoIndenter$Rule" "closing") ∈ lw_all := lw_g (lw_at lw_m8 1 rfl) rfl
theorem q1777 : (Jvm.Cond.laysFinal "AutoIndenter$Rule" "AutoIndenter$Rule" "text" "Ljava/lang/String;") ∈ lw_all := lw_g (lw_at lw_m8 2 rfl) rfl
theorem q1778 : (Jvm.Cond.soleField "AutoIndenter$Rule" "text") ∈ lw_all := lw_g (lw_at lw_m8 3 rfl) rfl
theorem q1779 : (Jvm.Cond.laysFinal "AutoIndenter$Rule" "AutoIndenter$Rule" "closer" "Ljava/lang/String;") ∈ lw_all := lw_g (lw_at lw_m8 4 rfl) rfl
theorem q1780 : (Jvm.Cond.soleField "AutoIndenter$Rule" "closer") ∈ lw_all := lw_g (lw_at lw_m8 5 rfl) rfl
theorem q1781 : (Jvm.Cond.superclass "AutoIndenter$Rule" "java/lang/Record") ∈ lw_all := lw_g (lw_at lw_m8 6 rfl) rfl
theorem q2799 : (Jvm.Cond.castable "AutoIndenter$Rule" "java/lang/Object") ∈ lw_tbl := lw_at lw_m12 64 rfl
theorem in_X7 : ∀ w ∈ wsX70, w ∈ lw_all := lw_in wsX70 [1767, 1769, 1771, 1773, 1775, 1777, 1779] (by decide +kernel) (by decide +kernel)

/-! AutoIndenter$Setting -/
set_option maxRecDepth 100000
def RX8 : String := "AutoIndenter$Setting"
def TX8 : u_T := fun k => match k with
  | 0 => ("AutoIndenter$Setting", "step", "I", true)
  | _ => ("AutoIndenter$Setting", "base", "I", true)
def tyX8 : Nat → FieldType := fun k => match k with
  | 0 => .int
  | _ => .int
abbrev wsX80 : List Cond := u_ws RX8 TX8 2
theorem nmX8 : ∀ a, a < 2 → ∀ b, b < 2 → a ≠ b → (TX8 a).2.1 ≠ (TX8 b).2.1 := by decide +kernel
theorem tyX8_ok : ∀ k, k < 2 → parseFieldDescriptor (TX8 k).2.2.1 = some (tyX8 k) := by decide +kernel
abbrev cX8_hashCode : ByteArray := prog_4_method_3_code
def yX8_hashCode : MethodName := ⟨RX8, "hashCode", "()I"⟩
def dkwX8_hashCode_0 : List UInt8 := [16, 21, 42, 180, 0, 7, 104, 42, 180, 0, 13, 96, 172]
abbrev dktX8_hashCode_0 : List UInt8 := dkwX8_hashCode_0 ++ []
theorem dksX8_hashCode_0 : cX8_hashCode.data.toList.drop 0 = dktX8_hashCode_0 := by decide +kernel
theorem dX8_hashCode_0 : decode cX8_hashCode 0 = .ok (.bipush 21, 2) := dk_16 21 (dk_at dksX8_hashCode_0 0 rfl rfl)
theorem dX8_hashCode_2 : decode cX8_hashCode 2 = .ok (.aload_n 0, 1) := dk_42 (dk_at dksX8_hashCode_0 2 rfl rfl)
theorem dX8_hashCode_3 : decode cX8_hashCode 3 = .ok (.getfield 7, 3) := dk_180 0 7 (dk_at dksX8_hashCode_0 3 rfl rfl)
theorem dX8_hashCode_6 : decode cX8_hashCode 6 = .ok (.imul, 1) := dk_104 (dk_at dksX8_hashCode_0 6 rfl rfl)
theorem dX8_hashCode_7 : decode cX8_hashCode 7 = .ok (.aload_n 0, 1) := dk_42 (dk_at dksX8_hashCode_0 7 rfl rfl)
theorem dX8_hashCode_8 : decode cX8_hashCode 8 = .ok (.getfield 13, 3) := dk_180 0 13 (dk_at dksX8_hashCode_0 8 rfl rfl)
theorem dX8_hashCode_11 : decode cX8_hashCode 11 = .ok (.iadd, 1) := dk_96 (dk_at dksX8_hashCode_0 11 rfl rfl)
theorem dX8_hashCode_12 : decode cX8_hashCode 12 = .ok (.ireturn, 1) := dk_172 (dk_at dksX8_hashCode_0 12 rfl rfl)
abbrev cX8_equals : ByteArray := prog_4_method_2_code
def yX8_equals : MethodName := ⟨RX8, "equals", "(Ljava/lang/Object;)Z"⟩
def dkwX8_equals_1 : List UInt8 := [180, 0, 13, 42, 180, 0, 13, 160, 0, 7, 4, 167, 0, 4, 3, 172]
abbrev dktX8_equals_1 : List UInt8 := dkwX8_equals_1 ++ []
def dkwX8_equals_0 : List UInt8 := [43, 193, 0, 8, 153, 0, 34, 43, 192, 0, 8, 77, 44, 180, 0, 7, 42, 180, 0, 7, 160, 0, 18, 44]
abbrev dktX8_equals_0 : List UInt8 := dkwX8_equals_0 ++ dktX8_equals_1
theorem dksX8_equals_0 : cX8_equals.data.toList.drop 0 = dktX8_equals_0 := by decide +kernel
theorem dksX8_equals_1 : cX8_equals.data.toList.drop 24 = dktX8_equals_1 := dk_seg dksX8_equals_0 24 rfl rfl
theorem dX8_equals_0 : decode cX8_equals 0 = .ok (.aload_n 1, 1) := dk_43 (dk_at dksX8_equals_0 0 rfl rfl)
theorem dX8_equals_1 : decode cX8_equals 1 = .ok (.instanceof 8, 3) := dk_193 0 8 (dk_at dksX8_equals_0 1 rfl rfl)
theorem dX8_equals_4 : decode cX8_equals 4 = .ok (.ifCond .eq 34, 3) := dk_153 0 34 (dk_at dksX8_equals_0 4 rfl rfl)
theorem dX8_equals_7 : decode cX8_equals 7 = .ok (.aload_n 1, 1) := dk_43 (dk_at dksX8_equals_0 7 rfl rfl)
theorem dX8_equals_8 : decode cX8_equals 8 = .ok (.checkcast 8, 3) := dk_192 0 8 (dk_at dksX8_equals_0 8 rfl rfl)
theorem dX8_equals_11 : decode cX8_equals 11 = .ok (.astore_n 2, 1) := dk_77 (dk_at dksX8_equals_0 11 rfl rfl)
theorem dX8_equals_12 : decode cX8_equals 12 = .ok (.aload_n 2, 1) := dk_44 (dk_at dksX8_equals_0 12 rfl rfl)
theorem dX8_equals_13 : decode cX8_equals 13 = .ok (.getfield 7, 3) := dk_180 0 7 (dk_at dksX8_equals_0 13 rfl rfl)
theorem dX8_equals_16 : decode cX8_equals 16 = .ok (.aload_n 0, 1) := dk_42 (dk_at dksX8_equals_0 16 rfl rfl)
theorem dX8_equals_17 : decode cX8_equals 17 = .ok (.getfield 7, 3) := dk_180 0 7 (dk_at dksX8_equals_0 17 rfl rfl)
theorem dX8_equals_20 : decode cX8_equals 20 = .ok (.if_icmp .ne 18, 3) := dk_160 0 18 (dk_at dksX8_equals_0 20 rfl rfl)
theorem dX8_equals_23 : decode cX8_equals 23 = .ok (.aload_n 2, 1) := dk_44 (dk_at dksX8_equals_0 23 rfl rfl)
theorem dX8_equals_24 : decode cX8_equals 24 = .ok (.getfield 13, 3) := dk_180 0 13 (dk_at dksX8_equals_1 0 rfl rfl)
theorem dX8_equals_27 : decode cX8_equals 27 = .ok (.aload_n 0, 1) := dk_42 (dk_at dksX8_equals_1 3 rfl rfl)
theorem dX8_equals_28 : decode cX8_equals 28 = .ok (.getfield 13, 3) := dk_180 0 13 (dk_at dksX8_equals_1 4 rfl rfl)
theorem dX8_equals_31 : decode cX8_equals 31 = .ok (.if_icmp .ne 7, 3) := dk_160 0 7 (dk_at dksX8_equals_1 7 rfl rfl)
theorem dX8_equals_34 : decode cX8_equals 34 = .ok (.iconst 1, 1) := dk_4 (dk_at dksX8_equals_1 10 rfl rfl)
theorem dX8_equals_35 : decode cX8_equals 35 = .ok (.goto 4, 3) := dk_167 0 4 (dk_at dksX8_equals_1 11 rfl rfl)
theorem dX8_equals_38 : decode cX8_equals 38 = .ok (.iconst 0, 1) := dk_3 (dk_at dksX8_equals_1 14 rfl rfl)
theorem dX8_equals_39 : decode cX8_equals 39 = .ok (.ireturn, 1) := dk_172 (dk_at dksX8_equals_1 15 rfl rfl)
abbrev cX8_init : ByteArray := prog_4_method_1_code
def yX8_init : MethodName := ⟨RX8, "<init>", "(II)V"⟩
def dkwX8_init_0 : List UInt8 := [42, 183, 0, 1, 42, 27, 181, 0, 7, 42, 28, 181, 0, 13, 177]
abbrev dktX8_init_0 : List UInt8 := dkwX8_init_0 ++ []
theorem dksX8_init_0 : cX8_init.data.toList.drop 0 = dktX8_init_0 := by decide +kernel
theorem dX8_init_0 : decode cX8_init 0 = .ok (.aload_n 0, 1) := dk_42 (dk_at dksX8_init_0 0 rfl rfl)
theorem dX8_init_1 : decode cX8_init 1 = .ok (.invokespecial 1, 3) := dk_183 0 1 (dk_at dksX8_init_0 1 rfl rfl)
theorem dX8_init_4 : decode cX8_init 4 = .ok (.aload_n 0, 1) := dk_42 (dk_at dksX8_init_0 4 rfl rfl)
theorem dX8_init_5 : decode cX8_init 5 = .ok (.iload_n 1, 1) := dk_27 (dk_at dksX8_init_0 5 rfl rfl)
theorem dX8_init_6 : decode cX8_init 6 = .ok (.putfield 7, 3) := dk_181 0 7 (dk_at dksX8_init_0 6 rfl rfl)
theorem dX8_init_9 : decode cX8_init 9 = .ok (.aload_n 0, 1) := dk_42 (dk_at dksX8_init_0 9 rfl rfl)
theorem dX8_init_10 : decode cX8_init 10 = .ok (.iload_n 2, 1) := dk_28 (dk_at dksX8_init_0 10 rfl rfl)
theorem dX8_init_11 : decode cX8_init 11 = .ok (.putfield 13, 3) := dk_181 0 13 (dk_at dksX8_init_0 11 rfl rfl)
theorem dX8_init_14 : decode cX8_init 14 = .ok (.return_, 1) := dk_177 (dk_at dksX8_init_0 14 rfl rfl)
theorem q132 : (Jvm.Cond.initialized "AutoIndenter$Setting") ∈ lw_all := lw_g (lw_at lw_m1 37 rfl) rfl
theorem q547 : (Jvm.Cond.selects "AutoIndenter$Setting" ({ cls := "java/lang/Object", name := "getClass", desc := "()Ljava/lang/Class;" } : Jvm.MethodName) ({ cls := "java/lang/Object", name := "getClass", desc := "()Ljava/lang/Class;" } : Jvm.MethodName)) ∈ lw_all := lw_g (lw_at lw_m2 212 rfl) rfl
theorem q893 : (Jvm.Cond.selects "AutoIndenter$Setting" ({ cls := "java/lang/Object", name := "hashCode", desc := "()I" } : Jvm.MethodName) ({ cls := "AutoIndenter$Setting", name := "hashCode", desc := "()I" } : Jvm.MethodName)) ∈ lw_all := lw_g (lw_at lw_m4 78 rfl) rfl
theorem q894 : (Jvm.Cond.instanceMethod ({ cls := "AutoIndenter$Setting", name := "hashCode", desc := "()I" } : Jvm.MethodName)) ∈ lw_all := lw_g (lw_at lw_m4 79 rfl) rfl
theorem q895 : (Jvm.Cond.code ({ cls := "AutoIndenter$Setting", name := "hashCode", desc := "()I" } : Jvm.MethodName) prog_4_method_3_code (1 : Nat) (Option.some Jvm.ClassFile.FieldType.int)) ∈ lw_all := lw_g (lw_at lw_m4 80 rfl) rfl
theorem q965 : (Jvm.Cond.selects "AutoIndenter$Setting" ({ cls := "java/lang/Object", name := "equals", desc := "(Ljava/lang/Object;)Z" } : Jvm.MethodName) ({ cls := "AutoIndenter$Setting", name := "equals", desc := "(Ljava/lang/Object;)Z" } : Jvm.MethodName)) ∈ lw_all := lw_g (lw_at lw_m4 150 rfl) rfl
theorem q966 : (Jvm.Cond.instanceMethod ({ cls := "AutoIndenter$Setting", name := "equals", desc := "(Ljava/lang/Object;)Z" } : Jvm.MethodName)) ∈ lw_all := lw_g (lw_at lw_m4 151 rfl) rfl
theorem q967 : (Jvm.Cond.code ({ cls := "AutoIndenter$Setting", name := "equals", desc := "(Ljava/lang/Object;)Z" } : Jvm.MethodName) prog_4_method_2_code (3 : Nat) (Option.some Jvm.ClassFile.FieldType.boolean)) ∈ lw_all := lw_g (lw_at lw_m4 152 rfl) rfl
theorem q968 : (Jvm.Cond.classLink "AutoIndenter$Setting" (8 : Nat) "AutoIndenter$Setting") ∈ lw_all := lw_g (lw_at lw_m4 153 rfl) rfl
theorem q1833 : (Jvm.Cond.instantiable "AutoIndenter$Setting" (2 : Nat)) ∈ lw_all := lw_g (lw_at lw_m8 58 rfl) rfl
theorem q1835 : (Jvm.Cond.instanceMethod ({ cls := "AutoIndenter$Setting", name := "<init>", desc := "(II)V" } : Jvm.MethodName)) ∈ lw_all := lw_g (lw_at lw_m8 60 rfl) rfl
theorem q1836 : (Jvm.Cond.code ({ cls := "AutoIndenter$Setting", name := "<init>", desc := "(II)V" } : Jvm.MethodName) prog_4_method_1_code (3 : Nat) (Option.none : Option Jvm.ClassFile.FieldType)) ∈ lw_all := lw_g (lw_at lw_m8 61 rfl) rfl
theorem q1837 : (Jvm.Cond.methodLink "AutoIndenter$Setting" (1 : Nat) ({ cls := "java/lang/Object", name := "<init>", desc := "()V" } : Jvm.MethodName)) ∈ lw_all := lw_g (lw_at lw_m8 62 rfl) rfl
theorem q1838 : (Jvm.Cond.fieldLink "AutoIndenter$Setting" (7 : Nat) "AutoIndenter$Setting" "step" "I") ∈ lw_all := lw_g (lw_at lw_m8 63 rfl) rfl
theorem q1840 : (Jvm.Cond.fieldLink "AutoIndenter$Setting" (13 : Nat) "AutoIndenter$Setting" "base" "I") ∈ lw_all := lw_g (lw_at lw_m8 65 rfl) rfl
theorem q1842 : (Jvm.Cond.laysFinal "AutoIndenter$Setting" "AutoIndenter$Setting" "step" "I") ∈ lw_all := lw_g (lw_at lw_m8 67 rfl) rfl
theorem q1843 : (Jvm.Cond.soleField "AutoIndenter$Setting" "step") ∈ lw_all := lw_g (lw_at lw_m8 68 rfl) rfl
theorem q1844 : (Jvm.Cond.laysFinal "AutoIndenter$Setting" "AutoIndenter$Setting" "base" "I") ∈ lw_all := lw_g (lw_at lw_m8 69 rfl) rfl
theorem q1845 : (Jvm.Cond.soleField "AutoIndenter$Setting" "base") ∈ lw_all := lw_g (lw_at lw_m8 70 rfl) rfl
theorem q1846 : (Jvm.Cond.superclass "AutoIndenter$Setting" "java/lang/Object") ∈ lw_all := lw_g (lw_at lw_m8 71 rfl) rfl
theorem q2817 : (Jvm.Cond.castable "AutoIndenter$Setting" "java/lang/Object") ∈ lw_tbl := lw_at lw_m12 82 rfl
theorem in_X8 : ∀ w ∈ wsX80, w ∈ lw_all := lw_in wsX80 [1842, 1844] (by decide +kernel) (by decide +kernel)
