/-! AutoIndenter -/
set_option maxRecDepth 100000
def RX0 : String := "AutoIndenter"
def TX0 : u_T := fun k => match k with
  | 0 => ("AutoIndenter", "now", "LAutoIndenter$State;", false)
  | 1 => ("AutoIndenter", "past", "Ljava/util/ArrayList;", true)
  | 2 => ("AutoIndenter", "images", "[LAutoIndenter$State;", true)
  | 3 => ("AutoIndenter", "text", "[B", true)
  | 4 => ("AutoIndenter", "length", "I", false)
  | 5 => ("AutoIndenter", "walk", "LAutoIndenter$Walk;", false)
  | 6 => ("AutoIndenter", "changes", "Ljava/util/HashMap;", false)
  | 7 => ("AutoIndenter", "at", "I", false)
  | 8 => ("AutoIndenter", "fault", "I", false)
  | _ => ("AutoIndenter", "drawn", "I", false)
def tyX0 : Nat → FieldType := fun k => match k with
  | 0 => .object "AutoIndenter$State"
  | 1 => .object "java/util/ArrayList"
  | 2 => .array (.object "AutoIndenter$State")
  | 3 => .array .byte
  | 4 => .int
  | 5 => .object "AutoIndenter$Walk"
  | 6 => .object "java/util/HashMap"
  | 7 => .int
  | 8 => .int
  | _ => .int
abbrev wsX00 : List Cond := u_ws RX0 TX0 10
theorem nmX0 : ∀ a, a < 10 → ∀ b, b < 10 → a ≠ b → (TX0 a).2.1 ≠ (TX0 b).2.1 := by decide +kernel
theorem tyX0_ok : ∀ k, k < 10 → parseFieldDescriptor (TX0 k).2.2.1 = some (tyX0 k) := by decide +kernel
abbrev cX0_init : ByteArray := prog_1_method_4_code
def yX0_init : MethodName := ⟨RX0, "<init>", "()V"⟩
def dkwX0_init_1 : List UInt8 := [181, 0, 32, 42, 5, 189, 0, 22, 181, 0, 36, 42, 16, 72, 188, 8, 181, 0, 40, 177]
abbrev dktX0_init_1 : List UInt8 := dkwX0_init_1 ++ []
def dkwX0_init_0 : List UInt8 := [42, 183, 0, 16, 42, 187, 0, 22, 89, 183, 0, 24, 181, 0, 25, 42, 187, 0, 29, 89, 183, 0, 31]
abbrev dktX0_init_0 : List UInt8 := dkwX0_init_0 ++ dktX0_init_1
theorem dksX0_init_0 : cX0_init.data.toList.drop 0 = dktX0_init_0 := by decide +kernel
theorem dksX0_init_1 : cX0_init.data.toList.drop 23 = dktX0_init_1 := dk_seg dksX0_init_0 23 rfl rfl
theorem dX0_init_0 : decode cX0_init 0 = .ok (.aload_n 0, 1) := dk_42 (dk_at dksX0_init_0 0 rfl rfl)
theorem dX0_init_1 : decode cX0_init 1 = .ok (.invokespecial 16, 3) := dk_183 0 16 (dk_at dksX0_init_0 1 rfl rfl)
theorem dX0_init_4 : decode cX0_init 4 = .ok (.aload_n 0, 1) := dk_42 (dk_at dksX0_init_0 4 rfl rfl)
theorem dX0_init_5 : decode cX0_init 5 = .ok (.new 22, 3) := dk_187 0 22 (dk_at dksX0_init_0 5 rfl rfl)
theorem dX0_init_8 : decode cX0_init 8 = .ok (.dup, 1) := dk_89 (dk_at dksX0_init_0 8 rfl rfl)
theorem dX0_init_9 : decode cX0_init 9 = .ok (.invokespecial 24, 3) := dk_183 0 24 (dk_at dksX0_init_0 9 rfl rfl)
theorem dX0_init_12 : decode cX0_init 12 = .ok (.putfield 25, 3) := dk_181 0 25 (dk_at dksX0_init_0 12 rfl rfl)
theorem dX0_init_15 : decode cX0_init 15 = .ok (.aload_n 0, 1) := dk_42 (dk_at dksX0_init_0 15 rfl rfl)
theorem dX0_init_16 : decode cX0_init 16 = .ok (.new 29, 3) := dk_187 0 29 (dk_at dksX0_init_0 16 rfl rfl)
theorem dX0_init_19 : decode cX0_init 19 = .ok (.dup, 1) := dk_89 (dk_at dksX0_init_0 19 rfl rfl)
theorem dX0_init_20 : decode cX0_init 20 = .ok (.invokespecial 31, 3) := dk_183 0 31 (dk_at dksX0_init_0 20 rfl rfl)
theorem dX0_init_23 : decode cX0_init 23 = .ok (.putfield 32, 3) := dk_181 0 32 (dk_at dksX0_init_1 0 rfl rfl)
theorem dX0_init_26 : decode cX0_init 26 = .ok (.aload_n 0, 1) := dk_42 (dk_at dksX0_init_1 3 rfl rfl)
theorem dX0_init_27 : decode cX0_init 27 = .ok (.iconst 2, 1) := dk_5 (dk_at dksX0_init_1 4 rfl rfl)
theorem dX0_init_28 : decode cX0_init 28 = .ok (.anewarray 22, 3) := dk_189 0 22 (dk_at dksX0_init_1 5 rfl rfl)
theorem dX0_init_31 : decode cX0_init 31 = .ok (.putfield 36, 3) := dk_181 0 36 (dk_at dksX0_init_1 8 rfl rfl)
theorem dX0_init_34 : decode cX0_init 34 = .ok (.aload_n 0, 1) := dk_42 (dk_at dksX0_init_1 11 rfl rfl)
theorem dX0_init_35 : decode cX0_init 35 = .ok (.bipush 72, 2) := dk_16 72 (dk_at dksX0_init_1 12 rfl rfl)
theorem dX0_init_37 : decode cX0_init 37 = .ok (.newarray .byte, 2) := dk_188_8 (dk_at dksX0_init_1 14 rfl rfl)
theorem dX0_init_39 : decode cX0_init 39 = .ok (.putfield 40, 3) := dk_181 0 40 (dk_at dksX0_init_1 16 rfl rfl)
theorem dX0_init_42 : decode cX0_init 42 = .ok (.return_, 1) := dk_177 (dk_at dksX0_init_1 19 rfl rfl)
abbrev cX0_type : ByteArray := prog_1_method_12_code
def yX0_type : MethodName := ⟨RX0, "type", "(I)I"⟩
def dkwX0_type_2 : List UInt8 := [180, 0, 112, 172]
abbrev dktX0_type_2 : List UInt8 := dkwX0_type_2 ++ []
def dkwX0_type_1 : List UInt8 := [172, 42, 180, 0, 40, 42, 180, 0, 112, 27, 145, 84, 42, 89, 180, 0, 112, 4, 96, 181, 0, 112, 42]
abbrev dktX0_type_1 : List UInt8 := dkwX0_type_1 ++ dktX0_type_2
def dkwX0_type_0 : List UInt8 := [27, 16, 32, 16, 126, 184, 0, 1, 154, 0, 5, 2, 172, 42, 180, 0, 112, 16, 72, 160, 0, 6, 16, 253]
abbrev dktX0_type_0 : List UInt8 := dkwX0_type_0 ++ dktX0_type_1
theorem dksX0_type_0 : cX0_type.data.toList.drop 0 = dktX0_type_0 := by decide +kernel
theorem dksX0_type_1 : cX0_type.data.toList.drop 24 = dktX0_type_1 := dk_seg dksX0_type_0 24 rfl rfl
theorem dksX0_type_2 : cX0_type.data.toList.drop 47 = dktX0_type_2 := dk_seg dksX0_type_1 23 rfl rfl
theorem dX0_type_0 : decode cX0_type 0 = .ok (.iload_n 1, 1) := dk_27 (dk_at dksX0_type_0 0 rfl rfl)
theorem dX0_type_1 : decode cX0_type 1 = .ok (.bipush 32, 2) := dk_16 32 (dk_at dksX0_type_0 1 rfl rfl)
theorem dX0_type_3 : decode cX0_type 3 = .ok (.bipush 126, 2) := dk_16 126 (dk_at dksX0_type_0 3 rfl rfl)
theorem dX0_type_5 : decode cX0_type 5 = .ok (.invokestatic 1, 3) := dk_184 0 1 (dk_at dksX0_type_0 5 rfl rfl)
theorem dX0_type_8 : decode cX0_type 8 = .ok (.ifCond .ne 5, 3) := dk_154 0 5 (dk_at dksX0_type_0 8 rfl rfl)
theorem dX0_type_11 : decode cX0_type 11 = .ok (.iconst (-1), 1) := dk_2 (dk_at dksX0_type_0 11 rfl rfl)
theorem dX0_type_12 : decode cX0_type 12 = .ok (.ireturn, 1) := dk_172 (dk_at dksX0_type_0 12 rfl rfl)
theorem dX0_type_13 : decode cX0_type 13 = .ok (.aload_n 0, 1) := dk_42 (dk_at dksX0_type_0 13 rfl rfl)
theorem dX0_type_14 : decode cX0_type 14 = .ok (.getfield 112, 3) := dk_180 0 112 (dk_at dksX0_type_0 14 rfl rfl)
theorem dX0_type_17 : decode cX0_type 17 = .ok (.bipush 72, 2) := dk_16 72 (dk_at dksX0_type_0 17 rfl rfl)
theorem dX0_type_19 : decode cX0_type 19 = .ok (.if_icmp .ne 6, 3) := dk_160 0 6 (dk_at dksX0_type_0 19 rfl rfl)
theorem dX0_type_22 : decode cX0_type 22 = .ok (.bipush (-3), 2) := dk_16 253 (dk_at dksX0_type_0 22 rfl rfl)
theorem dX0_type_24 : decode cX0_type 24 = .ok (.ireturn, 1) := dk_172 (dk_at dksX0_type_1 0 rfl rfl)
theorem dX0_type_25 : decode cX0_type 25 = .ok (.aload_n 0, 1) := dk_42 (dk_at dksX0_type_1 1 rfl rfl)
theorem dX0_type_26 : decode cX0_type 26 = .ok (.getfield 40, 3) := dk_180 0 40 (dk_at dksX0_type_1 2 rfl rfl)
theorem dX0_type_29 : decode cX0_type 29 = .ok (.aload_n 0, 1) := dk_42 (dk_at dksX0_type_1 5 rfl rfl)
theorem dX0_type_30 : decode cX0_type 30 = .ok (.getfield 112, 3) := dk_180 0 112 (dk_at dksX0_type_1 6 rfl rfl)
theorem dX0_type_33 : decode cX0_type 33 = .ok (.iload_n 1, 1) := dk_27 (dk_at dksX0_type_1 9 rfl rfl)
theorem dX0_type_34 : decode cX0_type 34 = .ok (.i2b, 1) := dk_145 (dk_at dksX0_type_1 10 rfl rfl)
theorem dX0_type_35 : decode cX0_type 35 = .ok (.bastore, 1) := dk_84 (dk_at dksX0_type_1 11 rfl rfl)
theorem dX0_type_36 : decode cX0_type 36 = .ok (.aload_n 0, 1) := dk_42 (dk_at dksX0_type_1 12 rfl rfl)
theorem dX0_type_37 : decode cX0_type 37 = .ok (.dup, 1) := dk_89 (dk_at dksX0_type_1 13 rfl rfl)
theorem dX0_type_38 : decode cX0_type 38 = .ok (.getfield 112, 3) := dk_180 0 112 (dk_at dksX0_type_1 14 rfl rfl)
theorem dX0_type_41 : decode cX0_type 41 = .ok (.iconst 1, 1) := dk_4 (dk_at dksX0_type_1 17 rfl rfl)
theorem dX0_type_42 : decode cX0_type 42 = .ok (.iadd, 1) := dk_96 (dk_at dksX0_type_1 18 rfl rfl)
theorem dX0_type_43 : decode cX0_type 43 = .ok (.putfield 112, 3) := dk_181 0 112 (dk_at dksX0_type_1 19 rfl rfl)
theorem dX0_type_46 : decode cX0_type 46 = .ok (.aload_n 0, 1) := dk_42 (dk_at dksX0_type_1 22 rfl rfl)
theorem dX0_type_47 : decode cX0_type 47 = .ok (.getfield 112, 3) := dk_180 0 112 (dk_at dksX0_type_2 0 rfl rfl)
theorem dX0_type_50 : decode cX0_type 50 = .ok (.ireturn, 1) := dk_172 (dk_at dksX0_type_2 3 rfl rfl)
abbrev cX0_isIn : ByteArray := prog_1_method_1_code
def yX0_isIn : MethodName := ⟨RX0, "isIn", "(III)Z"⟩
def dkwX0_isIn_0 : List UInt8 := [26, 27, 161, 0, 12, 26, 28, 163, 0, 7, 4, 167, 0, 4, 3, 172]
abbrev dktX0_isIn_0 : List UInt8 := dkwX0_isIn_0 ++ []
theorem dksX0_isIn_0 : cX0_isIn.data.toList.drop 0 = dktX0_isIn_0 := by decide +kernel
theorem dX0_isIn_0 : decode cX0_isIn 0 = .ok (.iload_n 0, 1) := dk_26 (dk_at dksX0_isIn_0 0 rfl rfl)
theorem dX0_isIn_1 : decode cX0_isIn 1 = .ok (.iload_n 1, 1) := dk_27 (dk_at dksX0_isIn_0 1 rfl rfl)
theorem dX0_isIn_2 : decode cX0_isIn 2 = .ok (.if_icmp .lt 12, 3) := dk_161 0 12 (dk_at dksX0_isIn_0 2 rfl rfl)
theorem dX0_isIn_5 : decode cX0_isIn 5 = .ok (.iload_n 0, 1) := dk_26 (dk_at dksX0_isIn_0 5 rfl rfl)
theorem dX0_isIn_6 : decode cX0_isIn 6 = .ok (.iload_n 2, 1) := dk_28 (dk_at dksX0_isIn_0 6 rfl rfl)
theorem dX0_isIn_7 : decode cX0_isIn 7 = .ok (.if_icmp .gt 7, 3) := dk_163 0 7 (dk_at dksX0_isIn_0 7 rfl rfl)
theorem dX0_isIn_10 : decode cX0_isIn 10 = .ok (.iconst 1, 1) := dk_4 (dk_at dksX0_isIn_0 10 rfl rfl)
theorem dX0_isIn_11 : decode cX0_isIn 11 = .ok (.goto 4, 3) := dk_167 0 4 (dk_at dksX0_isIn_0 11 rfl rfl)
theorem dX0_isIn_14 : decode cX0_isIn 14 = .ok (.iconst 0, 1) := dk_3 (dk_at dksX0_isIn_0 14 rfl rfl)
theorem dX0_isIn_15 : decode cX0_isIn 15 = .ok (.ireturn, 1) := dk_172 (dk_at dksX0_isIn_0 15 rfl rfl)
abbrev cX0_clear : ByteArray := prog_1_method_13_code
def yX0_clear : MethodName := ⟨RX0, "clear", "()I"⟩
def dkwX0_clear_0 : List UInt8 := [42, 180, 0, 112, 60, 42, 3, 181, 0, 112, 27, 172]
abbrev dktX0_clear_0 : List UInt8 := dkwX0_clear_0 ++ []
theorem dksX0_clear_0 : cX0_clear.data.toList.drop 0 = dktX0_clear_0 := by decide +kernel
theorem dX0_clear_0 : decode cX0_clear 0 = .ok (.aload_n 0, 1) := dk_42 (dk_at dksX0_clear_0 0 rfl rfl)
theorem dX0_clear_1 : decode cX0_clear 1 = .ok (.getfield 112, 3) := dk_180 0 112 (dk_at dksX0_clear_0 1 rfl rfl)
theorem dX0_clear_4 : decode cX0_clear 4 = .ok (.istore_n 1, 1) := dk_60 (dk_at dksX0_clear_0 4 rfl rfl)
theorem dX0_clear_5 : decode cX0_clear 5 = .ok (.aload_n 0, 1) := dk_42 (dk_at dksX0_clear_0 5 rfl rfl)
theorem dX0_clear_6 : decode cX0_clear 6 = .ok (.iconst 0, 1) := dk_3 (dk_at dksX0_clear_0 6 rfl rfl)
theorem dX0_clear_7 : decode cX0_clear 7 = .ok (.putfield 112, 3) := dk_181 0 112 (dk_at dksX0_clear_0 7 rfl rfl)
theorem dX0_clear_10 : decode cX0_clear 10 = .ok (.iload_n 1, 1) := dk_27 (dk_at dksX0_clear_0 10 rfl rfl)
theorem dX0_clear_11 : decode cX0_clear 11 = .ok (.ireturn, 1) := dk_172 (dk_at dksX0_clear_0 11 rfl rfl)
abbrev cX0_insertLine : ByteArray := prog_1_method_16_code
def yX0_insertLine : MethodName := ⟨RX0, "insertLine", "(I)I"⟩
def dkwX0_insertLine_3 : List UInt8 := [182, 0, 44, 172]
abbrev dktX0_insertLine_3 : List UInt8 := dkwX0_insertLine_3 ++ []
def dkwX0_insertLine_2 : List UInt8 := [182, 0, 139, 42, 180, 0, 25, 180, 0, 104, 27, 44, 182, 0, 142, 42, 180, 0, 25, 180, 0, 104]
abbrev dktX0_insertLine_2 : List UInt8 := dkwX0_insertLine_2 ++ dktX0_insertLine_3
def dkwX0_insertLine_1 : List UInt8 := [77, 42, 180, 0, 25, 180, 0, 104, 182, 0, 44, 16, 20, 159, 0, 7, 44, 199, 0, 6, 16, 253, 172, 42]
abbrev dktX0_insertLine_1 : List UInt8 := dkwX0_insertLine_1 ++ dktX0_insertLine_2
def dkwX0_insertLine_0 : List UInt8 := [27, 3, 42, 180, 0, 25, 180, 0, 104, 182, 0, 44, 184, 0, 1, 154, 0, 5, 2, 172, 42, 182, 0, 135]
abbrev dktX0_insertLine_0 : List UInt8 := dkwX0_insertLine_0 ++ dktX0_insertLine_1
theorem dksX0_insertLine_0 : cX0_insertLine.data.toList.drop 0 = dktX0_insertLine_0 := by decide +kernel
theorem dksX0_insertLine_1 : cX0_insertLine.data.toList.drop 24 = dktX0_insertLine_1 := dk_seg dksX0_insertLine_0 24 rfl rfl
theorem dksX0_insertLine_2 : cX0_insertLine.data.toList.drop 48 = dktX0_insertLine_2 := dk_seg dksX0_insertLine_1 24 rfl rfl
theorem dksX0_insertLine_3 : cX0_insertLine.data.toList.drop 70 = dktX0_insertLine_3 := dk_seg dksX0_insertLine_2 22 rfl rfl
theorem dX0_insertLine_0 : decode cX0_insertLine 0 = .ok (.iload_n 1, 1) := dk_27 (dk_at dksX0_insertLine_0 0 rfl rfl)
theorem dX0_insertLine_1 : decode cX0_insertLine 1 = .ok (.iconst 0, 1) := dk_3 (dk_at dksX0_insertLine_0 1 rfl rfl)
theorem dX0_insertLine_2 : decode cX0_insertLine 2 = .ok (.aload_n 0, 1) := dk_42 (dk_at dksX0_insertLine_0 2 rfl rfl)
theorem dX0_insertLine_3 : decode cX0_insertLine 3 = .ok (.getfield 25, 3) := dk_180 0 25 (dk_at dksX0_insertLine_0 3 rfl rfl)
theorem dX0_insertLine_6 : decode cX0_insertLine 6 = .ok (.getfield 104, 3) := dk_180 0 104 (dk_at dksX0_insertLine_0 6 rfl rfl)
theorem dX0_insertLine_9 : decode cX0_insertLine 9 = .ok (.invokevirtual 44, 3) := dk_182 0 44 (dk_at dksX0_insertLine_0 9 rfl rfl)
theorem dX0_insertLine_12 : decode cX0_insertLine 12 = .ok (.invokestatic 1, 3) := dk_184 0 1 (dk_at dksX0_insertLine_0 12 rfl rfl)
theorem dX0_insertLine_15 : decode cX0_insertLine 15 = .ok (.ifCond .ne 5, 3) := dk_154 0 5 (dk_at dksX0_insertLine_0 15 rfl rfl)
theorem dX0_insertLine_18 : decode cX0_insertLine 18 = .ok (.iconst (-1), 1) := dk_2 (dk_at dksX0_insertLine_0 18 rfl rfl)
theorem dX0_insertLine_19 : decode cX0_insertLine 19 = .ok (.ireturn, 1) := dk_172 (dk_at dksX0_insertLine_0 19 rfl rfl)
theorem dX0_insertLine_20 : decode cX0_insertLine 20 = .ok (.aload_n 0, 1) := dk_42 (dk_at dksX0_insertLine_0 20 rfl rfl)
theorem dX0_insertLine_21 : decode cX0_insertLine 21 = .ok (.invokevirtual 135, 3) := dk_182 0 135 (dk_at dksX0_insertLine_0 21 rfl rfl)
theorem dX0_insertLine_24 : decode cX0_insertLine 24 = .ok (.astore_n 2, 1) := dk_77 (dk_at dksX0_insertLine_1 0 rfl rfl)
theorem dX0_insertLine_25 : decode cX0_insertLine 25 = .ok (.aload_n 0, 1) := dk_42 (dk_at dksX0_insertLine_1 1 rfl rfl)
theorem dX0_insertLine_26 : decode cX0_insertLine 26 = .ok (.getfield 25, 3) := dk_180 0 25 (dk_at dksX0_insertLine_1 2 rfl rfl)
theorem dX0_insertLine_29 : decode cX0_insertLine 29 = .ok (.getfield 104, 3) := dk_180 0 104 (dk_at dksX0_insertLine_1 5 rfl rfl)
theorem dX0_insertLine_32 : decode cX0_insertLine 32 = .ok (.invokevirtual 44, 3) := dk_182 0 44 (dk_at dksX0_insertLine_1 8 rfl rfl)
theorem dX0_insertLine_35 : decode cX0_insertLine 35 = .ok (.bipush 20, 2) := dk_16 20 (dk_at dksX0_insertLine_1 11 rfl rfl)
theorem dX0_insertLine_37 : decode cX0_insertLine 37 = .ok (.if_icmp .eq 7, 3) := dk_159 0 7 (dk_at dksX0_insertLine_1 13 rfl rfl)
theorem dX0_insertLine_40 : decode cX0_insertLine 40 = .ok (.aload_n 2, 1) := dk_44 (dk_at dksX0_insertLine_1 16 rfl rfl)
theorem dX0_insertLine_41 : decode cX0_insertLine 41 = .ok (.ifnonnull 6, 3) := dk_199 0 6 (dk_at dksX0_insertLine_1 17 rfl rfl)
theorem dX0_insertLine_44 : decode cX0_insertLine 44 = .ok (.bipush (-3), 2) := dk_16 253 (dk_at dksX0_insertLine_1 20 rfl rfl)
theorem dX0_insertLine_46 : decode cX0_insertLine 46 = .ok (.ireturn, 1) := dk_172 (dk_at dksX0_insertLine_1 22 rfl rfl)
theorem dX0_insertLine_47 : decode cX0_insertLine 47 = .ok (.aload_n 0, 1) := dk_42 (dk_at dksX0_insertLine_1 23 rfl rfl)
theorem dX0_insertLine_48 : decode cX0_insertLine 48 = .ok (.invokevirtual 139, 3) := dk_182 0 139 (dk_at dksX0_insertLine_2 0 rfl rfl)
theorem dX0_insertLine_51 : decode cX0_insertLine 51 = .ok (.aload_n 0, 1) := dk_42 (dk_at dksX0_insertLine_2 3 rfl rfl)
theorem dX0_insertLine_52 : decode cX0_insertLine 52 = .ok (.getfield 25, 3) := dk_180 0 25 (dk_at dksX0_insertLine_2 4 rfl rfl)
theorem dX0_insertLine_55 : decode cX0_insertLine 55 = .ok (.getfield 104, 3) := dk_180 0 104 (dk_at dksX0_insertLine_2 7 rfl rfl)
theorem dX0_insertLine_58 : decode cX0_insertLine 58 = .ok (.iload_n 1, 1) := dk_27 (dk_at dksX0_insertLine_2 10 rfl rfl)
theorem dX0_insertLine_59 : decode cX0_insertLine 59 = .ok (.aload_n 2, 1) := dk_44 (dk_at dksX0_insertLine_2 11 rfl rfl)
theorem dX0_insertLine_60 : decode cX0_insertLine 60 = .ok (.invokevirtual 142, 3) := dk_182 0 142 (dk_at dksX0_insertLine_2 12 rfl rfl)
theorem dX0_insertLine_63 : decode cX0_insertLine 63 = .ok (.aload_n 0, 1) := dk_42 (dk_at dksX0_insertLine_2 15 rfl rfl)
theorem dX0_insertLine_64 : decode cX0_insertLine 64 = .ok (.getfield 25, 3) := dk_180 0 25 (dk_at dksX0_insertLine_2 16 rfl rfl)
theorem dX0_insertLine_67 : decode cX0_insertLine 67 = .ok (.getfield 104, 3) := dk_180 0 104 (dk_at dksX0_insertLine_2 19 rfl rfl)
theorem dX0_insertLine_70 : decode cX0_insertLine 70 = .ok (.invokevirtual 44, 3) := dk_182 0 44 (dk_at dksX0_insertLine_3 0 rfl rfl)
theorem dX0_insertLine_73 : decode cX0_insertLine 73 = .ok (.ireturn, 1) := dk_172 (dk_at dksX0_insertLine_3 3 rfl rfl)
abbrev cX0_typed : ByteArray := prog_1_method_15_code
def yX0_typed : MethodName := ⟨RX0, "typed", "()LAutoIndenter$Line;"⟩
def dkwX0_typed_4 : List UInt8 := [42, 27, 28, 182, 0, 131, 183, 0, 128, 176]
abbrev dktX0_typed_4 : List UInt8 := dkwX0_typed_4 ++ []
def dkwX0_typed_3 : List UInt8 := [176, 27, 16, 40, 163, 0, 11, 28, 27, 100, 16, 32, 164, 0, 7, 1, 167, 0, 17, 187, 0, 110, 89, 27]
abbrev dktX0_typed_3 : List UInt8 := dkwX0_typed_3 ++ dktX0_typed_4
def dkwX0_typed_2 : List UInt8 := [160, 0, 9, 132, 2, 255, 167, 255, 235, 27, 28, 160, 0, 14, 187, 0, 110, 89, 3, 18, 126, 183, 0, 128]
abbrev dktX0_typed_2 : List UInt8 := dkwX0_typed_2 ++ dktX0_typed_3
def dkwX0_typed_1 : List UInt8 := [167, 255, 234, 42, 180, 0, 112, 61, 28, 27, 164, 0, 22, 42, 180, 0, 40, 28, 4, 100, 51, 16, 32]
abbrev dktX0_typed_1 : List UInt8 := dkwX0_typed_1 ++ dktX0_typed_2
def dkwX0_typed_0 : List UInt8 := [3, 60, 27, 42, 180, 0, 112, 162, 0, 20, 42, 180, 0, 40, 27, 51, 16, 32, 160, 0, 9, 132, 1, 1]
abbrev dktX0_typed_0 : List UInt8 := dkwX0_typed_0 ++ dktX0_typed_1
theorem dksX0_typed_0 : cX0_typed.data.toList.drop 0 = dktX0_typed_0 := by decide +kernel
theorem dksX0_typed_1 : cX0_typed.data.toList.drop 24 = dktX0_typed_1 := dk_seg dksX0_typed_0 24 rfl rfl
theorem dksX0_typed_2 : cX0_typed.data.toList.drop 47 = dktX0_typed_2 := dk_seg dksX0_typed_1 23 rfl rfl
theorem dksX0_typed_3 : cX0_typed.data.toList.drop 71 = dktX0_typed_3 := dk_seg dksX0_typed_2 24 rfl rfl
theorem dksX0_typed_4 : cX0_typed.data.toList.drop 95 = dktX0_typed_4 := dk_seg dksX0_typed_3 24 rfl rfl
theorem dX0_typed_0 : decode cX0_typed 0 = .ok (.iconst 0, 1) := dk_3 (dk_at dksX0_typed_0 0 rfl rfl)
theorem dX0_typed_1 : decode cX0_typed 1 = .ok (.istore_n 1, 1) := dk_60 (dk_at dksX0_typed_0 1 rfl rfl)
theorem dX0_typed_2 : decode cX0_typed 2 = .ok (.iload_n 1, 1) := dk_27 (dk_at dksX0_typed_0 2 rfl rfl)
theorem dX0_typed_3 : decode cX0_typed 3 = .ok (.aload_n 0, 1) := dk_42 (dk_at dksX0_typed_0 3 rfl rfl)
theorem dX0_typed_4 : decode cX0_typed 4 = .ok (.getfield 112, 3) := dk_180 0 112 (dk_at dksX0_typed_0 4 rfl rfl)
theorem dX0_typed_7 : decode cX0_typed 7 = .ok (.if_icmp .ge 20, 3) := dk_162 0 20 (dk_at dksX0_typed_0 7 rfl rfl)
theorem dX0_typed_10 : decode cX0_typed 10 = .ok (.aload_n 0, 1) := dk_42 (dk_at dksX0_typed_0 10 rfl rfl)
theorem dX0_typed_11 : decode cX0_typed 11 = .ok (.getfield 40, 3) := dk_180 0 40 (dk_at dksX0_typed_0 11 rfl rfl)
theorem dX0_typed_14 : decode cX0_typed 14 = .ok (.iload_n 1, 1) := dk_27 (dk_at dksX0_typed_0 14 rfl rfl)
theorem dX0_typed_15 : decode cX0_typed 15 = .ok (.baload, 1) := dk_51 (dk_at dksX0_typed_0 15 rfl rfl)
theorem dX0_typed_16 : decode cX0_typed 16 = .ok (.bipush 32, 2) := dk_16 32 (dk_at dksX0_typed_0 16 rfl rfl)
theorem dX0_typed_18 : decode cX0_typed 18 = .ok (.if_icmp .ne 9, 3) := dk_160 0 9 (dk_at dksX0_typed_0 18 rfl rfl)
theorem dX0_typed_21 : decode cX0_typed 21 = .ok (.iinc 1 1, 3) := dk_132 1 1 (dk_at dksX0_typed_0 21 rfl rfl)
theorem dX0_typed_24 : decode cX0_typed 24 = .ok (.goto (-22), 3) := dk_167 255 234 (dk_at dksX0_typed_1 0 rfl rfl)
theorem dX0_typed_27 : decode cX0_typed 27 = .ok (.aload_n 0, 1) := dk_42 (dk_at dksX0_typed_1 3 rfl rfl)
theorem dX0_typed_28 : decode cX0_typed 28 = .ok (.getfield 112, 3) := dk_180 0 112 (dk_at dksX0_typed_1 4 rfl rfl)
theorem dX0_typed_31 : decode cX0_typed 31 = .ok (.istore_n 2, 1) := dk_61 (dk_at dksX0_typed_1 7 rfl rfl)
theorem dX0_typed_32 : decode cX0_typed 32 = .ok (.iload_n 2, 1) := dk_28 (dk_at dksX0_typed_1 8 rfl rfl)
theorem dX0_typed_33 : decode cX0_typed 33 = .ok (.iload_n 1, 1) := dk_27 (dk_at dksX0_typed_1 9 rfl rfl)
theorem dX0_typed_34 : decode cX0_typed 34 = .ok (.if_icmp .le 22, 3) := dk_164 0 22 (dk_at dksX0_typed_1 10 rfl rfl)
theorem dX0_typed_37 : decode cX0_typed 37 = .ok (.aload_n 0, 1) := dk_42 (dk_at dksX0_typed_1 13 rfl rfl)
theorem dX0_typed_38 : decode cX0_typed 38 = .ok (.getfield 40, 3) := dk_180 0 40 (dk_at dksX0_typed_1 14 rfl rfl)
theorem dX0_typed_41 : decode cX0_typed 41 = .ok (.iload_n 2, 1) := dk_28 (dk_at dksX0_typed_1 17 rfl rfl)
theorem dX0_typed_42 : decode cX0_typed 42 = .ok (.iconst 1, 1) := dk_4 (dk_at dksX0_typed_1 18 rfl rfl)
theorem dX0_typed_43 : decode cX0_typed 43 = .ok (.isub, 1) := dk_100 (dk_at dksX0_typed_1 19 rfl rfl)
theorem dX0_typed_44 : decode cX0_typed 44 = .ok (.baload, 1) := dk_51 (dk_at dksX0_typed_1 20 rfl rfl)
theorem dX0_typed_45 : decode cX0_typed 45 = .ok (.bipush 32, 2) := dk_16 32 (dk_at dksX0_typed_1 21 rfl rfl)
theorem dX0_typed_47 : decode cX0_typed 47 = .ok (.if_icmp .ne 9, 3) := dk_160 0 9 (dk_at dksX0_typed_2 0 rfl rfl)
theorem dX0_typed_50 : decode cX0_typed 50 = .ok (.iinc 2 (-1), 3) := dk_132 2 255 (dk_at dksX0_typed_2 3 rfl rfl)
theorem dX0_typed_53 : decode cX0_typed 53 = .ok (.goto (-21), 3) := dk_167 255 235 (dk_at dksX0_typed_2 6 rfl rfl)
theorem dX0_typed_56 : decode cX0_typed 56 = .ok (.iload_n 1, 1) := dk_27 (dk_at dksX0_typed_2 9 rfl rfl)
theorem dX0_typed_57 : decode cX0_typed 57 = .ok (.iload_n 2, 1) := dk_28 (dk_at dksX0_typed_2 10 rfl rfl)
theorem dX0_typed_58 : decode cX0_typed 58 = .ok (.if_icmp .ne 14, 3) := dk_160 0 14 (dk_at dksX0_typed_2 11 rfl rfl)
theorem dX0_typed_61 : decode cX0_typed 61 = .ok (.new 110, 3) := dk_187 0 110 (dk_at dksX0_typed_2 14 rfl rfl)
theorem dX0_typed_64 : decode cX0_typed 64 = .ok (.dup, 1) := dk_89 (dk_at dksX0_typed_2 17 rfl rfl)
theorem dX0_typed_65 : decode cX0_typed 65 = .ok (.iconst 0, 1) := dk_3 (dk_at dksX0_typed_2 18 rfl rfl)
theorem dX0_typed_66 : decode cX0_typed 66 = .ok (.ldc 126, 2) := dk_18 126 (dk_at dksX0_typed_2 19 rfl rfl)
theorem dX0_typed_68 : decode cX0_typed 68 = .ok (.invokespecial 128, 3) := dk_183 0 128 (dk_at dksX0_typed_2 21 rfl rfl)
theorem dX0_typed_71 : decode cX0_typed 71 = .ok (.areturn, 1) := dk_176 (dk_at dksX0_typed_3 0 rfl rfl)
theorem dX0_typed_72 : decode cX0_typed 72 = .ok (.iload_n 1, 1) := dk_27 (dk_at dksX0_typed_3 1 rfl rfl)
theorem dX0_typed_73 : decode cX0_typed 73 = .ok (.bipush 40, 2) := dk_16 40 (dk_at dksX0_typed_3 2 rfl rfl)
theorem dX0_typed_75 : decode cX0_typed 75 = .ok (.if_icmp .gt 11, 3) := dk_163 0 11 (dk_at dksX0_typed_3 4 rfl rfl)
theorem dX0_typed_78 : decode cX0_typed 78 = .ok (.iload_n 2, 1) := dk_28 (dk_at dksX0_typed_3 7 rfl rfl)
theorem dX0_typed_79 : decode cX0_typed 79 = .ok (.iload_n 1, 1) := dk_27 (dk_at dksX0_typed_3 8 rfl rfl)
theorem dX0_typed_80 : decode cX0_typed 80 = .ok (.isub, 1) := dk_100 (dk_at dksX0_typed_3 9 rfl rfl)
theorem dX0_typed_81 : decode cX0_typed 81 = .ok (.bipush 32, 2) := dk_16 32 (dk_at dksX0_typed_3 10 rfl rfl)
theorem dX0_typed_83 : decode cX0_typed 83 = .ok (.if_icmp .le 7, 3) := dk_164 0 7 (dk_at dksX0_typed_3 12 rfl rfl)
theorem dX0_typed_86 : decode cX0_typed 86 = .ok (.aconst_null, 1) := dk_1 (dk_at dksX0_typed_3 15 rfl rfl)
theorem dX0_typed_87 : decode cX0_typed 87 = .ok (.goto 17, 3) := dk_167 0 17 (dk_at dksX0_typed_3 16 rfl rfl)
theorem dX0_typed_90 : decode cX0_typed 90 = .ok (.new 110, 3) := dk_187 0 110 (dk_at dksX0_typed_3 19 rfl rfl)
theorem dX0_typed_93 : decode cX0_typed 93 = .ok (.dup, 1) := dk_89 (dk_at dksX0_typed_3 22 rfl rfl)
theorem dX0_typed_94 : decode cX0_typed 94 = .ok (.iload_n 1, 1) := dk_27 (dk_at dksX0_typed_3 23 rfl rfl)
theorem dX0_typed_95 : decode cX0_typed 95 = .ok (.aload_n 0, 1) := dk_42 (dk_at dksX0_typed_4 0 rfl rfl)
theorem dX0_typed_96 : decode cX0_typed 96 = .ok (.iload_n 1, 1) := dk_27 (dk_at dksX0_typed_4 1 rfl rfl)
theorem dX0_typed_97 : decode cX0_typed 97 = .ok (.iload_n 2, 1) := dk_28 (dk_at dksX0_typed_4 2 rfl rfl)
theorem dX0_typed_98 : decode cX0_typed 98 = .ok (.invokevirtual 131, 3) := dk_182 0 131 (dk_at dksX0_typed_4 3 rfl rfl)
theorem dX0_typed_101 : decode cX0_typed 101 = .ok (.invokespecial 128, 3) := dk_183 0 128 (dk_at dksX0_typed_4 6 rfl rfl)
theorem dX0_typed_104 : decode cX0_typed 104 = .ok (.areturn, 1) := dk_176 (dk_at dksX0_typed_4 9 rfl rfl)
abbrev cX0_cut : ByteArray := prog_1_method_14_code
def yX0_cut : MethodName := ⟨RX0, "cut", "(II)Ljava/lang/String;"⟩
def dkwX0_cut_1 : List UInt8 := [51, 146, 182, 0, 118, 87, 132, 4, 1, 167, 255, 234, 45, 182, 0, 122, 176]
abbrev dktX0_cut_1 : List UInt8 := dkwX0_cut_1 ++ []
def dkwX0_cut_0 : List UInt8 := [187, 0, 115, 89, 183, 0, 117, 78, 27, 54, 4, 21, 4, 28, 162, 0, 22, 45, 42, 180, 0, 40, 21, 4]
abbrev dktX0_cut_0 : List UInt8 := dkwX0_cut_0 ++ dktX0_cut_1
theorem dksX0_cut_0 : cX0_cut.data.toList.drop 0 = dktX0_cut_0 := by decide +kernel
theorem dksX0_cut_1 : cX0_cut.data.toList.drop 24 = dktX0_cut_1 := dk_seg dksX0_cut_0 24 rfl rfl
theorem dX0_cut_0 : decode cX0_cut 0 = .ok (.new 115, 3) := dk_187 0 115 (dk_at dksX0_cut_0 0 rfl rfl)
theorem dX0_cut_3 : decode cX0_cut 3 = .ok (.dup, 1) := dk_89 (dk_at dksX0_cut_0 3 rfl rfl)
theorem dX0_cut_4 : decode cX0_cut 4 = .ok (.invokespecial 117, 3) := dk_183 0 117 (dk_at dksX0_cut_0 4 rfl rfl)
theorem dX0_cut_7 : decode cX0_cut 7 = .ok (.astore_n 3, 1) := dk_78 (dk_at dksX0_cut_0 7 rfl rfl)
theorem dX0_cut_8 : decode cX0_cut 8 = .ok (.iload_n 1, 1) := dk_27 (dk_at dksX0_cut_0 8 rfl rfl)
theorem dX0_cut_9 : decode cX0_cut 9 = .ok (.istore 4, 2) := dk_54 4 (dk_at dksX0_cut_0 9 rfl rfl)
theorem dX0_cut_11 : decode cX0_cut 11 = .ok (.iload 4, 2) := dk_21 4 (dk_at dksX0_cut_0 11 rfl rfl)
theorem dX0_cut_13 : decode cX0_cut 13 = .ok (.iload_n 2, 1) := dk_28 (dk_at dksX0_cut_0 13 rfl rfl)
theorem dX0_cut_14 : decode cX0_cut 14 = .ok (.if_icmp .ge 22, 3) := dk_162 0 22 (dk_at dksX0_cut_0 14 rfl rfl)
theorem dX0_cut_17 : decode cX0_cut 17 = .ok (.aload_n 3, 1) := dk_45 (dk_at dksX0_cut_0 17 rfl rfl)
theorem dX0_cut_18 : decode cX0_cut 18 = .ok (.aload_n 0, 1) := dk_42 (dk_at dksX0_cut_0 18 rfl rfl)
theorem dX0_cut_19 : decode cX0_cut 19 = .ok (.getfield 40, 3) := dk_180 0 40 (dk_at dksX0_cut_0 19 rfl rfl)
theorem dX0_cut_22 : decode cX0_cut 22 = .ok (.iload 4, 2) := dk_21 4 (dk_at dksX0_cut_0 22 rfl rfl)
theorem dX0_cut_24 : decode cX0_cut 24 = .ok (.baload, 1) := dk_51 (dk_at dksX0_cut_1 0 rfl rfl)
theorem dX0_cut_25 : decode cX0_cut 25 = .ok (.i2c, 1) := dk_146 (dk_at dksX0_cut_1 1 rfl rfl)
theorem dX0_cut_26 : decode cX0_cut 26 = .ok (.invokevirtual 118, 3) := dk_182 0 118 (dk_at dksX0_cut_1 2 rfl rfl)
theorem dX0_cut_29 : decode cX0_cut 29 = .ok (.pop, 1) := dk_87 (dk_at dksX0_cut_1 5 rfl rfl)
theorem dX0_cut_30 : decode cX0_cut 30 = .ok (.iinc 4 1, 3) := dk_132 4 1 (dk_at dksX0_cut_1 6 rfl rfl)
theorem dX0_cut_33 : decode cX0_cut 33 = .ok (.goto (-22), 3) := dk_167 255 234 (dk_at dksX0_cut_1 9 rfl rfl)
theorem dX0_cut_36 : decode cX0_cut 36 = .ok (.aload_n 3, 1) := dk_45 (dk_at dksX0_cut_1 12 rfl rfl)
theorem dX0_cut_37 : decode cX0_cut 37 = .ok (.invokevirtual 122, 3) := dk_182 0 122 (dk_at dksX0_cut_1 13 rfl rfl)
theorem dX0_cut_40 : decode cX0_cut 40 = .ok (.areturn, 1) := dk_176 (dk_at dksX0_cut_1 16 rfl rfl)
abbrev cX0_begins : ByteArray := prog_1_method_5_code
def yX0_begins : MethodName := ⟨RX0, "begins", "()V"⟩
def dkwX0_begins_2 : List UInt8 := [177]
abbrev dktX0_begins_2 : List UInt8 := dkwX0_begins_2 ++ []
def dkwX0_begins_1 : List UInt8 := [180, 0, 32, 42, 180, 0, 25, 182, 0, 52, 182, 0, 56, 87, 42, 1, 181, 0, 60, 42, 1, 181, 0, 64]
abbrev dktX0_begins_1 : List UInt8 := dkwX0_begins_1 ++ dktX0_begins_2
def dkwX0_begins_0 : List UInt8 := [42, 180, 0, 32, 182, 0, 44, 16, 8, 160, 0, 12, 42, 180, 0, 32, 3, 182, 0, 48, 87, 42]
abbrev dktX0_begins_0 : List UInt8 := dkwX0_begins_0 ++ dktX0_begins_1
theorem dksX0_begins_0 : cX0_begins.data.toList.drop 0 = dktX0_begins_0 := by decide +kernel
theorem dksX0_begins_1 : cX0_begins.data.toList.drop 22 = dktX0_begins_1 := dk_seg dksX0_begins_0 22 rfl rfl
theorem dksX0_begins_2 : cX0_begins.data.toList.drop 46 = dktX0_begins_2 := dk_seg dksX0_begins_1 24 rfl rfl
theorem dX0_begins_0 : decode cX0_begins 0 = .ok (.aload_n 0, 1) := dk_42 (dk_at dksX0_begins_0 0 rfl rfl)
theorem dX0_begins_1 : decode cX0_begins 1 = .ok (.getfield 32, 3) := dk_180 0 32 (dk_at dksX0_begins_0 1 rfl rfl)
theorem dX0_begins_4 : decode cX0_begins 4 = .ok (.invokevirtual 44, 3) := dk_182 0 44 (dk_at dksX0_begins_0 4 rfl rfl)
theorem dX0_begins_7 : decode cX0_begins 7 = .ok (.bipush 8, 2) := dk_16 8 (dk_at dksX0_begins_0 7 rfl rfl)
theorem dX0_begins_9 : decode cX0_begins 9 = .ok (.if_icmp .ne 12, 3) := dk_160 0 12 (dk_at dksX0_begins_0 9 rfl rfl)
theorem dX0_begins_12 : decode cX0_begins 12 = .ok (.aload_n 0, 1) := dk_42 (dk_at dksX0_begins_0 12 rfl rfl)
theorem dX0_begins_13 : decode cX0_begins 13 = .ok (.getfield 32, 3) := dk_180 0 32 (dk_at dksX0_begins_0 13 rfl rfl)
theorem dX0_begins_16 : decode cX0_begins 16 = .ok (.iconst 0, 1) := dk_3 (dk_at dksX0_begins_0 16 rfl rfl)
theorem dX0_begins_17 : decode cX0_begins 17 = .ok (.invokevirtual 48, 3) := dk_182 0 48 (dk_at dksX0_begins_0 17 rfl rfl)
theorem dX0_begins_20 : decode cX0_begins 20 = .ok (.pop, 1) := dk_87 (dk_at dksX0_begins_0 20 rfl rfl)
theorem dX0_begins_21 : decode cX0_begins 21 = .ok (.aload_n 0, 1) := dk_42 (dk_at dksX0_begins_0 21 rfl rfl)
theorem dX0_begins_22 : decode cX0_begins 22 = .ok (.getfield 32, 3) := dk_180 0 32 (dk_at dksX0_begins_1 0 rfl rfl)
theorem dX0_begins_25 : decode cX0_begins 25 = .ok (.aload_n 0, 1) := dk_42 (dk_at dksX0_begins_1 3 rfl rfl)
theorem dX0_begins_26 : decode cX0_begins 26 = .ok (.getfield 25, 3) := dk_180 0 25 (dk_at dksX0_begins_1 4 rfl rfl)
theorem dX0_begins_29 : decode cX0_begins 29 = .ok (.invokevirtual 52, 3) := dk_182 0 52 (dk_at dksX0_begins_1 7 rfl rfl)
theorem dX0_begins_32 : decode cX0_begins 32 = .ok (.invokevirtual 56, 3) := dk_182 0 56 (dk_at dksX0_begins_1 10 rfl rfl)
theorem dX0_begins_35 : decode cX0_begins 35 = .ok (.pop, 1) := dk_87 (dk_at dksX0_begins_1 13 rfl rfl)
theorem dX0_begins_36 : decode cX0_begins 36 = .ok (.aload_n 0, 1) := dk_42 (dk_at dksX0_begins_1 14 rfl rfl)
theorem dX0_begins_37 : decode cX0_begins 37 = .ok (.aconst_null, 1) := dk_1 (dk_at dksX0_begins_1 15 rfl rfl)
theorem dX0_begins_38 : decode cX0_begins 38 = .ok (.putfield 60, 3) := dk_181 0 60 (dk_at dksX0_begins_1 16 rfl rfl)
theorem dX0_begins_41 : decode cX0_begins 41 = .ok (.aload_n 0, 1) := dk_42 (dk_at dksX0_begins_1 19 rfl rfl)
theorem dX0_begins_42 : decode cX0_begins 42 = .ok (.aconst_null, 1) := dk_1 (dk_at dksX0_begins_1 20 rfl rfl)
theorem dX0_begins_43 : decode cX0_begins 43 = .ok (.putfield 64, 3) := dk_181 0 64 (dk_at dksX0_begins_1 21 rfl rfl)
theorem dX0_begins_46 : decode cX0_begins 46 = .ok (.return_, 1) := dk_177 (dk_at dksX0_begins_2 0 rfl rfl)
abbrev cX0_replaceLine : ByteArray := prog_1_method_17_code
def yX0_replaceLine : MethodName := ⟨RX0, "replaceLine", "(I)I"⟩
def dkwX0_replaceLine_2 : List UInt8 := [42, 27, 182, 0, 149, 44, 180, 0, 156, 181, 0, 156, 29, 172]
abbrev dktX0_replaceLine_2 : List UInt8 := dkwX0_replaceLine_2 ++ []
def dkwX0_replaceLine_1 : List UInt8 := [182, 0, 139, 42, 27, 182, 0, 149, 180, 0, 153, 62, 42, 27, 182, 0, 149, 44, 180, 0, 153, 181, 0, 153]
abbrev dktX0_replaceLine_1 : List UInt8 := dkwX0_replaceLine_1 ++ dktX0_replaceLine_2
def dkwX0_replaceLine_0 : List UInt8 := [42, 27, 182, 0, 145, 154, 0, 5, 2, 172, 42, 182, 0, 135, 77, 44, 199, 0, 6, 16, 253, 172, 42]
abbrev dktX0_replaceLine_0 : List UInt8 := dkwX0_replaceLine_0 ++ dktX0_replaceLine_1
theorem dksX0_replaceLine_0 : cX0_replaceLine.data.toList.drop 0 = dktX0_replaceLine_0 := by decide +kernel
theorem dksX0_replaceLine_1 : cX0_replaceLine.data.toList.drop 23 = dktX0_replaceLine_1 := dk_seg dksX0_replaceLine_0 23 rfl rfl
theorem dksX0_replaceLine_2 : cX0_replaceLine.data.toList.drop 47 = dktX0_replaceLine_2 := dk_seg dksX0_replaceLine_1 24 rfl rfl
theorem dX0_replaceLine_0 : decode cX0_replaceLine 0 = .ok (.aload_n 0, 1) := dk_42 (dk_at dksX0_replaceLine_0 0 rfl rfl)
theorem dX0_replaceLine_1 : decode cX0_replaceLine 1 = .ok (.iload_n 1, 1) := dk_27 (dk_at dksX0_replaceLine_0 1 rfl rfl)
theorem dX0_replaceLine_2 : decode cX0_replaceLine 2 = .ok (.invokevirtual 145, 3) := dk_182 0 145 (dk_at dksX0_replaceLine_0 2 rfl rfl)
theorem dX0_replaceLine_5 : decode cX0_replaceLine 5 = .ok (.ifCond .ne 5, 3) := dk_154 0 5 (dk_at dksX0_replaceLine_0 5 rfl rfl)
theorem dX0_replaceLine_8 : decode cX0_replaceLine 8 = .ok (.iconst (-1), 1) := dk_2 (dk_at dksX0_replaceLine_0 8 rfl rfl)
theorem dX0_replaceLine_9 : decode cX0_replaceLine 9 = .ok (.ireturn, 1) := dk_172 (dk_at dksX0_replaceLine_0 9 rfl rfl)
theorem dX0_replaceLine_10 : decode cX0_replaceLine 10 = .ok (.aload_n 0, 1) := dk_42 (dk_at dksX0_replaceLine_0 10 rfl rfl)
theorem dX0_replaceLine_11 : decode cX0_replaceLine 11 = .ok (.invokevirtual 135, 3) := dk_182 0 135 (dk_at dksX0_replaceLine_0 11 rfl rfl)
theorem dX0_replaceLine_14 : decode cX0_replaceLine 14 = .ok (.astore_n 2, 1) := dk_77 (dk_at dksX0_replaceLine_0 14 rfl rfl)
theorem dX0_replaceLine_15 : decode cX0_replaceLine 15 = .ok (.aload_n 2, 1) := dk_44 (dk_at dksX0_replaceLine_0 15 rfl rfl)
theorem dX0_replaceLine_16 : decode cX0_replaceLine 16 = .ok (.ifnonnull 6, 3) := dk_199 0 6 (dk_at dksX0_replaceLine_0 16 rfl rfl)
theorem dX0_replaceLine_19 : decode cX0_replaceLine 19 = .ok (.bipush (-3), 2) := dk_16 253 (dk_at dksX0_replaceLine_0 19 rfl rfl)
theorem dX0_replaceLine_21 : decode cX0_replaceLine 21 = .ok (.ireturn, 1) := dk_172 (dk_at dksX0_replaceLine_0 21 rfl rfl)
theorem dX0_replaceLine_22 : decode cX0_replaceLine 22 = .ok (.aload_n 0, 1) := dk_42 (dk_at dksX0_replaceLine_0 22 rfl rfl)
theorem dX0_replaceLine_23 : decode cX0_replaceLine 23 = .ok (.invokevirtual 139, 3) := dk_182 0 139 (dk_at dksX0_replaceLine_1 0 rfl rfl)
theorem dX0_replaceLine_26 : decode cX0_replaceLine 26 = .ok (.aload_n 0, 1) := dk_42 (dk_at dksX0_replaceLine_1 3 rfl rfl)
theorem dX0_replaceLine_27 : decode cX0_replaceLine 27 = .ok (.iload_n 1, 1) := dk_27 (dk_at dksX0_replaceLine_1 4 rfl rfl)
theorem dX0_replaceLine_28 : decode cX0_replaceLine 28 = .ok (.invokevirtual 149, 3) := dk_182 0 149 (dk_at dksX0_replaceLine_1 5 rfl rfl)
theorem dX0_replaceLine_31 : decode cX0_replaceLine 31 = .ok (.getfield 153, 3) := dk_180 0 153 (dk_at dksX0_replaceLine_1 8 rfl rfl)
theorem dX0_replaceLine_34 : decode cX0_replaceLine 34 = .ok (.istore_n 3, 1) := dk_62 (dk_at dksX0_replaceLine_1 11 rfl rfl)
theorem dX0_replaceLine_35 : decode cX0_replaceLine 35 = .ok (.aload_n 0, 1) := dk_42 (dk_at dksX0_replaceLine_1 12 rfl rfl)
theorem dX0_replaceLine_36 : decode cX0_replaceLine 36 = .ok (.iload_n 1, 1) := dk_27 (dk_at dksX0_replaceLine_1 13 rfl rfl)
theorem dX0_replaceLine_37 : decode cX0_replaceLine 37 = .ok (.invokevirtual 149, 3) := dk_182 0 149 (dk_at dksX0_replaceLine_1 14 rfl rfl)
theorem dX0_replaceLine_40 : decode cX0_replaceLine 40 = .ok (.aload_n 2, 1) := dk_44 (dk_at dksX0_replaceLine_1 17 rfl rfl)
theorem dX0_replaceLine_41 : decode cX0_replaceLine 41 = .ok (.getfield 153, 3) := dk_180 0 153 (dk_at dksX0_replaceLine_1 18 rfl rfl)
theorem dX0_replaceLine_44 : decode cX0_replaceLine 44 = .ok (.putfield 153, 3) := dk_181 0 153 (dk_at dksX0_replaceLine_1 21 rfl rfl)
theorem dX0_replaceLine_47 : decode cX0_replaceLine 47 = .ok (.aload_n 0, 1) := dk_42 (dk_at dksX0_replaceLine_2 0 rfl rfl)
theorem dX0_replaceLine_48 : decode cX0_replaceLine 48 = .ok (.iload_n 1, 1) := dk_27 (dk_at dksX0_replaceLine_2 1 rfl rfl)
theorem dX0_replaceLine_49 : decode cX0_replaceLine 49 = .ok (.invokevirtual 149, 3) := dk_182 0 149 (dk_at dksX0_replaceLine_2 2 rfl rfl)
theorem dX0_replaceLine_52 : decode cX0_replaceLine 52 = .ok (.aload_n 2, 1) := dk_44 (dk_at dksX0_replaceLine_2 5 rfl rfl)
theorem dX0_replaceLine_53 : decode cX0_replaceLine 53 = .ok (.getfield 156, 3) := dk_180 0 156 (dk_at dksX0_replaceLine_2 6 rfl rfl)
theorem dX0_replaceLine_56 : decode cX0_replaceLine 56 = .ok (.putfield 156, 3) := dk_181 0 156 (dk_at dksX0_replaceLine_2 9 rfl rfl)
theorem dX0_replaceLine_59 : decode cX0_replaceLine 59 = .ok (.iload_n 3, 1) := dk_29 (dk_at dksX0_replaceLine_2 12 rfl rfl)
theorem dX0_replaceLine_60 : decode cX0_replaceLine 60 = .ok (.ireturn, 1) := dk_172 (dk_at dksX0_replaceLine_2 13 rfl rfl)
abbrev cX0_isLine : ByteArray := prog_1_method_9_code
def yX0_isLine : MethodName := ⟨RX0, "isLine", "(I)Z"⟩
def dkwX0_isLine_0 : List UInt8 := [27, 3, 42, 180, 0, 25, 180, 0, 104, 182, 0, 44, 4, 100, 184, 0, 1, 172]
abbrev dktX0_isLine_0 : List UInt8 := dkwX0_isLine_0 ++ []
theorem dksX0_isLine_0 : cX0_isLine.data.toList.drop 0 = dktX0_isLine_0 := by decide +kernel
theorem dX0_isLine_0 : decode cX0_isLine 0 = .ok (.iload_n 1, 1) := dk_27 (dk_at dksX0_isLine_0 0 rfl rfl)
theorem dX0_isLine_1 : decode cX0_isLine 1 = .ok (.iconst 0, 1) := dk_3 (dk_at dksX0_isLine_0 1 rfl rfl)
theorem dX0_isLine_2 : decode cX0_isLine 2 = .ok (.aload_n 0, 1) := dk_42 (dk_at dksX0_isLine_0 2 rfl rfl)
theorem dX0_isLine_3 : decode cX0_isLine 3 = .ok (.getfield 25, 3) := dk_180 0 25 (dk_at dksX0_isLine_0 3 rfl rfl)
theorem dX0_isLine_6 : decode cX0_isLine 6 = .ok (.getfield 104, 3) := dk_180 0 104 (dk_at dksX0_isLine_0 6 rfl rfl)
theorem dX0_isLine_9 : decode cX0_isLine 9 = .ok (.invokevirtual 44, 3) := dk_182 0 44 (dk_at dksX0_isLine_0 9 rfl rfl)
theorem dX0_isLine_12 : decode cX0_isLine 12 = .ok (.iconst 1, 1) := dk_4 (dk_at dksX0_isLine_0 12 rfl rfl)
theorem dX0_isLine_13 : decode cX0_isLine 13 = .ok (.isub, 1) := dk_100 (dk_at dksX0_isLine_0 13 rfl rfl)
theorem dX0_isLine_14 : decode cX0_isLine 14 = .ok (.invokestatic 1, 3) := dk_184 0 1 (dk_at dksX0_isLine_0 14 rfl rfl)
theorem dX0_isLine_17 : decode cX0_isLine 17 = .ok (.ireturn, 1) := dk_172 (dk_at dksX0_isLine_0 17 rfl rfl)
abbrev cX0_line : ByteArray := prog_1_method_10_code
def yX0_line : MethodName := ⟨RX0, "line", "(I)LAutoIndenter$Line;"⟩
def dkwX0_line_0 : List UInt8 := [42, 180, 0, 25, 180, 0, 104, 27, 182, 0, 107, 192, 0, 110, 176]
abbrev dktX0_line_0 : List UInt8 := dkwX0_line_0 ++ []
theorem dksX0_line_0 : cX0_line.data.toList.drop 0 = dktX0_line_0 := by decide +kernel
theorem dX0_line_0 : decode cX0_line 0 = .ok (.aload_n 0, 1) := dk_42 (dk_at dksX0_line_0 0 rfl rfl)
theorem dX0_line_1 : decode cX0_line 1 = .ok (.getfield 25, 3) := dk_180 0 25 (dk_at dksX0_line_0 1 rfl rfl)
theorem dX0_line_4 : decode cX0_line 4 = .ok (.getfield 104, 3) := dk_180 0 104 (dk_at dksX0_line_0 4 rfl rfl)
theorem dX0_line_7 : decode cX0_line 7 = .ok (.iload_n 1, 1) := dk_27 (dk_at dksX0_line_0 7 rfl rfl)
theorem dX0_line_8 : decode cX0_line 8 = .ok (.invokevirtual 107, 3) := dk_182 0 107 (dk_at dksX0_line_0 8 rfl rfl)
theorem dX0_line_11 : decode cX0_line 11 = .ok (.checkcast 110, 3) := dk_192 0 110 (dk_at dksX0_line_0 11 rfl rfl)
theorem dX0_line_14 : decode cX0_line 14 = .ok (.areturn, 1) := dk_176 (dk_at dksX0_line_0 14 rfl rfl)
abbrev cX0_removeLine : ByteArray := prog_1_method_18_code
def yX0_removeLine : MethodName := ⟨RX0, "removeLine", "(I)I"⟩
def dkwX0_removeLine_1 : List UInt8 := [182, 0, 48, 87, 42, 180, 0, 25, 180, 0, 104, 182, 0, 44, 172]
abbrev dktX0_removeLine_1 : List UInt8 := dkwX0_removeLine_1 ++ []
def dkwX0_removeLine_0 : List UInt8 := [42, 27, 182, 0, 145, 154, 0, 5, 2, 172, 42, 182, 0, 139, 42, 180, 0, 25, 180, 0, 104, 27]
abbrev dktX0_removeLine_0 : List UInt8 := dkwX0_removeLine_0 ++ dktX0_removeLine_1
theorem dksX0_removeLine_0 : cX0_removeLine.data.toList.drop 0 = dktX0_removeLine_0 := by decide +kernel
theorem dksX0_removeLine_1 : cX0_removeLine.data.toList.drop 22 = dktX0_removeLine_1 := dk_seg dksX0_removeLine_0 22 rfl rfl
theorem dX0_removeLine_0 : decode cX0_removeLine 0 = .ok (.aload_n 0, 1) := dk_42 (dk_at dksX0_removeLine_0 0 rfl rfl)
theorem dX0_removeLine_1 : decode cX0_removeLine 1 = .ok (.iload_n 1, 1) := dk_27 (dk_at dksX0_removeLine_0 1 rfl rfl)
theorem dX0_removeLine_2 : decode cX0_removeLine 2 = .ok (.invokevirtual 145, 3) := dk_182 0 145 (dk_at dksX0_removeLine_0 2 rfl rfl)
theorem dX0_removeLine_5 : decode cX0_removeLine 5 = .ok (.ifCond .ne 5, 3) := dk_154 0 5 (dk_at dksX0_removeLine_0 5 rfl rfl)
theorem dX0_removeLine_8 : decode cX0_removeLine 8 = .ok (.iconst (-1), 1) := dk_2 (dk_at dksX0_removeLine_0 8 rfl rfl)
theorem dX0_removeLine_9 : decode cX0_removeLine 9 = .ok (.ireturn, 1) := dk_172 (dk_at dksX0_removeLine_0 9 rfl rfl)
theorem dX0_removeLine_10 : decode cX0_removeLine 10 = .ok (.aload_n 0, 1) := dk_42 (dk_at dksX0_removeLine_0 10 rfl rfl)
theorem dX0_removeLine_11 : decode cX0_removeLine 11 = .ok (.invokevirtual 139, 3) := dk_182 0 139 (dk_at dksX0_removeLine_0 11 rfl rfl)
theorem dX0_removeLine_14 : decode cX0_removeLine 14 = .ok (.aload_n 0, 1) := dk_42 (dk_at dksX0_removeLine_0 14 rfl rfl)
theorem dX0_removeLine_15 : decode cX0_removeLine 15 = .ok (.getfield 25, 3) := dk_180 0 25 (dk_at dksX0_removeLine_0 15 rfl rfl)
theorem dX0_removeLine_18 : decode cX0_removeLine 18 = .ok (.getfield 104, 3) := dk_180 0 104 (dk_at dksX0_removeLine_0 18 rfl rfl)
theorem dX0_removeLine_21 : decode cX0_removeLine 21 = .ok (.iload_n 1, 1) := dk_27 (dk_at dksX0_removeLine_0 21 rfl rfl)
theorem dX0_removeLine_22 : decode cX0_removeLine 22 = .ok (.invokevirtual 48, 3) := dk_182 0 48 (dk_at dksX0_removeLine_1 0 rfl rfl)
theorem dX0_removeLine_25 : decode cX0_removeLine 25 = .ok (.pop, 1) := dk_87 (dk_at dksX0_removeLine_1 3 rfl rfl)
theorem dX0_removeLine_26 : decode cX0_removeLine 26 = .ok (.aload_n 0, 1) := dk_42 (dk_at dksX0_removeLine_1 4 rfl rfl)
theorem dX0_removeLine_27 : decode cX0_removeLine 27 = .ok (.getfield 25, 3) := dk_180 0 25 (dk_at dksX0_removeLine_1 5 rfl rfl)
theorem dX0_removeLine_30 : decode cX0_removeLine 30 = .ok (.getfield 104, 3) := dk_180 0 104 (dk_at dksX0_removeLine_1 8 rfl rfl)
theorem dX0_removeLine_33 : decode cX0_removeLine 33 = .ok (.invokevirtual 44, 3) := dk_182 0 44 (dk_at dksX0_removeLine_1 11 rfl rfl)
theorem dX0_removeLine_36 : decode cX0_removeLine 36 = .ok (.ireturn, 1) := dk_172 (dk_at dksX0_removeLine_1 14 rfl rfl)
abbrev cX0_splitLine : ByteArray := prog_1_method_20_code
def yX0_splitLine : MethodName := ⟨RX0, "splitLine", "(II)I"⟩
def dkwX0_splitLine_6 : List UInt8 := [182, 0, 178, 25, 4, 25, 5, 180, 0, 181, 181, 0, 153, 42, 1, 181, 0, 60, 25, 4, 180, 0, 153, 172]
abbrev dktX0_splitLine_6 : List UInt8 := dkwX0_splitLine_6 ++ []
def dkwX0_splitLine_5 : List UInt8 := [27, 4, 96, 182, 0, 97, 58, 5, 25, 5, 27, 4, 96, 182, 0, 175, 153, 0, 21, 25, 5, 27, 4, 96]
abbrev dktX0_splitLine_5 : List UInt8 := dkwX0_splitLine_5 ++ dktX0_splitLine_6
def dkwX0_splitLine_4 : List UInt8 := [184, 0, 171, 183, 0, 128, 58, 4, 42, 180, 0, 25, 180, 0, 104, 27, 4, 96, 25, 4, 182, 0, 142, 42]
abbrev dktX0_splitLine_4 : List UInt8 := dkwX0_splitLine_4 ++ dktX0_splitLine_5
def dkwX0_splitLine_3 : List UInt8 := [182, 0, 168, 184, 0, 171, 181, 0, 156, 187, 0, 110, 89, 3, 45, 28, 45, 182, 0, 160, 182, 0, 168]
abbrev dktX0_splitLine_3 : List UInt8 := dkwX0_splitLine_3 ++ dktX0_splitLine_4
def dkwX0_splitLine_2 : List UInt8 := [16, 253, 172, 42, 182, 0, 139, 42, 27, 182, 0, 149, 180, 0, 156, 78, 42, 27, 182, 0, 149, 45, 3, 28]
abbrev dktX0_splitLine_2 : List UInt8 := dkwX0_splitLine_2 ++ dktX0_splitLine_3
def dkwX0_splitLine_1 : List UInt8 := [184, 0, 1, 154, 0, 5, 2, 172, 42, 180, 0, 25, 180, 0, 104, 182, 0, 44, 16, 20, 160, 0, 6]
abbrev dktX0_splitLine_1 : List UInt8 := dkwX0_splitLine_1 ++ dktX0_splitLine_2
def dkwX0_splitLine_0 : List UInt8 := [42, 27, 182, 0, 145, 153, 0, 24, 28, 4, 42, 27, 182, 0, 149, 180, 0, 156, 182, 0, 160, 4, 100]
abbrev dktX0_splitLine_0 : List UInt8 := dkwX0_splitLine_0 ++ dktX0_splitLine_1
theorem dksX0_splitLine_0 : cX0_splitLine.data.toList.drop 0 = dktX0_splitLine_0 := by decide +kernel
theorem dksX0_splitLine_1 : cX0_splitLine.data.toList.drop 23 = dktX0_splitLine_1 := dk_seg dksX0_splitLine_0 23 rfl rfl
theorem dksX0_splitLine_2 : cX0_splitLine.data.toList.drop 46 = dktX0_splitLine_2 := dk_seg dksX0_splitLine_1 23 rfl rfl
theorem dksX0_splitLine_3 : cX0_splitLine.data.toList.drop 70 = dktX0_splitLine_3 := dk_seg dksX0_splitLine_2 24 rfl rfl
theorem dksX0_splitLine_4 : cX0_splitLine.data.toList.drop 93 = dktX0_splitLine_4 := dk_seg dksX0_splitLine_3 23 rfl rfl
theorem dksX0_splitLine_5 : cX0_splitLine.data.toList.drop 117 = dktX0_splitLine_5 := dk_seg dksX0_splitLine_4 24 rfl rfl
theorem dksX0_splitLine_6 : cX0_splitLine.data.toList.drop 141 = dktX0_splitLine_6 := dk_seg dksX0_splitLine_5 24 rfl rfl
theorem dX0_splitLine_0 : decode cX0_splitLine 0 = .ok (.aload_n 0, 1) := dk_42 (dk_at dksX0_splitLine_0 0 rfl rfl)
theorem dX0_splitLine_1 : decode cX0_splitLine 1 = .ok (.iload_n 1, 1) := dk_27 (dk_at dksX0_splitLine_0 1 rfl rfl)
theorem dX0_splitLine_2 : decode cX0_splitLine 2 = .ok (.invokevirtual 145, 3) := dk_182 0 145 (dk_at dksX0_splitLine_0 2 rfl rfl)
theorem dX0_splitLine_5 : decode cX0_splitLine 5 = .ok (.ifCond .eq 24, 3) := dk_153 0 24 (dk_at dksX0_splitLine_0 5 rfl rfl)
theorem dX0_splitLine_8 : decode cX0_splitLine 8 = .ok (.iload_n 2, 1) := dk_28 (dk_at dksX0_splitLine_0 8 rfl rfl)
theorem dX0_splitLine_9 : decode cX0_splitLine 9 = .ok (.iconst 1, 1) := dk_4 (dk_at dksX0_splitLine_0 9 rfl rfl)
theorem dX0_splitLine_10 : decode cX0_splitLine 10 = .ok (.aload_n 0, 1) := dk_42 (dk_at dksX0_splitLine_0 10 rfl rfl)
theorem dX0_splitLine_11 : decode cX0_splitLine 11 = .ok (.iload_n 1, 1) := dk_27 (dk_at dksX0_splitLine_0 11 rfl rfl)
theorem dX0_splitLine_12 : decode cX0_splitLine 12 = .ok (.invokevirtual 149, 3) := dk_182 0 149 (dk_at dksX0_splitLine_0 12 rfl rfl)
theorem dX0_splitLine_15 : decode cX0_splitLine 15 = .ok (.getfield 156, 3) := dk_180 0 156 (dk_at dksX0_splitLine_0 15 rfl rfl)
theorem dX0_splitLine_18 : decode cX0_splitLine 18 = .ok (.invokevirtual 160, 3) := dk_182 0 160 (dk_at dksX0_splitLine_0 18 rfl rfl)
theorem dX0_splitLine_21 : decode cX0_splitLine 21 = .ok (.iconst 1, 1) := dk_4 (dk_at dksX0_splitLine_0 21 rfl rfl)
theorem dX0_splitLine_22 : decode cX0_splitLine 22 = .ok (.isub, 1) := dk_100 (dk_at dksX0_splitLine_0 22 rfl rfl)
theorem dX0_splitLine_23 : decode cX0_splitLine 23 = .ok (.invokestatic 1, 3) := dk_184 0 1 (dk_at dksX0_splitLine_1 0 rfl rfl)
theorem dX0_splitLine_26 : decode cX0_splitLine 26 = .ok (.ifCond .ne 5, 3) := dk_154 0 5 (dk_at dksX0_splitLine_1 3 rfl rfl)
theorem dX0_splitLine_29 : decode cX0_splitLine 29 = .ok (.iconst (-1), 1) := dk_2 (dk_at dksX0_splitLine_1 6 rfl rfl)
theorem dX0_splitLine_30 : decode cX0_splitLine 30 = .ok (.ireturn, 1) := dk_172 (dk_at dksX0_splitLine_1 7 rfl rfl)
theorem dX0_splitLine_31 : decode cX0_splitLine 31 = .ok (.aload_n 0, 1) := dk_42 (dk_at dksX0_splitLine_1 8 rfl rfl)
theorem dX0_splitLine_32 : decode cX0_splitLine 32 = .ok (.getfield 25, 3) := dk_180 0 25 (dk_at dksX0_splitLine_1 9 rfl rfl)
theorem dX0_splitLine_35 : decode cX0_splitLine 35 = .ok (.getfield 104, 3) := dk_180 0 104 (dk_at dksX0_splitLine_1 12 rfl rfl)
theorem dX0_splitLine_38 : decode cX0_splitLine 38 = .ok (.invokevirtual 44, 3) := dk_182 0 44 (dk_at dksX0_splitLine_1 15 rfl rfl)
theorem dX0_splitLine_41 : decode cX0_splitLine 41 = .ok (.bipush 20, 2) := dk_16 20 (dk_at dksX0_splitLine_1 18 rfl rfl)
theorem dX0_splitLine_43 : decode cX0_splitLine 43 = .ok (.if_icmp .ne 6, 3) := dk_160 0 6 (dk_at dksX0_splitLine_1 20 rfl rfl)
theorem dX0_splitLine_46 : decode cX0_splitLine 46 = .ok (.bipush (-3), 2) := dk_16 253 (dk_at dksX0_splitLine_2 0 rfl rfl)
theorem dX0_splitLine_48 : decode cX0_splitLine 48 = .ok (.ireturn, 1) := dk_172 (dk_at dksX0_splitLine_2 2 rfl rfl)
theorem dX0_splitLine_49 : decode cX0_splitLine 49 = .ok (.aload_n 0, 1) := dk_42 (dk_at dksX0_splitLine_2 3 rfl rfl)
theorem dX0_splitLine_50 : decode cX0_splitLine 50 = .ok (.invokevirtual 139, 3) := dk_182 0 139 (dk_at dksX0_splitLine_2 4 rfl rfl)
theorem dX0_splitLine_53 : decode cX0_splitLine 53 = .ok (.aload_n 0, 1) := dk_42 (dk_at dksX0_splitLine_2 7 rfl rfl)
theorem dX0_splitLine_54 : decode cX0_splitLine 54 = .ok (.iload_n 1, 1) := dk_27 (dk_at dksX0_splitLine_2 8 rfl rfl)
theorem dX0_splitLine_55 : decode cX0_splitLine 55 = .ok (.invokevirtual 149, 3) := dk_182 0 149 (dk_at dksX0_splitLine_2 9 rfl rfl)
theorem dX0_splitLine_58 : decode cX0_splitLine 58 = .ok (.getfield 156, 3) := dk_180 0 156 (dk_at dksX0_splitLine_2 12 rfl rfl)
theorem dX0_splitLine_61 : decode cX0_splitLine 61 = .ok (.astore_n 3, 1) := dk_78 (dk_at dksX0_splitLine_2 15 rfl rfl)
theorem dX0_splitLine_62 : decode cX0_splitLine 62 = .ok (.aload_n 0, 1) := dk_42 (dk_at dksX0_splitLine_2 16 rfl rfl)
theorem dX0_splitLine_63 : decode cX0_splitLine 63 = .ok (.iload_n 1, 1) := dk_27 (dk_at dksX0_splitLine_2 17 rfl rfl)
theorem dX0_splitLine_64 : decode cX0_splitLine 64 = .ok (.invokevirtual 149, 3) := dk_182 0 149 (dk_at dksX0_splitLine_2 18 rfl rfl)
theorem dX0_splitLine_67 : decode cX0_splitLine 67 = .ok (.aload_n 3, 1) := dk_45 (dk_at dksX0_splitLine_2 21 rfl rfl)
theorem dX0_splitLine_68 : decode cX0_splitLine 68 = .ok (.iconst 0, 1) := dk_3 (dk_at dksX0_splitLine_2 22 rfl rfl)
theorem dX0_splitLine_69 : decode cX0_splitLine 69 = .ok (.iload_n 2, 1) := dk_28 (dk_at dksX0_splitLine_2 23 rfl rfl)
theorem dX0_splitLine_70 : decode cX0_splitLine 70 = .ok (.invokevirtual 168, 3) := dk_182 0 168 (dk_at dksX0_splitLine_3 0 rfl rfl)
theorem dX0_splitLine_73 : decode cX0_splitLine 73 = .ok (.invokestatic 171, 3) := dk_184 0 171 (dk_at dksX0_splitLine_3 3 rfl rfl)
theorem dX0_splitLine_76 : decode cX0_splitLine 76 = .ok (.putfield 156, 3) := dk_181 0 156 (dk_at dksX0_splitLine_3 6 rfl rfl)
theorem dX0_splitLine_79 : decode cX0_splitLine 79 = .ok (.new 110, 3) := dk_187 0 110 (dk_at dksX0_splitLine_3 9 rfl rfl)
theorem dX0_splitLine_82 : decode cX0_splitLine 82 = .ok (.dup, 1) := dk_89 (dk_at dksX0_splitLine_3 12 rfl rfl)
theorem dX0_splitLine_83 : decode cX0_splitLine 83 = .ok (.iconst 0, 1) := dk_3 (dk_at dksX0_splitLine_3 13 rfl rfl)
theorem dX0_splitLine_84 : decode cX0_splitLine 84 = .ok (.aload_n 3, 1) := dk_45 (dk_at dksX0_splitLine_3 14 rfl rfl)
theorem dX0_splitLine_85 : decode cX0_splitLine 85 = .ok (.iload_n 2, 1) := dk_28 (dk_at dksX0_splitLine_3 15 rfl rfl)
theorem dX0_splitLine_86 : decode cX0_splitLine 86 = .ok (.aload_n 3, 1) := dk_45 (dk_at dksX0_splitLine_3 16 rfl rfl)
theorem dX0_splitLine_87 : decode cX0_splitLine 87 = .ok (.invokevirtual 160, 3) := dk_182 0 160 (dk_at dksX0_splitLine_3 17 rfl rfl)
theorem dX0_splitLine_90 : decode cX0_splitLine 90 = .ok (.invokevirtual 168, 3) := dk_182 0 168 (dk_at dksX0_splitLine_3 20 rfl rfl)
theorem dX0_splitLine_93 : decode cX0_splitLine 93 = .ok (.invokestatic 171, 3) := dk_184 0 171 (dk_at dksX0_splitLine_4 0 rfl rfl)
theorem dX0_splitLine_96 : decode cX0_splitLine 96 = .ok (.invokespecial 128, 3) := dk_183 0 128 (dk_at dksX0_splitLine_4 3 rfl rfl)
theorem dX0_splitLine_99 : decode cX0_splitLine 99 = .ok (.astore 4, 2) := dk_58 4 (dk_at dksX0_splitLine_4 6 rfl rfl)
theorem dX0_splitLine_101 : decode cX0_splitLine 101 = .ok (.aload_n 0, 1) := dk_42 (dk_at dksX0_splitLine_4 8 rfl rfl)
theorem dX0_splitLine_102 : decode cX0_splitLine 102 = .ok (.getfield 25, 3) := dk_180 0 25 (dk_at dksX0_splitLine_4 9 rfl rfl)
theorem dX0_splitLine_105 : decode cX0_splitLine 105 = .ok (.getfield 104, 3) := dk_180 0 104 (dk_at dksX0_splitLine_4 12 rfl rfl)
theorem dX0_splitLine_108 : decode cX0_splitLine 108 = .ok (.iload_n 1, 1) := dk_27 (dk_at dksX0_splitLine_4 15 rfl rfl)
theorem dX0_splitLine_109 : decode cX0_splitLine 109 = .ok (.iconst 1, 1) := dk_4 (dk_at dksX0_splitLine_4 16 rfl rfl)
theorem dX0_splitLine_110 : decode cX0_splitLine 110 = .ok (.iadd, 1) := dk_96 (dk_at dksX0_splitLine_4 17 rfl rfl)
theorem dX0_splitLine_111 : decode cX0_splitLine 111 = .ok (.aload 4, 2) := dk_25 4 (dk_at dksX0_splitLine_4 18 rfl rfl)
theorem dX0_splitLine_113 : decode cX0_splitLine 113 = .ok (.invokevirtual 142, 3) := dk_182 0 142 (dk_at dksX0_splitLine_4 20 rfl rfl)
theorem dX0_splitLine_116 : decode cX0_splitLine 116 = .ok (.aload_n 0, 1) := dk_42 (dk_at dksX0_splitLine_4 23 rfl rfl)
theorem dX0_splitLine_117 : decode cX0_splitLine 117 = .ok (.iload_n 1, 1) := dk_27 (dk_at dksX0_splitLine_5 0 rfl rfl)
theorem dX0_splitLine_118 : decode cX0_splitLine 118 = .ok (.iconst 1, 1) := dk_4 (dk_at dksX0_splitLine_5 1 rfl rfl)
theorem dX0_splitLine_119 : decode cX0_splitLine 119 = .ok (.iadd, 1) := dk_96 (dk_at dksX0_splitLine_5 2 rfl rfl)
theorem dX0_splitLine_120 : decode cX0_splitLine 120 = .ok (.invokevirtual 97, 3) := dk_182 0 97 (dk_at dksX0_splitLine_5 3 rfl rfl)
theorem dX0_splitLine_123 : decode cX0_splitLine 123 = .ok (.astore 5, 2) := dk_58 5 (dk_at dksX0_splitLine_5 6 rfl rfl)
theorem dX0_splitLine_125 : decode cX0_splitLine 125 = .ok (.aload 5, 2) := dk_25 5 (dk_at dksX0_splitLine_5 8 rfl rfl)
theorem dX0_splitLine_127 : decode cX0_splitLine 127 = .ok (.iload_n 1, 1) := dk_27 (dk_at dksX0_splitLine_5 10 rfl rfl)
theorem dX0_splitLine_128 : decode cX0_splitLine 128 = .ok (.iconst 1, 1) := dk_4 (dk_at dksX0_splitLine_5 11 rfl rfl)
theorem dX0_splitLine_129 : decode cX0_splitLine 129 = .ok (.iadd, 1) := dk_96 (dk_at dksX0_splitLine_5 12 rfl rfl)
theorem dX0_splitLine_130 : decode cX0_splitLine 130 = .ok (.invokevirtual 175, 3) := dk_182 0 175 (dk_at dksX0_splitLine_5 13 rfl rfl)
theorem dX0_splitLine_133 : decode cX0_splitLine 133 = .ok (.ifCond .eq 21, 3) := dk_153 0 21 (dk_at dksX0_splitLine_5 16 rfl rfl)
theorem dX0_splitLine_136 : decode cX0_splitLine 136 = .ok (.aload 5, 2) := dk_25 5 (dk_at dksX0_splitLine_5 19 rfl rfl)
theorem dX0_splitLine_138 : decode cX0_splitLine 138 = .ok (.iload_n 1, 1) := dk_27 (dk_at dksX0_splitLine_5 21 rfl rfl)
theorem dX0_splitLine_139 : decode cX0_splitLine 139 = .ok (.iconst 1, 1) := dk_4 (dk_at dksX0_splitLine_5 22 rfl rfl)
theorem dX0_splitLine_140 : decode cX0_splitLine 140 = .ok (.iadd, 1) := dk_96 (dk_at dksX0_splitLine_5 23 rfl rfl)
theorem dX0_splitLine_141 : decode cX0_splitLine 141 = .ok (.invokevirtual 178, 3) := dk_182 0 178 (dk_at dksX0_splitLine_6 0 rfl rfl)
theorem dX0_splitLine_144 : decode cX0_splitLine 144 = .ok (.aload 4, 2) := dk_25 4 (dk_at dksX0_splitLine_6 3 rfl rfl)
theorem dX0_splitLine_146 : decode cX0_splitLine 146 = .ok (.aload 5, 2) := dk_25 5 (dk_at dksX0_splitLine_6 5 rfl rfl)
theorem dX0_splitLine_148 : decode cX0_splitLine 148 = .ok (.getfield 181, 3) := dk_180 0 181 (dk_at dksX0_splitLine_6 7 rfl rfl)
theorem dX0_splitLine_151 : decode cX0_splitLine 151 = .ok (.putfield 153, 3) := dk_181 0 153 (dk_at dksX0_splitLine_6 10 rfl rfl)
theorem dX0_splitLine_154 : decode cX0_splitLine 154 = .ok (.aload_n 0, 1) := dk_42 (dk_at dksX0_splitLine_6 13 rfl rfl)
theorem dX0_splitLine_155 : decode cX0_splitLine 155 = .ok (.aconst_null, 1) := dk_1 (dk_at dksX0_splitLine_6 14 rfl rfl)
theorem dX0_splitLine_156 : decode cX0_splitLine 156 = .ok (.putfield 60, 3) := dk_181 0 60 (dk_at dksX0_splitLine_6 15 rfl rfl)
theorem dX0_splitLine_159 : decode cX0_splitLine 159 = .ok (.aload 4, 2) := dk_25 4 (dk_at dksX0_splitLine_6 18 rfl rfl)
theorem dX0_splitLine_161 : decode cX0_splitLine 161 = .ok (.getfield 153, 3) := dk_180 0 153 (dk_at dksX0_splitLine_6 20 rfl rfl)
theorem dX0_splitLine_164 : decode cX0_splitLine 164 = .ok (.ireturn, 1) := dk_172 (dk_at dksX0_splitLine_6 23 rfl rfl)
abbrev cX0_bare : ByteArray := prog_1_method_19_code
def yX0_bare : MethodName := ⟨RX0, "bare", "(Ljava/lang/String;)Ljava/lang/String;"⟩
def dkwX0_bare_2 : List UInt8 := [160, 0, 9, 132, 2, 255, 167, 255, 236, 42, 27, 28, 182, 0, 168, 176]
abbrev dktX0_bare_2 : List UInt8 := dkwX0_bare_2 ++ []
def dkwX0_bare_1 : List UInt8 := [167, 255, 235, 42, 182, 0, 160, 61, 28, 27, 164, 0, 21, 42, 28, 4, 100, 182, 0, 164, 16, 32]
abbrev dktX0_bare_1 : List UInt8 := dkwX0_bare_1 ++ dktX0_bare_2
def dkwX0_bare_0 : List UInt8 := [3, 60, 27, 42, 182, 0, 160, 162, 0, 19, 42, 27, 182, 0, 164, 16, 32, 160, 0, 9, 132, 1, 1]
abbrev dktX0_bare_0 : List UInt8 := dkwX0_bare_0 ++ dktX0_bare_1
theorem dksX0_bare_0 : cX0_bare.data.toList.drop 0 = dktX0_bare_0 := by decide +kernel
theorem dksX0_bare_1 : cX0_bare.data.toList.drop 23 = dktX0_bare_1 := dk_seg dksX0_bare_0 23 rfl rfl
theorem dksX0_bare_2 : cX0_bare.data.toList.drop 45 = dktX0_bare_2 := dk_seg dksX0_bare_1 22 rfl rfl
theorem dX0_bare_0 : decode cX0_bare 0 = .ok (.iconst 0, 1) := dk_3 (dk_at dksX0_bare_0 0 rfl rfl)
theorem dX0_bare_1 : decode cX0_bare 1 = .ok (.istore_n 1, 1) := dk_60 (dk_at dksX0_bare_0 1 rfl rfl)
theorem dX0_bare_2 : decode cX0_bare 2 = .ok (.iload_n 1, 1) := dk_27 (dk_at dksX0_bare_0 2 rfl rfl)
theorem dX0_bare_3 : decode cX0_bare 3 = .ok (.aload_n 0, 1) := dk_42 (dk_at dksX0_bare_0 3 rfl rfl)
theorem dX0_bare_4 : decode cX0_bare 4 = .ok (.invokevirtual 160, 3) := dk_182 0 160 (dk_at dksX0_bare_0 4 rfl rfl)
theorem dX0_bare_7 : decode cX0_bare 7 = .ok (.if_icmp .ge 19, 3) := dk_162 0 19 (dk_at dksX0_bare_0 7 rfl rfl)
theorem dX0_bare_10 : decode cX0_bare 10 = .ok (.aload_n 0, 1) := dk_42 (dk_at dksX0_bare_0 10 rfl rfl)
theorem dX0_bare_11 : decode cX0_bare 11 = .ok (.iload_n 1, 1) := dk_27 (dk_at dksX0_bare_0 11 rfl rfl)
theorem dX0_bare_12 : decode cX0_bare 12 = .ok (.invokevirtual 164, 3) := dk_182 0 164 (dk_at dksX0_bare_0 12 rfl rfl)
theorem dX0_bare_15 : decode cX0_bare 15 = .ok (.bipush 32, 2) := dk_16 32 (dk_at dksX0_bare_0 15 rfl rfl)
theorem dX0_bare_17 : decode cX0_bare 17 = .ok (.if_icmp .ne 9, 3) := dk_160 0 9 (dk_at dksX0_bare_0 17 rfl rfl)
theorem dX0_bare_20 : decode cX0_bare 20 = .ok (.iinc 1 1, 3) := dk_132 1 1 (dk_at dksX0_bare_0 20 rfl rfl)
theorem dX0_bare_23 : decode cX0_bare 23 = .ok (.goto (-21), 3) := dk_167 255 235 (dk_at dksX0_bare_1 0 rfl rfl)
theorem dX0_bare_26 : decode cX0_bare 26 = .ok (.aload_n 0, 1) := dk_42 (dk_at dksX0_bare_1 3 rfl rfl)
theorem dX0_bare_27 : decode cX0_bare 27 = .ok (.invokevirtual 160, 3) := dk_182 0 160 (dk_at dksX0_bare_1 4 rfl rfl)
theorem dX0_bare_30 : decode cX0_bare 30 = .ok (.istore_n 2, 1) := dk_61 (dk_at dksX0_bare_1 7 rfl rfl)
theorem dX0_bare_31 : decode cX0_bare 31 = .ok (.iload_n 2, 1) := dk_28 (dk_at dksX0_bare_1 8 rfl rfl)
theorem dX0_bare_32 : decode cX0_bare 32 = .ok (.iload_n 1, 1) := dk_27 (dk_at dksX0_bare_1 9 rfl rfl)
theorem dX0_bare_33 : decode cX0_bare 33 = .ok (.if_icmp .le 21, 3) := dk_164 0 21 (dk_at dksX0_bare_1 10 rfl rfl)
theorem dX0_bare_36 : decode cX0_bare 36 = .ok (.aload_n 0, 1) := dk_42 (dk_at dksX0_bare_1 13 rfl rfl)
theorem dX0_bare_37 : decode cX0_bare 37 = .ok (.iload_n 2, 1) := dk_28 (dk_at dksX0_bare_1 14 rfl rfl)
theorem dX0_bare_38 : decode cX0_bare 38 = .ok (.iconst 1, 1) := dk_4 (dk_at dksX0_bare_1 15 rfl rfl)
theorem dX0_bare_39 : decode cX0_bare 39 = .ok (.isub, 1) := dk_100 (dk_at dksX0_bare_1 16 rfl rfl)
theorem dX0_bare_40 : decode cX0_bare 40 = .ok (.invokevirtual 164, 3) := dk_182 0 164 (dk_at dksX0_bare_1 17 rfl rfl)
theorem dX0_bare_43 : decode cX0_bare 43 = .ok (.bipush 32, 2) := dk_16 32 (dk_at dksX0_bare_1 20 rfl rfl)
theorem dX0_bare_45 : decode cX0_bare 45 = .ok (.if_icmp .ne 9, 3) := dk_160 0 9 (dk_at dksX0_bare_2 0 rfl rfl)
theorem dX0_bare_48 : decode cX0_bare 48 = .ok (.iinc 2 (-1), 3) := dk_132 2 255 (dk_at dksX0_bare_2 3 rfl rfl)
theorem dX0_bare_51 : decode cX0_bare 51 = .ok (.goto (-20), 3) := dk_167 255 236 (dk_at dksX0_bare_2 6 rfl rfl)
theorem dX0_bare_54 : decode cX0_bare 54 = .ok (.aload_n 0, 1) := dk_42 (dk_at dksX0_bare_2 9 rfl rfl)
theorem dX0_bare_55 : decode cX0_bare 55 = .ok (.iload_n 1, 1) := dk_27 (dk_at dksX0_bare_2 10 rfl rfl)
theorem dX0_bare_56 : decode cX0_bare 56 = .ok (.iload_n 2, 1) := dk_28 (dk_at dksX0_bare_2 11 rfl rfl)
theorem dX0_bare_57 : decode cX0_bare 57 = .ok (.invokevirtual 168, 3) := dk_182 0 168 (dk_at dksX0_bare_2 12 rfl rfl)
theorem dX0_bare_60 : decode cX0_bare 60 = .ok (.areturn, 1) := dk_176 (dk_at dksX0_bare_2 15 rfl rfl)
abbrev cX0_walked : ByteArray := prog_1_method_6_code
def yX0_walked : MethodName := ⟨RX0, "walked", "(I)LAutoIndenter$Walk;"⟩
def dkwX0_walked_0 : List UInt8 := [42, 27, 42, 180, 0, 25, 180, 0, 68, 42, 180, 0, 25, 180, 0, 72, 182, 0, 75, 176]
abbrev dktX0_walked_0 : List UInt8 := dkwX0_walked_0 ++ []
theorem dksX0_walked_0 : cX0_walked.data.toList.drop 0 = dktX0_walked_0 := by decide +kernel
theorem dX0_walked_0 : decode cX0_walked 0 = .ok (.aload_n 0, 1) := dk_42 (dk_at dksX0_walked_0 0 rfl rfl)
theorem dX0_walked_1 : decode cX0_walked 1 = .ok (.iload_n 1, 1) := dk_27 (dk_at dksX0_walked_0 1 rfl rfl)
theorem dX0_walked_2 : decode cX0_walked 2 = .ok (.aload_n 0, 1) := dk_42 (dk_at dksX0_walked_0 2 rfl rfl)
theorem dX0_walked_3 : decode cX0_walked 3 = .ok (.getfield 25, 3) := dk_180 0 25 (dk_at dksX0_walked_0 3 rfl rfl)
theorem dX0_walked_6 : decode cX0_walked 6 = .ok (.getfield 68, 3) := dk_180 0 68 (dk_at dksX0_walked_0 6 rfl rfl)
theorem dX0_walked_9 : decode cX0_walked 9 = .ok (.aload_n 0, 1) := dk_42 (dk_at dksX0_walked_0 9 rfl rfl)
theorem dX0_walked_10 : decode cX0_walked 10 = .ok (.getfield 25, 3) := dk_180 0 25 (dk_at dksX0_walked_0 10 rfl rfl)
theorem dX0_walked_13 : decode cX0_walked 13 = .ok (.getfield 72, 3) := dk_180 0 72 (dk_at dksX0_walked_0 13 rfl rfl)
theorem dX0_walked_16 : decode cX0_walked 16 = .ok (.invokevirtual 75, 3) := dk_182 0 75 (dk_at dksX0_walked_0 16 rfl rfl)
theorem dX0_walked_19 : decode cX0_walked 19 = .ok (.areturn, 1) := dk_176 (dk_at dksX0_walked_0 19 rfl rfl)
abbrev cX0_walked_2 : ByteArray := prog_1_method_7_code
def yX0_walked_2 : MethodName := ⟨RX0, "walked", "(III)LAutoIndenter$Walk;"⟩
def dkwX0_walked_2_2 : List UInt8 := [180, 0, 60, 176]
abbrev dktX0_walked_2_2 : List UInt8 := dkwX0_walked_2_2 ++ []
def dkwX0_walked_2_1 : List UInt8 := [183, 0, 86, 181, 0, 60, 42, 180, 0, 60, 28, 29, 182, 0, 89, 42, 180, 0, 60, 27, 182, 0, 93, 42]
abbrev dktX0_walked_2_1 : List UInt8 := dkwX0_walked_2_1 ++ dktX0_walked_2_2
def dkwX0_walked_2_0 : List UInt8 := [42, 180, 0, 60, 199, 0, 25, 42, 187, 0, 79, 89, 187, 0, 81, 89, 42, 180, 0, 25, 183, 0, 83]
abbrev dktX0_walked_2_0 : List UInt8 := dkwX0_walked_2_0 ++ dktX0_walked_2_1
theorem dksX0_walked_2_0 : cX0_walked_2.data.toList.drop 0 = dktX0_walked_2_0 := by decide +kernel
theorem dksX0_walked_2_1 : cX0_walked_2.data.toList.drop 23 = dktX0_walked_2_1 := dk_seg dksX0_walked_2_0 23 rfl rfl
theorem dksX0_walked_2_2 : cX0_walked_2.data.toList.drop 47 = dktX0_walked_2_2 := dk_seg dksX0_walked_2_1 24 rfl rfl
theorem dX0_walked_2_0 : decode cX0_walked_2 0 = .ok (.aload_n 0, 1) := dk_42 (dk_at dksX0_walked_2_0 0 rfl rfl)
theorem dX0_walked_2_1 : decode cX0_walked_2 1 = .ok (.getfield 60, 3) := dk_180 0 60 (dk_at dksX0_walked_2_0 1 rfl rfl)
theorem dX0_walked_2_4 : decode cX0_walked_2 4 = .ok (.ifnonnull 25, 3) := dk_199 0 25 (dk_at dksX0_walked_2_0 4 rfl rfl)
theorem dX0_walked_2_7 : decode cX0_walked_2 7 = .ok (.aload_n 0, 1) := dk_42 (dk_at dksX0_walked_2_0 7 rfl rfl)
theorem dX0_walked_2_8 : decode cX0_walked_2 8 = .ok (.new 79, 3) := dk_187 0 79 (dk_at dksX0_walked_2_0 8 rfl rfl)
theorem dX0_walked_2_11 : decode cX0_walked_2 11 = .ok (.dup, 1) := dk_89 (dk_at dksX0_walked_2_0 11 rfl rfl)
theorem dX0_walked_2_12 : decode cX0_walked_2 12 = .ok (.new 81, 3) := dk_187 0 81 (dk_at dksX0_walked_2_0 12 rfl rfl)
theorem dX0_walked_2_15 : decode cX0_walked_2 15 = .ok (.dup, 1) := dk_89 (dk_at dksX0_walked_2_0 15 rfl rfl)
theorem dX0_walked_2_16 : decode cX0_walked_2 16 = .ok (.aload_n 0, 1) := dk_42 (dk_at dksX0_walked_2_0 16 rfl rfl)
theorem dX0_walked_2_17 : decode cX0_walked_2 17 = .ok (.getfield 25, 3) := dk_180 0 25 (dk_at dksX0_walked_2_0 17 rfl rfl)
theorem dX0_walked_2_20 : decode cX0_walked_2 20 = .ok (.invokespecial 83, 3) := dk_183 0 83 (dk_at dksX0_walked_2_0 20 rfl rfl)
theorem dX0_walked_2_23 : decode cX0_walked_2 23 = .ok (.invokespecial 86, 3) := dk_183 0 86 (dk_at dksX0_walked_2_1 0 rfl rfl)
theorem dX0_walked_2_26 : decode cX0_walked_2 26 = .ok (.putfield 60, 3) := dk_181 0 60 (dk_at dksX0_walked_2_1 3 rfl rfl)
theorem dX0_walked_2_29 : decode cX0_walked_2 29 = .ok (.aload_n 0, 1) := dk_42 (dk_at dksX0_walked_2_1 6 rfl rfl)
theorem dX0_walked_2_30 : decode cX0_walked_2 30 = .ok (.getfield 60, 3) := dk_180 0 60 (dk_at dksX0_walked_2_1 7 rfl rfl)
theorem dX0_walked_2_33 : decode cX0_walked_2 33 = .ok (.iload_n 2, 1) := dk_28 (dk_at dksX0_walked_2_1 10 rfl rfl)
theorem dX0_walked_2_34 : decode cX0_walked_2 34 = .ok (.iload_n 3, 1) := dk_29 (dk_at dksX0_walked_2_1 11 rfl rfl)
theorem dX0_walked_2_35 : decode cX0_walked_2 35 = .ok (.invokevirtual 89, 3) := dk_182 0 89 (dk_at dksX0_walked_2_1 12 rfl rfl)
theorem dX0_walked_2_38 : decode cX0_walked_2 38 = .ok (.aload_n 0, 1) := dk_42 (dk_at dksX0_walked_2_1 15 rfl rfl)
theorem dX0_walked_2_39 : decode cX0_walked_2 39 = .ok (.getfield 60, 3) := dk_180 0 60 (dk_at dksX0_walked_2_1 16 rfl rfl)
theorem dX0_walked_2_42 : decode cX0_walked_2 42 = .ok (.iload_n 1, 1) := dk_27 (dk_at dksX0_walked_2_1 19 rfl rfl)
theorem dX0_walked_2_43 : decode cX0_walked_2 43 = .ok (.invokevirtual 93, 3) := dk_182 0 93 (dk_at dksX0_walked_2_1 20 rfl rfl)
theorem dX0_walked_2_46 : decode cX0_walked_2 46 = .ok (.aload_n 0, 1) := dk_42 (dk_at dksX0_walked_2_1 23 rfl rfl)
theorem dX0_walked_2_47 : decode cX0_walked_2 47 = .ok (.getfield 60, 3) := dk_180 0 60 (dk_at dksX0_walked_2_2 0 rfl rfl)
theorem dX0_walked_2_50 : decode cX0_walked_2 50 = .ok (.areturn, 1) := dk_176 (dk_at dksX0_walked_2_2 3 rfl rfl)
abbrev cX0_isWordByte : ByteArray := prog_1_method_2_code
def yX0_isWordByte : MethodName := ⟨RX0, "isWordByte", "(I)Z"⟩
def dkwX0_isWordByte_1 : List UInt8 := [16, 48, 16, 57, 184, 0, 1, 154, 0, 9, 26, 16, 95, 160, 0, 7, 4, 167, 0, 4, 3, 172]
abbrev dktX0_isWordByte_1 : List UInt8 := dkwX0_isWordByte_1 ++ []
def dkwX0_isWordByte_0 : List UInt8 := [26, 16, 97, 16, 122, 184, 0, 1, 154, 0, 31, 26, 16, 65, 16, 90, 184, 0, 1, 154, 0, 20, 26]
abbrev dktX0_isWordByte_0 : List UInt8 := dkwX0_isWordByte_0 ++ dktX0_isWordByte_1
theorem dksX0_isWordByte_0 : cX0_isWordByte.data.toList.drop 0 = dktX0_isWordByte_0 := by decide +kernel
theorem dksX0_isWordByte_1 : cX0_isWordByte.data.toList.drop 23 = dktX0_isWordByte_1 := dk_seg dksX0_isWordByte_0 23 rfl rfl
theorem dX0_isWordByte_0 : decode cX0_isWordByte 0 = .ok (.iload_n 0, 1) := dk_26 (dk_at dksX0_isWordByte_0 0 rfl rfl)
theorem dX0_isWordByte_1 : decode cX0_isWordByte 1 = .ok (.bipush 97, 2) := dk_16 97 (dk_at dksX0_isWordByte_0 1 rfl rfl)
theorem dX0_isWordByte_3 : decode cX0_isWordByte 3 = .ok (.bipush 122, 2) := dk_16 122 (dk_at dksX0_isWordByte_0 3 rfl rfl)
theorem dX0_isWordByte_5 : decode cX0_isWordByte 5 = .ok (.invokestatic 1, 3) := dk_184 0 1 (dk_at dksX0_isWordByte_0 5 rfl rfl)
theorem dX0_isWordByte_8 : decode cX0_isWordByte 8 = .ok (.ifCond .ne 31, 3) := dk_154 0 31 (dk_at dksX0_isWordByte_0 8 rfl rfl)
theorem dX0_isWordByte_11 : decode cX0_isWordByte 11 = .ok (.iload_n 0, 1) := dk_26 (dk_at dksX0_isWordByte_0 11 rfl rfl)
theorem dX0_isWordByte_12 : decode cX0_isWordByte 12 = .ok (.bipush 65, 2) := dk_16 65 (dk_at dksX0_isWordByte_0 12 rfl rfl)
theorem dX0_isWordByte_14 : decode cX0_isWordByte 14 = .ok (.bipush 90, 2) := dk_16 90 (dk_at dksX0_isWordByte_0 14 rfl rfl)
theorem dX0_isWordByte_16 : decode cX0_isWordByte 16 = .ok (.invokestatic 1, 3) := dk_184 0 1 (dk_at dksX0_isWordByte_0 16 rfl rfl)
theorem dX0_isWordByte_19 : decode cX0_isWordByte 19 = .ok (.ifCond .ne 20, 3) := dk_154 0 20 (dk_at dksX0_isWordByte_0 19 rfl rfl)
theorem dX0_isWordByte_22 : decode cX0_isWordByte 22 = .ok (.iload_n 0, 1) := dk_26 (dk_at dksX0_isWordByte_0 22 rfl rfl)
theorem dX0_isWordByte_23 : decode cX0_isWordByte 23 = .ok (.bipush 48, 2) := dk_16 48 (dk_at dksX0_isWordByte_1 0 rfl rfl)
theorem dX0_isWordByte_25 : decode cX0_isWordByte 25 = .ok (.bipush 57, 2) := dk_16 57 (dk_at dksX0_isWordByte_1 2 rfl rfl)
theorem dX0_isWordByte_27 : decode cX0_isWordByte 27 = .ok (.invokestatic 1, 3) := dk_184 0 1 (dk_at dksX0_isWordByte_1 4 rfl rfl)
theorem dX0_isWordByte_30 : decode cX0_isWordByte 30 = .ok (.ifCond .ne 9, 3) := dk_154 0 9 (dk_at dksX0_isWordByte_1 7 rfl rfl)
theorem dX0_isWordByte_33 : decode cX0_isWordByte 33 = .ok (.iload_n 0, 1) := dk_26 (dk_at dksX0_isWordByte_1 10 rfl rfl)
theorem dX0_isWordByte_34 : decode cX0_isWordByte 34 = .ok (.bipush 95, 2) := dk_16 95 (dk_at dksX0_isWordByte_1 11 rfl rfl)
theorem dX0_isWordByte_36 : decode cX0_isWordByte 36 = .ok (.if_icmp .ne 7, 3) := dk_160 0 7 (dk_at dksX0_isWordByte_1 13 rfl rfl)
theorem dX0_isWordByte_39 : decode cX0_isWordByte 39 = .ok (.iconst 1, 1) := dk_4 (dk_at dksX0_isWordByte_1 16 rfl rfl)
theorem dX0_isWordByte_40 : decode cX0_isWordByte 40 = .ok (.goto 4, 3) := dk_167 0 4 (dk_at dksX0_isWordByte_1 17 rfl rfl)
theorem dX0_isWordByte_43 : decode cX0_isWordByte 43 = .ok (.iconst 0, 1) := dk_3 (dk_at dksX0_isWordByte_1 20 rfl rfl)
theorem dX0_isWordByte_44 : decode cX0_isWordByte 44 = .ok (.ireturn, 1) := dk_172 (dk_at dksX0_isWordByte_1 21 rfl rfl)
abbrev cX0_held : ByteArray := prog_1_method_3_code
def yX0_held : MethodName := ⟨RX0, "held", "(I)I"⟩
def dkwX0_held_0 : List UInt8 := [3, 16, 40, 26, 184, 0, 7, 184, 0, 13, 172]
abbrev dktX0_held_0 : List UInt8 := dkwX0_held_0 ++ []
theorem dksX0_held_0 : cX0_held.data.toList.drop 0 = dktX0_held_0 := by decide +kernel
theorem dX0_held_0 : decode cX0_held 0 = .ok (.iconst 0, 1) := dk_3 (dk_at dksX0_held_0 0 rfl rfl)
theorem dX0_held_1 : decode cX0_held 1 = .ok (.bipush 40, 2) := dk_16 40 (dk_at dksX0_held_0 1 rfl rfl)
theorem dX0_held_3 : decode cX0_held 3 = .ok (.iload_n 0, 1) := dk_26 (dk_at dksX0_held_0 3 rfl rfl)
theorem dX0_held_4 : decode cX0_held 4 = .ok (.invokestatic 7, 3) := dk_184 0 7 (dk_at dksX0_held_0 4 rfl rfl)
theorem dX0_held_7 : decode cX0_held 7 = .ok (.invokestatic 13, 3) := dk_184 0 13 (dk_at dksX0_held_0 7 rfl rfl)
theorem dX0_held_10 : decode cX0_held 10 = .ok (.ireturn, 1) := dk_172 (dk_at dksX0_held_0 10 rfl rfl)
abbrev cX0_joinLines : ByteArray := prog_1_method_21_code
def yX0_joinLines : MethodName := ⟨RX0, "joinLines", "(I)I"⟩
def dkwX0_joinLines_7 : List UInt8 := [25, 4, 182, 0, 160, 172]
abbrev dktX0_joinLines_7 : List UInt8 := dkwX0_joinLines_7 ++ []
def dkwX0_joinLines_6 : List UInt8 := [27, 182, 0, 149, 21, 5, 181, 0, 153, 42, 180, 0, 25, 180, 0, 104, 27, 4, 96, 182, 0, 48, 87]
abbrev dktX0_joinLines_6 : List UInt8 := dkwX0_joinLines_6 ++ dktX0_joinLines_7
def dkwX0_joinLines_5 : List UInt8 := [167, 0, 7, 44, 180, 0, 153, 54, 5, 42, 182, 0, 139, 42, 27, 182, 0, 149, 25, 4, 181, 0, 156, 42]
abbrev dktX0_joinLines_5 : List UInt8 := dkwX0_joinLines_5 ++ dktX0_joinLines_6
def dkwX0_joinLines_4 : List UInt8 := [25, 4, 182, 0, 160, 16, 32, 164, 0, 6, 16, 253, 172, 44, 182, 0, 184, 153, 0, 10, 45, 180, 0, 153]
abbrev dktX0_joinLines_4 : List UInt8 := dkwX0_joinLines_4 ++ dktX0_joinLines_5
def dkwX0_joinLines_3 : List UInt8 := [44, 180, 0, 156, 182, 0, 188, 18, 191, 182, 0, 188, 45, 180, 0, 156, 182, 0, 188, 182, 0, 122, 58, 4]
abbrev dktX0_joinLines_3 : List UInt8 := dkwX0_joinLines_3 ++ dktX0_joinLines_4
def dkwX0_joinLines_2 : List UInt8 := [167, 0, 46, 45, 182, 0, 184, 153, 0, 10, 44, 180, 0, 156, 167, 0, 32, 187, 0, 115, 89, 183, 0, 117]
abbrev dktX0_joinLines_2 : List UInt8 := dkwX0_joinLines_2 ++ dktX0_joinLines_3
def dkwX0_joinLines_1 : List UInt8 := [182, 0, 149, 77, 42, 27, 4, 96, 182, 0, 149, 78, 44, 182, 0, 184, 153, 0, 10, 45, 180, 0, 156]
abbrev dktX0_joinLines_1 : List UInt8 := dkwX0_joinLines_1 ++ dktX0_joinLines_2
def dkwX0_joinLines_0 : List UInt8 := [42, 27, 182, 0, 145, 153, 0, 13, 42, 27, 4, 96, 182, 0, 145, 154, 0, 5, 2, 172, 42, 27]
abbrev dktX0_joinLines_0 : List UInt8 := dkwX0_joinLines_0 ++ dktX0_joinLines_1
theorem dksX0_joinLines_0 : cX0_joinLines.data.toList.drop 0 = dktX0_joinLines_0 := by decide +kernel
theorem dksX0_joinLines_1 : cX0_joinLines.data.toList.drop 22 = dktX0_joinLines_1 := dk_seg dksX0_joinLines_0 22 rfl rfl
theorem dksX0_joinLines_2 : cX0_joinLines.data.toList.drop 45 = dktX0_joinLines_2 := dk_seg dksX0_joinLines_1 23 rfl rfl
theorem dksX0_joinLines_3 : cX0_joinLines.data.toList.drop 69 = dktX0_joinLines_3 := dk_seg dksX0_joinLines_2 24 rfl rfl
theorem dksX0_joinLines_4 : cX0_joinLines.data.toList.drop 93 = dktX0_joinLines_4 := dk_seg dksX0_joinLines_3 24 rfl rfl
theorem dksX0_joinLines_5 : cX0_joinLines.data.toList.drop 117 = dktX0_joinLines_5 := dk_seg dksX0_joinLines_4 24 rfl rfl
theorem dksX0_joinLines_6 : cX0_joinLines.data.toList.drop 141 = dktX0_joinLines_6 := dk_seg dksX0_joinLines_5 24 rfl rfl
theorem dksX0_joinLines_7 : cX0_joinLines.data.toList.drop 164 = dktX0_joinLines_7 := dk_seg dksX0_joinLines_6 23 rfl rfl
theorem dX0_joinLines_0 : decode cX0_joinLines 0 = .ok (.aload_n 0, 1) := dk_42 (dk_at dksX0_joinLines_0 0 rfl rfl)
theorem dX0_joinLines_1 : decode cX0_joinLines 1 = .ok (.iload_n 1, 1) := dk_27 (dk_at dksX0_joinLines_0 1 rfl rfl)
theorem dX0_joinLines_2 : decode cX0_joinLines 2 = .ok (.invokevirtual 145, 3) := dk_182 0 145 (dk_at dksX0_joinLines_0 2 rfl rfl)
theorem dX0_joinLines_5 : decode cX0_joinLines 5 = .ok (.ifCond .eq 13, 3) := dk_153 0 13 (dk_at dksX0_joinLines_0 5 rfl rfl)
theorem dX0_joinLines_8 : decode cX0_joinLines 8 = .ok (.aload_n 0, 1) := dk_42 (dk_at dksX0_joinLines_0 8 rfl rfl)
theorem dX0_joinLines_9 : decode cX0_joinLines 9 = .ok (.iload_n 1, 1) := dk_27 (dk_at dksX0_joinLines_0 9 rfl rfl)
theorem dX0_joinLines_10 : decode cX0_joinLines 10 = .ok (.iconst 1, 1) := dk_4 (dk_at dksX0_joinLines_0 10 rfl rfl)
theorem dX0_joinLines_11 : decode cX0_joinLines 11 = .ok (.iadd, 1) := dk_96 (dk_at dksX0_joinLines_0 11 rfl rfl)
theorem dX0_joinLines_12 : decode cX0_joinLines 12 = .ok (.invokevirtual 145, 3) := dk_182 0 145 (dk_at dksX0_joinLines_0 12 rfl rfl)
theorem dX0_joinLines_15 : decode cX0_joinLines 15 = .ok (.ifCond .ne 5, 3) := dk_154 0 5 (dk_at dksX0_joinLines_0 15 rfl rfl)
theorem dX0_joinLines_18 : decode cX0_joinLines 18 = .ok (.iconst (-1), 1) := dk_2 (dk_at dksX0_joinLines_0 18 rfl rfl)
theorem dX0_joinLines_19 : decode cX0_joinLines 19 = .ok (.ireturn, 1) := dk_172 (dk_at dksX0_joinLines_0 19 rfl rfl)
theorem dX0_joinLines_20 : decode cX0_joinLines 20 = .ok (.aload_n 0, 1) := dk_42 (dk_at dksX0_joinLines_0 20 rfl rfl)
theorem dX0_joinLines_21 : decode cX0_joinLines 21 = .ok (.iload_n 1, 1) := dk_27 (dk_at dksX0_joinLines_0 21 rfl rfl)
theorem dX0_joinLines_22 : decode cX0_joinLines 22 = .ok (.invokevirtual 149, 3) := dk_182 0 149 (dk_at dksX0_joinLines_1 0 rfl rfl)
theorem dX0_joinLines_25 : decode cX0_joinLines 25 = .ok (.astore_n 2, 1) := dk_77 (dk_at dksX0_joinLines_1 3 rfl rfl)
theorem dX0_joinLines_26 : decode cX0_joinLines 26 = .ok (.aload_n 0, 1) := dk_42 (dk_at dksX0_joinLines_1 4 rfl rfl)
theorem dX0_joinLines_27 : decode cX0_joinLines 27 = .ok (.iload_n 1, 1) := dk_27 (dk_at dksX0_joinLines_1 5 rfl rfl)
theorem dX0_joinLines_28 : decode cX0_joinLines 28 = .ok (.iconst 1, 1) := dk_4 (dk_at dksX0_joinLines_1 6 rfl rfl)
theorem dX0_joinLines_29 : decode cX0_joinLines 29 = .ok (.iadd, 1) := dk_96 (dk_at dksX0_joinLines_1 7 rfl rfl)
theorem dX0_joinLines_30 : decode cX0_joinLines 30 = .ok (.invokevirtual 149, 3) := dk_182 0 149 (dk_at dksX0_joinLines_1 8 rfl rfl)
theorem dX0_joinLines_33 : decode cX0_joinLines 33 = .ok (.astore_n 3, 1) := dk_78 (dk_at dksX0_joinLines_1 11 rfl rfl)
theorem dX0_joinLines_34 : decode cX0_joinLines 34 = .ok (.aload_n 2, 1) := dk_44 (dk_at dksX0_joinLines_1 12 rfl rfl)
theorem dX0_joinLines_35 : decode cX0_joinLines 35 = .ok (.invokevirtual 184, 3) := dk_182 0 184 (dk_at dksX0_joinLines_1 13 rfl rfl)
theorem dX0_joinLines_38 : decode cX0_joinLines 38 = .ok (.ifCond .eq 10, 3) := dk_153 0 10 (dk_at dksX0_joinLines_1 16 rfl rfl)
theorem dX0_joinLines_41 : decode cX0_joinLines 41 = .ok (.aload_n 3, 1) := dk_45 (dk_at dksX0_joinLines_1 19 rfl rfl)
theorem dX0_joinLines_42 : decode cX0_joinLines 42 = .ok (.getfield 156, 3) := dk_180 0 156 (dk_at dksX0_joinLines_1 20 rfl rfl)
theorem dX0_joinLines_45 : decode cX0_joinLines 45 = .ok (.goto 46, 3) := dk_167 0 46 (dk_at dksX0_joinLines_2 0 rfl rfl)
theorem dX0_joinLines_48 : decode cX0_joinLines 48 = .ok (.aload_n 3, 1) := dk_45 (dk_at dksX0_joinLines_2 3 rfl rfl)
theorem dX0_joinLines_49 : decode cX0_joinLines 49 = .ok (.invokevirtual 184, 3) := dk_182 0 184 (dk_at dksX0_joinLines_2 4 rfl rfl)
theorem dX0_joinLines_52 : decode cX0_joinLines 52 = .ok (.ifCond .eq 10, 3) := dk_153 0 10 (dk_at dksX0_joinLines_2 7 rfl rfl)
theorem dX0_joinLines_55 : decode cX0_joinLines 55 = .ok (.aload_n 2, 1) := dk_44 (dk_at dksX0_joinLines_2 10 rfl rfl)
theorem dX0_joinLines_56 : decode cX0_joinLines 56 = .ok (.getfield 156, 3) := dk_180 0 156 (dk_at dksX0_joinLines_2 11 rfl rfl)
theorem dX0_joinLines_59 : decode cX0_joinLines 59 = .ok (.goto 32, 3) := dk_167 0 32 (dk_at dksX0_joinLines_2 14 rfl rfl)
theorem dX0_joinLines_62 : decode cX0_joinLines 62 = .ok (.new 115, 3) := dk_187 0 115 (dk_at dksX0_joinLines_2 17 rfl rfl)
theorem dX0_joinLines_65 : decode cX0_joinLines 65 = .ok (.dup, 1) := dk_89 (dk_at dksX0_joinLines_2 20 rfl rfl)
theorem dX0_joinLines_66 : decode cX0_joinLines 66 = .ok (.invokespecial 117, 3) := dk_183 0 117 (dk_at dksX0_joinLines_2 21 rfl rfl)
theorem dX0_joinLines_69 : decode cX0_joinLines 69 = .ok (.aload_n 2, 1) := dk_44 (dk_at dksX0_joinLines_3 0 rfl rfl)
theorem dX0_joinLines_70 : decode cX0_joinLines 70 = .ok (.getfield 156, 3) := dk_180 0 156 (dk_at dksX0_joinLines_3 1 rfl rfl)
theorem dX0_joinLines_73 : decode cX0_joinLines 73 = .ok (.invokevirtual 188, 3) := dk_182 0 188 (dk_at dksX0_joinLines_3 4 rfl rfl)
theorem dX0_joinLines_76 : decode cX0_joinLines 76 = .ok (.ldc 191, 2) := dk_18 191 (dk_at dksX0_joinLines_3 7 rfl rfl)
theorem dX0_joinLines_78 : decode cX0_joinLines 78 = .ok (.invokevirtual 188, 3) := dk_182 0 188 (dk_at dksX0_joinLines_3 9 rfl rfl)
theorem dX0_joinLines_81 : decode cX0_joinLines 81 = .ok (.aload_n 3, 1) := dk_45 (dk_at dksX0_joinLines_3 12 rfl rfl)
theorem dX0_joinLines_82 : decode cX0_joinLines 82 = .ok (.getfield 156, 3) := dk_180 0 156 (dk_at dksX0_joinLines_3 13 rfl rfl)
theorem dX0_joinLines_85 : decode cX0_joinLines 85 = .ok (.invokevirtual 188, 3) := dk_182 0 188 (dk_at dksX0_joinLines_3 16 rfl rfl)
theorem dX0_joinLines_88 : decode cX0_joinLines 88 = .ok (.invokevirtual 122, 3) := dk_182 0 122 (dk_at dksX0_joinLines_3 19 rfl rfl)
theorem dX0_joinLines_91 : decode cX0_joinLines 91 = .ok (.astore 4, 2) := dk_58 4 (dk_at dksX0_joinLines_3 22 rfl rfl)
theorem dX0_joinLines_93 : decode cX0_joinLines 93 = .ok (.aload 4, 2) := dk_25 4 (dk_at dksX0_joinLines_4 0 rfl rfl)
theorem dX0_joinLines_95 : decode cX0_joinLines 95 = .ok (.invokevirtual 160, 3) := dk_182 0 160 (dk_at dksX0_joinLines_4 2 rfl rfl)
theorem dX0_joinLines_98 : decode cX0_joinLines 98 = .ok (.bipush 32, 2) := dk_16 32 (dk_at dksX0_joinLines_4 5 rfl rfl)
theorem dX0_joinLines_100 : decode cX0_joinLines 100 = .ok (.if_icmp .le 6, 3) := dk_164 0 6 (dk_at dksX0_joinLines_4 7 rfl rfl)
theorem dX0_joinLines_103 : decode cX0_joinLines 103 = .ok (.bipush (-3), 2) := dk_16 253 (dk_at dksX0_joinLines_4 10 rfl rfl)
theorem dX0_joinLines_105 : decode cX0_joinLines 105 = .ok (.ireturn, 1) := dk_172 (dk_at dksX0_joinLines_4 12 rfl rfl)
theorem dX0_joinLines_106 : decode cX0_joinLines 106 = .ok (.aload_n 2, 1) := dk_44 (dk_at dksX0_joinLines_4 13 rfl rfl)
theorem dX0_joinLines_107 : decode cX0_joinLines 107 = .ok (.invokevirtual 184, 3) := dk_182 0 184 (dk_at dksX0_joinLines_4 14 rfl rfl)
theorem dX0_joinLines_110 : decode cX0_joinLines 110 = .ok (.ifCond .eq 10, 3) := dk_153 0 10 (dk_at dksX0_joinLines_4 17 rfl rfl)
theorem dX0_joinLines_113 : decode cX0_joinLines 113 = .ok (.aload_n 3, 1) := dk_45 (dk_at dksX0_joinLines_4 20 rfl rfl)
theorem dX0_joinLines_114 : decode cX0_joinLines 114 = .ok (.getfield 153, 3) := dk_180 0 153 (dk_at dksX0_joinLines_4 21 rfl rfl)
theorem dX0_joinLines_117 : decode cX0_joinLines 117 = .ok (.goto 7, 3) := dk_167 0 7 (dk_at dksX0_joinLines_5 0 rfl rfl)
theorem dX0_joinLines_120 : decode cX0_joinLines 120 = .ok (.aload_n 2, 1) := dk_44 (dk_at dksX0_joinLines_5 3 rfl rfl)
theorem dX0_joinLines_121 : decode cX0_joinLines 121 = .ok (.getfield 153, 3) := dk_180 0 153 (dk_at dksX0_joinLines_5 4 rfl rfl)
theorem dX0_joinLines_124 : decode cX0_joinLines 124 = .ok (.istore 5, 2) := dk_54 5 (dk_at dksX0_joinLines_5 7 rfl rfl)
theorem dX0_joinLines_126 : decode cX0_joinLines 126 = .ok (.aload_n 0, 1) := dk_42 (dk_at dksX0_joinLines_5 9 rfl rfl)
theorem dX0_joinLines_127 : decode cX0_joinLines 127 = .ok (.invokevirtual 139, 3) := dk_182 0 139 (dk_at dksX0_joinLines_5 10 rfl rfl)
theorem dX0_joinLines_130 : decode cX0_joinLines 130 = .ok (.aload_n 0, 1) := dk_42 (dk_at dksX0_joinLines_5 13 rfl rfl)
theorem dX0_joinLines_131 : decode cX0_joinLines 131 = .ok (.iload_n 1, 1) := dk_27 (dk_at dksX0_joinLines_5 14 rfl rfl)
theorem dX0_joinLines_132 : decode cX0_joinLines 132 = .ok (.invokevirtual 149, 3) := dk_182 0 149 (dk_at dksX0_joinLines_5 15 rfl rfl)
theorem dX0_joinLines_135 : decode cX0_joinLines 135 = .ok (.aload 4, 2) := dk_25 4 (dk_at dksX0_joinLines_5 18 rfl rfl)
theorem dX0_joinLines_137 : decode cX0_joinLines 137 = .ok (.putfield 156, 3) := dk_181 0 156 (dk_at dksX0_joinLines_5 20 rfl rfl)
theorem dX0_joinLines_140 : decode cX0_joinLines 140 = .ok (.aload_n 0, 1) := dk_42 (dk_at dksX0_joinLines_5 23 rfl rfl)
theorem dX0_joinLines_141 : decode cX0_joinLines 141 = .ok (.iload_n 1, 1) := dk_27 (dk_at dksX0_joinLines_6 0 rfl rfl)
theorem dX0_joinLines_142 : decode cX0_joinLines 142 = .ok (.invokevirtual 149, 3) := dk_182 0 149 (dk_at dksX0_joinLines_6 1 rfl rfl)
theorem dX0_joinLines_145 : decode cX0_joinLines 145 = .ok (.iload 5, 2) := dk_21 5 (dk_at dksX0_joinLines_6 4 rfl rfl)
theorem dX0_joinLines_147 : decode cX0_joinLines 147 = .ok (.putfield 153, 3) := dk_181 0 153 (dk_at dksX0_joinLines_6 6 rfl rfl)
theorem dX0_joinLines_150 : decode cX0_joinLines 150 = .ok (.aload_n 0, 1) := dk_42 (dk_at dksX0_joinLines_6 9 rfl rfl)
theorem dX0_joinLines_151 : decode cX0_joinLines 151 = .ok (.getfield 25, 3) := dk_180 0 25 (dk_at dksX0_joinLines_6 10 rfl rfl)
theorem dX0_joinLines_154 : decode cX0_joinLines 154 = .ok (.getfield 104, 3) := dk_180 0 104 (dk_at dksX0_joinLines_6 13 rfl rfl)
theorem dX0_joinLines_157 : decode cX0_joinLines 157 = .ok (.iload_n 1, 1) := dk_27 (dk_at dksX0_joinLines_6 16 rfl rfl)
theorem dX0_joinLines_158 : decode cX0_joinLines 158 = .ok (.iconst 1, 1) := dk_4 (dk_at dksX0_joinLines_6 17 rfl rfl)
theorem dX0_joinLines_159 : decode cX0_joinLines 159 = .ok (.iadd, 1) := dk_96 (dk_at dksX0_joinLines_6 18 rfl rfl)
theorem dX0_joinLines_160 : decode cX0_joinLines 160 = .ok (.invokevirtual 48, 3) := dk_182 0 48 (dk_at dksX0_joinLines_6 19 rfl rfl)
theorem dX0_joinLines_163 : decode cX0_joinLines 163 = .ok (.pop, 1) := dk_87 (dk_at dksX0_joinLines_6 22 rfl rfl)
theorem dX0_joinLines_164 : decode cX0_joinLines 164 = .ok (.aload 4, 2) := dk_25 4 (dk_at dksX0_joinLines_7 0 rfl rfl)
theorem dX0_joinLines_166 : decode cX0_joinLines 166 = .ok (.invokevirtual 160, 3) := dk_182 0 160 (dk_at dksX0_joinLines_7 2 rfl rfl)
theorem dX0_joinLines_169 : decode cX0_joinLines 169 = .ok (.ireturn, 1) := dk_172 (dk_at dksX0_joinLines_7 5 rfl rfl)
abbrev cX0_shift : ByteArray := prog_1_method_22_code
def yX0_shift : MethodName := ⟨RX0, "shift", "(III)I"⟩
def dkwX0_shift_5 : List UInt8 := [167, 0, 4, 29, 96, 181, 0, 153, 132, 5, 1, 167, 255, 216, 21, 4, 172]
abbrev dktX0_shift_5 : List UInt8 := dkwX0_shift_5 ++ []
def dkwX0_shift_4 : List UInt8 := [21, 5, 182, 0, 149, 89, 180, 0, 153, 42, 21, 5, 182, 0, 149, 182, 0, 184, 153, 0, 7, 3]
abbrev dktX0_shift_4 : List UInt8 := dkwX0_shift_4 ++ dktX0_shift_5
def dkwX0_shift_3 : List UInt8 := [16, 254, 172, 132, 5, 1, 167, 255, 209, 42, 182, 0, 139, 27, 54, 5, 21, 5, 28, 162, 0, 40, 42]
abbrev dktX0_shift_3 : List UInt8 := dkwX0_shift_3 ++ dktX0_shift_4
def dkwX0_shift_2 : List UInt8 := [132, 4, 1, 42, 21, 5, 182, 0, 149, 180, 0, 153, 29, 96, 3, 16, 40, 184, 0, 1, 154, 0, 6]
abbrev dktX0_shift_2 : List UInt8 := dkwX0_shift_2 ++ dktX0_shift_3
def dkwX0_shift_1 : List UInt8 := [54, 4, 27, 54, 5, 21, 5, 28, 162, 0, 47, 42, 21, 5, 182, 0, 149, 182, 0, 184, 154, 0, 29]
abbrev dktX0_shift_1 : List UInt8 := dkwX0_shift_1 ++ dktX0_shift_2
def dkwX0_shift_0 : List UInt8 := [42, 27, 28, 182, 0, 193, 153, 0, 14, 29, 16, 216, 16, 40, 184, 0, 1, 154, 0, 5, 2, 172, 3]
abbrev dktX0_shift_0 : List UInt8 := dkwX0_shift_0 ++ dktX0_shift_1
theorem dksX0_shift_0 : cX0_shift.data.toList.drop 0 = dktX0_shift_0 := by decide +kernel
theorem dksX0_shift_1 : cX0_shift.data.toList.drop 23 = dktX0_shift_1 := dk_seg dksX0_shift_0 23 rfl rfl
theorem dksX0_shift_2 : cX0_shift.data.toList.drop 46 = dktX0_shift_2 := dk_seg dksX0_shift_1 23 rfl rfl
theorem dksX0_shift_3 : cX0_shift.data.toList.drop 69 = dktX0_shift_3 := dk_seg dksX0_shift_2 23 rfl rfl
theorem dksX0_shift_4 : cX0_shift.data.toList.drop 92 = dktX0_shift_4 := dk_seg dksX0_shift_3 23 rfl rfl
theorem dksX0_shift_5 : cX0_shift.data.toList.drop 114 = dktX0_shift_5 := dk_seg dksX0_shift_4 22 rfl rfl
theorem dX0_shift_0 : decode cX0_shift 0 = .ok (.aload_n 0, 1) := dk_42 (dk_at dksX0_shift_0 0 rfl rfl)
theorem dX0_shift_1 : decode cX0_shift 1 = .ok (.iload_n 1, 1) := dk_27 (dk_at dksX0_shift_0 1 rfl rfl)
theorem dX0_shift_2 : decode cX0_shift 2 = .ok (.iload_n 2, 1) := dk_28 (dk_at dksX0_shift_0 2 rfl rfl)
theorem dX0_shift_3 : decode cX0_shift 3 = .ok (.invokevirtual 193, 3) := dk_182 0 193 (dk_at dksX0_shift_0 3 rfl rfl)
theorem dX0_shift_6 : decode cX0_shift 6 = .ok (.ifCond .eq 14, 3) := dk_153 0 14 (dk_at dksX0_shift_0 6 rfl rfl)
theorem dX0_shift_9 : decode cX0_shift 9 = .ok (.iload_n 3, 1) := dk_29 (dk_at dksX0_shift_0 9 rfl rfl)
theorem dX0_shift_10 : decode cX0_shift 10 = .ok (.bipush (-40), 2) := dk_16 216 (dk_at dksX0_shift_0 10 rfl rfl)
theorem dX0_shift_12 : decode cX0_shift 12 = .ok (.bipush 40, 2) := dk_16 40 (dk_at dksX0_shift_0 12 rfl rfl)
theorem dX0_shift_14 : decode cX0_shift 14 = .ok (.invokestatic 1, 3) := dk_184 0 1 (dk_at dksX0_shift_0 14 rfl rfl)
theorem dX0_shift_17 : decode cX0_shift 17 = .ok (.ifCond .ne 5, 3) := dk_154 0 5 (dk_at dksX0_shift_0 17 rfl rfl)
theorem dX0_shift_20 : decode cX0_shift 20 = .ok (.iconst (-1), 1) := dk_2 (dk_at dksX0_shift_0 20 rfl rfl)
theorem dX0_shift_21 : decode cX0_shift 21 = .ok (.ireturn, 1) := dk_172 (dk_at dksX0_shift_0 21 rfl rfl)
theorem dX0_shift_22 : decode cX0_shift 22 = .ok (.iconst 0, 1) := dk_3 (dk_at dksX0_shift_0 22 rfl rfl)
theorem dX0_shift_23 : decode cX0_shift 23 = .ok (.istore 4, 2) := dk_54 4 (dk_at dksX0_shift_1 0 rfl rfl)
theorem dX0_shift_25 : decode cX0_shift 25 = .ok (.iload_n 1, 1) := dk_27 (dk_at dksX0_shift_1 2 rfl rfl)
theorem dX0_shift_26 : decode cX0_shift 26 = .ok (.istore 5, 2) := dk_54 5 (dk_at dksX0_shift_1 3 rfl rfl)
theorem dX0_shift_28 : decode cX0_shift 28 = .ok (.iload 5, 2) := dk_21 5 (dk_at dksX0_shift_1 5 rfl rfl)
theorem dX0_shift_30 : decode cX0_shift 30 = .ok (.iload_n 2, 1) := dk_28 (dk_at dksX0_shift_1 7 rfl rfl)
theorem dX0_shift_31 : decode cX0_shift 31 = .ok (.if_icmp .ge 47, 3) := dk_162 0 47 (dk_at dksX0_shift_1 8 rfl rfl)
theorem dX0_shift_34 : decode cX0_shift 34 = .ok (.aload_n 0, 1) := dk_42 (dk_at dksX0_shift_1 11 rfl rfl)
theorem dX0_shift_35 : decode cX0_shift 35 = .ok (.iload 5, 2) := dk_21 5 (dk_at dksX0_shift_1 12 rfl rfl)
theorem dX0_shift_37 : decode cX0_shift 37 = .ok (.invokevirtual 149, 3) := dk_182 0 149 (dk_at dksX0_shift_1 14 rfl rfl)
theorem dX0_shift_40 : decode cX0_shift 40 = .ok (.invokevirtual 184, 3) := dk_182 0 184 (dk_at dksX0_shift_1 17 rfl rfl)
theorem dX0_shift_43 : decode cX0_shift 43 = .ok (.ifCond .ne 29, 3) := dk_154 0 29 (dk_at dksX0_shift_1 20 rfl rfl)
theorem dX0_shift_46 : decode cX0_shift 46 = .ok (.iinc 4 1, 3) := dk_132 4 1 (dk_at dksX0_shift_2 0 rfl rfl)
theorem dX0_shift_49 : decode cX0_shift 49 = .ok (.aload_n 0, 1) := dk_42 (dk_at dksX0_shift_2 3 rfl rfl)
theorem dX0_shift_50 : decode cX0_shift 50 = .ok (.iload 5, 2) := dk_21 5 (dk_at dksX0_shift_2 4 rfl rfl)
theorem dX0_shift_52 : decode cX0_shift 52 = .ok (.invokevirtual 149, 3) := dk_182 0 149 (dk_at dksX0_shift_2 6 rfl rfl)
theorem dX0_shift_55 : decode cX0_shift 55 = .ok (.getfield 153, 3) := dk_180 0 153 (dk_at dksX0_shift_2 9 rfl rfl)
theorem dX0_shift_58 : decode cX0_shift 58 = .ok (.iload_n 3, 1) := dk_29 (dk_at dksX0_shift_2 12 rfl rfl)
theorem dX0_shift_59 : decode cX0_shift 59 = .ok (.iadd, 1) := dk_96 (dk_at dksX0_shift_2 13 rfl rfl)
theorem dX0_shift_60 : decode cX0_shift 60 = .ok (.iconst 0, 1) := dk_3 (dk_at dksX0_shift_2 14 rfl rfl)
theorem dX0_shift_61 : decode cX0_shift 61 = .ok (.bipush 40, 2) := dk_16 40 (dk_at dksX0_shift_2 15 rfl rfl)
theorem dX0_shift_63 : decode cX0_shift 63 = .ok (.invokestatic 1, 3) := dk_184 0 1 (dk_at dksX0_shift_2 17 rfl rfl)
theorem dX0_shift_66 : decode cX0_shift 66 = .ok (.ifCond .ne 6, 3) := dk_154 0 6 (dk_at dksX0_shift_2 20 rfl rfl)
theorem dX0_shift_69 : decode cX0_shift 69 = .ok (.bipush (-2), 2) := dk_16 254 (dk_at dksX0_shift_3 0 rfl rfl)
theorem dX0_shift_71 : decode cX0_shift 71 = .ok (.ireturn, 1) := dk_172 (dk_at dksX0_shift_3 2 rfl rfl)
theorem dX0_shift_72 : decode cX0_shift 72 = .ok (.iinc 5 1, 3) := dk_132 5 1 (dk_at dksX0_shift_3 3 rfl rfl)
theorem dX0_shift_75 : decode cX0_shift 75 = .ok (.goto (-47), 3) := dk_167 255 209 (dk_at dksX0_shift_3 6 rfl rfl)
theorem dX0_shift_78 : decode cX0_shift 78 = .ok (.aload_n 0, 1) := dk_42 (dk_at dksX0_shift_3 9 rfl rfl)
theorem dX0_shift_79 : decode cX0_shift 79 = .ok (.invokevirtual 139, 3) := dk_182 0 139 (dk_at dksX0_shift_3 10 rfl rfl)
theorem dX0_shift_82 : decode cX0_shift 82 = .ok (.iload_n 1, 1) := dk_27 (dk_at dksX0_shift_3 13 rfl rfl)
theorem dX0_shift_83 : decode cX0_shift 83 = .ok (.istore 5, 2) := dk_54 5 (dk_at dksX0_shift_3 14 rfl rfl)
theorem dX0_shift_85 : decode cX0_shift 85 = .ok (.iload 5, 2) := dk_21 5 (dk_at dksX0_shift_3 16 rfl rfl)
theorem dX0_shift_87 : decode cX0_shift 87 = .ok (.iload_n 2, 1) := dk_28 (dk_at dksX0_shift_3 18 rfl rfl)
theorem dX0_shift_88 : decode cX0_shift 88 = .ok (.if_icmp .ge 40, 3) := dk_162 0 40 (dk_at dksX0_shift_3 19 rfl rfl)
theorem dX0_shift_91 : decode cX0_shift 91 = .ok (.aload_n 0, 1) := dk_42 (dk_at dksX0_shift_3 22 rfl rfl)
theorem dX0_shift_92 : decode cX0_shift 92 = .ok (.iload 5, 2) := dk_21 5 (dk_at dksX0_shift_4 0 rfl rfl)
theorem dX0_shift_94 : decode cX0_shift 94 = .ok (.invokevirtual 149, 3) := dk_182 0 149 (dk_at dksX0_shift_4 2 rfl rfl)
theorem dX0_shift_97 : decode cX0_shift 97 = .ok (.dup, 1) := dk_89 (dk_at dksX0_shift_4 5 rfl rfl)
theorem dX0_shift_98 : decode cX0_shift 98 = .ok (.getfield 153, 3) := dk_180 0 153 (dk_at dksX0_shift_4 6 rfl rfl)
theorem dX0_shift_101 : decode cX0_shift 101 = .ok (.aload_n 0, 1) := dk_42 (dk_at dksX0_shift_4 9 rfl rfl)
theorem dX0_shift_102 : decode cX0_shift 102 = .ok (.iload 5, 2) := dk_21 5 (dk_at dksX0_shift_4 10 rfl rfl)
theorem dX0_shift_104 : decode cX0_shift 104 = .ok (.invokevirtual 149, 3) := dk_182 0 149 (dk_at dksX0_shift_4 12 rfl rfl)
theorem dX0_shift_107 : decode cX0_shift 107 = .ok (.invokevirtual 184, 3) := dk_182 0 184 (dk_at dksX0_shift_4 15 rfl rfl)
theorem dX0_shift_110 : decode cX0_shift 110 = .ok (.ifCond .eq 7, 3) := dk_153 0 7 (dk_at dksX0_shift_4 18 rfl rfl)
theorem dX0_shift_113 : decode cX0_shift 113 = .ok (.iconst 0, 1) := dk_3 (dk_at dksX0_shift_4 21 rfl rfl)
theorem dX0_shift_114 : decode cX0_shift 114 = .ok (.goto 4, 3) := dk_167 0 4 (dk_at dksX0_shift_5 0 rfl rfl)
theorem dX0_shift_117 : decode cX0_shift 117 = .ok (.iload_n 3, 1) := dk_29 (dk_at dksX0_shift_5 3 rfl rfl)
theorem dX0_shift_118 : decode cX0_shift 118 = .ok (.iadd, 1) := dk_96 (dk_at dksX0_shift_5 4 rfl rfl)
theorem dX0_shift_119 : decode cX0_shift 119 = .ok (.putfield 153, 3) := dk_181 0 153 (dk_at dksX0_shift_5 5 rfl rfl)
theorem dX0_shift_122 : decode cX0_shift 122 = .ok (.iinc 5 1, 3) := dk_132 5 1 (dk_at dksX0_shift_5 8 rfl rfl)
theorem dX0_shift_125 : decode cX0_shift 125 = .ok (.goto (-40), 3) := dk_167 255 216 (dk_at dksX0_shift_5 11 rfl rfl)
theorem dX0_shift_128 : decode cX0_shift 128 = .ok (.iload 4, 2) := dk_21 4 (dk_at dksX0_shift_5 14 rfl rfl)
theorem dX0_shift_130 : decode cX0_shift 130 = .ok (.ireturn, 1) := dk_172 (dk_at dksX0_shift_5 16 rfl rfl)
abbrev cX0_isRange : ByteArray := prog_1_method_11_code
def yX0_isRange : MethodName := ⟨RX0, "isRange", "(II)Z"⟩
def dkwX0_isRange_1 : List UInt8 := [167, 0, 4, 3, 172]
abbrev dktX0_isRange_1 : List UInt8 := dkwX0_isRange_1 ++ []
def dkwX0_isRange_0 : List UInt8 := [27, 155, 0, 26, 27, 28, 163, 0, 21, 28, 42, 180, 0, 25, 180, 0, 104, 182, 0, 44, 163, 0, 7, 4]
abbrev dktX0_isRange_0 : List UInt8 := dkwX0_isRange_0 ++ dktX0_isRange_1
theorem dksX0_isRange_0 : cX0_isRange.data.toList.drop 0 = dktX0_isRange_0 := by decide +kernel
theorem dksX0_isRange_1 : cX0_isRange.data.toList.drop 24 = dktX0_isRange_1 := dk_seg dksX0_isRange_0 24 rfl rfl
theorem dX0_isRange_0 : decode cX0_isRange 0 = .ok (.iload_n 1, 1) := dk_27 (dk_at dksX0_isRange_0 0 rfl rfl)
theorem dX0_isRange_1 : decode cX0_isRange 1 = .ok (.ifCond .lt 26, 3) := dk_155 0 26 (dk_at dksX0_isRange_0 1 rfl rfl)
theorem dX0_isRange_4 : decode cX0_isRange 4 = .ok (.iload_n 1, 1) := dk_27 (dk_at dksX0_isRange_0 4 rfl rfl)
theorem dX0_isRange_5 : decode cX0_isRange 5 = .ok (.iload_n 2, 1) := dk_28 (dk_at dksX0_isRange_0 5 rfl rfl)
theorem dX0_isRange_6 : decode cX0_isRange 6 = .ok (.if_icmp .gt 21, 3) := dk_163 0 21 (dk_at dksX0_isRange_0 6 rfl rfl)
theorem dX0_isRange_9 : decode cX0_isRange 9 = .ok (.iload_n 2, 1) := dk_28 (dk_at dksX0_isRange_0 9 rfl rfl)
theorem dX0_isRange_10 : decode cX0_isRange 10 = .ok (.aload_n 0, 1) := dk_42 (dk_at dksX0_isRange_0 10 rfl rfl)
theorem dX0_isRange_11 : decode cX0_isRange 11 = .ok (.getfield 25, 3) := dk_180 0 25 (dk_at dksX0_isRange_0 11 rfl rfl)
theorem dX0_isRange_14 : decode cX0_isRange 14 = .ok (.getfield 104, 3) := dk_180 0 104 (dk_at dksX0_isRange_0 14 rfl rfl)
theorem dX0_isRange_17 : decode cX0_isRange 17 = .ok (.invokevirtual 44, 3) := dk_182 0 44 (dk_at dksX0_isRange_0 17 rfl rfl)
theorem dX0_isRange_20 : decode cX0_isRange 20 = .ok (.if_icmp .gt 7, 3) := dk_163 0 7 (dk_at dksX0_isRange_0 20 rfl rfl)
theorem dX0_isRange_23 : decode cX0_isRange 23 = .ok (.iconst 1, 1) := dk_4 (dk_at dksX0_isRange_0 23 rfl rfl)
theorem dX0_isRange_24 : decode cX0_isRange 24 = .ok (.goto 4, 3) := dk_167 0 4 (dk_at dksX0_isRange_1 0 rfl rfl)
theorem dX0_isRange_27 : decode cX0_isRange 27 = .ok (.iconst 0, 1) := dk_3 (dk_at dksX0_isRange_1 3 rfl rfl)
theorem dX0_isRange_28 : decode cX0_isRange 28 = .ok (.ireturn, 1) := dk_172 (dk_at dksX0_isRange_1 4 rfl rfl)
abbrev cX0_pin : ByteArray := prog_1_method_23_code
def yX0_pin : MethodName := ⟨RX0, "pin", "(I)I"⟩
def dkwX0_pin_2 : List UInt8 := [153, 0, 7, 4, 167, 0, 4, 3, 172]
abbrev dktX0_pin_2 : List UInt8 := dkwX0_pin_2 ++ []
def dkwX0_pin_1 : List UInt8 := [180, 0, 197, 154, 0, 7, 4, 167, 0, 4, 3, 181, 0, 197, 42, 27, 182, 0, 149, 180, 0, 197]
abbrev dktX0_pin_1 : List UInt8 := dkwX0_pin_1 ++ dktX0_pin_2
def dkwX0_pin_0 : List UInt8 := [42, 27, 182, 0, 145, 154, 0, 5, 2, 172, 42, 182, 0, 139, 42, 27, 182, 0, 149, 42, 27, 182, 0, 149]
abbrev dktX0_pin_0 : List UInt8 := dkwX0_pin_0 ++ dktX0_pin_1
theorem dksX0_pin_0 : cX0_pin.data.toList.drop 0 = dktX0_pin_0 := by decide +kernel
theorem dksX0_pin_1 : cX0_pin.data.toList.drop 24 = dktX0_pin_1 := dk_seg dksX0_pin_0 24 rfl rfl
theorem dksX0_pin_2 : cX0_pin.data.toList.drop 46 = dktX0_pin_2 := dk_seg dksX0_pin_1 22 rfl rfl
theorem dX0_pin_0 : decode cX0_pin 0 = .ok (.aload_n 0, 1) := dk_42 (dk_at dksX0_pin_0 0 rfl rfl)
theorem dX0_pin_1 : decode cX0_pin 1 = .ok (.iload_n 1, 1) := dk_27 (dk_at dksX0_pin_0 1 rfl rfl)
theorem dX0_pin_2 : decode cX0_pin 2 = .ok (.invokevirtual 145, 3) := dk_182 0 145 (dk_at dksX0_pin_0 2 rfl rfl)
theorem dX0_pin_5 : decode cX0_pin 5 = .ok (.ifCond .ne 5, 3) := dk_154 0 5 (dk_at dksX0_pin_0 5 rfl rfl)
theorem dX0_pin_8 : decode cX0_pin 8 = .ok (.iconst (-1), 1) := dk_2 (dk_at dksX0_pin_0 8 rfl rfl)
theorem dX0_pin_9 : decode cX0_pin 9 = .ok (.ireturn, 1) := dk_172 (dk_at dksX0_pin_0 9 rfl rfl)
theorem dX0_pin_10 : decode cX0_pin 10 = .ok (.aload_n 0, 1) := dk_42 (dk_at dksX0_pin_0 10 rfl rfl)
theorem dX0_pin_11 : decode cX0_pin 11 = .ok (.invokevirtual 139, 3) := dk_182 0 139 (dk_at dksX0_pin_0 11 rfl rfl)
theorem dX0_pin_14 : decode cX0_pin 14 = .ok (.aload_n 0, 1) := dk_42 (dk_at dksX0_pin_0 14 rfl rfl)
theorem dX0_pin_15 : decode cX0_pin 15 = .ok (.iload_n 1, 1) := dk_27 (dk_at dksX0_pin_0 15 rfl rfl)
theorem dX0_pin_16 : decode cX0_pin 16 = .ok (.invokevirtual 149, 3) := dk_182 0 149 (dk_at dksX0_pin_0 16 rfl rfl)
theorem dX0_pin_19 : decode cX0_pin 19 = .ok (.aload_n 0, 1) := dk_42 (dk_at dksX0_pin_0 19 rfl rfl)
theorem dX0_pin_20 : decode cX0_pin 20 = .ok (.iload_n 1, 1) := dk_27 (dk_at dksX0_pin_0 20 rfl rfl)
theorem dX0_pin_21 : decode cX0_pin 21 = .ok (.invokevirtual 149, 3) := dk_182 0 149 (dk_at dksX0_pin_0 21 rfl rfl)
theorem dX0_pin_24 : decode cX0_pin 24 = .ok (.getfield 197, 3) := dk_180 0 197 (dk_at dksX0_pin_1 0 rfl rfl)
theorem dX0_pin_27 : decode cX0_pin 27 = .ok (.ifCond .ne 7, 3) := dk_154 0 7 (dk_at dksX0_pin_1 3 rfl rfl)
theorem dX0_pin_30 : decode cX0_pin 30 = .ok (.iconst 1, 1) := dk_4 (dk_at dksX0_pin_1 6 rfl rfl)
theorem dX0_pin_31 : decode cX0_pin 31 = .ok (.goto 4, 3) := dk_167 0 4 (dk_at dksX0_pin_1 7 rfl rfl)
theorem dX0_pin_34 : decode cX0_pin 34 = .ok (.iconst 0, 1) := dk_3 (dk_at dksX0_pin_1 10 rfl rfl)
theorem dX0_pin_35 : decode cX0_pin 35 = .ok (.putfield 197, 3) := dk_181 0 197 (dk_at dksX0_pin_1 11 rfl rfl)
theorem dX0_pin_38 : decode cX0_pin 38 = .ok (.aload_n 0, 1) := dk_42 (dk_at dksX0_pin_1 14 rfl rfl)
theorem dX0_pin_39 : decode cX0_pin 39 = .ok (.iload_n 1, 1) := dk_27 (dk_at dksX0_pin_1 15 rfl rfl)
theorem dX0_pin_40 : decode cX0_pin 40 = .ok (.invokevirtual 149, 3) := dk_182 0 149 (dk_at dksX0_pin_1 16 rfl rfl)
theorem dX0_pin_43 : decode cX0_pin 43 = .ok (.getfield 197, 3) := dk_180 0 197 (dk_at dksX0_pin_1 19 rfl rfl)
theorem dX0_pin_46 : decode cX0_pin 46 = .ok (.ifCond .eq 7, 3) := dk_153 0 7 (dk_at dksX0_pin_2 0 rfl rfl)
theorem dX0_pin_49 : decode cX0_pin 49 = .ok (.iconst 1, 1) := dk_4 (dk_at dksX0_pin_2 3 rfl rfl)
theorem dX0_pin_50 : decode cX0_pin 50 = .ok (.goto 4, 3) := dk_167 0 4 (dk_at dksX0_pin_2 4 rfl rfl)
theorem dX0_pin_53 : decode cX0_pin 53 = .ok (.iconst 0, 1) := dk_3 (dk_at dksX0_pin_2 7 rfl rfl)
theorem dX0_pin_54 : decode cX0_pin 54 = .ok (.ireturn, 1) := dk_172 (dk_at dksX0_pin_2 8 rfl rfl)
abbrev cX0_reindent : ByteArray := prog_1_method_24_code
def yX0_reindent : MethodName := ⟨RX0, "reindent", "(II)I"⟩
def dkwX0_reindent_2 : List UInt8 := [21, 5, 46, 181, 0, 153, 132, 5, 1, 167, 255, 231, 42, 1, 181, 0, 60, 21, 4, 184, 0, 208, 172]
abbrev dktX0_reindent_2 : List UInt8 := dkwX0_reindent_2 ++ []
def dkwX0_reindent_1 : List UInt8 := [182, 0, 201, 54, 4, 27, 54, 5, 21, 5, 28, 162, 0, 25, 42, 21, 5, 182, 0, 149, 45, 180, 0, 204]
abbrev dktX0_reindent_1 : List UInt8 := dkwX0_reindent_1 ++ dktX0_reindent_2
def dkwX0_reindent_0 : List UInt8 := [42, 27, 28, 182, 0, 193, 154, 0, 5, 2, 172, 42, 182, 0, 139, 42, 3, 182, 0, 97, 78, 45, 27, 28]
abbrev dktX0_reindent_0 : List UInt8 := dkwX0_reindent_0 ++ dktX0_reindent_1
theorem dksX0_reindent_0 : cX0_reindent.data.toList.drop 0 = dktX0_reindent_0 := by decide +kernel
theorem dksX0_reindent_1 : cX0_reindent.data.toList.drop 24 = dktX0_reindent_1 := dk_seg dksX0_reindent_0 24 rfl rfl
theorem dksX0_reindent_2 : cX0_reindent.data.toList.drop 48 = dktX0_reindent_2 := dk_seg dksX0_reindent_1 24 rfl rfl
theorem dX0_reindent_0 : decode cX0_reindent 0 = .ok (.aload_n 0, 1) := dk_42 (dk_at dksX0_reindent_0 0 rfl rfl)
theorem dX0_reindent_1 : decode cX0_reindent 1 = .ok (.iload_n 1, 1) := dk_27 (dk_at dksX0_reindent_0 1 rfl rfl)
theorem dX0_reindent_2 : decode cX0_reindent 2 = .ok (.iload_n 2, 1) := dk_28 (dk_at dksX0_reindent_0 2 rfl rfl)
theorem dX0_reindent_3 : decode cX0_reindent 3 = .ok (.invokevirtual 193, 3) := dk_182 0 193 (dk_at dksX0_reindent_0 3 rfl rfl)
theorem dX0_reindent_6 : decode cX0_reindent 6 = .ok (.ifCond .ne 5, 3) := dk_154 0 5 (dk_at dksX0_reindent_0 6 rfl rfl)
theorem dX0_reindent_9 : decode cX0_reindent 9 = .ok (.iconst (-1), 1) := dk_2 (dk_at dksX0_reindent_0 9 rfl rfl)
theorem dX0_reindent_10 : decode cX0_reindent 10 = .ok (.ireturn, 1) := dk_172 (dk_at dksX0_reindent_0 10 rfl rfl)
theorem dX0_reindent_11 : decode cX0_reindent 11 = .ok (.aload_n 0, 1) := dk_42 (dk_at dksX0_reindent_0 11 rfl rfl)
theorem dX0_reindent_12 : decode cX0_reindent 12 = .ok (.invokevirtual 139, 3) := dk_182 0 139 (dk_at dksX0_reindent_0 12 rfl rfl)
theorem dX0_reindent_15 : decode cX0_reindent 15 = .ok (.aload_n 0, 1) := dk_42 (dk_at dksX0_reindent_0 15 rfl rfl)
theorem dX0_reindent_16 : decode cX0_reindent 16 = .ok (.iconst 0, 1) := dk_3 (dk_at dksX0_reindent_0 16 rfl rfl)
theorem dX0_reindent_17 : decode cX0_reindent 17 = .ok (.invokevirtual 97, 3) := dk_182 0 97 (dk_at dksX0_reindent_0 17 rfl rfl)
theorem dX0_reindent_20 : decode cX0_reindent 20 = .ok (.astore_n 3, 1) := dk_78 (dk_at dksX0_reindent_0 20 rfl rfl)
theorem dX0_reindent_21 : decode cX0_reindent 21 = .ok (.aload_n 3, 1) := dk_45 (dk_at dksX0_reindent_0 21 rfl rfl)
theorem dX0_reindent_22 : decode cX0_reindent 22 = .ok (.iload_n 1, 1) := dk_27 (dk_at dksX0_reindent_0 22 rfl rfl)
theorem dX0_reindent_23 : decode cX0_reindent 23 = .ok (.iload_n 2, 1) := dk_28 (dk_at dksX0_reindent_0 23 rfl rfl)
theorem dX0_reindent_24 : decode cX0_reindent 24 = .ok (.invokevirtual 201, 3) := dk_182 0 201 (dk_at dksX0_reindent_1 0 rfl rfl)
theorem dX0_reindent_27 : decode cX0_reindent 27 = .ok (.istore 4, 2) := dk_54 4 (dk_at dksX0_reindent_1 3 rfl rfl)
theorem dX0_reindent_29 : decode cX0_reindent 29 = .ok (.iload_n 1, 1) := dk_27 (dk_at dksX0_reindent_1 5 rfl rfl)
theorem dX0_reindent_30 : decode cX0_reindent 30 = .ok (.istore 5, 2) := dk_54 5 (dk_at dksX0_reindent_1 6 rfl rfl)
theorem dX0_reindent_32 : decode cX0_reindent 32 = .ok (.iload 5, 2) := dk_21 5 (dk_at dksX0_reindent_1 8 rfl rfl)
theorem dX0_reindent_34 : decode cX0_reindent 34 = .ok (.iload_n 2, 1) := dk_28 (dk_at dksX0_reindent_1 10 rfl rfl)
theorem dX0_reindent_35 : decode cX0_reindent 35 = .ok (.if_icmp .ge 25, 3) := dk_162 0 25 (dk_at dksX0_reindent_1 11 rfl rfl)
theorem dX0_reindent_38 : decode cX0_reindent 38 = .ok (.aload_n 0, 1) := dk_42 (dk_at dksX0_reindent_1 14 rfl rfl)
theorem dX0_reindent_39 : decode cX0_reindent 39 = .ok (.iload 5, 2) := dk_21 5 (dk_at dksX0_reindent_1 15 rfl rfl)
theorem dX0_reindent_41 : decode cX0_reindent 41 = .ok (.invokevirtual 149, 3) := dk_182 0 149 (dk_at dksX0_reindent_1 17 rfl rfl)
theorem dX0_reindent_44 : decode cX0_reindent 44 = .ok (.aload_n 3, 1) := dk_45 (dk_at dksX0_reindent_1 20 rfl rfl)
theorem dX0_reindent_45 : decode cX0_reindent 45 = .ok (.getfield 204, 3) := dk_180 0 204 (dk_at dksX0_reindent_1 21 rfl rfl)
theorem dX0_reindent_48 : decode cX0_reindent 48 = .ok (.iload 5, 2) := dk_21 5 (dk_at dksX0_reindent_2 0 rfl rfl)
theorem dX0_reindent_50 : decode cX0_reindent 50 = .ok (.iaload, 1) := dk_46 (dk_at dksX0_reindent_2 2 rfl rfl)
theorem dX0_reindent_51 : decode cX0_reindent 51 = .ok (.putfield 153, 3) := dk_181 0 153 (dk_at dksX0_reindent_2 3 rfl rfl)
theorem dX0_reindent_54 : decode cX0_reindent 54 = .ok (.iinc 5 1, 3) := dk_132 5 1 (dk_at dksX0_reindent_2 6 rfl rfl)
theorem dX0_reindent_57 : decode cX0_reindent 57 = .ok (.goto (-25), 3) := dk_167 255 231 (dk_at dksX0_reindent_2 9 rfl rfl)
theorem dX0_reindent_60 : decode cX0_reindent 60 = .ok (.aload_n 0, 1) := dk_42 (dk_at dksX0_reindent_2 12 rfl rfl)
theorem dX0_reindent_61 : decode cX0_reindent 61 = .ok (.aconst_null, 1) := dk_1 (dk_at dksX0_reindent_2 13 rfl rfl)
theorem dX0_reindent_62 : decode cX0_reindent 62 = .ok (.putfield 60, 3) := dk_181 0 60 (dk_at dksX0_reindent_2 14 rfl rfl)
theorem dX0_reindent_65 : decode cX0_reindent 65 = .ok (.iload 4, 2) := dk_21 4 (dk_at dksX0_reindent_2 17 rfl rfl)
theorem dX0_reindent_67 : decode cX0_reindent 67 = .ok (.invokestatic 208, 3) := dk_184 0 208 (dk_at dksX0_reindent_2 19 rfl rfl)
theorem dX0_reindent_70 : decode cX0_reindent 70 = .ok (.ireturn, 1) := dk_172 (dk_at dksX0_reindent_2 22 rfl rfl)
abbrev cX0_lines : ByteArray := prog_1_method_25_code
def yX0_lines : MethodName := ⟨RX0, "lines", "()I"⟩
def dkwX0_lines_0 : List UInt8 := [42, 180, 0, 25, 180, 0, 104, 182, 0, 44, 172]
abbrev dktX0_lines_0 : List UInt8 := dkwX0_lines_0 ++ []
theorem dksX0_lines_0 : cX0_lines.data.toList.drop 0 = dktX0_lines_0 := by decide +kernel
theorem dX0_lines_0 : decode cX0_lines 0 = .ok (.aload_n 0, 1) := dk_42 (dk_at dksX0_lines_0 0 rfl rfl)
theorem dX0_lines_1 : decode cX0_lines 1 = .ok (.getfield 25, 3) := dk_180 0 25 (dk_at dksX0_lines_0 1 rfl rfl)
theorem dX0_lines_4 : decode cX0_lines 4 = .ok (.getfield 104, 3) := dk_180 0 104 (dk_at dksX0_lines_0 4 rfl rfl)
theorem dX0_lines_7 : decode cX0_lines 7 = .ok (.invokevirtual 44, 3) := dk_182 0 44 (dk_at dksX0_lines_0 7 rfl rfl)
theorem dX0_lines_10 : decode cX0_lines 10 = .ok (.ireturn, 1) := dk_172 (dk_at dksX0_lines_0 10 rfl rfl)
abbrev cX0_indentation : ByteArray := prog_1_method_26_code
def yX0_indentation : MethodName := ⟨RX0, "indentation", "(I)I"⟩
def dkwX0_indentation_0 : List UInt8 := [42, 27, 182, 0, 145, 153, 0, 14, 42, 27, 182, 0, 149, 180, 0, 153, 167, 0, 4, 2, 172]
abbrev dktX0_indentation_0 : List UInt8 := dkwX0_indentation_0 ++ []
theorem dksX0_indentation_0 : cX0_indentation.data.toList.drop 0 = dktX0_indentation_0 := by decide +kernel
theorem dX0_indentation_0 : decode cX0_indentation 0 = .ok (.aload_n 0, 1) := dk_42 (dk_at dksX0_indentation_0 0 rfl rfl)
theorem dX0_indentation_1 : decode cX0_indentation 1 = .ok (.iload_n 1, 1) := dk_27 (dk_at dksX0_indentation_0 1 rfl rfl)
theorem dX0_indentation_2 : decode cX0_indentation 2 = .ok (.invokevirtual 145, 3) := dk_182 0 145 (dk_at dksX0_indentation_0 2 rfl rfl)
theorem dX0_indentation_5 : decode cX0_indentation 5 = .ok (.ifCond .eq 14, 3) := dk_153 0 14 (dk_at dksX0_indentation_0 5 rfl rfl)
theorem dX0_indentation_8 : decode cX0_indentation 8 = .ok (.aload_n 0, 1) := dk_42 (dk_at dksX0_indentation_0 8 rfl rfl)
theorem dX0_indentation_9 : decode cX0_indentation 9 = .ok (.iload_n 1, 1) := dk_27 (dk_at dksX0_indentation_0 9 rfl rfl)
theorem dX0_indentation_10 : decode cX0_indentation 10 = .ok (.invokevirtual 149, 3) := dk_182 0 149 (dk_at dksX0_indentation_0 10 rfl rfl)
theorem dX0_indentation_13 : decode cX0_indentation 13 = .ok (.getfield 153, 3) := dk_180 0 153 (dk_at dksX0_indentation_0 13 rfl rfl)
theorem dX0_indentation_16 : decode cX0_indentation 16 = .ok (.goto 4, 3) := dk_167 0 4 (dk_at dksX0_indentation_0 16 rfl rfl)
theorem dX0_indentation_19 : decode cX0_indentation 19 = .ok (.iconst (-1), 1) := dk_2 (dk_at dksX0_indentation_0 19 rfl rfl)
theorem dX0_indentation_20 : decode cX0_indentation 20 = .ok (.ireturn, 1) := dk_172 (dk_at dksX0_indentation_0 20 rfl rfl)
abbrev cX0_length : ByteArray := prog_1_method_27_code
def yX0_length : MethodName := ⟨RX0, "length", "(I)I"⟩
def dkwX0_length_0 : List UInt8 := [42, 27, 182, 0, 145, 153, 0, 17, 42, 27, 182, 0, 149, 180, 0, 156, 182, 0, 160, 167, 0, 4, 2, 172]
abbrev dktX0_length_0 : List UInt8 := dkwX0_length_0 ++ []
theorem dksX0_length_0 : cX0_length.data.toList.drop 0 = dktX0_length_0 := by decide +kernel
theorem dX0_length_0 : decode cX0_length 0 = .ok (.aload_n 0, 1) := dk_42 (dk_at dksX0_length_0 0 rfl rfl)
theorem dX0_length_1 : decode cX0_length 1 = .ok (.iload_n 1, 1) := dk_27 (dk_at dksX0_length_0 1 rfl rfl)
theorem dX0_length_2 : decode cX0_length 2 = .ok (.invokevirtual 145, 3) := dk_182 0 145 (dk_at dksX0_length_0 2 rfl rfl)
theorem dX0_length_5 : decode cX0_length 5 = .ok (.ifCond .eq 17, 3) := dk_153 0 17 (dk_at dksX0_length_0 5 rfl rfl)
theorem dX0_length_8 : decode cX0_length 8 = .ok (.aload_n 0, 1) := dk_42 (dk_at dksX0_length_0 8 rfl rfl)
theorem dX0_length_9 : decode cX0_length 9 = .ok (.iload_n 1, 1) := dk_27 (dk_at dksX0_length_0 9 rfl rfl)
theorem dX0_length_10 : decode cX0_length 10 = .ok (.invokevirtual 149, 3) := dk_182 0 149 (dk_at dksX0_length_0 10 rfl rfl)
theorem dX0_length_13 : decode cX0_length 13 = .ok (.getfield 156, 3) := dk_180 0 156 (dk_at dksX0_length_0 13 rfl rfl)
theorem dX0_length_16 : decode cX0_length 16 = .ok (.invokevirtual 160, 3) := dk_182 0 160 (dk_at dksX0_length_0 16 rfl rfl)
theorem dX0_length_19 : decode cX0_length 19 = .ok (.goto 4, 3) := dk_167 0 4 (dk_at dksX0_length_0 19 rfl rfl)
theorem dX0_length_22 : decode cX0_length 22 = .ok (.iconst (-1), 1) := dk_2 (dk_at dksX0_length_0 22 rfl rfl)
theorem dX0_length_23 : decode cX0_length 23 = .ok (.ireturn, 1) := dk_172 (dk_at dksX0_length_0 23 rfl rfl)
abbrev cX0_byteAt : ByteArray := prog_1_method_28_code
def yX0_byteAt : MethodName := ⟨RX0, "byteAt", "(II)I"⟩
def dkwX0_byteAt_1 : List UInt8 := [182, 0, 160, 162, 0, 18, 42, 27, 182, 0, 149, 180, 0, 156, 28, 182, 0, 164, 167, 0, 5, 16, 247, 172]
abbrev dktX0_byteAt_1 : List UInt8 := dkwX0_byteAt_1 ++ []
def dkwX0_byteAt_0 : List UInt8 := [42, 27, 182, 0, 145, 153, 0, 7, 28, 156, 0, 5, 2, 172, 28, 42, 27, 182, 0, 149, 180, 0, 156]
abbrev dktX0_byteAt_0 : List UInt8 := dkwX0_byteAt_0 ++ dktX0_byteAt_1
theorem dksX0_byteAt_0 : cX0_byteAt.data.toList.drop 0 = dktX0_byteAt_0 := by decide +kernel
theorem dksX0_byteAt_1 : cX0_byteAt.data.toList.drop 23 = dktX0_byteAt_1 := dk_seg dksX0_byteAt_0 23 rfl rfl
theorem dX0_byteAt_0 : decode cX0_byteAt 0 = .ok (.aload_n 0, 1) := dk_42 (dk_at dksX0_byteAt_0 0 rfl rfl)
theorem dX0_byteAt_1 : decode cX0_byteAt 1 = .ok (.iload_n 1, 1) := dk_27 (dk_at dksX0_byteAt_0 1 rfl rfl)
theorem dX0_byteAt_2 : decode cX0_byteAt 2 = .ok (.invokevirtual 145, 3) := dk_182 0 145 (dk_at dksX0_byteAt_0 2 rfl rfl)
theorem dX0_byteAt_5 : decode cX0_byteAt 5 = .ok (.ifCond .eq 7, 3) := dk_153 0 7 (dk_at dksX0_byteAt_0 5 rfl rfl)
theorem dX0_byteAt_8 : decode cX0_byteAt 8 = .ok (.iload_n 2, 1) := dk_28 (dk_at dksX0_byteAt_0 8 rfl rfl)
theorem dX0_byteAt_9 : decode cX0_byteAt 9 = .ok (.ifCond .ge 5, 3) := dk_156 0 5 (dk_at dksX0_byteAt_0 9 rfl rfl)
theorem dX0_byteAt_12 : decode cX0_byteAt 12 = .ok (.iconst (-1), 1) := dk_2 (dk_at dksX0_byteAt_0 12 rfl rfl)
theorem dX0_byteAt_13 : decode cX0_byteAt 13 = .ok (.ireturn, 1) := dk_172 (dk_at dksX0_byteAt_0 13 rfl rfl)
theorem dX0_byteAt_14 : decode cX0_byteAt 14 = .ok (.iload_n 2, 1) := dk_28 (dk_at dksX0_byteAt_0 14 rfl rfl)
theorem dX0_byteAt_15 : decode cX0_byteAt 15 = .ok (.aload_n 0, 1) := dk_42 (dk_at dksX0_byteAt_0 15 rfl rfl)
theorem dX0_byteAt_16 : decode cX0_byteAt 16 = .ok (.iload_n 1, 1) := dk_27 (dk_at dksX0_byteAt_0 16 rfl rfl)
theorem dX0_byteAt_17 : decode cX0_byteAt 17 = .ok (.invokevirtual 149, 3) := dk_182 0 149 (dk_at dksX0_byteAt_0 17 rfl rfl)
theorem dX0_byteAt_20 : decode cX0_byteAt 20 = .ok (.getfield 156, 3) := dk_180 0 156 (dk_at dksX0_byteAt_0 20 rfl rfl)
theorem dX0_byteAt_23 : decode cX0_byteAt 23 = .ok (.invokevirtual 160, 3) := dk_182 0 160 (dk_at dksX0_byteAt_1 0 rfl rfl)
theorem dX0_byteAt_26 : decode cX0_byteAt 26 = .ok (.if_icmp .ge 18, 3) := dk_162 0 18 (dk_at dksX0_byteAt_1 3 rfl rfl)
theorem dX0_byteAt_29 : decode cX0_byteAt 29 = .ok (.aload_n 0, 1) := dk_42 (dk_at dksX0_byteAt_1 6 rfl rfl)
theorem dX0_byteAt_30 : decode cX0_byteAt 30 = .ok (.iload_n 1, 1) := dk_27 (dk_at dksX0_byteAt_1 7 rfl rfl)
theorem dX0_byteAt_31 : decode cX0_byteAt 31 = .ok (.invokevirtual 149, 3) := dk_182 0 149 (dk_at dksX0_byteAt_1 8 rfl rfl)
theorem dX0_byteAt_34 : decode cX0_byteAt 34 = .ok (.getfield 156, 3) := dk_180 0 156 (dk_at dksX0_byteAt_1 11 rfl rfl)
theorem dX0_byteAt_37 : decode cX0_byteAt 37 = .ok (.iload_n 2, 1) := dk_28 (dk_at dksX0_byteAt_1 14 rfl rfl)
theorem dX0_byteAt_38 : decode cX0_byteAt 38 = .ok (.invokevirtual 164, 3) := dk_182 0 164 (dk_at dksX0_byteAt_1 15 rfl rfl)
theorem dX0_byteAt_41 : decode cX0_byteAt 41 = .ok (.goto 5, 3) := dk_167 0 5 (dk_at dksX0_byteAt_1 18 rfl rfl)
theorem dX0_byteAt_44 : decode cX0_byteAt 44 = .ok (.bipush (-9), 2) := dk_16 247 (dk_at dksX0_byteAt_1 21 rfl rfl)
theorem dX0_byteAt_46 : decode cX0_byteAt 46 = .ok (.ireturn, 1) := dk_172 (dk_at dksX0_byteAt_1 23 rfl rfl)
abbrev cX0_isProtected : ByteArray := prog_1_method_29_code
def yX0_isProtected : MethodName := ⟨RX0, "isProtected", "(I)I"⟩
def dkwX0_isProtected_1 : List UInt8 := [167, 0, 4, 3, 172]
abbrev dktX0_isProtected_1 : List UInt8 := dkwX0_isProtected_1 ++ []
def dkwX0_isProtected_0 : List UInt8 := [42, 27, 182, 0, 145, 154, 0, 5, 2, 172, 42, 182, 0, 214, 180, 0, 218, 27, 51, 153, 0, 7, 4]
abbrev dktX0_isProtected_0 : List UInt8 := dkwX0_isProtected_0 ++ dktX0_isProtected_1
theorem dksX0_isProtected_0 : cX0_isProtected.data.toList.drop 0 = dktX0_isProtected_0 := by decide +kernel
theorem dksX0_isProtected_1 : cX0_isProtected.data.toList.drop 23 = dktX0_isProtected_1 := dk_seg dksX0_isProtected_0 23 rfl rfl
theorem dX0_isProtected_0 : decode cX0_isProtected 0 = .ok (.aload_n 0, 1) := dk_42 (dk_at dksX0_isProtected_0 0 rfl rfl)
theorem dX0_isProtected_1 : decode cX0_isProtected 1 = .ok (.iload_n 1, 1) := dk_27 (dk_at dksX0_isProtected_0 1 rfl rfl)
theorem dX0_isProtected_2 : decode cX0_isProtected 2 = .ok (.invokevirtual 145, 3) := dk_182 0 145 (dk_at dksX0_isProtected_0 2 rfl rfl)
theorem dX0_isProtected_5 : decode cX0_isProtected 5 = .ok (.ifCond .ne 5, 3) := dk_154 0 5 (dk_at dksX0_isProtected_0 5 rfl rfl)
theorem dX0_isProtected_8 : decode cX0_isProtected 8 = .ok (.iconst (-1), 1) := dk_2 (dk_at dksX0_isProtected_0 8 rfl rfl)
theorem dX0_isProtected_9 : decode cX0_isProtected 9 = .ok (.ireturn, 1) := dk_172 (dk_at dksX0_isProtected_0 9 rfl rfl)
theorem dX0_isProtected_10 : decode cX0_isProtected 10 = .ok (.aload_n 0, 1) := dk_42 (dk_at dksX0_isProtected_0 10 rfl rfl)
theorem dX0_isProtected_11 : decode cX0_isProtected 11 = .ok (.invokevirtual 214, 3) := dk_182 0 214 (dk_at dksX0_isProtected_0 11 rfl rfl)
theorem dX0_isProtected_14 : decode cX0_isProtected 14 = .ok (.getfield 218, 3) := dk_180 0 218 (dk_at dksX0_isProtected_0 14 rfl rfl)
theorem dX0_isProtected_17 : decode cX0_isProtected 17 = .ok (.iload_n 1, 1) := dk_27 (dk_at dksX0_isProtected_0 17 rfl rfl)
theorem dX0_isProtected_18 : decode cX0_isProtected 18 = .ok (.baload, 1) := dk_51 (dk_at dksX0_isProtected_0 18 rfl rfl)
theorem dX0_isProtected_19 : decode cX0_isProtected 19 = .ok (.ifCond .eq 7, 3) := dk_153 0 7 (dk_at dksX0_isProtected_0 19 rfl rfl)
theorem dX0_isProtected_22 : decode cX0_isProtected 22 = .ok (.iconst 1, 1) := dk_4 (dk_at dksX0_isProtected_0 22 rfl rfl)
theorem dX0_isProtected_23 : decode cX0_isProtected 23 = .ok (.goto 4, 3) := dk_167 0 4 (dk_at dksX0_isProtected_1 0 rfl rfl)
theorem dX0_isProtected_26 : decode cX0_isProtected 26 = .ok (.iconst 0, 1) := dk_3 (dk_at dksX0_isProtected_1 3 rfl rfl)
theorem dX0_isProtected_27 : decode cX0_isProtected 27 = .ok (.ireturn, 1) := dk_172 (dk_at dksX0_isProtected_1 4 rfl rfl)
abbrev cX0_divided : ByteArray := prog_1_method_8_code
def yX0_divided : MethodName := ⟨RX0, "divided", "()LAutoIndenter$Tokens;"⟩
def dkwX0_divided_0 : List UInt8 := [42, 3, 182, 0, 97, 180, 0, 100, 176]
abbrev dktX0_divided_0 : List UInt8 := dkwX0_divided_0 ++ []
theorem dksX0_divided_0 : cX0_divided.data.toList.drop 0 = dktX0_divided_0 := by decide +kernel
theorem dX0_divided_0 : decode cX0_divided 0 = .ok (.aload_n 0, 1) := dk_42 (dk_at dksX0_divided_0 0 rfl rfl)
theorem dX0_divided_1 : decode cX0_divided 1 = .ok (.iconst 0, 1) := dk_3 (dk_at dksX0_divided_0 1 rfl rfl)
theorem dX0_divided_2 : decode cX0_divided 2 = .ok (.invokevirtual 97, 3) := dk_182 0 97 (dk_at dksX0_divided_0 2 rfl rfl)
theorem dX0_divided_5 : decode cX0_divided 5 = .ok (.getfield 100, 3) := dk_180 0 100 (dk_at dksX0_divided_0 5 rfl rfl)
theorem dX0_divided_8 : decode cX0_divided 8 = .ok (.areturn, 1) := dk_176 (dk_at dksX0_divided_0 8 rfl rfl)
abbrev cX0_isPinned : ByteArray := prog_1_method_30_code
def yX0_isPinned : MethodName := ⟨RX0, "isPinned", "(I)I"⟩
def dkwX0_isPinned_1 : List UInt8 := [167, 0, 4, 3, 172]
abbrev dktX0_isPinned_1 : List UInt8 := dkwX0_isPinned_1 ++ []
def dkwX0_isPinned_0 : List UInt8 := [42, 27, 182, 0, 145, 154, 0, 5, 2, 172, 42, 27, 182, 0, 149, 180, 0, 197, 153, 0, 7, 4]
abbrev dktX0_isPinned_0 : List UInt8 := dkwX0_isPinned_0 ++ dktX0_isPinned_1
theorem dksX0_isPinned_0 : cX0_isPinned.data.toList.drop 0 = dktX0_isPinned_0 := by decide +kernel
theorem dksX0_isPinned_1 : cX0_isPinned.data.toList.drop 22 = dktX0_isPinned_1 := dk_seg dksX0_isPinned_0 22 rfl rfl
theorem dX0_isPinned_0 : decode cX0_isPinned 0 = .ok (.aload_n 0, 1) := dk_42 (dk_at dksX0_isPinned_0 0 rfl rfl)
theorem dX0_isPinned_1 : decode cX0_isPinned 1 = .ok (.iload_n 1, 1) := dk_27 (dk_at dksX0_isPinned_0 1 rfl rfl)
theorem dX0_isPinned_2 : decode cX0_isPinned 2 = .ok (.invokevirtual 145, 3) := dk_182 0 145 (dk_at dksX0_isPinned_0 2 rfl rfl)
theorem dX0_isPinned_5 : decode cX0_isPinned 5 = .ok (.ifCond .ne 5, 3) := dk_154 0 5 (dk_at dksX0_isPinned_0 5 rfl rfl)
theorem dX0_isPinned_8 : decode cX0_isPinned 8 = .ok (.iconst (-1), 1) := dk_2 (dk_at dksX0_isPinned_0 8 rfl rfl)
theorem dX0_isPinned_9 : decode cX0_isPinned 9 = .ok (.ireturn, 1) := dk_172 (dk_at dksX0_isPinned_0 9 rfl rfl)
theorem dX0_isPinned_10 : decode cX0_isPinned 10 = .ok (.aload_n 0, 1) := dk_42 (dk_at dksX0_isPinned_0 10 rfl rfl)
theorem dX0_isPinned_11 : decode cX0_isPinned 11 = .ok (.iload_n 1, 1) := dk_27 (dk_at dksX0_isPinned_0 11 rfl rfl)
theorem dX0_isPinned_12 : decode cX0_isPinned 12 = .ok (.invokevirtual 149, 3) := dk_182 0 149 (dk_at dksX0_isPinned_0 12 rfl rfl)
theorem dX0_isPinned_15 : decode cX0_isPinned 15 = .ok (.getfield 197, 3) := dk_180 0 197 (dk_at dksX0_isPinned_0 15 rfl rfl)
theorem dX0_isPinned_18 : decode cX0_isPinned 18 = .ok (.ifCond .eq 7, 3) := dk_153 0 7 (dk_at dksX0_isPinned_0 18 rfl rfl)
theorem dX0_isPinned_21 : decode cX0_isPinned 21 = .ok (.iconst 1, 1) := dk_4 (dk_at dksX0_isPinned_0 21 rfl rfl)
theorem dX0_isPinned_22 : decode cX0_isPinned 22 = .ok (.goto 4, 3) := dk_167 0 4 (dk_at dksX0_isPinned_1 0 rfl rfl)
theorem dX0_isPinned_25 : decode cX0_isPinned 25 = .ok (.iconst 0, 1) := dk_3 (dk_at dksX0_isPinned_1 3 rfl rfl)
theorem dX0_isPinned_26 : decode cX0_isPinned 26 = .ok (.ireturn, 1) := dk_172 (dk_at dksX0_isPinned_1 4 rfl rfl)
abbrev cX0_setStep : ByteArray := prog_1_method_31_code
def yX0_setStep : MethodName := ⟨RX0, "setStep", "(I)I"⟩
def dkwX0_setStep_1 : List UInt8 := [42, 180, 0, 25, 27, 181, 0, 68, 28, 172]
abbrev dktX0_setStep_1 : List UInt8 := dkwX0_setStep_1 ++ []
def dkwX0_setStep_0 : List UInt8 := [27, 4, 16, 8, 184, 0, 1, 154, 0, 5, 2, 172, 42, 182, 0, 139, 42, 180, 0, 25, 180, 0, 68, 61]
abbrev dktX0_setStep_0 : List UInt8 := dkwX0_setStep_0 ++ dktX0_setStep_1
theorem dksX0_setStep_0 : cX0_setStep.data.toList.drop 0 = dktX0_setStep_0 := by decide +kernel
theorem dksX0_setStep_1 : cX0_setStep.data.toList.drop 24 = dktX0_setStep_1 := dk_seg dksX0_setStep_0 24 rfl rfl
theorem dX0_setStep_0 : decode cX0_setStep 0 = .ok (.iload_n 1, 1) := dk_27 (dk_at dksX0_setStep_0 0 rfl rfl)
theorem dX0_setStep_1 : decode cX0_setStep 1 = .ok (.iconst 1, 1) := dk_4 (dk_at dksX0_setStep_0 1 rfl rfl)
theorem dX0_setStep_2 : decode cX0_setStep 2 = .ok (.bipush 8, 2) := dk_16 8 (dk_at dksX0_setStep_0 2 rfl rfl)
theorem dX0_setStep_4 : decode cX0_setStep 4 = .ok (.invokestatic 1, 3) := dk_184 0 1 (dk_at dksX0_setStep_0 4 rfl rfl)
theorem dX0_setStep_7 : decode cX0_setStep 7 = .ok (.ifCond .ne 5, 3) := dk_154 0 5 (dk_at dksX0_setStep_0 7 rfl rfl)
theorem dX0_setStep_10 : decode cX0_setStep 10 = .ok (.iconst (-1), 1) := dk_2 (dk_at dksX0_setStep_0 10 rfl rfl)
theorem dX0_setStep_11 : decode cX0_setStep 11 = .ok (.ireturn, 1) := dk_172 (dk_at dksX0_setStep_0 11 rfl rfl)
theorem dX0_setStep_12 : decode cX0_setStep 12 = .ok (.aload_n 0, 1) := dk_42 (dk_at dksX0_setStep_0 12 rfl rfl)
theorem dX0_setStep_13 : decode cX0_setStep 13 = .ok (.invokevirtual 139, 3) := dk_182 0 139 (dk_at dksX0_setStep_0 13 rfl rfl)
theorem dX0_setStep_16 : decode cX0_setStep 16 = .ok (.aload_n 0, 1) := dk_42 (dk_at dksX0_setStep_0 16 rfl rfl)
theorem dX0_setStep_17 : decode cX0_setStep 17 = .ok (.getfield 25, 3) := dk_180 0 25 (dk_at dksX0_setStep_0 17 rfl rfl)
theorem dX0_setStep_20 : decode cX0_setStep 20 = .ok (.getfield 68, 3) := dk_180 0 68 (dk_at dksX0_setStep_0 20 rfl rfl)
theorem dX0_setStep_23 : decode cX0_setStep 23 = .ok (.istore_n 2, 1) := dk_61 (dk_at dksX0_setStep_0 23 rfl rfl)
theorem dX0_setStep_24 : decode cX0_setStep 24 = .ok (.aload_n 0, 1) := dk_42 (dk_at dksX0_setStep_1 0 rfl rfl)
theorem dX0_setStep_25 : decode cX0_setStep 25 = .ok (.getfield 25, 3) := dk_180 0 25 (dk_at dksX0_setStep_1 1 rfl rfl)
theorem dX0_setStep_28 : decode cX0_setStep 28 = .ok (.iload_n 1, 1) := dk_27 (dk_at dksX0_setStep_1 4 rfl rfl)
theorem dX0_setStep_29 : decode cX0_setStep 29 = .ok (.putfield 68, 3) := dk_181 0 68 (dk_at dksX0_setStep_1 5 rfl rfl)
theorem dX0_setStep_32 : decode cX0_setStep 32 = .ok (.iload_n 2, 1) := dk_28 (dk_at dksX0_setStep_1 8 rfl rfl)
theorem dX0_setStep_33 : decode cX0_setStep 33 = .ok (.ireturn, 1) := dk_172 (dk_at dksX0_setStep_1 9 rfl rfl)
abbrev cX0_setBase : ByteArray := prog_1_method_32_code
def yX0_setBase : MethodName := ⟨RX0, "setBase", "(I)I"⟩
def dkwX0_setBase_1 : List UInt8 := [42, 180, 0, 25, 27, 181, 0, 72, 28, 172]
abbrev dktX0_setBase_1 : List UInt8 := dkwX0_setBase_1 ++ []
def dkwX0_setBase_0 : List UInt8 := [27, 3, 16, 20, 184, 0, 1, 154, 0, 5, 2, 172, 42, 182, 0, 139, 42, 180, 0, 25, 180, 0, 72, 61]
abbrev dktX0_setBase_0 : List UInt8 := dkwX0_setBase_0 ++ dktX0_setBase_1
theorem dksX0_setBase_0 : cX0_setBase.data.toList.drop 0 = dktX0_setBase_0 := by decide +kernel
theorem dksX0_setBase_1 : cX0_setBase.data.toList.drop 24 = dktX0_setBase_1 := dk_seg dksX0_setBase_0 24 rfl rfl
theorem dX0_setBase_0 : decode cX0_setBase 0 = .ok (.iload_n 1, 1) := dk_27 (dk_at dksX0_setBase_0 0 rfl rfl)
theorem dX0_setBase_1 : decode cX0_setBase 1 = .ok (.iconst 0, 1) := dk_3 (dk_at dksX0_setBase_0 1 rfl rfl)
theorem dX0_setBase_2 : decode cX0_setBase 2 = .ok (.bipush 20, 2) := dk_16 20 (dk_at dksX0_setBase_0 2 rfl rfl)
theorem dX0_setBase_4 : decode cX0_setBase 4 = .ok (.invokestatic 1, 3) := dk_184 0 1 (dk_at dksX0_setBase_0 4 rfl rfl)
theorem dX0_setBase_7 : decode cX0_setBase 7 = .ok (.ifCond .ne 5, 3) := dk_154 0 5 (dk_at dksX0_setBase_0 7 rfl rfl)
theorem dX0_setBase_10 : decode cX0_setBase 10 = .ok (.iconst (-1), 1) := dk_2 (dk_at dksX0_setBase_0 10 rfl rfl)
theorem dX0_setBase_11 : decode cX0_setBase 11 = .ok (.ireturn, 1) := dk_172 (dk_at dksX0_setBase_0 11 rfl rfl)
theorem dX0_setBase_12 : decode cX0_setBase 12 = .ok (.aload_n 0, 1) := dk_42 (dk_at dksX0_setBase_0 12 rfl rfl)
theorem dX0_setBase_13 : decode cX0_setBase 13 = .ok (.invokevirtual 139, 3) := dk_182 0 139 (dk_at dksX0_setBase_0 13 rfl rfl)
theorem dX0_setBase_16 : decode cX0_setBase 16 = .ok (.aload_n 0, 1) := dk_42 (dk_at dksX0_setBase_0 16 rfl rfl)
theorem dX0_setBase_17 : decode cX0_setBase 17 = .ok (.getfield 25, 3) := dk_180 0 25 (dk_at dksX0_setBase_0 17 rfl rfl)
theorem dX0_setBase_20 : decode cX0_setBase 20 = .ok (.getfield 72, 3) := dk_180 0 72 (dk_at dksX0_setBase_0 20 rfl rfl)
theorem dX0_setBase_23 : decode cX0_setBase 23 = .ok (.istore_n 2, 1) := dk_61 (dk_at dksX0_setBase_0 23 rfl rfl)
theorem dX0_setBase_24 : decode cX0_setBase 24 = .ok (.aload_n 0, 1) := dk_42 (dk_at dksX0_setBase_1 0 rfl rfl)
theorem dX0_setBase_25 : decode cX0_setBase 25 = .ok (.getfield 25, 3) := dk_180 0 25 (dk_at dksX0_setBase_1 1 rfl rfl)
theorem dX0_setBase_28 : decode cX0_setBase 28 = .ok (.iload_n 1, 1) := dk_27 (dk_at dksX0_setBase_1 4 rfl rfl)
theorem dX0_setBase_29 : decode cX0_setBase 29 = .ok (.putfield 72, 3) := dk_181 0 72 (dk_at dksX0_setBase_1 5 rfl rfl)
theorem dX0_setBase_32 : decode cX0_setBase 32 = .ok (.iload_n 2, 1) := dk_28 (dk_at dksX0_setBase_1 8 rfl rfl)
theorem dX0_setBase_33 : decode cX0_setBase 33 = .ok (.ireturn, 1) := dk_172 (dk_at dksX0_setBase_1 9 rfl rfl)
abbrev cX0_setComment : ByteArray := prog_1_method_33_code
def yX0_setComment : MethodName := ⟨RX0, "setComment", "(I)I"⟩
def dkwX0_setComment_2 : List UInt8 := [27, 181, 0, 225, 28, 172]
abbrev dktX0_setComment_2 : List UInt8 := dkwX0_setComment_2 ++ []
def dkwX0_setComment_1 : List UInt8 := [184, 0, 222, 153, 0, 5, 2, 172, 42, 182, 0, 139, 42, 180, 0, 25, 180, 0, 225, 61, 42, 180, 0, 25]
abbrev dktX0_setComment_1 : List UInt8 := dkwX0_setComment_1 ++ dktX0_setComment_2
def dkwX0_setComment_0 : List UInt8 := [27, 153, 0, 29, 27, 16, 33, 16, 126, 184, 0, 1, 153, 0, 16, 27, 16, 34, 159, 0, 10, 27]
abbrev dktX0_setComment_0 : List UInt8 := dkwX0_setComment_0 ++ dktX0_setComment_1
theorem dksX0_setComment_0 : cX0_setComment.data.toList.drop 0 = dktX0_setComment_0 := by decide +kernel
theorem dksX0_setComment_1 : cX0_setComment.data.toList.drop 22 = dktX0_setComment_1 := dk_seg dksX0_setComment_0 22 rfl rfl
theorem dksX0_setComment_2 : cX0_setComment.data.toList.drop 46 = dktX0_setComment_2 := dk_seg dksX0_setComment_1 24 rfl rfl
theorem dX0_setComment_0 : decode cX0_setComment 0 = .ok (.iload_n 1, 1) := dk_27 (dk_at dksX0_setComment_0 0 rfl rfl)
theorem dX0_setComment_1 : decode cX0_setComment 1 = .ok (.ifCond .eq 29, 3) := dk_153 0 29 (dk_at dksX0_setComment_0 1 rfl rfl)
theorem dX0_setComment_4 : decode cX0_setComment 4 = .ok (.iload_n 1, 1) := dk_27 (dk_at dksX0_setComment_0 4 rfl rfl)
theorem dX0_setComment_5 : decode cX0_setComment 5 = .ok (.bipush 33, 2) := dk_16 33 (dk_at dksX0_setComment_0 5 rfl rfl)
theorem dX0_setComment_7 : decode cX0_setComment 7 = .ok (.bipush 126, 2) := dk_16 126 (dk_at dksX0_setComment_0 7 rfl rfl)
theorem dX0_setComment_9 : decode cX0_setComment 9 = .ok (.invokestatic 1, 3) := dk_184 0 1 (dk_at dksX0_setComment_0 9 rfl rfl)
theorem dX0_setComment_12 : decode cX0_setComment 12 = .ok (.ifCond .eq 16, 3) := dk_153 0 16 (dk_at dksX0_setComment_0 12 rfl rfl)
theorem dX0_setComment_15 : decode cX0_setComment 15 = .ok (.iload_n 1, 1) := dk_27 (dk_at dksX0_setComment_0 15 rfl rfl)
theorem dX0_setComment_16 : decode cX0_setComment 16 = .ok (.bipush 34, 2) := dk_16 34 (dk_at dksX0_setComment_0 16 rfl rfl)
theorem dX0_setComment_18 : decode cX0_setComment 18 = .ok (.if_icmp .eq 10, 3) := dk_159 0 10 (dk_at dksX0_setComment_0 18 rfl rfl)
theorem dX0_setComment_21 : decode cX0_setComment 21 = .ok (.iload_n 1, 1) := dk_27 (dk_at dksX0_setComment_0 21 rfl rfl)
theorem dX0_setComment_22 : decode cX0_setComment 22 = .ok (.invokestatic 222, 3) := dk_184 0 222 (dk_at dksX0_setComment_1 0 rfl rfl)
theorem dX0_setComment_25 : decode cX0_setComment 25 = .ok (.ifCond .eq 5, 3) := dk_153 0 5 (dk_at dksX0_setComment_1 3 rfl rfl)
theorem dX0_setComment_28 : decode cX0_setComment 28 = .ok (.iconst (-1), 1) := dk_2 (dk_at dksX0_setComment_1 6 rfl rfl)
theorem dX0_setComment_29 : decode cX0_setComment 29 = .ok (.ireturn, 1) := dk_172 (dk_at dksX0_setComment_1 7 rfl rfl)
theorem dX0_setComment_30 : decode cX0_setComment 30 = .ok (.aload_n 0, 1) := dk_42 (dk_at dksX0_setComment_1 8 rfl rfl)
theorem dX0_setComment_31 : decode cX0_setComment 31 = .ok (.invokevirtual 139, 3) := dk_182 0 139 (dk_at dksX0_setComment_1 9 rfl rfl)
theorem dX0_setComment_34 : decode cX0_setComment 34 = .ok (.aload_n 0, 1) := dk_42 (dk_at dksX0_setComment_1 12 rfl rfl)
theorem dX0_setComment_35 : decode cX0_setComment 35 = .ok (.getfield 25, 3) := dk_180 0 25 (dk_at dksX0_setComment_1 13 rfl rfl)
theorem dX0_setComment_38 : decode cX0_setComment 38 = .ok (.getfield 225, 3) := dk_180 0 225 (dk_at dksX0_setComment_1 16 rfl rfl)
theorem dX0_setComment_41 : decode cX0_setComment 41 = .ok (.istore_n 2, 1) := dk_61 (dk_at dksX0_setComment_1 19 rfl rfl)
theorem dX0_setComment_42 : decode cX0_setComment 42 = .ok (.aload_n 0, 1) := dk_42 (dk_at dksX0_setComment_1 20 rfl rfl)
theorem dX0_setComment_43 : decode cX0_setComment 43 = .ok (.getfield 25, 3) := dk_180 0 25 (dk_at dksX0_setComment_1 21 rfl rfl)
theorem dX0_setComment_46 : decode cX0_setComment 46 = .ok (.iload_n 1, 1) := dk_27 (dk_at dksX0_setComment_2 0 rfl rfl)
theorem dX0_setComment_47 : decode cX0_setComment 47 = .ok (.putfield 225, 3) := dk_181 0 225 (dk_at dksX0_setComment_2 1 rfl rfl)
theorem dX0_setComment_50 : decode cX0_setComment 50 = .ok (.iload_n 2, 1) := dk_28 (dk_at dksX0_setComment_2 4 rfl rfl)
theorem dX0_setComment_51 : decode cX0_setComment 51 = .ok (.ireturn, 1) := dk_172 (dk_at dksX0_setComment_2 5 rfl rfl)
abbrev cX0_pair : ByteArray := prog_1_method_39_code
def yX0_pair : MethodName := ⟨RX0, "pair", "(IIIII)I"⟩
def dkwX0_pair_4 : List UInt8 := [21, 4, 21, 5, 25, 6, 25, 7, 183, 0, 252, 182, 0, 255, 172]
abbrev dktX0_pair_4 : List UInt8 := dkwX0_pair_4 ++ []
def dkwX0_pair_3 : List UInt8 := [182, 0, 247, 154, 0, 11, 16, 246, 42, 180, 0, 234, 100, 172, 42, 27, 187, 0, 250, 89, 4, 28, 29]
abbrev dktX0_pair_3 : List UInt8 := dkwX0_pair_3 ++ dktX0_pair_4
def dkwX0_pair_2 : List UInt8 := [58, 6, 25, 6, 199, 0, 7, 1, 167, 0, 7, 42, 182, 0, 244, 58, 7, 25, 7, 198, 0, 10, 42]
abbrev dktX0_pair_2 : List UInt8 := dkwX0_pair_2 ++ dktX0_pair_3
def dkwX0_pair_1 : List UInt8 := [153, 0, 13, 21, 5, 3, 5, 184, 0, 1, 154, 0, 5, 2, 172, 42, 3, 181, 0, 228, 42, 182, 0, 244]
abbrev dktX0_pair_1 : List UInt8 := dkwX0_pair_1 ++ dktX0_pair_2
def dkwX0_pair_0 : List UInt8 := [27, 28, 184, 0, 241, 153, 0, 32, 29, 3, 7, 184, 0, 1, 153, 0, 23, 21, 4, 3, 4, 184, 0, 1]
abbrev dktX0_pair_0 : List UInt8 := dkwX0_pair_0 ++ dktX0_pair_1
theorem dksX0_pair_0 : cX0_pair.data.toList.drop 0 = dktX0_pair_0 := by decide +kernel
theorem dksX0_pair_1 : cX0_pair.data.toList.drop 24 = dktX0_pair_1 := dk_seg dksX0_pair_0 24 rfl rfl
theorem dksX0_pair_2 : cX0_pair.data.toList.drop 48 = dktX0_pair_2 := dk_seg dksX0_pair_1 24 rfl rfl
theorem dksX0_pair_3 : cX0_pair.data.toList.drop 71 = dktX0_pair_3 := dk_seg dksX0_pair_2 23 rfl rfl
theorem dksX0_pair_4 : cX0_pair.data.toList.drop 94 = dktX0_pair_4 := dk_seg dksX0_pair_3 23 rfl rfl
theorem dX0_pair_0 : decode cX0_pair 0 = .ok (.iload_n 1, 1) := dk_27 (dk_at dksX0_pair_0 0 rfl rfl)
theorem dX0_pair_1 : decode cX0_pair 1 = .ok (.iload_n 2, 1) := dk_28 (dk_at dksX0_pair_0 1 rfl rfl)
theorem dX0_pair_2 : decode cX0_pair 2 = .ok (.invokestatic 241, 3) := dk_184 0 241 (dk_at dksX0_pair_0 2 rfl rfl)
theorem dX0_pair_5 : decode cX0_pair 5 = .ok (.ifCond .eq 32, 3) := dk_153 0 32 (dk_at dksX0_pair_0 5 rfl rfl)
theorem dX0_pair_8 : decode cX0_pair 8 = .ok (.iload_n 3, 1) := dk_29 (dk_at dksX0_pair_0 8 rfl rfl)
theorem dX0_pair_9 : decode cX0_pair 9 = .ok (.iconst 0, 1) := dk_3 (dk_at dksX0_pair_0 9 rfl rfl)
theorem dX0_pair_10 : decode cX0_pair 10 = .ok (.iconst 4, 1) := dk_7 (dk_at dksX0_pair_0 10 rfl rfl)
theorem dX0_pair_11 : decode cX0_pair 11 = .ok (.invokestatic 1, 3) := dk_184 0 1 (dk_at dksX0_pair_0 11 rfl rfl)
theorem dX0_pair_14 : decode cX0_pair 14 = .ok (.ifCond .eq 23, 3) := dk_153 0 23 (dk_at dksX0_pair_0 14 rfl rfl)
theorem dX0_pair_17 : decode cX0_pair 17 = .ok (.iload 4, 2) := dk_21 4 (dk_at dksX0_pair_0 17 rfl rfl)
theorem dX0_pair_19 : decode cX0_pair 19 = .ok (.iconst 0, 1) := dk_3 (dk_at dksX0_pair_0 19 rfl rfl)
theorem dX0_pair_20 : decode cX0_pair 20 = .ok (.iconst 1, 1) := dk_4 (dk_at dksX0_pair_0 20 rfl rfl)
theorem dX0_pair_21 : decode cX0_pair 21 = .ok (.invokestatic 1, 3) := dk_184 0 1 (dk_at dksX0_pair_0 21 rfl rfl)
theorem dX0_pair_24 : decode cX0_pair 24 = .ok (.ifCond .eq 13, 3) := dk_153 0 13 (dk_at dksX0_pair_1 0 rfl rfl)
theorem dX0_pair_27 : decode cX0_pair 27 = .ok (.iload 5, 2) := dk_21 5 (dk_at dksX0_pair_1 3 rfl rfl)
theorem dX0_pair_29 : decode cX0_pair 29 = .ok (.iconst 0, 1) := dk_3 (dk_at dksX0_pair_1 5 rfl rfl)
theorem dX0_pair_30 : decode cX0_pair 30 = .ok (.iconst 2, 1) := dk_5 (dk_at dksX0_pair_1 6 rfl rfl)
theorem dX0_pair_31 : decode cX0_pair 31 = .ok (.invokestatic 1, 3) := dk_184 0 1 (dk_at dksX0_pair_1 7 rfl rfl)
theorem dX0_pair_34 : decode cX0_pair 34 = .ok (.ifCond .ne 5, 3) := dk_154 0 5 (dk_at dksX0_pair_1 10 rfl rfl)
theorem dX0_pair_37 : decode cX0_pair 37 = .ok (.iconst (-1), 1) := dk_2 (dk_at dksX0_pair_1 13 rfl rfl)
theorem dX0_pair_38 : decode cX0_pair 38 = .ok (.ireturn, 1) := dk_172 (dk_at dksX0_pair_1 14 rfl rfl)
theorem dX0_pair_39 : decode cX0_pair 39 = .ok (.aload_n 0, 1) := dk_42 (dk_at dksX0_pair_1 15 rfl rfl)
theorem dX0_pair_40 : decode cX0_pair 40 = .ok (.iconst 0, 1) := dk_3 (dk_at dksX0_pair_1 16 rfl rfl)
theorem dX0_pair_41 : decode cX0_pair 41 = .ok (.putfield 228, 3) := dk_181 0 228 (dk_at dksX0_pair_1 17 rfl rfl)
theorem dX0_pair_44 : decode cX0_pair 44 = .ok (.aload_n 0, 1) := dk_42 (dk_at dksX0_pair_1 20 rfl rfl)
theorem dX0_pair_45 : decode cX0_pair 45 = .ok (.invokevirtual 244, 3) := dk_182 0 244 (dk_at dksX0_pair_1 21 rfl rfl)
theorem dX0_pair_48 : decode cX0_pair 48 = .ok (.astore 6, 2) := dk_58 6 (dk_at dksX0_pair_2 0 rfl rfl)
theorem dX0_pair_50 : decode cX0_pair 50 = .ok (.aload 6, 2) := dk_25 6 (dk_at dksX0_pair_2 2 rfl rfl)
theorem dX0_pair_52 : decode cX0_pair 52 = .ok (.ifnonnull 7, 3) := dk_199 0 7 (dk_at dksX0_pair_2 4 rfl rfl)
theorem dX0_pair_55 : decode cX0_pair 55 = .ok (.aconst_null, 1) := dk_1 (dk_at dksX0_pair_2 7 rfl rfl)
theorem dX0_pair_56 : decode cX0_pair 56 = .ok (.goto 7, 3) := dk_167 0 7 (dk_at dksX0_pair_2 8 rfl rfl)
theorem dX0_pair_59 : decode cX0_pair 59 = .ok (.aload_n 0, 1) := dk_42 (dk_at dksX0_pair_2 11 rfl rfl)
theorem dX0_pair_60 : decode cX0_pair 60 = .ok (.invokevirtual 244, 3) := dk_182 0 244 (dk_at dksX0_pair_2 12 rfl rfl)
theorem dX0_pair_63 : decode cX0_pair 63 = .ok (.astore 7, 2) := dk_58 7 (dk_at dksX0_pair_2 15 rfl rfl)
theorem dX0_pair_65 : decode cX0_pair 65 = .ok (.aload 7, 2) := dk_25 7 (dk_at dksX0_pair_2 17 rfl rfl)
theorem dX0_pair_67 : decode cX0_pair 67 = .ok (.ifnull 10, 3) := dk_198 0 10 (dk_at dksX0_pair_2 19 rfl rfl)
theorem dX0_pair_70 : decode cX0_pair 70 = .ok (.aload_n 0, 1) := dk_42 (dk_at dksX0_pair_2 22 rfl rfl)
theorem dX0_pair_71 : decode cX0_pair 71 = .ok (.invokevirtual 247, 3) := dk_182 0 247 (dk_at dksX0_pair_3 0 rfl rfl)
theorem dX0_pair_74 : decode cX0_pair 74 = .ok (.ifCond .ne 11, 3) := dk_154 0 11 (dk_at dksX0_pair_3 3 rfl rfl)
theorem dX0_pair_77 : decode cX0_pair 77 = .ok (.bipush (-10), 2) := dk_16 246 (dk_at dksX0_pair_3 6 rfl rfl)
theorem dX0_pair_79 : decode cX0_pair 79 = .ok (.aload_n 0, 1) := dk_42 (dk_at dksX0_pair_3 8 rfl rfl)
theorem dX0_pair_80 : decode cX0_pair 80 = .ok (.getfield 234, 3) := dk_180 0 234 (dk_at dksX0_pair_3 9 rfl rfl)
theorem dX0_pair_83 : decode cX0_pair 83 = .ok (.isub, 1) := dk_100 (dk_at dksX0_pair_3 12 rfl rfl)
theorem dX0_pair_84 : decode cX0_pair 84 = .ok (.ireturn, 1) := dk_172 (dk_at dksX0_pair_3 13 rfl rfl)
theorem dX0_pair_85 : decode cX0_pair 85 = .ok (.aload_n 0, 1) := dk_42 (dk_at dksX0_pair_3 14 rfl rfl)
theorem dX0_pair_86 : decode cX0_pair 86 = .ok (.iload_n 1, 1) := dk_27 (dk_at dksX0_pair_3 15 rfl rfl)
theorem dX0_pair_87 : decode cX0_pair 87 = .ok (.new 250, 3) := dk_187 0 250 (dk_at dksX0_pair_3 16 rfl rfl)
theorem dX0_pair_90 : decode cX0_pair 90 = .ok (.dup, 1) := dk_89 (dk_at dksX0_pair_3 19 rfl rfl)
theorem dX0_pair_91 : decode cX0_pair 91 = .ok (.iconst 1, 1) := dk_4 (dk_at dksX0_pair_3 20 rfl rfl)
theorem dX0_pair_92 : decode cX0_pair 92 = .ok (.iload_n 2, 1) := dk_28 (dk_at dksX0_pair_3 21 rfl rfl)
theorem dX0_pair_93 : decode cX0_pair 93 = .ok (.iload_n 3, 1) := dk_29 (dk_at dksX0_pair_3 22 rfl rfl)
theorem dX0_pair_94 : decode cX0_pair 94 = .ok (.iload 4, 2) := dk_21 4 (dk_at dksX0_pair_4 0 rfl rfl)
theorem dX0_pair_96 : decode cX0_pair 96 = .ok (.iload 5, 2) := dk_21 5 (dk_at dksX0_pair_4 2 rfl rfl)
theorem dX0_pair_98 : decode cX0_pair 98 = .ok (.aload 6, 2) := dk_25 6 (dk_at dksX0_pair_4 4 rfl rfl)
theorem dX0_pair_100 : decode cX0_pair 100 = .ok (.aload 7, 2) := dk_25 7 (dk_at dksX0_pair_4 6 rfl rfl)
theorem dX0_pair_102 : decode cX0_pair 102 = .ok (.invokespecial 252, 3) := dk_183 0 252 (dk_at dksX0_pair_4 8 rfl rfl)
theorem dX0_pair_105 : decode cX0_pair 105 = .ok (.invokevirtual 255, 3) := dk_182 0 255 (dk_at dksX0_pair_4 11 rfl rfl)
theorem dX0_pair_108 : decode cX0_pair 108 = .ok (.ireturn, 1) := dk_172 (dk_at dksX0_pair_4 14 rfl rfl)
abbrev cX0_isRule : ByteArray := prog_1_method_38_code
def yX0_isRule : MethodName := ⟨RX0, "isRule", "(II)Z"⟩
def dkwX0_isRule_1 : List UInt8 := [3, 172]
abbrev dktX0_isRule_1 : List UInt8 := dkwX0_isRule_1 ++ []
def dkwX0_isRule_0 : List UInt8 := [26, 3, 16, 11, 184, 0, 1, 153, 0, 17, 27, 3, 16, 9, 184, 0, 1, 153, 0, 7, 4, 167, 0, 4]
abbrev dktX0_isRule_0 : List UInt8 := dkwX0_isRule_0 ++ dktX0_isRule_1
theorem dksX0_isRule_0 : cX0_isRule.data.toList.drop 0 = dktX0_isRule_0 := by decide +kernel
theorem dksX0_isRule_1 : cX0_isRule.data.toList.drop 24 = dktX0_isRule_1 := dk_seg dksX0_isRule_0 24 rfl rfl
theorem dX0_isRule_0 : decode cX0_isRule 0 = .ok (.iload_n 0, 1) := dk_26 (dk_at dksX0_isRule_0 0 rfl rfl)
theorem dX0_isRule_1 : decode cX0_isRule 1 = .ok (.iconst 0, 1) := dk_3 (dk_at dksX0_isRule_0 1 rfl rfl)
theorem dX0_isRule_2 : decode cX0_isRule 2 = .ok (.bipush 11, 2) := dk_16 11 (dk_at dksX0_isRule_0 2 rfl rfl)
theorem dX0_isRule_4 : decode cX0_isRule 4 = .ok (.invokestatic 1, 3) := dk_184 0 1 (dk_at dksX0_isRule_0 4 rfl rfl)
theorem dX0_isRule_7 : decode cX0_isRule 7 = .ok (.ifCond .eq 17, 3) := dk_153 0 17 (dk_at dksX0_isRule_0 7 rfl rfl)
theorem dX0_isRule_10 : decode cX0_isRule 10 = .ok (.iload_n 1, 1) := dk_27 (dk_at dksX0_isRule_0 10 rfl rfl)
theorem dX0_isRule_11 : decode cX0_isRule 11 = .ok (.iconst 0, 1) := dk_3 (dk_at dksX0_isRule_0 11 rfl rfl)
theorem dX0_isRule_12 : decode cX0_isRule 12 = .ok (.bipush 9, 2) := dk_16 9 (dk_at dksX0_isRule_0 12 rfl rfl)
theorem dX0_isRule_14 : decode cX0_isRule 14 = .ok (.invokestatic 1, 3) := dk_184 0 1 (dk_at dksX0_isRule_0 14 rfl rfl)
theorem dX0_isRule_17 : decode cX0_isRule 17 = .ok (.ifCond .eq 7, 3) := dk_153 0 7 (dk_at dksX0_isRule_0 17 rfl rfl)
theorem dX0_isRule_20 : decode cX0_isRule 20 = .ok (.iconst 1, 1) := dk_4 (dk_at dksX0_isRule_0 20 rfl rfl)
theorem dX0_isRule_21 : decode cX0_isRule 21 = .ok (.goto 4, 3) := dk_167 0 4 (dk_at dksX0_isRule_0 21 rfl rfl)
theorem dX0_isRule_24 : decode cX0_isRule 24 = .ok (.iconst 0, 1) := dk_3 (dk_at dksX0_isRule_1 0 rfl rfl)
theorem dX0_isRule_25 : decode cX0_isRule 25 = .ok (.ireturn, 1) := dk_172 (dk_at dksX0_isRule_1 1 rfl rfl)
abbrev cX0_readText : ByteArray := prog_1_method_35_code
def yX0_readText : MethodName := ⟨RX0, "readText", "()Ljava/lang/String;"⟩
def dkwX0_readText_8 : List UInt8 := [182, 0, 131, 176]
abbrev dktX0_readText_8 : List UInt8 := dkwX0_readText_8 ++ []
def dkwX0_readText_7 : List UInt8 := [180, 0, 228, 27, 160, 0, 7, 4, 167, 0, 4, 3, 96, 181, 0, 228, 42, 27, 42, 180, 0, 228]
abbrev dktX0_readText_7 : List UInt8 := dkwX0_readText_7 ++ dktX0_readText_8
def dkwX0_readText_6 : List UInt8 := [51, 16, 34, 160, 0, 13, 42, 42, 180, 0, 228, 181, 0, 234, 1, 176, 42, 89, 180, 0, 228, 42]
abbrev dktX0_readText_6 : List UInt8 := dkwX0_readText_6 ++ dktX0_readText_7
def dkwX0_readText_5 : List UInt8 := [42, 180, 0, 228, 27, 159, 0, 25, 42, 180, 0, 228, 27, 160, 0, 27, 42, 180, 0, 40, 42, 180, 0, 228]
abbrev dktX0_readText_5 : List UInt8 := dkwX0_readText_5 ++ dktX0_readText_6
def dkwX0_readText_4 : List UInt8 := [153, 0, 7, 4, 167, 0, 4, 3, 61, 28, 154, 0, 44, 42, 180, 0, 228, 42, 180, 0, 112, 160, 0, 11]
abbrev dktX0_readText_4 : List UInt8 := dkwX0_readText_4 ++ dktX0_readText_5
def dkwX0_readText_3 : List UInt8 := [180, 0, 228, 27, 100, 16, 8, 160, 0, 22, 42, 180, 0, 40, 42, 180, 0, 228, 51, 184, 0, 222]
abbrev dktX0_readText_3 : List UInt8 := dkwX0_readText_3 ++ dktX0_readText_4
def dkwX0_readText_2 : List UInt8 := [180, 0, 228, 4, 96, 181, 0, 228, 167, 255, 209, 42, 180, 0, 228, 42, 180, 0, 112, 162, 0, 33, 42]
abbrev dktX0_readText_2 : List UInt8 := dkwX0_readText_2 ++ dktX0_readText_3
def dkwX0_readText_1 : List UInt8 := [42, 180, 0, 228, 51, 184, 0, 222, 153, 0, 27, 42, 180, 0, 228, 27, 100, 16, 8, 162, 0, 16, 42, 89]
abbrev dktX0_readText_1 : List UInt8 := dkwX0_readText_1 ++ dktX0_readText_2
def dkwX0_readText_0 : List UInt8 := [42, 182, 0, 231, 42, 180, 0, 228, 60, 42, 180, 0, 228, 42, 180, 0, 112, 162, 0, 42, 42, 180, 0, 40]
abbrev dktX0_readText_0 : List UInt8 := dkwX0_readText_0 ++ dktX0_readText_1
theorem dksX0_readText_0 : cX0_readText.data.toList.drop 0 = dktX0_readText_0 := by decide +kernel
theorem dksX0_readText_1 : cX0_readText.data.toList.drop 24 = dktX0_readText_1 := dk_seg dksX0_readText_0 24 rfl rfl
theorem dksX0_readText_2 : cX0_readText.data.toList.drop 48 = dktX0_readText_2 := dk_seg dksX0_readText_1 24 rfl rfl
theorem dksX0_readText_3 : cX0_readText.data.toList.drop 71 = dktX0_readText_3 := dk_seg dksX0_readText_2 23 rfl rfl
theorem dksX0_readText_4 : cX0_readText.data.toList.drop 93 = dktX0_readText_4 := dk_seg dksX0_readText_3 22 rfl rfl
theorem dksX0_readText_5 : cX0_readText.data.toList.drop 117 = dktX0_readText_5 := dk_seg dksX0_readText_4 24 rfl rfl
theorem dksX0_readText_6 : cX0_readText.data.toList.drop 141 = dktX0_readText_6 := dk_seg dksX0_readText_5 24 rfl rfl
theorem dksX0_readText_7 : cX0_readText.data.toList.drop 163 = dktX0_readText_7 := dk_seg dksX0_readText_6 22 rfl rfl
theorem dksX0_readText_8 : cX0_readText.data.toList.drop 185 = dktX0_readText_8 := dk_seg dksX0_readText_7 22 rfl rfl
theorem dX0_readText_0 : decode cX0_readText 0 = .ok (.aload_n 0, 1) := dk_42 (dk_at dksX0_readText_0 0 rfl rfl)
theorem dX0_readText_1 : decode cX0_readText 1 = .ok (.invokevirtual 231, 3) := dk_182 0 231 (dk_at dksX0_readText_0 1 rfl rfl)
theorem dX0_readText_4 : decode cX0_readText 4 = .ok (.aload_n 0, 1) := dk_42 (dk_at dksX0_readText_0 4 rfl rfl)
theorem dX0_readText_5 : decode cX0_readText 5 = .ok (.getfield 228, 3) := dk_180 0 228 (dk_at dksX0_readText_0 5 rfl rfl)
theorem dX0_readText_8 : decode cX0_readText 8 = .ok (.istore_n 1, 1) := dk_60 (dk_at dksX0_readText_0 8 rfl rfl)
theorem dX0_readText_9 : decode cX0_readText 9 = .ok (.aload_n 0, 1) := dk_42 (dk_at dksX0_readText_0 9 rfl rfl)
theorem dX0_readText_10 : decode cX0_readText 10 = .ok (.getfield 228, 3) := dk_180 0 228 (dk_at dksX0_readText_0 10 rfl rfl)
theorem dX0_readText_13 : decode cX0_readText 13 = .ok (.aload_n 0, 1) := dk_42 (dk_at dksX0_readText_0 13 rfl rfl)
theorem dX0_readText_14 : decode cX0_readText 14 = .ok (.getfield 112, 3) := dk_180 0 112 (dk_at dksX0_readText_0 14 rfl rfl)
theorem dX0_readText_17 : decode cX0_readText 17 = .ok (.if_icmp .ge 42, 3) := dk_162 0 42 (dk_at dksX0_readText_0 17 rfl rfl)
theorem dX0_readText_20 : decode cX0_readText 20 = .ok (.aload_n 0, 1) := dk_42 (dk_at dksX0_readText_0 20 rfl rfl)
theorem dX0_readText_21 : decode cX0_readText 21 = .ok (.getfield 40, 3) := dk_180 0 40 (dk_at dksX0_readText_0 21 rfl rfl)
theorem dX0_readText_24 : decode cX0_readText 24 = .ok (.aload_n 0, 1) := dk_42 (dk_at dksX0_readText_1 0 rfl rfl)
theorem dX0_readText_25 : decode cX0_readText 25 = .ok (.getfield 228, 3) := dk_180 0 228 (dk_at dksX0_readText_1 1 rfl rfl)
theorem dX0_readText_28 : decode cX0_readText 28 = .ok (.baload, 1) := dk_51 (dk_at dksX0_readText_1 4 rfl rfl)
theorem dX0_readText_29 : decode cX0_readText 29 = .ok (.invokestatic 222, 3) := dk_184 0 222 (dk_at dksX0_readText_1 5 rfl rfl)
theorem dX0_readText_32 : decode cX0_readText 32 = .ok (.ifCond .eq 27, 3) := dk_153 0 27 (dk_at dksX0_readText_1 8 rfl rfl)
theorem dX0_readText_35 : decode cX0_readText 35 = .ok (.aload_n 0, 1) := dk_42 (dk_at dksX0_readText_1 11 rfl rfl)
theorem dX0_readText_36 : decode cX0_readText 36 = .ok (.getfield 228, 3) := dk_180 0 228 (dk_at dksX0_readText_1 12 rfl rfl)
theorem dX0_readText_39 : decode cX0_readText 39 = .ok (.iload_n 1, 1) := dk_27 (dk_at dksX0_readText_1 15 rfl rfl)
theorem dX0_readText_40 : decode cX0_readText 40 = .ok (.isub, 1) := dk_100 (dk_at dksX0_readText_1 16 rfl rfl)
theorem dX0_readText_41 : decode cX0_readText 41 = .ok (.bipush 8, 2) := dk_16 8 (dk_at dksX0_readText_1 17 rfl rfl)
theorem dX0_readText_43 : decode cX0_readText 43 = .ok (.if_icmp .ge 16, 3) := dk_162 0 16 (dk_at dksX0_readText_1 19 rfl rfl)
theorem dX0_readText_46 : decode cX0_readText 46 = .ok (.aload_n 0, 1) := dk_42 (dk_at dksX0_readText_1 22 rfl rfl)
theorem dX0_readText_47 : decode cX0_readText 47 = .ok (.dup, 1) := dk_89 (dk_at dksX0_readText_1 23 rfl rfl)
theorem dX0_readText_48 : decode cX0_readText 48 = .ok (.getfield 228, 3) := dk_180 0 228 (dk_at dksX0_readText_2 0 rfl rfl)
theorem dX0_readText_51 : decode cX0_readText 51 = .ok (.iconst 1, 1) := dk_4 (dk_at dksX0_readText_2 3 rfl rfl)
theorem dX0_readText_52 : decode cX0_readText 52 = .ok (.iadd, 1) := dk_96 (dk_at dksX0_readText_2 4 rfl rfl)
theorem dX0_readText_53 : decode cX0_readText 53 = .ok (.putfield 228, 3) := dk_181 0 228 (dk_at dksX0_readText_2 5 rfl rfl)
theorem dX0_readText_56 : decode cX0_readText 56 = .ok (.goto (-47), 3) := dk_167 255 209 (dk_at dksX0_readText_2 8 rfl rfl)
theorem dX0_readText_59 : decode cX0_readText 59 = .ok (.aload_n 0, 1) := dk_42 (dk_at dksX0_readText_2 11 rfl rfl)
theorem dX0_readText_60 : decode cX0_readText 60 = .ok (.getfield 228, 3) := dk_180 0 228 (dk_at dksX0_readText_2 12 rfl rfl)
theorem dX0_readText_63 : decode cX0_readText 63 = .ok (.aload_n 0, 1) := dk_42 (dk_at dksX0_readText_2 15 rfl rfl)
theorem dX0_readText_64 : decode cX0_readText 64 = .ok (.getfield 112, 3) := dk_180 0 112 (dk_at dksX0_readText_2 16 rfl rfl)
theorem dX0_readText_67 : decode cX0_readText 67 = .ok (.if_icmp .ge 33, 3) := dk_162 0 33 (dk_at dksX0_readText_2 19 rfl rfl)
theorem dX0_readText_70 : decode cX0_readText 70 = .ok (.aload_n 0, 1) := dk_42 (dk_at dksX0_readText_2 22 rfl rfl)
theorem dX0_readText_71 : decode cX0_readText 71 = .ok (.getfield 228, 3) := dk_180 0 228 (dk_at dksX0_readText_3 0 rfl rfl)
theorem dX0_readText_74 : decode cX0_readText 74 = .ok (.iload_n 1, 1) := dk_27 (dk_at dksX0_readText_3 3 rfl rfl)
theorem dX0_readText_75 : decode cX0_readText 75 = .ok (.isub, 1) := dk_100 (dk_at dksX0_readText_3 4 rfl rfl)
theorem dX0_readText_76 : decode cX0_readText 76 = .ok (.bipush 8, 2) := dk_16 8 (dk_at dksX0_readText_3 5 rfl rfl)
theorem dX0_readText_78 : decode cX0_readText 78 = .ok (.if_icmp .ne 22, 3) := dk_160 0 22 (dk_at dksX0_readText_3 7 rfl rfl)
theorem dX0_readText_81 : decode cX0_readText 81 = .ok (.aload_n 0, 1) := dk_42 (dk_at dksX0_readText_3 10 rfl rfl)
theorem dX0_readText_82 : decode cX0_readText 82 = .ok (.getfield 40, 3) := dk_180 0 40 (dk_at dksX0_readText_3 11 rfl rfl)
theorem dX0_readText_85 : decode cX0_readText 85 = .ok (.aload_n 0, 1) := dk_42 (dk_at dksX0_readText_3 14 rfl rfl)
theorem dX0_readText_86 : decode cX0_readText 86 = .ok (.getfield 228, 3) := dk_180 0 228 (dk_at dksX0_readText_3 15 rfl rfl)
theorem dX0_readText_89 : decode cX0_readText 89 = .ok (.baload, 1) := dk_51 (dk_at dksX0_readText_3 18 rfl rfl)
theorem dX0_readText_90 : decode cX0_readText 90 = .ok (.invokestatic 222, 3) := dk_184 0 222 (dk_at dksX0_readText_3 19 rfl rfl)
theorem dX0_readText_93 : decode cX0_readText 93 = .ok (.ifCond .eq 7, 3) := dk_153 0 7 (dk_at dksX0_readText_4 0 rfl rfl)
theorem dX0_readText_96 : decode cX0_readText 96 = .ok (.iconst 1, 1) := dk_4 (dk_at dksX0_readText_4 3 rfl rfl)
theorem dX0_readText_97 : decode cX0_readText 97 = .ok (.goto 4, 3) := dk_167 0 4 (dk_at dksX0_readText_4 4 rfl rfl)
theorem dX0_readText_100 : decode cX0_readText 100 = .ok (.iconst 0, 1) := dk_3 (dk_at dksX0_readText_4 7 rfl rfl)
theorem dX0_readText_101 : decode cX0_readText 101 = .ok (.istore_n 2, 1) := dk_61 (dk_at dksX0_readText_4 8 rfl rfl)
theorem dX0_readText_102 : decode cX0_readText 102 = .ok (.iload_n 2, 1) := dk_28 (dk_at dksX0_readText_4 9 rfl rfl)
theorem dX0_readText_103 : decode cX0_readText 103 = .ok (.ifCond .ne 44, 3) := dk_154 0 44 (dk_at dksX0_readText_4 10 rfl rfl)
theorem dX0_readText_106 : decode cX0_readText 106 = .ok (.aload_n 0, 1) := dk_42 (dk_at dksX0_readText_4 13 rfl rfl)
theorem dX0_readText_107 : decode cX0_readText 107 = .ok (.getfield 228, 3) := dk_180 0 228 (dk_at dksX0_readText_4 14 rfl rfl)
theorem dX0_readText_110 : decode cX0_readText 110 = .ok (.aload_n 0, 1) := dk_42 (dk_at dksX0_readText_4 17 rfl rfl)
theorem dX0_readText_111 : decode cX0_readText 111 = .ok (.getfield 112, 3) := dk_180 0 112 (dk_at dksX0_readText_4 18 rfl rfl)
theorem dX0_readText_114 : decode cX0_readText 114 = .ok (.if_icmp .ne 11, 3) := dk_160 0 11 (dk_at dksX0_readText_4 21 rfl rfl)
theorem dX0_readText_117 : decode cX0_readText 117 = .ok (.aload_n 0, 1) := dk_42 (dk_at dksX0_readText_5 0 rfl rfl)
theorem dX0_readText_118 : decode cX0_readText 118 = .ok (.getfield 228, 3) := dk_180 0 228 (dk_at dksX0_readText_5 1 rfl rfl)
theorem dX0_readText_121 : decode cX0_readText 121 = .ok (.iload_n 1, 1) := dk_27 (dk_at dksX0_readText_5 4 rfl rfl)
theorem dX0_readText_122 : decode cX0_readText 122 = .ok (.if_icmp .eq 25, 3) := dk_159 0 25 (dk_at dksX0_readText_5 5 rfl rfl)
theorem dX0_readText_125 : decode cX0_readText 125 = .ok (.aload_n 0, 1) := dk_42 (dk_at dksX0_readText_5 8 rfl rfl)
theorem dX0_readText_126 : decode cX0_readText 126 = .ok (.getfield 228, 3) := dk_180 0 228 (dk_at dksX0_readText_5 9 rfl rfl)
theorem dX0_readText_129 : decode cX0_readText 129 = .ok (.iload_n 1, 1) := dk_27 (dk_at dksX0_readText_5 12 rfl rfl)
theorem dX0_readText_130 : decode cX0_readText 130 = .ok (.if_icmp .ne 27, 3) := dk_160 0 27 (dk_at dksX0_readText_5 13 rfl rfl)
theorem dX0_readText_133 : decode cX0_readText 133 = .ok (.aload_n 0, 1) := dk_42 (dk_at dksX0_readText_5 16 rfl rfl)
theorem dX0_readText_134 : decode cX0_readText 134 = .ok (.getfield 40, 3) := dk_180 0 40 (dk_at dksX0_readText_5 17 rfl rfl)
theorem dX0_readText_137 : decode cX0_readText 137 = .ok (.aload_n 0, 1) := dk_42 (dk_at dksX0_readText_5 20 rfl rfl)
theorem dX0_readText_138 : decode cX0_readText 138 = .ok (.getfield 228, 3) := dk_180 0 228 (dk_at dksX0_readText_5 21 rfl rfl)
theorem dX0_readText_141 : decode cX0_readText 141 = .ok (.baload, 1) := dk_51 (dk_at dksX0_readText_6 0 rfl rfl)
theorem dX0_readText_142 : decode cX0_readText 142 = .ok (.bipush 34, 2) := dk_16 34 (dk_at dksX0_readText_6 1 rfl rfl)
theorem dX0_readText_144 : decode cX0_readText 144 = .ok (.if_icmp .ne 13, 3) := dk_160 0 13 (dk_at dksX0_readText_6 3 rfl rfl)
theorem dX0_readText_147 : decode cX0_readText 147 = .ok (.aload_n 0, 1) := dk_42 (dk_at dksX0_readText_6 6 rfl rfl)
theorem dX0_readText_148 : decode cX0_readText 148 = .ok (.aload_n 0, 1) := dk_42 (dk_at dksX0_readText_6 7 rfl rfl)
theorem dX0_readText_149 : decode cX0_readText 149 = .ok (.getfield 228, 3) := dk_180 0 228 (dk_at dksX0_readText_6 8 rfl rfl)
theorem dX0_readText_152 : decode cX0_readText 152 = .ok (.putfield 234, 3) := dk_181 0 234 (dk_at dksX0_readText_6 11 rfl rfl)
theorem dX0_readText_155 : decode cX0_readText 155 = .ok (.aconst_null, 1) := dk_1 (dk_at dksX0_readText_6 14 rfl rfl)
theorem dX0_readText_156 : decode cX0_readText 156 = .ok (.areturn, 1) := dk_176 (dk_at dksX0_readText_6 15 rfl rfl)
theorem dX0_readText_157 : decode cX0_readText 157 = .ok (.aload_n 0, 1) := dk_42 (dk_at dksX0_readText_6 16 rfl rfl)
theorem dX0_readText_158 : decode cX0_readText 158 = .ok (.dup, 1) := dk_89 (dk_at dksX0_readText_6 17 rfl rfl)
theorem dX0_readText_159 : decode cX0_readText 159 = .ok (.getfield 228, 3) := dk_180 0 228 (dk_at dksX0_readText_6 18 rfl rfl)
theorem dX0_readText_162 : decode cX0_readText 162 = .ok (.aload_n 0, 1) := dk_42 (dk_at dksX0_readText_6 21 rfl rfl)
theorem dX0_readText_163 : decode cX0_readText 163 = .ok (.getfield 228, 3) := dk_180 0 228 (dk_at dksX0_readText_7 0 rfl rfl)
theorem dX0_readText_166 : decode cX0_readText 166 = .ok (.iload_n 1, 1) := dk_27 (dk_at dksX0_readText_7 3 rfl rfl)
theorem dX0_readText_167 : decode cX0_readText 167 = .ok (.if_icmp .ne 7, 3) := dk_160 0 7 (dk_at dksX0_readText_7 4 rfl rfl)
theorem dX0_readText_170 : decode cX0_readText 170 = .ok (.iconst 1, 1) := dk_4 (dk_at dksX0_readText_7 7 rfl rfl)
theorem dX0_readText_171 : decode cX0_readText 171 = .ok (.goto 4, 3) := dk_167 0 4 (dk_at dksX0_readText_7 8 rfl rfl)
theorem dX0_readText_174 : decode cX0_readText 174 = .ok (.iconst 0, 1) := dk_3 (dk_at dksX0_readText_7 11 rfl rfl)
theorem dX0_readText_175 : decode cX0_readText 175 = .ok (.iadd, 1) := dk_96 (dk_at dksX0_readText_7 12 rfl rfl)
theorem dX0_readText_176 : decode cX0_readText 176 = .ok (.putfield 228, 3) := dk_181 0 228 (dk_at dksX0_readText_7 13 rfl rfl)
theorem dX0_readText_179 : decode cX0_readText 179 = .ok (.aload_n 0, 1) := dk_42 (dk_at dksX0_readText_7 16 rfl rfl)
theorem dX0_readText_180 : decode cX0_readText 180 = .ok (.iload_n 1, 1) := dk_27 (dk_at dksX0_readText_7 17 rfl rfl)
theorem dX0_readText_181 : decode cX0_readText 181 = .ok (.aload_n 0, 1) := dk_42 (dk_at dksX0_readText_7 18 rfl rfl)
theorem dX0_readText_182 : decode cX0_readText 182 = .ok (.getfield 228, 3) := dk_180 0 228 (dk_at dksX0_readText_7 19 rfl rfl)
theorem dX0_readText_185 : decode cX0_readText 185 = .ok (.invokevirtual 131, 3) := dk_182 0 131 (dk_at dksX0_readText_8 0 rfl rfl)
theorem dX0_readText_188 : decode cX0_readText 188 = .ok (.areturn, 1) := dk_176 (dk_at dksX0_readText_8 3 rfl rfl)
abbrev cX0_skips : ByteArray := prog_1_method_34_code
def yX0_skips : MethodName := ⟨RX0, "skips", "()V"⟩
def dkwX0_skips_1 : List UInt8 := [160, 0, 16, 42, 89, 180, 0, 228, 4, 96, 181, 0, 228, 167, 255, 221, 177]
abbrev dktX0_skips_1 : List UInt8 := dkwX0_skips_1 ++ []
def dkwX0_skips_0 : List UInt8 := [42, 180, 0, 228, 42, 180, 0, 112, 162, 0, 30, 42, 180, 0, 40, 42, 180, 0, 228, 51, 16, 32]
abbrev dktX0_skips_0 : List UInt8 := dkwX0_skips_0 ++ dktX0_skips_1
theorem dksX0_skips_0 : cX0_skips.data.toList.drop 0 = dktX0_skips_0 := by decide +kernel
theorem dksX0_skips_1 : cX0_skips.data.toList.drop 22 = dktX0_skips_1 := dk_seg dksX0_skips_0 22 rfl rfl
theorem dX0_skips_0 : decode cX0_skips 0 = .ok (.aload_n 0, 1) := dk_42 (dk_at dksX0_skips_0 0 rfl rfl)
theorem dX0_skips_1 : decode cX0_skips 1 = .ok (.getfield 228, 3) := dk_180 0 228 (dk_at dksX0_skips_0 1 rfl rfl)
theorem dX0_skips_4 : decode cX0_skips 4 = .ok (.aload_n 0, 1) := dk_42 (dk_at dksX0_skips_0 4 rfl rfl)
theorem dX0_skips_5 : decode cX0_skips 5 = .ok (.getfield 112, 3) := dk_180 0 112 (dk_at dksX0_skips_0 5 rfl rfl)
theorem dX0_skips_8 : decode cX0_skips 8 = .ok (.if_icmp .ge 30, 3) := dk_162 0 30 (dk_at dksX0_skips_0 8 rfl rfl)
theorem dX0_skips_11 : decode cX0_skips 11 = .ok (.aload_n 0, 1) := dk_42 (dk_at dksX0_skips_0 11 rfl rfl)
theorem dX0_skips_12 : decode cX0_skips 12 = .ok (.getfield 40, 3) := dk_180 0 40 (dk_at dksX0_skips_0 12 rfl rfl)
theorem dX0_skips_15 : decode cX0_skips 15 = .ok (.aload_n 0, 1) := dk_42 (dk_at dksX0_skips_0 15 rfl rfl)
theorem dX0_skips_16 : decode cX0_skips 16 = .ok (.getfield 228, 3) := dk_180 0 228 (dk_at dksX0_skips_0 16 rfl rfl)
theorem dX0_skips_19 : decode cX0_skips 19 = .ok (.baload, 1) := dk_51 (dk_at dksX0_skips_0 19 rfl rfl)
theorem dX0_skips_20 : decode cX0_skips 20 = .ok (.bipush 32, 2) := dk_16 32 (dk_at dksX0_skips_0 20 rfl rfl)
theorem dX0_skips_22 : decode cX0_skips 22 = .ok (.if_icmp .ne 16, 3) := dk_160 0 16 (dk_at dksX0_skips_1 0 rfl rfl)
theorem dX0_skips_25 : decode cX0_skips 25 = .ok (.aload_n 0, 1) := dk_42 (dk_at dksX0_skips_1 3 rfl rfl)
theorem dX0_skips_26 : decode cX0_skips 26 = .ok (.dup, 1) := dk_89 (dk_at dksX0_skips_1 4 rfl rfl)
theorem dX0_skips_27 : decode cX0_skips 27 = .ok (.getfield 228, 3) := dk_180 0 228 (dk_at dksX0_skips_1 5 rfl rfl)
theorem dX0_skips_30 : decode cX0_skips 30 = .ok (.iconst 1, 1) := dk_4 (dk_at dksX0_skips_1 8 rfl rfl)
theorem dX0_skips_31 : decode cX0_skips 31 = .ok (.iadd, 1) := dk_96 (dk_at dksX0_skips_1 9 rfl rfl)
theorem dX0_skips_32 : decode cX0_skips 32 = .ok (.putfield 228, 3) := dk_181 0 228 (dk_at dksX0_skips_1 10 rfl rfl)
theorem dX0_skips_35 : decode cX0_skips 35 = .ok (.goto (-35), 3) := dk_167 255 221 (dk_at dksX0_skips_1 13 rfl rfl)
theorem dX0_skips_38 : decode cX0_skips 38 = .ok (.return_, 1) := dk_177 (dk_at dksX0_skips_1 16 rfl rfl)
abbrev cX0_isOver : ByteArray := prog_1_method_36_code
def yX0_isOver : MethodName := ⟨RX0, "isOver", "()Z"⟩
def dkwX0_isOver_1 : List UInt8 := [167, 0, 4, 3, 172]
abbrev dktX0_isOver_1 : List UInt8 := dkwX0_isOver_1 ++ []
def dkwX0_isOver_0 : List UInt8 := [42, 182, 0, 231, 42, 42, 180, 0, 228, 181, 0, 234, 42, 180, 0, 228, 42, 180, 0, 112, 160, 0, 7, 4]
abbrev dktX0_isOver_0 : List UInt8 := dkwX0_isOver_0 ++ dktX0_isOver_1
theorem dksX0_isOver_0 : cX0_isOver.data.toList.drop 0 = dktX0_isOver_0 := by decide +kernel
theorem dksX0_isOver_1 : cX0_isOver.data.toList.drop 24 = dktX0_isOver_1 := dk_seg dksX0_isOver_0 24 rfl rfl
theorem dX0_isOver_0 : decode cX0_isOver 0 = .ok (.aload_n 0, 1) := dk_42 (dk_at dksX0_isOver_0 0 rfl rfl)
theorem dX0_isOver_1 : decode cX0_isOver 1 = .ok (.invokevirtual 231, 3) := dk_182 0 231 (dk_at dksX0_isOver_0 1 rfl rfl)
theorem dX0_isOver_4 : decode cX0_isOver 4 = .ok (.aload_n 0, 1) := dk_42 (dk_at dksX0_isOver_0 4 rfl rfl)
theorem dX0_isOver_5 : decode cX0_isOver 5 = .ok (.aload_n 0, 1) := dk_42 (dk_at dksX0_isOver_0 5 rfl rfl)
theorem dX0_isOver_6 : decode cX0_isOver 6 = .ok (.getfield 228, 3) := dk_180 0 228 (dk_at dksX0_isOver_0 6 rfl rfl)
theorem dX0_isOver_9 : decode cX0_isOver 9 = .ok (.putfield 234, 3) := dk_181 0 234 (dk_at dksX0_isOver_0 9 rfl rfl)
theorem dX0_isOver_12 : decode cX0_isOver 12 = .ok (.aload_n 0, 1) := dk_42 (dk_at dksX0_isOver_0 12 rfl rfl)
theorem dX0_isOver_13 : decode cX0_isOver 13 = .ok (.getfield 228, 3) := dk_180 0 228 (dk_at dksX0_isOver_0 13 rfl rfl)
theorem dX0_isOver_16 : decode cX0_isOver 16 = .ok (.aload_n 0, 1) := dk_42 (dk_at dksX0_isOver_0 16 rfl rfl)
theorem dX0_isOver_17 : decode cX0_isOver 17 = .ok (.getfield 112, 3) := dk_180 0 112 (dk_at dksX0_isOver_0 17 rfl rfl)
theorem dX0_isOver_20 : decode cX0_isOver 20 = .ok (.if_icmp .ne 7, 3) := dk_160 0 7 (dk_at dksX0_isOver_0 20 rfl rfl)
theorem dX0_isOver_23 : decode cX0_isOver 23 = .ok (.iconst 1, 1) := dk_4 (dk_at dksX0_isOver_0 23 rfl rfl)
theorem dX0_isOver_24 : decode cX0_isOver 24 = .ok (.goto 4, 3) := dk_167 0 4 (dk_at dksX0_isOver_1 0 rfl rfl)
theorem dX0_isOver_27 : decode cX0_isOver 27 = .ok (.iconst 0, 1) := dk_3 (dk_at dksX0_isOver_1 3 rfl rfl)
theorem dX0_isOver_28 : decode cX0_isOver 28 = .ok (.ireturn, 1) := dk_172 (dk_at dksX0_isOver_1 4 rfl rfl)
abbrev cX0_lay : ByteArray := prog_1_method_37_code
def yX0_lay : MethodName := ⟨RX0, "lay", "(ILAutoIndenter$Rule;)I"⟩
def dkwX0_lay_1 : List UInt8 := [180, 0, 25, 180, 0, 237, 27, 44, 83, 29, 172]
abbrev dktX0_lay_1 : List UInt8 := dkwX0_lay_1 ++ []
def dkwX0_lay_0 : List UInt8 := [42, 182, 0, 139, 42, 180, 0, 25, 180, 0, 237, 27, 50, 199, 0, 7, 3, 167, 0, 4, 4, 62, 42]
abbrev dktX0_lay_0 : List UInt8 := dkwX0_lay_0 ++ dktX0_lay_1
theorem dksX0_lay_0 : cX0_lay.data.toList.drop 0 = dktX0_lay_0 := by decide +kernel
theorem dksX0_lay_1 : cX0_lay.data.toList.drop 23 = dktX0_lay_1 := dk_seg dksX0_lay_0 23 rfl rfl
theorem dX0_lay_0 : decode cX0_lay 0 = .ok (.aload_n 0, 1) := dk_42 (dk_at dksX0_lay_0 0 rfl rfl)
theorem dX0_lay_1 : decode cX0_lay 1 = .ok (.invokevirtual 139, 3) := dk_182 0 139 (dk_at dksX0_lay_0 1 rfl rfl)
theorem dX0_lay_4 : decode cX0_lay 4 = .ok (.aload_n 0, 1) := dk_42 (dk_at dksX0_lay_0 4 rfl rfl)
theorem dX0_lay_5 : decode cX0_lay 5 = .ok (.getfield 25, 3) := dk_180 0 25 (dk_at dksX0_lay_0 5 rfl rfl)
theorem dX0_lay_8 : decode cX0_lay 8 = .ok (.getfield 237, 3) := dk_180 0 237 (dk_at dksX0_lay_0 8 rfl rfl)
theorem dX0_lay_11 : decode cX0_lay 11 = .ok (.iload_n 1, 1) := dk_27 (dk_at dksX0_lay_0 11 rfl rfl)
theorem dX0_lay_12 : decode cX0_lay 12 = .ok (.aaload, 1) := dk_50 (dk_at dksX0_lay_0 12 rfl rfl)
theorem dX0_lay_13 : decode cX0_lay 13 = .ok (.ifnonnull 7, 3) := dk_199 0 7 (dk_at dksX0_lay_0 13 rfl rfl)
theorem dX0_lay_16 : decode cX0_lay 16 = .ok (.iconst 0, 1) := dk_3 (dk_at dksX0_lay_0 16 rfl rfl)
theorem dX0_lay_17 : decode cX0_lay 17 = .ok (.goto 4, 3) := dk_167 0 4 (dk_at dksX0_lay_0 17 rfl rfl)
theorem dX0_lay_20 : decode cX0_lay 20 = .ok (.iconst 1, 1) := dk_4 (dk_at dksX0_lay_0 20 rfl rfl)
theorem dX0_lay_21 : decode cX0_lay 21 = .ok (.istore_n 3, 1) := dk_62 (dk_at dksX0_lay_0 21 rfl rfl)
theorem dX0_lay_22 : decode cX0_lay 22 = .ok (.aload_n 0, 1) := dk_42 (dk_at dksX0_lay_0 22 rfl rfl)
theorem dX0_lay_23 : decode cX0_lay 23 = .ok (.getfield 25, 3) := dk_180 0 25 (dk_at dksX0_lay_1 0 rfl rfl)
theorem dX0_lay_26 : decode cX0_lay 26 = .ok (.getfield 237, 3) := dk_180 0 237 (dk_at dksX0_lay_1 3 rfl rfl)
theorem dX0_lay_29 : decode cX0_lay 29 = .ok (.iload_n 1, 1) := dk_27 (dk_at dksX0_lay_1 6 rfl rfl)
theorem dX0_lay_30 : decode cX0_lay 30 = .ok (.aload_n 2, 1) := dk_44 (dk_at dksX0_lay_1 7 rfl rfl)
theorem dX0_lay_31 : decode cX0_lay 31 = .ok (.aastore, 1) := dk_83 (dk_at dksX0_lay_1 8 rfl rfl)
theorem dX0_lay_32 : decode cX0_lay 32 = .ok (.iload_n 3, 1) := dk_29 (dk_at dksX0_lay_1 9 rfl rfl)
theorem dX0_lay_33 : decode cX0_lay 33 = .ok (.ireturn, 1) := dk_172 (dk_at dksX0_lay_1 10 rfl rfl)
abbrev cX0_starter : ByteArray := prog_1_method_41_code
def yX0_starter : MethodName := ⟨RX0, "starter", "(III)I"⟩
def dkwX0_starter_0 : List UInt8 := [42, 5, 27, 28, 29, 182, 1, 3, 172]
abbrev dktX0_starter_0 : List UInt8 := dkwX0_starter_0 ++ []
theorem dksX0_starter_0 : cX0_starter.data.toList.drop 0 = dktX0_starter_0 := by decide +kernel
theorem dX0_starter_0 : decode cX0_starter 0 = .ok (.aload_n 0, 1) := dk_42 (dk_at dksX0_starter_0 0 rfl rfl)
theorem dX0_starter_1 : decode cX0_starter 1 = .ok (.iconst 2, 1) := dk_5 (dk_at dksX0_starter_0 1 rfl rfl)
theorem dX0_starter_2 : decode cX0_starter 2 = .ok (.iload_n 1, 1) := dk_27 (dk_at dksX0_starter_0 2 rfl rfl)
theorem dX0_starter_3 : decode cX0_starter 3 = .ok (.iload_n 2, 1) := dk_28 (dk_at dksX0_starter_0 3 rfl rfl)
theorem dX0_starter_4 : decode cX0_starter 4 = .ok (.iload_n 3, 1) := dk_29 (dk_at dksX0_starter_0 4 rfl rfl)
theorem dX0_starter_5 : decode cX0_starter 5 = .ok (.invokevirtual 259, 3) := dk_182 1 3 (dk_at dksX0_starter_0 5 rfl rfl)
theorem dX0_starter_8 : decode cX0_starter 8 = .ok (.ireturn, 1) := dk_172 (dk_at dksX0_starter_0 8 rfl rfl)
abbrev cX0_single : ByteArray := prog_1_method_40_code
def yX0_single : MethodName := ⟨RX0, "single", "(IIII)I"⟩
def dkwX0_single_3 : List UInt8 := [182, 0, 255, 172]
abbrev dktX0_single_3 : List UInt8 := dkwX0_single_3 ++ []
def dkwX0_single_2 : List UInt8 := [180, 0, 234, 100, 172, 42, 28, 187, 0, 250, 89, 27, 29, 21, 4, 3, 3, 25, 5, 1, 183, 0, 252]
abbrev dktX0_single_2 : List UInt8 := dkwX0_single_2 ++ dktX0_single_3
def dkwX0_single_1 : List UInt8 := [181, 0, 228, 42, 182, 0, 244, 58, 5, 25, 5, 198, 0, 10, 42, 182, 0, 247, 154, 0, 11, 16, 246, 42]
abbrev dktX0_single_1 : List UInt8 := dkwX0_single_1 ++ dktX0_single_2
def dkwX0_single_0 : List UInt8 := [28, 29, 184, 0, 241, 153, 0, 14, 21, 4, 16, 252, 7, 184, 0, 1, 154, 0, 5, 2, 172, 42, 3]
abbrev dktX0_single_0 : List UInt8 := dkwX0_single_0 ++ dktX0_single_1
theorem dksX0_single_0 : cX0_single.data.toList.drop 0 = dktX0_single_0 := by decide +kernel
theorem dksX0_single_1 : cX0_single.data.toList.drop 23 = dktX0_single_1 := dk_seg dksX0_single_0 23 rfl rfl
theorem dksX0_single_2 : cX0_single.data.toList.drop 47 = dktX0_single_2 := dk_seg dksX0_single_1 24 rfl rfl
theorem dksX0_single_3 : cX0_single.data.toList.drop 70 = dktX0_single_3 := dk_seg dksX0_single_2 23 rfl rfl
theorem dX0_single_0 : decode cX0_single 0 = .ok (.iload_n 2, 1) := dk_28 (dk_at dksX0_single_0 0 rfl rfl)
theorem dX0_single_1 : decode cX0_single 1 = .ok (.iload_n 3, 1) := dk_29 (dk_at dksX0_single_0 1 rfl rfl)
theorem dX0_single_2 : decode cX0_single 2 = .ok (.invokestatic 241, 3) := dk_184 0 241 (dk_at dksX0_single_0 2 rfl rfl)
theorem dX0_single_5 : decode cX0_single 5 = .ok (.ifCond .eq 14, 3) := dk_153 0 14 (dk_at dksX0_single_0 5 rfl rfl)
theorem dX0_single_8 : decode cX0_single 8 = .ok (.iload 4, 2) := dk_21 4 (dk_at dksX0_single_0 8 rfl rfl)
theorem dX0_single_10 : decode cX0_single 10 = .ok (.bipush (-4), 2) := dk_16 252 (dk_at dksX0_single_0 10 rfl rfl)
theorem dX0_single_12 : decode cX0_single 12 = .ok (.iconst 4, 1) := dk_7 (dk_at dksX0_single_0 12 rfl rfl)
theorem dX0_single_13 : decode cX0_single 13 = .ok (.invokestatic 1, 3) := dk_184 0 1 (dk_at dksX0_single_0 13 rfl rfl)
theorem dX0_single_16 : decode cX0_single 16 = .ok (.ifCond .ne 5, 3) := dk_154 0 5 (dk_at dksX0_single_0 16 rfl rfl)
theorem dX0_single_19 : decode cX0_single 19 = .ok (.iconst (-1), 1) := dk_2 (dk_at dksX0_single_0 19 rfl rfl)
theorem dX0_single_20 : decode cX0_single 20 = .ok (.ireturn, 1) := dk_172 (dk_at dksX0_single_0 20 rfl rfl)
theorem dX0_single_21 : decode cX0_single 21 = .ok (.aload_n 0, 1) := dk_42 (dk_at dksX0_single_0 21 rfl rfl)
theorem dX0_single_22 : decode cX0_single 22 = .ok (.iconst 0, 1) := dk_3 (dk_at dksX0_single_0 22 rfl rfl)
theorem dX0_single_23 : decode cX0_single 23 = .ok (.putfield 228, 3) := dk_181 0 228 (dk_at dksX0_single_1 0 rfl rfl)
theorem dX0_single_26 : decode cX0_single 26 = .ok (.aload_n 0, 1) := dk_42 (dk_at dksX0_single_1 3 rfl rfl)
theorem dX0_single_27 : decode cX0_single 27 = .ok (.invokevirtual 244, 3) := dk_182 0 244 (dk_at dksX0_single_1 4 rfl rfl)
theorem dX0_single_30 : decode cX0_single 30 = .ok (.astore 5, 2) := dk_58 5 (dk_at dksX0_single_1 7 rfl rfl)
theorem dX0_single_32 : decode cX0_single 32 = .ok (.aload 5, 2) := dk_25 5 (dk_at dksX0_single_1 9 rfl rfl)
theorem dX0_single_34 : decode cX0_single 34 = .ok (.ifnull 10, 3) := dk_198 0 10 (dk_at dksX0_single_1 11 rfl rfl)
theorem dX0_single_37 : decode cX0_single 37 = .ok (.aload_n 0, 1) := dk_42 (dk_at dksX0_single_1 14 rfl rfl)
theorem dX0_single_38 : decode cX0_single 38 = .ok (.invokevirtual 247, 3) := dk_182 0 247 (dk_at dksX0_single_1 15 rfl rfl)
theorem dX0_single_41 : decode cX0_single 41 = .ok (.ifCond .ne 11, 3) := dk_154 0 11 (dk_at dksX0_single_1 18 rfl rfl)
theorem dX0_single_44 : decode cX0_single 44 = .ok (.bipush (-10), 2) := dk_16 246 (dk_at dksX0_single_1 21 rfl rfl)
theorem dX0_single_46 : decode cX0_single 46 = .ok (.aload_n 0, 1) := dk_42 (dk_at dksX0_single_1 23 rfl rfl)
theorem dX0_single_47 : decode cX0_single 47 = .ok (.getfield 234, 3) := dk_180 0 234 (dk_at dksX0_single_2 0 rfl rfl)
theorem dX0_single_50 : decode cX0_single 50 = .ok (.isub, 1) := dk_100 (dk_at dksX0_single_2 3 rfl rfl)
theorem dX0_single_51 : decode cX0_single 51 = .ok (.ireturn, 1) := dk_172 (dk_at dksX0_single_2 4 rfl rfl)
theorem dX0_single_52 : decode cX0_single 52 = .ok (.aload_n 0, 1) := dk_42 (dk_at dksX0_single_2 5 rfl rfl)
theorem dX0_single_53 : decode cX0_single 53 = .ok (.iload_n 2, 1) := dk_28 (dk_at dksX0_single_2 6 rfl rfl)
theorem dX0_single_54 : decode cX0_single 54 = .ok (.new 250, 3) := dk_187 0 250 (dk_at dksX0_single_2 7 rfl rfl)
theorem dX0_single_57 : decode cX0_single 57 = .ok (.dup, 1) := dk_89 (dk_at dksX0_single_2 10 rfl rfl)
theorem dX0_single_58 : decode cX0_single 58 = .ok (.iload_n 1, 1) := dk_27 (dk_at dksX0_single_2 11 rfl rfl)
theorem dX0_single_59 : decode cX0_single 59 = .ok (.iload_n 3, 1) := dk_29 (dk_at dksX0_single_2 12 rfl rfl)
theorem dX0_single_60 : decode cX0_single 60 = .ok (.iload 4, 2) := dk_21 4 (dk_at dksX0_single_2 13 rfl rfl)
theorem dX0_single_62 : decode cX0_single 62 = .ok (.iconst 0, 1) := dk_3 (dk_at dksX0_single_2 15 rfl rfl)
theorem dX0_single_63 : decode cX0_single 63 = .ok (.iconst 0, 1) := dk_3 (dk_at dksX0_single_2 16 rfl rfl)
theorem dX0_single_64 : decode cX0_single 64 = .ok (.aload 5, 2) := dk_25 5 (dk_at dksX0_single_2 17 rfl rfl)
theorem dX0_single_66 : decode cX0_single 66 = .ok (.aconst_null, 1) := dk_1 (dk_at dksX0_single_2 19 rfl rfl)
theorem dX0_single_67 : decode cX0_single 67 = .ok (.invokespecial 252, 3) := dk_183 0 252 (dk_at dksX0_single_2 20 rfl rfl)
theorem dX0_single_70 : decode cX0_single 70 = .ok (.invokevirtual 255, 3) := dk_182 0 255 (dk_at dksX0_single_3 0 rfl rfl)
theorem dX0_single_73 : decode cX0_single 73 = .ok (.ireturn, 1) := dk_172 (dk_at dksX0_single_3 3 rfl rfl)
abbrev cX0_joiner : ByteArray := prog_1_method_42_code
def yX0_joiner : MethodName := ⟨RX0, "joiner", "(III)I"⟩
def dkwX0_joiner_0 : List UInt8 := [42, 6, 27, 28, 29, 182, 1, 3, 172]
abbrev dktX0_joiner_0 : List UInt8 := dkwX0_joiner_0 ++ []
theorem dksX0_joiner_0 : cX0_joiner.data.toList.drop 0 = dktX0_joiner_0 := by decide +kernel
theorem dX0_joiner_0 : decode cX0_joiner 0 = .ok (.aload_n 0, 1) := dk_42 (dk_at dksX0_joiner_0 0 rfl rfl)
theorem dX0_joiner_1 : decode cX0_joiner 1 = .ok (.iconst 3, 1) := dk_6 (dk_at dksX0_joiner_0 1 rfl rfl)
theorem dX0_joiner_2 : decode cX0_joiner 2 = .ok (.iload_n 1, 1) := dk_27 (dk_at dksX0_joiner_0 2 rfl rfl)
theorem dX0_joiner_3 : decode cX0_joiner 3 = .ok (.iload_n 2, 1) := dk_28 (dk_at dksX0_joiner_0 3 rfl rfl)
theorem dX0_joiner_4 : decode cX0_joiner 4 = .ok (.iload_n 3, 1) := dk_29 (dk_at dksX0_joiner_0 4 rfl rfl)
theorem dX0_joiner_5 : decode cX0_joiner 5 = .ok (.invokevirtual 259, 3) := dk_182 1 3 (dk_at dksX0_joiner_0 5 rfl rfl)
theorem dX0_joiner_8 : decode cX0_joiner 8 = .ok (.ireturn, 1) := dk_172 (dk_at dksX0_joiner_0 8 rfl rfl)
abbrev cX0_dropRule : ByteArray := prog_1_method_43_code
def yX0_dropRule : MethodName := ⟨RX0, "dropRule", "(I)I"⟩
def dkwX0_dropRule_3 : List UInt8 := [167, 255, 227, 28, 172]
abbrev dktX0_dropRule_3 : List UInt8 := dkwX0_dropRule_3 ++ []
def dkwX0_dropRule_2 : List UInt8 := [28, 42, 180, 0, 25, 180, 0, 237, 29, 50, 199, 0, 7, 3, 167, 0, 4, 4, 96, 61, 132, 3, 1]
abbrev dktX0_dropRule_2 : List UInt8 := dkwX0_dropRule_2 ++ dktX0_dropRule_3
def dkwX0_dropRule_1 : List UInt8 := [42, 182, 0, 139, 42, 180, 0, 25, 180, 0, 237, 27, 1, 83, 3, 61, 3, 62, 29, 16, 12, 162, 0, 29]
abbrev dktX0_dropRule_1 : List UInt8 := dkwX0_dropRule_1 ++ dktX0_dropRule_2
def dkwX0_dropRule_0 : List UInt8 := [27, 3, 16, 11, 184, 0, 1, 153, 0, 15, 42, 180, 0, 25, 180, 0, 237, 27, 50, 199, 0, 5, 2, 172]
abbrev dktX0_dropRule_0 : List UInt8 := dkwX0_dropRule_0 ++ dktX0_dropRule_1
theorem dksX0_dropRule_0 : cX0_dropRule.data.toList.drop 0 = dktX0_dropRule_0 := by decide +kernel
theorem dksX0_dropRule_1 : cX0_dropRule.data.toList.drop 24 = dktX0_dropRule_1 := dk_seg dksX0_dropRule_0 24 rfl rfl
theorem dksX0_dropRule_2 : cX0_dropRule.data.toList.drop 48 = dktX0_dropRule_2 := dk_seg dksX0_dropRule_1 24 rfl rfl
theorem dksX0_dropRule_3 : cX0_dropRule.data.toList.drop 71 = dktX0_dropRule_3 := dk_seg dksX0_dropRule_2 23 rfl rfl
theorem dX0_dropRule_0 : decode cX0_dropRule 0 = .ok (.iload_n 1, 1) := dk_27 (dk_at dksX0_dropRule_0 0 rfl rfl)
theorem dX0_dropRule_1 : decode cX0_dropRule 1 = .ok (.iconst 0, 1) := dk_3 (dk_at dksX0_dropRule_0 1 rfl rfl)
theorem dX0_dropRule_2 : decode cX0_dropRule 2 = .ok (.bipush 11, 2) := dk_16 11 (dk_at dksX0_dropRule_0 2 rfl rfl)
theorem dX0_dropRule_4 : decode cX0_dropRule 4 = .ok (.invokestatic 1, 3) := dk_184 0 1 (dk_at dksX0_dropRule_0 4 rfl rfl)
theorem dX0_dropRule_7 : decode cX0_dropRule 7 = .ok (.ifCond .eq 15, 3) := dk_153 0 15 (dk_at dksX0_dropRule_0 7 rfl rfl)
theorem dX0_dropRule_10 : decode cX0_dropRule 10 = .ok (.aload_n 0, 1) := dk_42 (dk_at dksX0_dropRule_0 10 rfl rfl)
theorem dX0_dropRule_11 : decode cX0_dropRule 11 = .ok (.getfield 25, 3) := dk_180 0 25 (dk_at dksX0_dropRule_0 11 rfl rfl)
theorem dX0_dropRule_14 : decode cX0_dropRule 14 = .ok (.getfield 237, 3) := dk_180 0 237 (dk_at dksX0_dropRule_0 14 rfl rfl)
theorem dX0_dropRule_17 : decode cX0_dropRule 17 = .ok (.iload_n 1, 1) := dk_27 (dk_at dksX0_dropRule_0 17 rfl rfl)
theorem dX0_dropRule_18 : decode cX0_dropRule 18 = .ok (.aaload, 1) := dk_50 (dk_at dksX0_dropRule_0 18 rfl rfl)
theorem dX0_dropRule_19 : decode cX0_dropRule 19 = .ok (.ifnonnull 5, 3) := dk_199 0 5 (dk_at dksX0_dropRule_0 19 rfl rfl)
theorem dX0_dropRule_22 : decode cX0_dropRule 22 = .ok (.iconst (-1), 1) := dk_2 (dk_at dksX0_dropRule_0 22 rfl rfl)
theorem dX0_dropRule_23 : decode cX0_dropRule 23 = .ok (.ireturn, 1) := dk_172 (dk_at dksX0_dropRule_0 23 rfl rfl)
theorem dX0_dropRule_24 : decode cX0_dropRule 24 = .ok (.aload_n 0, 1) := dk_42 (dk_at dksX0_dropRule_1 0 rfl rfl)
theorem dX0_dropRule_25 : decode cX0_dropRule 25 = .ok (.invokevirtual 139, 3) := dk_182 0 139 (dk_at dksX0_dropRule_1 1 rfl rfl)
theorem dX0_dropRule_28 : decode cX0_dropRule 28 = .ok (.aload_n 0, 1) := dk_42 (dk_at dksX0_dropRule_1 4 rfl rfl)
theorem dX0_dropRule_29 : decode cX0_dropRule 29 = .ok (.getfield 25, 3) := dk_180 0 25 (dk_at dksX0_dropRule_1 5 rfl rfl)
theorem dX0_dropRule_32 : decode cX0_dropRule 32 = .ok (.getfield 237, 3) := dk_180 0 237 (dk_at dksX0_dropRule_1 8 rfl rfl)
theorem dX0_dropRule_35 : decode cX0_dropRule 35 = .ok (.iload_n 1, 1) := dk_27 (dk_at dksX0_dropRule_1 11 rfl rfl)
theorem dX0_dropRule_36 : decode cX0_dropRule 36 = .ok (.aconst_null, 1) := dk_1 (dk_at dksX0_dropRule_1 12 rfl rfl)
theorem dX0_dropRule_37 : decode cX0_dropRule 37 = .ok (.aastore, 1) := dk_83 (dk_at dksX0_dropRule_1 13 rfl rfl)
theorem dX0_dropRule_38 : decode cX0_dropRule 38 = .ok (.iconst 0, 1) := dk_3 (dk_at dksX0_dropRule_1 14 rfl rfl)
theorem dX0_dropRule_39 : decode cX0_dropRule 39 = .ok (.istore_n 2, 1) := dk_61 (dk_at dksX0_dropRule_1 15 rfl rfl)
theorem dX0_dropRule_40 : decode cX0_dropRule 40 = .ok (.iconst 0, 1) := dk_3 (dk_at dksX0_dropRule_1 16 rfl rfl)
theorem dX0_dropRule_41 : decode cX0_dropRule 41 = .ok (.istore_n 3, 1) := dk_62 (dk_at dksX0_dropRule_1 17 rfl rfl)
theorem dX0_dropRule_42 : decode cX0_dropRule 42 = .ok (.iload_n 3, 1) := dk_29 (dk_at dksX0_dropRule_1 18 rfl rfl)
theorem dX0_dropRule_43 : decode cX0_dropRule 43 = .ok (.bipush 12, 2) := dk_16 12 (dk_at dksX0_dropRule_1 19 rfl rfl)
theorem dX0_dropRule_45 : decode cX0_dropRule 45 = .ok (.if_icmp .ge 29, 3) := dk_162 0 29 (dk_at dksX0_dropRule_1 21 rfl rfl)
theorem dX0_dropRule_48 : decode cX0_dropRule 48 = .ok (.iload_n 2, 1) := dk_28 (dk_at dksX0_dropRule_2 0 rfl rfl)
theorem dX0_dropRule_49 : decode cX0_dropRule 49 = .ok (.aload_n 0, 1) := dk_42 (dk_at dksX0_dropRule_2 1 rfl rfl)
theorem dX0_dropRule_50 : decode cX0_dropRule 50 = .ok (.getfield 25, 3) := dk_180 0 25 (dk_at dksX0_dropRule_2 2 rfl rfl)
theorem dX0_dropRule_53 : decode cX0_dropRule 53 = .ok (.getfield 237, 3) := dk_180 0 237 (dk_at dksX0_dropRule_2 5 rfl rfl)
theorem dX0_dropRule_56 : decode cX0_dropRule 56 = .ok (.iload_n 3, 1) := dk_29 (dk_at dksX0_dropRule_2 8 rfl rfl)
theorem dX0_dropRule_57 : decode cX0_dropRule 57 = .ok (.aaload, 1) := dk_50 (dk_at dksX0_dropRule_2 9 rfl rfl)
theorem dX0_dropRule_58 : decode cX0_dropRule 58 = .ok (.ifnonnull 7, 3) := dk_199 0 7 (dk_at dksX0_dropRule_2 10 rfl rfl)
theorem dX0_dropRule_61 : decode cX0_dropRule 61 = .ok (.iconst 0, 1) := dk_3 (dk_at dksX0_dropRule_2 13 rfl rfl)
theorem dX0_dropRule_62 : decode cX0_dropRule 62 = .ok (.goto 4, 3) := dk_167 0 4 (dk_at dksX0_dropRule_2 14 rfl rfl)
theorem dX0_dropRule_65 : decode cX0_dropRule 65 = .ok (.iconst 1, 1) := dk_4 (dk_at dksX0_dropRule_2 17 rfl rfl)
theorem dX0_dropRule_66 : decode cX0_dropRule 66 = .ok (.iadd, 1) := dk_96 (dk_at dksX0_dropRule_2 18 rfl rfl)
theorem dX0_dropRule_67 : decode cX0_dropRule 67 = .ok (.istore_n 2, 1) := dk_61 (dk_at dksX0_dropRule_2 19 rfl rfl)
theorem dX0_dropRule_68 : decode cX0_dropRule 68 = .ok (.iinc 3 1, 3) := dk_132 3 1 (dk_at dksX0_dropRule_2 20 rfl rfl)
theorem dX0_dropRule_71 : decode cX0_dropRule 71 = .ok (.goto (-29), 3) := dk_167 255 227 (dk_at dksX0_dropRule_3 0 rfl rfl)
theorem dX0_dropRule_74 : decode cX0_dropRule 74 = .ok (.iload_n 2, 1) := dk_28 (dk_at dksX0_dropRule_3 3 rfl rfl)
theorem dX0_dropRule_75 : decode cX0_dropRule 75 = .ok (.ireturn, 1) := dk_172 (dk_at dksX0_dropRule_3 4 rfl rfl)
abbrev cX0_wanted : ByteArray := prog_1_method_45_code
def yX0_wanted : MethodName := ⟨RX0, "wanted", "(I)I"⟩
def dkwX0_wanted_1 : List UInt8 := [154, 0, 7, 2, 167, 0, 16, 44, 199, 0, 8, 16, 247, 167, 0, 7, 44, 180, 0, 181, 172]
abbrev dktX0_wanted_1 : List UInt8 := dkwX0_wanted_1 ++ []
def dkwX0_wanted_0 : List UInt8 := [42, 27, 182, 0, 145, 153, 0, 11, 42, 27, 182, 1, 7, 167, 0, 4, 1, 77, 42, 27, 182, 0, 145]
abbrev dktX0_wanted_0 : List UInt8 := dkwX0_wanted_0 ++ dktX0_wanted_1
theorem dksX0_wanted_0 : cX0_wanted.data.toList.drop 0 = dktX0_wanted_0 := by decide +kernel
theorem dksX0_wanted_1 : cX0_wanted.data.toList.drop 23 = dktX0_wanted_1 := dk_seg dksX0_wanted_0 23 rfl rfl
theorem dX0_wanted_0 : decode cX0_wanted 0 = .ok (.aload_n 0, 1) := dk_42 (dk_at dksX0_wanted_0 0 rfl rfl)
theorem dX0_wanted_1 : decode cX0_wanted 1 = .ok (.iload_n 1, 1) := dk_27 (dk_at dksX0_wanted_0 1 rfl rfl)
theorem dX0_wanted_2 : decode cX0_wanted 2 = .ok (.invokevirtual 145, 3) := dk_182 0 145 (dk_at dksX0_wanted_0 2 rfl rfl)
theorem dX0_wanted_5 : decode cX0_wanted 5 = .ok (.ifCond .eq 11, 3) := dk_153 0 11 (dk_at dksX0_wanted_0 5 rfl rfl)
theorem dX0_wanted_8 : decode cX0_wanted 8 = .ok (.aload_n 0, 1) := dk_42 (dk_at dksX0_wanted_0 8 rfl rfl)
theorem dX0_wanted_9 : decode cX0_wanted 9 = .ok (.iload_n 1, 1) := dk_27 (dk_at dksX0_wanted_0 9 rfl rfl)
theorem dX0_wanted_10 : decode cX0_wanted 10 = .ok (.invokevirtual 263, 3) := dk_182 1 7 (dk_at dksX0_wanted_0 10 rfl rfl)
theorem dX0_wanted_13 : decode cX0_wanted 13 = .ok (.goto 4, 3) := dk_167 0 4 (dk_at dksX0_wanted_0 13 rfl rfl)
theorem dX0_wanted_16 : decode cX0_wanted 16 = .ok (.aconst_null, 1) := dk_1 (dk_at dksX0_wanted_0 16 rfl rfl)
theorem dX0_wanted_17 : decode cX0_wanted 17 = .ok (.astore_n 2, 1) := dk_77 (dk_at dksX0_wanted_0 17 rfl rfl)
theorem dX0_wanted_18 : decode cX0_wanted 18 = .ok (.aload_n 0, 1) := dk_42 (dk_at dksX0_wanted_0 18 rfl rfl)
theorem dX0_wanted_19 : decode cX0_wanted 19 = .ok (.iload_n 1, 1) := dk_27 (dk_at dksX0_wanted_0 19 rfl rfl)
theorem dX0_wanted_20 : decode cX0_wanted 20 = .ok (.invokevirtual 145, 3) := dk_182 0 145 (dk_at dksX0_wanted_0 20 rfl rfl)
theorem dX0_wanted_23 : decode cX0_wanted 23 = .ok (.ifCond .ne 7, 3) := dk_154 0 7 (dk_at dksX0_wanted_1 0 rfl rfl)
theorem dX0_wanted_26 : decode cX0_wanted 26 = .ok (.iconst (-1), 1) := dk_2 (dk_at dksX0_wanted_1 3 rfl rfl)
theorem dX0_wanted_27 : decode cX0_wanted 27 = .ok (.goto 16, 3) := dk_167 0 16 (dk_at dksX0_wanted_1 4 rfl rfl)
theorem dX0_wanted_30 : decode cX0_wanted 30 = .ok (.aload_n 2, 1) := dk_44 (dk_at dksX0_wanted_1 7 rfl rfl)
theorem dX0_wanted_31 : decode cX0_wanted 31 = .ok (.ifnonnull 8, 3) := dk_199 0 8 (dk_at dksX0_wanted_1 8 rfl rfl)
theorem dX0_wanted_34 : decode cX0_wanted 34 = .ok (.bipush (-9), 2) := dk_16 247 (dk_at dksX0_wanted_1 11 rfl rfl)
theorem dX0_wanted_36 : decode cX0_wanted 36 = .ok (.goto 7, 3) := dk_167 0 7 (dk_at dksX0_wanted_1 13 rfl rfl)
theorem dX0_wanted_39 : decode cX0_wanted 39 = .ok (.aload_n 2, 1) := dk_44 (dk_at dksX0_wanted_1 16 rfl rfl)
theorem dX0_wanted_40 : decode cX0_wanted 40 = .ok (.getfield 181, 3) := dk_180 0 181 (dk_at dksX0_wanted_1 17 rfl rfl)
theorem dX0_wanted_43 : decode cX0_wanted 43 = .ok (.ireturn, 1) := dk_172 (dk_at dksX0_wanted_1 20 rfl rfl)
abbrev cX0_decided : ByteArray := prog_1_method_44_code
def yX0_decided : MethodName := ⟨RX0, "decided", "(I)LAutoIndenter$Walk;"⟩
def dkwX0_decided_0 : List UInt8 := [42, 27, 182, 0, 97, 77, 44, 27, 182, 0, 175, 154, 0, 5, 1, 176, 44, 27, 182, 0, 178, 44, 176]
abbrev dktX0_decided_0 : List UInt8 := dkwX0_decided_0 ++ []
theorem dksX0_decided_0 : cX0_decided.data.toList.drop 0 = dktX0_decided_0 := by decide +kernel
theorem dX0_decided_0 : decode cX0_decided 0 = .ok (.aload_n 0, 1) := dk_42 (dk_at dksX0_decided_0 0 rfl rfl)
theorem dX0_decided_1 : decode cX0_decided 1 = .ok (.iload_n 1, 1) := dk_27 (dk_at dksX0_decided_0 1 rfl rfl)
theorem dX0_decided_2 : decode cX0_decided 2 = .ok (.invokevirtual 97, 3) := dk_182 0 97 (dk_at dksX0_decided_0 2 rfl rfl)
theorem dX0_decided_5 : decode cX0_decided 5 = .ok (.astore_n 2, 1) := dk_77 (dk_at dksX0_decided_0 5 rfl rfl)
theorem dX0_decided_6 : decode cX0_decided 6 = .ok (.aload_n 2, 1) := dk_44 (dk_at dksX0_decided_0 6 rfl rfl)
theorem dX0_decided_7 : decode cX0_decided 7 = .ok (.iload_n 1, 1) := dk_27 (dk_at dksX0_decided_0 7 rfl rfl)
theorem dX0_decided_8 : decode cX0_decided 8 = .ok (.invokevirtual 175, 3) := dk_182 0 175 (dk_at dksX0_decided_0 8 rfl rfl)
theorem dX0_decided_11 : decode cX0_decided 11 = .ok (.ifCond .ne 5, 3) := dk_154 0 5 (dk_at dksX0_decided_0 11 rfl rfl)
theorem dX0_decided_14 : decode cX0_decided 14 = .ok (.aconst_null, 1) := dk_1 (dk_at dksX0_decided_0 14 rfl rfl)
theorem dX0_decided_15 : decode cX0_decided 15 = .ok (.areturn, 1) := dk_176 (dk_at dksX0_decided_0 15 rfl rfl)
theorem dX0_decided_16 : decode cX0_decided 16 = .ok (.aload_n 2, 1) := dk_44 (dk_at dksX0_decided_0 16 rfl rfl)
theorem dX0_decided_17 : decode cX0_decided 17 = .ok (.iload_n 1, 1) := dk_27 (dk_at dksX0_decided_0 17 rfl rfl)
theorem dX0_decided_18 : decode cX0_decided 18 = .ok (.invokevirtual 178, 3) := dk_182 0 178 (dk_at dksX0_decided_0 18 rfl rfl)
theorem dX0_decided_21 : decode cX0_decided 21 = .ok (.aload_n 2, 1) := dk_44 (dk_at dksX0_decided_0 21 rfl rfl)
theorem dX0_decided_22 : decode cX0_decided 22 = .ok (.areturn, 1) := dk_176 (dk_at dksX0_decided_0 22 rfl rfl)
abbrev cX0_reason : ByteArray := prog_1_method_46_code
def yX0_reason : MethodName := ⟨RX0, "reason", "(I)I"⟩
def dkwX0_reason_1 : List UInt8 := [154, 0, 7, 2, 167, 0, 16, 44, 199, 0, 8, 16, 247, 167, 0, 7, 44, 180, 1, 10, 172]
abbrev dktX0_reason_1 : List UInt8 := dkwX0_reason_1 ++ []
def dkwX0_reason_0 : List UInt8 := [42, 27, 182, 0, 145, 153, 0, 11, 42, 27, 182, 1, 7, 167, 0, 4, 1, 77, 42, 27, 182, 0, 145]
abbrev dktX0_reason_0 : List UInt8 := dkwX0_reason_0 ++ dktX0_reason_1
theorem dksX0_reason_0 : cX0_reason.data.toList.drop 0 = dktX0_reason_0 := by decide +kernel
theorem dksX0_reason_1 : cX0_reason.data.toList.drop 23 = dktX0_reason_1 := dk_seg dksX0_reason_0 23 rfl rfl
theorem dX0_reason_0 : decode cX0_reason 0 = .ok (.aload_n 0, 1) := dk_42 (dk_at dksX0_reason_0 0 rfl rfl)
theorem dX0_reason_1 : decode cX0_reason 1 = .ok (.iload_n 1, 1) := dk_27 (dk_at dksX0_reason_0 1 rfl rfl)
theorem dX0_reason_2 : decode cX0_reason 2 = .ok (.invokevirtual 145, 3) := dk_182 0 145 (dk_at dksX0_reason_0 2 rfl rfl)
theorem dX0_reason_5 : decode cX0_reason 5 = .ok (.ifCond .eq 11, 3) := dk_153 0 11 (dk_at dksX0_reason_0 5 rfl rfl)
theorem dX0_reason_8 : decode cX0_reason 8 = .ok (.aload_n 0, 1) := dk_42 (dk_at dksX0_reason_0 8 rfl rfl)
theorem dX0_reason_9 : decode cX0_reason 9 = .ok (.iload_n 1, 1) := dk_27 (dk_at dksX0_reason_0 9 rfl rfl)
theorem dX0_reason_10 : decode cX0_reason 10 = .ok (.invokevirtual 263, 3) := dk_182 1 7 (dk_at dksX0_reason_0 10 rfl rfl)
theorem dX0_reason_13 : decode cX0_reason 13 = .ok (.goto 4, 3) := dk_167 0 4 (dk_at dksX0_reason_0 13 rfl rfl)
theorem dX0_reason_16 : decode cX0_reason 16 = .ok (.aconst_null, 1) := dk_1 (dk_at dksX0_reason_0 16 rfl rfl)
theorem dX0_reason_17 : decode cX0_reason 17 = .ok (.astore_n 2, 1) := dk_77 (dk_at dksX0_reason_0 17 rfl rfl)
theorem dX0_reason_18 : decode cX0_reason 18 = .ok (.aload_n 0, 1) := dk_42 (dk_at dksX0_reason_0 18 rfl rfl)
theorem dX0_reason_19 : decode cX0_reason 19 = .ok (.iload_n 1, 1) := dk_27 (dk_at dksX0_reason_0 19 rfl rfl)
theorem dX0_reason_20 : decode cX0_reason 20 = .ok (.invokevirtual 145, 3) := dk_182 0 145 (dk_at dksX0_reason_0 20 rfl rfl)
theorem dX0_reason_23 : decode cX0_reason 23 = .ok (.ifCond .ne 7, 3) := dk_154 0 7 (dk_at dksX0_reason_1 0 rfl rfl)
theorem dX0_reason_26 : decode cX0_reason 26 = .ok (.iconst (-1), 1) := dk_2 (dk_at dksX0_reason_1 3 rfl rfl)
theorem dX0_reason_27 : decode cX0_reason 27 = .ok (.goto 16, 3) := dk_167 0 16 (dk_at dksX0_reason_1 4 rfl rfl)
theorem dX0_reason_30 : decode cX0_reason 30 = .ok (.aload_n 2, 1) := dk_44 (dk_at dksX0_reason_1 7 rfl rfl)
theorem dX0_reason_31 : decode cX0_reason 31 = .ok (.ifnonnull 8, 3) := dk_199 0 8 (dk_at dksX0_reason_1 8 rfl rfl)
theorem dX0_reason_34 : decode cX0_reason 34 = .ok (.bipush (-9), 2) := dk_16 247 (dk_at dksX0_reason_1 11 rfl rfl)
theorem dX0_reason_36 : decode cX0_reason 36 = .ok (.goto 7, 3) := dk_167 0 7 (dk_at dksX0_reason_1 13 rfl rfl)
theorem dX0_reason_39 : decode cX0_reason 39 = .ok (.aload_n 2, 1) := dk_44 (dk_at dksX0_reason_1 16 rfl rfl)
theorem dX0_reason_40 : decode cX0_reason 40 = .ok (.getfield 266, 3) := dk_180 1 10 (dk_at dksX0_reason_1 17 rfl rfl)
theorem dX0_reason_43 : decode cX0_reason 43 = .ok (.ireturn, 1) := dk_172 (dk_at dksX0_reason_1 20 rfl rfl)
abbrev cX0_decidingRule : ByteArray := prog_1_method_47_code
def yX0_decidingRule : MethodName := ⟨RX0, "decidingRule", "(I)I"⟩
def dkwX0_decidingRule_1 : List UInt8 := [154, 0, 7, 2, 167, 0, 16, 44, 199, 0, 8, 16, 247, 167, 0, 7, 44, 180, 1, 13, 172]
abbrev dktX0_decidingRule_1 : List UInt8 := dkwX0_decidingRule_1 ++ []
def dkwX0_decidingRule_0 : List UInt8 := [42, 27, 182, 0, 145, 153, 0, 11, 42, 27, 182, 1, 7, 167, 0, 4, 1, 77, 42, 27, 182, 0, 145]
abbrev dktX0_decidingRule_0 : List UInt8 := dkwX0_decidingRule_0 ++ dktX0_decidingRule_1
theorem dksX0_decidingRule_0 : cX0_decidingRule.data.toList.drop 0 = dktX0_decidingRule_0 := by decide +kernel
theorem dksX0_decidingRule_1 : cX0_decidingRule.data.toList.drop 23 = dktX0_decidingRule_1 := dk_seg dksX0_decidingRule_0 23 rfl rfl
theorem dX0_decidingRule_0 : decode cX0_decidingRule 0 = .ok (.aload_n 0, 1) := dk_42 (dk_at dksX0_decidingRule_0 0 rfl rfl)
theorem dX0_decidingRule_1 : decode cX0_decidingRule 1 = .ok (.iload_n 1, 1) := dk_27 (dk_at dksX0_decidingRule_0 1 rfl rfl)
theorem dX0_decidingRule_2 : decode cX0_decidingRule 2 = .ok (.invokevirtual 145, 3) := dk_182 0 145 (dk_at dksX0_decidingRule_0 2 rfl rfl)
theorem dX0_decidingRule_5 : decode cX0_decidingRule 5 = .ok (.ifCond .eq 11, 3) := dk_153 0 11 (dk_at dksX0_decidingRule_0 5 rfl rfl)
theorem dX0_decidingRule_8 : decode cX0_decidingRule 8 = .ok (.aload_n 0, 1) := dk_42 (dk_at dksX0_decidingRule_0 8 rfl rfl)
theorem dX0_decidingRule_9 : decode cX0_decidingRule 9 = .ok (.iload_n 1, 1) := dk_27 (dk_at dksX0_decidingRule_0 9 rfl rfl)
theorem dX0_decidingRule_10 : decode cX0_decidingRule 10 = .ok (.invokevirtual 263, 3) := dk_182 1 7 (dk_at dksX0_decidingRule_0 10 rfl rfl)
theorem dX0_decidingRule_13 : decode cX0_decidingRule 13 = .ok (.goto 4, 3) := dk_167 0 4 (dk_at dksX0_decidingRule_0 13 rfl rfl)
theorem dX0_decidingRule_16 : decode cX0_decidingRule 16 = .ok (.aconst_null, 1) := dk_1 (dk_at dksX0_decidingRule_0 16 rfl rfl)
theorem dX0_decidingRule_17 : decode cX0_decidingRule 17 = .ok (.astore_n 2, 1) := dk_77 (dk_at dksX0_decidingRule_0 17 rfl rfl)
theorem dX0_decidingRule_18 : decode cX0_decidingRule 18 = .ok (.aload_n 0, 1) := dk_42 (dk_at dksX0_decidingRule_0 18 rfl rfl)
theorem dX0_decidingRule_19 : decode cX0_decidingRule 19 = .ok (.iload_n 1, 1) := dk_27 (dk_at dksX0_decidingRule_0 19 rfl rfl)
theorem dX0_decidingRule_20 : decode cX0_decidingRule 20 = .ok (.invokevirtual 145, 3) := dk_182 0 145 (dk_at dksX0_decidingRule_0 20 rfl rfl)
theorem dX0_decidingRule_23 : decode cX0_decidingRule 23 = .ok (.ifCond .ne 7, 3) := dk_154 0 7 (dk_at dksX0_decidingRule_1 0 rfl rfl)
theorem dX0_decidingRule_26 : decode cX0_decidingRule 26 = .ok (.iconst (-1), 1) := dk_2 (dk_at dksX0_decidingRule_1 3 rfl rfl)
theorem dX0_decidingRule_27 : decode cX0_decidingRule 27 = .ok (.goto 16, 3) := dk_167 0 16 (dk_at dksX0_decidingRule_1 4 rfl rfl)
theorem dX0_decidingRule_30 : decode cX0_decidingRule 30 = .ok (.aload_n 2, 1) := dk_44 (dk_at dksX0_decidingRule_1 7 rfl rfl)
theorem dX0_decidingRule_31 : decode cX0_decidingRule 31 = .ok (.ifnonnull 8, 3) := dk_199 0 8 (dk_at dksX0_decidingRule_1 8 rfl rfl)
theorem dX0_decidingRule_34 : decode cX0_decidingRule 34 = .ok (.bipush (-9), 2) := dk_16 247 (dk_at dksX0_decidingRule_1 11 rfl rfl)
theorem dX0_decidingRule_36 : decode cX0_decidingRule 36 = .ok (.goto 7, 3) := dk_167 0 7 (dk_at dksX0_decidingRule_1 13 rfl rfl)
theorem dX0_decidingRule_39 : decode cX0_decidingRule 39 = .ok (.aload_n 2, 1) := dk_44 (dk_at dksX0_decidingRule_1 16 rfl rfl)
theorem dX0_decidingRule_40 : decode cX0_decidingRule 40 = .ok (.getfield 269, 3) := dk_180 1 13 (dk_at dksX0_decidingRule_1 17 rfl rfl)
theorem dX0_decidingRule_43 : decode cX0_decidingRule 43 = .ok (.ireturn, 1) := dk_172 (dk_at dksX0_decidingRule_1 20 rfl rfl)
abbrev cX0_wouldChange : ByteArray := prog_1_method_48_code
def yX0_wouldChange : MethodName := ⟨RX0, "wouldChange", "()I"⟩
def dkwX0_wouldChange_0 : List UInt8 := [42, 3, 182, 0, 97, 3, 42, 180, 0, 25, 180, 0, 104, 182, 0, 44, 182, 0, 201, 172]
abbrev dktX0_wouldChange_0 : List UInt8 := dkwX0_wouldChange_0 ++ []
theorem dksX0_wouldChange_0 : cX0_wouldChange.data.toList.drop 0 = dktX0_wouldChange_0 := by decide +kernel
theorem dX0_wouldChange_0 : decode cX0_wouldChange 0 = .ok (.aload_n 0, 1) := dk_42 (dk_at dksX0_wouldChange_0 0 rfl rfl)
theorem dX0_wouldChange_1 : decode cX0_wouldChange 1 = .ok (.iconst 0, 1) := dk_3 (dk_at dksX0_wouldChange_0 1 rfl rfl)
theorem dX0_wouldChange_2 : decode cX0_wouldChange 2 = .ok (.invokevirtual 97, 3) := dk_182 0 97 (dk_at dksX0_wouldChange_0 2 rfl rfl)
theorem dX0_wouldChange_5 : decode cX0_wouldChange 5 = .ok (.iconst 0, 1) := dk_3 (dk_at dksX0_wouldChange_0 5 rfl rfl)
theorem dX0_wouldChange_6 : decode cX0_wouldChange 6 = .ok (.aload_n 0, 1) := dk_42 (dk_at dksX0_wouldChange_0 6 rfl rfl)
theorem dX0_wouldChange_7 : decode cX0_wouldChange 7 = .ok (.getfield 25, 3) := dk_180 0 25 (dk_at dksX0_wouldChange_0 7 rfl rfl)
theorem dX0_wouldChange_10 : decode cX0_wouldChange 10 = .ok (.getfield 104, 3) := dk_180 0 104 (dk_at dksX0_wouldChange_0 10 rfl rfl)
theorem dX0_wouldChange_13 : decode cX0_wouldChange 13 = .ok (.invokevirtual 44, 3) := dk_182 0 44 (dk_at dksX0_wouldChange_0 13 rfl rfl)
theorem dX0_wouldChange_16 : decode cX0_wouldChange 16 = .ok (.invokevirtual 201, 3) := dk_182 0 201 (dk_at dksX0_wouldChange_0 16 rfl rfl)
theorem dX0_wouldChange_19 : decode cX0_wouldChange 19 = .ok (.ireturn, 1) := dk_172 (dk_at dksX0_wouldChange_0 19 rfl rfl)
abbrev cX0_changesWith : ByteArray := prog_1_method_50_code
def yX0_changesWith : MethodName := ⟨RX0, "changesWith", "(II)I"⟩
def dkwX0_changesWith_1 : List UInt8 := [182, 1, 37, 167, 0, 4, 2, 172]
abbrev dktX0_changesWith_1 : List UInt8 := dkwX0_changesWith_1 ++ []
def dkwX0_changesWith_0 : List UInt8 := [27, 4, 16, 8, 184, 0, 1, 153, 0, 22, 28, 3, 16, 20, 184, 0, 1, 153, 0, 12, 42, 27, 28]
abbrev dktX0_changesWith_0 : List UInt8 := dkwX0_changesWith_0 ++ dktX0_changesWith_1
theorem dksX0_changesWith_0 : cX0_changesWith.data.toList.drop 0 = dktX0_changesWith_0 := by decide +kernel
theorem dksX0_changesWith_1 : cX0_changesWith.data.toList.drop 23 = dktX0_changesWith_1 := dk_seg dksX0_changesWith_0 23 rfl rfl
theorem dX0_changesWith_0 : decode cX0_changesWith 0 = .ok (.iload_n 1, 1) := dk_27 (dk_at dksX0_changesWith_0 0 rfl rfl)
theorem dX0_changesWith_1 : decode cX0_changesWith 1 = .ok (.iconst 1, 1) := dk_4 (dk_at dksX0_changesWith_0 1 rfl rfl)
theorem dX0_changesWith_2 : decode cX0_changesWith 2 = .ok (.bipush 8, 2) := dk_16 8 (dk_at dksX0_changesWith_0 2 rfl rfl)
theorem dX0_changesWith_4 : decode cX0_changesWith 4 = .ok (.invokestatic 1, 3) := dk_184 0 1 (dk_at dksX0_changesWith_0 4 rfl rfl)
theorem dX0_changesWith_7 : decode cX0_changesWith 7 = .ok (.ifCond .eq 22, 3) := dk_153 0 22 (dk_at dksX0_changesWith_0 7 rfl rfl)
theorem dX0_changesWith_10 : decode cX0_changesWith 10 = .ok (.iload_n 2, 1) := dk_28 (dk_at dksX0_changesWith_0 10 rfl rfl)
theorem dX0_changesWith_11 : decode cX0_changesWith 11 = .ok (.iconst 0, 1) := dk_3 (dk_at dksX0_changesWith_0 11 rfl rfl)
theorem dX0_changesWith_12 : decode cX0_changesWith 12 = .ok (.bipush 20, 2) := dk_16 20 (dk_at dksX0_changesWith_0 12 rfl rfl)
theorem dX0_changesWith_14 : decode cX0_changesWith 14 = .ok (.invokestatic 1, 3) := dk_184 0 1 (dk_at dksX0_changesWith_0 14 rfl rfl)
theorem dX0_changesWith_17 : decode cX0_changesWith 17 = .ok (.ifCond .eq 12, 3) := dk_153 0 12 (dk_at dksX0_changesWith_0 17 rfl rfl)
theorem dX0_changesWith_20 : decode cX0_changesWith 20 = .ok (.aload_n 0, 1) := dk_42 (dk_at dksX0_changesWith_0 20 rfl rfl)
theorem dX0_changesWith_21 : decode cX0_changesWith 21 = .ok (.iload_n 1, 1) := dk_27 (dk_at dksX0_changesWith_0 21 rfl rfl)
theorem dX0_changesWith_22 : decode cX0_changesWith 22 = .ok (.iload_n 2, 1) := dk_28 (dk_at dksX0_changesWith_0 22 rfl rfl)
theorem dX0_changesWith_23 : decode cX0_changesWith 23 = .ok (.invokevirtual 293, 3) := dk_182 1 37 (dk_at dksX0_changesWith_1 0 rfl rfl)
theorem dX0_changesWith_26 : decode cX0_changesWith 26 = .ok (.goto 4, 3) := dk_167 0 4 (dk_at dksX0_changesWith_1 3 rfl rfl)
theorem dX0_changesWith_29 : decode cX0_changesWith 29 = .ok (.iconst (-1), 1) := dk_2 (dk_at dksX0_changesWith_1 6 rfl rfl)
theorem dX0_changesWith_30 : decode cX0_changesWith 30 = .ok (.ireturn, 1) := dk_172 (dk_at dksX0_changesWith_1 7 rfl rfl)
abbrev cX0_changesOf : ByteArray := prog_1_method_49_code
def yX0_changesOf : MethodName := ⟨RX0, "changesOf", "(II)I"⟩
def dkwX0_changesOf_4 : List UInt8 := [172]
abbrev dktX0_changesOf_4 : List UInt8 := dkwX0_changesOf_4 ++ []
def dkwX0_changesOf_3 : List UInt8 := [182, 0, 201, 184, 0, 208, 54, 5, 42, 180, 0, 64, 45, 21, 5, 184, 1, 29, 182, 1, 33, 87, 21, 5]
abbrev dktX0_changesOf_3 : List UInt8 := dkwX0_changesOf_3 ++ dktX0_changesOf_4
def dkwX0_changesOf_2 : List UInt8 := [182, 1, 26, 172, 42, 3, 27, 28, 182, 0, 75, 3, 42, 180, 0, 25, 180, 0, 104, 182, 0, 44]
abbrev dktX0_changesOf_2 : List UInt8 := dkwX0_changesOf_2 ++ dktX0_changesOf_3
def dkwX0_changesOf_1 : List UInt8 := [183, 1, 21, 78, 42, 180, 0, 64, 45, 182, 1, 23, 192, 0, 209, 58, 4, 25, 4, 198, 0, 9, 25, 4]
abbrev dktX0_changesOf_1 : List UInt8 := dkwX0_changesOf_1 ++ dktX0_changesOf_2
def dkwX0_changesOf_0 : List UInt8 := [42, 180, 0, 64, 199, 0, 14, 42, 187, 1, 16, 89, 183, 1, 18, 181, 0, 64, 187, 1, 19, 89, 27, 28]
abbrev dktX0_changesOf_0 : List UInt8 := dkwX0_changesOf_0 ++ dktX0_changesOf_1
theorem dksX0_changesOf_0 : cX0_changesOf.data.toList.drop 0 = dktX0_changesOf_0 := by decide +kernel
theorem dksX0_changesOf_1 : cX0_changesOf.data.toList.drop 24 = dktX0_changesOf_1 := dk_seg dksX0_changesOf_0 24 rfl rfl
theorem dksX0_changesOf_2 : cX0_changesOf.data.toList.drop 48 = dktX0_changesOf_2 := dk_seg dksX0_changesOf_1 24 rfl rfl
theorem dksX0_changesOf_3 : cX0_changesOf.data.toList.drop 70 = dktX0_changesOf_3 := dk_seg dksX0_changesOf_2 22 rfl rfl
theorem dksX0_changesOf_4 : cX0_changesOf.data.toList.drop 94 = dktX0_changesOf_4 := dk_seg dksX0_changesOf_3 24 rfl rfl
theorem dX0_changesOf_0 : decode cX0_changesOf 0 = .ok (.aload_n 0, 1) := dk_42 (dk_at dksX0_changesOf_0 0 rfl rfl)
theorem dX0_changesOf_1 : decode cX0_changesOf 1 = .ok (.getfield 64, 3) := dk_180 0 64 (dk_at dksX0_changesOf_0 1 rfl rfl)
theorem dX0_changesOf_4 : decode cX0_changesOf 4 = .ok (.ifnonnull 14, 3) := dk_199 0 14 (dk_at dksX0_changesOf_0 4 rfl rfl)
theorem dX0_changesOf_7 : decode cX0_changesOf 7 = .ok (.aload_n 0, 1) := dk_42 (dk_at dksX0_changesOf_0 7 rfl rfl)
theorem dX0_changesOf_8 : decode cX0_changesOf 8 = .ok (.new 272, 3) := dk_187 1 16 (dk_at dksX0_changesOf_0 8 rfl rfl)
theorem dX0_changesOf_11 : decode cX0_changesOf 11 = .ok (.dup, 1) := dk_89 (dk_at dksX0_changesOf_0 11 rfl rfl)
theorem dX0_changesOf_12 : decode cX0_changesOf 12 = .ok (.invokespecial 274, 3) := dk_183 1 18 (dk_at dksX0_changesOf_0 12 rfl rfl)
theorem dX0_changesOf_15 : decode cX0_changesOf 15 = .ok (.putfield 64, 3) := dk_181 0 64 (dk_at dksX0_changesOf_0 15 rfl rfl)
theorem dX0_changesOf_18 : decode cX0_changesOf 18 = .ok (.new 275, 3) := dk_187 1 19 (dk_at dksX0_changesOf_0 18 rfl rfl)
theorem dX0_changesOf_21 : decode cX0_changesOf 21 = .ok (.dup, 1) := dk_89 (dk_at dksX0_changesOf_0 21 rfl rfl)
theorem dX0_changesOf_22 : decode cX0_changesOf 22 = .ok (.iload_n 1, 1) := dk_27 (dk_at dksX0_changesOf_0 22 rfl rfl)
theorem dX0_changesOf_23 : decode cX0_changesOf 23 = .ok (.iload_n 2, 1) := dk_28 (dk_at dksX0_changesOf_0 23 rfl rfl)
theorem dX0_changesOf_24 : decode cX0_changesOf 24 = .ok (.invokespecial 277, 3) := dk_183 1 21 (dk_at dksX0_changesOf_1 0 rfl rfl)
theorem dX0_changesOf_27 : decode cX0_changesOf 27 = .ok (.astore_n 3, 1) := dk_78 (dk_at dksX0_changesOf_1 3 rfl rfl)
theorem dX0_changesOf_28 : decode cX0_changesOf 28 = .ok (.aload_n 0, 1) := dk_42 (dk_at dksX0_changesOf_1 4 rfl rfl)
theorem dX0_changesOf_29 : decode cX0_changesOf 29 = .ok (.getfield 64, 3) := dk_180 0 64 (dk_at dksX0_changesOf_1 5 rfl rfl)
theorem dX0_changesOf_32 : decode cX0_changesOf 32 = .ok (.aload_n 3, 1) := dk_45 (dk_at dksX0_changesOf_1 8 rfl rfl)
theorem dX0_changesOf_33 : decode cX0_changesOf 33 = .ok (.invokevirtual 279, 3) := dk_182 1 23 (dk_at dksX0_changesOf_1 9 rfl rfl)
theorem dX0_changesOf_36 : decode cX0_changesOf 36 = .ok (.checkcast 209, 3) := dk_192 0 209 (dk_at dksX0_changesOf_1 12 rfl rfl)
theorem dX0_changesOf_39 : decode cX0_changesOf 39 = .ok (.astore 4, 2) := dk_58 4 (dk_at dksX0_changesOf_1 15 rfl rfl)
theorem dX0_changesOf_41 : decode cX0_changesOf 41 = .ok (.aload 4, 2) := dk_25 4 (dk_at dksX0_changesOf_1 17 rfl rfl)
theorem dX0_changesOf_43 : decode cX0_changesOf 43 = .ok (.ifnull 9, 3) := dk_198 0 9 (dk_at dksX0_changesOf_1 19 rfl rfl)
theorem dX0_changesOf_46 : decode cX0_changesOf 46 = .ok (.aload 4, 2) := dk_25 4 (dk_at dksX0_changesOf_1 22 rfl rfl)
theorem dX0_changesOf_48 : decode cX0_changesOf 48 = .ok (.invokevirtual 282, 3) := dk_182 1 26 (dk_at dksX0_changesOf_2 0 rfl rfl)
theorem dX0_changesOf_51 : decode cX0_changesOf 51 = .ok (.ireturn, 1) := dk_172 (dk_at dksX0_changesOf_2 3 rfl rfl)
theorem dX0_changesOf_52 : decode cX0_changesOf 52 = .ok (.aload_n 0, 1) := dk_42 (dk_at dksX0_changesOf_2 4 rfl rfl)
theorem dX0_changesOf_53 : decode cX0_changesOf 53 = .ok (.iconst 0, 1) := dk_3 (dk_at dksX0_changesOf_2 5 rfl rfl)
theorem dX0_changesOf_54 : decode cX0_changesOf 54 = .ok (.iload_n 1, 1) := dk_27 (dk_at dksX0_changesOf_2 6 rfl rfl)
theorem dX0_changesOf_55 : decode cX0_changesOf 55 = .ok (.iload_n 2, 1) := dk_28 (dk_at dksX0_changesOf_2 7 rfl rfl)
theorem dX0_changesOf_56 : decode cX0_changesOf 56 = .ok (.invokevirtual 75, 3) := dk_182 0 75 (dk_at dksX0_changesOf_2 8 rfl rfl)
theorem dX0_changesOf_59 : decode cX0_changesOf 59 = .ok (.iconst 0, 1) := dk_3 (dk_at dksX0_changesOf_2 11 rfl rfl)
theorem dX0_changesOf_60 : decode cX0_changesOf 60 = .ok (.aload_n 0, 1) := dk_42 (dk_at dksX0_changesOf_2 12 rfl rfl)
theorem dX0_changesOf_61 : decode cX0_changesOf 61 = .ok (.getfield 25, 3) := dk_180 0 25 (dk_at dksX0_changesOf_2 13 rfl rfl)
theorem dX0_changesOf_64 : decode cX0_changesOf 64 = .ok (.getfield 104, 3) := dk_180 0 104 (dk_at dksX0_changesOf_2 16 rfl rfl)
theorem dX0_changesOf_67 : decode cX0_changesOf 67 = .ok (.invokevirtual 44, 3) := dk_182 0 44 (dk_at dksX0_changesOf_2 19 rfl rfl)
theorem dX0_changesOf_70 : decode cX0_changesOf 70 = .ok (.invokevirtual 201, 3) := dk_182 0 201 (dk_at dksX0_changesOf_3 0 rfl rfl)
theorem dX0_changesOf_73 : decode cX0_changesOf 73 = .ok (.invokestatic 208, 3) := dk_184 0 208 (dk_at dksX0_changesOf_3 3 rfl rfl)
theorem dX0_changesOf_76 : decode cX0_changesOf 76 = .ok (.istore 5, 2) := dk_54 5 (dk_at dksX0_changesOf_3 6 rfl rfl)
theorem dX0_changesOf_78 : decode cX0_changesOf 78 = .ok (.aload_n 0, 1) := dk_42 (dk_at dksX0_changesOf_3 8 rfl rfl)
theorem dX0_changesOf_79 : decode cX0_changesOf 79 = .ok (.getfield 64, 3) := dk_180 0 64 (dk_at dksX0_changesOf_3 9 rfl rfl)
theorem dX0_changesOf_82 : decode cX0_changesOf 82 = .ok (.aload_n 3, 1) := dk_45 (dk_at dksX0_changesOf_3 12 rfl rfl)
theorem dX0_changesOf_83 : decode cX0_changesOf 83 = .ok (.iload 5, 2) := dk_21 5 (dk_at dksX0_changesOf_3 13 rfl rfl)
theorem dX0_changesOf_85 : decode cX0_changesOf 85 = .ok (.invokestatic 285, 3) := dk_184 1 29 (dk_at dksX0_changesOf_3 15 rfl rfl)
theorem dX0_changesOf_88 : decode cX0_changesOf 88 = .ok (.invokevirtual 289, 3) := dk_182 1 33 (dk_at dksX0_changesOf_3 18 rfl rfl)
theorem dX0_changesOf_91 : decode cX0_changesOf 91 = .ok (.pop, 1) := dk_87 (dk_at dksX0_changesOf_3 21 rfl rfl)
theorem dX0_changesOf_92 : decode cX0_changesOf 92 = .ok (.iload 5, 2) := dk_21 5 (dk_at dksX0_changesOf_3 22 rfl rfl)
theorem dX0_changesOf_94 : decode cX0_changesOf 94 = .ok (.ireturn, 1) := dk_172 (dk_at dksX0_changesOf_4 0 rfl rfl)
abbrev cX0_fewestChanges : ByteArray := prog_1_method_52_code
def yX0_fewestChanges : MethodName := ⟨RX0, "fewestChanges", "()I"⟩
def dkwX0_fewestChanges_0 : List UInt8 := [42, 182, 1, 42, 76, 42, 43, 180, 1, 40, 43, 180, 1, 41, 182, 1, 37, 172]
abbrev dktX0_fewestChanges_0 : List UInt8 := dkwX0_fewestChanges_0 ++ []
theorem dksX0_fewestChanges_0 : cX0_fewestChanges.data.toList.drop 0 = dktX0_fewestChanges_0 := by decide +kernel
theorem dX0_fewestChanges_0 : decode cX0_fewestChanges 0 = .ok (.aload_n 0, 1) := dk_42 (dk_at dksX0_fewestChanges_0 0 rfl rfl)
theorem dX0_fewestChanges_1 : decode cX0_fewestChanges 1 = .ok (.invokevirtual 298, 3) := dk_182 1 42 (dk_at dksX0_fewestChanges_0 1 rfl rfl)
theorem dX0_fewestChanges_4 : decode cX0_fewestChanges 4 = .ok (.astore_n 1, 1) := dk_76 (dk_at dksX0_fewestChanges_0 4 rfl rfl)
theorem dX0_fewestChanges_5 : decode cX0_fewestChanges 5 = .ok (.aload_n 0, 1) := dk_42 (dk_at dksX0_fewestChanges_0 5 rfl rfl)
theorem dX0_fewestChanges_6 : decode cX0_fewestChanges 6 = .ok (.aload_n 1, 1) := dk_43 (dk_at dksX0_fewestChanges_0 6 rfl rfl)
theorem dX0_fewestChanges_7 : decode cX0_fewestChanges 7 = .ok (.getfield 296, 3) := dk_180 1 40 (dk_at dksX0_fewestChanges_0 7 rfl rfl)
theorem dX0_fewestChanges_10 : decode cX0_fewestChanges 10 = .ok (.aload_n 1, 1) := dk_43 (dk_at dksX0_fewestChanges_0 10 rfl rfl)
theorem dX0_fewestChanges_11 : decode cX0_fewestChanges 11 = .ok (.getfield 297, 3) := dk_180 1 41 (dk_at dksX0_fewestChanges_0 11 rfl rfl)
theorem dX0_fewestChanges_14 : decode cX0_fewestChanges 14 = .ok (.invokevirtual 293, 3) := dk_182 1 37 (dk_at dksX0_fewestChanges_0 14 rfl rfl)
theorem dX0_fewestChanges_17 : decode cX0_fewestChanges 17 = .ok (.ireturn, 1) := dk_172 (dk_at dksX0_fewestChanges_0 17 rfl rfl)
abbrev cX0_best : ByteArray := prog_1_method_51_code
def yX0_best : MethodName := ⟨RX0, "best", "()LAutoIndenter$Setting;"⟩
def dkwX0_best_2 : List UInt8 := [187, 1, 19, 89, 28, 29, 183, 1, 21, 76, 132, 3, 1, 167, 255, 216, 132, 2, 1, 167, 255, 202, 43, 176]
abbrev dktX0_best_2 : List UInt8 := dkwX0_best_2 ++ []
def dkwX0_best_1 : List UInt8 := [163, 0, 40, 42, 28, 29, 182, 1, 37, 42, 43, 180, 1, 40, 43, 180, 1, 41, 182, 1, 37, 162, 0, 13]
abbrev dktX0_best_1 : List UInt8 := dkwX0_best_1 ++ dktX0_best_2
def dkwX0_best_0 : List UInt8 := [187, 1, 19, 89, 4, 3, 183, 1, 21, 76, 4, 61, 28, 16, 8, 163, 0, 54, 3, 62, 29, 16, 20]
abbrev dktX0_best_0 : List UInt8 := dkwX0_best_0 ++ dktX0_best_1
theorem dksX0_best_0 : cX0_best.data.toList.drop 0 = dktX0_best_0 := by decide +kernel
theorem dksX0_best_1 : cX0_best.data.toList.drop 23 = dktX0_best_1 := dk_seg dksX0_best_0 23 rfl rfl
theorem dksX0_best_2 : cX0_best.data.toList.drop 47 = dktX0_best_2 := dk_seg dksX0_best_1 24 rfl rfl
theorem dX0_best_0 : decode cX0_best 0 = .ok (.new 275, 3) := dk_187 1 19 (dk_at dksX0_best_0 0 rfl rfl)
theorem dX0_best_3 : decode cX0_best 3 = .ok (.dup, 1) := dk_89 (dk_at dksX0_best_0 3 rfl rfl)
theorem dX0_best_4 : decode cX0_best 4 = .ok (.iconst 1, 1) := dk_4 (dk_at dksX0_best_0 4 rfl rfl)
theorem dX0_best_5 : decode cX0_best 5 = .ok (.iconst 0, 1) := dk_3 (dk_at dksX0_best_0 5 rfl rfl)
theorem dX0_best_6 : decode cX0_best 6 = .ok (.invokespecial 277, 3) := dk_183 1 21 (dk_at dksX0_best_0 6 rfl rfl)
theorem dX0_best_9 : decode cX0_best 9 = .ok (.astore_n 1, 1) := dk_76 (dk_at dksX0_best_0 9 rfl rfl)
theorem dX0_best_10 : decode cX0_best 10 = .ok (.iconst 1, 1) := dk_4 (dk_at dksX0_best_0 10 rfl rfl)
theorem dX0_best_11 : decode cX0_best 11 = .ok (.istore_n 2, 1) := dk_61 (dk_at dksX0_best_0 11 rfl rfl)
theorem dX0_best_12 : decode cX0_best 12 = .ok (.iload_n 2, 1) := dk_28 (dk_at dksX0_best_0 12 rfl rfl)
theorem dX0_best_13 : decode cX0_best 13 = .ok (.bipush 8, 2) := dk_16 8 (dk_at dksX0_best_0 13 rfl rfl)
theorem dX0_best_15 : decode cX0_best 15 = .ok (.if_icmp .gt 54, 3) := dk_163 0 54 (dk_at dksX0_best_0 15 rfl rfl)
theorem dX0_best_18 : decode cX0_best 18 = .ok (.iconst 0, 1) := dk_3 (dk_at dksX0_best_0 18 rfl rfl)
theorem dX0_best_19 : decode cX0_best 19 = .ok (.istore_n 3, 1) := dk_62 (dk_at dksX0_best_0 19 rfl rfl)
theorem dX0_best_20 : decode cX0_best 20 = .ok (.iload_n 3, 1) := dk_29 (dk_at dksX0_best_0 20 rfl rfl)
theorem dX0_best_21 : decode cX0_best 21 = .ok (.bipush 20, 2) := dk_16 20 (dk_at dksX0_best_0 21 rfl rfl)
theorem dX0_best_23 : decode cX0_best 23 = .ok (.if_icmp .gt 40, 3) := dk_163 0 40 (dk_at dksX0_best_1 0 rfl rfl)
theorem dX0_best_26 : decode cX0_best 26 = .ok (.aload_n 0, 1) := dk_42 (dk_at dksX0_best_1 3 rfl rfl)
theorem dX0_best_27 : decode cX0_best 27 = .ok (.iload_n 2, 1) := dk_28 (dk_at dksX0_best_1 4 rfl rfl)
theorem dX0_best_28 : decode cX0_best 28 = .ok (.iload_n 3, 1) := dk_29 (dk_at dksX0_best_1 5 rfl rfl)
theorem dX0_best_29 : decode cX0_best 29 = .ok (.invokevirtual 293, 3) := dk_182 1 37 (dk_at dksX0_best_1 6 rfl rfl)
theorem dX0_best_32 : decode cX0_best 32 = .ok (.aload_n 0, 1) := dk_42 (dk_at dksX0_best_1 9 rfl rfl)
theorem dX0_best_33 : decode cX0_best 33 = .ok (.aload_n 1, 1) := dk_43 (dk_at dksX0_best_1 10 rfl rfl)
theorem dX0_best_34 : decode cX0_best 34 = .ok (.getfield 296, 3) := dk_180 1 40 (dk_at dksX0_best_1 11 rfl rfl)
theorem dX0_best_37 : decode cX0_best 37 = .ok (.aload_n 1, 1) := dk_43 (dk_at dksX0_best_1 14 rfl rfl)
theorem dX0_best_38 : decode cX0_best 38 = .ok (.getfield 297, 3) := dk_180 1 41 (dk_at dksX0_best_1 15 rfl rfl)
theorem dX0_best_41 : decode cX0_best 41 = .ok (.invokevirtual 293, 3) := dk_182 1 37 (dk_at dksX0_best_1 18 rfl rfl)
theorem dX0_best_44 : decode cX0_best 44 = .ok (.if_icmp .ge 13, 3) := dk_162 0 13 (dk_at dksX0_best_1 21 rfl rfl)
theorem dX0_best_47 : decode cX0_best 47 = .ok (.new 275, 3) := dk_187 1 19 (dk_at dksX0_best_2 0 rfl rfl)
theorem dX0_best_50 : decode cX0_best 50 = .ok (.dup, 1) := dk_89 (dk_at dksX0_best_2 3 rfl rfl)
theorem dX0_best_51 : decode cX0_best 51 = .ok (.iload_n 2, 1) := dk_28 (dk_at dksX0_best_2 4 rfl rfl)
theorem dX0_best_52 : decode cX0_best 52 = .ok (.iload_n 3, 1) := dk_29 (dk_at dksX0_best_2 5 rfl rfl)
theorem dX0_best_53 : decode cX0_best 53 = .ok (.invokespecial 277, 3) := dk_183 1 21 (dk_at dksX0_best_2 6 rfl rfl)
theorem dX0_best_56 : decode cX0_best 56 = .ok (.astore_n 1, 1) := dk_76 (dk_at dksX0_best_2 9 rfl rfl)
theorem dX0_best_57 : decode cX0_best 57 = .ok (.iinc 3 1, 3) := dk_132 3 1 (dk_at dksX0_best_2 10 rfl rfl)
theorem dX0_best_60 : decode cX0_best 60 = .ok (.goto (-40), 3) := dk_167 255 216 (dk_at dksX0_best_2 13 rfl rfl)
theorem dX0_best_63 : decode cX0_best 63 = .ok (.iinc 2 1, 3) := dk_132 2 1 (dk_at dksX0_best_2 16 rfl rfl)
theorem dX0_best_66 : decode cX0_best 66 = .ok (.goto (-54), 3) := dk_167 255 202 (dk_at dksX0_best_2 19 rfl rfl)
theorem dX0_best_69 : decode cX0_best 69 = .ok (.aload_n 1, 1) := dk_43 (dk_at dksX0_best_2 22 rfl rfl)
theorem dX0_best_70 : decode cX0_best 70 = .ok (.areturn, 1) := dk_176 (dk_at dksX0_best_2 23 rfl rfl)
abbrev cX0_bestStep : ByteArray := prog_1_method_53_code
def yX0_bestStep : MethodName := ⟨RX0, "bestStep", "()I"⟩
def dkwX0_bestStep_0 : List UInt8 := [42, 182, 1, 42, 180, 1, 40, 172]
abbrev dktX0_bestStep_0 : List UInt8 := dkwX0_bestStep_0 ++ []
theorem dksX0_bestStep_0 : cX0_bestStep.data.toList.drop 0 = dktX0_bestStep_0 := by decide +kernel
theorem dX0_bestStep_0 : decode cX0_bestStep 0 = .ok (.aload_n 0, 1) := dk_42 (dk_at dksX0_bestStep_0 0 rfl rfl)
theorem dX0_bestStep_1 : decode cX0_bestStep 1 = .ok (.invokevirtual 298, 3) := dk_182 1 42 (dk_at dksX0_bestStep_0 1 rfl rfl)
theorem dX0_bestStep_4 : decode cX0_bestStep 4 = .ok (.getfield 296, 3) := dk_180 1 40 (dk_at dksX0_bestStep_0 4 rfl rfl)
theorem dX0_bestStep_7 : decode cX0_bestStep 7 = .ok (.ireturn, 1) := dk_172 (dk_at dksX0_bestStep_0 7 rfl rfl)
abbrev cX0_bestBase : ByteArray := prog_1_method_54_code
def yX0_bestBase : MethodName := ⟨RX0, "bestBase", "()I"⟩
def dkwX0_bestBase_0 : List UInt8 := [42, 182, 1, 42, 180, 1, 41, 172]
abbrev dktX0_bestBase_0 : List UInt8 := dkwX0_bestBase_0 ++ []
theorem dksX0_bestBase_0 : cX0_bestBase.data.toList.drop 0 = dktX0_bestBase_0 := by decide +kernel
theorem dX0_bestBase_0 : decode cX0_bestBase 0 = .ok (.aload_n 0, 1) := dk_42 (dk_at dksX0_bestBase_0 0 rfl rfl)
theorem dX0_bestBase_1 : decode cX0_bestBase 1 = .ok (.invokevirtual 298, 3) := dk_182 1 42 (dk_at dksX0_bestBase_0 1 rfl rfl)
theorem dX0_bestBase_4 : decode cX0_bestBase 4 = .ok (.getfield 297, 3) := dk_180 1 41 (dk_at dksX0_bestBase_0 4 rfl rfl)
theorem dX0_bestBase_7 : decode cX0_bestBase 7 = .ok (.ireturn, 1) := dk_172 (dk_at dksX0_bestBase_0 7 rfl rfl)
abbrev cX0_tokens : ByteArray := prog_1_method_56_code
def yX0_tokens : MethodName := ⟨RX0, "tokens", "(I)I"⟩
def dkwX0_tokens_0 : List UInt8 := [42, 27, 182, 0, 145, 153, 0, 14, 42, 182, 0, 214, 27, 182, 1, 46, 167, 0, 4, 2, 172]
abbrev dktX0_tokens_0 : List UInt8 := dkwX0_tokens_0 ++ []
theorem dksX0_tokens_0 : cX0_tokens.data.toList.drop 0 = dktX0_tokens_0 := by decide +kernel
theorem dX0_tokens_0 : decode cX0_tokens 0 = .ok (.aload_n 0, 1) := dk_42 (dk_at dksX0_tokens_0 0 rfl rfl)
theorem dX0_tokens_1 : decode cX0_tokens 1 = .ok (.iload_n 1, 1) := dk_27 (dk_at dksX0_tokens_0 1 rfl rfl)
theorem dX0_tokens_2 : decode cX0_tokens 2 = .ok (.invokevirtual 145, 3) := dk_182 0 145 (dk_at dksX0_tokens_0 2 rfl rfl)
theorem dX0_tokens_5 : decode cX0_tokens 5 = .ok (.ifCond .eq 14, 3) := dk_153 0 14 (dk_at dksX0_tokens_0 5 rfl rfl)
theorem dX0_tokens_8 : decode cX0_tokens 8 = .ok (.aload_n 0, 1) := dk_42 (dk_at dksX0_tokens_0 8 rfl rfl)
theorem dX0_tokens_9 : decode cX0_tokens 9 = .ok (.invokevirtual 214, 3) := dk_182 0 214 (dk_at dksX0_tokens_0 9 rfl rfl)
theorem dX0_tokens_12 : decode cX0_tokens 12 = .ok (.iload_n 1, 1) := dk_27 (dk_at dksX0_tokens_0 12 rfl rfl)
theorem dX0_tokens_13 : decode cX0_tokens 13 = .ok (.invokevirtual 302, 3) := dk_182 1 46 (dk_at dksX0_tokens_0 13 rfl rfl)
theorem dX0_tokens_16 : decode cX0_tokens 16 = .ok (.goto 4, 3) := dk_167 0 4 (dk_at dksX0_tokens_0 16 rfl rfl)
theorem dX0_tokens_19 : decode cX0_tokens 19 = .ok (.iconst (-1), 1) := dk_2 (dk_at dksX0_tokens_0 19 rfl rfl)
theorem dX0_tokens_20 : decode cX0_tokens 20 = .ok (.ireturn, 1) := dk_172 (dk_at dksX0_tokens_0 20 rfl rfl)
abbrev cX0_tokenAt : ByteArray := prog_1_method_57_code
def yX0_tokenAt : MethodName := ⟨RX0, "tokenAt", "(II)I"⟩
def dkwX0_tokenAt_1 : List UInt8 := [2, 172]
abbrev dktX0_tokenAt_1 : List UInt8 := dkwX0_tokenAt_1 ++ []
def dkwX0_tokenAt_0 : List UInt8 := [42, 27, 28, 182, 1, 49, 153, 0, 18, 42, 182, 0, 214, 27, 28, 182, 1, 52, 180, 1, 55, 167, 0, 4]
abbrev dktX0_tokenAt_0 : List UInt8 := dkwX0_tokenAt_0 ++ dktX0_tokenAt_1
theorem dksX0_tokenAt_0 : cX0_tokenAt.data.toList.drop 0 = dktX0_tokenAt_0 := by decide +kernel
theorem dksX0_tokenAt_1 : cX0_tokenAt.data.toList.drop 24 = dktX0_tokenAt_1 := dk_seg dksX0_tokenAt_0 24 rfl rfl
theorem dX0_tokenAt_0 : decode cX0_tokenAt 0 = .ok (.aload_n 0, 1) := dk_42 (dk_at dksX0_tokenAt_0 0 rfl rfl)
theorem dX0_tokenAt_1 : decode cX0_tokenAt 1 = .ok (.iload_n 1, 1) := dk_27 (dk_at dksX0_tokenAt_0 1 rfl rfl)
theorem dX0_tokenAt_2 : decode cX0_tokenAt 2 = .ok (.iload_n 2, 1) := dk_28 (dk_at dksX0_tokenAt_0 2 rfl rfl)
theorem dX0_tokenAt_3 : decode cX0_tokenAt 3 = .ok (.invokevirtual 305, 3) := dk_182 1 49 (dk_at dksX0_tokenAt_0 3 rfl rfl)
theorem dX0_tokenAt_6 : decode cX0_tokenAt 6 = .ok (.ifCond .eq 18, 3) := dk_153 0 18 (dk_at dksX0_tokenAt_0 6 rfl rfl)
theorem dX0_tokenAt_9 : decode cX0_tokenAt 9 = .ok (.aload_n 0, 1) := dk_42 (dk_at dksX0_tokenAt_0 9 rfl rfl)
theorem dX0_tokenAt_10 : decode cX0_tokenAt 10 = .ok (.invokevirtual 214, 3) := dk_182 0 214 (dk_at dksX0_tokenAt_0 10 rfl rfl)
theorem dX0_tokenAt_13 : decode cX0_tokenAt 13 = .ok (.iload_n 1, 1) := dk_27 (dk_at dksX0_tokenAt_0 13 rfl rfl)
theorem dX0_tokenAt_14 : decode cX0_tokenAt 14 = .ok (.iload_n 2, 1) := dk_28 (dk_at dksX0_tokenAt_0 14 rfl rfl)
theorem dX0_tokenAt_15 : decode cX0_tokenAt 15 = .ok (.invokevirtual 308, 3) := dk_182 1 52 (dk_at dksX0_tokenAt_0 15 rfl rfl)
theorem dX0_tokenAt_18 : decode cX0_tokenAt 18 = .ok (.getfield 311, 3) := dk_180 1 55 (dk_at dksX0_tokenAt_0 18 rfl rfl)
theorem dX0_tokenAt_21 : decode cX0_tokenAt 21 = .ok (.goto 4, 3) := dk_167 0 4 (dk_at dksX0_tokenAt_0 21 rfl rfl)
theorem dX0_tokenAt_24 : decode cX0_tokenAt 24 = .ok (.iconst (-1), 1) := dk_2 (dk_at dksX0_tokenAt_1 0 rfl rfl)
theorem dX0_tokenAt_25 : decode cX0_tokenAt 25 = .ok (.ireturn, 1) := dk_172 (dk_at dksX0_tokenAt_1 1 rfl rfl)
abbrev cX0_isToken : ByteArray := prog_1_method_55_code
def yX0_isToken : MethodName := ⟨RX0, "isToken", "(II)Z"⟩
def dkwX0_isToken_1 : List UInt8 := [153, 0, 7, 4, 167, 0, 4, 3, 172]
abbrev dktX0_isToken_1 : List UInt8 := dkwX0_isToken_1 ++ []
def dkwX0_isToken_0 : List UInt8 := [42, 27, 182, 0, 145, 153, 0, 25, 28, 3, 42, 182, 0, 214, 27, 182, 1, 46, 4, 100, 184, 0, 1]
abbrev dktX0_isToken_0 : List UInt8 := dkwX0_isToken_0 ++ dktX0_isToken_1
theorem dksX0_isToken_0 : cX0_isToken.data.toList.drop 0 = dktX0_isToken_0 := by decide +kernel
theorem dksX0_isToken_1 : cX0_isToken.data.toList.drop 23 = dktX0_isToken_1 := dk_seg dksX0_isToken_0 23 rfl rfl
theorem dX0_isToken_0 : decode cX0_isToken 0 = .ok (.aload_n 0, 1) := dk_42 (dk_at dksX0_isToken_0 0 rfl rfl)
theorem dX0_isToken_1 : decode cX0_isToken 1 = .ok (.iload_n 1, 1) := dk_27 (dk_at dksX0_isToken_0 1 rfl rfl)
theorem dX0_isToken_2 : decode cX0_isToken 2 = .ok (.invokevirtual 145, 3) := dk_182 0 145 (dk_at dksX0_isToken_0 2 rfl rfl)
theorem dX0_isToken_5 : decode cX0_isToken 5 = .ok (.ifCond .eq 25, 3) := dk_153 0 25 (dk_at dksX0_isToken_0 5 rfl rfl)
theorem dX0_isToken_8 : decode cX0_isToken 8 = .ok (.iload_n 2, 1) := dk_28 (dk_at dksX0_isToken_0 8 rfl rfl)
theorem dX0_isToken_9 : decode cX0_isToken 9 = .ok (.iconst 0, 1) := dk_3 (dk_at dksX0_isToken_0 9 rfl rfl)
theorem dX0_isToken_10 : decode cX0_isToken 10 = .ok (.aload_n 0, 1) := dk_42 (dk_at dksX0_isToken_0 10 rfl rfl)
theorem dX0_isToken_11 : decode cX0_isToken 11 = .ok (.invokevirtual 214, 3) := dk_182 0 214 (dk_at dksX0_isToken_0 11 rfl rfl)
theorem dX0_isToken_14 : decode cX0_isToken 14 = .ok (.iload_n 1, 1) := dk_27 (dk_at dksX0_isToken_0 14 rfl rfl)
theorem dX0_isToken_15 : decode cX0_isToken 15 = .ok (.invokevirtual 302, 3) := dk_182 1 46 (dk_at dksX0_isToken_0 15 rfl rfl)
theorem dX0_isToken_18 : decode cX0_isToken 18 = .ok (.iconst 1, 1) := dk_4 (dk_at dksX0_isToken_0 18 rfl rfl)
theorem dX0_isToken_19 : decode cX0_isToken 19 = .ok (.isub, 1) := dk_100 (dk_at dksX0_isToken_0 19 rfl rfl)
theorem dX0_isToken_20 : decode cX0_isToken 20 = .ok (.invokestatic 1, 3) := dk_184 0 1 (dk_at dksX0_isToken_0 20 rfl rfl)
theorem dX0_isToken_23 : decode cX0_isToken 23 = .ok (.ifCond .eq 7, 3) := dk_153 0 7 (dk_at dksX0_isToken_1 0 rfl rfl)
theorem dX0_isToken_26 : decode cX0_isToken 26 = .ok (.iconst 1, 1) := dk_4 (dk_at dksX0_isToken_1 3 rfl rfl)
theorem dX0_isToken_27 : decode cX0_isToken 27 = .ok (.goto 4, 3) := dk_167 0 4 (dk_at dksX0_isToken_1 4 rfl rfl)
theorem dX0_isToken_30 : decode cX0_isToken 30 = .ok (.iconst 0, 1) := dk_3 (dk_at dksX0_isToken_1 7 rfl rfl)
theorem dX0_isToken_31 : decode cX0_isToken 31 = .ok (.ireturn, 1) := dk_172 (dk_at dksX0_isToken_1 8 rfl rfl)
abbrev cX0_tokenLength : ByteArray := prog_1_method_58_code
def yX0_tokenLength : MethodName := ⟨RX0, "tokenLength", "(II)I"⟩
def dkwX0_tokenLength_1 : List UInt8 := [2, 172]
abbrev dktX0_tokenLength_1 : List UInt8 := dkwX0_tokenLength_1 ++ []
def dkwX0_tokenLength_0 : List UInt8 := [42, 27, 28, 182, 1, 49, 153, 0, 18, 42, 182, 0, 214, 27, 28, 182, 1, 52, 180, 1, 58, 167, 0, 4]
abbrev dktX0_tokenLength_0 : List UInt8 := dkwX0_tokenLength_0 ++ dktX0_tokenLength_1
theorem dksX0_tokenLength_0 : cX0_tokenLength.data.toList.drop 0 = dktX0_tokenLength_0 := by decide +kernel
theorem dksX0_tokenLength_1 : cX0_tokenLength.data.toList.drop 24 = dktX0_tokenLength_1 := dk_seg dksX0_tokenLength_0 24 rfl rfl
theorem dX0_tokenLength_0 : decode cX0_tokenLength 0 = .ok (.aload_n 0, 1) := dk_42 (dk_at dksX0_tokenLength_0 0 rfl rfl)
theorem dX0_tokenLength_1 : decode cX0_tokenLength 1 = .ok (.iload_n 1, 1) := dk_27 (dk_at dksX0_tokenLength_0 1 rfl rfl)
theorem dX0_tokenLength_2 : decode cX0_tokenLength 2 = .ok (.iload_n 2, 1) := dk_28 (dk_at dksX0_tokenLength_0 2 rfl rfl)
theorem dX0_tokenLength_3 : decode cX0_tokenLength 3 = .ok (.invokevirtual 305, 3) := dk_182 1 49 (dk_at dksX0_tokenLength_0 3 rfl rfl)
theorem dX0_tokenLength_6 : decode cX0_tokenLength 6 = .ok (.ifCond .eq 18, 3) := dk_153 0 18 (dk_at dksX0_tokenLength_0 6 rfl rfl)
theorem dX0_tokenLength_9 : decode cX0_tokenLength 9 = .ok (.aload_n 0, 1) := dk_42 (dk_at dksX0_tokenLength_0 9 rfl rfl)
theorem dX0_tokenLength_10 : decode cX0_tokenLength 10 = .ok (.invokevirtual 214, 3) := dk_182 0 214 (dk_at dksX0_tokenLength_0 10 rfl rfl)
theorem dX0_tokenLength_13 : decode cX0_tokenLength 13 = .ok (.iload_n 1, 1) := dk_27 (dk_at dksX0_tokenLength_0 13 rfl rfl)
theorem dX0_tokenLength_14 : decode cX0_tokenLength 14 = .ok (.iload_n 2, 1) := dk_28 (dk_at dksX0_tokenLength_0 14 rfl rfl)
theorem dX0_tokenLength_15 : decode cX0_tokenLength 15 = .ok (.invokevirtual 308, 3) := dk_182 1 52 (dk_at dksX0_tokenLength_0 15 rfl rfl)
theorem dX0_tokenLength_18 : decode cX0_tokenLength 18 = .ok (.getfield 314, 3) := dk_180 1 58 (dk_at dksX0_tokenLength_0 18 rfl rfl)
theorem dX0_tokenLength_21 : decode cX0_tokenLength 21 = .ok (.goto 4, 3) := dk_167 0 4 (dk_at dksX0_tokenLength_0 21 rfl rfl)
theorem dX0_tokenLength_24 : decode cX0_tokenLength 24 = .ok (.iconst (-1), 1) := dk_2 (dk_at dksX0_tokenLength_1 0 rfl rfl)
theorem dX0_tokenLength_25 : decode cX0_tokenLength 25 = .ok (.ireturn, 1) := dk_172 (dk_at dksX0_tokenLength_1 1 rfl rfl)
abbrev cX0_tokenKind : ByteArray := prog_1_method_59_code
def yX0_tokenKind : MethodName := ⟨RX0, "tokenKind", "(II)I"⟩
def dkwX0_tokenKind_1 : List UInt8 := [2, 172]
abbrev dktX0_tokenKind_1 : List UInt8 := dkwX0_tokenKind_1 ++ []
def dkwX0_tokenKind_0 : List UInt8 := [42, 27, 28, 182, 1, 49, 153, 0, 18, 42, 182, 0, 214, 27, 28, 182, 1, 52, 180, 1, 59, 167, 0, 4]
abbrev dktX0_tokenKind_0 : List UInt8 := dkwX0_tokenKind_0 ++ dktX0_tokenKind_1
theorem dksX0_tokenKind_0 : cX0_tokenKind.data.toList.drop 0 = dktX0_tokenKind_0 := by decide +kernel
theorem dksX0_tokenKind_1 : cX0_tokenKind.data.toList.drop 24 = dktX0_tokenKind_1 := dk_seg dksX0_tokenKind_0 24 rfl rfl
theorem dX0_tokenKind_0 : decode cX0_tokenKind 0 = .ok (.aload_n 0, 1) := dk_42 (dk_at dksX0_tokenKind_0 0 rfl rfl)
theorem dX0_tokenKind_1 : decode cX0_tokenKind 1 = .ok (.iload_n 1, 1) := dk_27 (dk_at dksX0_tokenKind_0 1 rfl rfl)
theorem dX0_tokenKind_2 : decode cX0_tokenKind 2 = .ok (.iload_n 2, 1) := dk_28 (dk_at dksX0_tokenKind_0 2 rfl rfl)
theorem dX0_tokenKind_3 : decode cX0_tokenKind 3 = .ok (.invokevirtual 305, 3) := dk_182 1 49 (dk_at dksX0_tokenKind_0 3 rfl rfl)
theorem dX0_tokenKind_6 : decode cX0_tokenKind 6 = .ok (.ifCond .eq 18, 3) := dk_153 0 18 (dk_at dksX0_tokenKind_0 6 rfl rfl)
theorem dX0_tokenKind_9 : decode cX0_tokenKind 9 = .ok (.aload_n 0, 1) := dk_42 (dk_at dksX0_tokenKind_0 9 rfl rfl)
theorem dX0_tokenKind_10 : decode cX0_tokenKind 10 = .ok (.invokevirtual 214, 3) := dk_182 0 214 (dk_at dksX0_tokenKind_0 10 rfl rfl)
theorem dX0_tokenKind_13 : decode cX0_tokenKind 13 = .ok (.iload_n 1, 1) := dk_27 (dk_at dksX0_tokenKind_0 13 rfl rfl)
theorem dX0_tokenKind_14 : decode cX0_tokenKind 14 = .ok (.iload_n 2, 1) := dk_28 (dk_at dksX0_tokenKind_0 14 rfl rfl)
theorem dX0_tokenKind_15 : decode cX0_tokenKind 15 = .ok (.invokevirtual 308, 3) := dk_182 1 52 (dk_at dksX0_tokenKind_0 15 rfl rfl)
theorem dX0_tokenKind_18 : decode cX0_tokenKind 18 = .ok (.getfield 315, 3) := dk_180 1 59 (dk_at dksX0_tokenKind_0 18 rfl rfl)
theorem dX0_tokenKind_21 : decode cX0_tokenKind 21 = .ok (.goto 4, 3) := dk_167 0 4 (dk_at dksX0_tokenKind_0 21 rfl rfl)
theorem dX0_tokenKind_24 : decode cX0_tokenKind 24 = .ok (.iconst (-1), 1) := dk_2 (dk_at dksX0_tokenKind_1 0 rfl rfl)
theorem dX0_tokenKind_25 : decode cX0_tokenKind 25 = .ok (.ireturn, 1) := dk_172 (dk_at dksX0_tokenKind_1 1 rfl rfl)
abbrev cX0_openedBy : ByteArray := prog_1_method_61_code
def yX0_openedBy : MethodName := ⟨RX0, "openedBy", "(II)I"⟩
def dkwX0_openedBy_2 : List UInt8 := [172]
abbrev dktX0_openedBy_2 : List UInt8 := dkwX0_openedBy_2 ++ []
def dkwX0_openedBy_1 : List UInt8 := [182, 0, 97, 78, 42, 45, 180, 1, 70, 45, 180, 0, 100, 180, 1, 67, 27, 46, 28, 96, 46, 182, 1, 73]
abbrev dktX0_openedBy_1 : List UInt8 := dkwX0_openedBy_1 ++ dktX0_openedBy_2
def dkwX0_openedBy_0 : List UInt8 := [42, 27, 28, 182, 1, 49, 154, 0, 5, 2, 172, 42, 42, 180, 0, 25, 180, 0, 104, 182, 0, 44]
abbrev dktX0_openedBy_0 : List UInt8 := dkwX0_openedBy_0 ++ dktX0_openedBy_1
theorem dksX0_openedBy_0 : cX0_openedBy.data.toList.drop 0 = dktX0_openedBy_0 := by decide +kernel
theorem dksX0_openedBy_1 : cX0_openedBy.data.toList.drop 22 = dktX0_openedBy_1 := dk_seg dksX0_openedBy_0 22 rfl rfl
theorem dksX0_openedBy_2 : cX0_openedBy.data.toList.drop 46 = dktX0_openedBy_2 := dk_seg dksX0_openedBy_1 24 rfl rfl
theorem dX0_openedBy_0 : decode cX0_openedBy 0 = .ok (.aload_n 0, 1) := dk_42 (dk_at dksX0_openedBy_0 0 rfl rfl)
theorem dX0_openedBy_1 : decode cX0_openedBy 1 = .ok (.iload_n 1, 1) := dk_27 (dk_at dksX0_openedBy_0 1 rfl rfl)
theorem dX0_openedBy_2 : decode cX0_openedBy 2 = .ok (.iload_n 2, 1) := dk_28 (dk_at dksX0_openedBy_0 2 rfl rfl)
theorem dX0_openedBy_3 : decode cX0_openedBy 3 = .ok (.invokevirtual 305, 3) := dk_182 1 49 (dk_at dksX0_openedBy_0 3 rfl rfl)
theorem dX0_openedBy_6 : decode cX0_openedBy 6 = .ok (.ifCond .ne 5, 3) := dk_154 0 5 (dk_at dksX0_openedBy_0 6 rfl rfl)
theorem dX0_openedBy_9 : decode cX0_openedBy 9 = .ok (.iconst (-1), 1) := dk_2 (dk_at dksX0_openedBy_0 9 rfl rfl)
theorem dX0_openedBy_10 : decode cX0_openedBy 10 = .ok (.ireturn, 1) := dk_172 (dk_at dksX0_openedBy_0 10 rfl rfl)
theorem dX0_openedBy_11 : decode cX0_openedBy 11 = .ok (.aload_n 0, 1) := dk_42 (dk_at dksX0_openedBy_0 11 rfl rfl)
theorem dX0_openedBy_12 : decode cX0_openedBy 12 = .ok (.aload_n 0, 1) := dk_42 (dk_at dksX0_openedBy_0 12 rfl rfl)
theorem dX0_openedBy_13 : decode cX0_openedBy 13 = .ok (.getfield 25, 3) := dk_180 0 25 (dk_at dksX0_openedBy_0 13 rfl rfl)
theorem dX0_openedBy_16 : decode cX0_openedBy 16 = .ok (.getfield 104, 3) := dk_180 0 104 (dk_at dksX0_openedBy_0 16 rfl rfl)
theorem dX0_openedBy_19 : decode cX0_openedBy 19 = .ok (.invokevirtual 44, 3) := dk_182 0 44 (dk_at dksX0_openedBy_0 19 rfl rfl)
theorem dX0_openedBy_22 : decode cX0_openedBy 22 = .ok (.invokevirtual 97, 3) := dk_182 0 97 (dk_at dksX0_openedBy_1 0 rfl rfl)
theorem dX0_openedBy_25 : decode cX0_openedBy 25 = .ok (.astore_n 3, 1) := dk_78 (dk_at dksX0_openedBy_1 3 rfl rfl)
theorem dX0_openedBy_26 : decode cX0_openedBy 26 = .ok (.aload_n 0, 1) := dk_42 (dk_at dksX0_openedBy_1 4 rfl rfl)
theorem dX0_openedBy_27 : decode cX0_openedBy 27 = .ok (.aload_n 3, 1) := dk_45 (dk_at dksX0_openedBy_1 5 rfl rfl)
theorem dX0_openedBy_28 : decode cX0_openedBy 28 = .ok (.getfield 326, 3) := dk_180 1 70 (dk_at dksX0_openedBy_1 6 rfl rfl)
theorem dX0_openedBy_31 : decode cX0_openedBy 31 = .ok (.aload_n 3, 1) := dk_45 (dk_at dksX0_openedBy_1 9 rfl rfl)
theorem dX0_openedBy_32 : decode cX0_openedBy 32 = .ok (.getfield 100, 3) := dk_180 0 100 (dk_at dksX0_openedBy_1 10 rfl rfl)
theorem dX0_openedBy_35 : decode cX0_openedBy 35 = .ok (.getfield 323, 3) := dk_180 1 67 (dk_at dksX0_openedBy_1 13 rfl rfl)
theorem dX0_openedBy_38 : decode cX0_openedBy 38 = .ok (.iload_n 1, 1) := dk_27 (dk_at dksX0_openedBy_1 16 rfl rfl)
theorem dX0_openedBy_39 : decode cX0_openedBy 39 = .ok (.iaload, 1) := dk_46 (dk_at dksX0_openedBy_1 17 rfl rfl)
theorem dX0_openedBy_40 : decode cX0_openedBy 40 = .ok (.iload_n 2, 1) := dk_28 (dk_at dksX0_openedBy_1 18 rfl rfl)
theorem dX0_openedBy_41 : decode cX0_openedBy 41 = .ok (.iadd, 1) := dk_96 (dk_at dksX0_openedBy_1 19 rfl rfl)
theorem dX0_openedBy_42 : decode cX0_openedBy 42 = .ok (.iaload, 1) := dk_46 (dk_at dksX0_openedBy_1 20 rfl rfl)
theorem dX0_openedBy_43 : decode cX0_openedBy 43 = .ok (.invokevirtual 329, 3) := dk_182 1 73 (dk_at dksX0_openedBy_1 21 rfl rfl)
theorem dX0_openedBy_46 : decode cX0_openedBy 46 = .ok (.ireturn, 1) := dk_172 (dk_at dksX0_openedBy_2 0 rfl rfl)
abbrev cX0_placeOf : ByteArray := prog_1_method_60_code
def yX0_placeOf : MethodName := ⟨RX0, "placeOf", "(I)I"⟩
def dkwX0_placeOf_1 : List UInt8 := [182, 0, 107, 192, 1, 56, 180, 1, 65, 62, 16, 100, 29, 104, 27, 96, 44, 180, 1, 67, 29, 46, 100, 172]
abbrev dktX0_placeOf_1 : List UInt8 := dkwX0_placeOf_1 ++ []
def dkwX0_placeOf_0 : List UInt8 := [27, 16, 247, 160, 0, 6, 16, 247, 172, 42, 180, 0, 60, 180, 0, 100, 77, 44, 180, 1, 62, 27]
abbrev dktX0_placeOf_0 : List UInt8 := dkwX0_placeOf_0 ++ dktX0_placeOf_1
theorem dksX0_placeOf_0 : cX0_placeOf.data.toList.drop 0 = dktX0_placeOf_0 := by decide +kernel
theorem dksX0_placeOf_1 : cX0_placeOf.data.toList.drop 22 = dktX0_placeOf_1 := dk_seg dksX0_placeOf_0 22 rfl rfl
theorem dX0_placeOf_0 : decode cX0_placeOf 0 = .ok (.iload_n 1, 1) := dk_27 (dk_at dksX0_placeOf_0 0 rfl rfl)
theorem dX0_placeOf_1 : decode cX0_placeOf 1 = .ok (.bipush (-9), 2) := dk_16 247 (dk_at dksX0_placeOf_0 1 rfl rfl)
theorem dX0_placeOf_3 : decode cX0_placeOf 3 = .ok (.if_icmp .ne 6, 3) := dk_160 0 6 (dk_at dksX0_placeOf_0 3 rfl rfl)
theorem dX0_placeOf_6 : decode cX0_placeOf 6 = .ok (.bipush (-9), 2) := dk_16 247 (dk_at dksX0_placeOf_0 6 rfl rfl)
theorem dX0_placeOf_8 : decode cX0_placeOf 8 = .ok (.ireturn, 1) := dk_172 (dk_at dksX0_placeOf_0 8 rfl rfl)
theorem dX0_placeOf_9 : decode cX0_placeOf 9 = .ok (.aload_n 0, 1) := dk_42 (dk_at dksX0_placeOf_0 9 rfl rfl)
theorem dX0_placeOf_10 : decode cX0_placeOf 10 = .ok (.getfield 60, 3) := dk_180 0 60 (dk_at dksX0_placeOf_0 10 rfl rfl)
theorem dX0_placeOf_13 : decode cX0_placeOf 13 = .ok (.getfield 100, 3) := dk_180 0 100 (dk_at dksX0_placeOf_0 13 rfl rfl)
theorem dX0_placeOf_16 : decode cX0_placeOf 16 = .ok (.astore_n 2, 1) := dk_77 (dk_at dksX0_placeOf_0 16 rfl rfl)
theorem dX0_placeOf_17 : decode cX0_placeOf 17 = .ok (.aload_n 2, 1) := dk_44 (dk_at dksX0_placeOf_0 17 rfl rfl)
theorem dX0_placeOf_18 : decode cX0_placeOf 18 = .ok (.getfield 318, 3) := dk_180 1 62 (dk_at dksX0_placeOf_0 18 rfl rfl)
theorem dX0_placeOf_21 : decode cX0_placeOf 21 = .ok (.iload_n 1, 1) := dk_27 (dk_at dksX0_placeOf_0 21 rfl rfl)
theorem dX0_placeOf_22 : decode cX0_placeOf 22 = .ok (.invokevirtual 107, 3) := dk_182 0 107 (dk_at dksX0_placeOf_1 0 rfl rfl)
theorem dX0_placeOf_25 : decode cX0_placeOf 25 = .ok (.checkcast 312, 3) := dk_192 1 56 (dk_at dksX0_placeOf_1 3 rfl rfl)
theorem dX0_placeOf_28 : decode cX0_placeOf 28 = .ok (.getfield 321, 3) := dk_180 1 65 (dk_at dksX0_placeOf_1 6 rfl rfl)
theorem dX0_placeOf_31 : decode cX0_placeOf 31 = .ok (.istore_n 3, 1) := dk_62 (dk_at dksX0_placeOf_1 9 rfl rfl)
theorem dX0_placeOf_32 : decode cX0_placeOf 32 = .ok (.bipush 100, 2) := dk_16 100 (dk_at dksX0_placeOf_1 10 rfl rfl)
theorem dX0_placeOf_34 : decode cX0_placeOf 34 = .ok (.iload_n 3, 1) := dk_29 (dk_at dksX0_placeOf_1 12 rfl rfl)
theorem dX0_placeOf_35 : decode cX0_placeOf 35 = .ok (.imul, 1) := dk_104 (dk_at dksX0_placeOf_1 13 rfl rfl)
theorem dX0_placeOf_36 : decode cX0_placeOf 36 = .ok (.iload_n 1, 1) := dk_27 (dk_at dksX0_placeOf_1 14 rfl rfl)
theorem dX0_placeOf_37 : decode cX0_placeOf 37 = .ok (.iadd, 1) := dk_96 (dk_at dksX0_placeOf_1 15 rfl rfl)
theorem dX0_placeOf_38 : decode cX0_placeOf 38 = .ok (.aload_n 2, 1) := dk_44 (dk_at dksX0_placeOf_1 16 rfl rfl)
theorem dX0_placeOf_39 : decode cX0_placeOf 39 = .ok (.getfield 323, 3) := dk_180 1 67 (dk_at dksX0_placeOf_1 17 rfl rfl)
theorem dX0_placeOf_42 : decode cX0_placeOf 42 = .ok (.iload_n 3, 1) := dk_29 (dk_at dksX0_placeOf_1 20 rfl rfl)
theorem dX0_placeOf_43 : decode cX0_placeOf 43 = .ok (.iaload, 1) := dk_46 (dk_at dksX0_placeOf_1 21 rfl rfl)
theorem dX0_placeOf_44 : decode cX0_placeOf 44 = .ok (.isub, 1) := dk_100 (dk_at dksX0_placeOf_1 22 rfl rfl)
theorem dX0_placeOf_45 : decode cX0_placeOf 45 = .ok (.ireturn, 1) := dk_172 (dk_at dksX0_placeOf_1 23 rfl rfl)
abbrev cX0_closedBy : ByteArray := prog_1_method_62_code
def yX0_closedBy : MethodName := ⟨RX0, "closedBy", "(II)I"⟩
def dkwX0_closedBy_2 : List UInt8 := [172]
abbrev dktX0_closedBy_2 : List UInt8 := dkwX0_closedBy_2 ++ []
def dkwX0_closedBy_1 : List UInt8 := [182, 0, 97, 78, 42, 45, 180, 1, 76, 45, 180, 0, 100, 180, 1, 67, 27, 46, 28, 96, 46, 182, 1, 73]
abbrev dktX0_closedBy_1 : List UInt8 := dkwX0_closedBy_1 ++ dktX0_closedBy_2
def dkwX0_closedBy_0 : List UInt8 := [42, 27, 28, 182, 1, 49, 154, 0, 5, 2, 172, 42, 42, 180, 0, 25, 180, 0, 104, 182, 0, 44]
abbrev dktX0_closedBy_0 : List UInt8 := dkwX0_closedBy_0 ++ dktX0_closedBy_1
theorem dksX0_closedBy_0 : cX0_closedBy.data.toList.drop 0 = dktX0_closedBy_0 := by decide +kernel
theorem dksX0_closedBy_1 : cX0_closedBy.data.toList.drop 22 = dktX0_closedBy_1 := dk_seg dksX0_closedBy_0 22 rfl rfl
theorem dksX0_closedBy_2 : cX0_closedBy.data.toList.drop 46 = dktX0_closedBy_2 := dk_seg dksX0_closedBy_1 24 rfl rfl
theorem dX0_closedBy_0 : decode cX0_closedBy 0 = .ok (.aload_n 0, 1) := dk_42 (dk_at dksX0_closedBy_0 0 rfl rfl)
theorem dX0_closedBy_1 : decode cX0_closedBy 1 = .ok (.iload_n 1, 1) := dk_27 (dk_at dksX0_closedBy_0 1 rfl rfl)
theorem dX0_closedBy_2 : decode cX0_closedBy 2 = .ok (.iload_n 2, 1) := dk_28 (dk_at dksX0_closedBy_0 2 rfl rfl)
theorem dX0_closedBy_3 : decode cX0_closedBy 3 = .ok (.invokevirtual 305, 3) := dk_182 1 49 (dk_at dksX0_closedBy_0 3 rfl rfl)
theorem dX0_closedBy_6 : decode cX0_closedBy 6 = .ok (.ifCond .ne 5, 3) := dk_154 0 5 (dk_at dksX0_closedBy_0 6 rfl rfl)
theorem dX0_closedBy_9 : decode cX0_closedBy 9 = .ok (.iconst (-1), 1) := dk_2 (dk_at dksX0_closedBy_0 9 rfl rfl)
theorem dX0_closedBy_10 : decode cX0_closedBy 10 = .ok (.ireturn, 1) := dk_172 (dk_at dksX0_closedBy_0 10 rfl rfl)
theorem dX0_closedBy_11 : decode cX0_closedBy 11 = .ok (.aload_n 0, 1) := dk_42 (dk_at dksX0_closedBy_0 11 rfl rfl)
theorem dX0_closedBy_12 : decode cX0_closedBy 12 = .ok (.aload_n 0, 1) := dk_42 (dk_at dksX0_closedBy_0 12 rfl rfl)
theorem dX0_closedBy_13 : decode cX0_closedBy 13 = .ok (.getfield 25, 3) := dk_180 0 25 (dk_at dksX0_closedBy_0 13 rfl rfl)
theorem dX0_closedBy_16 : decode cX0_closedBy 16 = .ok (.getfield 104, 3) := dk_180 0 104 (dk_at dksX0_closedBy_0 16 rfl rfl)
theorem dX0_closedBy_19 : decode cX0_closedBy 19 = .ok (.invokevirtual 44, 3) := dk_182 0 44 (dk_at dksX0_closedBy_0 19 rfl rfl)
theorem dX0_closedBy_22 : decode cX0_closedBy 22 = .ok (.invokevirtual 97, 3) := dk_182 0 97 (dk_at dksX0_closedBy_1 0 rfl rfl)
theorem dX0_closedBy_25 : decode cX0_closedBy 25 = .ok (.astore_n 3, 1) := dk_78 (dk_at dksX0_closedBy_1 3 rfl rfl)
theorem dX0_closedBy_26 : decode cX0_closedBy 26 = .ok (.aload_n 0, 1) := dk_42 (dk_at dksX0_closedBy_1 4 rfl rfl)
theorem dX0_closedBy_27 : decode cX0_closedBy 27 = .ok (.aload_n 3, 1) := dk_45 (dk_at dksX0_closedBy_1 5 rfl rfl)
theorem dX0_closedBy_28 : decode cX0_closedBy 28 = .ok (.getfield 332, 3) := dk_180 1 76 (dk_at dksX0_closedBy_1 6 rfl rfl)
theorem dX0_closedBy_31 : decode cX0_closedBy 31 = .ok (.aload_n 3, 1) := dk_45 (dk_at dksX0_closedBy_1 9 rfl rfl)
theorem dX0_closedBy_32 : decode cX0_closedBy 32 = .ok (.getfield 100, 3) := dk_180 0 100 (dk_at dksX0_closedBy_1 10 rfl rfl)
theorem dX0_closedBy_35 : decode cX0_closedBy 35 = .ok (.getfield 323, 3) := dk_180 1 67 (dk_at dksX0_closedBy_1 13 rfl rfl)
theorem dX0_closedBy_38 : decode cX0_closedBy 38 = .ok (.iload_n 1, 1) := dk_27 (dk_at dksX0_closedBy_1 16 rfl rfl)
theorem dX0_closedBy_39 : decode cX0_closedBy 39 = .ok (.iaload, 1) := dk_46 (dk_at dksX0_closedBy_1 17 rfl rfl)
theorem dX0_closedBy_40 : decode cX0_closedBy 40 = .ok (.iload_n 2, 1) := dk_28 (dk_at dksX0_closedBy_1 18 rfl rfl)
theorem dX0_closedBy_41 : decode cX0_closedBy 41 = .ok (.iadd, 1) := dk_96 (dk_at dksX0_closedBy_1 19 rfl rfl)
theorem dX0_closedBy_42 : decode cX0_closedBy 42 = .ok (.iaload, 1) := dk_46 (dk_at dksX0_closedBy_1 20 rfl rfl)
theorem dX0_closedBy_43 : decode cX0_closedBy 43 = .ok (.invokevirtual 329, 3) := dk_182 1 73 (dk_at dksX0_closedBy_1 21 rfl rfl)
theorem dX0_closedBy_46 : decode cX0_closedBy 46 = .ok (.ireturn, 1) := dk_172 (dk_at dksX0_closedBy_2 0 rfl rfl)
abbrev cX0_depth : ByteArray := prog_1_method_63_code
def yX0_depth : MethodName := ⟨RX0, "depth", "(I)I"⟩
def dkwX0_depth_1 : List UInt8 := [180, 1, 79, 167, 0, 4, 2, 172]
abbrev dktX0_depth_1 : List UInt8 := dkwX0_depth_1 ++ []
def dkwX0_depth_0 : List UInt8 := [27, 3, 42, 180, 0, 25, 180, 0, 104, 182, 0, 44, 184, 0, 1, 153, 0, 14, 42, 27, 182, 0, 97]
abbrev dktX0_depth_0 : List UInt8 := dkwX0_depth_0 ++ dktX0_depth_1
theorem dksX0_depth_0 : cX0_depth.data.toList.drop 0 = dktX0_depth_0 := by decide +kernel
theorem dksX0_depth_1 : cX0_depth.data.toList.drop 23 = dktX0_depth_1 := dk_seg dksX0_depth_0 23 rfl rfl
theorem dX0_depth_0 : decode cX0_depth 0 = .ok (.iload_n 1, 1) := dk_27 (dk_at dksX0_depth_0 0 rfl rfl)
theorem dX0_depth_1 : decode cX0_depth 1 = .ok (.iconst 0, 1) := dk_3 (dk_at dksX0_depth_0 1 rfl rfl)
theorem dX0_depth_2 : decode cX0_depth 2 = .ok (.aload_n 0, 1) := dk_42 (dk_at dksX0_depth_0 2 rfl rfl)
theorem dX0_depth_3 : decode cX0_depth 3 = .ok (.getfield 25, 3) := dk_180 0 25 (dk_at dksX0_depth_0 3 rfl rfl)
theorem dX0_depth_6 : decode cX0_depth 6 = .ok (.getfield 104, 3) := dk_180 0 104 (dk_at dksX0_depth_0 6 rfl rfl)
theorem dX0_depth_9 : decode cX0_depth 9 = .ok (.invokevirtual 44, 3) := dk_182 0 44 (dk_at dksX0_depth_0 9 rfl rfl)
theorem dX0_depth_12 : decode cX0_depth 12 = .ok (.invokestatic 1, 3) := dk_184 0 1 (dk_at dksX0_depth_0 12 rfl rfl)
theorem dX0_depth_15 : decode cX0_depth 15 = .ok (.ifCond .eq 14, 3) := dk_153 0 14 (dk_at dksX0_depth_0 15 rfl rfl)
theorem dX0_depth_18 : decode cX0_depth 18 = .ok (.aload_n 0, 1) := dk_42 (dk_at dksX0_depth_0 18 rfl rfl)
theorem dX0_depth_19 : decode cX0_depth 19 = .ok (.iload_n 1, 1) := dk_27 (dk_at dksX0_depth_0 19 rfl rfl)
theorem dX0_depth_20 : decode cX0_depth 20 = .ok (.invokevirtual 97, 3) := dk_182 0 97 (dk_at dksX0_depth_0 20 rfl rfl)
theorem dX0_depth_23 : decode cX0_depth 23 = .ok (.getfield 335, 3) := dk_180 1 79 (dk_at dksX0_depth_1 0 rfl rfl)
theorem dX0_depth_26 : decode cX0_depth 26 = .ok (.goto 4, 3) := dk_167 0 4 (dk_at dksX0_depth_1 3 rfl rfl)
theorem dX0_depth_29 : decode cX0_depth 29 = .ok (.iconst (-1), 1) := dk_2 (dk_at dksX0_depth_1 6 rfl rfl)
theorem dX0_depth_30 : decode cX0_depth 30 = .ok (.ireturn, 1) := dk_172 (dk_at dksX0_depth_1 7 rfl rfl)
abbrev cX0_blockRule : ByteArray := prog_1_method_66_code
def yX0_blockRule : MethodName := ⟨RX0, "blockRule", "(II)I"⟩
def dkwX0_blockRule_0 : List UInt8 := [42, 27, 28, 182, 1, 85, 153, 0, 14, 42, 28, 182, 1, 88, 180, 1, 92, 167, 0, 4, 2, 172]
abbrev dktX0_blockRule_0 : List UInt8 := dkwX0_blockRule_0 ++ []
theorem dksX0_blockRule_0 : cX0_blockRule.data.toList.drop 0 = dktX0_blockRule_0 := by decide +kernel
theorem dX0_blockRule_0 : decode cX0_blockRule 0 = .ok (.aload_n 0, 1) := dk_42 (dk_at dksX0_blockRule_0 0 rfl rfl)
theorem dX0_blockRule_1 : decode cX0_blockRule 1 = .ok (.iload_n 1, 1) := dk_27 (dk_at dksX0_blockRule_0 1 rfl rfl)
theorem dX0_blockRule_2 : decode cX0_blockRule 2 = .ok (.iload_n 2, 1) := dk_28 (dk_at dksX0_blockRule_0 2 rfl rfl)
theorem dX0_blockRule_3 : decode cX0_blockRule 3 = .ok (.invokevirtual 341, 3) := dk_182 1 85 (dk_at dksX0_blockRule_0 3 rfl rfl)
theorem dX0_blockRule_6 : decode cX0_blockRule 6 = .ok (.ifCond .eq 14, 3) := dk_153 0 14 (dk_at dksX0_blockRule_0 6 rfl rfl)
theorem dX0_blockRule_9 : decode cX0_blockRule 9 = .ok (.aload_n 0, 1) := dk_42 (dk_at dksX0_blockRule_0 9 rfl rfl)
theorem dX0_blockRule_10 : decode cX0_blockRule 10 = .ok (.iload_n 2, 1) := dk_28 (dk_at dksX0_blockRule_0 10 rfl rfl)
theorem dX0_blockRule_11 : decode cX0_blockRule 11 = .ok (.invokevirtual 344, 3) := dk_182 1 88 (dk_at dksX0_blockRule_0 11 rfl rfl)
theorem dX0_blockRule_14 : decode cX0_blockRule 14 = .ok (.getfield 348, 3) := dk_180 1 92 (dk_at dksX0_blockRule_0 14 rfl rfl)
theorem dX0_blockRule_17 : decode cX0_blockRule 17 = .ok (.goto 4, 3) := dk_167 0 4 (dk_at dksX0_blockRule_0 17 rfl rfl)
theorem dX0_blockRule_20 : decode cX0_blockRule 20 = .ok (.iconst (-1), 1) := dk_2 (dk_at dksX0_blockRule_0 20 rfl rfl)
theorem dX0_blockRule_21 : decode cX0_blockRule 21 = .ok (.ireturn, 1) := dk_172 (dk_at dksX0_blockRule_0 21 rfl rfl)
abbrev cX0_isBlock : ByteArray := prog_1_method_64_code
def yX0_isBlock : MethodName := ⟨RX0, "isBlock", "(II)Z"⟩
def dkwX0_isBlock_1 : List UInt8 := [182, 0, 97, 180, 1, 79, 4, 100, 184, 0, 1, 153, 0, 7, 4, 167, 0, 4, 3, 172]
abbrev dktX0_isBlock_1 : List UInt8 := dkwX0_isBlock_1 ++ []
def dkwX0_isBlock_0 : List UInt8 := [27, 3, 42, 180, 0, 25, 180, 0, 104, 182, 0, 44, 184, 0, 1, 153, 0, 25, 28, 3, 42, 27]
abbrev dktX0_isBlock_0 : List UInt8 := dkwX0_isBlock_0 ++ dktX0_isBlock_1
theorem dksX0_isBlock_0 : cX0_isBlock.data.toList.drop 0 = dktX0_isBlock_0 := by decide +kernel
theorem dksX0_isBlock_1 : cX0_isBlock.data.toList.drop 22 = dktX0_isBlock_1 := dk_seg dksX0_isBlock_0 22 rfl rfl
theorem dX0_isBlock_0 : decode cX0_isBlock 0 = .ok (.iload_n 1, 1) := dk_27 (dk_at dksX0_isBlock_0 0 rfl rfl)
theorem dX0_isBlock_1 : decode cX0_isBlock 1 = .ok (.iconst 0, 1) := dk_3 (dk_at dksX0_isBlock_0 1 rfl rfl)
theorem dX0_isBlock_2 : decode cX0_isBlock 2 = .ok (.aload_n 0, 1) := dk_42 (dk_at dksX0_isBlock_0 2 rfl rfl)
theorem dX0_isBlock_3 : decode cX0_isBlock 3 = .ok (.getfield 25, 3) := dk_180 0 25 (dk_at dksX0_isBlock_0 3 rfl rfl)
theorem dX0_isBlock_6 : decode cX0_isBlock 6 = .ok (.getfield 104, 3) := dk_180 0 104 (dk_at dksX0_isBlock_0 6 rfl rfl)
theorem dX0_isBlock_9 : decode cX0_isBlock 9 = .ok (.invokevirtual 44, 3) := dk_182 0 44 (dk_at dksX0_isBlock_0 9 rfl rfl)
theorem dX0_isBlock_12 : decode cX0_isBlock 12 = .ok (.invokestatic 1, 3) := dk_184 0 1 (dk_at dksX0_isBlock_0 12 rfl rfl)
theorem dX0_isBlock_15 : decode cX0_isBlock 15 = .ok (.ifCond .eq 25, 3) := dk_153 0 25 (dk_at dksX0_isBlock_0 15 rfl rfl)
theorem dX0_isBlock_18 : decode cX0_isBlock 18 = .ok (.iload_n 2, 1) := dk_28 (dk_at dksX0_isBlock_0 18 rfl rfl)
theorem dX0_isBlock_19 : decode cX0_isBlock 19 = .ok (.iconst 0, 1) := dk_3 (dk_at dksX0_isBlock_0 19 rfl rfl)
theorem dX0_isBlock_20 : decode cX0_isBlock 20 = .ok (.aload_n 0, 1) := dk_42 (dk_at dksX0_isBlock_0 20 rfl rfl)
theorem dX0_isBlock_21 : decode cX0_isBlock 21 = .ok (.iload_n 1, 1) := dk_27 (dk_at dksX0_isBlock_0 21 rfl rfl)
theorem dX0_isBlock_22 : decode cX0_isBlock 22 = .ok (.invokevirtual 97, 3) := dk_182 0 97 (dk_at dksX0_isBlock_1 0 rfl rfl)
theorem dX0_isBlock_25 : decode cX0_isBlock 25 = .ok (.getfield 335, 3) := dk_180 1 79 (dk_at dksX0_isBlock_1 3 rfl rfl)
theorem dX0_isBlock_28 : decode cX0_isBlock 28 = .ok (.iconst 1, 1) := dk_4 (dk_at dksX0_isBlock_1 6 rfl rfl)
theorem dX0_isBlock_29 : decode cX0_isBlock 29 = .ok (.isub, 1) := dk_100 (dk_at dksX0_isBlock_1 7 rfl rfl)
theorem dX0_isBlock_30 : decode cX0_isBlock 30 = .ok (.invokestatic 1, 3) := dk_184 0 1 (dk_at dksX0_isBlock_1 8 rfl rfl)
theorem dX0_isBlock_33 : decode cX0_isBlock 33 = .ok (.ifCond .eq 7, 3) := dk_153 0 7 (dk_at dksX0_isBlock_1 11 rfl rfl)
theorem dX0_isBlock_36 : decode cX0_isBlock 36 = .ok (.iconst 1, 1) := dk_4 (dk_at dksX0_isBlock_1 14 rfl rfl)
theorem dX0_isBlock_37 : decode cX0_isBlock 37 = .ok (.goto 4, 3) := dk_167 0 4 (dk_at dksX0_isBlock_1 15 rfl rfl)
theorem dX0_isBlock_40 : decode cX0_isBlock 40 = .ok (.iconst 0, 1) := dk_3 (dk_at dksX0_isBlock_1 18 rfl rfl)
theorem dX0_isBlock_41 : decode cX0_isBlock 41 = .ok (.ireturn, 1) := dk_172 (dk_at dksX0_isBlock_1 19 rfl rfl)
abbrev cX0_opening : ByteArray := prog_1_method_65_code
def yX0_opening : MethodName := ⟨RX0, "opening", "(I)LAutoIndenter$Token;"⟩
def dkwX0_opening_1 : List UInt8 := [192, 1, 56, 176]
abbrev dktX0_opening_1 : List UInt8 := dkwX0_opening_1 ++ []
def dkwX0_opening_0 : List UInt8 := [42, 180, 0, 60, 180, 0, 100, 180, 1, 62, 42, 180, 0, 60, 180, 1, 82, 27, 46, 182, 0, 107]
abbrev dktX0_opening_0 : List UInt8 := dkwX0_opening_0 ++ dktX0_opening_1
theorem dksX0_opening_0 : cX0_opening.data.toList.drop 0 = dktX0_opening_0 := by decide +kernel
theorem dksX0_opening_1 : cX0_opening.data.toList.drop 22 = dktX0_opening_1 := dk_seg dksX0_opening_0 22 rfl rfl
theorem dX0_opening_0 : decode cX0_opening 0 = .ok (.aload_n 0, 1) := dk_42 (dk_at dksX0_opening_0 0 rfl rfl)
theorem dX0_opening_1 : decode cX0_opening 1 = .ok (.getfield 60, 3) := dk_180 0 60 (dk_at dksX0_opening_0 1 rfl rfl)
theorem dX0_opening_4 : decode cX0_opening 4 = .ok (.getfield 100, 3) := dk_180 0 100 (dk_at dksX0_opening_0 4 rfl rfl)
theorem dX0_opening_7 : decode cX0_opening 7 = .ok (.getfield 318, 3) := dk_180 1 62 (dk_at dksX0_opening_0 7 rfl rfl)
theorem dX0_opening_10 : decode cX0_opening 10 = .ok (.aload_n 0, 1) := dk_42 (dk_at dksX0_opening_0 10 rfl rfl)
theorem dX0_opening_11 : decode cX0_opening 11 = .ok (.getfield 60, 3) := dk_180 0 60 (dk_at dksX0_opening_0 11 rfl rfl)
theorem dX0_opening_14 : decode cX0_opening 14 = .ok (.getfield 338, 3) := dk_180 1 82 (dk_at dksX0_opening_0 14 rfl rfl)
theorem dX0_opening_17 : decode cX0_opening 17 = .ok (.iload_n 1, 1) := dk_27 (dk_at dksX0_opening_0 17 rfl rfl)
theorem dX0_opening_18 : decode cX0_opening 18 = .ok (.iaload, 1) := dk_46 (dk_at dksX0_opening_0 18 rfl rfl)
theorem dX0_opening_19 : decode cX0_opening 19 = .ok (.invokevirtual 107, 3) := dk_182 0 107 (dk_at dksX0_opening_0 19 rfl rfl)
theorem dX0_opening_22 : decode cX0_opening 22 = .ok (.checkcast 312, 3) := dk_192 1 56 (dk_at dksX0_opening_1 0 rfl rfl)
theorem dX0_opening_25 : decode cX0_opening 25 = .ok (.areturn, 1) := dk_176 (dk_at dksX0_opening_1 3 rfl rfl)
abbrev cX0_blockOpening : ByteArray := prog_1_method_67_code
def yX0_blockOpening : MethodName := ⟨RX0, "blockOpening", "(II)I"⟩
def dkwX0_blockOpening_1 : List UInt8 := [42, 45, 180, 1, 65, 182, 0, 149, 180, 0, 153, 96, 45, 180, 1, 55, 96, 172]
abbrev dktX0_blockOpening_1 : List UInt8 := dkwX0_blockOpening_1 ++ []
def dkwX0_blockOpening_0 : List UInt8 := [42, 27, 28, 182, 1, 85, 154, 0, 5, 2, 172, 42, 28, 182, 1, 88, 78, 16, 100, 45, 180, 1, 65, 104]
abbrev dktX0_blockOpening_0 : List UInt8 := dkwX0_blockOpening_0 ++ dktX0_blockOpening_1
theorem dksX0_blockOpening_0 : cX0_blockOpening.data.toList.drop 0 = dktX0_blockOpening_0 := by decide +kernel
theorem dksX0_blockOpening_1 : cX0_blockOpening.data.toList.drop 24 = dktX0_blockOpening_1 := dk_seg dksX0_blockOpening_0 24 rfl rfl
theorem dX0_blockOpening_0 : decode cX0_blockOpening 0 = .ok (.aload_n 0, 1) := dk_42 (dk_at dksX0_blockOpening_0 0 rfl rfl)
theorem dX0_blockOpening_1 : decode cX0_blockOpening 1 = .ok (.iload_n 1, 1) := dk_27 (dk_at dksX0_blockOpening_0 1 rfl rfl)
theorem dX0_blockOpening_2 : decode cX0_blockOpening 2 = .ok (.iload_n 2, 1) := dk_28 (dk_at dksX0_blockOpening_0 2 rfl rfl)
theorem dX0_blockOpening_3 : decode cX0_blockOpening 3 = .ok (.invokevirtual 341, 3) := dk_182 1 85 (dk_at dksX0_blockOpening_0 3 rfl rfl)
theorem dX0_blockOpening_6 : decode cX0_blockOpening 6 = .ok (.ifCond .ne 5, 3) := dk_154 0 5 (dk_at dksX0_blockOpening_0 6 rfl rfl)
theorem dX0_blockOpening_9 : decode cX0_blockOpening 9 = .ok (.iconst (-1), 1) := dk_2 (dk_at dksX0_blockOpening_0 9 rfl rfl)
theorem dX0_blockOpening_10 : decode cX0_blockOpening 10 = .ok (.ireturn, 1) := dk_172 (dk_at dksX0_blockOpening_0 10 rfl rfl)
theorem dX0_blockOpening_11 : decode cX0_blockOpening 11 = .ok (.aload_n 0, 1) := dk_42 (dk_at dksX0_blockOpening_0 11 rfl rfl)
theorem dX0_blockOpening_12 : decode cX0_blockOpening 12 = .ok (.iload_n 2, 1) := dk_28 (dk_at dksX0_blockOpening_0 12 rfl rfl)
theorem dX0_blockOpening_13 : decode cX0_blockOpening 13 = .ok (.invokevirtual 344, 3) := dk_182 1 88 (dk_at dksX0_blockOpening_0 13 rfl rfl)
theorem dX0_blockOpening_16 : decode cX0_blockOpening 16 = .ok (.astore_n 3, 1) := dk_78 (dk_at dksX0_blockOpening_0 16 rfl rfl)
theorem dX0_blockOpening_17 : decode cX0_blockOpening 17 = .ok (.bipush 100, 2) := dk_16 100 (dk_at dksX0_blockOpening_0 17 rfl rfl)
theorem dX0_blockOpening_19 : decode cX0_blockOpening 19 = .ok (.aload_n 3, 1) := dk_45 (dk_at dksX0_blockOpening_0 19 rfl rfl)
theorem dX0_blockOpening_20 : decode cX0_blockOpening 20 = .ok (.getfield 321, 3) := dk_180 1 65 (dk_at dksX0_blockOpening_0 20 rfl rfl)
theorem dX0_blockOpening_23 : decode cX0_blockOpening 23 = .ok (.imul, 1) := dk_104 (dk_at dksX0_blockOpening_0 23 rfl rfl)
theorem dX0_blockOpening_24 : decode cX0_blockOpening 24 = .ok (.aload_n 0, 1) := dk_42 (dk_at dksX0_blockOpening_1 0 rfl rfl)
theorem dX0_blockOpening_25 : decode cX0_blockOpening 25 = .ok (.aload_n 3, 1) := dk_45 (dk_at dksX0_blockOpening_1 1 rfl rfl)
theorem dX0_blockOpening_26 : decode cX0_blockOpening 26 = .ok (.getfield 321, 3) := dk_180 1 65 (dk_at dksX0_blockOpening_1 2 rfl rfl)
theorem dX0_blockOpening_29 : decode cX0_blockOpening 29 = .ok (.invokevirtual 149, 3) := dk_182 0 149 (dk_at dksX0_blockOpening_1 5 rfl rfl)
theorem dX0_blockOpening_32 : decode cX0_blockOpening 32 = .ok (.getfield 153, 3) := dk_180 0 153 (dk_at dksX0_blockOpening_1 8 rfl rfl)
theorem dX0_blockOpening_35 : decode cX0_blockOpening 35 = .ok (.iadd, 1) := dk_96 (dk_at dksX0_blockOpening_1 11 rfl rfl)
theorem dX0_blockOpening_36 : decode cX0_blockOpening 36 = .ok (.aload_n 3, 1) := dk_45 (dk_at dksX0_blockOpening_1 12 rfl rfl)
theorem dX0_blockOpening_37 : decode cX0_blockOpening 37 = .ok (.getfield 311, 3) := dk_180 1 55 (dk_at dksX0_blockOpening_1 13 rfl rfl)
theorem dX0_blockOpening_40 : decode cX0_blockOpening 40 = .ok (.iadd, 1) := dk_96 (dk_at dksX0_blockOpening_1 16 rfl rfl)
theorem dX0_blockOpening_41 : decode cX0_blockOpening 41 = .ok (.ireturn, 1) := dk_172 (dk_at dksX0_blockOpening_1 17 rfl rfl)
abbrev cX0_contentColumn : ByteArray := prog_1_method_68_code
def yX0_contentColumn : MethodName := ⟨RX0, "contentColumn", "(II)I"⟩
def dkwX0_contentColumn_0 : List UInt8 := [42, 27, 28, 182, 1, 85, 153, 0, 15, 42, 180, 0, 60, 180, 1, 95, 28, 46, 167, 0, 4, 2, 172]
abbrev dktX0_contentColumn_0 : List UInt8 := dkwX0_contentColumn_0 ++ []
theorem dksX0_contentColumn_0 : cX0_contentColumn.data.toList.drop 0 = dktX0_contentColumn_0 := by decide +kernel
theorem dX0_contentColumn_0 : decode cX0_contentColumn 0 = .ok (.aload_n 0, 1) := dk_42 (dk_at dksX0_contentColumn_0 0 rfl rfl)
theorem dX0_contentColumn_1 : decode cX0_contentColumn 1 = .ok (.iload_n 1, 1) := dk_27 (dk_at dksX0_contentColumn_0 1 rfl rfl)
theorem dX0_contentColumn_2 : decode cX0_contentColumn 2 = .ok (.iload_n 2, 1) := dk_28 (dk_at dksX0_contentColumn_0 2 rfl rfl)
theorem dX0_contentColumn_3 : decode cX0_contentColumn 3 = .ok (.invokevirtual 341, 3) := dk_182 1 85 (dk_at dksX0_contentColumn_0 3 rfl rfl)
theorem dX0_contentColumn_6 : decode cX0_contentColumn 6 = .ok (.ifCond .eq 15, 3) := dk_153 0 15 (dk_at dksX0_contentColumn_0 6 rfl rfl)
theorem dX0_contentColumn_9 : decode cX0_contentColumn 9 = .ok (.aload_n 0, 1) := dk_42 (dk_at dksX0_contentColumn_0 9 rfl rfl)
theorem dX0_contentColumn_10 : decode cX0_contentColumn 10 = .ok (.getfield 60, 3) := dk_180 0 60 (dk_at dksX0_contentColumn_0 10 rfl rfl)
theorem dX0_contentColumn_13 : decode cX0_contentColumn 13 = .ok (.getfield 351, 3) := dk_180 1 95 (dk_at dksX0_contentColumn_0 13 rfl rfl)
theorem dX0_contentColumn_16 : decode cX0_contentColumn 16 = .ok (.iload_n 2, 1) := dk_28 (dk_at dksX0_contentColumn_0 16 rfl rfl)
theorem dX0_contentColumn_17 : decode cX0_contentColumn 17 = .ok (.iaload, 1) := dk_46 (dk_at dksX0_contentColumn_0 17 rfl rfl)
theorem dX0_contentColumn_18 : decode cX0_contentColumn 18 = .ok (.goto 4, 3) := dk_167 0 4 (dk_at dksX0_contentColumn_0 18 rfl rfl)
theorem dX0_contentColumn_21 : decode cX0_contentColumn 21 = .ok (.iconst (-1), 1) := dk_2 (dk_at dksX0_contentColumn_0 21 rfl rfl)
theorem dX0_contentColumn_22 : decode cX0_contentColumn 22 = .ok (.ireturn, 1) := dk_172 (dk_at dksX0_contentColumn_0 22 rfl rfl)
abbrev cX0_strays : ByteArray := prog_1_method_69_code
def yX0_strays : MethodName := ⟨RX0, "strays", "()I"⟩
def dkwX0_strays_0 : List UInt8 := [42, 42, 180, 0, 25, 180, 0, 104, 182, 0, 44, 182, 0, 97, 180, 1, 98, 172]
abbrev dktX0_strays_0 : List UInt8 := dkwX0_strays_0 ++ []
theorem dksX0_strays_0 : cX0_strays.data.toList.drop 0 = dktX0_strays_0 := by decide +kernel
theorem dX0_strays_0 : decode cX0_strays 0 = .ok (.aload_n 0, 1) := dk_42 (dk_at dksX0_strays_0 0 rfl rfl)
theorem dX0_strays_1 : decode cX0_strays 1 = .ok (.aload_n 0, 1) := dk_42 (dk_at dksX0_strays_0 1 rfl rfl)
theorem dX0_strays_2 : decode cX0_strays 2 = .ok (.getfield 25, 3) := dk_180 0 25 (dk_at dksX0_strays_0 2 rfl rfl)
theorem dX0_strays_5 : decode cX0_strays 5 = .ok (.getfield 104, 3) := dk_180 0 104 (dk_at dksX0_strays_0 5 rfl rfl)
theorem dX0_strays_8 : decode cX0_strays 8 = .ok (.invokevirtual 44, 3) := dk_182 0 44 (dk_at dksX0_strays_0 8 rfl rfl)
theorem dX0_strays_11 : decode cX0_strays 11 = .ok (.invokevirtual 97, 3) := dk_182 0 97 (dk_at dksX0_strays_0 11 rfl rfl)
theorem dX0_strays_14 : decode cX0_strays 14 = .ok (.getfield 354, 3) := dk_180 1 98 (dk_at dksX0_strays_0 14 rfl rfl)
theorem dX0_strays_17 : decode cX0_strays 17 = .ok (.ireturn, 1) := dk_172 (dk_at dksX0_strays_0 17 rfl rfl)
abbrev cX0_lost : ByteArray := prog_1_method_70_code
def yX0_lost : MethodName := ⟨RX0, "lost", "()I"⟩
def dkwX0_lost_0 : List UInt8 := [42, 42, 180, 0, 25, 180, 0, 104, 182, 0, 44, 182, 0, 97, 180, 1, 101, 172]
abbrev dktX0_lost_0 : List UInt8 := dkwX0_lost_0 ++ []
theorem dksX0_lost_0 : cX0_lost.data.toList.drop 0 = dktX0_lost_0 := by decide +kernel
theorem dX0_lost_0 : decode cX0_lost 0 = .ok (.aload_n 0, 1) := dk_42 (dk_at dksX0_lost_0 0 rfl rfl)
theorem dX0_lost_1 : decode cX0_lost 1 = .ok (.aload_n 0, 1) := dk_42 (dk_at dksX0_lost_0 1 rfl rfl)
theorem dX0_lost_2 : decode cX0_lost 2 = .ok (.getfield 25, 3) := dk_180 0 25 (dk_at dksX0_lost_0 2 rfl rfl)
theorem dX0_lost_5 : decode cX0_lost 5 = .ok (.getfield 104, 3) := dk_180 0 104 (dk_at dksX0_lost_0 5 rfl rfl)
theorem dX0_lost_8 : decode cX0_lost 8 = .ok (.invokevirtual 44, 3) := dk_182 0 44 (dk_at dksX0_lost_0 8 rfl rfl)
theorem dX0_lost_11 : decode cX0_lost 11 = .ok (.invokevirtual 97, 3) := dk_182 0 97 (dk_at dksX0_lost_0 11 rfl rfl)
theorem dX0_lost_14 : decode cX0_lost 14 = .ok (.getfield 357, 3) := dk_180 1 101 (dk_at dksX0_lost_0 14 rfl rfl)
theorem dX0_lost_17 : decode cX0_lost 17 = .ok (.ireturn, 1) := dk_172 (dk_at dksX0_lost_0 17 rfl rfl)
abbrev cX0_vocabulary : ByteArray := prog_1_method_73_code
def yX0_vocabulary : MethodName := ⟨RX0, "vocabulary", "()I"⟩
def dkwX0_vocabulary_0 : List UInt8 := [42, 182, 1, 131, 182, 1, 135, 172]
abbrev dktX0_vocabulary_0 : List UInt8 := dkwX0_vocabulary_0 ++ []
theorem dksX0_vocabulary_0 : cX0_vocabulary.data.toList.drop 0 = dktX0_vocabulary_0 := by decide +kernel
theorem dX0_vocabulary_0 : decode cX0_vocabulary 0 = .ok (.aload_n 0, 1) := dk_42 (dk_at dksX0_vocabulary_0 0 rfl rfl)
theorem dX0_vocabulary_1 : decode cX0_vocabulary 1 = .ok (.invokevirtual 387, 3) := dk_182 1 131 (dk_at dksX0_vocabulary_0 1 rfl rfl)
theorem dX0_vocabulary_4 : decode cX0_vocabulary 4 = .ok (.invokevirtual 391, 3) := dk_182 1 135 (dk_at dksX0_vocabulary_0 4 rfl rfl)
theorem dX0_vocabulary_7 : decode cX0_vocabulary 7 = .ok (.ireturn, 1) := dk_172 (dk_at dksX0_vocabulary_0 7 rfl rfl)
abbrev cX0_counted : ByteArray := prog_1_method_71_code
def yX0_counted : MethodName := ⟨RX0, "counted", "()Ljava/util/LinkedHashMap;"⟩
def dkwX0_counted_4 : List UInt8 := [43, 176]
abbrev dktX0_counted_4 : List UInt8 := dkwX0_counted_4 ++ []
def dkwX0_counted_3 : List UInt8 := [4, 167, 0, 10, 25, 5, 182, 1, 26, 4, 96, 184, 1, 29, 182, 1, 111, 87, 132, 3, 1, 167, 255, 182]
abbrev dktX0_counted_3 : List UInt8 := dkwX0_counted_3 ++ dktX0_counted_4
def dkwX0_counted_2 : List UInt8 := [21, 4, 184, 1, 29, 182, 1, 110, 192, 0, 209, 58, 5, 43, 21, 4, 184, 1, 29, 25, 5, 199, 0, 7]
abbrev dktX0_counted_2 : List UInt8 := dkwX0_counted_2 ++ dktX0_counted_3
def dkwX0_counted_1 : List UInt8 := [162, 0, 72, 44, 29, 182, 0, 107, 192, 1, 56, 180, 1, 107, 54, 4, 21, 4, 16, 247, 159, 0, 46, 43]
abbrev dktX0_counted_1 : List UInt8 := dkwX0_counted_1 ++ dktX0_counted_2
def dkwX0_counted_0 : List UInt8 := [187, 1, 104, 89, 183, 1, 106, 76, 42, 182, 0, 214, 180, 1, 62, 77, 3, 62, 29, 44, 182, 0, 44]
abbrev dktX0_counted_0 : List UInt8 := dkwX0_counted_0 ++ dktX0_counted_1
theorem dksX0_counted_0 : cX0_counted.data.toList.drop 0 = dktX0_counted_0 := by decide +kernel
theorem dksX0_counted_1 : cX0_counted.data.toList.drop 23 = dktX0_counted_1 := dk_seg dksX0_counted_0 23 rfl rfl
theorem dksX0_counted_2 : cX0_counted.data.toList.drop 47 = dktX0_counted_2 := dk_seg dksX0_counted_1 24 rfl rfl
theorem dksX0_counted_3 : cX0_counted.data.toList.drop 71 = dktX0_counted_3 := dk_seg dksX0_counted_2 24 rfl rfl
theorem dksX0_counted_4 : cX0_counted.data.toList.drop 95 = dktX0_counted_4 := dk_seg dksX0_counted_3 24 rfl rfl
theorem dX0_counted_0 : decode cX0_counted 0 = .ok (.new 360, 3) := dk_187 1 104 (dk_at dksX0_counted_0 0 rfl rfl)
theorem dX0_counted_3 : decode cX0_counted 3 = .ok (.dup, 1) := dk_89 (dk_at dksX0_counted_0 3 rfl rfl)
theorem dX0_counted_4 : decode cX0_counted 4 = .ok (.invokespecial 362, 3) := dk_183 1 106 (dk_at dksX0_counted_0 4 rfl rfl)
theorem dX0_counted_7 : decode cX0_counted 7 = .ok (.astore_n 1, 1) := dk_76 (dk_at dksX0_counted_0 7 rfl rfl)
theorem dX0_counted_8 : decode cX0_counted 8 = .ok (.aload_n 0, 1) := dk_42 (dk_at dksX0_counted_0 8 rfl rfl)
theorem dX0_counted_9 : decode cX0_counted 9 = .ok (.invokevirtual 214, 3) := dk_182 0 214 (dk_at dksX0_counted_0 9 rfl rfl)
theorem dX0_counted_12 : decode cX0_counted 12 = .ok (.getfield 318, 3) := dk_180 1 62 (dk_at dksX0_counted_0 12 rfl rfl)
theorem dX0_counted_15 : decode cX0_counted 15 = .ok (.astore_n 2, 1) := dk_77 (dk_at dksX0_counted_0 15 rfl rfl)
theorem dX0_counted_16 : decode cX0_counted 16 = .ok (.iconst 0, 1) := dk_3 (dk_at dksX0_counted_0 16 rfl rfl)
theorem dX0_counted_17 : decode cX0_counted 17 = .ok (.istore_n 3, 1) := dk_62 (dk_at dksX0_counted_0 17 rfl rfl)
theorem dX0_counted_18 : decode cX0_counted 18 = .ok (.iload_n 3, 1) := dk_29 (dk_at dksX0_counted_0 18 rfl rfl)
theorem dX0_counted_19 : decode cX0_counted 19 = .ok (.aload_n 2, 1) := dk_44 (dk_at dksX0_counted_0 19 rfl rfl)
theorem dX0_counted_20 : decode cX0_counted 20 = .ok (.invokevirtual 44, 3) := dk_182 0 44 (dk_at dksX0_counted_0 20 rfl rfl)
theorem dX0_counted_23 : decode cX0_counted 23 = .ok (.if_icmp .ge 72, 3) := dk_162 0 72 (dk_at dksX0_counted_1 0 rfl rfl)
theorem dX0_counted_26 : decode cX0_counted 26 = .ok (.aload_n 2, 1) := dk_44 (dk_at dksX0_counted_1 3 rfl rfl)
theorem dX0_counted_27 : decode cX0_counted 27 = .ok (.iload_n 3, 1) := dk_29 (dk_at dksX0_counted_1 4 rfl rfl)
theorem dX0_counted_28 : decode cX0_counted 28 = .ok (.invokevirtual 107, 3) := dk_182 0 107 (dk_at dksX0_counted_1 5 rfl rfl)
theorem dX0_counted_31 : decode cX0_counted 31 = .ok (.checkcast 312, 3) := dk_192 1 56 (dk_at dksX0_counted_1 8 rfl rfl)
theorem dX0_counted_34 : decode cX0_counted 34 = .ok (.getfield 363, 3) := dk_180 1 107 (dk_at dksX0_counted_1 11 rfl rfl)
theorem dX0_counted_37 : decode cX0_counted 37 = .ok (.istore 4, 2) := dk_54 4 (dk_at dksX0_counted_1 14 rfl rfl)
theorem dX0_counted_39 : decode cX0_counted 39 = .ok (.iload 4, 2) := dk_21 4 (dk_at dksX0_counted_1 16 rfl rfl)
theorem dX0_counted_41 : decode cX0_counted 41 = .ok (.bipush (-9), 2) := dk_16 247 (dk_at dksX0_counted_1 18 rfl rfl)
theorem dX0_counted_43 : decode cX0_counted 43 = .ok (.if_icmp .eq 46, 3) := dk_159 0 46 (dk_at dksX0_counted_1 20 rfl rfl)
theorem dX0_counted_46 : decode cX0_counted 46 = .ok (.aload_n 1, 1) := dk_43 (dk_at dksX0_counted_1 23 rfl rfl)
theorem dX0_counted_47 : decode cX0_counted 47 = .ok (.iload 4, 2) := dk_21 4 (dk_at dksX0_counted_2 0 rfl rfl)
theorem dX0_counted_49 : decode cX0_counted 49 = .ok (.invokestatic 285, 3) := dk_184 1 29 (dk_at dksX0_counted_2 2 rfl rfl)
theorem dX0_counted_52 : decode cX0_counted 52 = .ok (.invokevirtual 366, 3) := dk_182 1 110 (dk_at dksX0_counted_2 5 rfl rfl)
theorem dX0_counted_55 : decode cX0_counted 55 = .ok (.checkcast 209, 3) := dk_192 0 209 (dk_at dksX0_counted_2 8 rfl rfl)
theorem dX0_counted_58 : decode cX0_counted 58 = .ok (.astore 5, 2) := dk_58 5 (dk_at dksX0_counted_2 11 rfl rfl)
theorem dX0_counted_60 : decode cX0_counted 60 = .ok (.aload_n 1, 1) := dk_43 (dk_at dksX0_counted_2 13 rfl rfl)
theorem dX0_counted_61 : decode cX0_counted 61 = .ok (.iload 4, 2) := dk_21 4 (dk_at dksX0_counted_2 14 rfl rfl)
theorem dX0_counted_63 : decode cX0_counted 63 = .ok (.invokestatic 285, 3) := dk_184 1 29 (dk_at dksX0_counted_2 16 rfl rfl)
theorem dX0_counted_66 : decode cX0_counted 66 = .ok (.aload 5, 2) := dk_25 5 (dk_at dksX0_counted_2 19 rfl rfl)
theorem dX0_counted_68 : decode cX0_counted 68 = .ok (.ifnonnull 7, 3) := dk_199 0 7 (dk_at dksX0_counted_2 21 rfl rfl)
theorem dX0_counted_71 : decode cX0_counted 71 = .ok (.iconst 1, 1) := dk_4 (dk_at dksX0_counted_3 0 rfl rfl)
theorem dX0_counted_72 : decode cX0_counted 72 = .ok (.goto 10, 3) := dk_167 0 10 (dk_at dksX0_counted_3 1 rfl rfl)
theorem dX0_counted_75 : decode cX0_counted 75 = .ok (.aload 5, 2) := dk_25 5 (dk_at dksX0_counted_3 4 rfl rfl)
theorem dX0_counted_77 : decode cX0_counted 77 = .ok (.invokevirtual 282, 3) := dk_182 1 26 (dk_at dksX0_counted_3 6 rfl rfl)
theorem dX0_counted_80 : decode cX0_counted 80 = .ok (.iconst 1, 1) := dk_4 (dk_at dksX0_counted_3 9 rfl rfl)
theorem dX0_counted_81 : decode cX0_counted 81 = .ok (.iadd, 1) := dk_96 (dk_at dksX0_counted_3 10 rfl rfl)
theorem dX0_counted_82 : decode cX0_counted 82 = .ok (.invokestatic 285, 3) := dk_184 1 29 (dk_at dksX0_counted_3 11 rfl rfl)
theorem dX0_counted_85 : decode cX0_counted 85 = .ok (.invokevirtual 367, 3) := dk_182 1 111 (dk_at dksX0_counted_3 14 rfl rfl)
theorem dX0_counted_88 : decode cX0_counted 88 = .ok (.pop, 1) := dk_87 (dk_at dksX0_counted_3 17 rfl rfl)
theorem dX0_counted_89 : decode cX0_counted 89 = .ok (.iinc 3 1, 3) := dk_132 3 1 (dk_at dksX0_counted_3 18 rfl rfl)
theorem dX0_counted_92 : decode cX0_counted 92 = .ok (.goto (-74), 3) := dk_167 255 182 (dk_at dksX0_counted_3 21 rfl rfl)
theorem dX0_counted_95 : decode cX0_counted 95 = .ok (.aload_n 1, 1) := dk_43 (dk_at dksX0_counted_4 0 rfl rfl)
theorem dX0_counted_96 : decode cX0_counted 96 = .ok (.areturn, 1) := dk_176 (dk_at dksX0_counted_4 1 rfl rfl)
abbrev cX0_commonestCount : ByteArray := prog_1_method_74_code
def yX0_commonestCount : MethodName := ⟨RX0, "commonestCount", "()I"⟩
def dkwX0_commonestCount_1 : List UInt8 := [184, 1, 29, 182, 1, 110, 192, 0, 209, 182, 1, 26, 172]
abbrev dktX0_commonestCount_1 : List UInt8 := dkwX0_commonestCount_1 ++ []
def dkwX0_commonestCount_0 : List UInt8 := [42, 182, 1, 131, 76, 43, 184, 1, 136, 61, 28, 16, 247, 160, 0, 8, 16, 247, 167, 0, 17, 43, 28]
abbrev dktX0_commonestCount_0 : List UInt8 := dkwX0_commonestCount_0 ++ dktX0_commonestCount_1
theorem dksX0_commonestCount_0 : cX0_commonestCount.data.toList.drop 0 = dktX0_commonestCount_0 := by decide +kernel
theorem dksX0_commonestCount_1 : cX0_commonestCount.data.toList.drop 23 = dktX0_commonestCount_1 := dk_seg dksX0_commonestCount_0 23 rfl rfl
theorem dX0_commonestCount_0 : decode cX0_commonestCount 0 = .ok (.aload_n 0, 1) := dk_42 (dk_at dksX0_commonestCount_0 0 rfl rfl)
theorem dX0_commonestCount_1 : decode cX0_commonestCount 1 = .ok (.invokevirtual 387, 3) := dk_182 1 131 (dk_at dksX0_commonestCount_0 1 rfl rfl)
theorem dX0_commonestCount_4 : decode cX0_commonestCount 4 = .ok (.astore_n 1, 1) := dk_76 (dk_at dksX0_commonestCount_0 4 rfl rfl)
theorem dX0_commonestCount_5 : decode cX0_commonestCount 5 = .ok (.aload_n 1, 1) := dk_43 (dk_at dksX0_commonestCount_0 5 rfl rfl)
theorem dX0_commonestCount_6 : decode cX0_commonestCount 6 = .ok (.invokestatic 392, 3) := dk_184 1 136 (dk_at dksX0_commonestCount_0 6 rfl rfl)
theorem dX0_commonestCount_9 : decode cX0_commonestCount 9 = .ok (.istore_n 2, 1) := dk_61 (dk_at dksX0_commonestCount_0 9 rfl rfl)
theorem dX0_commonestCount_10 : decode cX0_commonestCount 10 = .ok (.iload_n 2, 1) := dk_28 (dk_at dksX0_commonestCount_0 10 rfl rfl)
theorem dX0_commonestCount_11 : decode cX0_commonestCount 11 = .ok (.bipush (-9), 2) := dk_16 247 (dk_at dksX0_commonestCount_0 11 rfl rfl)
theorem dX0_commonestCount_13 : decode cX0_commonestCount 13 = .ok (.if_icmp .ne 8, 3) := dk_160 0 8 (dk_at dksX0_commonestCount_0 13 rfl rfl)
theorem dX0_commonestCount_16 : decode cX0_commonestCount 16 = .ok (.bipush (-9), 2) := dk_16 247 (dk_at dksX0_commonestCount_0 16 rfl rfl)
theorem dX0_commonestCount_18 : decode cX0_commonestCount 18 = .ok (.goto 17, 3) := dk_167 0 17 (dk_at dksX0_commonestCount_0 18 rfl rfl)
theorem dX0_commonestCount_21 : decode cX0_commonestCount 21 = .ok (.aload_n 1, 1) := dk_43 (dk_at dksX0_commonestCount_0 21 rfl rfl)
theorem dX0_commonestCount_22 : decode cX0_commonestCount 22 = .ok (.iload_n 2, 1) := dk_28 (dk_at dksX0_commonestCount_0 22 rfl rfl)
theorem dX0_commonestCount_23 : decode cX0_commonestCount 23 = .ok (.invokestatic 285, 3) := dk_184 1 29 (dk_at dksX0_commonestCount_1 0 rfl rfl)
theorem dX0_commonestCount_26 : decode cX0_commonestCount 26 = .ok (.invokevirtual 366, 3) := dk_182 1 110 (dk_at dksX0_commonestCount_1 3 rfl rfl)
theorem dX0_commonestCount_29 : decode cX0_commonestCount 29 = .ok (.checkcast 209, 3) := dk_192 0 209 (dk_at dksX0_commonestCount_1 6 rfl rfl)
theorem dX0_commonestCount_32 : decode cX0_commonestCount 32 = .ok (.invokevirtual 282, 3) := dk_182 1 26 (dk_at dksX0_commonestCount_1 9 rfl rfl)
theorem dX0_commonestCount_35 : decode cX0_commonestCount 35 = .ok (.ireturn, 1) := dk_172 (dk_at dksX0_commonestCount_1 12 rfl rfl)
abbrev cX0_commonest : ByteArray := prog_1_method_72_code
def yX0_commonest : MethodName := ⟨RX0, "commonest", "(Ljava/util/LinkedHashMap;)I"⟩
def dkwX0_commonest_3 : List UInt8 := [184, 0, 13, 61, 167, 255, 196, 27, 172]
abbrev dktX0_commonest_3 : List UInt8 := dkwX0_commonest_3 ++ []
def dkwX0_commonest_2 : List UInt8 := [192, 0, 209, 182, 1, 26, 54, 5, 21, 5, 28, 164, 0, 8, 21, 4, 167, 0, 4, 27, 60, 28, 21, 5]
abbrev dktX0_commonest_2 : List UInt8 := dkwX0_commonest_2 ++ dktX0_commonest_3
def dkwX0_commonest_1 : List UInt8 := [45, 185, 1, 127, 1, 0, 192, 0, 209, 182, 1, 26, 54, 4, 42, 21, 4, 184, 1, 29, 182, 1, 110]
abbrev dktX0_commonest_1 : List UInt8 := dkwX0_commonest_1 ++ dktX0_commonest_2
def dkwX0_commonest_0 : List UInt8 := [16, 247, 60, 3, 61, 42, 182, 1, 112, 185, 1, 116, 1, 0, 78, 45, 185, 1, 122, 1, 0, 153, 0, 57]
abbrev dktX0_commonest_0 : List UInt8 := dkwX0_commonest_0 ++ dktX0_commonest_1
theorem dksX0_commonest_0 : cX0_commonest.data.toList.drop 0 = dktX0_commonest_0 := by decide +kernel
theorem dksX0_commonest_1 : cX0_commonest.data.toList.drop 24 = dktX0_commonest_1 := dk_seg dksX0_commonest_0 24 rfl rfl
theorem dksX0_commonest_2 : cX0_commonest.data.toList.drop 47 = dktX0_commonest_2 := dk_seg dksX0_commonest_1 23 rfl rfl
theorem dksX0_commonest_3 : cX0_commonest.data.toList.drop 71 = dktX0_commonest_3 := dk_seg dksX0_commonest_2 24 rfl rfl
theorem dX0_commonest_0 : decode cX0_commonest 0 = .ok (.bipush (-9), 2) := dk_16 247 (dk_at dksX0_commonest_0 0 rfl rfl)
theorem dX0_commonest_2 : decode cX0_commonest 2 = .ok (.istore_n 1, 1) := dk_60 (dk_at dksX0_commonest_0 2 rfl rfl)
theorem dX0_commonest_3 : decode cX0_commonest 3 = .ok (.iconst 0, 1) := dk_3 (dk_at dksX0_commonest_0 3 rfl rfl)
theorem dX0_commonest_4 : decode cX0_commonest 4 = .ok (.istore_n 2, 1) := dk_61 (dk_at dksX0_commonest_0 4 rfl rfl)
theorem dX0_commonest_5 : decode cX0_commonest 5 = .ok (.aload_n 0, 1) := dk_42 (dk_at dksX0_commonest_0 5 rfl rfl)
theorem dX0_commonest_6 : decode cX0_commonest 6 = .ok (.invokevirtual 368, 3) := dk_182 1 112 (dk_at dksX0_commonest_0 6 rfl rfl)
theorem dX0_commonest_9 : decode cX0_commonest 9 = .ok (.invokeinterface 372 1, 5) := by decide +kernel
theorem dX0_commonest_14 : decode cX0_commonest 14 = .ok (.astore_n 3, 1) := dk_78 (dk_at dksX0_commonest_0 14 rfl rfl)
theorem dX0_commonest_15 : decode cX0_commonest 15 = .ok (.aload_n 3, 1) := dk_45 (dk_at dksX0_commonest_0 15 rfl rfl)
theorem dX0_commonest_16 : decode cX0_commonest 16 = .ok (.invokeinterface 378 1, 5) := by decide +kernel
theorem dX0_commonest_21 : decode cX0_commonest 21 = .ok (.ifCond .eq 57, 3) := dk_153 0 57 (dk_at dksX0_commonest_0 21 rfl rfl)
theorem dX0_commonest_24 : decode cX0_commonest 24 = .ok (.aload_n 3, 1) := dk_45 (dk_at dksX0_commonest_1 0 rfl rfl)
theorem dX0_commonest_25 : decode cX0_commonest 25 = .ok (.invokeinterface 383 1, 5) := by decide +kernel
theorem dX0_commonest_30 : decode cX0_commonest 30 = .ok (.checkcast 209, 3) := dk_192 0 209 (dk_at dksX0_commonest_1 6 rfl rfl)
theorem dX0_commonest_33 : decode cX0_commonest 33 = .ok (.invokevirtual 282, 3) := dk_182 1 26 (dk_at dksX0_commonest_1 9 rfl rfl)
theorem dX0_commonest_36 : decode cX0_commonest 36 = .ok (.istore 4, 2) := dk_54 4 (dk_at dksX0_commonest_1 12 rfl rfl)
theorem dX0_commonest_38 : decode cX0_commonest 38 = .ok (.aload_n 0, 1) := dk_42 (dk_at dksX0_commonest_1 14 rfl rfl)
theorem dX0_commonest_39 : decode cX0_commonest 39 = .ok (.iload 4, 2) := dk_21 4 (dk_at dksX0_commonest_1 15 rfl rfl)
theorem dX0_commonest_41 : decode cX0_commonest 41 = .ok (.invokestatic 285, 3) := dk_184 1 29 (dk_at dksX0_commonest_1 17 rfl rfl)
theorem dX0_commonest_44 : decode cX0_commonest 44 = .ok (.invokevirtual 366, 3) := dk_182 1 110 (dk_at dksX0_commonest_1 20 rfl rfl)
theorem dX0_commonest_47 : decode cX0_commonest 47 = .ok (.checkcast 209, 3) := dk_192 0 209 (dk_at dksX0_commonest_2 0 rfl rfl)
theorem dX0_commonest_50 : decode cX0_commonest 50 = .ok (.invokevirtual 282, 3) := dk_182 1 26 (dk_at dksX0_commonest_2 3 rfl rfl)
theorem dX0_commonest_53 : decode cX0_commonest 53 = .ok (.istore 5, 2) := dk_54 5 (dk_at dksX0_commonest_2 6 rfl rfl)
theorem dX0_commonest_55 : decode cX0_commonest 55 = .ok (.iload 5, 2) := dk_21 5 (dk_at dksX0_commonest_2 8 rfl rfl)
theorem dX0_commonest_57 : decode cX0_commonest 57 = .ok (.iload_n 2, 1) := dk_28 (dk_at dksX0_commonest_2 10 rfl rfl)
theorem dX0_commonest_58 : decode cX0_commonest 58 = .ok (.if_icmp .le 8, 3) := dk_164 0 8 (dk_at dksX0_commonest_2 11 rfl rfl)
theorem dX0_commonest_61 : decode cX0_commonest 61 = .ok (.iload 4, 2) := dk_21 4 (dk_at dksX0_commonest_2 14 rfl rfl)
theorem dX0_commonest_63 : decode cX0_commonest 63 = .ok (.goto 4, 3) := dk_167 0 4 (dk_at dksX0_commonest_2 16 rfl rfl)
theorem dX0_commonest_66 : decode cX0_commonest 66 = .ok (.iload_n 1, 1) := dk_27 (dk_at dksX0_commonest_2 19 rfl rfl)
theorem dX0_commonest_67 : decode cX0_commonest 67 = .ok (.istore_n 1, 1) := dk_60 (dk_at dksX0_commonest_2 20 rfl rfl)
theorem dX0_commonest_68 : decode cX0_commonest 68 = .ok (.iload_n 2, 1) := dk_28 (dk_at dksX0_commonest_2 21 rfl rfl)
theorem dX0_commonest_69 : decode cX0_commonest 69 = .ok (.iload 5, 2) := dk_21 5 (dk_at dksX0_commonest_2 22 rfl rfl)
theorem dX0_commonest_71 : decode cX0_commonest 71 = .ok (.invokestatic 13, 3) := dk_184 0 13 (dk_at dksX0_commonest_3 0 rfl rfl)
theorem dX0_commonest_74 : decode cX0_commonest 74 = .ok (.istore_n 2, 1) := dk_61 (dk_at dksX0_commonest_3 3 rfl rfl)
theorem dX0_commonest_75 : decode cX0_commonest 75 = .ok (.goto (-60), 3) := dk_167 255 196 (dk_at dksX0_commonest_3 4 rfl rfl)
theorem dX0_commonest_78 : decode cX0_commonest 78 = .ok (.iload_n 1, 1) := dk_27 (dk_at dksX0_commonest_3 7 rfl rfl)
theorem dX0_commonest_79 : decode cX0_commonest 79 = .ok (.ireturn, 1) := dk_172 (dk_at dksX0_commonest_3 8 rfl rfl)
abbrev cX0_commonestByte : ByteArray := prog_1_method_75_code
def yX0_commonestByte : MethodName := ⟨RX0, "commonestByte", "(I)I"⟩
def dkwX0_commonestByte_2 : List UInt8 := [162, 0, 11, 45, 27, 182, 0, 164, 167, 0, 5, 16, 247, 172]
abbrev dktX0_commonestByte_2 : List UInt8 := dkwX0_commonestByte_2 ++ []
def dkwX0_commonestByte_1 : List UInt8 := [167, 0, 17, 42, 182, 0, 214, 180, 1, 140, 28, 182, 0, 107, 192, 0, 161, 78, 27, 45, 182, 0, 160]
abbrev dktX0_commonestByte_1 : List UInt8 := dkwX0_commonestByte_1 ++ dktX0_commonestByte_2
def dkwX0_commonestByte_0 : List UInt8 := [27, 156, 0, 5, 2, 172, 42, 182, 1, 131, 184, 1, 136, 61, 28, 16, 247, 160, 0, 8, 18, 126]
abbrev dktX0_commonestByte_0 : List UInt8 := dkwX0_commonestByte_0 ++ dktX0_commonestByte_1
theorem dksX0_commonestByte_0 : cX0_commonestByte.data.toList.drop 0 = dktX0_commonestByte_0 := by decide +kernel
theorem dksX0_commonestByte_1 : cX0_commonestByte.data.toList.drop 22 = dktX0_commonestByte_1 := dk_seg dksX0_commonestByte_0 22 rfl rfl
theorem dksX0_commonestByte_2 : cX0_commonestByte.data.toList.drop 45 = dktX0_commonestByte_2 := dk_seg dksX0_commonestByte_1 23 rfl rfl
theorem dX0_commonestByte_0 : decode cX0_commonestByte 0 = .ok (.iload_n 1, 1) := dk_27 (dk_at dksX0_commonestByte_0 0 rfl rfl)
theorem dX0_commonestByte_1 : decode cX0_commonestByte 1 = .ok (.ifCond .ge 5, 3) := dk_156 0 5 (dk_at dksX0_commonestByte_0 1 rfl rfl)
theorem dX0_commonestByte_4 : decode cX0_commonestByte 4 = .ok (.iconst (-1), 1) := dk_2 (dk_at dksX0_commonestByte_0 4 rfl rfl)
theorem dX0_commonestByte_5 : decode cX0_commonestByte 5 = .ok (.ireturn, 1) := dk_172 (dk_at dksX0_commonestByte_0 5 rfl rfl)
theorem dX0_commonestByte_6 : decode cX0_commonestByte 6 = .ok (.aload_n 0, 1) := dk_42 (dk_at dksX0_commonestByte_0 6 rfl rfl)
theorem dX0_commonestByte_7 : decode cX0_commonestByte 7 = .ok (.invokevirtual 387, 3) := dk_182 1 131 (dk_at dksX0_commonestByte_0 7 rfl rfl)
theorem dX0_commonestByte_10 : decode cX0_commonestByte 10 = .ok (.invokestatic 392, 3) := dk_184 1 136 (dk_at dksX0_commonestByte_0 10 rfl rfl)
theorem dX0_commonestByte_13 : decode cX0_commonestByte 13 = .ok (.istore_n 2, 1) := dk_61 (dk_at dksX0_commonestByte_0 13 rfl rfl)
theorem dX0_commonestByte_14 : decode cX0_commonestByte 14 = .ok (.iload_n 2, 1) := dk_28 (dk_at dksX0_commonestByte_0 14 rfl rfl)
theorem dX0_commonestByte_15 : decode cX0_commonestByte 15 = .ok (.bipush (-9), 2) := dk_16 247 (dk_at dksX0_commonestByte_0 15 rfl rfl)
theorem dX0_commonestByte_17 : decode cX0_commonestByte 17 = .ok (.if_icmp .ne 8, 3) := dk_160 0 8 (dk_at dksX0_commonestByte_0 17 rfl rfl)
theorem dX0_commonestByte_20 : decode cX0_commonestByte 20 = .ok (.ldc 126, 2) := dk_18 126 (dk_at dksX0_commonestByte_0 20 rfl rfl)
theorem dX0_commonestByte_22 : decode cX0_commonestByte 22 = .ok (.goto 17, 3) := dk_167 0 17 (dk_at dksX0_commonestByte_1 0 rfl rfl)
theorem dX0_commonestByte_25 : decode cX0_commonestByte 25 = .ok (.aload_n 0, 1) := dk_42 (dk_at dksX0_commonestByte_1 3 rfl rfl)
theorem dX0_commonestByte_26 : decode cX0_commonestByte 26 = .ok (.invokevirtual 214, 3) := dk_182 0 214 (dk_at dksX0_commonestByte_1 4 rfl rfl)
theorem dX0_commonestByte_29 : decode cX0_commonestByte 29 = .ok (.getfield 396, 3) := dk_180 1 140 (dk_at dksX0_commonestByte_1 7 rfl rfl)
theorem dX0_commonestByte_32 : decode cX0_commonestByte 32 = .ok (.iload_n 2, 1) := dk_28 (dk_at dksX0_commonestByte_1 10 rfl rfl)
theorem dX0_commonestByte_33 : decode cX0_commonestByte 33 = .ok (.invokevirtual 107, 3) := dk_182 0 107 (dk_at dksX0_commonestByte_1 11 rfl rfl)
theorem dX0_commonestByte_36 : decode cX0_commonestByte 36 = .ok (.checkcast 161, 3) := dk_192 0 161 (dk_at dksX0_commonestByte_1 14 rfl rfl)
theorem dX0_commonestByte_39 : decode cX0_commonestByte 39 = .ok (.astore_n 3, 1) := dk_78 (dk_at dksX0_commonestByte_1 17 rfl rfl)
theorem dX0_commonestByte_40 : decode cX0_commonestByte 40 = .ok (.iload_n 1, 1) := dk_27 (dk_at dksX0_commonestByte_1 18 rfl rfl)
theorem dX0_commonestByte_41 : decode cX0_commonestByte 41 = .ok (.aload_n 3, 1) := dk_45 (dk_at dksX0_commonestByte_1 19 rfl rfl)
theorem dX0_commonestByte_42 : decode cX0_commonestByte 42 = .ok (.invokevirtual 160, 3) := dk_182 0 160 (dk_at dksX0_commonestByte_1 20 rfl rfl)
theorem dX0_commonestByte_45 : decode cX0_commonestByte 45 = .ok (.if_icmp .ge 11, 3) := dk_162 0 11 (dk_at dksX0_commonestByte_2 0 rfl rfl)
theorem dX0_commonestByte_48 : decode cX0_commonestByte 48 = .ok (.aload_n 3, 1) := dk_45 (dk_at dksX0_commonestByte_2 3 rfl rfl)
theorem dX0_commonestByte_49 : decode cX0_commonestByte 49 = .ok (.iload_n 1, 1) := dk_27 (dk_at dksX0_commonestByte_2 4 rfl rfl)
theorem dX0_commonestByte_50 : decode cX0_commonestByte 50 = .ok (.invokevirtual 164, 3) := dk_182 0 164 (dk_at dksX0_commonestByte_2 5 rfl rfl)
theorem dX0_commonestByte_53 : decode cX0_commonestByte 53 = .ok (.goto 5, 3) := dk_167 0 5 (dk_at dksX0_commonestByte_2 8 rfl rfl)
theorem dX0_commonestByte_56 : decode cX0_commonestByte 56 = .ok (.bipush (-9), 2) := dk_16 247 (dk_at dksX0_commonestByte_2 11 rfl rfl)
theorem dX0_commonestByte_58 : decode cX0_commonestByte 58 = .ok (.ireturn, 1) := dk_172 (dk_at dksX0_commonestByte_2 13 rfl rfl)
abbrev cX0_undo : ByteArray := prog_1_method_76_code
def yX0_undo : MethodName := ⟨RX0, "undo", "()I"⟩
def dkwX0_undo_2 : List UInt8 := [42, 180, 0, 32, 182, 0, 44, 172]
abbrev dktX0_undo_2 : List UInt8 := dkwX0_undo_2 ++ []
def dkwX0_undo_1 : List UInt8 := [182, 0, 44, 4, 100, 182, 0, 48, 192, 0, 22, 181, 0, 25, 42, 1, 181, 0, 60, 42, 1, 181, 0, 64]
abbrev dktX0_undo_1 : List UInt8 := dkwX0_undo_1 ++ dktX0_undo_2
def dkwX0_undo_0 : List UInt8 := [42, 180, 0, 32, 182, 1, 143, 153, 0, 6, 16, 254, 172, 42, 42, 180, 0, 32, 42, 180, 0, 32]
abbrev dktX0_undo_0 : List UInt8 := dkwX0_undo_0 ++ dktX0_undo_1
theorem dksX0_undo_0 : cX0_undo.data.toList.drop 0 = dktX0_undo_0 := by decide +kernel
theorem dksX0_undo_1 : cX0_undo.data.toList.drop 22 = dktX0_undo_1 := dk_seg dksX0_undo_0 22 rfl rfl
theorem dksX0_undo_2 : cX0_undo.data.toList.drop 46 = dktX0_undo_2 := dk_seg dksX0_undo_1 24 rfl rfl
theorem dX0_undo_0 : decode cX0_undo 0 = .ok (.aload_n 0, 1) := dk_42 (dk_at dksX0_undo_0 0 rfl rfl)
theorem dX0_undo_1 : decode cX0_undo 1 = .ok (.getfield 32, 3) := dk_180 0 32 (dk_at dksX0_undo_0 1 rfl rfl)
theorem dX0_undo_4 : decode cX0_undo 4 = .ok (.invokevirtual 399, 3) := dk_182 1 143 (dk_at dksX0_undo_0 4 rfl rfl)
theorem dX0_undo_7 : decode cX0_undo 7 = .ok (.ifCond .eq 6, 3) := dk_153 0 6 (dk_at dksX0_undo_0 7 rfl rfl)
theorem dX0_undo_10 : decode cX0_undo 10 = .ok (.bipush (-2), 2) := dk_16 254 (dk_at dksX0_undo_0 10 rfl rfl)
theorem dX0_undo_12 : decode cX0_undo 12 = .ok (.ireturn, 1) := dk_172 (dk_at dksX0_undo_0 12 rfl rfl)
theorem dX0_undo_13 : decode cX0_undo 13 = .ok (.aload_n 0, 1) := dk_42 (dk_at dksX0_undo_0 13 rfl rfl)
theorem dX0_undo_14 : decode cX0_undo 14 = .ok (.aload_n 0, 1) := dk_42 (dk_at dksX0_undo_0 14 rfl rfl)
theorem dX0_undo_15 : decode cX0_undo 15 = .ok (.getfield 32, 3) := dk_180 0 32 (dk_at dksX0_undo_0 15 rfl rfl)
theorem dX0_undo_18 : decode cX0_undo 18 = .ok (.aload_n 0, 1) := dk_42 (dk_at dksX0_undo_0 18 rfl rfl)
theorem dX0_undo_19 : decode cX0_undo 19 = .ok (.getfield 32, 3) := dk_180 0 32 (dk_at dksX0_undo_0 19 rfl rfl)
theorem dX0_undo_22 : decode cX0_undo 22 = .ok (.invokevirtual 44, 3) := dk_182 0 44 (dk_at dksX0_undo_1 0 rfl rfl)
theorem dX0_undo_25 : decode cX0_undo 25 = .ok (.iconst 1, 1) := dk_4 (dk_at dksX0_undo_1 3 rfl rfl)
theorem dX0_undo_26 : decode cX0_undo 26 = .ok (.isub, 1) := dk_100 (dk_at dksX0_undo_1 4 rfl rfl)
theorem dX0_undo_27 : decode cX0_undo 27 = .ok (.invokevirtual 48, 3) := dk_182 0 48 (dk_at dksX0_undo_1 5 rfl rfl)
theorem dX0_undo_30 : decode cX0_undo 30 = .ok (.checkcast 22, 3) := dk_192 0 22 (dk_at dksX0_undo_1 8 rfl rfl)
theorem dX0_undo_33 : decode cX0_undo 33 = .ok (.putfield 25, 3) := dk_181 0 25 (dk_at dksX0_undo_1 11 rfl rfl)
theorem dX0_undo_36 : decode cX0_undo 36 = .ok (.aload_n 0, 1) := dk_42 (dk_at dksX0_undo_1 14 rfl rfl)
theorem dX0_undo_37 : decode cX0_undo 37 = .ok (.aconst_null, 1) := dk_1 (dk_at dksX0_undo_1 15 rfl rfl)
theorem dX0_undo_38 : decode cX0_undo 38 = .ok (.putfield 60, 3) := dk_181 0 60 (dk_at dksX0_undo_1 16 rfl rfl)
theorem dX0_undo_41 : decode cX0_undo 41 = .ok (.aload_n 0, 1) := dk_42 (dk_at dksX0_undo_1 19 rfl rfl)
theorem dX0_undo_42 : decode cX0_undo 42 = .ok (.aconst_null, 1) := dk_1 (dk_at dksX0_undo_1 20 rfl rfl)
theorem dX0_undo_43 : decode cX0_undo 43 = .ok (.putfield 64, 3) := dk_181 0 64 (dk_at dksX0_undo_1 21 rfl rfl)
theorem dX0_undo_46 : decode cX0_undo 46 = .ok (.aload_n 0, 1) := dk_42 (dk_at dksX0_undo_2 0 rfl rfl)
theorem dX0_undo_47 : decode cX0_undo 47 = .ok (.getfield 32, 3) := dk_180 0 32 (dk_at dksX0_undo_2 1 rfl rfl)
theorem dX0_undo_50 : decode cX0_undo 50 = .ok (.invokevirtual 44, 3) := dk_182 0 44 (dk_at dksX0_undo_2 4 rfl rfl)
theorem dX0_undo_53 : decode cX0_undo 53 = .ok (.ireturn, 1) := dk_172 (dk_at dksX0_undo_2 7 rfl rfl)
abbrev cX0_keep : ByteArray := prog_1_method_77_code
def yX0_keep : MethodName := ⟨RX0, "keep", "(I)I"⟩
def dkwX0_keep_1 : List UInt8 := [4, 61, 42, 180, 0, 36, 27, 42, 180, 0, 25, 182, 0, 52, 83, 28, 172]
abbrev dktX0_keep_1 : List UInt8 := dkwX0_keep_1 ++ []
def dkwX0_keep_0 : List UInt8 := [27, 3, 4, 184, 0, 1, 154, 0, 5, 2, 172, 42, 180, 0, 36, 27, 50, 199, 0, 7, 3, 167, 0, 4]
abbrev dktX0_keep_0 : List UInt8 := dkwX0_keep_0 ++ dktX0_keep_1
theorem dksX0_keep_0 : cX0_keep.data.toList.drop 0 = dktX0_keep_0 := by decide +kernel
theorem dksX0_keep_1 : cX0_keep.data.toList.drop 24 = dktX0_keep_1 := dk_seg dksX0_keep_0 24 rfl rfl
theorem dX0_keep_0 : decode cX0_keep 0 = .ok (.iload_n 1, 1) := dk_27 (dk_at dksX0_keep_0 0 rfl rfl)
theorem dX0_keep_1 : decode cX0_keep 1 = .ok (.iconst 0, 1) := dk_3 (dk_at dksX0_keep_0 1 rfl rfl)
theorem dX0_keep_2 : decode cX0_keep 2 = .ok (.iconst 1, 1) := dk_4 (dk_at dksX0_keep_0 2 rfl rfl)
theorem dX0_keep_3 : decode cX0_keep 3 = .ok (.invokestatic 1, 3) := dk_184 0 1 (dk_at dksX0_keep_0 3 rfl rfl)
theorem dX0_keep_6 : decode cX0_keep 6 = .ok (.ifCond .ne 5, 3) := dk_154 0 5 (dk_at dksX0_keep_0 6 rfl rfl)
theorem dX0_keep_9 : decode cX0_keep 9 = .ok (.iconst (-1), 1) := dk_2 (dk_at dksX0_keep_0 9 rfl rfl)
theorem dX0_keep_10 : decode cX0_keep 10 = .ok (.ireturn, 1) := dk_172 (dk_at dksX0_keep_0 10 rfl rfl)
theorem dX0_keep_11 : decode cX0_keep 11 = .ok (.aload_n 0, 1) := dk_42 (dk_at dksX0_keep_0 11 rfl rfl)
theorem dX0_keep_12 : decode cX0_keep 12 = .ok (.getfield 36, 3) := dk_180 0 36 (dk_at dksX0_keep_0 12 rfl rfl)
theorem dX0_keep_15 : decode cX0_keep 15 = .ok (.iload_n 1, 1) := dk_27 (dk_at dksX0_keep_0 15 rfl rfl)
theorem dX0_keep_16 : decode cX0_keep 16 = .ok (.aaload, 1) := dk_50 (dk_at dksX0_keep_0 16 rfl rfl)
theorem dX0_keep_17 : decode cX0_keep 17 = .ok (.ifnonnull 7, 3) := dk_199 0 7 (dk_at dksX0_keep_0 17 rfl rfl)
theorem dX0_keep_20 : decode cX0_keep 20 = .ok (.iconst 0, 1) := dk_3 (dk_at dksX0_keep_0 20 rfl rfl)
theorem dX0_keep_21 : decode cX0_keep 21 = .ok (.goto 4, 3) := dk_167 0 4 (dk_at dksX0_keep_0 21 rfl rfl)
theorem dX0_keep_24 : decode cX0_keep 24 = .ok (.iconst 1, 1) := dk_4 (dk_at dksX0_keep_1 0 rfl rfl)
theorem dX0_keep_25 : decode cX0_keep 25 = .ok (.istore_n 2, 1) := dk_61 (dk_at dksX0_keep_1 1 rfl rfl)
theorem dX0_keep_26 : decode cX0_keep 26 = .ok (.aload_n 0, 1) := dk_42 (dk_at dksX0_keep_1 2 rfl rfl)
theorem dX0_keep_27 : decode cX0_keep 27 = .ok (.getfield 36, 3) := dk_180 0 36 (dk_at dksX0_keep_1 3 rfl rfl)
theorem dX0_keep_30 : decode cX0_keep 30 = .ok (.iload_n 1, 1) := dk_27 (dk_at dksX0_keep_1 6 rfl rfl)
theorem dX0_keep_31 : decode cX0_keep 31 = .ok (.aload_n 0, 1) := dk_42 (dk_at dksX0_keep_1 7 rfl rfl)
theorem dX0_keep_32 : decode cX0_keep 32 = .ok (.getfield 25, 3) := dk_180 0 25 (dk_at dksX0_keep_1 8 rfl rfl)
theorem dX0_keep_35 : decode cX0_keep 35 = .ok (.invokevirtual 52, 3) := dk_182 0 52 (dk_at dksX0_keep_1 11 rfl rfl)
theorem dX0_keep_38 : decode cX0_keep 38 = .ok (.aastore, 1) := dk_83 (dk_at dksX0_keep_1 14 rfl rfl)
theorem dX0_keep_39 : decode cX0_keep 39 = .ok (.iload_n 2, 1) := dk_28 (dk_at dksX0_keep_1 15 rfl rfl)
theorem dX0_keep_40 : decode cX0_keep 40 = .ok (.ireturn, 1) := dk_172 (dk_at dksX0_keep_1 16 rfl rfl)
abbrev cX0_back : ByteArray := prog_1_method_78_code
def yX0_back : MethodName := ⟨RX0, "back", "(I)I"⟩
def dkwX0_back_2 : List UInt8 := [1, 181, 0, 64, 42, 180, 0, 25, 180, 0, 104, 182, 0, 44, 172]
abbrev dktX0_back_2 : List UInt8 := dkwX0_back_2 ++ []
def dkwX0_back_1 : List UInt8 := [180, 0, 36, 27, 50, 182, 0, 52, 181, 0, 25, 42, 180, 0, 32, 182, 1, 146, 42, 1, 181, 0, 60, 42]
abbrev dktX0_back_1 : List UInt8 := dkwX0_back_1 ++ dktX0_back_2
def dkwX0_back_0 : List UInt8 := [27, 3, 4, 184, 0, 1, 153, 0, 12, 42, 180, 0, 36, 27, 50, 199, 0, 5, 2, 172, 42, 42]
abbrev dktX0_back_0 : List UInt8 := dkwX0_back_0 ++ dktX0_back_1
theorem dksX0_back_0 : cX0_back.data.toList.drop 0 = dktX0_back_0 := by decide +kernel
theorem dksX0_back_1 : cX0_back.data.toList.drop 22 = dktX0_back_1 := dk_seg dksX0_back_0 22 rfl rfl
theorem dksX0_back_2 : cX0_back.data.toList.drop 46 = dktX0_back_2 := dk_seg dksX0_back_1 24 rfl rfl
theorem dX0_back_0 : decode cX0_back 0 = .ok (.iload_n 1, 1) := dk_27 (dk_at dksX0_back_0 0 rfl rfl)
theorem dX0_back_1 : decode cX0_back 1 = .ok (.iconst 0, 1) := dk_3 (dk_at dksX0_back_0 1 rfl rfl)
theorem dX0_back_2 : decode cX0_back 2 = .ok (.iconst 1, 1) := dk_4 (dk_at dksX0_back_0 2 rfl rfl)
theorem dX0_back_3 : decode cX0_back 3 = .ok (.invokestatic 1, 3) := dk_184 0 1 (dk_at dksX0_back_0 3 rfl rfl)
theorem dX0_back_6 : decode cX0_back 6 = .ok (.ifCond .eq 12, 3) := dk_153 0 12 (dk_at dksX0_back_0 6 rfl rfl)
theorem dX0_back_9 : decode cX0_back 9 = .ok (.aload_n 0, 1) := dk_42 (dk_at dksX0_back_0 9 rfl rfl)
theorem dX0_back_10 : decode cX0_back 10 = .ok (.getfield 36, 3) := dk_180 0 36 (dk_at dksX0_back_0 10 rfl rfl)
theorem dX0_back_13 : decode cX0_back 13 = .ok (.iload_n 1, 1) := dk_27 (dk_at dksX0_back_0 13 rfl rfl)
theorem dX0_back_14 : decode cX0_back 14 = .ok (.aaload, 1) := dk_50 (dk_at dksX0_back_0 14 rfl rfl)
theorem dX0_back_15 : decode cX0_back 15 = .ok (.ifnonnull 5, 3) := dk_199 0 5 (dk_at dksX0_back_0 15 rfl rfl)
theorem dX0_back_18 : decode cX0_back 18 = .ok (.iconst (-1), 1) := dk_2 (dk_at dksX0_back_0 18 rfl rfl)
theorem dX0_back_19 : decode cX0_back 19 = .ok (.ireturn, 1) := dk_172 (dk_at dksX0_back_0 19 rfl rfl)
theorem dX0_back_20 : decode cX0_back 20 = .ok (.aload_n 0, 1) := dk_42 (dk_at dksX0_back_0 20 rfl rfl)
theorem dX0_back_21 : decode cX0_back 21 = .ok (.aload_n 0, 1) := dk_42 (dk_at dksX0_back_0 21 rfl rfl)
theorem dX0_back_22 : decode cX0_back 22 = .ok (.getfield 36, 3) := dk_180 0 36 (dk_at dksX0_back_1 0 rfl rfl)
theorem dX0_back_25 : decode cX0_back 25 = .ok (.iload_n 1, 1) := dk_27 (dk_at dksX0_back_1 3 rfl rfl)
theorem dX0_back_26 : decode cX0_back 26 = .ok (.aaload, 1) := dk_50 (dk_at dksX0_back_1 4 rfl rfl)
theorem dX0_back_27 : decode cX0_back 27 = .ok (.invokevirtual 52, 3) := dk_182 0 52 (dk_at dksX0_back_1 5 rfl rfl)
theorem dX0_back_30 : decode cX0_back 30 = .ok (.putfield 25, 3) := dk_181 0 25 (dk_at dksX0_back_1 8 rfl rfl)
theorem dX0_back_33 : decode cX0_back 33 = .ok (.aload_n 0, 1) := dk_42 (dk_at dksX0_back_1 11 rfl rfl)
theorem dX0_back_34 : decode cX0_back 34 = .ok (.getfield 32, 3) := dk_180 0 32 (dk_at dksX0_back_1 12 rfl rfl)
theorem dX0_back_37 : decode cX0_back 37 = .ok (.invokevirtual 402, 3) := dk_182 1 146 (dk_at dksX0_back_1 15 rfl rfl)
theorem dX0_back_40 : decode cX0_back 40 = .ok (.aload_n 0, 1) := dk_42 (dk_at dksX0_back_1 18 rfl rfl)
theorem dX0_back_41 : decode cX0_back 41 = .ok (.aconst_null, 1) := dk_1 (dk_at dksX0_back_1 19 rfl rfl)
theorem dX0_back_42 : decode cX0_back 42 = .ok (.putfield 60, 3) := dk_181 0 60 (dk_at dksX0_back_1 20 rfl rfl)
theorem dX0_back_45 : decode cX0_back 45 = .ok (.aload_n 0, 1) := dk_42 (dk_at dksX0_back_1 23 rfl rfl)
theorem dX0_back_46 : decode cX0_back 46 = .ok (.aconst_null, 1) := dk_1 (dk_at dksX0_back_2 0 rfl rfl)
theorem dX0_back_47 : decode cX0_back 47 = .ok (.putfield 64, 3) := dk_181 0 64 (dk_at dksX0_back_2 1 rfl rfl)
theorem dX0_back_50 : decode cX0_back 50 = .ok (.aload_n 0, 1) := dk_42 (dk_at dksX0_back_2 4 rfl rfl)
theorem dX0_back_51 : decode cX0_back 51 = .ok (.getfield 25, 3) := dk_180 0 25 (dk_at dksX0_back_2 5 rfl rfl)
theorem dX0_back_54 : decode cX0_back 54 = .ok (.getfield 104, 3) := dk_180 0 104 (dk_at dksX0_back_2 8 rfl rfl)
theorem dX0_back_57 : decode cX0_back 57 = .ok (.invokevirtual 44, 3) := dk_182 0 44 (dk_at dksX0_back_2 11 rfl rfl)
theorem dX0_back_60 : decode cX0_back 60 = .ok (.ireturn, 1) := dk_172 (dk_at dksX0_back_2 14 rfl rfl)
abbrev cX0_draw : ByteArray := prog_1_method_81_code
def yX0_draw : MethodName := ⟨RX0, "draw", "(II)I"⟩
def dkwX0_draw_6 : List UInt8 := [132, 3, 1, 167, 255, 133, 29, 172]
abbrev dktX0_draw_6 : List UInt8 := dkwX0_draw_6 ++ []
def dkwX0_draw_5 : List UInt8 := [180, 0, 25, 180, 0, 104, 187, 0, 110, 89, 21, 4, 25, 6, 182, 0, 122, 183, 0, 128, 182, 0, 56, 87]
abbrev dktX0_draw_5 : List UInt8 := dkwX0_draw_5 ++ dktX0_draw_6
def dkwX0_draw_4 : List UInt8 := [182, 0, 188, 42, 182, 1, 184, 16, 16, 112, 184, 1, 187, 182, 0, 188, 87, 132, 7, 1, 167, 255, 215, 42]
abbrev dktX0_draw_4 : List UInt8 := dkwX0_draw_4 ++ dktX0_draw_5
def dkwX0_draw_3 : List UInt8 := [3, 54, 7, 21, 7, 21, 5, 162, 0, 40, 25, 6, 21, 7, 158, 0, 8, 18, 191, 167, 0, 5, 18, 126]
abbrev dktX0_draw_3 : List UInt8 := dkwX0_draw_3 ++ dktX0_draw_4
def dkwX0_draw_2 : List UInt8 := [16, 12, 112, 54, 4, 4, 42, 182, 1, 184, 6, 112, 96, 54, 5, 187, 0, 115, 89, 183, 0, 117, 58, 6]
abbrev dktX0_draw_2 : List UInt8 := dkwX0_draw_2 ++ dktX0_draw_3
def dkwX0_draw_1 : List UInt8 := [28, 162, 0, 124, 42, 180, 0, 25, 180, 0, 104, 182, 0, 44, 16, 20, 162, 0, 109, 42, 182, 1, 184]
abbrev dktX0_draw_1 : List UInt8 := dkwX0_draw_1 ++ dktX0_draw_2
def dkwX0_draw_0 : List UInt8 := [28, 4, 16, 12, 184, 0, 1, 154, 0, 5, 2, 172, 42, 182, 0, 139, 42, 27, 181, 1, 149, 3, 62, 29]
abbrev dktX0_draw_0 : List UInt8 := dkwX0_draw_0 ++ dktX0_draw_1
theorem dksX0_draw_0 : cX0_draw.data.toList.drop 0 = dktX0_draw_0 := by decide +kernel
theorem dksX0_draw_1 : cX0_draw.data.toList.drop 24 = dktX0_draw_1 := dk_seg dksX0_draw_0 24 rfl rfl
theorem dksX0_draw_2 : cX0_draw.data.toList.drop 47 = dktX0_draw_2 := dk_seg dksX0_draw_1 23 rfl rfl
theorem dksX0_draw_3 : cX0_draw.data.toList.drop 71 = dktX0_draw_3 := dk_seg dksX0_draw_2 24 rfl rfl
theorem dksX0_draw_4 : cX0_draw.data.toList.drop 95 = dktX0_draw_4 := dk_seg dksX0_draw_3 24 rfl rfl
theorem dksX0_draw_5 : cX0_draw.data.toList.drop 119 = dktX0_draw_5 := dk_seg dksX0_draw_4 24 rfl rfl
theorem dksX0_draw_6 : cX0_draw.data.toList.drop 143 = dktX0_draw_6 := dk_seg dksX0_draw_5 24 rfl rfl
theorem dX0_draw_0 : decode cX0_draw 0 = .ok (.iload_n 2, 1) := dk_28 (dk_at dksX0_draw_0 0 rfl rfl)
theorem dX0_draw_1 : decode cX0_draw 1 = .ok (.iconst 1, 1) := dk_4 (dk_at dksX0_draw_0 1 rfl rfl)
theorem dX0_draw_2 : decode cX0_draw 2 = .ok (.bipush 12, 2) := dk_16 12 (dk_at dksX0_draw_0 2 rfl rfl)
theorem dX0_draw_4 : decode cX0_draw 4 = .ok (.invokestatic 1, 3) := dk_184 0 1 (dk_at dksX0_draw_0 4 rfl rfl)
theorem dX0_draw_7 : decode cX0_draw 7 = .ok (.ifCond .ne 5, 3) := dk_154 0 5 (dk_at dksX0_draw_0 7 rfl rfl)
theorem dX0_draw_10 : decode cX0_draw 10 = .ok (.iconst (-1), 1) := dk_2 (dk_at dksX0_draw_0 10 rfl rfl)
theorem dX0_draw_11 : decode cX0_draw 11 = .ok (.ireturn, 1) := dk_172 (dk_at dksX0_draw_0 11 rfl rfl)
theorem dX0_draw_12 : decode cX0_draw 12 = .ok (.aload_n 0, 1) := dk_42 (dk_at dksX0_draw_0 12 rfl rfl)
theorem dX0_draw_13 : decode cX0_draw 13 = .ok (.invokevirtual 139, 3) := dk_182 0 139 (dk_at dksX0_draw_0 13 rfl rfl)
theorem dX0_draw_16 : decode cX0_draw 16 = .ok (.aload_n 0, 1) := dk_42 (dk_at dksX0_draw_0 16 rfl rfl)
theorem dX0_draw_17 : decode cX0_draw 17 = .ok (.iload_n 1, 1) := dk_27 (dk_at dksX0_draw_0 17 rfl rfl)
theorem dX0_draw_18 : decode cX0_draw 18 = .ok (.putfield 405, 3) := dk_181 1 149 (dk_at dksX0_draw_0 18 rfl rfl)
theorem dX0_draw_21 : decode cX0_draw 21 = .ok (.iconst 0, 1) := dk_3 (dk_at dksX0_draw_0 21 rfl rfl)
theorem dX0_draw_22 : decode cX0_draw 22 = .ok (.istore_n 3, 1) := dk_62 (dk_at dksX0_draw_0 22 rfl rfl)
theorem dX0_draw_23 : decode cX0_draw 23 = .ok (.iload_n 3, 1) := dk_29 (dk_at dksX0_draw_0 23 rfl rfl)
theorem dX0_draw_24 : decode cX0_draw 24 = .ok (.iload_n 2, 1) := dk_28 (dk_at dksX0_draw_1 0 rfl rfl)
theorem dX0_draw_25 : decode cX0_draw 25 = .ok (.if_icmp .ge 124, 3) := dk_162 0 124 (dk_at dksX0_draw_1 1 rfl rfl)
theorem dX0_draw_28 : decode cX0_draw 28 = .ok (.aload_n 0, 1) := dk_42 (dk_at dksX0_draw_1 4 rfl rfl)
theorem dX0_draw_29 : decode cX0_draw 29 = .ok (.getfield 25, 3) := dk_180 0 25 (dk_at dksX0_draw_1 5 rfl rfl)
theorem dX0_draw_32 : decode cX0_draw 32 = .ok (.getfield 104, 3) := dk_180 0 104 (dk_at dksX0_draw_1 8 rfl rfl)
theorem dX0_draw_35 : decode cX0_draw 35 = .ok (.invokevirtual 44, 3) := dk_182 0 44 (dk_at dksX0_draw_1 11 rfl rfl)
theorem dX0_draw_38 : decode cX0_draw 38 = .ok (.bipush 20, 2) := dk_16 20 (dk_at dksX0_draw_1 14 rfl rfl)
theorem dX0_draw_40 : decode cX0_draw 40 = .ok (.if_icmp .ge 109, 3) := dk_162 0 109 (dk_at dksX0_draw_1 16 rfl rfl)
theorem dX0_draw_43 : decode cX0_draw 43 = .ok (.aload_n 0, 1) := dk_42 (dk_at dksX0_draw_1 19 rfl rfl)
theorem dX0_draw_44 : decode cX0_draw 44 = .ok (.invokevirtual 440, 3) := dk_182 1 184 (dk_at dksX0_draw_1 20 rfl rfl)
theorem dX0_draw_47 : decode cX0_draw 47 = .ok (.bipush 12, 2) := dk_16 12 (dk_at dksX0_draw_2 0 rfl rfl)
theorem dX0_draw_49 : decode cX0_draw 49 = .ok (.irem, 1) := dk_112 (dk_at dksX0_draw_2 2 rfl rfl)
theorem dX0_draw_50 : decode cX0_draw 50 = .ok (.istore 4, 2) := dk_54 4 (dk_at dksX0_draw_2 3 rfl rfl)
theorem dX0_draw_52 : decode cX0_draw 52 = .ok (.iconst 1, 1) := dk_4 (dk_at dksX0_draw_2 5 rfl rfl)
theorem dX0_draw_53 : decode cX0_draw 53 = .ok (.aload_n 0, 1) := dk_42 (dk_at dksX0_draw_2 6 rfl rfl)
theorem dX0_draw_54 : decode cX0_draw 54 = .ok (.invokevirtual 440, 3) := dk_182 1 184 (dk_at dksX0_draw_2 7 rfl rfl)
theorem dX0_draw_57 : decode cX0_draw 57 = .ok (.iconst 3, 1) := dk_6 (dk_at dksX0_draw_2 10 rfl rfl)
theorem dX0_draw_58 : decode cX0_draw 58 = .ok (.irem, 1) := dk_112 (dk_at dksX0_draw_2 11 rfl rfl)
theorem dX0_draw_59 : decode cX0_draw 59 = .ok (.iadd, 1) := dk_96 (dk_at dksX0_draw_2 12 rfl rfl)
theorem dX0_draw_60 : decode cX0_draw 60 = .ok (.istore 5, 2) := dk_54 5 (dk_at dksX0_draw_2 13 rfl rfl)
theorem dX0_draw_62 : decode cX0_draw 62 = .ok (.new 115, 3) := dk_187 0 115 (dk_at dksX0_draw_2 15 rfl rfl)
theorem dX0_draw_65 : decode cX0_draw 65 = .ok (.dup, 1) := dk_89 (dk_at dksX0_draw_2 18 rfl rfl)
theorem dX0_draw_66 : decode cX0_draw 66 = .ok (.invokespecial 117, 3) := dk_183 0 117 (dk_at dksX0_draw_2 19 rfl rfl)
theorem dX0_draw_69 : decode cX0_draw 69 = .ok (.astore 6, 2) := dk_58 6 (dk_at dksX0_draw_2 22 rfl rfl)
theorem dX0_draw_71 : decode cX0_draw 71 = .ok (.iconst 0, 1) := dk_3 (dk_at dksX0_draw_3 0 rfl rfl)
theorem dX0_draw_72 : decode cX0_draw 72 = .ok (.istore 7, 2) := dk_54 7 (dk_at dksX0_draw_3 1 rfl rfl)
theorem dX0_draw_74 : decode cX0_draw 74 = .ok (.iload 7, 2) := dk_21 7 (dk_at dksX0_draw_3 3 rfl rfl)
theorem dX0_draw_76 : decode cX0_draw 76 = .ok (.iload 5, 2) := dk_21 5 (dk_at dksX0_draw_3 5 rfl rfl)
theorem dX0_draw_78 : decode cX0_draw 78 = .ok (.if_icmp .ge 40, 3) := dk_162 0 40 (dk_at dksX0_draw_3 7 rfl rfl)
theorem dX0_draw_81 : decode cX0_draw 81 = .ok (.aload 6, 2) := dk_25 6 (dk_at dksX0_draw_3 10 rfl rfl)
theorem dX0_draw_83 : decode cX0_draw 83 = .ok (.iload 7, 2) := dk_21 7 (dk_at dksX0_draw_3 12 rfl rfl)
theorem dX0_draw_85 : decode cX0_draw 85 = .ok (.ifCond .le 8, 3) := dk_158 0 8 (dk_at dksX0_draw_3 14 rfl rfl)
theorem dX0_draw_88 : decode cX0_draw 88 = .ok (.ldc 191, 2) := dk_18 191 (dk_at dksX0_draw_3 17 rfl rfl)
theorem dX0_draw_90 : decode cX0_draw 90 = .ok (.goto 5, 3) := dk_167 0 5 (dk_at dksX0_draw_3 19 rfl rfl)
theorem dX0_draw_93 : decode cX0_draw 93 = .ok (.ldc 126, 2) := dk_18 126 (dk_at dksX0_draw_3 22 rfl rfl)
theorem dX0_draw_95 : decode cX0_draw 95 = .ok (.invokevirtual 188, 3) := dk_182 0 188 (dk_at dksX0_draw_4 0 rfl rfl)
theorem dX0_draw_98 : decode cX0_draw 98 = .ok (.aload_n 0, 1) := dk_42 (dk_at dksX0_draw_4 3 rfl rfl)
theorem dX0_draw_99 : decode cX0_draw 99 = .ok (.invokevirtual 440, 3) := dk_182 1 184 (dk_at dksX0_draw_4 4 rfl rfl)
theorem dX0_draw_102 : decode cX0_draw 102 = .ok (.bipush 16, 2) := dk_16 16 (dk_at dksX0_draw_4 7 rfl rfl)
theorem dX0_draw_104 : decode cX0_draw 104 = .ok (.irem, 1) := dk_112 (dk_at dksX0_draw_4 9 rfl rfl)
theorem dX0_draw_105 : decode cX0_draw 105 = .ok (.invokestatic 443, 3) := dk_184 1 187 (dk_at dksX0_draw_4 10 rfl rfl)
theorem dX0_draw_108 : decode cX0_draw 108 = .ok (.invokevirtual 188, 3) := dk_182 0 188 (dk_at dksX0_draw_4 13 rfl rfl)
theorem dX0_draw_111 : decode cX0_draw 111 = .ok (.pop, 1) := dk_87 (dk_at dksX0_draw_4 16 rfl rfl)
theorem dX0_draw_112 : decode cX0_draw 112 = .ok (.iinc 7 1, 3) := dk_132 7 1 (dk_at dksX0_draw_4 17 rfl rfl)
theorem dX0_draw_115 : decode cX0_draw 115 = .ok (.goto (-41), 3) := dk_167 255 215 (dk_at dksX0_draw_4 20 rfl rfl)
theorem dX0_draw_118 : decode cX0_draw 118 = .ok (.aload_n 0, 1) := dk_42 (dk_at dksX0_draw_4 23 rfl rfl)
theorem dX0_draw_119 : decode cX0_draw 119 = .ok (.getfield 25, 3) := dk_180 0 25 (dk_at dksX0_draw_5 0 rfl rfl)
theorem dX0_draw_122 : decode cX0_draw 122 = .ok (.getfield 104, 3) := dk_180 0 104 (dk_at dksX0_draw_5 3 rfl rfl)
theorem dX0_draw_125 : decode cX0_draw 125 = .ok (.new 110, 3) := dk_187 0 110 (dk_at dksX0_draw_5 6 rfl rfl)
theorem dX0_draw_128 : decode cX0_draw 128 = .ok (.dup, 1) := dk_89 (dk_at dksX0_draw_5 9 rfl rfl)
theorem dX0_draw_129 : decode cX0_draw 129 = .ok (.iload 4, 2) := dk_21 4 (dk_at dksX0_draw_5 10 rfl rfl)
theorem dX0_draw_131 : decode cX0_draw 131 = .ok (.aload 6, 2) := dk_25 6 (dk_at dksX0_draw_5 12 rfl rfl)
theorem dX0_draw_133 : decode cX0_draw 133 = .ok (.invokevirtual 122, 3) := dk_182 0 122 (dk_at dksX0_draw_5 14 rfl rfl)
theorem dX0_draw_136 : decode cX0_draw 136 = .ok (.invokespecial 128, 3) := dk_183 0 128 (dk_at dksX0_draw_5 17 rfl rfl)
theorem dX0_draw_139 : decode cX0_draw 139 = .ok (.invokevirtual 56, 3) := dk_182 0 56 (dk_at dksX0_draw_5 20 rfl rfl)
theorem dX0_draw_142 : decode cX0_draw 142 = .ok (.pop, 1) := dk_87 (dk_at dksX0_draw_5 23 rfl rfl)
theorem dX0_draw_143 : decode cX0_draw 143 = .ok (.iinc 3 1, 3) := dk_132 3 1 (dk_at dksX0_draw_6 0 rfl rfl)
theorem dX0_draw_146 : decode cX0_draw 146 = .ok (.goto (-123), 3) := dk_167 255 133 (dk_at dksX0_draw_6 3 rfl rfl)
theorem dX0_draw_149 : decode cX0_draw 149 = .ok (.iload_n 3, 1) := dk_29 (dk_at dksX0_draw_6 6 rfl rfl)
theorem dX0_draw_150 : decode cX0_draw 150 = .ok (.ireturn, 1) := dk_172 (dk_at dksX0_draw_6 7 rfl rfl)
abbrev cX0_draws : ByteArray := prog_1_method_79_code
def yX0_draws : MethodName := ⟨RX0, "draws", "()I"⟩
def dkwX0_draws_1 : List UInt8 := [17, 127, 255, 126, 172]
abbrev dktX0_draws_1 : List UInt8 := dkwX0_draws_1 ++ []
def dkwX0_draws_0 : List UInt8 := [42, 42, 180, 1, 149, 19, 1, 152, 104, 17, 48, 57, 96, 181, 1, 149, 42, 180, 1, 149, 16, 16, 124]
abbrev dktX0_draws_0 : List UInt8 := dkwX0_draws_0 ++ dktX0_draws_1
theorem dksX0_draws_0 : cX0_draws.data.toList.drop 0 = dktX0_draws_0 := by decide +kernel
theorem dksX0_draws_1 : cX0_draws.data.toList.drop 23 = dktX0_draws_1 := dk_seg dksX0_draws_0 23 rfl rfl
theorem dX0_draws_0 : decode cX0_draws 0 = .ok (.aload_n 0, 1) := dk_42 (dk_at dksX0_draws_0 0 rfl rfl)
theorem dX0_draws_1 : decode cX0_draws 1 = .ok (.aload_n 0, 1) := dk_42 (dk_at dksX0_draws_0 1 rfl rfl)
theorem dX0_draws_2 : decode cX0_draws 2 = .ok (.getfield 405, 3) := dk_180 1 149 (dk_at dksX0_draws_0 2 rfl rfl)
theorem dX0_draws_5 : decode cX0_draws 5 = .ok (.ldc_w 408, 3) := dk_19 1 152 (dk_at dksX0_draws_0 5 rfl rfl)
theorem dX0_draws_8 : decode cX0_draws 8 = .ok (.imul, 1) := dk_104 (dk_at dksX0_draws_0 8 rfl rfl)
theorem dX0_draws_9 : decode cX0_draws 9 = .ok (.sipush 12345, 3) := dk_17 48 57 (dk_at dksX0_draws_0 9 rfl rfl)
theorem dX0_draws_12 : decode cX0_draws 12 = .ok (.iadd, 1) := dk_96 (dk_at dksX0_draws_0 12 rfl rfl)
theorem dX0_draws_13 : decode cX0_draws 13 = .ok (.putfield 405, 3) := dk_181 1 149 (dk_at dksX0_draws_0 13 rfl rfl)
theorem dX0_draws_16 : decode cX0_draws 16 = .ok (.aload_n 0, 1) := dk_42 (dk_at dksX0_draws_0 16 rfl rfl)
theorem dX0_draws_17 : decode cX0_draws 17 = .ok (.getfield 405, 3) := dk_180 1 149 (dk_at dksX0_draws_0 17 rfl rfl)
theorem dX0_draws_20 : decode cX0_draws 20 = .ok (.bipush 16, 2) := dk_16 16 (dk_at dksX0_draws_0 20 rfl rfl)
theorem dX0_draws_22 : decode cX0_draws 22 = .ok (.iushr, 1) := dk_124 (dk_at dksX0_draws_0 22 rfl rfl)
theorem dX0_draws_23 : decode cX0_draws 23 = .ok (.sipush 32767, 3) := dk_17 127 255 (dk_at dksX0_draws_1 0 rfl rfl)
theorem dX0_draws_26 : decode cX0_draws 26 = .ok (.iand, 1) := dk_126 (dk_at dksX0_draws_1 3 rfl rfl)
theorem dX0_draws_27 : decode cX0_draws 27 = .ok (.ireturn, 1) := dk_172 (dk_at dksX0_draws_1 4 rfl rfl)
abbrev cX0_piece : ByteArray := prog_1_method_80_code
def yX0_piece : MethodName := ⟨RX0, "piece", "(I)Ljava/lang/String;"⟩
def dkwX0_piece_4 : List UInt8 := [19, 1, 176, 176, 19, 1, 178, 176, 19, 1, 180, 176, 19, 1, 182, 176]
abbrev dktX0_piece_4 : List UInt8 := dkwX0_piece_4 ++ []
def dkwX0_piece_3 : List UInt8 := [19, 1, 165, 176, 19, 1, 166, 176, 19, 1, 168, 176, 19, 1, 170, 176, 19, 1, 172, 176, 19, 1, 174, 176]
abbrev dktX0_piece_3 : List UInt8 := dkwX0_piece_3 ++ dktX0_piece_4
def dkwX0_piece_2 : List UInt8 := [19, 1, 153, 176, 19, 1, 155, 176, 19, 1, 157, 176, 19, 1, 159, 176, 19, 1, 161, 176, 19, 1, 163, 176]
abbrev dktX0_piece_2 : List UInt8 := dkwX0_piece_2 ++ dktX0_piece_3
def dkwX0_piece_1 : List UInt8 := [170, 0, 0, 0, 0, 0, 135, 0, 0, 0, 0, 0, 0, 0, 14, 0, 0, 0, 75, 0, 0, 0, 79, 0, 0, 0, 83, 0, 0, 0, 87, 0, 0, 0, 91, 0, 0, 0, 95, 0, 0, 0, 99, 0, 0, 0, 103, 0, 0, 0, 107, 0, 0, 0, 111, 0, 0, 0, 115, 0, 0, 0, 119, 0, 0, 0, 123, 0, 0, 0, 127, 0, 0, 0, 131]
abbrev dktX0_piece_1 : List UInt8 := dkwX0_piece_1 ++ dktX0_piece_2
def dkwX0_piece_0 : List UInt8 := [26]
abbrev dktX0_piece_0 : List UInt8 := dkwX0_piece_0 ++ dktX0_piece_1
theorem dksX0_piece_0 : cX0_piece.data.toList.drop 0 = dktX0_piece_0 := by decide +kernel
theorem dksX0_piece_1 : cX0_piece.data.toList.drop 1 = dktX0_piece_1 := dk_seg dksX0_piece_0 1 rfl rfl
theorem dksX0_piece_2 : cX0_piece.data.toList.drop 76 = dktX0_piece_2 := dk_seg dksX0_piece_1 75 rfl rfl
theorem dksX0_piece_3 : cX0_piece.data.toList.drop 100 = dktX0_piece_3 := dk_seg dksX0_piece_2 24 rfl rfl
theorem dksX0_piece_4 : cX0_piece.data.toList.drop 124 = dktX0_piece_4 := dk_seg dksX0_piece_3 24 rfl rfl
theorem dX0_piece_0 : decode cX0_piece 0 = .ok (.iload_n 0, 1) := dk_26 (dk_at dksX0_piece_0 0 rfl rfl)
theorem dX0_piece_1 : decode cX0_piece 1 = .ok (.tableswitch 135 0 14 #[75, 79, 83, 87, 91, 95, 99, 103, 107, 111, 115, 119, 123, 127, 131], 75) := by decide +kernel
theorem dX0_piece_76 : decode cX0_piece 76 = .ok (.ldc_w 409, 3) := dk_19 1 153 (dk_at dksX0_piece_2 0 rfl rfl)
theorem dX0_piece_79 : decode cX0_piece 79 = .ok (.areturn, 1) := dk_176 (dk_at dksX0_piece_2 3 rfl rfl)
theorem dX0_piece_80 : decode cX0_piece 80 = .ok (.ldc_w 411, 3) := dk_19 1 155 (dk_at dksX0_piece_2 4 rfl rfl)
theorem dX0_piece_83 : decode cX0_piece 83 = .ok (.areturn, 1) := dk_176 (dk_at dksX0_piece_2 7 rfl rfl)
theorem dX0_piece_84 : decode cX0_piece 84 = .ok (.ldc_w 413, 3) := dk_19 1 157 (dk_at dksX0_piece_2 8 rfl rfl)
theorem dX0_piece_87 : decode cX0_piece 87 = .ok (.areturn, 1) := dk_176 (dk_at dksX0_piece_2 11 rfl rfl)
theorem dX0_piece_88 : decode cX0_piece 88 = .ok (.ldc_w 415, 3) := dk_19 1 159 (dk_at dksX0_piece_2 12 rfl rfl)
theorem dX0_piece_91 : decode cX0_piece 91 = .ok (.areturn, 1) := dk_176 (dk_at dksX0_piece_2 15 rfl rfl)
theorem dX0_piece_92 : decode cX0_piece 92 = .ok (.ldc_w 417, 3) := dk_19 1 161 (dk_at dksX0_piece_2 16 rfl rfl)
theorem dX0_piece_95 : decode cX0_piece 95 = .ok (.areturn, 1) := dk_176 (dk_at dksX0_piece_2 19 rfl rfl)
theorem dX0_piece_96 : decode cX0_piece 96 = .ok (.ldc_w 419, 3) := dk_19 1 163 (dk_at dksX0_piece_2 20 rfl rfl)
theorem dX0_piece_99 : decode cX0_piece 99 = .ok (.areturn, 1) := dk_176 (dk_at dksX0_piece_2 23 rfl rfl)
theorem dX0_piece_100 : decode cX0_piece 100 = .ok (.ldc_w 421, 3) := dk_19 1 165 (dk_at dksX0_piece_3 0 rfl rfl)
theorem dX0_piece_103 : decode cX0_piece 103 = .ok (.areturn, 1) := dk_176 (dk_at dksX0_piece_3 3 rfl rfl)
theorem dX0_piece_104 : decode cX0_piece 104 = .ok (.ldc_w 422, 3) := dk_19 1 166 (dk_at dksX0_piece_3 4 rfl rfl)
theorem dX0_piece_107 : decode cX0_piece 107 = .ok (.areturn, 1) := dk_176 (dk_at dksX0_piece_3 7 rfl rfl)
theorem dX0_piece_108 : decode cX0_piece 108 = .ok (.ldc_w 424, 3) := dk_19 1 168 (dk_at dksX0_piece_3 8 rfl rfl)
theorem dX0_piece_111 : decode cX0_piece 111 = .ok (.areturn, 1) := dk_176 (dk_at dksX0_piece_3 11 rfl rfl)
theorem dX0_piece_112 : decode cX0_piece 112 = .ok (.ldc_w 426, 3) := dk_19 1 170 (dk_at dksX0_piece_3 12 rfl rfl)
theorem dX0_piece_115 : decode cX0_piece 115 = .ok (.areturn, 1) := dk_176 (dk_at dksX0_piece_3 15 rfl rfl)
theorem dX0_piece_116 : decode cX0_piece 116 = .ok (.ldc_w 428, 3) := dk_19 1 172 (dk_at dksX0_piece_3 16 rfl rfl)
theorem dX0_piece_119 : decode cX0_piece 119 = .ok (.areturn, 1) := dk_176 (dk_at dksX0_piece_3 19 rfl rfl)
theorem dX0_piece_120 : decode cX0_piece 120 = .ok (.ldc_w 430, 3) := dk_19 1 174 (dk_at dksX0_piece_3 20 rfl rfl)
theorem dX0_piece_123 : decode cX0_piece 123 = .ok (.areturn, 1) := dk_176 (dk_at dksX0_piece_3 23 rfl rfl)
theorem dX0_piece_124 : decode cX0_piece 124 = .ok (.ldc_w 432, 3) := dk_19 1 176 (dk_at dksX0_piece_4 0 rfl rfl)
theorem dX0_piece_127 : decode cX0_piece 127 = .ok (.areturn, 1) := dk_176 (dk_at dksX0_piece_4 3 rfl rfl)
theorem dX0_piece_128 : decode cX0_piece 128 = .ok (.ldc_w 434, 3) := dk_19 1 178 (dk_at dksX0_piece_4 4 rfl rfl)
theorem dX0_piece_131 : decode cX0_piece 131 = .ok (.areturn, 1) := dk_176 (dk_at dksX0_piece_4 7 rfl rfl)
theorem dX0_piece_132 : decode cX0_piece 132 = .ok (.ldc_w 436, 3) := dk_19 1 180 (dk_at dksX0_piece_4 8 rfl rfl)
theorem dX0_piece_135 : decode cX0_piece 135 = .ok (.areturn, 1) := dk_176 (dk_at dksX0_piece_4 11 rfl rfl)
theorem dX0_piece_136 : decode cX0_piece 136 = .ok (.ldc_w 438, 3) := dk_19 1 182 (dk_at dksX0_piece_4 12 rfl rfl)
theorem dX0_piece_139 : decode cX0_piece 139 = .ok (.areturn, 1) := dk_176 (dk_at dksX0_piece_4 15 rfl rfl)
abbrev cX0_digest : ByteArray := prog_1_method_85_code
def yX0_digest : MethodName := ⟨RX0, "digest", "()J"⟩
def dkwX0_digest_9 : List UInt8 := [167, 0, 4, 4, 96, 133, 184, 1, 193, 64, 31, 42, 180, 0, 112, 133, 184, 1, 193, 173]
abbrev dktX0_digest_9 : List UInt8 := dkwX0_digest_9 ++ []
def dkwX0_digest_8 : List UInt8 := [42, 180, 0, 36, 3, 50, 199, 0, 7, 3, 167, 0, 4, 4, 42, 180, 0, 36, 4, 50, 199, 0, 7, 3]
abbrev dktX0_digest_8 : List UInt8 := dkwX0_digest_8 ++ dktX0_digest_9
def dkwX0_digest_7 : List UInt8 := [184, 1, 228, 64, 132, 3, 1, 167, 255, 233, 31, 42, 180, 0, 32, 182, 0, 44, 133, 184, 1, 193, 64, 31]
abbrev dktX0_digest_7 : List UInt8 := dkwX0_digest_7 ++ dktX0_digest_8
def dkwX0_digest_6 : List UInt8 := [184, 1, 193, 64, 3, 62, 29, 16, 12, 162, 0, 23, 31, 42, 180, 0, 25, 180, 0, 237, 29, 50]
abbrev dktX0_digest_6 : List UInt8 := dkwX0_digest_6 ++ dktX0_digest_7
def dkwX0_digest_5 : List UInt8 := [184, 1, 193, 42, 180, 0, 25, 180, 0, 72, 133, 184, 1, 193, 42, 180, 0, 25, 180, 0, 225, 133]
abbrev dktX0_digest_5 : List UInt8 := dkwX0_digest_5 ++ dktX0_digest_6
def dkwX0_digest_4 : List UInt8 := [182, 1, 225, 133, 184, 1, 193, 64, 132, 3, 1, 167, 255, 174, 31, 42, 180, 0, 25, 180, 0, 68, 133]
abbrev dktX0_digest_4 : List UInt8 := dkwX0_digest_4 ++ dktX0_digest_5
def dkwX0_digest_3 : List UInt8 := [184, 1, 208, 64, 31, 25, 4, 180, 0, 197, 153, 0, 7, 10, 167, 0, 4, 9, 184, 1, 193, 42, 29]
abbrev dktX0_digest_3 : List UInt8 := dkwX0_digest_3 ++ dktX0_digest_4
def dkwX0_digest_2 : List UInt8 := [180, 0, 153, 133, 184, 1, 193, 25, 4, 180, 0, 156, 182, 0, 160, 133, 184, 1, 193, 25, 4, 180, 0, 156]
abbrev dktX0_digest_2 : List UInt8 := dkwX0_digest_2 ++ dktX0_digest_3
def dkwX0_digest_1 : List UInt8 := [180, 0, 25, 180, 0, 104, 182, 0, 44, 162, 0, 74, 42, 29, 182, 0, 149, 58, 4, 31, 25, 4]
abbrev dktX0_digest_1 : List UInt8 := dkwX0_digest_1 ++ dktX0_digest_2
def dkwX0_digest_0 : List UInt8 := [20, 1, 223, 42, 180, 0, 25, 180, 0, 104, 182, 0, 44, 133, 184, 1, 193, 64, 3, 62, 29, 42]
abbrev dktX0_digest_0 : List UInt8 := dkwX0_digest_0 ++ dktX0_digest_1
theorem dksX0_digest_0 : cX0_digest.data.toList.drop 0 = dktX0_digest_0 := by decide +kernel
theorem dksX0_digest_1 : cX0_digest.data.toList.drop 22 = dktX0_digest_1 := dk_seg dksX0_digest_0 22 rfl rfl
theorem dksX0_digest_2 : cX0_digest.data.toList.drop 44 = dktX0_digest_2 := dk_seg dksX0_digest_1 22 rfl rfl
theorem dksX0_digest_3 : cX0_digest.data.toList.drop 68 = dktX0_digest_3 := dk_seg dksX0_digest_2 24 rfl rfl
theorem dksX0_digest_4 : cX0_digest.data.toList.drop 91 = dktX0_digest_4 := dk_seg dksX0_digest_3 23 rfl rfl
theorem dksX0_digest_5 : cX0_digest.data.toList.drop 114 = dktX0_digest_5 := dk_seg dksX0_digest_4 23 rfl rfl
theorem dksX0_digest_6 : cX0_digest.data.toList.drop 136 = dktX0_digest_6 := dk_seg dksX0_digest_5 22 rfl rfl
theorem dksX0_digest_7 : cX0_digest.data.toList.drop 158 = dktX0_digest_7 := dk_seg dksX0_digest_6 22 rfl rfl
theorem dksX0_digest_8 : cX0_digest.data.toList.drop 182 = dktX0_digest_8 := dk_seg dksX0_digest_7 24 rfl rfl
theorem dksX0_digest_9 : cX0_digest.data.toList.drop 206 = dktX0_digest_9 := dk_seg dksX0_digest_8 24 rfl rfl
theorem dX0_digest_0 : decode cX0_digest 0 = .ok (.ldc2_w 479, 3) := dk_20 1 223 (dk_at dksX0_digest_0 0 rfl rfl)
theorem dX0_digest_3 : decode cX0_digest 3 = .ok (.aload_n 0, 1) := dk_42 (dk_at dksX0_digest_0 3 rfl rfl)
theorem dX0_digest_4 : decode cX0_digest 4 = .ok (.getfield 25, 3) := dk_180 0 25 (dk_at dksX0_digest_0 4 rfl rfl)
theorem dX0_digest_7 : decode cX0_digest 7 = .ok (.getfield 104, 3) := dk_180 0 104 (dk_at dksX0_digest_0 7 rfl rfl)
theorem dX0_digest_10 : decode cX0_digest 10 = .ok (.invokevirtual 44, 3) := dk_182 0 44 (dk_at dksX0_digest_0 10 rfl rfl)
theorem dX0_digest_13 : decode cX0_digest 13 = .ok (.i2l, 1) := dk_133 (dk_at dksX0_digest_0 13 rfl rfl)
theorem dX0_digest_14 : decode cX0_digest 14 = .ok (.invokestatic 449, 3) := dk_184 1 193 (dk_at dksX0_digest_0 14 rfl rfl)
theorem dX0_digest_17 : decode cX0_digest 17 = .ok (.lstore_n 1, 1) := dk_64 (dk_at dksX0_digest_0 17 rfl rfl)
theorem dX0_digest_18 : decode cX0_digest 18 = .ok (.iconst 0, 1) := dk_3 (dk_at dksX0_digest_0 18 rfl rfl)
theorem dX0_digest_19 : decode cX0_digest 19 = .ok (.istore_n 3, 1) := dk_62 (dk_at dksX0_digest_0 19 rfl rfl)
theorem dX0_digest_20 : decode cX0_digest 20 = .ok (.iload_n 3, 1) := dk_29 (dk_at dksX0_digest_0 20 rfl rfl)
theorem dX0_digest_21 : decode cX0_digest 21 = .ok (.aload_n 0, 1) := dk_42 (dk_at dksX0_digest_0 21 rfl rfl)
theorem dX0_digest_22 : decode cX0_digest 22 = .ok (.getfield 25, 3) := dk_180 0 25 (dk_at dksX0_digest_1 0 rfl rfl)
theorem dX0_digest_25 : decode cX0_digest 25 = .ok (.getfield 104, 3) := dk_180 0 104 (dk_at dksX0_digest_1 3 rfl rfl)
theorem dX0_digest_28 : decode cX0_digest 28 = .ok (.invokevirtual 44, 3) := dk_182 0 44 (dk_at dksX0_digest_1 6 rfl rfl)
theorem dX0_digest_31 : decode cX0_digest 31 = .ok (.if_icmp .ge 74, 3) := dk_162 0 74 (dk_at dksX0_digest_1 9 rfl rfl)
theorem dX0_digest_34 : decode cX0_digest 34 = .ok (.aload_n 0, 1) := dk_42 (dk_at dksX0_digest_1 12 rfl rfl)
theorem dX0_digest_35 : decode cX0_digest 35 = .ok (.iload_n 3, 1) := dk_29 (dk_at dksX0_digest_1 13 rfl rfl)
theorem dX0_digest_36 : decode cX0_digest 36 = .ok (.invokevirtual 149, 3) := dk_182 0 149 (dk_at dksX0_digest_1 14 rfl rfl)
theorem dX0_digest_39 : decode cX0_digest 39 = .ok (.astore 4, 2) := dk_58 4 (dk_at dksX0_digest_1 17 rfl rfl)
theorem dX0_digest_41 : decode cX0_digest 41 = .ok (.lload_n 1, 1) := dk_31 (dk_at dksX0_digest_1 19 rfl rfl)
theorem dX0_digest_42 : decode cX0_digest 42 = .ok (.aload 4, 2) := dk_25 4 (dk_at dksX0_digest_1 20 rfl rfl)
theorem dX0_digest_44 : decode cX0_digest 44 = .ok (.getfield 153, 3) := dk_180 0 153 (dk_at dksX0_digest_2 0 rfl rfl)
theorem dX0_digest_47 : decode cX0_digest 47 = .ok (.i2l, 1) := dk_133 (dk_at dksX0_digest_2 3 rfl rfl)
theorem dX0_digest_48 : decode cX0_digest 48 = .ok (.invokestatic 449, 3) := dk_184 1 193 (dk_at dksX0_digest_2 4 rfl rfl)
theorem dX0_digest_51 : decode cX0_digest 51 = .ok (.aload 4, 2) := dk_25 4 (dk_at dksX0_digest_2 7 rfl rfl)
theorem dX0_digest_53 : decode cX0_digest 53 = .ok (.getfield 156, 3) := dk_180 0 156 (dk_at dksX0_digest_2 9 rfl rfl)
theorem dX0_digest_56 : decode cX0_digest 56 = .ok (.invokevirtual 160, 3) := dk_182 0 160 (dk_at dksX0_digest_2 12 rfl rfl)
theorem dX0_digest_59 : decode cX0_digest 59 = .ok (.i2l, 1) := dk_133 (dk_at dksX0_digest_2 15 rfl rfl)
theorem dX0_digest_60 : decode cX0_digest 60 = .ok (.invokestatic 449, 3) := dk_184 1 193 (dk_at dksX0_digest_2 16 rfl rfl)
theorem dX0_digest_63 : decode cX0_digest 63 = .ok (.aload 4, 2) := dk_25 4 (dk_at dksX0_digest_2 19 rfl rfl)
theorem dX0_digest_65 : decode cX0_digest 65 = .ok (.getfield 156, 3) := dk_180 0 156 (dk_at dksX0_digest_2 21 rfl rfl)
theorem dX0_digest_68 : decode cX0_digest 68 = .ok (.invokestatic 464, 3) := dk_184 1 208 (dk_at dksX0_digest_3 0 rfl rfl)
theorem dX0_digest_71 : decode cX0_digest 71 = .ok (.lstore_n 1, 1) := dk_64 (dk_at dksX0_digest_3 3 rfl rfl)
theorem dX0_digest_72 : decode cX0_digest 72 = .ok (.lload_n 1, 1) := dk_31 (dk_at dksX0_digest_3 4 rfl rfl)
theorem dX0_digest_73 : decode cX0_digest 73 = .ok (.aload 4, 2) := dk_25 4 (dk_at dksX0_digest_3 5 rfl rfl)
theorem dX0_digest_75 : decode cX0_digest 75 = .ok (.getfield 197, 3) := dk_180 0 197 (dk_at dksX0_digest_3 7 rfl rfl)
theorem dX0_digest_78 : decode cX0_digest 78 = .ok (.ifCond .eq 7, 3) := dk_153 0 7 (dk_at dksX0_digest_3 10 rfl rfl)
theorem dX0_digest_81 : decode cX0_digest 81 = .ok (.lconst 1, 1) := dk_10 (dk_at dksX0_digest_3 13 rfl rfl)
theorem dX0_digest_82 : decode cX0_digest 82 = .ok (.goto 4, 3) := dk_167 0 4 (dk_at dksX0_digest_3 14 rfl rfl)
theorem dX0_digest_85 : decode cX0_digest 85 = .ok (.lconst 0, 1) := dk_9 (dk_at dksX0_digest_3 17 rfl rfl)
theorem dX0_digest_86 : decode cX0_digest 86 = .ok (.invokestatic 449, 3) := dk_184 1 193 (dk_at dksX0_digest_3 18 rfl rfl)
theorem dX0_digest_89 : decode cX0_digest 89 = .ok (.aload_n 0, 1) := dk_42 (dk_at dksX0_digest_3 21 rfl rfl)
theorem dX0_digest_90 : decode cX0_digest 90 = .ok (.iload_n 3, 1) := dk_29 (dk_at dksX0_digest_3 22 rfl rfl)
theorem dX0_digest_91 : decode cX0_digest 91 = .ok (.invokevirtual 481, 3) := dk_182 1 225 (dk_at dksX0_digest_4 0 rfl rfl)
theorem dX0_digest_94 : decode cX0_digest 94 = .ok (.i2l, 1) := dk_133 (dk_at dksX0_digest_4 3 rfl rfl)
theorem dX0_digest_95 : decode cX0_digest 95 = .ok (.invokestatic 449, 3) := dk_184 1 193 (dk_at dksX0_digest_4 4 rfl rfl)
theorem dX0_digest_98 : decode cX0_digest 98 = .ok (.lstore_n 1, 1) := dk_64 (dk_at dksX0_digest_4 7 rfl rfl)
theorem dX0_digest_99 : decode cX0_digest 99 = .ok (.iinc 3 1, 3) := dk_132 3 1 (dk_at dksX0_digest_4 8 rfl rfl)
theorem dX0_digest_102 : decode cX0_digest 102 = .ok (.goto (-82), 3) := dk_167 255 174 (dk_at dksX0_digest_4 11 rfl rfl)
theorem dX0_digest_105 : decode cX0_digest 105 = .ok (.lload_n 1, 1) := dk_31 (dk_at dksX0_digest_4 14 rfl rfl)
theorem dX0_digest_106 : decode cX0_digest 106 = .ok (.aload_n 0, 1) := dk_42 (dk_at dksX0_digest_4 15 rfl rfl)
theorem dX0_digest_107 : decode cX0_digest 107 = .ok (.getfield 25, 3) := dk_180 0 25 (dk_at dksX0_digest_4 16 rfl rfl)
theorem dX0_digest_110 : decode cX0_digest 110 = .ok (.getfield 68, 3) := dk_180 0 68 (dk_at dksX0_digest_4 19 rfl rfl)
theorem dX0_digest_113 : decode cX0_digest 113 = .ok (.i2l, 1) := dk_133 (dk_at dksX0_digest_4 22 rfl rfl)
theorem dX0_digest_114 : decode cX0_digest 114 = .ok (.invokestatic 449, 3) := dk_184 1 193 (dk_at dksX0_digest_5 0 rfl rfl)
theorem dX0_digest_117 : decode cX0_digest 117 = .ok (.aload_n 0, 1) := dk_42 (dk_at dksX0_digest_5 3 rfl rfl)
theorem dX0_digest_118 : decode cX0_digest 118 = .ok (.getfield 25, 3) := dk_180 0 25 (dk_at dksX0_digest_5 4 rfl rfl)
theorem dX0_digest_121 : decode cX0_digest 121 = .ok (.getfield 72, 3) := dk_180 0 72 (dk_at dksX0_digest_5 7 rfl rfl)
theorem dX0_digest_124 : decode cX0_digest 124 = .ok (.i2l, 1) := dk_133 (dk_at dksX0_digest_5 10 rfl rfl)
theorem dX0_digest_125 : decode cX0_digest 125 = .ok (.invokestatic 449, 3) := dk_184 1 193 (dk_at dksX0_digest_5 11 rfl rfl)
theorem dX0_digest_128 : decode cX0_digest 128 = .ok (.aload_n 0, 1) := dk_42 (dk_at dksX0_digest_5 14 rfl rfl)
theorem dX0_digest_129 : decode cX0_digest 129 = .ok (.getfield 25, 3) := dk_180 0 25 (dk_at dksX0_digest_5 15 rfl rfl)
theorem dX0_digest_132 : decode cX0_digest 132 = .ok (.getfield 225, 3) := dk_180 0 225 (dk_at dksX0_digest_5 18 rfl rfl)
theorem dX0_digest_135 : decode cX0_digest 135 = .ok (.i2l, 1) := dk_133 (dk_at dksX0_digest_5 21 rfl rfl)
theorem dX0_digest_136 : decode cX0_digest 136 = .ok (.invokestatic 449, 3) := dk_184 1 193 (dk_at dksX0_digest_6 0 rfl rfl)
theorem dX0_digest_139 : decode cX0_digest 139 = .ok (.lstore_n 1, 1) := dk_64 (dk_at dksX0_digest_6 3 rfl rfl)
theorem dX0_digest_140 : decode cX0_digest 140 = .ok (.iconst 0, 1) := dk_3 (dk_at dksX0_digest_6 4 rfl rfl)
theorem dX0_digest_141 : decode cX0_digest 141 = .ok (.istore_n 3, 1) := dk_62 (dk_at dksX0_digest_6 5 rfl rfl)
theorem dX0_digest_142 : decode cX0_digest 142 = .ok (.iload_n 3, 1) := dk_29 (dk_at dksX0_digest_6 6 rfl rfl)
theorem dX0_digest_143 : decode cX0_digest 143 = .ok (.bipush 12, 2) := dk_16 12 (dk_at dksX0_digest_6 7 rfl rfl)
theorem dX0_digest_145 : decode cX0_digest 145 = .ok (.if_icmp .ge 23, 3) := dk_162 0 23 (dk_at dksX0_digest_6 9 rfl rfl)
theorem dX0_digest_148 : decode cX0_digest 148 = .ok (.lload_n 1, 1) := dk_31 (dk_at dksX0_digest_6 12 rfl rfl)
theorem dX0_digest_149 : decode cX0_digest 149 = .ok (.aload_n 0, 1) := dk_42 (dk_at dksX0_digest_6 13 rfl rfl)
theorem dX0_digest_150 : decode cX0_digest 150 = .ok (.getfield 25, 3) := dk_180 0 25 (dk_at dksX0_digest_6 14 rfl rfl)
theorem dX0_digest_153 : decode cX0_digest 153 = .ok (.getfield 237, 3) := dk_180 0 237 (dk_at dksX0_digest_6 17 rfl rfl)
theorem dX0_digest_156 : decode cX0_digest 156 = .ok (.iload_n 3, 1) := dk_29 (dk_at dksX0_digest_6 20 rfl rfl)
theorem dX0_digest_157 : decode cX0_digest 157 = .ok (.aaload, 1) := dk_50 (dk_at dksX0_digest_6 21 rfl rfl)
theorem dX0_digest_158 : decode cX0_digest 158 = .ok (.invokestatic 484, 3) := dk_184 1 228 (dk_at dksX0_digest_7 0 rfl rfl)
theorem dX0_digest_161 : decode cX0_digest 161 = .ok (.lstore_n 1, 1) := dk_64 (dk_at dksX0_digest_7 3 rfl rfl)
theorem dX0_digest_162 : decode cX0_digest 162 = .ok (.iinc 3 1, 3) := dk_132 3 1 (dk_at dksX0_digest_7 4 rfl rfl)
theorem dX0_digest_165 : decode cX0_digest 165 = .ok (.goto (-23), 3) := dk_167 255 233 (dk_at dksX0_digest_7 7 rfl rfl)
theorem dX0_digest_168 : decode cX0_digest 168 = .ok (.lload_n 1, 1) := dk_31 (dk_at dksX0_digest_7 10 rfl rfl)
theorem dX0_digest_169 : decode cX0_digest 169 = .ok (.aload_n 0, 1) := dk_42 (dk_at dksX0_digest_7 11 rfl rfl)
theorem dX0_digest_170 : decode cX0_digest 170 = .ok (.getfield 32, 3) := dk_180 0 32 (dk_at dksX0_digest_7 12 rfl rfl)
theorem dX0_digest_173 : decode cX0_digest 173 = .ok (.invokevirtual 44, 3) := dk_182 0 44 (dk_at dksX0_digest_7 15 rfl rfl)
theorem dX0_digest_176 : decode cX0_digest 176 = .ok (.i2l, 1) := dk_133 (dk_at dksX0_digest_7 18 rfl rfl)
theorem dX0_digest_177 : decode cX0_digest 177 = .ok (.invokestatic 449, 3) := dk_184 1 193 (dk_at dksX0_digest_7 19 rfl rfl)
theorem dX0_digest_180 : decode cX0_digest 180 = .ok (.lstore_n 1, 1) := dk_64 (dk_at dksX0_digest_7 22 rfl rfl)
theorem dX0_digest_181 : decode cX0_digest 181 = .ok (.lload_n 1, 1) := dk_31 (dk_at dksX0_digest_7 23 rfl rfl)
theorem dX0_digest_182 : decode cX0_digest 182 = .ok (.aload_n 0, 1) := dk_42 (dk_at dksX0_digest_8 0 rfl rfl)
theorem dX0_digest_183 : decode cX0_digest 183 = .ok (.getfield 36, 3) := dk_180 0 36 (dk_at dksX0_digest_8 1 rfl rfl)
theorem dX0_digest_186 : decode cX0_digest 186 = .ok (.iconst 0, 1) := dk_3 (dk_at dksX0_digest_8 4 rfl rfl)
theorem dX0_digest_187 : decode cX0_digest 187 = .ok (.aaload, 1) := dk_50 (dk_at dksX0_digest_8 5 rfl rfl)
theorem dX0_digest_188 : decode cX0_digest 188 = .ok (.ifnonnull 7, 3) := dk_199 0 7 (dk_at dksX0_digest_8 6 rfl rfl)
theorem dX0_digest_191 : decode cX0_digest 191 = .ok (.iconst 0, 1) := dk_3 (dk_at dksX0_digest_8 9 rfl rfl)
theorem dX0_digest_192 : decode cX0_digest 192 = .ok (.goto 4, 3) := dk_167 0 4 (dk_at dksX0_digest_8 10 rfl rfl)
theorem dX0_digest_195 : decode cX0_digest 195 = .ok (.iconst 1, 1) := dk_4 (dk_at dksX0_digest_8 13 rfl rfl)
theorem dX0_digest_196 : decode cX0_digest 196 = .ok (.aload_n 0, 1) := dk_42 (dk_at dksX0_digest_8 14 rfl rfl)
theorem dX0_digest_197 : decode cX0_digest 197 = .ok (.getfield 36, 3) := dk_180 0 36 (dk_at dksX0_digest_8 15 rfl rfl)
theorem dX0_digest_200 : decode cX0_digest 200 = .ok (.iconst 1, 1) := dk_4 (dk_at dksX0_digest_8 18 rfl rfl)
theorem dX0_digest_201 : decode cX0_digest 201 = .ok (.aaload, 1) := dk_50 (dk_at dksX0_digest_8 19 rfl rfl)
theorem dX0_digest_202 : decode cX0_digest 202 = .ok (.ifnonnull 7, 3) := dk_199 0 7 (dk_at dksX0_digest_8 20 rfl rfl)
theorem dX0_digest_205 : decode cX0_digest 205 = .ok (.iconst 0, 1) := dk_3 (dk_at dksX0_digest_8 23 rfl rfl)
theorem dX0_digest_206 : decode cX0_digest 206 = .ok (.goto 4, 3) := dk_167 0 4 (dk_at dksX0_digest_9 0 rfl rfl)
theorem dX0_digest_209 : decode cX0_digest 209 = .ok (.iconst 1, 1) := dk_4 (dk_at dksX0_digest_9 3 rfl rfl)
theorem dX0_digest_210 : decode cX0_digest 210 = .ok (.iadd, 1) := dk_96 (dk_at dksX0_digest_9 4 rfl rfl)
theorem dX0_digest_211 : decode cX0_digest 211 = .ok (.i2l, 1) := dk_133 (dk_at dksX0_digest_9 5 rfl rfl)
theorem dX0_digest_212 : decode cX0_digest 212 = .ok (.invokestatic 449, 3) := dk_184 1 193 (dk_at dksX0_digest_9 6 rfl rfl)
theorem dX0_digest_215 : decode cX0_digest 215 = .ok (.lstore_n 1, 1) := dk_64 (dk_at dksX0_digest_9 9 rfl rfl)
theorem dX0_digest_216 : decode cX0_digest 216 = .ok (.lload_n 1, 1) := dk_31 (dk_at dksX0_digest_9 10 rfl rfl)
theorem dX0_digest_217 : decode cX0_digest 217 = .ok (.aload_n 0, 1) := dk_42 (dk_at dksX0_digest_9 11 rfl rfl)
theorem dX0_digest_218 : decode cX0_digest 218 = .ok (.getfield 112, 3) := dk_180 0 112 (dk_at dksX0_digest_9 12 rfl rfl)
theorem dX0_digest_221 : decode cX0_digest 221 = .ok (.i2l, 1) := dk_133 (dk_at dksX0_digest_9 15 rfl rfl)
theorem dX0_digest_222 : decode cX0_digest 222 = .ok (.invokestatic 449, 3) := dk_184 1 193 (dk_at dksX0_digest_9 16 rfl rfl)
theorem dX0_digest_225 : decode cX0_digest 225 = .ok (.lreturn, 1) := dk_173 (dk_at dksX0_digest_9 19 rfl rfl)
abbrev cX0_mixed : ByteArray := prog_1_method_82_code
def yX0_mixed : MethodName := ⟨RX0, "mixed", "(JJ)J"⟩
def dkwX0_mixed_0 : List UInt8 := [20, 1, 191, 30, 105, 32, 97, 173]
abbrev dktX0_mixed_0 : List UInt8 := dkwX0_mixed_0 ++ []
theorem dksX0_mixed_0 : cX0_mixed.data.toList.drop 0 = dktX0_mixed_0 := by decide +kernel
theorem dX0_mixed_0 : decode cX0_mixed 0 = .ok (.ldc2_w 447, 3) := dk_20 1 191 (dk_at dksX0_mixed_0 0 rfl rfl)
theorem dX0_mixed_3 : decode cX0_mixed 3 = .ok (.lload_n 0, 1) := dk_30 (dk_at dksX0_mixed_0 3 rfl rfl)
theorem dX0_mixed_4 : decode cX0_mixed 4 = .ok (.lmul, 1) := dk_105 (dk_at dksX0_mixed_0 4 rfl rfl)
theorem dX0_mixed_5 : decode cX0_mixed 5 = .ok (.lload_n 2, 1) := dk_32 (dk_at dksX0_mixed_0 5 rfl rfl)
theorem dX0_mixed_6 : decode cX0_mixed 6 = .ok (.ladd, 1) := dk_97 (dk_at dksX0_mixed_0 6 rfl rfl)
theorem dX0_mixed_7 : decode cX0_mixed 7 = .ok (.lreturn, 1) := dk_173 (dk_at dksX0_mixed_0 7 rfl rfl)
abbrev cX0_mixedText : ByteArray := prog_1_method_83_code
def yX0_mixedText : MethodName := ⟨RX0, "mixedText", "(JLjava/lang/String;)J"⟩
def dkwX0_mixedText_1 : List UInt8 := [184, 1, 193, 66, 132, 5, 1, 167, 255, 232, 33, 173]
abbrev dktX0_mixedText_1 : List UInt8 := dkwX0_mixedText_1 ++ []
def dkwX0_mixedText_0 : List UInt8 := [30, 66, 3, 54, 5, 21, 5, 44, 182, 0, 160, 162, 0, 21, 33, 44, 21, 5, 182, 0, 164, 133]
abbrev dktX0_mixedText_0 : List UInt8 := dkwX0_mixedText_0 ++ dktX0_mixedText_1
theorem dksX0_mixedText_0 : cX0_mixedText.data.toList.drop 0 = dktX0_mixedText_0 := by decide +kernel
theorem dksX0_mixedText_1 : cX0_mixedText.data.toList.drop 22 = dktX0_mixedText_1 := dk_seg dksX0_mixedText_0 22 rfl rfl
theorem dX0_mixedText_0 : decode cX0_mixedText 0 = .ok (.lload_n 0, 1) := dk_30 (dk_at dksX0_mixedText_0 0 rfl rfl)
theorem dX0_mixedText_1 : decode cX0_mixedText 1 = .ok (.lstore_n 3, 1) := dk_66 (dk_at dksX0_mixedText_0 1 rfl rfl)
theorem dX0_mixedText_2 : decode cX0_mixedText 2 = .ok (.iconst 0, 1) := dk_3 (dk_at dksX0_mixedText_0 2 rfl rfl)
theorem dX0_mixedText_3 : decode cX0_mixedText 3 = .ok (.istore 5, 2) := dk_54 5 (dk_at dksX0_mixedText_0 3 rfl rfl)
theorem dX0_mixedText_5 : decode cX0_mixedText 5 = .ok (.iload 5, 2) := dk_21 5 (dk_at dksX0_mixedText_0 5 rfl rfl)
theorem dX0_mixedText_7 : decode cX0_mixedText 7 = .ok (.aload_n 2, 1) := dk_44 (dk_at dksX0_mixedText_0 7 rfl rfl)
theorem dX0_mixedText_8 : decode cX0_mixedText 8 = .ok (.invokevirtual 160, 3) := dk_182 0 160 (dk_at dksX0_mixedText_0 8 rfl rfl)
theorem dX0_mixedText_11 : decode cX0_mixedText 11 = .ok (.if_icmp .ge 21, 3) := dk_162 0 21 (dk_at dksX0_mixedText_0 11 rfl rfl)
theorem dX0_mixedText_14 : decode cX0_mixedText 14 = .ok (.lload_n 3, 1) := dk_33 (dk_at dksX0_mixedText_0 14 rfl rfl)
theorem dX0_mixedText_15 : decode cX0_mixedText 15 = .ok (.aload_n 2, 1) := dk_44 (dk_at dksX0_mixedText_0 15 rfl rfl)
theorem dX0_mixedText_16 : decode cX0_mixedText 16 = .ok (.iload 5, 2) := dk_21 5 (dk_at dksX0_mixedText_0 16 rfl rfl)
theorem dX0_mixedText_18 : decode cX0_mixedText 18 = .ok (.invokevirtual 164, 3) := dk_182 0 164 (dk_at dksX0_mixedText_0 18 rfl rfl)
theorem dX0_mixedText_21 : decode cX0_mixedText 21 = .ok (.i2l, 1) := dk_133 (dk_at dksX0_mixedText_0 21 rfl rfl)
theorem dX0_mixedText_22 : decode cX0_mixedText 22 = .ok (.invokestatic 449, 3) := dk_184 1 193 (dk_at dksX0_mixedText_1 0 rfl rfl)
theorem dX0_mixedText_25 : decode cX0_mixedText 25 = .ok (.lstore_n 3, 1) := dk_66 (dk_at dksX0_mixedText_1 3 rfl rfl)
theorem dX0_mixedText_26 : decode cX0_mixedText 26 = .ok (.iinc 5 1, 3) := dk_132 5 1 (dk_at dksX0_mixedText_1 4 rfl rfl)
theorem dX0_mixedText_29 : decode cX0_mixedText 29 = .ok (.goto (-24), 3) := dk_167 255 232 (dk_at dksX0_mixedText_1 7 rfl rfl)
theorem dX0_mixedText_32 : decode cX0_mixedText 32 = .ok (.lload_n 3, 1) := dk_33 (dk_at dksX0_mixedText_1 10 rfl rfl)
theorem dX0_mixedText_33 : decode cX0_mixedText 33 = .ok (.lreturn, 1) := dk_173 (dk_at dksX0_mixedText_1 11 rfl rfl)
abbrev cX0_mixedRule : ByteArray := prog_1_method_84_code
def yX0_mixedRule : MethodName := ⟨RX0, "mixedRule", "(JLAutoIndenter$Rule;)J"⟩
def dkwX0_mixedRule_3 : List UInt8 := [44, 180, 1, 206, 184, 1, 208, 66, 33, 20, 1, 218, 184, 1, 193, 44, 180, 1, 220, 184, 1, 208, 173]
abbrev dktX0_mixedRule_3 : List UInt8 := dkwX0_mixedRule_3 ++ []
def dkwX0_mixedRule_2 : List UInt8 := [180, 1, 206, 184, 1, 208, 173, 33, 44, 180, 1, 212, 133, 184, 1, 193, 44, 180, 1, 215, 133, 184, 1, 193]
abbrev dktX0_mixedRule_2 : List UInt8 := dkwX0_mixedRule_2 ++ dktX0_mixedRule_3
def dkwX0_mixedRule_1 : List UInt8 := [184, 1, 193, 44, 180, 1, 203, 133, 184, 1, 193, 66, 44, 180, 1, 197, 4, 159, 0, 12, 33, 44]
abbrev dktX0_mixedRule_1 : List UInt8 := dkwX0_mixedRule_1 ++ dktX0_mixedRule_2
def dkwX0_mixedRule_0 : List UInt8 := [44, 199, 0, 9, 30, 9, 184, 1, 193, 173, 30, 44, 180, 1, 197, 133, 184, 1, 193, 44, 180, 1, 200, 133]
abbrev dktX0_mixedRule_0 : List UInt8 := dkwX0_mixedRule_0 ++ dktX0_mixedRule_1
theorem dksX0_mixedRule_0 : cX0_mixedRule.data.toList.drop 0 = dktX0_mixedRule_0 := by decide +kernel
theorem dksX0_mixedRule_1 : cX0_mixedRule.data.toList.drop 24 = dktX0_mixedRule_1 := dk_seg dksX0_mixedRule_0 24 rfl rfl
theorem dksX0_mixedRule_2 : cX0_mixedRule.data.toList.drop 46 = dktX0_mixedRule_2 := dk_seg dksX0_mixedRule_1 22 rfl rfl
theorem dksX0_mixedRule_3 : cX0_mixedRule.data.toList.drop 70 = dktX0_mixedRule_3 := dk_seg dksX0_mixedRule_2 24 rfl rfl
theorem dX0_mixedRule_0 : decode cX0_mixedRule 0 = .ok (.aload_n 2, 1) := dk_44 (dk_at dksX0_mixedRule_0 0 rfl rfl)
theorem dX0_mixedRule_1 : decode cX0_mixedRule 1 = .ok (.ifnonnull 9, 3) := dk_199 0 9 (dk_at dksX0_mixedRule_0 1 rfl rfl)
theorem dX0_mixedRule_4 : decode cX0_mixedRule 4 = .ok (.lload_n 0, 1) := dk_30 (dk_at dksX0_mixedRule_0 4 rfl rfl)
theorem dX0_mixedRule_5 : decode cX0_mixedRule 5 = .ok (.lconst 0, 1) := dk_9 (dk_at dksX0_mixedRule_0 5 rfl rfl)
theorem dX0_mixedRule_6 : decode cX0_mixedRule 6 = .ok (.invokestatic 449, 3) := dk_184 1 193 (dk_at dksX0_mixedRule_0 6 rfl rfl)
theorem dX0_mixedRule_9 : decode cX0_mixedRule 9 = .ok (.lreturn, 1) := dk_173 (dk_at dksX0_mixedRule_0 9 rfl rfl)
theorem dX0_mixedRule_10 : decode cX0_mixedRule 10 = .ok (.lload_n 0, 1) := dk_30 (dk_at dksX0_mixedRule_0 10 rfl rfl)
theorem dX0_mixedRule_11 : decode cX0_mixedRule 11 = .ok (.aload_n 2, 1) := dk_44 (dk_at dksX0_mixedRule_0 11 rfl rfl)
theorem dX0_mixedRule_12 : decode cX0_mixedRule 12 = .ok (.getfield 453, 3) := dk_180 1 197 (dk_at dksX0_mixedRule_0 12 rfl rfl)
theorem dX0_mixedRule_15 : decode cX0_mixedRule 15 = .ok (.i2l, 1) := dk_133 (dk_at dksX0_mixedRule_0 15 rfl rfl)
theorem dX0_mixedRule_16 : decode cX0_mixedRule 16 = .ok (.invokestatic 449, 3) := dk_184 1 193 (dk_at dksX0_mixedRule_0 16 rfl rfl)
theorem dX0_mixedRule_19 : decode cX0_mixedRule 19 = .ok (.aload_n 2, 1) := dk_44 (dk_at dksX0_mixedRule_0 19 rfl rfl)
theorem dX0_mixedRule_20 : decode cX0_mixedRule 20 = .ok (.getfield 456, 3) := dk_180 1 200 (dk_at dksX0_mixedRule_0 20 rfl rfl)
theorem dX0_mixedRule_23 : decode cX0_mixedRule 23 = .ok (.i2l, 1) := dk_133 (dk_at dksX0_mixedRule_0 23 rfl rfl)
theorem dX0_mixedRule_24 : decode cX0_mixedRule 24 = .ok (.invokestatic 449, 3) := dk_184 1 193 (dk_at dksX0_mixedRule_1 0 rfl rfl)
theorem dX0_mixedRule_27 : decode cX0_mixedRule 27 = .ok (.aload_n 2, 1) := dk_44 (dk_at dksX0_mixedRule_1 3 rfl rfl)
theorem dX0_mixedRule_28 : decode cX0_mixedRule 28 = .ok (.getfield 459, 3) := dk_180 1 203 (dk_at dksX0_mixedRule_1 4 rfl rfl)
theorem dX0_mixedRule_31 : decode cX0_mixedRule 31 = .ok (.i2l, 1) := dk_133 (dk_at dksX0_mixedRule_1 7 rfl rfl)
theorem dX0_mixedRule_32 : decode cX0_mixedRule 32 = .ok (.invokestatic 449, 3) := dk_184 1 193 (dk_at dksX0_mixedRule_1 8 rfl rfl)
theorem dX0_mixedRule_35 : decode cX0_mixedRule 35 = .ok (.lstore_n 3, 1) := dk_66 (dk_at dksX0_mixedRule_1 11 rfl rfl)
theorem dX0_mixedRule_36 : decode cX0_mixedRule 36 = .ok (.aload_n 2, 1) := dk_44 (dk_at dksX0_mixedRule_1 12 rfl rfl)
theorem dX0_mixedRule_37 : decode cX0_mixedRule 37 = .ok (.getfield 453, 3) := dk_180 1 197 (dk_at dksX0_mixedRule_1 13 rfl rfl)
theorem dX0_mixedRule_40 : decode cX0_mixedRule 40 = .ok (.iconst 1, 1) := dk_4 (dk_at dksX0_mixedRule_1 16 rfl rfl)
theorem dX0_mixedRule_41 : decode cX0_mixedRule 41 = .ok (.if_icmp .eq 12, 3) := dk_159 0 12 (dk_at dksX0_mixedRule_1 17 rfl rfl)
theorem dX0_mixedRule_44 : decode cX0_mixedRule 44 = .ok (.lload_n 3, 1) := dk_33 (dk_at dksX0_mixedRule_1 20 rfl rfl)
theorem dX0_mixedRule_45 : decode cX0_mixedRule 45 = .ok (.aload_n 2, 1) := dk_44 (dk_at dksX0_mixedRule_1 21 rfl rfl)
theorem dX0_mixedRule_46 : decode cX0_mixedRule 46 = .ok (.getfield 462, 3) := dk_180 1 206 (dk_at dksX0_mixedRule_2 0 rfl rfl)
theorem dX0_mixedRule_49 : decode cX0_mixedRule 49 = .ok (.invokestatic 464, 3) := dk_184 1 208 (dk_at dksX0_mixedRule_2 3 rfl rfl)
theorem dX0_mixedRule_52 : decode cX0_mixedRule 52 = .ok (.lreturn, 1) := dk_173 (dk_at dksX0_mixedRule_2 6 rfl rfl)
theorem dX0_mixedRule_53 : decode cX0_mixedRule 53 = .ok (.lload_n 3, 1) := dk_33 (dk_at dksX0_mixedRule_2 7 rfl rfl)
theorem dX0_mixedRule_54 : decode cX0_mixedRule 54 = .ok (.aload_n 2, 1) := dk_44 (dk_at dksX0_mixedRule_2 8 rfl rfl)
theorem dX0_mixedRule_55 : decode cX0_mixedRule 55 = .ok (.getfield 468, 3) := dk_180 1 212 (dk_at dksX0_mixedRule_2 9 rfl rfl)
theorem dX0_mixedRule_58 : decode cX0_mixedRule 58 = .ok (.i2l, 1) := dk_133 (dk_at dksX0_mixedRule_2 12 rfl rfl)
theorem dX0_mixedRule_59 : decode cX0_mixedRule 59 = .ok (.invokestatic 449, 3) := dk_184 1 193 (dk_at dksX0_mixedRule_2 13 rfl rfl)
theorem dX0_mixedRule_62 : decode cX0_mixedRule 62 = .ok (.aload_n 2, 1) := dk_44 (dk_at dksX0_mixedRule_2 16 rfl rfl)
theorem dX0_mixedRule_63 : decode cX0_mixedRule 63 = .ok (.getfield 471, 3) := dk_180 1 215 (dk_at dksX0_mixedRule_2 17 rfl rfl)
theorem dX0_mixedRule_66 : decode cX0_mixedRule 66 = .ok (.i2l, 1) := dk_133 (dk_at dksX0_mixedRule_2 20 rfl rfl)
theorem dX0_mixedRule_67 : decode cX0_mixedRule 67 = .ok (.invokestatic 449, 3) := dk_184 1 193 (dk_at dksX0_mixedRule_2 21 rfl rfl)
theorem dX0_mixedRule_70 : decode cX0_mixedRule 70 = .ok (.aload_n 2, 1) := dk_44 (dk_at dksX0_mixedRule_3 0 rfl rfl)
theorem dX0_mixedRule_71 : decode cX0_mixedRule 71 = .ok (.getfield 462, 3) := dk_180 1 206 (dk_at dksX0_mixedRule_3 1 rfl rfl)
theorem dX0_mixedRule_74 : decode cX0_mixedRule 74 = .ok (.invokestatic 464, 3) := dk_184 1 208 (dk_at dksX0_mixedRule_3 4 rfl rfl)
theorem dX0_mixedRule_77 : decode cX0_mixedRule 77 = .ok (.lstore_n 3, 1) := dk_66 (dk_at dksX0_mixedRule_3 7 rfl rfl)
theorem dX0_mixedRule_78 : decode cX0_mixedRule 78 = .ok (.lload_n 3, 1) := dk_33 (dk_at dksX0_mixedRule_3 8 rfl rfl)
theorem dX0_mixedRule_79 : decode cX0_mixedRule 79 = .ok (.ldc2_w 474, 3) := dk_20 1 218 (dk_at dksX0_mixedRule_3 9 rfl rfl)
theorem dX0_mixedRule_82 : decode cX0_mixedRule 82 = .ok (.invokestatic 449, 3) := dk_184 1 193 (dk_at dksX0_mixedRule_3 12 rfl rfl)
theorem dX0_mixedRule_85 : decode cX0_mixedRule 85 = .ok (.aload_n 2, 1) := dk_44 (dk_at dksX0_mixedRule_3 15 rfl rfl)
theorem dX0_mixedRule_86 : decode cX0_mixedRule 86 = .ok (.getfield 476, 3) := dk_180 1 220 (dk_at dksX0_mixedRule_3 16 rfl rfl)
theorem dX0_mixedRule_89 : decode cX0_mixedRule 89 = .ok (.invokestatic 464, 3) := dk_184 1 208 (dk_at dksX0_mixedRule_3 19 rfl rfl)
theorem dX0_mixedRule_92 : decode cX0_mixedRule 92 = .ok (.lreturn, 1) := dk_173 (dk_at dksX0_mixedRule_3 22 rfl rfl)
theorem q96 : (Jvm.Cond.initialized "AutoIndenter") ∈ lw_all := lw_g (lw_at lw_m1 1 rfl) rfl
theorem q141 : (Jvm.Cond.instantiable "AutoIndenter" (10 : Nat)) ∈ lw_all := lw_g (lw_at lw_m1 46 rfl) rfl
theorem q143 : (Jvm.Cond.instanceMethod ({ cls := "AutoIndenter", name := "<init>", desc := "()V" } : Jvm.MethodName)) ∈ lw_all := lw_g (lw_at lw_m1 48 rfl) rfl
theorem q144 : (Jvm.Cond.code ({ cls := "AutoIndenter", name := "<init>", desc := "()V" } : Jvm.MethodName) prog_1_method_4_code (1 : Nat) (Option.none : Option Jvm.ClassFile.FieldType)) ∈ lw_all := lw_g (lw_at lw_m1 49 rfl) rfl
theorem q145 : (Jvm.Cond.methodLink "AutoIndenter" (16 : Nat) ({ cls := "java/lang/Object", name := "<init>", desc := "()V" } : Jvm.MethodName)) ∈ lw_all := lw_g (lw_at lw_m1 50 rfl) rfl
theorem q148 : (Jvm.Cond.classLink "AutoIndenter" (22 : Nat) "AutoIndenter$State") ∈ lw_all := lw_g (lw_at lw_m1 53 rfl) rfl
theorem q150 : (Jvm.Cond.methodLinkNest "AutoIndenter" (24 : Nat) ({ cls := "AutoIndenter$State", name := "<init>", desc := "()V" } : Jvm.MethodName) "AutoIndenter") ∈ lw_tbl := lw_at lw_m1 55 rfl
theorem q185 : (Jvm.Cond.fieldLinkNest "AutoIndenter" (104 : Nat) "AutoIndenter$State" "lines" "Ljava/util/ArrayList;" "AutoIndenter") ∈ lw_tbl := lw_at lw_m1 90 rfl
theorem q189 : (Jvm.Cond.fieldLinkNest "AutoIndenter" (237 : Nat) "AutoIndenter$State" "rules" "[LAutoIndenter$Rule;" "AutoIndenter") ∈ lw_tbl := lw_at lw_m1 94 rfl
theorem q191 : (Jvm.Cond.fieldLinkNest "AutoIndenter" (68 : Nat) "AutoIndenter$State" "step" "I" "AutoIndenter") ∈ lw_tbl := lw_at lw_m1 96 rfl
theorem q193 : (Jvm.Cond.fieldLinkNest "AutoIndenter" (72 : Nat) "AutoIndenter$State" "base" "I" "AutoIndenter") ∈ lw_tbl := lw_at lw_m1 98 rfl
theorem q196 : (Jvm.Cond.fieldLinkNest "AutoIndenter" (225 : Nat) "AutoIndenter$State" "comment" "I" "AutoIndenter") ∈ lw_tbl := lw_at lw_m1 101 rfl
theorem q208 : (Jvm.Cond.classLink "AutoIndenter" (29 : Nat) "java/util/ArrayList") ∈ lw_all := lw_g (lw_at lw_m1 113 rfl) rfl
theorem q209 : (Jvm.Cond.methodLink "AutoIndenter" (31 : Nat) ({ cls := "java/util/ArrayList", name := "<init>", desc := "()V" } : Jvm.MethodName)) ∈ lw_all := lw_g (lw_at lw_m1 114 rfl) rfl
theorem q211 : (Jvm.Cond.fieldLink "AutoIndenter" (25 : Nat) "AutoIndenter" "now" "LAutoIndenter$State;") ∈ lw_all := lw_g (lw_at lw_m1 116 rfl) rfl
theorem q212 : (Jvm.Cond.fieldLink "AutoIndenter" (32 : Nat) "AutoIndenter" "past" "Ljava/util/ArrayList;") ∈ lw_all := lw_g (lw_at lw_m1 117 rfl) rfl
theorem q213 : (Jvm.Cond.fieldLink "AutoIndenter" (36 : Nat) "AutoIndenter" "images" "[LAutoIndenter$State;") ∈ lw_all := lw_g (lw_at lw_m1 118 rfl) rfl
theorem q214 : (Jvm.Cond.fieldLink "AutoIndenter" (40 : Nat) "AutoIndenter" "text" "[B") ∈ lw_all := lw_g (lw_at lw_m1 119 rfl) rfl
theorem q215 : (Jvm.Cond.fieldLink "AutoIndenter" (112 : Nat) "AutoIndenter" "length" "I") ∈ lw_all := lw_g (lw_at lw_m1 120 rfl) rfl
theorem q216 : (Jvm.Cond.fieldLink "AutoIndenter" (60 : Nat) "AutoIndenter" "walk" "LAutoIndenter$Walk;") ∈ lw_all := lw_g (lw_at lw_m1 121 rfl) rfl
theorem q217 : (Jvm.Cond.fieldLink "AutoIndenter" (64 : Nat) "AutoIndenter" "changes" "Ljava/util/HashMap;") ∈ lw_all := lw_g (lw_at lw_m1 122 rfl) rfl
theorem q218 : (Jvm.Cond.fieldLink "AutoIndenter" (228 : Nat) "AutoIndenter" "at" "I") ∈ lw_all := lw_g (lw_at lw_m1 123 rfl) rfl
theorem q219 : (Jvm.Cond.fieldLink "AutoIndenter" (234 : Nat) "AutoIndenter" "fault" "I") ∈ lw_all := lw_g (lw_at lw_m1 124 rfl) rfl
theorem q220 : (Jvm.Cond.fieldLink "AutoIndenter" (405 : Nat) "AutoIndenter" "drawn" "I") ∈ lw_all := lw_g (lw_at lw_m1 125 rfl) rfl
theorem q221 : (Jvm.Cond.lays "AutoIndenter" "AutoIndenter" "now" "LAutoIndenter$State;") ∈ lw_all := lw_g (lw_at lw_m1 126 rfl) rfl
theorem q222 : (Jvm.Cond.soleField "AutoIndenter" "now") ∈ lw_all := lw_g (lw_at lw_m1 127 rfl) rfl
theorem q223 : (Jvm.Cond.laysFinal "AutoIndenter" "AutoIndenter" "past" "Ljava/util/ArrayList;") ∈ lw_all := lw_g (lw_at lw_m1 128 rfl) rfl
theorem q224 : (Jvm.Cond.soleField "AutoIndenter" "past") ∈ lw_all := lw_g (lw_at lw_m1 129 rfl) rfl
theorem q225 : (Jvm.Cond.laysFinal "AutoIndenter" "AutoIndenter" "images" "[LAutoIndenter$State;") ∈ lw_all := lw_g (lw_at lw_m1 130 rfl) rfl
theorem q226 : (Jvm.Cond.soleField "AutoIndenter" "images") ∈ lw_all := lw_g (lw_at lw_m1 131 rfl) rfl
theorem q227 : (Jvm.Cond.laysFinal "AutoIndenter" "AutoIndenter" "text" "[B") ∈ lw_all := lw_g (lw_at lw_m1 132 rfl) rfl
theorem q228 : (Jvm.Cond.soleField "AutoIndenter" "text") ∈ lw_all := lw_g (lw_at lw_m1 133 rfl) rfl
theorem q229 : (Jvm.Cond.lays "AutoIndenter" "AutoIndenter" "length" "I") ∈ lw_all := lw_g (lw_at lw_m1 134 rfl) rfl
theorem q230 : (Jvm.Cond.soleField "AutoIndenter" "length") ∈ lw_all := lw_g (lw_at lw_m1 135 rfl) rfl
theorem q231 : (Jvm.Cond.lays "AutoIndenter" "AutoIndenter" "walk" "LAutoIndenter$Walk;") ∈ lw_all := lw_g (lw_at lw_m1 136 rfl) rfl
theorem q232 : (Jvm.Cond.soleField "AutoIndenter" "walk") ∈ lw_all := lw_g (lw_at lw_m1 137 rfl) rfl
theorem q233 : (Jvm.Cond.lays "AutoIndenter" "AutoIndenter" "changes" "Ljava/util/HashMap;") ∈ lw_all := lw_g (lw_at lw_m1 138 rfl) rfl
theorem q234 : (Jvm.Cond.soleField "AutoIndenter" "changes") ∈ lw_all := lw_g (lw_at lw_m1 139 rfl) rfl
theorem q235 : (Jvm.Cond.lays "AutoIndenter" "AutoIndenter" "at" "I") ∈ lw_all := lw_g (lw_at lw_m1 140 rfl) rfl
theorem q236 : (Jvm.Cond.soleField "AutoIndenter" "at") ∈ lw_all := lw_g (lw_at lw_m1 141 rfl) rfl
theorem q237 : (Jvm.Cond.lays "AutoIndenter" "AutoIndenter" "fault" "I") ∈ lw_all := lw_g (lw_at lw_m1 142 rfl) rfl
theorem q238 : (Jvm.Cond.soleField "AutoIndenter" "fault") ∈ lw_all := lw_g (lw_at lw_m1 143 rfl) rfl
theorem q239 : (Jvm.Cond.lays "AutoIndenter" "AutoIndenter" "drawn" "I") ∈ lw_all := lw_g (lw_at lw_m1 144 rfl) rfl
theorem q240 : (Jvm.Cond.soleField "AutoIndenter" "drawn") ∈ lw_all := lw_g (lw_at lw_m1 145 rfl) rfl
theorem q241 : (Jvm.Cond.superclass "AutoIndenter" "java/lang/Object") ∈ lw_all := lw_g (lw_at lw_m1 146 rfl) rfl
theorem q244 : (Jvm.Cond.instanceMethod ({ cls := "AutoIndenter", name := "type", desc := "(I)I" } : Jvm.MethodName)) ∈ lw_all := lw_g (lw_at lw_m1 149 rfl) rfl
theorem q245 : (Jvm.Cond.selects "AutoIndenter" ({ cls := "AutoIndenter", name := "type", desc := "(I)I" } : Jvm.MethodName) ({ cls := "AutoIndenter", name := "type", desc := "(I)I" } : Jvm.MethodName)) ∈ lw_all := lw_g (lw_at lw_m1 150 rfl) rfl
theorem q246 : (Jvm.Cond.code ({ cls := "AutoIndenter", name := "type", desc := "(I)I" } : Jvm.MethodName) prog_1_method_12_code (2 : Nat) (Option.some Jvm.ClassFile.FieldType.int)) ∈ lw_all := lw_g (lw_at lw_m1 151 rfl) rfl
theorem q247 : (Jvm.Cond.methodLink "AutoIndenter" (1 : Nat) ({ cls := "AutoIndenter", name := "isIn", desc := "(III)Z" } : Jvm.MethodName)) ∈ lw_all := lw_g (lw_at lw_m1 152 rfl) rfl
theorem q248 : (Jvm.Cond.static ({ cls := "AutoIndenter", name := "isIn", desc := "(III)Z" } : Jvm.MethodName)) ∈ lw_all := lw_g (lw_at lw_m1 153 rfl) rfl
theorem q249 : (Jvm.Cond.code ({ cls := "AutoIndenter", name := "isIn", desc := "(III)Z" } : Jvm.MethodName) prog_1_method_1_code (3 : Nat) (Option.some Jvm.ClassFile.FieldType.boolean)) ∈ lw_all := lw_g (lw_at lw_m1 154 rfl) rfl
theorem q251 : (Jvm.Cond.instanceMethod ({ cls := "AutoIndenter", name := "clear", desc := "()I" } : Jvm.MethodName)) ∈ lw_all := lw_g (lw_at lw_m1 156 rfl) rfl
theorem q252 : (Jvm.Cond.selects "AutoIndenter" ({ cls := "AutoIndenter", name := "clear", desc := "()I" } : Jvm.MethodName) ({ cls := "AutoIndenter", name := "clear", desc := "()I" } : Jvm.MethodName)) ∈ lw_all := lw_g (lw_at lw_m1 157 rfl) rfl
theorem q253 : (Jvm.Cond.code ({ cls := "AutoIndenter", name := "clear", desc := "()I" } : Jvm.MethodName) prog_1_method_13_code (2 : Nat) (Option.some Jvm.ClassFile.FieldType.int)) ∈ lw_all := lw_g (lw_at lw_m1 158 rfl) rfl
theorem q255 : (Jvm.Cond.instanceMethod ({ cls := "AutoIndenter", name := "insertLine", desc := "(I)I" } : Jvm.MethodName)) ∈ lw_all := lw_g (lw_at lw_m1 160 rfl) rfl
theorem q256 : (Jvm.Cond.selects "AutoIndenter" ({ cls := "AutoIndenter", name := "insertLine", desc := "(I)I" } : Jvm.MethodName) ({ cls := "AutoIndenter", name := "insertLine", desc := "(I)I" } : Jvm.MethodName)) ∈ lw_all := lw_g (lw_at lw_m1 161 rfl) rfl
theorem q257 : (Jvm.Cond.code ({ cls := "AutoIndenter", name := "insertLine", desc := "(I)I" } : Jvm.MethodName) prog_1_method_16_code (3 : Nat) (Option.some Jvm.ClassFile.FieldType.int)) ∈ lw_all := lw_g (lw_at lw_m1 162 rfl) rfl
theorem q258 : (Jvm.Cond.methodLink "AutoIndenter" (44 : Nat) ({ cls := "java/util/ArrayList", name := "size", desc := "()I" } : Jvm.MethodName)) ∈ lw_all := lw_g (lw_at lw_m1 163 rfl) rfl
theorem q262 : (Jvm.Cond.methodLink "AutoIndenter" (135 : Nat) ({ cls := "AutoIndenter", name := "typed", desc := "()LAutoIndenter$Line;" } : Jvm.MethodName)) ∈ lw_all := lw_g (lw_at lw_m1 167 rfl) rfl
theorem q263 : (Jvm.Cond.privateMethod ({ cls := "AutoIndenter", name := "typed", desc := "()LAutoIndenter$Line;" } : Jvm.MethodName)) ∈ lw_tbl := lw_at lw_m1 168 rfl
theorem q264 : (Jvm.Cond.instanceMethod ({ cls := "AutoIndenter", name := "typed", desc := "()LAutoIndenter$Line;" } : Jvm.MethodName)) ∈ lw_all := lw_g (lw_at lw_m1 169 rfl) rfl
theorem q265 : (Jvm.Cond.code ({ cls := "AutoIndenter", name := "typed", desc := "()LAutoIndenter$Line;" } : Jvm.MethodName) prog_1_method_15_code (3 : Nat) (Option.some (Jvm.ClassFile.FieldType.object "AutoIndenter$Line"))) ∈ lw_all := lw_g (lw_at lw_m1 170 rfl) rfl
theorem q266 : (Jvm.Cond.classLink "AutoIndenter" (110 : Nat) "AutoIndenter$Line") ∈ lw_all := lw_g (lw_at lw_m1 171 rfl) rfl
theorem q268 : (Jvm.Cond.stringRef "AutoIndenter" (126 : Nat) "") ∈ lw_tbl := lw_at lw_m1 173 rfl
theorem q269 : (Jvm.Cond.methodLink "AutoIndenter" (128 : Nat) ({ cls := "AutoIndenter$Line", name := "<init>", desc := "(ILjava/lang/String;)V" } : Jvm.MethodName)) ∈ lw_all := lw_g (lw_at lw_m1 174 rfl) rfl
theorem q275 : (Jvm.Cond.fieldLinkNest "AutoIndenter" (153 : Nat) "AutoIndenter$Line" "indentation" "I" "AutoIndenter") ∈ lw_tbl := lw_at lw_m1 180 rfl
theorem q278 : (Jvm.Cond.fieldLinkNest "AutoIndenter" (156 : Nat) "AutoIndenter$Line" "content" "Ljava/lang/String;" "AutoIndenter") ∈ lw_tbl := lw_at lw_m1 183 rfl
theorem q281 : (Jvm.Cond.fieldLinkNest "AutoIndenter" (197 : Nat) "AutoIndenter$Line" "isPinned" "Z" "AutoIndenter") ∈ lw_tbl := lw_at lw_m1 186 rfl
theorem q289 : (Jvm.Cond.methodLink "AutoIndenter" (131 : Nat) ({ cls := "AutoIndenter", name := "cut", desc := "(II)Ljava/lang/String;" } : Jvm.MethodName)) ∈ lw_all := lw_g (lw_at lw_m1 194 rfl) rfl
theorem q290 : (Jvm.Cond.privateMethod ({ cls := "AutoIndenter", name := "cut", desc := "(II)Ljava/lang/String;" } : Jvm.MethodName)) ∈ lw_tbl := lw_at lw_m1 195 rfl
theorem q291 : (Jvm.Cond.instanceMethod ({ cls := "AutoIndenter", name := "cut", desc := "(II)Ljava/lang/String;" } : Jvm.MethodName)) ∈ lw_all := lw_g (lw_at lw_m1 196 rfl) rfl
theorem q292 : (Jvm.Cond.code ({ cls := "AutoIndenter", name := "cut", desc := "(II)Ljava/lang/String;" } : Jvm.MethodName) prog_1_method_14_code (5 : Nat) (Option.some (Jvm.ClassFile.FieldType.object "java/lang/String"))) ∈ lw_all := lw_g (lw_at lw_m1 197 rfl) rfl
theorem q293 : (Jvm.Cond.classLink "AutoIndenter" (115 : Nat) "java/lang/StringBuilder") ∈ lw_all := lw_g (lw_at lw_m1 198 rfl) rfl
theorem q295 : (Jvm.Cond.methodLink "AutoIndenter" (117 : Nat) ({ cls := "java/lang/StringBuilder", name := "<init>", desc := "()V" } : Jvm.MethodName)) ∈ lw_all := lw_g (lw_at lw_m1 200 rfl) rfl
theorem q324 : (Jvm.Cond.methodLink "AutoIndenter" (118 : Nat) ({ cls := "java/lang/StringBuilder", name := "append", desc := "(C)Ljava/lang/StringBuilder;" } : Jvm.MethodName)) ∈ lw_all := lw_g (lw_at lw_m1 229 rfl) rfl
theorem q419 : (Jvm.Cond.methodLink "AutoIndenter" (122 : Nat) ({ cls := "java/lang/StringBuilder", name := "toString", desc := "()Ljava/lang/String;" } : Jvm.MethodName)) ∈ lw_all := lw_g (lw_at lw_m2 84 rfl) rfl
theorem q482 : (Jvm.Cond.methodLink "AutoIndenter" (139 : Nat) ({ cls := "AutoIndenter", name := "begins", desc := "()V" } : Jvm.MethodName)) ∈ lw_all := lw_g (lw_at lw_m2 147 rfl) rfl
theorem q483 : (Jvm.Cond.privateMethod ({ cls := "AutoIndenter", name := "begins", desc := "()V" } : Jvm.MethodName)) ∈ lw_tbl := lw_at lw_m2 148 rfl
theorem q484 : (Jvm.Cond.instanceMethod ({ cls := "AutoIndenter", name := "begins", desc := "()V" } : Jvm.MethodName)) ∈ lw_all := lw_g (lw_at lw_m2 149 rfl) rfl
theorem q485 : (Jvm.Cond.code ({ cls := "AutoIndenter", name := "begins", desc := "()V" } : Jvm.MethodName) prog_1_method_5_code (1 : Nat) (Option.none : Option Jvm.ClassFile.FieldType)) ∈ lw_all := lw_g (lw_at lw_m2 150 rfl) rfl
theorem q486 : (Jvm.Cond.methodLink "AutoIndenter" (48 : Nat) ({ cls := "java/util/ArrayList", name := "remove", desc := "(I)Ljava/lang/Object;" } : Jvm.MethodName)) ∈ lw_all := lw_g (lw_at lw_m2 151 rfl) rfl
theorem q499 : (Jvm.Cond.methodLink "AutoIndenter" (52 : Nat) ({ cls := "AutoIndenter$State", name := "copy", desc := "()LAutoIndenter$State;" } : Jvm.MethodName)) ∈ lw_all := lw_g (lw_at lw_m2 164 rfl) rfl
theorem q544 : (Jvm.Cond.selects "AutoIndenter" ({ cls := "java/lang/Object", name := "getClass", desc := "()Ljava/lang/Class;" } : Jvm.MethodName) ({ cls := "java/lang/Object", name := "getClass", desc := "()Ljava/lang/Class;" } : Jvm.MethodName)) ∈ lw_all := lw_g (lw_at lw_m2 209 rfl) rfl
theorem q579 : (Jvm.Cond.methodLink "AutoIndenter" (56 : Nat) ({ cls := "java/util/ArrayList", name := "add", desc := "(Ljava/lang/Object;)Z" } : Jvm.MethodName)) ∈ lw_all := lw_g (lw_at lw_m3 4 rfl) rfl
theorem q580 : (Jvm.Cond.methodLink "AutoIndenter" (142 : Nat) ({ cls := "java/util/ArrayList", name := "add", desc := "(ILjava/lang/Object;)V" } : Jvm.MethodName)) ∈ lw_all := lw_g (lw_at lw_m3 5 rfl) rfl
theorem q589 : (Jvm.Cond.instanceMethod ({ cls := "AutoIndenter", name := "replaceLine", desc := "(I)I" } : Jvm.MethodName)) ∈ lw_all := lw_g (lw_at lw_m3 14 rfl) rfl
theorem q590 : (Jvm.Cond.selects "AutoIndenter" ({ cls := "AutoIndenter", name := "replaceLine", desc := "(I)I" } : Jvm.MethodName) ({ cls := "AutoIndenter", name := "replaceLine", desc := "(I)I" } : Jvm.MethodName)) ∈ lw_all := lw_g (lw_at lw_m3 15 rfl) rfl
theorem q591 : (Jvm.Cond.code ({ cls := "AutoIndenter", name := "replaceLine", desc := "(I)I" } : Jvm.MethodName) prog_1_method_17_code (4 : Nat) (Option.some Jvm.ClassFile.FieldType.int)) ∈ lw_all := lw_g (lw_at lw_m3 16 rfl) rfl
theorem q592 : (Jvm.Cond.methodLink "AutoIndenter" (145 : Nat) ({ cls := "AutoIndenter", name := "isLine", desc := "(I)Z" } : Jvm.MethodName)) ∈ lw_all := lw_g (lw_at lw_m3 17 rfl) rfl
theorem q593 : (Jvm.Cond.privateMethod ({ cls := "AutoIndenter", name := "isLine", desc := "(I)Z" } : Jvm.MethodName)) ∈ lw_tbl := lw_at lw_m3 18 rfl
theorem q594 : (Jvm.Cond.instanceMethod ({ cls := "AutoIndenter", name := "isLine", desc := "(I)Z" } : Jvm.MethodName)) ∈ lw_all := lw_g (lw_at lw_m3 19 rfl) rfl
theorem q595 : (Jvm.Cond.code ({ cls := "AutoIndenter", name := "isLine", desc := "(I)Z" } : Jvm.MethodName) prog_1_method_9_code (2 : Nat) (Option.some Jvm.ClassFile.FieldType.boolean)) ∈ lw_all := lw_g (lw_at lw_m3 20 rfl) rfl
theorem q596 : (Jvm.Cond.methodLink "AutoIndenter" (149 : Nat) ({ cls := "AutoIndenter", name := "line", desc := "(I)LAutoIndenter$Line;" } : Jvm.MethodName)) ∈ lw_all := lw_g (lw_at lw_m3 21 rfl) rfl
theorem q597 : (Jvm.Cond.privateMethod ({ cls := "AutoIndenter", name := "line", desc := "(I)LAutoIndenter$Line;" } : Jvm.MethodName)) ∈ lw_tbl := lw_at lw_m3 22 rfl
theorem q598 : (Jvm.Cond.instanceMethod ({ cls := "AutoIndenter", name := "line", desc := "(I)LAutoIndenter$Line;" } : Jvm.MethodName)) ∈ lw_all := lw_g (lw_at lw_m3 23 rfl) rfl
theorem q599 : (Jvm.Cond.code ({ cls := "AutoIndenter", name := "line", desc := "(I)LAutoIndenter$Line;" } : Jvm.MethodName) prog_1_method_10_code (2 : Nat) (Option.some (Jvm.ClassFile.FieldType.object "AutoIndenter$Line"))) ∈ lw_all := lw_g (lw_at lw_m3 24 rfl) rfl
theorem q600 : (Jvm.Cond.methodLink "AutoIndenter" (107 : Nat) ({ cls := "java/util/ArrayList", name := "get", desc := "(I)Ljava/lang/Object;" } : Jvm.MethodName)) ∈ lw_all := lw_g (lw_at lw_m3 25 rfl) rfl
theorem q602 : (Jvm.Cond.instanceMethod ({ cls := "AutoIndenter", name := "removeLine", desc := "(I)I" } : Jvm.MethodName)) ∈ lw_all := lw_g (lw_at lw_m3 27 rfl) rfl
theorem q603 : (Jvm.Cond.selects "AutoIndenter" ({ cls := "AutoIndenter", name := "removeLine", desc := "(I)I" } : Jvm.MethodName) ({ cls := "AutoIndenter", name := "removeLine", desc := "(I)I" } : Jvm.MethodName)) ∈ lw_all := lw_g (lw_at lw_m3 28 rfl) rfl
theorem q604 : (Jvm.Cond.code ({ cls := "AutoIndenter", name := "removeLine", desc := "(I)I" } : Jvm.MethodName) prog_1_method_18_code (2 : Nat) (Option.some Jvm.ClassFile.FieldType.int)) ∈ lw_all := lw_g (lw_at lw_m3 29 rfl) rfl
theorem q606 : (Jvm.Cond.instanceMethod ({ cls := "AutoIndenter", name := "splitLine", desc := "(II)I" } : Jvm.MethodName)) ∈ lw_all := lw_g (lw_at lw_m3 31 rfl) rfl
theorem q607 : (Jvm.Cond.selects "AutoIndenter" ({ cls := "AutoIndenter", name := "splitLine", desc := "(II)I" } : Jvm.MethodName) ({ cls := "AutoIndenter", name := "splitLine", desc := "(II)I" } : Jvm.MethodName)) ∈ lw_all := lw_g (lw_at lw_m3 32 rfl) rfl
theorem q608 : (Jvm.Cond.code ({ cls := "AutoIndenter", name := "splitLine", desc := "(II)I" } : Jvm.MethodName) prog_1_method_20_code (6 : Nat) (Option.some Jvm.ClassFile.FieldType.int)) ∈ lw_all := lw_g (lw_at lw_m3 33 rfl) rfl
theorem q609 : (Jvm.Cond.methodLink "AutoIndenter" (160 : Nat) ({ cls := "java/lang/String", name := "length", desc := "()I" } : Jvm.MethodName)) ∈ lw_all := lw_g (lw_at lw_m3 34 rfl) rfl
theorem q617 : (Jvm.Cond.methodLink "AutoIndenter" (168 : Nat) ({ cls := "java/lang/String", name := "substring", desc := "(II)Ljava/lang/String;" } : Jvm.MethodName)) ∈ lw_all := lw_g (lw_at lw_m3 42 rfl) rfl
theorem q650 : (Jvm.Cond.methodLink "AutoIndenter" (171 : Nat) ({ cls := "AutoIndenter", name := "bare", desc := "(Ljava/lang/String;)Ljava/lang/String;" } : Jvm.MethodName)) ∈ lw_all := lw_g (lw_at lw_m3 75 rfl) rfl
theorem q651 : (Jvm.Cond.static ({ cls := "AutoIndenter", name := "bare", desc := "(Ljava/lang/String;)Ljava/lang/String;" } : Jvm.MethodName)) ∈ lw_all := lw_g (lw_at lw_m3 76 rfl) rfl
theorem q652 : (Jvm.Cond.code ({ cls := "AutoIndenter", name := "bare", desc := "(Ljava/lang/String;)Ljava/lang/String;" } : Jvm.MethodName) prog_1_method_19_code (3 : Nat) (Option.some (Jvm.ClassFile.FieldType.object "java/lang/String"))) ∈ lw_all := lw_g (lw_at lw_m3 77 rfl) rfl
theorem q653 : (Jvm.Cond.methodLink "AutoIndenter" (164 : Nat) ({ cls := "java/lang/String", name := "charAt", desc := "(I)C" } : Jvm.MethodName)) ∈ lw_all := lw_g (lw_at lw_m3 78 rfl) rfl
theorem q664 : (Jvm.Cond.methodLink "AutoIndenter" (97 : Nat) ({ cls := "AutoIndenter", name := "walked", desc := "(I)LAutoIndenter$Walk;" } : Jvm.MethodName)) ∈ lw_all := lw_g (lw_at lw_m3 89 rfl) rfl
theorem q665 : (Jvm.Cond.privateMethod ({ cls := "AutoIndenter", name := "walked", desc := "(I)LAutoIndenter$Walk;" } : Jvm.MethodName)) ∈ lw_tbl := lw_at lw_m3 90 rfl
theorem q666 : (Jvm.Cond.instanceMethod ({ cls := "AutoIndenter", name := "walked", desc := "(I)LAutoIndenter$Walk;" } : Jvm.MethodName)) ∈ lw_all := lw_g (lw_at lw_m3 91 rfl) rfl
theorem q667 : (Jvm.Cond.code ({ cls := "AutoIndenter", name := "walked", desc := "(I)LAutoIndenter$Walk;" } : Jvm.MethodName) prog_1_method_6_code (2 : Nat) (Option.some (Jvm.ClassFile.FieldType.object "AutoIndenter$Walk"))) ∈ lw_all := lw_g (lw_at lw_m3 92 rfl) rfl
theorem q668 : (Jvm.Cond.methodLink "AutoIndenter" (75 : Nat) ({ cls := "AutoIndenter", name := "walked", desc := "(III)LAutoIndenter$Walk;" } : Jvm.MethodName)) ∈ lw_all := lw_g (lw_at lw_m3 93 rfl) rfl
theorem q669 : (Jvm.Cond.privateMethod ({ cls := "AutoIndenter", name := "walked", desc := "(III)LAutoIndenter$Walk;" } : Jvm.MethodName)) ∈ lw_tbl := lw_at lw_m3 94 rfl
theorem q670 : (Jvm.Cond.instanceMethod ({ cls := "AutoIndenter", name := "walked", desc := "(III)LAutoIndenter$Walk;" } : Jvm.MethodName)) ∈ lw_all := lw_g (lw_at lw_m3 95 rfl) rfl
theorem q671 : (Jvm.Cond.code ({ cls := "AutoIndenter", name := "walked", desc := "(III)LAutoIndenter$Walk;" } : Jvm.MethodName) prog_1_method_7_code (4 : Nat) (Option.some (Jvm.ClassFile.FieldType.object "AutoIndenter$Walk"))) ∈ lw_all := lw_g (lw_at lw_m3 96 rfl) rfl
theorem q672 : (Jvm.Cond.classLink "AutoIndenter" (79 : Nat) "AutoIndenter$Walk") ∈ lw_all := lw_g (lw_at lw_m3 97 rfl) rfl
theorem q674 : (Jvm.Cond.classLink "AutoIndenter" (81 : Nat) "AutoIndenter$Tokens") ∈ lw_all := lw_g (lw_at lw_m3 99 rfl) rfl
theorem q676 : (Jvm.Cond.methodLink "AutoIndenter" (83 : Nat) ({ cls := "AutoIndenter$Tokens", name := "<init>", desc := "(LAutoIndenter$State;)V" } : Jvm.MethodName)) ∈ lw_all := lw_g (lw_at lw_m3 101 rfl) rfl
theorem q724 : (Jvm.Cond.fieldLinkNest "AutoIndenter" (321 : Nat) "AutoIndenter$Token" "line" "I" "AutoIndenter") ∈ lw_tbl := lw_at lw_m3 149 rfl
theorem q727 : (Jvm.Cond.fieldLinkNest "AutoIndenter" (311 : Nat) "AutoIndenter$Token" "at" "I" "AutoIndenter") ∈ lw_tbl := lw_at lw_m3 152 rfl
theorem q729 : (Jvm.Cond.fieldLinkNest "AutoIndenter" (314 : Nat) "AutoIndenter$Token" "length" "I" "AutoIndenter") ∈ lw_tbl := lw_at lw_m3 154 rfl
theorem q731 : (Jvm.Cond.fieldLinkNest "AutoIndenter" (315 : Nat) "AutoIndenter$Token" "kind" "I" "AutoIndenter") ∈ lw_tbl := lw_at lw_m3 156 rfl
theorem q736 : (Jvm.Cond.fieldLinkNest "AutoIndenter" (363 : Nat) "AutoIndenter$Token" "word" "I" "AutoIndenter") ∈ lw_tbl := lw_at lw_m3 161 rfl
theorem q740 : (Jvm.Cond.fieldLinkNest "AutoIndenter" (348 : Nat) "AutoIndenter$Token" "pair" "I" "AutoIndenter") ∈ lw_tbl := lw_at lw_m3 165 rfl
theorem q777 : (Jvm.Cond.static ({ cls := "AutoIndenter", name := "isWordByte", desc := "(I)Z" } : Jvm.MethodName)) ∈ lw_all := lw_g (lw_at lw_m3 202 rfl) rfl
theorem q778 : (Jvm.Cond.code ({ cls := "AutoIndenter", name := "isWordByte", desc := "(I)Z" } : Jvm.MethodName) prog_1_method_2_code (1 : Nat) (Option.some Jvm.ClassFile.FieldType.boolean)) ∈ lw_all := lw_g (lw_at lw_m3 203 rfl) rfl
theorem q891 : (Jvm.Cond.selects "AutoIndenter" ({ cls := "java/lang/Object", name := "hashCode", desc := "()I" } : Jvm.MethodName) ({ cls := "java/lang/Object", name := "hashCode", desc := "()I" } : Jvm.MethodName)) ∈ lw_all := lw_g (lw_at lw_m4 76 rfl) rfl
theorem q963 : (Jvm.Cond.selects "AutoIndenter" ({ cls := "java/lang/Object", name := "equals", desc := "(Ljava/lang/Object;)Z" } : Jvm.MethodName) ({ cls := "java/lang/Object", name := "equals", desc := "(Ljava/lang/Object;)Z" } : Jvm.MethodName)) ∈ lw_all := lw_g (lw_at lw_m4 148 rfl) rfl
theorem q1442 : (Jvm.Cond.fieldLinkNest "AutoIndenter" (318 : Nat) "AutoIndenter$Tokens" "all" "Ljava/util/ArrayList;" "AutoIndenter") ∈ lw_tbl := lw_at lw_m6 147 rfl
theorem q1444 : (Jvm.Cond.fieldLinkNest "AutoIndenter" (396 : Nat) "AutoIndenter$Tokens" "texts" "Ljava/util/ArrayList;" "AutoIndenter") ∈ lw_tbl := lw_at lw_m6 149 rfl
theorem q1448 : (Jvm.Cond.fieldLinkNest "AutoIndenter" (323 : Nat) "AutoIndenter$Tokens" "first" "[I" "AutoIndenter") ∈ lw_tbl := lw_at lw_m6 153 rfl
theorem q1451 : (Jvm.Cond.fieldLinkNest "AutoIndenter" (218 : Nat) "AutoIndenter$Tokens" "isProtected" "[Z" "AutoIndenter") ∈ lw_tbl := lw_at lw_m6 156 rfl
theorem q1468 : (Jvm.Cond.methodLink "AutoIndenter" (86 : Nat) ({ cls := "AutoIndenter$Walk", name := "<init>", desc := "(LAutoIndenter$Tokens;)V" } : Jvm.MethodName)) ∈ lw_all := lw_g (lw_at lw_m6 173 rfl) rfl
theorem q1475 : (Jvm.Cond.fieldLinkNest "AutoIndenter" (100 : Nat) "AutoIndenter$Walk" "tokens" "LAutoIndenter$Tokens;" "AutoIndenter") ∈ lw_tbl := lw_at lw_m6 180 rfl
theorem q1479 : (Jvm.Cond.fieldLinkNest "AutoIndenter" (204 : Nat) "AutoIndenter$Walk" "indentations" "[I" "AutoIndenter") ∈ lw_tbl := lw_at lw_m6 184 rfl
theorem q1481 : (Jvm.Cond.fieldLinkNest "AutoIndenter" (338 : Nat) "AutoIndenter$Walk" "openings" "[I" "AutoIndenter") ∈ lw_tbl := lw_at lw_m6 186 rfl
theorem q1483 : (Jvm.Cond.fieldLinkNest "AutoIndenter" (351 : Nat) "AutoIndenter$Walk" "columns" "[I" "AutoIndenter") ∈ lw_tbl := lw_at lw_m6 188 rfl
theorem q1485 : (Jvm.Cond.fieldLinkNest "AutoIndenter" (335 : Nat) "AutoIndenter$Walk" "height" "I" "AutoIndenter") ∈ lw_tbl := lw_at lw_m6 190 rfl
theorem q1488 : (Jvm.Cond.fieldLinkNest "AutoIndenter" (354 : Nat) "AutoIndenter$Walk" "strays" "I" "AutoIndenter") ∈ lw_tbl := lw_at lw_m6 193 rfl
theorem q1490 : (Jvm.Cond.fieldLinkNest "AutoIndenter" (357 : Nat) "AutoIndenter$Walk" "lost" "I" "AutoIndenter") ∈ lw_tbl := lw_at lw_m6 195 rfl
theorem q1492 : (Jvm.Cond.fieldLinkNest "AutoIndenter" (326 : Nat) "AutoIndenter$Walk" "openedBy" "[I" "AutoIndenter") ∈ lw_tbl := lw_at lw_m6 197 rfl
theorem q1494 : (Jvm.Cond.fieldLinkNest "AutoIndenter" (332 : Nat) "AutoIndenter$Walk" "closedBy" "[I" "AutoIndenter") ∈ lw_tbl := lw_at lw_m6 199 rfl
theorem q1496 : (Jvm.Cond.fieldLinkNest "AutoIndenter" (181 : Nat) "AutoIndenter$Walk" "column" "I" "AutoIndenter") ∈ lw_tbl := lw_at lw_m6 201 rfl
theorem q1498 : (Jvm.Cond.fieldLinkNest "AutoIndenter" (266 : Nat) "AutoIndenter$Walk" "reason" "I" "AutoIndenter") ∈ lw_tbl := lw_at lw_m6 203 rfl
theorem q1500 : (Jvm.Cond.fieldLinkNest "AutoIndenter" (269 : Nat) "AutoIndenter$Walk" "rule" "I" "AutoIndenter") ∈ lw_tbl := lw_at lw_m6 205 rfl
theorem q1534 : (Jvm.Cond.methodLink "AutoIndenter" (89 : Nat) ({ cls := "AutoIndenter$Walk", name := "begin", desc := "(II)V" } : Jvm.MethodName)) ∈ lw_all := lw_g (lw_at lw_m6 239 rfl) rfl
theorem q1540 : (Jvm.Cond.methodLink "AutoIndenter" (93 : Nat) ({ cls := "AutoIndenter$Walk", name := "passTo", desc := "(I)V" } : Jvm.MethodName)) ∈ lw_all := lw_g (lw_at lw_m7 5 rfl) rfl
theorem q1570 : (Jvm.Cond.static ({ cls := "AutoIndenter", name := "held", desc := "(I)I" } : Jvm.MethodName)) ∈ lw_all := lw_g (lw_at lw_m7 35 rfl) rfl
theorem q1571 : (Jvm.Cond.code ({ cls := "AutoIndenter", name := "held", desc := "(I)I" } : Jvm.MethodName) prog_1_method_3_code (1 : Nat) (Option.some Jvm.ClassFile.FieldType.int)) ∈ lw_all := lw_g (lw_at lw_m7 36 rfl) rfl
theorem q1572 : (Jvm.Cond.methodLink "AutoIndenter" (7 : Nat) ({ cls := "java/lang/Math", name := "min", desc := "(II)I" } : Jvm.MethodName)) ∈ lw_all := lw_g (lw_at lw_m7 37 rfl) rfl
theorem q1573 : (Jvm.Cond.methodLink "AutoIndenter" (13 : Nat) ({ cls := "java/lang/Math", name := "max", desc := "(II)I" } : Jvm.MethodName)) ∈ lw_all := lw_g (lw_at lw_m7 38 rfl) rfl
theorem q1574 : (Jvm.Cond.methodLink "AutoIndenter" (175 : Nat) ({ cls := "AutoIndenter$Walk", name := "isDecided", desc := "(I)Z" } : Jvm.MethodName)) ∈ lw_all := lw_g (lw_at lw_m7 39 rfl) rfl
theorem q1583 : (Jvm.Cond.methodLink "AutoIndenter" (178 : Nat) ({ cls := "AutoIndenter$Walk", name := "decide", desc := "(I)V" } : Jvm.MethodName)) ∈ lw_all := lw_g (lw_at lw_m7 48 rfl) rfl
theorem q1608 : (Jvm.Cond.instanceMethod ({ cls := "AutoIndenter", name := "joinLines", desc := "(I)I" } : Jvm.MethodName)) ∈ lw_all := lw_g (lw_at lw_m7 73 rfl) rfl
theorem q1609 : (Jvm.Cond.selects "AutoIndenter" ({ cls := "AutoIndenter", name := "joinLines", desc := "(I)I" } : Jvm.MethodName) ({ cls := "AutoIndenter", name := "joinLines", desc := "(I)I" } : Jvm.MethodName)) ∈ lw_all := lw_g (lw_at lw_m7 74 rfl) rfl
theorem q1610 : (Jvm.Cond.code ({ cls := "AutoIndenter", name := "joinLines", desc := "(I)I" } : Jvm.MethodName) prog_1_method_21_code (6 : Nat) (Option.some Jvm.ClassFile.FieldType.int)) ∈ lw_all := lw_g (lw_at lw_m7 75 rfl) rfl
theorem q1611 : (Jvm.Cond.methodLink "AutoIndenter" (184 : Nat) ({ cls := "AutoIndenter$Line", name := "isBlank", desc := "()Z" } : Jvm.MethodName)) ∈ lw_all := lw_g (lw_at lw_m7 76 rfl) rfl
theorem q1612 : (Jvm.Cond.methodLink "AutoIndenter" (188 : Nat) ({ cls := "java/lang/StringBuilder", name := "append", desc := "(Ljava/lang/String;)Ljava/lang/StringBuilder;" } : Jvm.MethodName)) ∈ lw_all := lw_g (lw_at lw_m7 77 rfl) rfl
theorem q1646 : (Jvm.Cond.stringRef "AutoIndenter" (191 : Nat) " ") ∈ lw_tbl := lw_at lw_m7 111 rfl
theorem q1648 : (Jvm.Cond.instanceMethod ({ cls := "AutoIndenter", name := "shift", desc := "(III)I" } : Jvm.MethodName)) ∈ lw_all := lw_g (lw_at lw_m7 113 rfl) rfl
theorem q1649 : (Jvm.Cond.selects "AutoIndenter" ({ cls := "AutoIndenter", name := "shift", desc := "(III)I" } : Jvm.MethodName) ({ cls := "AutoIndenter", name := "shift", desc := "(III)I" } : Jvm.MethodName)) ∈ lw_all := lw_g (lw_at lw_m7 114 rfl) rfl
theorem q1650 : (Jvm.Cond.code ({ cls := "AutoIndenter", name := "shift", desc := "(III)I" } : Jvm.MethodName) prog_1_method_22_code (6 : Nat) (Option.some Jvm.ClassFile.FieldType.int)) ∈ lw_all := lw_g (lw_at lw_m7 115 rfl) rfl
theorem q1651 : (Jvm.Cond.methodLink "AutoIndenter" (193 : Nat) ({ cls := "AutoIndenter", name := "isRange", desc := "(II)Z" } : Jvm.MethodName)) ∈ lw_all := lw_g (lw_at lw_m7 116 rfl) rfl
theorem q1652 : (Jvm.Cond.privateMethod ({ cls := "AutoIndenter", name := "isRange", desc := "(II)Z" } : Jvm.MethodName)) ∈ lw_tbl := lw_at lw_m7 117 rfl
theorem q1653 : (Jvm.Cond.instanceMethod ({ cls := "AutoIndenter", name := "isRange", desc := "(II)Z" } : Jvm.MethodName)) ∈ lw_all := lw_g (lw_at lw_m7 118 rfl) rfl
theorem q1654 : (Jvm.Cond.code ({ cls := "AutoIndenter", name := "isRange", desc := "(II)Z" } : Jvm.MethodName) prog_1_method_11_code (3 : Nat) (Option.some Jvm.ClassFile.FieldType.boolean)) ∈ lw_all := lw_g (lw_at lw_m7 119 rfl) rfl
theorem q1656 : (Jvm.Cond.instanceMethod ({ cls := "AutoIndenter", name := "pin", desc := "(I)I" } : Jvm.MethodName)) ∈ lw_all := lw_g (lw_at lw_m7 121 rfl) rfl
theorem q1657 : (Jvm.Cond.selects "AutoIndenter" ({ cls := "AutoIndenter", name := "pin", desc := "(I)I" } : Jvm.MethodName) ({ cls := "AutoIndenter", name := "pin", desc := "(I)I" } : Jvm.MethodName)) ∈ lw_all := lw_g (lw_at lw_m7 122 rfl) rfl
theorem q1658 : (Jvm.Cond.code ({ cls := "AutoIndenter", name := "pin", desc := "(I)I" } : Jvm.MethodName) prog_1_method_23_code (2 : Nat) (Option.some Jvm.ClassFile.FieldType.int)) ∈ lw_all := lw_g (lw_at lw_m7 123 rfl) rfl
theorem q1660 : (Jvm.Cond.instanceMethod ({ cls := "AutoIndenter", name := "reindent", desc := "(II)I" } : Jvm.MethodName)) ∈ lw_all := lw_g (lw_at lw_m7 125 rfl) rfl
theorem q1661 : (Jvm.Cond.selects "AutoIndenter" ({ cls := "AutoIndenter", name := "reindent", desc := "(II)I" } : Jvm.MethodName) ({ cls := "AutoIndenter", name := "reindent", desc := "(II)I" } : Jvm.MethodName)) ∈ lw_all := lw_g (lw_at lw_m7 126 rfl) rfl
theorem q1662 : (Jvm.Cond.code ({ cls := "AutoIndenter", name := "reindent", desc := "(II)I" } : Jvm.MethodName) prog_1_method_24_code (6 : Nat) (Option.some Jvm.ClassFile.FieldType.int)) ∈ lw_all := lw_g (lw_at lw_m7 127 rfl) rfl
theorem q1663 : (Jvm.Cond.methodLink "AutoIndenter" (201 : Nat) ({ cls := "AutoIndenter$Walk", name := "reindent", desc := "(II)I" } : Jvm.MethodName)) ∈ lw_all := lw_g (lw_at lw_m7 128 rfl) rfl
theorem q1670 : (Jvm.Cond.methodLink "AutoIndenter" (208 : Nat) ({ cls := "java/lang/Integer", name := "bitCount", desc := "(I)I" } : Jvm.MethodName)) ∈ lw_all := lw_g (lw_at lw_m7 135 rfl) rfl
theorem q1677 : (Jvm.Cond.instanceMethod ({ cls := "AutoIndenter", name := "lines", desc := "()I" } : Jvm.MethodName)) ∈ lw_all := lw_g (lw_at lw_m7 142 rfl) rfl
theorem q1678 : (Jvm.Cond.selects "AutoIndenter" ({ cls := "AutoIndenter", name := "lines", desc := "()I" } : Jvm.MethodName) ({ cls := "AutoIndenter", name := "lines", desc := "()I" } : Jvm.MethodName)) ∈ lw_all := lw_g (lw_at lw_m7 143 rfl) rfl
theorem q1679 : (Jvm.Cond.code ({ cls := "AutoIndenter", name := "lines", desc := "()I" } : Jvm.MethodName) prog_1_method_25_code (1 : Nat) (Option.some Jvm.ClassFile.FieldType.int)) ∈ lw_all := lw_g (lw_at lw_m7 144 rfl) rfl
theorem q1681 : (Jvm.Cond.instanceMethod ({ cls := "AutoIndenter", name := "indentation", desc := "(I)I" } : Jvm.MethodName)) ∈ lw_all := lw_g (lw_at lw_m7 146 rfl) rfl
theorem q1682 : (Jvm.Cond.selects "AutoIndenter" ({ cls := "AutoIndenter", name := "indentation", desc := "(I)I" } : Jvm.MethodName) ({ cls := "AutoIndenter", name := "indentation", desc := "(I)I" } : Jvm.MethodName)) ∈ lw_all := lw_g (lw_at lw_m7 147 rfl) rfl
theorem q1683 : (Jvm.Cond.code ({ cls := "AutoIndenter", name := "indentation", desc := "(I)I" } : Jvm.MethodName) prog_1_method_26_code (2 : Nat) (Option.some Jvm.ClassFile.FieldType.int)) ∈ lw_all := lw_g (lw_at lw_m7 148 rfl) rfl
theorem q1685 : (Jvm.Cond.instanceMethod ({ cls := "AutoIndenter", name := "length", desc := "(I)I" } : Jvm.MethodName)) ∈ lw_all := lw_g (lw_at lw_m7 150 rfl) rfl
theorem q1686 : (Jvm.Cond.selects "AutoIndenter" ({ cls := "AutoIndenter", name := "length", desc := "(I)I" } : Jvm.MethodName) ({ cls := "AutoIndenter", name := "length", desc := "(I)I" } : Jvm.MethodName)) ∈ lw_all := lw_g (lw_at lw_m7 151 rfl) rfl
theorem q1687 : (Jvm.Cond.code ({ cls := "AutoIndenter", name := "length", desc := "(I)I" } : Jvm.MethodName) prog_1_method_27_code (2 : Nat) (Option.some Jvm.ClassFile.FieldType.int)) ∈ lw_all := lw_g (lw_at lw_m7 152 rfl) rfl
theorem q1689 : (Jvm.Cond.instanceMethod ({ cls := "AutoIndenter", name := "byteAt", desc := "(II)I" } : Jvm.MethodName)) ∈ lw_all := lw_g (lw_at lw_m7 154 rfl) rfl
theorem q1690 : (Jvm.Cond.selects "AutoIndenter" ({ cls := "AutoIndenter", name := "byteAt", desc := "(II)I" } : Jvm.MethodName) ({ cls := "AutoIndenter", name := "byteAt", desc := "(II)I" } : Jvm.MethodName)) ∈ lw_all := lw_g (lw_at lw_m7 155 rfl) rfl
theorem q1691 : (Jvm.Cond.code ({ cls := "AutoIndenter", name := "byteAt", desc := "(II)I" } : Jvm.MethodName) prog_1_method_28_code (3 : Nat) (Option.some Jvm.ClassFile.FieldType.int)) ∈ lw_all := lw_g (lw_at lw_m7 156 rfl) rfl
theorem q1693 : (Jvm.Cond.instanceMethod ({ cls := "AutoIndenter", name := "isProtected", desc := "(I)I" } : Jvm.MethodName)) ∈ lw_all := lw_g (lw_at lw_m7 158 rfl) rfl
theorem q1694 : (Jvm.Cond.selects "AutoIndenter" ({ cls := "AutoIndenter", name := "isProtected", desc := "(I)I" } : Jvm.MethodName) ({ cls := "AutoIndenter", name := "isProtected", desc := "(I)I" } : Jvm.MethodName)) ∈ lw_all := lw_g (lw_at lw_m7 159 rfl) rfl
theorem q1695 : (Jvm.Cond.code ({ cls := "AutoIndenter", name := "isProtected", desc := "(I)I" } : Jvm.MethodName) prog_1_method_29_code (2 : Nat) (Option.some Jvm.ClassFile.FieldType.int)) ∈ lw_all := lw_g (lw_at lw_m7 160 rfl) rfl
theorem q1696 : (Jvm.Cond.methodLink "AutoIndenter" (214 : Nat) ({ cls := "AutoIndenter", name := "divided", desc := "()LAutoIndenter$Tokens;" } : Jvm.MethodName)) ∈ lw_all := lw_g (lw_at lw_m7 161 rfl) rfl
theorem q1697 : (Jvm.Cond.privateMethod ({ cls := "AutoIndenter", name := "divided", desc := "()LAutoIndenter$Tokens;" } : Jvm.MethodName)) ∈ lw_tbl := lw_at lw_m7 162 rfl
theorem q1698 : (Jvm.Cond.instanceMethod ({ cls := "AutoIndenter", name := "divided", desc := "()LAutoIndenter$Tokens;" } : Jvm.MethodName)) ∈ lw_all := lw_g (lw_at lw_m7 163 rfl) rfl
theorem q1699 : (Jvm.Cond.code ({ cls := "AutoIndenter", name := "divided", desc := "()LAutoIndenter$Tokens;" } : Jvm.MethodName) prog_1_method_8_code (1 : Nat) (Option.some (Jvm.ClassFile.FieldType.object "AutoIndenter$Tokens"))) ∈ lw_all := lw_g (lw_at lw_m7 164 rfl) rfl
theorem q1701 : (Jvm.Cond.instanceMethod ({ cls := "AutoIndenter", name := "isPinned", desc := "(I)I" } : Jvm.MethodName)) ∈ lw_all := lw_g (lw_at lw_m7 166 rfl) rfl
theorem q1702 : (Jvm.Cond.selects "AutoIndenter" ({ cls := "AutoIndenter", name := "isPinned", desc := "(I)I" } : Jvm.MethodName) ({ cls := "AutoIndenter", name := "isPinned", desc := "(I)I" } : Jvm.MethodName)) ∈ lw_all := lw_g (lw_at lw_m7 167 rfl) rfl
theorem q1703 : (Jvm.Cond.code ({ cls := "AutoIndenter", name := "isPinned", desc := "(I)I" } : Jvm.MethodName) prog_1_method_30_code (2 : Nat) (Option.some Jvm.ClassFile.FieldType.int)) ∈ lw_all := lw_g (lw_at lw_m7 168 rfl) rfl
theorem q1705 : (Jvm.Cond.instanceMethod ({ cls := "AutoIndenter", name := "setStep", desc := "(I)I" } : Jvm.MethodName)) ∈ lw_all := lw_g (lw_at lw_m7 170 rfl) rfl
theorem q1706 : (Jvm.Cond.selects "AutoIndenter" ({ cls := "AutoIndenter", name := "setStep", desc := "(I)I" } : Jvm.MethodName) ({ cls := "AutoIndenter", name := "setStep", desc := "(I)I" } : Jvm.MethodName)) ∈ lw_all := lw_g (lw_at lw_m7 171 rfl) rfl
theorem q1707 : (Jvm.Cond.code ({ cls := "AutoIndenter", name := "setStep", desc := "(I)I" } : Jvm.MethodName) prog_1_method_31_code (3 : Nat) (Option.some Jvm.ClassFile.FieldType.int)) ∈ lw_all := lw_g (lw_at lw_m7 172 rfl) rfl
theorem q1709 : (Jvm.Cond.instanceMethod ({ cls := "AutoIndenter", name := "setBase", desc := "(I)I" } : Jvm.MethodName)) ∈ lw_all := lw_g (lw_at lw_m7 174 rfl) rfl
theorem q1710 : (Jvm.Cond.selects "AutoIndenter" ({ cls := "AutoIndenter", name := "setBase", desc := "(I)I" } : Jvm.MethodName) ({ cls := "AutoIndenter", name := "setBase", desc := "(I)I" } : Jvm.MethodName)) ∈ lw_all := lw_g (lw_at lw_m7 175 rfl) rfl
theorem q1711 : (Jvm.Cond.code ({ cls := "AutoIndenter", name := "setBase", desc := "(I)I" } : Jvm.MethodName) prog_1_method_32_code (3 : Nat) (Option.some Jvm.ClassFile.FieldType.int)) ∈ lw_all := lw_g (lw_at lw_m7 176 rfl) rfl
theorem q1713 : (Jvm.Cond.instanceMethod ({ cls := "AutoIndenter", name := "setComment", desc := "(I)I" } : Jvm.MethodName)) ∈ lw_all := lw_g (lw_at lw_m7 178 rfl) rfl
theorem q1714 : (Jvm.Cond.selects "AutoIndenter" ({ cls := "AutoIndenter", name := "setComment", desc := "(I)I" } : Jvm.MethodName) ({ cls := "AutoIndenter", name := "setComment", desc := "(I)I" } : Jvm.MethodName)) ∈ lw_all := lw_g (lw_at lw_m7 179 rfl) rfl
theorem q1715 : (Jvm.Cond.code ({ cls := "AutoIndenter", name := "setComment", desc := "(I)I" } : Jvm.MethodName) prog_1_method_33_code (3 : Nat) (Option.some Jvm.ClassFile.FieldType.int)) ∈ lw_all := lw_g (lw_at lw_m7 180 rfl) rfl
theorem q1716 : (Jvm.Cond.methodLink "AutoIndenter" (222 : Nat) ({ cls := "AutoIndenter", name := "isWordByte", desc := "(I)Z" } : Jvm.MethodName)) ∈ lw_all := lw_g (lw_at lw_m7 181 rfl) rfl
theorem q1718 : (Jvm.Cond.instanceMethod ({ cls := "AutoIndenter", name := "pair", desc := "(IIIII)I" } : Jvm.MethodName)) ∈ lw_all := lw_g (lw_at lw_m7 183 rfl) rfl
theorem q1719 : (Jvm.Cond.selects "AutoIndenter" ({ cls := "AutoIndenter", name := "pair", desc := "(IIIII)I" } : Jvm.MethodName) ({ cls := "AutoIndenter", name := "pair", desc := "(IIIII)I" } : Jvm.MethodName)) ∈ lw_all := lw_g (lw_at lw_m7 184 rfl) rfl
theorem q1720 : (Jvm.Cond.code ({ cls := "AutoIndenter", name := "pair", desc := "(IIIII)I" } : Jvm.MethodName) prog_1_method_39_code (8 : Nat) (Option.some Jvm.ClassFile.FieldType.int)) ∈ lw_all := lw_g (lw_at lw_m7 185 rfl) rfl
theorem q1721 : (Jvm.Cond.methodLink "AutoIndenter" (241 : Nat) ({ cls := "AutoIndenter", name := "isRule", desc := "(II)Z" } : Jvm.MethodName)) ∈ lw_all := lw_g (lw_at lw_m7 186 rfl) rfl
theorem q1722 : (Jvm.Cond.static ({ cls := "AutoIndenter", name := "isRule", desc := "(II)Z" } : Jvm.MethodName)) ∈ lw_all := lw_g (lw_at lw_m7 187 rfl) rfl
theorem q1723 : (Jvm.Cond.code ({ cls := "AutoIndenter", name := "isRule", desc := "(II)Z" } : Jvm.MethodName) prog_1_method_38_code (2 : Nat) (Option.some Jvm.ClassFile.FieldType.boolean)) ∈ lw_all := lw_g (lw_at lw_m7 188 rfl) rfl
theorem q1724 : (Jvm.Cond.methodLink "AutoIndenter" (244 : Nat) ({ cls := "AutoIndenter", name := "readText", desc := "()Ljava/lang/String;" } : Jvm.MethodName)) ∈ lw_all := lw_g (lw_at lw_m7 189 rfl) rfl
theorem q1725 : (Jvm.Cond.privateMethod ({ cls := "AutoIndenter", name := "readText", desc := "()Ljava/lang/String;" } : Jvm.MethodName)) ∈ lw_tbl := lw_at lw_m7 190 rfl
theorem q1726 : (Jvm.Cond.instanceMethod ({ cls := "AutoIndenter", name := "readText", desc := "()Ljava/lang/String;" } : Jvm.MethodName)) ∈ lw_all := lw_g (lw_at lw_m7 191 rfl) rfl
theorem q1727 : (Jvm.Cond.code ({ cls := "AutoIndenter", name := "readText", desc := "()Ljava/lang/String;" } : Jvm.MethodName) prog_1_method_35_code (3 : Nat) (Option.some (Jvm.ClassFile.FieldType.object "java/lang/String"))) ∈ lw_all := lw_g (lw_at lw_m7 192 rfl) rfl
theorem q1728 : (Jvm.Cond.methodLink "AutoIndenter" (231 : Nat) ({ cls := "AutoIndenter", name := "skips", desc := "()V" } : Jvm.MethodName)) ∈ lw_all := lw_g (lw_at lw_m7 193 rfl) rfl
theorem q1729 : (Jvm.Cond.privateMethod ({ cls := "AutoIndenter", name := "skips", desc := "()V" } : Jvm.MethodName)) ∈ lw_tbl := lw_at lw_m7 194 rfl
theorem q1730 : (Jvm.Cond.instanceMethod ({ cls := "AutoIndenter", name := "skips", desc := "()V" } : Jvm.MethodName)) ∈ lw_all := lw_g (lw_at lw_m7 195 rfl) rfl
theorem q1731 : (Jvm.Cond.code ({ cls := "AutoIndenter", name := "skips", desc := "()V" } : Jvm.MethodName) prog_1_method_34_code (1 : Nat) (Option.none : Option Jvm.ClassFile.FieldType)) ∈ lw_all := lw_g (lw_at lw_m7 196 rfl) rfl
theorem q1732 : (Jvm.Cond.methodLink "AutoIndenter" (247 : Nat) ({ cls := "AutoIndenter", name := "isOver", desc := "()Z" } : Jvm.MethodName)) ∈ lw_all := lw_g (lw_at lw_m7 197 rfl) rfl
theorem q1733 : (Jvm.Cond.privateMethod ({ cls := "AutoIndenter", name := "isOver", desc := "()Z" } : Jvm.MethodName)) ∈ lw_tbl := lw_at lw_m7 198 rfl
theorem q1734 : (Jvm.Cond.instanceMethod ({ cls := "AutoIndenter", name := "isOver", desc := "()Z" } : Jvm.MethodName)) ∈ lw_all := lw_g (lw_at lw_m7 199 rfl) rfl
theorem q1735 : (Jvm.Cond.code ({ cls := "AutoIndenter", name := "isOver", desc := "()Z" } : Jvm.MethodName) prog_1_method_36_code (1 : Nat) (Option.some Jvm.ClassFile.FieldType.boolean)) ∈ lw_all := lw_g (lw_at lw_m7 200 rfl) rfl
theorem q1736 : (Jvm.Cond.classLink "AutoIndenter" (250 : Nat) "AutoIndenter$Rule") ∈ lw_all := lw_g (lw_at lw_m7 201 rfl) rfl
theorem q1738 : (Jvm.Cond.methodLinkNest "AutoIndenter" (252 : Nat) ({ cls := "AutoIndenter$Rule", name := "<init>", desc := "(IIIIILjava/lang/String;Ljava/lang/String;)V" } : Jvm.MethodName) "AutoIndenter") ∈ lw_tbl := lw_at lw_m7 203 rfl
theorem q1747 : (Jvm.Cond.fieldLinkNest "AutoIndenter" (453 : Nat) "AutoIndenter$Rule" "sort" "I" "AutoIndenter") ∈ lw_tbl := lw_at lw_m7 212 rfl
theorem q1751 : (Jvm.Cond.fieldLinkNest "AutoIndenter" (456 : Nat) "AutoIndenter$Rule" "precedence" "I" "AutoIndenter") ∈ lw_tbl := lw_at lw_m7 216 rfl
theorem q1754 : (Jvm.Cond.fieldLinkNest "AutoIndenter" (459 : Nat) "AutoIndenter$Rule" "steps" "I" "AutoIndenter") ∈ lw_tbl := lw_at lw_m7 219 rfl
theorem q1757 : (Jvm.Cond.fieldLinkNest "AutoIndenter" (468 : Nat) "AutoIndenter$Rule" "mode" "I" "AutoIndenter") ∈ lw_tbl := lw_at lw_m7 222 rfl
theorem q1760 : (Jvm.Cond.fieldLinkNest "AutoIndenter" (471 : Nat) "AutoIndenter$Rule" "closing" "I" "AutoIndenter") ∈ lw_tbl := lw_at lw_m7 225 rfl
theorem q1763 : (Jvm.Cond.fieldLinkNest "AutoIndenter" (462 : Nat) "AutoIndenter$Rule" "text" "Ljava/lang/String;" "AutoIndenter") ∈ lw_tbl := lw_at lw_m7 228 rfl
theorem q1766 : (Jvm.Cond.fieldLinkNest "AutoIndenter" (476 : Nat) "AutoIndenter$Rule" "closer" "Ljava/lang/String;" "AutoIndenter") ∈ lw_tbl := lw_at lw_m7 231 rfl
theorem q1782 : (Jvm.Cond.methodLink "AutoIndenter" (255 : Nat) ({ cls := "AutoIndenter", name := "lay", desc := "(ILAutoIndenter$Rule;)I" } : Jvm.MethodName)) ∈ lw_all := lw_g (lw_at lw_m8 7 rfl) rfl
theorem q1783 : (Jvm.Cond.privateMethod ({ cls := "AutoIndenter", name := "lay", desc := "(ILAutoIndenter$Rule;)I" } : Jvm.MethodName)) ∈ lw_tbl := lw_at lw_m8 8 rfl
theorem q1784 : (Jvm.Cond.instanceMethod ({ cls := "AutoIndenter", name := "lay", desc := "(ILAutoIndenter$Rule;)I" } : Jvm.MethodName)) ∈ lw_all := lw_g (lw_at lw_m8 9 rfl) rfl
theorem q1785 : (Jvm.Cond.code ({ cls := "AutoIndenter", name := "lay", desc := "(ILAutoIndenter$Rule;)I" } : Jvm.MethodName) prog_1_method_37_code (4 : Nat) (Option.some Jvm.ClassFile.FieldType.int)) ∈ lw_all := lw_g (lw_at lw_m8 10 rfl) rfl
theorem q1787 : (Jvm.Cond.instanceMethod ({ cls := "AutoIndenter", name := "starter", desc := "(III)I" } : Jvm.MethodName)) ∈ lw_all := lw_g (lw_at lw_m8 12 rfl) rfl
theorem q1788 : (Jvm.Cond.selects "AutoIndenter" ({ cls := "AutoIndenter", name := "starter", desc := "(III)I" } : Jvm.MethodName) ({ cls := "AutoIndenter", name := "starter", desc := "(III)I" } : Jvm.MethodName)) ∈ lw_all := lw_g (lw_at lw_m8 13 rfl) rfl
theorem q1789 : (Jvm.Cond.code ({ cls := "AutoIndenter", name := "starter", desc := "(III)I" } : Jvm.MethodName) prog_1_method_41_code (4 : Nat) (Option.some Jvm.ClassFile.FieldType.int)) ∈ lw_all := lw_g (lw_at lw_m8 14 rfl) rfl
theorem q1790 : (Jvm.Cond.methodLink "AutoIndenter" (259 : Nat) ({ cls := "AutoIndenter", name := "single", desc := "(IIII)I" } : Jvm.MethodName)) ∈ lw_all := lw_g (lw_at lw_m8 15 rfl) rfl
theorem q1791 : (Jvm.Cond.privateMethod ({ cls := "AutoIndenter", name := "single", desc := "(IIII)I" } : Jvm.MethodName)) ∈ lw_tbl := lw_at lw_m8 16 rfl
theorem q1792 : (Jvm.Cond.instanceMethod ({ cls := "AutoIndenter", name := "single", desc := "(IIII)I" } : Jvm.MethodName)) ∈ lw_all := lw_g (lw_at lw_m8 17 rfl) rfl
theorem q1793 : (Jvm.Cond.code ({ cls := "AutoIndenter", name := "single", desc := "(IIII)I" } : Jvm.MethodName) prog_1_method_40_code (6 : Nat) (Option.some Jvm.ClassFile.FieldType.int)) ∈ lw_all := lw_g (lw_at lw_m8 18 rfl) rfl
theorem q1795 : (Jvm.Cond.instanceMethod ({ cls := "AutoIndenter", name := "joiner", desc := "(III)I" } : Jvm.MethodName)) ∈ lw_all := lw_g (lw_at lw_m8 20 rfl) rfl
theorem q1796 : (Jvm.Cond.selects "AutoIndenter" ({ cls := "AutoIndenter", name := "joiner", desc := "(III)I" } : Jvm.MethodName) ({ cls := "AutoIndenter", name := "joiner", desc := "(III)I" } : Jvm.MethodName)) ∈ lw_all := lw_g (lw_at lw_m8 21 rfl) rfl
theorem q1797 : (Jvm.Cond.code ({ cls := "AutoIndenter", name := "joiner", desc := "(III)I" } : Jvm.MethodName) prog_1_method_42_code (4 : Nat) (Option.some Jvm.ClassFile.FieldType.int)) ∈ lw_all := lw_g (lw_at lw_m8 22 rfl) rfl
theorem q1799 : (Jvm.Cond.instanceMethod ({ cls := "AutoIndenter", name := "dropRule", desc := "(I)I" } : Jvm.MethodName)) ∈ lw_all := lw_g (lw_at lw_m8 24 rfl) rfl
theorem q1800 : (Jvm.Cond.selects "AutoIndenter" ({ cls := "AutoIndenter", name := "dropRule", desc := "(I)I" } : Jvm.MethodName) ({ cls := "AutoIndenter", name := "dropRule", desc := "(I)I" } : Jvm.MethodName)) ∈ lw_all := lw_g (lw_at lw_m8 25 rfl) rfl
theorem q1801 : (Jvm.Cond.code ({ cls := "AutoIndenter", name := "dropRule", desc := "(I)I" } : Jvm.MethodName) prog_1_method_43_code (4 : Nat) (Option.some Jvm.ClassFile.FieldType.int)) ∈ lw_all := lw_g (lw_at lw_m8 26 rfl) rfl
theorem q1803 : (Jvm.Cond.instanceMethod ({ cls := "AutoIndenter", name := "wanted", desc := "(I)I" } : Jvm.MethodName)) ∈ lw_all := lw_g (lw_at lw_m8 28 rfl) rfl
theorem q1804 : (Jvm.Cond.selects "AutoIndenter" ({ cls := "AutoIndenter", name := "wanted", desc := "(I)I" } : Jvm.MethodName) ({ cls := "AutoIndenter", name := "wanted", desc := "(I)I" } : Jvm.MethodName)) ∈ lw_all := lw_g (lw_at lw_m8 29 rfl) rfl
theorem q1805 : (Jvm.Cond.code ({ cls := "AutoIndenter", name := "wanted", desc := "(I)I" } : Jvm.MethodName) prog_1_method_45_code (3 : Nat) (Option.some Jvm.ClassFile.FieldType.int)) ∈ lw_all := lw_g (lw_at lw_m8 30 rfl) rfl
theorem q1806 : (Jvm.Cond.methodLink "AutoIndenter" (263 : Nat) ({ cls := "AutoIndenter", name := "decided", desc := "(I)LAutoIndenter$Walk;" } : Jvm.MethodName)) ∈ lw_all := lw_g (lw_at lw_m8 31 rfl) rfl
theorem q1807 : (Jvm.Cond.privateMethod ({ cls := "AutoIndenter", name := "decided", desc := "(I)LAutoIndenter$Walk;" } : Jvm.MethodName)) ∈ lw_tbl := lw_at lw_m8 32 rfl
theorem q1808 : (Jvm.Cond.instanceMethod ({ cls := "AutoIndenter", name := "decided", desc := "(I)LAutoIndenter$Walk;" } : Jvm.MethodName)) ∈ lw_all := lw_g (lw_at lw_m8 33 rfl) rfl
theorem q1809 : (Jvm.Cond.code ({ cls := "AutoIndenter", name := "decided", desc := "(I)LAutoIndenter$Walk;" } : Jvm.MethodName) prog_1_method_44_code (3 : Nat) (Option.some (Jvm.ClassFile.FieldType.object "AutoIndenter$Walk"))) ∈ lw_all := lw_g (lw_at lw_m8 34 rfl) rfl
theorem q1811 : (Jvm.Cond.instanceMethod ({ cls := "AutoIndenter", name := "reason", desc := "(I)I" } : Jvm.MethodName)) ∈ lw_all := lw_g (lw_at lw_m8 36 rfl) rfl
theorem q1812 : (Jvm.Cond.selects "AutoIndenter" ({ cls := "AutoIndenter", name := "reason", desc := "(I)I" } : Jvm.MethodName) ({ cls := "AutoIndenter", name := "reason", desc := "(I)I" } : Jvm.MethodName)) ∈ lw_all := lw_g (lw_at lw_m8 37 rfl) rfl
theorem q1813 : (Jvm.Cond.code ({ cls := "AutoIndenter", name := "reason", desc := "(I)I" } : Jvm.MethodName) prog_1_method_46_code (3 : Nat) (Option.some Jvm.ClassFile.FieldType.int)) ∈ lw_all := lw_g (lw_at lw_m8 38 rfl) rfl
theorem q1815 : (Jvm.Cond.instanceMethod ({ cls := "AutoIndenter", name := "decidingRule", desc := "(I)I" } : Jvm.MethodName)) ∈ lw_all := lw_g (lw_at lw_m8 40 rfl) rfl
theorem q1816 : (Jvm.Cond.selects "AutoIndenter" ({ cls := "AutoIndenter", name := "decidingRule", desc := "(I)I" } : Jvm.MethodName) ({ cls := "AutoIndenter", name := "decidingRule", desc := "(I)I" } : Jvm.MethodName)) ∈ lw_all := lw_g (lw_at lw_m8 41 rfl) rfl
theorem q1817 : (Jvm.Cond.code ({ cls := "AutoIndenter", name := "decidingRule", desc := "(I)I" } : Jvm.MethodName) prog_1_method_47_code (3 : Nat) (Option.some Jvm.ClassFile.FieldType.int)) ∈ lw_all := lw_g (lw_at lw_m8 42 rfl) rfl
theorem q1819 : (Jvm.Cond.instanceMethod ({ cls := "AutoIndenter", name := "wouldChange", desc := "()I" } : Jvm.MethodName)) ∈ lw_all := lw_g (lw_at lw_m8 44 rfl) rfl
theorem q1820 : (Jvm.Cond.selects "AutoIndenter" ({ cls := "AutoIndenter", name := "wouldChange", desc := "()I" } : Jvm.MethodName) ({ cls := "AutoIndenter", name := "wouldChange", desc := "()I" } : Jvm.MethodName)) ∈ lw_all := lw_g (lw_at lw_m8 45 rfl) rfl
theorem q1821 : (Jvm.Cond.code ({ cls := "AutoIndenter", name := "wouldChange", desc := "()I" } : Jvm.MethodName) prog_1_method_48_code (1 : Nat) (Option.some Jvm.ClassFile.FieldType.int)) ∈ lw_all := lw_g (lw_at lw_m8 46 rfl) rfl
theorem q1823 : (Jvm.Cond.instanceMethod ({ cls := "AutoIndenter", name := "changesWith", desc := "(II)I" } : Jvm.MethodName)) ∈ lw_all := lw_g (lw_at lw_m8 48 rfl) rfl
theorem q1824 : (Jvm.Cond.selects "AutoIndenter" ({ cls := "AutoIndenter", name := "changesWith", desc := "(II)I" } : Jvm.MethodName) ({ cls := "AutoIndenter", name := "changesWith", desc := "(II)I" } : Jvm.MethodName)) ∈ lw_all := lw_g (lw_at lw_m8 49 rfl) rfl
theorem q1825 : (Jvm.Cond.code ({ cls := "AutoIndenter", name := "changesWith", desc := "(II)I" } : Jvm.MethodName) prog_1_method_50_code (3 : Nat) (Option.some Jvm.ClassFile.FieldType.int)) ∈ lw_all := lw_g (lw_at lw_m8 50 rfl) rfl
theorem q1826 : (Jvm.Cond.methodLink "AutoIndenter" (293 : Nat) ({ cls := "AutoIndenter", name := "changesOf", desc := "(II)I" } : Jvm.MethodName)) ∈ lw_all := lw_g (lw_at lw_m8 51 rfl) rfl
theorem q1827 : (Jvm.Cond.privateMethod ({ cls := "AutoIndenter", name := "changesOf", desc := "(II)I" } : Jvm.MethodName)) ∈ lw_tbl := lw_at lw_m8 52 rfl
theorem q1828 : (Jvm.Cond.instanceMethod ({ cls := "AutoIndenter", name := "changesOf", desc := "(II)I" } : Jvm.MethodName)) ∈ lw_all := lw_g (lw_at lw_m8 53 rfl) rfl
theorem q1829 : (Jvm.Cond.code ({ cls := "AutoIndenter", name := "changesOf", desc := "(II)I" } : Jvm.MethodName) prog_1_method_49_code (6 : Nat) (Option.some Jvm.ClassFile.FieldType.int)) ∈ lw_all := lw_g (lw_at lw_m8 54 rfl) rfl
theorem q1830 : (Jvm.Cond.classLink "AutoIndenter" (272 : Nat) "java/util/HashMap") ∈ lw_all := lw_g (lw_at lw_m8 55 rfl) rfl
theorem q1831 : (Jvm.Cond.methodLink "AutoIndenter" (274 : Nat) ({ cls := "java/util/HashMap", name := "<init>", desc := "()V" } : Jvm.MethodName)) ∈ lw_all := lw_g (lw_at lw_m8 56 rfl) rfl
theorem q1832 : (Jvm.Cond.classLink "AutoIndenter" (275 : Nat) "AutoIndenter$Setting") ∈ lw_all := lw_g (lw_at lw_m8 57 rfl) rfl
theorem q1834 : (Jvm.Cond.methodLink "AutoIndenter" (277 : Nat) ({ cls := "AutoIndenter$Setting", name := "<init>", desc := "(II)V" } : Jvm.MethodName)) ∈ lw_all := lw_g (lw_at lw_m8 59 rfl) rfl
theorem q1839 : (Jvm.Cond.fieldLinkNest "AutoIndenter" (296 : Nat) "AutoIndenter$Setting" "step" "I" "AutoIndenter") ∈ lw_tbl := lw_at lw_m8 64 rfl
theorem q1841 : (Jvm.Cond.fieldLinkNest "AutoIndenter" (297 : Nat) "AutoIndenter$Setting" "base" "I" "AutoIndenter") ∈ lw_tbl := lw_at lw_m8 66 rfl
theorem q1847 : (Jvm.Cond.methodLink "AutoIndenter" (279 : Nat) ({ cls := "java/util/HashMap", name := "get", desc := "(Ljava/lang/Object;)Ljava/lang/Object;" } : Jvm.MethodName)) ∈ lw_all := lw_g (lw_at lw_m8 72 rfl) rfl
theorem q1848 : (Jvm.Cond.classLink "AutoIndenter" (209 : Nat) "java/lang/Integer") ∈ lw_all := lw_g (lw_at lw_m8 73 rfl) rfl
theorem q1849 : (Jvm.Cond.methodLink "AutoIndenter" (282 : Nat) ({ cls := "java/lang/Integer", name := "intValue", desc := "()I" } : Jvm.MethodName)) ∈ lw_all := lw_g (lw_at lw_m8 74 rfl) rfl
theorem q1850 : (Jvm.Cond.methodLink "AutoIndenter" (285 : Nat) ({ cls := "java/lang/Integer", name := "valueOf", desc := "(I)Ljava/lang/Integer;" } : Jvm.MethodName)) ∈ lw_all := lw_g (lw_at lw_m8 75 rfl) rfl
theorem q1851 : (Jvm.Cond.methodLink "AutoIndenter" (289 : Nat) ({ cls := "java/util/HashMap", name := "put", desc := "(Ljava/lang/Object;Ljava/lang/Object;)Ljava/lang/Object;" } : Jvm.MethodName)) ∈ lw_all := lw_g (lw_at lw_m8 76 rfl) rfl
theorem q1853 : (Jvm.Cond.instanceMethod ({ cls := "AutoIndenter", name := "fewestChanges", desc := "()I" } : Jvm.MethodName)) ∈ lw_all := lw_g (lw_at lw_m8 78 rfl) rfl
theorem q1854 : (Jvm.Cond.selects "AutoIndenter" ({ cls := "AutoIndenter", name := "fewestChanges", desc := "()I" } : Jvm.MethodName) ({ cls := "AutoIndenter", name := "fewestChanges", desc := "()I" } : Jvm.MethodName)) ∈ lw_all := lw_g (lw_at lw_m8 79 rfl) rfl
theorem q1855 : (Jvm.Cond.code ({ cls := "AutoIndenter", name := "fewestChanges", desc := "()I" } : Jvm.MethodName) prog_1_method_52_code (2 : Nat) (Option.some Jvm.ClassFile.FieldType.int)) ∈ lw_all := lw_g (lw_at lw_m8 80 rfl) rfl
theorem q1856 : (Jvm.Cond.methodLink "AutoIndenter" (298 : Nat) ({ cls := "AutoIndenter", name := "best", desc := "()LAutoIndenter$Setting;" } : Jvm.MethodName)) ∈ lw_all := lw_g (lw_at lw_m8 81 rfl) rfl
theorem q1857 : (Jvm.Cond.privateMethod ({ cls := "AutoIndenter", name := "best", desc := "()LAutoIndenter$Setting;" } : Jvm.MethodName)) ∈ lw_tbl := lw_at lw_m8 82 rfl
theorem q1858 : (Jvm.Cond.instanceMethod ({ cls := "AutoIndenter", name := "best", desc := "()LAutoIndenter$Setting;" } : Jvm.MethodName)) ∈ lw_all := lw_g (lw_at lw_m8 83 rfl) rfl
theorem q1859 : (Jvm.Cond.code ({ cls := "AutoIndenter", name := "best", desc := "()LAutoIndenter$Setting;" } : Jvm.MethodName) prog_1_method_51_code (4 : Nat) (Option.some (Jvm.ClassFile.FieldType.object "AutoIndenter$Setting"))) ∈ lw_all := lw_g (lw_at lw_m8 84 rfl) rfl
theorem q1861 : (Jvm.Cond.instanceMethod ({ cls := "AutoIndenter", name := "bestStep", desc := "()I" } : Jvm.MethodName)) ∈ lw_all := lw_g (lw_at lw_m8 86 rfl) rfl
theorem q1862 : (Jvm.Cond.selects "AutoIndenter" ({ cls := "AutoIndenter", name := "bestStep", desc := "()I" } : Jvm.MethodName) ({ cls := "AutoIndenter", name := "bestStep", desc := "()I" } : Jvm.MethodName)) ∈ lw_all := lw_g (lw_at lw_m8 87 rfl) rfl
theorem q1863 : (Jvm.Cond.code ({ cls := "AutoIndenter", name := "bestStep", desc := "()I" } : Jvm.MethodName) prog_1_method_53_code (1 : Nat) (Option.some Jvm.ClassFile.FieldType.int)) ∈ lw_all := lw_g (lw_at lw_m8 88 rfl) rfl
theorem q1865 : (Jvm.Cond.instanceMethod ({ cls := "AutoIndenter", name := "bestBase", desc := "()I" } : Jvm.MethodName)) ∈ lw_all := lw_g (lw_at lw_m8 90 rfl) rfl
theorem q1866 : (Jvm.Cond.selects "AutoIndenter" ({ cls := "AutoIndenter", name := "bestBase", desc := "()I" } : Jvm.MethodName) ({ cls := "AutoIndenter", name := "bestBase", desc := "()I" } : Jvm.MethodName)) ∈ lw_all := lw_g (lw_at lw_m8 91 rfl) rfl
theorem q1867 : (Jvm.Cond.code ({ cls := "AutoIndenter", name := "bestBase", desc := "()I" } : Jvm.MethodName) prog_1_method_54_code (1 : Nat) (Option.some Jvm.ClassFile.FieldType.int)) ∈ lw_all := lw_g (lw_at lw_m8 92 rfl) rfl
theorem q1869 : (Jvm.Cond.instanceMethod ({ cls := "AutoIndenter", name := "tokens", desc := "(I)I" } : Jvm.MethodName)) ∈ lw_all := lw_g (lw_at lw_m8 94 rfl) rfl
theorem q1870 : (Jvm.Cond.selects "AutoIndenter" ({ cls := "AutoIndenter", name := "tokens", desc := "(I)I" } : Jvm.MethodName) ({ cls := "AutoIndenter", name := "tokens", desc := "(I)I" } : Jvm.MethodName)) ∈ lw_all := lw_g (lw_at lw_m8 95 rfl) rfl
theorem q1871 : (Jvm.Cond.code ({ cls := "AutoIndenter", name := "tokens", desc := "(I)I" } : Jvm.MethodName) prog_1_method_56_code (2 : Nat) (Option.some Jvm.ClassFile.FieldType.int)) ∈ lw_all := lw_g (lw_at lw_m8 96 rfl) rfl
theorem q1872 : (Jvm.Cond.methodLink "AutoIndenter" (302 : Nat) ({ cls := "AutoIndenter$Tokens", name := "count", desc := "(I)I" } : Jvm.MethodName)) ∈ lw_all := lw_g (lw_at lw_m8 97 rfl) rfl
theorem q1874 : (Jvm.Cond.instanceMethod ({ cls := "AutoIndenter", name := "tokenAt", desc := "(II)I" } : Jvm.MethodName)) ∈ lw_all := lw_g (lw_at lw_m8 99 rfl) rfl
theorem q1875 : (Jvm.Cond.selects "AutoIndenter" ({ cls := "AutoIndenter", name := "tokenAt", desc := "(II)I" } : Jvm.MethodName) ({ cls := "AutoIndenter", name := "tokenAt", desc := "(II)I" } : Jvm.MethodName)) ∈ lw_all := lw_g (lw_at lw_m8 100 rfl) rfl
theorem q1876 : (Jvm.Cond.code ({ cls := "AutoIndenter", name := "tokenAt", desc := "(II)I" } : Jvm.MethodName) prog_1_method_57_code (3 : Nat) (Option.some Jvm.ClassFile.FieldType.int)) ∈ lw_all := lw_g (lw_at lw_m8 101 rfl) rfl
theorem q1877 : (Jvm.Cond.methodLink "AutoIndenter" (305 : Nat) ({ cls := "AutoIndenter", name := "isToken", desc := "(II)Z" } : Jvm.MethodName)) ∈ lw_all := lw_g (lw_at lw_m8 102 rfl) rfl
theorem q1878 : (Jvm.Cond.privateMethod ({ cls := "AutoIndenter", name := "isToken", desc := "(II)Z" } : Jvm.MethodName)) ∈ lw_tbl := lw_at lw_m8 103 rfl
theorem q1879 : (Jvm.Cond.instanceMethod ({ cls := "AutoIndenter", name := "isToken", desc := "(II)Z" } : Jvm.MethodName)) ∈ lw_all := lw_g (lw_at lw_m8 104 rfl) rfl
theorem q1880 : (Jvm.Cond.code ({ cls := "AutoIndenter", name := "isToken", desc := "(II)Z" } : Jvm.MethodName) prog_1_method_55_code (3 : Nat) (Option.some Jvm.ClassFile.FieldType.boolean)) ∈ lw_all := lw_g (lw_at lw_m8 105 rfl) rfl
theorem q1881 : (Jvm.Cond.methodLink "AutoIndenter" (308 : Nat) ({ cls := "AutoIndenter$Tokens", name := "get", desc := "(II)LAutoIndenter$Token;" } : Jvm.MethodName)) ∈ lw_all := lw_g (lw_at lw_m8 106 rfl) rfl
theorem q1883 : (Jvm.Cond.instanceMethod ({ cls := "AutoIndenter", name := "tokenLength", desc := "(II)I" } : Jvm.MethodName)) ∈ lw_all := lw_g (lw_at lw_m8 108 rfl) rfl
theorem q1884 : (Jvm.Cond.selects "AutoIndenter" ({ cls := "AutoIndenter", name := "tokenLength", desc := "(II)I" } : Jvm.MethodName) ({ cls := "AutoIndenter", name := "tokenLength", desc := "(II)I" } : Jvm.MethodName)) ∈ lw_all := lw_g (lw_at lw_m8 109 rfl) rfl
theorem q1885 : (Jvm.Cond.code ({ cls := "AutoIndenter", name := "tokenLength", desc := "(II)I" } : Jvm.MethodName) prog_1_method_58_code (3 : Nat) (Option.some Jvm.ClassFile.FieldType.int)) ∈ lw_all := lw_g (lw_at lw_m8 110 rfl) rfl
theorem q1887 : (Jvm.Cond.instanceMethod ({ cls := "AutoIndenter", name := "tokenKind", desc := "(II)I" } : Jvm.MethodName)) ∈ lw_all := lw_g (lw_at lw_m8 112 rfl) rfl
theorem q1888 : (Jvm.Cond.selects "AutoIndenter" ({ cls := "AutoIndenter", name := "tokenKind", desc := "(II)I" } : Jvm.MethodName) ({ cls := "AutoIndenter", name := "tokenKind", desc := "(II)I" } : Jvm.MethodName)) ∈ lw_all := lw_g (lw_at lw_m8 113 rfl) rfl
theorem q1889 : (Jvm.Cond.code ({ cls := "AutoIndenter", name := "tokenKind", desc := "(II)I" } : Jvm.MethodName) prog_1_method_59_code (3 : Nat) (Option.some Jvm.ClassFile.FieldType.int)) ∈ lw_all := lw_g (lw_at lw_m8 114 rfl) rfl
theorem q1891 : (Jvm.Cond.instanceMethod ({ cls := "AutoIndenter", name := "openedBy", desc := "(II)I" } : Jvm.MethodName)) ∈ lw_all := lw_g (lw_at lw_m8 116 rfl) rfl
theorem q1892 : (Jvm.Cond.selects "AutoIndenter" ({ cls := "AutoIndenter", name := "openedBy", desc := "(II)I" } : Jvm.MethodName) ({ cls := "AutoIndenter", name := "openedBy", desc := "(II)I" } : Jvm.MethodName)) ∈ lw_all := lw_g (lw_at lw_m8 117 rfl) rfl
theorem q1893 : (Jvm.Cond.code ({ cls := "AutoIndenter", name := "openedBy", desc := "(II)I" } : Jvm.MethodName) prog_1_method_61_code (4 : Nat) (Option.some Jvm.ClassFile.FieldType.int)) ∈ lw_all := lw_g (lw_at lw_m8 118 rfl) rfl
theorem q1894 : (Jvm.Cond.methodLink "AutoIndenter" (329 : Nat) ({ cls := "AutoIndenter", name := "placeOf", desc := "(I)I" } : Jvm.MethodName)) ∈ lw_all := lw_g (lw_at lw_m8 119 rfl) rfl
theorem q1895 : (Jvm.Cond.privateMethod ({ cls := "AutoIndenter", name := "placeOf", desc := "(I)I" } : Jvm.MethodName)) ∈ lw_tbl := lw_at lw_m8 120 rfl
theorem q1896 : (Jvm.Cond.instanceMethod ({ cls := "AutoIndenter", name := "placeOf", desc := "(I)I" } : Jvm.MethodName)) ∈ lw_all := lw_g (lw_at lw_m8 121 rfl) rfl
theorem q1897 : (Jvm.Cond.code ({ cls := "AutoIndenter", name := "placeOf", desc := "(I)I" } : Jvm.MethodName) prog_1_method_60_code (4 : Nat) (Option.some Jvm.ClassFile.FieldType.int)) ∈ lw_all := lw_g (lw_at lw_m8 122 rfl) rfl
theorem q1898 : (Jvm.Cond.classLink "AutoIndenter" (312 : Nat) "AutoIndenter$Token") ∈ lw_all := lw_g (lw_at lw_m8 123 rfl) rfl
theorem q1900 : (Jvm.Cond.instanceMethod ({ cls := "AutoIndenter", name := "closedBy", desc := "(II)I" } : Jvm.MethodName)) ∈ lw_all := lw_g (lw_at lw_m8 125 rfl) rfl
theorem q1901 : (Jvm.Cond.selects "AutoIndenter" ({ cls := "AutoIndenter", name := "closedBy", desc := "(II)I" } : Jvm.MethodName) ({ cls := "AutoIndenter", name := "closedBy", desc := "(II)I" } : Jvm.MethodName)) ∈ lw_all := lw_g (lw_at lw_m8 126 rfl) rfl
theorem q1902 : (Jvm.Cond.code ({ cls := "AutoIndenter", name := "closedBy", desc := "(II)I" } : Jvm.MethodName) prog_1_method_62_code (4 : Nat) (Option.some Jvm.ClassFile.FieldType.int)) ∈ lw_all := lw_g (lw_at lw_m8 127 rfl) rfl
theorem q1904 : (Jvm.Cond.instanceMethod ({ cls := "AutoIndenter", name := "depth", desc := "(I)I" } : Jvm.MethodName)) ∈ lw_all := lw_g (lw_at lw_m8 129 rfl) rfl
theorem q1905 : (Jvm.Cond.selects "AutoIndenter" ({ cls := "AutoIndenter", name := "depth", desc := "(I)I" } : Jvm.MethodName) ({ cls := "AutoIndenter", name := "depth", desc := "(I)I" } : Jvm.MethodName)) ∈ lw_all := lw_g (lw_at lw_m8 130 rfl) rfl
theorem q1906 : (Jvm.Cond.code ({ cls := "AutoIndenter", name := "depth", desc := "(I)I" } : Jvm.MethodName) prog_1_method_63_code (2 : Nat) (Option.some Jvm.ClassFile.FieldType.int)) ∈ lw_all := lw_g (lw_at lw_m8 131 rfl) rfl
theorem q1908 : (Jvm.Cond.instanceMethod ({ cls := "AutoIndenter", name := "blockRule", desc := "(II)I" } : Jvm.MethodName)) ∈ lw_all := lw_g (lw_at lw_m8 133 rfl) rfl
theorem q1909 : (Jvm.Cond.selects "AutoIndenter" ({ cls := "AutoIndenter", name := "blockRule", desc := "(II)I" } : Jvm.MethodName) ({ cls := "AutoIndenter", name := "blockRule", desc := "(II)I" } : Jvm.MethodName)) ∈ lw_all := lw_g (lw_at lw_m8 134 rfl) rfl
theorem q1910 : (Jvm.Cond.code ({ cls := "AutoIndenter", name := "blockRule", desc := "(II)I" } : Jvm.MethodName) prog_1_method_66_code (3 : Nat) (Option.some Jvm.ClassFile.FieldType.int)) ∈ lw_all := lw_g (lw_at lw_m8 135 rfl) rfl
theorem q1911 : (Jvm.Cond.methodLink "AutoIndenter" (341 : Nat) ({ cls := "AutoIndenter", name := "isBlock", desc := "(II)Z" } : Jvm.MethodName)) ∈ lw_all := lw_g (lw_at lw_m8 136 rfl) rfl
theorem q1912 : (Jvm.Cond.privateMethod ({ cls := "AutoIndenter", name := "isBlock", desc := "(II)Z" } : Jvm.MethodName)) ∈ lw_tbl := lw_at lw_m8 137 rfl
theorem q1913 : (Jvm.Cond.instanceMethod ({ cls := "AutoIndenter", name := "isBlock", desc := "(II)Z" } : Jvm.MethodName)) ∈ lw_all := lw_g (lw_at lw_m8 138 rfl) rfl
theorem q1914 : (Jvm.Cond.code ({ cls := "AutoIndenter", name := "isBlock", desc := "(II)Z" } : Jvm.MethodName) prog_1_method_64_code (3 : Nat) (Option.some Jvm.ClassFile.FieldType.boolean)) ∈ lw_all := lw_g (lw_at lw_m8 139 rfl) rfl
theorem q1915 : (Jvm.Cond.methodLink "AutoIndenter" (344 : Nat) ({ cls := "AutoIndenter", name := "opening", desc := "(I)LAutoIndenter$Token;" } : Jvm.MethodName)) ∈ lw_all := lw_g (lw_at lw_m8 140 rfl) rfl
theorem q1916 : (Jvm.Cond.privateMethod ({ cls := "AutoIndenter", name := "opening", desc := "(I)LAutoIndenter$Token;" } : Jvm.MethodName)) ∈ lw_tbl := lw_at lw_m8 141 rfl
theorem q1917 : (Jvm.Cond.instanceMethod ({ cls := "AutoIndenter", name := "opening", desc := "(I)LAutoIndenter$Token;" } : Jvm.MethodName)) ∈ lw_all := lw_g (lw_at lw_m8 142 rfl) rfl
theorem q1918 : (Jvm.Cond.code ({ cls := "AutoIndenter", name := "opening", desc := "(I)LAutoIndenter$Token;" } : Jvm.MethodName) prog_1_method_65_code (2 : Nat) (Option.some (Jvm.ClassFile.FieldType.object "AutoIndenter$Token"))) ∈ lw_all := lw_g (lw_at lw_m8 143 rfl) rfl
theorem q1920 : (Jvm.Cond.instanceMethod ({ cls := "AutoIndenter", name := "blockOpening", desc := "(II)I" } : Jvm.MethodName)) ∈ lw_all := lw_g (lw_at lw_m8 145 rfl) rfl
theorem q1921 : (Jvm.Cond.selects "AutoIndenter" ({ cls := "AutoIndenter", name := "blockOpening", desc := "(II)I" } : Jvm.MethodName) ({ cls := "AutoIndenter", name := "blockOpening", desc := "(II)I" } : Jvm.MethodName)) ∈ lw_all := lw_g (lw_at lw_m8 146 rfl) rfl
theorem q1922 : (Jvm.Cond.code ({ cls := "AutoIndenter", name := "blockOpening", desc := "(II)I" } : Jvm.MethodName) prog_1_method_67_code (4 : Nat) (Option.some Jvm.ClassFile.FieldType.int)) ∈ lw_all := lw_g (lw_at lw_m8 147 rfl) rfl
theorem q1924 : (Jvm.Cond.instanceMethod ({ cls := "AutoIndenter", name := "contentColumn", desc := "(II)I" } : Jvm.MethodName)) ∈ lw_all := lw_g (lw_at lw_m8 149 rfl) rfl
theorem q1925 : (Jvm.Cond.selects "AutoIndenter" ({ cls := "AutoIndenter", name := "contentColumn", desc := "(II)I" } : Jvm.MethodName) ({ cls := "AutoIndenter", name := "contentColumn", desc := "(II)I" } : Jvm.MethodName)) ∈ lw_all := lw_g (lw_at lw_m8 150 rfl) rfl
theorem q1926 : (Jvm.Cond.code ({ cls := "AutoIndenter", name := "contentColumn", desc := "(II)I" } : Jvm.MethodName) prog_1_method_68_code (3 : Nat) (Option.some Jvm.ClassFile.FieldType.int)) ∈ lw_all := lw_g (lw_at lw_m8 151 rfl) rfl
theorem q1928 : (Jvm.Cond.instanceMethod ({ cls := "AutoIndenter", name := "strays", desc := "()I" } : Jvm.MethodName)) ∈ lw_all := lw_g (lw_at lw_m8 153 rfl) rfl
theorem q1929 : (Jvm.Cond.selects "AutoIndenter" ({ cls := "AutoIndenter", name := "strays", desc := "()I" } : Jvm.MethodName) ({ cls := "AutoIndenter", name := "strays", desc := "()I" } : Jvm.MethodName)) ∈ lw_all := lw_g (lw_at lw_m8 154 rfl) rfl
theorem q1930 : (Jvm.Cond.code ({ cls := "AutoIndenter", name := "strays", desc := "()I" } : Jvm.MethodName) prog_1_method_69_code (1 : Nat) (Option.some Jvm.ClassFile.FieldType.int)) ∈ lw_all := lw_g (lw_at lw_m8 155 rfl) rfl
theorem q1932 : (Jvm.Cond.instanceMethod ({ cls := "AutoIndenter", name := "lost", desc := "()I" } : Jvm.MethodName)) ∈ lw_all := lw_g (lw_at lw_m8 157 rfl) rfl
theorem q1933 : (Jvm.Cond.selects "AutoIndenter" ({ cls := "AutoIndenter", name := "lost", desc := "()I" } : Jvm.MethodName) ({ cls := "AutoIndenter", name := "lost", desc := "()I" } : Jvm.MethodName)) ∈ lw_all := lw_g (lw_at lw_m8 158 rfl) rfl
theorem q1934 : (Jvm.Cond.code ({ cls := "AutoIndenter", name := "lost", desc := "()I" } : Jvm.MethodName) prog_1_method_70_code (1 : Nat) (Option.some Jvm.ClassFile.FieldType.int)) ∈ lw_all := lw_g (lw_at lw_m8 159 rfl) rfl
theorem q1936 : (Jvm.Cond.instanceMethod ({ cls := "AutoIndenter", name := "vocabulary", desc := "()I" } : Jvm.MethodName)) ∈ lw_all := lw_g (lw_at lw_m8 161 rfl) rfl
theorem q1937 : (Jvm.Cond.selects "AutoIndenter" ({ cls := "AutoIndenter", name := "vocabulary", desc := "()I" } : Jvm.MethodName) ({ cls := "AutoIndenter", name := "vocabulary", desc := "()I" } : Jvm.MethodName)) ∈ lw_all := lw_g (lw_at lw_m8 162 rfl) rfl
theorem q1938 : (Jvm.Cond.code ({ cls := "AutoIndenter", name := "vocabulary", desc := "()I" } : Jvm.MethodName) prog_1_method_73_code (1 : Nat) (Option.some Jvm.ClassFile.FieldType.int)) ∈ lw_all := lw_g (lw_at lw_m8 163 rfl) rfl
theorem q1939 : (Jvm.Cond.methodLink "AutoIndenter" (387 : Nat) ({ cls := "AutoIndenter", name := "counted", desc := "()Ljava/util/LinkedHashMap;" } : Jvm.MethodName)) ∈ lw_all := lw_g (lw_at lw_m8 164 rfl) rfl
theorem q1940 : (Jvm.Cond.privateMethod ({ cls := "AutoIndenter", name := "counted", desc := "()Ljava/util/LinkedHashMap;" } : Jvm.MethodName)) ∈ lw_tbl := lw_at lw_m8 165 rfl
theorem q1941 : (Jvm.Cond.instanceMethod ({ cls := "AutoIndenter", name := "counted", desc := "()Ljava/util/LinkedHashMap;" } : Jvm.MethodName)) ∈ lw_all := lw_g (lw_at lw_m8 166 rfl) rfl
theorem q1942 : (Jvm.Cond.code ({ cls := "AutoIndenter", name := "counted", desc := "()Ljava/util/LinkedHashMap;" } : Jvm.MethodName) prog_1_method_71_code (6 : Nat) (Option.some (Jvm.ClassFile.FieldType.object "java/util/LinkedHashMap"))) ∈ lw_all := lw_g (lw_at lw_m8 167 rfl) rfl
theorem q1943 : (Jvm.Cond.classLink "AutoIndenter" (360 : Nat) "java/util/LinkedHashMap") ∈ lw_all := lw_g (lw_at lw_m8 168 rfl) rfl
theorem q1944 : (Jvm.Cond.methodLink "AutoIndenter" (362 : Nat) ({ cls := "java/util/LinkedHashMap", name := "<init>", desc := "()V" } : Jvm.MethodName)) ∈ lw_all := lw_g (lw_at lw_m8 169 rfl) rfl
theorem q1971 : (Jvm.Cond.methodLink "AutoIndenter" (366 : Nat) ({ cls := "java/util/LinkedHashMap", name := "get", desc := "(Ljava/lang/Object;)Ljava/lang/Object;" } : Jvm.MethodName)) ∈ lw_all := lw_g (lw_at lw_m8 196 rfl) rfl
theorem q1972 : (Jvm.Cond.methodLink "AutoIndenter" (367 : Nat) ({ cls := "java/util/LinkedHashMap", name := "put", desc := "(Ljava/lang/Object;Ljava/lang/Object;)Ljava/lang/Object;" } : Jvm.MethodName)) ∈ lw_all := lw_g (lw_at lw_m8 197 rfl) rfl
theorem q1976 : (Jvm.Cond.methodLink "AutoIndenter" (391 : Nat) ({ cls := "java/util/LinkedHashMap", name := "size", desc := "()I" } : Jvm.MethodName)) ∈ lw_all := lw_g (lw_at lw_m8 201 rfl) rfl
theorem q1983 : (Jvm.Cond.instanceMethod ({ cls := "AutoIndenter", name := "commonestCount", desc := "()I" } : Jvm.MethodName)) ∈ lw_all := lw_g (lw_at lw_m8 208 rfl) rfl
theorem q1984 : (Jvm.Cond.selects "AutoIndenter" ({ cls := "AutoIndenter", name := "commonestCount", desc := "()I" } : Jvm.MethodName) ({ cls := "AutoIndenter", name := "commonestCount", desc := "()I" } : Jvm.MethodName)) ∈ lw_all := lw_g (lw_at lw_m8 209 rfl) rfl
theorem q1985 : (Jvm.Cond.code ({ cls := "AutoIndenter", name := "commonestCount", desc := "()I" } : Jvm.MethodName) prog_1_method_74_code (3 : Nat) (Option.some Jvm.ClassFile.FieldType.int)) ∈ lw_all := lw_g (lw_at lw_m8 210 rfl) rfl
theorem q1986 : (Jvm.Cond.methodLink "AutoIndenter" (392 : Nat) ({ cls := "AutoIndenter", name := "commonest", desc := "(Ljava/util/LinkedHashMap;)I" } : Jvm.MethodName)) ∈ lw_all := lw_g (lw_at lw_m8 211 rfl) rfl
theorem q1987 : (Jvm.Cond.static ({ cls := "AutoIndenter", name := "commonest", desc := "(Ljava/util/LinkedHashMap;)I" } : Jvm.MethodName)) ∈ lw_all := lw_g (lw_at lw_m8 212 rfl) rfl
theorem q1988 : (Jvm.Cond.code ({ cls := "AutoIndenter", name := "commonest", desc := "(Ljava/util/LinkedHashMap;)I" } : Jvm.MethodName) prog_1_method_72_code (6 : Nat) (Option.some Jvm.ClassFile.FieldType.int)) ∈ lw_all := lw_g (lw_at lw_m8 213 rfl) rfl
theorem q1989 : (Jvm.Cond.methodLink "AutoIndenter" (368 : Nat) ({ cls := "java/util/LinkedHashMap", name := "keySet", desc := "()Ljava/util/Set;" } : Jvm.MethodName)) ∈ lw_all := lw_g (lw_at lw_m8 214 rfl) rfl
theorem q2011 : (Jvm.Cond.interfaceEntry "AutoIndenter" (372 : Nat)) ∈ lw_tbl := lw_at lw_m8 236 rfl
theorem q2012 : (Jvm.Cond.methodLink "AutoIndenter" (372 : Nat) ({ cls := "java/util/Set", name := "iterator", desc := "()Ljava/util/Iterator;" } : Jvm.MethodName)) ∈ lw_all := lw_g (lw_at lw_m8 237 rfl) rfl
theorem q2101 : (Jvm.Cond.interfaceEntry "AutoIndenter" (378 : Nat)) ∈ lw_tbl := lw_at lw_m9 86 rfl
theorem q2102 : (Jvm.Cond.methodLink "AutoIndenter" (378 : Nat) ({ cls := "java/util/Iterator", name := "hasNext", desc := "()Z" } : Jvm.MethodName)) ∈ lw_all := lw_g (lw_at lw_m9 87 rfl) rfl
theorem q2117 : (Jvm.Cond.interfaceEntry "AutoIndenter" (383 : Nat)) ∈ lw_tbl := lw_at lw_m9 102 rfl
theorem q2118 : (Jvm.Cond.methodLink "AutoIndenter" (383 : Nat) ({ cls := "java/util/Iterator", name := "next", desc := "()Ljava/lang/Object;" } : Jvm.MethodName)) ∈ lw_all := lw_g (lw_at lw_m9 103 rfl) rfl
theorem q2151 : (Jvm.Cond.instanceMethod ({ cls := "AutoIndenter", name := "commonestByte", desc := "(I)I" } : Jvm.MethodName)) ∈ lw_all := lw_g (lw_at lw_m9 136 rfl) rfl
theorem q2152 : (Jvm.Cond.selects "AutoIndenter" ({ cls := "AutoIndenter", name := "commonestByte", desc := "(I)I" } : Jvm.MethodName) ({ cls := "AutoIndenter", name := "commonestByte", desc := "(I)I" } : Jvm.MethodName)) ∈ lw_all := lw_g (lw_at lw_m9 137 rfl) rfl
theorem q2153 : (Jvm.Cond.code ({ cls := "AutoIndenter", name := "commonestByte", desc := "(I)I" } : Jvm.MethodName) prog_1_method_75_code (4 : Nat) (Option.some Jvm.ClassFile.FieldType.int)) ∈ lw_all := lw_g (lw_at lw_m9 138 rfl) rfl
theorem q2154 : (Jvm.Cond.classLink "AutoIndenter" (161 : Nat) "java/lang/String") ∈ lw_all := lw_g (lw_at lw_m9 139 rfl) rfl
theorem q2156 : (Jvm.Cond.instanceMethod ({ cls := "AutoIndenter", name := "undo", desc := "()I" } : Jvm.MethodName)) ∈ lw_all := lw_g (lw_at lw_m9 141 rfl) rfl
theorem q2157 : (Jvm.Cond.selects "AutoIndenter" ({ cls := "AutoIndenter", name := "undo", desc := "()I" } : Jvm.MethodName) ({ cls := "AutoIndenter", name := "undo", desc := "()I" } : Jvm.MethodName)) ∈ lw_all := lw_g (lw_at lw_m9 142 rfl) rfl
theorem q2158 : (Jvm.Cond.code ({ cls := "AutoIndenter", name := "undo", desc := "()I" } : Jvm.MethodName) prog_1_method_76_code (1 : Nat) (Option.some Jvm.ClassFile.FieldType.int)) ∈ lw_all := lw_g (lw_at lw_m9 143 rfl) rfl
theorem q2159 : (Jvm.Cond.methodLink "AutoIndenter" (399 : Nat) ({ cls := "java/util/ArrayList", name := "isEmpty", desc := "()Z" } : Jvm.MethodName)) ∈ lw_all := lw_g (lw_at lw_m9 144 rfl) rfl
theorem q2164 : (Jvm.Cond.instanceMethod ({ cls := "AutoIndenter", name := "keep", desc := "(I)I" } : Jvm.MethodName)) ∈ lw_all := lw_g (lw_at lw_m9 149 rfl) rfl
theorem q2165 : (Jvm.Cond.selects "AutoIndenter" ({ cls := "AutoIndenter", name := "keep", desc := "(I)I" } : Jvm.MethodName) ({ cls := "AutoIndenter", name := "keep", desc := "(I)I" } : Jvm.MethodName)) ∈ lw_all := lw_g (lw_at lw_m9 150 rfl) rfl
theorem q2166 : (Jvm.Cond.code ({ cls := "AutoIndenter", name := "keep", desc := "(I)I" } : Jvm.MethodName) prog_1_method_77_code (3 : Nat) (Option.some Jvm.ClassFile.FieldType.int)) ∈ lw_all := lw_g (lw_at lw_m9 151 rfl) rfl
theorem q2168 : (Jvm.Cond.instanceMethod ({ cls := "AutoIndenter", name := "back", desc := "(I)I" } : Jvm.MethodName)) ∈ lw_all := lw_g (lw_at lw_m9 153 rfl) rfl
theorem q2169 : (Jvm.Cond.selects "AutoIndenter" ({ cls := "AutoIndenter", name := "back", desc := "(I)I" } : Jvm.MethodName) ({ cls := "AutoIndenter", name := "back", desc := "(I)I" } : Jvm.MethodName)) ∈ lw_all := lw_g (lw_at lw_m9 154 rfl) rfl
theorem q2170 : (Jvm.Cond.code ({ cls := "AutoIndenter", name := "back", desc := "(I)I" } : Jvm.MethodName) prog_1_method_78_code (2 : Nat) (Option.some Jvm.ClassFile.FieldType.int)) ∈ lw_all := lw_g (lw_at lw_m9 155 rfl) rfl
theorem q2171 : (Jvm.Cond.methodLink "AutoIndenter" (402 : Nat) ({ cls := "java/util/ArrayList", name := "clear", desc := "()V" } : Jvm.MethodName)) ∈ lw_all := lw_g (lw_at lw_m9 156 rfl) rfl
theorem q2176 : (Jvm.Cond.instanceMethod ({ cls := "AutoIndenter", name := "draw", desc := "(II)I" } : Jvm.MethodName)) ∈ lw_all := lw_g (lw_at lw_m9 161 rfl) rfl
theorem q2177 : (Jvm.Cond.selects "AutoIndenter" ({ cls := "AutoIndenter", name := "draw", desc := "(II)I" } : Jvm.MethodName) ({ cls := "AutoIndenter", name := "draw", desc := "(II)I" } : Jvm.MethodName)) ∈ lw_all := lw_g (lw_at lw_m9 162 rfl) rfl
theorem q2178 : (Jvm.Cond.code ({ cls := "AutoIndenter", name := "draw", desc := "(II)I" } : Jvm.MethodName) prog_1_method_81_code (8 : Nat) (Option.some Jvm.ClassFile.FieldType.int)) ∈ lw_all := lw_g (lw_at lw_m9 163 rfl) rfl
theorem q2179 : (Jvm.Cond.methodLink "AutoIndenter" (440 : Nat) ({ cls := "AutoIndenter", name := "draws", desc := "()I" } : Jvm.MethodName)) ∈ lw_all := lw_g (lw_at lw_m9 164 rfl) rfl
theorem q2180 : (Jvm.Cond.privateMethod ({ cls := "AutoIndenter", name := "draws", desc := "()I" } : Jvm.MethodName)) ∈ lw_tbl := lw_at lw_m9 165 rfl
theorem q2181 : (Jvm.Cond.instanceMethod ({ cls := "AutoIndenter", name := "draws", desc := "()I" } : Jvm.MethodName)) ∈ lw_all := lw_g (lw_at lw_m9 166 rfl) rfl
theorem q2182 : (Jvm.Cond.code ({ cls := "AutoIndenter", name := "draws", desc := "()I" } : Jvm.MethodName) prog_1_method_79_code (1 : Nat) (Option.some Jvm.ClassFile.FieldType.int)) ∈ lw_all := lw_g (lw_at lw_m9 167 rfl) rfl
theorem q2183 : (Jvm.Cond.constant "AutoIndenter" (408 : Nat) (1103515245 : Int32)) ∈ lw_all := lw_g (lw_at lw_m9 168 rfl) rfl
theorem q2184 : (Jvm.Cond.methodLink "AutoIndenter" (443 : Nat) ({ cls := "AutoIndenter", name := "piece", desc := "(I)Ljava/lang/String;" } : Jvm.MethodName)) ∈ lw_all := lw_g (lw_at lw_m9 169 rfl) rfl
theorem q2185 : (Jvm.Cond.static ({ cls := "AutoIndenter", name := "piece", desc := "(I)Ljava/lang/String;" } : Jvm.MethodName)) ∈ lw_all := lw_g (lw_at lw_m9 170 rfl) rfl
theorem q2186 : (Jvm.Cond.code ({ cls := "AutoIndenter", name := "piece", desc := "(I)Ljava/lang/String;" } : Jvm.MethodName) prog_1_method_80_code (1 : Nat) (Option.some (Jvm.ClassFile.FieldType.object "java/lang/String"))) ∈ lw_all := lw_g (lw_at lw_m9 171 rfl) rfl
theorem q2187 : (Jvm.Cond.stringRef "AutoIndenter" (409 : Nat) "a(") ∈ lw_tbl := lw_at lw_m9 172 rfl
theorem q2188 : (Jvm.Cond.stringRef "AutoIndenter" (411 : Nat) ")") ∈ lw_tbl := lw_at lw_m9 173 rfl
theorem q2189 : (Jvm.Cond.stringRef "AutoIndenter" (413 : Nat) "{") ∈ lw_tbl := lw_at lw_m9 174 rfl
theorem q2190 : (Jvm.Cond.stringRef "AutoIndenter" (415 : Nat) "}") ∈ lw_tbl := lw_at lw_m9 175 rfl
theorem q2191 : (Jvm.Cond.stringRef "AutoIndenter" (417 : Nat) "[x,") ∈ lw_tbl := lw_at lw_m9 176 rfl
theorem q2192 : (Jvm.Cond.stringRef "AutoIndenter" (419 : Nat) "]") ∈ lw_tbl := lw_at lw_m9 177 rfl
theorem q2193 : (Jvm.Cond.stringRef "AutoIndenter" (421 : Nat) "begin") ∈ lw_tbl := lw_at lw_m9 178 rfl
theorem q2194 : (Jvm.Cond.stringRef "AutoIndenter" (422 : Nat) "end") ∈ lw_tbl := lw_at lw_m9 179 rfl
theorem q2195 : (Jvm.Cond.stringRef "AutoIndenter" (424 : Nat) "case") ∈ lw_tbl := lw_at lw_m9 180 rfl
theorem q2196 : (Jvm.Cond.stringRef "AutoIndenter" (426 : Nat) "\"s\"") ∈ lw_tbl := lw_at lw_m9 181 rfl
theorem q2197 : (Jvm.Cond.stringRef "AutoIndenter" (428 : Nat) "#c") ∈ lw_tbl := lw_at lw_m9 182 rfl
theorem q2198 : (Jvm.Cond.stringRef "AutoIndenter" (430 : Nat) "y+") ∈ lw_tbl := lw_at lw_m9 183 rfl
theorem q2199 : (Jvm.Cond.stringRef "AutoIndenter" (432 : Nat) "\"\"\"") ∈ lw_tbl := lw_at lw_m9 184 rfl
theorem q2200 : (Jvm.Cond.stringRef "AutoIndenter" (434 : Nat) "z") ∈ lw_tbl := lw_at lw_m9 185 rfl
theorem q2201 : (Jvm.Cond.stringRef "AutoIndenter" (436 : Nat) "f(b,") ∈ lw_tbl := lw_at lw_m9 186 rfl
theorem q2202 : (Jvm.Cond.stringRef "AutoIndenter" (438 : Nat) ";") ∈ lw_tbl := lw_at lw_m9 187 rfl
theorem q2204 : (Jvm.Cond.instanceMethod ({ cls := "AutoIndenter", name := "digest", desc := "()J" } : Jvm.MethodName)) ∈ lw_all := lw_g (lw_at lw_m9 189 rfl) rfl
theorem q2205 : (Jvm.Cond.selects "AutoIndenter" ({ cls := "AutoIndenter", name := "digest", desc := "()J" } : Jvm.MethodName) ({ cls := "AutoIndenter", name := "digest", desc := "()J" } : Jvm.MethodName)) ∈ lw_all := lw_g (lw_at lw_m9 190 rfl) rfl
theorem q2206 : (Jvm.Cond.code ({ cls := "AutoIndenter", name := "digest", desc := "()J" } : Jvm.MethodName) prog_1_method_85_code (5 : Nat) (Option.some Jvm.ClassFile.FieldType.long)) ∈ lw_all := lw_g (lw_at lw_m9 191 rfl) rfl
theorem q2207 : (Jvm.Cond.constantLong "AutoIndenter" (479 : Nat) (18310 : Int64)) ∈ lw_all := lw_g (lw_at lw_m9 192 rfl) rfl
theorem q2208 : (Jvm.Cond.methodLink "AutoIndenter" (449 : Nat) ({ cls := "AutoIndenter", name := "mixed", desc := "(JJ)J" } : Jvm.MethodName)) ∈ lw_all := lw_g (lw_at lw_m9 193 rfl) rfl
theorem q2209 : (Jvm.Cond.static ({ cls := "AutoIndenter", name := "mixed", desc := "(JJ)J" } : Jvm.MethodName)) ∈ lw_all := lw_g (lw_at lw_m9 194 rfl) rfl
theorem q2210 : (Jvm.Cond.code ({ cls := "AutoIndenter", name := "mixed", desc := "(JJ)J" } : Jvm.MethodName) prog_1_method_82_code (4 : Nat) (Option.some Jvm.ClassFile.FieldType.long)) ∈ lw_all := lw_g (lw_at lw_m9 195 rfl) rfl
theorem q2211 : (Jvm.Cond.constantLong "AutoIndenter" (447 : Nat) (31 : Int64)) ∈ lw_all := lw_g (lw_at lw_m9 196 rfl) rfl
theorem q2212 : (Jvm.Cond.methodLink "AutoIndenter" (464 : Nat) ({ cls := "AutoIndenter", name := "mixedText", desc := "(JLjava/lang/String;)J" } : Jvm.MethodName)) ∈ lw_all := lw_g (lw_at lw_m9 197 rfl) rfl
theorem q2213 : (Jvm.Cond.static ({ cls := "AutoIndenter", name := "mixedText", desc := "(JLjava/lang/String;)J" } : Jvm.MethodName)) ∈ lw_all := lw_g (lw_at lw_m9 198 rfl) rfl
theorem q2214 : (Jvm.Cond.code ({ cls := "AutoIndenter", name := "mixedText", desc := "(JLjava/lang/String;)J" } : Jvm.MethodName) prog_1_method_83_code (6 : Nat) (Option.some Jvm.ClassFile.FieldType.long)) ∈ lw_all := lw_g (lw_at lw_m9 199 rfl) rfl
theorem q2215 : (Jvm.Cond.methodLink "AutoIndenter" (481 : Nat) ({ cls := "AutoIndenter", name := "wanted", desc := "(I)I" } : Jvm.MethodName)) ∈ lw_all := lw_g (lw_at lw_m9 200 rfl) rfl
theorem q2216 : (Jvm.Cond.methodLink "AutoIndenter" (484 : Nat) ({ cls := "AutoIndenter", name := "mixedRule", desc := "(JLAutoIndenter$Rule;)J" } : Jvm.MethodName)) ∈ lw_all := lw_g (lw_at lw_m9 201 rfl) rfl
theorem q2217 : (Jvm.Cond.static ({ cls := "AutoIndenter", name := "mixedRule", desc := "(JLAutoIndenter$Rule;)J" } : Jvm.MethodName)) ∈ lw_all := lw_g (lw_at lw_m9 202 rfl) rfl
theorem q2218 : (Jvm.Cond.code ({ cls := "AutoIndenter", name := "mixedRule", desc := "(JLAutoIndenter$Rule;)J" } : Jvm.MethodName) prog_1_method_84_code (5 : Nat) (Option.some Jvm.ClassFile.FieldType.long)) ∈ lw_all := lw_g (lw_at lw_m9 203 rfl) rfl
theorem q2219 : (Jvm.Cond.constantLong "AutoIndenter" (474 : Nat) (32 : Int64)) ∈ lw_all := lw_g (lw_at lw_m9 204 rfl) rfl
theorem q2802 : (Jvm.Cond.castable "AutoIndenter" "java/lang/Object") ∈ lw_tbl := lw_at lw_m12 67 rfl
theorem in_X0 : ∀ w ∈ wsX00, w ∈ lw_all := lw_in wsX00 [221, 223, 225, 227, 229, 231, 233, 235, 237, 239] (by decide +kernel) (by decide +kernel)
