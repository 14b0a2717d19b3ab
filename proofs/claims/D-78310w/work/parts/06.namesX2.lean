/-! AutoIndenterModel -/
set_option maxRecDepth 100000
def RX2 : String := "AutoIndenterModel"
def TX2 : u_T := fun k => match k with
  | 0 => ("AutoIndenterModel", "page", "[I", true)
  | 1 => ("AutoIndenterModel", "remembered", "I", false)
  | 2 => ("AutoIndenterModel", "isKept", "[Z", true)
  | 3 => ("AutoIndenterModel", "text", "[I", true)
  | 4 => ("AutoIndenterModel", "typed", "I", false)
  | 5 => ("AutoIndenterModel", "tokenLine", "[I", true)
  | 6 => ("AutoIndenterModel", "tokenSpot", "[I", true)
  | 7 => ("AutoIndenterModel", "tokenLong", "[I", true)
  | 8 => ("AutoIndenterModel", "tokenSort", "[I", true)
  | 9 => ("AutoIndenterModel", "opens", "[I", true)
  | 10 => ("AutoIndenterModel", "closes", "[I", true)
  | 11 => ("AutoIndenterModel", "closer", "[I", true)
  | 12 => ("AutoIndenterModel", "many", "I", false)
  | 13 => ("AutoIndenterModel", "firstOf", "[I", true)
  | 14 => ("AutoIndenterModel", "isHeld", "[Z", true)
  | 15 => ("AutoIndenterModel", "depths", "[I", true)
  | 16 => ("AutoIndenterModel", "stacks", "[I", true)
  | 17 => ("AutoIndenterModel", "stack", "[I", true)
  | 18 => ("AutoIndenterModel", "stacked", "I", false)
  | 19 => ("AutoIndenterModel", "stray", "I", false)
  | 20 => ("AutoIndenterModel", "gone", "I", false)
  | 21 => ("AutoIndenterModel", "row", "[I", true)
  | 22 => ("AutoIndenterModel", "useStep", "I", false)
  | 23 => ("AutoIndenterModel", "useBase", "I", false)
  | 24 => ("AutoIndenterModel", "column", "I", false)
  | 25 => ("AutoIndenterModel", "why", "I", false)
  | 26 => ("AutoIndenterModel", "by", "I", false)
  | 27 => ("AutoIndenterModel", "weight", "I", false)
  | 28 => ("AutoIndenterModel", "lineFrom", "I", false)
  | 29 => ("AutoIndenterModel", "lineTo", "I", false)
  | 30 => ("AutoIndenterModel", "textFrom", "[I", true)
  | 31 => ("AutoIndenterModel", "textTo", "[I", true)
  | 32 => ("AutoIndenterModel", "spot", "I", false)
  | 33 => ("AutoIndenterModel", "fewest", "I", false)
  | 34 => ("AutoIndenterModel", "fewestStep", "I", false)
  | 35 => ("AutoIndenterModel", "fewestBase", "I", false)
  | 36 => ("AutoIndenterModel", "often", "I", false)
  | 37 => ("AutoIndenterModel", "drawn", "I", false)
  | 38 => ("AutoIndenterModel", "pieceEnds", "[I", true)
  | 39 => ("AutoIndenterModel", "pieces", "[I", true)
  | _ => ("AutoIndenterModel", "hash", "J", false)
def tyX2 : Nat → FieldType := fun k => match k with
  | 0 => .array .int
  | 1 => .int
  | 2 => .array .boolean
  | 3 => .array .int
  | 4 => .int
  | 5 => .array .int
  | 6 => .array .int
  | 7 => .array .int
  | 8 => .array .int
  | 9 => .array .int
  | 10 => .array .int
  | 11 => .array .int
  | 12 => .int
  | 13 => .array .int
  | 14 => .array .boolean
  | 15 => .array .int
  | 16 => .array .int
  | 17 => .array .int
  | 18 => .int
  | 19 => .int
  | 20 => .int
  | 21 => .array .int
  | 22 => .int
  | 23 => .int
  | 24 => .int
  | 25 => .int
  | 26 => .int
  | 27 => .int
  | 28 => .int
  | 29 => .int
  | 30 => .array .int
  | 31 => .array .int
  | 32 => .int
  | 33 => .int
  | 34 => .int
  | 35 => .int
  | 36 => .int
  | 37 => .int
  | 38 => .array .int
  | 39 => .array .int
  | _ => .long
abbrev wsX20 : List Cond := u_ws RX2 TX2 41
set_option maxRecDepth 100000 in
theorem nmX2 : ∀ a, a < 41 → ∀ b, b < 41 → a ≠ b → (TX2 a).2.1 ≠ (TX2 b).2.1 := by decide +kernel
set_option maxRecDepth 100000 in
theorem tyX2_ok : ∀ k, k < 41 → parseFieldDescriptor (TX2 k).2.2.1 = some (tyX2 k) := by decide +kernel
abbrev cX2_init : ByteArray := prog_10_method_1_code
def yX2_init : MethodName := ⟨RX2, "<init>", "()V"⟩
def dkwX2_init_20 : List UInt8 := [181, 0, 68, 42, 180, 0, 7, 17, 3, 209, 7, 79, 42, 180, 0, 7, 17, 3, 211, 16, 35, 79, 177]
abbrev dktX2_init_20 : List UInt8 := dkwX2_init_20 ++ []
def dkwX2_init_19 : List UInt8 := [16, 33, 16, 40, 79, 89, 16, 34, 16, 98, 79, 89, 16, 35, 16, 44, 79, 89, 16, 36, 16, 59, 79]
abbrev dktX2_init_19 : List UInt8 := dkwX2_init_19 ++ dktX2_init_20
def dkwX2_init_18 : List UInt8 := [16, 29, 16, 34, 79, 89, 16, 30, 16, 34, 79, 89, 16, 31, 16, 122, 79, 89, 16, 32, 16, 102, 79, 89]
abbrev dktX2_init_18 : List UInt8 := dkwX2_init_18 ++ dktX2_init_19
def dkwX2_init_17 : List UInt8 := [16, 25, 16, 99, 79, 89, 16, 26, 16, 121, 79, 89, 16, 27, 16, 43, 79, 89, 16, 28, 16, 34, 79, 89]
abbrev dktX2_init_17 : List UInt8 := dkwX2_init_17 ++ dktX2_init_18
def dkwX2_init_16 : List UInt8 := [16, 21, 16, 34, 79, 89, 16, 22, 16, 115, 79, 89, 16, 23, 16, 34, 79, 89, 16, 24, 16, 35, 79, 89]
abbrev dktX2_init_16 : List UInt8 := dkwX2_init_16 ++ dktX2_init_17
def dkwX2_init_15 : List UInt8 := [16, 17, 16, 99, 79, 89, 16, 18, 16, 97, 79, 89, 16, 19, 16, 115, 79, 89, 16, 20, 16, 101, 79, 89]
abbrev dktX2_init_15 : List UInt8 := dkwX2_init_15 ++ dktX2_init_16
def dkwX2_init_14 : List UInt8 := [16, 13, 16, 110, 79, 89, 16, 14, 16, 101, 79, 89, 16, 15, 16, 110, 79, 89, 16, 16, 16, 100, 79, 89]
abbrev dktX2_init_14 : List UInt8 := dkwX2_init_14 ++ dktX2_init_15
def dkwX2_init_13 : List UInt8 := [16, 9, 16, 98, 79, 89, 16, 10, 16, 101, 79, 89, 16, 11, 16, 103, 79, 89, 16, 12, 16, 105, 79, 89]
abbrev dktX2_init_13 : List UInt8 := dkwX2_init_13 ++ dktX2_init_14
def dkwX2_init_12 : List UInt8 := [89, 8, 16, 91, 79, 89, 16, 6, 16, 120, 79, 89, 16, 7, 16, 44, 79, 89, 16, 8, 16, 93, 79, 89]
abbrev dktX2_init_12 : List UInt8 := dkwX2_init_12 ++ dktX2_init_13
def dkwX2_init_11 : List UInt8 := [3, 16, 97, 79, 89, 4, 16, 40, 79, 89, 5, 16, 41, 79, 89, 6, 16, 123, 79, 89, 7, 16, 125, 79]
abbrev dktX2_init_11 : List UInt8 := dkwX2_init_11 ++ dktX2_init_12
def dkwX2_init_10 : List UInt8 := [16, 32, 79, 89, 16, 15, 16, 36, 79, 89, 16, 16, 16, 37, 79, 181, 0, 65, 42, 16, 37, 188, 10, 89]
abbrev dktX2_init_10 : List UInt8 := dkwX2_init_10 ++ dktX2_init_11
def dkwX2_init_9 : List UInt8 := [16, 24, 79, 89, 16, 11, 16, 26, 79, 89, 16, 12, 16, 28, 79, 89, 16, 13, 16, 31, 79, 89, 16, 14]
abbrev dktX2_init_9 : List UInt8 := dkwX2_init_9 ++ dktX2_init_10
def dkwX2_init_8 : List UInt8 := [16, 9, 79, 89, 16, 7, 16, 14, 79, 89, 16, 8, 16, 17, 79, 89, 16, 9, 16, 21, 79, 89, 16, 10]
abbrev dktX2_init_8 : List UInt8 := dkwX2_init_8 ++ dktX2_init_9
def dkwX2_init_7 : List UInt8 := [4, 5, 79, 89, 5, 6, 79, 89, 6, 7, 79, 89, 7, 8, 79, 89, 8, 16, 8, 79, 89, 16, 6]
abbrev dktX2_init_7 : List UInt8 := dkwX2_init_7 ++ dktX2_init_8
def dkwX2_init_6 : List UInt8 := [42, 5, 188, 10, 181, 0, 59, 42, 5, 188, 10, 181, 0, 62, 42, 16, 17, 188, 10, 89, 3, 3, 79, 89]
abbrev dktX2_init_6 : List UInt8 := dkwX2_init_6 ++ dktX2_init_7
def dkwX2_init_5 : List UInt8 := [17, 0, 252, 188, 10, 181, 0, 50, 42, 16, 12, 188, 10, 181, 0, 53, 42, 16, 20, 188, 10, 181, 0, 56]
abbrev dktX2_init_5 : List UInt8 := dkwX2_init_5 ++ dktX2_init_6
def dkwX2_init_4 : List UInt8 := [188, 10, 181, 0, 41, 42, 16, 20, 188, 4, 181, 0, 44, 42, 16, 21, 188, 10, 181, 0, 47, 42]
abbrev dktX2_init_4 : List UInt8 := dkwX2_init_4 ++ dktX2_init_5
def dkwX2_init_3 : List UInt8 := [181, 0, 32, 42, 17, 2, 129, 188, 10, 181, 0, 35, 42, 17, 2, 129, 188, 10, 181, 0, 38, 42, 16, 21]
abbrev dktX2_init_3 : List UInt8 := dkwX2_init_3 ++ dktX2_init_4
def dkwX2_init_2 : List UInt8 := [17, 2, 129, 188, 10, 181, 0, 26, 42, 17, 2, 129, 188, 10, 181, 0, 29, 42, 17, 2, 129, 188, 10]
abbrev dktX2_init_2 : List UInt8 := dkwX2_init_2 ++ dktX2_init_3
def dkwX2_init_1 : List UInt8 := [188, 10, 181, 0, 17, 42, 17, 2, 129, 188, 10, 181, 0, 20, 42, 17, 2, 129, 188, 10, 181, 0, 23, 42]
abbrev dktX2_init_1 : List UInt8 := dkwX2_init_1 ++ dktX2_init_2
def dkwX2_init_0 : List UInt8 := [42, 183, 0, 1, 42, 17, 42, 28, 188, 10, 181, 0, 7, 42, 5, 188, 4, 181, 0, 13, 42, 16, 72]
abbrev dktX2_init_0 : List UInt8 := dkwX2_init_0 ++ dktX2_init_1
theorem dksX2_init_0 : cX2_init.data.toList.drop 0 = dktX2_init_0 := by decide +kernel
theorem dksX2_init_1 : cX2_init.data.toList.drop 23 = dktX2_init_1 := dk_seg dksX2_init_0 23 rfl rfl
theorem dksX2_init_2 : cX2_init.data.toList.drop 47 = dktX2_init_2 := dk_seg dksX2_init_1 24 rfl rfl
theorem dksX2_init_3 : cX2_init.data.toList.drop 70 = dktX2_init_3 := dk_seg dksX2_init_2 23 rfl rfl
theorem dksX2_init_4 : cX2_init.data.toList.drop 94 = dktX2_init_4 := dk_seg dksX2_init_3 24 rfl rfl
theorem dksX2_init_5 : cX2_init.data.toList.drop 116 = dktX2_init_5 := dk_seg dksX2_init_4 22 rfl rfl
theorem dksX2_init_6 : cX2_init.data.toList.drop 140 = dktX2_init_6 := dk_seg dksX2_init_5 24 rfl rfl
theorem dksX2_init_7 : cX2_init.data.toList.drop 164 = dktX2_init_7 := dk_seg dksX2_init_6 24 rfl rfl
theorem dksX2_init_8 : cX2_init.data.toList.drop 187 = dktX2_init_8 := dk_seg dksX2_init_7 23 rfl rfl
theorem dksX2_init_9 : cX2_init.data.toList.drop 211 = dktX2_init_9 := dk_seg dksX2_init_8 24 rfl rfl
theorem dksX2_init_10 : cX2_init.data.toList.drop 235 = dktX2_init_10 := dk_seg dksX2_init_9 24 rfl rfl
theorem dksX2_init_11 : cX2_init.data.toList.drop 259 = dktX2_init_11 := dk_seg dksX2_init_10 24 rfl rfl
theorem dksX2_init_12 : cX2_init.data.toList.drop 283 = dktX2_init_12 := dk_seg dksX2_init_11 24 rfl rfl
theorem dksX2_init_13 : cX2_init.data.toList.drop 307 = dktX2_init_13 := dk_seg dksX2_init_12 24 rfl rfl
theorem dksX2_init_14 : cX2_init.data.toList.drop 331 = dktX2_init_14 := dk_seg dksX2_init_13 24 rfl rfl
theorem dksX2_init_15 : cX2_init.data.toList.drop 355 = dktX2_init_15 := dk_seg dksX2_init_14 24 rfl rfl
theorem dksX2_init_16 : cX2_init.data.toList.drop 379 = dktX2_init_16 := dk_seg dksX2_init_15 24 rfl rfl
theorem dksX2_init_17 : cX2_init.data.toList.drop 403 = dktX2_init_17 := dk_seg dksX2_init_16 24 rfl rfl
theorem dksX2_init_18 : cX2_init.data.toList.drop 427 = dktX2_init_18 := dk_seg dksX2_init_17 24 rfl rfl
theorem dksX2_init_19 : cX2_init.data.toList.drop 451 = dktX2_init_19 := dk_seg dksX2_init_18 24 rfl rfl
theorem dksX2_init_20 : cX2_init.data.toList.drop 474 = dktX2_init_20 := dk_seg dksX2_init_19 23 rfl rfl
theorem dX2_init_0 : decode cX2_init 0 = .ok (.aload_n 0, 1) := dk_42 (dk_at dksX2_init_0 0 rfl rfl)
theorem dX2_init_1 : decode cX2_init 1 = .ok (.invokespecial 1, 3) := dk_183 0 1 (dk_at dksX2_init_0 1 rfl rfl)
theorem dX2_init_4 : decode cX2_init 4 = .ok (.aload_n 0, 1) := dk_42 (dk_at dksX2_init_0 4 rfl rfl)
theorem dX2_init_5 : decode cX2_init 5 = .ok (.sipush 10780, 3) := dk_17 42 28 (dk_at dksX2_init_0 5 rfl rfl)
theorem dX2_init_8 : decode cX2_init 8 = .ok (.newarray .int, 2) := dk_188_10 (dk_at dksX2_init_0 8 rfl rfl)
theorem dX2_init_10 : decode cX2_init 10 = .ok (.putfield 7, 3) := dk_181 0 7 (dk_at dksX2_init_0 10 rfl rfl)
theorem dX2_init_13 : decode cX2_init 13 = .ok (.aload_n 0, 1) := dk_42 (dk_at dksX2_init_0 13 rfl rfl)
theorem dX2_init_14 : decode cX2_init 14 = .ok (.iconst 2, 1) := dk_5 (dk_at dksX2_init_0 14 rfl rfl)
theorem dX2_init_15 : decode cX2_init 15 = .ok (.newarray .boolean, 2) := dk_188_4 (dk_at dksX2_init_0 15 rfl rfl)
theorem dX2_init_17 : decode cX2_init 17 = .ok (.putfield 13, 3) := dk_181 0 13 (dk_at dksX2_init_0 17 rfl rfl)
theorem dX2_init_20 : decode cX2_init 20 = .ok (.aload_n 0, 1) := dk_42 (dk_at dksX2_init_0 20 rfl rfl)
theorem dX2_init_21 : decode cX2_init 21 = .ok (.bipush 72, 2) := dk_16 72 (dk_at dksX2_init_0 21 rfl rfl)
theorem dX2_init_23 : decode cX2_init 23 = .ok (.newarray .int, 2) := dk_188_10 (dk_at dksX2_init_1 0 rfl rfl)
theorem dX2_init_25 : decode cX2_init 25 = .ok (.putfield 17, 3) := dk_181 0 17 (dk_at dksX2_init_1 2 rfl rfl)
theorem dX2_init_28 : decode cX2_init 28 = .ok (.aload_n 0, 1) := dk_42 (dk_at dksX2_init_1 5 rfl rfl)
theorem dX2_init_29 : decode cX2_init 29 = .ok (.sipush 641, 3) := dk_17 2 129 (dk_at dksX2_init_1 6 rfl rfl)
theorem dX2_init_32 : decode cX2_init 32 = .ok (.newarray .int, 2) := dk_188_10 (dk_at dksX2_init_1 9 rfl rfl)
theorem dX2_init_34 : decode cX2_init 34 = .ok (.putfield 20, 3) := dk_181 0 20 (dk_at dksX2_init_1 11 rfl rfl)
theorem dX2_init_37 : decode cX2_init 37 = .ok (.aload_n 0, 1) := dk_42 (dk_at dksX2_init_1 14 rfl rfl)
theorem dX2_init_38 : decode cX2_init 38 = .ok (.sipush 641, 3) := dk_17 2 129 (dk_at dksX2_init_1 15 rfl rfl)
theorem dX2_init_41 : decode cX2_init 41 = .ok (.newarray .int, 2) := dk_188_10 (dk_at dksX2_init_1 18 rfl rfl)
theorem dX2_init_43 : decode cX2_init 43 = .ok (.putfield 23, 3) := dk_181 0 23 (dk_at dksX2_init_1 20 rfl rfl)
theorem dX2_init_46 : decode cX2_init 46 = .ok (.aload_n 0, 1) := dk_42 (dk_at dksX2_init_1 23 rfl rfl)
theorem dX2_init_47 : decode cX2_init 47 = .ok (.sipush 641, 3) := dk_17 2 129 (dk_at dksX2_init_2 0 rfl rfl)
theorem dX2_init_50 : decode cX2_init 50 = .ok (.newarray .int, 2) := dk_188_10 (dk_at dksX2_init_2 3 rfl rfl)
theorem dX2_init_52 : decode cX2_init 52 = .ok (.putfield 26, 3) := dk_181 0 26 (dk_at dksX2_init_2 5 rfl rfl)
theorem dX2_init_55 : decode cX2_init 55 = .ok (.aload_n 0, 1) := dk_42 (dk_at dksX2_init_2 8 rfl rfl)
theorem dX2_init_56 : decode cX2_init 56 = .ok (.sipush 641, 3) := dk_17 2 129 (dk_at dksX2_init_2 9 rfl rfl)
theorem dX2_init_59 : decode cX2_init 59 = .ok (.newarray .int, 2) := dk_188_10 (dk_at dksX2_init_2 12 rfl rfl)
theorem dX2_init_61 : decode cX2_init 61 = .ok (.putfield 29, 3) := dk_181 0 29 (dk_at dksX2_init_2 14 rfl rfl)
theorem dX2_init_64 : decode cX2_init 64 = .ok (.aload_n 0, 1) := dk_42 (dk_at dksX2_init_2 17 rfl rfl)
theorem dX2_init_65 : decode cX2_init 65 = .ok (.sipush 641, 3) := dk_17 2 129 (dk_at dksX2_init_2 18 rfl rfl)
theorem dX2_init_68 : decode cX2_init 68 = .ok (.newarray .int, 2) := dk_188_10 (dk_at dksX2_init_2 21 rfl rfl)
theorem dX2_init_70 : decode cX2_init 70 = .ok (.putfield 32, 3) := dk_181 0 32 (dk_at dksX2_init_3 0 rfl rfl)
theorem dX2_init_73 : decode cX2_init 73 = .ok (.aload_n 0, 1) := dk_42 (dk_at dksX2_init_3 3 rfl rfl)
theorem dX2_init_74 : decode cX2_init 74 = .ok (.sipush 641, 3) := dk_17 2 129 (dk_at dksX2_init_3 4 rfl rfl)
theorem dX2_init_77 : decode cX2_init 77 = .ok (.newarray .int, 2) := dk_188_10 (dk_at dksX2_init_3 7 rfl rfl)
theorem dX2_init_79 : decode cX2_init 79 = .ok (.putfield 35, 3) := dk_181 0 35 (dk_at dksX2_init_3 9 rfl rfl)
theorem dX2_init_82 : decode cX2_init 82 = .ok (.aload_n 0, 1) := dk_42 (dk_at dksX2_init_3 12 rfl rfl)
theorem dX2_init_83 : decode cX2_init 83 = .ok (.sipush 641, 3) := dk_17 2 129 (dk_at dksX2_init_3 13 rfl rfl)
theorem dX2_init_86 : decode cX2_init 86 = .ok (.newarray .int, 2) := dk_188_10 (dk_at dksX2_init_3 16 rfl rfl)
theorem dX2_init_88 : decode cX2_init 88 = .ok (.putfield 38, 3) := dk_181 0 38 (dk_at dksX2_init_3 18 rfl rfl)
theorem dX2_init_91 : decode cX2_init 91 = .ok (.aload_n 0, 1) := dk_42 (dk_at dksX2_init_3 21 rfl rfl)
theorem dX2_init_92 : decode cX2_init 92 = .ok (.bipush 21, 2) := dk_16 21 (dk_at dksX2_init_3 22 rfl rfl)
theorem dX2_init_94 : decode cX2_init 94 = .ok (.newarray .int, 2) := dk_188_10 (dk_at dksX2_init_4 0 rfl rfl)
theorem dX2_init_96 : decode cX2_init 96 = .ok (.putfield 41, 3) := dk_181 0 41 (dk_at dksX2_init_4 2 rfl rfl)
theorem dX2_init_99 : decode cX2_init 99 = .ok (.aload_n 0, 1) := dk_42 (dk_at dksX2_init_4 5 rfl rfl)
theorem dX2_init_100 : decode cX2_init 100 = .ok (.bipush 20, 2) := dk_16 20 (dk_at dksX2_init_4 6 rfl rfl)
theorem dX2_init_102 : decode cX2_init 102 = .ok (.newarray .boolean, 2) := dk_188_4 (dk_at dksX2_init_4 8 rfl rfl)
theorem dX2_init_104 : decode cX2_init 104 = .ok (.putfield 44, 3) := dk_181 0 44 (dk_at dksX2_init_4 10 rfl rfl)
theorem dX2_init_107 : decode cX2_init 107 = .ok (.aload_n 0, 1) := dk_42 (dk_at dksX2_init_4 13 rfl rfl)
theorem dX2_init_108 : decode cX2_init 108 = .ok (.bipush 21, 2) := dk_16 21 (dk_at dksX2_init_4 14 rfl rfl)
theorem dX2_init_110 : decode cX2_init 110 = .ok (.newarray .int, 2) := dk_188_10 (dk_at dksX2_init_4 16 rfl rfl)
theorem dX2_init_112 : decode cX2_init 112 = .ok (.putfield 47, 3) := dk_181 0 47 (dk_at dksX2_init_4 18 rfl rfl)
theorem dX2_init_115 : decode cX2_init 115 = .ok (.aload_n 0, 1) := dk_42 (dk_at dksX2_init_4 21 rfl rfl)
theorem dX2_init_116 : decode cX2_init 116 = .ok (.sipush 252, 3) := dk_17 0 252 (dk_at dksX2_init_5 0 rfl rfl)
theorem dX2_init_119 : decode cX2_init 119 = .ok (.newarray .int, 2) := dk_188_10 (dk_at dksX2_init_5 3 rfl rfl)
theorem dX2_init_121 : decode cX2_init 121 = .ok (.putfield 50, 3) := dk_181 0 50 (dk_at dksX2_init_5 5 rfl rfl)
theorem dX2_init_124 : decode cX2_init 124 = .ok (.aload_n 0, 1) := dk_42 (dk_at dksX2_init_5 8 rfl rfl)
theorem dX2_init_125 : decode cX2_init 125 = .ok (.bipush 12, 2) := dk_16 12 (dk_at dksX2_init_5 9 rfl rfl)
theorem dX2_init_127 : decode cX2_init 127 = .ok (.newarray .int, 2) := dk_188_10 (dk_at dksX2_init_5 11 rfl rfl)
theorem dX2_init_129 : decode cX2_init 129 = .ok (.putfield 53, 3) := dk_181 0 53 (dk_at dksX2_init_5 13 rfl rfl)
theorem dX2_init_132 : decode cX2_init 132 = .ok (.aload_n 0, 1) := dk_42 (dk_at dksX2_init_5 16 rfl rfl)
theorem dX2_init_133 : decode cX2_init 133 = .ok (.bipush 20, 2) := dk_16 20 (dk_at dksX2_init_5 17 rfl rfl)
theorem dX2_init_135 : decode cX2_init 135 = .ok (.newarray .int, 2) := dk_188_10 (dk_at dksX2_init_5 19 rfl rfl)
theorem dX2_init_137 : decode cX2_init 137 = .ok (.putfield 56, 3) := dk_181 0 56 (dk_at dksX2_init_5 21 rfl rfl)
theorem dX2_init_140 : decode cX2_init 140 = .ok (.aload_n 0, 1) := dk_42 (dk_at dksX2_init_6 0 rfl rfl)
theorem dX2_init_141 : decode cX2_init 141 = .ok (.iconst 2, 1) := dk_5 (dk_at dksX2_init_6 1 rfl rfl)
theorem dX2_init_142 : decode cX2_init 142 = .ok (.newarray .int, 2) := dk_188_10 (dk_at dksX2_init_6 2 rfl rfl)
theorem dX2_init_144 : decode cX2_init 144 = .ok (.putfield 59, 3) := dk_181 0 59 (dk_at dksX2_init_6 4 rfl rfl)
theorem dX2_init_147 : decode cX2_init 147 = .ok (.aload_n 0, 1) := dk_42 (dk_at dksX2_init_6 7 rfl rfl)
theorem dX2_init_148 : decode cX2_init 148 = .ok (.iconst 2, 1) := dk_5 (dk_at dksX2_init_6 8 rfl rfl)
theorem dX2_init_149 : decode cX2_init 149 = .ok (.newarray .int, 2) := dk_188_10 (dk_at dksX2_init_6 9 rfl rfl)
theorem dX2_init_151 : decode cX2_init 151 = .ok (.putfield 62, 3) := dk_181 0 62 (dk_at dksX2_init_6 11 rfl rfl)
theorem dX2_init_154 : decode cX2_init 154 = .ok (.aload_n 0, 1) := dk_42 (dk_at dksX2_init_6 14 rfl rfl)
theorem dX2_init_155 : decode cX2_init 155 = .ok (.bipush 17, 2) := dk_16 17 (dk_at dksX2_init_6 15 rfl rfl)
theorem dX2_init_157 : decode cX2_init 157 = .ok (.newarray .int, 2) := dk_188_10 (dk_at dksX2_init_6 17 rfl rfl)
theorem dX2_init_159 : decode cX2_init 159 = .ok (.dup, 1) := dk_89 (dk_at dksX2_init_6 19 rfl rfl)
theorem dX2_init_160 : decode cX2_init 160 = .ok (.iconst 0, 1) := dk_3 (dk_at dksX2_init_6 20 rfl rfl)
theorem dX2_init_161 : decode cX2_init 161 = .ok (.iconst 0, 1) := dk_3 (dk_at dksX2_init_6 21 rfl rfl)
theorem dX2_init_162 : decode cX2_init 162 = .ok (.iastore, 1) := dk_79 (dk_at dksX2_init_6 22 rfl rfl)
theorem dX2_init_163 : decode cX2_init 163 = .ok (.dup, 1) := dk_89 (dk_at dksX2_init_6 23 rfl rfl)
theorem dX2_init_164 : decode cX2_init 164 = .ok (.iconst 1, 1) := dk_4 (dk_at dksX2_init_7 0 rfl rfl)
theorem dX2_init_165 : decode cX2_init 165 = .ok (.iconst 2, 1) := dk_5 (dk_at dksX2_init_7 1 rfl rfl)
theorem dX2_init_166 : decode cX2_init 166 = .ok (.iastore, 1) := dk_79 (dk_at dksX2_init_7 2 rfl rfl)
theorem dX2_init_167 : decode cX2_init 167 = .ok (.dup, 1) := dk_89 (dk_at dksX2_init_7 3 rfl rfl)
theorem dX2_init_168 : decode cX2_init 168 = .ok (.iconst 2, 1) := dk_5 (dk_at dksX2_init_7 4 rfl rfl)
theorem dX2_init_169 : decode cX2_init 169 = .ok (.iconst 3, 1) := dk_6 (dk_at dksX2_init_7 5 rfl rfl)
theorem dX2_init_170 : decode cX2_init 170 = .ok (.iastore, 1) := dk_79 (dk_at dksX2_init_7 6 rfl rfl)
theorem dX2_init_171 : decode cX2_init 171 = .ok (.dup, 1) := dk_89 (dk_at dksX2_init_7 7 rfl rfl)
theorem dX2_init_172 : decode cX2_init 172 = .ok (.iconst 3, 1) := dk_6 (dk_at dksX2_init_7 8 rfl rfl)
theorem dX2_init_173 : decode cX2_init 173 = .ok (.iconst 4, 1) := dk_7 (dk_at dksX2_init_7 9 rfl rfl)
theorem dX2_init_174 : decode cX2_init 174 = .ok (.iastore, 1) := dk_79 (dk_at dksX2_init_7 10 rfl rfl)
theorem dX2_init_175 : decode cX2_init 175 = .ok (.dup, 1) := dk_89 (dk_at dksX2_init_7 11 rfl rfl)
theorem dX2_init_176 : decode cX2_init 176 = .ok (.iconst 4, 1) := dk_7 (dk_at dksX2_init_7 12 rfl rfl)
theorem dX2_init_177 : decode cX2_init 177 = .ok (.iconst 5, 1) := dk_8 (dk_at dksX2_init_7 13 rfl rfl)
theorem dX2_init_178 : decode cX2_init 178 = .ok (.iastore, 1) := dk_79 (dk_at dksX2_init_7 14 rfl rfl)
theorem dX2_init_179 : decode cX2_init 179 = .ok (.dup, 1) := dk_89 (dk_at dksX2_init_7 15 rfl rfl)
theorem dX2_init_180 : decode cX2_init 180 = .ok (.iconst 5, 1) := dk_8 (dk_at dksX2_init_7 16 rfl rfl)
theorem dX2_init_181 : decode cX2_init 181 = .ok (.bipush 8, 2) := dk_16 8 (dk_at dksX2_init_7 17 rfl rfl)
theorem dX2_init_183 : decode cX2_init 183 = .ok (.iastore, 1) := dk_79 (dk_at dksX2_init_7 19 rfl rfl)
theorem dX2_init_184 : decode cX2_init 184 = .ok (.dup, 1) := dk_89 (dk_at dksX2_init_7 20 rfl rfl)
theorem dX2_init_185 : decode cX2_init 185 = .ok (.bipush 6, 2) := dk_16 6 (dk_at dksX2_init_7 21 rfl rfl)
theorem dX2_init_187 : decode cX2_init 187 = .ok (.bipush 9, 2) := dk_16 9 (dk_at dksX2_init_8 0 rfl rfl)
theorem dX2_init_189 : decode cX2_init 189 = .ok (.iastore, 1) := dk_79 (dk_at dksX2_init_8 2 rfl rfl)
theorem dX2_init_190 : decode cX2_init 190 = .ok (.dup, 1) := dk_89 (dk_at dksX2_init_8 3 rfl rfl)
theorem dX2_init_191 : decode cX2_init 191 = .ok (.bipush 7, 2) := dk_16 7 (dk_at dksX2_init_8 4 rfl rfl)
theorem dX2_init_193 : decode cX2_init 193 = .ok (.bipush 14, 2) := dk_16 14 (dk_at dksX2_init_8 6 rfl rfl)
theorem dX2_init_195 : decode cX2_init 195 = .ok (.iastore, 1) := dk_79 (dk_at dksX2_init_8 8 rfl rfl)
theorem dX2_init_196 : decode cX2_init 196 = .ok (.dup, 1) := dk_89 (dk_at dksX2_init_8 9 rfl rfl)
theorem dX2_init_197 : decode cX2_init 197 = .ok (.bipush 8, 2) := dk_16 8 (dk_at dksX2_init_8 10 rfl rfl)
theorem dX2_init_199 : decode cX2_init 199 = .ok (.bipush 17, 2) := dk_16 17 (dk_at dksX2_init_8 12 rfl rfl)
theorem dX2_init_201 : decode cX2_init 201 = .ok (.iastore, 1) := dk_79 (dk_at dksX2_init_8 14 rfl rfl)
theorem dX2_init_202 : decode cX2_init 202 = .ok (.dup, 1) := dk_89 (dk_at dksX2_init_8 15 rfl rfl)
theorem dX2_init_203 : decode cX2_init 203 = .ok (.bipush 9, 2) := dk_16 9 (dk_at dksX2_init_8 16 rfl rfl)
theorem dX2_init_205 : decode cX2_init 205 = .ok (.bipush 21, 2) := dk_16 21 (dk_at dksX2_init_8 18 rfl rfl)
theorem dX2_init_207 : decode cX2_init 207 = .ok (.iastore, 1) := dk_79 (dk_at dksX2_init_8 20 rfl rfl)
theorem dX2_init_208 : decode cX2_init 208 = .ok (.dup, 1) := dk_89 (dk_at dksX2_init_8 21 rfl rfl)
theorem dX2_init_209 : decode cX2_init 209 = .ok (.bipush 10, 2) := dk_16 10 (dk_at dksX2_init_8 22 rfl rfl)
theorem dX2_init_211 : decode cX2_init 211 = .ok (.bipush 24, 2) := dk_16 24 (dk_at dksX2_init_9 0 rfl rfl)
theorem dX2_init_213 : decode cX2_init 213 = .ok (.iastore, 1) := dk_79 (dk_at dksX2_init_9 2 rfl rfl)
theorem dX2_init_214 : decode cX2_init 214 = .ok (.dup, 1) := dk_89 (dk_at dksX2_init_9 3 rfl rfl)
theorem dX2_init_215 : decode cX2_init 215 = .ok (.bipush 11, 2) := dk_16 11 (dk_at dksX2_init_9 4 rfl rfl)
theorem dX2_init_217 : decode cX2_init 217 = .ok (.bipush 26, 2) := dk_16 26 (dk_at dksX2_init_9 6 rfl rfl)
theorem dX2_init_219 : decode cX2_init 219 = .ok (.iastore, 1) := dk_79 (dk_at dksX2_init_9 8 rfl rfl)
theorem dX2_init_220 : decode cX2_init 220 = .ok (.dup, 1) := dk_89 (dk_at dksX2_init_9 9 rfl rfl)
theorem dX2_init_221 : decode cX2_init 221 = .ok (.bipush 12, 2) := dk_16 12 (dk_at dksX2_init_9 10 rfl rfl)
theorem dX2_init_223 : decode cX2_init 223 = .ok (.bipush 28, 2) := dk_16 28 (dk_at dksX2_init_9 12 rfl rfl)
theorem dX2_init_225 : decode cX2_init 225 = .ok (.iastore, 1) := dk_79 (dk_at dksX2_init_9 14 rfl rfl)
theorem dX2_init_226 : decode cX2_init 226 = .ok (.dup, 1) := dk_89 (dk_at dksX2_init_9 15 rfl rfl)
theorem dX2_init_227 : decode cX2_init 227 = .ok (.bipush 13, 2) := dk_16 13 (dk_at dksX2_init_9 16 rfl rfl)
theorem dX2_init_229 : decode cX2_init 229 = .ok (.bipush 31, 2) := dk_16 31 (dk_at dksX2_init_9 18 rfl rfl)
theorem dX2_init_231 : decode cX2_init 231 = .ok (.iastore, 1) := dk_79 (dk_at dksX2_init_9 20 rfl rfl)
theorem dX2_init_232 : decode cX2_init 232 = .ok (.dup, 1) := dk_89 (dk_at dksX2_init_9 21 rfl rfl)
theorem dX2_init_233 : decode cX2_init 233 = .ok (.bipush 14, 2) := dk_16 14 (dk_at dksX2_init_9 22 rfl rfl)
theorem dX2_init_235 : decode cX2_init 235 = .ok (.bipush 32, 2) := dk_16 32 (dk_at dksX2_init_10 0 rfl rfl)
theorem dX2_init_237 : decode cX2_init 237 = .ok (.iastore, 1) := dk_79 (dk_at dksX2_init_10 2 rfl rfl)
theorem dX2_init_238 : decode cX2_init 238 = .ok (.dup, 1) := dk_89 (dk_at dksX2_init_10 3 rfl rfl)
theorem dX2_init_239 : decode cX2_init 239 = .ok (.bipush 15, 2) := dk_16 15 (dk_at dksX2_init_10 4 rfl rfl)
theorem dX2_init_241 : decode cX2_init 241 = .ok (.bipush 36, 2) := dk_16 36 (dk_at dksX2_init_10 6 rfl rfl)
theorem dX2_init_243 : decode cX2_init 243 = .ok (.iastore, 1) := dk_79 (dk_at dksX2_init_10 8 rfl rfl)
theorem dX2_init_244 : decode cX2_init 244 = .ok (.dup, 1) := dk_89 (dk_at dksX2_init_10 9 rfl rfl)
theorem dX2_init_245 : decode cX2_init 245 = .ok (.bipush 16, 2) := dk_16 16 (dk_at dksX2_init_10 10 rfl rfl)
theorem dX2_init_247 : decode cX2_init 247 = .ok (.bipush 37, 2) := dk_16 37 (dk_at dksX2_init_10 12 rfl rfl)
theorem dX2_init_249 : decode cX2_init 249 = .ok (.iastore, 1) := dk_79 (dk_at dksX2_init_10 14 rfl rfl)
theorem dX2_init_250 : decode cX2_init 250 = .ok (.putfield 65, 3) := dk_181 0 65 (dk_at dksX2_init_10 15 rfl rfl)
theorem dX2_init_253 : decode cX2_init 253 = .ok (.aload_n 0, 1) := dk_42 (dk_at dksX2_init_10 18 rfl rfl)
theorem dX2_init_254 : decode cX2_init 254 = .ok (.bipush 37, 2) := dk_16 37 (dk_at dksX2_init_10 19 rfl rfl)
theorem dX2_init_256 : decode cX2_init 256 = .ok (.newarray .int, 2) := dk_188_10 (dk_at dksX2_init_10 21 rfl rfl)
theorem dX2_init_258 : decode cX2_init 258 = .ok (.dup, 1) := dk_89 (dk_at dksX2_init_10 23 rfl rfl)
theorem dX2_init_259 : decode cX2_init 259 = .ok (.iconst 0, 1) := dk_3 (dk_at dksX2_init_11 0 rfl rfl)
theorem dX2_init_260 : decode cX2_init 260 = .ok (.bipush 97, 2) := dk_16 97 (dk_at dksX2_init_11 1 rfl rfl)
theorem dX2_init_262 : decode cX2_init 262 = .ok (.iastore, 1) := dk_79 (dk_at dksX2_init_11 3 rfl rfl)
theorem dX2_init_263 : decode cX2_init 263 = .ok (.dup, 1) := dk_89 (dk_at dksX2_init_11 4 rfl rfl)
theorem dX2_init_264 : decode cX2_init 264 = .ok (.iconst 1, 1) := dk_4 (dk_at dksX2_init_11 5 rfl rfl)
theorem dX2_init_265 : decode cX2_init 265 = .ok (.bipush 40, 2) := dk_16 40 (dk_at dksX2_init_11 6 rfl rfl)
theorem dX2_init_267 : decode cX2_init 267 = .ok (.iastore, 1) := dk_79 (dk_at dksX2_init_11 8 rfl rfl)
theorem dX2_init_268 : decode cX2_init 268 = .ok (.dup, 1) := dk_89 (dk_at dksX2_init_11 9 rfl rfl)
theorem dX2_init_269 : decode cX2_init 269 = .ok (.iconst 2, 1) := dk_5 (dk_at dksX2_init_11 10 rfl rfl)
theorem dX2_init_270 : decode cX2_init 270 = .ok (.bipush 41, 2) := dk_16 41 (dk_at dksX2_init_11 11 rfl rfl)
theorem dX2_init_272 : decode cX2_init 272 = .ok (.iastore, 1) := dk_79 (dk_at dksX2_init_11 13 rfl rfl)
theorem dX2_init_273 : decode cX2_init 273 = .ok (.dup, 1) := dk_89 (dk_at dksX2_init_11 14 rfl rfl)
theorem dX2_init_274 : decode cX2_init 274 = .ok (.iconst 3, 1) := dk_6 (dk_at dksX2_init_11 15 rfl rfl)
theorem dX2_init_275 : decode cX2_init 275 = .ok (.bipush 123, 2) := dk_16 123 (dk_at dksX2_init_11 16 rfl rfl)
theorem dX2_init_277 : decode cX2_init 277 = .ok (.iastore, 1) := dk_79 (dk_at dksX2_init_11 18 rfl rfl)
theorem dX2_init_278 : decode cX2_init 278 = .ok (.dup, 1) := dk_89 (dk_at dksX2_init_11 19 rfl rfl)
theorem dX2_init_279 : decode cX2_init 279 = .ok (.iconst 4, 1) := dk_7 (dk_at dksX2_init_11 20 rfl rfl)
theorem dX2_init_280 : decode cX2_init 280 = .ok (.bipush 125, 2) := dk_16 125 (dk_at dksX2_init_11 21 rfl rfl)
theorem dX2_init_282 : decode cX2_init 282 = .ok (.iastore, 1) := dk_79 (dk_at dksX2_init_11 23 rfl rfl)
theorem dX2_init_283 : decode cX2_init 283 = .ok (.dup, 1) := dk_89 (dk_at dksX2_init_12 0 rfl rfl)
theorem dX2_init_284 : decode cX2_init 284 = .ok (.iconst 5, 1) := dk_8 (dk_at dksX2_init_12 1 rfl rfl)
theorem dX2_init_285 : decode cX2_init 285 = .ok (.bipush 91, 2) := dk_16 91 (dk_at dksX2_init_12 2 rfl rfl)
theorem dX2_init_287 : decode cX2_init 287 = .ok (.iastore, 1) := dk_79 (dk_at dksX2_init_12 4 rfl rfl)
theorem dX2_init_288 : decode cX2_init 288 = .ok (.dup, 1) := dk_89 (dk_at dksX2_init_12 5 rfl rfl)
theorem dX2_init_289 : decode cX2_init 289 = .ok (.bipush 6, 2) := dk_16 6 (dk_at dksX2_init_12 6 rfl rfl)
theorem dX2_init_291 : decode cX2_init 291 = .ok (.bipush 120, 2) := dk_16 120 (dk_at dksX2_init_12 8 rfl rfl)
theorem dX2_init_293 : decode cX2_init 293 = .ok (.iastore, 1) := dk_79 (dk_at dksX2_init_12 10 rfl rfl)
theorem dX2_init_294 : decode cX2_init 294 = .ok (.dup, 1) := dk_89 (dk_at dksX2_init_12 11 rfl rfl)
theorem dX2_init_295 : decode cX2_init 295 = .ok (.bipush 7, 2) := dk_16 7 (dk_at dksX2_init_12 12 rfl rfl)
theorem dX2_init_297 : decode cX2_init 297 = .ok (.bipush 44, 2) := dk_16 44 (dk_at dksX2_init_12 14 rfl rfl)
theorem dX2_init_299 : decode cX2_init 299 = .ok (.iastore, 1) := dk_79 (dk_at dksX2_init_12 16 rfl rfl)
theorem dX2_init_300 : decode cX2_init 300 = .ok (.dup, 1) := dk_89 (dk_at dksX2_init_12 17 rfl rfl)
theorem dX2_init_301 : decode cX2_init 301 = .ok (.bipush 8, 2) := dk_16 8 (dk_at dksX2_init_12 18 rfl rfl)
theorem dX2_init_303 : decode cX2_init 303 = .ok (.bipush 93, 2) := dk_16 93 (dk_at dksX2_init_12 20 rfl rfl)
theorem dX2_init_305 : decode cX2_init 305 = .ok (.iastore, 1) := dk_79 (dk_at dksX2_init_12 22 rfl rfl)
theorem dX2_init_306 : decode cX2_init 306 = .ok (.dup, 1) := dk_89 (dk_at dksX2_init_12 23 rfl rfl)
theorem dX2_init_307 : decode cX2_init 307 = .ok (.bipush 9, 2) := dk_16 9 (dk_at dksX2_init_13 0 rfl rfl)
theorem dX2_init_309 : decode cX2_init 309 = .ok (.bipush 98, 2) := dk_16 98 (dk_at dksX2_init_13 2 rfl rfl)
theorem dX2_init_311 : decode cX2_init 311 = .ok (.iastore, 1) := dk_79 (dk_at dksX2_init_13 4 rfl rfl)
theorem dX2_init_312 : decode cX2_init 312 = .ok (.dup, 1) := dk_89 (dk_at dksX2_init_13 5 rfl rfl)
theorem dX2_init_313 : decode cX2_init 313 = .ok (.bipush 10, 2) := dk_16 10 (dk_at dksX2_init_13 6 rfl rfl)
theorem dX2_init_315 : decode cX2_init 315 = .ok (.bipush 101, 2) := dk_16 101 (dk_at dksX2_init_13 8 rfl rfl)
theorem dX2_init_317 : decode cX2_init 317 = .ok (.iastore, 1) := dk_79 (dk_at dksX2_init_13 10 rfl rfl)
theorem dX2_init_318 : decode cX2_init 318 = .ok (.dup, 1) := dk_89 (dk_at dksX2_init_13 11 rfl rfl)
theorem dX2_init_319 : decode cX2_init 319 = .ok (.bipush 11, 2) := dk_16 11 (dk_at dksX2_init_13 12 rfl rfl)
theorem dX2_init_321 : decode cX2_init 321 = .ok (.bipush 103, 2) := dk_16 103 (dk_at dksX2_init_13 14 rfl rfl)
theorem dX2_init_323 : decode cX2_init 323 = .ok (.iastore, 1) := dk_79 (dk_at dksX2_init_13 16 rfl rfl)
theorem dX2_init_324 : decode cX2_init 324 = .ok (.dup, 1) := dk_89 (dk_at dksX2_init_13 17 rfl rfl)
theorem dX2_init_325 : decode cX2_init 325 = .ok (.bipush 12, 2) := dk_16 12 (dk_at dksX2_init_13 18 rfl rfl)
theorem dX2_init_327 : decode cX2_init 327 = .ok (.bipush 105, 2) := dk_16 105 (dk_at dksX2_init_13 20 rfl rfl)
theorem dX2_init_329 : decode cX2_init 329 = .ok (.iastore, 1) := dk_79 (dk_at dksX2_init_13 22 rfl rfl)
theorem dX2_init_330 : decode cX2_init 330 = .ok (.dup, 1) := dk_89 (dk_at dksX2_init_13 23 rfl rfl)
theorem dX2_init_331 : decode cX2_init 331 = .ok (.bipush 13, 2) := dk_16 13 (dk_at dksX2_init_14 0 rfl rfl)
theorem dX2_init_333 : decode cX2_init 333 = .ok (.bipush 110, 2) := dk_16 110 (dk_at dksX2_init_14 2 rfl rfl)
theorem dX2_init_335 : decode cX2_init 335 = .ok (.iastore, 1) := dk_79 (dk_at dksX2_init_14 4 rfl rfl)
theorem dX2_init_336 : decode cX2_init 336 = .ok (.dup, 1) := dk_89 (dk_at dksX2_init_14 5 rfl rfl)
theorem dX2_init_337 : decode cX2_init 337 = .ok (.bipush 14, 2) := dk_16 14 (dk_at dksX2_init_14 6 rfl rfl)
theorem dX2_init_339 : decode cX2_init 339 = .ok (.bipush 101, 2) := dk_16 101 (dk_at dksX2_init_14 8 rfl rfl)
theorem dX2_init_341 : decode cX2_init 341 = .ok (.iastore, 1) := dk_79 (dk_at dksX2_init_14 10 rfl rfl)
theorem dX2_init_342 : decode cX2_init 342 = .ok (.dup, 1) := dk_89 (dk_at dksX2_init_14 11 rfl rfl)
theorem dX2_init_343 : decode cX2_init 343 = .ok (.bipush 15, 2) := dk_16 15 (dk_at dksX2_init_14 12 rfl rfl)
theorem dX2_init_345 : decode cX2_init 345 = .ok (.bipush 110, 2) := dk_16 110 (dk_at dksX2_init_14 14 rfl rfl)
theorem dX2_init_347 : decode cX2_init 347 = .ok (.iastore, 1) := dk_79 (dk_at dksX2_init_14 16 rfl rfl)
theorem dX2_init_348 : decode cX2_init 348 = .ok (.dup, 1) := dk_89 (dk_at dksX2_init_14 17 rfl rfl)
theorem dX2_init_349 : decode cX2_init 349 = .ok (.bipush 16, 2) := dk_16 16 (dk_at dksX2_init_14 18 rfl rfl)
theorem dX2_init_351 : decode cX2_init 351 = .ok (.bipush 100, 2) := dk_16 100 (dk_at dksX2_init_14 20 rfl rfl)
theorem dX2_init_353 : decode cX2_init 353 = .ok (.iastore, 1) := dk_79 (dk_at dksX2_init_14 22 rfl rfl)
theorem dX2_init_354 : decode cX2_init 354 = .ok (.dup, 1) := dk_89 (dk_at dksX2_init_14 23 rfl rfl)
theorem dX2_init_355 : decode cX2_init 355 = .ok (.bipush 17, 2) := dk_16 17 (dk_at dksX2_init_15 0 rfl rfl)
theorem dX2_init_357 : decode cX2_init 357 = .ok (.bipush 99, 2) := dk_16 99 (dk_at dksX2_init_15 2 rfl rfl)
theorem dX2_init_359 : decode cX2_init 359 = .ok (.iastore, 1) := dk_79 (dk_at dksX2_init_15 4 rfl rfl)
theorem dX2_init_360 : decode cX2_init 360 = .ok (.dup, 1) := dk_89 (dk_at dksX2_init_15 5 rfl rfl)
theorem dX2_init_361 : decode cX2_init 361 = .ok (.bipush 18, 2) := dk_16 18 (dk_at dksX2_init_15 6 rfl rfl)
theorem dX2_init_363 : decode cX2_init 363 = .ok (.bipush 97, 2) := dk_16 97 (dk_at dksX2_init_15 8 rfl rfl)
theorem dX2_init_365 : decode cX2_init 365 = .ok (.iastore, 1) := dk_79 (dk_at dksX2_init_15 10 rfl rfl)
theorem dX2_init_366 : decode cX2_init 366 = .ok (.dup, 1) := dk_89 (dk_at dksX2_init_15 11 rfl rfl)
theorem dX2_init_367 : decode cX2_init 367 = .ok (.bipush 19, 2) := dk_16 19 (dk_at dksX2_init_15 12 rfl rfl)
theorem dX2_init_369 : decode cX2_init 369 = .ok (.bipush 115, 2) := dk_16 115 (dk_at dksX2_init_15 14 rfl rfl)
theorem dX2_init_371 : decode cX2_init 371 = .ok (.iastore, 1) := dk_79 (dk_at dksX2_init_15 16 rfl rfl)
theorem dX2_init_372 : decode cX2_init 372 = .ok (.dup, 1) := dk_89 (dk_at dksX2_init_15 17 rfl rfl)
theorem dX2_init_373 : decode cX2_init 373 = .ok (.bipush 20, 2) := dk_16 20 (dk_at dksX2_init_15 18 rfl rfl)
theorem dX2_init_375 : decode cX2_init 375 = .ok (.bipush 101, 2) := dk_16 101 (dk_at dksX2_init_15 20 rfl rfl)
theorem dX2_init_377 : decode cX2_init 377 = .ok (.iastore, 1) := dk_79 (dk_at dksX2_init_15 22 rfl rfl)
theorem dX2_init_378 : decode cX2_init 378 = .ok (.dup, 1) := dk_89 (dk_at dksX2_init_15 23 rfl rfl)
theorem dX2_init_379 : decode cX2_init 379 = .ok (.bipush 21, 2) := dk_16 21 (dk_at dksX2_init_16 0 rfl rfl)
theorem dX2_init_381 : decode cX2_init 381 = .ok (.bipush 34, 2) := dk_16 34 (dk_at dksX2_init_16 2 rfl rfl)
theorem dX2_init_383 : decode cX2_init 383 = .ok (.iastore, 1) := dk_79 (dk_at dksX2_init_16 4 rfl rfl)
theorem dX2_init_384 : decode cX2_init 384 = .ok (.dup, 1) := dk_89 (dk_at dksX2_init_16 5 rfl rfl)
theorem dX2_init_385 : decode cX2_init 385 = .ok (.bipush 22, 2) := dk_16 22 (dk_at dksX2_init_16 6 rfl rfl)
theorem dX2_init_387 : decode cX2_init 387 = .ok (.bipush 115, 2) := dk_16 115 (dk_at dksX2_init_16 8 rfl rfl)
theorem dX2_init_389 : decode cX2_init 389 = .ok (.iastore, 1) := dk_79 (dk_at dksX2_init_16 10 rfl rfl)
theorem dX2_init_390 : decode cX2_init 390 = .ok (.dup, 1) := dk_89 (dk_at dksX2_init_16 11 rfl rfl)
theorem dX2_init_391 : decode cX2_init 391 = .ok (.bipush 23, 2) := dk_16 23 (dk_at dksX2_init_16 12 rfl rfl)
theorem dX2_init_393 : decode cX2_init 393 = .ok (.bipush 34, 2) := dk_16 34 (dk_at dksX2_init_16 14 rfl rfl)
theorem dX2_init_395 : decode cX2_init 395 = .ok (.iastore, 1) := dk_79 (dk_at dksX2_init_16 16 rfl rfl)
theorem dX2_init_396 : decode cX2_init 396 = .ok (.dup, 1) := dk_89 (dk_at dksX2_init_16 17 rfl rfl)
theorem dX2_init_397 : decode cX2_init 397 = .ok (.bipush 24, 2) := dk_16 24 (dk_at dksX2_init_16 18 rfl rfl)
theorem dX2_init_399 : decode cX2_init 399 = .ok (.bipush 35, 2) := dk_16 35 (dk_at dksX2_init_16 20 rfl rfl)
theorem dX2_init_401 : decode cX2_init 401 = .ok (.iastore, 1) := dk_79 (dk_at dksX2_init_16 22 rfl rfl)
theorem dX2_init_402 : decode cX2_init 402 = .ok (.dup, 1) := dk_89 (dk_at dksX2_init_16 23 rfl rfl)
theorem dX2_init_403 : decode cX2_init 403 = .ok (.bipush 25, 2) := dk_16 25 (dk_at dksX2_init_17 0 rfl rfl)
theorem dX2_init_405 : decode cX2_init 405 = .ok (.bipush 99, 2) := dk_16 99 (dk_at dksX2_init_17 2 rfl rfl)
theorem dX2_init_407 : decode cX2_init 407 = .ok (.iastore, 1) := dk_79 (dk_at dksX2_init_17 4 rfl rfl)
theorem dX2_init_408 : decode cX2_init 408 = .ok (.dup, 1) := dk_89 (dk_at dksX2_init_17 5 rfl rfl)
theorem dX2_init_409 : decode cX2_init 409 = .ok (.bipush 26, 2) := dk_16 26 (dk_at dksX2_init_17 6 rfl rfl)
theorem dX2_init_411 : decode cX2_init 411 = .ok (.bipush 121, 2) := dk_16 121 (dk_at dksX2_init_17 8 rfl rfl)
theorem dX2_init_413 : decode cX2_init 413 = .ok (.iastore, 1) := dk_79 (dk_at dksX2_init_17 10 rfl rfl)
theorem dX2_init_414 : decode cX2_init 414 = .ok (.dup, 1) := dk_89 (dk_at dksX2_init_17 11 rfl rfl)
theorem dX2_init_415 : decode cX2_init 415 = .ok (.bipush 27, 2) := dk_16 27 (dk_at dksX2_init_17 12 rfl rfl)
theorem dX2_init_417 : decode cX2_init 417 = .ok (.bipush 43, 2) := dk_16 43 (dk_at dksX2_init_17 14 rfl rfl)
theorem dX2_init_419 : decode cX2_init 419 = .ok (.iastore, 1) := dk_79 (dk_at dksX2_init_17 16 rfl rfl)
theorem dX2_init_420 : decode cX2_init 420 = .ok (.dup, 1) := dk_89 (dk_at dksX2_init_17 17 rfl rfl)
theorem dX2_init_421 : decode cX2_init 421 = .ok (.bipush 28, 2) := dk_16 28 (dk_at dksX2_init_17 18 rfl rfl)
theorem dX2_init_423 : decode cX2_init 423 = .ok (.bipush 34, 2) := dk_16 34 (dk_at dksX2_init_17 20 rfl rfl)
theorem dX2_init_425 : decode cX2_init 425 = .ok (.iastore, 1) := dk_79 (dk_at dksX2_init_17 22 rfl rfl)
theorem dX2_init_426 : decode cX2_init 426 = .ok (.dup, 1) := dk_89 (dk_at dksX2_init_17 23 rfl rfl)
theorem dX2_init_427 : decode cX2_init 427 = .ok (.bipush 29, 2) := dk_16 29 (dk_at dksX2_init_18 0 rfl rfl)
theorem dX2_init_429 : decode cX2_init 429 = .ok (.bipush 34, 2) := dk_16 34 (dk_at dksX2_init_18 2 rfl rfl)
theorem dX2_init_431 : decode cX2_init 431 = .ok (.iastore, 1) := dk_79 (dk_at dksX2_init_18 4 rfl rfl)
theorem dX2_init_432 : decode cX2_init 432 = .ok (.dup, 1) := dk_89 (dk_at dksX2_init_18 5 rfl rfl)
theorem dX2_init_433 : decode cX2_init 433 = .ok (.bipush 30, 2) := dk_16 30 (dk_at dksX2_init_18 6 rfl rfl)
theorem dX2_init_435 : decode cX2_init 435 = .ok (.bipush 34, 2) := dk_16 34 (dk_at dksX2_init_18 8 rfl rfl)
theorem dX2_init_437 : decode cX2_init 437 = .ok (.iastore, 1) := dk_79 (dk_at dksX2_init_18 10 rfl rfl)
theorem dX2_init_438 : decode cX2_init 438 = .ok (.dup, 1) := dk_89 (dk_at dksX2_init_18 11 rfl rfl)
theorem dX2_init_439 : decode cX2_init 439 = .ok (.bipush 31, 2) := dk_16 31 (dk_at dksX2_init_18 12 rfl rfl)
theorem dX2_init_441 : decode cX2_init 441 = .ok (.bipush 122, 2) := dk_16 122 (dk_at dksX2_init_18 14 rfl rfl)
theorem dX2_init_443 : decode cX2_init 443 = .ok (.iastore, 1) := dk_79 (dk_at dksX2_init_18 16 rfl rfl)
theorem dX2_init_444 : decode cX2_init 444 = .ok (.dup, 1) := dk_89 (dk_at dksX2_init_18 17 rfl rfl)
theorem dX2_init_445 : decode cX2_init 445 = .ok (.bipush 32, 2) := dk_16 32 (dk_at dksX2_init_18 18 rfl rfl)
theorem dX2_init_447 : decode cX2_init 447 = .ok (.bipush 102, 2) := dk_16 102 (dk_at dksX2_init_18 20 rfl rfl)
theorem dX2_init_449 : decode cX2_init 449 = .ok (.iastore, 1) := dk_79 (dk_at dksX2_init_18 22 rfl rfl)
theorem dX2_init_450 : decode cX2_init 450 = .ok (.dup, 1) := dk_89 (dk_at dksX2_init_18 23 rfl rfl)
theorem dX2_init_451 : decode cX2_init 451 = .ok (.bipush 33, 2) := dk_16 33 (dk_at dksX2_init_19 0 rfl rfl)
theorem dX2_init_453 : decode cX2_init 453 = .ok (.bipush 40, 2) := dk_16 40 (dk_at dksX2_init_19 2 rfl rfl)
theorem dX2_init_455 : decode cX2_init 455 = .ok (.iastore, 1) := dk_79 (dk_at dksX2_init_19 4 rfl rfl)
theorem dX2_init_456 : decode cX2_init 456 = .ok (.dup, 1) := dk_89 (dk_at dksX2_init_19 5 rfl rfl)
theorem dX2_init_457 : decode cX2_init 457 = .ok (.bipush 34, 2) := dk_16 34 (dk_at dksX2_init_19 6 rfl rfl)
theorem dX2_init_459 : decode cX2_init 459 = .ok (.bipush 98, 2) := dk_16 98 (dk_at dksX2_init_19 8 rfl rfl)
theorem dX2_init_461 : decode cX2_init 461 = .ok (.iastore, 1) := dk_79 (dk_at dksX2_init_19 10 rfl rfl)
theorem dX2_init_462 : decode cX2_init 462 = .ok (.dup, 1) := dk_89 (dk_at dksX2_init_19 11 rfl rfl)
theorem dX2_init_463 : decode cX2_init 463 = .ok (.bipush 35, 2) := dk_16 35 (dk_at dksX2_init_19 12 rfl rfl)
theorem dX2_init_465 : decode cX2_init 465 = .ok (.bipush 44, 2) := dk_16 44 (dk_at dksX2_init_19 14 rfl rfl)
theorem dX2_init_467 : decode cX2_init 467 = .ok (.iastore, 1) := dk_79 (dk_at dksX2_init_19 16 rfl rfl)
theorem dX2_init_468 : decode cX2_init 468 = .ok (.dup, 1) := dk_89 (dk_at dksX2_init_19 17 rfl rfl)
theorem dX2_init_469 : decode cX2_init 469 = .ok (.bipush 36, 2) := dk_16 36 (dk_at dksX2_init_19 18 rfl rfl)
theorem dX2_init_471 : decode cX2_init 471 = .ok (.bipush 59, 2) := dk_16 59 (dk_at dksX2_init_19 20 rfl rfl)
theorem dX2_init_473 : decode cX2_init 473 = .ok (.iastore, 1) := dk_79 (dk_at dksX2_init_19 22 rfl rfl)
theorem dX2_init_474 : decode cX2_init 474 = .ok (.putfield 68, 3) := dk_181 0 68 (dk_at dksX2_init_20 0 rfl rfl)
theorem dX2_init_477 : decode cX2_init 477 = .ok (.aload_n 0, 1) := dk_42 (dk_at dksX2_init_20 3 rfl rfl)
theorem dX2_init_478 : decode cX2_init 478 = .ok (.getfield 7, 3) := dk_180 0 7 (dk_at dksX2_init_20 4 rfl rfl)
theorem dX2_init_481 : decode cX2_init 481 = .ok (.sipush 977, 3) := dk_17 3 209 (dk_at dksX2_init_20 7 rfl rfl)
theorem dX2_init_484 : decode cX2_init 484 = .ok (.iconst 4, 1) := dk_7 (dk_at dksX2_init_20 10 rfl rfl)
theorem dX2_init_485 : decode cX2_init 485 = .ok (.iastore, 1) := dk_79 (dk_at dksX2_init_20 11 rfl rfl)
theorem dX2_init_486 : decode cX2_init 486 = .ok (.aload_n 0, 1) := dk_42 (dk_at dksX2_init_20 12 rfl rfl)
theorem dX2_init_487 : decode cX2_init 487 = .ok (.getfield 7, 3) := dk_180 0 7 (dk_at dksX2_init_20 13 rfl rfl)
theorem dX2_init_490 : decode cX2_init 490 = .ok (.sipush 979, 3) := dk_17 3 211 (dk_at dksX2_init_20 16 rfl rfl)
theorem dX2_init_493 : decode cX2_init 493 = .ok (.bipush 35, 2) := dk_16 35 (dk_at dksX2_init_20 19 rfl rfl)
theorem dX2_init_495 : decode cX2_init 495 = .ok (.iastore, 1) := dk_79 (dk_at dksX2_init_20 21 rfl rfl)
theorem dX2_init_496 : decode cX2_init 496 = .ok (.return_, 1) := dk_177 (dk_at dksX2_init_20 22 rfl rfl)
abbrev cX2_type : ByteArray := prog_10_method_34_code
def yX2_type : MethodName := ⟨RX2, "type", "(I)I"⟩
def dkwX2_type_2 : List UInt8 := [180, 0, 191, 172]
abbrev dktX2_type_2 : List UInt8 := dkwX2_type_2 ++ []
def dkwX2_type_1 : List UInt8 := [172, 42, 180, 0, 17, 42, 180, 0, 191, 27, 79, 42, 89, 180, 0, 191, 4, 96, 181, 0, 191, 42]
abbrev dktX2_type_1 : List UInt8 := dkwX2_type_1 ++ dktX2_type_2
def dkwX2_type_0 : List UInt8 := [27, 16, 32, 16, 126, 184, 0, 79, 154, 0, 5, 2, 172, 42, 180, 0, 191, 16, 72, 160, 0, 6, 16, 253]
abbrev dktX2_type_0 : List UInt8 := dkwX2_type_0 ++ dktX2_type_1
theorem dksX2_type_0 : cX2_type.data.toList.drop 0 = dktX2_type_0 := by decide +kernel
theorem dksX2_type_1 : cX2_type.data.toList.drop 24 = dktX2_type_1 := dk_seg dksX2_type_0 24 rfl rfl
theorem dksX2_type_2 : cX2_type.data.toList.drop 46 = dktX2_type_2 := dk_seg dksX2_type_1 22 rfl rfl
theorem dX2_type_0 : decode cX2_type 0 = .ok (.iload_n 1, 1) := dk_27 (dk_at dksX2_type_0 0 rfl rfl)
theorem dX2_type_1 : decode cX2_type 1 = .ok (.bipush 32, 2) := dk_16 32 (dk_at dksX2_type_0 1 rfl rfl)
theorem dX2_type_3 : decode cX2_type 3 = .ok (.bipush 126, 2) := dk_16 126 (dk_at dksX2_type_0 3 rfl rfl)
theorem dX2_type_5 : decode cX2_type 5 = .ok (.invokestatic 79, 3) := dk_184 0 79 (dk_at dksX2_type_0 5 rfl rfl)
theorem dX2_type_8 : decode cX2_type 8 = .ok (.ifCond .ne 5, 3) := dk_154 0 5 (dk_at dksX2_type_0 8 rfl rfl)
theorem dX2_type_11 : decode cX2_type 11 = .ok (.iconst (-1), 1) := dk_2 (dk_at dksX2_type_0 11 rfl rfl)
theorem dX2_type_12 : decode cX2_type 12 = .ok (.ireturn, 1) := dk_172 (dk_at dksX2_type_0 12 rfl rfl)
theorem dX2_type_13 : decode cX2_type 13 = .ok (.aload_n 0, 1) := dk_42 (dk_at dksX2_type_0 13 rfl rfl)
theorem dX2_type_14 : decode cX2_type 14 = .ok (.getfield 191, 3) := dk_180 0 191 (dk_at dksX2_type_0 14 rfl rfl)
theorem dX2_type_17 : decode cX2_type 17 = .ok (.bipush 72, 2) := dk_16 72 (dk_at dksX2_type_0 17 rfl rfl)
theorem dX2_type_19 : decode cX2_type 19 = .ok (.if_icmp .ne 6, 3) := dk_160 0 6 (dk_at dksX2_type_0 19 rfl rfl)
theorem dX2_type_22 : decode cX2_type 22 = .ok (.bipush (-3), 2) := dk_16 253 (dk_at dksX2_type_0 22 rfl rfl)
theorem dX2_type_24 : decode cX2_type 24 = .ok (.ireturn, 1) := dk_172 (dk_at dksX2_type_1 0 rfl rfl)
theorem dX2_type_25 : decode cX2_type 25 = .ok (.aload_n 0, 1) := dk_42 (dk_at dksX2_type_1 1 rfl rfl)
theorem dX2_type_26 : decode cX2_type 26 = .ok (.getfield 17, 3) := dk_180 0 17 (dk_at dksX2_type_1 2 rfl rfl)
theorem dX2_type_29 : decode cX2_type 29 = .ok (.aload_n 0, 1) := dk_42 (dk_at dksX2_type_1 5 rfl rfl)
theorem dX2_type_30 : decode cX2_type 30 = .ok (.getfield 191, 3) := dk_180 0 191 (dk_at dksX2_type_1 6 rfl rfl)
theorem dX2_type_33 : decode cX2_type 33 = .ok (.iload_n 1, 1) := dk_27 (dk_at dksX2_type_1 9 rfl rfl)
theorem dX2_type_34 : decode cX2_type 34 = .ok (.iastore, 1) := dk_79 (dk_at dksX2_type_1 10 rfl rfl)
theorem dX2_type_35 : decode cX2_type 35 = .ok (.aload_n 0, 1) := dk_42 (dk_at dksX2_type_1 11 rfl rfl)
theorem dX2_type_36 : decode cX2_type 36 = .ok (.dup, 1) := dk_89 (dk_at dksX2_type_1 12 rfl rfl)
theorem dX2_type_37 : decode cX2_type 37 = .ok (.getfield 191, 3) := dk_180 0 191 (dk_at dksX2_type_1 13 rfl rfl)
theorem dX2_type_40 : decode cX2_type 40 = .ok (.iconst 1, 1) := dk_4 (dk_at dksX2_type_1 16 rfl rfl)
theorem dX2_type_41 : decode cX2_type 41 = .ok (.iadd, 1) := dk_96 (dk_at dksX2_type_1 17 rfl rfl)
theorem dX2_type_42 : decode cX2_type 42 = .ok (.putfield 191, 3) := dk_181 0 191 (dk_at dksX2_type_1 18 rfl rfl)
theorem dX2_type_45 : decode cX2_type 45 = .ok (.aload_n 0, 1) := dk_42 (dk_at dksX2_type_1 21 rfl rfl)
theorem dX2_type_46 : decode cX2_type 46 = .ok (.getfield 191, 3) := dk_180 0 191 (dk_at dksX2_type_2 0 rfl rfl)
theorem dX2_type_49 : decode cX2_type 49 = .ok (.ireturn, 1) := dk_172 (dk_at dksX2_type_2 3 rfl rfl)
abbrev cX2_in : ByteArray := prog_10_method_3_code
def yX2_in : MethodName := ⟨RX2, "in", "(III)Z"⟩
def dkwX2_in_0 : List UInt8 := [26, 27, 161, 0, 12, 26, 28, 163, 0, 7, 4, 167, 0, 4, 3, 172]
abbrev dktX2_in_0 : List UInt8 := dkwX2_in_0 ++ []
theorem dksX2_in_0 : cX2_in.data.toList.drop 0 = dktX2_in_0 := by decide +kernel
theorem dX2_in_0 : decode cX2_in 0 = .ok (.iload_n 0, 1) := dk_26 (dk_at dksX2_in_0 0 rfl rfl)
theorem dX2_in_1 : decode cX2_in 1 = .ok (.iload_n 1, 1) := dk_27 (dk_at dksX2_in_0 1 rfl rfl)
theorem dX2_in_2 : decode cX2_in 2 = .ok (.if_icmp .lt 12, 3) := dk_161 0 12 (dk_at dksX2_in_0 2 rfl rfl)
theorem dX2_in_5 : decode cX2_in 5 = .ok (.iload_n 0, 1) := dk_26 (dk_at dksX2_in_0 5 rfl rfl)
theorem dX2_in_6 : decode cX2_in 6 = .ok (.iload_n 2, 1) := dk_28 (dk_at dksX2_in_0 6 rfl rfl)
theorem dX2_in_7 : decode cX2_in 7 = .ok (.if_icmp .gt 7, 3) := dk_163 0 7 (dk_at dksX2_in_0 7 rfl rfl)
theorem dX2_in_10 : decode cX2_in 10 = .ok (.iconst 1, 1) := dk_4 (dk_at dksX2_in_0 10 rfl rfl)
theorem dX2_in_11 : decode cX2_in 11 = .ok (.goto 4, 3) := dk_167 0 4 (dk_at dksX2_in_0 11 rfl rfl)
theorem dX2_in_14 : decode cX2_in 14 = .ok (.iconst 0, 1) := dk_3 (dk_at dksX2_in_0 14 rfl rfl)
theorem dX2_in_15 : decode cX2_in 15 = .ok (.ireturn, 1) := dk_172 (dk_at dksX2_in_0 15 rfl rfl)
abbrev cX2_clear : ByteArray := prog_10_method_35_code
def yX2_clear : MethodName := ⟨RX2, "clear", "()I"⟩
def dkwX2_clear_0 : List UInt8 := [42, 180, 0, 191, 60, 42, 3, 181, 0, 191, 27, 172]
abbrev dktX2_clear_0 : List UInt8 := dkwX2_clear_0 ++ []
theorem dksX2_clear_0 : cX2_clear.data.toList.drop 0 = dktX2_clear_0 := by decide +kernel
theorem dX2_clear_0 : decode cX2_clear 0 = .ok (.aload_n 0, 1) := dk_42 (dk_at dksX2_clear_0 0 rfl rfl)
theorem dX2_clear_1 : decode cX2_clear 1 = .ok (.getfield 191, 3) := dk_180 0 191 (dk_at dksX2_clear_0 1 rfl rfl)
theorem dX2_clear_4 : decode cX2_clear 4 = .ok (.istore_n 1, 1) := dk_60 (dk_at dksX2_clear_0 4 rfl rfl)
theorem dX2_clear_5 : decode cX2_clear 5 = .ok (.aload_n 0, 1) := dk_42 (dk_at dksX2_clear_0 5 rfl rfl)
theorem dX2_clear_6 : decode cX2_clear 6 = .ok (.iconst 0, 1) := dk_3 (dk_at dksX2_clear_0 6 rfl rfl)
theorem dX2_clear_7 : decode cX2_clear 7 = .ok (.putfield 191, 3) := dk_181 0 191 (dk_at dksX2_clear_0 7 rfl rfl)
theorem dX2_clear_10 : decode cX2_clear 10 = .ok (.iload_n 1, 1) := dk_27 (dk_at dksX2_clear_0 10 rfl rfl)
theorem dX2_clear_11 : decode cX2_clear 11 = .ok (.ireturn, 1) := dk_172 (dk_at dksX2_clear_0 11 rfl rfl)
abbrev cX2_insertLine : ByteArray := prog_10_method_41_code
def yX2_insertLine : MethodName := ⟨RX2, "insertLine", "(I)I"⟩
def dkwX2_insertLine_2 : List UInt8 := [182, 0, 213, 42, 180, 0, 7, 3, 46, 172]
abbrev dktX2_insertLine_2 : List UInt8 := dkwX2_insertLine_2 ++ []
def dkwX2_insertLine_1 : List UInt8 := [159, 0, 10, 42, 182, 0, 203, 154, 0, 6, 16, 253, 172, 42, 182, 0, 207, 42, 27, 182, 0, 210, 42, 27]
abbrev dktX2_insertLine_1 : List UInt8 := dkwX2_insertLine_1 ++ dktX2_insertLine_2
def dkwX2_insertLine_0 : List UInt8 := [27, 3, 42, 180, 0, 7, 3, 46, 184, 0, 79, 154, 0, 5, 2, 172, 42, 180, 0, 7, 3, 46, 16, 20]
abbrev dktX2_insertLine_0 : List UInt8 := dkwX2_insertLine_0 ++ dktX2_insertLine_1
theorem dksX2_insertLine_0 : cX2_insertLine.data.toList.drop 0 = dktX2_insertLine_0 := by decide +kernel
theorem dksX2_insertLine_1 : cX2_insertLine.data.toList.drop 24 = dktX2_insertLine_1 := dk_seg dksX2_insertLine_0 24 rfl rfl
theorem dksX2_insertLine_2 : cX2_insertLine.data.toList.drop 48 = dktX2_insertLine_2 := dk_seg dksX2_insertLine_1 24 rfl rfl
theorem dX2_insertLine_0 : decode cX2_insertLine 0 = .ok (.iload_n 1, 1) := dk_27 (dk_at dksX2_insertLine_0 0 rfl rfl)
theorem dX2_insertLine_1 : decode cX2_insertLine 1 = .ok (.iconst 0, 1) := dk_3 (dk_at dksX2_insertLine_0 1 rfl rfl)
theorem dX2_insertLine_2 : decode cX2_insertLine 2 = .ok (.aload_n 0, 1) := dk_42 (dk_at dksX2_insertLine_0 2 rfl rfl)
theorem dX2_insertLine_3 : decode cX2_insertLine 3 = .ok (.getfield 7, 3) := dk_180 0 7 (dk_at dksX2_insertLine_0 3 rfl rfl)
theorem dX2_insertLine_6 : decode cX2_insertLine 6 = .ok (.iconst 0, 1) := dk_3 (dk_at dksX2_insertLine_0 6 rfl rfl)
theorem dX2_insertLine_7 : decode cX2_insertLine 7 = .ok (.iaload, 1) := dk_46 (dk_at dksX2_insertLine_0 7 rfl rfl)
theorem dX2_insertLine_8 : decode cX2_insertLine 8 = .ok (.invokestatic 79, 3) := dk_184 0 79 (dk_at dksX2_insertLine_0 8 rfl rfl)
theorem dX2_insertLine_11 : decode cX2_insertLine 11 = .ok (.ifCond .ne 5, 3) := dk_154 0 5 (dk_at dksX2_insertLine_0 11 rfl rfl)
theorem dX2_insertLine_14 : decode cX2_insertLine 14 = .ok (.iconst (-1), 1) := dk_2 (dk_at dksX2_insertLine_0 14 rfl rfl)
theorem dX2_insertLine_15 : decode cX2_insertLine 15 = .ok (.ireturn, 1) := dk_172 (dk_at dksX2_insertLine_0 15 rfl rfl)
theorem dX2_insertLine_16 : decode cX2_insertLine 16 = .ok (.aload_n 0, 1) := dk_42 (dk_at dksX2_insertLine_0 16 rfl rfl)
theorem dX2_insertLine_17 : decode cX2_insertLine 17 = .ok (.getfield 7, 3) := dk_180 0 7 (dk_at dksX2_insertLine_0 17 rfl rfl)
theorem dX2_insertLine_20 : decode cX2_insertLine 20 = .ok (.iconst 0, 1) := dk_3 (dk_at dksX2_insertLine_0 20 rfl rfl)
theorem dX2_insertLine_21 : decode cX2_insertLine 21 = .ok (.iaload, 1) := dk_46 (dk_at dksX2_insertLine_0 21 rfl rfl)
theorem dX2_insertLine_22 : decode cX2_insertLine 22 = .ok (.bipush 20, 2) := dk_16 20 (dk_at dksX2_insertLine_0 22 rfl rfl)
theorem dX2_insertLine_24 : decode cX2_insertLine 24 = .ok (.if_icmp .eq 10, 3) := dk_159 0 10 (dk_at dksX2_insertLine_1 0 rfl rfl)
theorem dX2_insertLine_27 : decode cX2_insertLine 27 = .ok (.aload_n 0, 1) := dk_42 (dk_at dksX2_insertLine_1 3 rfl rfl)
theorem dX2_insertLine_28 : decode cX2_insertLine 28 = .ok (.invokevirtual 203, 3) := dk_182 0 203 (dk_at dksX2_insertLine_1 4 rfl rfl)
theorem dX2_insertLine_31 : decode cX2_insertLine 31 = .ok (.ifCond .ne 6, 3) := dk_154 0 6 (dk_at dksX2_insertLine_1 7 rfl rfl)
theorem dX2_insertLine_34 : decode cX2_insertLine 34 = .ok (.bipush (-3), 2) := dk_16 253 (dk_at dksX2_insertLine_1 10 rfl rfl)
theorem dX2_insertLine_36 : decode cX2_insertLine 36 = .ok (.ireturn, 1) := dk_172 (dk_at dksX2_insertLine_1 12 rfl rfl)
theorem dX2_insertLine_37 : decode cX2_insertLine 37 = .ok (.aload_n 0, 1) := dk_42 (dk_at dksX2_insertLine_1 13 rfl rfl)
theorem dX2_insertLine_38 : decode cX2_insertLine 38 = .ok (.invokevirtual 207, 3) := dk_182 0 207 (dk_at dksX2_insertLine_1 14 rfl rfl)
theorem dX2_insertLine_41 : decode cX2_insertLine 41 = .ok (.aload_n 0, 1) := dk_42 (dk_at dksX2_insertLine_1 17 rfl rfl)
theorem dX2_insertLine_42 : decode cX2_insertLine 42 = .ok (.iload_n 1, 1) := dk_27 (dk_at dksX2_insertLine_1 18 rfl rfl)
theorem dX2_insertLine_43 : decode cX2_insertLine 43 = .ok (.invokevirtual 210, 3) := dk_182 0 210 (dk_at dksX2_insertLine_1 19 rfl rfl)
theorem dX2_insertLine_46 : decode cX2_insertLine 46 = .ok (.aload_n 0, 1) := dk_42 (dk_at dksX2_insertLine_1 22 rfl rfl)
theorem dX2_insertLine_47 : decode cX2_insertLine 47 = .ok (.iload_n 1, 1) := dk_27 (dk_at dksX2_insertLine_1 23 rfl rfl)
theorem dX2_insertLine_48 : decode cX2_insertLine 48 = .ok (.invokevirtual 213, 3) := dk_182 0 213 (dk_at dksX2_insertLine_2 0 rfl rfl)
theorem dX2_insertLine_51 : decode cX2_insertLine 51 = .ok (.aload_n 0, 1) := dk_42 (dk_at dksX2_insertLine_2 3 rfl rfl)
theorem dX2_insertLine_52 : decode cX2_insertLine 52 = .ok (.getfield 7, 3) := dk_180 0 7 (dk_at dksX2_insertLine_2 4 rfl rfl)
theorem dX2_insertLine_55 : decode cX2_insertLine 55 = .ok (.iconst 0, 1) := dk_3 (dk_at dksX2_insertLine_2 7 rfl rfl)
theorem dX2_insertLine_56 : decode cX2_insertLine 56 = .ok (.iaload, 1) := dk_46 (dk_at dksX2_insertLine_2 8 rfl rfl)
theorem dX2_insertLine_57 : decode cX2_insertLine 57 = .ok (.ireturn, 1) := dk_172 (dk_at dksX2_insertLine_2 9 rfl rfl)
abbrev cX2_isLineText : ByteArray := prog_10_method_36_code
def yX2_isLineText : MethodName := ⟨RX2, "isLineText", "()Z"⟩
def dkwX2_isLineText_5 : List UInt8 := [16, 32, 163, 0, 7, 4, 167, 0, 4, 3, 172]
abbrev dktX2_isLineText_5 : List UInt8 := dkwX2_isLineText_5 ++ []
def dkwX2_isLineText_4 : List UInt8 := [180, 0, 194, 159, 0, 26, 42, 180, 0, 194, 16, 40, 163, 0, 21, 42, 180, 0, 197, 42, 180, 0, 194, 100]
abbrev dktX2_isLineText_4 : List UInt8 := dkwX2_isLineText_4 ++ dktX2_isLineText_5
def dkwX2_isLineText_3 : List UInt8 := [46, 16, 32, 160, 0, 16, 42, 89, 180, 0, 197, 4, 100, 181, 0, 197, 167, 255, 219, 42, 180, 0, 197, 42]
abbrev dktX2_isLineText_3 : List UInt8 := dkwX2_isLineText_3 ++ dktX2_isLineText_4
def dkwX2_isLineText_2 : List UInt8 := [181, 0, 197, 42, 180, 0, 197, 42, 180, 0, 194, 164, 0, 32, 42, 180, 0, 17, 42, 180, 0, 197, 4, 100]
abbrev dktX2_isLineText_2 : List UInt8 := dkwX2_isLineText_2 ++ dktX2_isLineText_3
def dkwX2_isLineText_1 : List UInt8 := [46, 16, 32, 160, 0, 16, 42, 89, 180, 0, 194, 4, 96, 181, 0, 194, 167, 255, 221, 42, 42, 180, 0, 191]
abbrev dktX2_isLineText_1 : List UInt8 := dkwX2_isLineText_1 ++ dktX2_isLineText_2
def dkwX2_isLineText_0 : List UInt8 := [42, 3, 181, 0, 194, 42, 180, 0, 194, 42, 180, 0, 191, 162, 0, 30, 42, 180, 0, 17, 42, 180, 0, 194]
abbrev dktX2_isLineText_0 : List UInt8 := dkwX2_isLineText_0 ++ dktX2_isLineText_1
theorem dksX2_isLineText_0 : cX2_isLineText.data.toList.drop 0 = dktX2_isLineText_0 := by decide +kernel
theorem dksX2_isLineText_1 : cX2_isLineText.data.toList.drop 24 = dktX2_isLineText_1 := dk_seg dksX2_isLineText_0 24 rfl rfl
theorem dksX2_isLineText_2 : cX2_isLineText.data.toList.drop 48 = dktX2_isLineText_2 := dk_seg dksX2_isLineText_1 24 rfl rfl
theorem dksX2_isLineText_3 : cX2_isLineText.data.toList.drop 72 = dktX2_isLineText_3 := dk_seg dksX2_isLineText_2 24 rfl rfl
theorem dksX2_isLineText_4 : cX2_isLineText.data.toList.drop 96 = dktX2_isLineText_4 := dk_seg dksX2_isLineText_3 24 rfl rfl
theorem dksX2_isLineText_5 : cX2_isLineText.data.toList.drop 120 = dktX2_isLineText_5 := dk_seg dksX2_isLineText_4 24 rfl rfl
theorem dX2_isLineText_0 : decode cX2_isLineText 0 = .ok (.aload_n 0, 1) := dk_42 (dk_at dksX2_isLineText_0 0 rfl rfl)
theorem dX2_isLineText_1 : decode cX2_isLineText 1 = .ok (.iconst 0, 1) := dk_3 (dk_at dksX2_isLineText_0 1 rfl rfl)
theorem dX2_isLineText_2 : decode cX2_isLineText 2 = .ok (.putfield 194, 3) := dk_181 0 194 (dk_at dksX2_isLineText_0 2 rfl rfl)
theorem dX2_isLineText_5 : decode cX2_isLineText 5 = .ok (.aload_n 0, 1) := dk_42 (dk_at dksX2_isLineText_0 5 rfl rfl)
theorem dX2_isLineText_6 : decode cX2_isLineText 6 = .ok (.getfield 194, 3) := dk_180 0 194 (dk_at dksX2_isLineText_0 6 rfl rfl)
theorem dX2_isLineText_9 : decode cX2_isLineText 9 = .ok (.aload_n 0, 1) := dk_42 (dk_at dksX2_isLineText_0 9 rfl rfl)
theorem dX2_isLineText_10 : decode cX2_isLineText 10 = .ok (.getfield 191, 3) := dk_180 0 191 (dk_at dksX2_isLineText_0 10 rfl rfl)
theorem dX2_isLineText_13 : decode cX2_isLineText 13 = .ok (.if_icmp .ge 30, 3) := dk_162 0 30 (dk_at dksX2_isLineText_0 13 rfl rfl)
theorem dX2_isLineText_16 : decode cX2_isLineText 16 = .ok (.aload_n 0, 1) := dk_42 (dk_at dksX2_isLineText_0 16 rfl rfl)
theorem dX2_isLineText_17 : decode cX2_isLineText 17 = .ok (.getfield 17, 3) := dk_180 0 17 (dk_at dksX2_isLineText_0 17 rfl rfl)
theorem dX2_isLineText_20 : decode cX2_isLineText 20 = .ok (.aload_n 0, 1) := dk_42 (dk_at dksX2_isLineText_0 20 rfl rfl)
theorem dX2_isLineText_21 : decode cX2_isLineText 21 = .ok (.getfield 194, 3) := dk_180 0 194 (dk_at dksX2_isLineText_0 21 rfl rfl)
theorem dX2_isLineText_24 : decode cX2_isLineText 24 = .ok (.iaload, 1) := dk_46 (dk_at dksX2_isLineText_1 0 rfl rfl)
theorem dX2_isLineText_25 : decode cX2_isLineText 25 = .ok (.bipush 32, 2) := dk_16 32 (dk_at dksX2_isLineText_1 1 rfl rfl)
theorem dX2_isLineText_27 : decode cX2_isLineText 27 = .ok (.if_icmp .ne 16, 3) := dk_160 0 16 (dk_at dksX2_isLineText_1 3 rfl rfl)
theorem dX2_isLineText_30 : decode cX2_isLineText 30 = .ok (.aload_n 0, 1) := dk_42 (dk_at dksX2_isLineText_1 6 rfl rfl)
theorem dX2_isLineText_31 : decode cX2_isLineText 31 = .ok (.dup, 1) := dk_89 (dk_at dksX2_isLineText_1 7 rfl rfl)
theorem dX2_isLineText_32 : decode cX2_isLineText 32 = .ok (.getfield 194, 3) := dk_180 0 194 (dk_at dksX2_isLineText_1 8 rfl rfl)
theorem dX2_isLineText_35 : decode cX2_isLineText 35 = .ok (.iconst 1, 1) := dk_4 (dk_at dksX2_isLineText_1 11 rfl rfl)
theorem dX2_isLineText_36 : decode cX2_isLineText 36 = .ok (.iadd, 1) := dk_96 (dk_at dksX2_isLineText_1 12 rfl rfl)
theorem dX2_isLineText_37 : decode cX2_isLineText 37 = .ok (.putfield 194, 3) := dk_181 0 194 (dk_at dksX2_isLineText_1 13 rfl rfl)
theorem dX2_isLineText_40 : decode cX2_isLineText 40 = .ok (.goto (-35), 3) := dk_167 255 221 (dk_at dksX2_isLineText_1 16 rfl rfl)
theorem dX2_isLineText_43 : decode cX2_isLineText 43 = .ok (.aload_n 0, 1) := dk_42 (dk_at dksX2_isLineText_1 19 rfl rfl)
theorem dX2_isLineText_44 : decode cX2_isLineText 44 = .ok (.aload_n 0, 1) := dk_42 (dk_at dksX2_isLineText_1 20 rfl rfl)
theorem dX2_isLineText_45 : decode cX2_isLineText 45 = .ok (.getfield 191, 3) := dk_180 0 191 (dk_at dksX2_isLineText_1 21 rfl rfl)
theorem dX2_isLineText_48 : decode cX2_isLineText 48 = .ok (.putfield 197, 3) := dk_181 0 197 (dk_at dksX2_isLineText_2 0 rfl rfl)
theorem dX2_isLineText_51 : decode cX2_isLineText 51 = .ok (.aload_n 0, 1) := dk_42 (dk_at dksX2_isLineText_2 3 rfl rfl)
theorem dX2_isLineText_52 : decode cX2_isLineText 52 = .ok (.getfield 197, 3) := dk_180 0 197 (dk_at dksX2_isLineText_2 4 rfl rfl)
theorem dX2_isLineText_55 : decode cX2_isLineText 55 = .ok (.aload_n 0, 1) := dk_42 (dk_at dksX2_isLineText_2 7 rfl rfl)
theorem dX2_isLineText_56 : decode cX2_isLineText 56 = .ok (.getfield 194, 3) := dk_180 0 194 (dk_at dksX2_isLineText_2 8 rfl rfl)
theorem dX2_isLineText_59 : decode cX2_isLineText 59 = .ok (.if_icmp .le 32, 3) := dk_164 0 32 (dk_at dksX2_isLineText_2 11 rfl rfl)
theorem dX2_isLineText_62 : decode cX2_isLineText 62 = .ok (.aload_n 0, 1) := dk_42 (dk_at dksX2_isLineText_2 14 rfl rfl)
theorem dX2_isLineText_63 : decode cX2_isLineText 63 = .ok (.getfield 17, 3) := dk_180 0 17 (dk_at dksX2_isLineText_2 15 rfl rfl)
theorem dX2_isLineText_66 : decode cX2_isLineText 66 = .ok (.aload_n 0, 1) := dk_42 (dk_at dksX2_isLineText_2 18 rfl rfl)
theorem dX2_isLineText_67 : decode cX2_isLineText 67 = .ok (.getfield 197, 3) := dk_180 0 197 (dk_at dksX2_isLineText_2 19 rfl rfl)
theorem dX2_isLineText_70 : decode cX2_isLineText 70 = .ok (.iconst 1, 1) := dk_4 (dk_at dksX2_isLineText_2 22 rfl rfl)
theorem dX2_isLineText_71 : decode cX2_isLineText 71 = .ok (.isub, 1) := dk_100 (dk_at dksX2_isLineText_2 23 rfl rfl)
theorem dX2_isLineText_72 : decode cX2_isLineText 72 = .ok (.iaload, 1) := dk_46 (dk_at dksX2_isLineText_3 0 rfl rfl)
theorem dX2_isLineText_73 : decode cX2_isLineText 73 = .ok (.bipush 32, 2) := dk_16 32 (dk_at dksX2_isLineText_3 1 rfl rfl)
theorem dX2_isLineText_75 : decode cX2_isLineText 75 = .ok (.if_icmp .ne 16, 3) := dk_160 0 16 (dk_at dksX2_isLineText_3 3 rfl rfl)
theorem dX2_isLineText_78 : decode cX2_isLineText 78 = .ok (.aload_n 0, 1) := dk_42 (dk_at dksX2_isLineText_3 6 rfl rfl)
theorem dX2_isLineText_79 : decode cX2_isLineText 79 = .ok (.dup, 1) := dk_89 (dk_at dksX2_isLineText_3 7 rfl rfl)
theorem dX2_isLineText_80 : decode cX2_isLineText 80 = .ok (.getfield 197, 3) := dk_180 0 197 (dk_at dksX2_isLineText_3 8 rfl rfl)
theorem dX2_isLineText_83 : decode cX2_isLineText 83 = .ok (.iconst 1, 1) := dk_4 (dk_at dksX2_isLineText_3 11 rfl rfl)
theorem dX2_isLineText_84 : decode cX2_isLineText 84 = .ok (.isub, 1) := dk_100 (dk_at dksX2_isLineText_3 12 rfl rfl)
theorem dX2_isLineText_85 : decode cX2_isLineText 85 = .ok (.putfield 197, 3) := dk_181 0 197 (dk_at dksX2_isLineText_3 13 rfl rfl)
theorem dX2_isLineText_88 : decode cX2_isLineText 88 = .ok (.goto (-37), 3) := dk_167 255 219 (dk_at dksX2_isLineText_3 16 rfl rfl)
theorem dX2_isLineText_91 : decode cX2_isLineText 91 = .ok (.aload_n 0, 1) := dk_42 (dk_at dksX2_isLineText_3 19 rfl rfl)
theorem dX2_isLineText_92 : decode cX2_isLineText 92 = .ok (.getfield 197, 3) := dk_180 0 197 (dk_at dksX2_isLineText_3 20 rfl rfl)
theorem dX2_isLineText_95 : decode cX2_isLineText 95 = .ok (.aload_n 0, 1) := dk_42 (dk_at dksX2_isLineText_3 23 rfl rfl)
theorem dX2_isLineText_96 : decode cX2_isLineText 96 = .ok (.getfield 194, 3) := dk_180 0 194 (dk_at dksX2_isLineText_4 0 rfl rfl)
theorem dX2_isLineText_99 : decode cX2_isLineText 99 = .ok (.if_icmp .eq 26, 3) := dk_159 0 26 (dk_at dksX2_isLineText_4 3 rfl rfl)
theorem dX2_isLineText_102 : decode cX2_isLineText 102 = .ok (.aload_n 0, 1) := dk_42 (dk_at dksX2_isLineText_4 6 rfl rfl)
theorem dX2_isLineText_103 : decode cX2_isLineText 103 = .ok (.getfield 194, 3) := dk_180 0 194 (dk_at dksX2_isLineText_4 7 rfl rfl)
theorem dX2_isLineText_106 : decode cX2_isLineText 106 = .ok (.bipush 40, 2) := dk_16 40 (dk_at dksX2_isLineText_4 10 rfl rfl)
theorem dX2_isLineText_108 : decode cX2_isLineText 108 = .ok (.if_icmp .gt 21, 3) := dk_163 0 21 (dk_at dksX2_isLineText_4 12 rfl rfl)
theorem dX2_isLineText_111 : decode cX2_isLineText 111 = .ok (.aload_n 0, 1) := dk_42 (dk_at dksX2_isLineText_4 15 rfl rfl)
theorem dX2_isLineText_112 : decode cX2_isLineText 112 = .ok (.getfield 197, 3) := dk_180 0 197 (dk_at dksX2_isLineText_4 16 rfl rfl)
theorem dX2_isLineText_115 : decode cX2_isLineText 115 = .ok (.aload_n 0, 1) := dk_42 (dk_at dksX2_isLineText_4 19 rfl rfl)
theorem dX2_isLineText_116 : decode cX2_isLineText 116 = .ok (.getfield 194, 3) := dk_180 0 194 (dk_at dksX2_isLineText_4 20 rfl rfl)
theorem dX2_isLineText_119 : decode cX2_isLineText 119 = .ok (.isub, 1) := dk_100 (dk_at dksX2_isLineText_4 23 rfl rfl)
theorem dX2_isLineText_120 : decode cX2_isLineText 120 = .ok (.bipush 32, 2) := dk_16 32 (dk_at dksX2_isLineText_5 0 rfl rfl)
theorem dX2_isLineText_122 : decode cX2_isLineText 122 = .ok (.if_icmp .gt 7, 3) := dk_163 0 7 (dk_at dksX2_isLineText_5 2 rfl rfl)
theorem dX2_isLineText_125 : decode cX2_isLineText 125 = .ok (.iconst 1, 1) := dk_4 (dk_at dksX2_isLineText_5 5 rfl rfl)
theorem dX2_isLineText_126 : decode cX2_isLineText 126 = .ok (.goto 4, 3) := dk_167 0 4 (dk_at dksX2_isLineText_5 6 rfl rfl)
theorem dX2_isLineText_129 : decode cX2_isLineText 129 = .ok (.iconst 0, 1) := dk_3 (dk_at dksX2_isLineText_5 9 rfl rfl)
theorem dX2_isLineText_130 : decode cX2_isLineText 130 = .ok (.ireturn, 1) := dk_172 (dk_at dksX2_isLineText_5 10 rfl rfl)
abbrev cX2_begins : ByteArray := prog_10_method_6_code
def yX2_begins : MethodName := ⟨RX2, "begins", "()V"⟩
def dkwX2_begins_2 : List UInt8 := [180, 0, 71, 96, 182, 0, 75, 42, 89, 180, 0, 71, 4, 96, 181, 0, 71, 177]
abbrev dktX2_begins_2 : List UInt8 := dkwX2_begins_2 ++ []
def dkwX2_begins_1 : List UInt8 := [182, 0, 75, 132, 1, 1, 167, 255, 239, 42, 89, 180, 0, 71, 4, 100, 181, 0, 71, 42, 3, 4, 42]
abbrev dktX2_begins_1 : List UInt8 := dkwX2_begins_1 ++ dktX2_begins_2
def dkwX2_begins_0 : List UInt8 := [42, 180, 0, 71, 16, 8, 160, 0, 35, 4, 60, 27, 16, 8, 162, 0, 17, 42, 27, 4, 96, 27]
abbrev dktX2_begins_0 : List UInt8 := dkwX2_begins_0 ++ dktX2_begins_1
theorem dksX2_begins_0 : cX2_begins.data.toList.drop 0 = dktX2_begins_0 := by decide +kernel
theorem dksX2_begins_1 : cX2_begins.data.toList.drop 22 = dktX2_begins_1 := dk_seg dksX2_begins_0 22 rfl rfl
theorem dksX2_begins_2 : cX2_begins.data.toList.drop 45 = dktX2_begins_2 := dk_seg dksX2_begins_1 23 rfl rfl
theorem dX2_begins_0 : decode cX2_begins 0 = .ok (.aload_n 0, 1) := dk_42 (dk_at dksX2_begins_0 0 rfl rfl)
theorem dX2_begins_1 : decode cX2_begins 1 = .ok (.getfield 71, 3) := dk_180 0 71 (dk_at dksX2_begins_0 1 rfl rfl)
theorem dX2_begins_4 : decode cX2_begins 4 = .ok (.bipush 8, 2) := dk_16 8 (dk_at dksX2_begins_0 4 rfl rfl)
theorem dX2_begins_6 : decode cX2_begins 6 = .ok (.if_icmp .ne 35, 3) := dk_160 0 35 (dk_at dksX2_begins_0 6 rfl rfl)
theorem dX2_begins_9 : decode cX2_begins 9 = .ok (.iconst 1, 1) := dk_4 (dk_at dksX2_begins_0 9 rfl rfl)
theorem dX2_begins_10 : decode cX2_begins 10 = .ok (.istore_n 1, 1) := dk_60 (dk_at dksX2_begins_0 10 rfl rfl)
theorem dX2_begins_11 : decode cX2_begins 11 = .ok (.iload_n 1, 1) := dk_27 (dk_at dksX2_begins_0 11 rfl rfl)
theorem dX2_begins_12 : decode cX2_begins 12 = .ok (.bipush 8, 2) := dk_16 8 (dk_at dksX2_begins_0 12 rfl rfl)
theorem dX2_begins_14 : decode cX2_begins 14 = .ok (.if_icmp .ge 17, 3) := dk_162 0 17 (dk_at dksX2_begins_0 14 rfl rfl)
theorem dX2_begins_17 : decode cX2_begins 17 = .ok (.aload_n 0, 1) := dk_42 (dk_at dksX2_begins_0 17 rfl rfl)
theorem dX2_begins_18 : decode cX2_begins 18 = .ok (.iload_n 1, 1) := dk_27 (dk_at dksX2_begins_0 18 rfl rfl)
theorem dX2_begins_19 : decode cX2_begins 19 = .ok (.iconst 1, 1) := dk_4 (dk_at dksX2_begins_0 19 rfl rfl)
theorem dX2_begins_20 : decode cX2_begins 20 = .ok (.iadd, 1) := dk_96 (dk_at dksX2_begins_0 20 rfl rfl)
theorem dX2_begins_21 : decode cX2_begins 21 = .ok (.iload_n 1, 1) := dk_27 (dk_at dksX2_begins_0 21 rfl rfl)
theorem dX2_begins_22 : decode cX2_begins 22 = .ok (.invokevirtual 75, 3) := dk_182 0 75 (dk_at dksX2_begins_1 0 rfl rfl)
theorem dX2_begins_25 : decode cX2_begins 25 = .ok (.iinc 1 1, 3) := dk_132 1 1 (dk_at dksX2_begins_1 3 rfl rfl)
theorem dX2_begins_28 : decode cX2_begins 28 = .ok (.goto (-17), 3) := dk_167 255 239 (dk_at dksX2_begins_1 6 rfl rfl)
theorem dX2_begins_31 : decode cX2_begins 31 = .ok (.aload_n 0, 1) := dk_42 (dk_at dksX2_begins_1 9 rfl rfl)
theorem dX2_begins_32 : decode cX2_begins 32 = .ok (.dup, 1) := dk_89 (dk_at dksX2_begins_1 10 rfl rfl)
theorem dX2_begins_33 : decode cX2_begins 33 = .ok (.getfield 71, 3) := dk_180 0 71 (dk_at dksX2_begins_1 11 rfl rfl)
theorem dX2_begins_36 : decode cX2_begins 36 = .ok (.iconst 1, 1) := dk_4 (dk_at dksX2_begins_1 14 rfl rfl)
theorem dX2_begins_37 : decode cX2_begins 37 = .ok (.isub, 1) := dk_100 (dk_at dksX2_begins_1 15 rfl rfl)
theorem dX2_begins_38 : decode cX2_begins 38 = .ok (.putfield 71, 3) := dk_181 0 71 (dk_at dksX2_begins_1 16 rfl rfl)
theorem dX2_begins_41 : decode cX2_begins 41 = .ok (.aload_n 0, 1) := dk_42 (dk_at dksX2_begins_1 19 rfl rfl)
theorem dX2_begins_42 : decode cX2_begins 42 = .ok (.iconst 0, 1) := dk_3 (dk_at dksX2_begins_1 20 rfl rfl)
theorem dX2_begins_43 : decode cX2_begins 43 = .ok (.iconst 1, 1) := dk_4 (dk_at dksX2_begins_1 21 rfl rfl)
theorem dX2_begins_44 : decode cX2_begins 44 = .ok (.aload_n 0, 1) := dk_42 (dk_at dksX2_begins_1 22 rfl rfl)
theorem dX2_begins_45 : decode cX2_begins 45 = .ok (.getfield 71, 3) := dk_180 0 71 (dk_at dksX2_begins_2 0 rfl rfl)
theorem dX2_begins_48 : decode cX2_begins 48 = .ok (.iadd, 1) := dk_96 (dk_at dksX2_begins_2 3 rfl rfl)
theorem dX2_begins_49 : decode cX2_begins 49 = .ok (.invokevirtual 75, 3) := dk_182 0 75 (dk_at dksX2_begins_2 4 rfl rfl)
theorem dX2_begins_52 : decode cX2_begins 52 = .ok (.aload_n 0, 1) := dk_42 (dk_at dksX2_begins_2 7 rfl rfl)
theorem dX2_begins_53 : decode cX2_begins 53 = .ok (.dup, 1) := dk_89 (dk_at dksX2_begins_2 8 rfl rfl)
theorem dX2_begins_54 : decode cX2_begins 54 = .ok (.getfield 71, 3) := dk_180 0 71 (dk_at dksX2_begins_2 9 rfl rfl)
theorem dX2_begins_57 : decode cX2_begins 57 = .ok (.iconst 1, 1) := dk_4 (dk_at dksX2_begins_2 12 rfl rfl)
theorem dX2_begins_58 : decode cX2_begins 58 = .ok (.iadd, 1) := dk_96 (dk_at dksX2_begins_2 13 rfl rfl)
theorem dX2_begins_59 : decode cX2_begins 59 = .ok (.putfield 71, 3) := dk_181 0 71 (dk_at dksX2_begins_2 14 rfl rfl)
theorem dX2_begins_62 : decode cX2_begins 62 = .ok (.return_, 1) := dk_177 (dk_at dksX2_begins_2 17 rfl rfl)
abbrev cX2_copies : ByteArray := prog_10_method_5_code
def yX2_copies : MethodName := ⟨RX2, "copies", "(II)V"⟩
def dkwX2_copies_1 : List UInt8 := [17, 3, 212, 27, 104, 29, 96, 46, 79, 132, 3, 1, 167, 255, 222, 177]
abbrev dktX2_copies_1 : List UInt8 := dkwX2_copies_1 ++ []
def dkwX2_copies_0 : List UInt8 := [3, 62, 29, 17, 3, 212, 162, 0, 33, 42, 180, 0, 7, 17, 3, 212, 28, 104, 29, 96, 42, 180, 0, 7]
abbrev dktX2_copies_0 : List UInt8 := dkwX2_copies_0 ++ dktX2_copies_1
theorem dksX2_copies_0 : cX2_copies.data.toList.drop 0 = dktX2_copies_0 := by decide +kernel
theorem dksX2_copies_1 : cX2_copies.data.toList.drop 24 = dktX2_copies_1 := dk_seg dksX2_copies_0 24 rfl rfl
theorem dX2_copies_0 : decode cX2_copies 0 = .ok (.iconst 0, 1) := dk_3 (dk_at dksX2_copies_0 0 rfl rfl)
theorem dX2_copies_1 : decode cX2_copies 1 = .ok (.istore_n 3, 1) := dk_62 (dk_at dksX2_copies_0 1 rfl rfl)
theorem dX2_copies_2 : decode cX2_copies 2 = .ok (.iload_n 3, 1) := dk_29 (dk_at dksX2_copies_0 2 rfl rfl)
theorem dX2_copies_3 : decode cX2_copies 3 = .ok (.sipush 980, 3) := dk_17 3 212 (dk_at dksX2_copies_0 3 rfl rfl)
theorem dX2_copies_6 : decode cX2_copies 6 = .ok (.if_icmp .ge 33, 3) := dk_162 0 33 (dk_at dksX2_copies_0 6 rfl rfl)
theorem dX2_copies_9 : decode cX2_copies 9 = .ok (.aload_n 0, 1) := dk_42 (dk_at dksX2_copies_0 9 rfl rfl)
theorem dX2_copies_10 : decode cX2_copies 10 = .ok (.getfield 7, 3) := dk_180 0 7 (dk_at dksX2_copies_0 10 rfl rfl)
theorem dX2_copies_13 : decode cX2_copies 13 = .ok (.sipush 980, 3) := dk_17 3 212 (dk_at dksX2_copies_0 13 rfl rfl)
theorem dX2_copies_16 : decode cX2_copies 16 = .ok (.iload_n 2, 1) := dk_28 (dk_at dksX2_copies_0 16 rfl rfl)
theorem dX2_copies_17 : decode cX2_copies 17 = .ok (.imul, 1) := dk_104 (dk_at dksX2_copies_0 17 rfl rfl)
theorem dX2_copies_18 : decode cX2_copies 18 = .ok (.iload_n 3, 1) := dk_29 (dk_at dksX2_copies_0 18 rfl rfl)
theorem dX2_copies_19 : decode cX2_copies 19 = .ok (.iadd, 1) := dk_96 (dk_at dksX2_copies_0 19 rfl rfl)
theorem dX2_copies_20 : decode cX2_copies 20 = .ok (.aload_n 0, 1) := dk_42 (dk_at dksX2_copies_0 20 rfl rfl)
theorem dX2_copies_21 : decode cX2_copies 21 = .ok (.getfield 7, 3) := dk_180 0 7 (dk_at dksX2_copies_0 21 rfl rfl)
theorem dX2_copies_24 : decode cX2_copies 24 = .ok (.sipush 980, 3) := dk_17 3 212 (dk_at dksX2_copies_1 0 rfl rfl)
theorem dX2_copies_27 : decode cX2_copies 27 = .ok (.iload_n 1, 1) := dk_27 (dk_at dksX2_copies_1 3 rfl rfl)
theorem dX2_copies_28 : decode cX2_copies 28 = .ok (.imul, 1) := dk_104 (dk_at dksX2_copies_1 4 rfl rfl)
theorem dX2_copies_29 : decode cX2_copies 29 = .ok (.iload_n 3, 1) := dk_29 (dk_at dksX2_copies_1 5 rfl rfl)
theorem dX2_copies_30 : decode cX2_copies 30 = .ok (.iadd, 1) := dk_96 (dk_at dksX2_copies_1 6 rfl rfl)
theorem dX2_copies_31 : decode cX2_copies 31 = .ok (.iaload, 1) := dk_46 (dk_at dksX2_copies_1 7 rfl rfl)
theorem dX2_copies_32 : decode cX2_copies 32 = .ok (.iastore, 1) := dk_79 (dk_at dksX2_copies_1 8 rfl rfl)
theorem dX2_copies_33 : decode cX2_copies 33 = .ok (.iinc 3 1, 3) := dk_132 3 1 (dk_at dksX2_copies_1 9 rfl rfl)
theorem dX2_copies_36 : decode cX2_copies 36 = .ok (.goto (-34), 3) := dk_167 255 222 (dk_at dksX2_copies_1 12 rfl rfl)
theorem dX2_copies_39 : decode cX2_copies 39 = .ok (.return_, 1) := dk_177 (dk_at dksX2_copies_1 15 rfl rfl)
abbrev cX2_parts : ByteArray := prog_10_method_39_code
def yX2_parts : MethodName := ⟨RX2, "parts", "(I)V"⟩
def dkwX2_parts_1 : List UInt8 := [167, 255, 240, 42, 180, 0, 7, 3, 92, 46, 4, 96, 79, 42, 180, 0, 7, 16, 41, 27, 96, 3, 79, 177]
abbrev dktX2_parts_1 : List UInt8 := dkwX2_parts_1 ++ []
def dkwX2_parts_0 : List UInt8 := [42, 180, 0, 7, 3, 46, 61, 28, 27, 164, 0, 17, 42, 28, 4, 100, 28, 182, 0, 200, 132, 2, 255]
abbrev dktX2_parts_0 : List UInt8 := dkwX2_parts_0 ++ dktX2_parts_1
theorem dksX2_parts_0 : cX2_parts.data.toList.drop 0 = dktX2_parts_0 := by decide +kernel
theorem dksX2_parts_1 : cX2_parts.data.toList.drop 23 = dktX2_parts_1 := dk_seg dksX2_parts_0 23 rfl rfl
theorem dX2_parts_0 : decode cX2_parts 0 = .ok (.aload_n 0, 1) := dk_42 (dk_at dksX2_parts_0 0 rfl rfl)
theorem dX2_parts_1 : decode cX2_parts 1 = .ok (.getfield 7, 3) := dk_180 0 7 (dk_at dksX2_parts_0 1 rfl rfl)
theorem dX2_parts_4 : decode cX2_parts 4 = .ok (.iconst 0, 1) := dk_3 (dk_at dksX2_parts_0 4 rfl rfl)
theorem dX2_parts_5 : decode cX2_parts 5 = .ok (.iaload, 1) := dk_46 (dk_at dksX2_parts_0 5 rfl rfl)
theorem dX2_parts_6 : decode cX2_parts 6 = .ok (.istore_n 2, 1) := dk_61 (dk_at dksX2_parts_0 6 rfl rfl)
theorem dX2_parts_7 : decode cX2_parts 7 = .ok (.iload_n 2, 1) := dk_28 (dk_at dksX2_parts_0 7 rfl rfl)
theorem dX2_parts_8 : decode cX2_parts 8 = .ok (.iload_n 1, 1) := dk_27 (dk_at dksX2_parts_0 8 rfl rfl)
theorem dX2_parts_9 : decode cX2_parts 9 = .ok (.if_icmp .le 17, 3) := dk_164 0 17 (dk_at dksX2_parts_0 9 rfl rfl)
theorem dX2_parts_12 : decode cX2_parts 12 = .ok (.aload_n 0, 1) := dk_42 (dk_at dksX2_parts_0 12 rfl rfl)
theorem dX2_parts_13 : decode cX2_parts 13 = .ok (.iload_n 2, 1) := dk_28 (dk_at dksX2_parts_0 13 rfl rfl)
theorem dX2_parts_14 : decode cX2_parts 14 = .ok (.iconst 1, 1) := dk_4 (dk_at dksX2_parts_0 14 rfl rfl)
theorem dX2_parts_15 : decode cX2_parts 15 = .ok (.isub, 1) := dk_100 (dk_at dksX2_parts_0 15 rfl rfl)
theorem dX2_parts_16 : decode cX2_parts 16 = .ok (.iload_n 2, 1) := dk_28 (dk_at dksX2_parts_0 16 rfl rfl)
theorem dX2_parts_17 : decode cX2_parts 17 = .ok (.invokevirtual 200, 3) := dk_182 0 200 (dk_at dksX2_parts_0 17 rfl rfl)
theorem dX2_parts_20 : decode cX2_parts 20 = .ok (.iinc 2 (-1), 3) := dk_132 2 255 (dk_at dksX2_parts_0 20 rfl rfl)
theorem dX2_parts_23 : decode cX2_parts 23 = .ok (.goto (-16), 3) := dk_167 255 240 (dk_at dksX2_parts_1 0 rfl rfl)
theorem dX2_parts_26 : decode cX2_parts 26 = .ok (.aload_n 0, 1) := dk_42 (dk_at dksX2_parts_1 3 rfl rfl)
theorem dX2_parts_27 : decode cX2_parts 27 = .ok (.getfield 7, 3) := dk_180 0 7 (dk_at dksX2_parts_1 4 rfl rfl)
theorem dX2_parts_30 : decode cX2_parts 30 = .ok (.iconst 0, 1) := dk_3 (dk_at dksX2_parts_1 7 rfl rfl)
theorem dX2_parts_31 : decode cX2_parts 31 = .ok (.dup2, 1) := dk_92 (dk_at dksX2_parts_1 8 rfl rfl)
theorem dX2_parts_32 : decode cX2_parts 32 = .ok (.iaload, 1) := dk_46 (dk_at dksX2_parts_1 9 rfl rfl)
theorem dX2_parts_33 : decode cX2_parts 33 = .ok (.iconst 1, 1) := dk_4 (dk_at dksX2_parts_1 10 rfl rfl)
theorem dX2_parts_34 : decode cX2_parts 34 = .ok (.iadd, 1) := dk_96 (dk_at dksX2_parts_1 11 rfl rfl)
theorem dX2_parts_35 : decode cX2_parts 35 = .ok (.iastore, 1) := dk_79 (dk_at dksX2_parts_1 12 rfl rfl)
theorem dX2_parts_36 : decode cX2_parts 36 = .ok (.aload_n 0, 1) := dk_42 (dk_at dksX2_parts_1 13 rfl rfl)
theorem dX2_parts_37 : decode cX2_parts 37 = .ok (.getfield 7, 3) := dk_180 0 7 (dk_at dksX2_parts_1 14 rfl rfl)
theorem dX2_parts_40 : decode cX2_parts 40 = .ok (.bipush 41, 2) := dk_16 41 (dk_at dksX2_parts_1 17 rfl rfl)
theorem dX2_parts_42 : decode cX2_parts 42 = .ok (.iload_n 1, 1) := dk_27 (dk_at dksX2_parts_1 19 rfl rfl)
theorem dX2_parts_43 : decode cX2_parts 43 = .ok (.iadd, 1) := dk_96 (dk_at dksX2_parts_1 20 rfl rfl)
theorem dX2_parts_44 : decode cX2_parts 44 = .ok (.iconst 0, 1) := dk_3 (dk_at dksX2_parts_1 21 rfl rfl)
theorem dX2_parts_45 : decode cX2_parts 45 = .ok (.iastore, 1) := dk_79 (dk_at dksX2_parts_1 22 rfl rfl)
theorem dX2_parts_46 : decode cX2_parts 46 = .ok (.return_, 1) := dk_177 (dk_at dksX2_parts_1 23 rfl rfl)
abbrev cX2_copiesLine : ByteArray := prog_10_method_38_code
def yX2_copiesLine : MethodName := ⟨RX2, "copiesLine", "(II)V"⟩
def dkwX2_copiesLine_3 : List UInt8 := [96, 42, 180, 0, 7, 16, 61, 16, 32, 27, 104, 96, 29, 96, 46, 79, 132, 3, 1, 167, 255, 219, 177]
abbrev dktX2_copiesLine_3 : List UInt8 := dkwX2_copiesLine_3 ++ []
def dkwX2_copiesLine_2 : List UInt8 := [27, 96, 46, 79, 3, 62, 29, 16, 32, 162, 0, 37, 42, 180, 0, 7, 16, 61, 16, 32, 28, 104, 96, 29]
abbrev dktX2_copiesLine_2 : List UInt8 := dkwX2_copiesLine_2 ++ dktX2_copiesLine_3
def dkwX2_copiesLine_1 : List UInt8 := [42, 180, 0, 7, 16, 21, 27, 96, 46, 79, 42, 180, 0, 7, 16, 41, 28, 96, 42, 180, 0, 7, 16, 41]
abbrev dktX2_copiesLine_1 : List UInt8 := dkwX2_copiesLine_1 ++ dktX2_copiesLine_2
def dkwX2_copiesLine_0 : List UInt8 := [42, 180, 0, 7, 4, 28, 96, 42, 180, 0, 7, 4, 27, 96, 46, 79, 42, 180, 0, 7, 16, 21, 28, 96]
abbrev dktX2_copiesLine_0 : List UInt8 := dkwX2_copiesLine_0 ++ dktX2_copiesLine_1
theorem dksX2_copiesLine_0 : cX2_copiesLine.data.toList.drop 0 = dktX2_copiesLine_0 := by decide +kernel
theorem dksX2_copiesLine_1 : cX2_copiesLine.data.toList.drop 24 = dktX2_copiesLine_1 := dk_seg dksX2_copiesLine_0 24 rfl rfl
theorem dksX2_copiesLine_2 : cX2_copiesLine.data.toList.drop 48 = dktX2_copiesLine_2 := dk_seg dksX2_copiesLine_1 24 rfl rfl
theorem dksX2_copiesLine_3 : cX2_copiesLine.data.toList.drop 72 = dktX2_copiesLine_3 := dk_seg dksX2_copiesLine_2 24 rfl rfl
theorem dX2_copiesLine_0 : decode cX2_copiesLine 0 = .ok (.aload_n 0, 1) := dk_42 (dk_at dksX2_copiesLine_0 0 rfl rfl)
theorem dX2_copiesLine_1 : decode cX2_copiesLine 1 = .ok (.getfield 7, 3) := dk_180 0 7 (dk_at dksX2_copiesLine_0 1 rfl rfl)
theorem dX2_copiesLine_4 : decode cX2_copiesLine 4 = .ok (.iconst 1, 1) := dk_4 (dk_at dksX2_copiesLine_0 4 rfl rfl)
theorem dX2_copiesLine_5 : decode cX2_copiesLine 5 = .ok (.iload_n 2, 1) := dk_28 (dk_at dksX2_copiesLine_0 5 rfl rfl)
theorem dX2_copiesLine_6 : decode cX2_copiesLine 6 = .ok (.iadd, 1) := dk_96 (dk_at dksX2_copiesLine_0 6 rfl rfl)
theorem dX2_copiesLine_7 : decode cX2_copiesLine 7 = .ok (.aload_n 0, 1) := dk_42 (dk_at dksX2_copiesLine_0 7 rfl rfl)
theorem dX2_copiesLine_8 : decode cX2_copiesLine 8 = .ok (.getfield 7, 3) := dk_180 0 7 (dk_at dksX2_copiesLine_0 8 rfl rfl)
theorem dX2_copiesLine_11 : decode cX2_copiesLine 11 = .ok (.iconst 1, 1) := dk_4 (dk_at dksX2_copiesLine_0 11 rfl rfl)
theorem dX2_copiesLine_12 : decode cX2_copiesLine 12 = .ok (.iload_n 1, 1) := dk_27 (dk_at dksX2_copiesLine_0 12 rfl rfl)
theorem dX2_copiesLine_13 : decode cX2_copiesLine 13 = .ok (.iadd, 1) := dk_96 (dk_at dksX2_copiesLine_0 13 rfl rfl)
theorem dX2_copiesLine_14 : decode cX2_copiesLine 14 = .ok (.iaload, 1) := dk_46 (dk_at dksX2_copiesLine_0 14 rfl rfl)
theorem dX2_copiesLine_15 : decode cX2_copiesLine 15 = .ok (.iastore, 1) := dk_79 (dk_at dksX2_copiesLine_0 15 rfl rfl)
theorem dX2_copiesLine_16 : decode cX2_copiesLine 16 = .ok (.aload_n 0, 1) := dk_42 (dk_at dksX2_copiesLine_0 16 rfl rfl)
theorem dX2_copiesLine_17 : decode cX2_copiesLine 17 = .ok (.getfield 7, 3) := dk_180 0 7 (dk_at dksX2_copiesLine_0 17 rfl rfl)
theorem dX2_copiesLine_20 : decode cX2_copiesLine 20 = .ok (.bipush 21, 2) := dk_16 21 (dk_at dksX2_copiesLine_0 20 rfl rfl)
theorem dX2_copiesLine_22 : decode cX2_copiesLine 22 = .ok (.iload_n 2, 1) := dk_28 (dk_at dksX2_copiesLine_0 22 rfl rfl)
theorem dX2_copiesLine_23 : decode cX2_copiesLine 23 = .ok (.iadd, 1) := dk_96 (dk_at dksX2_copiesLine_0 23 rfl rfl)
theorem dX2_copiesLine_24 : decode cX2_copiesLine 24 = .ok (.aload_n 0, 1) := dk_42 (dk_at dksX2_copiesLine_1 0 rfl rfl)
theorem dX2_copiesLine_25 : decode cX2_copiesLine 25 = .ok (.getfield 7, 3) := dk_180 0 7 (dk_at dksX2_copiesLine_1 1 rfl rfl)
theorem dX2_copiesLine_28 : decode cX2_copiesLine 28 = .ok (.bipush 21, 2) := dk_16 21 (dk_at dksX2_copiesLine_1 4 rfl rfl)
theorem dX2_copiesLine_30 : decode cX2_copiesLine 30 = .ok (.iload_n 1, 1) := dk_27 (dk_at dksX2_copiesLine_1 6 rfl rfl)
theorem dX2_copiesLine_31 : decode cX2_copiesLine 31 = .ok (.iadd, 1) := dk_96 (dk_at dksX2_copiesLine_1 7 rfl rfl)
theorem dX2_copiesLine_32 : decode cX2_copiesLine 32 = .ok (.iaload, 1) := dk_46 (dk_at dksX2_copiesLine_1 8 rfl rfl)
theorem dX2_copiesLine_33 : decode cX2_copiesLine 33 = .ok (.iastore, 1) := dk_79 (dk_at dksX2_copiesLine_1 9 rfl rfl)
theorem dX2_copiesLine_34 : decode cX2_copiesLine 34 = .ok (.aload_n 0, 1) := dk_42 (dk_at dksX2_copiesLine_1 10 rfl rfl)
theorem dX2_copiesLine_35 : decode cX2_copiesLine 35 = .ok (.getfield 7, 3) := dk_180 0 7 (dk_at dksX2_copiesLine_1 11 rfl rfl)
theorem dX2_copiesLine_38 : decode cX2_copiesLine 38 = .ok (.bipush 41, 2) := dk_16 41 (dk_at dksX2_copiesLine_1 14 rfl rfl)
theorem dX2_copiesLine_40 : decode cX2_copiesLine 40 = .ok (.iload_n 2, 1) := dk_28 (dk_at dksX2_copiesLine_1 16 rfl rfl)
theorem dX2_copiesLine_41 : decode cX2_copiesLine 41 = .ok (.iadd, 1) := dk_96 (dk_at dksX2_copiesLine_1 17 rfl rfl)
theorem dX2_copiesLine_42 : decode cX2_copiesLine 42 = .ok (.aload_n 0, 1) := dk_42 (dk_at dksX2_copiesLine_1 18 rfl rfl)
theorem dX2_copiesLine_43 : decode cX2_copiesLine 43 = .ok (.getfield 7, 3) := dk_180 0 7 (dk_at dksX2_copiesLine_1 19 rfl rfl)
theorem dX2_copiesLine_46 : decode cX2_copiesLine 46 = .ok (.bipush 41, 2) := dk_16 41 (dk_at dksX2_copiesLine_1 22 rfl rfl)
theorem dX2_copiesLine_48 : decode cX2_copiesLine 48 = .ok (.iload_n 1, 1) := dk_27 (dk_at dksX2_copiesLine_2 0 rfl rfl)
theorem dX2_copiesLine_49 : decode cX2_copiesLine 49 = .ok (.iadd, 1) := dk_96 (dk_at dksX2_copiesLine_2 1 rfl rfl)
theorem dX2_copiesLine_50 : decode cX2_copiesLine 50 = .ok (.iaload, 1) := dk_46 (dk_at dksX2_copiesLine_2 2 rfl rfl)
theorem dX2_copiesLine_51 : decode cX2_copiesLine 51 = .ok (.iastore, 1) := dk_79 (dk_at dksX2_copiesLine_2 3 rfl rfl)
theorem dX2_copiesLine_52 : decode cX2_copiesLine 52 = .ok (.iconst 0, 1) := dk_3 (dk_at dksX2_copiesLine_2 4 rfl rfl)
theorem dX2_copiesLine_53 : decode cX2_copiesLine 53 = .ok (.istore_n 3, 1) := dk_62 (dk_at dksX2_copiesLine_2 5 rfl rfl)
theorem dX2_copiesLine_54 : decode cX2_copiesLine 54 = .ok (.iload_n 3, 1) := dk_29 (dk_at dksX2_copiesLine_2 6 rfl rfl)
theorem dX2_copiesLine_55 : decode cX2_copiesLine 55 = .ok (.bipush 32, 2) := dk_16 32 (dk_at dksX2_copiesLine_2 7 rfl rfl)
theorem dX2_copiesLine_57 : decode cX2_copiesLine 57 = .ok (.if_icmp .ge 37, 3) := dk_162 0 37 (dk_at dksX2_copiesLine_2 9 rfl rfl)
theorem dX2_copiesLine_60 : decode cX2_copiesLine 60 = .ok (.aload_n 0, 1) := dk_42 (dk_at dksX2_copiesLine_2 12 rfl rfl)
theorem dX2_copiesLine_61 : decode cX2_copiesLine 61 = .ok (.getfield 7, 3) := dk_180 0 7 (dk_at dksX2_copiesLine_2 13 rfl rfl)
theorem dX2_copiesLine_64 : decode cX2_copiesLine 64 = .ok (.bipush 61, 2) := dk_16 61 (dk_at dksX2_copiesLine_2 16 rfl rfl)
theorem dX2_copiesLine_66 : decode cX2_copiesLine 66 = .ok (.bipush 32, 2) := dk_16 32 (dk_at dksX2_copiesLine_2 18 rfl rfl)
theorem dX2_copiesLine_68 : decode cX2_copiesLine 68 = .ok (.iload_n 2, 1) := dk_28 (dk_at dksX2_copiesLine_2 20 rfl rfl)
theorem dX2_copiesLine_69 : decode cX2_copiesLine 69 = .ok (.imul, 1) := dk_104 (dk_at dksX2_copiesLine_2 21 rfl rfl)
theorem dX2_copiesLine_70 : decode cX2_copiesLine 70 = .ok (.iadd, 1) := dk_96 (dk_at dksX2_copiesLine_2 22 rfl rfl)
theorem dX2_copiesLine_71 : decode cX2_copiesLine 71 = .ok (.iload_n 3, 1) := dk_29 (dk_at dksX2_copiesLine_2 23 rfl rfl)
theorem dX2_copiesLine_72 : decode cX2_copiesLine 72 = .ok (.iadd, 1) := dk_96 (dk_at dksX2_copiesLine_3 0 rfl rfl)
theorem dX2_copiesLine_73 : decode cX2_copiesLine 73 = .ok (.aload_n 0, 1) := dk_42 (dk_at dksX2_copiesLine_3 1 rfl rfl)
theorem dX2_copiesLine_74 : decode cX2_copiesLine 74 = .ok (.getfield 7, 3) := dk_180 0 7 (dk_at dksX2_copiesLine_3 2 rfl rfl)
theorem dX2_copiesLine_77 : decode cX2_copiesLine 77 = .ok (.bipush 61, 2) := dk_16 61 (dk_at dksX2_copiesLine_3 5 rfl rfl)
theorem dX2_copiesLine_79 : decode cX2_copiesLine 79 = .ok (.bipush 32, 2) := dk_16 32 (dk_at dksX2_copiesLine_3 7 rfl rfl)
theorem dX2_copiesLine_81 : decode cX2_copiesLine 81 = .ok (.iload_n 1, 1) := dk_27 (dk_at dksX2_copiesLine_3 9 rfl rfl)
theorem dX2_copiesLine_82 : decode cX2_copiesLine 82 = .ok (.imul, 1) := dk_104 (dk_at dksX2_copiesLine_3 10 rfl rfl)
theorem dX2_copiesLine_83 : decode cX2_copiesLine 83 = .ok (.iadd, 1) := dk_96 (dk_at dksX2_copiesLine_3 11 rfl rfl)
theorem dX2_copiesLine_84 : decode cX2_copiesLine 84 = .ok (.iload_n 3, 1) := dk_29 (dk_at dksX2_copiesLine_3 12 rfl rfl)
theorem dX2_copiesLine_85 : decode cX2_copiesLine 85 = .ok (.iadd, 1) := dk_96 (dk_at dksX2_copiesLine_3 13 rfl rfl)
theorem dX2_copiesLine_86 : decode cX2_copiesLine 86 = .ok (.iaload, 1) := dk_46 (dk_at dksX2_copiesLine_3 14 rfl rfl)
theorem dX2_copiesLine_87 : decode cX2_copiesLine 87 = .ok (.iastore, 1) := dk_79 (dk_at dksX2_copiesLine_3 15 rfl rfl)
theorem dX2_copiesLine_88 : decode cX2_copiesLine 88 = .ok (.iinc 3 1, 3) := dk_132 3 1 (dk_at dksX2_copiesLine_3 16 rfl rfl)
theorem dX2_copiesLine_91 : decode cX2_copiesLine 91 = .ok (.goto (-37), 3) := dk_167 255 219 (dk_at dksX2_copiesLine_3 19 rfl rfl)
theorem dX2_copiesLine_94 : decode cX2_copiesLine 94 = .ok (.return_, 1) := dk_177 (dk_at dksX2_copiesLine_3 22 rfl rfl)
abbrev cX2_writes : ByteArray := prog_10_method_37_code
def yX2_writes : MethodName := ⟨RX2, "writes", "(I)V"⟩
def dkwX2_writes_3 : List UInt8 := [96, 42, 180, 0, 17, 42, 180, 0, 194, 28, 96, 46, 79, 132, 2, 1, 167, 255, 215, 177]
abbrev dktX2_writes_3 : List UInt8 := dkwX2_writes_3 ++ []
def dkwX2_writes_2 : List UInt8 := [42, 180, 0, 197, 42, 180, 0, 194, 100, 162, 0, 34, 42, 180, 0, 7, 16, 61, 16, 32, 27, 104, 96, 28]
abbrev dktX2_writes_2 : List UInt8 := dkwX2_writes_2 ++ dktX2_writes_3
def dkwX2_writes_1 : List UInt8 := [96, 42, 180, 0, 197, 42, 180, 0, 194, 160, 0, 7, 3, 167, 0, 7, 42, 180, 0, 194, 79, 3, 61, 28]
abbrev dktX2_writes_1 : List UInt8 := dkwX2_writes_1 ++ dktX2_writes_2
def dkwX2_writes_0 : List UInt8 := [42, 180, 0, 7, 16, 21, 27, 96, 42, 180, 0, 197, 42, 180, 0, 194, 100, 79, 42, 180, 0, 7, 4, 27]
abbrev dktX2_writes_0 : List UInt8 := dkwX2_writes_0 ++ dktX2_writes_1
theorem dksX2_writes_0 : cX2_writes.data.toList.drop 0 = dktX2_writes_0 := by decide +kernel
theorem dksX2_writes_1 : cX2_writes.data.toList.drop 24 = dktX2_writes_1 := dk_seg dksX2_writes_0 24 rfl rfl
theorem dksX2_writes_2 : cX2_writes.data.toList.drop 48 = dktX2_writes_2 := dk_seg dksX2_writes_1 24 rfl rfl
theorem dksX2_writes_3 : cX2_writes.data.toList.drop 72 = dktX2_writes_3 := dk_seg dksX2_writes_2 24 rfl rfl
theorem dX2_writes_0 : decode cX2_writes 0 = .ok (.aload_n 0, 1) := dk_42 (dk_at dksX2_writes_0 0 rfl rfl)
theorem dX2_writes_1 : decode cX2_writes 1 = .ok (.getfield 7, 3) := dk_180 0 7 (dk_at dksX2_writes_0 1 rfl rfl)
theorem dX2_writes_4 : decode cX2_writes 4 = .ok (.bipush 21, 2) := dk_16 21 (dk_at dksX2_writes_0 4 rfl rfl)
theorem dX2_writes_6 : decode cX2_writes 6 = .ok (.iload_n 1, 1) := dk_27 (dk_at dksX2_writes_0 6 rfl rfl)
theorem dX2_writes_7 : decode cX2_writes 7 = .ok (.iadd, 1) := dk_96 (dk_at dksX2_writes_0 7 rfl rfl)
theorem dX2_writes_8 : decode cX2_writes 8 = .ok (.aload_n 0, 1) := dk_42 (dk_at dksX2_writes_0 8 rfl rfl)
theorem dX2_writes_9 : decode cX2_writes 9 = .ok (.getfield 197, 3) := dk_180 0 197 (dk_at dksX2_writes_0 9 rfl rfl)
theorem dX2_writes_12 : decode cX2_writes 12 = .ok (.aload_n 0, 1) := dk_42 (dk_at dksX2_writes_0 12 rfl rfl)
theorem dX2_writes_13 : decode cX2_writes 13 = .ok (.getfield 194, 3) := dk_180 0 194 (dk_at dksX2_writes_0 13 rfl rfl)
theorem dX2_writes_16 : decode cX2_writes 16 = .ok (.isub, 1) := dk_100 (dk_at dksX2_writes_0 16 rfl rfl)
theorem dX2_writes_17 : decode cX2_writes 17 = .ok (.iastore, 1) := dk_79 (dk_at dksX2_writes_0 17 rfl rfl)
theorem dX2_writes_18 : decode cX2_writes 18 = .ok (.aload_n 0, 1) := dk_42 (dk_at dksX2_writes_0 18 rfl rfl)
theorem dX2_writes_19 : decode cX2_writes 19 = .ok (.getfield 7, 3) := dk_180 0 7 (dk_at dksX2_writes_0 19 rfl rfl)
theorem dX2_writes_22 : decode cX2_writes 22 = .ok (.iconst 1, 1) := dk_4 (dk_at dksX2_writes_0 22 rfl rfl)
theorem dX2_writes_23 : decode cX2_writes 23 = .ok (.iload_n 1, 1) := dk_27 (dk_at dksX2_writes_0 23 rfl rfl)
theorem dX2_writes_24 : decode cX2_writes 24 = .ok (.iadd, 1) := dk_96 (dk_at dksX2_writes_1 0 rfl rfl)
theorem dX2_writes_25 : decode cX2_writes 25 = .ok (.aload_n 0, 1) := dk_42 (dk_at dksX2_writes_1 1 rfl rfl)
theorem dX2_writes_26 : decode cX2_writes 26 = .ok (.getfield 197, 3) := dk_180 0 197 (dk_at dksX2_writes_1 2 rfl rfl)
theorem dX2_writes_29 : decode cX2_writes 29 = .ok (.aload_n 0, 1) := dk_42 (dk_at dksX2_writes_1 5 rfl rfl)
theorem dX2_writes_30 : decode cX2_writes 30 = .ok (.getfield 194, 3) := dk_180 0 194 (dk_at dksX2_writes_1 6 rfl rfl)
theorem dX2_writes_33 : decode cX2_writes 33 = .ok (.if_icmp .ne 7, 3) := dk_160 0 7 (dk_at dksX2_writes_1 9 rfl rfl)
theorem dX2_writes_36 : decode cX2_writes 36 = .ok (.iconst 0, 1) := dk_3 (dk_at dksX2_writes_1 12 rfl rfl)
theorem dX2_writes_37 : decode cX2_writes 37 = .ok (.goto 7, 3) := dk_167 0 7 (dk_at dksX2_writes_1 13 rfl rfl)
theorem dX2_writes_40 : decode cX2_writes 40 = .ok (.aload_n 0, 1) := dk_42 (dk_at dksX2_writes_1 16 rfl rfl)
theorem dX2_writes_41 : decode cX2_writes 41 = .ok (.getfield 194, 3) := dk_180 0 194 (dk_at dksX2_writes_1 17 rfl rfl)
theorem dX2_writes_44 : decode cX2_writes 44 = .ok (.iastore, 1) := dk_79 (dk_at dksX2_writes_1 20 rfl rfl)
theorem dX2_writes_45 : decode cX2_writes 45 = .ok (.iconst 0, 1) := dk_3 (dk_at dksX2_writes_1 21 rfl rfl)
theorem dX2_writes_46 : decode cX2_writes 46 = .ok (.istore_n 2, 1) := dk_61 (dk_at dksX2_writes_1 22 rfl rfl)
theorem dX2_writes_47 : decode cX2_writes 47 = .ok (.iload_n 2, 1) := dk_28 (dk_at dksX2_writes_1 23 rfl rfl)
theorem dX2_writes_48 : decode cX2_writes 48 = .ok (.aload_n 0, 1) := dk_42 (dk_at dksX2_writes_2 0 rfl rfl)
theorem dX2_writes_49 : decode cX2_writes 49 = .ok (.getfield 197, 3) := dk_180 0 197 (dk_at dksX2_writes_2 1 rfl rfl)
theorem dX2_writes_52 : decode cX2_writes 52 = .ok (.aload_n 0, 1) := dk_42 (dk_at dksX2_writes_2 4 rfl rfl)
theorem dX2_writes_53 : decode cX2_writes 53 = .ok (.getfield 194, 3) := dk_180 0 194 (dk_at dksX2_writes_2 5 rfl rfl)
theorem dX2_writes_56 : decode cX2_writes 56 = .ok (.isub, 1) := dk_100 (dk_at dksX2_writes_2 8 rfl rfl)
theorem dX2_writes_57 : decode cX2_writes 57 = .ok (.if_icmp .ge 34, 3) := dk_162 0 34 (dk_at dksX2_writes_2 9 rfl rfl)
theorem dX2_writes_60 : decode cX2_writes 60 = .ok (.aload_n 0, 1) := dk_42 (dk_at dksX2_writes_2 12 rfl rfl)
theorem dX2_writes_61 : decode cX2_writes 61 = .ok (.getfield 7, 3) := dk_180 0 7 (dk_at dksX2_writes_2 13 rfl rfl)
theorem dX2_writes_64 : decode cX2_writes 64 = .ok (.bipush 61, 2) := dk_16 61 (dk_at dksX2_writes_2 16 rfl rfl)
theorem dX2_writes_66 : decode cX2_writes 66 = .ok (.bipush 32, 2) := dk_16 32 (dk_at dksX2_writes_2 18 rfl rfl)
theorem dX2_writes_68 : decode cX2_writes 68 = .ok (.iload_n 1, 1) := dk_27 (dk_at dksX2_writes_2 20 rfl rfl)
theorem dX2_writes_69 : decode cX2_writes 69 = .ok (.imul, 1) := dk_104 (dk_at dksX2_writes_2 21 rfl rfl)
theorem dX2_writes_70 : decode cX2_writes 70 = .ok (.iadd, 1) := dk_96 (dk_at dksX2_writes_2 22 rfl rfl)
theorem dX2_writes_71 : decode cX2_writes 71 = .ok (.iload_n 2, 1) := dk_28 (dk_at dksX2_writes_2 23 rfl rfl)
theorem dX2_writes_72 : decode cX2_writes 72 = .ok (.iadd, 1) := dk_96 (dk_at dksX2_writes_3 0 rfl rfl)
theorem dX2_writes_73 : decode cX2_writes 73 = .ok (.aload_n 0, 1) := dk_42 (dk_at dksX2_writes_3 1 rfl rfl)
theorem dX2_writes_74 : decode cX2_writes 74 = .ok (.getfield 17, 3) := dk_180 0 17 (dk_at dksX2_writes_3 2 rfl rfl)
theorem dX2_writes_77 : decode cX2_writes 77 = .ok (.aload_n 0, 1) := dk_42 (dk_at dksX2_writes_3 5 rfl rfl)
theorem dX2_writes_78 : decode cX2_writes 78 = .ok (.getfield 194, 3) := dk_180 0 194 (dk_at dksX2_writes_3 6 rfl rfl)
theorem dX2_writes_81 : decode cX2_writes 81 = .ok (.iload_n 2, 1) := dk_28 (dk_at dksX2_writes_3 9 rfl rfl)
theorem dX2_writes_82 : decode cX2_writes 82 = .ok (.iadd, 1) := dk_96 (dk_at dksX2_writes_3 10 rfl rfl)
theorem dX2_writes_83 : decode cX2_writes 83 = .ok (.iaload, 1) := dk_46 (dk_at dksX2_writes_3 11 rfl rfl)
theorem dX2_writes_84 : decode cX2_writes 84 = .ok (.iastore, 1) := dk_79 (dk_at dksX2_writes_3 12 rfl rfl)
theorem dX2_writes_85 : decode cX2_writes 85 = .ok (.iinc 2 1, 3) := dk_132 2 1 (dk_at dksX2_writes_3 13 rfl rfl)
theorem dX2_writes_88 : decode cX2_writes 88 = .ok (.goto (-41), 3) := dk_167 255 215 (dk_at dksX2_writes_3 16 rfl rfl)
theorem dX2_writes_91 : decode cX2_writes 91 = .ok (.return_, 1) := dk_177 (dk_at dksX2_writes_3 19 rfl rfl)
abbrev cX2_replaceLine : ByteArray := prog_10_method_42_code
def yX2_replaceLine : MethodName := ⟨RX2, "replaceLine", "(I)I"⟩
def dkwX2_replaceLine_1 : List UInt8 := [42, 180, 0, 7, 4, 27, 96, 46, 61, 42, 27, 182, 0, 213, 28, 172]
abbrev dktX2_replaceLine_1 : List UInt8 := dkwX2_replaceLine_1 ++ []
def dkwX2_replaceLine_0 : List UInt8 := [42, 27, 182, 0, 216, 154, 0, 5, 2, 172, 42, 182, 0, 203, 154, 0, 6, 16, 253, 172, 42, 182, 0, 207]
abbrev dktX2_replaceLine_0 : List UInt8 := dkwX2_replaceLine_0 ++ dktX2_replaceLine_1
theorem dksX2_replaceLine_0 : cX2_replaceLine.data.toList.drop 0 = dktX2_replaceLine_0 := by decide +kernel
theorem dksX2_replaceLine_1 : cX2_replaceLine.data.toList.drop 24 = dktX2_replaceLine_1 := dk_seg dksX2_replaceLine_0 24 rfl rfl
theorem dX2_replaceLine_0 : decode cX2_replaceLine 0 = .ok (.aload_n 0, 1) := dk_42 (dk_at dksX2_replaceLine_0 0 rfl rfl)
theorem dX2_replaceLine_1 : decode cX2_replaceLine 1 = .ok (.iload_n 1, 1) := dk_27 (dk_at dksX2_replaceLine_0 1 rfl rfl)
theorem dX2_replaceLine_2 : decode cX2_replaceLine 2 = .ok (.invokevirtual 216, 3) := dk_182 0 216 (dk_at dksX2_replaceLine_0 2 rfl rfl)
theorem dX2_replaceLine_5 : decode cX2_replaceLine 5 = .ok (.ifCond .ne 5, 3) := dk_154 0 5 (dk_at dksX2_replaceLine_0 5 rfl rfl)
theorem dX2_replaceLine_8 : decode cX2_replaceLine 8 = .ok (.iconst (-1), 1) := dk_2 (dk_at dksX2_replaceLine_0 8 rfl rfl)
theorem dX2_replaceLine_9 : decode cX2_replaceLine 9 = .ok (.ireturn, 1) := dk_172 (dk_at dksX2_replaceLine_0 9 rfl rfl)
theorem dX2_replaceLine_10 : decode cX2_replaceLine 10 = .ok (.aload_n 0, 1) := dk_42 (dk_at dksX2_replaceLine_0 10 rfl rfl)
theorem dX2_replaceLine_11 : decode cX2_replaceLine 11 = .ok (.invokevirtual 203, 3) := dk_182 0 203 (dk_at dksX2_replaceLine_0 11 rfl rfl)
theorem dX2_replaceLine_14 : decode cX2_replaceLine 14 = .ok (.ifCond .ne 6, 3) := dk_154 0 6 (dk_at dksX2_replaceLine_0 14 rfl rfl)
theorem dX2_replaceLine_17 : decode cX2_replaceLine 17 = .ok (.bipush (-3), 2) := dk_16 253 (dk_at dksX2_replaceLine_0 17 rfl rfl)
theorem dX2_replaceLine_19 : decode cX2_replaceLine 19 = .ok (.ireturn, 1) := dk_172 (dk_at dksX2_replaceLine_0 19 rfl rfl)
theorem dX2_replaceLine_20 : decode cX2_replaceLine 20 = .ok (.aload_n 0, 1) := dk_42 (dk_at dksX2_replaceLine_0 20 rfl rfl)
theorem dX2_replaceLine_21 : decode cX2_replaceLine 21 = .ok (.invokevirtual 207, 3) := dk_182 0 207 (dk_at dksX2_replaceLine_0 21 rfl rfl)
theorem dX2_replaceLine_24 : decode cX2_replaceLine 24 = .ok (.aload_n 0, 1) := dk_42 (dk_at dksX2_replaceLine_1 0 rfl rfl)
theorem dX2_replaceLine_25 : decode cX2_replaceLine 25 = .ok (.getfield 7, 3) := dk_180 0 7 (dk_at dksX2_replaceLine_1 1 rfl rfl)
theorem dX2_replaceLine_28 : decode cX2_replaceLine 28 = .ok (.iconst 1, 1) := dk_4 (dk_at dksX2_replaceLine_1 4 rfl rfl)
theorem dX2_replaceLine_29 : decode cX2_replaceLine 29 = .ok (.iload_n 1, 1) := dk_27 (dk_at dksX2_replaceLine_1 5 rfl rfl)
theorem dX2_replaceLine_30 : decode cX2_replaceLine 30 = .ok (.iadd, 1) := dk_96 (dk_at dksX2_replaceLine_1 6 rfl rfl)
theorem dX2_replaceLine_31 : decode cX2_replaceLine 31 = .ok (.iaload, 1) := dk_46 (dk_at dksX2_replaceLine_1 7 rfl rfl)
theorem dX2_replaceLine_32 : decode cX2_replaceLine 32 = .ok (.istore_n 2, 1) := dk_61 (dk_at dksX2_replaceLine_1 8 rfl rfl)
theorem dX2_replaceLine_33 : decode cX2_replaceLine 33 = .ok (.aload_n 0, 1) := dk_42 (dk_at dksX2_replaceLine_1 9 rfl rfl)
theorem dX2_replaceLine_34 : decode cX2_replaceLine 34 = .ok (.iload_n 1, 1) := dk_27 (dk_at dksX2_replaceLine_1 10 rfl rfl)
theorem dX2_replaceLine_35 : decode cX2_replaceLine 35 = .ok (.invokevirtual 213, 3) := dk_182 0 213 (dk_at dksX2_replaceLine_1 11 rfl rfl)
theorem dX2_replaceLine_38 : decode cX2_replaceLine 38 = .ok (.iload_n 2, 1) := dk_28 (dk_at dksX2_replaceLine_1 14 rfl rfl)
theorem dX2_replaceLine_39 : decode cX2_replaceLine 39 = .ok (.ireturn, 1) := dk_172 (dk_at dksX2_replaceLine_1 15 rfl rfl)
abbrev cX2_isLine : ByteArray := prog_10_method_7_code
def yX2_isLine : MethodName := ⟨RX2, "isLine", "(I)Z"⟩
def dkwX2_isLine_0 : List UInt8 := [27, 3, 42, 180, 0, 7, 3, 46, 4, 100, 184, 0, 79, 172]
abbrev dktX2_isLine_0 : List UInt8 := dkwX2_isLine_0 ++ []
theorem dksX2_isLine_0 : cX2_isLine.data.toList.drop 0 = dktX2_isLine_0 := by decide +kernel
theorem dX2_isLine_0 : decode cX2_isLine 0 = .ok (.iload_n 1, 1) := dk_27 (dk_at dksX2_isLine_0 0 rfl rfl)
theorem dX2_isLine_1 : decode cX2_isLine 1 = .ok (.iconst 0, 1) := dk_3 (dk_at dksX2_isLine_0 1 rfl rfl)
theorem dX2_isLine_2 : decode cX2_isLine 2 = .ok (.aload_n 0, 1) := dk_42 (dk_at dksX2_isLine_0 2 rfl rfl)
theorem dX2_isLine_3 : decode cX2_isLine 3 = .ok (.getfield 7, 3) := dk_180 0 7 (dk_at dksX2_isLine_0 3 rfl rfl)
theorem dX2_isLine_6 : decode cX2_isLine 6 = .ok (.iconst 0, 1) := dk_3 (dk_at dksX2_isLine_0 6 rfl rfl)
theorem dX2_isLine_7 : decode cX2_isLine 7 = .ok (.iaload, 1) := dk_46 (dk_at dksX2_isLine_0 7 rfl rfl)
theorem dX2_isLine_8 : decode cX2_isLine 8 = .ok (.iconst 1, 1) := dk_4 (dk_at dksX2_isLine_0 8 rfl rfl)
theorem dX2_isLine_9 : decode cX2_isLine 9 = .ok (.isub, 1) := dk_100 (dk_at dksX2_isLine_0 9 rfl rfl)
theorem dX2_isLine_10 : decode cX2_isLine 10 = .ok (.invokestatic 79, 3) := dk_184 0 79 (dk_at dksX2_isLine_0 10 rfl rfl)
theorem dX2_isLine_13 : decode cX2_isLine 13 = .ok (.ireturn, 1) := dk_172 (dk_at dksX2_isLine_0 13 rfl rfl)
abbrev cX2_removeLine : ByteArray := prog_10_method_43_code
def yX2_removeLine : MethodName := ⟨RX2, "removeLine", "(I)I"⟩
def dkwX2_removeLine_1 : List UInt8 := [46, 172]
abbrev dktX2_removeLine_1 : List UInt8 := dkwX2_removeLine_1 ++ []
def dkwX2_removeLine_0 : List UInt8 := [42, 27, 182, 0, 216, 154, 0, 5, 2, 172, 42, 182, 0, 207, 42, 27, 182, 0, 219, 42, 180, 0, 7, 3]
abbrev dktX2_removeLine_0 : List UInt8 := dkwX2_removeLine_0 ++ dktX2_removeLine_1
theorem dksX2_removeLine_0 : cX2_removeLine.data.toList.drop 0 = dktX2_removeLine_0 := by decide +kernel
theorem dksX2_removeLine_1 : cX2_removeLine.data.toList.drop 24 = dktX2_removeLine_1 := dk_seg dksX2_removeLine_0 24 rfl rfl
theorem dX2_removeLine_0 : decode cX2_removeLine 0 = .ok (.aload_n 0, 1) := dk_42 (dk_at dksX2_removeLine_0 0 rfl rfl)
theorem dX2_removeLine_1 : decode cX2_removeLine 1 = .ok (.iload_n 1, 1) := dk_27 (dk_at dksX2_removeLine_0 1 rfl rfl)
theorem dX2_removeLine_2 : decode cX2_removeLine 2 = .ok (.invokevirtual 216, 3) := dk_182 0 216 (dk_at dksX2_removeLine_0 2 rfl rfl)
theorem dX2_removeLine_5 : decode cX2_removeLine 5 = .ok (.ifCond .ne 5, 3) := dk_154 0 5 (dk_at dksX2_removeLine_0 5 rfl rfl)
theorem dX2_removeLine_8 : decode cX2_removeLine 8 = .ok (.iconst (-1), 1) := dk_2 (dk_at dksX2_removeLine_0 8 rfl rfl)
theorem dX2_removeLine_9 : decode cX2_removeLine 9 = .ok (.ireturn, 1) := dk_172 (dk_at dksX2_removeLine_0 9 rfl rfl)
theorem dX2_removeLine_10 : decode cX2_removeLine 10 = .ok (.aload_n 0, 1) := dk_42 (dk_at dksX2_removeLine_0 10 rfl rfl)
theorem dX2_removeLine_11 : decode cX2_removeLine 11 = .ok (.invokevirtual 207, 3) := dk_182 0 207 (dk_at dksX2_removeLine_0 11 rfl rfl)
theorem dX2_removeLine_14 : decode cX2_removeLine 14 = .ok (.aload_n 0, 1) := dk_42 (dk_at dksX2_removeLine_0 14 rfl rfl)
theorem dX2_removeLine_15 : decode cX2_removeLine 15 = .ok (.iload_n 1, 1) := dk_27 (dk_at dksX2_removeLine_0 15 rfl rfl)
theorem dX2_removeLine_16 : decode cX2_removeLine 16 = .ok (.invokevirtual 219, 3) := dk_182 0 219 (dk_at dksX2_removeLine_0 16 rfl rfl)
theorem dX2_removeLine_19 : decode cX2_removeLine 19 = .ok (.aload_n 0, 1) := dk_42 (dk_at dksX2_removeLine_0 19 rfl rfl)
theorem dX2_removeLine_20 : decode cX2_removeLine 20 = .ok (.getfield 7, 3) := dk_180 0 7 (dk_at dksX2_removeLine_0 20 rfl rfl)
theorem dX2_removeLine_23 : decode cX2_removeLine 23 = .ok (.iconst 0, 1) := dk_3 (dk_at dksX2_removeLine_0 23 rfl rfl)
theorem dX2_removeLine_24 : decode cX2_removeLine 24 = .ok (.iaload, 1) := dk_46 (dk_at dksX2_removeLine_1 0 rfl rfl)
theorem dX2_removeLine_25 : decode cX2_removeLine 25 = .ok (.ireturn, 1) := dk_172 (dk_at dksX2_removeLine_1 1 rfl rfl)
abbrev cX2_drops : ByteArray := prog_10_method_40_code
def yX2_drops : MethodName := ⟨RX2, "drops", "(I)V"⟩
def dkwX2_drops_1 : List UInt8 := [132, 2, 1, 167, 255, 233, 42, 180, 0, 7, 3, 92, 46, 4, 100, 79, 177]
abbrev dktX2_drops_1 : List UInt8 := dkwX2_drops_1 ++ []
def dkwX2_drops_0 : List UInt8 := [27, 61, 28, 4, 96, 42, 180, 0, 7, 3, 46, 162, 0, 17, 42, 28, 4, 96, 28, 182, 0, 200]
abbrev dktX2_drops_0 : List UInt8 := dkwX2_drops_0 ++ dktX2_drops_1
theorem dksX2_drops_0 : cX2_drops.data.toList.drop 0 = dktX2_drops_0 := by decide +kernel
theorem dksX2_drops_1 : cX2_drops.data.toList.drop 22 = dktX2_drops_1 := dk_seg dksX2_drops_0 22 rfl rfl
theorem dX2_drops_0 : decode cX2_drops 0 = .ok (.iload_n 1, 1) := dk_27 (dk_at dksX2_drops_0 0 rfl rfl)
theorem dX2_drops_1 : decode cX2_drops 1 = .ok (.istore_n 2, 1) := dk_61 (dk_at dksX2_drops_0 1 rfl rfl)
theorem dX2_drops_2 : decode cX2_drops 2 = .ok (.iload_n 2, 1) := dk_28 (dk_at dksX2_drops_0 2 rfl rfl)
theorem dX2_drops_3 : decode cX2_drops 3 = .ok (.iconst 1, 1) := dk_4 (dk_at dksX2_drops_0 3 rfl rfl)
theorem dX2_drops_4 : decode cX2_drops 4 = .ok (.iadd, 1) := dk_96 (dk_at dksX2_drops_0 4 rfl rfl)
theorem dX2_drops_5 : decode cX2_drops 5 = .ok (.aload_n 0, 1) := dk_42 (dk_at dksX2_drops_0 5 rfl rfl)
theorem dX2_drops_6 : decode cX2_drops 6 = .ok (.getfield 7, 3) := dk_180 0 7 (dk_at dksX2_drops_0 6 rfl rfl)
theorem dX2_drops_9 : decode cX2_drops 9 = .ok (.iconst 0, 1) := dk_3 (dk_at dksX2_drops_0 9 rfl rfl)
theorem dX2_drops_10 : decode cX2_drops 10 = .ok (.iaload, 1) := dk_46 (dk_at dksX2_drops_0 10 rfl rfl)
theorem dX2_drops_11 : decode cX2_drops 11 = .ok (.if_icmp .ge 17, 3) := dk_162 0 17 (dk_at dksX2_drops_0 11 rfl rfl)
theorem dX2_drops_14 : decode cX2_drops 14 = .ok (.aload_n 0, 1) := dk_42 (dk_at dksX2_drops_0 14 rfl rfl)
theorem dX2_drops_15 : decode cX2_drops 15 = .ok (.iload_n 2, 1) := dk_28 (dk_at dksX2_drops_0 15 rfl rfl)
theorem dX2_drops_16 : decode cX2_drops 16 = .ok (.iconst 1, 1) := dk_4 (dk_at dksX2_drops_0 16 rfl rfl)
theorem dX2_drops_17 : decode cX2_drops 17 = .ok (.iadd, 1) := dk_96 (dk_at dksX2_drops_0 17 rfl rfl)
theorem dX2_drops_18 : decode cX2_drops 18 = .ok (.iload_n 2, 1) := dk_28 (dk_at dksX2_drops_0 18 rfl rfl)
theorem dX2_drops_19 : decode cX2_drops 19 = .ok (.invokevirtual 200, 3) := dk_182 0 200 (dk_at dksX2_drops_0 19 rfl rfl)
theorem dX2_drops_22 : decode cX2_drops 22 = .ok (.iinc 2 1, 3) := dk_132 2 1 (dk_at dksX2_drops_1 0 rfl rfl)
theorem dX2_drops_25 : decode cX2_drops 25 = .ok (.goto (-23), 3) := dk_167 255 233 (dk_at dksX2_drops_1 3 rfl rfl)
theorem dX2_drops_28 : decode cX2_drops 28 = .ok (.aload_n 0, 1) := dk_42 (dk_at dksX2_drops_1 6 rfl rfl)
theorem dX2_drops_29 : decode cX2_drops 29 = .ok (.getfield 7, 3) := dk_180 0 7 (dk_at dksX2_drops_1 7 rfl rfl)
theorem dX2_drops_32 : decode cX2_drops 32 = .ok (.iconst 0, 1) := dk_3 (dk_at dksX2_drops_1 10 rfl rfl)
theorem dX2_drops_33 : decode cX2_drops 33 = .ok (.dup2, 1) := dk_92 (dk_at dksX2_drops_1 11 rfl rfl)
theorem dX2_drops_34 : decode cX2_drops 34 = .ok (.iaload, 1) := dk_46 (dk_at dksX2_drops_1 12 rfl rfl)
theorem dX2_drops_35 : decode cX2_drops 35 = .ok (.iconst 1, 1) := dk_4 (dk_at dksX2_drops_1 13 rfl rfl)
theorem dX2_drops_36 : decode cX2_drops 36 = .ok (.isub, 1) := dk_100 (dk_at dksX2_drops_1 14 rfl rfl)
theorem dX2_drops_37 : decode cX2_drops 37 = .ok (.iastore, 1) := dk_79 (dk_at dksX2_drops_1 15 rfl rfl)
theorem dX2_drops_38 : decode cX2_drops 38 = .ok (.return_, 1) := dk_177 (dk_at dksX2_drops_1 16 rfl rfl)
abbrev cX2_splitLine : ByteArray := prog_10_method_44_code
def yX2_splitLine : MethodName := ⟨RX2, "splitLine", "(II)I"⟩
def dkwX2_splitLine_11 : List UInt8 := [42, 180, 0, 7, 4, 27, 96, 4, 96, 46, 172]
abbrev dktX2_splitLine_11 : List UInt8 := dkwX2_splitLine_11 ++ []
def dkwX2_splitLine_10 : List UInt8 := [153, 0, 24, 42, 27, 4, 96, 182, 0, 188, 42, 180, 0, 7, 4, 27, 96, 4, 96, 42, 180, 0, 170, 79]
abbrev dktX2_splitLine_10 : List UInt8 := dkwX2_splitLine_10 ++ dktX2_splitLine_11
def dkwX2_splitLine_9 : List UInt8 := [17, 3, 209, 46, 42, 180, 0, 7, 17, 3, 210, 46, 182, 0, 222, 42, 27, 4, 96, 182, 0, 185]
abbrev dktX2_splitLine_9 : List UInt8 := dkwX2_splitLine_9 ++ dktX2_splitLine_10
def dkwX2_splitLine_8 : List UInt8 := [160, 0, 19, 42, 180, 0, 7, 16, 21, 27, 96, 92, 46, 4, 100, 79, 167, 255, 222, 42, 42, 180, 0, 7]
abbrev dktX2_splitLine_8 : List UInt8 := dkwX2_splitLine_8 ++ dktX2_splitLine_9
def dkwX2_splitLine_7 : List UInt8 := [16, 21, 27, 96, 28, 79, 42, 27, 42, 180, 0, 7, 16, 21, 27, 96, 46, 4, 100, 182, 0, 83, 16, 32]
abbrev dktX2_splitLine_7 : List UInt8 := dkwX2_splitLine_7 ++ dktX2_splitLine_8
def dkwX2_splitLine_6 : List UInt8 := [16, 21, 27, 96, 4, 96, 21, 4, 79, 42, 180, 0, 7, 4, 27, 96, 4, 96, 3, 79, 42, 180, 0, 7]
abbrev dktX2_splitLine_6 : List UInt8 := dkwX2_splitLine_6 ++ dktX2_splitLine_7
def dkwX2_splitLine_5 : List UInt8 := [16, 61, 16, 32, 27, 104, 96, 29, 96, 21, 5, 96, 46, 79, 132, 5, 1, 167, 255, 212, 42, 180, 0, 7]
abbrev dktX2_splitLine_5 : List UInt8 := dkwX2_splitLine_5 ++ dktX2_splitLine_6
def dkwX2_splitLine_4 : List UInt8 := [162, 0, 43, 42, 180, 0, 7, 16, 61, 16, 32, 27, 4, 96, 104, 96, 21, 5, 96, 42, 180, 0, 7]
abbrev dktX2_splitLine_4 : List UInt8 := dkwX2_splitLine_4 ++ dktX2_splitLine_5
def dkwX2_splitLine_3 : List UInt8 := [167, 255, 242, 42, 180, 0, 7, 16, 21, 27, 96, 46, 29, 100, 54, 4, 3, 54, 5, 21, 5, 21, 4]
abbrev dktX2_splitLine_3 : List UInt8 := dkwX2_splitLine_3 ++ dktX2_splitLine_4
def dkwX2_splitLine_2 : List UInt8 := [27, 4, 96, 182, 0, 210, 28, 62, 42, 27, 29, 182, 0, 83, 16, 32, 160, 0, 9, 132, 3, 1]
abbrev dktX2_splitLine_2 : List UInt8 := dkwX2_splitLine_2 ++ dktX2_splitLine_3
def dkwX2_splitLine_1 : List UInt8 := [154, 0, 5, 2, 172, 42, 180, 0, 7, 3, 46, 16, 20, 160, 0, 6, 16, 253, 172, 42, 182, 0, 207, 42]
abbrev dktX2_splitLine_1 : List UInt8 := dkwX2_splitLine_1 ++ dktX2_splitLine_2
def dkwX2_splitLine_0 : List UInt8 := [42, 27, 182, 0, 216, 153, 0, 22, 28, 4, 42, 180, 0, 7, 16, 21, 27, 96, 46, 4, 100, 184, 0, 79]
abbrev dktX2_splitLine_0 : List UInt8 := dkwX2_splitLine_0 ++ dktX2_splitLine_1
theorem dksX2_splitLine_0 : cX2_splitLine.data.toList.drop 0 = dktX2_splitLine_0 := by decide +kernel
theorem dksX2_splitLine_1 : cX2_splitLine.data.toList.drop 24 = dktX2_splitLine_1 := dk_seg dksX2_splitLine_0 24 rfl rfl
theorem dksX2_splitLine_2 : cX2_splitLine.data.toList.drop 48 = dktX2_splitLine_2 := dk_seg dksX2_splitLine_1 24 rfl rfl
theorem dksX2_splitLine_3 : cX2_splitLine.data.toList.drop 70 = dktX2_splitLine_3 := dk_seg dksX2_splitLine_2 22 rfl rfl
theorem dksX2_splitLine_4 : cX2_splitLine.data.toList.drop 93 = dktX2_splitLine_4 := dk_seg dksX2_splitLine_3 23 rfl rfl
theorem dksX2_splitLine_5 : cX2_splitLine.data.toList.drop 116 = dktX2_splitLine_5 := dk_seg dksX2_splitLine_4 23 rfl rfl
theorem dksX2_splitLine_6 : cX2_splitLine.data.toList.drop 140 = dktX2_splitLine_6 := dk_seg dksX2_splitLine_5 24 rfl rfl
theorem dksX2_splitLine_7 : cX2_splitLine.data.toList.drop 164 = dktX2_splitLine_7 := dk_seg dksX2_splitLine_6 24 rfl rfl
theorem dksX2_splitLine_8 : cX2_splitLine.data.toList.drop 188 = dktX2_splitLine_8 := dk_seg dksX2_splitLine_7 24 rfl rfl
theorem dksX2_splitLine_9 : cX2_splitLine.data.toList.drop 212 = dktX2_splitLine_9 := dk_seg dksX2_splitLine_8 24 rfl rfl
theorem dksX2_splitLine_10 : cX2_splitLine.data.toList.drop 234 = dktX2_splitLine_10 := dk_seg dksX2_splitLine_9 22 rfl rfl
theorem dksX2_splitLine_11 : cX2_splitLine.data.toList.drop 258 = dktX2_splitLine_11 := dk_seg dksX2_splitLine_10 24 rfl rfl
theorem dX2_splitLine_0 : decode cX2_splitLine 0 = .ok (.aload_n 0, 1) := dk_42 (dk_at dksX2_splitLine_0 0 rfl rfl)
theorem dX2_splitLine_1 : decode cX2_splitLine 1 = .ok (.iload_n 1, 1) := dk_27 (dk_at dksX2_splitLine_0 1 rfl rfl)
theorem dX2_splitLine_2 : decode cX2_splitLine 2 = .ok (.invokevirtual 216, 3) := dk_182 0 216 (dk_at dksX2_splitLine_0 2 rfl rfl)
theorem dX2_splitLine_5 : decode cX2_splitLine 5 = .ok (.ifCond .eq 22, 3) := dk_153 0 22 (dk_at dksX2_splitLine_0 5 rfl rfl)
theorem dX2_splitLine_8 : decode cX2_splitLine 8 = .ok (.iload_n 2, 1) := dk_28 (dk_at dksX2_splitLine_0 8 rfl rfl)
theorem dX2_splitLine_9 : decode cX2_splitLine 9 = .ok (.iconst 1, 1) := dk_4 (dk_at dksX2_splitLine_0 9 rfl rfl)
theorem dX2_splitLine_10 : decode cX2_splitLine 10 = .ok (.aload_n 0, 1) := dk_42 (dk_at dksX2_splitLine_0 10 rfl rfl)
theorem dX2_splitLine_11 : decode cX2_splitLine 11 = .ok (.getfield 7, 3) := dk_180 0 7 (dk_at dksX2_splitLine_0 11 rfl rfl)
theorem dX2_splitLine_14 : decode cX2_splitLine 14 = .ok (.bipush 21, 2) := dk_16 21 (dk_at dksX2_splitLine_0 14 rfl rfl)
theorem dX2_splitLine_16 : decode cX2_splitLine 16 = .ok (.iload_n 1, 1) := dk_27 (dk_at dksX2_splitLine_0 16 rfl rfl)
theorem dX2_splitLine_17 : decode cX2_splitLine 17 = .ok (.iadd, 1) := dk_96 (dk_at dksX2_splitLine_0 17 rfl rfl)
theorem dX2_splitLine_18 : decode cX2_splitLine 18 = .ok (.iaload, 1) := dk_46 (dk_at dksX2_splitLine_0 18 rfl rfl)
theorem dX2_splitLine_19 : decode cX2_splitLine 19 = .ok (.iconst 1, 1) := dk_4 (dk_at dksX2_splitLine_0 19 rfl rfl)
theorem dX2_splitLine_20 : decode cX2_splitLine 20 = .ok (.isub, 1) := dk_100 (dk_at dksX2_splitLine_0 20 rfl rfl)
theorem dX2_splitLine_21 : decode cX2_splitLine 21 = .ok (.invokestatic 79, 3) := dk_184 0 79 (dk_at dksX2_splitLine_0 21 rfl rfl)
theorem dX2_splitLine_24 : decode cX2_splitLine 24 = .ok (.ifCond .ne 5, 3) := dk_154 0 5 (dk_at dksX2_splitLine_1 0 rfl rfl)
theorem dX2_splitLine_27 : decode cX2_splitLine 27 = .ok (.iconst (-1), 1) := dk_2 (dk_at dksX2_splitLine_1 3 rfl rfl)
theorem dX2_splitLine_28 : decode cX2_splitLine 28 = .ok (.ireturn, 1) := dk_172 (dk_at dksX2_splitLine_1 4 rfl rfl)
theorem dX2_splitLine_29 : decode cX2_splitLine 29 = .ok (.aload_n 0, 1) := dk_42 (dk_at dksX2_splitLine_1 5 rfl rfl)
theorem dX2_splitLine_30 : decode cX2_splitLine 30 = .ok (.getfield 7, 3) := dk_180 0 7 (dk_at dksX2_splitLine_1 6 rfl rfl)
theorem dX2_splitLine_33 : decode cX2_splitLine 33 = .ok (.iconst 0, 1) := dk_3 (dk_at dksX2_splitLine_1 9 rfl rfl)
theorem dX2_splitLine_34 : decode cX2_splitLine 34 = .ok (.iaload, 1) := dk_46 (dk_at dksX2_splitLine_1 10 rfl rfl)
theorem dX2_splitLine_35 : decode cX2_splitLine 35 = .ok (.bipush 20, 2) := dk_16 20 (dk_at dksX2_splitLine_1 11 rfl rfl)
theorem dX2_splitLine_37 : decode cX2_splitLine 37 = .ok (.if_icmp .ne 6, 3) := dk_160 0 6 (dk_at dksX2_splitLine_1 13 rfl rfl)
theorem dX2_splitLine_40 : decode cX2_splitLine 40 = .ok (.bipush (-3), 2) := dk_16 253 (dk_at dksX2_splitLine_1 16 rfl rfl)
theorem dX2_splitLine_42 : decode cX2_splitLine 42 = .ok (.ireturn, 1) := dk_172 (dk_at dksX2_splitLine_1 18 rfl rfl)
theorem dX2_splitLine_43 : decode cX2_splitLine 43 = .ok (.aload_n 0, 1) := dk_42 (dk_at dksX2_splitLine_1 19 rfl rfl)
theorem dX2_splitLine_44 : decode cX2_splitLine 44 = .ok (.invokevirtual 207, 3) := dk_182 0 207 (dk_at dksX2_splitLine_1 20 rfl rfl)
theorem dX2_splitLine_47 : decode cX2_splitLine 47 = .ok (.aload_n 0, 1) := dk_42 (dk_at dksX2_splitLine_1 23 rfl rfl)
theorem dX2_splitLine_48 : decode cX2_splitLine 48 = .ok (.iload_n 1, 1) := dk_27 (dk_at dksX2_splitLine_2 0 rfl rfl)
theorem dX2_splitLine_49 : decode cX2_splitLine 49 = .ok (.iconst 1, 1) := dk_4 (dk_at dksX2_splitLine_2 1 rfl rfl)
theorem dX2_splitLine_50 : decode cX2_splitLine 50 = .ok (.iadd, 1) := dk_96 (dk_at dksX2_splitLine_2 2 rfl rfl)
theorem dX2_splitLine_51 : decode cX2_splitLine 51 = .ok (.invokevirtual 210, 3) := dk_182 0 210 (dk_at dksX2_splitLine_2 3 rfl rfl)
theorem dX2_splitLine_54 : decode cX2_splitLine 54 = .ok (.iload_n 2, 1) := dk_28 (dk_at dksX2_splitLine_2 6 rfl rfl)
theorem dX2_splitLine_55 : decode cX2_splitLine 55 = .ok (.istore_n 3, 1) := dk_62 (dk_at dksX2_splitLine_2 7 rfl rfl)
theorem dX2_splitLine_56 : decode cX2_splitLine 56 = .ok (.aload_n 0, 1) := dk_42 (dk_at dksX2_splitLine_2 8 rfl rfl)
theorem dX2_splitLine_57 : decode cX2_splitLine 57 = .ok (.iload_n 1, 1) := dk_27 (dk_at dksX2_splitLine_2 9 rfl rfl)
theorem dX2_splitLine_58 : decode cX2_splitLine 58 = .ok (.iload_n 3, 1) := dk_29 (dk_at dksX2_splitLine_2 10 rfl rfl)
theorem dX2_splitLine_59 : decode cX2_splitLine 59 = .ok (.invokevirtual 83, 3) := dk_182 0 83 (dk_at dksX2_splitLine_2 11 rfl rfl)
theorem dX2_splitLine_62 : decode cX2_splitLine 62 = .ok (.bipush 32, 2) := dk_16 32 (dk_at dksX2_splitLine_2 14 rfl rfl)
theorem dX2_splitLine_64 : decode cX2_splitLine 64 = .ok (.if_icmp .ne 9, 3) := dk_160 0 9 (dk_at dksX2_splitLine_2 16 rfl rfl)
theorem dX2_splitLine_67 : decode cX2_splitLine 67 = .ok (.iinc 3 1, 3) := dk_132 3 1 (dk_at dksX2_splitLine_2 19 rfl rfl)
theorem dX2_splitLine_70 : decode cX2_splitLine 70 = .ok (.goto (-14), 3) := dk_167 255 242 (dk_at dksX2_splitLine_3 0 rfl rfl)
theorem dX2_splitLine_73 : decode cX2_splitLine 73 = .ok (.aload_n 0, 1) := dk_42 (dk_at dksX2_splitLine_3 3 rfl rfl)
theorem dX2_splitLine_74 : decode cX2_splitLine 74 = .ok (.getfield 7, 3) := dk_180 0 7 (dk_at dksX2_splitLine_3 4 rfl rfl)
theorem dX2_splitLine_77 : decode cX2_splitLine 77 = .ok (.bipush 21, 2) := dk_16 21 (dk_at dksX2_splitLine_3 7 rfl rfl)
theorem dX2_splitLine_79 : decode cX2_splitLine 79 = .ok (.iload_n 1, 1) := dk_27 (dk_at dksX2_splitLine_3 9 rfl rfl)
theorem dX2_splitLine_80 : decode cX2_splitLine 80 = .ok (.iadd, 1) := dk_96 (dk_at dksX2_splitLine_3 10 rfl rfl)
theorem dX2_splitLine_81 : decode cX2_splitLine 81 = .ok (.iaload, 1) := dk_46 (dk_at dksX2_splitLine_3 11 rfl rfl)
theorem dX2_splitLine_82 : decode cX2_splitLine 82 = .ok (.iload_n 3, 1) := dk_29 (dk_at dksX2_splitLine_3 12 rfl rfl)
theorem dX2_splitLine_83 : decode cX2_splitLine 83 = .ok (.isub, 1) := dk_100 (dk_at dksX2_splitLine_3 13 rfl rfl)
theorem dX2_splitLine_84 : decode cX2_splitLine 84 = .ok (.istore 4, 2) := dk_54 4 (dk_at dksX2_splitLine_3 14 rfl rfl)
theorem dX2_splitLine_86 : decode cX2_splitLine 86 = .ok (.iconst 0, 1) := dk_3 (dk_at dksX2_splitLine_3 16 rfl rfl)
theorem dX2_splitLine_87 : decode cX2_splitLine 87 = .ok (.istore 5, 2) := dk_54 5 (dk_at dksX2_splitLine_3 17 rfl rfl)
theorem dX2_splitLine_89 : decode cX2_splitLine 89 = .ok (.iload 5, 2) := dk_21 5 (dk_at dksX2_splitLine_3 19 rfl rfl)
theorem dX2_splitLine_91 : decode cX2_splitLine 91 = .ok (.iload 4, 2) := dk_21 4 (dk_at dksX2_splitLine_3 21 rfl rfl)
theorem dX2_splitLine_93 : decode cX2_splitLine 93 = .ok (.if_icmp .ge 43, 3) := dk_162 0 43 (dk_at dksX2_splitLine_4 0 rfl rfl)
theorem dX2_splitLine_96 : decode cX2_splitLine 96 = .ok (.aload_n 0, 1) := dk_42 (dk_at dksX2_splitLine_4 3 rfl rfl)
theorem dX2_splitLine_97 : decode cX2_splitLine 97 = .ok (.getfield 7, 3) := dk_180 0 7 (dk_at dksX2_splitLine_4 4 rfl rfl)
theorem dX2_splitLine_100 : decode cX2_splitLine 100 = .ok (.bipush 61, 2) := dk_16 61 (dk_at dksX2_splitLine_4 7 rfl rfl)
theorem dX2_splitLine_102 : decode cX2_splitLine 102 = .ok (.bipush 32, 2) := dk_16 32 (dk_at dksX2_splitLine_4 9 rfl rfl)
theorem dX2_splitLine_104 : decode cX2_splitLine 104 = .ok (.iload_n 1, 1) := dk_27 (dk_at dksX2_splitLine_4 11 rfl rfl)
theorem dX2_splitLine_105 : decode cX2_splitLine 105 = .ok (.iconst 1, 1) := dk_4 (dk_at dksX2_splitLine_4 12 rfl rfl)
theorem dX2_splitLine_106 : decode cX2_splitLine 106 = .ok (.iadd, 1) := dk_96 (dk_at dksX2_splitLine_4 13 rfl rfl)
theorem dX2_splitLine_107 : decode cX2_splitLine 107 = .ok (.imul, 1) := dk_104 (dk_at dksX2_splitLine_4 14 rfl rfl)
theorem dX2_splitLine_108 : decode cX2_splitLine 108 = .ok (.iadd, 1) := dk_96 (dk_at dksX2_splitLine_4 15 rfl rfl)
theorem dX2_splitLine_109 : decode cX2_splitLine 109 = .ok (.iload 5, 2) := dk_21 5 (dk_at dksX2_splitLine_4 16 rfl rfl)
theorem dX2_splitLine_111 : decode cX2_splitLine 111 = .ok (.iadd, 1) := dk_96 (dk_at dksX2_splitLine_4 18 rfl rfl)
theorem dX2_splitLine_112 : decode cX2_splitLine 112 = .ok (.aload_n 0, 1) := dk_42 (dk_at dksX2_splitLine_4 19 rfl rfl)
theorem dX2_splitLine_113 : decode cX2_splitLine 113 = .ok (.getfield 7, 3) := dk_180 0 7 (dk_at dksX2_splitLine_4 20 rfl rfl)
theorem dX2_splitLine_116 : decode cX2_splitLine 116 = .ok (.bipush 61, 2) := dk_16 61 (dk_at dksX2_splitLine_5 0 rfl rfl)
theorem dX2_splitLine_118 : decode cX2_splitLine 118 = .ok (.bipush 32, 2) := dk_16 32 (dk_at dksX2_splitLine_5 2 rfl rfl)
theorem dX2_splitLine_120 : decode cX2_splitLine 120 = .ok (.iload_n 1, 1) := dk_27 (dk_at dksX2_splitLine_5 4 rfl rfl)
theorem dX2_splitLine_121 : decode cX2_splitLine 121 = .ok (.imul, 1) := dk_104 (dk_at dksX2_splitLine_5 5 rfl rfl)
theorem dX2_splitLine_122 : decode cX2_splitLine 122 = .ok (.iadd, 1) := dk_96 (dk_at dksX2_splitLine_5 6 rfl rfl)
theorem dX2_splitLine_123 : decode cX2_splitLine 123 = .ok (.iload_n 3, 1) := dk_29 (dk_at dksX2_splitLine_5 7 rfl rfl)
theorem dX2_splitLine_124 : decode cX2_splitLine 124 = .ok (.iadd, 1) := dk_96 (dk_at dksX2_splitLine_5 8 rfl rfl)
theorem dX2_splitLine_125 : decode cX2_splitLine 125 = .ok (.iload 5, 2) := dk_21 5 (dk_at dksX2_splitLine_5 9 rfl rfl)
theorem dX2_splitLine_127 : decode cX2_splitLine 127 = .ok (.iadd, 1) := dk_96 (dk_at dksX2_splitLine_5 11 rfl rfl)
theorem dX2_splitLine_128 : decode cX2_splitLine 128 = .ok (.iaload, 1) := dk_46 (dk_at dksX2_splitLine_5 12 rfl rfl)
theorem dX2_splitLine_129 : decode cX2_splitLine 129 = .ok (.iastore, 1) := dk_79 (dk_at dksX2_splitLine_5 13 rfl rfl)
theorem dX2_splitLine_130 : decode cX2_splitLine 130 = .ok (.iinc 5 1, 3) := dk_132 5 1 (dk_at dksX2_splitLine_5 14 rfl rfl)
theorem dX2_splitLine_133 : decode cX2_splitLine 133 = .ok (.goto (-44), 3) := dk_167 255 212 (dk_at dksX2_splitLine_5 17 rfl rfl)
theorem dX2_splitLine_136 : decode cX2_splitLine 136 = .ok (.aload_n 0, 1) := dk_42 (dk_at dksX2_splitLine_5 20 rfl rfl)
theorem dX2_splitLine_137 : decode cX2_splitLine 137 = .ok (.getfield 7, 3) := dk_180 0 7 (dk_at dksX2_splitLine_5 21 rfl rfl)
theorem dX2_splitLine_140 : decode cX2_splitLine 140 = .ok (.bipush 21, 2) := dk_16 21 (dk_at dksX2_splitLine_6 0 rfl rfl)
theorem dX2_splitLine_142 : decode cX2_splitLine 142 = .ok (.iload_n 1, 1) := dk_27 (dk_at dksX2_splitLine_6 2 rfl rfl)
theorem dX2_splitLine_143 : decode cX2_splitLine 143 = .ok (.iadd, 1) := dk_96 (dk_at dksX2_splitLine_6 3 rfl rfl)
theorem dX2_splitLine_144 : decode cX2_splitLine 144 = .ok (.iconst 1, 1) := dk_4 (dk_at dksX2_splitLine_6 4 rfl rfl)
theorem dX2_splitLine_145 : decode cX2_splitLine 145 = .ok (.iadd, 1) := dk_96 (dk_at dksX2_splitLine_6 5 rfl rfl)
theorem dX2_splitLine_146 : decode cX2_splitLine 146 = .ok (.iload 4, 2) := dk_21 4 (dk_at dksX2_splitLine_6 6 rfl rfl)
theorem dX2_splitLine_148 : decode cX2_splitLine 148 = .ok (.iastore, 1) := dk_79 (dk_at dksX2_splitLine_6 8 rfl rfl)
theorem dX2_splitLine_149 : decode cX2_splitLine 149 = .ok (.aload_n 0, 1) := dk_42 (dk_at dksX2_splitLine_6 9 rfl rfl)
theorem dX2_splitLine_150 : decode cX2_splitLine 150 = .ok (.getfield 7, 3) := dk_180 0 7 (dk_at dksX2_splitLine_6 10 rfl rfl)
theorem dX2_splitLine_153 : decode cX2_splitLine 153 = .ok (.iconst 1, 1) := dk_4 (dk_at dksX2_splitLine_6 13 rfl rfl)
theorem dX2_splitLine_154 : decode cX2_splitLine 154 = .ok (.iload_n 1, 1) := dk_27 (dk_at dksX2_splitLine_6 14 rfl rfl)
theorem dX2_splitLine_155 : decode cX2_splitLine 155 = .ok (.iadd, 1) := dk_96 (dk_at dksX2_splitLine_6 15 rfl rfl)
theorem dX2_splitLine_156 : decode cX2_splitLine 156 = .ok (.iconst 1, 1) := dk_4 (dk_at dksX2_splitLine_6 16 rfl rfl)
theorem dX2_splitLine_157 : decode cX2_splitLine 157 = .ok (.iadd, 1) := dk_96 (dk_at dksX2_splitLine_6 17 rfl rfl)
theorem dX2_splitLine_158 : decode cX2_splitLine 158 = .ok (.iconst 0, 1) := dk_3 (dk_at dksX2_splitLine_6 18 rfl rfl)
theorem dX2_splitLine_159 : decode cX2_splitLine 159 = .ok (.iastore, 1) := dk_79 (dk_at dksX2_splitLine_6 19 rfl rfl)
theorem dX2_splitLine_160 : decode cX2_splitLine 160 = .ok (.aload_n 0, 1) := dk_42 (dk_at dksX2_splitLine_6 20 rfl rfl)
theorem dX2_splitLine_161 : decode cX2_splitLine 161 = .ok (.getfield 7, 3) := dk_180 0 7 (dk_at dksX2_splitLine_6 21 rfl rfl)
theorem dX2_splitLine_164 : decode cX2_splitLine 164 = .ok (.bipush 21, 2) := dk_16 21 (dk_at dksX2_splitLine_7 0 rfl rfl)
theorem dX2_splitLine_166 : decode cX2_splitLine 166 = .ok (.iload_n 1, 1) := dk_27 (dk_at dksX2_splitLine_7 2 rfl rfl)
theorem dX2_splitLine_167 : decode cX2_splitLine 167 = .ok (.iadd, 1) := dk_96 (dk_at dksX2_splitLine_7 3 rfl rfl)
theorem dX2_splitLine_168 : decode cX2_splitLine 168 = .ok (.iload_n 2, 1) := dk_28 (dk_at dksX2_splitLine_7 4 rfl rfl)
theorem dX2_splitLine_169 : decode cX2_splitLine 169 = .ok (.iastore, 1) := dk_79 (dk_at dksX2_splitLine_7 5 rfl rfl)
theorem dX2_splitLine_170 : decode cX2_splitLine 170 = .ok (.aload_n 0, 1) := dk_42 (dk_at dksX2_splitLine_7 6 rfl rfl)
theorem dX2_splitLine_171 : decode cX2_splitLine 171 = .ok (.iload_n 1, 1) := dk_27 (dk_at dksX2_splitLine_7 7 rfl rfl)
theorem dX2_splitLine_172 : decode cX2_splitLine 172 = .ok (.aload_n 0, 1) := dk_42 (dk_at dksX2_splitLine_7 8 rfl rfl)
theorem dX2_splitLine_173 : decode cX2_splitLine 173 = .ok (.getfield 7, 3) := dk_180 0 7 (dk_at dksX2_splitLine_7 9 rfl rfl)
theorem dX2_splitLine_176 : decode cX2_splitLine 176 = .ok (.bipush 21, 2) := dk_16 21 (dk_at dksX2_splitLine_7 12 rfl rfl)
theorem dX2_splitLine_178 : decode cX2_splitLine 178 = .ok (.iload_n 1, 1) := dk_27 (dk_at dksX2_splitLine_7 14 rfl rfl)
theorem dX2_splitLine_179 : decode cX2_splitLine 179 = .ok (.iadd, 1) := dk_96 (dk_at dksX2_splitLine_7 15 rfl rfl)
theorem dX2_splitLine_180 : decode cX2_splitLine 180 = .ok (.iaload, 1) := dk_46 (dk_at dksX2_splitLine_7 16 rfl rfl)
theorem dX2_splitLine_181 : decode cX2_splitLine 181 = .ok (.iconst 1, 1) := dk_4 (dk_at dksX2_splitLine_7 17 rfl rfl)
theorem dX2_splitLine_182 : decode cX2_splitLine 182 = .ok (.isub, 1) := dk_100 (dk_at dksX2_splitLine_7 18 rfl rfl)
theorem dX2_splitLine_183 : decode cX2_splitLine 183 = .ok (.invokevirtual 83, 3) := dk_182 0 83 (dk_at dksX2_splitLine_7 19 rfl rfl)
theorem dX2_splitLine_186 : decode cX2_splitLine 186 = .ok (.bipush 32, 2) := dk_16 32 (dk_at dksX2_splitLine_7 22 rfl rfl)
theorem dX2_splitLine_188 : decode cX2_splitLine 188 = .ok (.if_icmp .ne 19, 3) := dk_160 0 19 (dk_at dksX2_splitLine_8 0 rfl rfl)
theorem dX2_splitLine_191 : decode cX2_splitLine 191 = .ok (.aload_n 0, 1) := dk_42 (dk_at dksX2_splitLine_8 3 rfl rfl)
theorem dX2_splitLine_192 : decode cX2_splitLine 192 = .ok (.getfield 7, 3) := dk_180 0 7 (dk_at dksX2_splitLine_8 4 rfl rfl)
theorem dX2_splitLine_195 : decode cX2_splitLine 195 = .ok (.bipush 21, 2) := dk_16 21 (dk_at dksX2_splitLine_8 7 rfl rfl)
theorem dX2_splitLine_197 : decode cX2_splitLine 197 = .ok (.iload_n 1, 1) := dk_27 (dk_at dksX2_splitLine_8 9 rfl rfl)
theorem dX2_splitLine_198 : decode cX2_splitLine 198 = .ok (.iadd, 1) := dk_96 (dk_at dksX2_splitLine_8 10 rfl rfl)
theorem dX2_splitLine_199 : decode cX2_splitLine 199 = .ok (.dup2, 1) := dk_92 (dk_at dksX2_splitLine_8 11 rfl rfl)
theorem dX2_splitLine_200 : decode cX2_splitLine 200 = .ok (.iaload, 1) := dk_46 (dk_at dksX2_splitLine_8 12 rfl rfl)
theorem dX2_splitLine_201 : decode cX2_splitLine 201 = .ok (.iconst 1, 1) := dk_4 (dk_at dksX2_splitLine_8 13 rfl rfl)
theorem dX2_splitLine_202 : decode cX2_splitLine 202 = .ok (.isub, 1) := dk_100 (dk_at dksX2_splitLine_8 14 rfl rfl)
theorem dX2_splitLine_203 : decode cX2_splitLine 203 = .ok (.iastore, 1) := dk_79 (dk_at dksX2_splitLine_8 15 rfl rfl)
theorem dX2_splitLine_204 : decode cX2_splitLine 204 = .ok (.goto (-34), 3) := dk_167 255 222 (dk_at dksX2_splitLine_8 16 rfl rfl)
theorem dX2_splitLine_207 : decode cX2_splitLine 207 = .ok (.aload_n 0, 1) := dk_42 (dk_at dksX2_splitLine_8 19 rfl rfl)
theorem dX2_splitLine_208 : decode cX2_splitLine 208 = .ok (.aload_n 0, 1) := dk_42 (dk_at dksX2_splitLine_8 20 rfl rfl)
theorem dX2_splitLine_209 : decode cX2_splitLine 209 = .ok (.getfield 7, 3) := dk_180 0 7 (dk_at dksX2_splitLine_8 21 rfl rfl)
theorem dX2_splitLine_212 : decode cX2_splitLine 212 = .ok (.sipush 977, 3) := dk_17 3 209 (dk_at dksX2_splitLine_9 0 rfl rfl)
theorem dX2_splitLine_215 : decode cX2_splitLine 215 = .ok (.iaload, 1) := dk_46 (dk_at dksX2_splitLine_9 3 rfl rfl)
theorem dX2_splitLine_216 : decode cX2_splitLine 216 = .ok (.aload_n 0, 1) := dk_42 (dk_at dksX2_splitLine_9 4 rfl rfl)
theorem dX2_splitLine_217 : decode cX2_splitLine 217 = .ok (.getfield 7, 3) := dk_180 0 7 (dk_at dksX2_splitLine_9 5 rfl rfl)
theorem dX2_splitLine_220 : decode cX2_splitLine 220 = .ok (.sipush 978, 3) := dk_17 3 210 (dk_at dksX2_splitLine_9 8 rfl rfl)
theorem dX2_splitLine_223 : decode cX2_splitLine 223 = .ok (.iaload, 1) := dk_46 (dk_at dksX2_splitLine_9 11 rfl rfl)
theorem dX2_splitLine_224 : decode cX2_splitLine 224 = .ok (.invokevirtual 222, 3) := dk_182 0 222 (dk_at dksX2_splitLine_9 12 rfl rfl)
theorem dX2_splitLine_227 : decode cX2_splitLine 227 = .ok (.aload_n 0, 1) := dk_42 (dk_at dksX2_splitLine_9 15 rfl rfl)
theorem dX2_splitLine_228 : decode cX2_splitLine 228 = .ok (.iload_n 1, 1) := dk_27 (dk_at dksX2_splitLine_9 16 rfl rfl)
theorem dX2_splitLine_229 : decode cX2_splitLine 229 = .ok (.iconst 1, 1) := dk_4 (dk_at dksX2_splitLine_9 17 rfl rfl)
theorem dX2_splitLine_230 : decode cX2_splitLine 230 = .ok (.iadd, 1) := dk_96 (dk_at dksX2_splitLine_9 18 rfl rfl)
theorem dX2_splitLine_231 : decode cX2_splitLine 231 = .ok (.invokevirtual 185, 3) := dk_182 0 185 (dk_at dksX2_splitLine_9 19 rfl rfl)
theorem dX2_splitLine_234 : decode cX2_splitLine 234 = .ok (.ifCond .eq 24, 3) := dk_153 0 24 (dk_at dksX2_splitLine_10 0 rfl rfl)
theorem dX2_splitLine_237 : decode cX2_splitLine 237 = .ok (.aload_n 0, 1) := dk_42 (dk_at dksX2_splitLine_10 3 rfl rfl)
theorem dX2_splitLine_238 : decode cX2_splitLine 238 = .ok (.iload_n 1, 1) := dk_27 (dk_at dksX2_splitLine_10 4 rfl rfl)
theorem dX2_splitLine_239 : decode cX2_splitLine 239 = .ok (.iconst 1, 1) := dk_4 (dk_at dksX2_splitLine_10 5 rfl rfl)
theorem dX2_splitLine_240 : decode cX2_splitLine 240 = .ok (.iadd, 1) := dk_96 (dk_at dksX2_splitLine_10 6 rfl rfl)
theorem dX2_splitLine_241 : decode cX2_splitLine 241 = .ok (.invokevirtual 188, 3) := dk_182 0 188 (dk_at dksX2_splitLine_10 7 rfl rfl)
theorem dX2_splitLine_244 : decode cX2_splitLine 244 = .ok (.aload_n 0, 1) := dk_42 (dk_at dksX2_splitLine_10 10 rfl rfl)
theorem dX2_splitLine_245 : decode cX2_splitLine 245 = .ok (.getfield 7, 3) := dk_180 0 7 (dk_at dksX2_splitLine_10 11 rfl rfl)
theorem dX2_splitLine_248 : decode cX2_splitLine 248 = .ok (.iconst 1, 1) := dk_4 (dk_at dksX2_splitLine_10 14 rfl rfl)
theorem dX2_splitLine_249 : decode cX2_splitLine 249 = .ok (.iload_n 1, 1) := dk_27 (dk_at dksX2_splitLine_10 15 rfl rfl)
theorem dX2_splitLine_250 : decode cX2_splitLine 250 = .ok (.iadd, 1) := dk_96 (dk_at dksX2_splitLine_10 16 rfl rfl)
theorem dX2_splitLine_251 : decode cX2_splitLine 251 = .ok (.iconst 1, 1) := dk_4 (dk_at dksX2_splitLine_10 17 rfl rfl)
theorem dX2_splitLine_252 : decode cX2_splitLine 252 = .ok (.iadd, 1) := dk_96 (dk_at dksX2_splitLine_10 18 rfl rfl)
theorem dX2_splitLine_253 : decode cX2_splitLine 253 = .ok (.aload_n 0, 1) := dk_42 (dk_at dksX2_splitLine_10 19 rfl rfl)
theorem dX2_splitLine_254 : decode cX2_splitLine 254 = .ok (.getfield 170, 3) := dk_180 0 170 (dk_at dksX2_splitLine_10 20 rfl rfl)
theorem dX2_splitLine_257 : decode cX2_splitLine 257 = .ok (.iastore, 1) := dk_79 (dk_at dksX2_splitLine_10 23 rfl rfl)
theorem dX2_splitLine_258 : decode cX2_splitLine 258 = .ok (.aload_n 0, 1) := dk_42 (dk_at dksX2_splitLine_11 0 rfl rfl)
theorem dX2_splitLine_259 : decode cX2_splitLine 259 = .ok (.getfield 7, 3) := dk_180 0 7 (dk_at dksX2_splitLine_11 1 rfl rfl)
theorem dX2_splitLine_262 : decode cX2_splitLine 262 = .ok (.iconst 1, 1) := dk_4 (dk_at dksX2_splitLine_11 4 rfl rfl)
theorem dX2_splitLine_263 : decode cX2_splitLine 263 = .ok (.iload_n 1, 1) := dk_27 (dk_at dksX2_splitLine_11 5 rfl rfl)
theorem dX2_splitLine_264 : decode cX2_splitLine 264 = .ok (.iadd, 1) := dk_96 (dk_at dksX2_splitLine_11 6 rfl rfl)
theorem dX2_splitLine_265 : decode cX2_splitLine 265 = .ok (.iconst 1, 1) := dk_4 (dk_at dksX2_splitLine_11 7 rfl rfl)
theorem dX2_splitLine_266 : decode cX2_splitLine 266 = .ok (.iadd, 1) := dk_96 (dk_at dksX2_splitLine_11 8 rfl rfl)
theorem dX2_splitLine_267 : decode cX2_splitLine 267 = .ok (.iaload, 1) := dk_46 (dk_at dksX2_splitLine_11 9 rfl rfl)
theorem dX2_splitLine_268 : decode cX2_splitLine 268 = .ok (.ireturn, 1) := dk_172 (dk_at dksX2_splitLine_11 10 rfl rfl)
abbrev cX2_contentAt : ByteArray := prog_10_method_9_code
def yX2_contentAt : MethodName := ⟨RX2, "contentAt", "(II)I"⟩
def dkwX2_contentAt_1 : List UInt8 := [28, 96, 46, 167, 0, 5, 16, 247, 172]
abbrev dktX2_contentAt_1 : List UInt8 := dkwX2_contentAt_1 ++ []
def dkwX2_contentAt_0 : List UInt8 := [28, 42, 180, 0, 7, 16, 21, 27, 96, 46, 162, 0, 20, 42, 180, 0, 7, 16, 61, 16, 32, 27, 104, 96]
abbrev dktX2_contentAt_0 : List UInt8 := dkwX2_contentAt_0 ++ dktX2_contentAt_1
theorem dksX2_contentAt_0 : cX2_contentAt.data.toList.drop 0 = dktX2_contentAt_0 := by decide +kernel
theorem dksX2_contentAt_1 : cX2_contentAt.data.toList.drop 24 = dktX2_contentAt_1 := dk_seg dksX2_contentAt_0 24 rfl rfl
theorem dX2_contentAt_0 : decode cX2_contentAt 0 = .ok (.iload_n 2, 1) := dk_28 (dk_at dksX2_contentAt_0 0 rfl rfl)
theorem dX2_contentAt_1 : decode cX2_contentAt 1 = .ok (.aload_n 0, 1) := dk_42 (dk_at dksX2_contentAt_0 1 rfl rfl)
theorem dX2_contentAt_2 : decode cX2_contentAt 2 = .ok (.getfield 7, 3) := dk_180 0 7 (dk_at dksX2_contentAt_0 2 rfl rfl)
theorem dX2_contentAt_5 : decode cX2_contentAt 5 = .ok (.bipush 21, 2) := dk_16 21 (dk_at dksX2_contentAt_0 5 rfl rfl)
theorem dX2_contentAt_7 : decode cX2_contentAt 7 = .ok (.iload_n 1, 1) := dk_27 (dk_at dksX2_contentAt_0 7 rfl rfl)
theorem dX2_contentAt_8 : decode cX2_contentAt 8 = .ok (.iadd, 1) := dk_96 (dk_at dksX2_contentAt_0 8 rfl rfl)
theorem dX2_contentAt_9 : decode cX2_contentAt 9 = .ok (.iaload, 1) := dk_46 (dk_at dksX2_contentAt_0 9 rfl rfl)
theorem dX2_contentAt_10 : decode cX2_contentAt 10 = .ok (.if_icmp .ge 20, 3) := dk_162 0 20 (dk_at dksX2_contentAt_0 10 rfl rfl)
theorem dX2_contentAt_13 : decode cX2_contentAt 13 = .ok (.aload_n 0, 1) := dk_42 (dk_at dksX2_contentAt_0 13 rfl rfl)
theorem dX2_contentAt_14 : decode cX2_contentAt 14 = .ok (.getfield 7, 3) := dk_180 0 7 (dk_at dksX2_contentAt_0 14 rfl rfl)
theorem dX2_contentAt_17 : decode cX2_contentAt 17 = .ok (.bipush 61, 2) := dk_16 61 (dk_at dksX2_contentAt_0 17 rfl rfl)
theorem dX2_contentAt_19 : decode cX2_contentAt 19 = .ok (.bipush 32, 2) := dk_16 32 (dk_at dksX2_contentAt_0 19 rfl rfl)
theorem dX2_contentAt_21 : decode cX2_contentAt 21 = .ok (.iload_n 1, 1) := dk_27 (dk_at dksX2_contentAt_0 21 rfl rfl)
theorem dX2_contentAt_22 : decode cX2_contentAt 22 = .ok (.imul, 1) := dk_104 (dk_at dksX2_contentAt_0 22 rfl rfl)
theorem dX2_contentAt_23 : decode cX2_contentAt 23 = .ok (.iadd, 1) := dk_96 (dk_at dksX2_contentAt_0 23 rfl rfl)
theorem dX2_contentAt_24 : decode cX2_contentAt 24 = .ok (.iload_n 2, 1) := dk_28 (dk_at dksX2_contentAt_1 0 rfl rfl)
theorem dX2_contentAt_25 : decode cX2_contentAt 25 = .ok (.iadd, 1) := dk_96 (dk_at dksX2_contentAt_1 1 rfl rfl)
theorem dX2_contentAt_26 : decode cX2_contentAt 26 = .ok (.iaload, 1) := dk_46 (dk_at dksX2_contentAt_1 2 rfl rfl)
theorem dX2_contentAt_27 : decode cX2_contentAt 27 = .ok (.goto 5, 3) := dk_167 0 5 (dk_at dksX2_contentAt_1 3 rfl rfl)
theorem dX2_contentAt_30 : decode cX2_contentAt 30 = .ok (.bipush (-9), 2) := dk_16 247 (dk_at dksX2_contentAt_1 6 rfl rfl)
theorem dX2_contentAt_32 : decode cX2_contentAt 32 = .ok (.ireturn, 1) := dk_172 (dk_at dksX2_contentAt_1 8 rfl rfl)
abbrev cX2_uses : ByteArray := prog_10_method_25_code
def yX2_uses : MethodName := ⟨RX2, "uses", "(II)V"⟩
def dkwX2_uses_2 : List UInt8 := [177]
abbrev dktX2_uses_2 : List UInt8 := dkwX2_uses_2 ++ []
def dkwX2_uses_1 : List UInt8 := [180, 0, 7, 4, 29, 96, 46, 79, 132, 3, 1, 167, 255, 229, 42, 27, 181, 0, 154, 42, 28, 181, 0, 157]
abbrev dktX2_uses_1 : List UInt8 := dkwX2_uses_1 ++ dktX2_uses_2
def dkwX2_uses_0 : List UInt8 := [42, 182, 0, 151, 3, 62, 29, 42, 180, 0, 7, 3, 46, 162, 0, 23, 42, 180, 0, 56, 29, 42]
abbrev dktX2_uses_0 : List UInt8 := dkwX2_uses_0 ++ dktX2_uses_1
theorem dksX2_uses_0 : cX2_uses.data.toList.drop 0 = dktX2_uses_0 := by decide +kernel
theorem dksX2_uses_1 : cX2_uses.data.toList.drop 22 = dktX2_uses_1 := dk_seg dksX2_uses_0 22 rfl rfl
theorem dksX2_uses_2 : cX2_uses.data.toList.drop 46 = dktX2_uses_2 := dk_seg dksX2_uses_1 24 rfl rfl
theorem dX2_uses_0 : decode cX2_uses 0 = .ok (.aload_n 0, 1) := dk_42 (dk_at dksX2_uses_0 0 rfl rfl)
theorem dX2_uses_1 : decode cX2_uses 1 = .ok (.invokevirtual 151, 3) := dk_182 0 151 (dk_at dksX2_uses_0 1 rfl rfl)
theorem dX2_uses_4 : decode cX2_uses 4 = .ok (.iconst 0, 1) := dk_3 (dk_at dksX2_uses_0 4 rfl rfl)
theorem dX2_uses_5 : decode cX2_uses 5 = .ok (.istore_n 3, 1) := dk_62 (dk_at dksX2_uses_0 5 rfl rfl)
theorem dX2_uses_6 : decode cX2_uses 6 = .ok (.iload_n 3, 1) := dk_29 (dk_at dksX2_uses_0 6 rfl rfl)
theorem dX2_uses_7 : decode cX2_uses 7 = .ok (.aload_n 0, 1) := dk_42 (dk_at dksX2_uses_0 7 rfl rfl)
theorem dX2_uses_8 : decode cX2_uses 8 = .ok (.getfield 7, 3) := dk_180 0 7 (dk_at dksX2_uses_0 8 rfl rfl)
theorem dX2_uses_11 : decode cX2_uses 11 = .ok (.iconst 0, 1) := dk_3 (dk_at dksX2_uses_0 11 rfl rfl)
theorem dX2_uses_12 : decode cX2_uses 12 = .ok (.iaload, 1) := dk_46 (dk_at dksX2_uses_0 12 rfl rfl)
theorem dX2_uses_13 : decode cX2_uses 13 = .ok (.if_icmp .ge 23, 3) := dk_162 0 23 (dk_at dksX2_uses_0 13 rfl rfl)
theorem dX2_uses_16 : decode cX2_uses 16 = .ok (.aload_n 0, 1) := dk_42 (dk_at dksX2_uses_0 16 rfl rfl)
theorem dX2_uses_17 : decode cX2_uses 17 = .ok (.getfield 56, 3) := dk_180 0 56 (dk_at dksX2_uses_0 17 rfl rfl)
theorem dX2_uses_20 : decode cX2_uses 20 = .ok (.iload_n 3, 1) := dk_29 (dk_at dksX2_uses_0 20 rfl rfl)
theorem dX2_uses_21 : decode cX2_uses 21 = .ok (.aload_n 0, 1) := dk_42 (dk_at dksX2_uses_0 21 rfl rfl)
theorem dX2_uses_22 : decode cX2_uses 22 = .ok (.getfield 7, 3) := dk_180 0 7 (dk_at dksX2_uses_1 0 rfl rfl)
theorem dX2_uses_25 : decode cX2_uses 25 = .ok (.iconst 1, 1) := dk_4 (dk_at dksX2_uses_1 3 rfl rfl)
theorem dX2_uses_26 : decode cX2_uses 26 = .ok (.iload_n 3, 1) := dk_29 (dk_at dksX2_uses_1 4 rfl rfl)
theorem dX2_uses_27 : decode cX2_uses 27 = .ok (.iadd, 1) := dk_96 (dk_at dksX2_uses_1 5 rfl rfl)
theorem dX2_uses_28 : decode cX2_uses 28 = .ok (.iaload, 1) := dk_46 (dk_at dksX2_uses_1 6 rfl rfl)
theorem dX2_uses_29 : decode cX2_uses 29 = .ok (.iastore, 1) := dk_79 (dk_at dksX2_uses_1 7 rfl rfl)
theorem dX2_uses_30 : decode cX2_uses 30 = .ok (.iinc 3 1, 3) := dk_132 3 1 (dk_at dksX2_uses_1 8 rfl rfl)
theorem dX2_uses_33 : decode cX2_uses 33 = .ok (.goto (-27), 3) := dk_167 255 229 (dk_at dksX2_uses_1 11 rfl rfl)
theorem dX2_uses_36 : decode cX2_uses 36 = .ok (.aload_n 0, 1) := dk_42 (dk_at dksX2_uses_1 14 rfl rfl)
theorem dX2_uses_37 : decode cX2_uses 37 = .ok (.iload_n 1, 1) := dk_27 (dk_at dksX2_uses_1 15 rfl rfl)
theorem dX2_uses_38 : decode cX2_uses 38 = .ok (.putfield 154, 3) := dk_181 0 154 (dk_at dksX2_uses_1 16 rfl rfl)
theorem dX2_uses_41 : decode cX2_uses 41 = .ok (.aload_n 0, 1) := dk_42 (dk_at dksX2_uses_1 19 rfl rfl)
theorem dX2_uses_42 : decode cX2_uses 42 = .ok (.iload_n 2, 1) := dk_28 (dk_at dksX2_uses_1 20 rfl rfl)
theorem dX2_uses_43 : decode cX2_uses 43 = .ok (.putfield 157, 3) := dk_181 0 157 (dk_at dksX2_uses_1 21 rfl rfl)
theorem dX2_uses_46 : decode cX2_uses 46 = .ok (.return_, 1) := dk_177 (dk_at dksX2_uses_2 0 rfl rfl)
abbrev cX2_looks : ByteArray := prog_10_method_24_code
def yX2_looks : MethodName := ⟨RX2, "looks", "()V"⟩
def dkwX2_looks_6 : List UInt8 := [167, 255, 163, 132, 1, 1, 167, 255, 135, 42, 42, 180, 0, 7, 3, 46, 182, 0, 141, 177]
abbrev dktX2_looks_6 : List UInt8 := dkwX2_looks_6 ++ []
def dkwX2_looks_5 : List UInt8 := [180, 0, 53, 42, 180, 0, 126, 28, 79, 42, 89, 180, 0, 126, 4, 96, 181, 0, 126, 132, 2, 1]
abbrev dktX2_looks_5 : List UInt8 := dkwX2_looks_5 ++ dktX2_looks_6
def dkwX2_looks_4 : List UInt8 := [16, 247, 159, 0, 39, 42, 180, 0, 126, 16, 12, 162, 0, 30, 42, 180, 0, 32, 28, 29, 79, 42]
abbrev dktX2_looks_4 : List UInt8 := dkwX2_looks_4 ++ dktX2_looks_5
def dkwX2_looks_3 : List UInt8 := [16, 247, 79, 42, 180, 0, 38, 28, 16, 247, 79, 42, 28, 182, 0, 145, 42, 28, 4, 182, 0, 148, 62, 29]
abbrev dktX2_looks_3 : List UInt8 := dkwX2_looks_3 ++ dktX2_looks_4
def dkwX2_looks_2 : List UInt8 := [180, 0, 41, 27, 4, 96, 46, 162, 0, 87, 42, 180, 0, 32, 28, 16, 247, 79, 42, 180, 0, 35, 28]
abbrev dktX2_looks_2 : List UInt8 := dkwX2_looks_2 ++ dktX2_looks_3
def dkwX2_looks_1 : List UInt8 := [180, 0, 7, 3, 46, 162, 0, 117, 42, 27, 182, 0, 141, 42, 180, 0, 41, 27, 46, 61, 28, 42]
abbrev dktX2_looks_1 : List UInt8 := dkwX2_looks_1 ++ dktX2_looks_2
def dkwX2_looks_0 : List UInt8 := [42, 182, 0, 138, 42, 3, 181, 0, 126, 42, 3, 181, 0, 135, 42, 3, 181, 0, 129, 3, 60, 27, 42]
abbrev dktX2_looks_0 : List UInt8 := dkwX2_looks_0 ++ dktX2_looks_1
theorem dksX2_looks_0 : cX2_looks.data.toList.drop 0 = dktX2_looks_0 := by decide +kernel
theorem dksX2_looks_1 : cX2_looks.data.toList.drop 23 = dktX2_looks_1 := dk_seg dksX2_looks_0 23 rfl rfl
theorem dksX2_looks_2 : cX2_looks.data.toList.drop 45 = dktX2_looks_2 := dk_seg dksX2_looks_1 22 rfl rfl
theorem dksX2_looks_3 : cX2_looks.data.toList.drop 68 = dktX2_looks_3 := dk_seg dksX2_looks_2 23 rfl rfl
theorem dksX2_looks_4 : cX2_looks.data.toList.drop 92 = dktX2_looks_4 := dk_seg dksX2_looks_3 24 rfl rfl
theorem dksX2_looks_5 : cX2_looks.data.toList.drop 114 = dktX2_looks_5 := dk_seg dksX2_looks_4 22 rfl rfl
theorem dksX2_looks_6 : cX2_looks.data.toList.drop 136 = dktX2_looks_6 := dk_seg dksX2_looks_5 22 rfl rfl
theorem dX2_looks_0 : decode cX2_looks 0 = .ok (.aload_n 0, 1) := dk_42 (dk_at dksX2_looks_0 0 rfl rfl)
theorem dX2_looks_1 : decode cX2_looks 1 = .ok (.invokevirtual 138, 3) := dk_182 0 138 (dk_at dksX2_looks_0 1 rfl rfl)
theorem dX2_looks_4 : decode cX2_looks 4 = .ok (.aload_n 0, 1) := dk_42 (dk_at dksX2_looks_0 4 rfl rfl)
theorem dX2_looks_5 : decode cX2_looks 5 = .ok (.iconst 0, 1) := dk_3 (dk_at dksX2_looks_0 5 rfl rfl)
theorem dX2_looks_6 : decode cX2_looks 6 = .ok (.putfield 126, 3) := dk_181 0 126 (dk_at dksX2_looks_0 6 rfl rfl)
theorem dX2_looks_9 : decode cX2_looks 9 = .ok (.aload_n 0, 1) := dk_42 (dk_at dksX2_looks_0 9 rfl rfl)
theorem dX2_looks_10 : decode cX2_looks 10 = .ok (.iconst 0, 1) := dk_3 (dk_at dksX2_looks_0 10 rfl rfl)
theorem dX2_looks_11 : decode cX2_looks 11 = .ok (.putfield 135, 3) := dk_181 0 135 (dk_at dksX2_looks_0 11 rfl rfl)
theorem dX2_looks_14 : decode cX2_looks 14 = .ok (.aload_n 0, 1) := dk_42 (dk_at dksX2_looks_0 14 rfl rfl)
theorem dX2_looks_15 : decode cX2_looks 15 = .ok (.iconst 0, 1) := dk_3 (dk_at dksX2_looks_0 15 rfl rfl)
theorem dX2_looks_16 : decode cX2_looks 16 = .ok (.putfield 129, 3) := dk_181 0 129 (dk_at dksX2_looks_0 16 rfl rfl)
theorem dX2_looks_19 : decode cX2_looks 19 = .ok (.iconst 0, 1) := dk_3 (dk_at dksX2_looks_0 19 rfl rfl)
theorem dX2_looks_20 : decode cX2_looks 20 = .ok (.istore_n 1, 1) := dk_60 (dk_at dksX2_looks_0 20 rfl rfl)
theorem dX2_looks_21 : decode cX2_looks 21 = .ok (.iload_n 1, 1) := dk_27 (dk_at dksX2_looks_0 21 rfl rfl)
theorem dX2_looks_22 : decode cX2_looks 22 = .ok (.aload_n 0, 1) := dk_42 (dk_at dksX2_looks_0 22 rfl rfl)
theorem dX2_looks_23 : decode cX2_looks 23 = .ok (.getfield 7, 3) := dk_180 0 7 (dk_at dksX2_looks_1 0 rfl rfl)
theorem dX2_looks_26 : decode cX2_looks 26 = .ok (.iconst 0, 1) := dk_3 (dk_at dksX2_looks_1 3 rfl rfl)
theorem dX2_looks_27 : decode cX2_looks 27 = .ok (.iaload, 1) := dk_46 (dk_at dksX2_looks_1 4 rfl rfl)
theorem dX2_looks_28 : decode cX2_looks 28 = .ok (.if_icmp .ge 117, 3) := dk_162 0 117 (dk_at dksX2_looks_1 5 rfl rfl)
theorem dX2_looks_31 : decode cX2_looks 31 = .ok (.aload_n 0, 1) := dk_42 (dk_at dksX2_looks_1 8 rfl rfl)
theorem dX2_looks_32 : decode cX2_looks 32 = .ok (.iload_n 1, 1) := dk_27 (dk_at dksX2_looks_1 9 rfl rfl)
theorem dX2_looks_33 : decode cX2_looks 33 = .ok (.invokevirtual 141, 3) := dk_182 0 141 (dk_at dksX2_looks_1 10 rfl rfl)
theorem dX2_looks_36 : decode cX2_looks 36 = .ok (.aload_n 0, 1) := dk_42 (dk_at dksX2_looks_1 13 rfl rfl)
theorem dX2_looks_37 : decode cX2_looks 37 = .ok (.getfield 41, 3) := dk_180 0 41 (dk_at dksX2_looks_1 14 rfl rfl)
theorem dX2_looks_40 : decode cX2_looks 40 = .ok (.iload_n 1, 1) := dk_27 (dk_at dksX2_looks_1 17 rfl rfl)
theorem dX2_looks_41 : decode cX2_looks 41 = .ok (.iaload, 1) := dk_46 (dk_at dksX2_looks_1 18 rfl rfl)
theorem dX2_looks_42 : decode cX2_looks 42 = .ok (.istore_n 2, 1) := dk_61 (dk_at dksX2_looks_1 19 rfl rfl)
theorem dX2_looks_43 : decode cX2_looks 43 = .ok (.iload_n 2, 1) := dk_28 (dk_at dksX2_looks_1 20 rfl rfl)
theorem dX2_looks_44 : decode cX2_looks 44 = .ok (.aload_n 0, 1) := dk_42 (dk_at dksX2_looks_1 21 rfl rfl)
theorem dX2_looks_45 : decode cX2_looks 45 = .ok (.getfield 41, 3) := dk_180 0 41 (dk_at dksX2_looks_2 0 rfl rfl)
theorem dX2_looks_48 : decode cX2_looks 48 = .ok (.iload_n 1, 1) := dk_27 (dk_at dksX2_looks_2 3 rfl rfl)
theorem dX2_looks_49 : decode cX2_looks 49 = .ok (.iconst 1, 1) := dk_4 (dk_at dksX2_looks_2 4 rfl rfl)
theorem dX2_looks_50 : decode cX2_looks 50 = .ok (.iadd, 1) := dk_96 (dk_at dksX2_looks_2 5 rfl rfl)
theorem dX2_looks_51 : decode cX2_looks 51 = .ok (.iaload, 1) := dk_46 (dk_at dksX2_looks_2 6 rfl rfl)
theorem dX2_looks_52 : decode cX2_looks 52 = .ok (.if_icmp .ge 87, 3) := dk_162 0 87 (dk_at dksX2_looks_2 7 rfl rfl)
theorem dX2_looks_55 : decode cX2_looks 55 = .ok (.aload_n 0, 1) := dk_42 (dk_at dksX2_looks_2 10 rfl rfl)
theorem dX2_looks_56 : decode cX2_looks 56 = .ok (.getfield 32, 3) := dk_180 0 32 (dk_at dksX2_looks_2 11 rfl rfl)
theorem dX2_looks_59 : decode cX2_looks 59 = .ok (.iload_n 2, 1) := dk_28 (dk_at dksX2_looks_2 14 rfl rfl)
theorem dX2_looks_60 : decode cX2_looks 60 = .ok (.bipush (-9), 2) := dk_16 247 (dk_at dksX2_looks_2 15 rfl rfl)
theorem dX2_looks_62 : decode cX2_looks 62 = .ok (.iastore, 1) := dk_79 (dk_at dksX2_looks_2 17 rfl rfl)
theorem dX2_looks_63 : decode cX2_looks 63 = .ok (.aload_n 0, 1) := dk_42 (dk_at dksX2_looks_2 18 rfl rfl)
theorem dX2_looks_64 : decode cX2_looks 64 = .ok (.getfield 35, 3) := dk_180 0 35 (dk_at dksX2_looks_2 19 rfl rfl)
theorem dX2_looks_67 : decode cX2_looks 67 = .ok (.iload_n 2, 1) := dk_28 (dk_at dksX2_looks_2 22 rfl rfl)
theorem dX2_looks_68 : decode cX2_looks 68 = .ok (.bipush (-9), 2) := dk_16 247 (dk_at dksX2_looks_3 0 rfl rfl)
theorem dX2_looks_70 : decode cX2_looks 70 = .ok (.iastore, 1) := dk_79 (dk_at dksX2_looks_3 2 rfl rfl)
theorem dX2_looks_71 : decode cX2_looks 71 = .ok (.aload_n 0, 1) := dk_42 (dk_at dksX2_looks_3 3 rfl rfl)
theorem dX2_looks_72 : decode cX2_looks 72 = .ok (.getfield 38, 3) := dk_180 0 38 (dk_at dksX2_looks_3 4 rfl rfl)
theorem dX2_looks_75 : decode cX2_looks 75 = .ok (.iload_n 2, 1) := dk_28 (dk_at dksX2_looks_3 7 rfl rfl)
theorem dX2_looks_76 : decode cX2_looks 76 = .ok (.bipush (-9), 2) := dk_16 247 (dk_at dksX2_looks_3 8 rfl rfl)
theorem dX2_looks_78 : decode cX2_looks 78 = .ok (.iastore, 1) := dk_79 (dk_at dksX2_looks_3 10 rfl rfl)
theorem dX2_looks_79 : decode cX2_looks 79 = .ok (.aload_n 0, 1) := dk_42 (dk_at dksX2_looks_3 11 rfl rfl)
theorem dX2_looks_80 : decode cX2_looks 80 = .ok (.iload_n 2, 1) := dk_28 (dk_at dksX2_looks_3 12 rfl rfl)
theorem dX2_looks_81 : decode cX2_looks 81 = .ok (.invokevirtual 145, 3) := dk_182 0 145 (dk_at dksX2_looks_3 13 rfl rfl)
theorem dX2_looks_84 : decode cX2_looks 84 = .ok (.aload_n 0, 1) := dk_42 (dk_at dksX2_looks_3 16 rfl rfl)
theorem dX2_looks_85 : decode cX2_looks 85 = .ok (.iload_n 2, 1) := dk_28 (dk_at dksX2_looks_3 17 rfl rfl)
theorem dX2_looks_86 : decode cX2_looks 86 = .ok (.iconst 1, 1) := dk_4 (dk_at dksX2_looks_3 18 rfl rfl)
theorem dX2_looks_87 : decode cX2_looks 87 = .ok (.invokevirtual 148, 3) := dk_182 0 148 (dk_at dksX2_looks_3 19 rfl rfl)
theorem dX2_looks_90 : decode cX2_looks 90 = .ok (.istore_n 3, 1) := dk_62 (dk_at dksX2_looks_3 22 rfl rfl)
theorem dX2_looks_91 : decode cX2_looks 91 = .ok (.iload_n 3, 1) := dk_29 (dk_at dksX2_looks_3 23 rfl rfl)
theorem dX2_looks_92 : decode cX2_looks 92 = .ok (.bipush (-9), 2) := dk_16 247 (dk_at dksX2_looks_4 0 rfl rfl)
theorem dX2_looks_94 : decode cX2_looks 94 = .ok (.if_icmp .eq 39, 3) := dk_159 0 39 (dk_at dksX2_looks_4 2 rfl rfl)
theorem dX2_looks_97 : decode cX2_looks 97 = .ok (.aload_n 0, 1) := dk_42 (dk_at dksX2_looks_4 5 rfl rfl)
theorem dX2_looks_98 : decode cX2_looks 98 = .ok (.getfield 126, 3) := dk_180 0 126 (dk_at dksX2_looks_4 6 rfl rfl)
theorem dX2_looks_101 : decode cX2_looks 101 = .ok (.bipush 12, 2) := dk_16 12 (dk_at dksX2_looks_4 9 rfl rfl)
theorem dX2_looks_103 : decode cX2_looks 103 = .ok (.if_icmp .ge 30, 3) := dk_162 0 30 (dk_at dksX2_looks_4 11 rfl rfl)
theorem dX2_looks_106 : decode cX2_looks 106 = .ok (.aload_n 0, 1) := dk_42 (dk_at dksX2_looks_4 14 rfl rfl)
theorem dX2_looks_107 : decode cX2_looks 107 = .ok (.getfield 32, 3) := dk_180 0 32 (dk_at dksX2_looks_4 15 rfl rfl)
theorem dX2_looks_110 : decode cX2_looks 110 = .ok (.iload_n 2, 1) := dk_28 (dk_at dksX2_looks_4 18 rfl rfl)
theorem dX2_looks_111 : decode cX2_looks 111 = .ok (.iload_n 3, 1) := dk_29 (dk_at dksX2_looks_4 19 rfl rfl)
theorem dX2_looks_112 : decode cX2_looks 112 = .ok (.iastore, 1) := dk_79 (dk_at dksX2_looks_4 20 rfl rfl)
theorem dX2_looks_113 : decode cX2_looks 113 = .ok (.aload_n 0, 1) := dk_42 (dk_at dksX2_looks_4 21 rfl rfl)
theorem dX2_looks_114 : decode cX2_looks 114 = .ok (.getfield 53, 3) := dk_180 0 53 (dk_at dksX2_looks_5 0 rfl rfl)
theorem dX2_looks_117 : decode cX2_looks 117 = .ok (.aload_n 0, 1) := dk_42 (dk_at dksX2_looks_5 3 rfl rfl)
theorem dX2_looks_118 : decode cX2_looks 118 = .ok (.getfield 126, 3) := dk_180 0 126 (dk_at dksX2_looks_5 4 rfl rfl)
theorem dX2_looks_121 : decode cX2_looks 121 = .ok (.iload_n 2, 1) := dk_28 (dk_at dksX2_looks_5 7 rfl rfl)
theorem dX2_looks_122 : decode cX2_looks 122 = .ok (.iastore, 1) := dk_79 (dk_at dksX2_looks_5 8 rfl rfl)
theorem dX2_looks_123 : decode cX2_looks 123 = .ok (.aload_n 0, 1) := dk_42 (dk_at dksX2_looks_5 9 rfl rfl)
theorem dX2_looks_124 : decode cX2_looks 124 = .ok (.dup, 1) := dk_89 (dk_at dksX2_looks_5 10 rfl rfl)
theorem dX2_looks_125 : decode cX2_looks 125 = .ok (.getfield 126, 3) := dk_180 0 126 (dk_at dksX2_looks_5 11 rfl rfl)
theorem dX2_looks_128 : decode cX2_looks 128 = .ok (.iconst 1, 1) := dk_4 (dk_at dksX2_looks_5 14 rfl rfl)
theorem dX2_looks_129 : decode cX2_looks 129 = .ok (.iadd, 1) := dk_96 (dk_at dksX2_looks_5 15 rfl rfl)
theorem dX2_looks_130 : decode cX2_looks 130 = .ok (.putfield 126, 3) := dk_181 0 126 (dk_at dksX2_looks_5 16 rfl rfl)
theorem dX2_looks_133 : decode cX2_looks 133 = .ok (.iinc 2 1, 3) := dk_132 2 1 (dk_at dksX2_looks_5 19 rfl rfl)
theorem dX2_looks_136 : decode cX2_looks 136 = .ok (.goto (-93), 3) := dk_167 255 163 (dk_at dksX2_looks_6 0 rfl rfl)
theorem dX2_looks_139 : decode cX2_looks 139 = .ok (.iinc 1 1, 3) := dk_132 1 1 (dk_at dksX2_looks_6 3 rfl rfl)
theorem dX2_looks_142 : decode cX2_looks 142 = .ok (.goto (-121), 3) := dk_167 255 135 (dk_at dksX2_looks_6 6 rfl rfl)
theorem dX2_looks_145 : decode cX2_looks 145 = .ok (.aload_n 0, 1) := dk_42 (dk_at dksX2_looks_6 9 rfl rfl)
theorem dX2_looks_146 : decode cX2_looks 146 = .ok (.aload_n 0, 1) := dk_42 (dk_at dksX2_looks_6 10 rfl rfl)
theorem dX2_looks_147 : decode cX2_looks 147 = .ok (.getfield 7, 3) := dk_180 0 7 (dk_at dksX2_looks_6 11 rfl rfl)
theorem dX2_looks_150 : decode cX2_looks 150 = .ok (.iconst 0, 1) := dk_3 (dk_at dksX2_looks_6 14 rfl rfl)
theorem dX2_looks_151 : decode cX2_looks 151 = .ok (.iaload, 1) := dk_46 (dk_at dksX2_looks_6 15 rfl rfl)
theorem dX2_looks_152 : decode cX2_looks 152 = .ok (.invokevirtual 141, 3) := dk_182 0 141 (dk_at dksX2_looks_6 16 rfl rfl)
theorem dX2_looks_155 : decode cX2_looks 155 = .ok (.return_, 1) := dk_177 (dk_at dksX2_looks_6 19 rfl rfl)
abbrev cX2_tokenizes : ByteArray := prog_10_method_17_code
def yX2_tokenizes : MethodName := ⟨RX2, "tokenizes", "()V"⟩
def dkwX2_tokenizes_4 : List UInt8 := [132, 2, 1, 167, 255, 168, 42, 180, 0, 41, 42, 180, 0, 7, 3, 46, 42, 180, 0, 98, 79, 177]
abbrev dktX2_tokenizes_4 : List UInt8 := dkwX2_tokenizes_4 ++ []
def dkwX2_tokenizes_3 : List UInt8 := [29, 182, 0, 117, 153, 0, 7, 4, 167, 0, 4, 3, 60, 167, 0, 10, 42, 28, 3, 182, 0, 117, 60]
abbrev dktX2_tokenizes_3 : List UInt8 := dkwX2_tokenizes_3 ++ dktX2_tokenizes_4
def dkwX2_tokenizes_2 : List UInt8 := [167, 0, 4, 3, 84, 27, 153, 0, 34, 42, 28, 3, 182, 0, 101, 62, 29, 16, 247, 159, 0, 12, 42, 28]
abbrev dktX2_tokenizes_2 : List UInt8 := dkwX2_tokenizes_2 ++ dktX2_tokenizes_3
def dkwX2_tokenizes_1 : List UInt8 := [42, 180, 0, 98, 79, 42, 180, 0, 44, 28, 27, 153, 0, 15, 42, 28, 182, 0, 114, 154, 0, 7, 4]
abbrev dktX2_tokenizes_1 : List UInt8 := dkwX2_tokenizes_1 ++ dktX2_tokenizes_2
def dkwX2_tokenizes_0 : List UInt8 := [42, 3, 181, 0, 98, 3, 60, 3, 61, 28, 42, 180, 0, 7, 3, 46, 162, 0, 84, 42, 180, 0, 41, 28]
abbrev dktX2_tokenizes_0 : List UInt8 := dkwX2_tokenizes_0 ++ dktX2_tokenizes_1
theorem dksX2_tokenizes_0 : cX2_tokenizes.data.toList.drop 0 = dktX2_tokenizes_0 := by decide +kernel
theorem dksX2_tokenizes_1 : cX2_tokenizes.data.toList.drop 24 = dktX2_tokenizes_1 := dk_seg dksX2_tokenizes_0 24 rfl rfl
theorem dksX2_tokenizes_2 : cX2_tokenizes.data.toList.drop 47 = dktX2_tokenizes_2 := dk_seg dksX2_tokenizes_1 23 rfl rfl
theorem dksX2_tokenizes_3 : cX2_tokenizes.data.toList.drop 71 = dktX2_tokenizes_3 := dk_seg dksX2_tokenizes_2 24 rfl rfl
theorem dksX2_tokenizes_4 : cX2_tokenizes.data.toList.drop 94 = dktX2_tokenizes_4 := dk_seg dksX2_tokenizes_3 23 rfl rfl
theorem dX2_tokenizes_0 : decode cX2_tokenizes 0 = .ok (.aload_n 0, 1) := dk_42 (dk_at dksX2_tokenizes_0 0 rfl rfl)
theorem dX2_tokenizes_1 : decode cX2_tokenizes 1 = .ok (.iconst 0, 1) := dk_3 (dk_at dksX2_tokenizes_0 1 rfl rfl)
theorem dX2_tokenizes_2 : decode cX2_tokenizes 2 = .ok (.putfield 98, 3) := dk_181 0 98 (dk_at dksX2_tokenizes_0 2 rfl rfl)
theorem dX2_tokenizes_5 : decode cX2_tokenizes 5 = .ok (.iconst 0, 1) := dk_3 (dk_at dksX2_tokenizes_0 5 rfl rfl)
theorem dX2_tokenizes_6 : decode cX2_tokenizes 6 = .ok (.istore_n 1, 1) := dk_60 (dk_at dksX2_tokenizes_0 6 rfl rfl)
theorem dX2_tokenizes_7 : decode cX2_tokenizes 7 = .ok (.iconst 0, 1) := dk_3 (dk_at dksX2_tokenizes_0 7 rfl rfl)
theorem dX2_tokenizes_8 : decode cX2_tokenizes 8 = .ok (.istore_n 2, 1) := dk_61 (dk_at dksX2_tokenizes_0 8 rfl rfl)
theorem dX2_tokenizes_9 : decode cX2_tokenizes 9 = .ok (.iload_n 2, 1) := dk_28 (dk_at dksX2_tokenizes_0 9 rfl rfl)
theorem dX2_tokenizes_10 : decode cX2_tokenizes 10 = .ok (.aload_n 0, 1) := dk_42 (dk_at dksX2_tokenizes_0 10 rfl rfl)
theorem dX2_tokenizes_11 : decode cX2_tokenizes 11 = .ok (.getfield 7, 3) := dk_180 0 7 (dk_at dksX2_tokenizes_0 11 rfl rfl)
theorem dX2_tokenizes_14 : decode cX2_tokenizes 14 = .ok (.iconst 0, 1) := dk_3 (dk_at dksX2_tokenizes_0 14 rfl rfl)
theorem dX2_tokenizes_15 : decode cX2_tokenizes 15 = .ok (.iaload, 1) := dk_46 (dk_at dksX2_tokenizes_0 15 rfl rfl)
theorem dX2_tokenizes_16 : decode cX2_tokenizes 16 = .ok (.if_icmp .ge 84, 3) := dk_162 0 84 (dk_at dksX2_tokenizes_0 16 rfl rfl)
theorem dX2_tokenizes_19 : decode cX2_tokenizes 19 = .ok (.aload_n 0, 1) := dk_42 (dk_at dksX2_tokenizes_0 19 rfl rfl)
theorem dX2_tokenizes_20 : decode cX2_tokenizes 20 = .ok (.getfield 41, 3) := dk_180 0 41 (dk_at dksX2_tokenizes_0 20 rfl rfl)
theorem dX2_tokenizes_23 : decode cX2_tokenizes 23 = .ok (.iload_n 2, 1) := dk_28 (dk_at dksX2_tokenizes_0 23 rfl rfl)
theorem dX2_tokenizes_24 : decode cX2_tokenizes 24 = .ok (.aload_n 0, 1) := dk_42 (dk_at dksX2_tokenizes_1 0 rfl rfl)
theorem dX2_tokenizes_25 : decode cX2_tokenizes 25 = .ok (.getfield 98, 3) := dk_180 0 98 (dk_at dksX2_tokenizes_1 1 rfl rfl)
theorem dX2_tokenizes_28 : decode cX2_tokenizes 28 = .ok (.iastore, 1) := dk_79 (dk_at dksX2_tokenizes_1 4 rfl rfl)
theorem dX2_tokenizes_29 : decode cX2_tokenizes 29 = .ok (.aload_n 0, 1) := dk_42 (dk_at dksX2_tokenizes_1 5 rfl rfl)
theorem dX2_tokenizes_30 : decode cX2_tokenizes 30 = .ok (.getfield 44, 3) := dk_180 0 44 (dk_at dksX2_tokenizes_1 6 rfl rfl)
theorem dX2_tokenizes_33 : decode cX2_tokenizes 33 = .ok (.iload_n 2, 1) := dk_28 (dk_at dksX2_tokenizes_1 9 rfl rfl)
theorem dX2_tokenizes_34 : decode cX2_tokenizes 34 = .ok (.iload_n 1, 1) := dk_27 (dk_at dksX2_tokenizes_1 10 rfl rfl)
theorem dX2_tokenizes_35 : decode cX2_tokenizes 35 = .ok (.ifCond .eq 15, 3) := dk_153 0 15 (dk_at dksX2_tokenizes_1 11 rfl rfl)
theorem dX2_tokenizes_38 : decode cX2_tokenizes 38 = .ok (.aload_n 0, 1) := dk_42 (dk_at dksX2_tokenizes_1 14 rfl rfl)
theorem dX2_tokenizes_39 : decode cX2_tokenizes 39 = .ok (.iload_n 2, 1) := dk_28 (dk_at dksX2_tokenizes_1 15 rfl rfl)
theorem dX2_tokenizes_40 : decode cX2_tokenizes 40 = .ok (.invokevirtual 114, 3) := dk_182 0 114 (dk_at dksX2_tokenizes_1 16 rfl rfl)
theorem dX2_tokenizes_43 : decode cX2_tokenizes 43 = .ok (.ifCond .ne 7, 3) := dk_154 0 7 (dk_at dksX2_tokenizes_1 19 rfl rfl)
theorem dX2_tokenizes_46 : decode cX2_tokenizes 46 = .ok (.iconst 1, 1) := dk_4 (dk_at dksX2_tokenizes_1 22 rfl rfl)
theorem dX2_tokenizes_47 : decode cX2_tokenizes 47 = .ok (.goto 4, 3) := dk_167 0 4 (dk_at dksX2_tokenizes_2 0 rfl rfl)
theorem dX2_tokenizes_50 : decode cX2_tokenizes 50 = .ok (.iconst 0, 1) := dk_3 (dk_at dksX2_tokenizes_2 3 rfl rfl)
theorem dX2_tokenizes_51 : decode cX2_tokenizes 51 = .ok (.bastore, 1) := dk_84 (dk_at dksX2_tokenizes_2 4 rfl rfl)
theorem dX2_tokenizes_52 : decode cX2_tokenizes 52 = .ok (.iload_n 1, 1) := dk_27 (dk_at dksX2_tokenizes_2 5 rfl rfl)
theorem dX2_tokenizes_53 : decode cX2_tokenizes 53 = .ok (.ifCond .eq 34, 3) := dk_153 0 34 (dk_at dksX2_tokenizes_2 6 rfl rfl)
theorem dX2_tokenizes_56 : decode cX2_tokenizes 56 = .ok (.aload_n 0, 1) := dk_42 (dk_at dksX2_tokenizes_2 9 rfl rfl)
theorem dX2_tokenizes_57 : decode cX2_tokenizes 57 = .ok (.iload_n 2, 1) := dk_28 (dk_at dksX2_tokenizes_2 10 rfl rfl)
theorem dX2_tokenizes_58 : decode cX2_tokenizes 58 = .ok (.iconst 0, 1) := dk_3 (dk_at dksX2_tokenizes_2 11 rfl rfl)
theorem dX2_tokenizes_59 : decode cX2_tokenizes 59 = .ok (.invokevirtual 101, 3) := dk_182 0 101 (dk_at dksX2_tokenizes_2 12 rfl rfl)
theorem dX2_tokenizes_62 : decode cX2_tokenizes 62 = .ok (.istore_n 3, 1) := dk_62 (dk_at dksX2_tokenizes_2 15 rfl rfl)
theorem dX2_tokenizes_63 : decode cX2_tokenizes 63 = .ok (.iload_n 3, 1) := dk_29 (dk_at dksX2_tokenizes_2 16 rfl rfl)
theorem dX2_tokenizes_64 : decode cX2_tokenizes 64 = .ok (.bipush (-9), 2) := dk_16 247 (dk_at dksX2_tokenizes_2 17 rfl rfl)
theorem dX2_tokenizes_66 : decode cX2_tokenizes 66 = .ok (.if_icmp .eq 12, 3) := dk_159 0 12 (dk_at dksX2_tokenizes_2 19 rfl rfl)
theorem dX2_tokenizes_69 : decode cX2_tokenizes 69 = .ok (.aload_n 0, 1) := dk_42 (dk_at dksX2_tokenizes_2 22 rfl rfl)
theorem dX2_tokenizes_70 : decode cX2_tokenizes 70 = .ok (.iload_n 2, 1) := dk_28 (dk_at dksX2_tokenizes_2 23 rfl rfl)
theorem dX2_tokenizes_71 : decode cX2_tokenizes 71 = .ok (.iload_n 3, 1) := dk_29 (dk_at dksX2_tokenizes_3 0 rfl rfl)
theorem dX2_tokenizes_72 : decode cX2_tokenizes 72 = .ok (.invokevirtual 117, 3) := dk_182 0 117 (dk_at dksX2_tokenizes_3 1 rfl rfl)
theorem dX2_tokenizes_75 : decode cX2_tokenizes 75 = .ok (.ifCond .eq 7, 3) := dk_153 0 7 (dk_at dksX2_tokenizes_3 4 rfl rfl)
theorem dX2_tokenizes_78 : decode cX2_tokenizes 78 = .ok (.iconst 1, 1) := dk_4 (dk_at dksX2_tokenizes_3 7 rfl rfl)
theorem dX2_tokenizes_79 : decode cX2_tokenizes 79 = .ok (.goto 4, 3) := dk_167 0 4 (dk_at dksX2_tokenizes_3 8 rfl rfl)
theorem dX2_tokenizes_82 : decode cX2_tokenizes 82 = .ok (.iconst 0, 1) := dk_3 (dk_at dksX2_tokenizes_3 11 rfl rfl)
theorem dX2_tokenizes_83 : decode cX2_tokenizes 83 = .ok (.istore_n 1, 1) := dk_60 (dk_at dksX2_tokenizes_3 12 rfl rfl)
theorem dX2_tokenizes_84 : decode cX2_tokenizes 84 = .ok (.goto 10, 3) := dk_167 0 10 (dk_at dksX2_tokenizes_3 13 rfl rfl)
theorem dX2_tokenizes_87 : decode cX2_tokenizes 87 = .ok (.aload_n 0, 1) := dk_42 (dk_at dksX2_tokenizes_3 16 rfl rfl)
theorem dX2_tokenizes_88 : decode cX2_tokenizes 88 = .ok (.iload_n 2, 1) := dk_28 (dk_at dksX2_tokenizes_3 17 rfl rfl)
theorem dX2_tokenizes_89 : decode cX2_tokenizes 89 = .ok (.iconst 0, 1) := dk_3 (dk_at dksX2_tokenizes_3 18 rfl rfl)
theorem dX2_tokenizes_90 : decode cX2_tokenizes 90 = .ok (.invokevirtual 117, 3) := dk_182 0 117 (dk_at dksX2_tokenizes_3 19 rfl rfl)
theorem dX2_tokenizes_93 : decode cX2_tokenizes 93 = .ok (.istore_n 1, 1) := dk_60 (dk_at dksX2_tokenizes_3 22 rfl rfl)
theorem dX2_tokenizes_94 : decode cX2_tokenizes 94 = .ok (.iinc 2 1, 3) := dk_132 2 1 (dk_at dksX2_tokenizes_4 0 rfl rfl)
theorem dX2_tokenizes_97 : decode cX2_tokenizes 97 = .ok (.goto (-88), 3) := dk_167 255 168 (dk_at dksX2_tokenizes_4 3 rfl rfl)
theorem dX2_tokenizes_100 : decode cX2_tokenizes 100 = .ok (.aload_n 0, 1) := dk_42 (dk_at dksX2_tokenizes_4 6 rfl rfl)
theorem dX2_tokenizes_101 : decode cX2_tokenizes 101 = .ok (.getfield 41, 3) := dk_180 0 41 (dk_at dksX2_tokenizes_4 7 rfl rfl)
theorem dX2_tokenizes_104 : decode cX2_tokenizes 104 = .ok (.aload_n 0, 1) := dk_42 (dk_at dksX2_tokenizes_4 10 rfl rfl)
theorem dX2_tokenizes_105 : decode cX2_tokenizes 105 = .ok (.getfield 7, 3) := dk_180 0 7 (dk_at dksX2_tokenizes_4 11 rfl rfl)
theorem dX2_tokenizes_108 : decode cX2_tokenizes 108 = .ok (.iconst 0, 1) := dk_3 (dk_at dksX2_tokenizes_4 14 rfl rfl)
theorem dX2_tokenizes_109 : decode cX2_tokenizes 109 = .ok (.iaload, 1) := dk_46 (dk_at dksX2_tokenizes_4 15 rfl rfl)
theorem dX2_tokenizes_110 : decode cX2_tokenizes 110 = .ok (.aload_n 0, 1) := dk_42 (dk_at dksX2_tokenizes_4 16 rfl rfl)
theorem dX2_tokenizes_111 : decode cX2_tokenizes 111 = .ok (.getfield 98, 3) := dk_180 0 98 (dk_at dksX2_tokenizes_4 17 rfl rfl)
theorem dX2_tokenizes_114 : decode cX2_tokenizes 114 = .ok (.iastore, 1) := dk_79 (dk_at dksX2_tokenizes_4 20 rfl rfl)
theorem dX2_tokenizes_115 : decode cX2_tokenizes 115 = .ok (.return_, 1) := dk_177 (dk_at dksX2_tokenizes_4 21 rfl rfl)
abbrev cX2_isBlank : ByteArray := prog_10_method_8_code
def yX2_isBlank : MethodName := ⟨RX2, "isBlank", "(I)Z"⟩
def dkwX2_isBlank_0 : List UInt8 := [42, 180, 0, 7, 16, 21, 27, 96, 46, 154, 0, 7, 4, 167, 0, 4, 3, 172]
abbrev dktX2_isBlank_0 : List UInt8 := dkwX2_isBlank_0 ++ []
theorem dksX2_isBlank_0 : cX2_isBlank.data.toList.drop 0 = dktX2_isBlank_0 := by decide +kernel
theorem dX2_isBlank_0 : decode cX2_isBlank 0 = .ok (.aload_n 0, 1) := dk_42 (dk_at dksX2_isBlank_0 0 rfl rfl)
theorem dX2_isBlank_1 : decode cX2_isBlank 1 = .ok (.getfield 7, 3) := dk_180 0 7 (dk_at dksX2_isBlank_0 1 rfl rfl)
theorem dX2_isBlank_4 : decode cX2_isBlank 4 = .ok (.bipush 21, 2) := dk_16 21 (dk_at dksX2_isBlank_0 4 rfl rfl)
theorem dX2_isBlank_6 : decode cX2_isBlank 6 = .ok (.iload_n 1, 1) := dk_27 (dk_at dksX2_isBlank_0 6 rfl rfl)
theorem dX2_isBlank_7 : decode cX2_isBlank 7 = .ok (.iadd, 1) := dk_96 (dk_at dksX2_isBlank_0 7 rfl rfl)
theorem dX2_isBlank_8 : decode cX2_isBlank 8 = .ok (.iaload, 1) := dk_46 (dk_at dksX2_isBlank_0 8 rfl rfl)
theorem dX2_isBlank_9 : decode cX2_isBlank 9 = .ok (.ifCond .ne 7, 3) := dk_154 0 7 (dk_at dksX2_isBlank_0 9 rfl rfl)
theorem dX2_isBlank_12 : decode cX2_isBlank 12 = .ok (.iconst 1, 1) := dk_4 (dk_at dksX2_isBlank_0 12 rfl rfl)
theorem dX2_isBlank_13 : decode cX2_isBlank 13 = .ok (.goto 4, 3) := dk_167 0 4 (dk_at dksX2_isBlank_0 13 rfl rfl)
theorem dX2_isBlank_16 : decode cX2_isBlank 16 = .ok (.iconst 0, 1) := dk_3 (dk_at dksX2_isBlank_0 16 rfl rfl)
theorem dX2_isBlank_17 : decode cX2_isBlank 17 = .ok (.ireturn, 1) := dk_172 (dk_at dksX2_isBlank_0 17 rfl rfl)
abbrev cX2_endOfLiteral : ByteArray := prog_10_method_12_code
def yX2_endOfLiteral : MethodName := ⟨RX2, "endOfLiteral", "(II)I"⟩
def dkwX2_endOfLiteral_1 : List UInt8 := [153, 0, 7, 29, 6, 96, 172, 132, 3, 1, 167, 255, 225, 16, 247, 172]
abbrev dktX2_endOfLiteral_1 : List UInt8 := dkwX2_endOfLiteral_1 ++ []
def dkwX2_endOfLiteral_0 : List UInt8 := [28, 62, 29, 5, 96, 42, 180, 0, 7, 16, 21, 27, 96, 46, 162, 0, 22, 42, 27, 29, 182, 0, 87]
abbrev dktX2_endOfLiteral_0 : List UInt8 := dkwX2_endOfLiteral_0 ++ dktX2_endOfLiteral_1
theorem dksX2_endOfLiteral_0 : cX2_endOfLiteral.data.toList.drop 0 = dktX2_endOfLiteral_0 := by decide +kernel
theorem dksX2_endOfLiteral_1 : cX2_endOfLiteral.data.toList.drop 23 = dktX2_endOfLiteral_1 := dk_seg dksX2_endOfLiteral_0 23 rfl rfl
theorem dX2_endOfLiteral_0 : decode cX2_endOfLiteral 0 = .ok (.iload_n 2, 1) := dk_28 (dk_at dksX2_endOfLiteral_0 0 rfl rfl)
theorem dX2_endOfLiteral_1 : decode cX2_endOfLiteral 1 = .ok (.istore_n 3, 1) := dk_62 (dk_at dksX2_endOfLiteral_0 1 rfl rfl)
theorem dX2_endOfLiteral_2 : decode cX2_endOfLiteral 2 = .ok (.iload_n 3, 1) := dk_29 (dk_at dksX2_endOfLiteral_0 2 rfl rfl)
theorem dX2_endOfLiteral_3 : decode cX2_endOfLiteral 3 = .ok (.iconst 2, 1) := dk_5 (dk_at dksX2_endOfLiteral_0 3 rfl rfl)
theorem dX2_endOfLiteral_4 : decode cX2_endOfLiteral 4 = .ok (.iadd, 1) := dk_96 (dk_at dksX2_endOfLiteral_0 4 rfl rfl)
theorem dX2_endOfLiteral_5 : decode cX2_endOfLiteral 5 = .ok (.aload_n 0, 1) := dk_42 (dk_at dksX2_endOfLiteral_0 5 rfl rfl)
theorem dX2_endOfLiteral_6 : decode cX2_endOfLiteral 6 = .ok (.getfield 7, 3) := dk_180 0 7 (dk_at dksX2_endOfLiteral_0 6 rfl rfl)
theorem dX2_endOfLiteral_9 : decode cX2_endOfLiteral 9 = .ok (.bipush 21, 2) := dk_16 21 (dk_at dksX2_endOfLiteral_0 9 rfl rfl)
theorem dX2_endOfLiteral_11 : decode cX2_endOfLiteral 11 = .ok (.iload_n 1, 1) := dk_27 (dk_at dksX2_endOfLiteral_0 11 rfl rfl)
theorem dX2_endOfLiteral_12 : decode cX2_endOfLiteral 12 = .ok (.iadd, 1) := dk_96 (dk_at dksX2_endOfLiteral_0 12 rfl rfl)
theorem dX2_endOfLiteral_13 : decode cX2_endOfLiteral 13 = .ok (.iaload, 1) := dk_46 (dk_at dksX2_endOfLiteral_0 13 rfl rfl)
theorem dX2_endOfLiteral_14 : decode cX2_endOfLiteral 14 = .ok (.if_icmp .ge 22, 3) := dk_162 0 22 (dk_at dksX2_endOfLiteral_0 14 rfl rfl)
theorem dX2_endOfLiteral_17 : decode cX2_endOfLiteral 17 = .ok (.aload_n 0, 1) := dk_42 (dk_at dksX2_endOfLiteral_0 17 rfl rfl)
theorem dX2_endOfLiteral_18 : decode cX2_endOfLiteral 18 = .ok (.iload_n 1, 1) := dk_27 (dk_at dksX2_endOfLiteral_0 18 rfl rfl)
theorem dX2_endOfLiteral_19 : decode cX2_endOfLiteral 19 = .ok (.iload_n 3, 1) := dk_29 (dk_at dksX2_endOfLiteral_0 19 rfl rfl)
theorem dX2_endOfLiteral_20 : decode cX2_endOfLiteral 20 = .ok (.invokevirtual 87, 3) := dk_182 0 87 (dk_at dksX2_endOfLiteral_0 20 rfl rfl)
theorem dX2_endOfLiteral_23 : decode cX2_endOfLiteral 23 = .ok (.ifCond .eq 7, 3) := dk_153 0 7 (dk_at dksX2_endOfLiteral_1 0 rfl rfl)
theorem dX2_endOfLiteral_26 : decode cX2_endOfLiteral 26 = .ok (.iload_n 3, 1) := dk_29 (dk_at dksX2_endOfLiteral_1 3 rfl rfl)
theorem dX2_endOfLiteral_27 : decode cX2_endOfLiteral 27 = .ok (.iconst 3, 1) := dk_6 (dk_at dksX2_endOfLiteral_1 4 rfl rfl)
theorem dX2_endOfLiteral_28 : decode cX2_endOfLiteral 28 = .ok (.iadd, 1) := dk_96 (dk_at dksX2_endOfLiteral_1 5 rfl rfl)
theorem dX2_endOfLiteral_29 : decode cX2_endOfLiteral 29 = .ok (.ireturn, 1) := dk_172 (dk_at dksX2_endOfLiteral_1 6 rfl rfl)
theorem dX2_endOfLiteral_30 : decode cX2_endOfLiteral 30 = .ok (.iinc 3 1, 3) := dk_132 3 1 (dk_at dksX2_endOfLiteral_1 7 rfl rfl)
theorem dX2_endOfLiteral_33 : decode cX2_endOfLiteral 33 = .ok (.goto (-31), 3) := dk_167 255 225 (dk_at dksX2_endOfLiteral_1 10 rfl rfl)
theorem dX2_endOfLiteral_36 : decode cX2_endOfLiteral 36 = .ok (.bipush (-9), 2) := dk_16 247 (dk_at dksX2_endOfLiteral_1 13 rfl rfl)
theorem dX2_endOfLiteral_38 : decode cX2_endOfLiteral 38 = .ok (.ireturn, 1) := dk_172 (dk_at dksX2_endOfLiteral_1 15 rfl rfl)
abbrev cX2_isTriple : ByteArray := prog_10_method_11_code
def yX2_isTriple : MethodName := ⟨RX2, "isTriple", "(II)Z"⟩
def dkwX2_isTriple_1 : List UInt8 := [42, 27, 28, 5, 96, 182, 0, 83, 16, 34, 160, 0, 7, 4, 167, 0, 4, 3, 172]
abbrev dktX2_isTriple_1 : List UInt8 := dkwX2_isTriple_1 ++ []
def dkwX2_isTriple_0 : List UInt8 := [42, 27, 28, 182, 0, 83, 16, 34, 160, 0, 33, 42, 27, 28, 4, 96, 182, 0, 83, 16, 34, 160, 0, 20]
abbrev dktX2_isTriple_0 : List UInt8 := dkwX2_isTriple_0 ++ dktX2_isTriple_1
theorem dksX2_isTriple_0 : cX2_isTriple.data.toList.drop 0 = dktX2_isTriple_0 := by decide +kernel
theorem dksX2_isTriple_1 : cX2_isTriple.data.toList.drop 24 = dktX2_isTriple_1 := dk_seg dksX2_isTriple_0 24 rfl rfl
theorem dX2_isTriple_0 : decode cX2_isTriple 0 = .ok (.aload_n 0, 1) := dk_42 (dk_at dksX2_isTriple_0 0 rfl rfl)
theorem dX2_isTriple_1 : decode cX2_isTriple 1 = .ok (.iload_n 1, 1) := dk_27 (dk_at dksX2_isTriple_0 1 rfl rfl)
theorem dX2_isTriple_2 : decode cX2_isTriple 2 = .ok (.iload_n 2, 1) := dk_28 (dk_at dksX2_isTriple_0 2 rfl rfl)
theorem dX2_isTriple_3 : decode cX2_isTriple 3 = .ok (.invokevirtual 83, 3) := dk_182 0 83 (dk_at dksX2_isTriple_0 3 rfl rfl)
theorem dX2_isTriple_6 : decode cX2_isTriple 6 = .ok (.bipush 34, 2) := dk_16 34 (dk_at dksX2_isTriple_0 6 rfl rfl)
theorem dX2_isTriple_8 : decode cX2_isTriple 8 = .ok (.if_icmp .ne 33, 3) := dk_160 0 33 (dk_at dksX2_isTriple_0 8 rfl rfl)
theorem dX2_isTriple_11 : decode cX2_isTriple 11 = .ok (.aload_n 0, 1) := dk_42 (dk_at dksX2_isTriple_0 11 rfl rfl)
theorem dX2_isTriple_12 : decode cX2_isTriple 12 = .ok (.iload_n 1, 1) := dk_27 (dk_at dksX2_isTriple_0 12 rfl rfl)
theorem dX2_isTriple_13 : decode cX2_isTriple 13 = .ok (.iload_n 2, 1) := dk_28 (dk_at dksX2_isTriple_0 13 rfl rfl)
theorem dX2_isTriple_14 : decode cX2_isTriple 14 = .ok (.iconst 1, 1) := dk_4 (dk_at dksX2_isTriple_0 14 rfl rfl)
theorem dX2_isTriple_15 : decode cX2_isTriple 15 = .ok (.iadd, 1) := dk_96 (dk_at dksX2_isTriple_0 15 rfl rfl)
theorem dX2_isTriple_16 : decode cX2_isTriple 16 = .ok (.invokevirtual 83, 3) := dk_182 0 83 (dk_at dksX2_isTriple_0 16 rfl rfl)
theorem dX2_isTriple_19 : decode cX2_isTriple 19 = .ok (.bipush 34, 2) := dk_16 34 (dk_at dksX2_isTriple_0 19 rfl rfl)
theorem dX2_isTriple_21 : decode cX2_isTriple 21 = .ok (.if_icmp .ne 20, 3) := dk_160 0 20 (dk_at dksX2_isTriple_0 21 rfl rfl)
theorem dX2_isTriple_24 : decode cX2_isTriple 24 = .ok (.aload_n 0, 1) := dk_42 (dk_at dksX2_isTriple_1 0 rfl rfl)
theorem dX2_isTriple_25 : decode cX2_isTriple 25 = .ok (.iload_n 1, 1) := dk_27 (dk_at dksX2_isTriple_1 1 rfl rfl)
theorem dX2_isTriple_26 : decode cX2_isTriple 26 = .ok (.iload_n 2, 1) := dk_28 (dk_at dksX2_isTriple_1 2 rfl rfl)
theorem dX2_isTriple_27 : decode cX2_isTriple 27 = .ok (.iconst 2, 1) := dk_5 (dk_at dksX2_isTriple_1 3 rfl rfl)
theorem dX2_isTriple_28 : decode cX2_isTriple 28 = .ok (.iadd, 1) := dk_96 (dk_at dksX2_isTriple_1 4 rfl rfl)
theorem dX2_isTriple_29 : decode cX2_isTriple 29 = .ok (.invokevirtual 83, 3) := dk_182 0 83 (dk_at dksX2_isTriple_1 5 rfl rfl)
theorem dX2_isTriple_32 : decode cX2_isTriple 32 = .ok (.bipush 34, 2) := dk_16 34 (dk_at dksX2_isTriple_1 8 rfl rfl)
theorem dX2_isTriple_34 : decode cX2_isTriple 34 = .ok (.if_icmp .ne 7, 3) := dk_160 0 7 (dk_at dksX2_isTriple_1 10 rfl rfl)
theorem dX2_isTriple_37 : decode cX2_isTriple 37 = .ok (.iconst 1, 1) := dk_4 (dk_at dksX2_isTriple_1 13 rfl rfl)
theorem dX2_isTriple_38 : decode cX2_isTriple 38 = .ok (.goto 4, 3) := dk_167 0 4 (dk_at dksX2_isTriple_1 14 rfl rfl)
theorem dX2_isTriple_41 : decode cX2_isTriple 41 = .ok (.iconst 0, 1) := dk_3 (dk_at dksX2_isTriple_1 17 rfl rfl)
theorem dX2_isTriple_42 : decode cX2_isTriple 42 = .ok (.ireturn, 1) := dk_172 (dk_at dksX2_isTriple_1 18 rfl rfl)
abbrev cX2_divides : ByteArray := prog_10_method_16_code
def yX2_divides : MethodName := ⟨RX2, "divides", "(II)Z"⟩
def dkwX2_divides_8 : List UInt8 := [4, 96, 4, 182, 0, 104, 132, 3, 1, 167, 255, 60, 3, 172]
abbrev dktX2_divides_8 : List UInt8 := dkwX2_divides_8 ++ []
def dkwX2_divides_7 : List UInt8 := [182, 0, 111, 54, 5, 42, 27, 29, 21, 5, 3, 182, 0, 104, 21, 5, 62, 167, 0, 16, 42, 27, 29, 29]
abbrev dktX2_divides_7 : List UInt8 := dkwX2_divides_7 ++ dktX2_divides_8
def dkwX2_divides_6 : List UInt8 := [180, 0, 7, 16, 21, 27, 96, 46, 62, 167, 0, 47, 21, 4, 184, 0, 94, 153, 0, 26, 42, 27, 29]
abbrev dktX2_divides_6 : List UInt8 := dkwX2_divides_6 ++ dktX2_divides_7
def dkwX2_divides_5 : List UInt8 := [182, 0, 104, 21, 5, 62, 167, 0, 73, 21, 4, 42, 180, 0, 7, 17, 3, 211, 46, 160, 0, 16, 42]
abbrev dktX2_divides_5 : List UInt8 := dkwX2_divides_5 ++ dktX2_divides_6
def dkwX2_divides_4 : List UInt8 := [167, 0, 103, 21, 4, 16, 34, 160, 0, 26, 42, 27, 29, 182, 0, 108, 54, 5, 42, 27, 29, 21, 5, 5]
abbrev dktX2_divides_4 : List UInt8 := dkwX2_divides_4 ++ dktX2_divides_5
def dkwX2_divides_3 : List UInt8 := [27, 96, 46, 167, 0, 5, 21, 5, 5, 182, 0, 104, 21, 5, 16, 247, 160, 0, 5, 4, 172, 21, 5, 62]
abbrev dktX2_divides_3 : List UInt8 := dkwX2_divides_3 ++ dktX2_divides_4
def dkwX2_divides_2 : List UInt8 := [29, 6, 96, 182, 0, 101, 54, 5, 42, 27, 29, 21, 5, 16, 247, 160, 0, 15, 42, 180, 0, 7, 16, 21]
abbrev dktX2_divides_2 : List UInt8 := dkwX2_divides_2 ++ dktX2_divides_3
def dkwX2_divides_1 : List UInt8 := [21, 4, 16, 32, 160, 0, 9, 132, 3, 1, 167, 0, 165, 42, 27, 29, 182, 0, 87, 153, 0, 56, 42, 27]
abbrev dktX2_divides_1 : List UInt8 := dkwX2_divides_1 ++ dktX2_divides_2
def dkwX2_divides_0 : List UInt8 := [28, 62, 29, 42, 180, 0, 7, 16, 21, 27, 96, 46, 162, 0, 189, 42, 27, 29, 182, 0, 83, 54, 4]
abbrev dktX2_divides_0 : List UInt8 := dkwX2_divides_0 ++ dktX2_divides_1
theorem dksX2_divides_0 : cX2_divides.data.toList.drop 0 = dktX2_divides_0 := by decide +kernel
theorem dksX2_divides_1 : cX2_divides.data.toList.drop 23 = dktX2_divides_1 := dk_seg dksX2_divides_0 23 rfl rfl
theorem dksX2_divides_2 : cX2_divides.data.toList.drop 47 = dktX2_divides_2 := dk_seg dksX2_divides_1 24 rfl rfl
theorem dksX2_divides_3 : cX2_divides.data.toList.drop 71 = dktX2_divides_3 := dk_seg dksX2_divides_2 24 rfl rfl
theorem dksX2_divides_4 : cX2_divides.data.toList.drop 95 = dktX2_divides_4 := dk_seg dksX2_divides_3 24 rfl rfl
theorem dksX2_divides_5 : cX2_divides.data.toList.drop 119 = dktX2_divides_5 := dk_seg dksX2_divides_4 24 rfl rfl
theorem dksX2_divides_6 : cX2_divides.data.toList.drop 142 = dktX2_divides_6 := dk_seg dksX2_divides_5 23 rfl rfl
theorem dksX2_divides_7 : cX2_divides.data.toList.drop 165 = dktX2_divides_7 := dk_seg dksX2_divides_6 23 rfl rfl
theorem dksX2_divides_8 : cX2_divides.data.toList.drop 189 = dktX2_divides_8 := dk_seg dksX2_divides_7 24 rfl rfl
theorem dX2_divides_0 : decode cX2_divides 0 = .ok (.iload_n 2, 1) := dk_28 (dk_at dksX2_divides_0 0 rfl rfl)
theorem dX2_divides_1 : decode cX2_divides 1 = .ok (.istore_n 3, 1) := dk_62 (dk_at dksX2_divides_0 1 rfl rfl)
theorem dX2_divides_2 : decode cX2_divides 2 = .ok (.iload_n 3, 1) := dk_29 (dk_at dksX2_divides_0 2 rfl rfl)
theorem dX2_divides_3 : decode cX2_divides 3 = .ok (.aload_n 0, 1) := dk_42 (dk_at dksX2_divides_0 3 rfl rfl)
theorem dX2_divides_4 : decode cX2_divides 4 = .ok (.getfield 7, 3) := dk_180 0 7 (dk_at dksX2_divides_0 4 rfl rfl)
theorem dX2_divides_7 : decode cX2_divides 7 = .ok (.bipush 21, 2) := dk_16 21 (dk_at dksX2_divides_0 7 rfl rfl)
theorem dX2_divides_9 : decode cX2_divides 9 = .ok (.iload_n 1, 1) := dk_27 (dk_at dksX2_divides_0 9 rfl rfl)
theorem dX2_divides_10 : decode cX2_divides 10 = .ok (.iadd, 1) := dk_96 (dk_at dksX2_divides_0 10 rfl rfl)
theorem dX2_divides_11 : decode cX2_divides 11 = .ok (.iaload, 1) := dk_46 (dk_at dksX2_divides_0 11 rfl rfl)
theorem dX2_divides_12 : decode cX2_divides 12 = .ok (.if_icmp .ge 189, 3) := dk_162 0 189 (dk_at dksX2_divides_0 12 rfl rfl)
theorem dX2_divides_15 : decode cX2_divides 15 = .ok (.aload_n 0, 1) := dk_42 (dk_at dksX2_divides_0 15 rfl rfl)
theorem dX2_divides_16 : decode cX2_divides 16 = .ok (.iload_n 1, 1) := dk_27 (dk_at dksX2_divides_0 16 rfl rfl)
theorem dX2_divides_17 : decode cX2_divides 17 = .ok (.iload_n 3, 1) := dk_29 (dk_at dksX2_divides_0 17 rfl rfl)
theorem dX2_divides_18 : decode cX2_divides 18 = .ok (.invokevirtual 83, 3) := dk_182 0 83 (dk_at dksX2_divides_0 18 rfl rfl)
theorem dX2_divides_21 : decode cX2_divides 21 = .ok (.istore 4, 2) := dk_54 4 (dk_at dksX2_divides_0 21 rfl rfl)
theorem dX2_divides_23 : decode cX2_divides 23 = .ok (.iload 4, 2) := dk_21 4 (dk_at dksX2_divides_1 0 rfl rfl)
theorem dX2_divides_25 : decode cX2_divides 25 = .ok (.bipush 32, 2) := dk_16 32 (dk_at dksX2_divides_1 2 rfl rfl)
theorem dX2_divides_27 : decode cX2_divides 27 = .ok (.if_icmp .ne 9, 3) := dk_160 0 9 (dk_at dksX2_divides_1 4 rfl rfl)
theorem dX2_divides_30 : decode cX2_divides 30 = .ok (.iinc 3 1, 3) := dk_132 3 1 (dk_at dksX2_divides_1 7 rfl rfl)
theorem dX2_divides_33 : decode cX2_divides 33 = .ok (.goto 165, 3) := dk_167 0 165 (dk_at dksX2_divides_1 10 rfl rfl)
theorem dX2_divides_36 : decode cX2_divides 36 = .ok (.aload_n 0, 1) := dk_42 (dk_at dksX2_divides_1 13 rfl rfl)
theorem dX2_divides_37 : decode cX2_divides 37 = .ok (.iload_n 1, 1) := dk_27 (dk_at dksX2_divides_1 14 rfl rfl)
theorem dX2_divides_38 : decode cX2_divides 38 = .ok (.iload_n 3, 1) := dk_29 (dk_at dksX2_divides_1 15 rfl rfl)
theorem dX2_divides_39 : decode cX2_divides 39 = .ok (.invokevirtual 87, 3) := dk_182 0 87 (dk_at dksX2_divides_1 16 rfl rfl)
theorem dX2_divides_42 : decode cX2_divides 42 = .ok (.ifCond .eq 56, 3) := dk_153 0 56 (dk_at dksX2_divides_1 19 rfl rfl)
theorem dX2_divides_45 : decode cX2_divides 45 = .ok (.aload_n 0, 1) := dk_42 (dk_at dksX2_divides_1 22 rfl rfl)
theorem dX2_divides_46 : decode cX2_divides 46 = .ok (.iload_n 1, 1) := dk_27 (dk_at dksX2_divides_1 23 rfl rfl)
theorem dX2_divides_47 : decode cX2_divides 47 = .ok (.iload_n 3, 1) := dk_29 (dk_at dksX2_divides_2 0 rfl rfl)
theorem dX2_divides_48 : decode cX2_divides 48 = .ok (.iconst 3, 1) := dk_6 (dk_at dksX2_divides_2 1 rfl rfl)
theorem dX2_divides_49 : decode cX2_divides 49 = .ok (.iadd, 1) := dk_96 (dk_at dksX2_divides_2 2 rfl rfl)
theorem dX2_divides_50 : decode cX2_divides 50 = .ok (.invokevirtual 101, 3) := dk_182 0 101 (dk_at dksX2_divides_2 3 rfl rfl)
theorem dX2_divides_53 : decode cX2_divides 53 = .ok (.istore 5, 2) := dk_54 5 (dk_at dksX2_divides_2 6 rfl rfl)
theorem dX2_divides_55 : decode cX2_divides 55 = .ok (.aload_n 0, 1) := dk_42 (dk_at dksX2_divides_2 8 rfl rfl)
theorem dX2_divides_56 : decode cX2_divides 56 = .ok (.iload_n 1, 1) := dk_27 (dk_at dksX2_divides_2 9 rfl rfl)
theorem dX2_divides_57 : decode cX2_divides 57 = .ok (.iload_n 3, 1) := dk_29 (dk_at dksX2_divides_2 10 rfl rfl)
theorem dX2_divides_58 : decode cX2_divides 58 = .ok (.iload 5, 2) := dk_21 5 (dk_at dksX2_divides_2 11 rfl rfl)
theorem dX2_divides_60 : decode cX2_divides 60 = .ok (.bipush (-9), 2) := dk_16 247 (dk_at dksX2_divides_2 13 rfl rfl)
theorem dX2_divides_62 : decode cX2_divides 62 = .ok (.if_icmp .ne 15, 3) := dk_160 0 15 (dk_at dksX2_divides_2 15 rfl rfl)
theorem dX2_divides_65 : decode cX2_divides 65 = .ok (.aload_n 0, 1) := dk_42 (dk_at dksX2_divides_2 18 rfl rfl)
theorem dX2_divides_66 : decode cX2_divides 66 = .ok (.getfield 7, 3) := dk_180 0 7 (dk_at dksX2_divides_2 19 rfl rfl)
theorem dX2_divides_69 : decode cX2_divides 69 = .ok (.bipush 21, 2) := dk_16 21 (dk_at dksX2_divides_2 22 rfl rfl)
theorem dX2_divides_71 : decode cX2_divides 71 = .ok (.iload_n 1, 1) := dk_27 (dk_at dksX2_divides_3 0 rfl rfl)
theorem dX2_divides_72 : decode cX2_divides 72 = .ok (.iadd, 1) := dk_96 (dk_at dksX2_divides_3 1 rfl rfl)
theorem dX2_divides_73 : decode cX2_divides 73 = .ok (.iaload, 1) := dk_46 (dk_at dksX2_divides_3 2 rfl rfl)
theorem dX2_divides_74 : decode cX2_divides 74 = .ok (.goto 5, 3) := dk_167 0 5 (dk_at dksX2_divides_3 3 rfl rfl)
theorem dX2_divides_77 : decode cX2_divides 77 = .ok (.iload 5, 2) := dk_21 5 (dk_at dksX2_divides_3 6 rfl rfl)
theorem dX2_divides_79 : decode cX2_divides 79 = .ok (.iconst 2, 1) := dk_5 (dk_at dksX2_divides_3 8 rfl rfl)
theorem dX2_divides_80 : decode cX2_divides 80 = .ok (.invokevirtual 104, 3) := dk_182 0 104 (dk_at dksX2_divides_3 9 rfl rfl)
theorem dX2_divides_83 : decode cX2_divides 83 = .ok (.iload 5, 2) := dk_21 5 (dk_at dksX2_divides_3 12 rfl rfl)
theorem dX2_divides_85 : decode cX2_divides 85 = .ok (.bipush (-9), 2) := dk_16 247 (dk_at dksX2_divides_3 14 rfl rfl)
theorem dX2_divides_87 : decode cX2_divides 87 = .ok (.if_icmp .ne 5, 3) := dk_160 0 5 (dk_at dksX2_divides_3 16 rfl rfl)
theorem dX2_divides_90 : decode cX2_divides 90 = .ok (.iconst 1, 1) := dk_4 (dk_at dksX2_divides_3 19 rfl rfl)
theorem dX2_divides_91 : decode cX2_divides 91 = .ok (.ireturn, 1) := dk_172 (dk_at dksX2_divides_3 20 rfl rfl)
theorem dX2_divides_92 : decode cX2_divides 92 = .ok (.iload 5, 2) := dk_21 5 (dk_at dksX2_divides_3 21 rfl rfl)
theorem dX2_divides_94 : decode cX2_divides 94 = .ok (.istore_n 3, 1) := dk_62 (dk_at dksX2_divides_3 23 rfl rfl)
theorem dX2_divides_95 : decode cX2_divides 95 = .ok (.goto 103, 3) := dk_167 0 103 (dk_at dksX2_divides_4 0 rfl rfl)
theorem dX2_divides_98 : decode cX2_divides 98 = .ok (.iload 4, 2) := dk_21 4 (dk_at dksX2_divides_4 3 rfl rfl)
theorem dX2_divides_100 : decode cX2_divides 100 = .ok (.bipush 34, 2) := dk_16 34 (dk_at dksX2_divides_4 5 rfl rfl)
theorem dX2_divides_102 : decode cX2_divides 102 = .ok (.if_icmp .ne 26, 3) := dk_160 0 26 (dk_at dksX2_divides_4 7 rfl rfl)
theorem dX2_divides_105 : decode cX2_divides 105 = .ok (.aload_n 0, 1) := dk_42 (dk_at dksX2_divides_4 10 rfl rfl)
theorem dX2_divides_106 : decode cX2_divides 106 = .ok (.iload_n 1, 1) := dk_27 (dk_at dksX2_divides_4 11 rfl rfl)
theorem dX2_divides_107 : decode cX2_divides 107 = .ok (.iload_n 3, 1) := dk_29 (dk_at dksX2_divides_4 12 rfl rfl)
theorem dX2_divides_108 : decode cX2_divides 108 = .ok (.invokevirtual 108, 3) := dk_182 0 108 (dk_at dksX2_divides_4 13 rfl rfl)
theorem dX2_divides_111 : decode cX2_divides 111 = .ok (.istore 5, 2) := dk_54 5 (dk_at dksX2_divides_4 16 rfl rfl)
theorem dX2_divides_113 : decode cX2_divides 113 = .ok (.aload_n 0, 1) := dk_42 (dk_at dksX2_divides_4 18 rfl rfl)
theorem dX2_divides_114 : decode cX2_divides 114 = .ok (.iload_n 1, 1) := dk_27 (dk_at dksX2_divides_4 19 rfl rfl)
theorem dX2_divides_115 : decode cX2_divides 115 = .ok (.iload_n 3, 1) := dk_29 (dk_at dksX2_divides_4 20 rfl rfl)
theorem dX2_divides_116 : decode cX2_divides 116 = .ok (.iload 5, 2) := dk_21 5 (dk_at dksX2_divides_4 21 rfl rfl)
theorem dX2_divides_118 : decode cX2_divides 118 = .ok (.iconst 2, 1) := dk_5 (dk_at dksX2_divides_4 23 rfl rfl)
theorem dX2_divides_119 : decode cX2_divides 119 = .ok (.invokevirtual 104, 3) := dk_182 0 104 (dk_at dksX2_divides_5 0 rfl rfl)
theorem dX2_divides_122 : decode cX2_divides 122 = .ok (.iload 5, 2) := dk_21 5 (dk_at dksX2_divides_5 3 rfl rfl)
theorem dX2_divides_124 : decode cX2_divides 124 = .ok (.istore_n 3, 1) := dk_62 (dk_at dksX2_divides_5 5 rfl rfl)
theorem dX2_divides_125 : decode cX2_divides 125 = .ok (.goto 73, 3) := dk_167 0 73 (dk_at dksX2_divides_5 6 rfl rfl)
theorem dX2_divides_128 : decode cX2_divides 128 = .ok (.iload 4, 2) := dk_21 4 (dk_at dksX2_divides_5 9 rfl rfl)
theorem dX2_divides_130 : decode cX2_divides 130 = .ok (.aload_n 0, 1) := dk_42 (dk_at dksX2_divides_5 11 rfl rfl)
theorem dX2_divides_131 : decode cX2_divides 131 = .ok (.getfield 7, 3) := dk_180 0 7 (dk_at dksX2_divides_5 12 rfl rfl)
theorem dX2_divides_134 : decode cX2_divides 134 = .ok (.sipush 979, 3) := dk_17 3 211 (dk_at dksX2_divides_5 15 rfl rfl)
theorem dX2_divides_137 : decode cX2_divides 137 = .ok (.iaload, 1) := dk_46 (dk_at dksX2_divides_5 18 rfl rfl)
theorem dX2_divides_138 : decode cX2_divides 138 = .ok (.if_icmp .ne 16, 3) := dk_160 0 16 (dk_at dksX2_divides_5 19 rfl rfl)
theorem dX2_divides_141 : decode cX2_divides 141 = .ok (.aload_n 0, 1) := dk_42 (dk_at dksX2_divides_5 22 rfl rfl)
theorem dX2_divides_142 : decode cX2_divides 142 = .ok (.getfield 7, 3) := dk_180 0 7 (dk_at dksX2_divides_6 0 rfl rfl)
theorem dX2_divides_145 : decode cX2_divides 145 = .ok (.bipush 21, 2) := dk_16 21 (dk_at dksX2_divides_6 3 rfl rfl)
theorem dX2_divides_147 : decode cX2_divides 147 = .ok (.iload_n 1, 1) := dk_27 (dk_at dksX2_divides_6 5 rfl rfl)
theorem dX2_divides_148 : decode cX2_divides 148 = .ok (.iadd, 1) := dk_96 (dk_at dksX2_divides_6 6 rfl rfl)
theorem dX2_divides_149 : decode cX2_divides 149 = .ok (.iaload, 1) := dk_46 (dk_at dksX2_divides_6 7 rfl rfl)
theorem dX2_divides_150 : decode cX2_divides 150 = .ok (.istore_n 3, 1) := dk_62 (dk_at dksX2_divides_6 8 rfl rfl)
theorem dX2_divides_151 : decode cX2_divides 151 = .ok (.goto 47, 3) := dk_167 0 47 (dk_at dksX2_divides_6 9 rfl rfl)
theorem dX2_divides_154 : decode cX2_divides 154 = .ok (.iload 4, 2) := dk_21 4 (dk_at dksX2_divides_6 12 rfl rfl)
theorem dX2_divides_156 : decode cX2_divides 156 = .ok (.invokestatic 94, 3) := dk_184 0 94 (dk_at dksX2_divides_6 14 rfl rfl)
theorem dX2_divides_159 : decode cX2_divides 159 = .ok (.ifCond .eq 26, 3) := dk_153 0 26 (dk_at dksX2_divides_6 17 rfl rfl)
theorem dX2_divides_162 : decode cX2_divides 162 = .ok (.aload_n 0, 1) := dk_42 (dk_at dksX2_divides_6 20 rfl rfl)
theorem dX2_divides_163 : decode cX2_divides 163 = .ok (.iload_n 1, 1) := dk_27 (dk_at dksX2_divides_6 21 rfl rfl)
theorem dX2_divides_164 : decode cX2_divides 164 = .ok (.iload_n 3, 1) := dk_29 (dk_at dksX2_divides_6 22 rfl rfl)
theorem dX2_divides_165 : decode cX2_divides 165 = .ok (.invokevirtual 111, 3) := dk_182 0 111 (dk_at dksX2_divides_7 0 rfl rfl)
theorem dX2_divides_168 : decode cX2_divides 168 = .ok (.istore 5, 2) := dk_54 5 (dk_at dksX2_divides_7 3 rfl rfl)
theorem dX2_divides_170 : decode cX2_divides 170 = .ok (.aload_n 0, 1) := dk_42 (dk_at dksX2_divides_7 5 rfl rfl)
theorem dX2_divides_171 : decode cX2_divides 171 = .ok (.iload_n 1, 1) := dk_27 (dk_at dksX2_divides_7 6 rfl rfl)
theorem dX2_divides_172 : decode cX2_divides 172 = .ok (.iload_n 3, 1) := dk_29 (dk_at dksX2_divides_7 7 rfl rfl)
theorem dX2_divides_173 : decode cX2_divides 173 = .ok (.iload 5, 2) := dk_21 5 (dk_at dksX2_divides_7 8 rfl rfl)
theorem dX2_divides_175 : decode cX2_divides 175 = .ok (.iconst 0, 1) := dk_3 (dk_at dksX2_divides_7 10 rfl rfl)
theorem dX2_divides_176 : decode cX2_divides 176 = .ok (.invokevirtual 104, 3) := dk_182 0 104 (dk_at dksX2_divides_7 11 rfl rfl)
theorem dX2_divides_179 : decode cX2_divides 179 = .ok (.iload 5, 2) := dk_21 5 (dk_at dksX2_divides_7 14 rfl rfl)
theorem dX2_divides_181 : decode cX2_divides 181 = .ok (.istore_n 3, 1) := dk_62 (dk_at dksX2_divides_7 16 rfl rfl)
theorem dX2_divides_182 : decode cX2_divides 182 = .ok (.goto 16, 3) := dk_167 0 16 (dk_at dksX2_divides_7 17 rfl rfl)
theorem dX2_divides_185 : decode cX2_divides 185 = .ok (.aload_n 0, 1) := dk_42 (dk_at dksX2_divides_7 20 rfl rfl)
theorem dX2_divides_186 : decode cX2_divides 186 = .ok (.iload_n 1, 1) := dk_27 (dk_at dksX2_divides_7 21 rfl rfl)
theorem dX2_divides_187 : decode cX2_divides 187 = .ok (.iload_n 3, 1) := dk_29 (dk_at dksX2_divides_7 22 rfl rfl)
theorem dX2_divides_188 : decode cX2_divides 188 = .ok (.iload_n 3, 1) := dk_29 (dk_at dksX2_divides_7 23 rfl rfl)
theorem dX2_divides_189 : decode cX2_divides 189 = .ok (.iconst 1, 1) := dk_4 (dk_at dksX2_divides_8 0 rfl rfl)
theorem dX2_divides_190 : decode cX2_divides 190 = .ok (.iadd, 1) := dk_96 (dk_at dksX2_divides_8 1 rfl rfl)
theorem dX2_divides_191 : decode cX2_divides 191 = .ok (.iconst 1, 1) := dk_4 (dk_at dksX2_divides_8 2 rfl rfl)
theorem dX2_divides_192 : decode cX2_divides 192 = .ok (.invokevirtual 104, 3) := dk_182 0 104 (dk_at dksX2_divides_8 3 rfl rfl)
theorem dX2_divides_195 : decode cX2_divides 195 = .ok (.iinc 3 1, 3) := dk_132 3 1 (dk_at dksX2_divides_8 6 rfl rfl)
theorem dX2_divides_198 : decode cX2_divides 198 = .ok (.goto (-196), 3) := dk_167 255 60 (dk_at dksX2_divides_8 9 rfl rfl)
theorem dX2_divides_201 : decode cX2_divides 201 = .ok (.iconst 0, 1) := dk_3 (dk_at dksX2_divides_8 12 rfl rfl)
theorem dX2_divides_202 : decode cX2_divides 202 = .ok (.ireturn, 1) := dk_172 (dk_at dksX2_divides_8 13 rfl rfl)
abbrev cX2_adds : ByteArray := prog_10_method_15_code
def yX2_adds : MethodName := ⟨RX2, "adds", "(IIII)V"⟩
def dkwX2_adds_2 : List UInt8 := [4, 96, 181, 0, 98, 177]
abbrev dktX2_adds_2 : List UInt8 := dkwX2_adds_2 ++ []
def dkwX2_adds_1 : List UInt8 := [42, 180, 0, 98, 29, 28, 100, 79, 42, 180, 0, 29, 42, 180, 0, 98, 21, 4, 79, 42, 89, 180, 0, 98]
abbrev dktX2_adds_1 : List UInt8 := dkwX2_adds_1 ++ dktX2_adds_2
def dkwX2_adds_0 : List UInt8 := [42, 180, 0, 20, 42, 180, 0, 98, 27, 79, 42, 180, 0, 23, 42, 180, 0, 98, 28, 79, 42, 180, 0, 26]
abbrev dktX2_adds_0 : List UInt8 := dkwX2_adds_0 ++ dktX2_adds_1
theorem dksX2_adds_0 : cX2_adds.data.toList.drop 0 = dktX2_adds_0 := by decide +kernel
theorem dksX2_adds_1 : cX2_adds.data.toList.drop 24 = dktX2_adds_1 := dk_seg dksX2_adds_0 24 rfl rfl
theorem dksX2_adds_2 : cX2_adds.data.toList.drop 48 = dktX2_adds_2 := dk_seg dksX2_adds_1 24 rfl rfl
theorem dX2_adds_0 : decode cX2_adds 0 = .ok (.aload_n 0, 1) := dk_42 (dk_at dksX2_adds_0 0 rfl rfl)
theorem dX2_adds_1 : decode cX2_adds 1 = .ok (.getfield 20, 3) := dk_180 0 20 (dk_at dksX2_adds_0 1 rfl rfl)
theorem dX2_adds_4 : decode cX2_adds 4 = .ok (.aload_n 0, 1) := dk_42 (dk_at dksX2_adds_0 4 rfl rfl)
theorem dX2_adds_5 : decode cX2_adds 5 = .ok (.getfield 98, 3) := dk_180 0 98 (dk_at dksX2_adds_0 5 rfl rfl)
theorem dX2_adds_8 : decode cX2_adds 8 = .ok (.iload_n 1, 1) := dk_27 (dk_at dksX2_adds_0 8 rfl rfl)
theorem dX2_adds_9 : decode cX2_adds 9 = .ok (.iastore, 1) := dk_79 (dk_at dksX2_adds_0 9 rfl rfl)
theorem dX2_adds_10 : decode cX2_adds 10 = .ok (.aload_n 0, 1) := dk_42 (dk_at dksX2_adds_0 10 rfl rfl)
theorem dX2_adds_11 : decode cX2_adds 11 = .ok (.getfield 23, 3) := dk_180 0 23 (dk_at dksX2_adds_0 11 rfl rfl)
theorem dX2_adds_14 : decode cX2_adds 14 = .ok (.aload_n 0, 1) := dk_42 (dk_at dksX2_adds_0 14 rfl rfl)
theorem dX2_adds_15 : decode cX2_adds 15 = .ok (.getfield 98, 3) := dk_180 0 98 (dk_at dksX2_adds_0 15 rfl rfl)
theorem dX2_adds_18 : decode cX2_adds 18 = .ok (.iload_n 2, 1) := dk_28 (dk_at dksX2_adds_0 18 rfl rfl)
theorem dX2_adds_19 : decode cX2_adds 19 = .ok (.iastore, 1) := dk_79 (dk_at dksX2_adds_0 19 rfl rfl)
theorem dX2_adds_20 : decode cX2_adds 20 = .ok (.aload_n 0, 1) := dk_42 (dk_at dksX2_adds_0 20 rfl rfl)
theorem dX2_adds_21 : decode cX2_adds 21 = .ok (.getfield 26, 3) := dk_180 0 26 (dk_at dksX2_adds_0 21 rfl rfl)
theorem dX2_adds_24 : decode cX2_adds 24 = .ok (.aload_n 0, 1) := dk_42 (dk_at dksX2_adds_1 0 rfl rfl)
theorem dX2_adds_25 : decode cX2_adds 25 = .ok (.getfield 98, 3) := dk_180 0 98 (dk_at dksX2_adds_1 1 rfl rfl)
theorem dX2_adds_28 : decode cX2_adds 28 = .ok (.iload_n 3, 1) := dk_29 (dk_at dksX2_adds_1 4 rfl rfl)
theorem dX2_adds_29 : decode cX2_adds 29 = .ok (.iload_n 2, 1) := dk_28 (dk_at dksX2_adds_1 5 rfl rfl)
theorem dX2_adds_30 : decode cX2_adds 30 = .ok (.isub, 1) := dk_100 (dk_at dksX2_adds_1 6 rfl rfl)
theorem dX2_adds_31 : decode cX2_adds 31 = .ok (.iastore, 1) := dk_79 (dk_at dksX2_adds_1 7 rfl rfl)
theorem dX2_adds_32 : decode cX2_adds 32 = .ok (.aload_n 0, 1) := dk_42 (dk_at dksX2_adds_1 8 rfl rfl)
theorem dX2_adds_33 : decode cX2_adds 33 = .ok (.getfield 29, 3) := dk_180 0 29 (dk_at dksX2_adds_1 9 rfl rfl)
theorem dX2_adds_36 : decode cX2_adds 36 = .ok (.aload_n 0, 1) := dk_42 (dk_at dksX2_adds_1 12 rfl rfl)
theorem dX2_adds_37 : decode cX2_adds 37 = .ok (.getfield 98, 3) := dk_180 0 98 (dk_at dksX2_adds_1 13 rfl rfl)
theorem dX2_adds_40 : decode cX2_adds 40 = .ok (.iload 4, 2) := dk_21 4 (dk_at dksX2_adds_1 16 rfl rfl)
theorem dX2_adds_42 : decode cX2_adds 42 = .ok (.iastore, 1) := dk_79 (dk_at dksX2_adds_1 18 rfl rfl)
theorem dX2_adds_43 : decode cX2_adds 43 = .ok (.aload_n 0, 1) := dk_42 (dk_at dksX2_adds_1 19 rfl rfl)
theorem dX2_adds_44 : decode cX2_adds 44 = .ok (.dup, 1) := dk_89 (dk_at dksX2_adds_1 20 rfl rfl)
theorem dX2_adds_45 : decode cX2_adds 45 = .ok (.getfield 98, 3) := dk_180 0 98 (dk_at dksX2_adds_1 21 rfl rfl)
theorem dX2_adds_48 : decode cX2_adds 48 = .ok (.iconst 1, 1) := dk_4 (dk_at dksX2_adds_2 0 rfl rfl)
theorem dX2_adds_49 : decode cX2_adds 49 = .ok (.iadd, 1) := dk_96 (dk_at dksX2_adds_2 1 rfl rfl)
theorem dX2_adds_50 : decode cX2_adds 50 = .ok (.putfield 98, 3) := dk_181 0 98 (dk_at dksX2_adds_2 2 rfl rfl)
theorem dX2_adds_53 : decode cX2_adds 53 = .ok (.return_, 1) := dk_177 (dk_at dksX2_adds_2 5 rfl rfl)
abbrev cX2_endOfString : ByteArray := prog_10_method_13_code
def yX2_endOfString : MethodName := ⟨RX2, "endOfString", "(II)I"⟩
def dkwX2_endOfString_2 : List UInt8 := [167, 255, 213, 29, 4, 96, 42, 180, 0, 7, 16, 21, 27, 96, 46, 184, 0, 91, 172]
abbrev dktX2_endOfString_2 : List UInt8 := dkwX2_endOfString_2 ++ []
def dkwX2_endOfString_1 : List UInt8 := [16, 34, 159, 0, 25, 29, 42, 27, 29, 182, 0, 83, 16, 92, 160, 0, 7, 5, 167, 0, 4, 4, 96, 62]
abbrev dktX2_endOfString_1 : List UInt8 := dkwX2_endOfString_1 ++ dktX2_endOfString_2
def dkwX2_endOfString_0 : List UInt8 := [28, 4, 96, 62, 29, 42, 180, 0, 7, 16, 21, 27, 96, 46, 162, 0, 36, 42, 27, 29, 182, 0, 83]
abbrev dktX2_endOfString_0 : List UInt8 := dkwX2_endOfString_0 ++ dktX2_endOfString_1
theorem dksX2_endOfString_0 : cX2_endOfString.data.toList.drop 0 = dktX2_endOfString_0 := by decide +kernel
theorem dksX2_endOfString_1 : cX2_endOfString.data.toList.drop 23 = dktX2_endOfString_1 := dk_seg dksX2_endOfString_0 23 rfl rfl
theorem dksX2_endOfString_2 : cX2_endOfString.data.toList.drop 47 = dktX2_endOfString_2 := dk_seg dksX2_endOfString_1 24 rfl rfl
theorem dX2_endOfString_0 : decode cX2_endOfString 0 = .ok (.iload_n 2, 1) := dk_28 (dk_at dksX2_endOfString_0 0 rfl rfl)
theorem dX2_endOfString_1 : decode cX2_endOfString 1 = .ok (.iconst 1, 1) := dk_4 (dk_at dksX2_endOfString_0 1 rfl rfl)
theorem dX2_endOfString_2 : decode cX2_endOfString 2 = .ok (.iadd, 1) := dk_96 (dk_at dksX2_endOfString_0 2 rfl rfl)
theorem dX2_endOfString_3 : decode cX2_endOfString 3 = .ok (.istore_n 3, 1) := dk_62 (dk_at dksX2_endOfString_0 3 rfl rfl)
theorem dX2_endOfString_4 : decode cX2_endOfString 4 = .ok (.iload_n 3, 1) := dk_29 (dk_at dksX2_endOfString_0 4 rfl rfl)
theorem dX2_endOfString_5 : decode cX2_endOfString 5 = .ok (.aload_n 0, 1) := dk_42 (dk_at dksX2_endOfString_0 5 rfl rfl)
theorem dX2_endOfString_6 : decode cX2_endOfString 6 = .ok (.getfield 7, 3) := dk_180 0 7 (dk_at dksX2_endOfString_0 6 rfl rfl)
theorem dX2_endOfString_9 : decode cX2_endOfString 9 = .ok (.bipush 21, 2) := dk_16 21 (dk_at dksX2_endOfString_0 9 rfl rfl)
theorem dX2_endOfString_11 : decode cX2_endOfString 11 = .ok (.iload_n 1, 1) := dk_27 (dk_at dksX2_endOfString_0 11 rfl rfl)
theorem dX2_endOfString_12 : decode cX2_endOfString 12 = .ok (.iadd, 1) := dk_96 (dk_at dksX2_endOfString_0 12 rfl rfl)
theorem dX2_endOfString_13 : decode cX2_endOfString 13 = .ok (.iaload, 1) := dk_46 (dk_at dksX2_endOfString_0 13 rfl rfl)
theorem dX2_endOfString_14 : decode cX2_endOfString 14 = .ok (.if_icmp .ge 36, 3) := dk_162 0 36 (dk_at dksX2_endOfString_0 14 rfl rfl)
theorem dX2_endOfString_17 : decode cX2_endOfString 17 = .ok (.aload_n 0, 1) := dk_42 (dk_at dksX2_endOfString_0 17 rfl rfl)
theorem dX2_endOfString_18 : decode cX2_endOfString 18 = .ok (.iload_n 1, 1) := dk_27 (dk_at dksX2_endOfString_0 18 rfl rfl)
theorem dX2_endOfString_19 : decode cX2_endOfString 19 = .ok (.iload_n 3, 1) := dk_29 (dk_at dksX2_endOfString_0 19 rfl rfl)
theorem dX2_endOfString_20 : decode cX2_endOfString 20 = .ok (.invokevirtual 83, 3) := dk_182 0 83 (dk_at dksX2_endOfString_0 20 rfl rfl)
theorem dX2_endOfString_23 : decode cX2_endOfString 23 = .ok (.bipush 34, 2) := dk_16 34 (dk_at dksX2_endOfString_1 0 rfl rfl)
theorem dX2_endOfString_25 : decode cX2_endOfString 25 = .ok (.if_icmp .eq 25, 3) := dk_159 0 25 (dk_at dksX2_endOfString_1 2 rfl rfl)
theorem dX2_endOfString_28 : decode cX2_endOfString 28 = .ok (.iload_n 3, 1) := dk_29 (dk_at dksX2_endOfString_1 5 rfl rfl)
theorem dX2_endOfString_29 : decode cX2_endOfString 29 = .ok (.aload_n 0, 1) := dk_42 (dk_at dksX2_endOfString_1 6 rfl rfl)
theorem dX2_endOfString_30 : decode cX2_endOfString 30 = .ok (.iload_n 1, 1) := dk_27 (dk_at dksX2_endOfString_1 7 rfl rfl)
theorem dX2_endOfString_31 : decode cX2_endOfString 31 = .ok (.iload_n 3, 1) := dk_29 (dk_at dksX2_endOfString_1 8 rfl rfl)
theorem dX2_endOfString_32 : decode cX2_endOfString 32 = .ok (.invokevirtual 83, 3) := dk_182 0 83 (dk_at dksX2_endOfString_1 9 rfl rfl)
theorem dX2_endOfString_35 : decode cX2_endOfString 35 = .ok (.bipush 92, 2) := dk_16 92 (dk_at dksX2_endOfString_1 12 rfl rfl)
theorem dX2_endOfString_37 : decode cX2_endOfString 37 = .ok (.if_icmp .ne 7, 3) := dk_160 0 7 (dk_at dksX2_endOfString_1 14 rfl rfl)
theorem dX2_endOfString_40 : decode cX2_endOfString 40 = .ok (.iconst 2, 1) := dk_5 (dk_at dksX2_endOfString_1 17 rfl rfl)
theorem dX2_endOfString_41 : decode cX2_endOfString 41 = .ok (.goto 4, 3) := dk_167 0 4 (dk_at dksX2_endOfString_1 18 rfl rfl)
theorem dX2_endOfString_44 : decode cX2_endOfString 44 = .ok (.iconst 1, 1) := dk_4 (dk_at dksX2_endOfString_1 21 rfl rfl)
theorem dX2_endOfString_45 : decode cX2_endOfString 45 = .ok (.iadd, 1) := dk_96 (dk_at dksX2_endOfString_1 22 rfl rfl)
theorem dX2_endOfString_46 : decode cX2_endOfString 46 = .ok (.istore_n 3, 1) := dk_62 (dk_at dksX2_endOfString_1 23 rfl rfl)
theorem dX2_endOfString_47 : decode cX2_endOfString 47 = .ok (.goto (-43), 3) := dk_167 255 213 (dk_at dksX2_endOfString_2 0 rfl rfl)
theorem dX2_endOfString_50 : decode cX2_endOfString 50 = .ok (.iload_n 3, 1) := dk_29 (dk_at dksX2_endOfString_2 3 rfl rfl)
theorem dX2_endOfString_51 : decode cX2_endOfString 51 = .ok (.iconst 1, 1) := dk_4 (dk_at dksX2_endOfString_2 4 rfl rfl)
theorem dX2_endOfString_52 : decode cX2_endOfString 52 = .ok (.iadd, 1) := dk_96 (dk_at dksX2_endOfString_2 5 rfl rfl)
theorem dX2_endOfString_53 : decode cX2_endOfString 53 = .ok (.aload_n 0, 1) := dk_42 (dk_at dksX2_endOfString_2 6 rfl rfl)
theorem dX2_endOfString_54 : decode cX2_endOfString 54 = .ok (.getfield 7, 3) := dk_180 0 7 (dk_at dksX2_endOfString_2 7 rfl rfl)
theorem dX2_endOfString_57 : decode cX2_endOfString 57 = .ok (.bipush 21, 2) := dk_16 21 (dk_at dksX2_endOfString_2 10 rfl rfl)
theorem dX2_endOfString_59 : decode cX2_endOfString 59 = .ok (.iload_n 1, 1) := dk_27 (dk_at dksX2_endOfString_2 12 rfl rfl)
theorem dX2_endOfString_60 : decode cX2_endOfString 60 = .ok (.iadd, 1) := dk_96 (dk_at dksX2_endOfString_2 13 rfl rfl)
theorem dX2_endOfString_61 : decode cX2_endOfString 61 = .ok (.iaload, 1) := dk_46 (dk_at dksX2_endOfString_2 14 rfl rfl)
theorem dX2_endOfString_62 : decode cX2_endOfString 62 = .ok (.invokestatic 91, 3) := dk_184 0 91 (dk_at dksX2_endOfString_2 15 rfl rfl)
theorem dX2_endOfString_65 : decode cX2_endOfString 65 = .ok (.ireturn, 1) := dk_172 (dk_at dksX2_endOfString_2 18 rfl rfl)
abbrev cX2_least : ByteArray := prog_10_method_4_code
def yX2_least : MethodName := ⟨RX2, "least", "(II)I"⟩
def dkwX2_least_0 : List UInt8 := [26, 27, 162, 0, 7, 26, 167, 0, 4, 27, 172]
abbrev dktX2_least_0 : List UInt8 := dkwX2_least_0 ++ []
theorem dksX2_least_0 : cX2_least.data.toList.drop 0 = dktX2_least_0 := by decide +kernel
theorem dX2_least_0 : decode cX2_least 0 = .ok (.iload_n 0, 1) := dk_26 (dk_at dksX2_least_0 0 rfl rfl)
theorem dX2_least_1 : decode cX2_least 1 = .ok (.iload_n 1, 1) := dk_27 (dk_at dksX2_least_0 1 rfl rfl)
theorem dX2_least_2 : decode cX2_least 2 = .ok (.if_icmp .ge 7, 3) := dk_162 0 7 (dk_at dksX2_least_0 2 rfl rfl)
theorem dX2_least_5 : decode cX2_least 5 = .ok (.iload_n 0, 1) := dk_26 (dk_at dksX2_least_0 5 rfl rfl)
theorem dX2_least_6 : decode cX2_least 6 = .ok (.goto 4, 3) := dk_167 0 4 (dk_at dksX2_least_0 6 rfl rfl)
theorem dX2_least_9 : decode cX2_least 9 = .ok (.iload_n 1, 1) := dk_27 (dk_at dksX2_least_0 9 rfl rfl)
theorem dX2_least_10 : decode cX2_least 10 = .ok (.ireturn, 1) := dk_172 (dk_at dksX2_least_0 10 rfl rfl)
abbrev cX2_isWord : ByteArray := prog_10_method_10_code
def yX2_isWord : MethodName := ⟨RX2, "isWord", "(I)Z"⟩
def dkwX2_isWord_1 : List UInt8 := [16, 48, 16, 57, 184, 0, 79, 154, 0, 9, 26, 16, 95, 160, 0, 7, 4, 167, 0, 4, 3, 172]
abbrev dktX2_isWord_1 : List UInt8 := dkwX2_isWord_1 ++ []
def dkwX2_isWord_0 : List UInt8 := [26, 16, 97, 16, 122, 184, 0, 79, 154, 0, 31, 26, 16, 65, 16, 90, 184, 0, 79, 154, 0, 20, 26]
abbrev dktX2_isWord_0 : List UInt8 := dkwX2_isWord_0 ++ dktX2_isWord_1
theorem dksX2_isWord_0 : cX2_isWord.data.toList.drop 0 = dktX2_isWord_0 := by decide +kernel
theorem dksX2_isWord_1 : cX2_isWord.data.toList.drop 23 = dktX2_isWord_1 := dk_seg dksX2_isWord_0 23 rfl rfl
theorem dX2_isWord_0 : decode cX2_isWord 0 = .ok (.iload_n 0, 1) := dk_26 (dk_at dksX2_isWord_0 0 rfl rfl)
theorem dX2_isWord_1 : decode cX2_isWord 1 = .ok (.bipush 97, 2) := dk_16 97 (dk_at dksX2_isWord_0 1 rfl rfl)
theorem dX2_isWord_3 : decode cX2_isWord 3 = .ok (.bipush 122, 2) := dk_16 122 (dk_at dksX2_isWord_0 3 rfl rfl)
theorem dX2_isWord_5 : decode cX2_isWord 5 = .ok (.invokestatic 79, 3) := dk_184 0 79 (dk_at dksX2_isWord_0 5 rfl rfl)
theorem dX2_isWord_8 : decode cX2_isWord 8 = .ok (.ifCond .ne 31, 3) := dk_154 0 31 (dk_at dksX2_isWord_0 8 rfl rfl)
theorem dX2_isWord_11 : decode cX2_isWord 11 = .ok (.iload_n 0, 1) := dk_26 (dk_at dksX2_isWord_0 11 rfl rfl)
theorem dX2_isWord_12 : decode cX2_isWord 12 = .ok (.bipush 65, 2) := dk_16 65 (dk_at dksX2_isWord_0 12 rfl rfl)
theorem dX2_isWord_14 : decode cX2_isWord 14 = .ok (.bipush 90, 2) := dk_16 90 (dk_at dksX2_isWord_0 14 rfl rfl)
theorem dX2_isWord_16 : decode cX2_isWord 16 = .ok (.invokestatic 79, 3) := dk_184 0 79 (dk_at dksX2_isWord_0 16 rfl rfl)
theorem dX2_isWord_19 : decode cX2_isWord 19 = .ok (.ifCond .ne 20, 3) := dk_154 0 20 (dk_at dksX2_isWord_0 19 rfl rfl)
theorem dX2_isWord_22 : decode cX2_isWord 22 = .ok (.iload_n 0, 1) := dk_26 (dk_at dksX2_isWord_0 22 rfl rfl)
theorem dX2_isWord_23 : decode cX2_isWord 23 = .ok (.bipush 48, 2) := dk_16 48 (dk_at dksX2_isWord_1 0 rfl rfl)
theorem dX2_isWord_25 : decode cX2_isWord 25 = .ok (.bipush 57, 2) := dk_16 57 (dk_at dksX2_isWord_1 2 rfl rfl)
theorem dX2_isWord_27 : decode cX2_isWord 27 = .ok (.invokestatic 79, 3) := dk_184 0 79 (dk_at dksX2_isWord_1 4 rfl rfl)
theorem dX2_isWord_30 : decode cX2_isWord 30 = .ok (.ifCond .ne 9, 3) := dk_154 0 9 (dk_at dksX2_isWord_1 7 rfl rfl)
theorem dX2_isWord_33 : decode cX2_isWord 33 = .ok (.iload_n 0, 1) := dk_26 (dk_at dksX2_isWord_1 10 rfl rfl)
theorem dX2_isWord_34 : decode cX2_isWord 34 = .ok (.bipush 95, 2) := dk_16 95 (dk_at dksX2_isWord_1 11 rfl rfl)
theorem dX2_isWord_36 : decode cX2_isWord 36 = .ok (.if_icmp .ne 7, 3) := dk_160 0 7 (dk_at dksX2_isWord_1 13 rfl rfl)
theorem dX2_isWord_39 : decode cX2_isWord 39 = .ok (.iconst 1, 1) := dk_4 (dk_at dksX2_isWord_1 16 rfl rfl)
theorem dX2_isWord_40 : decode cX2_isWord 40 = .ok (.goto 4, 3) := dk_167 0 4 (dk_at dksX2_isWord_1 17 rfl rfl)
theorem dX2_isWord_43 : decode cX2_isWord 43 = .ok (.iconst 0, 1) := dk_3 (dk_at dksX2_isWord_1 20 rfl rfl)
theorem dX2_isWord_44 : decode cX2_isWord 44 = .ok (.ireturn, 1) := dk_172 (dk_at dksX2_isWord_1 21 rfl rfl)
abbrev cX2_endOfWord : ByteArray := prog_10_method_14_code
def yX2_endOfWord : MethodName := ⟨RX2, "endOfWord", "(II)I"⟩
def dkwX2_endOfWord_0 : List UInt8 := [28, 62, 42, 27, 29, 182, 0, 83, 184, 0, 94, 153, 0, 9, 132, 3, 1, 167, 255, 241, 29, 172]
abbrev dktX2_endOfWord_0 : List UInt8 := dkwX2_endOfWord_0 ++ []
theorem dksX2_endOfWord_0 : cX2_endOfWord.data.toList.drop 0 = dktX2_endOfWord_0 := by decide +kernel
theorem dX2_endOfWord_0 : decode cX2_endOfWord 0 = .ok (.iload_n 2, 1) := dk_28 (dk_at dksX2_endOfWord_0 0 rfl rfl)
theorem dX2_endOfWord_1 : decode cX2_endOfWord 1 = .ok (.istore_n 3, 1) := dk_62 (dk_at dksX2_endOfWord_0 1 rfl rfl)
theorem dX2_endOfWord_2 : decode cX2_endOfWord 2 = .ok (.aload_n 0, 1) := dk_42 (dk_at dksX2_endOfWord_0 2 rfl rfl)
theorem dX2_endOfWord_3 : decode cX2_endOfWord 3 = .ok (.iload_n 1, 1) := dk_27 (dk_at dksX2_endOfWord_0 3 rfl rfl)
theorem dX2_endOfWord_4 : decode cX2_endOfWord 4 = .ok (.iload_n 3, 1) := dk_29 (dk_at dksX2_endOfWord_0 4 rfl rfl)
theorem dX2_endOfWord_5 : decode cX2_endOfWord 5 = .ok (.invokevirtual 83, 3) := dk_182 0 83 (dk_at dksX2_endOfWord_0 5 rfl rfl)
theorem dX2_endOfWord_8 : decode cX2_endOfWord 8 = .ok (.invokestatic 94, 3) := dk_184 0 94 (dk_at dksX2_endOfWord_0 8 rfl rfl)
theorem dX2_endOfWord_11 : decode cX2_endOfWord 11 = .ok (.ifCond .eq 9, 3) := dk_153 0 9 (dk_at dksX2_endOfWord_0 11 rfl rfl)
theorem dX2_endOfWord_14 : decode cX2_endOfWord 14 = .ok (.iinc 3 1, 3) := dk_132 3 1 (dk_at dksX2_endOfWord_0 14 rfl rfl)
theorem dX2_endOfWord_17 : decode cX2_endOfWord 17 = .ok (.goto (-15), 3) := dk_167 255 241 (dk_at dksX2_endOfWord_0 17 rfl rfl)
theorem dX2_endOfWord_20 : decode cX2_endOfWord 20 = .ok (.iload_n 3, 1) := dk_29 (dk_at dksX2_endOfWord_0 20 rfl rfl)
theorem dX2_endOfWord_21 : decode cX2_endOfWord 21 = .ok (.ireturn, 1) := dk_172 (dk_at dksX2_endOfWord_0 21 rfl rfl)
abbrev cX2_notes : ByteArray := prog_10_method_23_code
def yX2_notes : MethodName := ⟨RX2, "notes", "(I)V"⟩
def dkwX2_notes_1 : List UInt8 := [16, 12, 27, 104, 28, 96, 42, 180, 0, 53, 28, 46, 79, 132, 2, 1, 167, 255, 228, 177]
abbrev dktX2_notes_1 : List UInt8 := dkwX2_notes_1 ++ []
def dkwX2_notes_0 : List UInt8 := [42, 180, 0, 47, 27, 42, 180, 0, 126, 79, 3, 61, 28, 42, 180, 0, 126, 162, 0, 26, 42, 180, 0, 50]
abbrev dktX2_notes_0 : List UInt8 := dkwX2_notes_0 ++ dktX2_notes_1
theorem dksX2_notes_0 : cX2_notes.data.toList.drop 0 = dktX2_notes_0 := by decide +kernel
theorem dksX2_notes_1 : cX2_notes.data.toList.drop 24 = dktX2_notes_1 := dk_seg dksX2_notes_0 24 rfl rfl
theorem dX2_notes_0 : decode cX2_notes 0 = .ok (.aload_n 0, 1) := dk_42 (dk_at dksX2_notes_0 0 rfl rfl)
theorem dX2_notes_1 : decode cX2_notes 1 = .ok (.getfield 47, 3) := dk_180 0 47 (dk_at dksX2_notes_0 1 rfl rfl)
theorem dX2_notes_4 : decode cX2_notes 4 = .ok (.iload_n 1, 1) := dk_27 (dk_at dksX2_notes_0 4 rfl rfl)
theorem dX2_notes_5 : decode cX2_notes 5 = .ok (.aload_n 0, 1) := dk_42 (dk_at dksX2_notes_0 5 rfl rfl)
theorem dX2_notes_6 : decode cX2_notes 6 = .ok (.getfield 126, 3) := dk_180 0 126 (dk_at dksX2_notes_0 6 rfl rfl)
theorem dX2_notes_9 : decode cX2_notes 9 = .ok (.iastore, 1) := dk_79 (dk_at dksX2_notes_0 9 rfl rfl)
theorem dX2_notes_10 : decode cX2_notes 10 = .ok (.iconst 0, 1) := dk_3 (dk_at dksX2_notes_0 10 rfl rfl)
theorem dX2_notes_11 : decode cX2_notes 11 = .ok (.istore_n 2, 1) := dk_61 (dk_at dksX2_notes_0 11 rfl rfl)
theorem dX2_notes_12 : decode cX2_notes 12 = .ok (.iload_n 2, 1) := dk_28 (dk_at dksX2_notes_0 12 rfl rfl)
theorem dX2_notes_13 : decode cX2_notes 13 = .ok (.aload_n 0, 1) := dk_42 (dk_at dksX2_notes_0 13 rfl rfl)
theorem dX2_notes_14 : decode cX2_notes 14 = .ok (.getfield 126, 3) := dk_180 0 126 (dk_at dksX2_notes_0 14 rfl rfl)
theorem dX2_notes_17 : decode cX2_notes 17 = .ok (.if_icmp .ge 26, 3) := dk_162 0 26 (dk_at dksX2_notes_0 17 rfl rfl)
theorem dX2_notes_20 : decode cX2_notes 20 = .ok (.aload_n 0, 1) := dk_42 (dk_at dksX2_notes_0 20 rfl rfl)
theorem dX2_notes_21 : decode cX2_notes 21 = .ok (.getfield 50, 3) := dk_180 0 50 (dk_at dksX2_notes_0 21 rfl rfl)
theorem dX2_notes_24 : decode cX2_notes 24 = .ok (.bipush 12, 2) := dk_16 12 (dk_at dksX2_notes_1 0 rfl rfl)
theorem dX2_notes_26 : decode cX2_notes 26 = .ok (.iload_n 1, 1) := dk_27 (dk_at dksX2_notes_1 2 rfl rfl)
theorem dX2_notes_27 : decode cX2_notes 27 = .ok (.imul, 1) := dk_104 (dk_at dksX2_notes_1 3 rfl rfl)
theorem dX2_notes_28 : decode cX2_notes 28 = .ok (.iload_n 2, 1) := dk_28 (dk_at dksX2_notes_1 4 rfl rfl)
theorem dX2_notes_29 : decode cX2_notes 29 = .ok (.iadd, 1) := dk_96 (dk_at dksX2_notes_1 5 rfl rfl)
theorem dX2_notes_30 : decode cX2_notes 30 = .ok (.aload_n 0, 1) := dk_42 (dk_at dksX2_notes_1 6 rfl rfl)
theorem dX2_notes_31 : decode cX2_notes 31 = .ok (.getfield 53, 3) := dk_180 0 53 (dk_at dksX2_notes_1 7 rfl rfl)
theorem dX2_notes_34 : decode cX2_notes 34 = .ok (.iload_n 2, 1) := dk_28 (dk_at dksX2_notes_1 10 rfl rfl)
theorem dX2_notes_35 : decode cX2_notes 35 = .ok (.iaload, 1) := dk_46 (dk_at dksX2_notes_1 11 rfl rfl)
theorem dX2_notes_36 : decode cX2_notes 36 = .ok (.iastore, 1) := dk_79 (dk_at dksX2_notes_1 12 rfl rfl)
theorem dX2_notes_37 : decode cX2_notes 37 = .ok (.iinc 2 1, 3) := dk_132 2 1 (dk_at dksX2_notes_1 13 rfl rfl)
theorem dX2_notes_40 : decode cX2_notes 40 = .ok (.goto (-28), 3) := dk_167 255 228 (dk_at dksX2_notes_1 16 rfl rfl)
theorem dX2_notes_43 : decode cX2_notes 43 = .ok (.return_, 1) := dk_177 (dk_at dksX2_notes_1 19 rfl rfl)
abbrev cX2_shuts : ByteArray := prog_10_method_22_code
def yX2_shuts : MethodName := ⟨RX2, "shuts", "(I)V"⟩
def dkwX2_shuts_7 : List UInt8 := [42, 27, 182, 0, 132, 153, 0, 13, 42, 89, 180, 0, 135, 4, 96, 181, 0, 135, 177]
abbrev dktX2_shuts_7 : List UInt8 := dkwX2_shuts_7 ++ []
def dkwX2_shuts_6 : List UInt8 := [89, 180, 0, 129, 42, 180, 0, 126, 4, 100, 28, 100, 96, 181, 0, 129, 42, 28, 181, 0, 126, 167, 0, 21]
abbrev dktX2_shuts_6 : List UInt8 := dkwX2_shuts_6 ++ dktX2_shuts_7
def dkwX2_shuts_5 : List UInt8 := [180, 0, 35, 27, 42, 180, 0, 53, 28, 46, 79, 42, 180, 0, 38, 42, 180, 0, 53, 28, 46, 27, 79, 42]
abbrev dktX2_shuts_5 : List UInt8 := dkwX2_shuts_5 ++ dktX2_shuts_6
def dkwX2_shuts_4 : List UInt8 := [182, 0, 120, 162, 0, 7, 4, 167, 0, 4, 3, 62, 132, 4, 1, 167, 255, 198, 29, 153, 0, 52, 42]
abbrev dktX2_shuts_4 : List UInt8 := dkwX2_shuts_4 ++ dktX2_shuts_5
def dkwX2_shuts_3 : List UInt8 := [180, 0, 53, 21, 4, 46, 46, 4, 182, 0, 120, 42, 42, 180, 0, 32, 42, 180, 0, 53, 28, 46, 46, 4]
abbrev dktX2_shuts_3 : List UInt8 := dkwX2_shuts_3 ++ dktX2_shuts_4
def dkwX2_shuts_2 : List UInt8 := [28, 4, 96, 54, 4, 21, 4, 42, 180, 0, 126, 162, 0, 55, 29, 153, 0, 51, 42, 42, 180, 0, 32, 42]
abbrev dktX2_shuts_2 : List UInt8 := dkwX2_shuts_2 ++ dktX2_shuts_3
def dkwX2_shuts_1 : List UInt8 := [16, 14, 182, 0, 123, 154, 0, 9, 132, 2, 255, 167, 255, 228, 28, 155, 0, 7, 4, 167, 0, 4, 3, 62]
abbrev dktX2_shuts_1 : List UInt8 := dkwX2_shuts_1 ++ dktX2_shuts_2
def dkwX2_shuts_0 : List UInt8 := [42, 180, 0, 126, 4, 100, 61, 28, 155, 0, 30, 42, 27, 42, 180, 0, 32, 42, 180, 0, 53, 28, 46, 46]
abbrev dktX2_shuts_0 : List UInt8 := dkwX2_shuts_0 ++ dktX2_shuts_1
theorem dksX2_shuts_0 : cX2_shuts.data.toList.drop 0 = dktX2_shuts_0 := by decide +kernel
theorem dksX2_shuts_1 : cX2_shuts.data.toList.drop 24 = dktX2_shuts_1 := dk_seg dksX2_shuts_0 24 rfl rfl
theorem dksX2_shuts_2 : cX2_shuts.data.toList.drop 48 = dktX2_shuts_2 := dk_seg dksX2_shuts_1 24 rfl rfl
theorem dksX2_shuts_3 : cX2_shuts.data.toList.drop 72 = dktX2_shuts_3 := dk_seg dksX2_shuts_2 24 rfl rfl
theorem dksX2_shuts_4 : cX2_shuts.data.toList.drop 96 = dktX2_shuts_4 := dk_seg dksX2_shuts_3 24 rfl rfl
theorem dksX2_shuts_5 : cX2_shuts.data.toList.drop 119 = dktX2_shuts_5 := dk_seg dksX2_shuts_4 23 rfl rfl
theorem dksX2_shuts_6 : cX2_shuts.data.toList.drop 143 = dktX2_shuts_6 := dk_seg dksX2_shuts_5 24 rfl rfl
theorem dksX2_shuts_7 : cX2_shuts.data.toList.drop 167 = dktX2_shuts_7 := dk_seg dksX2_shuts_6 24 rfl rfl
theorem dX2_shuts_0 : decode cX2_shuts 0 = .ok (.aload_n 0, 1) := dk_42 (dk_at dksX2_shuts_0 0 rfl rfl)
theorem dX2_shuts_1 : decode cX2_shuts 1 = .ok (.getfield 126, 3) := dk_180 0 126 (dk_at dksX2_shuts_0 1 rfl rfl)
theorem dX2_shuts_4 : decode cX2_shuts 4 = .ok (.iconst 1, 1) := dk_4 (dk_at dksX2_shuts_0 4 rfl rfl)
theorem dX2_shuts_5 : decode cX2_shuts 5 = .ok (.isub, 1) := dk_100 (dk_at dksX2_shuts_0 5 rfl rfl)
theorem dX2_shuts_6 : decode cX2_shuts 6 = .ok (.istore_n 2, 1) := dk_61 (dk_at dksX2_shuts_0 6 rfl rfl)
theorem dX2_shuts_7 : decode cX2_shuts 7 = .ok (.iload_n 2, 1) := dk_28 (dk_at dksX2_shuts_0 7 rfl rfl)
theorem dX2_shuts_8 : decode cX2_shuts 8 = .ok (.ifCond .lt 30, 3) := dk_155 0 30 (dk_at dksX2_shuts_0 8 rfl rfl)
theorem dX2_shuts_11 : decode cX2_shuts 11 = .ok (.aload_n 0, 1) := dk_42 (dk_at dksX2_shuts_0 11 rfl rfl)
theorem dX2_shuts_12 : decode cX2_shuts 12 = .ok (.iload_n 1, 1) := dk_27 (dk_at dksX2_shuts_0 12 rfl rfl)
theorem dX2_shuts_13 : decode cX2_shuts 13 = .ok (.aload_n 0, 1) := dk_42 (dk_at dksX2_shuts_0 13 rfl rfl)
theorem dX2_shuts_14 : decode cX2_shuts 14 = .ok (.getfield 32, 3) := dk_180 0 32 (dk_at dksX2_shuts_0 14 rfl rfl)
theorem dX2_shuts_17 : decode cX2_shuts 17 = .ok (.aload_n 0, 1) := dk_42 (dk_at dksX2_shuts_0 17 rfl rfl)
theorem dX2_shuts_18 : decode cX2_shuts 18 = .ok (.getfield 53, 3) := dk_180 0 53 (dk_at dksX2_shuts_0 18 rfl rfl)
theorem dX2_shuts_21 : decode cX2_shuts 21 = .ok (.iload_n 2, 1) := dk_28 (dk_at dksX2_shuts_0 21 rfl rfl)
theorem dX2_shuts_22 : decode cX2_shuts 22 = .ok (.iaload, 1) := dk_46 (dk_at dksX2_shuts_0 22 rfl rfl)
theorem dX2_shuts_23 : decode cX2_shuts 23 = .ok (.iaload, 1) := dk_46 (dk_at dksX2_shuts_0 23 rfl rfl)
theorem dX2_shuts_24 : decode cX2_shuts 24 = .ok (.bipush 14, 2) := dk_16 14 (dk_at dksX2_shuts_1 0 rfl rfl)
theorem dX2_shuts_26 : decode cX2_shuts 26 = .ok (.invokevirtual 123, 3) := dk_182 0 123 (dk_at dksX2_shuts_1 2 rfl rfl)
theorem dX2_shuts_29 : decode cX2_shuts 29 = .ok (.ifCond .ne 9, 3) := dk_154 0 9 (dk_at dksX2_shuts_1 5 rfl rfl)
theorem dX2_shuts_32 : decode cX2_shuts 32 = .ok (.iinc 2 (-1), 3) := dk_132 2 255 (dk_at dksX2_shuts_1 8 rfl rfl)
theorem dX2_shuts_35 : decode cX2_shuts 35 = .ok (.goto (-28), 3) := dk_167 255 228 (dk_at dksX2_shuts_1 11 rfl rfl)
theorem dX2_shuts_38 : decode cX2_shuts 38 = .ok (.iload_n 2, 1) := dk_28 (dk_at dksX2_shuts_1 14 rfl rfl)
theorem dX2_shuts_39 : decode cX2_shuts 39 = .ok (.ifCond .lt 7, 3) := dk_155 0 7 (dk_at dksX2_shuts_1 15 rfl rfl)
theorem dX2_shuts_42 : decode cX2_shuts 42 = .ok (.iconst 1, 1) := dk_4 (dk_at dksX2_shuts_1 18 rfl rfl)
theorem dX2_shuts_43 : decode cX2_shuts 43 = .ok (.goto 4, 3) := dk_167 0 4 (dk_at dksX2_shuts_1 19 rfl rfl)
theorem dX2_shuts_46 : decode cX2_shuts 46 = .ok (.iconst 0, 1) := dk_3 (dk_at dksX2_shuts_1 22 rfl rfl)
theorem dX2_shuts_47 : decode cX2_shuts 47 = .ok (.istore_n 3, 1) := dk_62 (dk_at dksX2_shuts_1 23 rfl rfl)
theorem dX2_shuts_48 : decode cX2_shuts 48 = .ok (.iload_n 2, 1) := dk_28 (dk_at dksX2_shuts_2 0 rfl rfl)
theorem dX2_shuts_49 : decode cX2_shuts 49 = .ok (.iconst 1, 1) := dk_4 (dk_at dksX2_shuts_2 1 rfl rfl)
theorem dX2_shuts_50 : decode cX2_shuts 50 = .ok (.iadd, 1) := dk_96 (dk_at dksX2_shuts_2 2 rfl rfl)
theorem dX2_shuts_51 : decode cX2_shuts 51 = .ok (.istore 4, 2) := dk_54 4 (dk_at dksX2_shuts_2 3 rfl rfl)
theorem dX2_shuts_53 : decode cX2_shuts 53 = .ok (.iload 4, 2) := dk_21 4 (dk_at dksX2_shuts_2 5 rfl rfl)
theorem dX2_shuts_55 : decode cX2_shuts 55 = .ok (.aload_n 0, 1) := dk_42 (dk_at dksX2_shuts_2 7 rfl rfl)
theorem dX2_shuts_56 : decode cX2_shuts 56 = .ok (.getfield 126, 3) := dk_180 0 126 (dk_at dksX2_shuts_2 8 rfl rfl)
theorem dX2_shuts_59 : decode cX2_shuts 59 = .ok (.if_icmp .ge 55, 3) := dk_162 0 55 (dk_at dksX2_shuts_2 11 rfl rfl)
theorem dX2_shuts_62 : decode cX2_shuts 62 = .ok (.iload_n 3, 1) := dk_29 (dk_at dksX2_shuts_2 14 rfl rfl)
theorem dX2_shuts_63 : decode cX2_shuts 63 = .ok (.ifCond .eq 51, 3) := dk_153 0 51 (dk_at dksX2_shuts_2 15 rfl rfl)
theorem dX2_shuts_66 : decode cX2_shuts 66 = .ok (.aload_n 0, 1) := dk_42 (dk_at dksX2_shuts_2 18 rfl rfl)
theorem dX2_shuts_67 : decode cX2_shuts 67 = .ok (.aload_n 0, 1) := dk_42 (dk_at dksX2_shuts_2 19 rfl rfl)
theorem dX2_shuts_68 : decode cX2_shuts 68 = .ok (.getfield 32, 3) := dk_180 0 32 (dk_at dksX2_shuts_2 20 rfl rfl)
theorem dX2_shuts_71 : decode cX2_shuts 71 = .ok (.aload_n 0, 1) := dk_42 (dk_at dksX2_shuts_2 23 rfl rfl)
theorem dX2_shuts_72 : decode cX2_shuts 72 = .ok (.getfield 53, 3) := dk_180 0 53 (dk_at dksX2_shuts_3 0 rfl rfl)
theorem dX2_shuts_75 : decode cX2_shuts 75 = .ok (.iload 4, 2) := dk_21 4 (dk_at dksX2_shuts_3 3 rfl rfl)
theorem dX2_shuts_77 : decode cX2_shuts 77 = .ok (.iaload, 1) := dk_46 (dk_at dksX2_shuts_3 5 rfl rfl)
theorem dX2_shuts_78 : decode cX2_shuts 78 = .ok (.iaload, 1) := dk_46 (dk_at dksX2_shuts_3 6 rfl rfl)
theorem dX2_shuts_79 : decode cX2_shuts 79 = .ok (.iconst 1, 1) := dk_4 (dk_at dksX2_shuts_3 7 rfl rfl)
theorem dX2_shuts_80 : decode cX2_shuts 80 = .ok (.invokevirtual 120, 3) := dk_182 0 120 (dk_at dksX2_shuts_3 8 rfl rfl)
theorem dX2_shuts_83 : decode cX2_shuts 83 = .ok (.aload_n 0, 1) := dk_42 (dk_at dksX2_shuts_3 11 rfl rfl)
theorem dX2_shuts_84 : decode cX2_shuts 84 = .ok (.aload_n 0, 1) := dk_42 (dk_at dksX2_shuts_3 12 rfl rfl)
theorem dX2_shuts_85 : decode cX2_shuts 85 = .ok (.getfield 32, 3) := dk_180 0 32 (dk_at dksX2_shuts_3 13 rfl rfl)
theorem dX2_shuts_88 : decode cX2_shuts 88 = .ok (.aload_n 0, 1) := dk_42 (dk_at dksX2_shuts_3 16 rfl rfl)
theorem dX2_shuts_89 : decode cX2_shuts 89 = .ok (.getfield 53, 3) := dk_180 0 53 (dk_at dksX2_shuts_3 17 rfl rfl)
theorem dX2_shuts_92 : decode cX2_shuts 92 = .ok (.iload_n 2, 1) := dk_28 (dk_at dksX2_shuts_3 20 rfl rfl)
theorem dX2_shuts_93 : decode cX2_shuts 93 = .ok (.iaload, 1) := dk_46 (dk_at dksX2_shuts_3 21 rfl rfl)
theorem dX2_shuts_94 : decode cX2_shuts 94 = .ok (.iaload, 1) := dk_46 (dk_at dksX2_shuts_3 22 rfl rfl)
theorem dX2_shuts_95 : decode cX2_shuts 95 = .ok (.iconst 1, 1) := dk_4 (dk_at dksX2_shuts_3 23 rfl rfl)
theorem dX2_shuts_96 : decode cX2_shuts 96 = .ok (.invokevirtual 120, 3) := dk_182 0 120 (dk_at dksX2_shuts_4 0 rfl rfl)
theorem dX2_shuts_99 : decode cX2_shuts 99 = .ok (.if_icmp .ge 7, 3) := dk_162 0 7 (dk_at dksX2_shuts_4 3 rfl rfl)
theorem dX2_shuts_102 : decode cX2_shuts 102 = .ok (.iconst 1, 1) := dk_4 (dk_at dksX2_shuts_4 6 rfl rfl)
theorem dX2_shuts_103 : decode cX2_shuts 103 = .ok (.goto 4, 3) := dk_167 0 4 (dk_at dksX2_shuts_4 7 rfl rfl)
theorem dX2_shuts_106 : decode cX2_shuts 106 = .ok (.iconst 0, 1) := dk_3 (dk_at dksX2_shuts_4 10 rfl rfl)
theorem dX2_shuts_107 : decode cX2_shuts 107 = .ok (.istore_n 3, 1) := dk_62 (dk_at dksX2_shuts_4 11 rfl rfl)
theorem dX2_shuts_108 : decode cX2_shuts 108 = .ok (.iinc 4 1, 3) := dk_132 4 1 (dk_at dksX2_shuts_4 12 rfl rfl)
theorem dX2_shuts_111 : decode cX2_shuts 111 = .ok (.goto (-58), 3) := dk_167 255 198 (dk_at dksX2_shuts_4 15 rfl rfl)
theorem dX2_shuts_114 : decode cX2_shuts 114 = .ok (.iload_n 3, 1) := dk_29 (dk_at dksX2_shuts_4 18 rfl rfl)
theorem dX2_shuts_115 : decode cX2_shuts 115 = .ok (.ifCond .eq 52, 3) := dk_153 0 52 (dk_at dksX2_shuts_4 19 rfl rfl)
theorem dX2_shuts_118 : decode cX2_shuts 118 = .ok (.aload_n 0, 1) := dk_42 (dk_at dksX2_shuts_4 22 rfl rfl)
theorem dX2_shuts_119 : decode cX2_shuts 119 = .ok (.getfield 35, 3) := dk_180 0 35 (dk_at dksX2_shuts_5 0 rfl rfl)
theorem dX2_shuts_122 : decode cX2_shuts 122 = .ok (.iload_n 1, 1) := dk_27 (dk_at dksX2_shuts_5 3 rfl rfl)
theorem dX2_shuts_123 : decode cX2_shuts 123 = .ok (.aload_n 0, 1) := dk_42 (dk_at dksX2_shuts_5 4 rfl rfl)
theorem dX2_shuts_124 : decode cX2_shuts 124 = .ok (.getfield 53, 3) := dk_180 0 53 (dk_at dksX2_shuts_5 5 rfl rfl)
theorem dX2_shuts_127 : decode cX2_shuts 127 = .ok (.iload_n 2, 1) := dk_28 (dk_at dksX2_shuts_5 8 rfl rfl)
theorem dX2_shuts_128 : decode cX2_shuts 128 = .ok (.iaload, 1) := dk_46 (dk_at dksX2_shuts_5 9 rfl rfl)
theorem dX2_shuts_129 : decode cX2_shuts 129 = .ok (.iastore, 1) := dk_79 (dk_at dksX2_shuts_5 10 rfl rfl)
theorem dX2_shuts_130 : decode cX2_shuts 130 = .ok (.aload_n 0, 1) := dk_42 (dk_at dksX2_shuts_5 11 rfl rfl)
theorem dX2_shuts_131 : decode cX2_shuts 131 = .ok (.getfield 38, 3) := dk_180 0 38 (dk_at dksX2_shuts_5 12 rfl rfl)
theorem dX2_shuts_134 : decode cX2_shuts 134 = .ok (.aload_n 0, 1) := dk_42 (dk_at dksX2_shuts_5 15 rfl rfl)
theorem dX2_shuts_135 : decode cX2_shuts 135 = .ok (.getfield 53, 3) := dk_180 0 53 (dk_at dksX2_shuts_5 16 rfl rfl)
theorem dX2_shuts_138 : decode cX2_shuts 138 = .ok (.iload_n 2, 1) := dk_28 (dk_at dksX2_shuts_5 19 rfl rfl)
theorem dX2_shuts_139 : decode cX2_shuts 139 = .ok (.iaload, 1) := dk_46 (dk_at dksX2_shuts_5 20 rfl rfl)
theorem dX2_shuts_140 : decode cX2_shuts 140 = .ok (.iload_n 1, 1) := dk_27 (dk_at dksX2_shuts_5 21 rfl rfl)
theorem dX2_shuts_141 : decode cX2_shuts 141 = .ok (.iastore, 1) := dk_79 (dk_at dksX2_shuts_5 22 rfl rfl)
theorem dX2_shuts_142 : decode cX2_shuts 142 = .ok (.aload_n 0, 1) := dk_42 (dk_at dksX2_shuts_5 23 rfl rfl)
theorem dX2_shuts_143 : decode cX2_shuts 143 = .ok (.dup, 1) := dk_89 (dk_at dksX2_shuts_6 0 rfl rfl)
theorem dX2_shuts_144 : decode cX2_shuts 144 = .ok (.getfield 129, 3) := dk_180 0 129 (dk_at dksX2_shuts_6 1 rfl rfl)
theorem dX2_shuts_147 : decode cX2_shuts 147 = .ok (.aload_n 0, 1) := dk_42 (dk_at dksX2_shuts_6 4 rfl rfl)
theorem dX2_shuts_148 : decode cX2_shuts 148 = .ok (.getfield 126, 3) := dk_180 0 126 (dk_at dksX2_shuts_6 5 rfl rfl)
theorem dX2_shuts_151 : decode cX2_shuts 151 = .ok (.iconst 1, 1) := dk_4 (dk_at dksX2_shuts_6 8 rfl rfl)
theorem dX2_shuts_152 : decode cX2_shuts 152 = .ok (.isub, 1) := dk_100 (dk_at dksX2_shuts_6 9 rfl rfl)
theorem dX2_shuts_153 : decode cX2_shuts 153 = .ok (.iload_n 2, 1) := dk_28 (dk_at dksX2_shuts_6 10 rfl rfl)
theorem dX2_shuts_154 : decode cX2_shuts 154 = .ok (.isub, 1) := dk_100 (dk_at dksX2_shuts_6 11 rfl rfl)
theorem dX2_shuts_155 : decode cX2_shuts 155 = .ok (.iadd, 1) := dk_96 (dk_at dksX2_shuts_6 12 rfl rfl)
theorem dX2_shuts_156 : decode cX2_shuts 156 = .ok (.putfield 129, 3) := dk_181 0 129 (dk_at dksX2_shuts_6 13 rfl rfl)
theorem dX2_shuts_159 : decode cX2_shuts 159 = .ok (.aload_n 0, 1) := dk_42 (dk_at dksX2_shuts_6 16 rfl rfl)
theorem dX2_shuts_160 : decode cX2_shuts 160 = .ok (.iload_n 2, 1) := dk_28 (dk_at dksX2_shuts_6 17 rfl rfl)
theorem dX2_shuts_161 : decode cX2_shuts 161 = .ok (.putfield 126, 3) := dk_181 0 126 (dk_at dksX2_shuts_6 18 rfl rfl)
theorem dX2_shuts_164 : decode cX2_shuts 164 = .ok (.goto 21, 3) := dk_167 0 21 (dk_at dksX2_shuts_6 21 rfl rfl)
theorem dX2_shuts_167 : decode cX2_shuts 167 = .ok (.aload_n 0, 1) := dk_42 (dk_at dksX2_shuts_7 0 rfl rfl)
theorem dX2_shuts_168 : decode cX2_shuts 168 = .ok (.iload_n 1, 1) := dk_27 (dk_at dksX2_shuts_7 1 rfl rfl)
theorem dX2_shuts_169 : decode cX2_shuts 169 = .ok (.invokevirtual 132, 3) := dk_182 0 132 (dk_at dksX2_shuts_7 2 rfl rfl)
theorem dX2_shuts_172 : decode cX2_shuts 172 = .ok (.ifCond .eq 13, 3) := dk_153 0 13 (dk_at dksX2_shuts_7 5 rfl rfl)
theorem dX2_shuts_175 : decode cX2_shuts 175 = .ok (.aload_n 0, 1) := dk_42 (dk_at dksX2_shuts_7 8 rfl rfl)
theorem dX2_shuts_176 : decode cX2_shuts 176 = .ok (.dup, 1) := dk_89 (dk_at dksX2_shuts_7 9 rfl rfl)
theorem dX2_shuts_177 : decode cX2_shuts 177 = .ok (.getfield 135, 3) := dk_180 0 135 (dk_at dksX2_shuts_7 10 rfl rfl)
theorem dX2_shuts_180 : decode cX2_shuts 180 = .ok (.iconst 1, 1) := dk_4 (dk_at dksX2_shuts_7 13 rfl rfl)
theorem dX2_shuts_181 : decode cX2_shuts 181 = .ok (.iadd, 1) := dk_96 (dk_at dksX2_shuts_7 14 rfl rfl)
theorem dX2_shuts_182 : decode cX2_shuts 182 = .ok (.putfield 135, 3) := dk_181 0 135 (dk_at dksX2_shuts_7 15 rfl rfl)
theorem dX2_shuts_185 : decode cX2_shuts 185 = .ok (.return_, 1) := dk_177 (dk_at dksX2_shuts_7 18 rfl rfl)
abbrev cX2_hasText : ByteArray := prog_10_method_18_code
def yX2_hasText : MethodName := ⟨RX2, "hasText", "(III)Z"⟩
def dkwX2_hasText_4 : List UInt8 := [96, 46, 160, 0, 7, 4, 167, 0, 4, 3, 54, 5, 132, 6, 1, 167, 255, 195, 21, 5, 172]
abbrev dktX2_hasText_4 : List UInt8 := dkwX2_hasText_4 ++ []
def dkwX2_hasText_3 : List UInt8 := [27, 46, 42, 180, 0, 23, 27, 46, 21, 6, 96, 182, 0, 83, 42, 180, 0, 7, 21, 4, 4, 96, 21, 6]
abbrev dktX2_hasText_3 : List UInt8 := dkwX2_hasText_3 ++ dktX2_hasText_4
def dkwX2_hasText_2 : List UInt8 := [54, 6, 21, 6, 42, 180, 0, 7, 21, 4, 46, 162, 0, 55, 21, 5, 153, 0, 50, 42, 42, 180, 0, 20]
abbrev dktX2_hasText_2 : List UInt8 := dkwX2_hasText_2 ++ dktX2_hasText_3
def dkwX2_hasText_1 : List UInt8 := [180, 0, 26, 27, 46, 42, 180, 0, 7, 21, 4, 46, 160, 0, 7, 4, 167, 0, 4, 3, 54, 5, 3]
abbrev dktX2_hasText_1 : List UInt8 := dkwX2_hasText_1 ++ dktX2_hasText_2
def dkwX2_hasText_0 : List UInt8 := [17, 2, 189, 16, 23, 28, 104, 96, 29, 96, 54, 4, 42, 180, 0, 29, 27, 46, 5, 162, 0, 23, 42]
abbrev dktX2_hasText_0 : List UInt8 := dkwX2_hasText_0 ++ dktX2_hasText_1
theorem dksX2_hasText_0 : cX2_hasText.data.toList.drop 0 = dktX2_hasText_0 := by decide +kernel
theorem dksX2_hasText_1 : cX2_hasText.data.toList.drop 23 = dktX2_hasText_1 := dk_seg dksX2_hasText_0 23 rfl rfl
theorem dksX2_hasText_2 : cX2_hasText.data.toList.drop 46 = dktX2_hasText_2 := dk_seg dksX2_hasText_1 23 rfl rfl
theorem dksX2_hasText_3 : cX2_hasText.data.toList.drop 70 = dktX2_hasText_3 := dk_seg dksX2_hasText_2 24 rfl rfl
theorem dksX2_hasText_4 : cX2_hasText.data.toList.drop 94 = dktX2_hasText_4 := dk_seg dksX2_hasText_3 24 rfl rfl
theorem dX2_hasText_0 : decode cX2_hasText 0 = .ok (.sipush 701, 3) := dk_17 2 189 (dk_at dksX2_hasText_0 0 rfl rfl)
theorem dX2_hasText_3 : decode cX2_hasText 3 = .ok (.bipush 23, 2) := dk_16 23 (dk_at dksX2_hasText_0 3 rfl rfl)
theorem dX2_hasText_5 : decode cX2_hasText 5 = .ok (.iload_n 2, 1) := dk_28 (dk_at dksX2_hasText_0 5 rfl rfl)
theorem dX2_hasText_6 : decode cX2_hasText 6 = .ok (.imul, 1) := dk_104 (dk_at dksX2_hasText_0 6 rfl rfl)
theorem dX2_hasText_7 : decode cX2_hasText 7 = .ok (.iadd, 1) := dk_96 (dk_at dksX2_hasText_0 7 rfl rfl)
theorem dX2_hasText_8 : decode cX2_hasText 8 = .ok (.iload_n 3, 1) := dk_29 (dk_at dksX2_hasText_0 8 rfl rfl)
theorem dX2_hasText_9 : decode cX2_hasText 9 = .ok (.iadd, 1) := dk_96 (dk_at dksX2_hasText_0 9 rfl rfl)
theorem dX2_hasText_10 : decode cX2_hasText 10 = .ok (.istore 4, 2) := dk_54 4 (dk_at dksX2_hasText_0 10 rfl rfl)
theorem dX2_hasText_12 : decode cX2_hasText 12 = .ok (.aload_n 0, 1) := dk_42 (dk_at dksX2_hasText_0 12 rfl rfl)
theorem dX2_hasText_13 : decode cX2_hasText 13 = .ok (.getfield 29, 3) := dk_180 0 29 (dk_at dksX2_hasText_0 13 rfl rfl)
theorem dX2_hasText_16 : decode cX2_hasText 16 = .ok (.iload_n 1, 1) := dk_27 (dk_at dksX2_hasText_0 16 rfl rfl)
theorem dX2_hasText_17 : decode cX2_hasText 17 = .ok (.iaload, 1) := dk_46 (dk_at dksX2_hasText_0 17 rfl rfl)
theorem dX2_hasText_18 : decode cX2_hasText 18 = .ok (.iconst 2, 1) := dk_5 (dk_at dksX2_hasText_0 18 rfl rfl)
theorem dX2_hasText_19 : decode cX2_hasText 19 = .ok (.if_icmp .ge 23, 3) := dk_162 0 23 (dk_at dksX2_hasText_0 19 rfl rfl)
theorem dX2_hasText_22 : decode cX2_hasText 22 = .ok (.aload_n 0, 1) := dk_42 (dk_at dksX2_hasText_0 22 rfl rfl)
theorem dX2_hasText_23 : decode cX2_hasText 23 = .ok (.getfield 26, 3) := dk_180 0 26 (dk_at dksX2_hasText_1 0 rfl rfl)
theorem dX2_hasText_26 : decode cX2_hasText 26 = .ok (.iload_n 1, 1) := dk_27 (dk_at dksX2_hasText_1 3 rfl rfl)
theorem dX2_hasText_27 : decode cX2_hasText 27 = .ok (.iaload, 1) := dk_46 (dk_at dksX2_hasText_1 4 rfl rfl)
theorem dX2_hasText_28 : decode cX2_hasText 28 = .ok (.aload_n 0, 1) := dk_42 (dk_at dksX2_hasText_1 5 rfl rfl)
theorem dX2_hasText_29 : decode cX2_hasText 29 = .ok (.getfield 7, 3) := dk_180 0 7 (dk_at dksX2_hasText_1 6 rfl rfl)
theorem dX2_hasText_32 : decode cX2_hasText 32 = .ok (.iload 4, 2) := dk_21 4 (dk_at dksX2_hasText_1 9 rfl rfl)
theorem dX2_hasText_34 : decode cX2_hasText 34 = .ok (.iaload, 1) := dk_46 (dk_at dksX2_hasText_1 11 rfl rfl)
theorem dX2_hasText_35 : decode cX2_hasText 35 = .ok (.if_icmp .ne 7, 3) := dk_160 0 7 (dk_at dksX2_hasText_1 12 rfl rfl)
theorem dX2_hasText_38 : decode cX2_hasText 38 = .ok (.iconst 1, 1) := dk_4 (dk_at dksX2_hasText_1 15 rfl rfl)
theorem dX2_hasText_39 : decode cX2_hasText 39 = .ok (.goto 4, 3) := dk_167 0 4 (dk_at dksX2_hasText_1 16 rfl rfl)
theorem dX2_hasText_42 : decode cX2_hasText 42 = .ok (.iconst 0, 1) := dk_3 (dk_at dksX2_hasText_1 19 rfl rfl)
theorem dX2_hasText_43 : decode cX2_hasText 43 = .ok (.istore 5, 2) := dk_54 5 (dk_at dksX2_hasText_1 20 rfl rfl)
theorem dX2_hasText_45 : decode cX2_hasText 45 = .ok (.iconst 0, 1) := dk_3 (dk_at dksX2_hasText_1 22 rfl rfl)
theorem dX2_hasText_46 : decode cX2_hasText 46 = .ok (.istore 6, 2) := dk_54 6 (dk_at dksX2_hasText_2 0 rfl rfl)
theorem dX2_hasText_48 : decode cX2_hasText 48 = .ok (.iload 6, 2) := dk_21 6 (dk_at dksX2_hasText_2 2 rfl rfl)
theorem dX2_hasText_50 : decode cX2_hasText 50 = .ok (.aload_n 0, 1) := dk_42 (dk_at dksX2_hasText_2 4 rfl rfl)
theorem dX2_hasText_51 : decode cX2_hasText 51 = .ok (.getfield 7, 3) := dk_180 0 7 (dk_at dksX2_hasText_2 5 rfl rfl)
theorem dX2_hasText_54 : decode cX2_hasText 54 = .ok (.iload 4, 2) := dk_21 4 (dk_at dksX2_hasText_2 8 rfl rfl)
theorem dX2_hasText_56 : decode cX2_hasText 56 = .ok (.iaload, 1) := dk_46 (dk_at dksX2_hasText_2 10 rfl rfl)
theorem dX2_hasText_57 : decode cX2_hasText 57 = .ok (.if_icmp .ge 55, 3) := dk_162 0 55 (dk_at dksX2_hasText_2 11 rfl rfl)
theorem dX2_hasText_60 : decode cX2_hasText 60 = .ok (.iload 5, 2) := dk_21 5 (dk_at dksX2_hasText_2 14 rfl rfl)
theorem dX2_hasText_62 : decode cX2_hasText 62 = .ok (.ifCond .eq 50, 3) := dk_153 0 50 (dk_at dksX2_hasText_2 16 rfl rfl)
theorem dX2_hasText_65 : decode cX2_hasText 65 = .ok (.aload_n 0, 1) := dk_42 (dk_at dksX2_hasText_2 19 rfl rfl)
theorem dX2_hasText_66 : decode cX2_hasText 66 = .ok (.aload_n 0, 1) := dk_42 (dk_at dksX2_hasText_2 20 rfl rfl)
theorem dX2_hasText_67 : decode cX2_hasText 67 = .ok (.getfield 20, 3) := dk_180 0 20 (dk_at dksX2_hasText_2 21 rfl rfl)
theorem dX2_hasText_70 : decode cX2_hasText 70 = .ok (.iload_n 1, 1) := dk_27 (dk_at dksX2_hasText_3 0 rfl rfl)
theorem dX2_hasText_71 : decode cX2_hasText 71 = .ok (.iaload, 1) := dk_46 (dk_at dksX2_hasText_3 1 rfl rfl)
theorem dX2_hasText_72 : decode cX2_hasText 72 = .ok (.aload_n 0, 1) := dk_42 (dk_at dksX2_hasText_3 2 rfl rfl)
theorem dX2_hasText_73 : decode cX2_hasText 73 = .ok (.getfield 23, 3) := dk_180 0 23 (dk_at dksX2_hasText_3 3 rfl rfl)
theorem dX2_hasText_76 : decode cX2_hasText 76 = .ok (.iload_n 1, 1) := dk_27 (dk_at dksX2_hasText_3 6 rfl rfl)
theorem dX2_hasText_77 : decode cX2_hasText 77 = .ok (.iaload, 1) := dk_46 (dk_at dksX2_hasText_3 7 rfl rfl)
theorem dX2_hasText_78 : decode cX2_hasText 78 = .ok (.iload 6, 2) := dk_21 6 (dk_at dksX2_hasText_3 8 rfl rfl)
theorem dX2_hasText_80 : decode cX2_hasText 80 = .ok (.iadd, 1) := dk_96 (dk_at dksX2_hasText_3 10 rfl rfl)
theorem dX2_hasText_81 : decode cX2_hasText 81 = .ok (.invokevirtual 83, 3) := dk_182 0 83 (dk_at dksX2_hasText_3 11 rfl rfl)
theorem dX2_hasText_84 : decode cX2_hasText 84 = .ok (.aload_n 0, 1) := dk_42 (dk_at dksX2_hasText_3 14 rfl rfl)
theorem dX2_hasText_85 : decode cX2_hasText 85 = .ok (.getfield 7, 3) := dk_180 0 7 (dk_at dksX2_hasText_3 15 rfl rfl)
theorem dX2_hasText_88 : decode cX2_hasText 88 = .ok (.iload 4, 2) := dk_21 4 (dk_at dksX2_hasText_3 18 rfl rfl)
theorem dX2_hasText_90 : decode cX2_hasText 90 = .ok (.iconst 1, 1) := dk_4 (dk_at dksX2_hasText_3 20 rfl rfl)
theorem dX2_hasText_91 : decode cX2_hasText 91 = .ok (.iadd, 1) := dk_96 (dk_at dksX2_hasText_3 21 rfl rfl)
theorem dX2_hasText_92 : decode cX2_hasText 92 = .ok (.iload 6, 2) := dk_21 6 (dk_at dksX2_hasText_3 22 rfl rfl)
theorem dX2_hasText_94 : decode cX2_hasText 94 = .ok (.iadd, 1) := dk_96 (dk_at dksX2_hasText_4 0 rfl rfl)
theorem dX2_hasText_95 : decode cX2_hasText 95 = .ok (.iaload, 1) := dk_46 (dk_at dksX2_hasText_4 1 rfl rfl)
theorem dX2_hasText_96 : decode cX2_hasText 96 = .ok (.if_icmp .ne 7, 3) := dk_160 0 7 (dk_at dksX2_hasText_4 2 rfl rfl)
theorem dX2_hasText_99 : decode cX2_hasText 99 = .ok (.iconst 1, 1) := dk_4 (dk_at dksX2_hasText_4 5 rfl rfl)
theorem dX2_hasText_100 : decode cX2_hasText 100 = .ok (.goto 4, 3) := dk_167 0 4 (dk_at dksX2_hasText_4 6 rfl rfl)
theorem dX2_hasText_103 : decode cX2_hasText 103 = .ok (.iconst 0, 1) := dk_3 (dk_at dksX2_hasText_4 9 rfl rfl)
theorem dX2_hasText_104 : decode cX2_hasText 104 = .ok (.istore 5, 2) := dk_54 5 (dk_at dksX2_hasText_4 10 rfl rfl)
theorem dX2_hasText_106 : decode cX2_hasText 106 = .ok (.iinc 6 1, 3) := dk_132 6 1 (dk_at dksX2_hasText_4 12 rfl rfl)
theorem dX2_hasText_109 : decode cX2_hasText 109 = .ok (.goto (-61), 3) := dk_167 255 195 (dk_at dksX2_hasText_4 15 rfl rfl)
theorem dX2_hasText_112 : decode cX2_hasText 112 = .ok (.iload 5, 2) := dk_21 5 (dk_at dksX2_hasText_4 18 rfl rfl)
theorem dX2_hasText_114 : decode cX2_hasText 114 = .ok (.ireturn, 1) := dk_172 (dk_at dksX2_hasText_4 20 rfl rfl)
abbrev cX2_ruleAt : ByteArray := prog_10_method_19_code
def yX2_ruleAt : MethodName := ⟨RX2, "ruleAt", "(II)I"⟩
def dkwX2_ruleAt_0 : List UInt8 := [42, 180, 0, 7, 17, 2, 189, 16, 23, 27, 104, 96, 28, 96, 46, 172]
abbrev dktX2_ruleAt_0 : List UInt8 := dkwX2_ruleAt_0 ++ []
theorem dksX2_ruleAt_0 : cX2_ruleAt.data.toList.drop 0 = dktX2_ruleAt_0 := by decide +kernel
theorem dX2_ruleAt_0 : decode cX2_ruleAt 0 = .ok (.aload_n 0, 1) := dk_42 (dk_at dksX2_ruleAt_0 0 rfl rfl)
theorem dX2_ruleAt_1 : decode cX2_ruleAt 1 = .ok (.getfield 7, 3) := dk_180 0 7 (dk_at dksX2_ruleAt_0 1 rfl rfl)
theorem dX2_ruleAt_4 : decode cX2_ruleAt 4 = .ok (.sipush 701, 3) := dk_17 2 189 (dk_at dksX2_ruleAt_0 4 rfl rfl)
theorem dX2_ruleAt_7 : decode cX2_ruleAt 7 = .ok (.bipush 23, 2) := dk_16 23 (dk_at dksX2_ruleAt_0 7 rfl rfl)
theorem dX2_ruleAt_9 : decode cX2_ruleAt 9 = .ok (.iload_n 1, 1) := dk_27 (dk_at dksX2_ruleAt_0 9 rfl rfl)
theorem dX2_ruleAt_10 : decode cX2_ruleAt 10 = .ok (.imul, 1) := dk_104 (dk_at dksX2_ruleAt_0 10 rfl rfl)
theorem dX2_ruleAt_11 : decode cX2_ruleAt 11 = .ok (.iadd, 1) := dk_96 (dk_at dksX2_ruleAt_0 11 rfl rfl)
theorem dX2_ruleAt_12 : decode cX2_ruleAt 12 = .ok (.iload_n 2, 1) := dk_28 (dk_at dksX2_ruleAt_0 12 rfl rfl)
theorem dX2_ruleAt_13 : decode cX2_ruleAt 13 = .ok (.iadd, 1) := dk_96 (dk_at dksX2_ruleAt_0 13 rfl rfl)
theorem dX2_ruleAt_14 : decode cX2_ruleAt 14 = .ok (.iaload, 1) := dk_46 (dk_at dksX2_ruleAt_0 14 rfl rfl)
theorem dX2_ruleAt_15 : decode cX2_ruleAt 15 = .ok (.ireturn, 1) := dk_172 (dk_at dksX2_ruleAt_0 15 rfl rfl)
abbrev cX2_isClosingText : ByteArray := prog_10_method_21_code
def yX2_isClosingText : MethodName := ⟨RX2, "isClosingText", "(I)Z"⟩
def dkwX2_isClosingText_2 : List UInt8 := [172]
abbrev dktX2_isClosingText_2 : List UInt8 := dkwX2_isClosingText_2 ++ []
def dkwX2_isClosingText_1 : List UInt8 := [42, 27, 29, 16, 14, 182, 0, 123, 153, 0, 7, 4, 167, 0, 4, 3, 61, 132, 3, 1, 167, 255, 216, 28]
abbrev dktX2_isClosingText_1 : List UInt8 := dkwX2_isClosingText_1 ++ dktX2_isClosingText_2
def dkwX2_isClosingText_0 : List UInt8 := [3, 61, 3, 62, 29, 16, 12, 162, 0, 40, 28, 154, 0, 24, 42, 29, 3, 182, 0, 120, 4, 160, 0, 18]
abbrev dktX2_isClosingText_0 : List UInt8 := dkwX2_isClosingText_0 ++ dktX2_isClosingText_1
theorem dksX2_isClosingText_0 : cX2_isClosingText.data.toList.drop 0 = dktX2_isClosingText_0 := by decide +kernel
theorem dksX2_isClosingText_1 : cX2_isClosingText.data.toList.drop 24 = dktX2_isClosingText_1 := dk_seg dksX2_isClosingText_0 24 rfl rfl
theorem dksX2_isClosingText_2 : cX2_isClosingText.data.toList.drop 48 = dktX2_isClosingText_2 := dk_seg dksX2_isClosingText_1 24 rfl rfl
theorem dX2_isClosingText_0 : decode cX2_isClosingText 0 = .ok (.iconst 0, 1) := dk_3 (dk_at dksX2_isClosingText_0 0 rfl rfl)
theorem dX2_isClosingText_1 : decode cX2_isClosingText 1 = .ok (.istore_n 2, 1) := dk_61 (dk_at dksX2_isClosingText_0 1 rfl rfl)
theorem dX2_isClosingText_2 : decode cX2_isClosingText 2 = .ok (.iconst 0, 1) := dk_3 (dk_at dksX2_isClosingText_0 2 rfl rfl)
theorem dX2_isClosingText_3 : decode cX2_isClosingText 3 = .ok (.istore_n 3, 1) := dk_62 (dk_at dksX2_isClosingText_0 3 rfl rfl)
theorem dX2_isClosingText_4 : decode cX2_isClosingText 4 = .ok (.iload_n 3, 1) := dk_29 (dk_at dksX2_isClosingText_0 4 rfl rfl)
theorem dX2_isClosingText_5 : decode cX2_isClosingText 5 = .ok (.bipush 12, 2) := dk_16 12 (dk_at dksX2_isClosingText_0 5 rfl rfl)
theorem dX2_isClosingText_7 : decode cX2_isClosingText 7 = .ok (.if_icmp .ge 40, 3) := dk_162 0 40 (dk_at dksX2_isClosingText_0 7 rfl rfl)
theorem dX2_isClosingText_10 : decode cX2_isClosingText 10 = .ok (.iload_n 2, 1) := dk_28 (dk_at dksX2_isClosingText_0 10 rfl rfl)
theorem dX2_isClosingText_11 : decode cX2_isClosingText 11 = .ok (.ifCond .ne 24, 3) := dk_154 0 24 (dk_at dksX2_isClosingText_0 11 rfl rfl)
theorem dX2_isClosingText_14 : decode cX2_isClosingText 14 = .ok (.aload_n 0, 1) := dk_42 (dk_at dksX2_isClosingText_0 14 rfl rfl)
theorem dX2_isClosingText_15 : decode cX2_isClosingText 15 = .ok (.iload_n 3, 1) := dk_29 (dk_at dksX2_isClosingText_0 15 rfl rfl)
theorem dX2_isClosingText_16 : decode cX2_isClosingText 16 = .ok (.iconst 0, 1) := dk_3 (dk_at dksX2_isClosingText_0 16 rfl rfl)
theorem dX2_isClosingText_17 : decode cX2_isClosingText 17 = .ok (.invokevirtual 120, 3) := dk_182 0 120 (dk_at dksX2_isClosingText_0 17 rfl rfl)
theorem dX2_isClosingText_20 : decode cX2_isClosingText 20 = .ok (.iconst 1, 1) := dk_4 (dk_at dksX2_isClosingText_0 20 rfl rfl)
theorem dX2_isClosingText_21 : decode cX2_isClosingText 21 = .ok (.if_icmp .ne 18, 3) := dk_160 0 18 (dk_at dksX2_isClosingText_0 21 rfl rfl)
theorem dX2_isClosingText_24 : decode cX2_isClosingText 24 = .ok (.aload_n 0, 1) := dk_42 (dk_at dksX2_isClosingText_1 0 rfl rfl)
theorem dX2_isClosingText_25 : decode cX2_isClosingText 25 = .ok (.iload_n 1, 1) := dk_27 (dk_at dksX2_isClosingText_1 1 rfl rfl)
theorem dX2_isClosingText_26 : decode cX2_isClosingText 26 = .ok (.iload_n 3, 1) := dk_29 (dk_at dksX2_isClosingText_1 2 rfl rfl)
theorem dX2_isClosingText_27 : decode cX2_isClosingText 27 = .ok (.bipush 14, 2) := dk_16 14 (dk_at dksX2_isClosingText_1 3 rfl rfl)
theorem dX2_isClosingText_29 : decode cX2_isClosingText 29 = .ok (.invokevirtual 123, 3) := dk_182 0 123 (dk_at dksX2_isClosingText_1 5 rfl rfl)
theorem dX2_isClosingText_32 : decode cX2_isClosingText 32 = .ok (.ifCond .eq 7, 3) := dk_153 0 7 (dk_at dksX2_isClosingText_1 8 rfl rfl)
theorem dX2_isClosingText_35 : decode cX2_isClosingText 35 = .ok (.iconst 1, 1) := dk_4 (dk_at dksX2_isClosingText_1 11 rfl rfl)
theorem dX2_isClosingText_36 : decode cX2_isClosingText 36 = .ok (.goto 4, 3) := dk_167 0 4 (dk_at dksX2_isClosingText_1 12 rfl rfl)
theorem dX2_isClosingText_39 : decode cX2_isClosingText 39 = .ok (.iconst 0, 1) := dk_3 (dk_at dksX2_isClosingText_1 15 rfl rfl)
theorem dX2_isClosingText_40 : decode cX2_isClosingText 40 = .ok (.istore_n 2, 1) := dk_61 (dk_at dksX2_isClosingText_1 16 rfl rfl)
theorem dX2_isClosingText_41 : decode cX2_isClosingText 41 = .ok (.iinc 3 1, 3) := dk_132 3 1 (dk_at dksX2_isClosingText_1 17 rfl rfl)
theorem dX2_isClosingText_44 : decode cX2_isClosingText 44 = .ok (.goto (-40), 3) := dk_167 255 216 (dk_at dksX2_isClosingText_1 20 rfl rfl)
theorem dX2_isClosingText_47 : decode cX2_isClosingText 47 = .ok (.iload_n 2, 1) := dk_28 (dk_at dksX2_isClosingText_1 23 rfl rfl)
theorem dX2_isClosingText_48 : decode cX2_isClosingText 48 = .ok (.ireturn, 1) := dk_172 (dk_at dksX2_isClosingText_2 0 rfl rfl)
abbrev cX2_ruleFor : ByteArray := prog_10_method_20_code
def yX2_ruleFor : MethodName := ⟨RX2, "ruleFor", "(II)I"⟩
def dkwX2_ruleFor_3 : List UInt8 := [167, 0, 4, 29, 62, 132, 4, 1, 167, 255, 183, 29, 172]
abbrev dktX2_ruleFor_3 : List UInt8 := dkwX2_ruleFor_3 ++ []
def dkwX2_ruleFor_2 : List UInt8 := [16, 247, 159, 0, 19, 42, 21, 4, 4, 182, 0, 120, 42, 29, 4, 182, 0, 120, 164, 0, 8, 21, 4]
abbrev dktX2_ruleFor_2 : List UInt8 := dkwX2_ruleFor_2 ++ dktX2_ruleFor_3
def dkwX2_ruleFor_1 : List UInt8 := [42, 27, 21, 4, 8, 182, 0, 123, 153, 0, 7, 4, 167, 0, 4, 3, 54, 5, 21, 5, 153, 0, 30, 29]
abbrev dktX2_ruleFor_1 : List UInt8 := dkwX2_ruleFor_1 ++ dktX2_ruleFor_2
def dkwX2_ruleFor_0 : List UInt8 := [16, 247, 62, 3, 54, 4, 21, 4, 16, 12, 162, 0, 72, 42, 21, 4, 3, 182, 0, 120, 28, 160, 0, 18]
abbrev dktX2_ruleFor_0 : List UInt8 := dkwX2_ruleFor_0 ++ dktX2_ruleFor_1
theorem dksX2_ruleFor_0 : cX2_ruleFor.data.toList.drop 0 = dktX2_ruleFor_0 := by decide +kernel
theorem dksX2_ruleFor_1 : cX2_ruleFor.data.toList.drop 24 = dktX2_ruleFor_1 := dk_seg dksX2_ruleFor_0 24 rfl rfl
theorem dksX2_ruleFor_2 : cX2_ruleFor.data.toList.drop 48 = dktX2_ruleFor_2 := dk_seg dksX2_ruleFor_1 24 rfl rfl
theorem dksX2_ruleFor_3 : cX2_ruleFor.data.toList.drop 71 = dktX2_ruleFor_3 := dk_seg dksX2_ruleFor_2 23 rfl rfl
theorem dX2_ruleFor_0 : decode cX2_ruleFor 0 = .ok (.bipush (-9), 2) := dk_16 247 (dk_at dksX2_ruleFor_0 0 rfl rfl)
theorem dX2_ruleFor_2 : decode cX2_ruleFor 2 = .ok (.istore_n 3, 1) := dk_62 (dk_at dksX2_ruleFor_0 2 rfl rfl)
theorem dX2_ruleFor_3 : decode cX2_ruleFor 3 = .ok (.iconst 0, 1) := dk_3 (dk_at dksX2_ruleFor_0 3 rfl rfl)
theorem dX2_ruleFor_4 : decode cX2_ruleFor 4 = .ok (.istore 4, 2) := dk_54 4 (dk_at dksX2_ruleFor_0 4 rfl rfl)
theorem dX2_ruleFor_6 : decode cX2_ruleFor 6 = .ok (.iload 4, 2) := dk_21 4 (dk_at dksX2_ruleFor_0 6 rfl rfl)
theorem dX2_ruleFor_8 : decode cX2_ruleFor 8 = .ok (.bipush 12, 2) := dk_16 12 (dk_at dksX2_ruleFor_0 8 rfl rfl)
theorem dX2_ruleFor_10 : decode cX2_ruleFor 10 = .ok (.if_icmp .ge 72, 3) := dk_162 0 72 (dk_at dksX2_ruleFor_0 10 rfl rfl)
theorem dX2_ruleFor_13 : decode cX2_ruleFor 13 = .ok (.aload_n 0, 1) := dk_42 (dk_at dksX2_ruleFor_0 13 rfl rfl)
theorem dX2_ruleFor_14 : decode cX2_ruleFor 14 = .ok (.iload 4, 2) := dk_21 4 (dk_at dksX2_ruleFor_0 14 rfl rfl)
theorem dX2_ruleFor_16 : decode cX2_ruleFor 16 = .ok (.iconst 0, 1) := dk_3 (dk_at dksX2_ruleFor_0 16 rfl rfl)
theorem dX2_ruleFor_17 : decode cX2_ruleFor 17 = .ok (.invokevirtual 120, 3) := dk_182 0 120 (dk_at dksX2_ruleFor_0 17 rfl rfl)
theorem dX2_ruleFor_20 : decode cX2_ruleFor 20 = .ok (.iload_n 2, 1) := dk_28 (dk_at dksX2_ruleFor_0 20 rfl rfl)
theorem dX2_ruleFor_21 : decode cX2_ruleFor 21 = .ok (.if_icmp .ne 18, 3) := dk_160 0 18 (dk_at dksX2_ruleFor_0 21 rfl rfl)
theorem dX2_ruleFor_24 : decode cX2_ruleFor 24 = .ok (.aload_n 0, 1) := dk_42 (dk_at dksX2_ruleFor_1 0 rfl rfl)
theorem dX2_ruleFor_25 : decode cX2_ruleFor 25 = .ok (.iload_n 1, 1) := dk_27 (dk_at dksX2_ruleFor_1 1 rfl rfl)
theorem dX2_ruleFor_26 : decode cX2_ruleFor 26 = .ok (.iload 4, 2) := dk_21 4 (dk_at dksX2_ruleFor_1 2 rfl rfl)
theorem dX2_ruleFor_28 : decode cX2_ruleFor 28 = .ok (.iconst 5, 1) := dk_8 (dk_at dksX2_ruleFor_1 4 rfl rfl)
theorem dX2_ruleFor_29 : decode cX2_ruleFor 29 = .ok (.invokevirtual 123, 3) := dk_182 0 123 (dk_at dksX2_ruleFor_1 5 rfl rfl)
theorem dX2_ruleFor_32 : decode cX2_ruleFor 32 = .ok (.ifCond .eq 7, 3) := dk_153 0 7 (dk_at dksX2_ruleFor_1 8 rfl rfl)
theorem dX2_ruleFor_35 : decode cX2_ruleFor 35 = .ok (.iconst 1, 1) := dk_4 (dk_at dksX2_ruleFor_1 11 rfl rfl)
theorem dX2_ruleFor_36 : decode cX2_ruleFor 36 = .ok (.goto 4, 3) := dk_167 0 4 (dk_at dksX2_ruleFor_1 12 rfl rfl)
theorem dX2_ruleFor_39 : decode cX2_ruleFor 39 = .ok (.iconst 0, 1) := dk_3 (dk_at dksX2_ruleFor_1 15 rfl rfl)
theorem dX2_ruleFor_40 : decode cX2_ruleFor 40 = .ok (.istore 5, 2) := dk_54 5 (dk_at dksX2_ruleFor_1 16 rfl rfl)
theorem dX2_ruleFor_42 : decode cX2_ruleFor 42 = .ok (.iload 5, 2) := dk_21 5 (dk_at dksX2_ruleFor_1 18 rfl rfl)
theorem dX2_ruleFor_44 : decode cX2_ruleFor 44 = .ok (.ifCond .eq 30, 3) := dk_153 0 30 (dk_at dksX2_ruleFor_1 20 rfl rfl)
theorem dX2_ruleFor_47 : decode cX2_ruleFor 47 = .ok (.iload_n 3, 1) := dk_29 (dk_at dksX2_ruleFor_1 23 rfl rfl)
theorem dX2_ruleFor_48 : decode cX2_ruleFor 48 = .ok (.bipush (-9), 2) := dk_16 247 (dk_at dksX2_ruleFor_2 0 rfl rfl)
theorem dX2_ruleFor_50 : decode cX2_ruleFor 50 = .ok (.if_icmp .eq 19, 3) := dk_159 0 19 (dk_at dksX2_ruleFor_2 2 rfl rfl)
theorem dX2_ruleFor_53 : decode cX2_ruleFor 53 = .ok (.aload_n 0, 1) := dk_42 (dk_at dksX2_ruleFor_2 5 rfl rfl)
theorem dX2_ruleFor_54 : decode cX2_ruleFor 54 = .ok (.iload 4, 2) := dk_21 4 (dk_at dksX2_ruleFor_2 6 rfl rfl)
theorem dX2_ruleFor_56 : decode cX2_ruleFor 56 = .ok (.iconst 1, 1) := dk_4 (dk_at dksX2_ruleFor_2 8 rfl rfl)
theorem dX2_ruleFor_57 : decode cX2_ruleFor 57 = .ok (.invokevirtual 120, 3) := dk_182 0 120 (dk_at dksX2_ruleFor_2 9 rfl rfl)
theorem dX2_ruleFor_60 : decode cX2_ruleFor 60 = .ok (.aload_n 0, 1) := dk_42 (dk_at dksX2_ruleFor_2 12 rfl rfl)
theorem dX2_ruleFor_61 : decode cX2_ruleFor 61 = .ok (.iload_n 3, 1) := dk_29 (dk_at dksX2_ruleFor_2 13 rfl rfl)
theorem dX2_ruleFor_62 : decode cX2_ruleFor 62 = .ok (.iconst 1, 1) := dk_4 (dk_at dksX2_ruleFor_2 14 rfl rfl)
theorem dX2_ruleFor_63 : decode cX2_ruleFor 63 = .ok (.invokevirtual 120, 3) := dk_182 0 120 (dk_at dksX2_ruleFor_2 15 rfl rfl)
theorem dX2_ruleFor_66 : decode cX2_ruleFor 66 = .ok (.if_icmp .le 8, 3) := dk_164 0 8 (dk_at dksX2_ruleFor_2 18 rfl rfl)
theorem dX2_ruleFor_69 : decode cX2_ruleFor 69 = .ok (.iload 4, 2) := dk_21 4 (dk_at dksX2_ruleFor_2 21 rfl rfl)
theorem dX2_ruleFor_71 : decode cX2_ruleFor 71 = .ok (.goto 4, 3) := dk_167 0 4 (dk_at dksX2_ruleFor_3 0 rfl rfl)
theorem dX2_ruleFor_74 : decode cX2_ruleFor 74 = .ok (.iload_n 3, 1) := dk_29 (dk_at dksX2_ruleFor_3 3 rfl rfl)
theorem dX2_ruleFor_75 : decode cX2_ruleFor 75 = .ok (.istore_n 3, 1) := dk_62 (dk_at dksX2_ruleFor_3 4 rfl rfl)
theorem dX2_ruleFor_76 : decode cX2_ruleFor 76 = .ok (.iinc 4 1, 3) := dk_132 4 1 (dk_at dksX2_ruleFor_3 5 rfl rfl)
theorem dX2_ruleFor_79 : decode cX2_ruleFor 79 = .ok (.goto (-73), 3) := dk_167 255 183 (dk_at dksX2_ruleFor_3 8 rfl rfl)
theorem dX2_ruleFor_82 : decode cX2_ruleFor 82 = .ok (.iload_n 3, 1) := dk_29 (dk_at dksX2_ruleFor_3 11 rfl rfl)
theorem dX2_ruleFor_83 : decode cX2_ruleFor 83 = .ok (.ireturn, 1) := dk_172 (dk_at dksX2_ruleFor_3 12 rfl rfl)
abbrev cX2_isFree : ByteArray := prog_10_method_31_code
def yX2_isFree : MethodName := ⟨RX2, "isFree", "(I)Z"⟩
def dkwX2_isFree_0 : List UInt8 := [42, 27, 182, 0, 114, 154, 0, 16, 42, 180, 0, 44, 27, 51, 154, 0, 7, 4, 167, 0, 4, 3, 172]
abbrev dktX2_isFree_0 : List UInt8 := dkwX2_isFree_0 ++ []
theorem dksX2_isFree_0 : cX2_isFree.data.toList.drop 0 = dktX2_isFree_0 := by decide +kernel
theorem dX2_isFree_0 : decode cX2_isFree 0 = .ok (.aload_n 0, 1) := dk_42 (dk_at dksX2_isFree_0 0 rfl rfl)
theorem dX2_isFree_1 : decode cX2_isFree 1 = .ok (.iload_n 1, 1) := dk_27 (dk_at dksX2_isFree_0 1 rfl rfl)
theorem dX2_isFree_2 : decode cX2_isFree 2 = .ok (.invokevirtual 114, 3) := dk_182 0 114 (dk_at dksX2_isFree_0 2 rfl rfl)
theorem dX2_isFree_5 : decode cX2_isFree 5 = .ok (.ifCond .ne 16, 3) := dk_154 0 16 (dk_at dksX2_isFree_0 5 rfl rfl)
theorem dX2_isFree_8 : decode cX2_isFree 8 = .ok (.aload_n 0, 1) := dk_42 (dk_at dksX2_isFree_0 8 rfl rfl)
theorem dX2_isFree_9 : decode cX2_isFree 9 = .ok (.getfield 44, 3) := dk_180 0 44 (dk_at dksX2_isFree_0 9 rfl rfl)
theorem dX2_isFree_12 : decode cX2_isFree 12 = .ok (.iload_n 1, 1) := dk_27 (dk_at dksX2_isFree_0 12 rfl rfl)
theorem dX2_isFree_13 : decode cX2_isFree 13 = .ok (.baload, 1) := dk_51 (dk_at dksX2_isFree_0 13 rfl rfl)
theorem dX2_isFree_14 : decode cX2_isFree 14 = .ok (.ifCond .ne 7, 3) := dk_154 0 7 (dk_at dksX2_isFree_0 14 rfl rfl)
theorem dX2_isFree_17 : decode cX2_isFree 17 = .ok (.iconst 1, 1) := dk_4 (dk_at dksX2_isFree_0 17 rfl rfl)
theorem dX2_isFree_18 : decode cX2_isFree 18 = .ok (.goto 4, 3) := dk_167 0 4 (dk_at dksX2_isFree_0 18 rfl rfl)
theorem dX2_isFree_21 : decode cX2_isFree 21 = .ok (.iconst 0, 1) := dk_3 (dk_at dksX2_isFree_0 21 rfl rfl)
theorem dX2_isFree_22 : decode cX2_isFree 22 = .ok (.ireturn, 1) := dk_172 (dk_at dksX2_isFree_0 22 rfl rfl)
abbrev cX2_decides : ByteArray := prog_10_method_30_code
def yX2_decides : MethodName := ⟨RX2, "decides", "(I)V"⟩
def dkwX2_decides_21 : List UInt8 := [181, 0, 170, 177]
abbrev dktX2_decides_21 : List UInt8 := dkwX2_decides_21 ++ []
def dkwX2_decides_20 : List UInt8 := [182, 0, 182, 42, 42, 180, 0, 170, 156, 0, 7, 3, 167, 0, 12, 42, 180, 0, 170, 16, 40, 184, 0, 91]
abbrev dktX2_decides_20 : List UInt8 := dkwX2_decides_20 ++ dktX2_decides_21
def dkwX2_decides_19 : List UInt8 := [5, 167, 0, 4, 4, 21, 5, 16, 247, 160, 0, 8, 16, 247, 167, 0, 10, 42, 180, 0, 32, 21, 5, 46]
abbrev dktX2_decides_19 : List UInt8 := dkwX2_decides_19 ++ dktX2_decides_20
def dkwX2_decides_18 : List UInt8 := [42, 2, 21, 6, 21, 5, 16, 247, 160, 0, 7, 3, 167, 0, 17, 42, 21, 5, 182, 0, 160, 153, 0, 7]
abbrev dktX2_decides_18 : List UInt8 := dkwX2_decides_18 ++ dktX2_decides_19
def dkwX2_decides_17 : List UInt8 := [182, 0, 120, 21, 6, 42, 21, 10, 5, 182, 0, 120, 42, 180, 0, 154, 104, 96, 8, 21, 10, 182, 0, 182]
abbrev dktX2_decides_17 : List UInt8 := dkwX2_decides_17 ++ dktX2_decides_18
def dkwX2_decides_16 : List UInt8 := [182, 0, 148, 167, 0, 5, 16, 247, 54, 10, 21, 10, 16, 247, 159, 0, 32, 42, 42, 21, 10, 4]
abbrev dktX2_decides_16 : List UInt8 := dkwX2_decides_16 ++ dktX2_decides_17
def dkwX2_decides_15 : List UInt8 := [158, 0, 29, 42, 180, 0, 32, 21, 7, 4, 100, 46, 16, 247, 160, 0, 15, 42, 21, 7, 4, 100, 6]
abbrev dktX2_decides_15 : List UInt8 := dkwX2_decides_15 ++ dktX2_decides_16
def dkwX2_decides_14 : List UInt8 := [182, 0, 120, 42, 180, 0, 154, 104, 96, 7, 21, 9, 182, 0, 182, 21, 8, 153, 0, 34, 21, 7]
abbrev dktX2_decides_14 : List UInt8 := dkwX2_decides_14 ++ dktX2_decides_15
def dkwX2_decides_13 : List UInt8 := [54, 9, 21, 9, 16, 247, 159, 0, 32, 42, 42, 21, 9, 4, 182, 0, 120, 21, 6, 42, 21, 9, 5]
abbrev dktX2_decides_13 : List UInt8 := dkwX2_decides_13 ++ dktX2_decides_14
def dkwX2_decides_12 : List UInt8 := [167, 0, 4, 3, 54, 8, 21, 8, 153, 0, 13, 42, 21, 7, 5, 182, 0, 148, 167, 0, 5, 16, 247]
abbrev dktX2_decides_12 : List UInt8 := dkwX2_decides_12 ++ dktX2_decides_13
def dkwX2_decides_11 : List UInt8 := [42, 180, 0, 41, 27, 46, 54, 7, 21, 7, 42, 180, 0, 41, 27, 4, 96, 46, 162, 0, 7, 4]
abbrev dktX2_decides_11 : List UInt8 := dkwX2_decides_11 ++ dktX2_decides_12
def dkwX2_decides_10 : List UInt8 := [42, 42, 42, 180, 0, 32, 29, 46, 4, 182, 0, 120, 21, 8, 6, 42, 180, 0, 32, 29, 46, 182, 0, 182]
abbrev dktX2_decides_10 : List UInt8 := dkwX2_decides_10 ++ dktX2_decides_11
def dkwX2_decides_9 : List UInt8 := [167, 0, 22, 21, 7, 4, 160, 0, 11, 42, 29, 182, 0, 179, 167, 0, 8, 42, 29, 182, 0, 163, 54, 8]
abbrev dktX2_decides_9 : List UInt8 := dkwX2_decides_9 ++ dktX2_decides_10
def dkwX2_decides_8 : List UInt8 := [7, 182, 0, 120, 54, 7, 21, 7, 154, 0, 17, 42, 180, 0, 56, 42, 180, 0, 20, 29, 46, 46]
abbrev dktX2_decides_8 : List UInt8 := dkwX2_decides_8 ++ dktX2_decides_9
def dkwX2_decides_7 : List UInt8 := [182, 0, 179, 54, 6, 42, 16, 254, 181, 0, 167, 29, 16, 247, 159, 0, 80, 42, 42, 180, 0, 32, 29, 46]
abbrev dktX2_decides_7 : List UInt8 := dkwX2_decides_7 ++ dktX2_decides_8
def dkwX2_decides_6 : List UInt8 := [167, 0, 5, 16, 247, 54, 5, 21, 5, 16, 247, 160, 0, 10, 42, 180, 0, 157, 167, 0, 9, 42, 21, 5]
abbrev dktX2_decides_6 : List UInt8 := dkwX2_decides_6 ++ dktX2_decides_7
def dkwX2_decides_5 : List UInt8 := [132, 5, 1, 167, 255, 158, 28, 158, 0, 19, 42, 180, 0, 50, 16, 12, 27, 104, 28, 96, 4, 100, 46]
abbrev dktX2_decides_5 : List UInt8 := dkwX2_decides_5 ++ dktX2_decides_6
def dkwX2_decides_4 : List UInt8 := [132, 2, 255, 42, 180, 0, 32, 21, 5, 46, 16, 247, 160, 0, 7, 4, 167, 0, 4, 3, 54, 4]
abbrev dktX2_decides_4 : List UInt8 := dkwX2_decides_4 ++ dktX2_decides_5
def dkwX2_decides_3 : List UInt8 := [180, 0, 50, 16, 12, 27, 104, 28, 96, 4, 100, 46, 29, 159, 0, 9, 132, 2, 255, 167, 255, 236]
abbrev dktX2_decides_3 : List UInt8 := dkwX2_decides_3 ++ dktX2_decides_4
def dkwX2_decides_2 : List UInt8 := [159, 0, 7, 4, 167, 0, 4, 3, 54, 4, 21, 4, 153, 0, 56, 42, 180, 0, 35, 21, 5, 46, 62, 42]
abbrev dktX2_decides_2 : List UInt8 := dkwX2_decides_2 ++ dktX2_decides_3
def dkwX2_decides_1 : List UInt8 := [180, 0, 41, 27, 4, 96, 46, 162, 0, 91, 21, 4, 153, 0, 86, 42, 180, 0, 35, 21, 5, 46, 16, 247]
abbrev dktX2_decides_1 : List UInt8 := dkwX2_decides_1 ++ dktX2_decides_2
def dkwX2_decides_0 : List UInt8 := [42, 180, 0, 47, 27, 46, 61, 16, 247, 62, 4, 54, 4, 42, 180, 0, 41, 27, 46, 54, 5, 21, 5, 42]
abbrev dktX2_decides_0 : List UInt8 := dkwX2_decides_0 ++ dktX2_decides_1
theorem dksX2_decides_0 : cX2_decides.data.toList.drop 0 = dktX2_decides_0 := by decide +kernel
theorem dksX2_decides_1 : cX2_decides.data.toList.drop 24 = dktX2_decides_1 := dk_seg dksX2_decides_0 24 rfl rfl
theorem dksX2_decides_2 : cX2_decides.data.toList.drop 48 = dktX2_decides_2 := dk_seg dksX2_decides_1 24 rfl rfl
theorem dksX2_decides_3 : cX2_decides.data.toList.drop 72 = dktX2_decides_3 := dk_seg dksX2_decides_2 24 rfl rfl
theorem dksX2_decides_4 : cX2_decides.data.toList.drop 94 = dktX2_decides_4 := dk_seg dksX2_decides_3 22 rfl rfl
theorem dksX2_decides_5 : cX2_decides.data.toList.drop 116 = dktX2_decides_5 := dk_seg dksX2_decides_4 22 rfl rfl
theorem dksX2_decides_6 : cX2_decides.data.toList.drop 139 = dktX2_decides_6 := dk_seg dksX2_decides_5 23 rfl rfl
theorem dksX2_decides_7 : cX2_decides.data.toList.drop 163 = dktX2_decides_7 := dk_seg dksX2_decides_6 24 rfl rfl
theorem dksX2_decides_8 : cX2_decides.data.toList.drop 187 = dktX2_decides_8 := dk_seg dksX2_decides_7 24 rfl rfl
theorem dksX2_decides_9 : cX2_decides.data.toList.drop 209 = dktX2_decides_9 := dk_seg dksX2_decides_8 22 rfl rfl
theorem dksX2_decides_10 : cX2_decides.data.toList.drop 233 = dktX2_decides_10 := dk_seg dksX2_decides_9 24 rfl rfl
theorem dksX2_decides_11 : cX2_decides.data.toList.drop 257 = dktX2_decides_11 := dk_seg dksX2_decides_10 24 rfl rfl
theorem dksX2_decides_12 : cX2_decides.data.toList.drop 279 = dktX2_decides_12 := dk_seg dksX2_decides_11 22 rfl rfl
theorem dksX2_decides_13 : cX2_decides.data.toList.drop 302 = dktX2_decides_13 := dk_seg dksX2_decides_12 23 rfl rfl
theorem dksX2_decides_14 : cX2_decides.data.toList.drop 325 = dktX2_decides_14 := dk_seg dksX2_decides_13 23 rfl rfl
theorem dksX2_decides_15 : cX2_decides.data.toList.drop 347 = dktX2_decides_15 := dk_seg dksX2_decides_14 22 rfl rfl
theorem dksX2_decides_16 : cX2_decides.data.toList.drop 370 = dktX2_decides_16 := dk_seg dksX2_decides_15 23 rfl rfl
theorem dksX2_decides_17 : cX2_decides.data.toList.drop 392 = dktX2_decides_17 := dk_seg dksX2_decides_16 22 rfl rfl
theorem dksX2_decides_18 : cX2_decides.data.toList.drop 416 = dktX2_decides_18 := dk_seg dksX2_decides_17 24 rfl rfl
theorem dksX2_decides_19 : cX2_decides.data.toList.drop 440 = dktX2_decides_19 := dk_seg dksX2_decides_18 24 rfl rfl
theorem dksX2_decides_20 : cX2_decides.data.toList.drop 464 = dktX2_decides_20 := dk_seg dksX2_decides_19 24 rfl rfl
theorem dksX2_decides_21 : cX2_decides.data.toList.drop 488 = dktX2_decides_21 := dk_seg dksX2_decides_20 24 rfl rfl
theorem dX2_decides_0 : decode cX2_decides 0 = .ok (.aload_n 0, 1) := dk_42 (dk_at dksX2_decides_0 0 rfl rfl)
theorem dX2_decides_1 : decode cX2_decides 1 = .ok (.getfield 47, 3) := dk_180 0 47 (dk_at dksX2_decides_0 1 rfl rfl)
theorem dX2_decides_4 : decode cX2_decides 4 = .ok (.iload_n 1, 1) := dk_27 (dk_at dksX2_decides_0 4 rfl rfl)
theorem dX2_decides_5 : decode cX2_decides 5 = .ok (.iaload, 1) := dk_46 (dk_at dksX2_decides_0 5 rfl rfl)
theorem dX2_decides_6 : decode cX2_decides 6 = .ok (.istore_n 2, 1) := dk_61 (dk_at dksX2_decides_0 6 rfl rfl)
theorem dX2_decides_7 : decode cX2_decides 7 = .ok (.bipush (-9), 2) := dk_16 247 (dk_at dksX2_decides_0 7 rfl rfl)
theorem dX2_decides_9 : decode cX2_decides 9 = .ok (.istore_n 3, 1) := dk_62 (dk_at dksX2_decides_0 9 rfl rfl)
theorem dX2_decides_10 : decode cX2_decides 10 = .ok (.iconst 1, 1) := dk_4 (dk_at dksX2_decides_0 10 rfl rfl)
theorem dX2_decides_11 : decode cX2_decides 11 = .ok (.istore 4, 2) := dk_54 4 (dk_at dksX2_decides_0 11 rfl rfl)
theorem dX2_decides_13 : decode cX2_decides 13 = .ok (.aload_n 0, 1) := dk_42 (dk_at dksX2_decides_0 13 rfl rfl)
theorem dX2_decides_14 : decode cX2_decides 14 = .ok (.getfield 41, 3) := dk_180 0 41 (dk_at dksX2_decides_0 14 rfl rfl)
theorem dX2_decides_17 : decode cX2_decides 17 = .ok (.iload_n 1, 1) := dk_27 (dk_at dksX2_decides_0 17 rfl rfl)
theorem dX2_decides_18 : decode cX2_decides 18 = .ok (.iaload, 1) := dk_46 (dk_at dksX2_decides_0 18 rfl rfl)
theorem dX2_decides_19 : decode cX2_decides 19 = .ok (.istore 5, 2) := dk_54 5 (dk_at dksX2_decides_0 19 rfl rfl)
theorem dX2_decides_21 : decode cX2_decides 21 = .ok (.iload 5, 2) := dk_21 5 (dk_at dksX2_decides_0 21 rfl rfl)
theorem dX2_decides_23 : decode cX2_decides 23 = .ok (.aload_n 0, 1) := dk_42 (dk_at dksX2_decides_0 23 rfl rfl)
theorem dX2_decides_24 : decode cX2_decides 24 = .ok (.getfield 41, 3) := dk_180 0 41 (dk_at dksX2_decides_1 0 rfl rfl)
theorem dX2_decides_27 : decode cX2_decides 27 = .ok (.iload_n 1, 1) := dk_27 (dk_at dksX2_decides_1 3 rfl rfl)
theorem dX2_decides_28 : decode cX2_decides 28 = .ok (.iconst 1, 1) := dk_4 (dk_at dksX2_decides_1 4 rfl rfl)
theorem dX2_decides_29 : decode cX2_decides 29 = .ok (.iadd, 1) := dk_96 (dk_at dksX2_decides_1 5 rfl rfl)
theorem dX2_decides_30 : decode cX2_decides 30 = .ok (.iaload, 1) := dk_46 (dk_at dksX2_decides_1 6 rfl rfl)
theorem dX2_decides_31 : decode cX2_decides 31 = .ok (.if_icmp .ge 91, 3) := dk_162 0 91 (dk_at dksX2_decides_1 7 rfl rfl)
theorem dX2_decides_34 : decode cX2_decides 34 = .ok (.iload 4, 2) := dk_21 4 (dk_at dksX2_decides_1 10 rfl rfl)
theorem dX2_decides_36 : decode cX2_decides 36 = .ok (.ifCond .eq 86, 3) := dk_153 0 86 (dk_at dksX2_decides_1 12 rfl rfl)
theorem dX2_decides_39 : decode cX2_decides 39 = .ok (.aload_n 0, 1) := dk_42 (dk_at dksX2_decides_1 15 rfl rfl)
theorem dX2_decides_40 : decode cX2_decides 40 = .ok (.getfield 35, 3) := dk_180 0 35 (dk_at dksX2_decides_1 16 rfl rfl)
theorem dX2_decides_43 : decode cX2_decides 43 = .ok (.iload 5, 2) := dk_21 5 (dk_at dksX2_decides_1 19 rfl rfl)
theorem dX2_decides_45 : decode cX2_decides 45 = .ok (.iaload, 1) := dk_46 (dk_at dksX2_decides_1 21 rfl rfl)
theorem dX2_decides_46 : decode cX2_decides 46 = .ok (.bipush (-9), 2) := dk_16 247 (dk_at dksX2_decides_1 22 rfl rfl)
theorem dX2_decides_48 : decode cX2_decides 48 = .ok (.if_icmp .eq 7, 3) := dk_159 0 7 (dk_at dksX2_decides_2 0 rfl rfl)
theorem dX2_decides_51 : decode cX2_decides 51 = .ok (.iconst 1, 1) := dk_4 (dk_at dksX2_decides_2 3 rfl rfl)
theorem dX2_decides_52 : decode cX2_decides 52 = .ok (.goto 4, 3) := dk_167 0 4 (dk_at dksX2_decides_2 4 rfl rfl)
theorem dX2_decides_55 : decode cX2_decides 55 = .ok (.iconst 0, 1) := dk_3 (dk_at dksX2_decides_2 7 rfl rfl)
theorem dX2_decides_56 : decode cX2_decides 56 = .ok (.istore 4, 2) := dk_54 4 (dk_at dksX2_decides_2 8 rfl rfl)
theorem dX2_decides_58 : decode cX2_decides 58 = .ok (.iload 4, 2) := dk_21 4 (dk_at dksX2_decides_2 10 rfl rfl)
theorem dX2_decides_60 : decode cX2_decides 60 = .ok (.ifCond .eq 56, 3) := dk_153 0 56 (dk_at dksX2_decides_2 12 rfl rfl)
theorem dX2_decides_63 : decode cX2_decides 63 = .ok (.aload_n 0, 1) := dk_42 (dk_at dksX2_decides_2 15 rfl rfl)
theorem dX2_decides_64 : decode cX2_decides 64 = .ok (.getfield 35, 3) := dk_180 0 35 (dk_at dksX2_decides_2 16 rfl rfl)
theorem dX2_decides_67 : decode cX2_decides 67 = .ok (.iload 5, 2) := dk_21 5 (dk_at dksX2_decides_2 19 rfl rfl)
theorem dX2_decides_69 : decode cX2_decides 69 = .ok (.iaload, 1) := dk_46 (dk_at dksX2_decides_2 21 rfl rfl)
theorem dX2_decides_70 : decode cX2_decides 70 = .ok (.istore_n 3, 1) := dk_62 (dk_at dksX2_decides_2 22 rfl rfl)
theorem dX2_decides_71 : decode cX2_decides 71 = .ok (.aload_n 0, 1) := dk_42 (dk_at dksX2_decides_2 23 rfl rfl)
theorem dX2_decides_72 : decode cX2_decides 72 = .ok (.getfield 50, 3) := dk_180 0 50 (dk_at dksX2_decides_3 0 rfl rfl)
theorem dX2_decides_75 : decode cX2_decides 75 = .ok (.bipush 12, 2) := dk_16 12 (dk_at dksX2_decides_3 3 rfl rfl)
theorem dX2_decides_77 : decode cX2_decides 77 = .ok (.iload_n 1, 1) := dk_27 (dk_at dksX2_decides_3 5 rfl rfl)
theorem dX2_decides_78 : decode cX2_decides 78 = .ok (.imul, 1) := dk_104 (dk_at dksX2_decides_3 6 rfl rfl)
theorem dX2_decides_79 : decode cX2_decides 79 = .ok (.iload_n 2, 1) := dk_28 (dk_at dksX2_decides_3 7 rfl rfl)
theorem dX2_decides_80 : decode cX2_decides 80 = .ok (.iadd, 1) := dk_96 (dk_at dksX2_decides_3 8 rfl rfl)
theorem dX2_decides_81 : decode cX2_decides 81 = .ok (.iconst 1, 1) := dk_4 (dk_at dksX2_decides_3 9 rfl rfl)
theorem dX2_decides_82 : decode cX2_decides 82 = .ok (.isub, 1) := dk_100 (dk_at dksX2_decides_3 10 rfl rfl)
theorem dX2_decides_83 : decode cX2_decides 83 = .ok (.iaload, 1) := dk_46 (dk_at dksX2_decides_3 11 rfl rfl)
theorem dX2_decides_84 : decode cX2_decides 84 = .ok (.iload_n 3, 1) := dk_29 (dk_at dksX2_decides_3 12 rfl rfl)
theorem dX2_decides_85 : decode cX2_decides 85 = .ok (.if_icmp .eq 9, 3) := dk_159 0 9 (dk_at dksX2_decides_3 13 rfl rfl)
theorem dX2_decides_88 : decode cX2_decides 88 = .ok (.iinc 2 (-1), 3) := dk_132 2 255 (dk_at dksX2_decides_3 16 rfl rfl)
theorem dX2_decides_91 : decode cX2_decides 91 = .ok (.goto (-20), 3) := dk_167 255 236 (dk_at dksX2_decides_3 19 rfl rfl)
theorem dX2_decides_94 : decode cX2_decides 94 = .ok (.iinc 2 (-1), 3) := dk_132 2 255 (dk_at dksX2_decides_4 0 rfl rfl)
theorem dX2_decides_97 : decode cX2_decides 97 = .ok (.aload_n 0, 1) := dk_42 (dk_at dksX2_decides_4 3 rfl rfl)
theorem dX2_decides_98 : decode cX2_decides 98 = .ok (.getfield 32, 3) := dk_180 0 32 (dk_at dksX2_decides_4 4 rfl rfl)
theorem dX2_decides_101 : decode cX2_decides 101 = .ok (.iload 5, 2) := dk_21 5 (dk_at dksX2_decides_4 7 rfl rfl)
theorem dX2_decides_103 : decode cX2_decides 103 = .ok (.iaload, 1) := dk_46 (dk_at dksX2_decides_4 9 rfl rfl)
theorem dX2_decides_104 : decode cX2_decides 104 = .ok (.bipush (-9), 2) := dk_16 247 (dk_at dksX2_decides_4 10 rfl rfl)
theorem dX2_decides_106 : decode cX2_decides 106 = .ok (.if_icmp .ne 7, 3) := dk_160 0 7 (dk_at dksX2_decides_4 12 rfl rfl)
theorem dX2_decides_109 : decode cX2_decides 109 = .ok (.iconst 1, 1) := dk_4 (dk_at dksX2_decides_4 15 rfl rfl)
theorem dX2_decides_110 : decode cX2_decides 110 = .ok (.goto 4, 3) := dk_167 0 4 (dk_at dksX2_decides_4 16 rfl rfl)
theorem dX2_decides_113 : decode cX2_decides 113 = .ok (.iconst 0, 1) := dk_3 (dk_at dksX2_decides_4 19 rfl rfl)
theorem dX2_decides_114 : decode cX2_decides 114 = .ok (.istore 4, 2) := dk_54 4 (dk_at dksX2_decides_4 20 rfl rfl)
theorem dX2_decides_116 : decode cX2_decides 116 = .ok (.iinc 5 1, 3) := dk_132 5 1 (dk_at dksX2_decides_5 0 rfl rfl)
theorem dX2_decides_119 : decode cX2_decides 119 = .ok (.goto (-98), 3) := dk_167 255 158 (dk_at dksX2_decides_5 3 rfl rfl)
theorem dX2_decides_122 : decode cX2_decides 122 = .ok (.iload_n 2, 1) := dk_28 (dk_at dksX2_decides_5 6 rfl rfl)
theorem dX2_decides_123 : decode cX2_decides 123 = .ok (.ifCond .le 19, 3) := dk_158 0 19 (dk_at dksX2_decides_5 7 rfl rfl)
theorem dX2_decides_126 : decode cX2_decides 126 = .ok (.aload_n 0, 1) := dk_42 (dk_at dksX2_decides_5 10 rfl rfl)
theorem dX2_decides_127 : decode cX2_decides 127 = .ok (.getfield 50, 3) := dk_180 0 50 (dk_at dksX2_decides_5 11 rfl rfl)
theorem dX2_decides_130 : decode cX2_decides 130 = .ok (.bipush 12, 2) := dk_16 12 (dk_at dksX2_decides_5 14 rfl rfl)
theorem dX2_decides_132 : decode cX2_decides 132 = .ok (.iload_n 1, 1) := dk_27 (dk_at dksX2_decides_5 16 rfl rfl)
theorem dX2_decides_133 : decode cX2_decides 133 = .ok (.imul, 1) := dk_104 (dk_at dksX2_decides_5 17 rfl rfl)
theorem dX2_decides_134 : decode cX2_decides 134 = .ok (.iload_n 2, 1) := dk_28 (dk_at dksX2_decides_5 18 rfl rfl)
theorem dX2_decides_135 : decode cX2_decides 135 = .ok (.iadd, 1) := dk_96 (dk_at dksX2_decides_5 19 rfl rfl)
theorem dX2_decides_136 : decode cX2_decides 136 = .ok (.iconst 1, 1) := dk_4 (dk_at dksX2_decides_5 20 rfl rfl)
theorem dX2_decides_137 : decode cX2_decides 137 = .ok (.isub, 1) := dk_100 (dk_at dksX2_decides_5 21 rfl rfl)
theorem dX2_decides_138 : decode cX2_decides 138 = .ok (.iaload, 1) := dk_46 (dk_at dksX2_decides_5 22 rfl rfl)
theorem dX2_decides_139 : decode cX2_decides 139 = .ok (.goto 5, 3) := dk_167 0 5 (dk_at dksX2_decides_6 0 rfl rfl)
theorem dX2_decides_142 : decode cX2_decides 142 = .ok (.bipush (-9), 2) := dk_16 247 (dk_at dksX2_decides_6 3 rfl rfl)
theorem dX2_decides_144 : decode cX2_decides 144 = .ok (.istore 5, 2) := dk_54 5 (dk_at dksX2_decides_6 5 rfl rfl)
theorem dX2_decides_146 : decode cX2_decides 146 = .ok (.iload 5, 2) := dk_21 5 (dk_at dksX2_decides_6 7 rfl rfl)
theorem dX2_decides_148 : decode cX2_decides 148 = .ok (.bipush (-9), 2) := dk_16 247 (dk_at dksX2_decides_6 9 rfl rfl)
theorem dX2_decides_150 : decode cX2_decides 150 = .ok (.if_icmp .ne 10, 3) := dk_160 0 10 (dk_at dksX2_decides_6 11 rfl rfl)
theorem dX2_decides_153 : decode cX2_decides 153 = .ok (.aload_n 0, 1) := dk_42 (dk_at dksX2_decides_6 14 rfl rfl)
theorem dX2_decides_154 : decode cX2_decides 154 = .ok (.getfield 157, 3) := dk_180 0 157 (dk_at dksX2_decides_6 15 rfl rfl)
theorem dX2_decides_157 : decode cX2_decides 157 = .ok (.goto 9, 3) := dk_167 0 9 (dk_at dksX2_decides_6 18 rfl rfl)
theorem dX2_decides_160 : decode cX2_decides 160 = .ok (.aload_n 0, 1) := dk_42 (dk_at dksX2_decides_6 21 rfl rfl)
theorem dX2_decides_161 : decode cX2_decides 161 = .ok (.iload 5, 2) := dk_21 5 (dk_at dksX2_decides_6 22 rfl rfl)
theorem dX2_decides_163 : decode cX2_decides 163 = .ok (.invokevirtual 179, 3) := dk_182 0 179 (dk_at dksX2_decides_7 0 rfl rfl)
theorem dX2_decides_166 : decode cX2_decides 166 = .ok (.istore 6, 2) := dk_54 6 (dk_at dksX2_decides_7 3 rfl rfl)
theorem dX2_decides_168 : decode cX2_decides 168 = .ok (.aload_n 0, 1) := dk_42 (dk_at dksX2_decides_7 5 rfl rfl)
theorem dX2_decides_169 : decode cX2_decides 169 = .ok (.bipush (-2), 2) := dk_16 254 (dk_at dksX2_decides_7 6 rfl rfl)
theorem dX2_decides_171 : decode cX2_decides 171 = .ok (.putfield 167, 3) := dk_181 0 167 (dk_at dksX2_decides_7 8 rfl rfl)
theorem dX2_decides_174 : decode cX2_decides 174 = .ok (.iload_n 3, 1) := dk_29 (dk_at dksX2_decides_7 11 rfl rfl)
theorem dX2_decides_175 : decode cX2_decides 175 = .ok (.bipush (-9), 2) := dk_16 247 (dk_at dksX2_decides_7 12 rfl rfl)
theorem dX2_decides_177 : decode cX2_decides 177 = .ok (.if_icmp .eq 80, 3) := dk_159 0 80 (dk_at dksX2_decides_7 14 rfl rfl)
theorem dX2_decides_180 : decode cX2_decides 180 = .ok (.aload_n 0, 1) := dk_42 (dk_at dksX2_decides_7 17 rfl rfl)
theorem dX2_decides_181 : decode cX2_decides 181 = .ok (.aload_n 0, 1) := dk_42 (dk_at dksX2_decides_7 18 rfl rfl)
theorem dX2_decides_182 : decode cX2_decides 182 = .ok (.getfield 32, 3) := dk_180 0 32 (dk_at dksX2_decides_7 19 rfl rfl)
theorem dX2_decides_185 : decode cX2_decides 185 = .ok (.iload_n 3, 1) := dk_29 (dk_at dksX2_decides_7 22 rfl rfl)
theorem dX2_decides_186 : decode cX2_decides 186 = .ok (.iaload, 1) := dk_46 (dk_at dksX2_decides_7 23 rfl rfl)
theorem dX2_decides_187 : decode cX2_decides 187 = .ok (.iconst 4, 1) := dk_7 (dk_at dksX2_decides_8 0 rfl rfl)
theorem dX2_decides_188 : decode cX2_decides 188 = .ok (.invokevirtual 120, 3) := dk_182 0 120 (dk_at dksX2_decides_8 1 rfl rfl)
theorem dX2_decides_191 : decode cX2_decides 191 = .ok (.istore 7, 2) := dk_54 7 (dk_at dksX2_decides_8 4 rfl rfl)
theorem dX2_decides_193 : decode cX2_decides 193 = .ok (.iload 7, 2) := dk_21 7 (dk_at dksX2_decides_8 6 rfl rfl)
theorem dX2_decides_195 : decode cX2_decides 195 = .ok (.ifCond .ne 17, 3) := dk_154 0 17 (dk_at dksX2_decides_8 8 rfl rfl)
theorem dX2_decides_198 : decode cX2_decides 198 = .ok (.aload_n 0, 1) := dk_42 (dk_at dksX2_decides_8 11 rfl rfl)
theorem dX2_decides_199 : decode cX2_decides 199 = .ok (.getfield 56, 3) := dk_180 0 56 (dk_at dksX2_decides_8 12 rfl rfl)
theorem dX2_decides_202 : decode cX2_decides 202 = .ok (.aload_n 0, 1) := dk_42 (dk_at dksX2_decides_8 15 rfl rfl)
theorem dX2_decides_203 : decode cX2_decides 203 = .ok (.getfield 20, 3) := dk_180 0 20 (dk_at dksX2_decides_8 16 rfl rfl)
theorem dX2_decides_206 : decode cX2_decides 206 = .ok (.iload_n 3, 1) := dk_29 (dk_at dksX2_decides_8 19 rfl rfl)
theorem dX2_decides_207 : decode cX2_decides 207 = .ok (.iaload, 1) := dk_46 (dk_at dksX2_decides_8 20 rfl rfl)
theorem dX2_decides_208 : decode cX2_decides 208 = .ok (.iaload, 1) := dk_46 (dk_at dksX2_decides_8 21 rfl rfl)
theorem dX2_decides_209 : decode cX2_decides 209 = .ok (.goto 22, 3) := dk_167 0 22 (dk_at dksX2_decides_9 0 rfl rfl)
theorem dX2_decides_212 : decode cX2_decides 212 = .ok (.iload 7, 2) := dk_21 7 (dk_at dksX2_decides_9 3 rfl rfl)
theorem dX2_decides_214 : decode cX2_decides 214 = .ok (.iconst 1, 1) := dk_4 (dk_at dksX2_decides_9 5 rfl rfl)
theorem dX2_decides_215 : decode cX2_decides 215 = .ok (.if_icmp .ne 11, 3) := dk_160 0 11 (dk_at dksX2_decides_9 6 rfl rfl)
theorem dX2_decides_218 : decode cX2_decides 218 = .ok (.aload_n 0, 1) := dk_42 (dk_at dksX2_decides_9 9 rfl rfl)
theorem dX2_decides_219 : decode cX2_decides 219 = .ok (.iload_n 3, 1) := dk_29 (dk_at dksX2_decides_9 10 rfl rfl)
theorem dX2_decides_220 : decode cX2_decides 220 = .ok (.invokevirtual 179, 3) := dk_182 0 179 (dk_at dksX2_decides_9 11 rfl rfl)
theorem dX2_decides_223 : decode cX2_decides 223 = .ok (.goto 8, 3) := dk_167 0 8 (dk_at dksX2_decides_9 14 rfl rfl)
theorem dX2_decides_226 : decode cX2_decides 226 = .ok (.aload_n 0, 1) := dk_42 (dk_at dksX2_decides_9 17 rfl rfl)
theorem dX2_decides_227 : decode cX2_decides 227 = .ok (.iload_n 3, 1) := dk_29 (dk_at dksX2_decides_9 18 rfl rfl)
theorem dX2_decides_228 : decode cX2_decides 228 = .ok (.invokevirtual 163, 3) := dk_182 0 163 (dk_at dksX2_decides_9 19 rfl rfl)
theorem dX2_decides_231 : decode cX2_decides 231 = .ok (.istore 8, 2) := dk_54 8 (dk_at dksX2_decides_9 22 rfl rfl)
theorem dX2_decides_233 : decode cX2_decides 233 = .ok (.aload_n 0, 1) := dk_42 (dk_at dksX2_decides_10 0 rfl rfl)
theorem dX2_decides_234 : decode cX2_decides 234 = .ok (.aload_n 0, 1) := dk_42 (dk_at dksX2_decides_10 1 rfl rfl)
theorem dX2_decides_235 : decode cX2_decides 235 = .ok (.aload_n 0, 1) := dk_42 (dk_at dksX2_decides_10 2 rfl rfl)
theorem dX2_decides_236 : decode cX2_decides 236 = .ok (.getfield 32, 3) := dk_180 0 32 (dk_at dksX2_decides_10 3 rfl rfl)
theorem dX2_decides_239 : decode cX2_decides 239 = .ok (.iload_n 3, 1) := dk_29 (dk_at dksX2_decides_10 6 rfl rfl)
theorem dX2_decides_240 : decode cX2_decides 240 = .ok (.iaload, 1) := dk_46 (dk_at dksX2_decides_10 7 rfl rfl)
theorem dX2_decides_241 : decode cX2_decides 241 = .ok (.iconst 1, 1) := dk_4 (dk_at dksX2_decides_10 8 rfl rfl)
theorem dX2_decides_242 : decode cX2_decides 242 = .ok (.invokevirtual 120, 3) := dk_182 0 120 (dk_at dksX2_decides_10 9 rfl rfl)
theorem dX2_decides_245 : decode cX2_decides 245 = .ok (.iload 8, 2) := dk_21 8 (dk_at dksX2_decides_10 12 rfl rfl)
theorem dX2_decides_247 : decode cX2_decides 247 = .ok (.iconst 3, 1) := dk_6 (dk_at dksX2_decides_10 14 rfl rfl)
theorem dX2_decides_248 : decode cX2_decides 248 = .ok (.aload_n 0, 1) := dk_42 (dk_at dksX2_decides_10 15 rfl rfl)
theorem dX2_decides_249 : decode cX2_decides 249 = .ok (.getfield 32, 3) := dk_180 0 32 (dk_at dksX2_decides_10 16 rfl rfl)
theorem dX2_decides_252 : decode cX2_decides 252 = .ok (.iload_n 3, 1) := dk_29 (dk_at dksX2_decides_10 19 rfl rfl)
theorem dX2_decides_253 : decode cX2_decides 253 = .ok (.iaload, 1) := dk_46 (dk_at dksX2_decides_10 20 rfl rfl)
theorem dX2_decides_254 : decode cX2_decides 254 = .ok (.invokevirtual 182, 3) := dk_182 0 182 (dk_at dksX2_decides_10 21 rfl rfl)
theorem dX2_decides_257 : decode cX2_decides 257 = .ok (.aload_n 0, 1) := dk_42 (dk_at dksX2_decides_11 0 rfl rfl)
theorem dX2_decides_258 : decode cX2_decides 258 = .ok (.getfield 41, 3) := dk_180 0 41 (dk_at dksX2_decides_11 1 rfl rfl)
theorem dX2_decides_261 : decode cX2_decides 261 = .ok (.iload_n 1, 1) := dk_27 (dk_at dksX2_decides_11 4 rfl rfl)
theorem dX2_decides_262 : decode cX2_decides 262 = .ok (.iaload, 1) := dk_46 (dk_at dksX2_decides_11 5 rfl rfl)
theorem dX2_decides_263 : decode cX2_decides 263 = .ok (.istore 7, 2) := dk_54 7 (dk_at dksX2_decides_11 6 rfl rfl)
theorem dX2_decides_265 : decode cX2_decides 265 = .ok (.iload 7, 2) := dk_21 7 (dk_at dksX2_decides_11 8 rfl rfl)
theorem dX2_decides_267 : decode cX2_decides 267 = .ok (.aload_n 0, 1) := dk_42 (dk_at dksX2_decides_11 10 rfl rfl)
theorem dX2_decides_268 : decode cX2_decides 268 = .ok (.getfield 41, 3) := dk_180 0 41 (dk_at dksX2_decides_11 11 rfl rfl)
theorem dX2_decides_271 : decode cX2_decides 271 = .ok (.iload_n 1, 1) := dk_27 (dk_at dksX2_decides_11 14 rfl rfl)
theorem dX2_decides_272 : decode cX2_decides 272 = .ok (.iconst 1, 1) := dk_4 (dk_at dksX2_decides_11 15 rfl rfl)
theorem dX2_decides_273 : decode cX2_decides 273 = .ok (.iadd, 1) := dk_96 (dk_at dksX2_decides_11 16 rfl rfl)
theorem dX2_decides_274 : decode cX2_decides 274 = .ok (.iaload, 1) := dk_46 (dk_at dksX2_decides_11 17 rfl rfl)
theorem dX2_decides_275 : decode cX2_decides 275 = .ok (.if_icmp .ge 7, 3) := dk_162 0 7 (dk_at dksX2_decides_11 18 rfl rfl)
theorem dX2_decides_278 : decode cX2_decides 278 = .ok (.iconst 1, 1) := dk_4 (dk_at dksX2_decides_11 21 rfl rfl)
theorem dX2_decides_279 : decode cX2_decides 279 = .ok (.goto 4, 3) := dk_167 0 4 (dk_at dksX2_decides_12 0 rfl rfl)
theorem dX2_decides_282 : decode cX2_decides 282 = .ok (.iconst 0, 1) := dk_3 (dk_at dksX2_decides_12 3 rfl rfl)
theorem dX2_decides_283 : decode cX2_decides 283 = .ok (.istore 8, 2) := dk_54 8 (dk_at dksX2_decides_12 4 rfl rfl)
theorem dX2_decides_285 : decode cX2_decides 285 = .ok (.iload 8, 2) := dk_21 8 (dk_at dksX2_decides_12 6 rfl rfl)
theorem dX2_decides_287 : decode cX2_decides 287 = .ok (.ifCond .eq 13, 3) := dk_153 0 13 (dk_at dksX2_decides_12 8 rfl rfl)
theorem dX2_decides_290 : decode cX2_decides 290 = .ok (.aload_n 0, 1) := dk_42 (dk_at dksX2_decides_12 11 rfl rfl)
theorem dX2_decides_291 : decode cX2_decides 291 = .ok (.iload 7, 2) := dk_21 7 (dk_at dksX2_decides_12 12 rfl rfl)
theorem dX2_decides_293 : decode cX2_decides 293 = .ok (.iconst 2, 1) := dk_5 (dk_at dksX2_decides_12 14 rfl rfl)
theorem dX2_decides_294 : decode cX2_decides 294 = .ok (.invokevirtual 148, 3) := dk_182 0 148 (dk_at dksX2_decides_12 15 rfl rfl)
theorem dX2_decides_297 : decode cX2_decides 297 = .ok (.goto 5, 3) := dk_167 0 5 (dk_at dksX2_decides_12 18 rfl rfl)
theorem dX2_decides_300 : decode cX2_decides 300 = .ok (.bipush (-9), 2) := dk_16 247 (dk_at dksX2_decides_12 21 rfl rfl)
theorem dX2_decides_302 : decode cX2_decides 302 = .ok (.istore 9, 2) := dk_54 9 (dk_at dksX2_decides_13 0 rfl rfl)
theorem dX2_decides_304 : decode cX2_decides 304 = .ok (.iload 9, 2) := dk_21 9 (dk_at dksX2_decides_13 2 rfl rfl)
theorem dX2_decides_306 : decode cX2_decides 306 = .ok (.bipush (-9), 2) := dk_16 247 (dk_at dksX2_decides_13 4 rfl rfl)
theorem dX2_decides_308 : decode cX2_decides 308 = .ok (.if_icmp .eq 32, 3) := dk_159 0 32 (dk_at dksX2_decides_13 6 rfl rfl)
theorem dX2_decides_311 : decode cX2_decides 311 = .ok (.aload_n 0, 1) := dk_42 (dk_at dksX2_decides_13 9 rfl rfl)
theorem dX2_decides_312 : decode cX2_decides 312 = .ok (.aload_n 0, 1) := dk_42 (dk_at dksX2_decides_13 10 rfl rfl)
theorem dX2_decides_313 : decode cX2_decides 313 = .ok (.iload 9, 2) := dk_21 9 (dk_at dksX2_decides_13 11 rfl rfl)
theorem dX2_decides_315 : decode cX2_decides 315 = .ok (.iconst 1, 1) := dk_4 (dk_at dksX2_decides_13 13 rfl rfl)
theorem dX2_decides_316 : decode cX2_decides 316 = .ok (.invokevirtual 120, 3) := dk_182 0 120 (dk_at dksX2_decides_13 14 rfl rfl)
theorem dX2_decides_319 : decode cX2_decides 319 = .ok (.iload 6, 2) := dk_21 6 (dk_at dksX2_decides_13 17 rfl rfl)
theorem dX2_decides_321 : decode cX2_decides 321 = .ok (.aload_n 0, 1) := dk_42 (dk_at dksX2_decides_13 19 rfl rfl)
theorem dX2_decides_322 : decode cX2_decides 322 = .ok (.iload 9, 2) := dk_21 9 (dk_at dksX2_decides_13 20 rfl rfl)
theorem dX2_decides_324 : decode cX2_decides 324 = .ok (.iconst 2, 1) := dk_5 (dk_at dksX2_decides_13 22 rfl rfl)
theorem dX2_decides_325 : decode cX2_decides 325 = .ok (.invokevirtual 120, 3) := dk_182 0 120 (dk_at dksX2_decides_14 0 rfl rfl)
theorem dX2_decides_328 : decode cX2_decides 328 = .ok (.aload_n 0, 1) := dk_42 (dk_at dksX2_decides_14 3 rfl rfl)
theorem dX2_decides_329 : decode cX2_decides 329 = .ok (.getfield 154, 3) := dk_180 0 154 (dk_at dksX2_decides_14 4 rfl rfl)
theorem dX2_decides_332 : decode cX2_decides 332 = .ok (.imul, 1) := dk_104 (dk_at dksX2_decides_14 7 rfl rfl)
theorem dX2_decides_333 : decode cX2_decides 333 = .ok (.iadd, 1) := dk_96 (dk_at dksX2_decides_14 8 rfl rfl)
theorem dX2_decides_334 : decode cX2_decides 334 = .ok (.iconst 4, 1) := dk_7 (dk_at dksX2_decides_14 9 rfl rfl)
theorem dX2_decides_335 : decode cX2_decides 335 = .ok (.iload 9, 2) := dk_21 9 (dk_at dksX2_decides_14 10 rfl rfl)
theorem dX2_decides_337 : decode cX2_decides 337 = .ok (.invokevirtual 182, 3) := dk_182 0 182 (dk_at dksX2_decides_14 12 rfl rfl)
theorem dX2_decides_340 : decode cX2_decides 340 = .ok (.iload 8, 2) := dk_21 8 (dk_at dksX2_decides_14 15 rfl rfl)
theorem dX2_decides_342 : decode cX2_decides 342 = .ok (.ifCond .eq 34, 3) := dk_153 0 34 (dk_at dksX2_decides_14 17 rfl rfl)
theorem dX2_decides_345 : decode cX2_decides 345 = .ok (.iload 7, 2) := dk_21 7 (dk_at dksX2_decides_14 20 rfl rfl)
theorem dX2_decides_347 : decode cX2_decides 347 = .ok (.ifCond .le 29, 3) := dk_158 0 29 (dk_at dksX2_decides_15 0 rfl rfl)
theorem dX2_decides_350 : decode cX2_decides 350 = .ok (.aload_n 0, 1) := dk_42 (dk_at dksX2_decides_15 3 rfl rfl)
theorem dX2_decides_351 : decode cX2_decides 351 = .ok (.getfield 32, 3) := dk_180 0 32 (dk_at dksX2_decides_15 4 rfl rfl)
theorem dX2_decides_354 : decode cX2_decides 354 = .ok (.iload 7, 2) := dk_21 7 (dk_at dksX2_decides_15 7 rfl rfl)
theorem dX2_decides_356 : decode cX2_decides 356 = .ok (.iconst 1, 1) := dk_4 (dk_at dksX2_decides_15 9 rfl rfl)
theorem dX2_decides_357 : decode cX2_decides 357 = .ok (.isub, 1) := dk_100 (dk_at dksX2_decides_15 10 rfl rfl)
theorem dX2_decides_358 : decode cX2_decides 358 = .ok (.iaload, 1) := dk_46 (dk_at dksX2_decides_15 11 rfl rfl)
theorem dX2_decides_359 : decode cX2_decides 359 = .ok (.bipush (-9), 2) := dk_16 247 (dk_at dksX2_decides_15 12 rfl rfl)
theorem dX2_decides_361 : decode cX2_decides 361 = .ok (.if_icmp .ne 15, 3) := dk_160 0 15 (dk_at dksX2_decides_15 14 rfl rfl)
theorem dX2_decides_364 : decode cX2_decides 364 = .ok (.aload_n 0, 1) := dk_42 (dk_at dksX2_decides_15 17 rfl rfl)
theorem dX2_decides_365 : decode cX2_decides 365 = .ok (.iload 7, 2) := dk_21 7 (dk_at dksX2_decides_15 18 rfl rfl)
theorem dX2_decides_367 : decode cX2_decides 367 = .ok (.iconst 1, 1) := dk_4 (dk_at dksX2_decides_15 20 rfl rfl)
theorem dX2_decides_368 : decode cX2_decides 368 = .ok (.isub, 1) := dk_100 (dk_at dksX2_decides_15 21 rfl rfl)
theorem dX2_decides_369 : decode cX2_decides 369 = .ok (.iconst 3, 1) := dk_6 (dk_at dksX2_decides_15 22 rfl rfl)
theorem dX2_decides_370 : decode cX2_decides 370 = .ok (.invokevirtual 148, 3) := dk_182 0 148 (dk_at dksX2_decides_16 0 rfl rfl)
theorem dX2_decides_373 : decode cX2_decides 373 = .ok (.goto 5, 3) := dk_167 0 5 (dk_at dksX2_decides_16 3 rfl rfl)
theorem dX2_decides_376 : decode cX2_decides 376 = .ok (.bipush (-9), 2) := dk_16 247 (dk_at dksX2_decides_16 6 rfl rfl)
theorem dX2_decides_378 : decode cX2_decides 378 = .ok (.istore 10, 2) := dk_54 10 (dk_at dksX2_decides_16 8 rfl rfl)
theorem dX2_decides_380 : decode cX2_decides 380 = .ok (.iload 10, 2) := dk_21 10 (dk_at dksX2_decides_16 10 rfl rfl)
theorem dX2_decides_382 : decode cX2_decides 382 = .ok (.bipush (-9), 2) := dk_16 247 (dk_at dksX2_decides_16 12 rfl rfl)
theorem dX2_decides_384 : decode cX2_decides 384 = .ok (.if_icmp .eq 32, 3) := dk_159 0 32 (dk_at dksX2_decides_16 14 rfl rfl)
theorem dX2_decides_387 : decode cX2_decides 387 = .ok (.aload_n 0, 1) := dk_42 (dk_at dksX2_decides_16 17 rfl rfl)
theorem dX2_decides_388 : decode cX2_decides 388 = .ok (.aload_n 0, 1) := dk_42 (dk_at dksX2_decides_16 18 rfl rfl)
theorem dX2_decides_389 : decode cX2_decides 389 = .ok (.iload 10, 2) := dk_21 10 (dk_at dksX2_decides_16 19 rfl rfl)
theorem dX2_decides_391 : decode cX2_decides 391 = .ok (.iconst 1, 1) := dk_4 (dk_at dksX2_decides_16 21 rfl rfl)
theorem dX2_decides_392 : decode cX2_decides 392 = .ok (.invokevirtual 120, 3) := dk_182 0 120 (dk_at dksX2_decides_17 0 rfl rfl)
theorem dX2_decides_395 : decode cX2_decides 395 = .ok (.iload 6, 2) := dk_21 6 (dk_at dksX2_decides_17 3 rfl rfl)
theorem dX2_decides_397 : decode cX2_decides 397 = .ok (.aload_n 0, 1) := dk_42 (dk_at dksX2_decides_17 5 rfl rfl)
theorem dX2_decides_398 : decode cX2_decides 398 = .ok (.iload 10, 2) := dk_21 10 (dk_at dksX2_decides_17 6 rfl rfl)
theorem dX2_decides_400 : decode cX2_decides 400 = .ok (.iconst 2, 1) := dk_5 (dk_at dksX2_decides_17 8 rfl rfl)
theorem dX2_decides_401 : decode cX2_decides 401 = .ok (.invokevirtual 120, 3) := dk_182 0 120 (dk_at dksX2_decides_17 9 rfl rfl)
theorem dX2_decides_404 : decode cX2_decides 404 = .ok (.aload_n 0, 1) := dk_42 (dk_at dksX2_decides_17 12 rfl rfl)
theorem dX2_decides_405 : decode cX2_decides 405 = .ok (.getfield 154, 3) := dk_180 0 154 (dk_at dksX2_decides_17 13 rfl rfl)
theorem dX2_decides_408 : decode cX2_decides 408 = .ok (.imul, 1) := dk_104 (dk_at dksX2_decides_17 16 rfl rfl)
theorem dX2_decides_409 : decode cX2_decides 409 = .ok (.iadd, 1) := dk_96 (dk_at dksX2_decides_17 17 rfl rfl)
theorem dX2_decides_410 : decode cX2_decides 410 = .ok (.iconst 5, 1) := dk_8 (dk_at dksX2_decides_17 18 rfl rfl)
theorem dX2_decides_411 : decode cX2_decides 411 = .ok (.iload 10, 2) := dk_21 10 (dk_at dksX2_decides_17 19 rfl rfl)
theorem dX2_decides_413 : decode cX2_decides 413 = .ok (.invokevirtual 182, 3) := dk_182 0 182 (dk_at dksX2_decides_17 21 rfl rfl)
theorem dX2_decides_416 : decode cX2_decides 416 = .ok (.aload_n 0, 1) := dk_42 (dk_at dksX2_decides_18 0 rfl rfl)
theorem dX2_decides_417 : decode cX2_decides 417 = .ok (.iconst (-1), 1) := dk_2 (dk_at dksX2_decides_18 1 rfl rfl)
theorem dX2_decides_418 : decode cX2_decides 418 = .ok (.iload 6, 2) := dk_21 6 (dk_at dksX2_decides_18 2 rfl rfl)
theorem dX2_decides_420 : decode cX2_decides 420 = .ok (.iload 5, 2) := dk_21 5 (dk_at dksX2_decides_18 4 rfl rfl)
theorem dX2_decides_422 : decode cX2_decides 422 = .ok (.bipush (-9), 2) := dk_16 247 (dk_at dksX2_decides_18 6 rfl rfl)
theorem dX2_decides_424 : decode cX2_decides 424 = .ok (.if_icmp .ne 7, 3) := dk_160 0 7 (dk_at dksX2_decides_18 8 rfl rfl)
theorem dX2_decides_427 : decode cX2_decides 427 = .ok (.iconst 0, 1) := dk_3 (dk_at dksX2_decides_18 11 rfl rfl)
theorem dX2_decides_428 : decode cX2_decides 428 = .ok (.goto 17, 3) := dk_167 0 17 (dk_at dksX2_decides_18 12 rfl rfl)
theorem dX2_decides_431 : decode cX2_decides 431 = .ok (.aload_n 0, 1) := dk_42 (dk_at dksX2_decides_18 15 rfl rfl)
theorem dX2_decides_432 : decode cX2_decides 432 = .ok (.iload 5, 2) := dk_21 5 (dk_at dksX2_decides_18 16 rfl rfl)
theorem dX2_decides_434 : decode cX2_decides 434 = .ok (.invokevirtual 160, 3) := dk_182 0 160 (dk_at dksX2_decides_18 18 rfl rfl)
theorem dX2_decides_437 : decode cX2_decides 437 = .ok (.ifCond .eq 7, 3) := dk_153 0 7 (dk_at dksX2_decides_18 21 rfl rfl)
theorem dX2_decides_440 : decode cX2_decides 440 = .ok (.iconst 2, 1) := dk_5 (dk_at dksX2_decides_19 0 rfl rfl)
theorem dX2_decides_441 : decode cX2_decides 441 = .ok (.goto 4, 3) := dk_167 0 4 (dk_at dksX2_decides_19 1 rfl rfl)
theorem dX2_decides_444 : decode cX2_decides 444 = .ok (.iconst 1, 1) := dk_4 (dk_at dksX2_decides_19 4 rfl rfl)
theorem dX2_decides_445 : decode cX2_decides 445 = .ok (.iload 5, 2) := dk_21 5 (dk_at dksX2_decides_19 5 rfl rfl)
theorem dX2_decides_447 : decode cX2_decides 447 = .ok (.bipush (-9), 2) := dk_16 247 (dk_at dksX2_decides_19 7 rfl rfl)
theorem dX2_decides_449 : decode cX2_decides 449 = .ok (.if_icmp .ne 8, 3) := dk_160 0 8 (dk_at dksX2_decides_19 9 rfl rfl)
theorem dX2_decides_452 : decode cX2_decides 452 = .ok (.bipush (-9), 2) := dk_16 247 (dk_at dksX2_decides_19 12 rfl rfl)
theorem dX2_decides_454 : decode cX2_decides 454 = .ok (.goto 10, 3) := dk_167 0 10 (dk_at dksX2_decides_19 14 rfl rfl)
theorem dX2_decides_457 : decode cX2_decides 457 = .ok (.aload_n 0, 1) := dk_42 (dk_at dksX2_decides_19 17 rfl rfl)
theorem dX2_decides_458 : decode cX2_decides 458 = .ok (.getfield 32, 3) := dk_180 0 32 (dk_at dksX2_decides_19 18 rfl rfl)
theorem dX2_decides_461 : decode cX2_decides 461 = .ok (.iload 5, 2) := dk_21 5 (dk_at dksX2_decides_19 21 rfl rfl)
theorem dX2_decides_463 : decode cX2_decides 463 = .ok (.iaload, 1) := dk_46 (dk_at dksX2_decides_19 23 rfl rfl)
theorem dX2_decides_464 : decode cX2_decides 464 = .ok (.invokevirtual 182, 3) := dk_182 0 182 (dk_at dksX2_decides_20 0 rfl rfl)
theorem dX2_decides_467 : decode cX2_decides 467 = .ok (.aload_n 0, 1) := dk_42 (dk_at dksX2_decides_20 3 rfl rfl)
theorem dX2_decides_468 : decode cX2_decides 468 = .ok (.aload_n 0, 1) := dk_42 (dk_at dksX2_decides_20 4 rfl rfl)
theorem dX2_decides_469 : decode cX2_decides 469 = .ok (.getfield 170, 3) := dk_180 0 170 (dk_at dksX2_decides_20 5 rfl rfl)
theorem dX2_decides_472 : decode cX2_decides 472 = .ok (.ifCond .ge 7, 3) := dk_156 0 7 (dk_at dksX2_decides_20 8 rfl rfl)
theorem dX2_decides_475 : decode cX2_decides 475 = .ok (.iconst 0, 1) := dk_3 (dk_at dksX2_decides_20 11 rfl rfl)
theorem dX2_decides_476 : decode cX2_decides 476 = .ok (.goto 12, 3) := dk_167 0 12 (dk_at dksX2_decides_20 12 rfl rfl)
theorem dX2_decides_479 : decode cX2_decides 479 = .ok (.aload_n 0, 1) := dk_42 (dk_at dksX2_decides_20 15 rfl rfl)
theorem dX2_decides_480 : decode cX2_decides 480 = .ok (.getfield 170, 3) := dk_180 0 170 (dk_at dksX2_decides_20 16 rfl rfl)
theorem dX2_decides_483 : decode cX2_decides 483 = .ok (.bipush 40, 2) := dk_16 40 (dk_at dksX2_decides_20 19 rfl rfl)
theorem dX2_decides_485 : decode cX2_decides 485 = .ok (.invokestatic 91, 3) := dk_184 0 91 (dk_at dksX2_decides_20 21 rfl rfl)
theorem dX2_decides_488 : decode cX2_decides 488 = .ok (.putfield 170, 3) := dk_181 0 170 (dk_at dksX2_decides_21 0 rfl rfl)
theorem dX2_decides_491 : decode cX2_decides 491 = .ok (.return_, 1) := dk_177 (dk_at dksX2_decides_21 3 rfl rfl)
abbrev cX2_columnIn : ByteArray := prog_10_method_28_code
def yX2_columnIn : MethodName := ⟨RX2, "columnIn", "(I)I"⟩
def dkwX2_columnIn_2 : List UInt8 := [184, 0, 91, 172]
abbrev dktX2_columnIn_2 : List UInt8 := dkwX2_columnIn_2 ++ []
def dkwX2_columnIn_1 : List UInt8 := [42, 180, 0, 20, 27, 46, 46, 42, 42, 180, 0, 32, 27, 46, 5, 182, 0, 120, 42, 180, 0, 154, 104, 96]
abbrev dktX2_columnIn_1 : List UInt8 := dkwX2_columnIn_1 ++ dktX2_columnIn_2
def dkwX2_columnIn_0 : List UInt8 := [42, 27, 182, 0, 160, 153, 0, 13, 42, 27, 4, 96, 182, 0, 163, 167, 0, 36, 16, 40, 42, 180, 0, 56]
abbrev dktX2_columnIn_0 : List UInt8 := dkwX2_columnIn_0 ++ dktX2_columnIn_1
theorem dksX2_columnIn_0 : cX2_columnIn.data.toList.drop 0 = dktX2_columnIn_0 := by decide +kernel
theorem dksX2_columnIn_1 : cX2_columnIn.data.toList.drop 24 = dktX2_columnIn_1 := dk_seg dksX2_columnIn_0 24 rfl rfl
theorem dksX2_columnIn_2 : cX2_columnIn.data.toList.drop 48 = dktX2_columnIn_2 := dk_seg dksX2_columnIn_1 24 rfl rfl
theorem dX2_columnIn_0 : decode cX2_columnIn 0 = .ok (.aload_n 0, 1) := dk_42 (dk_at dksX2_columnIn_0 0 rfl rfl)
theorem dX2_columnIn_1 : decode cX2_columnIn 1 = .ok (.iload_n 1, 1) := dk_27 (dk_at dksX2_columnIn_0 1 rfl rfl)
theorem dX2_columnIn_2 : decode cX2_columnIn 2 = .ok (.invokevirtual 160, 3) := dk_182 0 160 (dk_at dksX2_columnIn_0 2 rfl rfl)
theorem dX2_columnIn_5 : decode cX2_columnIn 5 = .ok (.ifCond .eq 13, 3) := dk_153 0 13 (dk_at dksX2_columnIn_0 5 rfl rfl)
theorem dX2_columnIn_8 : decode cX2_columnIn 8 = .ok (.aload_n 0, 1) := dk_42 (dk_at dksX2_columnIn_0 8 rfl rfl)
theorem dX2_columnIn_9 : decode cX2_columnIn 9 = .ok (.iload_n 1, 1) := dk_27 (dk_at dksX2_columnIn_0 9 rfl rfl)
theorem dX2_columnIn_10 : decode cX2_columnIn 10 = .ok (.iconst 1, 1) := dk_4 (dk_at dksX2_columnIn_0 10 rfl rfl)
theorem dX2_columnIn_11 : decode cX2_columnIn 11 = .ok (.iadd, 1) := dk_96 (dk_at dksX2_columnIn_0 11 rfl rfl)
theorem dX2_columnIn_12 : decode cX2_columnIn 12 = .ok (.invokevirtual 163, 3) := dk_182 0 163 (dk_at dksX2_columnIn_0 12 rfl rfl)
theorem dX2_columnIn_15 : decode cX2_columnIn 15 = .ok (.goto 36, 3) := dk_167 0 36 (dk_at dksX2_columnIn_0 15 rfl rfl)
theorem dX2_columnIn_18 : decode cX2_columnIn 18 = .ok (.bipush 40, 2) := dk_16 40 (dk_at dksX2_columnIn_0 18 rfl rfl)
theorem dX2_columnIn_20 : decode cX2_columnIn 20 = .ok (.aload_n 0, 1) := dk_42 (dk_at dksX2_columnIn_0 20 rfl rfl)
theorem dX2_columnIn_21 : decode cX2_columnIn 21 = .ok (.getfield 56, 3) := dk_180 0 56 (dk_at dksX2_columnIn_0 21 rfl rfl)
theorem dX2_columnIn_24 : decode cX2_columnIn 24 = .ok (.aload_n 0, 1) := dk_42 (dk_at dksX2_columnIn_1 0 rfl rfl)
theorem dX2_columnIn_25 : decode cX2_columnIn 25 = .ok (.getfield 20, 3) := dk_180 0 20 (dk_at dksX2_columnIn_1 1 rfl rfl)
theorem dX2_columnIn_28 : decode cX2_columnIn 28 = .ok (.iload_n 1, 1) := dk_27 (dk_at dksX2_columnIn_1 4 rfl rfl)
theorem dX2_columnIn_29 : decode cX2_columnIn 29 = .ok (.iaload, 1) := dk_46 (dk_at dksX2_columnIn_1 5 rfl rfl)
theorem dX2_columnIn_30 : decode cX2_columnIn 30 = .ok (.iaload, 1) := dk_46 (dk_at dksX2_columnIn_1 6 rfl rfl)
theorem dX2_columnIn_31 : decode cX2_columnIn 31 = .ok (.aload_n 0, 1) := dk_42 (dk_at dksX2_columnIn_1 7 rfl rfl)
theorem dX2_columnIn_32 : decode cX2_columnIn 32 = .ok (.aload_n 0, 1) := dk_42 (dk_at dksX2_columnIn_1 8 rfl rfl)
theorem dX2_columnIn_33 : decode cX2_columnIn 33 = .ok (.getfield 32, 3) := dk_180 0 32 (dk_at dksX2_columnIn_1 9 rfl rfl)
theorem dX2_columnIn_36 : decode cX2_columnIn 36 = .ok (.iload_n 1, 1) := dk_27 (dk_at dksX2_columnIn_1 12 rfl rfl)
theorem dX2_columnIn_37 : decode cX2_columnIn 37 = .ok (.iaload, 1) := dk_46 (dk_at dksX2_columnIn_1 13 rfl rfl)
theorem dX2_columnIn_38 : decode cX2_columnIn 38 = .ok (.iconst 2, 1) := dk_5 (dk_at dksX2_columnIn_1 14 rfl rfl)
theorem dX2_columnIn_39 : decode cX2_columnIn 39 = .ok (.invokevirtual 120, 3) := dk_182 0 120 (dk_at dksX2_columnIn_1 15 rfl rfl)
theorem dX2_columnIn_42 : decode cX2_columnIn 42 = .ok (.aload_n 0, 1) := dk_42 (dk_at dksX2_columnIn_1 18 rfl rfl)
theorem dX2_columnIn_43 : decode cX2_columnIn 43 = .ok (.getfield 154, 3) := dk_180 0 154 (dk_at dksX2_columnIn_1 19 rfl rfl)
theorem dX2_columnIn_46 : decode cX2_columnIn 46 = .ok (.imul, 1) := dk_104 (dk_at dksX2_columnIn_1 22 rfl rfl)
theorem dX2_columnIn_47 : decode cX2_columnIn 47 = .ok (.iadd, 1) := dk_96 (dk_at dksX2_columnIn_1 23 rfl rfl)
theorem dX2_columnIn_48 : decode cX2_columnIn 48 = .ok (.invokestatic 91, 3) := dk_184 0 91 (dk_at dksX2_columnIn_2 0 rfl rfl)
theorem dX2_columnIn_51 : decode cX2_columnIn 51 = .ok (.ireturn, 1) := dk_172 (dk_at dksX2_columnIn_2 3 rfl rfl)
abbrev cX2_isAligned : ByteArray := prog_10_method_27_code
def yX2_isAligned : MethodName := ⟨RX2, "isAligned", "(I)Z"⟩
def dkwX2_isAligned_1 : List UInt8 := [180, 0, 20, 27, 46, 4, 96, 46, 162, 0, 7, 4, 167, 0, 4, 3, 172]
abbrev dktX2_isAligned_1 : List UInt8 := dkwX2_isAligned_1 ++ []
def dkwX2_isAligned_0 : List UInt8 := [42, 42, 180, 0, 32, 27, 46, 6, 182, 0, 120, 4, 160, 0, 26, 27, 4, 96, 42, 180, 0, 41, 42]
abbrev dktX2_isAligned_0 : List UInt8 := dkwX2_isAligned_0 ++ dktX2_isAligned_1
theorem dksX2_isAligned_0 : cX2_isAligned.data.toList.drop 0 = dktX2_isAligned_0 := by decide +kernel
theorem dksX2_isAligned_1 : cX2_isAligned.data.toList.drop 23 = dktX2_isAligned_1 := dk_seg dksX2_isAligned_0 23 rfl rfl
theorem dX2_isAligned_0 : decode cX2_isAligned 0 = .ok (.aload_n 0, 1) := dk_42 (dk_at dksX2_isAligned_0 0 rfl rfl)
theorem dX2_isAligned_1 : decode cX2_isAligned 1 = .ok (.aload_n 0, 1) := dk_42 (dk_at dksX2_isAligned_0 1 rfl rfl)
theorem dX2_isAligned_2 : decode cX2_isAligned 2 = .ok (.getfield 32, 3) := dk_180 0 32 (dk_at dksX2_isAligned_0 2 rfl rfl)
theorem dX2_isAligned_5 : decode cX2_isAligned 5 = .ok (.iload_n 1, 1) := dk_27 (dk_at dksX2_isAligned_0 5 rfl rfl)
theorem dX2_isAligned_6 : decode cX2_isAligned 6 = .ok (.iaload, 1) := dk_46 (dk_at dksX2_isAligned_0 6 rfl rfl)
theorem dX2_isAligned_7 : decode cX2_isAligned 7 = .ok (.iconst 3, 1) := dk_6 (dk_at dksX2_isAligned_0 7 rfl rfl)
theorem dX2_isAligned_8 : decode cX2_isAligned 8 = .ok (.invokevirtual 120, 3) := dk_182 0 120 (dk_at dksX2_isAligned_0 8 rfl rfl)
theorem dX2_isAligned_11 : decode cX2_isAligned 11 = .ok (.iconst 1, 1) := dk_4 (dk_at dksX2_isAligned_0 11 rfl rfl)
theorem dX2_isAligned_12 : decode cX2_isAligned 12 = .ok (.if_icmp .ne 26, 3) := dk_160 0 26 (dk_at dksX2_isAligned_0 12 rfl rfl)
theorem dX2_isAligned_15 : decode cX2_isAligned 15 = .ok (.iload_n 1, 1) := dk_27 (dk_at dksX2_isAligned_0 15 rfl rfl)
theorem dX2_isAligned_16 : decode cX2_isAligned 16 = .ok (.iconst 1, 1) := dk_4 (dk_at dksX2_isAligned_0 16 rfl rfl)
theorem dX2_isAligned_17 : decode cX2_isAligned 17 = .ok (.iadd, 1) := dk_96 (dk_at dksX2_isAligned_0 17 rfl rfl)
theorem dX2_isAligned_18 : decode cX2_isAligned 18 = .ok (.aload_n 0, 1) := dk_42 (dk_at dksX2_isAligned_0 18 rfl rfl)
theorem dX2_isAligned_19 : decode cX2_isAligned 19 = .ok (.getfield 41, 3) := dk_180 0 41 (dk_at dksX2_isAligned_0 19 rfl rfl)
theorem dX2_isAligned_22 : decode cX2_isAligned 22 = .ok (.aload_n 0, 1) := dk_42 (dk_at dksX2_isAligned_0 22 rfl rfl)
theorem dX2_isAligned_23 : decode cX2_isAligned 23 = .ok (.getfield 20, 3) := dk_180 0 20 (dk_at dksX2_isAligned_1 0 rfl rfl)
theorem dX2_isAligned_26 : decode cX2_isAligned 26 = .ok (.iload_n 1, 1) := dk_27 (dk_at dksX2_isAligned_1 3 rfl rfl)
theorem dX2_isAligned_27 : decode cX2_isAligned 27 = .ok (.iaload, 1) := dk_46 (dk_at dksX2_isAligned_1 4 rfl rfl)
theorem dX2_isAligned_28 : decode cX2_isAligned 28 = .ok (.iconst 1, 1) := dk_4 (dk_at dksX2_isAligned_1 5 rfl rfl)
theorem dX2_isAligned_29 : decode cX2_isAligned 29 = .ok (.iadd, 1) := dk_96 (dk_at dksX2_isAligned_1 6 rfl rfl)
theorem dX2_isAligned_30 : decode cX2_isAligned 30 = .ok (.iaload, 1) := dk_46 (dk_at dksX2_isAligned_1 7 rfl rfl)
theorem dX2_isAligned_31 : decode cX2_isAligned 31 = .ok (.if_icmp .ge 7, 3) := dk_162 0 7 (dk_at dksX2_isAligned_1 8 rfl rfl)
theorem dX2_isAligned_34 : decode cX2_isAligned 34 = .ok (.iconst 1, 1) := dk_4 (dk_at dksX2_isAligned_1 11 rfl rfl)
theorem dX2_isAligned_35 : decode cX2_isAligned 35 = .ok (.goto 4, 3) := dk_167 0 4 (dk_at dksX2_isAligned_1 12 rfl rfl)
theorem dX2_isAligned_38 : decode cX2_isAligned 38 = .ok (.iconst 0, 1) := dk_3 (dk_at dksX2_isAligned_1 15 rfl rfl)
theorem dX2_isAligned_39 : decode cX2_isAligned 39 = .ok (.ireturn, 1) := dk_172 (dk_at dksX2_isAligned_1 16 rfl rfl)
abbrev cX2_columnOf : ByteArray := prog_10_method_26_code
def yX2_columnOf : MethodName := ⟨RX2, "columnOf", "(I)I"⟩
def dkwX2_columnOf_0 : List UInt8 := [42, 180, 0, 56, 42, 180, 0, 20, 27, 46, 46, 42, 180, 0, 23, 27, 46, 96, 172]
abbrev dktX2_columnOf_0 : List UInt8 := dkwX2_columnOf_0 ++ []
theorem dksX2_columnOf_0 : cX2_columnOf.data.toList.drop 0 = dktX2_columnOf_0 := by decide +kernel
theorem dX2_columnOf_0 : decode cX2_columnOf 0 = .ok (.aload_n 0, 1) := dk_42 (dk_at dksX2_columnOf_0 0 rfl rfl)
theorem dX2_columnOf_1 : decode cX2_columnOf 1 = .ok (.getfield 56, 3) := dk_180 0 56 (dk_at dksX2_columnOf_0 1 rfl rfl)
theorem dX2_columnOf_4 : decode cX2_columnOf 4 = .ok (.aload_n 0, 1) := dk_42 (dk_at dksX2_columnOf_0 4 rfl rfl)
theorem dX2_columnOf_5 : decode cX2_columnOf 5 = .ok (.getfield 20, 3) := dk_180 0 20 (dk_at dksX2_columnOf_0 5 rfl rfl)
theorem dX2_columnOf_8 : decode cX2_columnOf 8 = .ok (.iload_n 1, 1) := dk_27 (dk_at dksX2_columnOf_0 8 rfl rfl)
theorem dX2_columnOf_9 : decode cX2_columnOf 9 = .ok (.iaload, 1) := dk_46 (dk_at dksX2_columnOf_0 9 rfl rfl)
theorem dX2_columnOf_10 : decode cX2_columnOf 10 = .ok (.iaload, 1) := dk_46 (dk_at dksX2_columnOf_0 10 rfl rfl)
theorem dX2_columnOf_11 : decode cX2_columnOf 11 = .ok (.aload_n 0, 1) := dk_42 (dk_at dksX2_columnOf_0 11 rfl rfl)
theorem dX2_columnOf_12 : decode cX2_columnOf 12 = .ok (.getfield 23, 3) := dk_180 0 23 (dk_at dksX2_columnOf_0 12 rfl rfl)
theorem dX2_columnOf_15 : decode cX2_columnOf 15 = .ok (.iload_n 1, 1) := dk_27 (dk_at dksX2_columnOf_0 15 rfl rfl)
theorem dX2_columnOf_16 : decode cX2_columnOf 16 = .ok (.iaload, 1) := dk_46 (dk_at dksX2_columnOf_0 16 rfl rfl)
theorem dX2_columnOf_17 : decode cX2_columnOf 17 = .ok (.iadd, 1) := dk_96 (dk_at dksX2_columnOf_0 17 rfl rfl)
theorem dX2_columnOf_18 : decode cX2_columnOf 18 = .ok (.ireturn, 1) := dk_172 (dk_at dksX2_columnOf_0 18 rfl rfl)
abbrev cX2_offers : ByteArray := prog_10_method_29_code
def yX2_offers : MethodName := ⟨RX2, "offers", "(IIII)V"⟩
def dkwX2_offers_1 : List UInt8 := [21, 4, 181, 0, 176, 177]
abbrev dktX2_offers_1 : List UInt8 := dkwX2_offers_1 ++ []
def dkwX2_offers_0 : List UInt8 := [27, 42, 180, 0, 167, 164, 0, 24, 42, 27, 181, 0, 167, 42, 28, 181, 0, 170, 42, 29, 181, 0, 173, 42]
abbrev dktX2_offers_0 : List UInt8 := dkwX2_offers_0 ++ dktX2_offers_1
theorem dksX2_offers_0 : cX2_offers.data.toList.drop 0 = dktX2_offers_0 := by decide +kernel
theorem dksX2_offers_1 : cX2_offers.data.toList.drop 24 = dktX2_offers_1 := dk_seg dksX2_offers_0 24 rfl rfl
theorem dX2_offers_0 : decode cX2_offers 0 = .ok (.iload_n 1, 1) := dk_27 (dk_at dksX2_offers_0 0 rfl rfl)
theorem dX2_offers_1 : decode cX2_offers 1 = .ok (.aload_n 0, 1) := dk_42 (dk_at dksX2_offers_0 1 rfl rfl)
theorem dX2_offers_2 : decode cX2_offers 2 = .ok (.getfield 167, 3) := dk_180 0 167 (dk_at dksX2_offers_0 2 rfl rfl)
theorem dX2_offers_5 : decode cX2_offers 5 = .ok (.if_icmp .le 24, 3) := dk_164 0 24 (dk_at dksX2_offers_0 5 rfl rfl)
theorem dX2_offers_8 : decode cX2_offers 8 = .ok (.aload_n 0, 1) := dk_42 (dk_at dksX2_offers_0 8 rfl rfl)
theorem dX2_offers_9 : decode cX2_offers 9 = .ok (.iload_n 1, 1) := dk_27 (dk_at dksX2_offers_0 9 rfl rfl)
theorem dX2_offers_10 : decode cX2_offers 10 = .ok (.putfield 167, 3) := dk_181 0 167 (dk_at dksX2_offers_0 10 rfl rfl)
theorem dX2_offers_13 : decode cX2_offers 13 = .ok (.aload_n 0, 1) := dk_42 (dk_at dksX2_offers_0 13 rfl rfl)
theorem dX2_offers_14 : decode cX2_offers 14 = .ok (.iload_n 2, 1) := dk_28 (dk_at dksX2_offers_0 14 rfl rfl)
theorem dX2_offers_15 : decode cX2_offers 15 = .ok (.putfield 170, 3) := dk_181 0 170 (dk_at dksX2_offers_0 15 rfl rfl)
theorem dX2_offers_18 : decode cX2_offers 18 = .ok (.aload_n 0, 1) := dk_42 (dk_at dksX2_offers_0 18 rfl rfl)
theorem dX2_offers_19 : decode cX2_offers 19 = .ok (.iload_n 3, 1) := dk_29 (dk_at dksX2_offers_0 19 rfl rfl)
theorem dX2_offers_20 : decode cX2_offers 20 = .ok (.putfield 173, 3) := dk_181 0 173 (dk_at dksX2_offers_0 20 rfl rfl)
theorem dX2_offers_23 : decode cX2_offers 23 = .ok (.aload_n 0, 1) := dk_42 (dk_at dksX2_offers_0 23 rfl rfl)
theorem dX2_offers_24 : decode cX2_offers 24 = .ok (.iload 4, 2) := dk_21 4 (dk_at dksX2_offers_1 0 rfl rfl)
theorem dX2_offers_26 : decode cX2_offers 26 = .ok (.putfield 176, 3) := dk_181 0 176 (dk_at dksX2_offers_1 2 rfl rfl)
theorem dX2_offers_29 : decode cX2_offers 29 = .ok (.return_, 1) := dk_177 (dk_at dksX2_offers_1 5 rfl rfl)
abbrev cX2_joinLines : ByteArray := prog_10_method_45_code
def yX2_joinLines : MethodName := ⟨RX2, "joinLines", "(I)I"⟩
def dkwX2_joinLines_9 : List UInt8 := [180, 0, 7, 16, 21, 27, 96, 46, 172]
abbrev dktX2_joinLines_9 : List UInt8 := dkwX2_joinLines_9 ++ []
def dkwX2_joinLines_8 : List UInt8 := [182, 0, 200, 42, 180, 0, 7, 16, 41, 27, 96, 21, 5, 79, 42, 27, 4, 96, 182, 0, 219, 42]
abbrev dktX2_joinLines_8 : List UInt8 := dkwX2_joinLines_8 ++ dktX2_joinLines_9
def dkwX2_joinLines_7 : List UInt8 := [79, 167, 0, 37, 29, 158, 0, 33, 42, 180, 0, 7, 16, 41, 27, 96, 46, 54, 5, 42, 27, 4, 96, 27]
abbrev dktX2_joinLines_7 : List UInt8 := dkwX2_joinLines_7 ++ dktX2_joinLines_8
def dkwX2_joinLines_6 : List UInt8 := [21, 5, 96, 46, 79, 132, 5, 1, 167, 255, 211, 42, 180, 0, 7, 16, 21, 27, 96, 28, 4, 96, 29, 96]
abbrev dktX2_joinLines_6 : List UInt8 := dkwX2_joinLines_6 ++ dktX2_joinLines_7
def dkwX2_joinLines_5 : List UInt8 := [27, 104, 96, 28, 96, 4, 96, 21, 5, 96, 42, 180, 0, 7, 16, 61, 16, 32, 27, 4, 96, 104, 96]
abbrev dktX2_joinLines_5 : List UInt8 := dkwX2_joinLines_5 ++ dktX2_joinLines_6
def dkwX2_joinLines_4 : List UInt8 := [104, 96, 28, 96, 16, 32, 79, 3, 54, 5, 21, 5, 29, 162, 0, 45, 42, 180, 0, 7, 16, 61, 16, 32]
abbrev dktX2_joinLines_4 : List UInt8 := dkwX2_joinLines_4 ++ dktX2_joinLines_5
def dkwX2_joinLines_3 : List UInt8 := [164, 0, 6, 16, 253, 172, 42, 182, 0, 207, 21, 4, 153, 0, 87, 42, 180, 0, 7, 16, 61, 16, 32, 27]
abbrev dktX2_joinLines_3 : List UInt8 := dkwX2_joinLines_3 ++ dktX2_joinLines_4
def dkwX2_joinLines_2 : List UInt8 := [158, 0, 7, 4, 167, 0, 4, 3, 54, 4, 21, 4, 153, 0, 16, 28, 4, 96, 29, 96, 16, 32]
abbrev dktX2_joinLines_2 : List UInt8 := dkwX2_joinLines_2 ++ dktX2_joinLines_3
def dkwX2_joinLines_1 : List UInt8 := [16, 21, 27, 96, 46, 61, 42, 180, 0, 7, 16, 21, 27, 96, 4, 96, 46, 62, 28, 158, 0, 11, 29]
abbrev dktX2_joinLines_1 : List UInt8 := dkwX2_joinLines_1 ++ dktX2_joinLines_2
def dkwX2_joinLines_0 : List UInt8 := [42, 27, 182, 0, 216, 153, 0, 13, 42, 27, 4, 96, 182, 0, 216, 154, 0, 5, 2, 172, 42, 180, 0, 7]
abbrev dktX2_joinLines_0 : List UInt8 := dkwX2_joinLines_0 ++ dktX2_joinLines_1
theorem dksX2_joinLines_0 : cX2_joinLines.data.toList.drop 0 = dktX2_joinLines_0 := by decide +kernel
theorem dksX2_joinLines_1 : cX2_joinLines.data.toList.drop 24 = dktX2_joinLines_1 := dk_seg dksX2_joinLines_0 24 rfl rfl
theorem dksX2_joinLines_2 : cX2_joinLines.data.toList.drop 47 = dktX2_joinLines_2 := dk_seg dksX2_joinLines_1 23 rfl rfl
theorem dksX2_joinLines_3 : cX2_joinLines.data.toList.drop 69 = dktX2_joinLines_3 := dk_seg dksX2_joinLines_2 22 rfl rfl
theorem dksX2_joinLines_4 : cX2_joinLines.data.toList.drop 93 = dktX2_joinLines_4 := dk_seg dksX2_joinLines_3 24 rfl rfl
theorem dksX2_joinLines_5 : cX2_joinLines.data.toList.drop 117 = dktX2_joinLines_5 := dk_seg dksX2_joinLines_4 24 rfl rfl
theorem dksX2_joinLines_6 : cX2_joinLines.data.toList.drop 140 = dktX2_joinLines_6 := dk_seg dksX2_joinLines_5 23 rfl rfl
theorem dksX2_joinLines_7 : cX2_joinLines.data.toList.drop 164 = dktX2_joinLines_7 := dk_seg dksX2_joinLines_6 24 rfl rfl
theorem dksX2_joinLines_8 : cX2_joinLines.data.toList.drop 188 = dktX2_joinLines_8 := dk_seg dksX2_joinLines_7 24 rfl rfl
theorem dksX2_joinLines_9 : cX2_joinLines.data.toList.drop 210 = dktX2_joinLines_9 := dk_seg dksX2_joinLines_8 22 rfl rfl
theorem dX2_joinLines_0 : decode cX2_joinLines 0 = .ok (.aload_n 0, 1) := dk_42 (dk_at dksX2_joinLines_0 0 rfl rfl)
theorem dX2_joinLines_1 : decode cX2_joinLines 1 = .ok (.iload_n 1, 1) := dk_27 (dk_at dksX2_joinLines_0 1 rfl rfl)
theorem dX2_joinLines_2 : decode cX2_joinLines 2 = .ok (.invokevirtual 216, 3) := dk_182 0 216 (dk_at dksX2_joinLines_0 2 rfl rfl)
theorem dX2_joinLines_5 : decode cX2_joinLines 5 = .ok (.ifCond .eq 13, 3) := dk_153 0 13 (dk_at dksX2_joinLines_0 5 rfl rfl)
theorem dX2_joinLines_8 : decode cX2_joinLines 8 = .ok (.aload_n 0, 1) := dk_42 (dk_at dksX2_joinLines_0 8 rfl rfl)
theorem dX2_joinLines_9 : decode cX2_joinLines 9 = .ok (.iload_n 1, 1) := dk_27 (dk_at dksX2_joinLines_0 9 rfl rfl)
theorem dX2_joinLines_10 : decode cX2_joinLines 10 = .ok (.iconst 1, 1) := dk_4 (dk_at dksX2_joinLines_0 10 rfl rfl)
theorem dX2_joinLines_11 : decode cX2_joinLines 11 = .ok (.iadd, 1) := dk_96 (dk_at dksX2_joinLines_0 11 rfl rfl)
theorem dX2_joinLines_12 : decode cX2_joinLines 12 = .ok (.invokevirtual 216, 3) := dk_182 0 216 (dk_at dksX2_joinLines_0 12 rfl rfl)
theorem dX2_joinLines_15 : decode cX2_joinLines 15 = .ok (.ifCond .ne 5, 3) := dk_154 0 5 (dk_at dksX2_joinLines_0 15 rfl rfl)
theorem dX2_joinLines_18 : decode cX2_joinLines 18 = .ok (.iconst (-1), 1) := dk_2 (dk_at dksX2_joinLines_0 18 rfl rfl)
theorem dX2_joinLines_19 : decode cX2_joinLines 19 = .ok (.ireturn, 1) := dk_172 (dk_at dksX2_joinLines_0 19 rfl rfl)
theorem dX2_joinLines_20 : decode cX2_joinLines 20 = .ok (.aload_n 0, 1) := dk_42 (dk_at dksX2_joinLines_0 20 rfl rfl)
theorem dX2_joinLines_21 : decode cX2_joinLines 21 = .ok (.getfield 7, 3) := dk_180 0 7 (dk_at dksX2_joinLines_0 21 rfl rfl)
theorem dX2_joinLines_24 : decode cX2_joinLines 24 = .ok (.bipush 21, 2) := dk_16 21 (dk_at dksX2_joinLines_1 0 rfl rfl)
theorem dX2_joinLines_26 : decode cX2_joinLines 26 = .ok (.iload_n 1, 1) := dk_27 (dk_at dksX2_joinLines_1 2 rfl rfl)
theorem dX2_joinLines_27 : decode cX2_joinLines 27 = .ok (.iadd, 1) := dk_96 (dk_at dksX2_joinLines_1 3 rfl rfl)
theorem dX2_joinLines_28 : decode cX2_joinLines 28 = .ok (.iaload, 1) := dk_46 (dk_at dksX2_joinLines_1 4 rfl rfl)
theorem dX2_joinLines_29 : decode cX2_joinLines 29 = .ok (.istore_n 2, 1) := dk_61 (dk_at dksX2_joinLines_1 5 rfl rfl)
theorem dX2_joinLines_30 : decode cX2_joinLines 30 = .ok (.aload_n 0, 1) := dk_42 (dk_at dksX2_joinLines_1 6 rfl rfl)
theorem dX2_joinLines_31 : decode cX2_joinLines 31 = .ok (.getfield 7, 3) := dk_180 0 7 (dk_at dksX2_joinLines_1 7 rfl rfl)
theorem dX2_joinLines_34 : decode cX2_joinLines 34 = .ok (.bipush 21, 2) := dk_16 21 (dk_at dksX2_joinLines_1 10 rfl rfl)
theorem dX2_joinLines_36 : decode cX2_joinLines 36 = .ok (.iload_n 1, 1) := dk_27 (dk_at dksX2_joinLines_1 12 rfl rfl)
theorem dX2_joinLines_37 : decode cX2_joinLines 37 = .ok (.iadd, 1) := dk_96 (dk_at dksX2_joinLines_1 13 rfl rfl)
theorem dX2_joinLines_38 : decode cX2_joinLines 38 = .ok (.iconst 1, 1) := dk_4 (dk_at dksX2_joinLines_1 14 rfl rfl)
theorem dX2_joinLines_39 : decode cX2_joinLines 39 = .ok (.iadd, 1) := dk_96 (dk_at dksX2_joinLines_1 15 rfl rfl)
theorem dX2_joinLines_40 : decode cX2_joinLines 40 = .ok (.iaload, 1) := dk_46 (dk_at dksX2_joinLines_1 16 rfl rfl)
theorem dX2_joinLines_41 : decode cX2_joinLines 41 = .ok (.istore_n 3, 1) := dk_62 (dk_at dksX2_joinLines_1 17 rfl rfl)
theorem dX2_joinLines_42 : decode cX2_joinLines 42 = .ok (.iload_n 2, 1) := dk_28 (dk_at dksX2_joinLines_1 18 rfl rfl)
theorem dX2_joinLines_43 : decode cX2_joinLines 43 = .ok (.ifCond .le 11, 3) := dk_158 0 11 (dk_at dksX2_joinLines_1 19 rfl rfl)
theorem dX2_joinLines_46 : decode cX2_joinLines 46 = .ok (.iload_n 3, 1) := dk_29 (dk_at dksX2_joinLines_1 22 rfl rfl)
theorem dX2_joinLines_47 : decode cX2_joinLines 47 = .ok (.ifCond .le 7, 3) := dk_158 0 7 (dk_at dksX2_joinLines_2 0 rfl rfl)
theorem dX2_joinLines_50 : decode cX2_joinLines 50 = .ok (.iconst 1, 1) := dk_4 (dk_at dksX2_joinLines_2 3 rfl rfl)
theorem dX2_joinLines_51 : decode cX2_joinLines 51 = .ok (.goto 4, 3) := dk_167 0 4 (dk_at dksX2_joinLines_2 4 rfl rfl)
theorem dX2_joinLines_54 : decode cX2_joinLines 54 = .ok (.iconst 0, 1) := dk_3 (dk_at dksX2_joinLines_2 7 rfl rfl)
theorem dX2_joinLines_55 : decode cX2_joinLines 55 = .ok (.istore 4, 2) := dk_54 4 (dk_at dksX2_joinLines_2 8 rfl rfl)
theorem dX2_joinLines_57 : decode cX2_joinLines 57 = .ok (.iload 4, 2) := dk_21 4 (dk_at dksX2_joinLines_2 10 rfl rfl)
theorem dX2_joinLines_59 : decode cX2_joinLines 59 = .ok (.ifCond .eq 16, 3) := dk_153 0 16 (dk_at dksX2_joinLines_2 12 rfl rfl)
theorem dX2_joinLines_62 : decode cX2_joinLines 62 = .ok (.iload_n 2, 1) := dk_28 (dk_at dksX2_joinLines_2 15 rfl rfl)
theorem dX2_joinLines_63 : decode cX2_joinLines 63 = .ok (.iconst 1, 1) := dk_4 (dk_at dksX2_joinLines_2 16 rfl rfl)
theorem dX2_joinLines_64 : decode cX2_joinLines 64 = .ok (.iadd, 1) := dk_96 (dk_at dksX2_joinLines_2 17 rfl rfl)
theorem dX2_joinLines_65 : decode cX2_joinLines 65 = .ok (.iload_n 3, 1) := dk_29 (dk_at dksX2_joinLines_2 18 rfl rfl)
theorem dX2_joinLines_66 : decode cX2_joinLines 66 = .ok (.iadd, 1) := dk_96 (dk_at dksX2_joinLines_2 19 rfl rfl)
theorem dX2_joinLines_67 : decode cX2_joinLines 67 = .ok (.bipush 32, 2) := dk_16 32 (dk_at dksX2_joinLines_2 20 rfl rfl)
theorem dX2_joinLines_69 : decode cX2_joinLines 69 = .ok (.if_icmp .le 6, 3) := dk_164 0 6 (dk_at dksX2_joinLines_3 0 rfl rfl)
theorem dX2_joinLines_72 : decode cX2_joinLines 72 = .ok (.bipush (-3), 2) := dk_16 253 (dk_at dksX2_joinLines_3 3 rfl rfl)
theorem dX2_joinLines_74 : decode cX2_joinLines 74 = .ok (.ireturn, 1) := dk_172 (dk_at dksX2_joinLines_3 5 rfl rfl)
theorem dX2_joinLines_75 : decode cX2_joinLines 75 = .ok (.aload_n 0, 1) := dk_42 (dk_at dksX2_joinLines_3 6 rfl rfl)
theorem dX2_joinLines_76 : decode cX2_joinLines 76 = .ok (.invokevirtual 207, 3) := dk_182 0 207 (dk_at dksX2_joinLines_3 7 rfl rfl)
theorem dX2_joinLines_79 : decode cX2_joinLines 79 = .ok (.iload 4, 2) := dk_21 4 (dk_at dksX2_joinLines_3 10 rfl rfl)
theorem dX2_joinLines_81 : decode cX2_joinLines 81 = .ok (.ifCond .eq 87, 3) := dk_153 0 87 (dk_at dksX2_joinLines_3 12 rfl rfl)
theorem dX2_joinLines_84 : decode cX2_joinLines 84 = .ok (.aload_n 0, 1) := dk_42 (dk_at dksX2_joinLines_3 15 rfl rfl)
theorem dX2_joinLines_85 : decode cX2_joinLines 85 = .ok (.getfield 7, 3) := dk_180 0 7 (dk_at dksX2_joinLines_3 16 rfl rfl)
theorem dX2_joinLines_88 : decode cX2_joinLines 88 = .ok (.bipush 61, 2) := dk_16 61 (dk_at dksX2_joinLines_3 19 rfl rfl)
theorem dX2_joinLines_90 : decode cX2_joinLines 90 = .ok (.bipush 32, 2) := dk_16 32 (dk_at dksX2_joinLines_3 21 rfl rfl)
theorem dX2_joinLines_92 : decode cX2_joinLines 92 = .ok (.iload_n 1, 1) := dk_27 (dk_at dksX2_joinLines_3 23 rfl rfl)
theorem dX2_joinLines_93 : decode cX2_joinLines 93 = .ok (.imul, 1) := dk_104 (dk_at dksX2_joinLines_4 0 rfl rfl)
theorem dX2_joinLines_94 : decode cX2_joinLines 94 = .ok (.iadd, 1) := dk_96 (dk_at dksX2_joinLines_4 1 rfl rfl)
theorem dX2_joinLines_95 : decode cX2_joinLines 95 = .ok (.iload_n 2, 1) := dk_28 (dk_at dksX2_joinLines_4 2 rfl rfl)
theorem dX2_joinLines_96 : decode cX2_joinLines 96 = .ok (.iadd, 1) := dk_96 (dk_at dksX2_joinLines_4 3 rfl rfl)
theorem dX2_joinLines_97 : decode cX2_joinLines 97 = .ok (.bipush 32, 2) := dk_16 32 (dk_at dksX2_joinLines_4 4 rfl rfl)
theorem dX2_joinLines_99 : decode cX2_joinLines 99 = .ok (.iastore, 1) := dk_79 (dk_at dksX2_joinLines_4 6 rfl rfl)
theorem dX2_joinLines_100 : decode cX2_joinLines 100 = .ok (.iconst 0, 1) := dk_3 (dk_at dksX2_joinLines_4 7 rfl rfl)
theorem dX2_joinLines_101 : decode cX2_joinLines 101 = .ok (.istore 5, 2) := dk_54 5 (dk_at dksX2_joinLines_4 8 rfl rfl)
theorem dX2_joinLines_103 : decode cX2_joinLines 103 = .ok (.iload 5, 2) := dk_21 5 (dk_at dksX2_joinLines_4 10 rfl rfl)
theorem dX2_joinLines_105 : decode cX2_joinLines 105 = .ok (.iload_n 3, 1) := dk_29 (dk_at dksX2_joinLines_4 12 rfl rfl)
theorem dX2_joinLines_106 : decode cX2_joinLines 106 = .ok (.if_icmp .ge 45, 3) := dk_162 0 45 (dk_at dksX2_joinLines_4 13 rfl rfl)
theorem dX2_joinLines_109 : decode cX2_joinLines 109 = .ok (.aload_n 0, 1) := dk_42 (dk_at dksX2_joinLines_4 16 rfl rfl)
theorem dX2_joinLines_110 : decode cX2_joinLines 110 = .ok (.getfield 7, 3) := dk_180 0 7 (dk_at dksX2_joinLines_4 17 rfl rfl)
theorem dX2_joinLines_113 : decode cX2_joinLines 113 = .ok (.bipush 61, 2) := dk_16 61 (dk_at dksX2_joinLines_4 20 rfl rfl)
theorem dX2_joinLines_115 : decode cX2_joinLines 115 = .ok (.bipush 32, 2) := dk_16 32 (dk_at dksX2_joinLines_4 22 rfl rfl)
theorem dX2_joinLines_117 : decode cX2_joinLines 117 = .ok (.iload_n 1, 1) := dk_27 (dk_at dksX2_joinLines_5 0 rfl rfl)
theorem dX2_joinLines_118 : decode cX2_joinLines 118 = .ok (.imul, 1) := dk_104 (dk_at dksX2_joinLines_5 1 rfl rfl)
theorem dX2_joinLines_119 : decode cX2_joinLines 119 = .ok (.iadd, 1) := dk_96 (dk_at dksX2_joinLines_5 2 rfl rfl)
theorem dX2_joinLines_120 : decode cX2_joinLines 120 = .ok (.iload_n 2, 1) := dk_28 (dk_at dksX2_joinLines_5 3 rfl rfl)
theorem dX2_joinLines_121 : decode cX2_joinLines 121 = .ok (.iadd, 1) := dk_96 (dk_at dksX2_joinLines_5 4 rfl rfl)
theorem dX2_joinLines_122 : decode cX2_joinLines 122 = .ok (.iconst 1, 1) := dk_4 (dk_at dksX2_joinLines_5 5 rfl rfl)
theorem dX2_joinLines_123 : decode cX2_joinLines 123 = .ok (.iadd, 1) := dk_96 (dk_at dksX2_joinLines_5 6 rfl rfl)
theorem dX2_joinLines_124 : decode cX2_joinLines 124 = .ok (.iload 5, 2) := dk_21 5 (dk_at dksX2_joinLines_5 7 rfl rfl)
theorem dX2_joinLines_126 : decode cX2_joinLines 126 = .ok (.iadd, 1) := dk_96 (dk_at dksX2_joinLines_5 9 rfl rfl)
theorem dX2_joinLines_127 : decode cX2_joinLines 127 = .ok (.aload_n 0, 1) := dk_42 (dk_at dksX2_joinLines_5 10 rfl rfl)
theorem dX2_joinLines_128 : decode cX2_joinLines 128 = .ok (.getfield 7, 3) := dk_180 0 7 (dk_at dksX2_joinLines_5 11 rfl rfl)
theorem dX2_joinLines_131 : decode cX2_joinLines 131 = .ok (.bipush 61, 2) := dk_16 61 (dk_at dksX2_joinLines_5 14 rfl rfl)
theorem dX2_joinLines_133 : decode cX2_joinLines 133 = .ok (.bipush 32, 2) := dk_16 32 (dk_at dksX2_joinLines_5 16 rfl rfl)
theorem dX2_joinLines_135 : decode cX2_joinLines 135 = .ok (.iload_n 1, 1) := dk_27 (dk_at dksX2_joinLines_5 18 rfl rfl)
theorem dX2_joinLines_136 : decode cX2_joinLines 136 = .ok (.iconst 1, 1) := dk_4 (dk_at dksX2_joinLines_5 19 rfl rfl)
theorem dX2_joinLines_137 : decode cX2_joinLines 137 = .ok (.iadd, 1) := dk_96 (dk_at dksX2_joinLines_5 20 rfl rfl)
theorem dX2_joinLines_138 : decode cX2_joinLines 138 = .ok (.imul, 1) := dk_104 (dk_at dksX2_joinLines_5 21 rfl rfl)
theorem dX2_joinLines_139 : decode cX2_joinLines 139 = .ok (.iadd, 1) := dk_96 (dk_at dksX2_joinLines_5 22 rfl rfl)
theorem dX2_joinLines_140 : decode cX2_joinLines 140 = .ok (.iload 5, 2) := dk_21 5 (dk_at dksX2_joinLines_6 0 rfl rfl)
theorem dX2_joinLines_142 : decode cX2_joinLines 142 = .ok (.iadd, 1) := dk_96 (dk_at dksX2_joinLines_6 2 rfl rfl)
theorem dX2_joinLines_143 : decode cX2_joinLines 143 = .ok (.iaload, 1) := dk_46 (dk_at dksX2_joinLines_6 3 rfl rfl)
theorem dX2_joinLines_144 : decode cX2_joinLines 144 = .ok (.iastore, 1) := dk_79 (dk_at dksX2_joinLines_6 4 rfl rfl)
theorem dX2_joinLines_145 : decode cX2_joinLines 145 = .ok (.iinc 5 1, 3) := dk_132 5 1 (dk_at dksX2_joinLines_6 5 rfl rfl)
theorem dX2_joinLines_148 : decode cX2_joinLines 148 = .ok (.goto (-45), 3) := dk_167 255 211 (dk_at dksX2_joinLines_6 8 rfl rfl)
theorem dX2_joinLines_151 : decode cX2_joinLines 151 = .ok (.aload_n 0, 1) := dk_42 (dk_at dksX2_joinLines_6 11 rfl rfl)
theorem dX2_joinLines_152 : decode cX2_joinLines 152 = .ok (.getfield 7, 3) := dk_180 0 7 (dk_at dksX2_joinLines_6 12 rfl rfl)
theorem dX2_joinLines_155 : decode cX2_joinLines 155 = .ok (.bipush 21, 2) := dk_16 21 (dk_at dksX2_joinLines_6 15 rfl rfl)
theorem dX2_joinLines_157 : decode cX2_joinLines 157 = .ok (.iload_n 1, 1) := dk_27 (dk_at dksX2_joinLines_6 17 rfl rfl)
theorem dX2_joinLines_158 : decode cX2_joinLines 158 = .ok (.iadd, 1) := dk_96 (dk_at dksX2_joinLines_6 18 rfl rfl)
theorem dX2_joinLines_159 : decode cX2_joinLines 159 = .ok (.iload_n 2, 1) := dk_28 (dk_at dksX2_joinLines_6 19 rfl rfl)
theorem dX2_joinLines_160 : decode cX2_joinLines 160 = .ok (.iconst 1, 1) := dk_4 (dk_at dksX2_joinLines_6 20 rfl rfl)
theorem dX2_joinLines_161 : decode cX2_joinLines 161 = .ok (.iadd, 1) := dk_96 (dk_at dksX2_joinLines_6 21 rfl rfl)
theorem dX2_joinLines_162 : decode cX2_joinLines 162 = .ok (.iload_n 3, 1) := dk_29 (dk_at dksX2_joinLines_6 22 rfl rfl)
theorem dX2_joinLines_163 : decode cX2_joinLines 163 = .ok (.iadd, 1) := dk_96 (dk_at dksX2_joinLines_6 23 rfl rfl)
theorem dX2_joinLines_164 : decode cX2_joinLines 164 = .ok (.iastore, 1) := dk_79 (dk_at dksX2_joinLines_7 0 rfl rfl)
theorem dX2_joinLines_165 : decode cX2_joinLines 165 = .ok (.goto 37, 3) := dk_167 0 37 (dk_at dksX2_joinLines_7 1 rfl rfl)
theorem dX2_joinLines_168 : decode cX2_joinLines 168 = .ok (.iload_n 3, 1) := dk_29 (dk_at dksX2_joinLines_7 4 rfl rfl)
theorem dX2_joinLines_169 : decode cX2_joinLines 169 = .ok (.ifCond .le 33, 3) := dk_158 0 33 (dk_at dksX2_joinLines_7 5 rfl rfl)
theorem dX2_joinLines_172 : decode cX2_joinLines 172 = .ok (.aload_n 0, 1) := dk_42 (dk_at dksX2_joinLines_7 8 rfl rfl)
theorem dX2_joinLines_173 : decode cX2_joinLines 173 = .ok (.getfield 7, 3) := dk_180 0 7 (dk_at dksX2_joinLines_7 9 rfl rfl)
theorem dX2_joinLines_176 : decode cX2_joinLines 176 = .ok (.bipush 41, 2) := dk_16 41 (dk_at dksX2_joinLines_7 12 rfl rfl)
theorem dX2_joinLines_178 : decode cX2_joinLines 178 = .ok (.iload_n 1, 1) := dk_27 (dk_at dksX2_joinLines_7 14 rfl rfl)
theorem dX2_joinLines_179 : decode cX2_joinLines 179 = .ok (.iadd, 1) := dk_96 (dk_at dksX2_joinLines_7 15 rfl rfl)
theorem dX2_joinLines_180 : decode cX2_joinLines 180 = .ok (.iaload, 1) := dk_46 (dk_at dksX2_joinLines_7 16 rfl rfl)
theorem dX2_joinLines_181 : decode cX2_joinLines 181 = .ok (.istore 5, 2) := dk_54 5 (dk_at dksX2_joinLines_7 17 rfl rfl)
theorem dX2_joinLines_183 : decode cX2_joinLines 183 = .ok (.aload_n 0, 1) := dk_42 (dk_at dksX2_joinLines_7 19 rfl rfl)
theorem dX2_joinLines_184 : decode cX2_joinLines 184 = .ok (.iload_n 1, 1) := dk_27 (dk_at dksX2_joinLines_7 20 rfl rfl)
theorem dX2_joinLines_185 : decode cX2_joinLines 185 = .ok (.iconst 1, 1) := dk_4 (dk_at dksX2_joinLines_7 21 rfl rfl)
theorem dX2_joinLines_186 : decode cX2_joinLines 186 = .ok (.iadd, 1) := dk_96 (dk_at dksX2_joinLines_7 22 rfl rfl)
theorem dX2_joinLines_187 : decode cX2_joinLines 187 = .ok (.iload_n 1, 1) := dk_27 (dk_at dksX2_joinLines_7 23 rfl rfl)
theorem dX2_joinLines_188 : decode cX2_joinLines 188 = .ok (.invokevirtual 200, 3) := dk_182 0 200 (dk_at dksX2_joinLines_8 0 rfl rfl)
theorem dX2_joinLines_191 : decode cX2_joinLines 191 = .ok (.aload_n 0, 1) := dk_42 (dk_at dksX2_joinLines_8 3 rfl rfl)
theorem dX2_joinLines_192 : decode cX2_joinLines 192 = .ok (.getfield 7, 3) := dk_180 0 7 (dk_at dksX2_joinLines_8 4 rfl rfl)
theorem dX2_joinLines_195 : decode cX2_joinLines 195 = .ok (.bipush 41, 2) := dk_16 41 (dk_at dksX2_joinLines_8 7 rfl rfl)
theorem dX2_joinLines_197 : decode cX2_joinLines 197 = .ok (.iload_n 1, 1) := dk_27 (dk_at dksX2_joinLines_8 9 rfl rfl)
theorem dX2_joinLines_198 : decode cX2_joinLines 198 = .ok (.iadd, 1) := dk_96 (dk_at dksX2_joinLines_8 10 rfl rfl)
theorem dX2_joinLines_199 : decode cX2_joinLines 199 = .ok (.iload 5, 2) := dk_21 5 (dk_at dksX2_joinLines_8 11 rfl rfl)
theorem dX2_joinLines_201 : decode cX2_joinLines 201 = .ok (.iastore, 1) := dk_79 (dk_at dksX2_joinLines_8 13 rfl rfl)
theorem dX2_joinLines_202 : decode cX2_joinLines 202 = .ok (.aload_n 0, 1) := dk_42 (dk_at dksX2_joinLines_8 14 rfl rfl)
theorem dX2_joinLines_203 : decode cX2_joinLines 203 = .ok (.iload_n 1, 1) := dk_27 (dk_at dksX2_joinLines_8 15 rfl rfl)
theorem dX2_joinLines_204 : decode cX2_joinLines 204 = .ok (.iconst 1, 1) := dk_4 (dk_at dksX2_joinLines_8 16 rfl rfl)
theorem dX2_joinLines_205 : decode cX2_joinLines 205 = .ok (.iadd, 1) := dk_96 (dk_at dksX2_joinLines_8 17 rfl rfl)
theorem dX2_joinLines_206 : decode cX2_joinLines 206 = .ok (.invokevirtual 219, 3) := dk_182 0 219 (dk_at dksX2_joinLines_8 18 rfl rfl)
theorem dX2_joinLines_209 : decode cX2_joinLines 209 = .ok (.aload_n 0, 1) := dk_42 (dk_at dksX2_joinLines_8 21 rfl rfl)
theorem dX2_joinLines_210 : decode cX2_joinLines 210 = .ok (.getfield 7, 3) := dk_180 0 7 (dk_at dksX2_joinLines_9 0 rfl rfl)
theorem dX2_joinLines_213 : decode cX2_joinLines 213 = .ok (.bipush 21, 2) := dk_16 21 (dk_at dksX2_joinLines_9 3 rfl rfl)
theorem dX2_joinLines_215 : decode cX2_joinLines 215 = .ok (.iload_n 1, 1) := dk_27 (dk_at dksX2_joinLines_9 5 rfl rfl)
theorem dX2_joinLines_216 : decode cX2_joinLines 216 = .ok (.iadd, 1) := dk_96 (dk_at dksX2_joinLines_9 6 rfl rfl)
theorem dX2_joinLines_217 : decode cX2_joinLines 217 = .ok (.iaload, 1) := dk_46 (dk_at dksX2_joinLines_9 7 rfl rfl)
theorem dX2_joinLines_218 : decode cX2_joinLines 218 = .ok (.ireturn, 1) := dk_172 (dk_at dksX2_joinLines_9 8 rfl rfl)
abbrev cX2_shift : ByteArray := prog_10_method_47_code
def yX2_shift : MethodName := ⟨RX2, "shift", "(III)I"⟩
def dkwX2_shift_5 : List UInt8 := [167, 255, 221, 21, 4, 172]
abbrev dktX2_shift_5 : List UInt8 := dkwX2_shift_5 ++ []
def dkwX2_shift_4 : List UInt8 := [21, 5, 96, 92, 46, 42, 21, 5, 182, 0, 114, 153, 0, 7, 3, 167, 0, 4, 29, 96, 79, 132, 5, 1]
abbrev dktX2_shift_4 : List UInt8 := dkwX2_shift_4 ++ dktX2_shift_5
def dkwX2_shift_3 : List UInt8 := [132, 5, 1, 167, 255, 212, 42, 182, 0, 207, 27, 54, 5, 21, 5, 28, 162, 0, 35, 42, 180, 0, 7, 4]
abbrev dktX2_shift_3 : List UInt8 := dkwX2_shift_3 ++ dktX2_shift_4
def dkwX2_shift_2 : List UInt8 := [180, 0, 7, 4, 21, 5, 96, 46, 29, 96, 3, 16, 40, 184, 0, 79, 154, 0, 6, 16, 254, 172]
abbrev dktX2_shift_2 : List UInt8 := dkwX2_shift_2 ++ dktX2_shift_3
def dkwX2_shift_1 : List UInt8 := [54, 4, 27, 54, 5, 21, 5, 28, 162, 0, 44, 42, 21, 5, 182, 0, 114, 154, 0, 29, 132, 4, 1, 42]
abbrev dktX2_shift_1 : List UInt8 := dkwX2_shift_1 ++ dktX2_shift_2
def dkwX2_shift_0 : List UInt8 := [42, 27, 28, 182, 0, 225, 153, 0, 14, 29, 16, 216, 16, 40, 184, 0, 79, 154, 0, 5, 2, 172, 3]
abbrev dktX2_shift_0 : List UInt8 := dkwX2_shift_0 ++ dktX2_shift_1
theorem dksX2_shift_0 : cX2_shift.data.toList.drop 0 = dktX2_shift_0 := by decide +kernel
theorem dksX2_shift_1 : cX2_shift.data.toList.drop 23 = dktX2_shift_1 := dk_seg dksX2_shift_0 23 rfl rfl
theorem dksX2_shift_2 : cX2_shift.data.toList.drop 47 = dktX2_shift_2 := dk_seg dksX2_shift_1 24 rfl rfl
theorem dksX2_shift_3 : cX2_shift.data.toList.drop 69 = dktX2_shift_3 := dk_seg dksX2_shift_2 22 rfl rfl
theorem dksX2_shift_4 : cX2_shift.data.toList.drop 93 = dktX2_shift_4 := dk_seg dksX2_shift_3 24 rfl rfl
theorem dksX2_shift_5 : cX2_shift.data.toList.drop 117 = dktX2_shift_5 := dk_seg dksX2_shift_4 24 rfl rfl
theorem dX2_shift_0 : decode cX2_shift 0 = .ok (.aload_n 0, 1) := dk_42 (dk_at dksX2_shift_0 0 rfl rfl)
theorem dX2_shift_1 : decode cX2_shift 1 = .ok (.iload_n 1, 1) := dk_27 (dk_at dksX2_shift_0 1 rfl rfl)
theorem dX2_shift_2 : decode cX2_shift 2 = .ok (.iload_n 2, 1) := dk_28 (dk_at dksX2_shift_0 2 rfl rfl)
theorem dX2_shift_3 : decode cX2_shift 3 = .ok (.invokevirtual 225, 3) := dk_182 0 225 (dk_at dksX2_shift_0 3 rfl rfl)
theorem dX2_shift_6 : decode cX2_shift 6 = .ok (.ifCond .eq 14, 3) := dk_153 0 14 (dk_at dksX2_shift_0 6 rfl rfl)
theorem dX2_shift_9 : decode cX2_shift 9 = .ok (.iload_n 3, 1) := dk_29 (dk_at dksX2_shift_0 9 rfl rfl)
theorem dX2_shift_10 : decode cX2_shift 10 = .ok (.bipush (-40), 2) := dk_16 216 (dk_at dksX2_shift_0 10 rfl rfl)
theorem dX2_shift_12 : decode cX2_shift 12 = .ok (.bipush 40, 2) := dk_16 40 (dk_at dksX2_shift_0 12 rfl rfl)
theorem dX2_shift_14 : decode cX2_shift 14 = .ok (.invokestatic 79, 3) := dk_184 0 79 (dk_at dksX2_shift_0 14 rfl rfl)
theorem dX2_shift_17 : decode cX2_shift 17 = .ok (.ifCond .ne 5, 3) := dk_154 0 5 (dk_at dksX2_shift_0 17 rfl rfl)
theorem dX2_shift_20 : decode cX2_shift 20 = .ok (.iconst (-1), 1) := dk_2 (dk_at dksX2_shift_0 20 rfl rfl)
theorem dX2_shift_21 : decode cX2_shift 21 = .ok (.ireturn, 1) := dk_172 (dk_at dksX2_shift_0 21 rfl rfl)
theorem dX2_shift_22 : decode cX2_shift 22 = .ok (.iconst 0, 1) := dk_3 (dk_at dksX2_shift_0 22 rfl rfl)
theorem dX2_shift_23 : decode cX2_shift 23 = .ok (.istore 4, 2) := dk_54 4 (dk_at dksX2_shift_1 0 rfl rfl)
theorem dX2_shift_25 : decode cX2_shift 25 = .ok (.iload_n 1, 1) := dk_27 (dk_at dksX2_shift_1 2 rfl rfl)
theorem dX2_shift_26 : decode cX2_shift 26 = .ok (.istore 5, 2) := dk_54 5 (dk_at dksX2_shift_1 3 rfl rfl)
theorem dX2_shift_28 : decode cX2_shift 28 = .ok (.iload 5, 2) := dk_21 5 (dk_at dksX2_shift_1 5 rfl rfl)
theorem dX2_shift_30 : decode cX2_shift 30 = .ok (.iload_n 2, 1) := dk_28 (dk_at dksX2_shift_1 7 rfl rfl)
theorem dX2_shift_31 : decode cX2_shift 31 = .ok (.if_icmp .ge 44, 3) := dk_162 0 44 (dk_at dksX2_shift_1 8 rfl rfl)
theorem dX2_shift_34 : decode cX2_shift 34 = .ok (.aload_n 0, 1) := dk_42 (dk_at dksX2_shift_1 11 rfl rfl)
theorem dX2_shift_35 : decode cX2_shift 35 = .ok (.iload 5, 2) := dk_21 5 (dk_at dksX2_shift_1 12 rfl rfl)
theorem dX2_shift_37 : decode cX2_shift 37 = .ok (.invokevirtual 114, 3) := dk_182 0 114 (dk_at dksX2_shift_1 14 rfl rfl)
theorem dX2_shift_40 : decode cX2_shift 40 = .ok (.ifCond .ne 29, 3) := dk_154 0 29 (dk_at dksX2_shift_1 17 rfl rfl)
theorem dX2_shift_43 : decode cX2_shift 43 = .ok (.iinc 4 1, 3) := dk_132 4 1 (dk_at dksX2_shift_1 20 rfl rfl)
theorem dX2_shift_46 : decode cX2_shift 46 = .ok (.aload_n 0, 1) := dk_42 (dk_at dksX2_shift_1 23 rfl rfl)
theorem dX2_shift_47 : decode cX2_shift 47 = .ok (.getfield 7, 3) := dk_180 0 7 (dk_at dksX2_shift_2 0 rfl rfl)
theorem dX2_shift_50 : decode cX2_shift 50 = .ok (.iconst 1, 1) := dk_4 (dk_at dksX2_shift_2 3 rfl rfl)
theorem dX2_shift_51 : decode cX2_shift 51 = .ok (.iload 5, 2) := dk_21 5 (dk_at dksX2_shift_2 4 rfl rfl)
theorem dX2_shift_53 : decode cX2_shift 53 = .ok (.iadd, 1) := dk_96 (dk_at dksX2_shift_2 6 rfl rfl)
theorem dX2_shift_54 : decode cX2_shift 54 = .ok (.iaload, 1) := dk_46 (dk_at dksX2_shift_2 7 rfl rfl)
theorem dX2_shift_55 : decode cX2_shift 55 = .ok (.iload_n 3, 1) := dk_29 (dk_at dksX2_shift_2 8 rfl rfl)
theorem dX2_shift_56 : decode cX2_shift 56 = .ok (.iadd, 1) := dk_96 (dk_at dksX2_shift_2 9 rfl rfl)
theorem dX2_shift_57 : decode cX2_shift 57 = .ok (.iconst 0, 1) := dk_3 (dk_at dksX2_shift_2 10 rfl rfl)
theorem dX2_shift_58 : decode cX2_shift 58 = .ok (.bipush 40, 2) := dk_16 40 (dk_at dksX2_shift_2 11 rfl rfl)
theorem dX2_shift_60 : decode cX2_shift 60 = .ok (.invokestatic 79, 3) := dk_184 0 79 (dk_at dksX2_shift_2 13 rfl rfl)
theorem dX2_shift_63 : decode cX2_shift 63 = .ok (.ifCond .ne 6, 3) := dk_154 0 6 (dk_at dksX2_shift_2 16 rfl rfl)
theorem dX2_shift_66 : decode cX2_shift 66 = .ok (.bipush (-2), 2) := dk_16 254 (dk_at dksX2_shift_2 19 rfl rfl)
theorem dX2_shift_68 : decode cX2_shift 68 = .ok (.ireturn, 1) := dk_172 (dk_at dksX2_shift_2 21 rfl rfl)
theorem dX2_shift_69 : decode cX2_shift 69 = .ok (.iinc 5 1, 3) := dk_132 5 1 (dk_at dksX2_shift_3 0 rfl rfl)
theorem dX2_shift_72 : decode cX2_shift 72 = .ok (.goto (-44), 3) := dk_167 255 212 (dk_at dksX2_shift_3 3 rfl rfl)
theorem dX2_shift_75 : decode cX2_shift 75 = .ok (.aload_n 0, 1) := dk_42 (dk_at dksX2_shift_3 6 rfl rfl)
theorem dX2_shift_76 : decode cX2_shift 76 = .ok (.invokevirtual 207, 3) := dk_182 0 207 (dk_at dksX2_shift_3 7 rfl rfl)
theorem dX2_shift_79 : decode cX2_shift 79 = .ok (.iload_n 1, 1) := dk_27 (dk_at dksX2_shift_3 10 rfl rfl)
theorem dX2_shift_80 : decode cX2_shift 80 = .ok (.istore 5, 2) := dk_54 5 (dk_at dksX2_shift_3 11 rfl rfl)
theorem dX2_shift_82 : decode cX2_shift 82 = .ok (.iload 5, 2) := dk_21 5 (dk_at dksX2_shift_3 13 rfl rfl)
theorem dX2_shift_84 : decode cX2_shift 84 = .ok (.iload_n 2, 1) := dk_28 (dk_at dksX2_shift_3 15 rfl rfl)
theorem dX2_shift_85 : decode cX2_shift 85 = .ok (.if_icmp .ge 35, 3) := dk_162 0 35 (dk_at dksX2_shift_3 16 rfl rfl)
theorem dX2_shift_88 : decode cX2_shift 88 = .ok (.aload_n 0, 1) := dk_42 (dk_at dksX2_shift_3 19 rfl rfl)
theorem dX2_shift_89 : decode cX2_shift 89 = .ok (.getfield 7, 3) := dk_180 0 7 (dk_at dksX2_shift_3 20 rfl rfl)
theorem dX2_shift_92 : decode cX2_shift 92 = .ok (.iconst 1, 1) := dk_4 (dk_at dksX2_shift_3 23 rfl rfl)
theorem dX2_shift_93 : decode cX2_shift 93 = .ok (.iload 5, 2) := dk_21 5 (dk_at dksX2_shift_4 0 rfl rfl)
theorem dX2_shift_95 : decode cX2_shift 95 = .ok (.iadd, 1) := dk_96 (dk_at dksX2_shift_4 2 rfl rfl)
theorem dX2_shift_96 : decode cX2_shift 96 = .ok (.dup2, 1) := dk_92 (dk_at dksX2_shift_4 3 rfl rfl)
theorem dX2_shift_97 : decode cX2_shift 97 = .ok (.iaload, 1) := dk_46 (dk_at dksX2_shift_4 4 rfl rfl)
theorem dX2_shift_98 : decode cX2_shift 98 = .ok (.aload_n 0, 1) := dk_42 (dk_at dksX2_shift_4 5 rfl rfl)
theorem dX2_shift_99 : decode cX2_shift 99 = .ok (.iload 5, 2) := dk_21 5 (dk_at dksX2_shift_4 6 rfl rfl)
theorem dX2_shift_101 : decode cX2_shift 101 = .ok (.invokevirtual 114, 3) := dk_182 0 114 (dk_at dksX2_shift_4 8 rfl rfl)
theorem dX2_shift_104 : decode cX2_shift 104 = .ok (.ifCond .eq 7, 3) := dk_153 0 7 (dk_at dksX2_shift_4 11 rfl rfl)
theorem dX2_shift_107 : decode cX2_shift 107 = .ok (.iconst 0, 1) := dk_3 (dk_at dksX2_shift_4 14 rfl rfl)
theorem dX2_shift_108 : decode cX2_shift 108 = .ok (.goto 4, 3) := dk_167 0 4 (dk_at dksX2_shift_4 15 rfl rfl)
theorem dX2_shift_111 : decode cX2_shift 111 = .ok (.iload_n 3, 1) := dk_29 (dk_at dksX2_shift_4 18 rfl rfl)
theorem dX2_shift_112 : decode cX2_shift 112 = .ok (.iadd, 1) := dk_96 (dk_at dksX2_shift_4 19 rfl rfl)
theorem dX2_shift_113 : decode cX2_shift 113 = .ok (.iastore, 1) := dk_79 (dk_at dksX2_shift_4 20 rfl rfl)
theorem dX2_shift_114 : decode cX2_shift 114 = .ok (.iinc 5 1, 3) := dk_132 5 1 (dk_at dksX2_shift_4 21 rfl rfl)
theorem dX2_shift_117 : decode cX2_shift 117 = .ok (.goto (-35), 3) := dk_167 255 221 (dk_at dksX2_shift_5 0 rfl rfl)
theorem dX2_shift_120 : decode cX2_shift 120 = .ok (.iload 4, 2) := dk_21 4 (dk_at dksX2_shift_5 3 rfl rfl)
theorem dX2_shift_122 : decode cX2_shift 122 = .ok (.ireturn, 1) := dk_172 (dk_at dksX2_shift_5 5 rfl rfl)
abbrev cX2_isRange : ByteArray := prog_10_method_46_code
def yX2_isRange : MethodName := ⟨RX2, "isRange", "(II)Z"⟩
def dkwX2_isRange_1 : List UInt8 := [184, 0, 79, 153, 0, 7, 4, 167, 0, 4, 3, 172]
abbrev dktX2_isRange_1 : List UInt8 := dkwX2_isRange_1 ++ []
def dkwX2_isRange_0 : List UInt8 := [27, 3, 42, 180, 0, 7, 3, 46, 184, 0, 79, 153, 0, 21, 28, 27, 42, 180, 0, 7, 3, 46]
abbrev dktX2_isRange_0 : List UInt8 := dkwX2_isRange_0 ++ dktX2_isRange_1
theorem dksX2_isRange_0 : cX2_isRange.data.toList.drop 0 = dktX2_isRange_0 := by decide +kernel
theorem dksX2_isRange_1 : cX2_isRange.data.toList.drop 22 = dktX2_isRange_1 := dk_seg dksX2_isRange_0 22 rfl rfl
theorem dX2_isRange_0 : decode cX2_isRange 0 = .ok (.iload_n 1, 1) := dk_27 (dk_at dksX2_isRange_0 0 rfl rfl)
theorem dX2_isRange_1 : decode cX2_isRange 1 = .ok (.iconst 0, 1) := dk_3 (dk_at dksX2_isRange_0 1 rfl rfl)
theorem dX2_isRange_2 : decode cX2_isRange 2 = .ok (.aload_n 0, 1) := dk_42 (dk_at dksX2_isRange_0 2 rfl rfl)
theorem dX2_isRange_3 : decode cX2_isRange 3 = .ok (.getfield 7, 3) := dk_180 0 7 (dk_at dksX2_isRange_0 3 rfl rfl)
theorem dX2_isRange_6 : decode cX2_isRange 6 = .ok (.iconst 0, 1) := dk_3 (dk_at dksX2_isRange_0 6 rfl rfl)
theorem dX2_isRange_7 : decode cX2_isRange 7 = .ok (.iaload, 1) := dk_46 (dk_at dksX2_isRange_0 7 rfl rfl)
theorem dX2_isRange_8 : decode cX2_isRange 8 = .ok (.invokestatic 79, 3) := dk_184 0 79 (dk_at dksX2_isRange_0 8 rfl rfl)
theorem dX2_isRange_11 : decode cX2_isRange 11 = .ok (.ifCond .eq 21, 3) := dk_153 0 21 (dk_at dksX2_isRange_0 11 rfl rfl)
theorem dX2_isRange_14 : decode cX2_isRange 14 = .ok (.iload_n 2, 1) := dk_28 (dk_at dksX2_isRange_0 14 rfl rfl)
theorem dX2_isRange_15 : decode cX2_isRange 15 = .ok (.iload_n 1, 1) := dk_27 (dk_at dksX2_isRange_0 15 rfl rfl)
theorem dX2_isRange_16 : decode cX2_isRange 16 = .ok (.aload_n 0, 1) := dk_42 (dk_at dksX2_isRange_0 16 rfl rfl)
theorem dX2_isRange_17 : decode cX2_isRange 17 = .ok (.getfield 7, 3) := dk_180 0 7 (dk_at dksX2_isRange_0 17 rfl rfl)
theorem dX2_isRange_20 : decode cX2_isRange 20 = .ok (.iconst 0, 1) := dk_3 (dk_at dksX2_isRange_0 20 rfl rfl)
theorem dX2_isRange_21 : decode cX2_isRange 21 = .ok (.iaload, 1) := dk_46 (dk_at dksX2_isRange_0 21 rfl rfl)
theorem dX2_isRange_22 : decode cX2_isRange 22 = .ok (.invokestatic 79, 3) := dk_184 0 79 (dk_at dksX2_isRange_1 0 rfl rfl)
theorem dX2_isRange_25 : decode cX2_isRange 25 = .ok (.ifCond .eq 7, 3) := dk_153 0 7 (dk_at dksX2_isRange_1 3 rfl rfl)
theorem dX2_isRange_28 : decode cX2_isRange 28 = .ok (.iconst 1, 1) := dk_4 (dk_at dksX2_isRange_1 6 rfl rfl)
theorem dX2_isRange_29 : decode cX2_isRange 29 = .ok (.goto 4, 3) := dk_167 0 4 (dk_at dksX2_isRange_1 7 rfl rfl)
theorem dX2_isRange_32 : decode cX2_isRange 32 = .ok (.iconst 0, 1) := dk_3 (dk_at dksX2_isRange_1 10 rfl rfl)
theorem dX2_isRange_33 : decode cX2_isRange 33 = .ok (.ireturn, 1) := dk_172 (dk_at dksX2_isRange_1 11 rfl rfl)
abbrev cX2_pin : ByteArray := prog_10_method_48_code
def yX2_pin : MethodName := ⟨RX2, "pin", "(I)I"⟩
def dkwX2_pin_1 : List UInt8 := [180, 0, 7, 16, 41, 27, 96, 46, 100, 79, 42, 180, 0, 7, 16, 41, 27, 96, 46, 172]
abbrev dktX2_pin_1 : List UInt8 := dkwX2_pin_1 ++ []
def dkwX2_pin_0 : List UInt8 := [42, 27, 182, 0, 216, 154, 0, 5, 2, 172, 42, 182, 0, 207, 42, 180, 0, 7, 16, 41, 27, 96, 4, 42]
abbrev dktX2_pin_0 : List UInt8 := dkwX2_pin_0 ++ dktX2_pin_1
theorem dksX2_pin_0 : cX2_pin.data.toList.drop 0 = dktX2_pin_0 := by decide +kernel
theorem dksX2_pin_1 : cX2_pin.data.toList.drop 24 = dktX2_pin_1 := dk_seg dksX2_pin_0 24 rfl rfl
theorem dX2_pin_0 : decode cX2_pin 0 = .ok (.aload_n 0, 1) := dk_42 (dk_at dksX2_pin_0 0 rfl rfl)
theorem dX2_pin_1 : decode cX2_pin 1 = .ok (.iload_n 1, 1) := dk_27 (dk_at dksX2_pin_0 1 rfl rfl)
theorem dX2_pin_2 : decode cX2_pin 2 = .ok (.invokevirtual 216, 3) := dk_182 0 216 (dk_at dksX2_pin_0 2 rfl rfl)
theorem dX2_pin_5 : decode cX2_pin 5 = .ok (.ifCond .ne 5, 3) := dk_154 0 5 (dk_at dksX2_pin_0 5 rfl rfl)
theorem dX2_pin_8 : decode cX2_pin 8 = .ok (.iconst (-1), 1) := dk_2 (dk_at dksX2_pin_0 8 rfl rfl)
theorem dX2_pin_9 : decode cX2_pin 9 = .ok (.ireturn, 1) := dk_172 (dk_at dksX2_pin_0 9 rfl rfl)
theorem dX2_pin_10 : decode cX2_pin 10 = .ok (.aload_n 0, 1) := dk_42 (dk_at dksX2_pin_0 10 rfl rfl)
theorem dX2_pin_11 : decode cX2_pin 11 = .ok (.invokevirtual 207, 3) := dk_182 0 207 (dk_at dksX2_pin_0 11 rfl rfl)
theorem dX2_pin_14 : decode cX2_pin 14 = .ok (.aload_n 0, 1) := dk_42 (dk_at dksX2_pin_0 14 rfl rfl)
theorem dX2_pin_15 : decode cX2_pin 15 = .ok (.getfield 7, 3) := dk_180 0 7 (dk_at dksX2_pin_0 15 rfl rfl)
theorem dX2_pin_18 : decode cX2_pin 18 = .ok (.bipush 41, 2) := dk_16 41 (dk_at dksX2_pin_0 18 rfl rfl)
theorem dX2_pin_20 : decode cX2_pin 20 = .ok (.iload_n 1, 1) := dk_27 (dk_at dksX2_pin_0 20 rfl rfl)
theorem dX2_pin_21 : decode cX2_pin 21 = .ok (.iadd, 1) := dk_96 (dk_at dksX2_pin_0 21 rfl rfl)
theorem dX2_pin_22 : decode cX2_pin 22 = .ok (.iconst 1, 1) := dk_4 (dk_at dksX2_pin_0 22 rfl rfl)
theorem dX2_pin_23 : decode cX2_pin 23 = .ok (.aload_n 0, 1) := dk_42 (dk_at dksX2_pin_0 23 rfl rfl)
theorem dX2_pin_24 : decode cX2_pin 24 = .ok (.getfield 7, 3) := dk_180 0 7 (dk_at dksX2_pin_1 0 rfl rfl)
theorem dX2_pin_27 : decode cX2_pin 27 = .ok (.bipush 41, 2) := dk_16 41 (dk_at dksX2_pin_1 3 rfl rfl)
theorem dX2_pin_29 : decode cX2_pin 29 = .ok (.iload_n 1, 1) := dk_27 (dk_at dksX2_pin_1 5 rfl rfl)
theorem dX2_pin_30 : decode cX2_pin 30 = .ok (.iadd, 1) := dk_96 (dk_at dksX2_pin_1 6 rfl rfl)
theorem dX2_pin_31 : decode cX2_pin 31 = .ok (.iaload, 1) := dk_46 (dk_at dksX2_pin_1 7 rfl rfl)
theorem dX2_pin_32 : decode cX2_pin 32 = .ok (.isub, 1) := dk_100 (dk_at dksX2_pin_1 8 rfl rfl)
theorem dX2_pin_33 : decode cX2_pin 33 = .ok (.iastore, 1) := dk_79 (dk_at dksX2_pin_1 9 rfl rfl)
theorem dX2_pin_34 : decode cX2_pin 34 = .ok (.aload_n 0, 1) := dk_42 (dk_at dksX2_pin_1 10 rfl rfl)
theorem dX2_pin_35 : decode cX2_pin 35 = .ok (.getfield 7, 3) := dk_180 0 7 (dk_at dksX2_pin_1 11 rfl rfl)
theorem dX2_pin_38 : decode cX2_pin 38 = .ok (.bipush 41, 2) := dk_16 41 (dk_at dksX2_pin_1 14 rfl rfl)
theorem dX2_pin_40 : decode cX2_pin 40 = .ok (.iload_n 1, 1) := dk_27 (dk_at dksX2_pin_1 16 rfl rfl)
theorem dX2_pin_41 : decode cX2_pin 41 = .ok (.iadd, 1) := dk_96 (dk_at dksX2_pin_1 17 rfl rfl)
theorem dX2_pin_42 : decode cX2_pin 42 = .ok (.iaload, 1) := dk_46 (dk_at dksX2_pin_1 18 rfl rfl)
theorem dX2_pin_43 : decode cX2_pin 43 = .ok (.ireturn, 1) := dk_172 (dk_at dksX2_pin_1 19 rfl rfl)
abbrev cX2_reindent : ByteArray := prog_10_method_49_code
def yX2_reindent : MethodName := ⟨RX2, "reindent", "(II)I"⟩
def dkwX2_reindent_3 : List UInt8 := [132, 4, 1, 167, 255, 226, 29, 184, 0, 231, 172]
abbrev dktX2_reindent_3 : List UInt8 := dkwX2_reindent_3 ++ []
def dkwX2_reindent_2 : List UInt8 := [180, 0, 7, 3, 46, 162, 0, 25, 42, 180, 0, 7, 4, 21, 4, 96, 42, 180, 0, 56, 21, 4, 46, 79]
abbrev dktX2_reindent_2 : List UInt8 := dkwX2_reindent_2 ++ dktX2_reindent_3
def dkwX2_reindent_1 : List UInt8 := [42, 180, 0, 7, 17, 3, 210, 46, 182, 0, 222, 42, 27, 28, 182, 0, 228, 62, 3, 54, 4, 21, 4, 42]
abbrev dktX2_reindent_1 : List UInt8 := dkwX2_reindent_1 ++ dktX2_reindent_2
def dkwX2_reindent_0 : List UInt8 := [42, 27, 28, 182, 0, 225, 154, 0, 5, 2, 172, 42, 182, 0, 207, 42, 42, 180, 0, 7, 17, 3, 209, 46]
abbrev dktX2_reindent_0 : List UInt8 := dkwX2_reindent_0 ++ dktX2_reindent_1
theorem dksX2_reindent_0 : cX2_reindent.data.toList.drop 0 = dktX2_reindent_0 := by decide +kernel
theorem dksX2_reindent_1 : cX2_reindent.data.toList.drop 24 = dktX2_reindent_1 := dk_seg dksX2_reindent_0 24 rfl rfl
theorem dksX2_reindent_2 : cX2_reindent.data.toList.drop 48 = dktX2_reindent_2 := dk_seg dksX2_reindent_1 24 rfl rfl
theorem dksX2_reindent_3 : cX2_reindent.data.toList.drop 72 = dktX2_reindent_3 := dk_seg dksX2_reindent_2 24 rfl rfl
theorem dX2_reindent_0 : decode cX2_reindent 0 = .ok (.aload_n 0, 1) := dk_42 (dk_at dksX2_reindent_0 0 rfl rfl)
theorem dX2_reindent_1 : decode cX2_reindent 1 = .ok (.iload_n 1, 1) := dk_27 (dk_at dksX2_reindent_0 1 rfl rfl)
theorem dX2_reindent_2 : decode cX2_reindent 2 = .ok (.iload_n 2, 1) := dk_28 (dk_at dksX2_reindent_0 2 rfl rfl)
theorem dX2_reindent_3 : decode cX2_reindent 3 = .ok (.invokevirtual 225, 3) := dk_182 0 225 (dk_at dksX2_reindent_0 3 rfl rfl)
theorem dX2_reindent_6 : decode cX2_reindent 6 = .ok (.ifCond .ne 5, 3) := dk_154 0 5 (dk_at dksX2_reindent_0 6 rfl rfl)
theorem dX2_reindent_9 : decode cX2_reindent 9 = .ok (.iconst (-1), 1) := dk_2 (dk_at dksX2_reindent_0 9 rfl rfl)
theorem dX2_reindent_10 : decode cX2_reindent 10 = .ok (.ireturn, 1) := dk_172 (dk_at dksX2_reindent_0 10 rfl rfl)
theorem dX2_reindent_11 : decode cX2_reindent 11 = .ok (.aload_n 0, 1) := dk_42 (dk_at dksX2_reindent_0 11 rfl rfl)
theorem dX2_reindent_12 : decode cX2_reindent 12 = .ok (.invokevirtual 207, 3) := dk_182 0 207 (dk_at dksX2_reindent_0 12 rfl rfl)
theorem dX2_reindent_15 : decode cX2_reindent 15 = .ok (.aload_n 0, 1) := dk_42 (dk_at dksX2_reindent_0 15 rfl rfl)
theorem dX2_reindent_16 : decode cX2_reindent 16 = .ok (.aload_n 0, 1) := dk_42 (dk_at dksX2_reindent_0 16 rfl rfl)
theorem dX2_reindent_17 : decode cX2_reindent 17 = .ok (.getfield 7, 3) := dk_180 0 7 (dk_at dksX2_reindent_0 17 rfl rfl)
theorem dX2_reindent_20 : decode cX2_reindent 20 = .ok (.sipush 977, 3) := dk_17 3 209 (dk_at dksX2_reindent_0 20 rfl rfl)
theorem dX2_reindent_23 : decode cX2_reindent 23 = .ok (.iaload, 1) := dk_46 (dk_at dksX2_reindent_0 23 rfl rfl)
theorem dX2_reindent_24 : decode cX2_reindent 24 = .ok (.aload_n 0, 1) := dk_42 (dk_at dksX2_reindent_1 0 rfl rfl)
theorem dX2_reindent_25 : decode cX2_reindent 25 = .ok (.getfield 7, 3) := dk_180 0 7 (dk_at dksX2_reindent_1 1 rfl rfl)
theorem dX2_reindent_28 : decode cX2_reindent 28 = .ok (.sipush 978, 3) := dk_17 3 210 (dk_at dksX2_reindent_1 4 rfl rfl)
theorem dX2_reindent_31 : decode cX2_reindent 31 = .ok (.iaload, 1) := dk_46 (dk_at dksX2_reindent_1 7 rfl rfl)
theorem dX2_reindent_32 : decode cX2_reindent 32 = .ok (.invokevirtual 222, 3) := dk_182 0 222 (dk_at dksX2_reindent_1 8 rfl rfl)
theorem dX2_reindent_35 : decode cX2_reindent 35 = .ok (.aload_n 0, 1) := dk_42 (dk_at dksX2_reindent_1 11 rfl rfl)
theorem dX2_reindent_36 : decode cX2_reindent 36 = .ok (.iload_n 1, 1) := dk_27 (dk_at dksX2_reindent_1 12 rfl rfl)
theorem dX2_reindent_37 : decode cX2_reindent 37 = .ok (.iload_n 2, 1) := dk_28 (dk_at dksX2_reindent_1 13 rfl rfl)
theorem dX2_reindent_38 : decode cX2_reindent 38 = .ok (.invokevirtual 228, 3) := dk_182 0 228 (dk_at dksX2_reindent_1 14 rfl rfl)
theorem dX2_reindent_41 : decode cX2_reindent 41 = .ok (.istore_n 3, 1) := dk_62 (dk_at dksX2_reindent_1 17 rfl rfl)
theorem dX2_reindent_42 : decode cX2_reindent 42 = .ok (.iconst 0, 1) := dk_3 (dk_at dksX2_reindent_1 18 rfl rfl)
theorem dX2_reindent_43 : decode cX2_reindent 43 = .ok (.istore 4, 2) := dk_54 4 (dk_at dksX2_reindent_1 19 rfl rfl)
theorem dX2_reindent_45 : decode cX2_reindent 45 = .ok (.iload 4, 2) := dk_21 4 (dk_at dksX2_reindent_1 21 rfl rfl)
theorem dX2_reindent_47 : decode cX2_reindent 47 = .ok (.aload_n 0, 1) := dk_42 (dk_at dksX2_reindent_1 23 rfl rfl)
theorem dX2_reindent_48 : decode cX2_reindent 48 = .ok (.getfield 7, 3) := dk_180 0 7 (dk_at dksX2_reindent_2 0 rfl rfl)
theorem dX2_reindent_51 : decode cX2_reindent 51 = .ok (.iconst 0, 1) := dk_3 (dk_at dksX2_reindent_2 3 rfl rfl)
theorem dX2_reindent_52 : decode cX2_reindent 52 = .ok (.iaload, 1) := dk_46 (dk_at dksX2_reindent_2 4 rfl rfl)
theorem dX2_reindent_53 : decode cX2_reindent 53 = .ok (.if_icmp .ge 25, 3) := dk_162 0 25 (dk_at dksX2_reindent_2 5 rfl rfl)
theorem dX2_reindent_56 : decode cX2_reindent 56 = .ok (.aload_n 0, 1) := dk_42 (dk_at dksX2_reindent_2 8 rfl rfl)
theorem dX2_reindent_57 : decode cX2_reindent 57 = .ok (.getfield 7, 3) := dk_180 0 7 (dk_at dksX2_reindent_2 9 rfl rfl)
theorem dX2_reindent_60 : decode cX2_reindent 60 = .ok (.iconst 1, 1) := dk_4 (dk_at dksX2_reindent_2 12 rfl rfl)
theorem dX2_reindent_61 : decode cX2_reindent 61 = .ok (.iload 4, 2) := dk_21 4 (dk_at dksX2_reindent_2 13 rfl rfl)
theorem dX2_reindent_63 : decode cX2_reindent 63 = .ok (.iadd, 1) := dk_96 (dk_at dksX2_reindent_2 15 rfl rfl)
theorem dX2_reindent_64 : decode cX2_reindent 64 = .ok (.aload_n 0, 1) := dk_42 (dk_at dksX2_reindent_2 16 rfl rfl)
theorem dX2_reindent_65 : decode cX2_reindent 65 = .ok (.getfield 56, 3) := dk_180 0 56 (dk_at dksX2_reindent_2 17 rfl rfl)
theorem dX2_reindent_68 : decode cX2_reindent 68 = .ok (.iload 4, 2) := dk_21 4 (dk_at dksX2_reindent_2 20 rfl rfl)
theorem dX2_reindent_70 : decode cX2_reindent 70 = .ok (.iaload, 1) := dk_46 (dk_at dksX2_reindent_2 22 rfl rfl)
theorem dX2_reindent_71 : decode cX2_reindent 71 = .ok (.iastore, 1) := dk_79 (dk_at dksX2_reindent_2 23 rfl rfl)
theorem dX2_reindent_72 : decode cX2_reindent 72 = .ok (.iinc 4 1, 3) := dk_132 4 1 (dk_at dksX2_reindent_3 0 rfl rfl)
theorem dX2_reindent_75 : decode cX2_reindent 75 = .ok (.goto (-30), 3) := dk_167 255 226 (dk_at dksX2_reindent_3 3 rfl rfl)
theorem dX2_reindent_78 : decode cX2_reindent 78 = .ok (.iload_n 3, 1) := dk_29 (dk_at dksX2_reindent_3 6 rfl rfl)
theorem dX2_reindent_79 : decode cX2_reindent 79 = .ok (.invokestatic 231, 3) := dk_184 0 231 (dk_at dksX2_reindent_3 7 rfl rfl)
theorem dX2_reindent_82 : decode cX2_reindent 82 = .ok (.ireturn, 1) := dk_172 (dk_at dksX2_reindent_3 10 rfl rfl)
abbrev cX2_settles : ByteArray := prog_10_method_32_code
def yX2_settles : MethodName := ⟨RX2, "settles", "(II)I"⟩
def dkwX2_settles_3 : List UInt8 := [167, 0, 7, 4, 21, 4, 120, 128, 62, 132, 4, 1, 167, 255, 181, 29, 172]
abbrev dktX2_settles_3 : List UInt8 := dkwX2_settles_3 ++ []
def dkwX2_settles_2 : List UInt8 := [180, 0, 170, 79, 29, 42, 180, 0, 170, 42, 180, 0, 7, 4, 21, 4, 96, 46, 160, 0, 7, 3]
abbrev dktX2_settles_2 : List UInt8 := dkwX2_settles_2 ++ dktX2_settles_3
def dkwX2_settles_1 : List UInt8 := [16, 41, 21, 4, 96, 46, 154, 0, 47, 42, 21, 4, 182, 0, 188, 42, 180, 0, 56, 21, 4, 42]
abbrev dktX2_settles_1 : List UInt8 := dkwX2_settles_1 ++ dktX2_settles_2
def dkwX2_settles_0 : List UInt8 := [3, 62, 27, 54, 4, 21, 4, 28, 162, 0, 75, 42, 21, 4, 182, 0, 185, 153, 0, 60, 42, 180, 0, 7]
abbrev dktX2_settles_0 : List UInt8 := dkwX2_settles_0 ++ dktX2_settles_1
theorem dksX2_settles_0 : cX2_settles.data.toList.drop 0 = dktX2_settles_0 := by decide +kernel
theorem dksX2_settles_1 : cX2_settles.data.toList.drop 24 = dktX2_settles_1 := dk_seg dksX2_settles_0 24 rfl rfl
theorem dksX2_settles_2 : cX2_settles.data.toList.drop 46 = dktX2_settles_2 := dk_seg dksX2_settles_1 22 rfl rfl
theorem dksX2_settles_3 : cX2_settles.data.toList.drop 68 = dktX2_settles_3 := dk_seg dksX2_settles_2 22 rfl rfl
theorem dX2_settles_0 : decode cX2_settles 0 = .ok (.iconst 0, 1) := dk_3 (dk_at dksX2_settles_0 0 rfl rfl)
theorem dX2_settles_1 : decode cX2_settles 1 = .ok (.istore_n 3, 1) := dk_62 (dk_at dksX2_settles_0 1 rfl rfl)
theorem dX2_settles_2 : decode cX2_settles 2 = .ok (.iload_n 1, 1) := dk_27 (dk_at dksX2_settles_0 2 rfl rfl)
theorem dX2_settles_3 : decode cX2_settles 3 = .ok (.istore 4, 2) := dk_54 4 (dk_at dksX2_settles_0 3 rfl rfl)
theorem dX2_settles_5 : decode cX2_settles 5 = .ok (.iload 4, 2) := dk_21 4 (dk_at dksX2_settles_0 5 rfl rfl)
theorem dX2_settles_7 : decode cX2_settles 7 = .ok (.iload_n 2, 1) := dk_28 (dk_at dksX2_settles_0 7 rfl rfl)
theorem dX2_settles_8 : decode cX2_settles 8 = .ok (.if_icmp .ge 75, 3) := dk_162 0 75 (dk_at dksX2_settles_0 8 rfl rfl)
theorem dX2_settles_11 : decode cX2_settles 11 = .ok (.aload_n 0, 1) := dk_42 (dk_at dksX2_settles_0 11 rfl rfl)
theorem dX2_settles_12 : decode cX2_settles 12 = .ok (.iload 4, 2) := dk_21 4 (dk_at dksX2_settles_0 12 rfl rfl)
theorem dX2_settles_14 : decode cX2_settles 14 = .ok (.invokevirtual 185, 3) := dk_182 0 185 (dk_at dksX2_settles_0 14 rfl rfl)
theorem dX2_settles_17 : decode cX2_settles 17 = .ok (.ifCond .eq 60, 3) := dk_153 0 60 (dk_at dksX2_settles_0 17 rfl rfl)
theorem dX2_settles_20 : decode cX2_settles 20 = .ok (.aload_n 0, 1) := dk_42 (dk_at dksX2_settles_0 20 rfl rfl)
theorem dX2_settles_21 : decode cX2_settles 21 = .ok (.getfield 7, 3) := dk_180 0 7 (dk_at dksX2_settles_0 21 rfl rfl)
theorem dX2_settles_24 : decode cX2_settles 24 = .ok (.bipush 41, 2) := dk_16 41 (dk_at dksX2_settles_1 0 rfl rfl)
theorem dX2_settles_26 : decode cX2_settles 26 = .ok (.iload 4, 2) := dk_21 4 (dk_at dksX2_settles_1 2 rfl rfl)
theorem dX2_settles_28 : decode cX2_settles 28 = .ok (.iadd, 1) := dk_96 (dk_at dksX2_settles_1 4 rfl rfl)
theorem dX2_settles_29 : decode cX2_settles 29 = .ok (.iaload, 1) := dk_46 (dk_at dksX2_settles_1 5 rfl rfl)
theorem dX2_settles_30 : decode cX2_settles 30 = .ok (.ifCond .ne 47, 3) := dk_154 0 47 (dk_at dksX2_settles_1 6 rfl rfl)
theorem dX2_settles_33 : decode cX2_settles 33 = .ok (.aload_n 0, 1) := dk_42 (dk_at dksX2_settles_1 9 rfl rfl)
theorem dX2_settles_34 : decode cX2_settles 34 = .ok (.iload 4, 2) := dk_21 4 (dk_at dksX2_settles_1 10 rfl rfl)
theorem dX2_settles_36 : decode cX2_settles 36 = .ok (.invokevirtual 188, 3) := dk_182 0 188 (dk_at dksX2_settles_1 12 rfl rfl)
theorem dX2_settles_39 : decode cX2_settles 39 = .ok (.aload_n 0, 1) := dk_42 (dk_at dksX2_settles_1 15 rfl rfl)
theorem dX2_settles_40 : decode cX2_settles 40 = .ok (.getfield 56, 3) := dk_180 0 56 (dk_at dksX2_settles_1 16 rfl rfl)
theorem dX2_settles_43 : decode cX2_settles 43 = .ok (.iload 4, 2) := dk_21 4 (dk_at dksX2_settles_1 19 rfl rfl)
theorem dX2_settles_45 : decode cX2_settles 45 = .ok (.aload_n 0, 1) := dk_42 (dk_at dksX2_settles_1 21 rfl rfl)
theorem dX2_settles_46 : decode cX2_settles 46 = .ok (.getfield 170, 3) := dk_180 0 170 (dk_at dksX2_settles_2 0 rfl rfl)
theorem dX2_settles_49 : decode cX2_settles 49 = .ok (.iastore, 1) := dk_79 (dk_at dksX2_settles_2 3 rfl rfl)
theorem dX2_settles_50 : decode cX2_settles 50 = .ok (.iload_n 3, 1) := dk_29 (dk_at dksX2_settles_2 4 rfl rfl)
theorem dX2_settles_51 : decode cX2_settles 51 = .ok (.aload_n 0, 1) := dk_42 (dk_at dksX2_settles_2 5 rfl rfl)
theorem dX2_settles_52 : decode cX2_settles 52 = .ok (.getfield 170, 3) := dk_180 0 170 (dk_at dksX2_settles_2 6 rfl rfl)
theorem dX2_settles_55 : decode cX2_settles 55 = .ok (.aload_n 0, 1) := dk_42 (dk_at dksX2_settles_2 9 rfl rfl)
theorem dX2_settles_56 : decode cX2_settles 56 = .ok (.getfield 7, 3) := dk_180 0 7 (dk_at dksX2_settles_2 10 rfl rfl)
theorem dX2_settles_59 : decode cX2_settles 59 = .ok (.iconst 1, 1) := dk_4 (dk_at dksX2_settles_2 13 rfl rfl)
theorem dX2_settles_60 : decode cX2_settles 60 = .ok (.iload 4, 2) := dk_21 4 (dk_at dksX2_settles_2 14 rfl rfl)
theorem dX2_settles_62 : decode cX2_settles 62 = .ok (.iadd, 1) := dk_96 (dk_at dksX2_settles_2 16 rfl rfl)
theorem dX2_settles_63 : decode cX2_settles 63 = .ok (.iaload, 1) := dk_46 (dk_at dksX2_settles_2 17 rfl rfl)
theorem dX2_settles_64 : decode cX2_settles 64 = .ok (.if_icmp .ne 7, 3) := dk_160 0 7 (dk_at dksX2_settles_2 18 rfl rfl)
theorem dX2_settles_67 : decode cX2_settles 67 = .ok (.iconst 0, 1) := dk_3 (dk_at dksX2_settles_2 21 rfl rfl)
theorem dX2_settles_68 : decode cX2_settles 68 = .ok (.goto 7, 3) := dk_167 0 7 (dk_at dksX2_settles_3 0 rfl rfl)
theorem dX2_settles_71 : decode cX2_settles 71 = .ok (.iconst 1, 1) := dk_4 (dk_at dksX2_settles_3 3 rfl rfl)
theorem dX2_settles_72 : decode cX2_settles 72 = .ok (.iload 4, 2) := dk_21 4 (dk_at dksX2_settles_3 4 rfl rfl)
theorem dX2_settles_74 : decode cX2_settles 74 = .ok (.ishl, 1) := dk_120 (dk_at dksX2_settles_3 6 rfl rfl)
theorem dX2_settles_75 : decode cX2_settles 75 = .ok (.ior, 1) := dk_128 (dk_at dksX2_settles_3 7 rfl rfl)
theorem dX2_settles_76 : decode cX2_settles 76 = .ok (.istore_n 3, 1) := dk_62 (dk_at dksX2_settles_3 8 rfl rfl)
theorem dX2_settles_77 : decode cX2_settles 77 = .ok (.iinc 4 1, 3) := dk_132 4 1 (dk_at dksX2_settles_3 9 rfl rfl)
theorem dX2_settles_80 : decode cX2_settles 80 = .ok (.goto (-75), 3) := dk_167 255 181 (dk_at dksX2_settles_3 12 rfl rfl)
theorem dX2_settles_83 : decode cX2_settles 83 = .ok (.iload_n 3, 1) := dk_29 (dk_at dksX2_settles_3 15 rfl rfl)
theorem dX2_settles_84 : decode cX2_settles 84 = .ok (.ireturn, 1) := dk_172 (dk_at dksX2_settles_3 16 rfl rfl)
abbrev cX2_bits : ByteArray := prog_10_method_33_code
def yX2_bits : MethodName := ⟨RX2, "bits", "(I)I"⟩
def dkwX2_bits_1 : List UInt8 := [27, 172]
abbrev dktX2_bits_1 : List UInt8 := dkwX2_bits_1 ++ []
def dkwX2_bits_0 : List UInt8 := [3, 60, 3, 61, 28, 16, 20, 162, 0, 17, 27, 26, 28, 122, 4, 126, 96, 60, 132, 2, 1, 167, 255, 239]
abbrev dktX2_bits_0 : List UInt8 := dkwX2_bits_0 ++ dktX2_bits_1
theorem dksX2_bits_0 : cX2_bits.data.toList.drop 0 = dktX2_bits_0 := by decide +kernel
theorem dksX2_bits_1 : cX2_bits.data.toList.drop 24 = dktX2_bits_1 := dk_seg dksX2_bits_0 24 rfl rfl
theorem dX2_bits_0 : decode cX2_bits 0 = .ok (.iconst 0, 1) := dk_3 (dk_at dksX2_bits_0 0 rfl rfl)
theorem dX2_bits_1 : decode cX2_bits 1 = .ok (.istore_n 1, 1) := dk_60 (dk_at dksX2_bits_0 1 rfl rfl)
theorem dX2_bits_2 : decode cX2_bits 2 = .ok (.iconst 0, 1) := dk_3 (dk_at dksX2_bits_0 2 rfl rfl)
theorem dX2_bits_3 : decode cX2_bits 3 = .ok (.istore_n 2, 1) := dk_61 (dk_at dksX2_bits_0 3 rfl rfl)
theorem dX2_bits_4 : decode cX2_bits 4 = .ok (.iload_n 2, 1) := dk_28 (dk_at dksX2_bits_0 4 rfl rfl)
theorem dX2_bits_5 : decode cX2_bits 5 = .ok (.bipush 20, 2) := dk_16 20 (dk_at dksX2_bits_0 5 rfl rfl)
theorem dX2_bits_7 : decode cX2_bits 7 = .ok (.if_icmp .ge 17, 3) := dk_162 0 17 (dk_at dksX2_bits_0 7 rfl rfl)
theorem dX2_bits_10 : decode cX2_bits 10 = .ok (.iload_n 1, 1) := dk_27 (dk_at dksX2_bits_0 10 rfl rfl)
theorem dX2_bits_11 : decode cX2_bits 11 = .ok (.iload_n 0, 1) := dk_26 (dk_at dksX2_bits_0 11 rfl rfl)
theorem dX2_bits_12 : decode cX2_bits 12 = .ok (.iload_n 2, 1) := dk_28 (dk_at dksX2_bits_0 12 rfl rfl)
theorem dX2_bits_13 : decode cX2_bits 13 = .ok (.ishr, 1) := dk_122 (dk_at dksX2_bits_0 13 rfl rfl)
theorem dX2_bits_14 : decode cX2_bits 14 = .ok (.iconst 1, 1) := dk_4 (dk_at dksX2_bits_0 14 rfl rfl)
theorem dX2_bits_15 : decode cX2_bits 15 = .ok (.iand, 1) := dk_126 (dk_at dksX2_bits_0 15 rfl rfl)
theorem dX2_bits_16 : decode cX2_bits 16 = .ok (.iadd, 1) := dk_96 (dk_at dksX2_bits_0 16 rfl rfl)
theorem dX2_bits_17 : decode cX2_bits 17 = .ok (.istore_n 1, 1) := dk_60 (dk_at dksX2_bits_0 17 rfl rfl)
theorem dX2_bits_18 : decode cX2_bits 18 = .ok (.iinc 2 1, 3) := dk_132 2 1 (dk_at dksX2_bits_0 18 rfl rfl)
theorem dX2_bits_21 : decode cX2_bits 21 = .ok (.goto (-17), 3) := dk_167 255 239 (dk_at dksX2_bits_0 21 rfl rfl)
theorem dX2_bits_24 : decode cX2_bits 24 = .ok (.iload_n 1, 1) := dk_27 (dk_at dksX2_bits_1 0 rfl rfl)
theorem dX2_bits_25 : decode cX2_bits 25 = .ok (.ireturn, 1) := dk_172 (dk_at dksX2_bits_1 1 rfl rfl)
abbrev cX2_lines : ByteArray := prog_10_method_50_code
def yX2_lines : MethodName := ⟨RX2, "lines", "()I"⟩
def dkwX2_lines_0 : List UInt8 := [42, 180, 0, 7, 3, 46, 172]
abbrev dktX2_lines_0 : List UInt8 := dkwX2_lines_0 ++ []
theorem dksX2_lines_0 : cX2_lines.data.toList.drop 0 = dktX2_lines_0 := by decide +kernel
theorem dX2_lines_0 : decode cX2_lines 0 = .ok (.aload_n 0, 1) := dk_42 (dk_at dksX2_lines_0 0 rfl rfl)
theorem dX2_lines_1 : decode cX2_lines 1 = .ok (.getfield 7, 3) := dk_180 0 7 (dk_at dksX2_lines_0 1 rfl rfl)
theorem dX2_lines_4 : decode cX2_lines 4 = .ok (.iconst 0, 1) := dk_3 (dk_at dksX2_lines_0 4 rfl rfl)
theorem dX2_lines_5 : decode cX2_lines 5 = .ok (.iaload, 1) := dk_46 (dk_at dksX2_lines_0 5 rfl rfl)
theorem dX2_lines_6 : decode cX2_lines 6 = .ok (.ireturn, 1) := dk_172 (dk_at dksX2_lines_0 6 rfl rfl)
abbrev cX2_indentation : ByteArray := prog_10_method_51_code
def yX2_indentation : MethodName := ⟨RX2, "indentation", "(I)I"⟩
def dkwX2_indentation_0 : List UInt8 := [42, 27, 182, 0, 216, 153, 0, 14, 42, 180, 0, 7, 4, 27, 96, 46, 167, 0, 4, 2, 172]
abbrev dktX2_indentation_0 : List UInt8 := dkwX2_indentation_0 ++ []
theorem dksX2_indentation_0 : cX2_indentation.data.toList.drop 0 = dktX2_indentation_0 := by decide +kernel
theorem dX2_indentation_0 : decode cX2_indentation 0 = .ok (.aload_n 0, 1) := dk_42 (dk_at dksX2_indentation_0 0 rfl rfl)
theorem dX2_indentation_1 : decode cX2_indentation 1 = .ok (.iload_n 1, 1) := dk_27 (dk_at dksX2_indentation_0 1 rfl rfl)
theorem dX2_indentation_2 : decode cX2_indentation 2 = .ok (.invokevirtual 216, 3) := dk_182 0 216 (dk_at dksX2_indentation_0 2 rfl rfl)
theorem dX2_indentation_5 : decode cX2_indentation 5 = .ok (.ifCond .eq 14, 3) := dk_153 0 14 (dk_at dksX2_indentation_0 5 rfl rfl)
theorem dX2_indentation_8 : decode cX2_indentation 8 = .ok (.aload_n 0, 1) := dk_42 (dk_at dksX2_indentation_0 8 rfl rfl)
theorem dX2_indentation_9 : decode cX2_indentation 9 = .ok (.getfield 7, 3) := dk_180 0 7 (dk_at dksX2_indentation_0 9 rfl rfl)
theorem dX2_indentation_12 : decode cX2_indentation 12 = .ok (.iconst 1, 1) := dk_4 (dk_at dksX2_indentation_0 12 rfl rfl)
theorem dX2_indentation_13 : decode cX2_indentation 13 = .ok (.iload_n 1, 1) := dk_27 (dk_at dksX2_indentation_0 13 rfl rfl)
theorem dX2_indentation_14 : decode cX2_indentation 14 = .ok (.iadd, 1) := dk_96 (dk_at dksX2_indentation_0 14 rfl rfl)
theorem dX2_indentation_15 : decode cX2_indentation 15 = .ok (.iaload, 1) := dk_46 (dk_at dksX2_indentation_0 15 rfl rfl)
theorem dX2_indentation_16 : decode cX2_indentation 16 = .ok (.goto 4, 3) := dk_167 0 4 (dk_at dksX2_indentation_0 16 rfl rfl)
theorem dX2_indentation_19 : decode cX2_indentation 19 = .ok (.iconst (-1), 1) := dk_2 (dk_at dksX2_indentation_0 19 rfl rfl)
theorem dX2_indentation_20 : decode cX2_indentation 20 = .ok (.ireturn, 1) := dk_172 (dk_at dksX2_indentation_0 20 rfl rfl)
abbrev cX2_length : ByteArray := prog_10_method_52_code
def yX2_length : MethodName := ⟨RX2, "length", "(I)I"⟩
def dkwX2_length_0 : List UInt8 := [42, 27, 182, 0, 216, 153, 0, 15, 42, 180, 0, 7, 16, 21, 27, 96, 46, 167, 0, 4, 2, 172]
abbrev dktX2_length_0 : List UInt8 := dkwX2_length_0 ++ []
theorem dksX2_length_0 : cX2_length.data.toList.drop 0 = dktX2_length_0 := by decide +kernel
theorem dX2_length_0 : decode cX2_length 0 = .ok (.aload_n 0, 1) := dk_42 (dk_at dksX2_length_0 0 rfl rfl)
theorem dX2_length_1 : decode cX2_length 1 = .ok (.iload_n 1, 1) := dk_27 (dk_at dksX2_length_0 1 rfl rfl)
theorem dX2_length_2 : decode cX2_length 2 = .ok (.invokevirtual 216, 3) := dk_182 0 216 (dk_at dksX2_length_0 2 rfl rfl)
theorem dX2_length_5 : decode cX2_length 5 = .ok (.ifCond .eq 15, 3) := dk_153 0 15 (dk_at dksX2_length_0 5 rfl rfl)
theorem dX2_length_8 : decode cX2_length 8 = .ok (.aload_n 0, 1) := dk_42 (dk_at dksX2_length_0 8 rfl rfl)
theorem dX2_length_9 : decode cX2_length 9 = .ok (.getfield 7, 3) := dk_180 0 7 (dk_at dksX2_length_0 9 rfl rfl)
theorem dX2_length_12 : decode cX2_length 12 = .ok (.bipush 21, 2) := dk_16 21 (dk_at dksX2_length_0 12 rfl rfl)
theorem dX2_length_14 : decode cX2_length 14 = .ok (.iload_n 1, 1) := dk_27 (dk_at dksX2_length_0 14 rfl rfl)
theorem dX2_length_15 : decode cX2_length 15 = .ok (.iadd, 1) := dk_96 (dk_at dksX2_length_0 15 rfl rfl)
theorem dX2_length_16 : decode cX2_length 16 = .ok (.iaload, 1) := dk_46 (dk_at dksX2_length_0 16 rfl rfl)
theorem dX2_length_17 : decode cX2_length 17 = .ok (.goto 4, 3) := dk_167 0 4 (dk_at dksX2_length_0 17 rfl rfl)
theorem dX2_length_20 : decode cX2_length 20 = .ok (.iconst (-1), 1) := dk_2 (dk_at dksX2_length_0 20 rfl rfl)
theorem dX2_length_21 : decode cX2_length 21 = .ok (.ireturn, 1) := dk_172 (dk_at dksX2_length_0 21 rfl rfl)
abbrev cX2_byteAt : ByteArray := prog_10_method_53_code
def yX2_byteAt : MethodName := ⟨RX2, "byteAt", "(II)I"⟩
def dkwX2_byteAt_0 : List UInt8 := [42, 27, 182, 0, 216, 153, 0, 16, 28, 155, 0, 12, 42, 27, 28, 182, 0, 83, 167, 0, 4, 2, 172]
abbrev dktX2_byteAt_0 : List UInt8 := dkwX2_byteAt_0 ++ []
theorem dksX2_byteAt_0 : cX2_byteAt.data.toList.drop 0 = dktX2_byteAt_0 := by decide +kernel
theorem dX2_byteAt_0 : decode cX2_byteAt 0 = .ok (.aload_n 0, 1) := dk_42 (dk_at dksX2_byteAt_0 0 rfl rfl)
theorem dX2_byteAt_1 : decode cX2_byteAt 1 = .ok (.iload_n 1, 1) := dk_27 (dk_at dksX2_byteAt_0 1 rfl rfl)
theorem dX2_byteAt_2 : decode cX2_byteAt 2 = .ok (.invokevirtual 216, 3) := dk_182 0 216 (dk_at dksX2_byteAt_0 2 rfl rfl)
theorem dX2_byteAt_5 : decode cX2_byteAt 5 = .ok (.ifCond .eq 16, 3) := dk_153 0 16 (dk_at dksX2_byteAt_0 5 rfl rfl)
theorem dX2_byteAt_8 : decode cX2_byteAt 8 = .ok (.iload_n 2, 1) := dk_28 (dk_at dksX2_byteAt_0 8 rfl rfl)
theorem dX2_byteAt_9 : decode cX2_byteAt 9 = .ok (.ifCond .lt 12, 3) := dk_155 0 12 (dk_at dksX2_byteAt_0 9 rfl rfl)
theorem dX2_byteAt_12 : decode cX2_byteAt 12 = .ok (.aload_n 0, 1) := dk_42 (dk_at dksX2_byteAt_0 12 rfl rfl)
theorem dX2_byteAt_13 : decode cX2_byteAt 13 = .ok (.iload_n 1, 1) := dk_27 (dk_at dksX2_byteAt_0 13 rfl rfl)
theorem dX2_byteAt_14 : decode cX2_byteAt 14 = .ok (.iload_n 2, 1) := dk_28 (dk_at dksX2_byteAt_0 14 rfl rfl)
theorem dX2_byteAt_15 : decode cX2_byteAt 15 = .ok (.invokevirtual 83, 3) := dk_182 0 83 (dk_at dksX2_byteAt_0 15 rfl rfl)
theorem dX2_byteAt_18 : decode cX2_byteAt 18 = .ok (.goto 4, 3) := dk_167 0 4 (dk_at dksX2_byteAt_0 18 rfl rfl)
theorem dX2_byteAt_21 : decode cX2_byteAt 21 = .ok (.iconst (-1), 1) := dk_2 (dk_at dksX2_byteAt_0 21 rfl rfl)
theorem dX2_byteAt_22 : decode cX2_byteAt 22 = .ok (.ireturn, 1) := dk_172 (dk_at dksX2_byteAt_0 22 rfl rfl)
abbrev cX2_isProtected : ByteArray := prog_10_method_54_code
def yX2_isProtected : MethodName := ⟨RX2, "isProtected", "(I)I"⟩
def dkwX2_isProtected_1 : List UInt8 := [167, 0, 4, 3, 172]
abbrev dktX2_isProtected_1 : List UInt8 := dkwX2_isProtected_1 ++ []
def dkwX2_isProtected_0 : List UInt8 := [42, 27, 182, 0, 216, 154, 0, 5, 2, 172, 42, 182, 0, 138, 42, 180, 0, 44, 27, 51, 153, 0, 7, 4]
abbrev dktX2_isProtected_0 : List UInt8 := dkwX2_isProtected_0 ++ dktX2_isProtected_1
theorem dksX2_isProtected_0 : cX2_isProtected.data.toList.drop 0 = dktX2_isProtected_0 := by decide +kernel
theorem dksX2_isProtected_1 : cX2_isProtected.data.toList.drop 24 = dktX2_isProtected_1 := dk_seg dksX2_isProtected_0 24 rfl rfl
theorem dX2_isProtected_0 : decode cX2_isProtected 0 = .ok (.aload_n 0, 1) := dk_42 (dk_at dksX2_isProtected_0 0 rfl rfl)
theorem dX2_isProtected_1 : decode cX2_isProtected 1 = .ok (.iload_n 1, 1) := dk_27 (dk_at dksX2_isProtected_0 1 rfl rfl)
theorem dX2_isProtected_2 : decode cX2_isProtected 2 = .ok (.invokevirtual 216, 3) := dk_182 0 216 (dk_at dksX2_isProtected_0 2 rfl rfl)
theorem dX2_isProtected_5 : decode cX2_isProtected 5 = .ok (.ifCond .ne 5, 3) := dk_154 0 5 (dk_at dksX2_isProtected_0 5 rfl rfl)
theorem dX2_isProtected_8 : decode cX2_isProtected 8 = .ok (.iconst (-1), 1) := dk_2 (dk_at dksX2_isProtected_0 8 rfl rfl)
theorem dX2_isProtected_9 : decode cX2_isProtected 9 = .ok (.ireturn, 1) := dk_172 (dk_at dksX2_isProtected_0 9 rfl rfl)
theorem dX2_isProtected_10 : decode cX2_isProtected 10 = .ok (.aload_n 0, 1) := dk_42 (dk_at dksX2_isProtected_0 10 rfl rfl)
theorem dX2_isProtected_11 : decode cX2_isProtected 11 = .ok (.invokevirtual 138, 3) := dk_182 0 138 (dk_at dksX2_isProtected_0 11 rfl rfl)
theorem dX2_isProtected_14 : decode cX2_isProtected 14 = .ok (.aload_n 0, 1) := dk_42 (dk_at dksX2_isProtected_0 14 rfl rfl)
theorem dX2_isProtected_15 : decode cX2_isProtected 15 = .ok (.getfield 44, 3) := dk_180 0 44 (dk_at dksX2_isProtected_0 15 rfl rfl)
theorem dX2_isProtected_18 : decode cX2_isProtected 18 = .ok (.iload_n 1, 1) := dk_27 (dk_at dksX2_isProtected_0 18 rfl rfl)
theorem dX2_isProtected_19 : decode cX2_isProtected 19 = .ok (.baload, 1) := dk_51 (dk_at dksX2_isProtected_0 19 rfl rfl)
theorem dX2_isProtected_20 : decode cX2_isProtected 20 = .ok (.ifCond .eq 7, 3) := dk_153 0 7 (dk_at dksX2_isProtected_0 20 rfl rfl)
theorem dX2_isProtected_23 : decode cX2_isProtected 23 = .ok (.iconst 1, 1) := dk_4 (dk_at dksX2_isProtected_0 23 rfl rfl)
theorem dX2_isProtected_24 : decode cX2_isProtected 24 = .ok (.goto 4, 3) := dk_167 0 4 (dk_at dksX2_isProtected_1 0 rfl rfl)
theorem dX2_isProtected_27 : decode cX2_isProtected 27 = .ok (.iconst 0, 1) := dk_3 (dk_at dksX2_isProtected_1 3 rfl rfl)
theorem dX2_isProtected_28 : decode cX2_isProtected 28 = .ok (.ireturn, 1) := dk_172 (dk_at dksX2_isProtected_1 4 rfl rfl)
abbrev cX2_isPinned : ByteArray := prog_10_method_55_code
def yX2_isPinned : MethodName := ⟨RX2, "isPinned", "(I)I"⟩
def dkwX2_isPinned_0 : List UInt8 := [42, 27, 182, 0, 216, 153, 0, 15, 42, 180, 0, 7, 16, 41, 27, 96, 46, 167, 0, 4, 2, 172]
abbrev dktX2_isPinned_0 : List UInt8 := dkwX2_isPinned_0 ++ []
theorem dksX2_isPinned_0 : cX2_isPinned.data.toList.drop 0 = dktX2_isPinned_0 := by decide +kernel
theorem dX2_isPinned_0 : decode cX2_isPinned 0 = .ok (.aload_n 0, 1) := dk_42 (dk_at dksX2_isPinned_0 0 rfl rfl)
theorem dX2_isPinned_1 : decode cX2_isPinned 1 = .ok (.iload_n 1, 1) := dk_27 (dk_at dksX2_isPinned_0 1 rfl rfl)
theorem dX2_isPinned_2 : decode cX2_isPinned 2 = .ok (.invokevirtual 216, 3) := dk_182 0 216 (dk_at dksX2_isPinned_0 2 rfl rfl)
theorem dX2_isPinned_5 : decode cX2_isPinned 5 = .ok (.ifCond .eq 15, 3) := dk_153 0 15 (dk_at dksX2_isPinned_0 5 rfl rfl)
theorem dX2_isPinned_8 : decode cX2_isPinned 8 = .ok (.aload_n 0, 1) := dk_42 (dk_at dksX2_isPinned_0 8 rfl rfl)
theorem dX2_isPinned_9 : decode cX2_isPinned 9 = .ok (.getfield 7, 3) := dk_180 0 7 (dk_at dksX2_isPinned_0 9 rfl rfl)
theorem dX2_isPinned_12 : decode cX2_isPinned 12 = .ok (.bipush 41, 2) := dk_16 41 (dk_at dksX2_isPinned_0 12 rfl rfl)
theorem dX2_isPinned_14 : decode cX2_isPinned 14 = .ok (.iload_n 1, 1) := dk_27 (dk_at dksX2_isPinned_0 14 rfl rfl)
theorem dX2_isPinned_15 : decode cX2_isPinned 15 = .ok (.iadd, 1) := dk_96 (dk_at dksX2_isPinned_0 15 rfl rfl)
theorem dX2_isPinned_16 : decode cX2_isPinned 16 = .ok (.iaload, 1) := dk_46 (dk_at dksX2_isPinned_0 16 rfl rfl)
theorem dX2_isPinned_17 : decode cX2_isPinned 17 = .ok (.goto 4, 3) := dk_167 0 4 (dk_at dksX2_isPinned_0 17 rfl rfl)
theorem dX2_isPinned_20 : decode cX2_isPinned 20 = .ok (.iconst (-1), 1) := dk_2 (dk_at dksX2_isPinned_0 20 rfl rfl)
theorem dX2_isPinned_21 : decode cX2_isPinned 21 = .ok (.ireturn, 1) := dk_172 (dk_at dksX2_isPinned_0 21 rfl rfl)
abbrev cX2_setStep : ByteArray := prog_10_method_57_code
def yX2_setStep : MethodName := ⟨RX2, "setStep", "(I)I"⟩
def dkwX2_setStep_0 : List UInt8 := [27, 4, 16, 8, 184, 0, 79, 153, 0, 14, 42, 17, 3, 209, 27, 182, 0, 234, 167, 0, 4, 2, 172]
abbrev dktX2_setStep_0 : List UInt8 := dkwX2_setStep_0 ++ []
theorem dksX2_setStep_0 : cX2_setStep.data.toList.drop 0 = dktX2_setStep_0 := by decide +kernel
theorem dX2_setStep_0 : decode cX2_setStep 0 = .ok (.iload_n 1, 1) := dk_27 (dk_at dksX2_setStep_0 0 rfl rfl)
theorem dX2_setStep_1 : decode cX2_setStep 1 = .ok (.iconst 1, 1) := dk_4 (dk_at dksX2_setStep_0 1 rfl rfl)
theorem dX2_setStep_2 : decode cX2_setStep 2 = .ok (.bipush 8, 2) := dk_16 8 (dk_at dksX2_setStep_0 2 rfl rfl)
theorem dX2_setStep_4 : decode cX2_setStep 4 = .ok (.invokestatic 79, 3) := dk_184 0 79 (dk_at dksX2_setStep_0 4 rfl rfl)
theorem dX2_setStep_7 : decode cX2_setStep 7 = .ok (.ifCond .eq 14, 3) := dk_153 0 14 (dk_at dksX2_setStep_0 7 rfl rfl)
theorem dX2_setStep_10 : decode cX2_setStep 10 = .ok (.aload_n 0, 1) := dk_42 (dk_at dksX2_setStep_0 10 rfl rfl)
theorem dX2_setStep_11 : decode cX2_setStep 11 = .ok (.sipush 977, 3) := dk_17 3 209 (dk_at dksX2_setStep_0 11 rfl rfl)
theorem dX2_setStep_14 : decode cX2_setStep 14 = .ok (.iload_n 1, 1) := dk_27 (dk_at dksX2_setStep_0 14 rfl rfl)
theorem dX2_setStep_15 : decode cX2_setStep 15 = .ok (.invokevirtual 234, 3) := dk_182 0 234 (dk_at dksX2_setStep_0 15 rfl rfl)
theorem dX2_setStep_18 : decode cX2_setStep 18 = .ok (.goto 4, 3) := dk_167 0 4 (dk_at dksX2_setStep_0 18 rfl rfl)
theorem dX2_setStep_21 : decode cX2_setStep 21 = .ok (.iconst (-1), 1) := dk_2 (dk_at dksX2_setStep_0 21 rfl rfl)
theorem dX2_setStep_22 : decode cX2_setStep 22 = .ok (.ireturn, 1) := dk_172 (dk_at dksX2_setStep_0 22 rfl rfl)
abbrev cX2_sets : ByteArray := prog_10_method_56_code
def yX2_sets : MethodName := ⟨RX2, "sets", "(II)I"⟩
def dkwX2_sets_0 : List UInt8 := [42, 182, 0, 207, 42, 180, 0, 7, 27, 46, 62, 42, 180, 0, 7, 27, 28, 79, 29, 172]
abbrev dktX2_sets_0 : List UInt8 := dkwX2_sets_0 ++ []
theorem dksX2_sets_0 : cX2_sets.data.toList.drop 0 = dktX2_sets_0 := by decide +kernel
theorem dX2_sets_0 : decode cX2_sets 0 = .ok (.aload_n 0, 1) := dk_42 (dk_at dksX2_sets_0 0 rfl rfl)
theorem dX2_sets_1 : decode cX2_sets 1 = .ok (.invokevirtual 207, 3) := dk_182 0 207 (dk_at dksX2_sets_0 1 rfl rfl)
theorem dX2_sets_4 : decode cX2_sets 4 = .ok (.aload_n 0, 1) := dk_42 (dk_at dksX2_sets_0 4 rfl rfl)
theorem dX2_sets_5 : decode cX2_sets 5 = .ok (.getfield 7, 3) := dk_180 0 7 (dk_at dksX2_sets_0 5 rfl rfl)
theorem dX2_sets_8 : decode cX2_sets 8 = .ok (.iload_n 1, 1) := dk_27 (dk_at dksX2_sets_0 8 rfl rfl)
theorem dX2_sets_9 : decode cX2_sets 9 = .ok (.iaload, 1) := dk_46 (dk_at dksX2_sets_0 9 rfl rfl)
theorem dX2_sets_10 : decode cX2_sets 10 = .ok (.istore_n 3, 1) := dk_62 (dk_at dksX2_sets_0 10 rfl rfl)
theorem dX2_sets_11 : decode cX2_sets 11 = .ok (.aload_n 0, 1) := dk_42 (dk_at dksX2_sets_0 11 rfl rfl)
theorem dX2_sets_12 : decode cX2_sets 12 = .ok (.getfield 7, 3) := dk_180 0 7 (dk_at dksX2_sets_0 12 rfl rfl)
theorem dX2_sets_15 : decode cX2_sets 15 = .ok (.iload_n 1, 1) := dk_27 (dk_at dksX2_sets_0 15 rfl rfl)
theorem dX2_sets_16 : decode cX2_sets 16 = .ok (.iload_n 2, 1) := dk_28 (dk_at dksX2_sets_0 16 rfl rfl)
theorem dX2_sets_17 : decode cX2_sets 17 = .ok (.iastore, 1) := dk_79 (dk_at dksX2_sets_0 17 rfl rfl)
theorem dX2_sets_18 : decode cX2_sets 18 = .ok (.iload_n 3, 1) := dk_29 (dk_at dksX2_sets_0 18 rfl rfl)
theorem dX2_sets_19 : decode cX2_sets 19 = .ok (.ireturn, 1) := dk_172 (dk_at dksX2_sets_0 19 rfl rfl)
abbrev cX2_setBase : ByteArray := prog_10_method_58_code
def yX2_setBase : MethodName := ⟨RX2, "setBase", "(I)I"⟩
def dkwX2_setBase_0 : List UInt8 := [27, 3, 16, 20, 184, 0, 79, 153, 0, 14, 42, 17, 3, 210, 27, 182, 0, 234, 167, 0, 4, 2, 172]
abbrev dktX2_setBase_0 : List UInt8 := dkwX2_setBase_0 ++ []
theorem dksX2_setBase_0 : cX2_setBase.data.toList.drop 0 = dktX2_setBase_0 := by decide +kernel
theorem dX2_setBase_0 : decode cX2_setBase 0 = .ok (.iload_n 1, 1) := dk_27 (dk_at dksX2_setBase_0 0 rfl rfl)
theorem dX2_setBase_1 : decode cX2_setBase 1 = .ok (.iconst 0, 1) := dk_3 (dk_at dksX2_setBase_0 1 rfl rfl)
theorem dX2_setBase_2 : decode cX2_setBase 2 = .ok (.bipush 20, 2) := dk_16 20 (dk_at dksX2_setBase_0 2 rfl rfl)
theorem dX2_setBase_4 : decode cX2_setBase 4 = .ok (.invokestatic 79, 3) := dk_184 0 79 (dk_at dksX2_setBase_0 4 rfl rfl)
theorem dX2_setBase_7 : decode cX2_setBase 7 = .ok (.ifCond .eq 14, 3) := dk_153 0 14 (dk_at dksX2_setBase_0 7 rfl rfl)
theorem dX2_setBase_10 : decode cX2_setBase 10 = .ok (.aload_n 0, 1) := dk_42 (dk_at dksX2_setBase_0 10 rfl rfl)
theorem dX2_setBase_11 : decode cX2_setBase 11 = .ok (.sipush 978, 3) := dk_17 3 210 (dk_at dksX2_setBase_0 11 rfl rfl)
theorem dX2_setBase_14 : decode cX2_setBase 14 = .ok (.iload_n 1, 1) := dk_27 (dk_at dksX2_setBase_0 14 rfl rfl)
theorem dX2_setBase_15 : decode cX2_setBase 15 = .ok (.invokevirtual 234, 3) := dk_182 0 234 (dk_at dksX2_setBase_0 15 rfl rfl)
theorem dX2_setBase_18 : decode cX2_setBase 18 = .ok (.goto 4, 3) := dk_167 0 4 (dk_at dksX2_setBase_0 18 rfl rfl)
theorem dX2_setBase_21 : decode cX2_setBase 21 = .ok (.iconst (-1), 1) := dk_2 (dk_at dksX2_setBase_0 21 rfl rfl)
theorem dX2_setBase_22 : decode cX2_setBase 22 = .ok (.ireturn, 1) := dk_172 (dk_at dksX2_setBase_0 22 rfl rfl)
abbrev cX2_setComment : ByteArray := prog_10_method_59_code
def yX2_setComment : MethodName := ⟨RX2, "setComment", "(I)I"⟩
def dkwX2_setComment_1 : List UInt8 := [184, 0, 94, 154, 0, 14, 42, 17, 3, 211, 27, 182, 0, 234, 167, 0, 4, 2, 172]
abbrev dktX2_setComment_1 : List UInt8 := dkwX2_setComment_1 ++ []
def dkwX2_setComment_0 : List UInt8 := [27, 153, 0, 27, 27, 16, 33, 16, 126, 184, 0, 79, 153, 0, 27, 27, 16, 34, 159, 0, 21, 27]
abbrev dktX2_setComment_0 : List UInt8 := dkwX2_setComment_0 ++ dktX2_setComment_1
theorem dksX2_setComment_0 : cX2_setComment.data.toList.drop 0 = dktX2_setComment_0 := by decide +kernel
theorem dksX2_setComment_1 : cX2_setComment.data.toList.drop 22 = dktX2_setComment_1 := dk_seg dksX2_setComment_0 22 rfl rfl
theorem dX2_setComment_0 : decode cX2_setComment 0 = .ok (.iload_n 1, 1) := dk_27 (dk_at dksX2_setComment_0 0 rfl rfl)
theorem dX2_setComment_1 : decode cX2_setComment 1 = .ok (.ifCond .eq 27, 3) := dk_153 0 27 (dk_at dksX2_setComment_0 1 rfl rfl)
theorem dX2_setComment_4 : decode cX2_setComment 4 = .ok (.iload_n 1, 1) := dk_27 (dk_at dksX2_setComment_0 4 rfl rfl)
theorem dX2_setComment_5 : decode cX2_setComment 5 = .ok (.bipush 33, 2) := dk_16 33 (dk_at dksX2_setComment_0 5 rfl rfl)
theorem dX2_setComment_7 : decode cX2_setComment 7 = .ok (.bipush 126, 2) := dk_16 126 (dk_at dksX2_setComment_0 7 rfl rfl)
theorem dX2_setComment_9 : decode cX2_setComment 9 = .ok (.invokestatic 79, 3) := dk_184 0 79 (dk_at dksX2_setComment_0 9 rfl rfl)
theorem dX2_setComment_12 : decode cX2_setComment 12 = .ok (.ifCond .eq 27, 3) := dk_153 0 27 (dk_at dksX2_setComment_0 12 rfl rfl)
theorem dX2_setComment_15 : decode cX2_setComment 15 = .ok (.iload_n 1, 1) := dk_27 (dk_at dksX2_setComment_0 15 rfl rfl)
theorem dX2_setComment_16 : decode cX2_setComment 16 = .ok (.bipush 34, 2) := dk_16 34 (dk_at dksX2_setComment_0 16 rfl rfl)
theorem dX2_setComment_18 : decode cX2_setComment 18 = .ok (.if_icmp .eq 21, 3) := dk_159 0 21 (dk_at dksX2_setComment_0 18 rfl rfl)
theorem dX2_setComment_21 : decode cX2_setComment 21 = .ok (.iload_n 1, 1) := dk_27 (dk_at dksX2_setComment_0 21 rfl rfl)
theorem dX2_setComment_22 : decode cX2_setComment 22 = .ok (.invokestatic 94, 3) := dk_184 0 94 (dk_at dksX2_setComment_1 0 rfl rfl)
theorem dX2_setComment_25 : decode cX2_setComment 25 = .ok (.ifCond .ne 14, 3) := dk_154 0 14 (dk_at dksX2_setComment_1 3 rfl rfl)
theorem dX2_setComment_28 : decode cX2_setComment 28 = .ok (.aload_n 0, 1) := dk_42 (dk_at dksX2_setComment_1 6 rfl rfl)
theorem dX2_setComment_29 : decode cX2_setComment 29 = .ok (.sipush 979, 3) := dk_17 3 211 (dk_at dksX2_setComment_1 7 rfl rfl)
theorem dX2_setComment_32 : decode cX2_setComment 32 = .ok (.iload_n 1, 1) := dk_27 (dk_at dksX2_setComment_1 10 rfl rfl)
theorem dX2_setComment_33 : decode cX2_setComment 33 = .ok (.invokevirtual 234, 3) := dk_182 0 234 (dk_at dksX2_setComment_1 11 rfl rfl)
theorem dX2_setComment_36 : decode cX2_setComment 36 = .ok (.goto 4, 3) := dk_167 0 4 (dk_at dksX2_setComment_1 14 rfl rfl)
theorem dX2_setComment_39 : decode cX2_setComment 39 = .ok (.iconst (-1), 1) := dk_2 (dk_at dksX2_setComment_1 17 rfl rfl)
theorem dX2_setComment_40 : decode cX2_setComment 40 = .ok (.ireturn, 1) := dk_172 (dk_at dksX2_setComment_1 18 rfl rfl)
abbrev cX2_pair : ByteArray := prog_10_method_66_code
def yX2_pair : MethodName := ⟨RX2, "pair", "(IIIII)I"⟩
def dkwX2_pair_2 : List UInt8 := [153, 0, 18, 42, 27, 4, 28, 29, 21, 4, 21, 5, 182, 0, 255, 167, 0, 4, 2, 172]
abbrev dktX2_pair_2 : List UInt8 := dkwX2_pair_2 ++ []
def dkwX2_pair_1 : List UInt8 := [153, 0, 17, 21, 5, 3, 5, 184, 0, 79, 153, 0, 7, 4, 167, 0, 4, 3, 54, 6, 21, 6]
abbrev dktX2_pair_1 : List UInt8 := dkwX2_pair_1 ++ dktX2_pair_2
def dkwX2_pair_0 : List UInt8 := [27, 28, 184, 0, 252, 153, 0, 36, 29, 3, 7, 184, 0, 79, 153, 0, 27, 21, 4, 3, 4, 184, 0, 79]
abbrev dktX2_pair_0 : List UInt8 := dkwX2_pair_0 ++ dktX2_pair_1
theorem dksX2_pair_0 : cX2_pair.data.toList.drop 0 = dktX2_pair_0 := by decide +kernel
theorem dksX2_pair_1 : cX2_pair.data.toList.drop 24 = dktX2_pair_1 := dk_seg dksX2_pair_0 24 rfl rfl
theorem dksX2_pair_2 : cX2_pair.data.toList.drop 46 = dktX2_pair_2 := dk_seg dksX2_pair_1 22 rfl rfl
theorem dX2_pair_0 : decode cX2_pair 0 = .ok (.iload_n 1, 1) := dk_27 (dk_at dksX2_pair_0 0 rfl rfl)
theorem dX2_pair_1 : decode cX2_pair 1 = .ok (.iload_n 2, 1) := dk_28 (dk_at dksX2_pair_0 1 rfl rfl)
theorem dX2_pair_2 : decode cX2_pair 2 = .ok (.invokestatic 252, 3) := dk_184 0 252 (dk_at dksX2_pair_0 2 rfl rfl)
theorem dX2_pair_5 : decode cX2_pair 5 = .ok (.ifCond .eq 36, 3) := dk_153 0 36 (dk_at dksX2_pair_0 5 rfl rfl)
theorem dX2_pair_8 : decode cX2_pair 8 = .ok (.iload_n 3, 1) := dk_29 (dk_at dksX2_pair_0 8 rfl rfl)
theorem dX2_pair_9 : decode cX2_pair 9 = .ok (.iconst 0, 1) := dk_3 (dk_at dksX2_pair_0 9 rfl rfl)
theorem dX2_pair_10 : decode cX2_pair 10 = .ok (.iconst 4, 1) := dk_7 (dk_at dksX2_pair_0 10 rfl rfl)
theorem dX2_pair_11 : decode cX2_pair 11 = .ok (.invokestatic 79, 3) := dk_184 0 79 (dk_at dksX2_pair_0 11 rfl rfl)
theorem dX2_pair_14 : decode cX2_pair 14 = .ok (.ifCond .eq 27, 3) := dk_153 0 27 (dk_at dksX2_pair_0 14 rfl rfl)
theorem dX2_pair_17 : decode cX2_pair 17 = .ok (.iload 4, 2) := dk_21 4 (dk_at dksX2_pair_0 17 rfl rfl)
theorem dX2_pair_19 : decode cX2_pair 19 = .ok (.iconst 0, 1) := dk_3 (dk_at dksX2_pair_0 19 rfl rfl)
theorem dX2_pair_20 : decode cX2_pair 20 = .ok (.iconst 1, 1) := dk_4 (dk_at dksX2_pair_0 20 rfl rfl)
theorem dX2_pair_21 : decode cX2_pair 21 = .ok (.invokestatic 79, 3) := dk_184 0 79 (dk_at dksX2_pair_0 21 rfl rfl)
theorem dX2_pair_24 : decode cX2_pair 24 = .ok (.ifCond .eq 17, 3) := dk_153 0 17 (dk_at dksX2_pair_1 0 rfl rfl)
theorem dX2_pair_27 : decode cX2_pair 27 = .ok (.iload 5, 2) := dk_21 5 (dk_at dksX2_pair_1 3 rfl rfl)
theorem dX2_pair_29 : decode cX2_pair 29 = .ok (.iconst 0, 1) := dk_3 (dk_at dksX2_pair_1 5 rfl rfl)
theorem dX2_pair_30 : decode cX2_pair 30 = .ok (.iconst 2, 1) := dk_5 (dk_at dksX2_pair_1 6 rfl rfl)
theorem dX2_pair_31 : decode cX2_pair 31 = .ok (.invokestatic 79, 3) := dk_184 0 79 (dk_at dksX2_pair_1 7 rfl rfl)
theorem dX2_pair_34 : decode cX2_pair 34 = .ok (.ifCond .eq 7, 3) := dk_153 0 7 (dk_at dksX2_pair_1 10 rfl rfl)
theorem dX2_pair_37 : decode cX2_pair 37 = .ok (.iconst 1, 1) := dk_4 (dk_at dksX2_pair_1 13 rfl rfl)
theorem dX2_pair_38 : decode cX2_pair 38 = .ok (.goto 4, 3) := dk_167 0 4 (dk_at dksX2_pair_1 14 rfl rfl)
theorem dX2_pair_41 : decode cX2_pair 41 = .ok (.iconst 0, 1) := dk_3 (dk_at dksX2_pair_1 17 rfl rfl)
theorem dX2_pair_42 : decode cX2_pair 42 = .ok (.istore 6, 2) := dk_54 6 (dk_at dksX2_pair_1 18 rfl rfl)
theorem dX2_pair_44 : decode cX2_pair 44 = .ok (.iload 6, 2) := dk_21 6 (dk_at dksX2_pair_1 20 rfl rfl)
theorem dX2_pair_46 : decode cX2_pair 46 = .ok (.ifCond .eq 18, 3) := dk_153 0 18 (dk_at dksX2_pair_2 0 rfl rfl)
theorem dX2_pair_49 : decode cX2_pair 49 = .ok (.aload_n 0, 1) := dk_42 (dk_at dksX2_pair_2 3 rfl rfl)
theorem dX2_pair_50 : decode cX2_pair 50 = .ok (.iload_n 1, 1) := dk_27 (dk_at dksX2_pair_2 4 rfl rfl)
theorem dX2_pair_51 : decode cX2_pair 51 = .ok (.iconst 1, 1) := dk_4 (dk_at dksX2_pair_2 5 rfl rfl)
theorem dX2_pair_52 : decode cX2_pair 52 = .ok (.iload_n 2, 1) := dk_28 (dk_at dksX2_pair_2 6 rfl rfl)
theorem dX2_pair_53 : decode cX2_pair 53 = .ok (.iload_n 3, 1) := dk_29 (dk_at dksX2_pair_2 7 rfl rfl)
theorem dX2_pair_54 : decode cX2_pair 54 = .ok (.iload 4, 2) := dk_21 4 (dk_at dksX2_pair_2 8 rfl rfl)
theorem dX2_pair_56 : decode cX2_pair 56 = .ok (.iload 5, 2) := dk_21 5 (dk_at dksX2_pair_2 10 rfl rfl)
theorem dX2_pair_58 : decode cX2_pair 58 = .ok (.invokevirtual 255, 3) := dk_182 0 255 (dk_at dksX2_pair_2 12 rfl rfl)
theorem dX2_pair_61 : decode cX2_pair 61 = .ok (.goto 4, 3) := dk_167 0 4 (dk_at dksX2_pair_2 15 rfl rfl)
theorem dX2_pair_64 : decode cX2_pair 64 = .ok (.iconst (-1), 1) := dk_2 (dk_at dksX2_pair_2 18 rfl rfl)
theorem dX2_pair_65 : decode cX2_pair 65 = .ok (.ireturn, 1) := dk_172 (dk_at dksX2_pair_2 19 rfl rfl)
abbrev cX2_isRule : ByteArray := prog_10_method_65_code
def yX2_isRule : MethodName := ⟨RX2, "isRule", "(II)Z"⟩
def dkwX2_isRule_1 : List UInt8 := [3, 172]
abbrev dktX2_isRule_1 : List UInt8 := dkwX2_isRule_1 ++ []
def dkwX2_isRule_0 : List UInt8 := [26, 3, 16, 11, 184, 0, 79, 153, 0, 17, 27, 3, 16, 9, 184, 0, 79, 153, 0, 7, 4, 167, 0, 4]
abbrev dktX2_isRule_0 : List UInt8 := dkwX2_isRule_0 ++ dktX2_isRule_1
theorem dksX2_isRule_0 : cX2_isRule.data.toList.drop 0 = dktX2_isRule_0 := by decide +kernel
theorem dksX2_isRule_1 : cX2_isRule.data.toList.drop 24 = dktX2_isRule_1 := dk_seg dksX2_isRule_0 24 rfl rfl
theorem dX2_isRule_0 : decode cX2_isRule 0 = .ok (.iload_n 0, 1) := dk_26 (dk_at dksX2_isRule_0 0 rfl rfl)
theorem dX2_isRule_1 : decode cX2_isRule 1 = .ok (.iconst 0, 1) := dk_3 (dk_at dksX2_isRule_0 1 rfl rfl)
theorem dX2_isRule_2 : decode cX2_isRule 2 = .ok (.bipush 11, 2) := dk_16 11 (dk_at dksX2_isRule_0 2 rfl rfl)
theorem dX2_isRule_4 : decode cX2_isRule 4 = .ok (.invokestatic 79, 3) := dk_184 0 79 (dk_at dksX2_isRule_0 4 rfl rfl)
theorem dX2_isRule_7 : decode cX2_isRule 7 = .ok (.ifCond .eq 17, 3) := dk_153 0 17 (dk_at dksX2_isRule_0 7 rfl rfl)
theorem dX2_isRule_10 : decode cX2_isRule 10 = .ok (.iload_n 1, 1) := dk_27 (dk_at dksX2_isRule_0 10 rfl rfl)
theorem dX2_isRule_11 : decode cX2_isRule 11 = .ok (.iconst 0, 1) := dk_3 (dk_at dksX2_isRule_0 11 rfl rfl)
theorem dX2_isRule_12 : decode cX2_isRule 12 = .ok (.bipush 9, 2) := dk_16 9 (dk_at dksX2_isRule_0 12 rfl rfl)
theorem dX2_isRule_14 : decode cX2_isRule 14 = .ok (.invokestatic 79, 3) := dk_184 0 79 (dk_at dksX2_isRule_0 14 rfl rfl)
theorem dX2_isRule_17 : decode cX2_isRule 17 = .ok (.ifCond .eq 7, 3) := dk_153 0 7 (dk_at dksX2_isRule_0 17 rfl rfl)
theorem dX2_isRule_20 : decode cX2_isRule 20 = .ok (.iconst 1, 1) := dk_4 (dk_at dksX2_isRule_0 20 rfl rfl)
theorem dX2_isRule_21 : decode cX2_isRule 21 = .ok (.goto 4, 3) := dk_167 0 4 (dk_at dksX2_isRule_0 21 rfl rfl)
theorem dX2_isRule_24 : decode cX2_isRule 24 = .ok (.iconst 0, 1) := dk_3 (dk_at dksX2_isRule_1 0 rfl rfl)
theorem dX2_isRule_25 : decode cX2_isRule 25 = .ok (.ireturn, 1) := dk_172 (dk_at dksX2_isRule_1 1 rfl rfl)
abbrev cX2_makes : ByteArray := prog_10_method_64_code
def yX2_makes : MethodName := ⟨RX2, "makes", "(IIIIII)I"⟩
def dkwX2_makes_5 : List UInt8 := [8, 96, 3, 182, 0, 249, 28, 4, 160, 0, 13, 42, 21, 8, 16, 14, 96, 4, 182, 0, 249, 21, 9, 172]
abbrev dktX2_makes_5 : List UInt8 := dkwX2_makes_5 ++ []
def dkwX2_makes_4 : List UInt8 := [180, 0, 7, 21, 8, 6, 96, 21, 5, 79, 42, 180, 0, 7, 21, 8, 7, 96, 21, 6, 79, 42, 21, 8]
abbrev dktX2_makes_4 : List UInt8 := dkwX2_makes_4 ++ dktX2_makes_5
def dkwX2_makes_3 : List UInt8 := [79, 42, 180, 0, 7, 21, 8, 4, 96, 29, 79, 42, 180, 0, 7, 21, 8, 5, 96, 21, 4, 79, 42]
abbrev dktX2_makes_3 : List UInt8 := dkwX2_makes_3 ++ dktX2_makes_4
def dkwX2_makes_2 : List UInt8 := [21, 8, 3, 96, 46, 158, 0, 7, 4, 167, 0, 4, 3, 54, 9, 42, 180, 0, 7, 21, 8, 3, 96, 28]
abbrev dktX2_makes_2 : List UInt8 := dkwX2_makes_2 ++ dktX2_makes_3
def dkwX2_makes_1 : List UInt8 := [16, 246, 21, 7, 100, 172, 42, 182, 0, 207, 17, 2, 189, 16, 23, 27, 104, 96, 54, 8, 42, 180, 0, 7]
abbrev dktX2_makes_1 : List UInt8 := dkwX2_makes_1 ++ dktX2_makes_2
def dkwX2_makes_0 : List UInt8 := [42, 28, 4, 160, 0, 7, 5, 167, 0, 4, 4, 182, 0, 246, 54, 7, 21, 7, 16, 247, 159, 0, 9]
abbrev dktX2_makes_0 : List UInt8 := dkwX2_makes_0 ++ dktX2_makes_1
theorem dksX2_makes_0 : cX2_makes.data.toList.drop 0 = dktX2_makes_0 := by decide +kernel
theorem dksX2_makes_1 : cX2_makes.data.toList.drop 23 = dktX2_makes_1 := dk_seg dksX2_makes_0 23 rfl rfl
theorem dksX2_makes_2 : cX2_makes.data.toList.drop 47 = dktX2_makes_2 := dk_seg dksX2_makes_1 24 rfl rfl
theorem dksX2_makes_3 : cX2_makes.data.toList.drop 71 = dktX2_makes_3 := dk_seg dksX2_makes_2 24 rfl rfl
theorem dksX2_makes_4 : cX2_makes.data.toList.drop 94 = dktX2_makes_4 := dk_seg dksX2_makes_3 23 rfl rfl
theorem dksX2_makes_5 : cX2_makes.data.toList.drop 118 = dktX2_makes_5 := dk_seg dksX2_makes_4 24 rfl rfl
theorem dX2_makes_0 : decode cX2_makes 0 = .ok (.aload_n 0, 1) := dk_42 (dk_at dksX2_makes_0 0 rfl rfl)
theorem dX2_makes_1 : decode cX2_makes 1 = .ok (.iload_n 2, 1) := dk_28 (dk_at dksX2_makes_0 1 rfl rfl)
theorem dX2_makes_2 : decode cX2_makes 2 = .ok (.iconst 1, 1) := dk_4 (dk_at dksX2_makes_0 2 rfl rfl)
theorem dX2_makes_3 : decode cX2_makes 3 = .ok (.if_icmp .ne 7, 3) := dk_160 0 7 (dk_at dksX2_makes_0 3 rfl rfl)
theorem dX2_makes_6 : decode cX2_makes 6 = .ok (.iconst 2, 1) := dk_5 (dk_at dksX2_makes_0 6 rfl rfl)
theorem dX2_makes_7 : decode cX2_makes 7 = .ok (.goto 4, 3) := dk_167 0 4 (dk_at dksX2_makes_0 7 rfl rfl)
theorem dX2_makes_10 : decode cX2_makes 10 = .ok (.iconst 1, 1) := dk_4 (dk_at dksX2_makes_0 10 rfl rfl)
theorem dX2_makes_11 : decode cX2_makes 11 = .ok (.invokevirtual 246, 3) := dk_182 0 246 (dk_at dksX2_makes_0 11 rfl rfl)
theorem dX2_makes_14 : decode cX2_makes 14 = .ok (.istore 7, 2) := dk_54 7 (dk_at dksX2_makes_0 14 rfl rfl)
theorem dX2_makes_16 : decode cX2_makes 16 = .ok (.iload 7, 2) := dk_21 7 (dk_at dksX2_makes_0 16 rfl rfl)
theorem dX2_makes_18 : decode cX2_makes 18 = .ok (.bipush (-9), 2) := dk_16 247 (dk_at dksX2_makes_0 18 rfl rfl)
theorem dX2_makes_20 : decode cX2_makes 20 = .ok (.if_icmp .eq 9, 3) := dk_159 0 9 (dk_at dksX2_makes_0 20 rfl rfl)
theorem dX2_makes_23 : decode cX2_makes 23 = .ok (.bipush (-10), 2) := dk_16 246 (dk_at dksX2_makes_1 0 rfl rfl)
theorem dX2_makes_25 : decode cX2_makes 25 = .ok (.iload 7, 2) := dk_21 7 (dk_at dksX2_makes_1 2 rfl rfl)
theorem dX2_makes_27 : decode cX2_makes 27 = .ok (.isub, 1) := dk_100 (dk_at dksX2_makes_1 4 rfl rfl)
theorem dX2_makes_28 : decode cX2_makes 28 = .ok (.ireturn, 1) := dk_172 (dk_at dksX2_makes_1 5 rfl rfl)
theorem dX2_makes_29 : decode cX2_makes 29 = .ok (.aload_n 0, 1) := dk_42 (dk_at dksX2_makes_1 6 rfl rfl)
theorem dX2_makes_30 : decode cX2_makes 30 = .ok (.invokevirtual 207, 3) := dk_182 0 207 (dk_at dksX2_makes_1 7 rfl rfl)
theorem dX2_makes_33 : decode cX2_makes 33 = .ok (.sipush 701, 3) := dk_17 2 189 (dk_at dksX2_makes_1 10 rfl rfl)
theorem dX2_makes_36 : decode cX2_makes 36 = .ok (.bipush 23, 2) := dk_16 23 (dk_at dksX2_makes_1 13 rfl rfl)
theorem dX2_makes_38 : decode cX2_makes 38 = .ok (.iload_n 1, 1) := dk_27 (dk_at dksX2_makes_1 15 rfl rfl)
theorem dX2_makes_39 : decode cX2_makes 39 = .ok (.imul, 1) := dk_104 (dk_at dksX2_makes_1 16 rfl rfl)
theorem dX2_makes_40 : decode cX2_makes 40 = .ok (.iadd, 1) := dk_96 (dk_at dksX2_makes_1 17 rfl rfl)
theorem dX2_makes_41 : decode cX2_makes 41 = .ok (.istore 8, 2) := dk_54 8 (dk_at dksX2_makes_1 18 rfl rfl)
theorem dX2_makes_43 : decode cX2_makes 43 = .ok (.aload_n 0, 1) := dk_42 (dk_at dksX2_makes_1 20 rfl rfl)
theorem dX2_makes_44 : decode cX2_makes 44 = .ok (.getfield 7, 3) := dk_180 0 7 (dk_at dksX2_makes_1 21 rfl rfl)
theorem dX2_makes_47 : decode cX2_makes 47 = .ok (.iload 8, 2) := dk_21 8 (dk_at dksX2_makes_2 0 rfl rfl)
theorem dX2_makes_49 : decode cX2_makes 49 = .ok (.iconst 0, 1) := dk_3 (dk_at dksX2_makes_2 2 rfl rfl)
theorem dX2_makes_50 : decode cX2_makes 50 = .ok (.iadd, 1) := dk_96 (dk_at dksX2_makes_2 3 rfl rfl)
theorem dX2_makes_51 : decode cX2_makes 51 = .ok (.iaload, 1) := dk_46 (dk_at dksX2_makes_2 4 rfl rfl)
theorem dX2_makes_52 : decode cX2_makes 52 = .ok (.ifCond .le 7, 3) := dk_158 0 7 (dk_at dksX2_makes_2 5 rfl rfl)
theorem dX2_makes_55 : decode cX2_makes 55 = .ok (.iconst 1, 1) := dk_4 (dk_at dksX2_makes_2 8 rfl rfl)
theorem dX2_makes_56 : decode cX2_makes 56 = .ok (.goto 4, 3) := dk_167 0 4 (dk_at dksX2_makes_2 9 rfl rfl)
theorem dX2_makes_59 : decode cX2_makes 59 = .ok (.iconst 0, 1) := dk_3 (dk_at dksX2_makes_2 12 rfl rfl)
theorem dX2_makes_60 : decode cX2_makes 60 = .ok (.istore 9, 2) := dk_54 9 (dk_at dksX2_makes_2 13 rfl rfl)
theorem dX2_makes_62 : decode cX2_makes 62 = .ok (.aload_n 0, 1) := dk_42 (dk_at dksX2_makes_2 15 rfl rfl)
theorem dX2_makes_63 : decode cX2_makes 63 = .ok (.getfield 7, 3) := dk_180 0 7 (dk_at dksX2_makes_2 16 rfl rfl)
theorem dX2_makes_66 : decode cX2_makes 66 = .ok (.iload 8, 2) := dk_21 8 (dk_at dksX2_makes_2 19 rfl rfl)
theorem dX2_makes_68 : decode cX2_makes 68 = .ok (.iconst 0, 1) := dk_3 (dk_at dksX2_makes_2 21 rfl rfl)
theorem dX2_makes_69 : decode cX2_makes 69 = .ok (.iadd, 1) := dk_96 (dk_at dksX2_makes_2 22 rfl rfl)
theorem dX2_makes_70 : decode cX2_makes 70 = .ok (.iload_n 2, 1) := dk_28 (dk_at dksX2_makes_2 23 rfl rfl)
theorem dX2_makes_71 : decode cX2_makes 71 = .ok (.iastore, 1) := dk_79 (dk_at dksX2_makes_3 0 rfl rfl)
theorem dX2_makes_72 : decode cX2_makes 72 = .ok (.aload_n 0, 1) := dk_42 (dk_at dksX2_makes_3 1 rfl rfl)
theorem dX2_makes_73 : decode cX2_makes 73 = .ok (.getfield 7, 3) := dk_180 0 7 (dk_at dksX2_makes_3 2 rfl rfl)
theorem dX2_makes_76 : decode cX2_makes 76 = .ok (.iload 8, 2) := dk_21 8 (dk_at dksX2_makes_3 5 rfl rfl)
theorem dX2_makes_78 : decode cX2_makes 78 = .ok (.iconst 1, 1) := dk_4 (dk_at dksX2_makes_3 7 rfl rfl)
theorem dX2_makes_79 : decode cX2_makes 79 = .ok (.iadd, 1) := dk_96 (dk_at dksX2_makes_3 8 rfl rfl)
theorem dX2_makes_80 : decode cX2_makes 80 = .ok (.iload_n 3, 1) := dk_29 (dk_at dksX2_makes_3 9 rfl rfl)
theorem dX2_makes_81 : decode cX2_makes 81 = .ok (.iastore, 1) := dk_79 (dk_at dksX2_makes_3 10 rfl rfl)
theorem dX2_makes_82 : decode cX2_makes 82 = .ok (.aload_n 0, 1) := dk_42 (dk_at dksX2_makes_3 11 rfl rfl)
theorem dX2_makes_83 : decode cX2_makes 83 = .ok (.getfield 7, 3) := dk_180 0 7 (dk_at dksX2_makes_3 12 rfl rfl)
theorem dX2_makes_86 : decode cX2_makes 86 = .ok (.iload 8, 2) := dk_21 8 (dk_at dksX2_makes_3 15 rfl rfl)
theorem dX2_makes_88 : decode cX2_makes 88 = .ok (.iconst 2, 1) := dk_5 (dk_at dksX2_makes_3 17 rfl rfl)
theorem dX2_makes_89 : decode cX2_makes 89 = .ok (.iadd, 1) := dk_96 (dk_at dksX2_makes_3 18 rfl rfl)
theorem dX2_makes_90 : decode cX2_makes 90 = .ok (.iload 4, 2) := dk_21 4 (dk_at dksX2_makes_3 19 rfl rfl)
theorem dX2_makes_92 : decode cX2_makes 92 = .ok (.iastore, 1) := dk_79 (dk_at dksX2_makes_3 21 rfl rfl)
theorem dX2_makes_93 : decode cX2_makes 93 = .ok (.aload_n 0, 1) := dk_42 (dk_at dksX2_makes_3 22 rfl rfl)
theorem dX2_makes_94 : decode cX2_makes 94 = .ok (.getfield 7, 3) := dk_180 0 7 (dk_at dksX2_makes_4 0 rfl rfl)
theorem dX2_makes_97 : decode cX2_makes 97 = .ok (.iload 8, 2) := dk_21 8 (dk_at dksX2_makes_4 3 rfl rfl)
theorem dX2_makes_99 : decode cX2_makes 99 = .ok (.iconst 3, 1) := dk_6 (dk_at dksX2_makes_4 5 rfl rfl)
theorem dX2_makes_100 : decode cX2_makes 100 = .ok (.iadd, 1) := dk_96 (dk_at dksX2_makes_4 6 rfl rfl)
theorem dX2_makes_101 : decode cX2_makes 101 = .ok (.iload 5, 2) := dk_21 5 (dk_at dksX2_makes_4 7 rfl rfl)
theorem dX2_makes_103 : decode cX2_makes 103 = .ok (.iastore, 1) := dk_79 (dk_at dksX2_makes_4 9 rfl rfl)
theorem dX2_makes_104 : decode cX2_makes 104 = .ok (.aload_n 0, 1) := dk_42 (dk_at dksX2_makes_4 10 rfl rfl)
theorem dX2_makes_105 : decode cX2_makes 105 = .ok (.getfield 7, 3) := dk_180 0 7 (dk_at dksX2_makes_4 11 rfl rfl)
theorem dX2_makes_108 : decode cX2_makes 108 = .ok (.iload 8, 2) := dk_21 8 (dk_at dksX2_makes_4 14 rfl rfl)
theorem dX2_makes_110 : decode cX2_makes 110 = .ok (.iconst 4, 1) := dk_7 (dk_at dksX2_makes_4 16 rfl rfl)
theorem dX2_makes_111 : decode cX2_makes 111 = .ok (.iadd, 1) := dk_96 (dk_at dksX2_makes_4 17 rfl rfl)
theorem dX2_makes_112 : decode cX2_makes 112 = .ok (.iload 6, 2) := dk_21 6 (dk_at dksX2_makes_4 18 rfl rfl)
theorem dX2_makes_114 : decode cX2_makes 114 = .ok (.iastore, 1) := dk_79 (dk_at dksX2_makes_4 20 rfl rfl)
theorem dX2_makes_115 : decode cX2_makes 115 = .ok (.aload_n 0, 1) := dk_42 (dk_at dksX2_makes_4 21 rfl rfl)
theorem dX2_makes_116 : decode cX2_makes 116 = .ok (.iload 8, 2) := dk_21 8 (dk_at dksX2_makes_4 22 rfl rfl)
theorem dX2_makes_118 : decode cX2_makes 118 = .ok (.iconst 5, 1) := dk_8 (dk_at dksX2_makes_5 0 rfl rfl)
theorem dX2_makes_119 : decode cX2_makes 119 = .ok (.iadd, 1) := dk_96 (dk_at dksX2_makes_5 1 rfl rfl)
theorem dX2_makes_120 : decode cX2_makes 120 = .ok (.iconst 0, 1) := dk_3 (dk_at dksX2_makes_5 2 rfl rfl)
theorem dX2_makes_121 : decode cX2_makes 121 = .ok (.invokevirtual 249, 3) := dk_182 0 249 (dk_at dksX2_makes_5 3 rfl rfl)
theorem dX2_makes_124 : decode cX2_makes 124 = .ok (.iload_n 2, 1) := dk_28 (dk_at dksX2_makes_5 6 rfl rfl)
theorem dX2_makes_125 : decode cX2_makes 125 = .ok (.iconst 1, 1) := dk_4 (dk_at dksX2_makes_5 7 rfl rfl)
theorem dX2_makes_126 : decode cX2_makes 126 = .ok (.if_icmp .ne 13, 3) := dk_160 0 13 (dk_at dksX2_makes_5 8 rfl rfl)
theorem dX2_makes_129 : decode cX2_makes 129 = .ok (.aload_n 0, 1) := dk_42 (dk_at dksX2_makes_5 11 rfl rfl)
theorem dX2_makes_130 : decode cX2_makes 130 = .ok (.iload 8, 2) := dk_21 8 (dk_at dksX2_makes_5 12 rfl rfl)
theorem dX2_makes_132 : decode cX2_makes 132 = .ok (.bipush 14, 2) := dk_16 14 (dk_at dksX2_makes_5 14 rfl rfl)
theorem dX2_makes_134 : decode cX2_makes 134 = .ok (.iadd, 1) := dk_96 (dk_at dksX2_makes_5 16 rfl rfl)
theorem dX2_makes_135 : decode cX2_makes 135 = .ok (.iconst 1, 1) := dk_4 (dk_at dksX2_makes_5 17 rfl rfl)
theorem dX2_makes_136 : decode cX2_makes 136 = .ok (.invokevirtual 249, 3) := dk_182 0 249 (dk_at dksX2_makes_5 18 rfl rfl)
theorem dX2_makes_139 : decode cX2_makes 139 = .ok (.iload 9, 2) := dk_21 9 (dk_at dksX2_makes_5 21 rfl rfl)
theorem dX2_makes_141 : decode cX2_makes 141 = .ok (.ireturn, 1) := dk_172 (dk_at dksX2_makes_5 23 rfl rfl)
abbrev cX2_readsTexts : ByteArray := prog_10_method_62_code
def yX2_readsTexts : MethodName := ⟨RX2, "readsTexts", "(I)I"⟩
def dkwX2_readsTexts_2 : List UInt8 := [180, 0, 237, 167, 0, 5, 16, 247, 172]
abbrev dktX2_readsTexts_2 : List UInt8 := dkwX2_readsTexts_2 ++ []
def dkwX2_readsTexts_1 : List UInt8 := [29, 172, 132, 2, 1, 167, 255, 234, 42, 182, 0, 240, 42, 180, 0, 237, 42, 180, 0, 191, 162, 0, 10, 42]
abbrev dktX2_readsTexts_1 : List UInt8 := dkwX2_readsTexts_1 ++ dktX2_readsTexts_2
def dkwX2_readsTexts_0 : List UInt8 := [42, 3, 181, 0, 237, 3, 61, 28, 27, 162, 0, 23, 42, 28, 182, 0, 243, 62, 29, 16, 247, 159, 0, 5]
abbrev dktX2_readsTexts_0 : List UInt8 := dkwX2_readsTexts_0 ++ dktX2_readsTexts_1
theorem dksX2_readsTexts_0 : cX2_readsTexts.data.toList.drop 0 = dktX2_readsTexts_0 := by decide +kernel
theorem dksX2_readsTexts_1 : cX2_readsTexts.data.toList.drop 24 = dktX2_readsTexts_1 := dk_seg dksX2_readsTexts_0 24 rfl rfl
theorem dksX2_readsTexts_2 : cX2_readsTexts.data.toList.drop 48 = dktX2_readsTexts_2 := dk_seg dksX2_readsTexts_1 24 rfl rfl
theorem dX2_readsTexts_0 : decode cX2_readsTexts 0 = .ok (.aload_n 0, 1) := dk_42 (dk_at dksX2_readsTexts_0 0 rfl rfl)
theorem dX2_readsTexts_1 : decode cX2_readsTexts 1 = .ok (.iconst 0, 1) := dk_3 (dk_at dksX2_readsTexts_0 1 rfl rfl)
theorem dX2_readsTexts_2 : decode cX2_readsTexts 2 = .ok (.putfield 237, 3) := dk_181 0 237 (dk_at dksX2_readsTexts_0 2 rfl rfl)
theorem dX2_readsTexts_5 : decode cX2_readsTexts 5 = .ok (.iconst 0, 1) := dk_3 (dk_at dksX2_readsTexts_0 5 rfl rfl)
theorem dX2_readsTexts_6 : decode cX2_readsTexts 6 = .ok (.istore_n 2, 1) := dk_61 (dk_at dksX2_readsTexts_0 6 rfl rfl)
theorem dX2_readsTexts_7 : decode cX2_readsTexts 7 = .ok (.iload_n 2, 1) := dk_28 (dk_at dksX2_readsTexts_0 7 rfl rfl)
theorem dX2_readsTexts_8 : decode cX2_readsTexts 8 = .ok (.iload_n 1, 1) := dk_27 (dk_at dksX2_readsTexts_0 8 rfl rfl)
theorem dX2_readsTexts_9 : decode cX2_readsTexts 9 = .ok (.if_icmp .ge 23, 3) := dk_162 0 23 (dk_at dksX2_readsTexts_0 9 rfl rfl)
theorem dX2_readsTexts_12 : decode cX2_readsTexts 12 = .ok (.aload_n 0, 1) := dk_42 (dk_at dksX2_readsTexts_0 12 rfl rfl)
theorem dX2_readsTexts_13 : decode cX2_readsTexts 13 = .ok (.iload_n 2, 1) := dk_28 (dk_at dksX2_readsTexts_0 13 rfl rfl)
theorem dX2_readsTexts_14 : decode cX2_readsTexts 14 = .ok (.invokevirtual 243, 3) := dk_182 0 243 (dk_at dksX2_readsTexts_0 14 rfl rfl)
theorem dX2_readsTexts_17 : decode cX2_readsTexts 17 = .ok (.istore_n 3, 1) := dk_62 (dk_at dksX2_readsTexts_0 17 rfl rfl)
theorem dX2_readsTexts_18 : decode cX2_readsTexts 18 = .ok (.iload_n 3, 1) := dk_29 (dk_at dksX2_readsTexts_0 18 rfl rfl)
theorem dX2_readsTexts_19 : decode cX2_readsTexts 19 = .ok (.bipush (-9), 2) := dk_16 247 (dk_at dksX2_readsTexts_0 19 rfl rfl)
theorem dX2_readsTexts_21 : decode cX2_readsTexts 21 = .ok (.if_icmp .eq 5, 3) := dk_159 0 5 (dk_at dksX2_readsTexts_0 21 rfl rfl)
theorem dX2_readsTexts_24 : decode cX2_readsTexts 24 = .ok (.iload_n 3, 1) := dk_29 (dk_at dksX2_readsTexts_1 0 rfl rfl)
theorem dX2_readsTexts_25 : decode cX2_readsTexts 25 = .ok (.ireturn, 1) := dk_172 (dk_at dksX2_readsTexts_1 1 rfl rfl)
theorem dX2_readsTexts_26 : decode cX2_readsTexts 26 = .ok (.iinc 2 1, 3) := dk_132 2 1 (dk_at dksX2_readsTexts_1 2 rfl rfl)
theorem dX2_readsTexts_29 : decode cX2_readsTexts 29 = .ok (.goto (-22), 3) := dk_167 255 234 (dk_at dksX2_readsTexts_1 5 rfl rfl)
theorem dX2_readsTexts_32 : decode cX2_readsTexts 32 = .ok (.aload_n 0, 1) := dk_42 (dk_at dksX2_readsTexts_1 8 rfl rfl)
theorem dX2_readsTexts_33 : decode cX2_readsTexts 33 = .ok (.invokevirtual 240, 3) := dk_182 0 240 (dk_at dksX2_readsTexts_1 9 rfl rfl)
theorem dX2_readsTexts_36 : decode cX2_readsTexts 36 = .ok (.aload_n 0, 1) := dk_42 (dk_at dksX2_readsTexts_1 12 rfl rfl)
theorem dX2_readsTexts_37 : decode cX2_readsTexts 37 = .ok (.getfield 237, 3) := dk_180 0 237 (dk_at dksX2_readsTexts_1 13 rfl rfl)
theorem dX2_readsTexts_40 : decode cX2_readsTexts 40 = .ok (.aload_n 0, 1) := dk_42 (dk_at dksX2_readsTexts_1 16 rfl rfl)
theorem dX2_readsTexts_41 : decode cX2_readsTexts 41 = .ok (.getfield 191, 3) := dk_180 0 191 (dk_at dksX2_readsTexts_1 17 rfl rfl)
theorem dX2_readsTexts_44 : decode cX2_readsTexts 44 = .ok (.if_icmp .ge 10, 3) := dk_162 0 10 (dk_at dksX2_readsTexts_1 20 rfl rfl)
theorem dX2_readsTexts_47 : decode cX2_readsTexts 47 = .ok (.aload_n 0, 1) := dk_42 (dk_at dksX2_readsTexts_1 23 rfl rfl)
theorem dX2_readsTexts_48 : decode cX2_readsTexts 48 = .ok (.getfield 237, 3) := dk_180 0 237 (dk_at dksX2_readsTexts_2 0 rfl rfl)
theorem dX2_readsTexts_51 : decode cX2_readsTexts 51 = .ok (.goto 5, 3) := dk_167 0 5 (dk_at dksX2_readsTexts_2 3 rfl rfl)
theorem dX2_readsTexts_54 : decode cX2_readsTexts 54 = .ok (.bipush (-9), 2) := dk_16 247 (dk_at dksX2_readsTexts_2 6 rfl rfl)
theorem dX2_readsTexts_56 : decode cX2_readsTexts 56 = .ok (.ireturn, 1) := dk_172 (dk_at dksX2_readsTexts_2 8 rfl rfl)
abbrev cX2_readsOne : ByteArray := prog_10_method_61_code
def yX2_readsOne : MethodName := ⟨RX2, "readsOne", "(I)I"⟩
def dkwX2_readsOne_6 : List UInt8 := [16, 247, 172]
abbrev dktX2_readsOne_6 : List UInt8 := dkwX2_readsOne_6 ++ []
def dkwX2_readsOne_5 : List UInt8 := [42, 89, 180, 0, 237, 4, 96, 181, 0, 237, 167, 255, 195, 42, 180, 0, 62, 27, 42, 180, 0, 237, 79]
abbrev dktX2_readsOne_5 : List UInt8 := dkwX2_readsOne_5 ++ dktX2_readsOne_6
def dkwX2_readsOne_4 : List UInt8 := [153, 0, 37, 42, 180, 0, 237, 42, 180, 0, 59, 27, 46, 100, 16, 8, 160, 0, 8, 42, 180, 0, 237, 172]
abbrev dktX2_readsOne_4 : List UInt8 := dkwX2_readsOne_4 ++ dktX2_readsOne_5
def dkwX2_readsOne_3 : List UInt8 := [180, 0, 237, 42, 180, 0, 191, 162, 0, 52, 42, 180, 0, 17, 42, 180, 0, 237, 46, 184, 0, 94]
abbrev dktX2_readsOne_3 : List UInt8 := dkwX2_readsOne_3 ++ dktX2_readsOne_4
def dkwX2_readsOne_2 : List UInt8 := [42, 180, 0, 237, 46, 184, 0, 94, 61, 42, 89, 180, 0, 237, 4, 96, 181, 0, 237, 28, 153, 0, 63, 42]
abbrev dktX2_readsOne_2 : List UInt8 := dkwX2_readsOne_2 ++ dktX2_readsOne_3
def dkwX2_readsOne_1 : List UInt8 := [16, 34, 160, 0, 8, 42, 180, 0, 237, 172, 42, 180, 0, 59, 27, 42, 180, 0, 237, 79, 42, 180, 0, 17]
abbrev dktX2_readsOne_1 : List UInt8 := dkwX2_readsOne_1 ++ dktX2_readsOne_2
def dkwX2_readsOne_0 : List UInt8 := [42, 182, 0, 240, 42, 180, 0, 237, 42, 180, 0, 191, 159, 0, 17, 42, 180, 0, 17, 42, 180, 0, 237, 46]
abbrev dktX2_readsOne_0 : List UInt8 := dkwX2_readsOne_0 ++ dktX2_readsOne_1
theorem dksX2_readsOne_0 : cX2_readsOne.data.toList.drop 0 = dktX2_readsOne_0 := by decide +kernel
theorem dksX2_readsOne_1 : cX2_readsOne.data.toList.drop 24 = dktX2_readsOne_1 := dk_seg dksX2_readsOne_0 24 rfl rfl
theorem dksX2_readsOne_2 : cX2_readsOne.data.toList.drop 48 = dktX2_readsOne_2 := dk_seg dksX2_readsOne_1 24 rfl rfl
theorem dksX2_readsOne_3 : cX2_readsOne.data.toList.drop 72 = dktX2_readsOne_3 := dk_seg dksX2_readsOne_2 24 rfl rfl
theorem dksX2_readsOne_4 : cX2_readsOne.data.toList.drop 94 = dktX2_readsOne_4 := dk_seg dksX2_readsOne_3 22 rfl rfl
theorem dksX2_readsOne_5 : cX2_readsOne.data.toList.drop 118 = dktX2_readsOne_5 := dk_seg dksX2_readsOne_4 24 rfl rfl
theorem dksX2_readsOne_6 : cX2_readsOne.data.toList.drop 141 = dktX2_readsOne_6 := dk_seg dksX2_readsOne_5 23 rfl rfl
theorem dX2_readsOne_0 : decode cX2_readsOne 0 = .ok (.aload_n 0, 1) := dk_42 (dk_at dksX2_readsOne_0 0 rfl rfl)
theorem dX2_readsOne_1 : decode cX2_readsOne 1 = .ok (.invokevirtual 240, 3) := dk_182 0 240 (dk_at dksX2_readsOne_0 1 rfl rfl)
theorem dX2_readsOne_4 : decode cX2_readsOne 4 = .ok (.aload_n 0, 1) := dk_42 (dk_at dksX2_readsOne_0 4 rfl rfl)
theorem dX2_readsOne_5 : decode cX2_readsOne 5 = .ok (.getfield 237, 3) := dk_180 0 237 (dk_at dksX2_readsOne_0 5 rfl rfl)
theorem dX2_readsOne_8 : decode cX2_readsOne 8 = .ok (.aload_n 0, 1) := dk_42 (dk_at dksX2_readsOne_0 8 rfl rfl)
theorem dX2_readsOne_9 : decode cX2_readsOne 9 = .ok (.getfield 191, 3) := dk_180 0 191 (dk_at dksX2_readsOne_0 9 rfl rfl)
theorem dX2_readsOne_12 : decode cX2_readsOne 12 = .ok (.if_icmp .eq 17, 3) := dk_159 0 17 (dk_at dksX2_readsOne_0 12 rfl rfl)
theorem dX2_readsOne_15 : decode cX2_readsOne 15 = .ok (.aload_n 0, 1) := dk_42 (dk_at dksX2_readsOne_0 15 rfl rfl)
theorem dX2_readsOne_16 : decode cX2_readsOne 16 = .ok (.getfield 17, 3) := dk_180 0 17 (dk_at dksX2_readsOne_0 16 rfl rfl)
theorem dX2_readsOne_19 : decode cX2_readsOne 19 = .ok (.aload_n 0, 1) := dk_42 (dk_at dksX2_readsOne_0 19 rfl rfl)
theorem dX2_readsOne_20 : decode cX2_readsOne 20 = .ok (.getfield 237, 3) := dk_180 0 237 (dk_at dksX2_readsOne_0 20 rfl rfl)
theorem dX2_readsOne_23 : decode cX2_readsOne 23 = .ok (.iaload, 1) := dk_46 (dk_at dksX2_readsOne_0 23 rfl rfl)
theorem dX2_readsOne_24 : decode cX2_readsOne 24 = .ok (.bipush 34, 2) := dk_16 34 (dk_at dksX2_readsOne_1 0 rfl rfl)
theorem dX2_readsOne_26 : decode cX2_readsOne 26 = .ok (.if_icmp .ne 8, 3) := dk_160 0 8 (dk_at dksX2_readsOne_1 2 rfl rfl)
theorem dX2_readsOne_29 : decode cX2_readsOne 29 = .ok (.aload_n 0, 1) := dk_42 (dk_at dksX2_readsOne_1 5 rfl rfl)
theorem dX2_readsOne_30 : decode cX2_readsOne 30 = .ok (.getfield 237, 3) := dk_180 0 237 (dk_at dksX2_readsOne_1 6 rfl rfl)
theorem dX2_readsOne_33 : decode cX2_readsOne 33 = .ok (.ireturn, 1) := dk_172 (dk_at dksX2_readsOne_1 9 rfl rfl)
theorem dX2_readsOne_34 : decode cX2_readsOne 34 = .ok (.aload_n 0, 1) := dk_42 (dk_at dksX2_readsOne_1 10 rfl rfl)
theorem dX2_readsOne_35 : decode cX2_readsOne 35 = .ok (.getfield 59, 3) := dk_180 0 59 (dk_at dksX2_readsOne_1 11 rfl rfl)
theorem dX2_readsOne_38 : decode cX2_readsOne 38 = .ok (.iload_n 1, 1) := dk_27 (dk_at dksX2_readsOne_1 14 rfl rfl)
theorem dX2_readsOne_39 : decode cX2_readsOne 39 = .ok (.aload_n 0, 1) := dk_42 (dk_at dksX2_readsOne_1 15 rfl rfl)
theorem dX2_readsOne_40 : decode cX2_readsOne 40 = .ok (.getfield 237, 3) := dk_180 0 237 (dk_at dksX2_readsOne_1 16 rfl rfl)
theorem dX2_readsOne_43 : decode cX2_readsOne 43 = .ok (.iastore, 1) := dk_79 (dk_at dksX2_readsOne_1 19 rfl rfl)
theorem dX2_readsOne_44 : decode cX2_readsOne 44 = .ok (.aload_n 0, 1) := dk_42 (dk_at dksX2_readsOne_1 20 rfl rfl)
theorem dX2_readsOne_45 : decode cX2_readsOne 45 = .ok (.getfield 17, 3) := dk_180 0 17 (dk_at dksX2_readsOne_1 21 rfl rfl)
theorem dX2_readsOne_48 : decode cX2_readsOne 48 = .ok (.aload_n 0, 1) := dk_42 (dk_at dksX2_readsOne_2 0 rfl rfl)
theorem dX2_readsOne_49 : decode cX2_readsOne 49 = .ok (.getfield 237, 3) := dk_180 0 237 (dk_at dksX2_readsOne_2 1 rfl rfl)
theorem dX2_readsOne_52 : decode cX2_readsOne 52 = .ok (.iaload, 1) := dk_46 (dk_at dksX2_readsOne_2 4 rfl rfl)
theorem dX2_readsOne_53 : decode cX2_readsOne 53 = .ok (.invokestatic 94, 3) := dk_184 0 94 (dk_at dksX2_readsOne_2 5 rfl rfl)
theorem dX2_readsOne_56 : decode cX2_readsOne 56 = .ok (.istore_n 2, 1) := dk_61 (dk_at dksX2_readsOne_2 8 rfl rfl)
theorem dX2_readsOne_57 : decode cX2_readsOne 57 = .ok (.aload_n 0, 1) := dk_42 (dk_at dksX2_readsOne_2 9 rfl rfl)
theorem dX2_readsOne_58 : decode cX2_readsOne 58 = .ok (.dup, 1) := dk_89 (dk_at dksX2_readsOne_2 10 rfl rfl)
theorem dX2_readsOne_59 : decode cX2_readsOne 59 = .ok (.getfield 237, 3) := dk_180 0 237 (dk_at dksX2_readsOne_2 11 rfl rfl)
theorem dX2_readsOne_62 : decode cX2_readsOne 62 = .ok (.iconst 1, 1) := dk_4 (dk_at dksX2_readsOne_2 14 rfl rfl)
theorem dX2_readsOne_63 : decode cX2_readsOne 63 = .ok (.iadd, 1) := dk_96 (dk_at dksX2_readsOne_2 15 rfl rfl)
theorem dX2_readsOne_64 : decode cX2_readsOne 64 = .ok (.putfield 237, 3) := dk_181 0 237 (dk_at dksX2_readsOne_2 16 rfl rfl)
theorem dX2_readsOne_67 : decode cX2_readsOne 67 = .ok (.iload_n 2, 1) := dk_28 (dk_at dksX2_readsOne_2 19 rfl rfl)
theorem dX2_readsOne_68 : decode cX2_readsOne 68 = .ok (.ifCond .eq 63, 3) := dk_153 0 63 (dk_at dksX2_readsOne_2 20 rfl rfl)
theorem dX2_readsOne_71 : decode cX2_readsOne 71 = .ok (.aload_n 0, 1) := dk_42 (dk_at dksX2_readsOne_2 23 rfl rfl)
theorem dX2_readsOne_72 : decode cX2_readsOne 72 = .ok (.getfield 237, 3) := dk_180 0 237 (dk_at dksX2_readsOne_3 0 rfl rfl)
theorem dX2_readsOne_75 : decode cX2_readsOne 75 = .ok (.aload_n 0, 1) := dk_42 (dk_at dksX2_readsOne_3 3 rfl rfl)
theorem dX2_readsOne_76 : decode cX2_readsOne 76 = .ok (.getfield 191, 3) := dk_180 0 191 (dk_at dksX2_readsOne_3 4 rfl rfl)
theorem dX2_readsOne_79 : decode cX2_readsOne 79 = .ok (.if_icmp .ge 52, 3) := dk_162 0 52 (dk_at dksX2_readsOne_3 7 rfl rfl)
theorem dX2_readsOne_82 : decode cX2_readsOne 82 = .ok (.aload_n 0, 1) := dk_42 (dk_at dksX2_readsOne_3 10 rfl rfl)
theorem dX2_readsOne_83 : decode cX2_readsOne 83 = .ok (.getfield 17, 3) := dk_180 0 17 (dk_at dksX2_readsOne_3 11 rfl rfl)
theorem dX2_readsOne_86 : decode cX2_readsOne 86 = .ok (.aload_n 0, 1) := dk_42 (dk_at dksX2_readsOne_3 14 rfl rfl)
theorem dX2_readsOne_87 : decode cX2_readsOne 87 = .ok (.getfield 237, 3) := dk_180 0 237 (dk_at dksX2_readsOne_3 15 rfl rfl)
theorem dX2_readsOne_90 : decode cX2_readsOne 90 = .ok (.iaload, 1) := dk_46 (dk_at dksX2_readsOne_3 18 rfl rfl)
theorem dX2_readsOne_91 : decode cX2_readsOne 91 = .ok (.invokestatic 94, 3) := dk_184 0 94 (dk_at dksX2_readsOne_3 19 rfl rfl)
theorem dX2_readsOne_94 : decode cX2_readsOne 94 = .ok (.ifCond .eq 37, 3) := dk_153 0 37 (dk_at dksX2_readsOne_4 0 rfl rfl)
theorem dX2_readsOne_97 : decode cX2_readsOne 97 = .ok (.aload_n 0, 1) := dk_42 (dk_at dksX2_readsOne_4 3 rfl rfl)
theorem dX2_readsOne_98 : decode cX2_readsOne 98 = .ok (.getfield 237, 3) := dk_180 0 237 (dk_at dksX2_readsOne_4 4 rfl rfl)
theorem dX2_readsOne_101 : decode cX2_readsOne 101 = .ok (.aload_n 0, 1) := dk_42 (dk_at dksX2_readsOne_4 7 rfl rfl)
theorem dX2_readsOne_102 : decode cX2_readsOne 102 = .ok (.getfield 59, 3) := dk_180 0 59 (dk_at dksX2_readsOne_4 8 rfl rfl)
theorem dX2_readsOne_105 : decode cX2_readsOne 105 = .ok (.iload_n 1, 1) := dk_27 (dk_at dksX2_readsOne_4 11 rfl rfl)
theorem dX2_readsOne_106 : decode cX2_readsOne 106 = .ok (.iaload, 1) := dk_46 (dk_at dksX2_readsOne_4 12 rfl rfl)
theorem dX2_readsOne_107 : decode cX2_readsOne 107 = .ok (.isub, 1) := dk_100 (dk_at dksX2_readsOne_4 13 rfl rfl)
theorem dX2_readsOne_108 : decode cX2_readsOne 108 = .ok (.bipush 8, 2) := dk_16 8 (dk_at dksX2_readsOne_4 14 rfl rfl)
theorem dX2_readsOne_110 : decode cX2_readsOne 110 = .ok (.if_icmp .ne 8, 3) := dk_160 0 8 (dk_at dksX2_readsOne_4 16 rfl rfl)
theorem dX2_readsOne_113 : decode cX2_readsOne 113 = .ok (.aload_n 0, 1) := dk_42 (dk_at dksX2_readsOne_4 19 rfl rfl)
theorem dX2_readsOne_114 : decode cX2_readsOne 114 = .ok (.getfield 237, 3) := dk_180 0 237 (dk_at dksX2_readsOne_4 20 rfl rfl)
theorem dX2_readsOne_117 : decode cX2_readsOne 117 = .ok (.ireturn, 1) := dk_172 (dk_at dksX2_readsOne_4 23 rfl rfl)
theorem dX2_readsOne_118 : decode cX2_readsOne 118 = .ok (.aload_n 0, 1) := dk_42 (dk_at dksX2_readsOne_5 0 rfl rfl)
theorem dX2_readsOne_119 : decode cX2_readsOne 119 = .ok (.dup, 1) := dk_89 (dk_at dksX2_readsOne_5 1 rfl rfl)
theorem dX2_readsOne_120 : decode cX2_readsOne 120 = .ok (.getfield 237, 3) := dk_180 0 237 (dk_at dksX2_readsOne_5 2 rfl rfl)
theorem dX2_readsOne_123 : decode cX2_readsOne 123 = .ok (.iconst 1, 1) := dk_4 (dk_at dksX2_readsOne_5 5 rfl rfl)
theorem dX2_readsOne_124 : decode cX2_readsOne 124 = .ok (.iadd, 1) := dk_96 (dk_at dksX2_readsOne_5 6 rfl rfl)
theorem dX2_readsOne_125 : decode cX2_readsOne 125 = .ok (.putfield 237, 3) := dk_181 0 237 (dk_at dksX2_readsOne_5 7 rfl rfl)
theorem dX2_readsOne_128 : decode cX2_readsOne 128 = .ok (.goto (-61), 3) := dk_167 255 195 (dk_at dksX2_readsOne_5 10 rfl rfl)
theorem dX2_readsOne_131 : decode cX2_readsOne 131 = .ok (.aload_n 0, 1) := dk_42 (dk_at dksX2_readsOne_5 13 rfl rfl)
theorem dX2_readsOne_132 : decode cX2_readsOne 132 = .ok (.getfield 62, 3) := dk_180 0 62 (dk_at dksX2_readsOne_5 14 rfl rfl)
theorem dX2_readsOne_135 : decode cX2_readsOne 135 = .ok (.iload_n 1, 1) := dk_27 (dk_at dksX2_readsOne_5 17 rfl rfl)
theorem dX2_readsOne_136 : decode cX2_readsOne 136 = .ok (.aload_n 0, 1) := dk_42 (dk_at dksX2_readsOne_5 18 rfl rfl)
theorem dX2_readsOne_137 : decode cX2_readsOne 137 = .ok (.getfield 237, 3) := dk_180 0 237 (dk_at dksX2_readsOne_5 19 rfl rfl)
theorem dX2_readsOne_140 : decode cX2_readsOne 140 = .ok (.iastore, 1) := dk_79 (dk_at dksX2_readsOne_5 22 rfl rfl)
theorem dX2_readsOne_141 : decode cX2_readsOne 141 = .ok (.bipush (-9), 2) := dk_16 247 (dk_at dksX2_readsOne_6 0 rfl rfl)
theorem dX2_readsOne_143 : decode cX2_readsOne 143 = .ok (.ireturn, 1) := dk_172 (dk_at dksX2_readsOne_6 2 rfl rfl)
abbrev cX2_skips : ByteArray := prog_10_method_60_code
def yX2_skips : MethodName := ⟨RX2, "skips", "()V"⟩
def dkwX2_skips_1 : List UInt8 := [160, 0, 16, 42, 89, 180, 0, 237, 4, 96, 181, 0, 237, 167, 255, 221, 177]
abbrev dktX2_skips_1 : List UInt8 := dkwX2_skips_1 ++ []
def dkwX2_skips_0 : List UInt8 := [42, 180, 0, 237, 42, 180, 0, 191, 162, 0, 30, 42, 180, 0, 17, 42, 180, 0, 237, 46, 16, 32]
abbrev dktX2_skips_0 : List UInt8 := dkwX2_skips_0 ++ dktX2_skips_1
theorem dksX2_skips_0 : cX2_skips.data.toList.drop 0 = dktX2_skips_0 := by decide +kernel
theorem dksX2_skips_1 : cX2_skips.data.toList.drop 22 = dktX2_skips_1 := dk_seg dksX2_skips_0 22 rfl rfl
theorem dX2_skips_0 : decode cX2_skips 0 = .ok (.aload_n 0, 1) := dk_42 (dk_at dksX2_skips_0 0 rfl rfl)
theorem dX2_skips_1 : decode cX2_skips 1 = .ok (.getfield 237, 3) := dk_180 0 237 (dk_at dksX2_skips_0 1 rfl rfl)
theorem dX2_skips_4 : decode cX2_skips 4 = .ok (.aload_n 0, 1) := dk_42 (dk_at dksX2_skips_0 4 rfl rfl)
theorem dX2_skips_5 : decode cX2_skips 5 = .ok (.getfield 191, 3) := dk_180 0 191 (dk_at dksX2_skips_0 5 rfl rfl)
theorem dX2_skips_8 : decode cX2_skips 8 = .ok (.if_icmp .ge 30, 3) := dk_162 0 30 (dk_at dksX2_skips_0 8 rfl rfl)
theorem dX2_skips_11 : decode cX2_skips 11 = .ok (.aload_n 0, 1) := dk_42 (dk_at dksX2_skips_0 11 rfl rfl)
theorem dX2_skips_12 : decode cX2_skips 12 = .ok (.getfield 17, 3) := dk_180 0 17 (dk_at dksX2_skips_0 12 rfl rfl)
theorem dX2_skips_15 : decode cX2_skips 15 = .ok (.aload_n 0, 1) := dk_42 (dk_at dksX2_skips_0 15 rfl rfl)
theorem dX2_skips_16 : decode cX2_skips 16 = .ok (.getfield 237, 3) := dk_180 0 237 (dk_at dksX2_skips_0 16 rfl rfl)
theorem dX2_skips_19 : decode cX2_skips 19 = .ok (.iaload, 1) := dk_46 (dk_at dksX2_skips_0 19 rfl rfl)
theorem dX2_skips_20 : decode cX2_skips 20 = .ok (.bipush 32, 2) := dk_16 32 (dk_at dksX2_skips_0 20 rfl rfl)
theorem dX2_skips_22 : decode cX2_skips 22 = .ok (.if_icmp .ne 16, 3) := dk_160 0 16 (dk_at dksX2_skips_1 0 rfl rfl)
theorem dX2_skips_25 : decode cX2_skips 25 = .ok (.aload_n 0, 1) := dk_42 (dk_at dksX2_skips_1 3 rfl rfl)
theorem dX2_skips_26 : decode cX2_skips 26 = .ok (.dup, 1) := dk_89 (dk_at dksX2_skips_1 4 rfl rfl)
theorem dX2_skips_27 : decode cX2_skips 27 = .ok (.getfield 237, 3) := dk_180 0 237 (dk_at dksX2_skips_1 5 rfl rfl)
theorem dX2_skips_30 : decode cX2_skips 30 = .ok (.iconst 1, 1) := dk_4 (dk_at dksX2_skips_1 8 rfl rfl)
theorem dX2_skips_31 : decode cX2_skips 31 = .ok (.iadd, 1) := dk_96 (dk_at dksX2_skips_1 9 rfl rfl)
theorem dX2_skips_32 : decode cX2_skips 32 = .ok (.putfield 237, 3) := dk_181 0 237 (dk_at dksX2_skips_1 10 rfl rfl)
theorem dX2_skips_35 : decode cX2_skips 35 = .ok (.goto (-35), 3) := dk_167 255 221 (dk_at dksX2_skips_1 13 rfl rfl)
theorem dX2_skips_38 : decode cX2_skips 38 = .ok (.return_, 1) := dk_177 (dk_at dksX2_skips_1 16 rfl rfl)
abbrev cX2_writesText : ByteArray := prog_10_method_63_code
def yX2_writesText : MethodName := ⟨RX2, "writesText", "(II)V"⟩
def dkwX2_writesText_2 : List UInt8 := [180, 0, 59, 28, 46, 29, 96, 46, 79, 132, 3, 1, 167, 255, 220, 177]
abbrev dktX2_writesText_2 : List UInt8 := dkwX2_writesText_2 ++ []
def dkwX2_writesText_1 : List UInt8 := [180, 0, 7, 27, 46, 162, 0, 32, 42, 180, 0, 7, 27, 4, 96, 29, 96, 42, 180, 0, 17, 42]
abbrev dktX2_writesText_1 : List UInt8 := dkwX2_writesText_1 ++ dktX2_writesText_2
def dkwX2_writesText_0 : List UInt8 := [42, 180, 0, 7, 27, 42, 180, 0, 62, 28, 46, 42, 180, 0, 59, 28, 46, 100, 79, 3, 62, 29, 42]
abbrev dktX2_writesText_0 : List UInt8 := dkwX2_writesText_0 ++ dktX2_writesText_1
theorem dksX2_writesText_0 : cX2_writesText.data.toList.drop 0 = dktX2_writesText_0 := by decide +kernel
theorem dksX2_writesText_1 : cX2_writesText.data.toList.drop 23 = dktX2_writesText_1 := dk_seg dksX2_writesText_0 23 rfl rfl
theorem dksX2_writesText_2 : cX2_writesText.data.toList.drop 45 = dktX2_writesText_2 := dk_seg dksX2_writesText_1 22 rfl rfl
theorem dX2_writesText_0 : decode cX2_writesText 0 = .ok (.aload_n 0, 1) := dk_42 (dk_at dksX2_writesText_0 0 rfl rfl)
theorem dX2_writesText_1 : decode cX2_writesText 1 = .ok (.getfield 7, 3) := dk_180 0 7 (dk_at dksX2_writesText_0 1 rfl rfl)
theorem dX2_writesText_4 : decode cX2_writesText 4 = .ok (.iload_n 1, 1) := dk_27 (dk_at dksX2_writesText_0 4 rfl rfl)
theorem dX2_writesText_5 : decode cX2_writesText 5 = .ok (.aload_n 0, 1) := dk_42 (dk_at dksX2_writesText_0 5 rfl rfl)
theorem dX2_writesText_6 : decode cX2_writesText 6 = .ok (.getfield 62, 3) := dk_180 0 62 (dk_at dksX2_writesText_0 6 rfl rfl)
theorem dX2_writesText_9 : decode cX2_writesText 9 = .ok (.iload_n 2, 1) := dk_28 (dk_at dksX2_writesText_0 9 rfl rfl)
theorem dX2_writesText_10 : decode cX2_writesText 10 = .ok (.iaload, 1) := dk_46 (dk_at dksX2_writesText_0 10 rfl rfl)
theorem dX2_writesText_11 : decode cX2_writesText 11 = .ok (.aload_n 0, 1) := dk_42 (dk_at dksX2_writesText_0 11 rfl rfl)
theorem dX2_writesText_12 : decode cX2_writesText 12 = .ok (.getfield 59, 3) := dk_180 0 59 (dk_at dksX2_writesText_0 12 rfl rfl)
theorem dX2_writesText_15 : decode cX2_writesText 15 = .ok (.iload_n 2, 1) := dk_28 (dk_at dksX2_writesText_0 15 rfl rfl)
theorem dX2_writesText_16 : decode cX2_writesText 16 = .ok (.iaload, 1) := dk_46 (dk_at dksX2_writesText_0 16 rfl rfl)
theorem dX2_writesText_17 : decode cX2_writesText 17 = .ok (.isub, 1) := dk_100 (dk_at dksX2_writesText_0 17 rfl rfl)
theorem dX2_writesText_18 : decode cX2_writesText 18 = .ok (.iastore, 1) := dk_79 (dk_at dksX2_writesText_0 18 rfl rfl)
theorem dX2_writesText_19 : decode cX2_writesText 19 = .ok (.iconst 0, 1) := dk_3 (dk_at dksX2_writesText_0 19 rfl rfl)
theorem dX2_writesText_20 : decode cX2_writesText 20 = .ok (.istore_n 3, 1) := dk_62 (dk_at dksX2_writesText_0 20 rfl rfl)
theorem dX2_writesText_21 : decode cX2_writesText 21 = .ok (.iload_n 3, 1) := dk_29 (dk_at dksX2_writesText_0 21 rfl rfl)
theorem dX2_writesText_22 : decode cX2_writesText 22 = .ok (.aload_n 0, 1) := dk_42 (dk_at dksX2_writesText_0 22 rfl rfl)
theorem dX2_writesText_23 : decode cX2_writesText 23 = .ok (.getfield 7, 3) := dk_180 0 7 (dk_at dksX2_writesText_1 0 rfl rfl)
theorem dX2_writesText_26 : decode cX2_writesText 26 = .ok (.iload_n 1, 1) := dk_27 (dk_at dksX2_writesText_1 3 rfl rfl)
theorem dX2_writesText_27 : decode cX2_writesText 27 = .ok (.iaload, 1) := dk_46 (dk_at dksX2_writesText_1 4 rfl rfl)
theorem dX2_writesText_28 : decode cX2_writesText 28 = .ok (.if_icmp .ge 32, 3) := dk_162 0 32 (dk_at dksX2_writesText_1 5 rfl rfl)
theorem dX2_writesText_31 : decode cX2_writesText 31 = .ok (.aload_n 0, 1) := dk_42 (dk_at dksX2_writesText_1 8 rfl rfl)
theorem dX2_writesText_32 : decode cX2_writesText 32 = .ok (.getfield 7, 3) := dk_180 0 7 (dk_at dksX2_writesText_1 9 rfl rfl)
theorem dX2_writesText_35 : decode cX2_writesText 35 = .ok (.iload_n 1, 1) := dk_27 (dk_at dksX2_writesText_1 12 rfl rfl)
theorem dX2_writesText_36 : decode cX2_writesText 36 = .ok (.iconst 1, 1) := dk_4 (dk_at dksX2_writesText_1 13 rfl rfl)
theorem dX2_writesText_37 : decode cX2_writesText 37 = .ok (.iadd, 1) := dk_96 (dk_at dksX2_writesText_1 14 rfl rfl)
theorem dX2_writesText_38 : decode cX2_writesText 38 = .ok (.iload_n 3, 1) := dk_29 (dk_at dksX2_writesText_1 15 rfl rfl)
theorem dX2_writesText_39 : decode cX2_writesText 39 = .ok (.iadd, 1) := dk_96 (dk_at dksX2_writesText_1 16 rfl rfl)
theorem dX2_writesText_40 : decode cX2_writesText 40 = .ok (.aload_n 0, 1) := dk_42 (dk_at dksX2_writesText_1 17 rfl rfl)
theorem dX2_writesText_41 : decode cX2_writesText 41 = .ok (.getfield 17, 3) := dk_180 0 17 (dk_at dksX2_writesText_1 18 rfl rfl)
theorem dX2_writesText_44 : decode cX2_writesText 44 = .ok (.aload_n 0, 1) := dk_42 (dk_at dksX2_writesText_1 21 rfl rfl)
theorem dX2_writesText_45 : decode cX2_writesText 45 = .ok (.getfield 59, 3) := dk_180 0 59 (dk_at dksX2_writesText_2 0 rfl rfl)
theorem dX2_writesText_48 : decode cX2_writesText 48 = .ok (.iload_n 2, 1) := dk_28 (dk_at dksX2_writesText_2 3 rfl rfl)
theorem dX2_writesText_49 : decode cX2_writesText 49 = .ok (.iaload, 1) := dk_46 (dk_at dksX2_writesText_2 4 rfl rfl)
theorem dX2_writesText_50 : decode cX2_writesText 50 = .ok (.iload_n 3, 1) := dk_29 (dk_at dksX2_writesText_2 5 rfl rfl)
theorem dX2_writesText_51 : decode cX2_writesText 51 = .ok (.iadd, 1) := dk_96 (dk_at dksX2_writesText_2 6 rfl rfl)
theorem dX2_writesText_52 : decode cX2_writesText 52 = .ok (.iaload, 1) := dk_46 (dk_at dksX2_writesText_2 7 rfl rfl)
theorem dX2_writesText_53 : decode cX2_writesText 53 = .ok (.iastore, 1) := dk_79 (dk_at dksX2_writesText_2 8 rfl rfl)
theorem dX2_writesText_54 : decode cX2_writesText 54 = .ok (.iinc 3 1, 3) := dk_132 3 1 (dk_at dksX2_writesText_2 9 rfl rfl)
theorem dX2_writesText_57 : decode cX2_writesText 57 = .ok (.goto (-36), 3) := dk_167 255 220 (dk_at dksX2_writesText_2 12 rfl rfl)
theorem dX2_writesText_60 : decode cX2_writesText 60 = .ok (.return_, 1) := dk_177 (dk_at dksX2_writesText_2 15 rfl rfl)
abbrev cX2_starter : ByteArray := prog_10_method_67_code
def yX2_starter : MethodName := ⟨RX2, "starter", "(III)I"⟩
def dkwX2_starter_1 : List UInt8 := [3, 182, 0, 255, 167, 0, 4, 2, 172]
abbrev dktX2_starter_1 : List UInt8 := dkwX2_starter_1 ++ []
def dkwX2_starter_0 : List UInt8 := [27, 28, 184, 0, 252, 153, 0, 26, 29, 16, 252, 7, 184, 0, 79, 153, 0, 16, 42, 27, 5, 28, 29, 3]
abbrev dktX2_starter_0 : List UInt8 := dkwX2_starter_0 ++ dktX2_starter_1
theorem dksX2_starter_0 : cX2_starter.data.toList.drop 0 = dktX2_starter_0 := by decide +kernel
theorem dksX2_starter_1 : cX2_starter.data.toList.drop 24 = dktX2_starter_1 := dk_seg dksX2_starter_0 24 rfl rfl
theorem dX2_starter_0 : decode cX2_starter 0 = .ok (.iload_n 1, 1) := dk_27 (dk_at dksX2_starter_0 0 rfl rfl)
theorem dX2_starter_1 : decode cX2_starter 1 = .ok (.iload_n 2, 1) := dk_28 (dk_at dksX2_starter_0 1 rfl rfl)
theorem dX2_starter_2 : decode cX2_starter 2 = .ok (.invokestatic 252, 3) := dk_184 0 252 (dk_at dksX2_starter_0 2 rfl rfl)
theorem dX2_starter_5 : decode cX2_starter 5 = .ok (.ifCond .eq 26, 3) := dk_153 0 26 (dk_at dksX2_starter_0 5 rfl rfl)
theorem dX2_starter_8 : decode cX2_starter 8 = .ok (.iload_n 3, 1) := dk_29 (dk_at dksX2_starter_0 8 rfl rfl)
theorem dX2_starter_9 : decode cX2_starter 9 = .ok (.bipush (-4), 2) := dk_16 252 (dk_at dksX2_starter_0 9 rfl rfl)
theorem dX2_starter_11 : decode cX2_starter 11 = .ok (.iconst 4, 1) := dk_7 (dk_at dksX2_starter_0 11 rfl rfl)
theorem dX2_starter_12 : decode cX2_starter 12 = .ok (.invokestatic 79, 3) := dk_184 0 79 (dk_at dksX2_starter_0 12 rfl rfl)
theorem dX2_starter_15 : decode cX2_starter 15 = .ok (.ifCond .eq 16, 3) := dk_153 0 16 (dk_at dksX2_starter_0 15 rfl rfl)
theorem dX2_starter_18 : decode cX2_starter 18 = .ok (.aload_n 0, 1) := dk_42 (dk_at dksX2_starter_0 18 rfl rfl)
theorem dX2_starter_19 : decode cX2_starter 19 = .ok (.iload_n 1, 1) := dk_27 (dk_at dksX2_starter_0 19 rfl rfl)
theorem dX2_starter_20 : decode cX2_starter 20 = .ok (.iconst 2, 1) := dk_5 (dk_at dksX2_starter_0 20 rfl rfl)
theorem dX2_starter_21 : decode cX2_starter 21 = .ok (.iload_n 2, 1) := dk_28 (dk_at dksX2_starter_0 21 rfl rfl)
theorem dX2_starter_22 : decode cX2_starter 22 = .ok (.iload_n 3, 1) := dk_29 (dk_at dksX2_starter_0 22 rfl rfl)
theorem dX2_starter_23 : decode cX2_starter 23 = .ok (.iconst 0, 1) := dk_3 (dk_at dksX2_starter_0 23 rfl rfl)
theorem dX2_starter_24 : decode cX2_starter 24 = .ok (.iconst 0, 1) := dk_3 (dk_at dksX2_starter_1 0 rfl rfl)
theorem dX2_starter_25 : decode cX2_starter 25 = .ok (.invokevirtual 255, 3) := dk_182 0 255 (dk_at dksX2_starter_1 1 rfl rfl)
theorem dX2_starter_28 : decode cX2_starter 28 = .ok (.goto 4, 3) := dk_167 0 4 (dk_at dksX2_starter_1 4 rfl rfl)
theorem dX2_starter_31 : decode cX2_starter 31 = .ok (.iconst (-1), 1) := dk_2 (dk_at dksX2_starter_1 7 rfl rfl)
theorem dX2_starter_32 : decode cX2_starter 32 = .ok (.ireturn, 1) := dk_172 (dk_at dksX2_starter_1 8 rfl rfl)
abbrev cX2_joiner : ByteArray := prog_10_method_68_code
def yX2_joiner : MethodName := ⟨RX2, "joiner", "(III)I"⟩
def dkwX2_joiner_1 : List UInt8 := [3, 182, 0, 255, 167, 0, 4, 2, 172]
abbrev dktX2_joiner_1 : List UInt8 := dkwX2_joiner_1 ++ []
def dkwX2_joiner_0 : List UInt8 := [27, 28, 184, 0, 252, 153, 0, 26, 29, 16, 252, 7, 184, 0, 79, 153, 0, 16, 42, 27, 6, 28, 29, 3]
abbrev dktX2_joiner_0 : List UInt8 := dkwX2_joiner_0 ++ dktX2_joiner_1
theorem dksX2_joiner_0 : cX2_joiner.data.toList.drop 0 = dktX2_joiner_0 := by decide +kernel
theorem dksX2_joiner_1 : cX2_joiner.data.toList.drop 24 = dktX2_joiner_1 := dk_seg dksX2_joiner_0 24 rfl rfl
theorem dX2_joiner_0 : decode cX2_joiner 0 = .ok (.iload_n 1, 1) := dk_27 (dk_at dksX2_joiner_0 0 rfl rfl)
theorem dX2_joiner_1 : decode cX2_joiner 1 = .ok (.iload_n 2, 1) := dk_28 (dk_at dksX2_joiner_0 1 rfl rfl)
theorem dX2_joiner_2 : decode cX2_joiner 2 = .ok (.invokestatic 252, 3) := dk_184 0 252 (dk_at dksX2_joiner_0 2 rfl rfl)
theorem dX2_joiner_5 : decode cX2_joiner 5 = .ok (.ifCond .eq 26, 3) := dk_153 0 26 (dk_at dksX2_joiner_0 5 rfl rfl)
theorem dX2_joiner_8 : decode cX2_joiner 8 = .ok (.iload_n 3, 1) := dk_29 (dk_at dksX2_joiner_0 8 rfl rfl)
theorem dX2_joiner_9 : decode cX2_joiner 9 = .ok (.bipush (-4), 2) := dk_16 252 (dk_at dksX2_joiner_0 9 rfl rfl)
theorem dX2_joiner_11 : decode cX2_joiner 11 = .ok (.iconst 4, 1) := dk_7 (dk_at dksX2_joiner_0 11 rfl rfl)
theorem dX2_joiner_12 : decode cX2_joiner 12 = .ok (.invokestatic 79, 3) := dk_184 0 79 (dk_at dksX2_joiner_0 12 rfl rfl)
theorem dX2_joiner_15 : decode cX2_joiner 15 = .ok (.ifCond .eq 16, 3) := dk_153 0 16 (dk_at dksX2_joiner_0 15 rfl rfl)
theorem dX2_joiner_18 : decode cX2_joiner 18 = .ok (.aload_n 0, 1) := dk_42 (dk_at dksX2_joiner_0 18 rfl rfl)
theorem dX2_joiner_19 : decode cX2_joiner 19 = .ok (.iload_n 1, 1) := dk_27 (dk_at dksX2_joiner_0 19 rfl rfl)
theorem dX2_joiner_20 : decode cX2_joiner 20 = .ok (.iconst 3, 1) := dk_6 (dk_at dksX2_joiner_0 20 rfl rfl)
theorem dX2_joiner_21 : decode cX2_joiner 21 = .ok (.iload_n 2, 1) := dk_28 (dk_at dksX2_joiner_0 21 rfl rfl)
theorem dX2_joiner_22 : decode cX2_joiner 22 = .ok (.iload_n 3, 1) := dk_29 (dk_at dksX2_joiner_0 22 rfl rfl)
theorem dX2_joiner_23 : decode cX2_joiner 23 = .ok (.iconst 0, 1) := dk_3 (dk_at dksX2_joiner_0 23 rfl rfl)
theorem dX2_joiner_24 : decode cX2_joiner 24 = .ok (.iconst 0, 1) := dk_3 (dk_at dksX2_joiner_1 0 rfl rfl)
theorem dX2_joiner_25 : decode cX2_joiner 25 = .ok (.invokevirtual 255, 3) := dk_182 0 255 (dk_at dksX2_joiner_1 1 rfl rfl)
theorem dX2_joiner_28 : decode cX2_joiner 28 = .ok (.goto 4, 3) := dk_167 0 4 (dk_at dksX2_joiner_1 4 rfl rfl)
theorem dX2_joiner_31 : decode cX2_joiner 31 = .ok (.iconst (-1), 1) := dk_2 (dk_at dksX2_joiner_1 7 rfl rfl)
theorem dX2_joiner_32 : decode cX2_joiner 32 = .ok (.ireturn, 1) := dk_172 (dk_at dksX2_joiner_1 8 rfl rfl)
abbrev cX2_dropRule : ByteArray := prog_10_method_69_code
def yX2_dropRule : MethodName := ⟨RX2, "dropRule", "(I)I"⟩
def dkwX2_dropRule_3 : List UInt8 := [132, 3, 1, 167, 255, 230, 28, 172]
abbrev dktX2_dropRule_3 : List UInt8 := dkwX2_dropRule_3 ++ []
def dkwX2_dropRule_2 : List UInt8 := [16, 12, 162, 0, 26, 28, 42, 29, 3, 182, 0, 120, 158, 0, 7, 4, 167, 0, 4, 3, 96, 61]
abbrev dktX2_dropRule_2 : List UInt8 := dkwX2_dropRule_2 ++ dktX2_dropRule_3
def dkwX2_dropRule_1 : List UInt8 := [182, 0, 207, 42, 180, 0, 7, 17, 2, 189, 16, 23, 27, 104, 96, 3, 96, 3, 79, 3, 61, 3, 62, 29]
abbrev dktX2_dropRule_1 : List UInt8 := dkwX2_dropRule_1 ++ dktX2_dropRule_2
def dkwX2_dropRule_0 : List UInt8 := [27, 3, 16, 11, 184, 0, 79, 153, 0, 12, 42, 27, 3, 182, 0, 120, 154, 0, 5, 2, 172, 42]
abbrev dktX2_dropRule_0 : List UInt8 := dkwX2_dropRule_0 ++ dktX2_dropRule_1
theorem dksX2_dropRule_0 : cX2_dropRule.data.toList.drop 0 = dktX2_dropRule_0 := by decide +kernel
theorem dksX2_dropRule_1 : cX2_dropRule.data.toList.drop 22 = dktX2_dropRule_1 := dk_seg dksX2_dropRule_0 22 rfl rfl
theorem dksX2_dropRule_2 : cX2_dropRule.data.toList.drop 46 = dktX2_dropRule_2 := dk_seg dksX2_dropRule_1 24 rfl rfl
theorem dksX2_dropRule_3 : cX2_dropRule.data.toList.drop 68 = dktX2_dropRule_3 := dk_seg dksX2_dropRule_2 22 rfl rfl
theorem dX2_dropRule_0 : decode cX2_dropRule 0 = .ok (.iload_n 1, 1) := dk_27 (dk_at dksX2_dropRule_0 0 rfl rfl)
theorem dX2_dropRule_1 : decode cX2_dropRule 1 = .ok (.iconst 0, 1) := dk_3 (dk_at dksX2_dropRule_0 1 rfl rfl)
theorem dX2_dropRule_2 : decode cX2_dropRule 2 = .ok (.bipush 11, 2) := dk_16 11 (dk_at dksX2_dropRule_0 2 rfl rfl)
theorem dX2_dropRule_4 : decode cX2_dropRule 4 = .ok (.invokestatic 79, 3) := dk_184 0 79 (dk_at dksX2_dropRule_0 4 rfl rfl)
theorem dX2_dropRule_7 : decode cX2_dropRule 7 = .ok (.ifCond .eq 12, 3) := dk_153 0 12 (dk_at dksX2_dropRule_0 7 rfl rfl)
theorem dX2_dropRule_10 : decode cX2_dropRule 10 = .ok (.aload_n 0, 1) := dk_42 (dk_at dksX2_dropRule_0 10 rfl rfl)
theorem dX2_dropRule_11 : decode cX2_dropRule 11 = .ok (.iload_n 1, 1) := dk_27 (dk_at dksX2_dropRule_0 11 rfl rfl)
theorem dX2_dropRule_12 : decode cX2_dropRule 12 = .ok (.iconst 0, 1) := dk_3 (dk_at dksX2_dropRule_0 12 rfl rfl)
theorem dX2_dropRule_13 : decode cX2_dropRule 13 = .ok (.invokevirtual 120, 3) := dk_182 0 120 (dk_at dksX2_dropRule_0 13 rfl rfl)
theorem dX2_dropRule_16 : decode cX2_dropRule 16 = .ok (.ifCond .ne 5, 3) := dk_154 0 5 (dk_at dksX2_dropRule_0 16 rfl rfl)
theorem dX2_dropRule_19 : decode cX2_dropRule 19 = .ok (.iconst (-1), 1) := dk_2 (dk_at dksX2_dropRule_0 19 rfl rfl)
theorem dX2_dropRule_20 : decode cX2_dropRule 20 = .ok (.ireturn, 1) := dk_172 (dk_at dksX2_dropRule_0 20 rfl rfl)
theorem dX2_dropRule_21 : decode cX2_dropRule 21 = .ok (.aload_n 0, 1) := dk_42 (dk_at dksX2_dropRule_0 21 rfl rfl)
theorem dX2_dropRule_22 : decode cX2_dropRule 22 = .ok (.invokevirtual 207, 3) := dk_182 0 207 (dk_at dksX2_dropRule_1 0 rfl rfl)
theorem dX2_dropRule_25 : decode cX2_dropRule 25 = .ok (.aload_n 0, 1) := dk_42 (dk_at dksX2_dropRule_1 3 rfl rfl)
theorem dX2_dropRule_26 : decode cX2_dropRule 26 = .ok (.getfield 7, 3) := dk_180 0 7 (dk_at dksX2_dropRule_1 4 rfl rfl)
theorem dX2_dropRule_29 : decode cX2_dropRule 29 = .ok (.sipush 701, 3) := dk_17 2 189 (dk_at dksX2_dropRule_1 7 rfl rfl)
theorem dX2_dropRule_32 : decode cX2_dropRule 32 = .ok (.bipush 23, 2) := dk_16 23 (dk_at dksX2_dropRule_1 10 rfl rfl)
theorem dX2_dropRule_34 : decode cX2_dropRule 34 = .ok (.iload_n 1, 1) := dk_27 (dk_at dksX2_dropRule_1 12 rfl rfl)
theorem dX2_dropRule_35 : decode cX2_dropRule 35 = .ok (.imul, 1) := dk_104 (dk_at dksX2_dropRule_1 13 rfl rfl)
theorem dX2_dropRule_36 : decode cX2_dropRule 36 = .ok (.iadd, 1) := dk_96 (dk_at dksX2_dropRule_1 14 rfl rfl)
theorem dX2_dropRule_37 : decode cX2_dropRule 37 = .ok (.iconst 0, 1) := dk_3 (dk_at dksX2_dropRule_1 15 rfl rfl)
theorem dX2_dropRule_38 : decode cX2_dropRule 38 = .ok (.iadd, 1) := dk_96 (dk_at dksX2_dropRule_1 16 rfl rfl)
theorem dX2_dropRule_39 : decode cX2_dropRule 39 = .ok (.iconst 0, 1) := dk_3 (dk_at dksX2_dropRule_1 17 rfl rfl)
theorem dX2_dropRule_40 : decode cX2_dropRule 40 = .ok (.iastore, 1) := dk_79 (dk_at dksX2_dropRule_1 18 rfl rfl)
theorem dX2_dropRule_41 : decode cX2_dropRule 41 = .ok (.iconst 0, 1) := dk_3 (dk_at dksX2_dropRule_1 19 rfl rfl)
theorem dX2_dropRule_42 : decode cX2_dropRule 42 = .ok (.istore_n 2, 1) := dk_61 (dk_at dksX2_dropRule_1 20 rfl rfl)
theorem dX2_dropRule_43 : decode cX2_dropRule 43 = .ok (.iconst 0, 1) := dk_3 (dk_at dksX2_dropRule_1 21 rfl rfl)
theorem dX2_dropRule_44 : decode cX2_dropRule 44 = .ok (.istore_n 3, 1) := dk_62 (dk_at dksX2_dropRule_1 22 rfl rfl)
theorem dX2_dropRule_45 : decode cX2_dropRule 45 = .ok (.iload_n 3, 1) := dk_29 (dk_at dksX2_dropRule_1 23 rfl rfl)
theorem dX2_dropRule_46 : decode cX2_dropRule 46 = .ok (.bipush 12, 2) := dk_16 12 (dk_at dksX2_dropRule_2 0 rfl rfl)
theorem dX2_dropRule_48 : decode cX2_dropRule 48 = .ok (.if_icmp .ge 26, 3) := dk_162 0 26 (dk_at dksX2_dropRule_2 2 rfl rfl)
theorem dX2_dropRule_51 : decode cX2_dropRule 51 = .ok (.iload_n 2, 1) := dk_28 (dk_at dksX2_dropRule_2 5 rfl rfl)
theorem dX2_dropRule_52 : decode cX2_dropRule 52 = .ok (.aload_n 0, 1) := dk_42 (dk_at dksX2_dropRule_2 6 rfl rfl)
theorem dX2_dropRule_53 : decode cX2_dropRule 53 = .ok (.iload_n 3, 1) := dk_29 (dk_at dksX2_dropRule_2 7 rfl rfl)
theorem dX2_dropRule_54 : decode cX2_dropRule 54 = .ok (.iconst 0, 1) := dk_3 (dk_at dksX2_dropRule_2 8 rfl rfl)
theorem dX2_dropRule_55 : decode cX2_dropRule 55 = .ok (.invokevirtual 120, 3) := dk_182 0 120 (dk_at dksX2_dropRule_2 9 rfl rfl)
theorem dX2_dropRule_58 : decode cX2_dropRule 58 = .ok (.ifCond .le 7, 3) := dk_158 0 7 (dk_at dksX2_dropRule_2 12 rfl rfl)
theorem dX2_dropRule_61 : decode cX2_dropRule 61 = .ok (.iconst 1, 1) := dk_4 (dk_at dksX2_dropRule_2 15 rfl rfl)
theorem dX2_dropRule_62 : decode cX2_dropRule 62 = .ok (.goto 4, 3) := dk_167 0 4 (dk_at dksX2_dropRule_2 16 rfl rfl)
theorem dX2_dropRule_65 : decode cX2_dropRule 65 = .ok (.iconst 0, 1) := dk_3 (dk_at dksX2_dropRule_2 19 rfl rfl)
theorem dX2_dropRule_66 : decode cX2_dropRule 66 = .ok (.iadd, 1) := dk_96 (dk_at dksX2_dropRule_2 20 rfl rfl)
theorem dX2_dropRule_67 : decode cX2_dropRule 67 = .ok (.istore_n 2, 1) := dk_61 (dk_at dksX2_dropRule_2 21 rfl rfl)
theorem dX2_dropRule_68 : decode cX2_dropRule 68 = .ok (.iinc 3 1, 3) := dk_132 3 1 (dk_at dksX2_dropRule_3 0 rfl rfl)
theorem dX2_dropRule_71 : decode cX2_dropRule 71 = .ok (.goto (-26), 3) := dk_167 255 230 (dk_at dksX2_dropRule_3 3 rfl rfl)
theorem dX2_dropRule_74 : decode cX2_dropRule 74 = .ok (.iload_n 2, 1) := dk_28 (dk_at dksX2_dropRule_3 6 rfl rfl)
theorem dX2_dropRule_75 : decode cX2_dropRule 75 = .ok (.ireturn, 1) := dk_172 (dk_at dksX2_dropRule_3 7 rfl rfl)
abbrev cX2_wanted : ByteArray := prog_10_method_71_code
def yX2_wanted : MethodName := ⟨RX2, "wanted", "(I)I"⟩
def dkwX2_wanted_1 : List UInt8 := [167, 0, 5, 16, 247, 172]
abbrev dktX2_wanted_1 : List UInt8 := dkwX2_wanted_1 ++ []
def dkwX2_wanted_0 : List UInt8 := [42, 27, 182, 0, 216, 154, 0, 5, 2, 172, 42, 27, 182, 1, 3, 153, 0, 10, 42, 180, 0, 170]
abbrev dktX2_wanted_0 : List UInt8 := dkwX2_wanted_0 ++ dktX2_wanted_1
theorem dksX2_wanted_0 : cX2_wanted.data.toList.drop 0 = dktX2_wanted_0 := by decide +kernel
theorem dksX2_wanted_1 : cX2_wanted.data.toList.drop 22 = dktX2_wanted_1 := dk_seg dksX2_wanted_0 22 rfl rfl
theorem dX2_wanted_0 : decode cX2_wanted 0 = .ok (.aload_n 0, 1) := dk_42 (dk_at dksX2_wanted_0 0 rfl rfl)
theorem dX2_wanted_1 : decode cX2_wanted 1 = .ok (.iload_n 1, 1) := dk_27 (dk_at dksX2_wanted_0 1 rfl rfl)
theorem dX2_wanted_2 : decode cX2_wanted 2 = .ok (.invokevirtual 216, 3) := dk_182 0 216 (dk_at dksX2_wanted_0 2 rfl rfl)
theorem dX2_wanted_5 : decode cX2_wanted 5 = .ok (.ifCond .ne 5, 3) := dk_154 0 5 (dk_at dksX2_wanted_0 5 rfl rfl)
theorem dX2_wanted_8 : decode cX2_wanted 8 = .ok (.iconst (-1), 1) := dk_2 (dk_at dksX2_wanted_0 8 rfl rfl)
theorem dX2_wanted_9 : decode cX2_wanted 9 = .ok (.ireturn, 1) := dk_172 (dk_at dksX2_wanted_0 9 rfl rfl)
theorem dX2_wanted_10 : decode cX2_wanted 10 = .ok (.aload_n 0, 1) := dk_42 (dk_at dksX2_wanted_0 10 rfl rfl)
theorem dX2_wanted_11 : decode cX2_wanted 11 = .ok (.iload_n 1, 1) := dk_27 (dk_at dksX2_wanted_0 11 rfl rfl)
theorem dX2_wanted_12 : decode cX2_wanted 12 = .ok (.invokevirtual 259, 3) := dk_182 1 3 (dk_at dksX2_wanted_0 12 rfl rfl)
theorem dX2_wanted_15 : decode cX2_wanted 15 = .ok (.ifCond .eq 10, 3) := dk_153 0 10 (dk_at dksX2_wanted_0 15 rfl rfl)
theorem dX2_wanted_18 : decode cX2_wanted 18 = .ok (.aload_n 0, 1) := dk_42 (dk_at dksX2_wanted_0 18 rfl rfl)
theorem dX2_wanted_19 : decode cX2_wanted 19 = .ok (.getfield 170, 3) := dk_180 0 170 (dk_at dksX2_wanted_0 19 rfl rfl)
theorem dX2_wanted_22 : decode cX2_wanted 22 = .ok (.goto 5, 3) := dk_167 0 5 (dk_at dksX2_wanted_1 0 rfl rfl)
theorem dX2_wanted_25 : decode cX2_wanted 25 = .ok (.bipush (-9), 2) := dk_16 247 (dk_at dksX2_wanted_1 3 rfl rfl)
theorem dX2_wanted_27 : decode cX2_wanted 27 = .ok (.ireturn, 1) := dk_172 (dk_at dksX2_wanted_1 5 rfl rfl)
abbrev cX2_isDecided : ByteArray := prog_10_method_70_code
def yX2_isDecided : MethodName := ⟨RX2, "isDecided", "(I)Z"⟩
def dkwX2_isDecided_1 : List UInt8 := [182, 0, 185, 61, 28, 153, 0, 8, 42, 27, 182, 0, 188, 28, 172]
abbrev dktX2_isDecided_1 : List UInt8 := dkwX2_isDecided_1 ++ []
def dkwX2_isDecided_0 : List UInt8 := [42, 42, 180, 0, 7, 17, 3, 209, 46, 42, 180, 0, 7, 17, 3, 210, 46, 182, 0, 222, 42, 27]
abbrev dktX2_isDecided_0 : List UInt8 := dkwX2_isDecided_0 ++ dktX2_isDecided_1
theorem dksX2_isDecided_0 : cX2_isDecided.data.toList.drop 0 = dktX2_isDecided_0 := by decide +kernel
theorem dksX2_isDecided_1 : cX2_isDecided.data.toList.drop 22 = dktX2_isDecided_1 := dk_seg dksX2_isDecided_0 22 rfl rfl
theorem dX2_isDecided_0 : decode cX2_isDecided 0 = .ok (.aload_n 0, 1) := dk_42 (dk_at dksX2_isDecided_0 0 rfl rfl)
theorem dX2_isDecided_1 : decode cX2_isDecided 1 = .ok (.aload_n 0, 1) := dk_42 (dk_at dksX2_isDecided_0 1 rfl rfl)
theorem dX2_isDecided_2 : decode cX2_isDecided 2 = .ok (.getfield 7, 3) := dk_180 0 7 (dk_at dksX2_isDecided_0 2 rfl rfl)
theorem dX2_isDecided_5 : decode cX2_isDecided 5 = .ok (.sipush 977, 3) := dk_17 3 209 (dk_at dksX2_isDecided_0 5 rfl rfl)
theorem dX2_isDecided_8 : decode cX2_isDecided 8 = .ok (.iaload, 1) := dk_46 (dk_at dksX2_isDecided_0 8 rfl rfl)
theorem dX2_isDecided_9 : decode cX2_isDecided 9 = .ok (.aload_n 0, 1) := dk_42 (dk_at dksX2_isDecided_0 9 rfl rfl)
theorem dX2_isDecided_10 : decode cX2_isDecided 10 = .ok (.getfield 7, 3) := dk_180 0 7 (dk_at dksX2_isDecided_0 10 rfl rfl)
theorem dX2_isDecided_13 : decode cX2_isDecided 13 = .ok (.sipush 978, 3) := dk_17 3 210 (dk_at dksX2_isDecided_0 13 rfl rfl)
theorem dX2_isDecided_16 : decode cX2_isDecided 16 = .ok (.iaload, 1) := dk_46 (dk_at dksX2_isDecided_0 16 rfl rfl)
theorem dX2_isDecided_17 : decode cX2_isDecided 17 = .ok (.invokevirtual 222, 3) := dk_182 0 222 (dk_at dksX2_isDecided_0 17 rfl rfl)
theorem dX2_isDecided_20 : decode cX2_isDecided 20 = .ok (.aload_n 0, 1) := dk_42 (dk_at dksX2_isDecided_0 20 rfl rfl)
theorem dX2_isDecided_21 : decode cX2_isDecided 21 = .ok (.iload_n 1, 1) := dk_27 (dk_at dksX2_isDecided_0 21 rfl rfl)
theorem dX2_isDecided_22 : decode cX2_isDecided 22 = .ok (.invokevirtual 185, 3) := dk_182 0 185 (dk_at dksX2_isDecided_1 0 rfl rfl)
theorem dX2_isDecided_25 : decode cX2_isDecided 25 = .ok (.istore_n 2, 1) := dk_61 (dk_at dksX2_isDecided_1 3 rfl rfl)
theorem dX2_isDecided_26 : decode cX2_isDecided 26 = .ok (.iload_n 2, 1) := dk_28 (dk_at dksX2_isDecided_1 4 rfl rfl)
theorem dX2_isDecided_27 : decode cX2_isDecided 27 = .ok (.ifCond .eq 8, 3) := dk_153 0 8 (dk_at dksX2_isDecided_1 5 rfl rfl)
theorem dX2_isDecided_30 : decode cX2_isDecided 30 = .ok (.aload_n 0, 1) := dk_42 (dk_at dksX2_isDecided_1 8 rfl rfl)
theorem dX2_isDecided_31 : decode cX2_isDecided 31 = .ok (.iload_n 1, 1) := dk_27 (dk_at dksX2_isDecided_1 9 rfl rfl)
theorem dX2_isDecided_32 : decode cX2_isDecided 32 = .ok (.invokevirtual 188, 3) := dk_182 0 188 (dk_at dksX2_isDecided_1 10 rfl rfl)
theorem dX2_isDecided_35 : decode cX2_isDecided 35 = .ok (.iload_n 2, 1) := dk_28 (dk_at dksX2_isDecided_1 13 rfl rfl)
theorem dX2_isDecided_36 : decode cX2_isDecided 36 = .ok (.ireturn, 1) := dk_172 (dk_at dksX2_isDecided_1 14 rfl rfl)
abbrev cX2_reason : ByteArray := prog_10_method_72_code
def yX2_reason : MethodName := ⟨RX2, "reason", "(I)I"⟩
def dkwX2_reason_1 : List UInt8 := [167, 0, 5, 16, 247, 172]
abbrev dktX2_reason_1 : List UInt8 := dkwX2_reason_1 ++ []
def dkwX2_reason_0 : List UInt8 := [42, 27, 182, 0, 216, 154, 0, 5, 2, 172, 42, 27, 182, 1, 3, 153, 0, 10, 42, 180, 0, 173]
abbrev dktX2_reason_0 : List UInt8 := dkwX2_reason_0 ++ dktX2_reason_1
theorem dksX2_reason_0 : cX2_reason.data.toList.drop 0 = dktX2_reason_0 := by decide +kernel
theorem dksX2_reason_1 : cX2_reason.data.toList.drop 22 = dktX2_reason_1 := dk_seg dksX2_reason_0 22 rfl rfl
theorem dX2_reason_0 : decode cX2_reason 0 = .ok (.aload_n 0, 1) := dk_42 (dk_at dksX2_reason_0 0 rfl rfl)
theorem dX2_reason_1 : decode cX2_reason 1 = .ok (.iload_n 1, 1) := dk_27 (dk_at dksX2_reason_0 1 rfl rfl)
theorem dX2_reason_2 : decode cX2_reason 2 = .ok (.invokevirtual 216, 3) := dk_182 0 216 (dk_at dksX2_reason_0 2 rfl rfl)
theorem dX2_reason_5 : decode cX2_reason 5 = .ok (.ifCond .ne 5, 3) := dk_154 0 5 (dk_at dksX2_reason_0 5 rfl rfl)
theorem dX2_reason_8 : decode cX2_reason 8 = .ok (.iconst (-1), 1) := dk_2 (dk_at dksX2_reason_0 8 rfl rfl)
theorem dX2_reason_9 : decode cX2_reason 9 = .ok (.ireturn, 1) := dk_172 (dk_at dksX2_reason_0 9 rfl rfl)
theorem dX2_reason_10 : decode cX2_reason 10 = .ok (.aload_n 0, 1) := dk_42 (dk_at dksX2_reason_0 10 rfl rfl)
theorem dX2_reason_11 : decode cX2_reason 11 = .ok (.iload_n 1, 1) := dk_27 (dk_at dksX2_reason_0 11 rfl rfl)
theorem dX2_reason_12 : decode cX2_reason 12 = .ok (.invokevirtual 259, 3) := dk_182 1 3 (dk_at dksX2_reason_0 12 rfl rfl)
theorem dX2_reason_15 : decode cX2_reason 15 = .ok (.ifCond .eq 10, 3) := dk_153 0 10 (dk_at dksX2_reason_0 15 rfl rfl)
theorem dX2_reason_18 : decode cX2_reason 18 = .ok (.aload_n 0, 1) := dk_42 (dk_at dksX2_reason_0 18 rfl rfl)
theorem dX2_reason_19 : decode cX2_reason 19 = .ok (.getfield 173, 3) := dk_180 0 173 (dk_at dksX2_reason_0 19 rfl rfl)
theorem dX2_reason_22 : decode cX2_reason 22 = .ok (.goto 5, 3) := dk_167 0 5 (dk_at dksX2_reason_1 0 rfl rfl)
theorem dX2_reason_25 : decode cX2_reason 25 = .ok (.bipush (-9), 2) := dk_16 247 (dk_at dksX2_reason_1 3 rfl rfl)
theorem dX2_reason_27 : decode cX2_reason 27 = .ok (.ireturn, 1) := dk_172 (dk_at dksX2_reason_1 5 rfl rfl)
abbrev cX2_decidingRule : ByteArray := prog_10_method_73_code
def yX2_decidingRule : MethodName := ⟨RX2, "decidingRule", "(I)I"⟩
def dkwX2_decidingRule_1 : List UInt8 := [167, 0, 5, 16, 247, 172]
abbrev dktX2_decidingRule_1 : List UInt8 := dkwX2_decidingRule_1 ++ []
def dkwX2_decidingRule_0 : List UInt8 := [42, 27, 182, 0, 216, 154, 0, 5, 2, 172, 42, 27, 182, 1, 3, 153, 0, 10, 42, 180, 0, 176]
abbrev dktX2_decidingRule_0 : List UInt8 := dkwX2_decidingRule_0 ++ dktX2_decidingRule_1
theorem dksX2_decidingRule_0 : cX2_decidingRule.data.toList.drop 0 = dktX2_decidingRule_0 := by decide +kernel
theorem dksX2_decidingRule_1 : cX2_decidingRule.data.toList.drop 22 = dktX2_decidingRule_1 := dk_seg dksX2_decidingRule_0 22 rfl rfl
theorem dX2_decidingRule_0 : decode cX2_decidingRule 0 = .ok (.aload_n 0, 1) := dk_42 (dk_at dksX2_decidingRule_0 0 rfl rfl)
theorem dX2_decidingRule_1 : decode cX2_decidingRule 1 = .ok (.iload_n 1, 1) := dk_27 (dk_at dksX2_decidingRule_0 1 rfl rfl)
theorem dX2_decidingRule_2 : decode cX2_decidingRule 2 = .ok (.invokevirtual 216, 3) := dk_182 0 216 (dk_at dksX2_decidingRule_0 2 rfl rfl)
theorem dX2_decidingRule_5 : decode cX2_decidingRule 5 = .ok (.ifCond .ne 5, 3) := dk_154 0 5 (dk_at dksX2_decidingRule_0 5 rfl rfl)
theorem dX2_decidingRule_8 : decode cX2_decidingRule 8 = .ok (.iconst (-1), 1) := dk_2 (dk_at dksX2_decidingRule_0 8 rfl rfl)
theorem dX2_decidingRule_9 : decode cX2_decidingRule 9 = .ok (.ireturn, 1) := dk_172 (dk_at dksX2_decidingRule_0 9 rfl rfl)
theorem dX2_decidingRule_10 : decode cX2_decidingRule 10 = .ok (.aload_n 0, 1) := dk_42 (dk_at dksX2_decidingRule_0 10 rfl rfl)
theorem dX2_decidingRule_11 : decode cX2_decidingRule 11 = .ok (.iload_n 1, 1) := dk_27 (dk_at dksX2_decidingRule_0 11 rfl rfl)
theorem dX2_decidingRule_12 : decode cX2_decidingRule 12 = .ok (.invokevirtual 259, 3) := dk_182 1 3 (dk_at dksX2_decidingRule_0 12 rfl rfl)
theorem dX2_decidingRule_15 : decode cX2_decidingRule 15 = .ok (.ifCond .eq 10, 3) := dk_153 0 10 (dk_at dksX2_decidingRule_0 15 rfl rfl)
theorem dX2_decidingRule_18 : decode cX2_decidingRule 18 = .ok (.aload_n 0, 1) := dk_42 (dk_at dksX2_decidingRule_0 18 rfl rfl)
theorem dX2_decidingRule_19 : decode cX2_decidingRule 19 = .ok (.getfield 176, 3) := dk_180 0 176 (dk_at dksX2_decidingRule_0 19 rfl rfl)
theorem dX2_decidingRule_22 : decode cX2_decidingRule 22 = .ok (.goto 5, 3) := dk_167 0 5 (dk_at dksX2_decidingRule_1 0 rfl rfl)
theorem dX2_decidingRule_25 : decode cX2_decidingRule 25 = .ok (.bipush (-9), 2) := dk_16 247 (dk_at dksX2_decidingRule_1 3 rfl rfl)
theorem dX2_decidingRule_27 : decode cX2_decidingRule 27 = .ok (.ireturn, 1) := dk_172 (dk_at dksX2_decidingRule_1 5 rfl rfl)
abbrev cX2_wouldChange : ByteArray := prog_10_method_74_code
def yX2_wouldChange : MethodName := ⟨RX2, "wouldChange", "()I"⟩
def dkwX2_wouldChange_1 : List UInt8 := [180, 0, 7, 3, 46, 182, 0, 228, 172]
abbrev dktX2_wouldChange_1 : List UInt8 := dkwX2_wouldChange_1 ++ []
def dkwX2_wouldChange_0 : List UInt8 := [42, 42, 180, 0, 7, 17, 3, 209, 46, 42, 180, 0, 7, 17, 3, 210, 46, 182, 0, 222, 42, 3, 42]
abbrev dktX2_wouldChange_0 : List UInt8 := dkwX2_wouldChange_0 ++ dktX2_wouldChange_1
theorem dksX2_wouldChange_0 : cX2_wouldChange.data.toList.drop 0 = dktX2_wouldChange_0 := by decide +kernel
theorem dksX2_wouldChange_1 : cX2_wouldChange.data.toList.drop 23 = dktX2_wouldChange_1 := dk_seg dksX2_wouldChange_0 23 rfl rfl
theorem dX2_wouldChange_0 : decode cX2_wouldChange 0 = .ok (.aload_n 0, 1) := dk_42 (dk_at dksX2_wouldChange_0 0 rfl rfl)
theorem dX2_wouldChange_1 : decode cX2_wouldChange 1 = .ok (.aload_n 0, 1) := dk_42 (dk_at dksX2_wouldChange_0 1 rfl rfl)
theorem dX2_wouldChange_2 : decode cX2_wouldChange 2 = .ok (.getfield 7, 3) := dk_180 0 7 (dk_at dksX2_wouldChange_0 2 rfl rfl)
theorem dX2_wouldChange_5 : decode cX2_wouldChange 5 = .ok (.sipush 977, 3) := dk_17 3 209 (dk_at dksX2_wouldChange_0 5 rfl rfl)
theorem dX2_wouldChange_8 : decode cX2_wouldChange 8 = .ok (.iaload, 1) := dk_46 (dk_at dksX2_wouldChange_0 8 rfl rfl)
theorem dX2_wouldChange_9 : decode cX2_wouldChange 9 = .ok (.aload_n 0, 1) := dk_42 (dk_at dksX2_wouldChange_0 9 rfl rfl)
theorem dX2_wouldChange_10 : decode cX2_wouldChange 10 = .ok (.getfield 7, 3) := dk_180 0 7 (dk_at dksX2_wouldChange_0 10 rfl rfl)
theorem dX2_wouldChange_13 : decode cX2_wouldChange 13 = .ok (.sipush 978, 3) := dk_17 3 210 (dk_at dksX2_wouldChange_0 13 rfl rfl)
theorem dX2_wouldChange_16 : decode cX2_wouldChange 16 = .ok (.iaload, 1) := dk_46 (dk_at dksX2_wouldChange_0 16 rfl rfl)
theorem dX2_wouldChange_17 : decode cX2_wouldChange 17 = .ok (.invokevirtual 222, 3) := dk_182 0 222 (dk_at dksX2_wouldChange_0 17 rfl rfl)
theorem dX2_wouldChange_20 : decode cX2_wouldChange 20 = .ok (.aload_n 0, 1) := dk_42 (dk_at dksX2_wouldChange_0 20 rfl rfl)
theorem dX2_wouldChange_21 : decode cX2_wouldChange 21 = .ok (.iconst 0, 1) := dk_3 (dk_at dksX2_wouldChange_0 21 rfl rfl)
theorem dX2_wouldChange_22 : decode cX2_wouldChange 22 = .ok (.aload_n 0, 1) := dk_42 (dk_at dksX2_wouldChange_0 22 rfl rfl)
theorem dX2_wouldChange_23 : decode cX2_wouldChange 23 = .ok (.getfield 7, 3) := dk_180 0 7 (dk_at dksX2_wouldChange_1 0 rfl rfl)
theorem dX2_wouldChange_26 : decode cX2_wouldChange 26 = .ok (.iconst 0, 1) := dk_3 (dk_at dksX2_wouldChange_1 3 rfl rfl)
theorem dX2_wouldChange_27 : decode cX2_wouldChange 27 = .ok (.iaload, 1) := dk_46 (dk_at dksX2_wouldChange_1 4 rfl rfl)
theorem dX2_wouldChange_28 : decode cX2_wouldChange 28 = .ok (.invokevirtual 228, 3) := dk_182 0 228 (dk_at dksX2_wouldChange_1 5 rfl rfl)
theorem dX2_wouldChange_31 : decode cX2_wouldChange 31 = .ok (.ireturn, 1) := dk_172 (dk_at dksX2_wouldChange_1 8 rfl rfl)
abbrev cX2_changesWith : ByteArray := prog_10_method_76_code
def yX2_changesWith : MethodName := ⟨RX2, "changesWith", "(II)I"⟩
def dkwX2_changesWith_1 : List UInt8 := [182, 1, 6, 167, 0, 4, 2, 172]
abbrev dktX2_changesWith_1 : List UInt8 := dkwX2_changesWith_1 ++ []
def dkwX2_changesWith_0 : List UInt8 := [27, 4, 16, 8, 184, 0, 79, 153, 0, 22, 28, 3, 16, 20, 184, 0, 79, 153, 0, 12, 42, 27, 28]
abbrev dktX2_changesWith_0 : List UInt8 := dkwX2_changesWith_0 ++ dktX2_changesWith_1
theorem dksX2_changesWith_0 : cX2_changesWith.data.toList.drop 0 = dktX2_changesWith_0 := by decide +kernel
theorem dksX2_changesWith_1 : cX2_changesWith.data.toList.drop 23 = dktX2_changesWith_1 := dk_seg dksX2_changesWith_0 23 rfl rfl
theorem dX2_changesWith_0 : decode cX2_changesWith 0 = .ok (.iload_n 1, 1) := dk_27 (dk_at dksX2_changesWith_0 0 rfl rfl)
theorem dX2_changesWith_1 : decode cX2_changesWith 1 = .ok (.iconst 1, 1) := dk_4 (dk_at dksX2_changesWith_0 1 rfl rfl)
theorem dX2_changesWith_2 : decode cX2_changesWith 2 = .ok (.bipush 8, 2) := dk_16 8 (dk_at dksX2_changesWith_0 2 rfl rfl)
theorem dX2_changesWith_4 : decode cX2_changesWith 4 = .ok (.invokestatic 79, 3) := dk_184 0 79 (dk_at dksX2_changesWith_0 4 rfl rfl)
theorem dX2_changesWith_7 : decode cX2_changesWith 7 = .ok (.ifCond .eq 22, 3) := dk_153 0 22 (dk_at dksX2_changesWith_0 7 rfl rfl)
theorem dX2_changesWith_10 : decode cX2_changesWith 10 = .ok (.iload_n 2, 1) := dk_28 (dk_at dksX2_changesWith_0 10 rfl rfl)
theorem dX2_changesWith_11 : decode cX2_changesWith 11 = .ok (.iconst 0, 1) := dk_3 (dk_at dksX2_changesWith_0 11 rfl rfl)
theorem dX2_changesWith_12 : decode cX2_changesWith 12 = .ok (.bipush 20, 2) := dk_16 20 (dk_at dksX2_changesWith_0 12 rfl rfl)
theorem dX2_changesWith_14 : decode cX2_changesWith 14 = .ok (.invokestatic 79, 3) := dk_184 0 79 (dk_at dksX2_changesWith_0 14 rfl rfl)
theorem dX2_changesWith_17 : decode cX2_changesWith 17 = .ok (.ifCond .eq 12, 3) := dk_153 0 12 (dk_at dksX2_changesWith_0 17 rfl rfl)
theorem dX2_changesWith_20 : decode cX2_changesWith 20 = .ok (.aload_n 0, 1) := dk_42 (dk_at dksX2_changesWith_0 20 rfl rfl)
theorem dX2_changesWith_21 : decode cX2_changesWith 21 = .ok (.iload_n 1, 1) := dk_27 (dk_at dksX2_changesWith_0 21 rfl rfl)
theorem dX2_changesWith_22 : decode cX2_changesWith 22 = .ok (.iload_n 2, 1) := dk_28 (dk_at dksX2_changesWith_0 22 rfl rfl)
theorem dX2_changesWith_23 : decode cX2_changesWith 23 = .ok (.invokevirtual 262, 3) := dk_182 1 6 (dk_at dksX2_changesWith_1 0 rfl rfl)
theorem dX2_changesWith_26 : decode cX2_changesWith 26 = .ok (.goto 4, 3) := dk_167 0 4 (dk_at dksX2_changesWith_1 3 rfl rfl)
theorem dX2_changesWith_29 : decode cX2_changesWith 29 = .ok (.iconst (-1), 1) := dk_2 (dk_at dksX2_changesWith_1 6 rfl rfl)
theorem dX2_changesWith_30 : decode cX2_changesWith 30 = .ok (.ireturn, 1) := dk_172 (dk_at dksX2_changesWith_1 7 rfl rfl)
abbrev cX2_changesBy : ByteArray := prog_10_method_75_code
def yX2_changesBy : MethodName := ⟨RX2, "changesBy", "(II)I"⟩
def dkwX2_changesBy_0 : List UInt8 := [42, 27, 28, 182, 0, 222, 42, 3, 42, 180, 0, 7, 3, 46, 182, 0, 228, 184, 0, 231, 172]
abbrev dktX2_changesBy_0 : List UInt8 := dkwX2_changesBy_0 ++ []
theorem dksX2_changesBy_0 : cX2_changesBy.data.toList.drop 0 = dktX2_changesBy_0 := by decide +kernel
theorem dX2_changesBy_0 : decode cX2_changesBy 0 = .ok (.aload_n 0, 1) := dk_42 (dk_at dksX2_changesBy_0 0 rfl rfl)
theorem dX2_changesBy_1 : decode cX2_changesBy 1 = .ok (.iload_n 1, 1) := dk_27 (dk_at dksX2_changesBy_0 1 rfl rfl)
theorem dX2_changesBy_2 : decode cX2_changesBy 2 = .ok (.iload_n 2, 1) := dk_28 (dk_at dksX2_changesBy_0 2 rfl rfl)
theorem dX2_changesBy_3 : decode cX2_changesBy 3 = .ok (.invokevirtual 222, 3) := dk_182 0 222 (dk_at dksX2_changesBy_0 3 rfl rfl)
theorem dX2_changesBy_6 : decode cX2_changesBy 6 = .ok (.aload_n 0, 1) := dk_42 (dk_at dksX2_changesBy_0 6 rfl rfl)
theorem dX2_changesBy_7 : decode cX2_changesBy 7 = .ok (.iconst 0, 1) := dk_3 (dk_at dksX2_changesBy_0 7 rfl rfl)
theorem dX2_changesBy_8 : decode cX2_changesBy 8 = .ok (.aload_n 0, 1) := dk_42 (dk_at dksX2_changesBy_0 8 rfl rfl)
theorem dX2_changesBy_9 : decode cX2_changesBy 9 = .ok (.getfield 7, 3) := dk_180 0 7 (dk_at dksX2_changesBy_0 9 rfl rfl)
theorem dX2_changesBy_12 : decode cX2_changesBy 12 = .ok (.iconst 0, 1) := dk_3 (dk_at dksX2_changesBy_0 12 rfl rfl)
theorem dX2_changesBy_13 : decode cX2_changesBy 13 = .ok (.iaload, 1) := dk_46 (dk_at dksX2_changesBy_0 13 rfl rfl)
theorem dX2_changesBy_14 : decode cX2_changesBy 14 = .ok (.invokevirtual 228, 3) := dk_182 0 228 (dk_at dksX2_changesBy_0 14 rfl rfl)
theorem dX2_changesBy_17 : decode cX2_changesBy 17 = .ok (.invokestatic 231, 3) := dk_184 0 231 (dk_at dksX2_changesBy_0 17 rfl rfl)
theorem dX2_changesBy_20 : decode cX2_changesBy 20 = .ok (.ireturn, 1) := dk_172 (dk_at dksX2_changesBy_0 20 rfl rfl)
abbrev cX2_fewestChanges : ByteArray := prog_10_method_78_code
def yX2_fewestChanges : MethodName := ⟨RX2, "fewestChanges", "()I"⟩
def dkwX2_fewestChanges_0 : List UInt8 := [42, 182, 1, 18, 42, 180, 1, 9, 172]
abbrev dktX2_fewestChanges_0 : List UInt8 := dkwX2_fewestChanges_0 ++ []
theorem dksX2_fewestChanges_0 : cX2_fewestChanges.data.toList.drop 0 = dktX2_fewestChanges_0 := by decide +kernel
theorem dX2_fewestChanges_0 : decode cX2_fewestChanges 0 = .ok (.aload_n 0, 1) := dk_42 (dk_at dksX2_fewestChanges_0 0 rfl rfl)
theorem dX2_fewestChanges_1 : decode cX2_fewestChanges 1 = .ok (.invokevirtual 274, 3) := dk_182 1 18 (dk_at dksX2_fewestChanges_0 1 rfl rfl)
theorem dX2_fewestChanges_4 : decode cX2_fewestChanges 4 = .ok (.aload_n 0, 1) := dk_42 (dk_at dksX2_fewestChanges_0 4 rfl rfl)
theorem dX2_fewestChanges_5 : decode cX2_fewestChanges 5 = .ok (.getfield 265, 3) := dk_180 1 9 (dk_at dksX2_fewestChanges_0 5 rfl rfl)
theorem dX2_fewestChanges_8 : decode cX2_fewestChanges 8 = .ok (.ireturn, 1) := dk_172 (dk_at dksX2_fewestChanges_0 8 rfl rfl)
abbrev cX2_searches : ByteArray := prog_10_method_77_code
def yX2_searches : MethodName := ⟨RX2, "searches", "()V"⟩
def dkwX2_searches_2 : List UInt8 := [28, 181, 1, 15, 132, 2, 1, 167, 255, 217, 132, 1, 1, 167, 255, 203, 177]
abbrev dktX2_searches_2 : List UInt8 := dkwX2_searches_2 ++ []
def dkwX2_searches_1 : List UInt8 := [28, 182, 1, 6, 62, 29, 42, 180, 1, 9, 162, 0, 18, 42, 29, 181, 1, 9, 42, 27, 181, 1, 12, 42]
abbrev dktX2_searches_1 : List UInt8 := dkwX2_searches_1 ++ dktX2_searches_2
def dkwX2_searches_0 : List UInt8 := [42, 16, 21, 181, 1, 9, 4, 60, 27, 16, 8, 163, 0, 53, 3, 61, 28, 16, 20, 163, 0, 39, 42, 27]
abbrev dktX2_searches_0 : List UInt8 := dkwX2_searches_0 ++ dktX2_searches_1
theorem dksX2_searches_0 : cX2_searches.data.toList.drop 0 = dktX2_searches_0 := by decide +kernel
theorem dksX2_searches_1 : cX2_searches.data.toList.drop 24 = dktX2_searches_1 := dk_seg dksX2_searches_0 24 rfl rfl
theorem dksX2_searches_2 : cX2_searches.data.toList.drop 48 = dktX2_searches_2 := dk_seg dksX2_searches_1 24 rfl rfl
theorem dX2_searches_0 : decode cX2_searches 0 = .ok (.aload_n 0, 1) := dk_42 (dk_at dksX2_searches_0 0 rfl rfl)
theorem dX2_searches_1 : decode cX2_searches 1 = .ok (.bipush 21, 2) := dk_16 21 (dk_at dksX2_searches_0 1 rfl rfl)
theorem dX2_searches_3 : decode cX2_searches 3 = .ok (.putfield 265, 3) := dk_181 1 9 (dk_at dksX2_searches_0 3 rfl rfl)
theorem dX2_searches_6 : decode cX2_searches 6 = .ok (.iconst 1, 1) := dk_4 (dk_at dksX2_searches_0 6 rfl rfl)
theorem dX2_searches_7 : decode cX2_searches 7 = .ok (.istore_n 1, 1) := dk_60 (dk_at dksX2_searches_0 7 rfl rfl)
theorem dX2_searches_8 : decode cX2_searches 8 = .ok (.iload_n 1, 1) := dk_27 (dk_at dksX2_searches_0 8 rfl rfl)
theorem dX2_searches_9 : decode cX2_searches 9 = .ok (.bipush 8, 2) := dk_16 8 (dk_at dksX2_searches_0 9 rfl rfl)
theorem dX2_searches_11 : decode cX2_searches 11 = .ok (.if_icmp .gt 53, 3) := dk_163 0 53 (dk_at dksX2_searches_0 11 rfl rfl)
theorem dX2_searches_14 : decode cX2_searches 14 = .ok (.iconst 0, 1) := dk_3 (dk_at dksX2_searches_0 14 rfl rfl)
theorem dX2_searches_15 : decode cX2_searches 15 = .ok (.istore_n 2, 1) := dk_61 (dk_at dksX2_searches_0 15 rfl rfl)
theorem dX2_searches_16 : decode cX2_searches 16 = .ok (.iload_n 2, 1) := dk_28 (dk_at dksX2_searches_0 16 rfl rfl)
theorem dX2_searches_17 : decode cX2_searches 17 = .ok (.bipush 20, 2) := dk_16 20 (dk_at dksX2_searches_0 17 rfl rfl)
theorem dX2_searches_19 : decode cX2_searches 19 = .ok (.if_icmp .gt 39, 3) := dk_163 0 39 (dk_at dksX2_searches_0 19 rfl rfl)
theorem dX2_searches_22 : decode cX2_searches 22 = .ok (.aload_n 0, 1) := dk_42 (dk_at dksX2_searches_0 22 rfl rfl)
theorem dX2_searches_23 : decode cX2_searches 23 = .ok (.iload_n 1, 1) := dk_27 (dk_at dksX2_searches_0 23 rfl rfl)
theorem dX2_searches_24 : decode cX2_searches 24 = .ok (.iload_n 2, 1) := dk_28 (dk_at dksX2_searches_1 0 rfl rfl)
theorem dX2_searches_25 : decode cX2_searches 25 = .ok (.invokevirtual 262, 3) := dk_182 1 6 (dk_at dksX2_searches_1 1 rfl rfl)
theorem dX2_searches_28 : decode cX2_searches 28 = .ok (.istore_n 3, 1) := dk_62 (dk_at dksX2_searches_1 4 rfl rfl)
theorem dX2_searches_29 : decode cX2_searches 29 = .ok (.iload_n 3, 1) := dk_29 (dk_at dksX2_searches_1 5 rfl rfl)
theorem dX2_searches_30 : decode cX2_searches 30 = .ok (.aload_n 0, 1) := dk_42 (dk_at dksX2_searches_1 6 rfl rfl)
theorem dX2_searches_31 : decode cX2_searches 31 = .ok (.getfield 265, 3) := dk_180 1 9 (dk_at dksX2_searches_1 7 rfl rfl)
theorem dX2_searches_34 : decode cX2_searches 34 = .ok (.if_icmp .ge 18, 3) := dk_162 0 18 (dk_at dksX2_searches_1 10 rfl rfl)
theorem dX2_searches_37 : decode cX2_searches 37 = .ok (.aload_n 0, 1) := dk_42 (dk_at dksX2_searches_1 13 rfl rfl)
theorem dX2_searches_38 : decode cX2_searches 38 = .ok (.iload_n 3, 1) := dk_29 (dk_at dksX2_searches_1 14 rfl rfl)
theorem dX2_searches_39 : decode cX2_searches 39 = .ok (.putfield 265, 3) := dk_181 1 9 (dk_at dksX2_searches_1 15 rfl rfl)
theorem dX2_searches_42 : decode cX2_searches 42 = .ok (.aload_n 0, 1) := dk_42 (dk_at dksX2_searches_1 18 rfl rfl)
theorem dX2_searches_43 : decode cX2_searches 43 = .ok (.iload_n 1, 1) := dk_27 (dk_at dksX2_searches_1 19 rfl rfl)
theorem dX2_searches_44 : decode cX2_searches 44 = .ok (.putfield 268, 3) := dk_181 1 12 (dk_at dksX2_searches_1 20 rfl rfl)
theorem dX2_searches_47 : decode cX2_searches 47 = .ok (.aload_n 0, 1) := dk_42 (dk_at dksX2_searches_1 23 rfl rfl)
theorem dX2_searches_48 : decode cX2_searches 48 = .ok (.iload_n 2, 1) := dk_28 (dk_at dksX2_searches_2 0 rfl rfl)
theorem dX2_searches_49 : decode cX2_searches 49 = .ok (.putfield 271, 3) := dk_181 1 15 (dk_at dksX2_searches_2 1 rfl rfl)
theorem dX2_searches_52 : decode cX2_searches 52 = .ok (.iinc 2 1, 3) := dk_132 2 1 (dk_at dksX2_searches_2 4 rfl rfl)
theorem dX2_searches_55 : decode cX2_searches 55 = .ok (.goto (-39), 3) := dk_167 255 217 (dk_at dksX2_searches_2 7 rfl rfl)
theorem dX2_searches_58 : decode cX2_searches 58 = .ok (.iinc 1 1, 3) := dk_132 1 1 (dk_at dksX2_searches_2 10 rfl rfl)
theorem dX2_searches_61 : decode cX2_searches 61 = .ok (.goto (-53), 3) := dk_167 255 203 (dk_at dksX2_searches_2 13 rfl rfl)
theorem dX2_searches_64 : decode cX2_searches 64 = .ok (.return_, 1) := dk_177 (dk_at dksX2_searches_2 16 rfl rfl)
abbrev cX2_bestStep : ByteArray := prog_10_method_79_code
def yX2_bestStep : MethodName := ⟨RX2, "bestStep", "()I"⟩
def dkwX2_bestStep_0 : List UInt8 := [42, 182, 1, 18, 42, 180, 1, 12, 172]
abbrev dktX2_bestStep_0 : List UInt8 := dkwX2_bestStep_0 ++ []
theorem dksX2_bestStep_0 : cX2_bestStep.data.toList.drop 0 = dktX2_bestStep_0 := by decide +kernel
theorem dX2_bestStep_0 : decode cX2_bestStep 0 = .ok (.aload_n 0, 1) := dk_42 (dk_at dksX2_bestStep_0 0 rfl rfl)
theorem dX2_bestStep_1 : decode cX2_bestStep 1 = .ok (.invokevirtual 274, 3) := dk_182 1 18 (dk_at dksX2_bestStep_0 1 rfl rfl)
theorem dX2_bestStep_4 : decode cX2_bestStep 4 = .ok (.aload_n 0, 1) := dk_42 (dk_at dksX2_bestStep_0 4 rfl rfl)
theorem dX2_bestStep_5 : decode cX2_bestStep 5 = .ok (.getfield 268, 3) := dk_180 1 12 (dk_at dksX2_bestStep_0 5 rfl rfl)
theorem dX2_bestStep_8 : decode cX2_bestStep 8 = .ok (.ireturn, 1) := dk_172 (dk_at dksX2_bestStep_0 8 rfl rfl)
abbrev cX2_bestBase : ByteArray := prog_10_method_80_code
def yX2_bestBase : MethodName := ⟨RX2, "bestBase", "()I"⟩
def dkwX2_bestBase_0 : List UInt8 := [42, 182, 1, 18, 42, 180, 1, 15, 172]
abbrev dktX2_bestBase_0 : List UInt8 := dkwX2_bestBase_0 ++ []
theorem dksX2_bestBase_0 : cX2_bestBase.data.toList.drop 0 = dktX2_bestBase_0 := by decide +kernel
theorem dX2_bestBase_0 : decode cX2_bestBase 0 = .ok (.aload_n 0, 1) := dk_42 (dk_at dksX2_bestBase_0 0 rfl rfl)
theorem dX2_bestBase_1 : decode cX2_bestBase 1 = .ok (.invokevirtual 274, 3) := dk_182 1 18 (dk_at dksX2_bestBase_0 1 rfl rfl)
theorem dX2_bestBase_4 : decode cX2_bestBase 4 = .ok (.aload_n 0, 1) := dk_42 (dk_at dksX2_bestBase_0 4 rfl rfl)
theorem dX2_bestBase_5 : decode cX2_bestBase 5 = .ok (.getfield 271, 3) := dk_180 1 15 (dk_at dksX2_bestBase_0 5 rfl rfl)
theorem dX2_bestBase_8 : decode cX2_bestBase 8 = .ok (.ireturn, 1) := dk_172 (dk_at dksX2_bestBase_0 8 rfl rfl)
abbrev cX2_tokens : ByteArray := prog_10_method_82_code
def yX2_tokens : MethodName := ⟨RX2, "tokens", "(I)I"⟩
def dkwX2_tokens_1 : List UInt8 := [180, 0, 41, 27, 46, 100, 172]
abbrev dktX2_tokens_1 : List UInt8 := dkwX2_tokens_1 ++ []
def dkwX2_tokens_0 : List UInt8 := [42, 27, 182, 0, 216, 154, 0, 5, 2, 172, 42, 182, 0, 138, 42, 180, 0, 41, 27, 4, 96, 46, 42]
abbrev dktX2_tokens_0 : List UInt8 := dkwX2_tokens_0 ++ dktX2_tokens_1
theorem dksX2_tokens_0 : cX2_tokens.data.toList.drop 0 = dktX2_tokens_0 := by decide +kernel
theorem dksX2_tokens_1 : cX2_tokens.data.toList.drop 23 = dktX2_tokens_1 := dk_seg dksX2_tokens_0 23 rfl rfl
theorem dX2_tokens_0 : decode cX2_tokens 0 = .ok (.aload_n 0, 1) := dk_42 (dk_at dksX2_tokens_0 0 rfl rfl)
theorem dX2_tokens_1 : decode cX2_tokens 1 = .ok (.iload_n 1, 1) := dk_27 (dk_at dksX2_tokens_0 1 rfl rfl)
theorem dX2_tokens_2 : decode cX2_tokens 2 = .ok (.invokevirtual 216, 3) := dk_182 0 216 (dk_at dksX2_tokens_0 2 rfl rfl)
theorem dX2_tokens_5 : decode cX2_tokens 5 = .ok (.ifCond .ne 5, 3) := dk_154 0 5 (dk_at dksX2_tokens_0 5 rfl rfl)
theorem dX2_tokens_8 : decode cX2_tokens 8 = .ok (.iconst (-1), 1) := dk_2 (dk_at dksX2_tokens_0 8 rfl rfl)
theorem dX2_tokens_9 : decode cX2_tokens 9 = .ok (.ireturn, 1) := dk_172 (dk_at dksX2_tokens_0 9 rfl rfl)
theorem dX2_tokens_10 : decode cX2_tokens 10 = .ok (.aload_n 0, 1) := dk_42 (dk_at dksX2_tokens_0 10 rfl rfl)
theorem dX2_tokens_11 : decode cX2_tokens 11 = .ok (.invokevirtual 138, 3) := dk_182 0 138 (dk_at dksX2_tokens_0 11 rfl rfl)
theorem dX2_tokens_14 : decode cX2_tokens 14 = .ok (.aload_n 0, 1) := dk_42 (dk_at dksX2_tokens_0 14 rfl rfl)
theorem dX2_tokens_15 : decode cX2_tokens 15 = .ok (.getfield 41, 3) := dk_180 0 41 (dk_at dksX2_tokens_0 15 rfl rfl)
theorem dX2_tokens_18 : decode cX2_tokens 18 = .ok (.iload_n 1, 1) := dk_27 (dk_at dksX2_tokens_0 18 rfl rfl)
theorem dX2_tokens_19 : decode cX2_tokens 19 = .ok (.iconst 1, 1) := dk_4 (dk_at dksX2_tokens_0 19 rfl rfl)
theorem dX2_tokens_20 : decode cX2_tokens 20 = .ok (.iadd, 1) := dk_96 (dk_at dksX2_tokens_0 20 rfl rfl)
theorem dX2_tokens_21 : decode cX2_tokens 21 = .ok (.iaload, 1) := dk_46 (dk_at dksX2_tokens_0 21 rfl rfl)
theorem dX2_tokens_22 : decode cX2_tokens 22 = .ok (.aload_n 0, 1) := dk_42 (dk_at dksX2_tokens_0 22 rfl rfl)
theorem dX2_tokens_23 : decode cX2_tokens 23 = .ok (.getfield 41, 3) := dk_180 0 41 (dk_at dksX2_tokens_1 0 rfl rfl)
theorem dX2_tokens_26 : decode cX2_tokens 26 = .ok (.iload_n 1, 1) := dk_27 (dk_at dksX2_tokens_1 3 rfl rfl)
theorem dX2_tokens_27 : decode cX2_tokens 27 = .ok (.iaload, 1) := dk_46 (dk_at dksX2_tokens_1 4 rfl rfl)
theorem dX2_tokens_28 : decode cX2_tokens 28 = .ok (.isub, 1) := dk_100 (dk_at dksX2_tokens_1 5 rfl rfl)
theorem dX2_tokens_29 : decode cX2_tokens 29 = .ok (.ireturn, 1) := dk_172 (dk_at dksX2_tokens_1 6 rfl rfl)
abbrev cX2_tokenAt : ByteArray := prog_10_method_83_code
def yX2_tokenAt : MethodName := ⟨RX2, "tokenAt", "(II)I"⟩
def dkwX2_tokenAt_0 : List UInt8 := [42, 27, 28, 182, 1, 21, 62, 29, 16, 247, 160, 0, 7, 2, 167, 0, 9, 42, 180, 0, 23, 29, 46, 172]
abbrev dktX2_tokenAt_0 : List UInt8 := dkwX2_tokenAt_0 ++ []
theorem dksX2_tokenAt_0 : cX2_tokenAt.data.toList.drop 0 = dktX2_tokenAt_0 := by decide +kernel
theorem dX2_tokenAt_0 : decode cX2_tokenAt 0 = .ok (.aload_n 0, 1) := dk_42 (dk_at dksX2_tokenAt_0 0 rfl rfl)
theorem dX2_tokenAt_1 : decode cX2_tokenAt 1 = .ok (.iload_n 1, 1) := dk_27 (dk_at dksX2_tokenAt_0 1 rfl rfl)
theorem dX2_tokenAt_2 : decode cX2_tokenAt 2 = .ok (.iload_n 2, 1) := dk_28 (dk_at dksX2_tokenAt_0 2 rfl rfl)
theorem dX2_tokenAt_3 : decode cX2_tokenAt 3 = .ok (.invokevirtual 277, 3) := dk_182 1 21 (dk_at dksX2_tokenAt_0 3 rfl rfl)
theorem dX2_tokenAt_6 : decode cX2_tokenAt 6 = .ok (.istore_n 3, 1) := dk_62 (dk_at dksX2_tokenAt_0 6 rfl rfl)
theorem dX2_tokenAt_7 : decode cX2_tokenAt 7 = .ok (.iload_n 3, 1) := dk_29 (dk_at dksX2_tokenAt_0 7 rfl rfl)
theorem dX2_tokenAt_8 : decode cX2_tokenAt 8 = .ok (.bipush (-9), 2) := dk_16 247 (dk_at dksX2_tokenAt_0 8 rfl rfl)
theorem dX2_tokenAt_10 : decode cX2_tokenAt 10 = .ok (.if_icmp .ne 7, 3) := dk_160 0 7 (dk_at dksX2_tokenAt_0 10 rfl rfl)
theorem dX2_tokenAt_13 : decode cX2_tokenAt 13 = .ok (.iconst (-1), 1) := dk_2 (dk_at dksX2_tokenAt_0 13 rfl rfl)
theorem dX2_tokenAt_14 : decode cX2_tokenAt 14 = .ok (.goto 9, 3) := dk_167 0 9 (dk_at dksX2_tokenAt_0 14 rfl rfl)
theorem dX2_tokenAt_17 : decode cX2_tokenAt 17 = .ok (.aload_n 0, 1) := dk_42 (dk_at dksX2_tokenAt_0 17 rfl rfl)
theorem dX2_tokenAt_18 : decode cX2_tokenAt 18 = .ok (.getfield 23, 3) := dk_180 0 23 (dk_at dksX2_tokenAt_0 18 rfl rfl)
theorem dX2_tokenAt_21 : decode cX2_tokenAt 21 = .ok (.iload_n 3, 1) := dk_29 (dk_at dksX2_tokenAt_0 21 rfl rfl)
theorem dX2_tokenAt_22 : decode cX2_tokenAt 22 = .ok (.iaload, 1) := dk_46 (dk_at dksX2_tokenAt_0 22 rfl rfl)
theorem dX2_tokenAt_23 : decode cX2_tokenAt 23 = .ok (.ireturn, 1) := dk_172 (dk_at dksX2_tokenAt_0 23 rfl rfl)
abbrev cX2_tokenOf : ByteArray := prog_10_method_81_code
def yX2_tokenOf : MethodName := ⟨RX2, "tokenOf", "(II)I"⟩
def dkwX2_tokenOf_2 : List UInt8 := [167, 0, 5, 16, 247, 172]
abbrev dktX2_tokenOf_2 : List UInt8 := dkwX2_tokenOf_2 ++ []
def dkwX2_tokenOf_1 : List UInt8 := [46, 42, 180, 0, 41, 27, 46, 100, 4, 100, 184, 0, 79, 153, 0, 14, 42, 180, 0, 41, 27, 46, 28, 96]
abbrev dktX2_tokenOf_1 : List UInt8 := dkwX2_tokenOf_1 ++ dktX2_tokenOf_2
def dkwX2_tokenOf_0 : List UInt8 := [42, 27, 182, 0, 216, 154, 0, 6, 16, 247, 172, 42, 182, 0, 151, 28, 3, 42, 180, 0, 41, 27, 4, 96]
abbrev dktX2_tokenOf_0 : List UInt8 := dkwX2_tokenOf_0 ++ dktX2_tokenOf_1
theorem dksX2_tokenOf_0 : cX2_tokenOf.data.toList.drop 0 = dktX2_tokenOf_0 := by decide +kernel
theorem dksX2_tokenOf_1 : cX2_tokenOf.data.toList.drop 24 = dktX2_tokenOf_1 := dk_seg dksX2_tokenOf_0 24 rfl rfl
theorem dksX2_tokenOf_2 : cX2_tokenOf.data.toList.drop 48 = dktX2_tokenOf_2 := dk_seg dksX2_tokenOf_1 24 rfl rfl
theorem dX2_tokenOf_0 : decode cX2_tokenOf 0 = .ok (.aload_n 0, 1) := dk_42 (dk_at dksX2_tokenOf_0 0 rfl rfl)
theorem dX2_tokenOf_1 : decode cX2_tokenOf 1 = .ok (.iload_n 1, 1) := dk_27 (dk_at dksX2_tokenOf_0 1 rfl rfl)
theorem dX2_tokenOf_2 : decode cX2_tokenOf 2 = .ok (.invokevirtual 216, 3) := dk_182 0 216 (dk_at dksX2_tokenOf_0 2 rfl rfl)
theorem dX2_tokenOf_5 : decode cX2_tokenOf 5 = .ok (.ifCond .ne 6, 3) := dk_154 0 6 (dk_at dksX2_tokenOf_0 5 rfl rfl)
theorem dX2_tokenOf_8 : decode cX2_tokenOf 8 = .ok (.bipush (-9), 2) := dk_16 247 (dk_at dksX2_tokenOf_0 8 rfl rfl)
theorem dX2_tokenOf_10 : decode cX2_tokenOf 10 = .ok (.ireturn, 1) := dk_172 (dk_at dksX2_tokenOf_0 10 rfl rfl)
theorem dX2_tokenOf_11 : decode cX2_tokenOf 11 = .ok (.aload_n 0, 1) := dk_42 (dk_at dksX2_tokenOf_0 11 rfl rfl)
theorem dX2_tokenOf_12 : decode cX2_tokenOf 12 = .ok (.invokevirtual 151, 3) := dk_182 0 151 (dk_at dksX2_tokenOf_0 12 rfl rfl)
theorem dX2_tokenOf_15 : decode cX2_tokenOf 15 = .ok (.iload_n 2, 1) := dk_28 (dk_at dksX2_tokenOf_0 15 rfl rfl)
theorem dX2_tokenOf_16 : decode cX2_tokenOf 16 = .ok (.iconst 0, 1) := dk_3 (dk_at dksX2_tokenOf_0 16 rfl rfl)
theorem dX2_tokenOf_17 : decode cX2_tokenOf 17 = .ok (.aload_n 0, 1) := dk_42 (dk_at dksX2_tokenOf_0 17 rfl rfl)
theorem dX2_tokenOf_18 : decode cX2_tokenOf 18 = .ok (.getfield 41, 3) := dk_180 0 41 (dk_at dksX2_tokenOf_0 18 rfl rfl)
theorem dX2_tokenOf_21 : decode cX2_tokenOf 21 = .ok (.iload_n 1, 1) := dk_27 (dk_at dksX2_tokenOf_0 21 rfl rfl)
theorem dX2_tokenOf_22 : decode cX2_tokenOf 22 = .ok (.iconst 1, 1) := dk_4 (dk_at dksX2_tokenOf_0 22 rfl rfl)
theorem dX2_tokenOf_23 : decode cX2_tokenOf 23 = .ok (.iadd, 1) := dk_96 (dk_at dksX2_tokenOf_0 23 rfl rfl)
theorem dX2_tokenOf_24 : decode cX2_tokenOf 24 = .ok (.iaload, 1) := dk_46 (dk_at dksX2_tokenOf_1 0 rfl rfl)
theorem dX2_tokenOf_25 : decode cX2_tokenOf 25 = .ok (.aload_n 0, 1) := dk_42 (dk_at dksX2_tokenOf_1 1 rfl rfl)
theorem dX2_tokenOf_26 : decode cX2_tokenOf 26 = .ok (.getfield 41, 3) := dk_180 0 41 (dk_at dksX2_tokenOf_1 2 rfl rfl)
theorem dX2_tokenOf_29 : decode cX2_tokenOf 29 = .ok (.iload_n 1, 1) := dk_27 (dk_at dksX2_tokenOf_1 5 rfl rfl)
theorem dX2_tokenOf_30 : decode cX2_tokenOf 30 = .ok (.iaload, 1) := dk_46 (dk_at dksX2_tokenOf_1 6 rfl rfl)
theorem dX2_tokenOf_31 : decode cX2_tokenOf 31 = .ok (.isub, 1) := dk_100 (dk_at dksX2_tokenOf_1 7 rfl rfl)
theorem dX2_tokenOf_32 : decode cX2_tokenOf 32 = .ok (.iconst 1, 1) := dk_4 (dk_at dksX2_tokenOf_1 8 rfl rfl)
theorem dX2_tokenOf_33 : decode cX2_tokenOf 33 = .ok (.isub, 1) := dk_100 (dk_at dksX2_tokenOf_1 9 rfl rfl)
theorem dX2_tokenOf_34 : decode cX2_tokenOf 34 = .ok (.invokestatic 79, 3) := dk_184 0 79 (dk_at dksX2_tokenOf_1 10 rfl rfl)
theorem dX2_tokenOf_37 : decode cX2_tokenOf 37 = .ok (.ifCond .eq 14, 3) := dk_153 0 14 (dk_at dksX2_tokenOf_1 13 rfl rfl)
theorem dX2_tokenOf_40 : decode cX2_tokenOf 40 = .ok (.aload_n 0, 1) := dk_42 (dk_at dksX2_tokenOf_1 16 rfl rfl)
theorem dX2_tokenOf_41 : decode cX2_tokenOf 41 = .ok (.getfield 41, 3) := dk_180 0 41 (dk_at dksX2_tokenOf_1 17 rfl rfl)
theorem dX2_tokenOf_44 : decode cX2_tokenOf 44 = .ok (.iload_n 1, 1) := dk_27 (dk_at dksX2_tokenOf_1 20 rfl rfl)
theorem dX2_tokenOf_45 : decode cX2_tokenOf 45 = .ok (.iaload, 1) := dk_46 (dk_at dksX2_tokenOf_1 21 rfl rfl)
theorem dX2_tokenOf_46 : decode cX2_tokenOf 46 = .ok (.iload_n 2, 1) := dk_28 (dk_at dksX2_tokenOf_1 22 rfl rfl)
theorem dX2_tokenOf_47 : decode cX2_tokenOf 47 = .ok (.iadd, 1) := dk_96 (dk_at dksX2_tokenOf_1 23 rfl rfl)
theorem dX2_tokenOf_48 : decode cX2_tokenOf 48 = .ok (.goto 5, 3) := dk_167 0 5 (dk_at dksX2_tokenOf_2 0 rfl rfl)
theorem dX2_tokenOf_51 : decode cX2_tokenOf 51 = .ok (.bipush (-9), 2) := dk_16 247 (dk_at dksX2_tokenOf_2 3 rfl rfl)
theorem dX2_tokenOf_53 : decode cX2_tokenOf 53 = .ok (.ireturn, 1) := dk_172 (dk_at dksX2_tokenOf_2 5 rfl rfl)
abbrev cX2_tokenLength : ByteArray := prog_10_method_84_code
def yX2_tokenLength : MethodName := ⟨RX2, "tokenLength", "(II)I"⟩
def dkwX2_tokenLength_0 : List UInt8 := [42, 27, 28, 182, 1, 21, 62, 29, 16, 247, 160, 0, 7, 2, 167, 0, 9, 42, 180, 0, 26, 29, 46, 172]
abbrev dktX2_tokenLength_0 : List UInt8 := dkwX2_tokenLength_0 ++ []
theorem dksX2_tokenLength_0 : cX2_tokenLength.data.toList.drop 0 = dktX2_tokenLength_0 := by decide +kernel
theorem dX2_tokenLength_0 : decode cX2_tokenLength 0 = .ok (.aload_n 0, 1) := dk_42 (dk_at dksX2_tokenLength_0 0 rfl rfl)
theorem dX2_tokenLength_1 : decode cX2_tokenLength 1 = .ok (.iload_n 1, 1) := dk_27 (dk_at dksX2_tokenLength_0 1 rfl rfl)
theorem dX2_tokenLength_2 : decode cX2_tokenLength 2 = .ok (.iload_n 2, 1) := dk_28 (dk_at dksX2_tokenLength_0 2 rfl rfl)
theorem dX2_tokenLength_3 : decode cX2_tokenLength 3 = .ok (.invokevirtual 277, 3) := dk_182 1 21 (dk_at dksX2_tokenLength_0 3 rfl rfl)
theorem dX2_tokenLength_6 : decode cX2_tokenLength 6 = .ok (.istore_n 3, 1) := dk_62 (dk_at dksX2_tokenLength_0 6 rfl rfl)
theorem dX2_tokenLength_7 : decode cX2_tokenLength 7 = .ok (.iload_n 3, 1) := dk_29 (dk_at dksX2_tokenLength_0 7 rfl rfl)
theorem dX2_tokenLength_8 : decode cX2_tokenLength 8 = .ok (.bipush (-9), 2) := dk_16 247 (dk_at dksX2_tokenLength_0 8 rfl rfl)
theorem dX2_tokenLength_10 : decode cX2_tokenLength 10 = .ok (.if_icmp .ne 7, 3) := dk_160 0 7 (dk_at dksX2_tokenLength_0 10 rfl rfl)
theorem dX2_tokenLength_13 : decode cX2_tokenLength 13 = .ok (.iconst (-1), 1) := dk_2 (dk_at dksX2_tokenLength_0 13 rfl rfl)
theorem dX2_tokenLength_14 : decode cX2_tokenLength 14 = .ok (.goto 9, 3) := dk_167 0 9 (dk_at dksX2_tokenLength_0 14 rfl rfl)
theorem dX2_tokenLength_17 : decode cX2_tokenLength 17 = .ok (.aload_n 0, 1) := dk_42 (dk_at dksX2_tokenLength_0 17 rfl rfl)
theorem dX2_tokenLength_18 : decode cX2_tokenLength 18 = .ok (.getfield 26, 3) := dk_180 0 26 (dk_at dksX2_tokenLength_0 18 rfl rfl)
theorem dX2_tokenLength_21 : decode cX2_tokenLength 21 = .ok (.iload_n 3, 1) := dk_29 (dk_at dksX2_tokenLength_0 21 rfl rfl)
theorem dX2_tokenLength_22 : decode cX2_tokenLength 22 = .ok (.iaload, 1) := dk_46 (dk_at dksX2_tokenLength_0 22 rfl rfl)
theorem dX2_tokenLength_23 : decode cX2_tokenLength 23 = .ok (.ireturn, 1) := dk_172 (dk_at dksX2_tokenLength_0 23 rfl rfl)
abbrev cX2_tokenKind : ByteArray := prog_10_method_85_code
def yX2_tokenKind : MethodName := ⟨RX2, "tokenKind", "(II)I"⟩
def dkwX2_tokenKind_0 : List UInt8 := [42, 27, 28, 182, 1, 21, 62, 29, 16, 247, 160, 0, 7, 2, 167, 0, 9, 42, 180, 0, 29, 29, 46, 172]
abbrev dktX2_tokenKind_0 : List UInt8 := dkwX2_tokenKind_0 ++ []
theorem dksX2_tokenKind_0 : cX2_tokenKind.data.toList.drop 0 = dktX2_tokenKind_0 := by decide +kernel
theorem dX2_tokenKind_0 : decode cX2_tokenKind 0 = .ok (.aload_n 0, 1) := dk_42 (dk_at dksX2_tokenKind_0 0 rfl rfl)
theorem dX2_tokenKind_1 : decode cX2_tokenKind 1 = .ok (.iload_n 1, 1) := dk_27 (dk_at dksX2_tokenKind_0 1 rfl rfl)
theorem dX2_tokenKind_2 : decode cX2_tokenKind 2 = .ok (.iload_n 2, 1) := dk_28 (dk_at dksX2_tokenKind_0 2 rfl rfl)
theorem dX2_tokenKind_3 : decode cX2_tokenKind 3 = .ok (.invokevirtual 277, 3) := dk_182 1 21 (dk_at dksX2_tokenKind_0 3 rfl rfl)
theorem dX2_tokenKind_6 : decode cX2_tokenKind 6 = .ok (.istore_n 3, 1) := dk_62 (dk_at dksX2_tokenKind_0 6 rfl rfl)
theorem dX2_tokenKind_7 : decode cX2_tokenKind 7 = .ok (.iload_n 3, 1) := dk_29 (dk_at dksX2_tokenKind_0 7 rfl rfl)
theorem dX2_tokenKind_8 : decode cX2_tokenKind 8 = .ok (.bipush (-9), 2) := dk_16 247 (dk_at dksX2_tokenKind_0 8 rfl rfl)
theorem dX2_tokenKind_10 : decode cX2_tokenKind 10 = .ok (.if_icmp .ne 7, 3) := dk_160 0 7 (dk_at dksX2_tokenKind_0 10 rfl rfl)
theorem dX2_tokenKind_13 : decode cX2_tokenKind 13 = .ok (.iconst (-1), 1) := dk_2 (dk_at dksX2_tokenKind_0 13 rfl rfl)
theorem dX2_tokenKind_14 : decode cX2_tokenKind 14 = .ok (.goto 9, 3) := dk_167 0 9 (dk_at dksX2_tokenKind_0 14 rfl rfl)
theorem dX2_tokenKind_17 : decode cX2_tokenKind 17 = .ok (.aload_n 0, 1) := dk_42 (dk_at dksX2_tokenKind_0 17 rfl rfl)
theorem dX2_tokenKind_18 : decode cX2_tokenKind 18 = .ok (.getfield 29, 3) := dk_180 0 29 (dk_at dksX2_tokenKind_0 18 rfl rfl)
theorem dX2_tokenKind_21 : decode cX2_tokenKind 21 = .ok (.iload_n 3, 1) := dk_29 (dk_at dksX2_tokenKind_0 21 rfl rfl)
theorem dX2_tokenKind_22 : decode cX2_tokenKind 22 = .ok (.iaload, 1) := dk_46 (dk_at dksX2_tokenKind_0 22 rfl rfl)
theorem dX2_tokenKind_23 : decode cX2_tokenKind 23 = .ok (.ireturn, 1) := dk_172 (dk_at dksX2_tokenKind_0 23 rfl rfl)
abbrev cX2_openedBy : ByteArray := prog_10_method_87_code
def yX2_openedBy : MethodName := ⟨RX2, "openedBy", "(II)I"⟩
def dkwX2_openedBy_1 : List UInt8 := [182, 1, 24, 172]
abbrev dktX2_openedBy_1 : List UInt8 := dkwX2_openedBy_1 ++ []
def dkwX2_openedBy_0 : List UInt8 := [42, 27, 28, 182, 1, 21, 62, 29, 16, 247, 160, 0, 7, 2, 167, 0, 13, 42, 42, 180, 0, 35, 29, 46]
abbrev dktX2_openedBy_0 : List UInt8 := dkwX2_openedBy_0 ++ dktX2_openedBy_1
theorem dksX2_openedBy_0 : cX2_openedBy.data.toList.drop 0 = dktX2_openedBy_0 := by decide +kernel
theorem dksX2_openedBy_1 : cX2_openedBy.data.toList.drop 24 = dktX2_openedBy_1 := dk_seg dksX2_openedBy_0 24 rfl rfl
theorem dX2_openedBy_0 : decode cX2_openedBy 0 = .ok (.aload_n 0, 1) := dk_42 (dk_at dksX2_openedBy_0 0 rfl rfl)
theorem dX2_openedBy_1 : decode cX2_openedBy 1 = .ok (.iload_n 1, 1) := dk_27 (dk_at dksX2_openedBy_0 1 rfl rfl)
theorem dX2_openedBy_2 : decode cX2_openedBy 2 = .ok (.iload_n 2, 1) := dk_28 (dk_at dksX2_openedBy_0 2 rfl rfl)
theorem dX2_openedBy_3 : decode cX2_openedBy 3 = .ok (.invokevirtual 277, 3) := dk_182 1 21 (dk_at dksX2_openedBy_0 3 rfl rfl)
theorem dX2_openedBy_6 : decode cX2_openedBy 6 = .ok (.istore_n 3, 1) := dk_62 (dk_at dksX2_openedBy_0 6 rfl rfl)
theorem dX2_openedBy_7 : decode cX2_openedBy 7 = .ok (.iload_n 3, 1) := dk_29 (dk_at dksX2_openedBy_0 7 rfl rfl)
theorem dX2_openedBy_8 : decode cX2_openedBy 8 = .ok (.bipush (-9), 2) := dk_16 247 (dk_at dksX2_openedBy_0 8 rfl rfl)
theorem dX2_openedBy_10 : decode cX2_openedBy 10 = .ok (.if_icmp .ne 7, 3) := dk_160 0 7 (dk_at dksX2_openedBy_0 10 rfl rfl)
theorem dX2_openedBy_13 : decode cX2_openedBy 13 = .ok (.iconst (-1), 1) := dk_2 (dk_at dksX2_openedBy_0 13 rfl rfl)
theorem dX2_openedBy_14 : decode cX2_openedBy 14 = .ok (.goto 13, 3) := dk_167 0 13 (dk_at dksX2_openedBy_0 14 rfl rfl)
theorem dX2_openedBy_17 : decode cX2_openedBy 17 = .ok (.aload_n 0, 1) := dk_42 (dk_at dksX2_openedBy_0 17 rfl rfl)
theorem dX2_openedBy_18 : decode cX2_openedBy 18 = .ok (.aload_n 0, 1) := dk_42 (dk_at dksX2_openedBy_0 18 rfl rfl)
theorem dX2_openedBy_19 : decode cX2_openedBy 19 = .ok (.getfield 35, 3) := dk_180 0 35 (dk_at dksX2_openedBy_0 19 rfl rfl)
theorem dX2_openedBy_22 : decode cX2_openedBy 22 = .ok (.iload_n 3, 1) := dk_29 (dk_at dksX2_openedBy_0 22 rfl rfl)
theorem dX2_openedBy_23 : decode cX2_openedBy 23 = .ok (.iaload, 1) := dk_46 (dk_at dksX2_openedBy_0 23 rfl rfl)
theorem dX2_openedBy_24 : decode cX2_openedBy 24 = .ok (.invokevirtual 280, 3) := dk_182 1 24 (dk_at dksX2_openedBy_1 0 rfl rfl)
theorem dX2_openedBy_27 : decode cX2_openedBy 27 = .ok (.ireturn, 1) := dk_172 (dk_at dksX2_openedBy_1 3 rfl rfl)
abbrev cX2_placeOf : ByteArray := prog_10_method_86_code
def yX2_placeOf : MethodName := ⟨RX2, "placeOf", "(I)I"⟩
def dkwX2_placeOf_1 : List UInt8 := [180, 0, 41, 42, 180, 0, 20, 27, 46, 46, 100, 172]
abbrev dktX2_placeOf_1 : List UInt8 := dkwX2_placeOf_1 ++ []
def dkwX2_placeOf_0 : List UInt8 := [27, 16, 247, 160, 0, 8, 16, 247, 167, 0, 26, 16, 100, 42, 180, 0, 20, 27, 46, 104, 27, 96, 42]
abbrev dktX2_placeOf_0 : List UInt8 := dkwX2_placeOf_0 ++ dktX2_placeOf_1
theorem dksX2_placeOf_0 : cX2_placeOf.data.toList.drop 0 = dktX2_placeOf_0 := by decide +kernel
theorem dksX2_placeOf_1 : cX2_placeOf.data.toList.drop 23 = dktX2_placeOf_1 := dk_seg dksX2_placeOf_0 23 rfl rfl
theorem dX2_placeOf_0 : decode cX2_placeOf 0 = .ok (.iload_n 1, 1) := dk_27 (dk_at dksX2_placeOf_0 0 rfl rfl)
theorem dX2_placeOf_1 : decode cX2_placeOf 1 = .ok (.bipush (-9), 2) := dk_16 247 (dk_at dksX2_placeOf_0 1 rfl rfl)
theorem dX2_placeOf_3 : decode cX2_placeOf 3 = .ok (.if_icmp .ne 8, 3) := dk_160 0 8 (dk_at dksX2_placeOf_0 3 rfl rfl)
theorem dX2_placeOf_6 : decode cX2_placeOf 6 = .ok (.bipush (-9), 2) := dk_16 247 (dk_at dksX2_placeOf_0 6 rfl rfl)
theorem dX2_placeOf_8 : decode cX2_placeOf 8 = .ok (.goto 26, 3) := dk_167 0 26 (dk_at dksX2_placeOf_0 8 rfl rfl)
theorem dX2_placeOf_11 : decode cX2_placeOf 11 = .ok (.bipush 100, 2) := dk_16 100 (dk_at dksX2_placeOf_0 11 rfl rfl)
theorem dX2_placeOf_13 : decode cX2_placeOf 13 = .ok (.aload_n 0, 1) := dk_42 (dk_at dksX2_placeOf_0 13 rfl rfl)
theorem dX2_placeOf_14 : decode cX2_placeOf 14 = .ok (.getfield 20, 3) := dk_180 0 20 (dk_at dksX2_placeOf_0 14 rfl rfl)
theorem dX2_placeOf_17 : decode cX2_placeOf 17 = .ok (.iload_n 1, 1) := dk_27 (dk_at dksX2_placeOf_0 17 rfl rfl)
theorem dX2_placeOf_18 : decode cX2_placeOf 18 = .ok (.iaload, 1) := dk_46 (dk_at dksX2_placeOf_0 18 rfl rfl)
theorem dX2_placeOf_19 : decode cX2_placeOf 19 = .ok (.imul, 1) := dk_104 (dk_at dksX2_placeOf_0 19 rfl rfl)
theorem dX2_placeOf_20 : decode cX2_placeOf 20 = .ok (.iload_n 1, 1) := dk_27 (dk_at dksX2_placeOf_0 20 rfl rfl)
theorem dX2_placeOf_21 : decode cX2_placeOf 21 = .ok (.iadd, 1) := dk_96 (dk_at dksX2_placeOf_0 21 rfl rfl)
theorem dX2_placeOf_22 : decode cX2_placeOf 22 = .ok (.aload_n 0, 1) := dk_42 (dk_at dksX2_placeOf_0 22 rfl rfl)
theorem dX2_placeOf_23 : decode cX2_placeOf 23 = .ok (.getfield 41, 3) := dk_180 0 41 (dk_at dksX2_placeOf_1 0 rfl rfl)
theorem dX2_placeOf_26 : decode cX2_placeOf 26 = .ok (.aload_n 0, 1) := dk_42 (dk_at dksX2_placeOf_1 3 rfl rfl)
theorem dX2_placeOf_27 : decode cX2_placeOf 27 = .ok (.getfield 20, 3) := dk_180 0 20 (dk_at dksX2_placeOf_1 4 rfl rfl)
theorem dX2_placeOf_30 : decode cX2_placeOf 30 = .ok (.iload_n 1, 1) := dk_27 (dk_at dksX2_placeOf_1 7 rfl rfl)
theorem dX2_placeOf_31 : decode cX2_placeOf 31 = .ok (.iaload, 1) := dk_46 (dk_at dksX2_placeOf_1 8 rfl rfl)
theorem dX2_placeOf_32 : decode cX2_placeOf 32 = .ok (.iaload, 1) := dk_46 (dk_at dksX2_placeOf_1 9 rfl rfl)
theorem dX2_placeOf_33 : decode cX2_placeOf 33 = .ok (.isub, 1) := dk_100 (dk_at dksX2_placeOf_1 10 rfl rfl)
theorem dX2_placeOf_34 : decode cX2_placeOf 34 = .ok (.ireturn, 1) := dk_172 (dk_at dksX2_placeOf_1 11 rfl rfl)
abbrev cX2_closedBy : ByteArray := prog_10_method_88_code
def yX2_closedBy : MethodName := ⟨RX2, "closedBy", "(II)I"⟩
def dkwX2_closedBy_1 : List UInt8 := [182, 1, 24, 172]
abbrev dktX2_closedBy_1 : List UInt8 := dkwX2_closedBy_1 ++ []
def dkwX2_closedBy_0 : List UInt8 := [42, 27, 28, 182, 1, 21, 62, 29, 16, 247, 160, 0, 7, 2, 167, 0, 13, 42, 42, 180, 0, 38, 29, 46]
abbrev dktX2_closedBy_0 : List UInt8 := dkwX2_closedBy_0 ++ dktX2_closedBy_1
theorem dksX2_closedBy_0 : cX2_closedBy.data.toList.drop 0 = dktX2_closedBy_0 := by decide +kernel
theorem dksX2_closedBy_1 : cX2_closedBy.data.toList.drop 24 = dktX2_closedBy_1 := dk_seg dksX2_closedBy_0 24 rfl rfl
theorem dX2_closedBy_0 : decode cX2_closedBy 0 = .ok (.aload_n 0, 1) := dk_42 (dk_at dksX2_closedBy_0 0 rfl rfl)
theorem dX2_closedBy_1 : decode cX2_closedBy 1 = .ok (.iload_n 1, 1) := dk_27 (dk_at dksX2_closedBy_0 1 rfl rfl)
theorem dX2_closedBy_2 : decode cX2_closedBy 2 = .ok (.iload_n 2, 1) := dk_28 (dk_at dksX2_closedBy_0 2 rfl rfl)
theorem dX2_closedBy_3 : decode cX2_closedBy 3 = .ok (.invokevirtual 277, 3) := dk_182 1 21 (dk_at dksX2_closedBy_0 3 rfl rfl)
theorem dX2_closedBy_6 : decode cX2_closedBy 6 = .ok (.istore_n 3, 1) := dk_62 (dk_at dksX2_closedBy_0 6 rfl rfl)
theorem dX2_closedBy_7 : decode cX2_closedBy 7 = .ok (.iload_n 3, 1) := dk_29 (dk_at dksX2_closedBy_0 7 rfl rfl)
theorem dX2_closedBy_8 : decode cX2_closedBy 8 = .ok (.bipush (-9), 2) := dk_16 247 (dk_at dksX2_closedBy_0 8 rfl rfl)
theorem dX2_closedBy_10 : decode cX2_closedBy 10 = .ok (.if_icmp .ne 7, 3) := dk_160 0 7 (dk_at dksX2_closedBy_0 10 rfl rfl)
theorem dX2_closedBy_13 : decode cX2_closedBy 13 = .ok (.iconst (-1), 1) := dk_2 (dk_at dksX2_closedBy_0 13 rfl rfl)
theorem dX2_closedBy_14 : decode cX2_closedBy 14 = .ok (.goto 13, 3) := dk_167 0 13 (dk_at dksX2_closedBy_0 14 rfl rfl)
theorem dX2_closedBy_17 : decode cX2_closedBy 17 = .ok (.aload_n 0, 1) := dk_42 (dk_at dksX2_closedBy_0 17 rfl rfl)
theorem dX2_closedBy_18 : decode cX2_closedBy 18 = .ok (.aload_n 0, 1) := dk_42 (dk_at dksX2_closedBy_0 18 rfl rfl)
theorem dX2_closedBy_19 : decode cX2_closedBy 19 = .ok (.getfield 38, 3) := dk_180 0 38 (dk_at dksX2_closedBy_0 19 rfl rfl)
theorem dX2_closedBy_22 : decode cX2_closedBy 22 = .ok (.iload_n 3, 1) := dk_29 (dk_at dksX2_closedBy_0 22 rfl rfl)
theorem dX2_closedBy_23 : decode cX2_closedBy 23 = .ok (.iaload, 1) := dk_46 (dk_at dksX2_closedBy_0 23 rfl rfl)
theorem dX2_closedBy_24 : decode cX2_closedBy 24 = .ok (.invokevirtual 280, 3) := dk_182 1 24 (dk_at dksX2_closedBy_1 0 rfl rfl)
theorem dX2_closedBy_27 : decode cX2_closedBy 27 = .ok (.ireturn, 1) := dk_172 (dk_at dksX2_closedBy_1 3 rfl rfl)
abbrev cX2_depth : ByteArray := prog_10_method_89_code
def yX2_depth : MethodName := ⟨RX2, "depth", "(I)I"⟩
def dkwX2_depth_1 : List UInt8 := [27, 46, 172]
abbrev dktX2_depth_1 : List UInt8 := dkwX2_depth_1 ++ []
def dkwX2_depth_0 : List UInt8 := [27, 3, 42, 180, 0, 7, 3, 46, 184, 0, 79, 154, 0, 5, 2, 172, 42, 182, 0, 151, 42, 180, 0, 47]
abbrev dktX2_depth_0 : List UInt8 := dkwX2_depth_0 ++ dktX2_depth_1
theorem dksX2_depth_0 : cX2_depth.data.toList.drop 0 = dktX2_depth_0 := by decide +kernel
theorem dksX2_depth_1 : cX2_depth.data.toList.drop 24 = dktX2_depth_1 := dk_seg dksX2_depth_0 24 rfl rfl
theorem dX2_depth_0 : decode cX2_depth 0 = .ok (.iload_n 1, 1) := dk_27 (dk_at dksX2_depth_0 0 rfl rfl)
theorem dX2_depth_1 : decode cX2_depth 1 = .ok (.iconst 0, 1) := dk_3 (dk_at dksX2_depth_0 1 rfl rfl)
theorem dX2_depth_2 : decode cX2_depth 2 = .ok (.aload_n 0, 1) := dk_42 (dk_at dksX2_depth_0 2 rfl rfl)
theorem dX2_depth_3 : decode cX2_depth 3 = .ok (.getfield 7, 3) := dk_180 0 7 (dk_at dksX2_depth_0 3 rfl rfl)
theorem dX2_depth_6 : decode cX2_depth 6 = .ok (.iconst 0, 1) := dk_3 (dk_at dksX2_depth_0 6 rfl rfl)
theorem dX2_depth_7 : decode cX2_depth 7 = .ok (.iaload, 1) := dk_46 (dk_at dksX2_depth_0 7 rfl rfl)
theorem dX2_depth_8 : decode cX2_depth 8 = .ok (.invokestatic 79, 3) := dk_184 0 79 (dk_at dksX2_depth_0 8 rfl rfl)
theorem dX2_depth_11 : decode cX2_depth 11 = .ok (.ifCond .ne 5, 3) := dk_154 0 5 (dk_at dksX2_depth_0 11 rfl rfl)
theorem dX2_depth_14 : decode cX2_depth 14 = .ok (.iconst (-1), 1) := dk_2 (dk_at dksX2_depth_0 14 rfl rfl)
theorem dX2_depth_15 : decode cX2_depth 15 = .ok (.ireturn, 1) := dk_172 (dk_at dksX2_depth_0 15 rfl rfl)
theorem dX2_depth_16 : decode cX2_depth 16 = .ok (.aload_n 0, 1) := dk_42 (dk_at dksX2_depth_0 16 rfl rfl)
theorem dX2_depth_17 : decode cX2_depth 17 = .ok (.invokevirtual 151, 3) := dk_182 0 151 (dk_at dksX2_depth_0 17 rfl rfl)
theorem dX2_depth_20 : decode cX2_depth 20 = .ok (.aload_n 0, 1) := dk_42 (dk_at dksX2_depth_0 20 rfl rfl)
theorem dX2_depth_21 : decode cX2_depth 21 = .ok (.getfield 47, 3) := dk_180 0 47 (dk_at dksX2_depth_0 21 rfl rfl)
theorem dX2_depth_24 : decode cX2_depth 24 = .ok (.iload_n 1, 1) := dk_27 (dk_at dksX2_depth_1 0 rfl rfl)
theorem dX2_depth_25 : decode cX2_depth 25 = .ok (.iaload, 1) := dk_46 (dk_at dksX2_depth_1 1 rfl rfl)
theorem dX2_depth_26 : decode cX2_depth 26 = .ok (.ireturn, 1) := dk_172 (dk_at dksX2_depth_1 2 rfl rfl)
abbrev cX2_blockRule : ByteArray := prog_10_method_91_code
def yX2_blockRule : MethodName := ⟨RX2, "blockRule", "(II)I"⟩
def dkwX2_blockRule_0 : List UInt8 := [42, 27, 28, 182, 1, 27, 62, 29, 16, 247, 160, 0, 7, 2, 167, 0, 9, 42, 180, 0, 32, 29, 46, 172]
abbrev dktX2_blockRule_0 : List UInt8 := dkwX2_blockRule_0 ++ []
theorem dksX2_blockRule_0 : cX2_blockRule.data.toList.drop 0 = dktX2_blockRule_0 := by decide +kernel
theorem dX2_blockRule_0 : decode cX2_blockRule 0 = .ok (.aload_n 0, 1) := dk_42 (dk_at dksX2_blockRule_0 0 rfl rfl)
theorem dX2_blockRule_1 : decode cX2_blockRule 1 = .ok (.iload_n 1, 1) := dk_27 (dk_at dksX2_blockRule_0 1 rfl rfl)
theorem dX2_blockRule_2 : decode cX2_blockRule 2 = .ok (.iload_n 2, 1) := dk_28 (dk_at dksX2_blockRule_0 2 rfl rfl)
theorem dX2_blockRule_3 : decode cX2_blockRule 3 = .ok (.invokevirtual 283, 3) := dk_182 1 27 (dk_at dksX2_blockRule_0 3 rfl rfl)
theorem dX2_blockRule_6 : decode cX2_blockRule 6 = .ok (.istore_n 3, 1) := dk_62 (dk_at dksX2_blockRule_0 6 rfl rfl)
theorem dX2_blockRule_7 : decode cX2_blockRule 7 = .ok (.iload_n 3, 1) := dk_29 (dk_at dksX2_blockRule_0 7 rfl rfl)
theorem dX2_blockRule_8 : decode cX2_blockRule 8 = .ok (.bipush (-9), 2) := dk_16 247 (dk_at dksX2_blockRule_0 8 rfl rfl)
theorem dX2_blockRule_10 : decode cX2_blockRule 10 = .ok (.if_icmp .ne 7, 3) := dk_160 0 7 (dk_at dksX2_blockRule_0 10 rfl rfl)
theorem dX2_blockRule_13 : decode cX2_blockRule 13 = .ok (.iconst (-1), 1) := dk_2 (dk_at dksX2_blockRule_0 13 rfl rfl)
theorem dX2_blockRule_14 : decode cX2_blockRule 14 = .ok (.goto 9, 3) := dk_167 0 9 (dk_at dksX2_blockRule_0 14 rfl rfl)
theorem dX2_blockRule_17 : decode cX2_blockRule 17 = .ok (.aload_n 0, 1) := dk_42 (dk_at dksX2_blockRule_0 17 rfl rfl)
theorem dX2_blockRule_18 : decode cX2_blockRule 18 = .ok (.getfield 32, 3) := dk_180 0 32 (dk_at dksX2_blockRule_0 18 rfl rfl)
theorem dX2_blockRule_21 : decode cX2_blockRule 21 = .ok (.iload_n 3, 1) := dk_29 (dk_at dksX2_blockRule_0 21 rfl rfl)
theorem dX2_blockRule_22 : decode cX2_blockRule 22 = .ok (.iaload, 1) := dk_46 (dk_at dksX2_blockRule_0 22 rfl rfl)
theorem dX2_blockRule_23 : decode cX2_blockRule 23 = .ok (.ireturn, 1) := dk_172 (dk_at dksX2_blockRule_0 23 rfl rfl)
abbrev cX2_blockOf : ByteArray := prog_10_method_90_code
def yX2_blockOf : MethodName := ⟨RX2, "blockOf", "(II)I"⟩
def dkwX2_blockOf_2 : List UInt8 := [100, 184, 0, 79, 153, 0, 17, 42, 180, 0, 50, 16, 12, 27, 104, 28, 96, 46, 167, 0, 5, 16, 247, 172]
abbrev dktX2_blockOf_2 : List UInt8 := dkwX2_blockOf_2 ++ []
def dkwX2_blockOf_1 : List UInt8 := [17, 3, 209, 46, 42, 180, 0, 7, 17, 3, 210, 46, 182, 0, 222, 28, 3, 42, 180, 0, 47, 27, 46, 4]
abbrev dktX2_blockOf_1 : List UInt8 := dkwX2_blockOf_1 ++ dktX2_blockOf_2
def dkwX2_blockOf_0 : List UInt8 := [27, 3, 42, 180, 0, 7, 3, 46, 184, 0, 79, 154, 0, 6, 16, 247, 172, 42, 42, 180, 0, 7]
abbrev dktX2_blockOf_0 : List UInt8 := dkwX2_blockOf_0 ++ dktX2_blockOf_1
theorem dksX2_blockOf_0 : cX2_blockOf.data.toList.drop 0 = dktX2_blockOf_0 := by decide +kernel
theorem dksX2_blockOf_1 : cX2_blockOf.data.toList.drop 22 = dktX2_blockOf_1 := dk_seg dksX2_blockOf_0 22 rfl rfl
theorem dksX2_blockOf_2 : cX2_blockOf.data.toList.drop 46 = dktX2_blockOf_2 := dk_seg dksX2_blockOf_1 24 rfl rfl
theorem dX2_blockOf_0 : decode cX2_blockOf 0 = .ok (.iload_n 1, 1) := dk_27 (dk_at dksX2_blockOf_0 0 rfl rfl)
theorem dX2_blockOf_1 : decode cX2_blockOf 1 = .ok (.iconst 0, 1) := dk_3 (dk_at dksX2_blockOf_0 1 rfl rfl)
theorem dX2_blockOf_2 : decode cX2_blockOf 2 = .ok (.aload_n 0, 1) := dk_42 (dk_at dksX2_blockOf_0 2 rfl rfl)
theorem dX2_blockOf_3 : decode cX2_blockOf 3 = .ok (.getfield 7, 3) := dk_180 0 7 (dk_at dksX2_blockOf_0 3 rfl rfl)
theorem dX2_blockOf_6 : decode cX2_blockOf 6 = .ok (.iconst 0, 1) := dk_3 (dk_at dksX2_blockOf_0 6 rfl rfl)
theorem dX2_blockOf_7 : decode cX2_blockOf 7 = .ok (.iaload, 1) := dk_46 (dk_at dksX2_blockOf_0 7 rfl rfl)
theorem dX2_blockOf_8 : decode cX2_blockOf 8 = .ok (.invokestatic 79, 3) := dk_184 0 79 (dk_at dksX2_blockOf_0 8 rfl rfl)
theorem dX2_blockOf_11 : decode cX2_blockOf 11 = .ok (.ifCond .ne 6, 3) := dk_154 0 6 (dk_at dksX2_blockOf_0 11 rfl rfl)
theorem dX2_blockOf_14 : decode cX2_blockOf 14 = .ok (.bipush (-9), 2) := dk_16 247 (dk_at dksX2_blockOf_0 14 rfl rfl)
theorem dX2_blockOf_16 : decode cX2_blockOf 16 = .ok (.ireturn, 1) := dk_172 (dk_at dksX2_blockOf_0 16 rfl rfl)
theorem dX2_blockOf_17 : decode cX2_blockOf 17 = .ok (.aload_n 0, 1) := dk_42 (dk_at dksX2_blockOf_0 17 rfl rfl)
theorem dX2_blockOf_18 : decode cX2_blockOf 18 = .ok (.aload_n 0, 1) := dk_42 (dk_at dksX2_blockOf_0 18 rfl rfl)
theorem dX2_blockOf_19 : decode cX2_blockOf 19 = .ok (.getfield 7, 3) := dk_180 0 7 (dk_at dksX2_blockOf_0 19 rfl rfl)
theorem dX2_blockOf_22 : decode cX2_blockOf 22 = .ok (.sipush 977, 3) := dk_17 3 209 (dk_at dksX2_blockOf_1 0 rfl rfl)
theorem dX2_blockOf_25 : decode cX2_blockOf 25 = .ok (.iaload, 1) := dk_46 (dk_at dksX2_blockOf_1 3 rfl rfl)
theorem dX2_blockOf_26 : decode cX2_blockOf 26 = .ok (.aload_n 0, 1) := dk_42 (dk_at dksX2_blockOf_1 4 rfl rfl)
theorem dX2_blockOf_27 : decode cX2_blockOf 27 = .ok (.getfield 7, 3) := dk_180 0 7 (dk_at dksX2_blockOf_1 5 rfl rfl)
theorem dX2_blockOf_30 : decode cX2_blockOf 30 = .ok (.sipush 978, 3) := dk_17 3 210 (dk_at dksX2_blockOf_1 8 rfl rfl)
theorem dX2_blockOf_33 : decode cX2_blockOf 33 = .ok (.iaload, 1) := dk_46 (dk_at dksX2_blockOf_1 11 rfl rfl)
theorem dX2_blockOf_34 : decode cX2_blockOf 34 = .ok (.invokevirtual 222, 3) := dk_182 0 222 (dk_at dksX2_blockOf_1 12 rfl rfl)
theorem dX2_blockOf_37 : decode cX2_blockOf 37 = .ok (.iload_n 2, 1) := dk_28 (dk_at dksX2_blockOf_1 15 rfl rfl)
theorem dX2_blockOf_38 : decode cX2_blockOf 38 = .ok (.iconst 0, 1) := dk_3 (dk_at dksX2_blockOf_1 16 rfl rfl)
theorem dX2_blockOf_39 : decode cX2_blockOf 39 = .ok (.aload_n 0, 1) := dk_42 (dk_at dksX2_blockOf_1 17 rfl rfl)
theorem dX2_blockOf_40 : decode cX2_blockOf 40 = .ok (.getfield 47, 3) := dk_180 0 47 (dk_at dksX2_blockOf_1 18 rfl rfl)
theorem dX2_blockOf_43 : decode cX2_blockOf 43 = .ok (.iload_n 1, 1) := dk_27 (dk_at dksX2_blockOf_1 21 rfl rfl)
theorem dX2_blockOf_44 : decode cX2_blockOf 44 = .ok (.iaload, 1) := dk_46 (dk_at dksX2_blockOf_1 22 rfl rfl)
theorem dX2_blockOf_45 : decode cX2_blockOf 45 = .ok (.iconst 1, 1) := dk_4 (dk_at dksX2_blockOf_1 23 rfl rfl)
theorem dX2_blockOf_46 : decode cX2_blockOf 46 = .ok (.isub, 1) := dk_100 (dk_at dksX2_blockOf_2 0 rfl rfl)
theorem dX2_blockOf_47 : decode cX2_blockOf 47 = .ok (.invokestatic 79, 3) := dk_184 0 79 (dk_at dksX2_blockOf_2 1 rfl rfl)
theorem dX2_blockOf_50 : decode cX2_blockOf 50 = .ok (.ifCond .eq 17, 3) := dk_153 0 17 (dk_at dksX2_blockOf_2 4 rfl rfl)
theorem dX2_blockOf_53 : decode cX2_blockOf 53 = .ok (.aload_n 0, 1) := dk_42 (dk_at dksX2_blockOf_2 7 rfl rfl)
theorem dX2_blockOf_54 : decode cX2_blockOf 54 = .ok (.getfield 50, 3) := dk_180 0 50 (dk_at dksX2_blockOf_2 8 rfl rfl)
theorem dX2_blockOf_57 : decode cX2_blockOf 57 = .ok (.bipush 12, 2) := dk_16 12 (dk_at dksX2_blockOf_2 11 rfl rfl)
theorem dX2_blockOf_59 : decode cX2_blockOf 59 = .ok (.iload_n 1, 1) := dk_27 (dk_at dksX2_blockOf_2 13 rfl rfl)
theorem dX2_blockOf_60 : decode cX2_blockOf 60 = .ok (.imul, 1) := dk_104 (dk_at dksX2_blockOf_2 14 rfl rfl)
theorem dX2_blockOf_61 : decode cX2_blockOf 61 = .ok (.iload_n 2, 1) := dk_28 (dk_at dksX2_blockOf_2 15 rfl rfl)
theorem dX2_blockOf_62 : decode cX2_blockOf 62 = .ok (.iadd, 1) := dk_96 (dk_at dksX2_blockOf_2 16 rfl rfl)
theorem dX2_blockOf_63 : decode cX2_blockOf 63 = .ok (.iaload, 1) := dk_46 (dk_at dksX2_blockOf_2 17 rfl rfl)
theorem dX2_blockOf_64 : decode cX2_blockOf 64 = .ok (.goto 5, 3) := dk_167 0 5 (dk_at dksX2_blockOf_2 18 rfl rfl)
theorem dX2_blockOf_67 : decode cX2_blockOf 67 = .ok (.bipush (-9), 2) := dk_16 247 (dk_at dksX2_blockOf_2 21 rfl rfl)
theorem dX2_blockOf_69 : decode cX2_blockOf 69 = .ok (.ireturn, 1) := dk_172 (dk_at dksX2_blockOf_2 23 rfl rfl)
abbrev cX2_blockOpening : ByteArray := prog_10_method_92_code
def yX2_blockOpening : MethodName := ⟨RX2, "blockOpening", "(II)I"⟩
def dkwX2_blockOpening_1 : List UInt8 := [46, 104, 42, 29, 182, 0, 163, 96, 172]
abbrev dktX2_blockOpening_1 : List UInt8 := dkwX2_blockOpening_1 ++ []
def dkwX2_blockOpening_0 : List UInt8 := [42, 27, 28, 182, 1, 27, 62, 29, 16, 247, 160, 0, 7, 2, 167, 0, 18, 16, 100, 42, 180, 0, 20, 29]
abbrev dktX2_blockOpening_0 : List UInt8 := dkwX2_blockOpening_0 ++ dktX2_blockOpening_1
theorem dksX2_blockOpening_0 : cX2_blockOpening.data.toList.drop 0 = dktX2_blockOpening_0 := by decide +kernel
theorem dksX2_blockOpening_1 : cX2_blockOpening.data.toList.drop 24 = dktX2_blockOpening_1 := dk_seg dksX2_blockOpening_0 24 rfl rfl
theorem dX2_blockOpening_0 : decode cX2_blockOpening 0 = .ok (.aload_n 0, 1) := dk_42 (dk_at dksX2_blockOpening_0 0 rfl rfl)
theorem dX2_blockOpening_1 : decode cX2_blockOpening 1 = .ok (.iload_n 1, 1) := dk_27 (dk_at dksX2_blockOpening_0 1 rfl rfl)
theorem dX2_blockOpening_2 : decode cX2_blockOpening 2 = .ok (.iload_n 2, 1) := dk_28 (dk_at dksX2_blockOpening_0 2 rfl rfl)
theorem dX2_blockOpening_3 : decode cX2_blockOpening 3 = .ok (.invokevirtual 283, 3) := dk_182 1 27 (dk_at dksX2_blockOpening_0 3 rfl rfl)
theorem dX2_blockOpening_6 : decode cX2_blockOpening 6 = .ok (.istore_n 3, 1) := dk_62 (dk_at dksX2_blockOpening_0 6 rfl rfl)
theorem dX2_blockOpening_7 : decode cX2_blockOpening 7 = .ok (.iload_n 3, 1) := dk_29 (dk_at dksX2_blockOpening_0 7 rfl rfl)
theorem dX2_blockOpening_8 : decode cX2_blockOpening 8 = .ok (.bipush (-9), 2) := dk_16 247 (dk_at dksX2_blockOpening_0 8 rfl rfl)
theorem dX2_blockOpening_10 : decode cX2_blockOpening 10 = .ok (.if_icmp .ne 7, 3) := dk_160 0 7 (dk_at dksX2_blockOpening_0 10 rfl rfl)
theorem dX2_blockOpening_13 : decode cX2_blockOpening 13 = .ok (.iconst (-1), 1) := dk_2 (dk_at dksX2_blockOpening_0 13 rfl rfl)
theorem dX2_blockOpening_14 : decode cX2_blockOpening 14 = .ok (.goto 18, 3) := dk_167 0 18 (dk_at dksX2_blockOpening_0 14 rfl rfl)
theorem dX2_blockOpening_17 : decode cX2_blockOpening 17 = .ok (.bipush 100, 2) := dk_16 100 (dk_at dksX2_blockOpening_0 17 rfl rfl)
theorem dX2_blockOpening_19 : decode cX2_blockOpening 19 = .ok (.aload_n 0, 1) := dk_42 (dk_at dksX2_blockOpening_0 19 rfl rfl)
theorem dX2_blockOpening_20 : decode cX2_blockOpening 20 = .ok (.getfield 20, 3) := dk_180 0 20 (dk_at dksX2_blockOpening_0 20 rfl rfl)
theorem dX2_blockOpening_23 : decode cX2_blockOpening 23 = .ok (.iload_n 3, 1) := dk_29 (dk_at dksX2_blockOpening_0 23 rfl rfl)
theorem dX2_blockOpening_24 : decode cX2_blockOpening 24 = .ok (.iaload, 1) := dk_46 (dk_at dksX2_blockOpening_1 0 rfl rfl)
theorem dX2_blockOpening_25 : decode cX2_blockOpening 25 = .ok (.imul, 1) := dk_104 (dk_at dksX2_blockOpening_1 1 rfl rfl)
theorem dX2_blockOpening_26 : decode cX2_blockOpening 26 = .ok (.aload_n 0, 1) := dk_42 (dk_at dksX2_blockOpening_1 2 rfl rfl)
theorem dX2_blockOpening_27 : decode cX2_blockOpening 27 = .ok (.iload_n 3, 1) := dk_29 (dk_at dksX2_blockOpening_1 3 rfl rfl)
theorem dX2_blockOpening_28 : decode cX2_blockOpening 28 = .ok (.invokevirtual 163, 3) := dk_182 0 163 (dk_at dksX2_blockOpening_1 4 rfl rfl)
theorem dX2_blockOpening_31 : decode cX2_blockOpening 31 = .ok (.iadd, 1) := dk_96 (dk_at dksX2_blockOpening_1 7 rfl rfl)
theorem dX2_blockOpening_32 : decode cX2_blockOpening 32 = .ok (.ireturn, 1) := dk_172 (dk_at dksX2_blockOpening_1 8 rfl rfl)
abbrev cX2_contentColumn : ByteArray := prog_10_method_93_code
def yX2_contentColumn : MethodName := ⟨RX2, "contentColumn", "(II)I"⟩
def dkwX2_contentColumn_0 : List UInt8 := [42, 27, 28, 182, 1, 27, 62, 29, 16, 247, 160, 0, 7, 2, 167, 0, 8, 42, 29, 182, 0, 179, 172]
abbrev dktX2_contentColumn_0 : List UInt8 := dkwX2_contentColumn_0 ++ []
theorem dksX2_contentColumn_0 : cX2_contentColumn.data.toList.drop 0 = dktX2_contentColumn_0 := by decide +kernel
theorem dX2_contentColumn_0 : decode cX2_contentColumn 0 = .ok (.aload_n 0, 1) := dk_42 (dk_at dksX2_contentColumn_0 0 rfl rfl)
theorem dX2_contentColumn_1 : decode cX2_contentColumn 1 = .ok (.iload_n 1, 1) := dk_27 (dk_at dksX2_contentColumn_0 1 rfl rfl)
theorem dX2_contentColumn_2 : decode cX2_contentColumn 2 = .ok (.iload_n 2, 1) := dk_28 (dk_at dksX2_contentColumn_0 2 rfl rfl)
theorem dX2_contentColumn_3 : decode cX2_contentColumn 3 = .ok (.invokevirtual 283, 3) := dk_182 1 27 (dk_at dksX2_contentColumn_0 3 rfl rfl)
theorem dX2_contentColumn_6 : decode cX2_contentColumn 6 = .ok (.istore_n 3, 1) := dk_62 (dk_at dksX2_contentColumn_0 6 rfl rfl)
theorem dX2_contentColumn_7 : decode cX2_contentColumn 7 = .ok (.iload_n 3, 1) := dk_29 (dk_at dksX2_contentColumn_0 7 rfl rfl)
theorem dX2_contentColumn_8 : decode cX2_contentColumn 8 = .ok (.bipush (-9), 2) := dk_16 247 (dk_at dksX2_contentColumn_0 8 rfl rfl)
theorem dX2_contentColumn_10 : decode cX2_contentColumn 10 = .ok (.if_icmp .ne 7, 3) := dk_160 0 7 (dk_at dksX2_contentColumn_0 10 rfl rfl)
theorem dX2_contentColumn_13 : decode cX2_contentColumn 13 = .ok (.iconst (-1), 1) := dk_2 (dk_at dksX2_contentColumn_0 13 rfl rfl)
theorem dX2_contentColumn_14 : decode cX2_contentColumn 14 = .ok (.goto 8, 3) := dk_167 0 8 (dk_at dksX2_contentColumn_0 14 rfl rfl)
theorem dX2_contentColumn_17 : decode cX2_contentColumn 17 = .ok (.aload_n 0, 1) := dk_42 (dk_at dksX2_contentColumn_0 17 rfl rfl)
theorem dX2_contentColumn_18 : decode cX2_contentColumn 18 = .ok (.iload_n 3, 1) := dk_29 (dk_at dksX2_contentColumn_0 18 rfl rfl)
theorem dX2_contentColumn_19 : decode cX2_contentColumn 19 = .ok (.invokevirtual 179, 3) := dk_182 0 179 (dk_at dksX2_contentColumn_0 19 rfl rfl)
theorem dX2_contentColumn_22 : decode cX2_contentColumn 22 = .ok (.ireturn, 1) := dk_172 (dk_at dksX2_contentColumn_0 22 rfl rfl)
abbrev cX2_strays : ByteArray := prog_10_method_94_code
def yX2_strays : MethodName := ⟨RX2, "strays", "()I"⟩
def dkwX2_strays_0 : List UInt8 := [42, 182, 0, 151, 42, 180, 0, 135, 172]
abbrev dktX2_strays_0 : List UInt8 := dkwX2_strays_0 ++ []
theorem dksX2_strays_0 : cX2_strays.data.toList.drop 0 = dktX2_strays_0 := by decide +kernel
theorem dX2_strays_0 : decode cX2_strays 0 = .ok (.aload_n 0, 1) := dk_42 (dk_at dksX2_strays_0 0 rfl rfl)
theorem dX2_strays_1 : decode cX2_strays 1 = .ok (.invokevirtual 151, 3) := dk_182 0 151 (dk_at dksX2_strays_0 1 rfl rfl)
theorem dX2_strays_4 : decode cX2_strays 4 = .ok (.aload_n 0, 1) := dk_42 (dk_at dksX2_strays_0 4 rfl rfl)
theorem dX2_strays_5 : decode cX2_strays 5 = .ok (.getfield 135, 3) := dk_180 0 135 (dk_at dksX2_strays_0 5 rfl rfl)
theorem dX2_strays_8 : decode cX2_strays 8 = .ok (.ireturn, 1) := dk_172 (dk_at dksX2_strays_0 8 rfl rfl)
abbrev cX2_lost : ByteArray := prog_10_method_95_code
def yX2_lost : MethodName := ⟨RX2, "lost", "()I"⟩
def dkwX2_lost_0 : List UInt8 := [42, 182, 0, 151, 42, 180, 0, 129, 172]
abbrev dktX2_lost_0 : List UInt8 := dkwX2_lost_0 ++ []
theorem dksX2_lost_0 : cX2_lost.data.toList.drop 0 = dktX2_lost_0 := by decide +kernel
theorem dX2_lost_0 : decode cX2_lost 0 = .ok (.aload_n 0, 1) := dk_42 (dk_at dksX2_lost_0 0 rfl rfl)
theorem dX2_lost_1 : decode cX2_lost 1 = .ok (.invokevirtual 151, 3) := dk_182 0 151 (dk_at dksX2_lost_0 1 rfl rfl)
theorem dX2_lost_4 : decode cX2_lost 4 = .ok (.aload_n 0, 1) := dk_42 (dk_at dksX2_lost_0 4 rfl rfl)
theorem dX2_lost_5 : decode cX2_lost 5 = .ok (.getfield 129, 3) := dk_180 0 129 (dk_at dksX2_lost_0 5 rfl rfl)
theorem dX2_lost_8 : decode cX2_lost 8 = .ok (.ireturn, 1) := dk_172 (dk_at dksX2_lost_0 8 rfl rfl)
abbrev cX2_vocabulary : ByteArray := prog_10_method_98_code
def yX2_vocabulary : MethodName := ⟨RX2, "vocabulary", "()I"⟩
def dkwX2_vocabulary_1 : List UInt8 := [153, 0, 7, 4, 167, 0, 4, 3, 96, 60, 132, 2, 1, 167, 255, 229, 27, 172]
abbrev dktX2_vocabulary_1 : List UInt8 := dkwX2_vocabulary_1 ++ []
def dkwX2_vocabulary_0 : List UInt8 := [42, 182, 0, 138, 3, 60, 3, 61, 28, 42, 180, 0, 98, 162, 0, 25, 27, 42, 28, 182, 1, 33]
abbrev dktX2_vocabulary_0 : List UInt8 := dkwX2_vocabulary_0 ++ dktX2_vocabulary_1
theorem dksX2_vocabulary_0 : cX2_vocabulary.data.toList.drop 0 = dktX2_vocabulary_0 := by decide +kernel
theorem dksX2_vocabulary_1 : cX2_vocabulary.data.toList.drop 22 = dktX2_vocabulary_1 := dk_seg dksX2_vocabulary_0 22 rfl rfl
theorem dX2_vocabulary_0 : decode cX2_vocabulary 0 = .ok (.aload_n 0, 1) := dk_42 (dk_at dksX2_vocabulary_0 0 rfl rfl)
theorem dX2_vocabulary_1 : decode cX2_vocabulary 1 = .ok (.invokevirtual 138, 3) := dk_182 0 138 (dk_at dksX2_vocabulary_0 1 rfl rfl)
theorem dX2_vocabulary_4 : decode cX2_vocabulary 4 = .ok (.iconst 0, 1) := dk_3 (dk_at dksX2_vocabulary_0 4 rfl rfl)
theorem dX2_vocabulary_5 : decode cX2_vocabulary 5 = .ok (.istore_n 1, 1) := dk_60 (dk_at dksX2_vocabulary_0 5 rfl rfl)
theorem dX2_vocabulary_6 : decode cX2_vocabulary 6 = .ok (.iconst 0, 1) := dk_3 (dk_at dksX2_vocabulary_0 6 rfl rfl)
theorem dX2_vocabulary_7 : decode cX2_vocabulary 7 = .ok (.istore_n 2, 1) := dk_61 (dk_at dksX2_vocabulary_0 7 rfl rfl)
theorem dX2_vocabulary_8 : decode cX2_vocabulary 8 = .ok (.iload_n 2, 1) := dk_28 (dk_at dksX2_vocabulary_0 8 rfl rfl)
theorem dX2_vocabulary_9 : decode cX2_vocabulary 9 = .ok (.aload_n 0, 1) := dk_42 (dk_at dksX2_vocabulary_0 9 rfl rfl)
theorem dX2_vocabulary_10 : decode cX2_vocabulary 10 = .ok (.getfield 98, 3) := dk_180 0 98 (dk_at dksX2_vocabulary_0 10 rfl rfl)
theorem dX2_vocabulary_13 : decode cX2_vocabulary 13 = .ok (.if_icmp .ge 25, 3) := dk_162 0 25 (dk_at dksX2_vocabulary_0 13 rfl rfl)
theorem dX2_vocabulary_16 : decode cX2_vocabulary 16 = .ok (.iload_n 1, 1) := dk_27 (dk_at dksX2_vocabulary_0 16 rfl rfl)
theorem dX2_vocabulary_17 : decode cX2_vocabulary 17 = .ok (.aload_n 0, 1) := dk_42 (dk_at dksX2_vocabulary_0 17 rfl rfl)
theorem dX2_vocabulary_18 : decode cX2_vocabulary 18 = .ok (.iload_n 2, 1) := dk_28 (dk_at dksX2_vocabulary_0 18 rfl rfl)
theorem dX2_vocabulary_19 : decode cX2_vocabulary 19 = .ok (.invokevirtual 289, 3) := dk_182 1 33 (dk_at dksX2_vocabulary_0 19 rfl rfl)
theorem dX2_vocabulary_22 : decode cX2_vocabulary 22 = .ok (.ifCond .eq 7, 3) := dk_153 0 7 (dk_at dksX2_vocabulary_1 0 rfl rfl)
theorem dX2_vocabulary_25 : decode cX2_vocabulary 25 = .ok (.iconst 1, 1) := dk_4 (dk_at dksX2_vocabulary_1 3 rfl rfl)
theorem dX2_vocabulary_26 : decode cX2_vocabulary 26 = .ok (.goto 4, 3) := dk_167 0 4 (dk_at dksX2_vocabulary_1 4 rfl rfl)
theorem dX2_vocabulary_29 : decode cX2_vocabulary 29 = .ok (.iconst 0, 1) := dk_3 (dk_at dksX2_vocabulary_1 7 rfl rfl)
theorem dX2_vocabulary_30 : decode cX2_vocabulary 30 = .ok (.iadd, 1) := dk_96 (dk_at dksX2_vocabulary_1 8 rfl rfl)
theorem dX2_vocabulary_31 : decode cX2_vocabulary 31 = .ok (.istore_n 1, 1) := dk_60 (dk_at dksX2_vocabulary_1 9 rfl rfl)
theorem dX2_vocabulary_32 : decode cX2_vocabulary 32 = .ok (.iinc 2 1, 3) := dk_132 2 1 (dk_at dksX2_vocabulary_1 10 rfl rfl)
theorem dX2_vocabulary_35 : decode cX2_vocabulary 35 = .ok (.goto (-27), 3) := dk_167 255 229 (dk_at dksX2_vocabulary_1 13 rfl rfl)
theorem dX2_vocabulary_38 : decode cX2_vocabulary 38 = .ok (.iload_n 1, 1) := dk_27 (dk_at dksX2_vocabulary_1 16 rfl rfl)
theorem dX2_vocabulary_39 : decode cX2_vocabulary 39 = .ok (.ireturn, 1) := dk_172 (dk_at dksX2_vocabulary_1 17 rfl rfl)
abbrev cX2_isFirst : ByteArray := prog_10_method_97_code
def yX2_isFirst : MethodName := ⟨RX2, "isFirst", "(I)Z"⟩
def dkwX2_isFirst_2 : List UInt8 := [28, 172]
abbrev dktX2_isFirst_2 : List UInt8 := dkwX2_isFirst_2 ++ []
def dkwX2_isFirst_1 : List UInt8 := [153, 0, 24, 42, 27, 29, 182, 1, 30, 154, 0, 7, 4, 167, 0, 4, 3, 61, 132, 3, 1, 167, 255, 229]
abbrev dktX2_isFirst_1 : List UInt8 := dkwX2_isFirst_1 ++ dktX2_isFirst_2
def dkwX2_isFirst_0 : List UInt8 := [42, 180, 0, 29, 27, 46, 5, 162, 0, 7, 4, 167, 0, 4, 3, 61, 3, 62, 29, 27, 162, 0, 28, 28]
abbrev dktX2_isFirst_0 : List UInt8 := dkwX2_isFirst_0 ++ dktX2_isFirst_1
theorem dksX2_isFirst_0 : cX2_isFirst.data.toList.drop 0 = dktX2_isFirst_0 := by decide +kernel
theorem dksX2_isFirst_1 : cX2_isFirst.data.toList.drop 24 = dktX2_isFirst_1 := dk_seg dksX2_isFirst_0 24 rfl rfl
theorem dksX2_isFirst_2 : cX2_isFirst.data.toList.drop 48 = dktX2_isFirst_2 := dk_seg dksX2_isFirst_1 24 rfl rfl
theorem dX2_isFirst_0 : decode cX2_isFirst 0 = .ok (.aload_n 0, 1) := dk_42 (dk_at dksX2_isFirst_0 0 rfl rfl)
theorem dX2_isFirst_1 : decode cX2_isFirst 1 = .ok (.getfield 29, 3) := dk_180 0 29 (dk_at dksX2_isFirst_0 1 rfl rfl)
theorem dX2_isFirst_4 : decode cX2_isFirst 4 = .ok (.iload_n 1, 1) := dk_27 (dk_at dksX2_isFirst_0 4 rfl rfl)
theorem dX2_isFirst_5 : decode cX2_isFirst 5 = .ok (.iaload, 1) := dk_46 (dk_at dksX2_isFirst_0 5 rfl rfl)
theorem dX2_isFirst_6 : decode cX2_isFirst 6 = .ok (.iconst 2, 1) := dk_5 (dk_at dksX2_isFirst_0 6 rfl rfl)
theorem dX2_isFirst_7 : decode cX2_isFirst 7 = .ok (.if_icmp .ge 7, 3) := dk_162 0 7 (dk_at dksX2_isFirst_0 7 rfl rfl)
theorem dX2_isFirst_10 : decode cX2_isFirst 10 = .ok (.iconst 1, 1) := dk_4 (dk_at dksX2_isFirst_0 10 rfl rfl)
theorem dX2_isFirst_11 : decode cX2_isFirst 11 = .ok (.goto 4, 3) := dk_167 0 4 (dk_at dksX2_isFirst_0 11 rfl rfl)
theorem dX2_isFirst_14 : decode cX2_isFirst 14 = .ok (.iconst 0, 1) := dk_3 (dk_at dksX2_isFirst_0 14 rfl rfl)
theorem dX2_isFirst_15 : decode cX2_isFirst 15 = .ok (.istore_n 2, 1) := dk_61 (dk_at dksX2_isFirst_0 15 rfl rfl)
theorem dX2_isFirst_16 : decode cX2_isFirst 16 = .ok (.iconst 0, 1) := dk_3 (dk_at dksX2_isFirst_0 16 rfl rfl)
theorem dX2_isFirst_17 : decode cX2_isFirst 17 = .ok (.istore_n 3, 1) := dk_62 (dk_at dksX2_isFirst_0 17 rfl rfl)
theorem dX2_isFirst_18 : decode cX2_isFirst 18 = .ok (.iload_n 3, 1) := dk_29 (dk_at dksX2_isFirst_0 18 rfl rfl)
theorem dX2_isFirst_19 : decode cX2_isFirst 19 = .ok (.iload_n 1, 1) := dk_27 (dk_at dksX2_isFirst_0 19 rfl rfl)
theorem dX2_isFirst_20 : decode cX2_isFirst 20 = .ok (.if_icmp .ge 28, 3) := dk_162 0 28 (dk_at dksX2_isFirst_0 20 rfl rfl)
theorem dX2_isFirst_23 : decode cX2_isFirst 23 = .ok (.iload_n 2, 1) := dk_28 (dk_at dksX2_isFirst_0 23 rfl rfl)
theorem dX2_isFirst_24 : decode cX2_isFirst 24 = .ok (.ifCond .eq 24, 3) := dk_153 0 24 (dk_at dksX2_isFirst_1 0 rfl rfl)
theorem dX2_isFirst_27 : decode cX2_isFirst 27 = .ok (.aload_n 0, 1) := dk_42 (dk_at dksX2_isFirst_1 3 rfl rfl)
theorem dX2_isFirst_28 : decode cX2_isFirst 28 = .ok (.iload_n 1, 1) := dk_27 (dk_at dksX2_isFirst_1 4 rfl rfl)
theorem dX2_isFirst_29 : decode cX2_isFirst 29 = .ok (.iload_n 3, 1) := dk_29 (dk_at dksX2_isFirst_1 5 rfl rfl)
theorem dX2_isFirst_30 : decode cX2_isFirst 30 = .ok (.invokevirtual 286, 3) := dk_182 1 30 (dk_at dksX2_isFirst_1 6 rfl rfl)
theorem dX2_isFirst_33 : decode cX2_isFirst 33 = .ok (.ifCond .ne 7, 3) := dk_154 0 7 (dk_at dksX2_isFirst_1 9 rfl rfl)
theorem dX2_isFirst_36 : decode cX2_isFirst 36 = .ok (.iconst 1, 1) := dk_4 (dk_at dksX2_isFirst_1 12 rfl rfl)
theorem dX2_isFirst_37 : decode cX2_isFirst 37 = .ok (.goto 4, 3) := dk_167 0 4 (dk_at dksX2_isFirst_1 13 rfl rfl)
theorem dX2_isFirst_40 : decode cX2_isFirst 40 = .ok (.iconst 0, 1) := dk_3 (dk_at dksX2_isFirst_1 16 rfl rfl)
theorem dX2_isFirst_41 : decode cX2_isFirst 41 = .ok (.istore_n 2, 1) := dk_61 (dk_at dksX2_isFirst_1 17 rfl rfl)
theorem dX2_isFirst_42 : decode cX2_isFirst 42 = .ok (.iinc 3 1, 3) := dk_132 3 1 (dk_at dksX2_isFirst_1 18 rfl rfl)
theorem dX2_isFirst_45 : decode cX2_isFirst 45 = .ok (.goto (-27), 3) := dk_167 255 229 (dk_at dksX2_isFirst_1 21 rfl rfl)
theorem dX2_isFirst_48 : decode cX2_isFirst 48 = .ok (.iload_n 2, 1) := dk_28 (dk_at dksX2_isFirst_2 0 rfl rfl)
theorem dX2_isFirst_49 : decode cX2_isFirst 49 = .ok (.ireturn, 1) := dk_172 (dk_at dksX2_isFirst_2 1 rfl rfl)
abbrev cX2_isSame : ByteArray := prog_10_method_96_code
def yX2_isSame : MethodName := ⟨RX2, "isSame", "(II)Z"⟩
def dkwX2_isSame_4 : List UInt8 := [160, 0, 7, 4, 167, 0, 4, 3, 62, 132, 4, 1, 167, 255, 191, 29, 172]
abbrev dktX2_isSame_4 : List UInt8 := dkwX2_isSame_4 ++ []
def dkwX2_isSame_3 : List UInt8 := [182, 0, 83, 42, 42, 180, 0, 20, 28, 46, 42, 180, 0, 23, 28, 46, 21, 4, 96, 182, 0, 83]
abbrev dktX2_isSame_3 : List UInt8 := dkwX2_isSame_3 ++ dktX2_isSame_4
def dkwX2_isSame_2 : List UInt8 := [46, 162, 0, 60, 29, 153, 0, 56, 42, 42, 180, 0, 20, 27, 46, 42, 180, 0, 23, 27, 46, 21, 4, 96]
abbrev dktX2_isSame_2 : List UInt8 := dkwX2_isSame_2 ++ dktX2_isSame_3
def dkwX2_isSame_1 : List UInt8 := [180, 0, 26, 28, 46, 160, 0, 7, 4, 167, 0, 4, 3, 62, 3, 54, 4, 21, 4, 42, 180, 0, 26, 27]
abbrev dktX2_isSame_1 : List UInt8 := dkwX2_isSame_1 ++ dktX2_isSame_2
def dkwX2_isSame_0 : List UInt8 := [42, 180, 0, 29, 27, 46, 42, 180, 0, 29, 28, 46, 160, 0, 22, 42, 180, 0, 26, 27, 46, 42]
abbrev dktX2_isSame_0 : List UInt8 := dkwX2_isSame_0 ++ dktX2_isSame_1
theorem dksX2_isSame_0 : cX2_isSame.data.toList.drop 0 = dktX2_isSame_0 := by decide +kernel
theorem dksX2_isSame_1 : cX2_isSame.data.toList.drop 22 = dktX2_isSame_1 := dk_seg dksX2_isSame_0 22 rfl rfl
theorem dksX2_isSame_2 : cX2_isSame.data.toList.drop 46 = dktX2_isSame_2 := dk_seg dksX2_isSame_1 24 rfl rfl
theorem dksX2_isSame_3 : cX2_isSame.data.toList.drop 70 = dktX2_isSame_3 := dk_seg dksX2_isSame_2 24 rfl rfl
theorem dksX2_isSame_4 : cX2_isSame.data.toList.drop 92 = dktX2_isSame_4 := dk_seg dksX2_isSame_3 22 rfl rfl
theorem dX2_isSame_0 : decode cX2_isSame 0 = .ok (.aload_n 0, 1) := dk_42 (dk_at dksX2_isSame_0 0 rfl rfl)
theorem dX2_isSame_1 : decode cX2_isSame 1 = .ok (.getfield 29, 3) := dk_180 0 29 (dk_at dksX2_isSame_0 1 rfl rfl)
theorem dX2_isSame_4 : decode cX2_isSame 4 = .ok (.iload_n 1, 1) := dk_27 (dk_at dksX2_isSame_0 4 rfl rfl)
theorem dX2_isSame_5 : decode cX2_isSame 5 = .ok (.iaload, 1) := dk_46 (dk_at dksX2_isSame_0 5 rfl rfl)
theorem dX2_isSame_6 : decode cX2_isSame 6 = .ok (.aload_n 0, 1) := dk_42 (dk_at dksX2_isSame_0 6 rfl rfl)
theorem dX2_isSame_7 : decode cX2_isSame 7 = .ok (.getfield 29, 3) := dk_180 0 29 (dk_at dksX2_isSame_0 7 rfl rfl)
theorem dX2_isSame_10 : decode cX2_isSame 10 = .ok (.iload_n 2, 1) := dk_28 (dk_at dksX2_isSame_0 10 rfl rfl)
theorem dX2_isSame_11 : decode cX2_isSame 11 = .ok (.iaload, 1) := dk_46 (dk_at dksX2_isSame_0 11 rfl rfl)
theorem dX2_isSame_12 : decode cX2_isSame 12 = .ok (.if_icmp .ne 22, 3) := dk_160 0 22 (dk_at dksX2_isSame_0 12 rfl rfl)
theorem dX2_isSame_15 : decode cX2_isSame 15 = .ok (.aload_n 0, 1) := dk_42 (dk_at dksX2_isSame_0 15 rfl rfl)
theorem dX2_isSame_16 : decode cX2_isSame 16 = .ok (.getfield 26, 3) := dk_180 0 26 (dk_at dksX2_isSame_0 16 rfl rfl)
theorem dX2_isSame_19 : decode cX2_isSame 19 = .ok (.iload_n 1, 1) := dk_27 (dk_at dksX2_isSame_0 19 rfl rfl)
theorem dX2_isSame_20 : decode cX2_isSame 20 = .ok (.iaload, 1) := dk_46 (dk_at dksX2_isSame_0 20 rfl rfl)
theorem dX2_isSame_21 : decode cX2_isSame 21 = .ok (.aload_n 0, 1) := dk_42 (dk_at dksX2_isSame_0 21 rfl rfl)
theorem dX2_isSame_22 : decode cX2_isSame 22 = .ok (.getfield 26, 3) := dk_180 0 26 (dk_at dksX2_isSame_1 0 rfl rfl)
theorem dX2_isSame_25 : decode cX2_isSame 25 = .ok (.iload_n 2, 1) := dk_28 (dk_at dksX2_isSame_1 3 rfl rfl)
theorem dX2_isSame_26 : decode cX2_isSame 26 = .ok (.iaload, 1) := dk_46 (dk_at dksX2_isSame_1 4 rfl rfl)
theorem dX2_isSame_27 : decode cX2_isSame 27 = .ok (.if_icmp .ne 7, 3) := dk_160 0 7 (dk_at dksX2_isSame_1 5 rfl rfl)
theorem dX2_isSame_30 : decode cX2_isSame 30 = .ok (.iconst 1, 1) := dk_4 (dk_at dksX2_isSame_1 8 rfl rfl)
theorem dX2_isSame_31 : decode cX2_isSame 31 = .ok (.goto 4, 3) := dk_167 0 4 (dk_at dksX2_isSame_1 9 rfl rfl)
theorem dX2_isSame_34 : decode cX2_isSame 34 = .ok (.iconst 0, 1) := dk_3 (dk_at dksX2_isSame_1 12 rfl rfl)
theorem dX2_isSame_35 : decode cX2_isSame 35 = .ok (.istore_n 3, 1) := dk_62 (dk_at dksX2_isSame_1 13 rfl rfl)
theorem dX2_isSame_36 : decode cX2_isSame 36 = .ok (.iconst 0, 1) := dk_3 (dk_at dksX2_isSame_1 14 rfl rfl)
theorem dX2_isSame_37 : decode cX2_isSame 37 = .ok (.istore 4, 2) := dk_54 4 (dk_at dksX2_isSame_1 15 rfl rfl)
theorem dX2_isSame_39 : decode cX2_isSame 39 = .ok (.iload 4, 2) := dk_21 4 (dk_at dksX2_isSame_1 17 rfl rfl)
theorem dX2_isSame_41 : decode cX2_isSame 41 = .ok (.aload_n 0, 1) := dk_42 (dk_at dksX2_isSame_1 19 rfl rfl)
theorem dX2_isSame_42 : decode cX2_isSame 42 = .ok (.getfield 26, 3) := dk_180 0 26 (dk_at dksX2_isSame_1 20 rfl rfl)
theorem dX2_isSame_45 : decode cX2_isSame 45 = .ok (.iload_n 1, 1) := dk_27 (dk_at dksX2_isSame_1 23 rfl rfl)
theorem dX2_isSame_46 : decode cX2_isSame 46 = .ok (.iaload, 1) := dk_46 (dk_at dksX2_isSame_2 0 rfl rfl)
theorem dX2_isSame_47 : decode cX2_isSame 47 = .ok (.if_icmp .ge 60, 3) := dk_162 0 60 (dk_at dksX2_isSame_2 1 rfl rfl)
theorem dX2_isSame_50 : decode cX2_isSame 50 = .ok (.iload_n 3, 1) := dk_29 (dk_at dksX2_isSame_2 4 rfl rfl)
theorem dX2_isSame_51 : decode cX2_isSame 51 = .ok (.ifCond .eq 56, 3) := dk_153 0 56 (dk_at dksX2_isSame_2 5 rfl rfl)
theorem dX2_isSame_54 : decode cX2_isSame 54 = .ok (.aload_n 0, 1) := dk_42 (dk_at dksX2_isSame_2 8 rfl rfl)
theorem dX2_isSame_55 : decode cX2_isSame 55 = .ok (.aload_n 0, 1) := dk_42 (dk_at dksX2_isSame_2 9 rfl rfl)
theorem dX2_isSame_56 : decode cX2_isSame 56 = .ok (.getfield 20, 3) := dk_180 0 20 (dk_at dksX2_isSame_2 10 rfl rfl)
theorem dX2_isSame_59 : decode cX2_isSame 59 = .ok (.iload_n 1, 1) := dk_27 (dk_at dksX2_isSame_2 13 rfl rfl)
theorem dX2_isSame_60 : decode cX2_isSame 60 = .ok (.iaload, 1) := dk_46 (dk_at dksX2_isSame_2 14 rfl rfl)
theorem dX2_isSame_61 : decode cX2_isSame 61 = .ok (.aload_n 0, 1) := dk_42 (dk_at dksX2_isSame_2 15 rfl rfl)
theorem dX2_isSame_62 : decode cX2_isSame 62 = .ok (.getfield 23, 3) := dk_180 0 23 (dk_at dksX2_isSame_2 16 rfl rfl)
theorem dX2_isSame_65 : decode cX2_isSame 65 = .ok (.iload_n 1, 1) := dk_27 (dk_at dksX2_isSame_2 19 rfl rfl)
theorem dX2_isSame_66 : decode cX2_isSame 66 = .ok (.iaload, 1) := dk_46 (dk_at dksX2_isSame_2 20 rfl rfl)
theorem dX2_isSame_67 : decode cX2_isSame 67 = .ok (.iload 4, 2) := dk_21 4 (dk_at dksX2_isSame_2 21 rfl rfl)
theorem dX2_isSame_69 : decode cX2_isSame 69 = .ok (.iadd, 1) := dk_96 (dk_at dksX2_isSame_2 23 rfl rfl)
theorem dX2_isSame_70 : decode cX2_isSame 70 = .ok (.invokevirtual 83, 3) := dk_182 0 83 (dk_at dksX2_isSame_3 0 rfl rfl)
theorem dX2_isSame_73 : decode cX2_isSame 73 = .ok (.aload_n 0, 1) := dk_42 (dk_at dksX2_isSame_3 3 rfl rfl)
theorem dX2_isSame_74 : decode cX2_isSame 74 = .ok (.aload_n 0, 1) := dk_42 (dk_at dksX2_isSame_3 4 rfl rfl)
theorem dX2_isSame_75 : decode cX2_isSame 75 = .ok (.getfield 20, 3) := dk_180 0 20 (dk_at dksX2_isSame_3 5 rfl rfl)
theorem dX2_isSame_78 : decode cX2_isSame 78 = .ok (.iload_n 2, 1) := dk_28 (dk_at dksX2_isSame_3 8 rfl rfl)
theorem dX2_isSame_79 : decode cX2_isSame 79 = .ok (.iaload, 1) := dk_46 (dk_at dksX2_isSame_3 9 rfl rfl)
theorem dX2_isSame_80 : decode cX2_isSame 80 = .ok (.aload_n 0, 1) := dk_42 (dk_at dksX2_isSame_3 10 rfl rfl)
theorem dX2_isSame_81 : decode cX2_isSame 81 = .ok (.getfield 23, 3) := dk_180 0 23 (dk_at dksX2_isSame_3 11 rfl rfl)
theorem dX2_isSame_84 : decode cX2_isSame 84 = .ok (.iload_n 2, 1) := dk_28 (dk_at dksX2_isSame_3 14 rfl rfl)
theorem dX2_isSame_85 : decode cX2_isSame 85 = .ok (.iaload, 1) := dk_46 (dk_at dksX2_isSame_3 15 rfl rfl)
theorem dX2_isSame_86 : decode cX2_isSame 86 = .ok (.iload 4, 2) := dk_21 4 (dk_at dksX2_isSame_3 16 rfl rfl)
theorem dX2_isSame_88 : decode cX2_isSame 88 = .ok (.iadd, 1) := dk_96 (dk_at dksX2_isSame_3 18 rfl rfl)
theorem dX2_isSame_89 : decode cX2_isSame 89 = .ok (.invokevirtual 83, 3) := dk_182 0 83 (dk_at dksX2_isSame_3 19 rfl rfl)
theorem dX2_isSame_92 : decode cX2_isSame 92 = .ok (.if_icmp .ne 7, 3) := dk_160 0 7 (dk_at dksX2_isSame_4 0 rfl rfl)
theorem dX2_isSame_95 : decode cX2_isSame 95 = .ok (.iconst 1, 1) := dk_4 (dk_at dksX2_isSame_4 3 rfl rfl)
theorem dX2_isSame_96 : decode cX2_isSame 96 = .ok (.goto 4, 3) := dk_167 0 4 (dk_at dksX2_isSame_4 4 rfl rfl)
theorem dX2_isSame_99 : decode cX2_isSame 99 = .ok (.iconst 0, 1) := dk_3 (dk_at dksX2_isSame_4 7 rfl rfl)
theorem dX2_isSame_100 : decode cX2_isSame 100 = .ok (.istore_n 3, 1) := dk_62 (dk_at dksX2_isSame_4 8 rfl rfl)
theorem dX2_isSame_101 : decode cX2_isSame 101 = .ok (.iinc 4 1, 3) := dk_132 4 1 (dk_at dksX2_isSame_4 9 rfl rfl)
theorem dX2_isSame_104 : decode cX2_isSame 104 = .ok (.goto (-65), 3) := dk_167 255 191 (dk_at dksX2_isSame_4 12 rfl rfl)
theorem dX2_isSame_107 : decode cX2_isSame 107 = .ok (.iload_n 3, 1) := dk_29 (dk_at dksX2_isSame_4 15 rfl rfl)
theorem dX2_isSame_108 : decode cX2_isSame 108 = .ok (.ireturn, 1) := dk_172 (dk_at dksX2_isSame_4 16 rfl rfl)
abbrev cX2_commonestCount : ByteArray := prog_10_method_100_code
def yX2_commonestCount : MethodName := ⟨RX2, "commonestCount", "()I"⟩
def dkwX2_commonestCount_0 : List UInt8 := [42, 182, 1, 39, 16, 247, 160, 0, 8, 16, 247, 167, 0, 7, 42, 180, 1, 36, 172]
abbrev dktX2_commonestCount_0 : List UInt8 := dkwX2_commonestCount_0 ++ []
theorem dksX2_commonestCount_0 : cX2_commonestCount.data.toList.drop 0 = dktX2_commonestCount_0 := by decide +kernel
theorem dX2_commonestCount_0 : decode cX2_commonestCount 0 = .ok (.aload_n 0, 1) := dk_42 (dk_at dksX2_commonestCount_0 0 rfl rfl)
theorem dX2_commonestCount_1 : decode cX2_commonestCount 1 = .ok (.invokevirtual 295, 3) := dk_182 1 39 (dk_at dksX2_commonestCount_0 1 rfl rfl)
theorem dX2_commonestCount_4 : decode cX2_commonestCount 4 = .ok (.bipush (-9), 2) := dk_16 247 (dk_at dksX2_commonestCount_0 4 rfl rfl)
theorem dX2_commonestCount_6 : decode cX2_commonestCount 6 = .ok (.if_icmp .ne 8, 3) := dk_160 0 8 (dk_at dksX2_commonestCount_0 6 rfl rfl)
theorem dX2_commonestCount_9 : decode cX2_commonestCount 9 = .ok (.bipush (-9), 2) := dk_16 247 (dk_at dksX2_commonestCount_0 9 rfl rfl)
theorem dX2_commonestCount_11 : decode cX2_commonestCount 11 = .ok (.goto 7, 3) := dk_167 0 7 (dk_at dksX2_commonestCount_0 11 rfl rfl)
theorem dX2_commonestCount_14 : decode cX2_commonestCount 14 = .ok (.aload_n 0, 1) := dk_42 (dk_at dksX2_commonestCount_0 14 rfl rfl)
theorem dX2_commonestCount_15 : decode cX2_commonestCount 15 = .ok (.getfield 292, 3) := dk_180 1 36 (dk_at dksX2_commonestCount_0 15 rfl rfl)
theorem dX2_commonestCount_18 : decode cX2_commonestCount 18 = .ok (.ireturn, 1) := dk_172 (dk_at dksX2_commonestCount_0 18 rfl rfl)
abbrev cX2_commonest : ByteArray := prog_10_method_99_code
def yX2_commonest : MethodName := ⟨RX2, "commonest", "()I"⟩
def dkwX2_commonest_4 : List UInt8 := [167, 0, 7, 42, 180, 1, 36, 181, 1, 36, 132, 2, 1, 167, 255, 165, 27, 172]
abbrev dktX2_commonest_4 : List UInt8 := dkwX2_commonest_4 ++ []
def dkwX2_commonest_3 : List UInt8 := [180, 1, 36, 164, 0, 7, 28, 167, 0, 4, 27, 60, 42, 29, 42, 180, 1, 36, 164, 0, 7, 29]
abbrev dktX2_commonest_3 : List UInt8 := dkwX2_commonest_3 ++ dktX2_commonest_4
def dkwX2_commonest_2 : List UInt8 := [21, 4, 182, 1, 30, 153, 0, 7, 4, 167, 0, 4, 3, 96, 62, 132, 4, 1, 167, 255, 226, 29, 42]
abbrev dktX2_commonest_2 : List UInt8 := dkwX2_commonest_2 ++ dktX2_commonest_3
def dkwX2_commonest_1 : List UInt8 := [42, 28, 182, 1, 33, 153, 0, 39, 28, 54, 4, 21, 4, 42, 180, 0, 98, 162, 0, 27, 29, 42, 28]
abbrev dktX2_commonest_1 : List UInt8 := dkwX2_commonest_1 ++ dktX2_commonest_2
def dkwX2_commonest_0 : List UInt8 := [42, 182, 0, 138, 16, 247, 60, 42, 3, 181, 1, 36, 3, 61, 28, 42, 180, 0, 98, 162, 0, 89, 3, 62]
abbrev dktX2_commonest_0 : List UInt8 := dkwX2_commonest_0 ++ dktX2_commonest_1
theorem dksX2_commonest_0 : cX2_commonest.data.toList.drop 0 = dktX2_commonest_0 := by decide +kernel
theorem dksX2_commonest_1 : cX2_commonest.data.toList.drop 24 = dktX2_commonest_1 := dk_seg dksX2_commonest_0 24 rfl rfl
theorem dksX2_commonest_2 : cX2_commonest.data.toList.drop 47 = dktX2_commonest_2 := dk_seg dksX2_commonest_1 23 rfl rfl
theorem dksX2_commonest_3 : cX2_commonest.data.toList.drop 70 = dktX2_commonest_3 := dk_seg dksX2_commonest_2 23 rfl rfl
theorem dksX2_commonest_4 : cX2_commonest.data.toList.drop 92 = dktX2_commonest_4 := dk_seg dksX2_commonest_3 22 rfl rfl
theorem dX2_commonest_0 : decode cX2_commonest 0 = .ok (.aload_n 0, 1) := dk_42 (dk_at dksX2_commonest_0 0 rfl rfl)
theorem dX2_commonest_1 : decode cX2_commonest 1 = .ok (.invokevirtual 138, 3) := dk_182 0 138 (dk_at dksX2_commonest_0 1 rfl rfl)
theorem dX2_commonest_4 : decode cX2_commonest 4 = .ok (.bipush (-9), 2) := dk_16 247 (dk_at dksX2_commonest_0 4 rfl rfl)
theorem dX2_commonest_6 : decode cX2_commonest 6 = .ok (.istore_n 1, 1) := dk_60 (dk_at dksX2_commonest_0 6 rfl rfl)
theorem dX2_commonest_7 : decode cX2_commonest 7 = .ok (.aload_n 0, 1) := dk_42 (dk_at dksX2_commonest_0 7 rfl rfl)
theorem dX2_commonest_8 : decode cX2_commonest 8 = .ok (.iconst 0, 1) := dk_3 (dk_at dksX2_commonest_0 8 rfl rfl)
theorem dX2_commonest_9 : decode cX2_commonest 9 = .ok (.putfield 292, 3) := dk_181 1 36 (dk_at dksX2_commonest_0 9 rfl rfl)
theorem dX2_commonest_12 : decode cX2_commonest 12 = .ok (.iconst 0, 1) := dk_3 (dk_at dksX2_commonest_0 12 rfl rfl)
theorem dX2_commonest_13 : decode cX2_commonest 13 = .ok (.istore_n 2, 1) := dk_61 (dk_at dksX2_commonest_0 13 rfl rfl)
theorem dX2_commonest_14 : decode cX2_commonest 14 = .ok (.iload_n 2, 1) := dk_28 (dk_at dksX2_commonest_0 14 rfl rfl)
theorem dX2_commonest_15 : decode cX2_commonest 15 = .ok (.aload_n 0, 1) := dk_42 (dk_at dksX2_commonest_0 15 rfl rfl)
theorem dX2_commonest_16 : decode cX2_commonest 16 = .ok (.getfield 98, 3) := dk_180 0 98 (dk_at dksX2_commonest_0 16 rfl rfl)
theorem dX2_commonest_19 : decode cX2_commonest 19 = .ok (.if_icmp .ge 89, 3) := dk_162 0 89 (dk_at dksX2_commonest_0 19 rfl rfl)
theorem dX2_commonest_22 : decode cX2_commonest 22 = .ok (.iconst 0, 1) := dk_3 (dk_at dksX2_commonest_0 22 rfl rfl)
theorem dX2_commonest_23 : decode cX2_commonest 23 = .ok (.istore_n 3, 1) := dk_62 (dk_at dksX2_commonest_0 23 rfl rfl)
theorem dX2_commonest_24 : decode cX2_commonest 24 = .ok (.aload_n 0, 1) := dk_42 (dk_at dksX2_commonest_1 0 rfl rfl)
theorem dX2_commonest_25 : decode cX2_commonest 25 = .ok (.iload_n 2, 1) := dk_28 (dk_at dksX2_commonest_1 1 rfl rfl)
theorem dX2_commonest_26 : decode cX2_commonest 26 = .ok (.invokevirtual 289, 3) := dk_182 1 33 (dk_at dksX2_commonest_1 2 rfl rfl)
theorem dX2_commonest_29 : decode cX2_commonest 29 = .ok (.ifCond .eq 39, 3) := dk_153 0 39 (dk_at dksX2_commonest_1 5 rfl rfl)
theorem dX2_commonest_32 : decode cX2_commonest 32 = .ok (.iload_n 2, 1) := dk_28 (dk_at dksX2_commonest_1 8 rfl rfl)
theorem dX2_commonest_33 : decode cX2_commonest 33 = .ok (.istore 4, 2) := dk_54 4 (dk_at dksX2_commonest_1 9 rfl rfl)
theorem dX2_commonest_35 : decode cX2_commonest 35 = .ok (.iload 4, 2) := dk_21 4 (dk_at dksX2_commonest_1 11 rfl rfl)
theorem dX2_commonest_37 : decode cX2_commonest 37 = .ok (.aload_n 0, 1) := dk_42 (dk_at dksX2_commonest_1 13 rfl rfl)
theorem dX2_commonest_38 : decode cX2_commonest 38 = .ok (.getfield 98, 3) := dk_180 0 98 (dk_at dksX2_commonest_1 14 rfl rfl)
theorem dX2_commonest_41 : decode cX2_commonest 41 = .ok (.if_icmp .ge 27, 3) := dk_162 0 27 (dk_at dksX2_commonest_1 17 rfl rfl)
theorem dX2_commonest_44 : decode cX2_commonest 44 = .ok (.iload_n 3, 1) := dk_29 (dk_at dksX2_commonest_1 20 rfl rfl)
theorem dX2_commonest_45 : decode cX2_commonest 45 = .ok (.aload_n 0, 1) := dk_42 (dk_at dksX2_commonest_1 21 rfl rfl)
theorem dX2_commonest_46 : decode cX2_commonest 46 = .ok (.iload_n 2, 1) := dk_28 (dk_at dksX2_commonest_1 22 rfl rfl)
theorem dX2_commonest_47 : decode cX2_commonest 47 = .ok (.iload 4, 2) := dk_21 4 (dk_at dksX2_commonest_2 0 rfl rfl)
theorem dX2_commonest_49 : decode cX2_commonest 49 = .ok (.invokevirtual 286, 3) := dk_182 1 30 (dk_at dksX2_commonest_2 2 rfl rfl)
theorem dX2_commonest_52 : decode cX2_commonest 52 = .ok (.ifCond .eq 7, 3) := dk_153 0 7 (dk_at dksX2_commonest_2 5 rfl rfl)
theorem dX2_commonest_55 : decode cX2_commonest 55 = .ok (.iconst 1, 1) := dk_4 (dk_at dksX2_commonest_2 8 rfl rfl)
theorem dX2_commonest_56 : decode cX2_commonest 56 = .ok (.goto 4, 3) := dk_167 0 4 (dk_at dksX2_commonest_2 9 rfl rfl)
theorem dX2_commonest_59 : decode cX2_commonest 59 = .ok (.iconst 0, 1) := dk_3 (dk_at dksX2_commonest_2 12 rfl rfl)
theorem dX2_commonest_60 : decode cX2_commonest 60 = .ok (.iadd, 1) := dk_96 (dk_at dksX2_commonest_2 13 rfl rfl)
theorem dX2_commonest_61 : decode cX2_commonest 61 = .ok (.istore_n 3, 1) := dk_62 (dk_at dksX2_commonest_2 14 rfl rfl)
theorem dX2_commonest_62 : decode cX2_commonest 62 = .ok (.iinc 4 1, 3) := dk_132 4 1 (dk_at dksX2_commonest_2 15 rfl rfl)
theorem dX2_commonest_65 : decode cX2_commonest 65 = .ok (.goto (-30), 3) := dk_167 255 226 (dk_at dksX2_commonest_2 18 rfl rfl)
theorem dX2_commonest_68 : decode cX2_commonest 68 = .ok (.iload_n 3, 1) := dk_29 (dk_at dksX2_commonest_2 21 rfl rfl)
theorem dX2_commonest_69 : decode cX2_commonest 69 = .ok (.aload_n 0, 1) := dk_42 (dk_at dksX2_commonest_2 22 rfl rfl)
theorem dX2_commonest_70 : decode cX2_commonest 70 = .ok (.getfield 292, 3) := dk_180 1 36 (dk_at dksX2_commonest_3 0 rfl rfl)
theorem dX2_commonest_73 : decode cX2_commonest 73 = .ok (.if_icmp .le 7, 3) := dk_164 0 7 (dk_at dksX2_commonest_3 3 rfl rfl)
theorem dX2_commonest_76 : decode cX2_commonest 76 = .ok (.iload_n 2, 1) := dk_28 (dk_at dksX2_commonest_3 6 rfl rfl)
theorem dX2_commonest_77 : decode cX2_commonest 77 = .ok (.goto 4, 3) := dk_167 0 4 (dk_at dksX2_commonest_3 7 rfl rfl)
theorem dX2_commonest_80 : decode cX2_commonest 80 = .ok (.iload_n 1, 1) := dk_27 (dk_at dksX2_commonest_3 10 rfl rfl)
theorem dX2_commonest_81 : decode cX2_commonest 81 = .ok (.istore_n 1, 1) := dk_60 (dk_at dksX2_commonest_3 11 rfl rfl)
theorem dX2_commonest_82 : decode cX2_commonest 82 = .ok (.aload_n 0, 1) := dk_42 (dk_at dksX2_commonest_3 12 rfl rfl)
theorem dX2_commonest_83 : decode cX2_commonest 83 = .ok (.iload_n 3, 1) := dk_29 (dk_at dksX2_commonest_3 13 rfl rfl)
theorem dX2_commonest_84 : decode cX2_commonest 84 = .ok (.aload_n 0, 1) := dk_42 (dk_at dksX2_commonest_3 14 rfl rfl)
theorem dX2_commonest_85 : decode cX2_commonest 85 = .ok (.getfield 292, 3) := dk_180 1 36 (dk_at dksX2_commonest_3 15 rfl rfl)
theorem dX2_commonest_88 : decode cX2_commonest 88 = .ok (.if_icmp .le 7, 3) := dk_164 0 7 (dk_at dksX2_commonest_3 18 rfl rfl)
theorem dX2_commonest_91 : decode cX2_commonest 91 = .ok (.iload_n 3, 1) := dk_29 (dk_at dksX2_commonest_3 21 rfl rfl)
theorem dX2_commonest_92 : decode cX2_commonest 92 = .ok (.goto 7, 3) := dk_167 0 7 (dk_at dksX2_commonest_4 0 rfl rfl)
theorem dX2_commonest_95 : decode cX2_commonest 95 = .ok (.aload_n 0, 1) := dk_42 (dk_at dksX2_commonest_4 3 rfl rfl)
theorem dX2_commonest_96 : decode cX2_commonest 96 = .ok (.getfield 292, 3) := dk_180 1 36 (dk_at dksX2_commonest_4 4 rfl rfl)
theorem dX2_commonest_99 : decode cX2_commonest 99 = .ok (.putfield 292, 3) := dk_181 1 36 (dk_at dksX2_commonest_4 7 rfl rfl)
theorem dX2_commonest_102 : decode cX2_commonest 102 = .ok (.iinc 2 1, 3) := dk_132 2 1 (dk_at dksX2_commonest_4 10 rfl rfl)
theorem dX2_commonest_105 : decode cX2_commonest 105 = .ok (.goto (-91), 3) := dk_167 255 165 (dk_at dksX2_commonest_4 13 rfl rfl)
theorem dX2_commonest_108 : decode cX2_commonest 108 = .ok (.iload_n 1, 1) := dk_27 (dk_at dksX2_commonest_4 16 rfl rfl)
theorem dX2_commonest_109 : decode cX2_commonest 109 = .ok (.ireturn, 1) := dk_172 (dk_at dksX2_commonest_4 17 rfl rfl)
abbrev cX2_commonestByte : ByteArray := prog_10_method_101_code
def yX2_commonestByte : MethodName := ⟨RX2, "commonestByte", "(I)I"⟩
def dkwX2_commonestByte_2 : List UInt8 := [182, 0, 83, 172]
abbrev dktX2_commonestByte_2 : List UInt8 := dkwX2_commonestByte_2 ++ []
def dkwX2_commonestByte_1 : List UInt8 := [161, 0, 8, 16, 247, 167, 0, 21, 42, 42, 180, 0, 20, 28, 46, 42, 180, 0, 23, 28, 46, 27, 96]
abbrev dktX2_commonestByte_1 : List UInt8 := dkwX2_commonestByte_1 ++ dktX2_commonestByte_2
def dkwX2_commonestByte_0 : List UInt8 := [27, 156, 0, 5, 2, 172, 42, 182, 1, 39, 61, 28, 16, 247, 159, 0, 13, 27, 42, 180, 0, 26, 28, 46]
abbrev dktX2_commonestByte_0 : List UInt8 := dkwX2_commonestByte_0 ++ dktX2_commonestByte_1
theorem dksX2_commonestByte_0 : cX2_commonestByte.data.toList.drop 0 = dktX2_commonestByte_0 := by decide +kernel
theorem dksX2_commonestByte_1 : cX2_commonestByte.data.toList.drop 24 = dktX2_commonestByte_1 := dk_seg dksX2_commonestByte_0 24 rfl rfl
theorem dksX2_commonestByte_2 : cX2_commonestByte.data.toList.drop 47 = dktX2_commonestByte_2 := dk_seg dksX2_commonestByte_1 23 rfl rfl
theorem dX2_commonestByte_0 : decode cX2_commonestByte 0 = .ok (.iload_n 1, 1) := dk_27 (dk_at dksX2_commonestByte_0 0 rfl rfl)
theorem dX2_commonestByte_1 : decode cX2_commonestByte 1 = .ok (.ifCond .ge 5, 3) := dk_156 0 5 (dk_at dksX2_commonestByte_0 1 rfl rfl)
theorem dX2_commonestByte_4 : decode cX2_commonestByte 4 = .ok (.iconst (-1), 1) := dk_2 (dk_at dksX2_commonestByte_0 4 rfl rfl)
theorem dX2_commonestByte_5 : decode cX2_commonestByte 5 = .ok (.ireturn, 1) := dk_172 (dk_at dksX2_commonestByte_0 5 rfl rfl)
theorem dX2_commonestByte_6 : decode cX2_commonestByte 6 = .ok (.aload_n 0, 1) := dk_42 (dk_at dksX2_commonestByte_0 6 rfl rfl)
theorem dX2_commonestByte_7 : decode cX2_commonestByte 7 = .ok (.invokevirtual 295, 3) := dk_182 1 39 (dk_at dksX2_commonestByte_0 7 rfl rfl)
theorem dX2_commonestByte_10 : decode cX2_commonestByte 10 = .ok (.istore_n 2, 1) := dk_61 (dk_at dksX2_commonestByte_0 10 rfl rfl)
theorem dX2_commonestByte_11 : decode cX2_commonestByte 11 = .ok (.iload_n 2, 1) := dk_28 (dk_at dksX2_commonestByte_0 11 rfl rfl)
theorem dX2_commonestByte_12 : decode cX2_commonestByte 12 = .ok (.bipush (-9), 2) := dk_16 247 (dk_at dksX2_commonestByte_0 12 rfl rfl)
theorem dX2_commonestByte_14 : decode cX2_commonestByte 14 = .ok (.if_icmp .eq 13, 3) := dk_159 0 13 (dk_at dksX2_commonestByte_0 14 rfl rfl)
theorem dX2_commonestByte_17 : decode cX2_commonestByte 17 = .ok (.iload_n 1, 1) := dk_27 (dk_at dksX2_commonestByte_0 17 rfl rfl)
theorem dX2_commonestByte_18 : decode cX2_commonestByte 18 = .ok (.aload_n 0, 1) := dk_42 (dk_at dksX2_commonestByte_0 18 rfl rfl)
theorem dX2_commonestByte_19 : decode cX2_commonestByte 19 = .ok (.getfield 26, 3) := dk_180 0 26 (dk_at dksX2_commonestByte_0 19 rfl rfl)
theorem dX2_commonestByte_22 : decode cX2_commonestByte 22 = .ok (.iload_n 2, 1) := dk_28 (dk_at dksX2_commonestByte_0 22 rfl rfl)
theorem dX2_commonestByte_23 : decode cX2_commonestByte 23 = .ok (.iaload, 1) := dk_46 (dk_at dksX2_commonestByte_0 23 rfl rfl)
theorem dX2_commonestByte_24 : decode cX2_commonestByte 24 = .ok (.if_icmp .lt 8, 3) := dk_161 0 8 (dk_at dksX2_commonestByte_1 0 rfl rfl)
theorem dX2_commonestByte_27 : decode cX2_commonestByte 27 = .ok (.bipush (-9), 2) := dk_16 247 (dk_at dksX2_commonestByte_1 3 rfl rfl)
theorem dX2_commonestByte_29 : decode cX2_commonestByte 29 = .ok (.goto 21, 3) := dk_167 0 21 (dk_at dksX2_commonestByte_1 5 rfl rfl)
theorem dX2_commonestByte_32 : decode cX2_commonestByte 32 = .ok (.aload_n 0, 1) := dk_42 (dk_at dksX2_commonestByte_1 8 rfl rfl)
theorem dX2_commonestByte_33 : decode cX2_commonestByte 33 = .ok (.aload_n 0, 1) := dk_42 (dk_at dksX2_commonestByte_1 9 rfl rfl)
theorem dX2_commonestByte_34 : decode cX2_commonestByte 34 = .ok (.getfield 20, 3) := dk_180 0 20 (dk_at dksX2_commonestByte_1 10 rfl rfl)
theorem dX2_commonestByte_37 : decode cX2_commonestByte 37 = .ok (.iload_n 2, 1) := dk_28 (dk_at dksX2_commonestByte_1 13 rfl rfl)
theorem dX2_commonestByte_38 : decode cX2_commonestByte 38 = .ok (.iaload, 1) := dk_46 (dk_at dksX2_commonestByte_1 14 rfl rfl)
theorem dX2_commonestByte_39 : decode cX2_commonestByte 39 = .ok (.aload_n 0, 1) := dk_42 (dk_at dksX2_commonestByte_1 15 rfl rfl)
theorem dX2_commonestByte_40 : decode cX2_commonestByte 40 = .ok (.getfield 23, 3) := dk_180 0 23 (dk_at dksX2_commonestByte_1 16 rfl rfl)
theorem dX2_commonestByte_43 : decode cX2_commonestByte 43 = .ok (.iload_n 2, 1) := dk_28 (dk_at dksX2_commonestByte_1 19 rfl rfl)
theorem dX2_commonestByte_44 : decode cX2_commonestByte 44 = .ok (.iaload, 1) := dk_46 (dk_at dksX2_commonestByte_1 20 rfl rfl)
theorem dX2_commonestByte_45 : decode cX2_commonestByte 45 = .ok (.iload_n 1, 1) := dk_27 (dk_at dksX2_commonestByte_1 21 rfl rfl)
theorem dX2_commonestByte_46 : decode cX2_commonestByte 46 = .ok (.iadd, 1) := dk_96 (dk_at dksX2_commonestByte_1 22 rfl rfl)
theorem dX2_commonestByte_47 : decode cX2_commonestByte 47 = .ok (.invokevirtual 83, 3) := dk_182 0 83 (dk_at dksX2_commonestByte_2 0 rfl rfl)
theorem dX2_commonestByte_50 : decode cX2_commonestByte 50 = .ok (.ireturn, 1) := dk_172 (dk_at dksX2_commonestByte_2 3 rfl rfl)
abbrev cX2_undo : ByteArray := prog_10_method_102_code
def yX2_undo : MethodName := ⟨RX2, "undo", "()I"⟩
def dkwX2_undo_1 : List UInt8 := [180, 0, 71, 96, 3, 182, 0, 75, 42, 180, 0, 71, 172]
abbrev dktX2_undo_1 : List UInt8 := dkwX2_undo_1 ++ []
def dkwX2_undo_0 : List UInt8 := [42, 180, 0, 71, 154, 0, 6, 16, 254, 172, 42, 89, 180, 0, 71, 4, 100, 181, 0, 71, 42, 4, 42]
abbrev dktX2_undo_0 : List UInt8 := dkwX2_undo_0 ++ dktX2_undo_1
theorem dksX2_undo_0 : cX2_undo.data.toList.drop 0 = dktX2_undo_0 := by decide +kernel
theorem dksX2_undo_1 : cX2_undo.data.toList.drop 23 = dktX2_undo_1 := dk_seg dksX2_undo_0 23 rfl rfl
theorem dX2_undo_0 : decode cX2_undo 0 = .ok (.aload_n 0, 1) := dk_42 (dk_at dksX2_undo_0 0 rfl rfl)
theorem dX2_undo_1 : decode cX2_undo 1 = .ok (.getfield 71, 3) := dk_180 0 71 (dk_at dksX2_undo_0 1 rfl rfl)
theorem dX2_undo_4 : decode cX2_undo 4 = .ok (.ifCond .ne 6, 3) := dk_154 0 6 (dk_at dksX2_undo_0 4 rfl rfl)
theorem dX2_undo_7 : decode cX2_undo 7 = .ok (.bipush (-2), 2) := dk_16 254 (dk_at dksX2_undo_0 7 rfl rfl)
theorem dX2_undo_9 : decode cX2_undo 9 = .ok (.ireturn, 1) := dk_172 (dk_at dksX2_undo_0 9 rfl rfl)
theorem dX2_undo_10 : decode cX2_undo 10 = .ok (.aload_n 0, 1) := dk_42 (dk_at dksX2_undo_0 10 rfl rfl)
theorem dX2_undo_11 : decode cX2_undo 11 = .ok (.dup, 1) := dk_89 (dk_at dksX2_undo_0 11 rfl rfl)
theorem dX2_undo_12 : decode cX2_undo 12 = .ok (.getfield 71, 3) := dk_180 0 71 (dk_at dksX2_undo_0 12 rfl rfl)
theorem dX2_undo_15 : decode cX2_undo 15 = .ok (.iconst 1, 1) := dk_4 (dk_at dksX2_undo_0 15 rfl rfl)
theorem dX2_undo_16 : decode cX2_undo 16 = .ok (.isub, 1) := dk_100 (dk_at dksX2_undo_0 16 rfl rfl)
theorem dX2_undo_17 : decode cX2_undo 17 = .ok (.putfield 71, 3) := dk_181 0 71 (dk_at dksX2_undo_0 17 rfl rfl)
theorem dX2_undo_20 : decode cX2_undo 20 = .ok (.aload_n 0, 1) := dk_42 (dk_at dksX2_undo_0 20 rfl rfl)
theorem dX2_undo_21 : decode cX2_undo 21 = .ok (.iconst 1, 1) := dk_4 (dk_at dksX2_undo_0 21 rfl rfl)
theorem dX2_undo_22 : decode cX2_undo 22 = .ok (.aload_n 0, 1) := dk_42 (dk_at dksX2_undo_0 22 rfl rfl)
theorem dX2_undo_23 : decode cX2_undo 23 = .ok (.getfield 71, 3) := dk_180 0 71 (dk_at dksX2_undo_1 0 rfl rfl)
theorem dX2_undo_26 : decode cX2_undo 26 = .ok (.iadd, 1) := dk_96 (dk_at dksX2_undo_1 3 rfl rfl)
theorem dX2_undo_27 : decode cX2_undo 27 = .ok (.iconst 0, 1) := dk_3 (dk_at dksX2_undo_1 4 rfl rfl)
theorem dX2_undo_28 : decode cX2_undo 28 = .ok (.invokevirtual 75, 3) := dk_182 0 75 (dk_at dksX2_undo_1 5 rfl rfl)
theorem dX2_undo_31 : decode cX2_undo 31 = .ok (.aload_n 0, 1) := dk_42 (dk_at dksX2_undo_1 8 rfl rfl)
theorem dX2_undo_32 : decode cX2_undo 32 = .ok (.getfield 71, 3) := dk_180 0 71 (dk_at dksX2_undo_1 9 rfl rfl)
theorem dX2_undo_35 : decode cX2_undo 35 = .ok (.ireturn, 1) := dk_172 (dk_at dksX2_undo_1 12 rfl rfl)
abbrev cX2_keep : ByteArray := prog_10_method_103_code
def yX2_keep : MethodName := ⟨RX2, "keep", "(I)I"⟩
def dkwX2_keep_1 : List UInt8 := [3, 61, 42, 3, 16, 9, 27, 96, 182, 0, 75, 42, 180, 0, 13, 27, 4, 84, 28, 172]
abbrev dktX2_keep_1 : List UInt8 := dkwX2_keep_1 ++ []
def dkwX2_keep_0 : List UInt8 := [27, 3, 4, 184, 0, 79, 154, 0, 5, 2, 172, 42, 180, 0, 13, 27, 51, 153, 0, 7, 4, 167, 0, 4]
abbrev dktX2_keep_0 : List UInt8 := dkwX2_keep_0 ++ dktX2_keep_1
theorem dksX2_keep_0 : cX2_keep.data.toList.drop 0 = dktX2_keep_0 := by decide +kernel
theorem dksX2_keep_1 : cX2_keep.data.toList.drop 24 = dktX2_keep_1 := dk_seg dksX2_keep_0 24 rfl rfl
theorem dX2_keep_0 : decode cX2_keep 0 = .ok (.iload_n 1, 1) := dk_27 (dk_at dksX2_keep_0 0 rfl rfl)
theorem dX2_keep_1 : decode cX2_keep 1 = .ok (.iconst 0, 1) := dk_3 (dk_at dksX2_keep_0 1 rfl rfl)
theorem dX2_keep_2 : decode cX2_keep 2 = .ok (.iconst 1, 1) := dk_4 (dk_at dksX2_keep_0 2 rfl rfl)
theorem dX2_keep_3 : decode cX2_keep 3 = .ok (.invokestatic 79, 3) := dk_184 0 79 (dk_at dksX2_keep_0 3 rfl rfl)
theorem dX2_keep_6 : decode cX2_keep 6 = .ok (.ifCond .ne 5, 3) := dk_154 0 5 (dk_at dksX2_keep_0 6 rfl rfl)
theorem dX2_keep_9 : decode cX2_keep 9 = .ok (.iconst (-1), 1) := dk_2 (dk_at dksX2_keep_0 9 rfl rfl)
theorem dX2_keep_10 : decode cX2_keep 10 = .ok (.ireturn, 1) := dk_172 (dk_at dksX2_keep_0 10 rfl rfl)
theorem dX2_keep_11 : decode cX2_keep 11 = .ok (.aload_n 0, 1) := dk_42 (dk_at dksX2_keep_0 11 rfl rfl)
theorem dX2_keep_12 : decode cX2_keep 12 = .ok (.getfield 13, 3) := dk_180 0 13 (dk_at dksX2_keep_0 12 rfl rfl)
theorem dX2_keep_15 : decode cX2_keep 15 = .ok (.iload_n 1, 1) := dk_27 (dk_at dksX2_keep_0 15 rfl rfl)
theorem dX2_keep_16 : decode cX2_keep 16 = .ok (.baload, 1) := dk_51 (dk_at dksX2_keep_0 16 rfl rfl)
theorem dX2_keep_17 : decode cX2_keep 17 = .ok (.ifCond .eq 7, 3) := dk_153 0 7 (dk_at dksX2_keep_0 17 rfl rfl)
theorem dX2_keep_20 : decode cX2_keep 20 = .ok (.iconst 1, 1) := dk_4 (dk_at dksX2_keep_0 20 rfl rfl)
theorem dX2_keep_21 : decode cX2_keep 21 = .ok (.goto 4, 3) := dk_167 0 4 (dk_at dksX2_keep_0 21 rfl rfl)
theorem dX2_keep_24 : decode cX2_keep 24 = .ok (.iconst 0, 1) := dk_3 (dk_at dksX2_keep_1 0 rfl rfl)
theorem dX2_keep_25 : decode cX2_keep 25 = .ok (.istore_n 2, 1) := dk_61 (dk_at dksX2_keep_1 1 rfl rfl)
theorem dX2_keep_26 : decode cX2_keep 26 = .ok (.aload_n 0, 1) := dk_42 (dk_at dksX2_keep_1 2 rfl rfl)
theorem dX2_keep_27 : decode cX2_keep 27 = .ok (.iconst 0, 1) := dk_3 (dk_at dksX2_keep_1 3 rfl rfl)
theorem dX2_keep_28 : decode cX2_keep 28 = .ok (.bipush 9, 2) := dk_16 9 (dk_at dksX2_keep_1 4 rfl rfl)
theorem dX2_keep_30 : decode cX2_keep 30 = .ok (.iload_n 1, 1) := dk_27 (dk_at dksX2_keep_1 6 rfl rfl)
theorem dX2_keep_31 : decode cX2_keep 31 = .ok (.iadd, 1) := dk_96 (dk_at dksX2_keep_1 7 rfl rfl)
theorem dX2_keep_32 : decode cX2_keep 32 = .ok (.invokevirtual 75, 3) := dk_182 0 75 (dk_at dksX2_keep_1 8 rfl rfl)
theorem dX2_keep_35 : decode cX2_keep 35 = .ok (.aload_n 0, 1) := dk_42 (dk_at dksX2_keep_1 11 rfl rfl)
theorem dX2_keep_36 : decode cX2_keep 36 = .ok (.getfield 13, 3) := dk_180 0 13 (dk_at dksX2_keep_1 12 rfl rfl)
theorem dX2_keep_39 : decode cX2_keep 39 = .ok (.iload_n 1, 1) := dk_27 (dk_at dksX2_keep_1 15 rfl rfl)
theorem dX2_keep_40 : decode cX2_keep 40 = .ok (.iconst 1, 1) := dk_4 (dk_at dksX2_keep_1 16 rfl rfl)
theorem dX2_keep_41 : decode cX2_keep 41 = .ok (.bastore, 1) := dk_84 (dk_at dksX2_keep_1 17 rfl rfl)
theorem dX2_keep_42 : decode cX2_keep 42 = .ok (.iload_n 2, 1) := dk_28 (dk_at dksX2_keep_1 18 rfl rfl)
theorem dX2_keep_43 : decode cX2_keep 43 = .ok (.ireturn, 1) := dk_172 (dk_at dksX2_keep_1 19 rfl rfl)
abbrev cX2_back : ByteArray := prog_10_method_104_code
def yX2_back : MethodName := ⟨RX2, "back", "(I)I"⟩
def dkwX2_back_1 : List UInt8 := [96, 3, 182, 0, 75, 42, 3, 181, 0, 71, 42, 180, 0, 7, 3, 46, 172]
abbrev dktX2_back_1 : List UInt8 := dkwX2_back_1 ++ []
def dkwX2_back_0 : List UInt8 := [27, 3, 4, 184, 0, 79, 153, 0, 12, 42, 180, 0, 13, 27, 51, 154, 0, 5, 2, 172, 42, 16, 9, 27]
abbrev dktX2_back_0 : List UInt8 := dkwX2_back_0 ++ dktX2_back_1
theorem dksX2_back_0 : cX2_back.data.toList.drop 0 = dktX2_back_0 := by decide +kernel
theorem dksX2_back_1 : cX2_back.data.toList.drop 24 = dktX2_back_1 := dk_seg dksX2_back_0 24 rfl rfl
theorem dX2_back_0 : decode cX2_back 0 = .ok (.iload_n 1, 1) := dk_27 (dk_at dksX2_back_0 0 rfl rfl)
theorem dX2_back_1 : decode cX2_back 1 = .ok (.iconst 0, 1) := dk_3 (dk_at dksX2_back_0 1 rfl rfl)
theorem dX2_back_2 : decode cX2_back 2 = .ok (.iconst 1, 1) := dk_4 (dk_at dksX2_back_0 2 rfl rfl)
theorem dX2_back_3 : decode cX2_back 3 = .ok (.invokestatic 79, 3) := dk_184 0 79 (dk_at dksX2_back_0 3 rfl rfl)
theorem dX2_back_6 : decode cX2_back 6 = .ok (.ifCond .eq 12, 3) := dk_153 0 12 (dk_at dksX2_back_0 6 rfl rfl)
theorem dX2_back_9 : decode cX2_back 9 = .ok (.aload_n 0, 1) := dk_42 (dk_at dksX2_back_0 9 rfl rfl)
theorem dX2_back_10 : decode cX2_back 10 = .ok (.getfield 13, 3) := dk_180 0 13 (dk_at dksX2_back_0 10 rfl rfl)
theorem dX2_back_13 : decode cX2_back 13 = .ok (.iload_n 1, 1) := dk_27 (dk_at dksX2_back_0 13 rfl rfl)
theorem dX2_back_14 : decode cX2_back 14 = .ok (.baload, 1) := dk_51 (dk_at dksX2_back_0 14 rfl rfl)
theorem dX2_back_15 : decode cX2_back 15 = .ok (.ifCond .ne 5, 3) := dk_154 0 5 (dk_at dksX2_back_0 15 rfl rfl)
theorem dX2_back_18 : decode cX2_back 18 = .ok (.iconst (-1), 1) := dk_2 (dk_at dksX2_back_0 18 rfl rfl)
theorem dX2_back_19 : decode cX2_back 19 = .ok (.ireturn, 1) := dk_172 (dk_at dksX2_back_0 19 rfl rfl)
theorem dX2_back_20 : decode cX2_back 20 = .ok (.aload_n 0, 1) := dk_42 (dk_at dksX2_back_0 20 rfl rfl)
theorem dX2_back_21 : decode cX2_back 21 = .ok (.bipush 9, 2) := dk_16 9 (dk_at dksX2_back_0 21 rfl rfl)
theorem dX2_back_23 : decode cX2_back 23 = .ok (.iload_n 1, 1) := dk_27 (dk_at dksX2_back_0 23 rfl rfl)
theorem dX2_back_24 : decode cX2_back 24 = .ok (.iadd, 1) := dk_96 (dk_at dksX2_back_1 0 rfl rfl)
theorem dX2_back_25 : decode cX2_back 25 = .ok (.iconst 0, 1) := dk_3 (dk_at dksX2_back_1 1 rfl rfl)
theorem dX2_back_26 : decode cX2_back 26 = .ok (.invokevirtual 75, 3) := dk_182 0 75 (dk_at dksX2_back_1 2 rfl rfl)
theorem dX2_back_29 : decode cX2_back 29 = .ok (.aload_n 0, 1) := dk_42 (dk_at dksX2_back_1 5 rfl rfl)
theorem dX2_back_30 : decode cX2_back 30 = .ok (.iconst 0, 1) := dk_3 (dk_at dksX2_back_1 6 rfl rfl)
theorem dX2_back_31 : decode cX2_back 31 = .ok (.putfield 71, 3) := dk_181 0 71 (dk_at dksX2_back_1 7 rfl rfl)
theorem dX2_back_34 : decode cX2_back 34 = .ok (.aload_n 0, 1) := dk_42 (dk_at dksX2_back_1 10 rfl rfl)
theorem dX2_back_35 : decode cX2_back 35 = .ok (.getfield 7, 3) := dk_180 0 7 (dk_at dksX2_back_1 11 rfl rfl)
theorem dX2_back_38 : decode cX2_back 38 = .ok (.iconst 0, 1) := dk_3 (dk_at dksX2_back_1 14 rfl rfl)
theorem dX2_back_39 : decode cX2_back 39 = .ok (.iaload, 1) := dk_46 (dk_at dksX2_back_1 15 rfl rfl)
theorem dX2_back_40 : decode cX2_back 40 = .ok (.ireturn, 1) := dk_172 (dk_at dksX2_back_1 16 rfl rfl)
abbrev cX2_draw : ByteArray := prog_10_method_107_code
def yX2_draw : MethodName := ⟨RX2, "draw", "(II)I"⟩
def dkwX2_draw_2 : List UInt8 := [167, 255, 233, 29, 172]
abbrev dktX2_draw_2 : List UInt8 := dkwX2_draw_2 ++ []
def dkwX2_draw_1 : List UInt8 := [28, 162, 0, 24, 42, 180, 0, 7, 3, 46, 16, 20, 162, 0, 13, 42, 182, 1, 50, 132, 3, 1]
abbrev dktX2_draw_1 : List UInt8 := dkwX2_draw_1 ++ dktX2_draw_2
def dkwX2_draw_0 : List UInt8 := [28, 4, 16, 12, 184, 0, 79, 154, 0, 5, 2, 172, 42, 182, 0, 207, 42, 27, 181, 1, 43, 3, 62, 29]
abbrev dktX2_draw_0 : List UInt8 := dkwX2_draw_0 ++ dktX2_draw_1
theorem dksX2_draw_0 : cX2_draw.data.toList.drop 0 = dktX2_draw_0 := by decide +kernel
theorem dksX2_draw_1 : cX2_draw.data.toList.drop 24 = dktX2_draw_1 := dk_seg dksX2_draw_0 24 rfl rfl
theorem dksX2_draw_2 : cX2_draw.data.toList.drop 46 = dktX2_draw_2 := dk_seg dksX2_draw_1 22 rfl rfl
theorem dX2_draw_0 : decode cX2_draw 0 = .ok (.iload_n 2, 1) := dk_28 (dk_at dksX2_draw_0 0 rfl rfl)
theorem dX2_draw_1 : decode cX2_draw 1 = .ok (.iconst 1, 1) := dk_4 (dk_at dksX2_draw_0 1 rfl rfl)
theorem dX2_draw_2 : decode cX2_draw 2 = .ok (.bipush 12, 2) := dk_16 12 (dk_at dksX2_draw_0 2 rfl rfl)
theorem dX2_draw_4 : decode cX2_draw 4 = .ok (.invokestatic 79, 3) := dk_184 0 79 (dk_at dksX2_draw_0 4 rfl rfl)
theorem dX2_draw_7 : decode cX2_draw 7 = .ok (.ifCond .ne 5, 3) := dk_154 0 5 (dk_at dksX2_draw_0 7 rfl rfl)
theorem dX2_draw_10 : decode cX2_draw 10 = .ok (.iconst (-1), 1) := dk_2 (dk_at dksX2_draw_0 10 rfl rfl)
theorem dX2_draw_11 : decode cX2_draw 11 = .ok (.ireturn, 1) := dk_172 (dk_at dksX2_draw_0 11 rfl rfl)
theorem dX2_draw_12 : decode cX2_draw 12 = .ok (.aload_n 0, 1) := dk_42 (dk_at dksX2_draw_0 12 rfl rfl)
theorem dX2_draw_13 : decode cX2_draw 13 = .ok (.invokevirtual 207, 3) := dk_182 0 207 (dk_at dksX2_draw_0 13 rfl rfl)
theorem dX2_draw_16 : decode cX2_draw 16 = .ok (.aload_n 0, 1) := dk_42 (dk_at dksX2_draw_0 16 rfl rfl)
theorem dX2_draw_17 : decode cX2_draw 17 = .ok (.iload_n 1, 1) := dk_27 (dk_at dksX2_draw_0 17 rfl rfl)
theorem dX2_draw_18 : decode cX2_draw 18 = .ok (.putfield 299, 3) := dk_181 1 43 (dk_at dksX2_draw_0 18 rfl rfl)
theorem dX2_draw_21 : decode cX2_draw 21 = .ok (.iconst 0, 1) := dk_3 (dk_at dksX2_draw_0 21 rfl rfl)
theorem dX2_draw_22 : decode cX2_draw 22 = .ok (.istore_n 3, 1) := dk_62 (dk_at dksX2_draw_0 22 rfl rfl)
theorem dX2_draw_23 : decode cX2_draw 23 = .ok (.iload_n 3, 1) := dk_29 (dk_at dksX2_draw_0 23 rfl rfl)
theorem dX2_draw_24 : decode cX2_draw 24 = .ok (.iload_n 2, 1) := dk_28 (dk_at dksX2_draw_1 0 rfl rfl)
theorem dX2_draw_25 : decode cX2_draw 25 = .ok (.if_icmp .ge 24, 3) := dk_162 0 24 (dk_at dksX2_draw_1 1 rfl rfl)
theorem dX2_draw_28 : decode cX2_draw 28 = .ok (.aload_n 0, 1) := dk_42 (dk_at dksX2_draw_1 4 rfl rfl)
theorem dX2_draw_29 : decode cX2_draw 29 = .ok (.getfield 7, 3) := dk_180 0 7 (dk_at dksX2_draw_1 5 rfl rfl)
theorem dX2_draw_32 : decode cX2_draw 32 = .ok (.iconst 0, 1) := dk_3 (dk_at dksX2_draw_1 8 rfl rfl)
theorem dX2_draw_33 : decode cX2_draw 33 = .ok (.iaload, 1) := dk_46 (dk_at dksX2_draw_1 9 rfl rfl)
theorem dX2_draw_34 : decode cX2_draw 34 = .ok (.bipush 20, 2) := dk_16 20 (dk_at dksX2_draw_1 10 rfl rfl)
theorem dX2_draw_36 : decode cX2_draw 36 = .ok (.if_icmp .ge 13, 3) := dk_162 0 13 (dk_at dksX2_draw_1 12 rfl rfl)
theorem dX2_draw_39 : decode cX2_draw 39 = .ok (.aload_n 0, 1) := dk_42 (dk_at dksX2_draw_1 15 rfl rfl)
theorem dX2_draw_40 : decode cX2_draw 40 = .ok (.invokevirtual 306, 3) := dk_182 1 50 (dk_at dksX2_draw_1 16 rfl rfl)
theorem dX2_draw_43 : decode cX2_draw 43 = .ok (.iinc 3 1, 3) := dk_132 3 1 (dk_at dksX2_draw_1 19 rfl rfl)
theorem dX2_draw_46 : decode cX2_draw 46 = .ok (.goto (-23), 3) := dk_167 255 233 (dk_at dksX2_draw_2 0 rfl rfl)
theorem dX2_draw_49 : decode cX2_draw 49 = .ok (.iload_n 3, 1) := dk_29 (dk_at dksX2_draw_2 3 rfl rfl)
theorem dX2_draw_50 : decode cX2_draw 50 = .ok (.ireturn, 1) := dk_172 (dk_at dksX2_draw_2 4 rfl rfl)
abbrev cX2_drawsLine : ByteArray := prog_10_method_106_code
def yX2_drawsLine : MethodName := ⟨RX2, "drawsLine", "()V"⟩
def dkwX2_drawsLine_6 : List UInt8 := [132, 6, 1, 167, 255, 215, 132, 4, 1, 167, 255, 161, 42, 180, 0, 7, 16, 21, 27, 96, 29, 79, 177]
abbrev dktX2_drawsLine_6 : List UInt8 := dkwX2_drawsLine_6 ++ []
def dkwX2_drawsLine_5 : List UInt8 := [180, 0, 7, 16, 61, 16, 32, 27, 104, 96, 29, 96, 42, 180, 0, 68, 21, 6, 46, 79, 132, 3, 1]
abbrev dktX2_drawsLine_5 : List UInt8 := dkwX2_drawsLine_5 ++ dktX2_drawsLine_6
def dkwX2_drawsLine_4 : List UInt8 := [42, 180, 0, 65, 21, 5, 46, 54, 6, 21, 6, 42, 180, 0, 65, 21, 5, 4, 96, 46, 162, 0, 33, 42]
abbrev dktX2_drawsLine_4 : List UInt8 := dkwX2_drawsLine_4 ++ dktX2_drawsLine_5
def dkwX2_drawsLine_3 : List UInt8 := [21, 4, 158, 0, 22, 42, 180, 0, 7, 16, 61, 16, 32, 27, 104, 96, 29, 96, 16, 32, 79, 132, 3, 1]
abbrev dktX2_drawsLine_3 : List UInt8 := dkwX2_drawsLine_3 ++ dktX2_drawsLine_4
def dkwX2_drawsLine_2 : List UInt8 := [112, 96, 61, 3, 62, 3, 54, 4, 21, 4, 28, 162, 0, 95, 42, 182, 1, 47, 16, 16, 112, 54, 5]
abbrev dktX2_drawsLine_2 : List UInt8 := dkwX2_drawsLine_2 ++ dktX2_drawsLine_3
def dkwX2_drawsLine_1 : List UInt8 := [96, 3, 79, 42, 180, 0, 7, 4, 27, 96, 42, 182, 1, 47, 16, 12, 112, 79, 4, 42, 182, 1, 47, 6]
abbrev dktX2_drawsLine_1 : List UInt8 := dkwX2_drawsLine_1 ++ dktX2_drawsLine_2
def dkwX2_drawsLine_0 : List UInt8 := [42, 180, 0, 7, 3, 46, 60, 42, 180, 0, 7, 3, 92, 46, 4, 96, 79, 42, 180, 0, 7, 16, 41, 27]
abbrev dktX2_drawsLine_0 : List UInt8 := dkwX2_drawsLine_0 ++ dktX2_drawsLine_1
theorem dksX2_drawsLine_0 : cX2_drawsLine.data.toList.drop 0 = dktX2_drawsLine_0 := by decide +kernel
theorem dksX2_drawsLine_1 : cX2_drawsLine.data.toList.drop 24 = dktX2_drawsLine_1 := dk_seg dksX2_drawsLine_0 24 rfl rfl
theorem dksX2_drawsLine_2 : cX2_drawsLine.data.toList.drop 48 = dktX2_drawsLine_2 := dk_seg dksX2_drawsLine_1 24 rfl rfl
theorem dksX2_drawsLine_3 : cX2_drawsLine.data.toList.drop 71 = dktX2_drawsLine_3 := dk_seg dksX2_drawsLine_2 23 rfl rfl
theorem dksX2_drawsLine_4 : cX2_drawsLine.data.toList.drop 95 = dktX2_drawsLine_4 := dk_seg dksX2_drawsLine_3 24 rfl rfl
theorem dksX2_drawsLine_5 : cX2_drawsLine.data.toList.drop 119 = dktX2_drawsLine_5 := dk_seg dksX2_drawsLine_4 24 rfl rfl
theorem dksX2_drawsLine_6 : cX2_drawsLine.data.toList.drop 142 = dktX2_drawsLine_6 := dk_seg dksX2_drawsLine_5 23 rfl rfl
theorem dX2_drawsLine_0 : decode cX2_drawsLine 0 = .ok (.aload_n 0, 1) := dk_42 (dk_at dksX2_drawsLine_0 0 rfl rfl)
theorem dX2_drawsLine_1 : decode cX2_drawsLine 1 = .ok (.getfield 7, 3) := dk_180 0 7 (dk_at dksX2_drawsLine_0 1 rfl rfl)
theorem dX2_drawsLine_4 : decode cX2_drawsLine 4 = .ok (.iconst 0, 1) := dk_3 (dk_at dksX2_drawsLine_0 4 rfl rfl)
theorem dX2_drawsLine_5 : decode cX2_drawsLine 5 = .ok (.iaload, 1) := dk_46 (dk_at dksX2_drawsLine_0 5 rfl rfl)
theorem dX2_drawsLine_6 : decode cX2_drawsLine 6 = .ok (.istore_n 1, 1) := dk_60 (dk_at dksX2_drawsLine_0 6 rfl rfl)
theorem dX2_drawsLine_7 : decode cX2_drawsLine 7 = .ok (.aload_n 0, 1) := dk_42 (dk_at dksX2_drawsLine_0 7 rfl rfl)
theorem dX2_drawsLine_8 : decode cX2_drawsLine 8 = .ok (.getfield 7, 3) := dk_180 0 7 (dk_at dksX2_drawsLine_0 8 rfl rfl)
theorem dX2_drawsLine_11 : decode cX2_drawsLine 11 = .ok (.iconst 0, 1) := dk_3 (dk_at dksX2_drawsLine_0 11 rfl rfl)
theorem dX2_drawsLine_12 : decode cX2_drawsLine 12 = .ok (.dup2, 1) := dk_92 (dk_at dksX2_drawsLine_0 12 rfl rfl)
theorem dX2_drawsLine_13 : decode cX2_drawsLine 13 = .ok (.iaload, 1) := dk_46 (dk_at dksX2_drawsLine_0 13 rfl rfl)
theorem dX2_drawsLine_14 : decode cX2_drawsLine 14 = .ok (.iconst 1, 1) := dk_4 (dk_at dksX2_drawsLine_0 14 rfl rfl)
theorem dX2_drawsLine_15 : decode cX2_drawsLine 15 = .ok (.iadd, 1) := dk_96 (dk_at dksX2_drawsLine_0 15 rfl rfl)
theorem dX2_drawsLine_16 : decode cX2_drawsLine 16 = .ok (.iastore, 1) := dk_79 (dk_at dksX2_drawsLine_0 16 rfl rfl)
theorem dX2_drawsLine_17 : decode cX2_drawsLine 17 = .ok (.aload_n 0, 1) := dk_42 (dk_at dksX2_drawsLine_0 17 rfl rfl)
theorem dX2_drawsLine_18 : decode cX2_drawsLine 18 = .ok (.getfield 7, 3) := dk_180 0 7 (dk_at dksX2_drawsLine_0 18 rfl rfl)
theorem dX2_drawsLine_21 : decode cX2_drawsLine 21 = .ok (.bipush 41, 2) := dk_16 41 (dk_at dksX2_drawsLine_0 21 rfl rfl)
theorem dX2_drawsLine_23 : decode cX2_drawsLine 23 = .ok (.iload_n 1, 1) := dk_27 (dk_at dksX2_drawsLine_0 23 rfl rfl)
theorem dX2_drawsLine_24 : decode cX2_drawsLine 24 = .ok (.iadd, 1) := dk_96 (dk_at dksX2_drawsLine_1 0 rfl rfl)
theorem dX2_drawsLine_25 : decode cX2_drawsLine 25 = .ok (.iconst 0, 1) := dk_3 (dk_at dksX2_drawsLine_1 1 rfl rfl)
theorem dX2_drawsLine_26 : decode cX2_drawsLine 26 = .ok (.iastore, 1) := dk_79 (dk_at dksX2_drawsLine_1 2 rfl rfl)
theorem dX2_drawsLine_27 : decode cX2_drawsLine 27 = .ok (.aload_n 0, 1) := dk_42 (dk_at dksX2_drawsLine_1 3 rfl rfl)
theorem dX2_drawsLine_28 : decode cX2_drawsLine 28 = .ok (.getfield 7, 3) := dk_180 0 7 (dk_at dksX2_drawsLine_1 4 rfl rfl)
theorem dX2_drawsLine_31 : decode cX2_drawsLine 31 = .ok (.iconst 1, 1) := dk_4 (dk_at dksX2_drawsLine_1 7 rfl rfl)
theorem dX2_drawsLine_32 : decode cX2_drawsLine 32 = .ok (.iload_n 1, 1) := dk_27 (dk_at dksX2_drawsLine_1 8 rfl rfl)
theorem dX2_drawsLine_33 : decode cX2_drawsLine 33 = .ok (.iadd, 1) := dk_96 (dk_at dksX2_drawsLine_1 9 rfl rfl)
theorem dX2_drawsLine_34 : decode cX2_drawsLine 34 = .ok (.aload_n 0, 1) := dk_42 (dk_at dksX2_drawsLine_1 10 rfl rfl)
theorem dX2_drawsLine_35 : decode cX2_drawsLine 35 = .ok (.invokevirtual 303, 3) := dk_182 1 47 (dk_at dksX2_drawsLine_1 11 rfl rfl)
theorem dX2_drawsLine_38 : decode cX2_drawsLine 38 = .ok (.bipush 12, 2) := dk_16 12 (dk_at dksX2_drawsLine_1 14 rfl rfl)
theorem dX2_drawsLine_40 : decode cX2_drawsLine 40 = .ok (.irem, 1) := dk_112 (dk_at dksX2_drawsLine_1 16 rfl rfl)
theorem dX2_drawsLine_41 : decode cX2_drawsLine 41 = .ok (.iastore, 1) := dk_79 (dk_at dksX2_drawsLine_1 17 rfl rfl)
theorem dX2_drawsLine_42 : decode cX2_drawsLine 42 = .ok (.iconst 1, 1) := dk_4 (dk_at dksX2_drawsLine_1 18 rfl rfl)
theorem dX2_drawsLine_43 : decode cX2_drawsLine 43 = .ok (.aload_n 0, 1) := dk_42 (dk_at dksX2_drawsLine_1 19 rfl rfl)
theorem dX2_drawsLine_44 : decode cX2_drawsLine 44 = .ok (.invokevirtual 303, 3) := dk_182 1 47 (dk_at dksX2_drawsLine_1 20 rfl rfl)
theorem dX2_drawsLine_47 : decode cX2_drawsLine 47 = .ok (.iconst 3, 1) := dk_6 (dk_at dksX2_drawsLine_1 23 rfl rfl)
theorem dX2_drawsLine_48 : decode cX2_drawsLine 48 = .ok (.irem, 1) := dk_112 (dk_at dksX2_drawsLine_2 0 rfl rfl)
theorem dX2_drawsLine_49 : decode cX2_drawsLine 49 = .ok (.iadd, 1) := dk_96 (dk_at dksX2_drawsLine_2 1 rfl rfl)
theorem dX2_drawsLine_50 : decode cX2_drawsLine 50 = .ok (.istore_n 2, 1) := dk_61 (dk_at dksX2_drawsLine_2 2 rfl rfl)
theorem dX2_drawsLine_51 : decode cX2_drawsLine 51 = .ok (.iconst 0, 1) := dk_3 (dk_at dksX2_drawsLine_2 3 rfl rfl)
theorem dX2_drawsLine_52 : decode cX2_drawsLine 52 = .ok (.istore_n 3, 1) := dk_62 (dk_at dksX2_drawsLine_2 4 rfl rfl)
theorem dX2_drawsLine_53 : decode cX2_drawsLine 53 = .ok (.iconst 0, 1) := dk_3 (dk_at dksX2_drawsLine_2 5 rfl rfl)
theorem dX2_drawsLine_54 : decode cX2_drawsLine 54 = .ok (.istore 4, 2) := dk_54 4 (dk_at dksX2_drawsLine_2 6 rfl rfl)
theorem dX2_drawsLine_56 : decode cX2_drawsLine 56 = .ok (.iload 4, 2) := dk_21 4 (dk_at dksX2_drawsLine_2 8 rfl rfl)
theorem dX2_drawsLine_58 : decode cX2_drawsLine 58 = .ok (.iload_n 2, 1) := dk_28 (dk_at dksX2_drawsLine_2 10 rfl rfl)
theorem dX2_drawsLine_59 : decode cX2_drawsLine 59 = .ok (.if_icmp .ge 95, 3) := dk_162 0 95 (dk_at dksX2_drawsLine_2 11 rfl rfl)
theorem dX2_drawsLine_62 : decode cX2_drawsLine 62 = .ok (.aload_n 0, 1) := dk_42 (dk_at dksX2_drawsLine_2 14 rfl rfl)
theorem dX2_drawsLine_63 : decode cX2_drawsLine 63 = .ok (.invokevirtual 303, 3) := dk_182 1 47 (dk_at dksX2_drawsLine_2 15 rfl rfl)
theorem dX2_drawsLine_66 : decode cX2_drawsLine 66 = .ok (.bipush 16, 2) := dk_16 16 (dk_at dksX2_drawsLine_2 18 rfl rfl)
theorem dX2_drawsLine_68 : decode cX2_drawsLine 68 = .ok (.irem, 1) := dk_112 (dk_at dksX2_drawsLine_2 20 rfl rfl)
theorem dX2_drawsLine_69 : decode cX2_drawsLine 69 = .ok (.istore 5, 2) := dk_54 5 (dk_at dksX2_drawsLine_2 21 rfl rfl)
theorem dX2_drawsLine_71 : decode cX2_drawsLine 71 = .ok (.iload 4, 2) := dk_21 4 (dk_at dksX2_drawsLine_3 0 rfl rfl)
theorem dX2_drawsLine_73 : decode cX2_drawsLine 73 = .ok (.ifCond .le 22, 3) := dk_158 0 22 (dk_at dksX2_drawsLine_3 2 rfl rfl)
theorem dX2_drawsLine_76 : decode cX2_drawsLine 76 = .ok (.aload_n 0, 1) := dk_42 (dk_at dksX2_drawsLine_3 5 rfl rfl)
theorem dX2_drawsLine_77 : decode cX2_drawsLine 77 = .ok (.getfield 7, 3) := dk_180 0 7 (dk_at dksX2_drawsLine_3 6 rfl rfl)
theorem dX2_drawsLine_80 : decode cX2_drawsLine 80 = .ok (.bipush 61, 2) := dk_16 61 (dk_at dksX2_drawsLine_3 9 rfl rfl)
theorem dX2_drawsLine_82 : decode cX2_drawsLine 82 = .ok (.bipush 32, 2) := dk_16 32 (dk_at dksX2_drawsLine_3 11 rfl rfl)
theorem dX2_drawsLine_84 : decode cX2_drawsLine 84 = .ok (.iload_n 1, 1) := dk_27 (dk_at dksX2_drawsLine_3 13 rfl rfl)
theorem dX2_drawsLine_85 : decode cX2_drawsLine 85 = .ok (.imul, 1) := dk_104 (dk_at dksX2_drawsLine_3 14 rfl rfl)
theorem dX2_drawsLine_86 : decode cX2_drawsLine 86 = .ok (.iadd, 1) := dk_96 (dk_at dksX2_drawsLine_3 15 rfl rfl)
theorem dX2_drawsLine_87 : decode cX2_drawsLine 87 = .ok (.iload_n 3, 1) := dk_29 (dk_at dksX2_drawsLine_3 16 rfl rfl)
theorem dX2_drawsLine_88 : decode cX2_drawsLine 88 = .ok (.iadd, 1) := dk_96 (dk_at dksX2_drawsLine_3 17 rfl rfl)
theorem dX2_drawsLine_89 : decode cX2_drawsLine 89 = .ok (.bipush 32, 2) := dk_16 32 (dk_at dksX2_drawsLine_3 18 rfl rfl)
theorem dX2_drawsLine_91 : decode cX2_drawsLine 91 = .ok (.iastore, 1) := dk_79 (dk_at dksX2_drawsLine_3 20 rfl rfl)
theorem dX2_drawsLine_92 : decode cX2_drawsLine 92 = .ok (.iinc 3 1, 3) := dk_132 3 1 (dk_at dksX2_drawsLine_3 21 rfl rfl)
theorem dX2_drawsLine_95 : decode cX2_drawsLine 95 = .ok (.aload_n 0, 1) := dk_42 (dk_at dksX2_drawsLine_4 0 rfl rfl)
theorem dX2_drawsLine_96 : decode cX2_drawsLine 96 = .ok (.getfield 65, 3) := dk_180 0 65 (dk_at dksX2_drawsLine_4 1 rfl rfl)
theorem dX2_drawsLine_99 : decode cX2_drawsLine 99 = .ok (.iload 5, 2) := dk_21 5 (dk_at dksX2_drawsLine_4 4 rfl rfl)
theorem dX2_drawsLine_101 : decode cX2_drawsLine 101 = .ok (.iaload, 1) := dk_46 (dk_at dksX2_drawsLine_4 6 rfl rfl)
theorem dX2_drawsLine_102 : decode cX2_drawsLine 102 = .ok (.istore 6, 2) := dk_54 6 (dk_at dksX2_drawsLine_4 7 rfl rfl)
theorem dX2_drawsLine_104 : decode cX2_drawsLine 104 = .ok (.iload 6, 2) := dk_21 6 (dk_at dksX2_drawsLine_4 9 rfl rfl)
theorem dX2_drawsLine_106 : decode cX2_drawsLine 106 = .ok (.aload_n 0, 1) := dk_42 (dk_at dksX2_drawsLine_4 11 rfl rfl)
theorem dX2_drawsLine_107 : decode cX2_drawsLine 107 = .ok (.getfield 65, 3) := dk_180 0 65 (dk_at dksX2_drawsLine_4 12 rfl rfl)
theorem dX2_drawsLine_110 : decode cX2_drawsLine 110 = .ok (.iload 5, 2) := dk_21 5 (dk_at dksX2_drawsLine_4 15 rfl rfl)
theorem dX2_drawsLine_112 : decode cX2_drawsLine 112 = .ok (.iconst 1, 1) := dk_4 (dk_at dksX2_drawsLine_4 17 rfl rfl)
theorem dX2_drawsLine_113 : decode cX2_drawsLine 113 = .ok (.iadd, 1) := dk_96 (dk_at dksX2_drawsLine_4 18 rfl rfl)
theorem dX2_drawsLine_114 : decode cX2_drawsLine 114 = .ok (.iaload, 1) := dk_46 (dk_at dksX2_drawsLine_4 19 rfl rfl)
theorem dX2_drawsLine_115 : decode cX2_drawsLine 115 = .ok (.if_icmp .ge 33, 3) := dk_162 0 33 (dk_at dksX2_drawsLine_4 20 rfl rfl)
theorem dX2_drawsLine_118 : decode cX2_drawsLine 118 = .ok (.aload_n 0, 1) := dk_42 (dk_at dksX2_drawsLine_4 23 rfl rfl)
theorem dX2_drawsLine_119 : decode cX2_drawsLine 119 = .ok (.getfield 7, 3) := dk_180 0 7 (dk_at dksX2_drawsLine_5 0 rfl rfl)
theorem dX2_drawsLine_122 : decode cX2_drawsLine 122 = .ok (.bipush 61, 2) := dk_16 61 (dk_at dksX2_drawsLine_5 3 rfl rfl)
theorem dX2_drawsLine_124 : decode cX2_drawsLine 124 = .ok (.bipush 32, 2) := dk_16 32 (dk_at dksX2_drawsLine_5 5 rfl rfl)
theorem dX2_drawsLine_126 : decode cX2_drawsLine 126 = .ok (.iload_n 1, 1) := dk_27 (dk_at dksX2_drawsLine_5 7 rfl rfl)
theorem dX2_drawsLine_127 : decode cX2_drawsLine 127 = .ok (.imul, 1) := dk_104 (dk_at dksX2_drawsLine_5 8 rfl rfl)
theorem dX2_drawsLine_128 : decode cX2_drawsLine 128 = .ok (.iadd, 1) := dk_96 (dk_at dksX2_drawsLine_5 9 rfl rfl)
theorem dX2_drawsLine_129 : decode cX2_drawsLine 129 = .ok (.iload_n 3, 1) := dk_29 (dk_at dksX2_drawsLine_5 10 rfl rfl)
theorem dX2_drawsLine_130 : decode cX2_drawsLine 130 = .ok (.iadd, 1) := dk_96 (dk_at dksX2_drawsLine_5 11 rfl rfl)
theorem dX2_drawsLine_131 : decode cX2_drawsLine 131 = .ok (.aload_n 0, 1) := dk_42 (dk_at dksX2_drawsLine_5 12 rfl rfl)
theorem dX2_drawsLine_132 : decode cX2_drawsLine 132 = .ok (.getfield 68, 3) := dk_180 0 68 (dk_at dksX2_drawsLine_5 13 rfl rfl)
theorem dX2_drawsLine_135 : decode cX2_drawsLine 135 = .ok (.iload 6, 2) := dk_21 6 (dk_at dksX2_drawsLine_5 16 rfl rfl)
theorem dX2_drawsLine_137 : decode cX2_drawsLine 137 = .ok (.iaload, 1) := dk_46 (dk_at dksX2_drawsLine_5 18 rfl rfl)
theorem dX2_drawsLine_138 : decode cX2_drawsLine 138 = .ok (.iastore, 1) := dk_79 (dk_at dksX2_drawsLine_5 19 rfl rfl)
theorem dX2_drawsLine_139 : decode cX2_drawsLine 139 = .ok (.iinc 3 1, 3) := dk_132 3 1 (dk_at dksX2_drawsLine_5 20 rfl rfl)
theorem dX2_drawsLine_142 : decode cX2_drawsLine 142 = .ok (.iinc 6 1, 3) := dk_132 6 1 (dk_at dksX2_drawsLine_6 0 rfl rfl)
theorem dX2_drawsLine_145 : decode cX2_drawsLine 145 = .ok (.goto (-41), 3) := dk_167 255 215 (dk_at dksX2_drawsLine_6 3 rfl rfl)
theorem dX2_drawsLine_148 : decode cX2_drawsLine 148 = .ok (.iinc 4 1, 3) := dk_132 4 1 (dk_at dksX2_drawsLine_6 6 rfl rfl)
theorem dX2_drawsLine_151 : decode cX2_drawsLine 151 = .ok (.goto (-95), 3) := dk_167 255 161 (dk_at dksX2_drawsLine_6 9 rfl rfl)
theorem dX2_drawsLine_154 : decode cX2_drawsLine 154 = .ok (.aload_n 0, 1) := dk_42 (dk_at dksX2_drawsLine_6 12 rfl rfl)
theorem dX2_drawsLine_155 : decode cX2_drawsLine 155 = .ok (.getfield 7, 3) := dk_180 0 7 (dk_at dksX2_drawsLine_6 13 rfl rfl)
theorem dX2_drawsLine_158 : decode cX2_drawsLine 158 = .ok (.bipush 21, 2) := dk_16 21 (dk_at dksX2_drawsLine_6 16 rfl rfl)
theorem dX2_drawsLine_160 : decode cX2_drawsLine 160 = .ok (.iload_n 1, 1) := dk_27 (dk_at dksX2_drawsLine_6 18 rfl rfl)
theorem dX2_drawsLine_161 : decode cX2_drawsLine 161 = .ok (.iadd, 1) := dk_96 (dk_at dksX2_drawsLine_6 19 rfl rfl)
theorem dX2_drawsLine_162 : decode cX2_drawsLine 162 = .ok (.iload_n 3, 1) := dk_29 (dk_at dksX2_drawsLine_6 20 rfl rfl)
theorem dX2_drawsLine_163 : decode cX2_drawsLine 163 = .ok (.iastore, 1) := dk_79 (dk_at dksX2_drawsLine_6 21 rfl rfl)
theorem dX2_drawsLine_164 : decode cX2_drawsLine 164 = .ok (.return_, 1) := dk_177 (dk_at dksX2_drawsLine_6 22 rfl rfl)
abbrev cX2_draws : ByteArray := prog_10_method_105_code
def yX2_draws : MethodName := ⟨RX2, "draws", "()I"⟩
def dkwX2_draws_1 : List UInt8 := [17, 127, 255, 126, 172]
abbrev dktX2_draws_1 : List UInt8 := dkwX2_draws_1 ++ []
def dkwX2_draws_0 : List UInt8 := [42, 42, 180, 1, 43, 19, 1, 46, 104, 17, 48, 57, 96, 181, 1, 43, 42, 180, 1, 43, 16, 16, 124]
abbrev dktX2_draws_0 : List UInt8 := dkwX2_draws_0 ++ dktX2_draws_1
theorem dksX2_draws_0 : cX2_draws.data.toList.drop 0 = dktX2_draws_0 := by decide +kernel
theorem dksX2_draws_1 : cX2_draws.data.toList.drop 23 = dktX2_draws_1 := dk_seg dksX2_draws_0 23 rfl rfl
theorem dX2_draws_0 : decode cX2_draws 0 = .ok (.aload_n 0, 1) := dk_42 (dk_at dksX2_draws_0 0 rfl rfl)
theorem dX2_draws_1 : decode cX2_draws 1 = .ok (.aload_n 0, 1) := dk_42 (dk_at dksX2_draws_0 1 rfl rfl)
theorem dX2_draws_2 : decode cX2_draws 2 = .ok (.getfield 299, 3) := dk_180 1 43 (dk_at dksX2_draws_0 2 rfl rfl)
theorem dX2_draws_5 : decode cX2_draws 5 = .ok (.ldc_w 302, 3) := dk_19 1 46 (dk_at dksX2_draws_0 5 rfl rfl)
theorem dX2_draws_8 : decode cX2_draws 8 = .ok (.imul, 1) := dk_104 (dk_at dksX2_draws_0 8 rfl rfl)
theorem dX2_draws_9 : decode cX2_draws 9 = .ok (.sipush 12345, 3) := dk_17 48 57 (dk_at dksX2_draws_0 9 rfl rfl)
theorem dX2_draws_12 : decode cX2_draws 12 = .ok (.iadd, 1) := dk_96 (dk_at dksX2_draws_0 12 rfl rfl)
theorem dX2_draws_13 : decode cX2_draws 13 = .ok (.putfield 299, 3) := dk_181 1 43 (dk_at dksX2_draws_0 13 rfl rfl)
theorem dX2_draws_16 : decode cX2_draws 16 = .ok (.aload_n 0, 1) := dk_42 (dk_at dksX2_draws_0 16 rfl rfl)
theorem dX2_draws_17 : decode cX2_draws 17 = .ok (.getfield 299, 3) := dk_180 1 43 (dk_at dksX2_draws_0 17 rfl rfl)
theorem dX2_draws_20 : decode cX2_draws 20 = .ok (.bipush 16, 2) := dk_16 16 (dk_at dksX2_draws_0 20 rfl rfl)
theorem dX2_draws_22 : decode cX2_draws 22 = .ok (.iushr, 1) := dk_124 (dk_at dksX2_draws_0 22 rfl rfl)
theorem dX2_draws_23 : decode cX2_draws 23 = .ok (.sipush 32767, 3) := dk_17 127 255 (dk_at dksX2_draws_1 0 rfl rfl)
theorem dX2_draws_26 : decode cX2_draws 26 = .ok (.iand, 1) := dk_126 (dk_at dksX2_draws_1 3 rfl rfl)
theorem dX2_draws_27 : decode cX2_draws 27 = .ok (.ireturn, 1) := dk_172 (dk_at dksX2_draws_1 4 rfl rfl)
abbrev cX2_digest : ByteArray := prog_10_method_111_code
def yX2_digest : MethodName := ⟨RX2, "digest", "()J"⟩
def dkwX2_digest_11 : List UInt8 := [180, 0, 191, 182, 1, 59, 42, 180, 1, 55, 173]
abbrev dktX2_digest_11 : List UInt8 := dkwX2_digest_11 ++ []
def dkwX2_digest_10 : List UInt8 := [167, 0, 4, 3, 42, 180, 0, 13, 4, 51, 153, 0, 7, 4, 167, 0, 4, 3, 96, 182, 1, 59, 42, 42]
abbrev dktX2_digest_10 : List UInt8 := dkwX2_digest_10 ++ dktX2_digest_11
def dkwX2_digest_9 : List UInt8 := [167, 255, 242, 42, 42, 180, 0, 71, 182, 1, 59, 42, 42, 180, 0, 13, 3, 51, 153, 0, 7, 4]
abbrev dktX2_digest_9 : List UInt8 := dkwX2_digest_9 ++ dktX2_digest_10
def dkwX2_digest_8 : List UInt8 := [17, 3, 211, 46, 182, 1, 59, 3, 60, 27, 16, 12, 162, 0, 14, 42, 27, 182, 1, 67, 132, 1, 1]
abbrev dktX2_digest_8 : List UInt8 := dkwX2_digest_8 ++ dktX2_digest_9
def dkwX2_digest_7 : List UInt8 := [17, 3, 209, 46, 182, 1, 59, 42, 42, 180, 0, 7, 17, 3, 210, 46, 182, 1, 59, 42, 42, 180, 0, 7]
abbrev dktX2_digest_7 : List UInt8 := dkwX2_digest_7 ++ dktX2_digest_8
def dkwX2_digest_6 : List UInt8 := [180, 0, 170, 167, 0, 5, 16, 247, 182, 1, 59, 132, 1, 1, 167, 255, 142, 42, 42, 180, 0, 7]
abbrev dktX2_digest_6 : List UInt8 := dkwX2_digest_6 ++ dktX2_digest_7
def dkwX2_digest_5 : List UInt8 := [182, 1, 59, 42, 27, 182, 0, 185, 61, 28, 153, 0, 8, 42, 27, 182, 0, 188, 42, 28, 153, 0, 10, 42]
abbrev dktX2_digest_5 : List UInt8 := dkwX2_digest_5 ++ dktX2_digest_6
def dkwX2_digest_4 : List UInt8 := [182, 0, 83, 182, 1, 59, 132, 2, 1, 167, 255, 230, 42, 42, 180, 0, 7, 16, 41, 27, 96, 46]
abbrev dktX2_digest_4 : List UInt8 := dkwX2_digest_4 ++ dktX2_digest_5
def dkwX2_digest_3 : List UInt8 := [46, 182, 1, 59, 3, 61, 28, 42, 180, 0, 7, 16, 21, 27, 96, 46, 162, 0, 19, 42, 42, 27, 28]
abbrev dktX2_digest_3 : List UInt8 := dkwX2_digest_3 ++ dktX2_digest_4
def dkwX2_digest_2 : List UInt8 := [162, 0, 110, 42, 42, 180, 0, 7, 4, 27, 96, 46, 182, 1, 59, 42, 42, 180, 0, 7, 16, 21, 27, 96]
abbrev dktX2_digest_2 : List UInt8 := dkwX2_digest_2 ++ dktX2_digest_3
def dkwX2_digest_1 : List UInt8 := [17, 3, 209, 46, 42, 180, 0, 7, 17, 3, 210, 46, 182, 0, 222, 3, 60, 27, 42, 180, 0, 7, 3, 46]
abbrev dktX2_digest_1 : List UInt8 := dkwX2_digest_1 ++ dktX2_digest_2
def dkwX2_digest_0 : List UInt8 := [42, 20, 1, 65, 181, 1, 55, 42, 42, 180, 0, 7, 3, 46, 182, 1, 59, 42, 42, 180, 0, 7]
abbrev dktX2_digest_0 : List UInt8 := dkwX2_digest_0 ++ dktX2_digest_1
theorem dksX2_digest_0 : cX2_digest.data.toList.drop 0 = dktX2_digest_0 := by decide +kernel
theorem dksX2_digest_1 : cX2_digest.data.toList.drop 22 = dktX2_digest_1 := dk_seg dksX2_digest_0 22 rfl rfl
theorem dksX2_digest_2 : cX2_digest.data.toList.drop 46 = dktX2_digest_2 := dk_seg dksX2_digest_1 24 rfl rfl
theorem dksX2_digest_3 : cX2_digest.data.toList.drop 70 = dktX2_digest_3 := dk_seg dksX2_digest_2 24 rfl rfl
theorem dksX2_digest_4 : cX2_digest.data.toList.drop 93 = dktX2_digest_4 := dk_seg dksX2_digest_3 23 rfl rfl
theorem dksX2_digest_5 : cX2_digest.data.toList.drop 115 = dktX2_digest_5 := dk_seg dksX2_digest_4 22 rfl rfl
theorem dksX2_digest_6 : cX2_digest.data.toList.drop 139 = dktX2_digest_6 := dk_seg dksX2_digest_5 24 rfl rfl
theorem dksX2_digest_7 : cX2_digest.data.toList.drop 161 = dktX2_digest_7 := dk_seg dksX2_digest_6 22 rfl rfl
theorem dksX2_digest_8 : cX2_digest.data.toList.drop 185 = dktX2_digest_8 := dk_seg dksX2_digest_7 24 rfl rfl
theorem dksX2_digest_9 : cX2_digest.data.toList.drop 208 = dktX2_digest_9 := dk_seg dksX2_digest_8 23 rfl rfl
theorem dksX2_digest_10 : cX2_digest.data.toList.drop 230 = dktX2_digest_10 := dk_seg dksX2_digest_9 22 rfl rfl
theorem dksX2_digest_11 : cX2_digest.data.toList.drop 254 = dktX2_digest_11 := dk_seg dksX2_digest_10 24 rfl rfl
theorem dX2_digest_0 : decode cX2_digest 0 = .ok (.aload_n 0, 1) := dk_42 (dk_at dksX2_digest_0 0 rfl rfl)
theorem dX2_digest_1 : decode cX2_digest 1 = .ok (.ldc2_w 321, 3) := dk_20 1 65 (dk_at dksX2_digest_0 1 rfl rfl)
theorem dX2_digest_4 : decode cX2_digest 4 = .ok (.putfield 311, 3) := dk_181 1 55 (dk_at dksX2_digest_0 4 rfl rfl)
theorem dX2_digest_7 : decode cX2_digest 7 = .ok (.aload_n 0, 1) := dk_42 (dk_at dksX2_digest_0 7 rfl rfl)
theorem dX2_digest_8 : decode cX2_digest 8 = .ok (.aload_n 0, 1) := dk_42 (dk_at dksX2_digest_0 8 rfl rfl)
theorem dX2_digest_9 : decode cX2_digest 9 = .ok (.getfield 7, 3) := dk_180 0 7 (dk_at dksX2_digest_0 9 rfl rfl)
theorem dX2_digest_12 : decode cX2_digest 12 = .ok (.iconst 0, 1) := dk_3 (dk_at dksX2_digest_0 12 rfl rfl)
theorem dX2_digest_13 : decode cX2_digest 13 = .ok (.iaload, 1) := dk_46 (dk_at dksX2_digest_0 13 rfl rfl)
theorem dX2_digest_14 : decode cX2_digest 14 = .ok (.invokevirtual 315, 3) := dk_182 1 59 (dk_at dksX2_digest_0 14 rfl rfl)
theorem dX2_digest_17 : decode cX2_digest 17 = .ok (.aload_n 0, 1) := dk_42 (dk_at dksX2_digest_0 17 rfl rfl)
theorem dX2_digest_18 : decode cX2_digest 18 = .ok (.aload_n 0, 1) := dk_42 (dk_at dksX2_digest_0 18 rfl rfl)
theorem dX2_digest_19 : decode cX2_digest 19 = .ok (.getfield 7, 3) := dk_180 0 7 (dk_at dksX2_digest_0 19 rfl rfl)
theorem dX2_digest_22 : decode cX2_digest 22 = .ok (.sipush 977, 3) := dk_17 3 209 (dk_at dksX2_digest_1 0 rfl rfl)
theorem dX2_digest_25 : decode cX2_digest 25 = .ok (.iaload, 1) := dk_46 (dk_at dksX2_digest_1 3 rfl rfl)
theorem dX2_digest_26 : decode cX2_digest 26 = .ok (.aload_n 0, 1) := dk_42 (dk_at dksX2_digest_1 4 rfl rfl)
theorem dX2_digest_27 : decode cX2_digest 27 = .ok (.getfield 7, 3) := dk_180 0 7 (dk_at dksX2_digest_1 5 rfl rfl)
theorem dX2_digest_30 : decode cX2_digest 30 = .ok (.sipush 978, 3) := dk_17 3 210 (dk_at dksX2_digest_1 8 rfl rfl)
theorem dX2_digest_33 : decode cX2_digest 33 = .ok (.iaload, 1) := dk_46 (dk_at dksX2_digest_1 11 rfl rfl)
theorem dX2_digest_34 : decode cX2_digest 34 = .ok (.invokevirtual 222, 3) := dk_182 0 222 (dk_at dksX2_digest_1 12 rfl rfl)
theorem dX2_digest_37 : decode cX2_digest 37 = .ok (.iconst 0, 1) := dk_3 (dk_at dksX2_digest_1 15 rfl rfl)
theorem dX2_digest_38 : decode cX2_digest 38 = .ok (.istore_n 1, 1) := dk_60 (dk_at dksX2_digest_1 16 rfl rfl)
theorem dX2_digest_39 : decode cX2_digest 39 = .ok (.iload_n 1, 1) := dk_27 (dk_at dksX2_digest_1 17 rfl rfl)
theorem dX2_digest_40 : decode cX2_digest 40 = .ok (.aload_n 0, 1) := dk_42 (dk_at dksX2_digest_1 18 rfl rfl)
theorem dX2_digest_41 : decode cX2_digest 41 = .ok (.getfield 7, 3) := dk_180 0 7 (dk_at dksX2_digest_1 19 rfl rfl)
theorem dX2_digest_44 : decode cX2_digest 44 = .ok (.iconst 0, 1) := dk_3 (dk_at dksX2_digest_1 22 rfl rfl)
theorem dX2_digest_45 : decode cX2_digest 45 = .ok (.iaload, 1) := dk_46 (dk_at dksX2_digest_1 23 rfl rfl)
theorem dX2_digest_46 : decode cX2_digest 46 = .ok (.if_icmp .ge 110, 3) := dk_162 0 110 (dk_at dksX2_digest_2 0 rfl rfl)
theorem dX2_digest_49 : decode cX2_digest 49 = .ok (.aload_n 0, 1) := dk_42 (dk_at dksX2_digest_2 3 rfl rfl)
theorem dX2_digest_50 : decode cX2_digest 50 = .ok (.aload_n 0, 1) := dk_42 (dk_at dksX2_digest_2 4 rfl rfl)
theorem dX2_digest_51 : decode cX2_digest 51 = .ok (.getfield 7, 3) := dk_180 0 7 (dk_at dksX2_digest_2 5 rfl rfl)
theorem dX2_digest_54 : decode cX2_digest 54 = .ok (.iconst 1, 1) := dk_4 (dk_at dksX2_digest_2 8 rfl rfl)
theorem dX2_digest_55 : decode cX2_digest 55 = .ok (.iload_n 1, 1) := dk_27 (dk_at dksX2_digest_2 9 rfl rfl)
theorem dX2_digest_56 : decode cX2_digest 56 = .ok (.iadd, 1) := dk_96 (dk_at dksX2_digest_2 10 rfl rfl)
theorem dX2_digest_57 : decode cX2_digest 57 = .ok (.iaload, 1) := dk_46 (dk_at dksX2_digest_2 11 rfl rfl)
theorem dX2_digest_58 : decode cX2_digest 58 = .ok (.invokevirtual 315, 3) := dk_182 1 59 (dk_at dksX2_digest_2 12 rfl rfl)
theorem dX2_digest_61 : decode cX2_digest 61 = .ok (.aload_n 0, 1) := dk_42 (dk_at dksX2_digest_2 15 rfl rfl)
theorem dX2_digest_62 : decode cX2_digest 62 = .ok (.aload_n 0, 1) := dk_42 (dk_at dksX2_digest_2 16 rfl rfl)
theorem dX2_digest_63 : decode cX2_digest 63 = .ok (.getfield 7, 3) := dk_180 0 7 (dk_at dksX2_digest_2 17 rfl rfl)
theorem dX2_digest_66 : decode cX2_digest 66 = .ok (.bipush 21, 2) := dk_16 21 (dk_at dksX2_digest_2 20 rfl rfl)
theorem dX2_digest_68 : decode cX2_digest 68 = .ok (.iload_n 1, 1) := dk_27 (dk_at dksX2_digest_2 22 rfl rfl)
theorem dX2_digest_69 : decode cX2_digest 69 = .ok (.iadd, 1) := dk_96 (dk_at dksX2_digest_2 23 rfl rfl)
theorem dX2_digest_70 : decode cX2_digest 70 = .ok (.iaload, 1) := dk_46 (dk_at dksX2_digest_3 0 rfl rfl)
theorem dX2_digest_71 : decode cX2_digest 71 = .ok (.invokevirtual 315, 3) := dk_182 1 59 (dk_at dksX2_digest_3 1 rfl rfl)
theorem dX2_digest_74 : decode cX2_digest 74 = .ok (.iconst 0, 1) := dk_3 (dk_at dksX2_digest_3 4 rfl rfl)
theorem dX2_digest_75 : decode cX2_digest 75 = .ok (.istore_n 2, 1) := dk_61 (dk_at dksX2_digest_3 5 rfl rfl)
theorem dX2_digest_76 : decode cX2_digest 76 = .ok (.iload_n 2, 1) := dk_28 (dk_at dksX2_digest_3 6 rfl rfl)
theorem dX2_digest_77 : decode cX2_digest 77 = .ok (.aload_n 0, 1) := dk_42 (dk_at dksX2_digest_3 7 rfl rfl)
theorem dX2_digest_78 : decode cX2_digest 78 = .ok (.getfield 7, 3) := dk_180 0 7 (dk_at dksX2_digest_3 8 rfl rfl)
theorem dX2_digest_81 : decode cX2_digest 81 = .ok (.bipush 21, 2) := dk_16 21 (dk_at dksX2_digest_3 11 rfl rfl)
theorem dX2_digest_83 : decode cX2_digest 83 = .ok (.iload_n 1, 1) := dk_27 (dk_at dksX2_digest_3 13 rfl rfl)
theorem dX2_digest_84 : decode cX2_digest 84 = .ok (.iadd, 1) := dk_96 (dk_at dksX2_digest_3 14 rfl rfl)
theorem dX2_digest_85 : decode cX2_digest 85 = .ok (.iaload, 1) := dk_46 (dk_at dksX2_digest_3 15 rfl rfl)
theorem dX2_digest_86 : decode cX2_digest 86 = .ok (.if_icmp .ge 19, 3) := dk_162 0 19 (dk_at dksX2_digest_3 16 rfl rfl)
theorem dX2_digest_89 : decode cX2_digest 89 = .ok (.aload_n 0, 1) := dk_42 (dk_at dksX2_digest_3 19 rfl rfl)
theorem dX2_digest_90 : decode cX2_digest 90 = .ok (.aload_n 0, 1) := dk_42 (dk_at dksX2_digest_3 20 rfl rfl)
theorem dX2_digest_91 : decode cX2_digest 91 = .ok (.iload_n 1, 1) := dk_27 (dk_at dksX2_digest_3 21 rfl rfl)
theorem dX2_digest_92 : decode cX2_digest 92 = .ok (.iload_n 2, 1) := dk_28 (dk_at dksX2_digest_3 22 rfl rfl)
theorem dX2_digest_93 : decode cX2_digest 93 = .ok (.invokevirtual 83, 3) := dk_182 0 83 (dk_at dksX2_digest_4 0 rfl rfl)
theorem dX2_digest_96 : decode cX2_digest 96 = .ok (.invokevirtual 315, 3) := dk_182 1 59 (dk_at dksX2_digest_4 3 rfl rfl)
theorem dX2_digest_99 : decode cX2_digest 99 = .ok (.iinc 2 1, 3) := dk_132 2 1 (dk_at dksX2_digest_4 6 rfl rfl)
theorem dX2_digest_102 : decode cX2_digest 102 = .ok (.goto (-26), 3) := dk_167 255 230 (dk_at dksX2_digest_4 9 rfl rfl)
theorem dX2_digest_105 : decode cX2_digest 105 = .ok (.aload_n 0, 1) := dk_42 (dk_at dksX2_digest_4 12 rfl rfl)
theorem dX2_digest_106 : decode cX2_digest 106 = .ok (.aload_n 0, 1) := dk_42 (dk_at dksX2_digest_4 13 rfl rfl)
theorem dX2_digest_107 : decode cX2_digest 107 = .ok (.getfield 7, 3) := dk_180 0 7 (dk_at dksX2_digest_4 14 rfl rfl)
theorem dX2_digest_110 : decode cX2_digest 110 = .ok (.bipush 41, 2) := dk_16 41 (dk_at dksX2_digest_4 17 rfl rfl)
theorem dX2_digest_112 : decode cX2_digest 112 = .ok (.iload_n 1, 1) := dk_27 (dk_at dksX2_digest_4 19 rfl rfl)
theorem dX2_digest_113 : decode cX2_digest 113 = .ok (.iadd, 1) := dk_96 (dk_at dksX2_digest_4 20 rfl rfl)
theorem dX2_digest_114 : decode cX2_digest 114 = .ok (.iaload, 1) := dk_46 (dk_at dksX2_digest_4 21 rfl rfl)
theorem dX2_digest_115 : decode cX2_digest 115 = .ok (.invokevirtual 315, 3) := dk_182 1 59 (dk_at dksX2_digest_5 0 rfl rfl)
theorem dX2_digest_118 : decode cX2_digest 118 = .ok (.aload_n 0, 1) := dk_42 (dk_at dksX2_digest_5 3 rfl rfl)
theorem dX2_digest_119 : decode cX2_digest 119 = .ok (.iload_n 1, 1) := dk_27 (dk_at dksX2_digest_5 4 rfl rfl)
theorem dX2_digest_120 : decode cX2_digest 120 = .ok (.invokevirtual 185, 3) := dk_182 0 185 (dk_at dksX2_digest_5 5 rfl rfl)
theorem dX2_digest_123 : decode cX2_digest 123 = .ok (.istore_n 2, 1) := dk_61 (dk_at dksX2_digest_5 8 rfl rfl)
theorem dX2_digest_124 : decode cX2_digest 124 = .ok (.iload_n 2, 1) := dk_28 (dk_at dksX2_digest_5 9 rfl rfl)
theorem dX2_digest_125 : decode cX2_digest 125 = .ok (.ifCond .eq 8, 3) := dk_153 0 8 (dk_at dksX2_digest_5 10 rfl rfl)
theorem dX2_digest_128 : decode cX2_digest 128 = .ok (.aload_n 0, 1) := dk_42 (dk_at dksX2_digest_5 13 rfl rfl)
theorem dX2_digest_129 : decode cX2_digest 129 = .ok (.iload_n 1, 1) := dk_27 (dk_at dksX2_digest_5 14 rfl rfl)
theorem dX2_digest_130 : decode cX2_digest 130 = .ok (.invokevirtual 188, 3) := dk_182 0 188 (dk_at dksX2_digest_5 15 rfl rfl)
theorem dX2_digest_133 : decode cX2_digest 133 = .ok (.aload_n 0, 1) := dk_42 (dk_at dksX2_digest_5 18 rfl rfl)
theorem dX2_digest_134 : decode cX2_digest 134 = .ok (.iload_n 2, 1) := dk_28 (dk_at dksX2_digest_5 19 rfl rfl)
theorem dX2_digest_135 : decode cX2_digest 135 = .ok (.ifCond .eq 10, 3) := dk_153 0 10 (dk_at dksX2_digest_5 20 rfl rfl)
theorem dX2_digest_138 : decode cX2_digest 138 = .ok (.aload_n 0, 1) := dk_42 (dk_at dksX2_digest_5 23 rfl rfl)
theorem dX2_digest_139 : decode cX2_digest 139 = .ok (.getfield 170, 3) := dk_180 0 170 (dk_at dksX2_digest_6 0 rfl rfl)
theorem dX2_digest_142 : decode cX2_digest 142 = .ok (.goto 5, 3) := dk_167 0 5 (dk_at dksX2_digest_6 3 rfl rfl)
theorem dX2_digest_145 : decode cX2_digest 145 = .ok (.bipush (-9), 2) := dk_16 247 (dk_at dksX2_digest_6 6 rfl rfl)
theorem dX2_digest_147 : decode cX2_digest 147 = .ok (.invokevirtual 315, 3) := dk_182 1 59 (dk_at dksX2_digest_6 8 rfl rfl)
theorem dX2_digest_150 : decode cX2_digest 150 = .ok (.iinc 1 1, 3) := dk_132 1 1 (dk_at dksX2_digest_6 11 rfl rfl)
theorem dX2_digest_153 : decode cX2_digest 153 = .ok (.goto (-114), 3) := dk_167 255 142 (dk_at dksX2_digest_6 14 rfl rfl)
theorem dX2_digest_156 : decode cX2_digest 156 = .ok (.aload_n 0, 1) := dk_42 (dk_at dksX2_digest_6 17 rfl rfl)
theorem dX2_digest_157 : decode cX2_digest 157 = .ok (.aload_n 0, 1) := dk_42 (dk_at dksX2_digest_6 18 rfl rfl)
theorem dX2_digest_158 : decode cX2_digest 158 = .ok (.getfield 7, 3) := dk_180 0 7 (dk_at dksX2_digest_6 19 rfl rfl)
theorem dX2_digest_161 : decode cX2_digest 161 = .ok (.sipush 977, 3) := dk_17 3 209 (dk_at dksX2_digest_7 0 rfl rfl)
theorem dX2_digest_164 : decode cX2_digest 164 = .ok (.iaload, 1) := dk_46 (dk_at dksX2_digest_7 3 rfl rfl)
theorem dX2_digest_165 : decode cX2_digest 165 = .ok (.invokevirtual 315, 3) := dk_182 1 59 (dk_at dksX2_digest_7 4 rfl rfl)
theorem dX2_digest_168 : decode cX2_digest 168 = .ok (.aload_n 0, 1) := dk_42 (dk_at dksX2_digest_7 7 rfl rfl)
theorem dX2_digest_169 : decode cX2_digest 169 = .ok (.aload_n 0, 1) := dk_42 (dk_at dksX2_digest_7 8 rfl rfl)
theorem dX2_digest_170 : decode cX2_digest 170 = .ok (.getfield 7, 3) := dk_180 0 7 (dk_at dksX2_digest_7 9 rfl rfl)
theorem dX2_digest_173 : decode cX2_digest 173 = .ok (.sipush 978, 3) := dk_17 3 210 (dk_at dksX2_digest_7 12 rfl rfl)
theorem dX2_digest_176 : decode cX2_digest 176 = .ok (.iaload, 1) := dk_46 (dk_at dksX2_digest_7 15 rfl rfl)
theorem dX2_digest_177 : decode cX2_digest 177 = .ok (.invokevirtual 315, 3) := dk_182 1 59 (dk_at dksX2_digest_7 16 rfl rfl)
theorem dX2_digest_180 : decode cX2_digest 180 = .ok (.aload_n 0, 1) := dk_42 (dk_at dksX2_digest_7 19 rfl rfl)
theorem dX2_digest_181 : decode cX2_digest 181 = .ok (.aload_n 0, 1) := dk_42 (dk_at dksX2_digest_7 20 rfl rfl)
theorem dX2_digest_182 : decode cX2_digest 182 = .ok (.getfield 7, 3) := dk_180 0 7 (dk_at dksX2_digest_7 21 rfl rfl)
theorem dX2_digest_185 : decode cX2_digest 185 = .ok (.sipush 979, 3) := dk_17 3 211 (dk_at dksX2_digest_8 0 rfl rfl)
theorem dX2_digest_188 : decode cX2_digest 188 = .ok (.iaload, 1) := dk_46 (dk_at dksX2_digest_8 3 rfl rfl)
theorem dX2_digest_189 : decode cX2_digest 189 = .ok (.invokevirtual 315, 3) := dk_182 1 59 (dk_at dksX2_digest_8 4 rfl rfl)
theorem dX2_digest_192 : decode cX2_digest 192 = .ok (.iconst 0, 1) := dk_3 (dk_at dksX2_digest_8 7 rfl rfl)
theorem dX2_digest_193 : decode cX2_digest 193 = .ok (.istore_n 1, 1) := dk_60 (dk_at dksX2_digest_8 8 rfl rfl)
theorem dX2_digest_194 : decode cX2_digest 194 = .ok (.iload_n 1, 1) := dk_27 (dk_at dksX2_digest_8 9 rfl rfl)
theorem dX2_digest_195 : decode cX2_digest 195 = .ok (.bipush 12, 2) := dk_16 12 (dk_at dksX2_digest_8 10 rfl rfl)
theorem dX2_digest_197 : decode cX2_digest 197 = .ok (.if_icmp .ge 14, 3) := dk_162 0 14 (dk_at dksX2_digest_8 12 rfl rfl)
theorem dX2_digest_200 : decode cX2_digest 200 = .ok (.aload_n 0, 1) := dk_42 (dk_at dksX2_digest_8 15 rfl rfl)
theorem dX2_digest_201 : decode cX2_digest 201 = .ok (.iload_n 1, 1) := dk_27 (dk_at dksX2_digest_8 16 rfl rfl)
theorem dX2_digest_202 : decode cX2_digest 202 = .ok (.invokevirtual 323, 3) := dk_182 1 67 (dk_at dksX2_digest_8 17 rfl rfl)
theorem dX2_digest_205 : decode cX2_digest 205 = .ok (.iinc 1 1, 3) := dk_132 1 1 (dk_at dksX2_digest_8 20 rfl rfl)
theorem dX2_digest_208 : decode cX2_digest 208 = .ok (.goto (-14), 3) := dk_167 255 242 (dk_at dksX2_digest_9 0 rfl rfl)
theorem dX2_digest_211 : decode cX2_digest 211 = .ok (.aload_n 0, 1) := dk_42 (dk_at dksX2_digest_9 3 rfl rfl)
theorem dX2_digest_212 : decode cX2_digest 212 = .ok (.aload_n 0, 1) := dk_42 (dk_at dksX2_digest_9 4 rfl rfl)
theorem dX2_digest_213 : decode cX2_digest 213 = .ok (.getfield 71, 3) := dk_180 0 71 (dk_at dksX2_digest_9 5 rfl rfl)
theorem dX2_digest_216 : decode cX2_digest 216 = .ok (.invokevirtual 315, 3) := dk_182 1 59 (dk_at dksX2_digest_9 8 rfl rfl)
theorem dX2_digest_219 : decode cX2_digest 219 = .ok (.aload_n 0, 1) := dk_42 (dk_at dksX2_digest_9 11 rfl rfl)
theorem dX2_digest_220 : decode cX2_digest 220 = .ok (.aload_n 0, 1) := dk_42 (dk_at dksX2_digest_9 12 rfl rfl)
theorem dX2_digest_221 : decode cX2_digest 221 = .ok (.getfield 13, 3) := dk_180 0 13 (dk_at dksX2_digest_9 13 rfl rfl)
theorem dX2_digest_224 : decode cX2_digest 224 = .ok (.iconst 0, 1) := dk_3 (dk_at dksX2_digest_9 16 rfl rfl)
theorem dX2_digest_225 : decode cX2_digest 225 = .ok (.baload, 1) := dk_51 (dk_at dksX2_digest_9 17 rfl rfl)
theorem dX2_digest_226 : decode cX2_digest 226 = .ok (.ifCond .eq 7, 3) := dk_153 0 7 (dk_at dksX2_digest_9 18 rfl rfl)
theorem dX2_digest_229 : decode cX2_digest 229 = .ok (.iconst 1, 1) := dk_4 (dk_at dksX2_digest_9 21 rfl rfl)
theorem dX2_digest_230 : decode cX2_digest 230 = .ok (.goto 4, 3) := dk_167 0 4 (dk_at dksX2_digest_10 0 rfl rfl)
theorem dX2_digest_233 : decode cX2_digest 233 = .ok (.iconst 0, 1) := dk_3 (dk_at dksX2_digest_10 3 rfl rfl)
theorem dX2_digest_234 : decode cX2_digest 234 = .ok (.aload_n 0, 1) := dk_42 (dk_at dksX2_digest_10 4 rfl rfl)
theorem dX2_digest_235 : decode cX2_digest 235 = .ok (.getfield 13, 3) := dk_180 0 13 (dk_at dksX2_digest_10 5 rfl rfl)
theorem dX2_digest_238 : decode cX2_digest 238 = .ok (.iconst 1, 1) := dk_4 (dk_at dksX2_digest_10 8 rfl rfl)
theorem dX2_digest_239 : decode cX2_digest 239 = .ok (.baload, 1) := dk_51 (dk_at dksX2_digest_10 9 rfl rfl)
theorem dX2_digest_240 : decode cX2_digest 240 = .ok (.ifCond .eq 7, 3) := dk_153 0 7 (dk_at dksX2_digest_10 10 rfl rfl)
theorem dX2_digest_243 : decode cX2_digest 243 = .ok (.iconst 1, 1) := dk_4 (dk_at dksX2_digest_10 13 rfl rfl)
theorem dX2_digest_244 : decode cX2_digest 244 = .ok (.goto 4, 3) := dk_167 0 4 (dk_at dksX2_digest_10 14 rfl rfl)
theorem dX2_digest_247 : decode cX2_digest 247 = .ok (.iconst 0, 1) := dk_3 (dk_at dksX2_digest_10 17 rfl rfl)
theorem dX2_digest_248 : decode cX2_digest 248 = .ok (.iadd, 1) := dk_96 (dk_at dksX2_digest_10 18 rfl rfl)
theorem dX2_digest_249 : decode cX2_digest 249 = .ok (.invokevirtual 315, 3) := dk_182 1 59 (dk_at dksX2_digest_10 19 rfl rfl)
theorem dX2_digest_252 : decode cX2_digest 252 = .ok (.aload_n 0, 1) := dk_42 (dk_at dksX2_digest_10 22 rfl rfl)
theorem dX2_digest_253 : decode cX2_digest 253 = .ok (.aload_n 0, 1) := dk_42 (dk_at dksX2_digest_10 23 rfl rfl)
theorem dX2_digest_254 : decode cX2_digest 254 = .ok (.getfield 191, 3) := dk_180 0 191 (dk_at dksX2_digest_11 0 rfl rfl)
theorem dX2_digest_257 : decode cX2_digest 257 = .ok (.invokevirtual 315, 3) := dk_182 1 59 (dk_at dksX2_digest_11 3 rfl rfl)
theorem dX2_digest_260 : decode cX2_digest 260 = .ok (.aload_n 0, 1) := dk_42 (dk_at dksX2_digest_11 6 rfl rfl)
theorem dX2_digest_261 : decode cX2_digest 261 = .ok (.getfield 311, 3) := dk_180 1 55 (dk_at dksX2_digest_11 7 rfl rfl)
theorem dX2_digest_264 : decode cX2_digest 264 = .ok (.lreturn, 1) := dk_173 (dk_at dksX2_digest_11 10 rfl rfl)
abbrev cX2_mixes : ByteArray := prog_10_method_108_code
def yX2_mixes : MethodName := ⟨RX2, "mixes", "(I)V"⟩
def dkwX2_mixes_0 : List UInt8 := [42, 20, 1, 53, 42, 180, 1, 55, 105, 27, 133, 97, 181, 1, 55, 177]
abbrev dktX2_mixes_0 : List UInt8 := dkwX2_mixes_0 ++ []
theorem dksX2_mixes_0 : cX2_mixes.data.toList.drop 0 = dktX2_mixes_0 := by decide +kernel
theorem dX2_mixes_0 : decode cX2_mixes 0 = .ok (.aload_n 0, 1) := dk_42 (dk_at dksX2_mixes_0 0 rfl rfl)
theorem dX2_mixes_1 : decode cX2_mixes 1 = .ok (.ldc2_w 309, 3) := dk_20 1 53 (dk_at dksX2_mixes_0 1 rfl rfl)
theorem dX2_mixes_4 : decode cX2_mixes 4 = .ok (.aload_n 0, 1) := dk_42 (dk_at dksX2_mixes_0 4 rfl rfl)
theorem dX2_mixes_5 : decode cX2_mixes 5 = .ok (.getfield 311, 3) := dk_180 1 55 (dk_at dksX2_mixes_0 5 rfl rfl)
theorem dX2_mixes_8 : decode cX2_mixes 8 = .ok (.lmul, 1) := dk_105 (dk_at dksX2_mixes_0 8 rfl rfl)
theorem dX2_mixes_9 : decode cX2_mixes 9 = .ok (.iload_n 1, 1) := dk_27 (dk_at dksX2_mixes_0 9 rfl rfl)
theorem dX2_mixes_10 : decode cX2_mixes 10 = .ok (.i2l, 1) := dk_133 (dk_at dksX2_mixes_0 10 rfl rfl)
theorem dX2_mixes_11 : decode cX2_mixes 11 = .ok (.ladd, 1) := dk_97 (dk_at dksX2_mixes_0 11 rfl rfl)
theorem dX2_mixes_12 : decode cX2_mixes 12 = .ok (.putfield 311, 3) := dk_181 1 55 (dk_at dksX2_mixes_0 12 rfl rfl)
theorem dX2_mixes_15 : decode cX2_mixes 15 = .ok (.return_, 1) := dk_177 (dk_at dksX2_mixes_0 15 rfl rfl)
abbrev cX2_mixesRule : ByteArray := prog_10_method_110_code
def yX2_mixesRule : MethodName := ⟨RX2, "mixesRule", "(I)V"⟩
def dkwX2_mixesRule_4 : List UInt8 := [16, 32, 182, 1, 59, 42, 28, 16, 14, 96, 182, 1, 62, 177]
abbrev dktX2_mixesRule_4 : List UInt8 := dkwX2_mixesRule_4 ++ []
def dkwX2_mixesRule_3 : List UInt8 := [180, 0, 7, 28, 7, 96, 46, 182, 1, 59, 42, 28, 8, 96, 182, 1, 62, 29, 4, 160, 0, 17, 42]
abbrev dktX2_mixesRule_3 : List UInt8 := dkwX2_mixesRule_3 ++ dktX2_mixesRule_4
def dkwX2_mixesRule_2 : List UInt8 := [46, 182, 1, 59, 29, 4, 160, 0, 27, 42, 42, 180, 0, 7, 28, 6, 96, 46, 182, 1, 59, 42, 42]
abbrev dktX2_mixesRule_2 : List UInt8 := dkwX2_mixesRule_2 ++ dktX2_mixesRule_3
def dkwX2_mixesRule_1 : List UInt8 := [154, 0, 4, 177, 42, 42, 180, 0, 7, 28, 4, 96, 46, 182, 1, 59, 42, 42, 180, 0, 7, 28, 5, 96]
abbrev dktX2_mixesRule_1 : List UInt8 := dkwX2_mixesRule_1 ++ dktX2_mixesRule_2
def dkwX2_mixesRule_0 : List UInt8 := [17, 2, 189, 16, 23, 27, 104, 96, 61, 42, 180, 0, 7, 28, 3, 96, 46, 62, 42, 29, 182, 1, 59, 29]
abbrev dktX2_mixesRule_0 : List UInt8 := dkwX2_mixesRule_0 ++ dktX2_mixesRule_1
theorem dksX2_mixesRule_0 : cX2_mixesRule.data.toList.drop 0 = dktX2_mixesRule_0 := by decide +kernel
theorem dksX2_mixesRule_1 : cX2_mixesRule.data.toList.drop 24 = dktX2_mixesRule_1 := dk_seg dksX2_mixesRule_0 24 rfl rfl
theorem dksX2_mixesRule_2 : cX2_mixesRule.data.toList.drop 48 = dktX2_mixesRule_2 := dk_seg dksX2_mixesRule_1 24 rfl rfl
theorem dksX2_mixesRule_3 : cX2_mixesRule.data.toList.drop 71 = dktX2_mixesRule_3 := dk_seg dksX2_mixesRule_2 23 rfl rfl
theorem dksX2_mixesRule_4 : cX2_mixesRule.data.toList.drop 94 = dktX2_mixesRule_4 := dk_seg dksX2_mixesRule_3 23 rfl rfl
theorem dX2_mixesRule_0 : decode cX2_mixesRule 0 = .ok (.sipush 701, 3) := dk_17 2 189 (dk_at dksX2_mixesRule_0 0 rfl rfl)
theorem dX2_mixesRule_3 : decode cX2_mixesRule 3 = .ok (.bipush 23, 2) := dk_16 23 (dk_at dksX2_mixesRule_0 3 rfl rfl)
theorem dX2_mixesRule_5 : decode cX2_mixesRule 5 = .ok (.iload_n 1, 1) := dk_27 (dk_at dksX2_mixesRule_0 5 rfl rfl)
theorem dX2_mixesRule_6 : decode cX2_mixesRule 6 = .ok (.imul, 1) := dk_104 (dk_at dksX2_mixesRule_0 6 rfl rfl)
theorem dX2_mixesRule_7 : decode cX2_mixesRule 7 = .ok (.iadd, 1) := dk_96 (dk_at dksX2_mixesRule_0 7 rfl rfl)
theorem dX2_mixesRule_8 : decode cX2_mixesRule 8 = .ok (.istore_n 2, 1) := dk_61 (dk_at dksX2_mixesRule_0 8 rfl rfl)
theorem dX2_mixesRule_9 : decode cX2_mixesRule 9 = .ok (.aload_n 0, 1) := dk_42 (dk_at dksX2_mixesRule_0 9 rfl rfl)
theorem dX2_mixesRule_10 : decode cX2_mixesRule 10 = .ok (.getfield 7, 3) := dk_180 0 7 (dk_at dksX2_mixesRule_0 10 rfl rfl)
theorem dX2_mixesRule_13 : decode cX2_mixesRule 13 = .ok (.iload_n 2, 1) := dk_28 (dk_at dksX2_mixesRule_0 13 rfl rfl)
theorem dX2_mixesRule_14 : decode cX2_mixesRule 14 = .ok (.iconst 0, 1) := dk_3 (dk_at dksX2_mixesRule_0 14 rfl rfl)
theorem dX2_mixesRule_15 : decode cX2_mixesRule 15 = .ok (.iadd, 1) := dk_96 (dk_at dksX2_mixesRule_0 15 rfl rfl)
theorem dX2_mixesRule_16 : decode cX2_mixesRule 16 = .ok (.iaload, 1) := dk_46 (dk_at dksX2_mixesRule_0 16 rfl rfl)
theorem dX2_mixesRule_17 : decode cX2_mixesRule 17 = .ok (.istore_n 3, 1) := dk_62 (dk_at dksX2_mixesRule_0 17 rfl rfl)
theorem dX2_mixesRule_18 : decode cX2_mixesRule 18 = .ok (.aload_n 0, 1) := dk_42 (dk_at dksX2_mixesRule_0 18 rfl rfl)
theorem dX2_mixesRule_19 : decode cX2_mixesRule 19 = .ok (.iload_n 3, 1) := dk_29 (dk_at dksX2_mixesRule_0 19 rfl rfl)
theorem dX2_mixesRule_20 : decode cX2_mixesRule 20 = .ok (.invokevirtual 315, 3) := dk_182 1 59 (dk_at dksX2_mixesRule_0 20 rfl rfl)
theorem dX2_mixesRule_23 : decode cX2_mixesRule 23 = .ok (.iload_n 3, 1) := dk_29 (dk_at dksX2_mixesRule_0 23 rfl rfl)
theorem dX2_mixesRule_24 : decode cX2_mixesRule 24 = .ok (.ifCond .ne 4, 3) := dk_154 0 4 (dk_at dksX2_mixesRule_1 0 rfl rfl)
theorem dX2_mixesRule_27 : decode cX2_mixesRule 27 = .ok (.return_, 1) := dk_177 (dk_at dksX2_mixesRule_1 3 rfl rfl)
theorem dX2_mixesRule_28 : decode cX2_mixesRule 28 = .ok (.aload_n 0, 1) := dk_42 (dk_at dksX2_mixesRule_1 4 rfl rfl)
theorem dX2_mixesRule_29 : decode cX2_mixesRule 29 = .ok (.aload_n 0, 1) := dk_42 (dk_at dksX2_mixesRule_1 5 rfl rfl)
theorem dX2_mixesRule_30 : decode cX2_mixesRule 30 = .ok (.getfield 7, 3) := dk_180 0 7 (dk_at dksX2_mixesRule_1 6 rfl rfl)
theorem dX2_mixesRule_33 : decode cX2_mixesRule 33 = .ok (.iload_n 2, 1) := dk_28 (dk_at dksX2_mixesRule_1 9 rfl rfl)
theorem dX2_mixesRule_34 : decode cX2_mixesRule 34 = .ok (.iconst 1, 1) := dk_4 (dk_at dksX2_mixesRule_1 10 rfl rfl)
theorem dX2_mixesRule_35 : decode cX2_mixesRule 35 = .ok (.iadd, 1) := dk_96 (dk_at dksX2_mixesRule_1 11 rfl rfl)
theorem dX2_mixesRule_36 : decode cX2_mixesRule 36 = .ok (.iaload, 1) := dk_46 (dk_at dksX2_mixesRule_1 12 rfl rfl)
theorem dX2_mixesRule_37 : decode cX2_mixesRule 37 = .ok (.invokevirtual 315, 3) := dk_182 1 59 (dk_at dksX2_mixesRule_1 13 rfl rfl)
theorem dX2_mixesRule_40 : decode cX2_mixesRule 40 = .ok (.aload_n 0, 1) := dk_42 (dk_at dksX2_mixesRule_1 16 rfl rfl)
theorem dX2_mixesRule_41 : decode cX2_mixesRule 41 = .ok (.aload_n 0, 1) := dk_42 (dk_at dksX2_mixesRule_1 17 rfl rfl)
theorem dX2_mixesRule_42 : decode cX2_mixesRule 42 = .ok (.getfield 7, 3) := dk_180 0 7 (dk_at dksX2_mixesRule_1 18 rfl rfl)
theorem dX2_mixesRule_45 : decode cX2_mixesRule 45 = .ok (.iload_n 2, 1) := dk_28 (dk_at dksX2_mixesRule_1 21 rfl rfl)
theorem dX2_mixesRule_46 : decode cX2_mixesRule 46 = .ok (.iconst 2, 1) := dk_5 (dk_at dksX2_mixesRule_1 22 rfl rfl)
theorem dX2_mixesRule_47 : decode cX2_mixesRule 47 = .ok (.iadd, 1) := dk_96 (dk_at dksX2_mixesRule_1 23 rfl rfl)
theorem dX2_mixesRule_48 : decode cX2_mixesRule 48 = .ok (.iaload, 1) := dk_46 (dk_at dksX2_mixesRule_2 0 rfl rfl)
theorem dX2_mixesRule_49 : decode cX2_mixesRule 49 = .ok (.invokevirtual 315, 3) := dk_182 1 59 (dk_at dksX2_mixesRule_2 1 rfl rfl)
theorem dX2_mixesRule_52 : decode cX2_mixesRule 52 = .ok (.iload_n 3, 1) := dk_29 (dk_at dksX2_mixesRule_2 4 rfl rfl)
theorem dX2_mixesRule_53 : decode cX2_mixesRule 53 = .ok (.iconst 1, 1) := dk_4 (dk_at dksX2_mixesRule_2 5 rfl rfl)
theorem dX2_mixesRule_54 : decode cX2_mixesRule 54 = .ok (.if_icmp .ne 27, 3) := dk_160 0 27 (dk_at dksX2_mixesRule_2 6 rfl rfl)
theorem dX2_mixesRule_57 : decode cX2_mixesRule 57 = .ok (.aload_n 0, 1) := dk_42 (dk_at dksX2_mixesRule_2 9 rfl rfl)
theorem dX2_mixesRule_58 : decode cX2_mixesRule 58 = .ok (.aload_n 0, 1) := dk_42 (dk_at dksX2_mixesRule_2 10 rfl rfl)
theorem dX2_mixesRule_59 : decode cX2_mixesRule 59 = .ok (.getfield 7, 3) := dk_180 0 7 (dk_at dksX2_mixesRule_2 11 rfl rfl)
theorem dX2_mixesRule_62 : decode cX2_mixesRule 62 = .ok (.iload_n 2, 1) := dk_28 (dk_at dksX2_mixesRule_2 14 rfl rfl)
theorem dX2_mixesRule_63 : decode cX2_mixesRule 63 = .ok (.iconst 3, 1) := dk_6 (dk_at dksX2_mixesRule_2 15 rfl rfl)
theorem dX2_mixesRule_64 : decode cX2_mixesRule 64 = .ok (.iadd, 1) := dk_96 (dk_at dksX2_mixesRule_2 16 rfl rfl)
theorem dX2_mixesRule_65 : decode cX2_mixesRule 65 = .ok (.iaload, 1) := dk_46 (dk_at dksX2_mixesRule_2 17 rfl rfl)
theorem dX2_mixesRule_66 : decode cX2_mixesRule 66 = .ok (.invokevirtual 315, 3) := dk_182 1 59 (dk_at dksX2_mixesRule_2 18 rfl rfl)
theorem dX2_mixesRule_69 : decode cX2_mixesRule 69 = .ok (.aload_n 0, 1) := dk_42 (dk_at dksX2_mixesRule_2 21 rfl rfl)
theorem dX2_mixesRule_70 : decode cX2_mixesRule 70 = .ok (.aload_n 0, 1) := dk_42 (dk_at dksX2_mixesRule_2 22 rfl rfl)
theorem dX2_mixesRule_71 : decode cX2_mixesRule 71 = .ok (.getfield 7, 3) := dk_180 0 7 (dk_at dksX2_mixesRule_3 0 rfl rfl)
theorem dX2_mixesRule_74 : decode cX2_mixesRule 74 = .ok (.iload_n 2, 1) := dk_28 (dk_at dksX2_mixesRule_3 3 rfl rfl)
theorem dX2_mixesRule_75 : decode cX2_mixesRule 75 = .ok (.iconst 4, 1) := dk_7 (dk_at dksX2_mixesRule_3 4 rfl rfl)
theorem dX2_mixesRule_76 : decode cX2_mixesRule 76 = .ok (.iadd, 1) := dk_96 (dk_at dksX2_mixesRule_3 5 rfl rfl)
theorem dX2_mixesRule_77 : decode cX2_mixesRule 77 = .ok (.iaload, 1) := dk_46 (dk_at dksX2_mixesRule_3 6 rfl rfl)
theorem dX2_mixesRule_78 : decode cX2_mixesRule 78 = .ok (.invokevirtual 315, 3) := dk_182 1 59 (dk_at dksX2_mixesRule_3 7 rfl rfl)
theorem dX2_mixesRule_81 : decode cX2_mixesRule 81 = .ok (.aload_n 0, 1) := dk_42 (dk_at dksX2_mixesRule_3 10 rfl rfl)
theorem dX2_mixesRule_82 : decode cX2_mixesRule 82 = .ok (.iload_n 2, 1) := dk_28 (dk_at dksX2_mixesRule_3 11 rfl rfl)
theorem dX2_mixesRule_83 : decode cX2_mixesRule 83 = .ok (.iconst 5, 1) := dk_8 (dk_at dksX2_mixesRule_3 12 rfl rfl)
theorem dX2_mixesRule_84 : decode cX2_mixesRule 84 = .ok (.iadd, 1) := dk_96 (dk_at dksX2_mixesRule_3 13 rfl rfl)
theorem dX2_mixesRule_85 : decode cX2_mixesRule 85 = .ok (.invokevirtual 318, 3) := dk_182 1 62 (dk_at dksX2_mixesRule_3 14 rfl rfl)
theorem dX2_mixesRule_88 : decode cX2_mixesRule 88 = .ok (.iload_n 3, 1) := dk_29 (dk_at dksX2_mixesRule_3 17 rfl rfl)
theorem dX2_mixesRule_89 : decode cX2_mixesRule 89 = .ok (.iconst 1, 1) := dk_4 (dk_at dksX2_mixesRule_3 18 rfl rfl)
theorem dX2_mixesRule_90 : decode cX2_mixesRule 90 = .ok (.if_icmp .ne 17, 3) := dk_160 0 17 (dk_at dksX2_mixesRule_3 19 rfl rfl)
theorem dX2_mixesRule_93 : decode cX2_mixesRule 93 = .ok (.aload_n 0, 1) := dk_42 (dk_at dksX2_mixesRule_3 22 rfl rfl)
theorem dX2_mixesRule_94 : decode cX2_mixesRule 94 = .ok (.bipush 32, 2) := dk_16 32 (dk_at dksX2_mixesRule_4 0 rfl rfl)
theorem dX2_mixesRule_96 : decode cX2_mixesRule 96 = .ok (.invokevirtual 315, 3) := dk_182 1 59 (dk_at dksX2_mixesRule_4 2 rfl rfl)
theorem dX2_mixesRule_99 : decode cX2_mixesRule 99 = .ok (.aload_n 0, 1) := dk_42 (dk_at dksX2_mixesRule_4 5 rfl rfl)
theorem dX2_mixesRule_100 : decode cX2_mixesRule 100 = .ok (.iload_n 2, 1) := dk_28 (dk_at dksX2_mixesRule_4 6 rfl rfl)
theorem dX2_mixesRule_101 : decode cX2_mixesRule 101 = .ok (.bipush 14, 2) := dk_16 14 (dk_at dksX2_mixesRule_4 7 rfl rfl)
theorem dX2_mixesRule_103 : decode cX2_mixesRule 103 = .ok (.iadd, 1) := dk_96 (dk_at dksX2_mixesRule_4 9 rfl rfl)
theorem dX2_mixesRule_104 : decode cX2_mixesRule 104 = .ok (.invokevirtual 318, 3) := dk_182 1 62 (dk_at dksX2_mixesRule_4 10 rfl rfl)
theorem dX2_mixesRule_107 : decode cX2_mixesRule 107 = .ok (.return_, 1) := dk_177 (dk_at dksX2_mixesRule_4 13 rfl rfl)
abbrev cX2_mixesText : ByteArray := prog_10_method_109_code
def yX2_mixesText : MethodName := ⟨RX2, "mixesText", "(I)V"⟩
def dkwX2_mixesText_1 : List UInt8 := [182, 1, 59, 132, 2, 1, 167, 255, 229, 177]
abbrev dktX2_mixesText_1 : List UInt8 := dkwX2_mixesText_1 ++ []
def dkwX2_mixesText_0 : List UInt8 := [3, 61, 28, 42, 180, 0, 7, 27, 46, 162, 0, 23, 42, 42, 180, 0, 7, 27, 4, 96, 28, 96, 46]
abbrev dktX2_mixesText_0 : List UInt8 := dkwX2_mixesText_0 ++ dktX2_mixesText_1
theorem dksX2_mixesText_0 : cX2_mixesText.data.toList.drop 0 = dktX2_mixesText_0 := by decide +kernel
theorem dksX2_mixesText_1 : cX2_mixesText.data.toList.drop 23 = dktX2_mixesText_1 := dk_seg dksX2_mixesText_0 23 rfl rfl
theorem dX2_mixesText_0 : decode cX2_mixesText 0 = .ok (.iconst 0, 1) := dk_3 (dk_at dksX2_mixesText_0 0 rfl rfl)
theorem dX2_mixesText_1 : decode cX2_mixesText 1 = .ok (.istore_n 2, 1) := dk_61 (dk_at dksX2_mixesText_0 1 rfl rfl)
theorem dX2_mixesText_2 : decode cX2_mixesText 2 = .ok (.iload_n 2, 1) := dk_28 (dk_at dksX2_mixesText_0 2 rfl rfl)
theorem dX2_mixesText_3 : decode cX2_mixesText 3 = .ok (.aload_n 0, 1) := dk_42 (dk_at dksX2_mixesText_0 3 rfl rfl)
theorem dX2_mixesText_4 : decode cX2_mixesText 4 = .ok (.getfield 7, 3) := dk_180 0 7 (dk_at dksX2_mixesText_0 4 rfl rfl)
theorem dX2_mixesText_7 : decode cX2_mixesText 7 = .ok (.iload_n 1, 1) := dk_27 (dk_at dksX2_mixesText_0 7 rfl rfl)
theorem dX2_mixesText_8 : decode cX2_mixesText 8 = .ok (.iaload, 1) := dk_46 (dk_at dksX2_mixesText_0 8 rfl rfl)
theorem dX2_mixesText_9 : decode cX2_mixesText 9 = .ok (.if_icmp .ge 23, 3) := dk_162 0 23 (dk_at dksX2_mixesText_0 9 rfl rfl)
theorem dX2_mixesText_12 : decode cX2_mixesText 12 = .ok (.aload_n 0, 1) := dk_42 (dk_at dksX2_mixesText_0 12 rfl rfl)
theorem dX2_mixesText_13 : decode cX2_mixesText 13 = .ok (.aload_n 0, 1) := dk_42 (dk_at dksX2_mixesText_0 13 rfl rfl)
theorem dX2_mixesText_14 : decode cX2_mixesText 14 = .ok (.getfield 7, 3) := dk_180 0 7 (dk_at dksX2_mixesText_0 14 rfl rfl)
theorem dX2_mixesText_17 : decode cX2_mixesText 17 = .ok (.iload_n 1, 1) := dk_27 (dk_at dksX2_mixesText_0 17 rfl rfl)
theorem dX2_mixesText_18 : decode cX2_mixesText 18 = .ok (.iconst 1, 1) := dk_4 (dk_at dksX2_mixesText_0 18 rfl rfl)
theorem dX2_mixesText_19 : decode cX2_mixesText 19 = .ok (.iadd, 1) := dk_96 (dk_at dksX2_mixesText_0 19 rfl rfl)
theorem dX2_mixesText_20 : decode cX2_mixesText 20 = .ok (.iload_n 2, 1) := dk_28 (dk_at dksX2_mixesText_0 20 rfl rfl)
theorem dX2_mixesText_21 : decode cX2_mixesText 21 = .ok (.iadd, 1) := dk_96 (dk_at dksX2_mixesText_0 21 rfl rfl)
theorem dX2_mixesText_22 : decode cX2_mixesText 22 = .ok (.iaload, 1) := dk_46 (dk_at dksX2_mixesText_0 22 rfl rfl)
theorem dX2_mixesText_23 : decode cX2_mixesText 23 = .ok (.invokevirtual 315, 3) := dk_182 1 59 (dk_at dksX2_mixesText_1 0 rfl rfl)
theorem dX2_mixesText_26 : decode cX2_mixesText 26 = .ok (.iinc 2 1, 3) := dk_132 2 1 (dk_at dksX2_mixesText_1 3 rfl rfl)
theorem dX2_mixesText_29 : decode cX2_mixesText 29 = .ok (.goto (-27), 3) := dk_167 255 229 (dk_at dksX2_mixesText_1 6 rfl rfl)
theorem dX2_mixesText_32 : decode cX2_mixesText 32 = .ok (.return_, 1) := dk_177 (dk_at dksX2_mixesText_1 9 rfl rfl)
theorem q101 : (Jvm.Cond.initialized "AutoIndenterModel") ∈ lw_all := lw_g (lw_at lw_m1 6 rfl) rfl
theorem q552 : (Jvm.Cond.selects "AutoIndenterModel" ({ cls := "java/lang/Object", name := "getClass", desc := "()Ljava/lang/Class;" } : Jvm.MethodName) ({ cls := "java/lang/Object", name := "getClass", desc := "()Ljava/lang/Class;" } : Jvm.MethodName)) ∈ lw_all := lw_g (lw_at lw_m2 217 rfl) rfl
theorem q900 : (Jvm.Cond.selects "AutoIndenterModel" ({ cls := "java/lang/Object", name := "hashCode", desc := "()I" } : Jvm.MethodName) ({ cls := "java/lang/Object", name := "hashCode", desc := "()I" } : Jvm.MethodName)) ∈ lw_all := lw_g (lw_at lw_m4 85 rfl) rfl
theorem q973 : (Jvm.Cond.selects "AutoIndenterModel" ({ cls := "java/lang/Object", name := "equals", desc := "(Ljava/lang/Object;)Z" } : Jvm.MethodName) ({ cls := "java/lang/Object", name := "equals", desc := "(Ljava/lang/Object;)Z" } : Jvm.MethodName)) ∈ lw_all := lw_g (lw_at lw_m4 158 rfl) rfl
theorem q2221 : (Jvm.Cond.instantiable "AutoIndenterModel" (41 : Nat)) ∈ lw_all := lw_g (lw_at lw_m9 206 rfl) rfl
theorem q2223 : (Jvm.Cond.instanceMethod ({ cls := "AutoIndenterModel", name := "<init>", desc := "()V" } : Jvm.MethodName)) ∈ lw_all := lw_g (lw_at lw_m9 208 rfl) rfl
theorem q2224 : (Jvm.Cond.code ({ cls := "AutoIndenterModel", name := "<init>", desc := "()V" } : Jvm.MethodName) prog_10_method_1_code (1 : Nat) (Option.none : Option Jvm.ClassFile.FieldType)) ∈ lw_all := lw_g (lw_at lw_m9 209 rfl) rfl
theorem q2225 : (Jvm.Cond.methodLink "AutoIndenterModel" (1 : Nat) ({ cls := "java/lang/Object", name := "<init>", desc := "()V" } : Jvm.MethodName)) ∈ lw_all := lw_g (lw_at lw_m9 210 rfl) rfl
theorem q2226 : (Jvm.Cond.fieldLink "AutoIndenterModel" (7 : Nat) "AutoIndenterModel" "page" "[I") ∈ lw_all := lw_g (lw_at lw_m9 211 rfl) rfl
theorem q2227 : (Jvm.Cond.fieldLink "AutoIndenterModel" (71 : Nat) "AutoIndenterModel" "remembered" "I") ∈ lw_all := lw_g (lw_at lw_m9 212 rfl) rfl
theorem q2228 : (Jvm.Cond.fieldLink "AutoIndenterModel" (13 : Nat) "AutoIndenterModel" "isKept" "[Z") ∈ lw_all := lw_g (lw_at lw_m9 213 rfl) rfl
theorem q2229 : (Jvm.Cond.fieldLink "AutoIndenterModel" (17 : Nat) "AutoIndenterModel" "text" "[I") ∈ lw_all := lw_g (lw_at lw_m9 214 rfl) rfl
theorem q2230 : (Jvm.Cond.fieldLink "AutoIndenterModel" (191 : Nat) "AutoIndenterModel" "typed" "I") ∈ lw_all := lw_g (lw_at lw_m9 215 rfl) rfl
theorem q2231 : (Jvm.Cond.fieldLink "AutoIndenterModel" (20 : Nat) "AutoIndenterModel" "tokenLine" "[I") ∈ lw_all := lw_g (lw_at lw_m9 216 rfl) rfl
theorem q2232 : (Jvm.Cond.fieldLink "AutoIndenterModel" (23 : Nat) "AutoIndenterModel" "tokenSpot" "[I") ∈ lw_all := lw_g (lw_at lw_m9 217 rfl) rfl
theorem q2233 : (Jvm.Cond.fieldLink "AutoIndenterModel" (26 : Nat) "AutoIndenterModel" "tokenLong" "[I") ∈ lw_all := lw_g (lw_at lw_m9 218 rfl) rfl
theorem q2234 : (Jvm.Cond.fieldLink "AutoIndenterModel" (29 : Nat) "AutoIndenterModel" "tokenSort" "[I") ∈ lw_all := lw_g (lw_at lw_m9 219 rfl) rfl
theorem q2235 : (Jvm.Cond.fieldLink "AutoIndenterModel" (32 : Nat) "AutoIndenterModel" "opens" "[I") ∈ lw_all := lw_g (lw_at lw_m9 220 rfl) rfl
theorem q2236 : (Jvm.Cond.fieldLink "AutoIndenterModel" (35 : Nat) "AutoIndenterModel" "closes" "[I") ∈ lw_all := lw_g (lw_at lw_m9 221 rfl) rfl
theorem q2237 : (Jvm.Cond.fieldLink "AutoIndenterModel" (38 : Nat) "AutoIndenterModel" "closer" "[I") ∈ lw_all := lw_g (lw_at lw_m9 222 rfl) rfl
theorem q2238 : (Jvm.Cond.fieldLink "AutoIndenterModel" (98 : Nat) "AutoIndenterModel" "many" "I") ∈ lw_all := lw_g (lw_at lw_m9 223 rfl) rfl
theorem q2239 : (Jvm.Cond.fieldLink "AutoIndenterModel" (41 : Nat) "AutoIndenterModel" "firstOf" "[I") ∈ lw_all := lw_g (lw_at lw_m9 224 rfl) rfl
theorem q2240 : (Jvm.Cond.fieldLink "AutoIndenterModel" (44 : Nat) "AutoIndenterModel" "isHeld" "[Z") ∈ lw_all := lw_g (lw_at lw_m9 225 rfl) rfl
theorem q2241 : (Jvm.Cond.fieldLink "AutoIndenterModel" (47 : Nat) "AutoIndenterModel" "depths" "[I") ∈ lw_all := lw_g (lw_at lw_m9 226 rfl) rfl
theorem q2242 : (Jvm.Cond.fieldLink "AutoIndenterModel" (50 : Nat) "AutoIndenterModel" "stacks" "[I") ∈ lw_all := lw_g (lw_at lw_m9 227 rfl) rfl
theorem q2243 : (Jvm.Cond.fieldLink "AutoIndenterModel" (53 : Nat) "AutoIndenterModel" "stack" "[I") ∈ lw_all := lw_g (lw_at lw_m9 228 rfl) rfl
theorem q2244 : (Jvm.Cond.fieldLink "AutoIndenterModel" (126 : Nat) "AutoIndenterModel" "stacked" "I") ∈ lw_all := lw_g (lw_at lw_m9 229 rfl) rfl
theorem q2245 : (Jvm.Cond.fieldLink "AutoIndenterModel" (135 : Nat) "AutoIndenterModel" "stray" "I") ∈ lw_all := lw_g (lw_at lw_m9 230 rfl) rfl
theorem q2246 : (Jvm.Cond.fieldLink "AutoIndenterModel" (129 : Nat) "AutoIndenterModel" "gone" "I") ∈ lw_all := lw_g (lw_at lw_m9 231 rfl) rfl
theorem q2247 : (Jvm.Cond.fieldLink "AutoIndenterModel" (56 : Nat) "AutoIndenterModel" "row" "[I") ∈ lw_all := lw_g (lw_at lw_m9 232 rfl) rfl
theorem q2248 : (Jvm.Cond.fieldLink "AutoIndenterModel" (154 : Nat) "AutoIndenterModel" "useStep" "I") ∈ lw_all := lw_g (lw_at lw_m9 233 rfl) rfl
theorem q2249 : (Jvm.Cond.fieldLink "AutoIndenterModel" (157 : Nat) "AutoIndenterModel" "useBase" "I") ∈ lw_all := lw_g (lw_at lw_m9 234 rfl) rfl
theorem q2250 : (Jvm.Cond.fieldLink "AutoIndenterModel" (170 : Nat) "AutoIndenterModel" "column" "I") ∈ lw_all := lw_g (lw_at lw_m9 235 rfl) rfl
theorem q2251 : (Jvm.Cond.fieldLink "AutoIndenterModel" (173 : Nat) "AutoIndenterModel" "why" "I") ∈ lw_all := lw_g (lw_at lw_m9 236 rfl) rfl
theorem q2252 : (Jvm.Cond.fieldLink "AutoIndenterModel" (176 : Nat) "AutoIndenterModel" "by" "I") ∈ lw_all := lw_g (lw_at lw_m9 237 rfl) rfl
theorem q2253 : (Jvm.Cond.fieldLink "AutoIndenterModel" (167 : Nat) "AutoIndenterModel" "weight" "I") ∈ lw_all := lw_g (lw_at lw_m9 238 rfl) rfl
theorem q2254 : (Jvm.Cond.fieldLink "AutoIndenterModel" (194 : Nat) "AutoIndenterModel" "lineFrom" "I") ∈ lw_all := lw_g (lw_at lw_m9 239 rfl) rfl
theorem q2255 : (Jvm.Cond.fieldLink "AutoIndenterModel" (197 : Nat) "AutoIndenterModel" "lineTo" "I") ∈ lw_all := lw_g (lw_at lw_m10 0 rfl) rfl
theorem q2256 : (Jvm.Cond.fieldLink "AutoIndenterModel" (59 : Nat) "AutoIndenterModel" "textFrom" "[I") ∈ lw_all := lw_g (lw_at lw_m10 1 rfl) rfl
theorem q2257 : (Jvm.Cond.fieldLink "AutoIndenterModel" (62 : Nat) "AutoIndenterModel" "textTo" "[I") ∈ lw_all := lw_g (lw_at lw_m10 2 rfl) rfl
theorem q2258 : (Jvm.Cond.fieldLink "AutoIndenterModel" (237 : Nat) "AutoIndenterModel" "spot" "I") ∈ lw_all := lw_g (lw_at lw_m10 3 rfl) rfl
theorem q2259 : (Jvm.Cond.fieldLink "AutoIndenterModel" (265 : Nat) "AutoIndenterModel" "fewest" "I") ∈ lw_all := lw_g (lw_at lw_m10 4 rfl) rfl
theorem q2260 : (Jvm.Cond.fieldLink "AutoIndenterModel" (268 : Nat) "AutoIndenterModel" "fewestStep" "I") ∈ lw_all := lw_g (lw_at lw_m10 5 rfl) rfl
theorem q2261 : (Jvm.Cond.fieldLink "AutoIndenterModel" (271 : Nat) "AutoIndenterModel" "fewestBase" "I") ∈ lw_all := lw_g (lw_at lw_m10 6 rfl) rfl
theorem q2262 : (Jvm.Cond.fieldLink "AutoIndenterModel" (292 : Nat) "AutoIndenterModel" "often" "I") ∈ lw_all := lw_g (lw_at lw_m10 7 rfl) rfl
theorem q2263 : (Jvm.Cond.fieldLink "AutoIndenterModel" (299 : Nat) "AutoIndenterModel" "drawn" "I") ∈ lw_all := lw_g (lw_at lw_m10 8 rfl) rfl
theorem q2264 : (Jvm.Cond.fieldLink "AutoIndenterModel" (65 : Nat) "AutoIndenterModel" "pieceEnds" "[I") ∈ lw_all := lw_g (lw_at lw_m10 9 rfl) rfl
theorem q2265 : (Jvm.Cond.fieldLink "AutoIndenterModel" (68 : Nat) "AutoIndenterModel" "pieces" "[I") ∈ lw_all := lw_g (lw_at lw_m10 10 rfl) rfl
theorem q2266 : (Jvm.Cond.fieldLink "AutoIndenterModel" (311 : Nat) "AutoIndenterModel" "hash" "J") ∈ lw_all := lw_g (lw_at lw_m10 11 rfl) rfl
theorem q2267 : (Jvm.Cond.laysFinal "AutoIndenterModel" "AutoIndenterModel" "page" "[I") ∈ lw_all := lw_g (lw_at lw_m10 12 rfl) rfl
theorem q2268 : (Jvm.Cond.soleField "AutoIndenterModel" "page") ∈ lw_all := lw_g (lw_at lw_m10 13 rfl) rfl
theorem q2269 : (Jvm.Cond.lays "AutoIndenterModel" "AutoIndenterModel" "remembered" "I") ∈ lw_all := lw_g (lw_at lw_m10 14 rfl) rfl
theorem q2270 : (Jvm.Cond.soleField "AutoIndenterModel" "remembered") ∈ lw_all := lw_g (lw_at lw_m10 15 rfl) rfl
theorem q2271 : (Jvm.Cond.laysFinal "AutoIndenterModel" "AutoIndenterModel" "isKept" "[Z") ∈ lw_all := lw_g (lw_at lw_m10 16 rfl) rfl
theorem q2272 : (Jvm.Cond.soleField "AutoIndenterModel" "isKept") ∈ lw_all := lw_g (lw_at lw_m10 17 rfl) rfl
theorem q2273 : (Jvm.Cond.laysFinal "AutoIndenterModel" "AutoIndenterModel" "text" "[I") ∈ lw_all := lw_g (lw_at lw_m10 18 rfl) rfl
theorem q2274 : (Jvm.Cond.soleField "AutoIndenterModel" "text") ∈ lw_all := lw_g (lw_at lw_m10 19 rfl) rfl
theorem q2275 : (Jvm.Cond.lays "AutoIndenterModel" "AutoIndenterModel" "typed" "I") ∈ lw_all := lw_g (lw_at lw_m10 20 rfl) rfl
theorem q2276 : (Jvm.Cond.soleField "AutoIndenterModel" "typed") ∈ lw_all := lw_g (lw_at lw_m10 21 rfl) rfl
theorem q2277 : (Jvm.Cond.laysFinal "AutoIndenterModel" "AutoIndenterModel" "tokenLine" "[I") ∈ lw_all := lw_g (lw_at lw_m10 22 rfl) rfl
theorem q2278 : (Jvm.Cond.soleField "AutoIndenterModel" "tokenLine") ∈ lw_all := lw_g (lw_at lw_m10 23 rfl) rfl
theorem q2279 : (Jvm.Cond.laysFinal "AutoIndenterModel" "AutoIndenterModel" "tokenSpot" "[I") ∈ lw_all := lw_g (lw_at lw_m10 24 rfl) rfl
theorem q2280 : (Jvm.Cond.soleField "AutoIndenterModel" "tokenSpot") ∈ lw_all := lw_g (lw_at lw_m10 25 rfl) rfl
theorem q2281 : (Jvm.Cond.laysFinal "AutoIndenterModel" "AutoIndenterModel" "tokenLong" "[I") ∈ lw_all := lw_g (lw_at lw_m10 26 rfl) rfl
theorem q2282 : (Jvm.Cond.soleField "AutoIndenterModel" "tokenLong") ∈ lw_all := lw_g (lw_at lw_m10 27 rfl) rfl
theorem q2283 : (Jvm.Cond.laysFinal "AutoIndenterModel" "AutoIndenterModel" "tokenSort" "[I") ∈ lw_all := lw_g (lw_at lw_m10 28 rfl) rfl
theorem q2284 : (Jvm.Cond.soleField "AutoIndenterModel" "tokenSort") ∈ lw_all := lw_g (lw_at lw_m10 29 rfl) rfl
theorem q2285 : (Jvm.Cond.laysFinal "AutoIndenterModel" "AutoIndenterModel" "opens" "[I") ∈ lw_all := lw_g (lw_at lw_m10 30 rfl) rfl
theorem q2286 : (Jvm.Cond.soleField "AutoIndenterModel" "opens") ∈ lw_all := lw_g (lw_at lw_m10 31 rfl) rfl
theorem q2287 : (Jvm.Cond.laysFinal "AutoIndenterModel" "AutoIndenterModel" "closes" "[I") ∈ lw_all := lw_g (lw_at lw_m10 32 rfl) rfl
theorem q2288 : (Jvm.Cond.soleField "AutoIndenterModel" "closes") ∈ lw_all := lw_g (lw_at lw_m10 33 rfl) rfl
theorem q2289 : (Jvm.Cond.laysFinal "AutoIndenterModel" "AutoIndenterModel" "closer" "[I") ∈ lw_all := lw_g (lw_at lw_m10 34 rfl) rfl
theorem q2290 : (Jvm.Cond.soleField "AutoIndenterModel" "closer") ∈ lw_all := lw_g (lw_at lw_m10 35 rfl) rfl
theorem q2291 : (Jvm.Cond.lays "AutoIndenterModel" "AutoIndenterModel" "many" "I") ∈ lw_all := lw_g (lw_at lw_m10 36 rfl) rfl
theorem q2292 : (Jvm.Cond.soleField "AutoIndenterModel" "many") ∈ lw_all := lw_g (lw_at lw_m10 37 rfl) rfl
theorem q2293 : (Jvm.Cond.laysFinal "AutoIndenterModel" "AutoIndenterModel" "firstOf" "[I") ∈ lw_all := lw_g (lw_at lw_m10 38 rfl) rfl
theorem q2294 : (Jvm.Cond.soleField "AutoIndenterModel" "firstOf") ∈ lw_all := lw_g (lw_at lw_m10 39 rfl) rfl
theorem q2295 : (Jvm.Cond.laysFinal "AutoIndenterModel" "AutoIndenterModel" "isHeld" "[Z") ∈ lw_all := lw_g (lw_at lw_m10 40 rfl) rfl
theorem q2296 : (Jvm.Cond.soleField "AutoIndenterModel" "isHeld") ∈ lw_all := lw_g (lw_at lw_m10 41 rfl) rfl
theorem q2297 : (Jvm.Cond.laysFinal "AutoIndenterModel" "AutoIndenterModel" "depths" "[I") ∈ lw_all := lw_g (lw_at lw_m10 42 rfl) rfl
theorem q2298 : (Jvm.Cond.soleField "AutoIndenterModel" "depths") ∈ lw_all := lw_g (lw_at lw_m10 43 rfl) rfl
theorem q2299 : (Jvm.Cond.laysFinal "AutoIndenterModel" "AutoIndenterModel" "stacks" "[I") ∈ lw_all := lw_g (lw_at lw_m10 44 rfl) rfl
theorem q2300 : (Jvm.Cond.soleField "AutoIndenterModel" "stacks") ∈ lw_all := lw_g (lw_at lw_m10 45 rfl) rfl
theorem q2301 : (Jvm.Cond.laysFinal "AutoIndenterModel" "AutoIndenterModel" "stack" "[I") ∈ lw_all := lw_g (lw_at lw_m10 46 rfl) rfl
theorem q2302 : (Jvm.Cond.soleField "AutoIndenterModel" "stack") ∈ lw_all := lw_g (lw_at lw_m10 47 rfl) rfl
theorem q2303 : (Jvm.Cond.lays "AutoIndenterModel" "AutoIndenterModel" "stacked" "I") ∈ lw_all := lw_g (lw_at lw_m10 48 rfl) rfl
theorem q2304 : (Jvm.Cond.soleField "AutoIndenterModel" "stacked") ∈ lw_all := lw_g (lw_at lw_m10 49 rfl) rfl
theorem q2305 : (Jvm.Cond.lays "AutoIndenterModel" "AutoIndenterModel" "stray" "I") ∈ lw_all := lw_g (lw_at lw_m10 50 rfl) rfl
theorem q2306 : (Jvm.Cond.soleField "AutoIndenterModel" "stray") ∈ lw_all := lw_g (lw_at lw_m10 51 rfl) rfl
theorem q2307 : (Jvm.Cond.lays "AutoIndenterModel" "AutoIndenterModel" "gone" "I") ∈ lw_all := lw_g (lw_at lw_m10 52 rfl) rfl
theorem q2308 : (Jvm.Cond.soleField "AutoIndenterModel" "gone") ∈ lw_all := lw_g (lw_at lw_m10 53 rfl) rfl
theorem q2309 : (Jvm.Cond.laysFinal "AutoIndenterModel" "AutoIndenterModel" "row" "[I") ∈ lw_all := lw_g (lw_at lw_m10 54 rfl) rfl
theorem q2310 : (Jvm.Cond.soleField "AutoIndenterModel" "row") ∈ lw_all := lw_g (lw_at lw_m10 55 rfl) rfl
theorem q2311 : (Jvm.Cond.lays "AutoIndenterModel" "AutoIndenterModel" "useStep" "I") ∈ lw_all := lw_g (lw_at lw_m10 56 rfl) rfl
theorem q2312 : (Jvm.Cond.soleField "AutoIndenterModel" "useStep") ∈ lw_all := lw_g (lw_at lw_m10 57 rfl) rfl
theorem q2313 : (Jvm.Cond.lays "AutoIndenterModel" "AutoIndenterModel" "useBase" "I") ∈ lw_all := lw_g (lw_at lw_m10 58 rfl) rfl
theorem q2314 : (Jvm.Cond.soleField "AutoIndenterModel" "useBase") ∈ lw_all := lw_g (lw_at lw_m10 59 rfl) rfl
theorem q2315 : (Jvm.Cond.lays "AutoIndenterModel" "AutoIndenterModel" "column" "I") ∈ lw_all := lw_g (lw_at lw_m10 60 rfl) rfl
theorem q2316 : (Jvm.Cond.soleField "AutoIndenterModel" "column") ∈ lw_all := lw_g (lw_at lw_m10 61 rfl) rfl
theorem q2317 : (Jvm.Cond.lays "AutoIndenterModel" "AutoIndenterModel" "why" "I") ∈ lw_all := lw_g (lw_at lw_m10 62 rfl) rfl
theorem q2318 : (Jvm.Cond.soleField "AutoIndenterModel" "why") ∈ lw_all := lw_g (lw_at lw_m10 63 rfl) rfl
theorem q2319 : (Jvm.Cond.lays "AutoIndenterModel" "AutoIndenterModel" "by" "I") ∈ lw_all := lw_g (lw_at lw_m10 64 rfl) rfl
theorem q2320 : (Jvm.Cond.soleField "AutoIndenterModel" "by") ∈ lw_all := lw_g (lw_at lw_m10 65 rfl) rfl
theorem q2321 : (Jvm.Cond.lays "AutoIndenterModel" "AutoIndenterModel" "weight" "I") ∈ lw_all := lw_g (lw_at lw_m10 66 rfl) rfl
theorem q2322 : (Jvm.Cond.soleField "AutoIndenterModel" "weight") ∈ lw_all := lw_g (lw_at lw_m10 67 rfl) rfl
theorem q2323 : (Jvm.Cond.lays "AutoIndenterModel" "AutoIndenterModel" "lineFrom" "I") ∈ lw_all := lw_g (lw_at lw_m10 68 rfl) rfl
theorem q2324 : (Jvm.Cond.soleField "AutoIndenterModel" "lineFrom") ∈ lw_all := lw_g (lw_at lw_m10 69 rfl) rfl
theorem q2325 : (Jvm.Cond.lays "AutoIndenterModel" "AutoIndenterModel" "lineTo" "I") ∈ lw_all := lw_g (lw_at lw_m10 70 rfl) rfl
theorem q2326 : (Jvm.Cond.soleField "AutoIndenterModel" "lineTo") ∈ lw_all := lw_g (lw_at lw_m10 71 rfl) rfl
theorem q2327 : (Jvm.Cond.laysFinal "AutoIndenterModel" "AutoIndenterModel" "textFrom" "[I") ∈ lw_all := lw_g (lw_at lw_m10 72 rfl) rfl
theorem q2328 : (Jvm.Cond.soleField "AutoIndenterModel" "textFrom") ∈ lw_all := lw_g (lw_at lw_m10 73 rfl) rfl
theorem q2329 : (Jvm.Cond.laysFinal "AutoIndenterModel" "AutoIndenterModel" "textTo" "[I") ∈ lw_all := lw_g (lw_at lw_m10 74 rfl) rfl
theorem q2330 : (Jvm.Cond.soleField "AutoIndenterModel" "textTo") ∈ lw_all := lw_g (lw_at lw_m10 75 rfl) rfl
theorem q2331 : (Jvm.Cond.lays "AutoIndenterModel" "AutoIndenterModel" "spot" "I") ∈ lw_all := lw_g (lw_at lw_m10 76 rfl) rfl
theorem q2332 : (Jvm.Cond.soleField "AutoIndenterModel" "spot") ∈ lw_all := lw_g (lw_at lw_m10 77 rfl) rfl
theorem q2333 : (Jvm.Cond.lays "AutoIndenterModel" "AutoIndenterModel" "fewest" "I") ∈ lw_all := lw_g (lw_at lw_m10 78 rfl) rfl
theorem q2334 : (Jvm.Cond.soleField "AutoIndenterModel" "fewest") ∈ lw_all := lw_g (lw_at lw_m10 79 rfl) rfl
theorem q2335 : (Jvm.Cond.lays "AutoIndenterModel" "AutoIndenterModel" "fewestStep" "I") ∈ lw_all := lw_g (lw_at lw_m10 80 rfl) rfl
theorem q2336 : (Jvm.Cond.soleField "AutoIndenterModel" "fewestStep") ∈ lw_all := lw_g (lw_at lw_m10 81 rfl) rfl
theorem q2337 : (Jvm.Cond.lays "AutoIndenterModel" "AutoIndenterModel" "fewestBase" "I") ∈ lw_all := lw_g (lw_at lw_m10 82 rfl) rfl
theorem q2338 : (Jvm.Cond.soleField "AutoIndenterModel" "fewestBase") ∈ lw_all := lw_g (lw_at lw_m10 83 rfl) rfl
theorem q2339 : (Jvm.Cond.lays "AutoIndenterModel" "AutoIndenterModel" "often" "I") ∈ lw_all := lw_g (lw_at lw_m10 84 rfl) rfl
theorem q2340 : (Jvm.Cond.soleField "AutoIndenterModel" "often") ∈ lw_all := lw_g (lw_at lw_m10 85 rfl) rfl
theorem q2341 : (Jvm.Cond.lays "AutoIndenterModel" "AutoIndenterModel" "drawn" "I") ∈ lw_all := lw_g (lw_at lw_m10 86 rfl) rfl
theorem q2342 : (Jvm.Cond.soleField "AutoIndenterModel" "drawn") ∈ lw_all := lw_g (lw_at lw_m10 87 rfl) rfl
theorem q2343 : (Jvm.Cond.laysFinal "AutoIndenterModel" "AutoIndenterModel" "pieceEnds" "[I") ∈ lw_all := lw_g (lw_at lw_m10 88 rfl) rfl
theorem q2344 : (Jvm.Cond.soleField "AutoIndenterModel" "pieceEnds") ∈ lw_all := lw_g (lw_at lw_m10 89 rfl) rfl
theorem q2345 : (Jvm.Cond.laysFinal "AutoIndenterModel" "AutoIndenterModel" "pieces" "[I") ∈ lw_all := lw_g (lw_at lw_m10 90 rfl) rfl
theorem q2346 : (Jvm.Cond.soleField "AutoIndenterModel" "pieces") ∈ lw_all := lw_g (lw_at lw_m10 91 rfl) rfl
theorem q2347 : (Jvm.Cond.lays "AutoIndenterModel" "AutoIndenterModel" "hash" "J") ∈ lw_all := lw_g (lw_at lw_m10 92 rfl) rfl
theorem q2348 : (Jvm.Cond.soleField "AutoIndenterModel" "hash") ∈ lw_all := lw_g (lw_at lw_m10 93 rfl) rfl
theorem q2349 : (Jvm.Cond.superclass "AutoIndenterModel" "java/lang/Object") ∈ lw_all := lw_g (lw_at lw_m10 94 rfl) rfl
theorem q2351 : (Jvm.Cond.instanceMethod ({ cls := "AutoIndenterModel", name := "type", desc := "(I)I" } : Jvm.MethodName)) ∈ lw_all := lw_g (lw_at lw_m10 96 rfl) rfl
theorem q2352 : (Jvm.Cond.selects "AutoIndenterModel" ({ cls := "AutoIndenterModel", name := "type", desc := "(I)I" } : Jvm.MethodName) ({ cls := "AutoIndenterModel", name := "type", desc := "(I)I" } : Jvm.MethodName)) ∈ lw_all := lw_g (lw_at lw_m10 97 rfl) rfl
theorem q2353 : (Jvm.Cond.code ({ cls := "AutoIndenterModel", name := "type", desc := "(I)I" } : Jvm.MethodName) prog_10_method_34_code (2 : Nat) (Option.some Jvm.ClassFile.FieldType.int)) ∈ lw_all := lw_g (lw_at lw_m10 98 rfl) rfl
theorem q2354 : (Jvm.Cond.methodLink "AutoIndenterModel" (79 : Nat) ({ cls := "AutoIndenterModel", name := "in", desc := "(III)Z" } : Jvm.MethodName)) ∈ lw_all := lw_g (lw_at lw_m10 99 rfl) rfl
theorem q2355 : (Jvm.Cond.static ({ cls := "AutoIndenterModel", name := "in", desc := "(III)Z" } : Jvm.MethodName)) ∈ lw_all := lw_g (lw_at lw_m10 100 rfl) rfl
theorem q2356 : (Jvm.Cond.code ({ cls := "AutoIndenterModel", name := "in", desc := "(III)Z" } : Jvm.MethodName) prog_10_method_3_code (3 : Nat) (Option.some Jvm.ClassFile.FieldType.boolean)) ∈ lw_all := lw_g (lw_at lw_m10 101 rfl) rfl
theorem q2358 : (Jvm.Cond.instanceMethod ({ cls := "AutoIndenterModel", name := "clear", desc := "()I" } : Jvm.MethodName)) ∈ lw_all := lw_g (lw_at lw_m10 103 rfl) rfl
theorem q2359 : (Jvm.Cond.selects "AutoIndenterModel" ({ cls := "AutoIndenterModel", name := "clear", desc := "()I" } : Jvm.MethodName) ({ cls := "AutoIndenterModel", name := "clear", desc := "()I" } : Jvm.MethodName)) ∈ lw_all := lw_g (lw_at lw_m10 104 rfl) rfl
theorem q2360 : (Jvm.Cond.code ({ cls := "AutoIndenterModel", name := "clear", desc := "()I" } : Jvm.MethodName) prog_10_method_35_code (2 : Nat) (Option.some Jvm.ClassFile.FieldType.int)) ∈ lw_all := lw_g (lw_at lw_m10 105 rfl) rfl
theorem q2362 : (Jvm.Cond.instanceMethod ({ cls := "AutoIndenterModel", name := "insertLine", desc := "(I)I" } : Jvm.MethodName)) ∈ lw_all := lw_g (lw_at lw_m10 107 rfl) rfl
theorem q2363 : (Jvm.Cond.selects "AutoIndenterModel" ({ cls := "AutoIndenterModel", name := "insertLine", desc := "(I)I" } : Jvm.MethodName) ({ cls := "AutoIndenterModel", name := "insertLine", desc := "(I)I" } : Jvm.MethodName)) ∈ lw_all := lw_g (lw_at lw_m10 108 rfl) rfl
theorem q2364 : (Jvm.Cond.code ({ cls := "AutoIndenterModel", name := "insertLine", desc := "(I)I" } : Jvm.MethodName) prog_10_method_41_code (2 : Nat) (Option.some Jvm.ClassFile.FieldType.int)) ∈ lw_all := lw_g (lw_at lw_m10 109 rfl) rfl
theorem q2365 : (Jvm.Cond.methodLink "AutoIndenterModel" (203 : Nat) ({ cls := "AutoIndenterModel", name := "isLineText", desc := "()Z" } : Jvm.MethodName)) ∈ lw_all := lw_g (lw_at lw_m10 110 rfl) rfl
theorem q2366 : (Jvm.Cond.privateMethod ({ cls := "AutoIndenterModel", name := "isLineText", desc := "()Z" } : Jvm.MethodName)) ∈ lw_tbl := lw_at lw_m10 111 rfl
theorem q2367 : (Jvm.Cond.instanceMethod ({ cls := "AutoIndenterModel", name := "isLineText", desc := "()Z" } : Jvm.MethodName)) ∈ lw_all := lw_g (lw_at lw_m10 112 rfl) rfl
theorem q2368 : (Jvm.Cond.code ({ cls := "AutoIndenterModel", name := "isLineText", desc := "()Z" } : Jvm.MethodName) prog_10_method_36_code (1 : Nat) (Option.some Jvm.ClassFile.FieldType.boolean)) ∈ lw_all := lw_g (lw_at lw_m10 113 rfl) rfl
theorem q2369 : (Jvm.Cond.methodLink "AutoIndenterModel" (207 : Nat) ({ cls := "AutoIndenterModel", name := "begins", desc := "()V" } : Jvm.MethodName)) ∈ lw_all := lw_g (lw_at lw_m10 114 rfl) rfl
theorem q2370 : (Jvm.Cond.privateMethod ({ cls := "AutoIndenterModel", name := "begins", desc := "()V" } : Jvm.MethodName)) ∈ lw_tbl := lw_at lw_m10 115 rfl
theorem q2371 : (Jvm.Cond.instanceMethod ({ cls := "AutoIndenterModel", name := "begins", desc := "()V" } : Jvm.MethodName)) ∈ lw_all := lw_g (lw_at lw_m10 116 rfl) rfl
theorem q2372 : (Jvm.Cond.code ({ cls := "AutoIndenterModel", name := "begins", desc := "()V" } : Jvm.MethodName) prog_10_method_6_code (2 : Nat) (Option.none : Option Jvm.ClassFile.FieldType)) ∈ lw_all := lw_g (lw_at lw_m10 117 rfl) rfl
theorem q2373 : (Jvm.Cond.methodLink "AutoIndenterModel" (75 : Nat) ({ cls := "AutoIndenterModel", name := "copies", desc := "(II)V" } : Jvm.MethodName)) ∈ lw_all := lw_g (lw_at lw_m10 118 rfl) rfl
theorem q2374 : (Jvm.Cond.privateMethod ({ cls := "AutoIndenterModel", name := "copies", desc := "(II)V" } : Jvm.MethodName)) ∈ lw_tbl := lw_at lw_m10 119 rfl
theorem q2375 : (Jvm.Cond.instanceMethod ({ cls := "AutoIndenterModel", name := "copies", desc := "(II)V" } : Jvm.MethodName)) ∈ lw_all := lw_g (lw_at lw_m10 120 rfl) rfl
theorem q2376 : (Jvm.Cond.code ({ cls := "AutoIndenterModel", name := "copies", desc := "(II)V" } : Jvm.MethodName) prog_10_method_5_code (4 : Nat) (Option.none : Option Jvm.ClassFile.FieldType)) ∈ lw_all := lw_g (lw_at lw_m10 121 rfl) rfl
theorem q2377 : (Jvm.Cond.methodLink "AutoIndenterModel" (210 : Nat) ({ cls := "AutoIndenterModel", name := "parts", desc := "(I)V" } : Jvm.MethodName)) ∈ lw_all := lw_g (lw_at lw_m10 122 rfl) rfl
theorem q2378 : (Jvm.Cond.privateMethod ({ cls := "AutoIndenterModel", name := "parts", desc := "(I)V" } : Jvm.MethodName)) ∈ lw_tbl := lw_at lw_m10 123 rfl
theorem q2379 : (Jvm.Cond.instanceMethod ({ cls := "AutoIndenterModel", name := "parts", desc := "(I)V" } : Jvm.MethodName)) ∈ lw_all := lw_g (lw_at lw_m10 124 rfl) rfl
theorem q2380 : (Jvm.Cond.code ({ cls := "AutoIndenterModel", name := "parts", desc := "(I)V" } : Jvm.MethodName) prog_10_method_39_code (3 : Nat) (Option.none : Option Jvm.ClassFile.FieldType)) ∈ lw_all := lw_g (lw_at lw_m10 125 rfl) rfl
theorem q2381 : (Jvm.Cond.methodLink "AutoIndenterModel" (200 : Nat) ({ cls := "AutoIndenterModel", name := "copiesLine", desc := "(II)V" } : Jvm.MethodName)) ∈ lw_all := lw_g (lw_at lw_m10 126 rfl) rfl
theorem q2382 : (Jvm.Cond.privateMethod ({ cls := "AutoIndenterModel", name := "copiesLine", desc := "(II)V" } : Jvm.MethodName)) ∈ lw_tbl := lw_at lw_m10 127 rfl
theorem q2383 : (Jvm.Cond.instanceMethod ({ cls := "AutoIndenterModel", name := "copiesLine", desc := "(II)V" } : Jvm.MethodName)) ∈ lw_all := lw_g (lw_at lw_m10 128 rfl) rfl
theorem q2384 : (Jvm.Cond.code ({ cls := "AutoIndenterModel", name := "copiesLine", desc := "(II)V" } : Jvm.MethodName) prog_10_method_38_code (4 : Nat) (Option.none : Option Jvm.ClassFile.FieldType)) ∈ lw_all := lw_g (lw_at lw_m10 129 rfl) rfl
theorem q2385 : (Jvm.Cond.methodLink "AutoIndenterModel" (213 : Nat) ({ cls := "AutoIndenterModel", name := "writes", desc := "(I)V" } : Jvm.MethodName)) ∈ lw_all := lw_g (lw_at lw_m10 130 rfl) rfl
theorem q2386 : (Jvm.Cond.privateMethod ({ cls := "AutoIndenterModel", name := "writes", desc := "(I)V" } : Jvm.MethodName)) ∈ lw_tbl := lw_at lw_m10 131 rfl
theorem q2387 : (Jvm.Cond.instanceMethod ({ cls := "AutoIndenterModel", name := "writes", desc := "(I)V" } : Jvm.MethodName)) ∈ lw_all := lw_g (lw_at lw_m10 132 rfl) rfl
theorem q2388 : (Jvm.Cond.code ({ cls := "AutoIndenterModel", name := "writes", desc := "(I)V" } : Jvm.MethodName) prog_10_method_37_code (3 : Nat) (Option.none : Option Jvm.ClassFile.FieldType)) ∈ lw_all := lw_g (lw_at lw_m10 133 rfl) rfl
theorem q2390 : (Jvm.Cond.instanceMethod ({ cls := "AutoIndenterModel", name := "replaceLine", desc := "(I)I" } : Jvm.MethodName)) ∈ lw_all := lw_g (lw_at lw_m10 135 rfl) rfl
theorem q2391 : (Jvm.Cond.selects "AutoIndenterModel" ({ cls := "AutoIndenterModel", name := "replaceLine", desc := "(I)I" } : Jvm.MethodName) ({ cls := "AutoIndenterModel", name := "replaceLine", desc := "(I)I" } : Jvm.MethodName)) ∈ lw_all := lw_g (lw_at lw_m10 136 rfl) rfl
theorem q2392 : (Jvm.Cond.code ({ cls := "AutoIndenterModel", name := "replaceLine", desc := "(I)I" } : Jvm.MethodName) prog_10_method_42_code (3 : Nat) (Option.some Jvm.ClassFile.FieldType.int)) ∈ lw_all := lw_g (lw_at lw_m10 137 rfl) rfl
theorem q2393 : (Jvm.Cond.methodLink "AutoIndenterModel" (216 : Nat) ({ cls := "AutoIndenterModel", name := "isLine", desc := "(I)Z" } : Jvm.MethodName)) ∈ lw_all := lw_g (lw_at lw_m10 138 rfl) rfl
theorem q2394 : (Jvm.Cond.privateMethod ({ cls := "AutoIndenterModel", name := "isLine", desc := "(I)Z" } : Jvm.MethodName)) ∈ lw_tbl := lw_at lw_m10 139 rfl
theorem q2395 : (Jvm.Cond.instanceMethod ({ cls := "AutoIndenterModel", name := "isLine", desc := "(I)Z" } : Jvm.MethodName)) ∈ lw_all := lw_g (lw_at lw_m10 140 rfl) rfl
theorem q2396 : (Jvm.Cond.code ({ cls := "AutoIndenterModel", name := "isLine", desc := "(I)Z" } : Jvm.MethodName) prog_10_method_7_code (2 : Nat) (Option.some Jvm.ClassFile.FieldType.boolean)) ∈ lw_all := lw_g (lw_at lw_m10 141 rfl) rfl
theorem q2398 : (Jvm.Cond.instanceMethod ({ cls := "AutoIndenterModel", name := "removeLine", desc := "(I)I" } : Jvm.MethodName)) ∈ lw_all := lw_g (lw_at lw_m10 143 rfl) rfl
theorem q2399 : (Jvm.Cond.selects "AutoIndenterModel" ({ cls := "AutoIndenterModel", name := "removeLine", desc := "(I)I" } : Jvm.MethodName) ({ cls := "AutoIndenterModel", name := "removeLine", desc := "(I)I" } : Jvm.MethodName)) ∈ lw_all := lw_g (lw_at lw_m10 144 rfl) rfl
theorem q2400 : (Jvm.Cond.code ({ cls := "AutoIndenterModel", name := "removeLine", desc := "(I)I" } : Jvm.MethodName) prog_10_method_43_code (2 : Nat) (Option.some Jvm.ClassFile.FieldType.int)) ∈ lw_all := lw_g (lw_at lw_m10 145 rfl) rfl
theorem q2401 : (Jvm.Cond.methodLink "AutoIndenterModel" (219 : Nat) ({ cls := "AutoIndenterModel", name := "drops", desc := "(I)V" } : Jvm.MethodName)) ∈ lw_all := lw_g (lw_at lw_m10 146 rfl) rfl
theorem q2402 : (Jvm.Cond.privateMethod ({ cls := "AutoIndenterModel", name := "drops", desc := "(I)V" } : Jvm.MethodName)) ∈ lw_tbl := lw_at lw_m10 147 rfl
theorem q2403 : (Jvm.Cond.instanceMethod ({ cls := "AutoIndenterModel", name := "drops", desc := "(I)V" } : Jvm.MethodName)) ∈ lw_all := lw_g (lw_at lw_m10 148 rfl) rfl
theorem q2404 : (Jvm.Cond.code ({ cls := "AutoIndenterModel", name := "drops", desc := "(I)V" } : Jvm.MethodName) prog_10_method_40_code (3 : Nat) (Option.none : Option Jvm.ClassFile.FieldType)) ∈ lw_all := lw_g (lw_at lw_m10 149 rfl) rfl
theorem q2406 : (Jvm.Cond.instanceMethod ({ cls := "AutoIndenterModel", name := "splitLine", desc := "(II)I" } : Jvm.MethodName)) ∈ lw_all := lw_g (lw_at lw_m10 151 rfl) rfl
theorem q2407 : (Jvm.Cond.selects "AutoIndenterModel" ({ cls := "AutoIndenterModel", name := "splitLine", desc := "(II)I" } : Jvm.MethodName) ({ cls := "AutoIndenterModel", name := "splitLine", desc := "(II)I" } : Jvm.MethodName)) ∈ lw_all := lw_g (lw_at lw_m10 152 rfl) rfl
theorem q2408 : (Jvm.Cond.code ({ cls := "AutoIndenterModel", name := "splitLine", desc := "(II)I" } : Jvm.MethodName) prog_10_method_44_code (6 : Nat) (Option.some Jvm.ClassFile.FieldType.int)) ∈ lw_all := lw_g (lw_at lw_m10 153 rfl) rfl
theorem q2409 : (Jvm.Cond.methodLink "AutoIndenterModel" (83 : Nat) ({ cls := "AutoIndenterModel", name := "contentAt", desc := "(II)I" } : Jvm.MethodName)) ∈ lw_all := lw_g (lw_at lw_m10 154 rfl) rfl
theorem q2410 : (Jvm.Cond.privateMethod ({ cls := "AutoIndenterModel", name := "contentAt", desc := "(II)I" } : Jvm.MethodName)) ∈ lw_tbl := lw_at lw_m10 155 rfl
theorem q2411 : (Jvm.Cond.instanceMethod ({ cls := "AutoIndenterModel", name := "contentAt", desc := "(II)I" } : Jvm.MethodName)) ∈ lw_all := lw_g (lw_at lw_m10 156 rfl) rfl
theorem q2412 : (Jvm.Cond.code ({ cls := "AutoIndenterModel", name := "contentAt", desc := "(II)I" } : Jvm.MethodName) prog_10_method_9_code (3 : Nat) (Option.some Jvm.ClassFile.FieldType.int)) ∈ lw_all := lw_g (lw_at lw_m10 157 rfl) rfl
theorem q2413 : (Jvm.Cond.methodLink "AutoIndenterModel" (222 : Nat) ({ cls := "AutoIndenterModel", name := "uses", desc := "(II)V" } : Jvm.MethodName)) ∈ lw_all := lw_g (lw_at lw_m10 158 rfl) rfl
theorem q2414 : (Jvm.Cond.privateMethod ({ cls := "AutoIndenterModel", name := "uses", desc := "(II)V" } : Jvm.MethodName)) ∈ lw_tbl := lw_at lw_m10 159 rfl
theorem q2415 : (Jvm.Cond.instanceMethod ({ cls := "AutoIndenterModel", name := "uses", desc := "(II)V" } : Jvm.MethodName)) ∈ lw_all := lw_g (lw_at lw_m10 160 rfl) rfl
theorem q2416 : (Jvm.Cond.code ({ cls := "AutoIndenterModel", name := "uses", desc := "(II)V" } : Jvm.MethodName) prog_10_method_25_code (4 : Nat) (Option.none : Option Jvm.ClassFile.FieldType)) ∈ lw_all := lw_g (lw_at lw_m10 161 rfl) rfl
theorem q2417 : (Jvm.Cond.methodLink "AutoIndenterModel" (151 : Nat) ({ cls := "AutoIndenterModel", name := "looks", desc := "()V" } : Jvm.MethodName)) ∈ lw_all := lw_g (lw_at lw_m10 162 rfl) rfl
theorem q2418 : (Jvm.Cond.privateMethod ({ cls := "AutoIndenterModel", name := "looks", desc := "()V" } : Jvm.MethodName)) ∈ lw_tbl := lw_at lw_m10 163 rfl
theorem q2419 : (Jvm.Cond.instanceMethod ({ cls := "AutoIndenterModel", name := "looks", desc := "()V" } : Jvm.MethodName)) ∈ lw_all := lw_g (lw_at lw_m10 164 rfl) rfl
theorem q2420 : (Jvm.Cond.code ({ cls := "AutoIndenterModel", name := "looks", desc := "()V" } : Jvm.MethodName) prog_10_method_24_code (4 : Nat) (Option.none : Option Jvm.ClassFile.FieldType)) ∈ lw_all := lw_g (lw_at lw_m10 165 rfl) rfl
theorem q2421 : (Jvm.Cond.methodLink "AutoIndenterModel" (138 : Nat) ({ cls := "AutoIndenterModel", name := "tokenizes", desc := "()V" } : Jvm.MethodName)) ∈ lw_all := lw_g (lw_at lw_m10 166 rfl) rfl
theorem q2422 : (Jvm.Cond.privateMethod ({ cls := "AutoIndenterModel", name := "tokenizes", desc := "()V" } : Jvm.MethodName)) ∈ lw_tbl := lw_at lw_m10 167 rfl
theorem q2423 : (Jvm.Cond.instanceMethod ({ cls := "AutoIndenterModel", name := "tokenizes", desc := "()V" } : Jvm.MethodName)) ∈ lw_all := lw_g (lw_at lw_m10 168 rfl) rfl
theorem q2424 : (Jvm.Cond.code ({ cls := "AutoIndenterModel", name := "tokenizes", desc := "()V" } : Jvm.MethodName) prog_10_method_17_code (4 : Nat) (Option.none : Option Jvm.ClassFile.FieldType)) ∈ lw_all := lw_g (lw_at lw_m10 169 rfl) rfl
theorem q2425 : (Jvm.Cond.methodLink "AutoIndenterModel" (114 : Nat) ({ cls := "AutoIndenterModel", name := "isBlank", desc := "(I)Z" } : Jvm.MethodName)) ∈ lw_all := lw_g (lw_at lw_m10 170 rfl) rfl
theorem q2426 : (Jvm.Cond.privateMethod ({ cls := "AutoIndenterModel", name := "isBlank", desc := "(I)Z" } : Jvm.MethodName)) ∈ lw_tbl := lw_at lw_m10 171 rfl
theorem q2427 : (Jvm.Cond.instanceMethod ({ cls := "AutoIndenterModel", name := "isBlank", desc := "(I)Z" } : Jvm.MethodName)) ∈ lw_all := lw_g (lw_at lw_m10 172 rfl) rfl
theorem q2428 : (Jvm.Cond.code ({ cls := "AutoIndenterModel", name := "isBlank", desc := "(I)Z" } : Jvm.MethodName) prog_10_method_8_code (2 : Nat) (Option.some Jvm.ClassFile.FieldType.boolean)) ∈ lw_all := lw_g (lw_at lw_m10 173 rfl) rfl
theorem q2429 : (Jvm.Cond.methodLink "AutoIndenterModel" (101 : Nat) ({ cls := "AutoIndenterModel", name := "endOfLiteral", desc := "(II)I" } : Jvm.MethodName)) ∈ lw_all := lw_g (lw_at lw_m10 174 rfl) rfl
theorem q2430 : (Jvm.Cond.privateMethod ({ cls := "AutoIndenterModel", name := "endOfLiteral", desc := "(II)I" } : Jvm.MethodName)) ∈ lw_tbl := lw_at lw_m10 175 rfl
theorem q2431 : (Jvm.Cond.instanceMethod ({ cls := "AutoIndenterModel", name := "endOfLiteral", desc := "(II)I" } : Jvm.MethodName)) ∈ lw_all := lw_g (lw_at lw_m10 176 rfl) rfl
theorem q2432 : (Jvm.Cond.code ({ cls := "AutoIndenterModel", name := "endOfLiteral", desc := "(II)I" } : Jvm.MethodName) prog_10_method_12_code (4 : Nat) (Option.some Jvm.ClassFile.FieldType.int)) ∈ lw_all := lw_g (lw_at lw_m10 177 rfl) rfl
theorem q2433 : (Jvm.Cond.methodLink "AutoIndenterModel" (87 : Nat) ({ cls := "AutoIndenterModel", name := "isTriple", desc := "(II)Z" } : Jvm.MethodName)) ∈ lw_all := lw_g (lw_at lw_m10 178 rfl) rfl
theorem q2434 : (Jvm.Cond.privateMethod ({ cls := "AutoIndenterModel", name := "isTriple", desc := "(II)Z" } : Jvm.MethodName)) ∈ lw_tbl := lw_at lw_m10 179 rfl
theorem q2435 : (Jvm.Cond.instanceMethod ({ cls := "AutoIndenterModel", name := "isTriple", desc := "(II)Z" } : Jvm.MethodName)) ∈ lw_all := lw_g (lw_at lw_m10 180 rfl) rfl
theorem q2436 : (Jvm.Cond.code ({ cls := "AutoIndenterModel", name := "isTriple", desc := "(II)Z" } : Jvm.MethodName) prog_10_method_11_code (3 : Nat) (Option.some Jvm.ClassFile.FieldType.boolean)) ∈ lw_all := lw_g (lw_at lw_m10 181 rfl) rfl
theorem q2437 : (Jvm.Cond.methodLink "AutoIndenterModel" (117 : Nat) ({ cls := "AutoIndenterModel", name := "divides", desc := "(II)Z" } : Jvm.MethodName)) ∈ lw_all := lw_g (lw_at lw_m10 182 rfl) rfl
theorem q2438 : (Jvm.Cond.privateMethod ({ cls := "AutoIndenterModel", name := "divides", desc := "(II)Z" } : Jvm.MethodName)) ∈ lw_tbl := lw_at lw_m10 183 rfl
theorem q2439 : (Jvm.Cond.instanceMethod ({ cls := "AutoIndenterModel", name := "divides", desc := "(II)Z" } : Jvm.MethodName)) ∈ lw_all := lw_g (lw_at lw_m10 184 rfl) rfl
theorem q2440 : (Jvm.Cond.code ({ cls := "AutoIndenterModel", name := "divides", desc := "(II)Z" } : Jvm.MethodName) prog_10_method_16_code (6 : Nat) (Option.some Jvm.ClassFile.FieldType.boolean)) ∈ lw_all := lw_g (lw_at lw_m10 185 rfl) rfl
theorem q2441 : (Jvm.Cond.methodLink "AutoIndenterModel" (104 : Nat) ({ cls := "AutoIndenterModel", name := "adds", desc := "(IIII)V" } : Jvm.MethodName)) ∈ lw_all := lw_g (lw_at lw_m10 186 rfl) rfl
theorem q2442 : (Jvm.Cond.privateMethod ({ cls := "AutoIndenterModel", name := "adds", desc := "(IIII)V" } : Jvm.MethodName)) ∈ lw_tbl := lw_at lw_m10 187 rfl
theorem q2443 : (Jvm.Cond.instanceMethod ({ cls := "AutoIndenterModel", name := "adds", desc := "(IIII)V" } : Jvm.MethodName)) ∈ lw_all := lw_g (lw_at lw_m10 188 rfl) rfl
theorem q2444 : (Jvm.Cond.code ({ cls := "AutoIndenterModel", name := "adds", desc := "(IIII)V" } : Jvm.MethodName) prog_10_method_15_code (5 : Nat) (Option.none : Option Jvm.ClassFile.FieldType)) ∈ lw_all := lw_g (lw_at lw_m10 189 rfl) rfl
theorem q2445 : (Jvm.Cond.methodLink "AutoIndenterModel" (108 : Nat) ({ cls := "AutoIndenterModel", name := "endOfString", desc := "(II)I" } : Jvm.MethodName)) ∈ lw_all := lw_g (lw_at lw_m10 190 rfl) rfl
theorem q2446 : (Jvm.Cond.privateMethod ({ cls := "AutoIndenterModel", name := "endOfString", desc := "(II)I" } : Jvm.MethodName)) ∈ lw_tbl := lw_at lw_m10 191 rfl
theorem q2447 : (Jvm.Cond.instanceMethod ({ cls := "AutoIndenterModel", name := "endOfString", desc := "(II)I" } : Jvm.MethodName)) ∈ lw_all := lw_g (lw_at lw_m10 192 rfl) rfl
theorem q2448 : (Jvm.Cond.code ({ cls := "AutoIndenterModel", name := "endOfString", desc := "(II)I" } : Jvm.MethodName) prog_10_method_13_code (4 : Nat) (Option.some Jvm.ClassFile.FieldType.int)) ∈ lw_all := lw_g (lw_at lw_m10 193 rfl) rfl
theorem q2449 : (Jvm.Cond.methodLink "AutoIndenterModel" (91 : Nat) ({ cls := "AutoIndenterModel", name := "least", desc := "(II)I" } : Jvm.MethodName)) ∈ lw_all := lw_g (lw_at lw_m10 194 rfl) rfl
theorem q2450 : (Jvm.Cond.static ({ cls := "AutoIndenterModel", name := "least", desc := "(II)I" } : Jvm.MethodName)) ∈ lw_all := lw_g (lw_at lw_m10 195 rfl) rfl
theorem q2451 : (Jvm.Cond.code ({ cls := "AutoIndenterModel", name := "least", desc := "(II)I" } : Jvm.MethodName) prog_10_method_4_code (2 : Nat) (Option.some Jvm.ClassFile.FieldType.int)) ∈ lw_all := lw_g (lw_at lw_m10 196 rfl) rfl
theorem q2452 : (Jvm.Cond.methodLink "AutoIndenterModel" (94 : Nat) ({ cls := "AutoIndenterModel", name := "isWord", desc := "(I)Z" } : Jvm.MethodName)) ∈ lw_all := lw_g (lw_at lw_m10 197 rfl) rfl
theorem q2453 : (Jvm.Cond.static ({ cls := "AutoIndenterModel", name := "isWord", desc := "(I)Z" } : Jvm.MethodName)) ∈ lw_all := lw_g (lw_at lw_m10 198 rfl) rfl
theorem q2454 : (Jvm.Cond.code ({ cls := "AutoIndenterModel", name := "isWord", desc := "(I)Z" } : Jvm.MethodName) prog_10_method_10_code (1 : Nat) (Option.some Jvm.ClassFile.FieldType.boolean)) ∈ lw_all := lw_g (lw_at lw_m10 199 rfl) rfl
theorem q2455 : (Jvm.Cond.methodLink "AutoIndenterModel" (111 : Nat) ({ cls := "AutoIndenterModel", name := "endOfWord", desc := "(II)I" } : Jvm.MethodName)) ∈ lw_all := lw_g (lw_at lw_m10 200 rfl) rfl
theorem q2456 : (Jvm.Cond.privateMethod ({ cls := "AutoIndenterModel", name := "endOfWord", desc := "(II)I" } : Jvm.MethodName)) ∈ lw_tbl := lw_at lw_m10 201 rfl
theorem q2457 : (Jvm.Cond.instanceMethod ({ cls := "AutoIndenterModel", name := "endOfWord", desc := "(II)I" } : Jvm.MethodName)) ∈ lw_all := lw_g (lw_at lw_m10 202 rfl) rfl
theorem q2458 : (Jvm.Cond.code ({ cls := "AutoIndenterModel", name := "endOfWord", desc := "(II)I" } : Jvm.MethodName) prog_10_method_14_code (4 : Nat) (Option.some Jvm.ClassFile.FieldType.int)) ∈ lw_all := lw_g (lw_at lw_m10 203 rfl) rfl
theorem q2459 : (Jvm.Cond.methodLink "AutoIndenterModel" (141 : Nat) ({ cls := "AutoIndenterModel", name := "notes", desc := "(I)V" } : Jvm.MethodName)) ∈ lw_all := lw_g (lw_at lw_m10 204 rfl) rfl
theorem q2460 : (Jvm.Cond.privateMethod ({ cls := "AutoIndenterModel", name := "notes", desc := "(I)V" } : Jvm.MethodName)) ∈ lw_tbl := lw_at lw_m10 205 rfl
theorem q2461 : (Jvm.Cond.instanceMethod ({ cls := "AutoIndenterModel", name := "notes", desc := "(I)V" } : Jvm.MethodName)) ∈ lw_all := lw_g (lw_at lw_m10 206 rfl) rfl
theorem q2462 : (Jvm.Cond.code ({ cls := "AutoIndenterModel", name := "notes", desc := "(I)V" } : Jvm.MethodName) prog_10_method_23_code (3 : Nat) (Option.none : Option Jvm.ClassFile.FieldType)) ∈ lw_all := lw_g (lw_at lw_m10 207 rfl) rfl
theorem q2463 : (Jvm.Cond.methodLink "AutoIndenterModel" (145 : Nat) ({ cls := "AutoIndenterModel", name := "shuts", desc := "(I)V" } : Jvm.MethodName)) ∈ lw_all := lw_g (lw_at lw_m10 208 rfl) rfl
theorem q2464 : (Jvm.Cond.privateMethod ({ cls := "AutoIndenterModel", name := "shuts", desc := "(I)V" } : Jvm.MethodName)) ∈ lw_tbl := lw_at lw_m10 209 rfl
theorem q2465 : (Jvm.Cond.instanceMethod ({ cls := "AutoIndenterModel", name := "shuts", desc := "(I)V" } : Jvm.MethodName)) ∈ lw_all := lw_g (lw_at lw_m10 210 rfl) rfl
theorem q2466 : (Jvm.Cond.code ({ cls := "AutoIndenterModel", name := "shuts", desc := "(I)V" } : Jvm.MethodName) prog_10_method_22_code (5 : Nat) (Option.none : Option Jvm.ClassFile.FieldType)) ∈ lw_all := lw_g (lw_at lw_m10 211 rfl) rfl
theorem q2467 : (Jvm.Cond.methodLink "AutoIndenterModel" (123 : Nat) ({ cls := "AutoIndenterModel", name := "hasText", desc := "(III)Z" } : Jvm.MethodName)) ∈ lw_all := lw_g (lw_at lw_m10 212 rfl) rfl
theorem q2468 : (Jvm.Cond.privateMethod ({ cls := "AutoIndenterModel", name := "hasText", desc := "(III)Z" } : Jvm.MethodName)) ∈ lw_tbl := lw_at lw_m10 213 rfl
theorem q2469 : (Jvm.Cond.instanceMethod ({ cls := "AutoIndenterModel", name := "hasText", desc := "(III)Z" } : Jvm.MethodName)) ∈ lw_all := lw_g (lw_at lw_m10 214 rfl) rfl
theorem q2470 : (Jvm.Cond.code ({ cls := "AutoIndenterModel", name := "hasText", desc := "(III)Z" } : Jvm.MethodName) prog_10_method_18_code (7 : Nat) (Option.some Jvm.ClassFile.FieldType.boolean)) ∈ lw_all := lw_g (lw_at lw_m10 215 rfl) rfl
theorem q2471 : (Jvm.Cond.methodLink "AutoIndenterModel" (120 : Nat) ({ cls := "AutoIndenterModel", name := "ruleAt", desc := "(II)I" } : Jvm.MethodName)) ∈ lw_all := lw_g (lw_at lw_m10 216 rfl) rfl
theorem q2472 : (Jvm.Cond.privateMethod ({ cls := "AutoIndenterModel", name := "ruleAt", desc := "(II)I" } : Jvm.MethodName)) ∈ lw_tbl := lw_at lw_m10 217 rfl
theorem q2473 : (Jvm.Cond.instanceMethod ({ cls := "AutoIndenterModel", name := "ruleAt", desc := "(II)I" } : Jvm.MethodName)) ∈ lw_all := lw_g (lw_at lw_m10 218 rfl) rfl
theorem q2474 : (Jvm.Cond.code ({ cls := "AutoIndenterModel", name := "ruleAt", desc := "(II)I" } : Jvm.MethodName) prog_10_method_19_code (3 : Nat) (Option.some Jvm.ClassFile.FieldType.int)) ∈ lw_all := lw_g (lw_at lw_m10 219 rfl) rfl
theorem q2475 : (Jvm.Cond.methodLink "AutoIndenterModel" (132 : Nat) ({ cls := "AutoIndenterModel", name := "isClosingText", desc := "(I)Z" } : Jvm.MethodName)) ∈ lw_all := lw_g (lw_at lw_m10 220 rfl) rfl
theorem q2476 : (Jvm.Cond.privateMethod ({ cls := "AutoIndenterModel", name := "isClosingText", desc := "(I)Z" } : Jvm.MethodName)) ∈ lw_tbl := lw_at lw_m10 221 rfl
theorem q2477 : (Jvm.Cond.instanceMethod ({ cls := "AutoIndenterModel", name := "isClosingText", desc := "(I)Z" } : Jvm.MethodName)) ∈ lw_all := lw_g (lw_at lw_m10 222 rfl) rfl
theorem q2478 : (Jvm.Cond.code ({ cls := "AutoIndenterModel", name := "isClosingText", desc := "(I)Z" } : Jvm.MethodName) prog_10_method_21_code (4 : Nat) (Option.some Jvm.ClassFile.FieldType.boolean)) ∈ lw_all := lw_g (lw_at lw_m10 223 rfl) rfl
theorem q2479 : (Jvm.Cond.methodLink "AutoIndenterModel" (148 : Nat) ({ cls := "AutoIndenterModel", name := "ruleFor", desc := "(II)I" } : Jvm.MethodName)) ∈ lw_all := lw_g (lw_at lw_m10 224 rfl) rfl
theorem q2480 : (Jvm.Cond.privateMethod ({ cls := "AutoIndenterModel", name := "ruleFor", desc := "(II)I" } : Jvm.MethodName)) ∈ lw_tbl := lw_at lw_m10 225 rfl
theorem q2481 : (Jvm.Cond.instanceMethod ({ cls := "AutoIndenterModel", name := "ruleFor", desc := "(II)I" } : Jvm.MethodName)) ∈ lw_all := lw_g (lw_at lw_m10 226 rfl) rfl
theorem q2482 : (Jvm.Cond.code ({ cls := "AutoIndenterModel", name := "ruleFor", desc := "(II)I" } : Jvm.MethodName) prog_10_method_20_code (6 : Nat) (Option.some Jvm.ClassFile.FieldType.int)) ∈ lw_all := lw_g (lw_at lw_m10 227 rfl) rfl
theorem q2483 : (Jvm.Cond.methodLink "AutoIndenterModel" (185 : Nat) ({ cls := "AutoIndenterModel", name := "isFree", desc := "(I)Z" } : Jvm.MethodName)) ∈ lw_all := lw_g (lw_at lw_m10 228 rfl) rfl
theorem q2484 : (Jvm.Cond.privateMethod ({ cls := "AutoIndenterModel", name := "isFree", desc := "(I)Z" } : Jvm.MethodName)) ∈ lw_tbl := lw_at lw_m10 229 rfl
theorem q2485 : (Jvm.Cond.instanceMethod ({ cls := "AutoIndenterModel", name := "isFree", desc := "(I)Z" } : Jvm.MethodName)) ∈ lw_all := lw_g (lw_at lw_m10 230 rfl) rfl
theorem q2486 : (Jvm.Cond.code ({ cls := "AutoIndenterModel", name := "isFree", desc := "(I)Z" } : Jvm.MethodName) prog_10_method_31_code (2 : Nat) (Option.some Jvm.ClassFile.FieldType.boolean)) ∈ lw_all := lw_g (lw_at lw_m10 231 rfl) rfl
theorem q2487 : (Jvm.Cond.methodLink "AutoIndenterModel" (188 : Nat) ({ cls := "AutoIndenterModel", name := "decides", desc := "(I)V" } : Jvm.MethodName)) ∈ lw_all := lw_g (lw_at lw_m10 232 rfl) rfl
theorem q2488 : (Jvm.Cond.privateMethod ({ cls := "AutoIndenterModel", name := "decides", desc := "(I)V" } : Jvm.MethodName)) ∈ lw_tbl := lw_at lw_m10 233 rfl
theorem q2489 : (Jvm.Cond.instanceMethod ({ cls := "AutoIndenterModel", name := "decides", desc := "(I)V" } : Jvm.MethodName)) ∈ lw_all := lw_g (lw_at lw_m10 234 rfl) rfl
theorem q2490 : (Jvm.Cond.code ({ cls := "AutoIndenterModel", name := "decides", desc := "(I)V" } : Jvm.MethodName) prog_10_method_30_code (11 : Nat) (Option.none : Option Jvm.ClassFile.FieldType)) ∈ lw_all := lw_g (lw_at lw_m10 235 rfl) rfl
theorem q2491 : (Jvm.Cond.methodLink "AutoIndenterModel" (179 : Nat) ({ cls := "AutoIndenterModel", name := "columnIn", desc := "(I)I" } : Jvm.MethodName)) ∈ lw_all := lw_g (lw_at lw_m10 236 rfl) rfl
theorem q2492 : (Jvm.Cond.privateMethod ({ cls := "AutoIndenterModel", name := "columnIn", desc := "(I)I" } : Jvm.MethodName)) ∈ lw_tbl := lw_at lw_m10 237 rfl
theorem q2493 : (Jvm.Cond.instanceMethod ({ cls := "AutoIndenterModel", name := "columnIn", desc := "(I)I" } : Jvm.MethodName)) ∈ lw_all := lw_g (lw_at lw_m10 238 rfl) rfl
theorem q2494 : (Jvm.Cond.code ({ cls := "AutoIndenterModel", name := "columnIn", desc := "(I)I" } : Jvm.MethodName) prog_10_method_28_code (2 : Nat) (Option.some Jvm.ClassFile.FieldType.int)) ∈ lw_all := lw_g (lw_at lw_m10 239 rfl) rfl
theorem q2495 : (Jvm.Cond.methodLink "AutoIndenterModel" (160 : Nat) ({ cls := "AutoIndenterModel", name := "isAligned", desc := "(I)Z" } : Jvm.MethodName)) ∈ lw_all := lw_g (lw_at lw_m11 0 rfl) rfl
theorem q2496 : (Jvm.Cond.privateMethod ({ cls := "AutoIndenterModel", name := "isAligned", desc := "(I)Z" } : Jvm.MethodName)) ∈ lw_tbl := lw_at lw_m11 1 rfl
theorem q2497 : (Jvm.Cond.instanceMethod ({ cls := "AutoIndenterModel", name := "isAligned", desc := "(I)Z" } : Jvm.MethodName)) ∈ lw_all := lw_g (lw_at lw_m11 2 rfl) rfl
theorem q2498 : (Jvm.Cond.code ({ cls := "AutoIndenterModel", name := "isAligned", desc := "(I)Z" } : Jvm.MethodName) prog_10_method_27_code (2 : Nat) (Option.some Jvm.ClassFile.FieldType.boolean)) ∈ lw_all := lw_g (lw_at lw_m11 3 rfl) rfl
theorem q2499 : (Jvm.Cond.methodLink "AutoIndenterModel" (163 : Nat) ({ cls := "AutoIndenterModel", name := "columnOf", desc := "(I)I" } : Jvm.MethodName)) ∈ lw_all := lw_g (lw_at lw_m11 4 rfl) rfl
theorem q2500 : (Jvm.Cond.privateMethod ({ cls := "AutoIndenterModel", name := "columnOf", desc := "(I)I" } : Jvm.MethodName)) ∈ lw_tbl := lw_at lw_m11 5 rfl
theorem q2501 : (Jvm.Cond.instanceMethod ({ cls := "AutoIndenterModel", name := "columnOf", desc := "(I)I" } : Jvm.MethodName)) ∈ lw_all := lw_g (lw_at lw_m11 6 rfl) rfl
theorem q2502 : (Jvm.Cond.code ({ cls := "AutoIndenterModel", name := "columnOf", desc := "(I)I" } : Jvm.MethodName) prog_10_method_26_code (2 : Nat) (Option.some Jvm.ClassFile.FieldType.int)) ∈ lw_all := lw_g (lw_at lw_m11 7 rfl) rfl
theorem q2503 : (Jvm.Cond.methodLink "AutoIndenterModel" (182 : Nat) ({ cls := "AutoIndenterModel", name := "offers", desc := "(IIII)V" } : Jvm.MethodName)) ∈ lw_all := lw_g (lw_at lw_m11 8 rfl) rfl
theorem q2504 : (Jvm.Cond.privateMethod ({ cls := "AutoIndenterModel", name := "offers", desc := "(IIII)V" } : Jvm.MethodName)) ∈ lw_tbl := lw_at lw_m11 9 rfl
theorem q2505 : (Jvm.Cond.instanceMethod ({ cls := "AutoIndenterModel", name := "offers", desc := "(IIII)V" } : Jvm.MethodName)) ∈ lw_all := lw_g (lw_at lw_m11 10 rfl) rfl
theorem q2506 : (Jvm.Cond.code ({ cls := "AutoIndenterModel", name := "offers", desc := "(IIII)V" } : Jvm.MethodName) prog_10_method_29_code (5 : Nat) (Option.none : Option Jvm.ClassFile.FieldType)) ∈ lw_all := lw_g (lw_at lw_m11 11 rfl) rfl
theorem q2508 : (Jvm.Cond.instanceMethod ({ cls := "AutoIndenterModel", name := "joinLines", desc := "(I)I" } : Jvm.MethodName)) ∈ lw_all := lw_g (lw_at lw_m11 13 rfl) rfl
theorem q2509 : (Jvm.Cond.selects "AutoIndenterModel" ({ cls := "AutoIndenterModel", name := "joinLines", desc := "(I)I" } : Jvm.MethodName) ({ cls := "AutoIndenterModel", name := "joinLines", desc := "(I)I" } : Jvm.MethodName)) ∈ lw_all := lw_g (lw_at lw_m11 14 rfl) rfl
theorem q2510 : (Jvm.Cond.code ({ cls := "AutoIndenterModel", name := "joinLines", desc := "(I)I" } : Jvm.MethodName) prog_10_method_45_code (6 : Nat) (Option.some Jvm.ClassFile.FieldType.int)) ∈ lw_all := lw_g (lw_at lw_m11 15 rfl) rfl
theorem q2512 : (Jvm.Cond.instanceMethod ({ cls := "AutoIndenterModel", name := "shift", desc := "(III)I" } : Jvm.MethodName)) ∈ lw_all := lw_g (lw_at lw_m11 17 rfl) rfl
theorem q2513 : (Jvm.Cond.selects "AutoIndenterModel" ({ cls := "AutoIndenterModel", name := "shift", desc := "(III)I" } : Jvm.MethodName) ({ cls := "AutoIndenterModel", name := "shift", desc := "(III)I" } : Jvm.MethodName)) ∈ lw_all := lw_g (lw_at lw_m11 18 rfl) rfl
theorem q2514 : (Jvm.Cond.code ({ cls := "AutoIndenterModel", name := "shift", desc := "(III)I" } : Jvm.MethodName) prog_10_method_47_code (6 : Nat) (Option.some Jvm.ClassFile.FieldType.int)) ∈ lw_all := lw_g (lw_at lw_m11 19 rfl) rfl
theorem q2515 : (Jvm.Cond.methodLink "AutoIndenterModel" (225 : Nat) ({ cls := "AutoIndenterModel", name := "isRange", desc := "(II)Z" } : Jvm.MethodName)) ∈ lw_all := lw_g (lw_at lw_m11 20 rfl) rfl
theorem q2516 : (Jvm.Cond.privateMethod ({ cls := "AutoIndenterModel", name := "isRange", desc := "(II)Z" } : Jvm.MethodName)) ∈ lw_tbl := lw_at lw_m11 21 rfl
theorem q2517 : (Jvm.Cond.instanceMethod ({ cls := "AutoIndenterModel", name := "isRange", desc := "(II)Z" } : Jvm.MethodName)) ∈ lw_all := lw_g (lw_at lw_m11 22 rfl) rfl
theorem q2518 : (Jvm.Cond.code ({ cls := "AutoIndenterModel", name := "isRange", desc := "(II)Z" } : Jvm.MethodName) prog_10_method_46_code (3 : Nat) (Option.some Jvm.ClassFile.FieldType.boolean)) ∈ lw_all := lw_g (lw_at lw_m11 23 rfl) rfl
theorem q2520 : (Jvm.Cond.instanceMethod ({ cls := "AutoIndenterModel", name := "pin", desc := "(I)I" } : Jvm.MethodName)) ∈ lw_all := lw_g (lw_at lw_m11 25 rfl) rfl
theorem q2521 : (Jvm.Cond.selects "AutoIndenterModel" ({ cls := "AutoIndenterModel", name := "pin", desc := "(I)I" } : Jvm.MethodName) ({ cls := "AutoIndenterModel", name := "pin", desc := "(I)I" } : Jvm.MethodName)) ∈ lw_all := lw_g (lw_at lw_m11 26 rfl) rfl
theorem q2522 : (Jvm.Cond.code ({ cls := "AutoIndenterModel", name := "pin", desc := "(I)I" } : Jvm.MethodName) prog_10_method_48_code (2 : Nat) (Option.some Jvm.ClassFile.FieldType.int)) ∈ lw_all := lw_g (lw_at lw_m11 27 rfl) rfl
theorem q2524 : (Jvm.Cond.instanceMethod ({ cls := "AutoIndenterModel", name := "reindent", desc := "(II)I" } : Jvm.MethodName)) ∈ lw_all := lw_g (lw_at lw_m11 29 rfl) rfl
theorem q2525 : (Jvm.Cond.selects "AutoIndenterModel" ({ cls := "AutoIndenterModel", name := "reindent", desc := "(II)I" } : Jvm.MethodName) ({ cls := "AutoIndenterModel", name := "reindent", desc := "(II)I" } : Jvm.MethodName)) ∈ lw_all := lw_g (lw_at lw_m11 30 rfl) rfl
theorem q2526 : (Jvm.Cond.code ({ cls := "AutoIndenterModel", name := "reindent", desc := "(II)I" } : Jvm.MethodName) prog_10_method_49_code (5 : Nat) (Option.some Jvm.ClassFile.FieldType.int)) ∈ lw_all := lw_g (lw_at lw_m11 31 rfl) rfl
theorem q2527 : (Jvm.Cond.methodLink "AutoIndenterModel" (228 : Nat) ({ cls := "AutoIndenterModel", name := "settles", desc := "(II)I" } : Jvm.MethodName)) ∈ lw_all := lw_g (lw_at lw_m11 32 rfl) rfl
theorem q2528 : (Jvm.Cond.privateMethod ({ cls := "AutoIndenterModel", name := "settles", desc := "(II)I" } : Jvm.MethodName)) ∈ lw_tbl := lw_at lw_m11 33 rfl
theorem q2529 : (Jvm.Cond.instanceMethod ({ cls := "AutoIndenterModel", name := "settles", desc := "(II)I" } : Jvm.MethodName)) ∈ lw_all := lw_g (lw_at lw_m11 34 rfl) rfl
theorem q2530 : (Jvm.Cond.code ({ cls := "AutoIndenterModel", name := "settles", desc := "(II)I" } : Jvm.MethodName) prog_10_method_32_code (5 : Nat) (Option.some Jvm.ClassFile.FieldType.int)) ∈ lw_all := lw_g (lw_at lw_m11 35 rfl) rfl
theorem q2531 : (Jvm.Cond.methodLink "AutoIndenterModel" (231 : Nat) ({ cls := "AutoIndenterModel", name := "bits", desc := "(I)I" } : Jvm.MethodName)) ∈ lw_all := lw_g (lw_at lw_m11 36 rfl) rfl
theorem q2532 : (Jvm.Cond.static ({ cls := "AutoIndenterModel", name := "bits", desc := "(I)I" } : Jvm.MethodName)) ∈ lw_all := lw_g (lw_at lw_m11 37 rfl) rfl
theorem q2533 : (Jvm.Cond.code ({ cls := "AutoIndenterModel", name := "bits", desc := "(I)I" } : Jvm.MethodName) prog_10_method_33_code (3 : Nat) (Option.some Jvm.ClassFile.FieldType.int)) ∈ lw_all := lw_g (lw_at lw_m11 38 rfl) rfl
theorem q2535 : (Jvm.Cond.instanceMethod ({ cls := "AutoIndenterModel", name := "lines", desc := "()I" } : Jvm.MethodName)) ∈ lw_all := lw_g (lw_at lw_m11 40 rfl) rfl
theorem q2536 : (Jvm.Cond.selects "AutoIndenterModel" ({ cls := "AutoIndenterModel", name := "lines", desc := "()I" } : Jvm.MethodName) ({ cls := "AutoIndenterModel", name := "lines", desc := "()I" } : Jvm.MethodName)) ∈ lw_all := lw_g (lw_at lw_m11 41 rfl) rfl
theorem q2537 : (Jvm.Cond.code ({ cls := "AutoIndenterModel", name := "lines", desc := "()I" } : Jvm.MethodName) prog_10_method_50_code (1 : Nat) (Option.some Jvm.ClassFile.FieldType.int)) ∈ lw_all := lw_g (lw_at lw_m11 42 rfl) rfl
theorem q2539 : (Jvm.Cond.instanceMethod ({ cls := "AutoIndenterModel", name := "indentation", desc := "(I)I" } : Jvm.MethodName)) ∈ lw_all := lw_g (lw_at lw_m11 44 rfl) rfl
theorem q2540 : (Jvm.Cond.selects "AutoIndenterModel" ({ cls := "AutoIndenterModel", name := "indentation", desc := "(I)I" } : Jvm.MethodName) ({ cls := "AutoIndenterModel", name := "indentation", desc := "(I)I" } : Jvm.MethodName)) ∈ lw_all := lw_g (lw_at lw_m11 45 rfl) rfl
theorem q2541 : (Jvm.Cond.code ({ cls := "AutoIndenterModel", name := "indentation", desc := "(I)I" } : Jvm.MethodName) prog_10_method_51_code (2 : Nat) (Option.some Jvm.ClassFile.FieldType.int)) ∈ lw_all := lw_g (lw_at lw_m11 46 rfl) rfl
theorem q2543 : (Jvm.Cond.instanceMethod ({ cls := "AutoIndenterModel", name := "length", desc := "(I)I" } : Jvm.MethodName)) ∈ lw_all := lw_g (lw_at lw_m11 48 rfl) rfl
theorem q2544 : (Jvm.Cond.selects "AutoIndenterModel" ({ cls := "AutoIndenterModel", name := "length", desc := "(I)I" } : Jvm.MethodName) ({ cls := "AutoIndenterModel", name := "length", desc := "(I)I" } : Jvm.MethodName)) ∈ lw_all := lw_g (lw_at lw_m11 49 rfl) rfl
theorem q2545 : (Jvm.Cond.code ({ cls := "AutoIndenterModel", name := "length", desc := "(I)I" } : Jvm.MethodName) prog_10_method_52_code (2 : Nat) (Option.some Jvm.ClassFile.FieldType.int)) ∈ lw_all := lw_g (lw_at lw_m11 50 rfl) rfl
theorem q2547 : (Jvm.Cond.instanceMethod ({ cls := "AutoIndenterModel", name := "byteAt", desc := "(II)I" } : Jvm.MethodName)) ∈ lw_all := lw_g (lw_at lw_m11 52 rfl) rfl
theorem q2548 : (Jvm.Cond.selects "AutoIndenterModel" ({ cls := "AutoIndenterModel", name := "byteAt", desc := "(II)I" } : Jvm.MethodName) ({ cls := "AutoIndenterModel", name := "byteAt", desc := "(II)I" } : Jvm.MethodName)) ∈ lw_all := lw_g (lw_at lw_m11 53 rfl) rfl
theorem q2549 : (Jvm.Cond.code ({ cls := "AutoIndenterModel", name := "byteAt", desc := "(II)I" } : Jvm.MethodName) prog_10_method_53_code (3 : Nat) (Option.some Jvm.ClassFile.FieldType.int)) ∈ lw_all := lw_g (lw_at lw_m11 54 rfl) rfl
theorem q2551 : (Jvm.Cond.instanceMethod ({ cls := "AutoIndenterModel", name := "isProtected", desc := "(I)I" } : Jvm.MethodName)) ∈ lw_all := lw_g (lw_at lw_m11 56 rfl) rfl
theorem q2552 : (Jvm.Cond.selects "AutoIndenterModel" ({ cls := "AutoIndenterModel", name := "isProtected", desc := "(I)I" } : Jvm.MethodName) ({ cls := "AutoIndenterModel", name := "isProtected", desc := "(I)I" } : Jvm.MethodName)) ∈ lw_all := lw_g (lw_at lw_m11 57 rfl) rfl
theorem q2553 : (Jvm.Cond.code ({ cls := "AutoIndenterModel", name := "isProtected", desc := "(I)I" } : Jvm.MethodName) prog_10_method_54_code (2 : Nat) (Option.some Jvm.ClassFile.FieldType.int)) ∈ lw_all := lw_g (lw_at lw_m11 58 rfl) rfl
theorem q2555 : (Jvm.Cond.instanceMethod ({ cls := "AutoIndenterModel", name := "isPinned", desc := "(I)I" } : Jvm.MethodName)) ∈ lw_all := lw_g (lw_at lw_m11 60 rfl) rfl
theorem q2556 : (Jvm.Cond.selects "AutoIndenterModel" ({ cls := "AutoIndenterModel", name := "isPinned", desc := "(I)I" } : Jvm.MethodName) ({ cls := "AutoIndenterModel", name := "isPinned", desc := "(I)I" } : Jvm.MethodName)) ∈ lw_all := lw_g (lw_at lw_m11 61 rfl) rfl
theorem q2557 : (Jvm.Cond.code ({ cls := "AutoIndenterModel", name := "isPinned", desc := "(I)I" } : Jvm.MethodName) prog_10_method_55_code (2 : Nat) (Option.some Jvm.ClassFile.FieldType.int)) ∈ lw_all := lw_g (lw_at lw_m11 62 rfl) rfl
theorem q2559 : (Jvm.Cond.instanceMethod ({ cls := "AutoIndenterModel", name := "setStep", desc := "(I)I" } : Jvm.MethodName)) ∈ lw_all := lw_g (lw_at lw_m11 64 rfl) rfl
theorem q2560 : (Jvm.Cond.selects "AutoIndenterModel" ({ cls := "AutoIndenterModel", name := "setStep", desc := "(I)I" } : Jvm.MethodName) ({ cls := "AutoIndenterModel", name := "setStep", desc := "(I)I" } : Jvm.MethodName)) ∈ lw_all := lw_g (lw_at lw_m11 65 rfl) rfl
theorem q2561 : (Jvm.Cond.code ({ cls := "AutoIndenterModel", name := "setStep", desc := "(I)I" } : Jvm.MethodName) prog_10_method_57_code (2 : Nat) (Option.some Jvm.ClassFile.FieldType.int)) ∈ lw_all := lw_g (lw_at lw_m11 66 rfl) rfl
theorem q2562 : (Jvm.Cond.methodLink "AutoIndenterModel" (234 : Nat) ({ cls := "AutoIndenterModel", name := "sets", desc := "(II)I" } : Jvm.MethodName)) ∈ lw_all := lw_g (lw_at lw_m11 67 rfl) rfl
theorem q2563 : (Jvm.Cond.privateMethod ({ cls := "AutoIndenterModel", name := "sets", desc := "(II)I" } : Jvm.MethodName)) ∈ lw_tbl := lw_at lw_m11 68 rfl
theorem q2564 : (Jvm.Cond.instanceMethod ({ cls := "AutoIndenterModel", name := "sets", desc := "(II)I" } : Jvm.MethodName)) ∈ lw_all := lw_g (lw_at lw_m11 69 rfl) rfl
theorem q2565 : (Jvm.Cond.code ({ cls := "AutoIndenterModel", name := "sets", desc := "(II)I" } : Jvm.MethodName) prog_10_method_56_code (4 : Nat) (Option.some Jvm.ClassFile.FieldType.int)) ∈ lw_all := lw_g (lw_at lw_m11 70 rfl) rfl
theorem q2567 : (Jvm.Cond.instanceMethod ({ cls := "AutoIndenterModel", name := "setBase", desc := "(I)I" } : Jvm.MethodName)) ∈ lw_all := lw_g (lw_at lw_m11 72 rfl) rfl
theorem q2568 : (Jvm.Cond.selects "AutoIndenterModel" ({ cls := "AutoIndenterModel", name := "setBase", desc := "(I)I" } : Jvm.MethodName) ({ cls := "AutoIndenterModel", name := "setBase", desc := "(I)I" } : Jvm.MethodName)) ∈ lw_all := lw_g (lw_at lw_m11 73 rfl) rfl
theorem q2569 : (Jvm.Cond.code ({ cls := "AutoIndenterModel", name := "setBase", desc := "(I)I" } : Jvm.MethodName) prog_10_method_58_code (2 : Nat) (Option.some Jvm.ClassFile.FieldType.int)) ∈ lw_all := lw_g (lw_at lw_m11 74 rfl) rfl
theorem q2571 : (Jvm.Cond.instanceMethod ({ cls := "AutoIndenterModel", name := "setComment", desc := "(I)I" } : Jvm.MethodName)) ∈ lw_all := lw_g (lw_at lw_m11 76 rfl) rfl
theorem q2572 : (Jvm.Cond.selects "AutoIndenterModel" ({ cls := "AutoIndenterModel", name := "setComment", desc := "(I)I" } : Jvm.MethodName) ({ cls := "AutoIndenterModel", name := "setComment", desc := "(I)I" } : Jvm.MethodName)) ∈ lw_all := lw_g (lw_at lw_m11 77 rfl) rfl
theorem q2573 : (Jvm.Cond.code ({ cls := "AutoIndenterModel", name := "setComment", desc := "(I)I" } : Jvm.MethodName) prog_10_method_59_code (2 : Nat) (Option.some Jvm.ClassFile.FieldType.int)) ∈ lw_all := lw_g (lw_at lw_m11 78 rfl) rfl
theorem q2575 : (Jvm.Cond.instanceMethod ({ cls := "AutoIndenterModel", name := "pair", desc := "(IIIII)I" } : Jvm.MethodName)) ∈ lw_all := lw_g (lw_at lw_m11 80 rfl) rfl
theorem q2576 : (Jvm.Cond.selects "AutoIndenterModel" ({ cls := "AutoIndenterModel", name := "pair", desc := "(IIIII)I" } : Jvm.MethodName) ({ cls := "AutoIndenterModel", name := "pair", desc := "(IIIII)I" } : Jvm.MethodName)) ∈ lw_all := lw_g (lw_at lw_m11 81 rfl) rfl
theorem q2577 : (Jvm.Cond.code ({ cls := "AutoIndenterModel", name := "pair", desc := "(IIIII)I" } : Jvm.MethodName) prog_10_method_66_code (7 : Nat) (Option.some Jvm.ClassFile.FieldType.int)) ∈ lw_all := lw_g (lw_at lw_m11 82 rfl) rfl
theorem q2578 : (Jvm.Cond.methodLink "AutoIndenterModel" (252 : Nat) ({ cls := "AutoIndenterModel", name := "isRule", desc := "(II)Z" } : Jvm.MethodName)) ∈ lw_all := lw_g (lw_at lw_m11 83 rfl) rfl
theorem q2579 : (Jvm.Cond.static ({ cls := "AutoIndenterModel", name := "isRule", desc := "(II)Z" } : Jvm.MethodName)) ∈ lw_all := lw_g (lw_at lw_m11 84 rfl) rfl
theorem q2580 : (Jvm.Cond.code ({ cls := "AutoIndenterModel", name := "isRule", desc := "(II)Z" } : Jvm.MethodName) prog_10_method_65_code (2 : Nat) (Option.some Jvm.ClassFile.FieldType.boolean)) ∈ lw_all := lw_g (lw_at lw_m11 85 rfl) rfl
theorem q2581 : (Jvm.Cond.methodLink "AutoIndenterModel" (255 : Nat) ({ cls := "AutoIndenterModel", name := "makes", desc := "(IIIIII)I" } : Jvm.MethodName)) ∈ lw_all := lw_g (lw_at lw_m11 86 rfl) rfl
theorem q2582 : (Jvm.Cond.privateMethod ({ cls := "AutoIndenterModel", name := "makes", desc := "(IIIIII)I" } : Jvm.MethodName)) ∈ lw_tbl := lw_at lw_m11 87 rfl
theorem q2583 : (Jvm.Cond.instanceMethod ({ cls := "AutoIndenterModel", name := "makes", desc := "(IIIIII)I" } : Jvm.MethodName)) ∈ lw_all := lw_g (lw_at lw_m11 88 rfl) rfl
theorem q2584 : (Jvm.Cond.code ({ cls := "AutoIndenterModel", name := "makes", desc := "(IIIIII)I" } : Jvm.MethodName) prog_10_method_64_code (10 : Nat) (Option.some Jvm.ClassFile.FieldType.int)) ∈ lw_all := lw_g (lw_at lw_m11 89 rfl) rfl
theorem q2585 : (Jvm.Cond.methodLink "AutoIndenterModel" (246 : Nat) ({ cls := "AutoIndenterModel", name := "readsTexts", desc := "(I)I" } : Jvm.MethodName)) ∈ lw_all := lw_g (lw_at lw_m11 90 rfl) rfl
theorem q2586 : (Jvm.Cond.privateMethod ({ cls := "AutoIndenterModel", name := "readsTexts", desc := "(I)I" } : Jvm.MethodName)) ∈ lw_tbl := lw_at lw_m11 91 rfl
theorem q2587 : (Jvm.Cond.instanceMethod ({ cls := "AutoIndenterModel", name := "readsTexts", desc := "(I)I" } : Jvm.MethodName)) ∈ lw_all := lw_g (lw_at lw_m11 92 rfl) rfl
theorem q2588 : (Jvm.Cond.code ({ cls := "AutoIndenterModel", name := "readsTexts", desc := "(I)I" } : Jvm.MethodName) prog_10_method_62_code (4 : Nat) (Option.some Jvm.ClassFile.FieldType.int)) ∈ lw_all := lw_g (lw_at lw_m11 93 rfl) rfl
theorem q2589 : (Jvm.Cond.methodLink "AutoIndenterModel" (243 : Nat) ({ cls := "AutoIndenterModel", name := "readsOne", desc := "(I)I" } : Jvm.MethodName)) ∈ lw_all := lw_g (lw_at lw_m11 94 rfl) rfl
theorem q2590 : (Jvm.Cond.privateMethod ({ cls := "AutoIndenterModel", name := "readsOne", desc := "(I)I" } : Jvm.MethodName)) ∈ lw_tbl := lw_at lw_m11 95 rfl
theorem q2591 : (Jvm.Cond.instanceMethod ({ cls := "AutoIndenterModel", name := "readsOne", desc := "(I)I" } : Jvm.MethodName)) ∈ lw_all := lw_g (lw_at lw_m11 96 rfl) rfl
theorem q2592 : (Jvm.Cond.code ({ cls := "AutoIndenterModel", name := "readsOne", desc := "(I)I" } : Jvm.MethodName) prog_10_method_61_code (3 : Nat) (Option.some Jvm.ClassFile.FieldType.int)) ∈ lw_all := lw_g (lw_at lw_m11 97 rfl) rfl
theorem q2593 : (Jvm.Cond.methodLink "AutoIndenterModel" (240 : Nat) ({ cls := "AutoIndenterModel", name := "skips", desc := "()V" } : Jvm.MethodName)) ∈ lw_all := lw_g (lw_at lw_m11 98 rfl) rfl
theorem q2594 : (Jvm.Cond.privateMethod ({ cls := "AutoIndenterModel", name := "skips", desc := "()V" } : Jvm.MethodName)) ∈ lw_tbl := lw_at lw_m11 99 rfl
theorem q2595 : (Jvm.Cond.instanceMethod ({ cls := "AutoIndenterModel", name := "skips", desc := "()V" } : Jvm.MethodName)) ∈ lw_all := lw_g (lw_at lw_m11 100 rfl) rfl
theorem q2596 : (Jvm.Cond.code ({ cls := "AutoIndenterModel", name := "skips", desc := "()V" } : Jvm.MethodName) prog_10_method_60_code (1 : Nat) (Option.none : Option Jvm.ClassFile.FieldType)) ∈ lw_all := lw_g (lw_at lw_m11 101 rfl) rfl
theorem q2597 : (Jvm.Cond.methodLink "AutoIndenterModel" (249 : Nat) ({ cls := "AutoIndenterModel", name := "writesText", desc := "(II)V" } : Jvm.MethodName)) ∈ lw_all := lw_g (lw_at lw_m11 102 rfl) rfl
theorem q2598 : (Jvm.Cond.privateMethod ({ cls := "AutoIndenterModel", name := "writesText", desc := "(II)V" } : Jvm.MethodName)) ∈ lw_tbl := lw_at lw_m11 103 rfl
theorem q2599 : (Jvm.Cond.instanceMethod ({ cls := "AutoIndenterModel", name := "writesText", desc := "(II)V" } : Jvm.MethodName)) ∈ lw_all := lw_g (lw_at lw_m11 104 rfl) rfl
theorem q2600 : (Jvm.Cond.code ({ cls := "AutoIndenterModel", name := "writesText", desc := "(II)V" } : Jvm.MethodName) prog_10_method_63_code (4 : Nat) (Option.none : Option Jvm.ClassFile.FieldType)) ∈ lw_all := lw_g (lw_at lw_m11 105 rfl) rfl
theorem q2602 : (Jvm.Cond.instanceMethod ({ cls := "AutoIndenterModel", name := "starter", desc := "(III)I" } : Jvm.MethodName)) ∈ lw_all := lw_g (lw_at lw_m11 107 rfl) rfl
theorem q2603 : (Jvm.Cond.selects "AutoIndenterModel" ({ cls := "AutoIndenterModel", name := "starter", desc := "(III)I" } : Jvm.MethodName) ({ cls := "AutoIndenterModel", name := "starter", desc := "(III)I" } : Jvm.MethodName)) ∈ lw_all := lw_g (lw_at lw_m11 108 rfl) rfl
theorem q2604 : (Jvm.Cond.code ({ cls := "AutoIndenterModel", name := "starter", desc := "(III)I" } : Jvm.MethodName) prog_10_method_67_code (4 : Nat) (Option.some Jvm.ClassFile.FieldType.int)) ∈ lw_all := lw_g (lw_at lw_m11 109 rfl) rfl
theorem q2606 : (Jvm.Cond.instanceMethod ({ cls := "AutoIndenterModel", name := "joiner", desc := "(III)I" } : Jvm.MethodName)) ∈ lw_all := lw_g (lw_at lw_m11 111 rfl) rfl
theorem q2607 : (Jvm.Cond.selects "AutoIndenterModel" ({ cls := "AutoIndenterModel", name := "joiner", desc := "(III)I" } : Jvm.MethodName) ({ cls := "AutoIndenterModel", name := "joiner", desc := "(III)I" } : Jvm.MethodName)) ∈ lw_all := lw_g (lw_at lw_m11 112 rfl) rfl
theorem q2608 : (Jvm.Cond.code ({ cls := "AutoIndenterModel", name := "joiner", desc := "(III)I" } : Jvm.MethodName) prog_10_method_68_code (4 : Nat) (Option.some Jvm.ClassFile.FieldType.int)) ∈ lw_all := lw_g (lw_at lw_m11 113 rfl) rfl
theorem q2610 : (Jvm.Cond.instanceMethod ({ cls := "AutoIndenterModel", name := "dropRule", desc := "(I)I" } : Jvm.MethodName)) ∈ lw_all := lw_g (lw_at lw_m11 115 rfl) rfl
theorem q2611 : (Jvm.Cond.selects "AutoIndenterModel" ({ cls := "AutoIndenterModel", name := "dropRule", desc := "(I)I" } : Jvm.MethodName) ({ cls := "AutoIndenterModel", name := "dropRule", desc := "(I)I" } : Jvm.MethodName)) ∈ lw_all := lw_g (lw_at lw_m11 116 rfl) rfl
theorem q2612 : (Jvm.Cond.code ({ cls := "AutoIndenterModel", name := "dropRule", desc := "(I)I" } : Jvm.MethodName) prog_10_method_69_code (4 : Nat) (Option.some Jvm.ClassFile.FieldType.int)) ∈ lw_all := lw_g (lw_at lw_m11 117 rfl) rfl
theorem q2614 : (Jvm.Cond.instanceMethod ({ cls := "AutoIndenterModel", name := "wanted", desc := "(I)I" } : Jvm.MethodName)) ∈ lw_all := lw_g (lw_at lw_m11 119 rfl) rfl
theorem q2615 : (Jvm.Cond.selects "AutoIndenterModel" ({ cls := "AutoIndenterModel", name := "wanted", desc := "(I)I" } : Jvm.MethodName) ({ cls := "AutoIndenterModel", name := "wanted", desc := "(I)I" } : Jvm.MethodName)) ∈ lw_all := lw_g (lw_at lw_m11 120 rfl) rfl
theorem q2616 : (Jvm.Cond.code ({ cls := "AutoIndenterModel", name := "wanted", desc := "(I)I" } : Jvm.MethodName) prog_10_method_71_code (2 : Nat) (Option.some Jvm.ClassFile.FieldType.int)) ∈ lw_all := lw_g (lw_at lw_m11 121 rfl) rfl
theorem q2617 : (Jvm.Cond.methodLink "AutoIndenterModel" (259 : Nat) ({ cls := "AutoIndenterModel", name := "isDecided", desc := "(I)Z" } : Jvm.MethodName)) ∈ lw_all := lw_g (lw_at lw_m11 122 rfl) rfl
theorem q2618 : (Jvm.Cond.privateMethod ({ cls := "AutoIndenterModel", name := "isDecided", desc := "(I)Z" } : Jvm.MethodName)) ∈ lw_tbl := lw_at lw_m11 123 rfl
theorem q2619 : (Jvm.Cond.instanceMethod ({ cls := "AutoIndenterModel", name := "isDecided", desc := "(I)Z" } : Jvm.MethodName)) ∈ lw_all := lw_g (lw_at lw_m11 124 rfl) rfl
theorem q2620 : (Jvm.Cond.code ({ cls := "AutoIndenterModel", name := "isDecided", desc := "(I)Z" } : Jvm.MethodName) prog_10_method_70_code (3 : Nat) (Option.some Jvm.ClassFile.FieldType.boolean)) ∈ lw_all := lw_g (lw_at lw_m11 125 rfl) rfl
theorem q2622 : (Jvm.Cond.instanceMethod ({ cls := "AutoIndenterModel", name := "reason", desc := "(I)I" } : Jvm.MethodName)) ∈ lw_all := lw_g (lw_at lw_m11 127 rfl) rfl
theorem q2623 : (Jvm.Cond.selects "AutoIndenterModel" ({ cls := "AutoIndenterModel", name := "reason", desc := "(I)I" } : Jvm.MethodName) ({ cls := "AutoIndenterModel", name := "reason", desc := "(I)I" } : Jvm.MethodName)) ∈ lw_all := lw_g (lw_at lw_m11 128 rfl) rfl
theorem q2624 : (Jvm.Cond.code ({ cls := "AutoIndenterModel", name := "reason", desc := "(I)I" } : Jvm.MethodName) prog_10_method_72_code (2 : Nat) (Option.some Jvm.ClassFile.FieldType.int)) ∈ lw_all := lw_g (lw_at lw_m11 129 rfl) rfl
theorem q2626 : (Jvm.Cond.instanceMethod ({ cls := "AutoIndenterModel", name := "decidingRule", desc := "(I)I" } : Jvm.MethodName)) ∈ lw_all := lw_g (lw_at lw_m11 131 rfl) rfl
theorem q2627 : (Jvm.Cond.selects "AutoIndenterModel" ({ cls := "AutoIndenterModel", name := "decidingRule", desc := "(I)I" } : Jvm.MethodName) ({ cls := "AutoIndenterModel", name := "decidingRule", desc := "(I)I" } : Jvm.MethodName)) ∈ lw_all := lw_g (lw_at lw_m11 132 rfl) rfl
theorem q2628 : (Jvm.Cond.code ({ cls := "AutoIndenterModel", name := "decidingRule", desc := "(I)I" } : Jvm.MethodName) prog_10_method_73_code (2 : Nat) (Option.some Jvm.ClassFile.FieldType.int)) ∈ lw_all := lw_g (lw_at lw_m11 133 rfl) rfl
theorem q2630 : (Jvm.Cond.instanceMethod ({ cls := "AutoIndenterModel", name := "wouldChange", desc := "()I" } : Jvm.MethodName)) ∈ lw_all := lw_g (lw_at lw_m11 135 rfl) rfl
theorem q2631 : (Jvm.Cond.selects "AutoIndenterModel" ({ cls := "AutoIndenterModel", name := "wouldChange", desc := "()I" } : Jvm.MethodName) ({ cls := "AutoIndenterModel", name := "wouldChange", desc := "()I" } : Jvm.MethodName)) ∈ lw_all := lw_g (lw_at lw_m11 136 rfl) rfl
theorem q2632 : (Jvm.Cond.code ({ cls := "AutoIndenterModel", name := "wouldChange", desc := "()I" } : Jvm.MethodName) prog_10_method_74_code (1 : Nat) (Option.some Jvm.ClassFile.FieldType.int)) ∈ lw_all := lw_g (lw_at lw_m11 137 rfl) rfl
theorem q2634 : (Jvm.Cond.instanceMethod ({ cls := "AutoIndenterModel", name := "changesWith", desc := "(II)I" } : Jvm.MethodName)) ∈ lw_all := lw_g (lw_at lw_m11 139 rfl) rfl
theorem q2635 : (Jvm.Cond.selects "AutoIndenterModel" ({ cls := "AutoIndenterModel", name := "changesWith", desc := "(II)I" } : Jvm.MethodName) ({ cls := "AutoIndenterModel", name := "changesWith", desc := "(II)I" } : Jvm.MethodName)) ∈ lw_all := lw_g (lw_at lw_m11 140 rfl) rfl
theorem q2636 : (Jvm.Cond.code ({ cls := "AutoIndenterModel", name := "changesWith", desc := "(II)I" } : Jvm.MethodName) prog_10_method_76_code (3 : Nat) (Option.some Jvm.ClassFile.FieldType.int)) ∈ lw_all := lw_g (lw_at lw_m11 141 rfl) rfl
theorem q2637 : (Jvm.Cond.methodLink "AutoIndenterModel" (262 : Nat) ({ cls := "AutoIndenterModel", name := "changesBy", desc := "(II)I" } : Jvm.MethodName)) ∈ lw_all := lw_g (lw_at lw_m11 142 rfl) rfl
theorem q2638 : (Jvm.Cond.privateMethod ({ cls := "AutoIndenterModel", name := "changesBy", desc := "(II)I" } : Jvm.MethodName)) ∈ lw_tbl := lw_at lw_m11 143 rfl
theorem q2639 : (Jvm.Cond.instanceMethod ({ cls := "AutoIndenterModel", name := "changesBy", desc := "(II)I" } : Jvm.MethodName)) ∈ lw_all := lw_g (lw_at lw_m11 144 rfl) rfl
theorem q2640 : (Jvm.Cond.code ({ cls := "AutoIndenterModel", name := "changesBy", desc := "(II)I" } : Jvm.MethodName) prog_10_method_75_code (3 : Nat) (Option.some Jvm.ClassFile.FieldType.int)) ∈ lw_all := lw_g (lw_at lw_m11 145 rfl) rfl
theorem q2642 : (Jvm.Cond.instanceMethod ({ cls := "AutoIndenterModel", name := "fewestChanges", desc := "()I" } : Jvm.MethodName)) ∈ lw_all := lw_g (lw_at lw_m11 147 rfl) rfl
theorem q2643 : (Jvm.Cond.selects "AutoIndenterModel" ({ cls := "AutoIndenterModel", name := "fewestChanges", desc := "()I" } : Jvm.MethodName) ({ cls := "AutoIndenterModel", name := "fewestChanges", desc := "()I" } : Jvm.MethodName)) ∈ lw_all := lw_g (lw_at lw_m11 148 rfl) rfl
theorem q2644 : (Jvm.Cond.code ({ cls := "AutoIndenterModel", name := "fewestChanges", desc := "()I" } : Jvm.MethodName) prog_10_method_78_code (1 : Nat) (Option.some Jvm.ClassFile.FieldType.int)) ∈ lw_all := lw_g (lw_at lw_m11 149 rfl) rfl
theorem q2645 : (Jvm.Cond.methodLink "AutoIndenterModel" (274 : Nat) ({ cls := "AutoIndenterModel", name := "searches", desc := "()V" } : Jvm.MethodName)) ∈ lw_all := lw_g (lw_at lw_m11 150 rfl) rfl
theorem q2646 : (Jvm.Cond.privateMethod ({ cls := "AutoIndenterModel", name := "searches", desc := "()V" } : Jvm.MethodName)) ∈ lw_tbl := lw_at lw_m11 151 rfl
theorem q2647 : (Jvm.Cond.instanceMethod ({ cls := "AutoIndenterModel", name := "searches", desc := "()V" } : Jvm.MethodName)) ∈ lw_all := lw_g (lw_at lw_m11 152 rfl) rfl
theorem q2648 : (Jvm.Cond.code ({ cls := "AutoIndenterModel", name := "searches", desc := "()V" } : Jvm.MethodName) prog_10_method_77_code (4 : Nat) (Option.none : Option Jvm.ClassFile.FieldType)) ∈ lw_all := lw_g (lw_at lw_m11 153 rfl) rfl
theorem q2650 : (Jvm.Cond.instanceMethod ({ cls := "AutoIndenterModel", name := "bestStep", desc := "()I" } : Jvm.MethodName)) ∈ lw_all := lw_g (lw_at lw_m11 155 rfl) rfl
theorem q2651 : (Jvm.Cond.selects "AutoIndenterModel" ({ cls := "AutoIndenterModel", name := "bestStep", desc := "()I" } : Jvm.MethodName) ({ cls := "AutoIndenterModel", name := "bestStep", desc := "()I" } : Jvm.MethodName)) ∈ lw_all := lw_g (lw_at lw_m11 156 rfl) rfl
theorem q2652 : (Jvm.Cond.code ({ cls := "AutoIndenterModel", name := "bestStep", desc := "()I" } : Jvm.MethodName) prog_10_method_79_code (1 : Nat) (Option.some Jvm.ClassFile.FieldType.int)) ∈ lw_all := lw_g (lw_at lw_m11 157 rfl) rfl
theorem q2654 : (Jvm.Cond.instanceMethod ({ cls := "AutoIndenterModel", name := "bestBase", desc := "()I" } : Jvm.MethodName)) ∈ lw_all := lw_g (lw_at lw_m11 159 rfl) rfl
theorem q2655 : (Jvm.Cond.selects "AutoIndenterModel" ({ cls := "AutoIndenterModel", name := "bestBase", desc := "()I" } : Jvm.MethodName) ({ cls := "AutoIndenterModel", name := "bestBase", desc := "()I" } : Jvm.MethodName)) ∈ lw_all := lw_g (lw_at lw_m11 160 rfl) rfl
theorem q2656 : (Jvm.Cond.code ({ cls := "AutoIndenterModel", name := "bestBase", desc := "()I" } : Jvm.MethodName) prog_10_method_80_code (1 : Nat) (Option.some Jvm.ClassFile.FieldType.int)) ∈ lw_all := lw_g (lw_at lw_m11 161 rfl) rfl
theorem q2658 : (Jvm.Cond.instanceMethod ({ cls := "AutoIndenterModel", name := "tokens", desc := "(I)I" } : Jvm.MethodName)) ∈ lw_all := lw_g (lw_at lw_m11 163 rfl) rfl
theorem q2659 : (Jvm.Cond.selects "AutoIndenterModel" ({ cls := "AutoIndenterModel", name := "tokens", desc := "(I)I" } : Jvm.MethodName) ({ cls := "AutoIndenterModel", name := "tokens", desc := "(I)I" } : Jvm.MethodName)) ∈ lw_all := lw_g (lw_at lw_m11 164 rfl) rfl
theorem q2660 : (Jvm.Cond.code ({ cls := "AutoIndenterModel", name := "tokens", desc := "(I)I" } : Jvm.MethodName) prog_10_method_82_code (2 : Nat) (Option.some Jvm.ClassFile.FieldType.int)) ∈ lw_all := lw_g (lw_at lw_m11 165 rfl) rfl
theorem q2662 : (Jvm.Cond.instanceMethod ({ cls := "AutoIndenterModel", name := "tokenAt", desc := "(II)I" } : Jvm.MethodName)) ∈ lw_all := lw_g (lw_at lw_m11 167 rfl) rfl
theorem q2663 : (Jvm.Cond.selects "AutoIndenterModel" ({ cls := "AutoIndenterModel", name := "tokenAt", desc := "(II)I" } : Jvm.MethodName) ({ cls := "AutoIndenterModel", name := "tokenAt", desc := "(II)I" } : Jvm.MethodName)) ∈ lw_all := lw_g (lw_at lw_m11 168 rfl) rfl
theorem q2664 : (Jvm.Cond.code ({ cls := "AutoIndenterModel", name := "tokenAt", desc := "(II)I" } : Jvm.MethodName) prog_10_method_83_code (4 : Nat) (Option.some Jvm.ClassFile.FieldType.int)) ∈ lw_all := lw_g (lw_at lw_m11 169 rfl) rfl
theorem q2665 : (Jvm.Cond.methodLink "AutoIndenterModel" (277 : Nat) ({ cls := "AutoIndenterModel", name := "tokenOf", desc := "(II)I" } : Jvm.MethodName)) ∈ lw_all := lw_g (lw_at lw_m11 170 rfl) rfl
theorem q2666 : (Jvm.Cond.privateMethod ({ cls := "AutoIndenterModel", name := "tokenOf", desc := "(II)I" } : Jvm.MethodName)) ∈ lw_tbl := lw_at lw_m11 171 rfl
theorem q2667 : (Jvm.Cond.instanceMethod ({ cls := "AutoIndenterModel", name := "tokenOf", desc := "(II)I" } : Jvm.MethodName)) ∈ lw_all := lw_g (lw_at lw_m11 172 rfl) rfl
theorem q2668 : (Jvm.Cond.code ({ cls := "AutoIndenterModel", name := "tokenOf", desc := "(II)I" } : Jvm.MethodName) prog_10_method_81_code (3 : Nat) (Option.some Jvm.ClassFile.FieldType.int)) ∈ lw_all := lw_g (lw_at lw_m11 173 rfl) rfl
theorem q2670 : (Jvm.Cond.instanceMethod ({ cls := "AutoIndenterModel", name := "tokenLength", desc := "(II)I" } : Jvm.MethodName)) ∈ lw_all := lw_g (lw_at lw_m11 175 rfl) rfl
theorem q2671 : (Jvm.Cond.selects "AutoIndenterModel" ({ cls := "AutoIndenterModel", name := "tokenLength", desc := "(II)I" } : Jvm.MethodName) ({ cls := "AutoIndenterModel", name := "tokenLength", desc := "(II)I" } : Jvm.MethodName)) ∈ lw_all := lw_g (lw_at lw_m11 176 rfl) rfl
theorem q2672 : (Jvm.Cond.code ({ cls := "AutoIndenterModel", name := "tokenLength", desc := "(II)I" } : Jvm.MethodName) prog_10_method_84_code (4 : Nat) (Option.some Jvm.ClassFile.FieldType.int)) ∈ lw_all := lw_g (lw_at lw_m11 177 rfl) rfl
theorem q2674 : (Jvm.Cond.instanceMethod ({ cls := "AutoIndenterModel", name := "tokenKind", desc := "(II)I" } : Jvm.MethodName)) ∈ lw_all := lw_g (lw_at lw_m11 179 rfl) rfl
theorem q2675 : (Jvm.Cond.selects "AutoIndenterModel" ({ cls := "AutoIndenterModel", name := "tokenKind", desc := "(II)I" } : Jvm.MethodName) ({ cls := "AutoIndenterModel", name := "tokenKind", desc := "(II)I" } : Jvm.MethodName)) ∈ lw_all := lw_g (lw_at lw_m11 180 rfl) rfl
theorem q2676 : (Jvm.Cond.code ({ cls := "AutoIndenterModel", name := "tokenKind", desc := "(II)I" } : Jvm.MethodName) prog_10_method_85_code (4 : Nat) (Option.some Jvm.ClassFile.FieldType.int)) ∈ lw_all := lw_g (lw_at lw_m11 181 rfl) rfl
theorem q2678 : (Jvm.Cond.instanceMethod ({ cls := "AutoIndenterModel", name := "openedBy", desc := "(II)I" } : Jvm.MethodName)) ∈ lw_all := lw_g (lw_at lw_m11 183 rfl) rfl
theorem q2679 : (Jvm.Cond.selects "AutoIndenterModel" ({ cls := "AutoIndenterModel", name := "openedBy", desc := "(II)I" } : Jvm.MethodName) ({ cls := "AutoIndenterModel", name := "openedBy", desc := "(II)I" } : Jvm.MethodName)) ∈ lw_all := lw_g (lw_at lw_m11 184 rfl) rfl
theorem q2680 : (Jvm.Cond.code ({ cls := "AutoIndenterModel", name := "openedBy", desc := "(II)I" } : Jvm.MethodName) prog_10_method_87_code (4 : Nat) (Option.some Jvm.ClassFile.FieldType.int)) ∈ lw_all := lw_g (lw_at lw_m11 185 rfl) rfl
theorem q2681 : (Jvm.Cond.methodLink "AutoIndenterModel" (280 : Nat) ({ cls := "AutoIndenterModel", name := "placeOf", desc := "(I)I" } : Jvm.MethodName)) ∈ lw_all := lw_g (lw_at lw_m11 186 rfl) rfl
theorem q2682 : (Jvm.Cond.privateMethod ({ cls := "AutoIndenterModel", name := "placeOf", desc := "(I)I" } : Jvm.MethodName)) ∈ lw_tbl := lw_at lw_m11 187 rfl
theorem q2683 : (Jvm.Cond.instanceMethod ({ cls := "AutoIndenterModel", name := "placeOf", desc := "(I)I" } : Jvm.MethodName)) ∈ lw_all := lw_g (lw_at lw_m11 188 rfl) rfl
theorem q2684 : (Jvm.Cond.code ({ cls := "AutoIndenterModel", name := "placeOf", desc := "(I)I" } : Jvm.MethodName) prog_10_method_86_code (2 : Nat) (Option.some Jvm.ClassFile.FieldType.int)) ∈ lw_all := lw_g (lw_at lw_m11 189 rfl) rfl
theorem q2686 : (Jvm.Cond.instanceMethod ({ cls := "AutoIndenterModel", name := "closedBy", desc := "(II)I" } : Jvm.MethodName)) ∈ lw_all := lw_g (lw_at lw_m11 191 rfl) rfl
theorem q2687 : (Jvm.Cond.selects "AutoIndenterModel" ({ cls := "AutoIndenterModel", name := "closedBy", desc := "(II)I" } : Jvm.MethodName) ({ cls := "AutoIndenterModel", name := "closedBy", desc := "(II)I" } : Jvm.MethodName)) ∈ lw_all := lw_g (lw_at lw_m11 192 rfl) rfl
theorem q2688 : (Jvm.Cond.code ({ cls := "AutoIndenterModel", name := "closedBy", desc := "(II)I" } : Jvm.MethodName) prog_10_method_88_code (4 : Nat) (Option.some Jvm.ClassFile.FieldType.int)) ∈ lw_all := lw_g (lw_at lw_m11 193 rfl) rfl
theorem q2690 : (Jvm.Cond.instanceMethod ({ cls := "AutoIndenterModel", name := "depth", desc := "(I)I" } : Jvm.MethodName)) ∈ lw_all := lw_g (lw_at lw_m11 195 rfl) rfl
theorem q2691 : (Jvm.Cond.selects "AutoIndenterModel" ({ cls := "AutoIndenterModel", name := "depth", desc := "(I)I" } : Jvm.MethodName) ({ cls := "AutoIndenterModel", name := "depth", desc := "(I)I" } : Jvm.MethodName)) ∈ lw_all := lw_g (lw_at lw_m11 196 rfl) rfl
theorem q2692 : (Jvm.Cond.code ({ cls := "AutoIndenterModel", name := "depth", desc := "(I)I" } : Jvm.MethodName) prog_10_method_89_code (2 : Nat) (Option.some Jvm.ClassFile.FieldType.int)) ∈ lw_all := lw_g (lw_at lw_m11 197 rfl) rfl
theorem q2694 : (Jvm.Cond.instanceMethod ({ cls := "AutoIndenterModel", name := "blockRule", desc := "(II)I" } : Jvm.MethodName)) ∈ lw_all := lw_g (lw_at lw_m11 199 rfl) rfl
theorem q2695 : (Jvm.Cond.selects "AutoIndenterModel" ({ cls := "AutoIndenterModel", name := "blockRule", desc := "(II)I" } : Jvm.MethodName) ({ cls := "AutoIndenterModel", name := "blockRule", desc := "(II)I" } : Jvm.MethodName)) ∈ lw_all := lw_g (lw_at lw_m11 200 rfl) rfl
theorem q2696 : (Jvm.Cond.code ({ cls := "AutoIndenterModel", name := "blockRule", desc := "(II)I" } : Jvm.MethodName) prog_10_method_91_code (4 : Nat) (Option.some Jvm.ClassFile.FieldType.int)) ∈ lw_all := lw_g (lw_at lw_m11 201 rfl) rfl
theorem q2697 : (Jvm.Cond.methodLink "AutoIndenterModel" (283 : Nat) ({ cls := "AutoIndenterModel", name := "blockOf", desc := "(II)I" } : Jvm.MethodName)) ∈ lw_all := lw_g (lw_at lw_m11 202 rfl) rfl
theorem q2698 : (Jvm.Cond.privateMethod ({ cls := "AutoIndenterModel", name := "blockOf", desc := "(II)I" } : Jvm.MethodName)) ∈ lw_tbl := lw_at lw_m11 203 rfl
theorem q2699 : (Jvm.Cond.instanceMethod ({ cls := "AutoIndenterModel", name := "blockOf", desc := "(II)I" } : Jvm.MethodName)) ∈ lw_all := lw_g (lw_at lw_m11 204 rfl) rfl
theorem q2700 : (Jvm.Cond.code ({ cls := "AutoIndenterModel", name := "blockOf", desc := "(II)I" } : Jvm.MethodName) prog_10_method_90_code (3 : Nat) (Option.some Jvm.ClassFile.FieldType.int)) ∈ lw_all := lw_g (lw_at lw_m11 205 rfl) rfl
theorem q2702 : (Jvm.Cond.instanceMethod ({ cls := "AutoIndenterModel", name := "blockOpening", desc := "(II)I" } : Jvm.MethodName)) ∈ lw_all := lw_g (lw_at lw_m11 207 rfl) rfl
theorem q2703 : (Jvm.Cond.selects "AutoIndenterModel" ({ cls := "AutoIndenterModel", name := "blockOpening", desc := "(II)I" } : Jvm.MethodName) ({ cls := "AutoIndenterModel", name := "blockOpening", desc := "(II)I" } : Jvm.MethodName)) ∈ lw_all := lw_g (lw_at lw_m11 208 rfl) rfl
theorem q2704 : (Jvm.Cond.code ({ cls := "AutoIndenterModel", name := "blockOpening", desc := "(II)I" } : Jvm.MethodName) prog_10_method_92_code (4 : Nat) (Option.some Jvm.ClassFile.FieldType.int)) ∈ lw_all := lw_g (lw_at lw_m11 209 rfl) rfl
theorem q2706 : (Jvm.Cond.instanceMethod ({ cls := "AutoIndenterModel", name := "contentColumn", desc := "(II)I" } : Jvm.MethodName)) ∈ lw_all := lw_g (lw_at lw_m11 211 rfl) rfl
theorem q2707 : (Jvm.Cond.selects "AutoIndenterModel" ({ cls := "AutoIndenterModel", name := "contentColumn", desc := "(II)I" } : Jvm.MethodName) ({ cls := "AutoIndenterModel", name := "contentColumn", desc := "(II)I" } : Jvm.MethodName)) ∈ lw_all := lw_g (lw_at lw_m11 212 rfl) rfl
theorem q2708 : (Jvm.Cond.code ({ cls := "AutoIndenterModel", name := "contentColumn", desc := "(II)I" } : Jvm.MethodName) prog_10_method_93_code (4 : Nat) (Option.some Jvm.ClassFile.FieldType.int)) ∈ lw_all := lw_g (lw_at lw_m11 213 rfl) rfl
theorem q2710 : (Jvm.Cond.instanceMethod ({ cls := "AutoIndenterModel", name := "strays", desc := "()I" } : Jvm.MethodName)) ∈ lw_all := lw_g (lw_at lw_m11 215 rfl) rfl
theorem q2711 : (Jvm.Cond.selects "AutoIndenterModel" ({ cls := "AutoIndenterModel", name := "strays", desc := "()I" } : Jvm.MethodName) ({ cls := "AutoIndenterModel", name := "strays", desc := "()I" } : Jvm.MethodName)) ∈ lw_all := lw_g (lw_at lw_m11 216 rfl) rfl
theorem q2712 : (Jvm.Cond.code ({ cls := "AutoIndenterModel", name := "strays", desc := "()I" } : Jvm.MethodName) prog_10_method_94_code (1 : Nat) (Option.some Jvm.ClassFile.FieldType.int)) ∈ lw_all := lw_g (lw_at lw_m11 217 rfl) rfl
theorem q2714 : (Jvm.Cond.instanceMethod ({ cls := "AutoIndenterModel", name := "lost", desc := "()I" } : Jvm.MethodName)) ∈ lw_all := lw_g (lw_at lw_m11 219 rfl) rfl
theorem q2715 : (Jvm.Cond.selects "AutoIndenterModel" ({ cls := "AutoIndenterModel", name := "lost", desc := "()I" } : Jvm.MethodName) ({ cls := "AutoIndenterModel", name := "lost", desc := "()I" } : Jvm.MethodName)) ∈ lw_all := lw_g (lw_at lw_m11 220 rfl) rfl
theorem q2716 : (Jvm.Cond.code ({ cls := "AutoIndenterModel", name := "lost", desc := "()I" } : Jvm.MethodName) prog_10_method_95_code (1 : Nat) (Option.some Jvm.ClassFile.FieldType.int)) ∈ lw_all := lw_g (lw_at lw_m11 221 rfl) rfl
theorem q2718 : (Jvm.Cond.instanceMethod ({ cls := "AutoIndenterModel", name := "vocabulary", desc := "()I" } : Jvm.MethodName)) ∈ lw_all := lw_g (lw_at lw_m11 223 rfl) rfl
theorem q2719 : (Jvm.Cond.selects "AutoIndenterModel" ({ cls := "AutoIndenterModel", name := "vocabulary", desc := "()I" } : Jvm.MethodName) ({ cls := "AutoIndenterModel", name := "vocabulary", desc := "()I" } : Jvm.MethodName)) ∈ lw_all := lw_g (lw_at lw_m11 224 rfl) rfl
theorem q2720 : (Jvm.Cond.code ({ cls := "AutoIndenterModel", name := "vocabulary", desc := "()I" } : Jvm.MethodName) prog_10_method_98_code (3 : Nat) (Option.some Jvm.ClassFile.FieldType.int)) ∈ lw_all := lw_g (lw_at lw_m11 225 rfl) rfl
theorem q2721 : (Jvm.Cond.methodLink "AutoIndenterModel" (289 : Nat) ({ cls := "AutoIndenterModel", name := "isFirst", desc := "(I)Z" } : Jvm.MethodName)) ∈ lw_all := lw_g (lw_at lw_m11 226 rfl) rfl
theorem q2722 : (Jvm.Cond.privateMethod ({ cls := "AutoIndenterModel", name := "isFirst", desc := "(I)Z" } : Jvm.MethodName)) ∈ lw_tbl := lw_at lw_m11 227 rfl
theorem q2723 : (Jvm.Cond.instanceMethod ({ cls := "AutoIndenterModel", name := "isFirst", desc := "(I)Z" } : Jvm.MethodName)) ∈ lw_all := lw_g (lw_at lw_m11 228 rfl) rfl
theorem q2724 : (Jvm.Cond.code ({ cls := "AutoIndenterModel", name := "isFirst", desc := "(I)Z" } : Jvm.MethodName) prog_10_method_97_code (4 : Nat) (Option.some Jvm.ClassFile.FieldType.boolean)) ∈ lw_all := lw_g (lw_at lw_m11 229 rfl) rfl
theorem q2725 : (Jvm.Cond.methodLink "AutoIndenterModel" (286 : Nat) ({ cls := "AutoIndenterModel", name := "isSame", desc := "(II)Z" } : Jvm.MethodName)) ∈ lw_all := lw_g (lw_at lw_m11 230 rfl) rfl
theorem q2726 : (Jvm.Cond.privateMethod ({ cls := "AutoIndenterModel", name := "isSame", desc := "(II)Z" } : Jvm.MethodName)) ∈ lw_tbl := lw_at lw_m11 231 rfl
theorem q2727 : (Jvm.Cond.instanceMethod ({ cls := "AutoIndenterModel", name := "isSame", desc := "(II)Z" } : Jvm.MethodName)) ∈ lw_all := lw_g (lw_at lw_m11 232 rfl) rfl
theorem q2728 : (Jvm.Cond.code ({ cls := "AutoIndenterModel", name := "isSame", desc := "(II)Z" } : Jvm.MethodName) prog_10_method_96_code (5 : Nat) (Option.some Jvm.ClassFile.FieldType.boolean)) ∈ lw_all := lw_g (lw_at lw_m11 233 rfl) rfl
theorem q2730 : (Jvm.Cond.instanceMethod ({ cls := "AutoIndenterModel", name := "commonestCount", desc := "()I" } : Jvm.MethodName)) ∈ lw_all := lw_g (lw_at lw_m11 235 rfl) rfl
theorem q2731 : (Jvm.Cond.selects "AutoIndenterModel" ({ cls := "AutoIndenterModel", name := "commonestCount", desc := "()I" } : Jvm.MethodName) ({ cls := "AutoIndenterModel", name := "commonestCount", desc := "()I" } : Jvm.MethodName)) ∈ lw_all := lw_g (lw_at lw_m11 236 rfl) rfl
theorem q2732 : (Jvm.Cond.code ({ cls := "AutoIndenterModel", name := "commonestCount", desc := "()I" } : Jvm.MethodName) prog_10_method_100_code (1 : Nat) (Option.some Jvm.ClassFile.FieldType.int)) ∈ lw_all := lw_g (lw_at lw_m11 237 rfl) rfl
theorem q2733 : (Jvm.Cond.methodLink "AutoIndenterModel" (295 : Nat) ({ cls := "AutoIndenterModel", name := "commonest", desc := "()I" } : Jvm.MethodName)) ∈ lw_all := lw_g (lw_at lw_m11 238 rfl) rfl
theorem q2734 : (Jvm.Cond.privateMethod ({ cls := "AutoIndenterModel", name := "commonest", desc := "()I" } : Jvm.MethodName)) ∈ lw_tbl := lw_at lw_m11 239 rfl
theorem q2735 : (Jvm.Cond.instanceMethod ({ cls := "AutoIndenterModel", name := "commonest", desc := "()I" } : Jvm.MethodName)) ∈ lw_all := lw_g (lw_at lw_m12 0 rfl) rfl
theorem q2736 : (Jvm.Cond.code ({ cls := "AutoIndenterModel", name := "commonest", desc := "()I" } : Jvm.MethodName) prog_10_method_99_code (5 : Nat) (Option.some Jvm.ClassFile.FieldType.int)) ∈ lw_all := lw_g (lw_at lw_m12 1 rfl) rfl
theorem q2738 : (Jvm.Cond.instanceMethod ({ cls := "AutoIndenterModel", name := "commonestByte", desc := "(I)I" } : Jvm.MethodName)) ∈ lw_all := lw_g (lw_at lw_m12 3 rfl) rfl
theorem q2739 : (Jvm.Cond.selects "AutoIndenterModel" ({ cls := "AutoIndenterModel", name := "commonestByte", desc := "(I)I" } : Jvm.MethodName) ({ cls := "AutoIndenterModel", name := "commonestByte", desc := "(I)I" } : Jvm.MethodName)) ∈ lw_all := lw_g (lw_at lw_m12 4 rfl) rfl
theorem q2740 : (Jvm.Cond.code ({ cls := "AutoIndenterModel", name := "commonestByte", desc := "(I)I" } : Jvm.MethodName) prog_10_method_101_code (3 : Nat) (Option.some Jvm.ClassFile.FieldType.int)) ∈ lw_all := lw_g (lw_at lw_m12 5 rfl) rfl
theorem q2742 : (Jvm.Cond.instanceMethod ({ cls := "AutoIndenterModel", name := "undo", desc := "()I" } : Jvm.MethodName)) ∈ lw_all := lw_g (lw_at lw_m12 7 rfl) rfl
theorem q2743 : (Jvm.Cond.selects "AutoIndenterModel" ({ cls := "AutoIndenterModel", name := "undo", desc := "()I" } : Jvm.MethodName) ({ cls := "AutoIndenterModel", name := "undo", desc := "()I" } : Jvm.MethodName)) ∈ lw_all := lw_g (lw_at lw_m12 8 rfl) rfl
theorem q2744 : (Jvm.Cond.code ({ cls := "AutoIndenterModel", name := "undo", desc := "()I" } : Jvm.MethodName) prog_10_method_102_code (1 : Nat) (Option.some Jvm.ClassFile.FieldType.int)) ∈ lw_all := lw_g (lw_at lw_m12 9 rfl) rfl
theorem q2746 : (Jvm.Cond.instanceMethod ({ cls := "AutoIndenterModel", name := "keep", desc := "(I)I" } : Jvm.MethodName)) ∈ lw_all := lw_g (lw_at lw_m12 11 rfl) rfl
theorem q2747 : (Jvm.Cond.selects "AutoIndenterModel" ({ cls := "AutoIndenterModel", name := "keep", desc := "(I)I" } : Jvm.MethodName) ({ cls := "AutoIndenterModel", name := "keep", desc := "(I)I" } : Jvm.MethodName)) ∈ lw_all := lw_g (lw_at lw_m12 12 rfl) rfl
theorem q2748 : (Jvm.Cond.code ({ cls := "AutoIndenterModel", name := "keep", desc := "(I)I" } : Jvm.MethodName) prog_10_method_103_code (3 : Nat) (Option.some Jvm.ClassFile.FieldType.int)) ∈ lw_all := lw_g (lw_at lw_m12 13 rfl) rfl
theorem q2750 : (Jvm.Cond.instanceMethod ({ cls := "AutoIndenterModel", name := "back", desc := "(I)I" } : Jvm.MethodName)) ∈ lw_all := lw_g (lw_at lw_m12 15 rfl) rfl
theorem q2751 : (Jvm.Cond.selects "AutoIndenterModel" ({ cls := "AutoIndenterModel", name := "back", desc := "(I)I" } : Jvm.MethodName) ({ cls := "AutoIndenterModel", name := "back", desc := "(I)I" } : Jvm.MethodName)) ∈ lw_all := lw_g (lw_at lw_m12 16 rfl) rfl
theorem q2752 : (Jvm.Cond.code ({ cls := "AutoIndenterModel", name := "back", desc := "(I)I" } : Jvm.MethodName) prog_10_method_104_code (2 : Nat) (Option.some Jvm.ClassFile.FieldType.int)) ∈ lw_all := lw_g (lw_at lw_m12 17 rfl) rfl
theorem q2754 : (Jvm.Cond.instanceMethod ({ cls := "AutoIndenterModel", name := "draw", desc := "(II)I" } : Jvm.MethodName)) ∈ lw_all := lw_g (lw_at lw_m12 19 rfl) rfl
theorem q2755 : (Jvm.Cond.selects "AutoIndenterModel" ({ cls := "AutoIndenterModel", name := "draw", desc := "(II)I" } : Jvm.MethodName) ({ cls := "AutoIndenterModel", name := "draw", desc := "(II)I" } : Jvm.MethodName)) ∈ lw_all := lw_g (lw_at lw_m12 20 rfl) rfl
theorem q2756 : (Jvm.Cond.code ({ cls := "AutoIndenterModel", name := "draw", desc := "(II)I" } : Jvm.MethodName) prog_10_method_107_code (4 : Nat) (Option.some Jvm.ClassFile.FieldType.int)) ∈ lw_all := lw_g (lw_at lw_m12 21 rfl) rfl
theorem q2757 : (Jvm.Cond.methodLink "AutoIndenterModel" (306 : Nat) ({ cls := "AutoIndenterModel", name := "drawsLine", desc := "()V" } : Jvm.MethodName)) ∈ lw_all := lw_g (lw_at lw_m12 22 rfl) rfl
theorem q2758 : (Jvm.Cond.privateMethod ({ cls := "AutoIndenterModel", name := "drawsLine", desc := "()V" } : Jvm.MethodName)) ∈ lw_tbl := lw_at lw_m12 23 rfl
theorem q2759 : (Jvm.Cond.instanceMethod ({ cls := "AutoIndenterModel", name := "drawsLine", desc := "()V" } : Jvm.MethodName)) ∈ lw_all := lw_g (lw_at lw_m12 24 rfl) rfl
theorem q2760 : (Jvm.Cond.code ({ cls := "AutoIndenterModel", name := "drawsLine", desc := "()V" } : Jvm.MethodName) prog_10_method_106_code (7 : Nat) (Option.none : Option Jvm.ClassFile.FieldType)) ∈ lw_all := lw_g (lw_at lw_m12 25 rfl) rfl
theorem q2761 : (Jvm.Cond.methodLink "AutoIndenterModel" (303 : Nat) ({ cls := "AutoIndenterModel", name := "draws", desc := "()I" } : Jvm.MethodName)) ∈ lw_all := lw_g (lw_at lw_m12 26 rfl) rfl
theorem q2762 : (Jvm.Cond.privateMethod ({ cls := "AutoIndenterModel", name := "draws", desc := "()I" } : Jvm.MethodName)) ∈ lw_tbl := lw_at lw_m12 27 rfl
theorem q2763 : (Jvm.Cond.instanceMethod ({ cls := "AutoIndenterModel", name := "draws", desc := "()I" } : Jvm.MethodName)) ∈ lw_all := lw_g (lw_at lw_m12 28 rfl) rfl
theorem q2764 : (Jvm.Cond.code ({ cls := "AutoIndenterModel", name := "draws", desc := "()I" } : Jvm.MethodName) prog_10_method_105_code (1 : Nat) (Option.some Jvm.ClassFile.FieldType.int)) ∈ lw_all := lw_g (lw_at lw_m12 29 rfl) rfl
theorem q2765 : (Jvm.Cond.constant "AutoIndenterModel" (302 : Nat) (1103515245 : Int32)) ∈ lw_all := lw_g (lw_at lw_m12 30 rfl) rfl
theorem q2767 : (Jvm.Cond.instanceMethod ({ cls := "AutoIndenterModel", name := "digest", desc := "()J" } : Jvm.MethodName)) ∈ lw_all := lw_g (lw_at lw_m12 32 rfl) rfl
theorem q2768 : (Jvm.Cond.selects "AutoIndenterModel" ({ cls := "AutoIndenterModel", name := "digest", desc := "()J" } : Jvm.MethodName) ({ cls := "AutoIndenterModel", name := "digest", desc := "()J" } : Jvm.MethodName)) ∈ lw_all := lw_g (lw_at lw_m12 33 rfl) rfl
theorem q2769 : (Jvm.Cond.code ({ cls := "AutoIndenterModel", name := "digest", desc := "()J" } : Jvm.MethodName) prog_10_method_111_code (3 : Nat) (Option.some Jvm.ClassFile.FieldType.long)) ∈ lw_all := lw_g (lw_at lw_m12 34 rfl) rfl
theorem q2770 : (Jvm.Cond.constantLong "AutoIndenterModel" (321 : Nat) (18310 : Int64)) ∈ lw_all := lw_g (lw_at lw_m12 35 rfl) rfl
theorem q2771 : (Jvm.Cond.methodLink "AutoIndenterModel" (315 : Nat) ({ cls := "AutoIndenterModel", name := "mixes", desc := "(I)V" } : Jvm.MethodName)) ∈ lw_all := lw_g (lw_at lw_m12 36 rfl) rfl
theorem q2772 : (Jvm.Cond.privateMethod ({ cls := "AutoIndenterModel", name := "mixes", desc := "(I)V" } : Jvm.MethodName)) ∈ lw_tbl := lw_at lw_m12 37 rfl
theorem q2773 : (Jvm.Cond.instanceMethod ({ cls := "AutoIndenterModel", name := "mixes", desc := "(I)V" } : Jvm.MethodName)) ∈ lw_all := lw_g (lw_at lw_m12 38 rfl) rfl
theorem q2774 : (Jvm.Cond.code ({ cls := "AutoIndenterModel", name := "mixes", desc := "(I)V" } : Jvm.MethodName) prog_10_method_108_code (2 : Nat) (Option.none : Option Jvm.ClassFile.FieldType)) ∈ lw_all := lw_g (lw_at lw_m12 39 rfl) rfl
theorem q2775 : (Jvm.Cond.constantLong "AutoIndenterModel" (309 : Nat) (31 : Int64)) ∈ lw_all := lw_g (lw_at lw_m12 40 rfl) rfl
theorem q2776 : (Jvm.Cond.methodLink "AutoIndenterModel" (323 : Nat) ({ cls := "AutoIndenterModel", name := "mixesRule", desc := "(I)V" } : Jvm.MethodName)) ∈ lw_all := lw_g (lw_at lw_m12 41 rfl) rfl
theorem q2777 : (Jvm.Cond.privateMethod ({ cls := "AutoIndenterModel", name := "mixesRule", desc := "(I)V" } : Jvm.MethodName)) ∈ lw_tbl := lw_at lw_m12 42 rfl
theorem q2778 : (Jvm.Cond.instanceMethod ({ cls := "AutoIndenterModel", name := "mixesRule", desc := "(I)V" } : Jvm.MethodName)) ∈ lw_all := lw_g (lw_at lw_m12 43 rfl) rfl
theorem q2779 : (Jvm.Cond.code ({ cls := "AutoIndenterModel", name := "mixesRule", desc := "(I)V" } : Jvm.MethodName) prog_10_method_110_code (4 : Nat) (Option.none : Option Jvm.ClassFile.FieldType)) ∈ lw_all := lw_g (lw_at lw_m12 44 rfl) rfl
theorem q2780 : (Jvm.Cond.methodLink "AutoIndenterModel" (318 : Nat) ({ cls := "AutoIndenterModel", name := "mixesText", desc := "(I)V" } : Jvm.MethodName)) ∈ lw_all := lw_g (lw_at lw_m12 45 rfl) rfl
theorem q2781 : (Jvm.Cond.privateMethod ({ cls := "AutoIndenterModel", name := "mixesText", desc := "(I)V" } : Jvm.MethodName)) ∈ lw_tbl := lw_at lw_m12 46 rfl
theorem q2782 : (Jvm.Cond.instanceMethod ({ cls := "AutoIndenterModel", name := "mixesText", desc := "(I)V" } : Jvm.MethodName)) ∈ lw_all := lw_g (lw_at lw_m12 47 rfl) rfl
theorem q2783 : (Jvm.Cond.code ({ cls := "AutoIndenterModel", name := "mixesText", desc := "(I)V" } : Jvm.MethodName) prog_10_method_109_code (3 : Nat) (Option.none : Option Jvm.ClassFile.FieldType)) ∈ lw_all := lw_g (lw_at lw_m12 48 rfl) rfl
theorem q2804 : (Jvm.Cond.castable "AutoIndenterModel" "java/lang/Object") ∈ lw_tbl := lw_at lw_m12 69 rfl
theorem in_X2 : ∀ w ∈ wsX20, w ∈ lw_all := lw_in wsX20 [2267, 2269, 2271, 2273, 2275, 2277, 2279, 2281, 2283, 2285, 2287, 2289, 2291, 2293, 2295, 2297, 2299, 2301, 2303, 2305, 2307, 2309, 2311, 2313, 2315, 2317, 2319, 2321, 2323, 2325, 2327, 2329, 2331, 2333, 2335, 2337, 2339, 2341, 2343, 2345, 2347] (by decide +kernel) (by decide +kernel)
