/-! FortPlannerModel -/
set_option maxRecDepth 100000
def RX4 : String := "FortPlannerModel"
def TX4 : u_T := fun k => match k with
  | 0 => ("FortPlannerModel", "thrown", "I", false)
  | 1 => ("FortPlannerModel", "changes", "I", false)
  | 2 => ("FortPlannerModel", "errorAt", "I", false)
  | 3 => ("FortPlannerModel", "failedAt", "I", false)
  | 4 => ("FortPlannerModel", "isSaved", "Z", false)
  | 5 => ("FortPlannerModel", "v", "[I", true)
  | 6 => ("FortPlannerModel", "before", "[I", true)
  | 7 => ("FortPlannerModel", "saved", "[I", true)
  | 8 => ("FortPlannerModel", "kept", "[I", true)
  | 9 => ("FortPlannerModel", "past", "[I", true)
  | 10 => ("FortPlannerModel", "loads", "[I", true)
  | 11 => ("FortPlannerModel", "levels", "[I", true)
  | 12 => ("FortPlannerModel", "text", "[I", true)
  | 13 => ("FortPlannerModel", "line", "[I", true)
  | 14 => ("FortPlannerModel", "isLeft", "[I", true)
  | 15 => ("FortPlannerModel", "words", "[I", true)
  | 16 => ("FortPlannerModel", "wordAt", "[I", true)
  | 17 => ("FortPlannerModel", "textN", "I", false)
  | 18 => ("FortPlannerModel", "here", "I", false)
  | 19 => ("FortPlannerModel", "end", "I", false)
  | 20 => ("FortPlannerModel", "lineN", "I", false)
  | 21 => ("FortPlannerModel", "isWrong", "Z", false)
  | _ => ("FortPlannerModel", "isDoing", "Z", false)
def tyX4 : Nat → FieldType := fun k => match k with
  | 0 => .int
  | 1 => .int
  | 2 => .int
  | 3 => .int
  | 4 => .boolean
  | 5 => .array .int
  | 6 => .array .int
  | 7 => .array .int
  | 8 => .array .int
  | 9 => .array .int
  | 10 => .array .int
  | 11 => .array .int
  | 12 => .array .int
  | 13 => .array .int
  | 14 => .array .int
  | 15 => .array .int
  | 16 => .array .int
  | 17 => .int
  | 18 => .int
  | 19 => .int
  | 20 => .int
  | 21 => .boolean
  | _ => .boolean
abbrev wsX40 : List Cond := u_ws RX4 TX4 23
set_option maxRecDepth 100000 in
theorem nmX4 : ∀ a, a < 23 → ∀ b, b < 23 → a ≠ b → (TX4 a).2.1 ≠ (TX4 b).2.1 := by decide +kernel
set_option maxRecDepth 100000 in
theorem tyX4_ok : ∀ k, k < 23 → parseFieldDescriptor (TX4 k).2.2.1 = some (tyX4 k) := by decide +kernel
abbrev cX4_init : ByteArray := prog_16_method_1_code
def yX4_init : MethodName := ⟨RX4, "<init>", "()V"⟩
def dkwX4_init_16 : List UInt8 := [79, 181, 0, 50, 177]
abbrev dktX4_init_16 : List UInt8 := dkwX4_init_16 ++ []
def dkwX4_init_15 : List UInt8 := [16, 15, 79, 89, 7, 16, 22, 79, 89, 8, 16, 27, 79, 89, 16, 6, 16, 33, 79, 89, 16, 7, 16, 39]
abbrev dktX4_init_15 : List UInt8 := dkwX4_init_15 ++ dktX4_init_16
def dkwX4_init_14 : List UInt8 := [181, 0, 47, 42, 16, 8, 188, 10, 89, 3, 3, 79, 89, 4, 8, 79, 89, 5, 16, 11, 79, 89, 6]
abbrev dktX4_init_14 : List UInt8 := dkwX4_init_14 ++ dktX4_init_15
def dkwX4_init_13 : List UInt8 := [16, 35, 16, 117, 79, 89, 16, 36, 16, 102, 79, 89, 16, 37, 16, 102, 79, 89, 16, 38, 16, 32, 79]
abbrev dktX4_init_13 : List UInt8 := dkwX4_init_13 ++ dktX4_init_14
def dkwX4_init_12 : List UInt8 := [16, 31, 16, 104, 79, 89, 16, 32, 16, 32, 79, 89, 16, 33, 16, 115, 79, 89, 16, 34, 16, 110, 79, 89]
abbrev dktX4_init_12 : List UInt8 := dkwX4_init_12 ++ dktX4_init_13
def dkwX4_init_11 : List UInt8 := [16, 27, 16, 116, 79, 89, 16, 28, 16, 111, 79, 89, 16, 29, 16, 114, 79, 89, 16, 30, 16, 99, 79, 89]
abbrev dktX4_init_11 : List UInt8 := dkwX4_init_11 ++ dktX4_init_12
def dkwX4_init_10 : List UInt8 := [16, 23, 16, 111, 79, 89, 16, 24, 16, 110, 79, 89, 16, 25, 16, 101, 79, 89, 16, 26, 16, 32, 79, 89]
abbrev dktX4_init_10 : List UInt8 := dkwX4_init_10 ++ dktX4_init_11
def dkwX4_init_9 : List UInt8 := [16, 19, 16, 118, 79, 89, 16, 20, 16, 101, 79, 89, 16, 21, 16, 32, 79, 89, 16, 22, 16, 122, 79, 89]
abbrev dktX4_init_9 : List UInt8 := dkwX4_init_9 ++ dktX4_init_10
def dkwX4_init_8 : List UInt8 := [16, 15, 16, 114, 79, 89, 16, 16, 16, 101, 79, 89, 16, 17, 16, 109, 79, 89, 16, 18, 16, 111, 79, 89]
abbrev dktX4_init_8 : List UInt8 := dkwX4_init_8 ++ dktX4_init_9
def dkwX4_init_7 : List UInt8 := [16, 11, 16, 98, 79, 89, 16, 12, 16, 97, 79, 89, 16, 13, 16, 103, 79, 89, 16, 14, 16, 32, 79, 89]
abbrev dktX4_init_7 : List UInt8 := dkwX4_init_7 ++ dktX4_init_8
def dkwX4_init_6 : List UInt8 := [16, 7, 16, 97, 79, 89, 16, 8, 16, 114, 79, 89, 16, 9, 16, 100, 79, 89, 16, 10, 16, 32, 79, 89]
abbrev dktX4_init_6 : List UInt8 := dkwX4_init_6 ++ dktX4_init_7
def dkwX4_init_5 : List UInt8 := [79, 89, 6, 16, 109, 79, 89, 7, 16, 32, 79, 89, 8, 16, 98, 79, 89, 16, 6, 16, 111, 79, 89]
abbrev dktX4_init_5 : List UInt8 := dkwX4_init_5 ++ dktX4_init_6
def dkwX4_init_4 : List UInt8 := [188, 10, 181, 0, 44, 42, 16, 39, 188, 10, 89, 3, 16, 102, 79, 89, 4, 16, 111, 79, 89, 5, 16, 97]
abbrev dktX4_init_4 : List UInt8 := dkwX4_init_4 ++ dktX4_init_5
def dkwX4_init_3 : List UInt8 := [188, 10, 181, 0, 35, 42, 16, 60, 188, 10, 181, 0, 38, 42, 16, 80, 188, 10, 181, 0, 41, 42, 16, 7]
abbrev dktX4_init_3 : List UInt8 := dkwX4_init_3 ++ dktX4_init_4
def dkwX4_init_2 : List UInt8 := [181, 0, 26, 42, 17, 5, 80, 188, 10, 181, 0, 29, 42, 16, 24, 188, 10, 181, 0, 32, 42, 16, 24]
abbrev dktX4_init_2 : List UInt8 := dkwX4_init_2 ++ dktX4_init_3
def dkwX4_init_1 : List UInt8 := [17, 0, 170, 188, 10, 181, 0, 20, 42, 17, 0, 170, 188, 10, 181, 0, 23, 42, 17, 0, 170, 188, 10]
abbrev dktX4_init_1 : List UInt8 := dkwX4_init_1 ++ dktX4_init_2
def dkwX4_init_0 : List UInt8 := [42, 183, 0, 1, 42, 2, 181, 0, 7, 42, 2, 181, 0, 13, 42, 17, 0, 170, 188, 10, 181, 0, 16, 42]
abbrev dktX4_init_0 : List UInt8 := dkwX4_init_0 ++ dktX4_init_1
theorem dksX4_init_0 : cX4_init.data.toList.drop 0 = dktX4_init_0 := by decide +kernel
theorem dksX4_init_1 : cX4_init.data.toList.drop 24 = dktX4_init_1 := dk_seg dksX4_init_0 24 rfl rfl
theorem dksX4_init_2 : cX4_init.data.toList.drop 47 = dktX4_init_2 := dk_seg dksX4_init_1 23 rfl rfl
theorem dksX4_init_3 : cX4_init.data.toList.drop 70 = dktX4_init_3 := dk_seg dksX4_init_2 23 rfl rfl
theorem dksX4_init_4 : cX4_init.data.toList.drop 94 = dktX4_init_4 := dk_seg dksX4_init_3 24 rfl rfl
theorem dksX4_init_5 : cX4_init.data.toList.drop 118 = dktX4_init_5 := dk_seg dksX4_init_4 24 rfl rfl
theorem dksX4_init_6 : cX4_init.data.toList.drop 141 = dktX4_init_6 := dk_seg dksX4_init_5 23 rfl rfl
theorem dksX4_init_7 : cX4_init.data.toList.drop 165 = dktX4_init_7 := dk_seg dksX4_init_6 24 rfl rfl
theorem dksX4_init_8 : cX4_init.data.toList.drop 189 = dktX4_init_8 := dk_seg dksX4_init_7 24 rfl rfl
theorem dksX4_init_9 : cX4_init.data.toList.drop 213 = dktX4_init_9 := dk_seg dksX4_init_8 24 rfl rfl
theorem dksX4_init_10 : cX4_init.data.toList.drop 237 = dktX4_init_10 := dk_seg dksX4_init_9 24 rfl rfl
theorem dksX4_init_11 : cX4_init.data.toList.drop 261 = dktX4_init_11 := dk_seg dksX4_init_10 24 rfl rfl
theorem dksX4_init_12 : cX4_init.data.toList.drop 285 = dktX4_init_12 := dk_seg dksX4_init_11 24 rfl rfl
theorem dksX4_init_13 : cX4_init.data.toList.drop 309 = dktX4_init_13 := dk_seg dksX4_init_12 24 rfl rfl
theorem dksX4_init_14 : cX4_init.data.toList.drop 332 = dktX4_init_14 := dk_seg dksX4_init_13 23 rfl rfl
theorem dksX4_init_15 : cX4_init.data.toList.drop 355 = dktX4_init_15 := dk_seg dksX4_init_14 23 rfl rfl
theorem dksX4_init_16 : cX4_init.data.toList.drop 379 = dktX4_init_16 := dk_seg dksX4_init_15 24 rfl rfl
theorem dX4_init_0 : decode cX4_init 0 = .ok (.aload_n 0, 1) := dk_42 (dk_at dksX4_init_0 0 rfl rfl)
theorem dX4_init_1 : decode cX4_init 1 = .ok (.invokespecial 1, 3) := dk_183 0 1 (dk_at dksX4_init_0 1 rfl rfl)
theorem dX4_init_4 : decode cX4_init 4 = .ok (.aload_n 0, 1) := dk_42 (dk_at dksX4_init_0 4 rfl rfl)
theorem dX4_init_5 : decode cX4_init 5 = .ok (.iconst (-1), 1) := dk_2 (dk_at dksX4_init_0 5 rfl rfl)
theorem dX4_init_6 : decode cX4_init 6 = .ok (.putfield 7, 3) := dk_181 0 7 (dk_at dksX4_init_0 6 rfl rfl)
theorem dX4_init_9 : decode cX4_init 9 = .ok (.aload_n 0, 1) := dk_42 (dk_at dksX4_init_0 9 rfl rfl)
theorem dX4_init_10 : decode cX4_init 10 = .ok (.iconst (-1), 1) := dk_2 (dk_at dksX4_init_0 10 rfl rfl)
theorem dX4_init_11 : decode cX4_init 11 = .ok (.putfield 13, 3) := dk_181 0 13 (dk_at dksX4_init_0 11 rfl rfl)
theorem dX4_init_14 : decode cX4_init 14 = .ok (.aload_n 0, 1) := dk_42 (dk_at dksX4_init_0 14 rfl rfl)
theorem dX4_init_15 : decode cX4_init 15 = .ok (.sipush 170, 3) := dk_17 0 170 (dk_at dksX4_init_0 15 rfl rfl)
theorem dX4_init_18 : decode cX4_init 18 = .ok (.newarray .int, 2) := dk_188_10 (dk_at dksX4_init_0 18 rfl rfl)
theorem dX4_init_20 : decode cX4_init 20 = .ok (.putfield 16, 3) := dk_181 0 16 (dk_at dksX4_init_0 20 rfl rfl)
theorem dX4_init_23 : decode cX4_init 23 = .ok (.aload_n 0, 1) := dk_42 (dk_at dksX4_init_0 23 rfl rfl)
theorem dX4_init_24 : decode cX4_init 24 = .ok (.sipush 170, 3) := dk_17 0 170 (dk_at dksX4_init_1 0 rfl rfl)
theorem dX4_init_27 : decode cX4_init 27 = .ok (.newarray .int, 2) := dk_188_10 (dk_at dksX4_init_1 3 rfl rfl)
theorem dX4_init_29 : decode cX4_init 29 = .ok (.putfield 20, 3) := dk_181 0 20 (dk_at dksX4_init_1 5 rfl rfl)
theorem dX4_init_32 : decode cX4_init 32 = .ok (.aload_n 0, 1) := dk_42 (dk_at dksX4_init_1 8 rfl rfl)
theorem dX4_init_33 : decode cX4_init 33 = .ok (.sipush 170, 3) := dk_17 0 170 (dk_at dksX4_init_1 9 rfl rfl)
theorem dX4_init_36 : decode cX4_init 36 = .ok (.newarray .int, 2) := dk_188_10 (dk_at dksX4_init_1 12 rfl rfl)
theorem dX4_init_38 : decode cX4_init 38 = .ok (.putfield 23, 3) := dk_181 0 23 (dk_at dksX4_init_1 14 rfl rfl)
theorem dX4_init_41 : decode cX4_init 41 = .ok (.aload_n 0, 1) := dk_42 (dk_at dksX4_init_1 17 rfl rfl)
theorem dX4_init_42 : decode cX4_init 42 = .ok (.sipush 170, 3) := dk_17 0 170 (dk_at dksX4_init_1 18 rfl rfl)
theorem dX4_init_45 : decode cX4_init 45 = .ok (.newarray .int, 2) := dk_188_10 (dk_at dksX4_init_1 21 rfl rfl)
theorem dX4_init_47 : decode cX4_init 47 = .ok (.putfield 26, 3) := dk_181 0 26 (dk_at dksX4_init_2 0 rfl rfl)
theorem dX4_init_50 : decode cX4_init 50 = .ok (.aload_n 0, 1) := dk_42 (dk_at dksX4_init_2 3 rfl rfl)
theorem dX4_init_51 : decode cX4_init 51 = .ok (.sipush 1360, 3) := dk_17 5 80 (dk_at dksX4_init_2 4 rfl rfl)
theorem dX4_init_54 : decode cX4_init 54 = .ok (.newarray .int, 2) := dk_188_10 (dk_at dksX4_init_2 7 rfl rfl)
theorem dX4_init_56 : decode cX4_init 56 = .ok (.putfield 29, 3) := dk_181 0 29 (dk_at dksX4_init_2 9 rfl rfl)
theorem dX4_init_59 : decode cX4_init 59 = .ok (.aload_n 0, 1) := dk_42 (dk_at dksX4_init_2 12 rfl rfl)
theorem dX4_init_60 : decode cX4_init 60 = .ok (.bipush 24, 2) := dk_16 24 (dk_at dksX4_init_2 13 rfl rfl)
theorem dX4_init_62 : decode cX4_init 62 = .ok (.newarray .int, 2) := dk_188_10 (dk_at dksX4_init_2 15 rfl rfl)
theorem dX4_init_64 : decode cX4_init 64 = .ok (.putfield 32, 3) := dk_181 0 32 (dk_at dksX4_init_2 17 rfl rfl)
theorem dX4_init_67 : decode cX4_init 67 = .ok (.aload_n 0, 1) := dk_42 (dk_at dksX4_init_2 20 rfl rfl)
theorem dX4_init_68 : decode cX4_init 68 = .ok (.bipush 24, 2) := dk_16 24 (dk_at dksX4_init_2 21 rfl rfl)
theorem dX4_init_70 : decode cX4_init 70 = .ok (.newarray .int, 2) := dk_188_10 (dk_at dksX4_init_3 0 rfl rfl)
theorem dX4_init_72 : decode cX4_init 72 = .ok (.putfield 35, 3) := dk_181 0 35 (dk_at dksX4_init_3 2 rfl rfl)
theorem dX4_init_75 : decode cX4_init 75 = .ok (.aload_n 0, 1) := dk_42 (dk_at dksX4_init_3 5 rfl rfl)
theorem dX4_init_76 : decode cX4_init 76 = .ok (.bipush 60, 2) := dk_16 60 (dk_at dksX4_init_3 6 rfl rfl)
theorem dX4_init_78 : decode cX4_init 78 = .ok (.newarray .int, 2) := dk_188_10 (dk_at dksX4_init_3 8 rfl rfl)
theorem dX4_init_80 : decode cX4_init 80 = .ok (.putfield 38, 3) := dk_181 0 38 (dk_at dksX4_init_3 10 rfl rfl)
theorem dX4_init_83 : decode cX4_init 83 = .ok (.aload_n 0, 1) := dk_42 (dk_at dksX4_init_3 13 rfl rfl)
theorem dX4_init_84 : decode cX4_init 84 = .ok (.bipush 80, 2) := dk_16 80 (dk_at dksX4_init_3 14 rfl rfl)
theorem dX4_init_86 : decode cX4_init 86 = .ok (.newarray .int, 2) := dk_188_10 (dk_at dksX4_init_3 16 rfl rfl)
theorem dX4_init_88 : decode cX4_init 88 = .ok (.putfield 41, 3) := dk_181 0 41 (dk_at dksX4_init_3 18 rfl rfl)
theorem dX4_init_91 : decode cX4_init 91 = .ok (.aload_n 0, 1) := dk_42 (dk_at dksX4_init_3 21 rfl rfl)
theorem dX4_init_92 : decode cX4_init 92 = .ok (.bipush 7, 2) := dk_16 7 (dk_at dksX4_init_3 22 rfl rfl)
theorem dX4_init_94 : decode cX4_init 94 = .ok (.newarray .int, 2) := dk_188_10 (dk_at dksX4_init_4 0 rfl rfl)
theorem dX4_init_96 : decode cX4_init 96 = .ok (.putfield 44, 3) := dk_181 0 44 (dk_at dksX4_init_4 2 rfl rfl)
theorem dX4_init_99 : decode cX4_init 99 = .ok (.aload_n 0, 1) := dk_42 (dk_at dksX4_init_4 5 rfl rfl)
theorem dX4_init_100 : decode cX4_init 100 = .ok (.bipush 39, 2) := dk_16 39 (dk_at dksX4_init_4 6 rfl rfl)
theorem dX4_init_102 : decode cX4_init 102 = .ok (.newarray .int, 2) := dk_188_10 (dk_at dksX4_init_4 8 rfl rfl)
theorem dX4_init_104 : decode cX4_init 104 = .ok (.dup, 1) := dk_89 (dk_at dksX4_init_4 10 rfl rfl)
theorem dX4_init_105 : decode cX4_init 105 = .ok (.iconst 0, 1) := dk_3 (dk_at dksX4_init_4 11 rfl rfl)
theorem dX4_init_106 : decode cX4_init 106 = .ok (.bipush 102, 2) := dk_16 102 (dk_at dksX4_init_4 12 rfl rfl)
theorem dX4_init_108 : decode cX4_init 108 = .ok (.iastore, 1) := dk_79 (dk_at dksX4_init_4 14 rfl rfl)
theorem dX4_init_109 : decode cX4_init 109 = .ok (.dup, 1) := dk_89 (dk_at dksX4_init_4 15 rfl rfl)
theorem dX4_init_110 : decode cX4_init 110 = .ok (.iconst 1, 1) := dk_4 (dk_at dksX4_init_4 16 rfl rfl)
theorem dX4_init_111 : decode cX4_init 111 = .ok (.bipush 111, 2) := dk_16 111 (dk_at dksX4_init_4 17 rfl rfl)
theorem dX4_init_113 : decode cX4_init 113 = .ok (.iastore, 1) := dk_79 (dk_at dksX4_init_4 19 rfl rfl)
theorem dX4_init_114 : decode cX4_init 114 = .ok (.dup, 1) := dk_89 (dk_at dksX4_init_4 20 rfl rfl)
theorem dX4_init_115 : decode cX4_init 115 = .ok (.iconst 2, 1) := dk_5 (dk_at dksX4_init_4 21 rfl rfl)
theorem dX4_init_116 : decode cX4_init 116 = .ok (.bipush 97, 2) := dk_16 97 (dk_at dksX4_init_4 22 rfl rfl)
theorem dX4_init_118 : decode cX4_init 118 = .ok (.iastore, 1) := dk_79 (dk_at dksX4_init_5 0 rfl rfl)
theorem dX4_init_119 : decode cX4_init 119 = .ok (.dup, 1) := dk_89 (dk_at dksX4_init_5 1 rfl rfl)
theorem dX4_init_120 : decode cX4_init 120 = .ok (.iconst 3, 1) := dk_6 (dk_at dksX4_init_5 2 rfl rfl)
theorem dX4_init_121 : decode cX4_init 121 = .ok (.bipush 109, 2) := dk_16 109 (dk_at dksX4_init_5 3 rfl rfl)
theorem dX4_init_123 : decode cX4_init 123 = .ok (.iastore, 1) := dk_79 (dk_at dksX4_init_5 5 rfl rfl)
theorem dX4_init_124 : decode cX4_init 124 = .ok (.dup, 1) := dk_89 (dk_at dksX4_init_5 6 rfl rfl)
theorem dX4_init_125 : decode cX4_init 125 = .ok (.iconst 4, 1) := dk_7 (dk_at dksX4_init_5 7 rfl rfl)
theorem dX4_init_126 : decode cX4_init 126 = .ok (.bipush 32, 2) := dk_16 32 (dk_at dksX4_init_5 8 rfl rfl)
theorem dX4_init_128 : decode cX4_init 128 = .ok (.iastore, 1) := dk_79 (dk_at dksX4_init_5 10 rfl rfl)
theorem dX4_init_129 : decode cX4_init 129 = .ok (.dup, 1) := dk_89 (dk_at dksX4_init_5 11 rfl rfl)
theorem dX4_init_130 : decode cX4_init 130 = .ok (.iconst 5, 1) := dk_8 (dk_at dksX4_init_5 12 rfl rfl)
theorem dX4_init_131 : decode cX4_init 131 = .ok (.bipush 98, 2) := dk_16 98 (dk_at dksX4_init_5 13 rfl rfl)
theorem dX4_init_133 : decode cX4_init 133 = .ok (.iastore, 1) := dk_79 (dk_at dksX4_init_5 15 rfl rfl)
theorem dX4_init_134 : decode cX4_init 134 = .ok (.dup, 1) := dk_89 (dk_at dksX4_init_5 16 rfl rfl)
theorem dX4_init_135 : decode cX4_init 135 = .ok (.bipush 6, 2) := dk_16 6 (dk_at dksX4_init_5 17 rfl rfl)
theorem dX4_init_137 : decode cX4_init 137 = .ok (.bipush 111, 2) := dk_16 111 (dk_at dksX4_init_5 19 rfl rfl)
theorem dX4_init_139 : decode cX4_init 139 = .ok (.iastore, 1) := dk_79 (dk_at dksX4_init_5 21 rfl rfl)
theorem dX4_init_140 : decode cX4_init 140 = .ok (.dup, 1) := dk_89 (dk_at dksX4_init_5 22 rfl rfl)
theorem dX4_init_141 : decode cX4_init 141 = .ok (.bipush 7, 2) := dk_16 7 (dk_at dksX4_init_6 0 rfl rfl)
theorem dX4_init_143 : decode cX4_init 143 = .ok (.bipush 97, 2) := dk_16 97 (dk_at dksX4_init_6 2 rfl rfl)
theorem dX4_init_145 : decode cX4_init 145 = .ok (.iastore, 1) := dk_79 (dk_at dksX4_init_6 4 rfl rfl)
theorem dX4_init_146 : decode cX4_init 146 = .ok (.dup, 1) := dk_89 (dk_at dksX4_init_6 5 rfl rfl)
theorem dX4_init_147 : decode cX4_init 147 = .ok (.bipush 8, 2) := dk_16 8 (dk_at dksX4_init_6 6 rfl rfl)
theorem dX4_init_149 : decode cX4_init 149 = .ok (.bipush 114, 2) := dk_16 114 (dk_at dksX4_init_6 8 rfl rfl)
theorem dX4_init_151 : decode cX4_init 151 = .ok (.iastore, 1) := dk_79 (dk_at dksX4_init_6 10 rfl rfl)
theorem dX4_init_152 : decode cX4_init 152 = .ok (.dup, 1) := dk_89 (dk_at dksX4_init_6 11 rfl rfl)
theorem dX4_init_153 : decode cX4_init 153 = .ok (.bipush 9, 2) := dk_16 9 (dk_at dksX4_init_6 12 rfl rfl)
theorem dX4_init_155 : decode cX4_init 155 = .ok (.bipush 100, 2) := dk_16 100 (dk_at dksX4_init_6 14 rfl rfl)
theorem dX4_init_157 : decode cX4_init 157 = .ok (.iastore, 1) := dk_79 (dk_at dksX4_init_6 16 rfl rfl)
theorem dX4_init_158 : decode cX4_init 158 = .ok (.dup, 1) := dk_89 (dk_at dksX4_init_6 17 rfl rfl)
theorem dX4_init_159 : decode cX4_init 159 = .ok (.bipush 10, 2) := dk_16 10 (dk_at dksX4_init_6 18 rfl rfl)
theorem dX4_init_161 : decode cX4_init 161 = .ok (.bipush 32, 2) := dk_16 32 (dk_at dksX4_init_6 20 rfl rfl)
theorem dX4_init_163 : decode cX4_init 163 = .ok (.iastore, 1) := dk_79 (dk_at dksX4_init_6 22 rfl rfl)
theorem dX4_init_164 : decode cX4_init 164 = .ok (.dup, 1) := dk_89 (dk_at dksX4_init_6 23 rfl rfl)
theorem dX4_init_165 : decode cX4_init 165 = .ok (.bipush 11, 2) := dk_16 11 (dk_at dksX4_init_7 0 rfl rfl)
theorem dX4_init_167 : decode cX4_init 167 = .ok (.bipush 98, 2) := dk_16 98 (dk_at dksX4_init_7 2 rfl rfl)
theorem dX4_init_169 : decode cX4_init 169 = .ok (.iastore, 1) := dk_79 (dk_at dksX4_init_7 4 rfl rfl)
theorem dX4_init_170 : decode cX4_init 170 = .ok (.dup, 1) := dk_89 (dk_at dksX4_init_7 5 rfl rfl)
theorem dX4_init_171 : decode cX4_init 171 = .ok (.bipush 12, 2) := dk_16 12 (dk_at dksX4_init_7 6 rfl rfl)
theorem dX4_init_173 : decode cX4_init 173 = .ok (.bipush 97, 2) := dk_16 97 (dk_at dksX4_init_7 8 rfl rfl)
theorem dX4_init_175 : decode cX4_init 175 = .ok (.iastore, 1) := dk_79 (dk_at dksX4_init_7 10 rfl rfl)
theorem dX4_init_176 : decode cX4_init 176 = .ok (.dup, 1) := dk_89 (dk_at dksX4_init_7 11 rfl rfl)
theorem dX4_init_177 : decode cX4_init 177 = .ok (.bipush 13, 2) := dk_16 13 (dk_at dksX4_init_7 12 rfl rfl)
theorem dX4_init_179 : decode cX4_init 179 = .ok (.bipush 103, 2) := dk_16 103 (dk_at dksX4_init_7 14 rfl rfl)
theorem dX4_init_181 : decode cX4_init 181 = .ok (.iastore, 1) := dk_79 (dk_at dksX4_init_7 16 rfl rfl)
theorem dX4_init_182 : decode cX4_init 182 = .ok (.dup, 1) := dk_89 (dk_at dksX4_init_7 17 rfl rfl)
theorem dX4_init_183 : decode cX4_init 183 = .ok (.bipush 14, 2) := dk_16 14 (dk_at dksX4_init_7 18 rfl rfl)
theorem dX4_init_185 : decode cX4_init 185 = .ok (.bipush 32, 2) := dk_16 32 (dk_at dksX4_init_7 20 rfl rfl)
theorem dX4_init_187 : decode cX4_init 187 = .ok (.iastore, 1) := dk_79 (dk_at dksX4_init_7 22 rfl rfl)
theorem dX4_init_188 : decode cX4_init 188 = .ok (.dup, 1) := dk_89 (dk_at dksX4_init_7 23 rfl rfl)
theorem dX4_init_189 : decode cX4_init 189 = .ok (.bipush 15, 2) := dk_16 15 (dk_at dksX4_init_8 0 rfl rfl)
theorem dX4_init_191 : decode cX4_init 191 = .ok (.bipush 114, 2) := dk_16 114 (dk_at dksX4_init_8 2 rfl rfl)
theorem dX4_init_193 : decode cX4_init 193 = .ok (.iastore, 1) := dk_79 (dk_at dksX4_init_8 4 rfl rfl)
theorem dX4_init_194 : decode cX4_init 194 = .ok (.dup, 1) := dk_89 (dk_at dksX4_init_8 5 rfl rfl)
theorem dX4_init_195 : decode cX4_init 195 = .ok (.bipush 16, 2) := dk_16 16 (dk_at dksX4_init_8 6 rfl rfl)
theorem dX4_init_197 : decode cX4_init 197 = .ok (.bipush 101, 2) := dk_16 101 (dk_at dksX4_init_8 8 rfl rfl)
theorem dX4_init_199 : decode cX4_init 199 = .ok (.iastore, 1) := dk_79 (dk_at dksX4_init_8 10 rfl rfl)
theorem dX4_init_200 : decode cX4_init 200 = .ok (.dup, 1) := dk_89 (dk_at dksX4_init_8 11 rfl rfl)
theorem dX4_init_201 : decode cX4_init 201 = .ok (.bipush 17, 2) := dk_16 17 (dk_at dksX4_init_8 12 rfl rfl)
theorem dX4_init_203 : decode cX4_init 203 = .ok (.bipush 109, 2) := dk_16 109 (dk_at dksX4_init_8 14 rfl rfl)
theorem dX4_init_205 : decode cX4_init 205 = .ok (.iastore, 1) := dk_79 (dk_at dksX4_init_8 16 rfl rfl)
theorem dX4_init_206 : decode cX4_init 206 = .ok (.dup, 1) := dk_89 (dk_at dksX4_init_8 17 rfl rfl)
theorem dX4_init_207 : decode cX4_init 207 = .ok (.bipush 18, 2) := dk_16 18 (dk_at dksX4_init_8 18 rfl rfl)
theorem dX4_init_209 : decode cX4_init 209 = .ok (.bipush 111, 2) := dk_16 111 (dk_at dksX4_init_8 20 rfl rfl)
theorem dX4_init_211 : decode cX4_init 211 = .ok (.iastore, 1) := dk_79 (dk_at dksX4_init_8 22 rfl rfl)
theorem dX4_init_212 : decode cX4_init 212 = .ok (.dup, 1) := dk_89 (dk_at dksX4_init_8 23 rfl rfl)
theorem dX4_init_213 : decode cX4_init 213 = .ok (.bipush 19, 2) := dk_16 19 (dk_at dksX4_init_9 0 rfl rfl)
theorem dX4_init_215 : decode cX4_init 215 = .ok (.bipush 118, 2) := dk_16 118 (dk_at dksX4_init_9 2 rfl rfl)
theorem dX4_init_217 : decode cX4_init 217 = .ok (.iastore, 1) := dk_79 (dk_at dksX4_init_9 4 rfl rfl)
theorem dX4_init_218 : decode cX4_init 218 = .ok (.dup, 1) := dk_89 (dk_at dksX4_init_9 5 rfl rfl)
theorem dX4_init_219 : decode cX4_init 219 = .ok (.bipush 20, 2) := dk_16 20 (dk_at dksX4_init_9 6 rfl rfl)
theorem dX4_init_221 : decode cX4_init 221 = .ok (.bipush 101, 2) := dk_16 101 (dk_at dksX4_init_9 8 rfl rfl)
theorem dX4_init_223 : decode cX4_init 223 = .ok (.iastore, 1) := dk_79 (dk_at dksX4_init_9 10 rfl rfl)
theorem dX4_init_224 : decode cX4_init 224 = .ok (.dup, 1) := dk_89 (dk_at dksX4_init_9 11 rfl rfl)
theorem dX4_init_225 : decode cX4_init 225 = .ok (.bipush 21, 2) := dk_16 21 (dk_at dksX4_init_9 12 rfl rfl)
theorem dX4_init_227 : decode cX4_init 227 = .ok (.bipush 32, 2) := dk_16 32 (dk_at dksX4_init_9 14 rfl rfl)
theorem dX4_init_229 : decode cX4_init 229 = .ok (.iastore, 1) := dk_79 (dk_at dksX4_init_9 16 rfl rfl)
theorem dX4_init_230 : decode cX4_init 230 = .ok (.dup, 1) := dk_89 (dk_at dksX4_init_9 17 rfl rfl)
theorem dX4_init_231 : decode cX4_init 231 = .ok (.bipush 22, 2) := dk_16 22 (dk_at dksX4_init_9 18 rfl rfl)
theorem dX4_init_233 : decode cX4_init 233 = .ok (.bipush 122, 2) := dk_16 122 (dk_at dksX4_init_9 20 rfl rfl)
theorem dX4_init_235 : decode cX4_init 235 = .ok (.iastore, 1) := dk_79 (dk_at dksX4_init_9 22 rfl rfl)
theorem dX4_init_236 : decode cX4_init 236 = .ok (.dup, 1) := dk_89 (dk_at dksX4_init_9 23 rfl rfl)
theorem dX4_init_237 : decode cX4_init 237 = .ok (.bipush 23, 2) := dk_16 23 (dk_at dksX4_init_10 0 rfl rfl)
theorem dX4_init_239 : decode cX4_init 239 = .ok (.bipush 111, 2) := dk_16 111 (dk_at dksX4_init_10 2 rfl rfl)
theorem dX4_init_241 : decode cX4_init 241 = .ok (.iastore, 1) := dk_79 (dk_at dksX4_init_10 4 rfl rfl)
theorem dX4_init_242 : decode cX4_init 242 = .ok (.dup, 1) := dk_89 (dk_at dksX4_init_10 5 rfl rfl)
theorem dX4_init_243 : decode cX4_init 243 = .ok (.bipush 24, 2) := dk_16 24 (dk_at dksX4_init_10 6 rfl rfl)
theorem dX4_init_245 : decode cX4_init 245 = .ok (.bipush 110, 2) := dk_16 110 (dk_at dksX4_init_10 8 rfl rfl)
theorem dX4_init_247 : decode cX4_init 247 = .ok (.iastore, 1) := dk_79 (dk_at dksX4_init_10 10 rfl rfl)
theorem dX4_init_248 : decode cX4_init 248 = .ok (.dup, 1) := dk_89 (dk_at dksX4_init_10 11 rfl rfl)
theorem dX4_init_249 : decode cX4_init 249 = .ok (.bipush 25, 2) := dk_16 25 (dk_at dksX4_init_10 12 rfl rfl)
theorem dX4_init_251 : decode cX4_init 251 = .ok (.bipush 101, 2) := dk_16 101 (dk_at dksX4_init_10 14 rfl rfl)
theorem dX4_init_253 : decode cX4_init 253 = .ok (.iastore, 1) := dk_79 (dk_at dksX4_init_10 16 rfl rfl)
theorem dX4_init_254 : decode cX4_init 254 = .ok (.dup, 1) := dk_89 (dk_at dksX4_init_10 17 rfl rfl)
theorem dX4_init_255 : decode cX4_init 255 = .ok (.bipush 26, 2) := dk_16 26 (dk_at dksX4_init_10 18 rfl rfl)
theorem dX4_init_257 : decode cX4_init 257 = .ok (.bipush 32, 2) := dk_16 32 (dk_at dksX4_init_10 20 rfl rfl)
theorem dX4_init_259 : decode cX4_init 259 = .ok (.iastore, 1) := dk_79 (dk_at dksX4_init_10 22 rfl rfl)
theorem dX4_init_260 : decode cX4_init 260 = .ok (.dup, 1) := dk_89 (dk_at dksX4_init_10 23 rfl rfl)
theorem dX4_init_261 : decode cX4_init 261 = .ok (.bipush 27, 2) := dk_16 27 (dk_at dksX4_init_11 0 rfl rfl)
theorem dX4_init_263 : decode cX4_init 263 = .ok (.bipush 116, 2) := dk_16 116 (dk_at dksX4_init_11 2 rfl rfl)
theorem dX4_init_265 : decode cX4_init 265 = .ok (.iastore, 1) := dk_79 (dk_at dksX4_init_11 4 rfl rfl)
theorem dX4_init_266 : decode cX4_init 266 = .ok (.dup, 1) := dk_89 (dk_at dksX4_init_11 5 rfl rfl)
theorem dX4_init_267 : decode cX4_init 267 = .ok (.bipush 28, 2) := dk_16 28 (dk_at dksX4_init_11 6 rfl rfl)
theorem dX4_init_269 : decode cX4_init 269 = .ok (.bipush 111, 2) := dk_16 111 (dk_at dksX4_init_11 8 rfl rfl)
theorem dX4_init_271 : decode cX4_init 271 = .ok (.iastore, 1) := dk_79 (dk_at dksX4_init_11 10 rfl rfl)
theorem dX4_init_272 : decode cX4_init 272 = .ok (.dup, 1) := dk_89 (dk_at dksX4_init_11 11 rfl rfl)
theorem dX4_init_273 : decode cX4_init 273 = .ok (.bipush 29, 2) := dk_16 29 (dk_at dksX4_init_11 12 rfl rfl)
theorem dX4_init_275 : decode cX4_init 275 = .ok (.bipush 114, 2) := dk_16 114 (dk_at dksX4_init_11 14 rfl rfl)
theorem dX4_init_277 : decode cX4_init 277 = .ok (.iastore, 1) := dk_79 (dk_at dksX4_init_11 16 rfl rfl)
theorem dX4_init_278 : decode cX4_init 278 = .ok (.dup, 1) := dk_89 (dk_at dksX4_init_11 17 rfl rfl)
theorem dX4_init_279 : decode cX4_init 279 = .ok (.bipush 30, 2) := dk_16 30 (dk_at dksX4_init_11 18 rfl rfl)
theorem dX4_init_281 : decode cX4_init 281 = .ok (.bipush 99, 2) := dk_16 99 (dk_at dksX4_init_11 20 rfl rfl)
theorem dX4_init_283 : decode cX4_init 283 = .ok (.iastore, 1) := dk_79 (dk_at dksX4_init_11 22 rfl rfl)
theorem dX4_init_284 : decode cX4_init 284 = .ok (.dup, 1) := dk_89 (dk_at dksX4_init_11 23 rfl rfl)
theorem dX4_init_285 : decode cX4_init 285 = .ok (.bipush 31, 2) := dk_16 31 (dk_at dksX4_init_12 0 rfl rfl)
theorem dX4_init_287 : decode cX4_init 287 = .ok (.bipush 104, 2) := dk_16 104 (dk_at dksX4_init_12 2 rfl rfl)
theorem dX4_init_289 : decode cX4_init 289 = .ok (.iastore, 1) := dk_79 (dk_at dksX4_init_12 4 rfl rfl)
theorem dX4_init_290 : decode cX4_init 290 = .ok (.dup, 1) := dk_89 (dk_at dksX4_init_12 5 rfl rfl)
theorem dX4_init_291 : decode cX4_init 291 = .ok (.bipush 32, 2) := dk_16 32 (dk_at dksX4_init_12 6 rfl rfl)
theorem dX4_init_293 : decode cX4_init 293 = .ok (.bipush 32, 2) := dk_16 32 (dk_at dksX4_init_12 8 rfl rfl)
theorem dX4_init_295 : decode cX4_init 295 = .ok (.iastore, 1) := dk_79 (dk_at dksX4_init_12 10 rfl rfl)
theorem dX4_init_296 : decode cX4_init 296 = .ok (.dup, 1) := dk_89 (dk_at dksX4_init_12 11 rfl rfl)
theorem dX4_init_297 : decode cX4_init 297 = .ok (.bipush 33, 2) := dk_16 33 (dk_at dksX4_init_12 12 rfl rfl)
theorem dX4_init_299 : decode cX4_init 299 = .ok (.bipush 115, 2) := dk_16 115 (dk_at dksX4_init_12 14 rfl rfl)
theorem dX4_init_301 : decode cX4_init 301 = .ok (.iastore, 1) := dk_79 (dk_at dksX4_init_12 16 rfl rfl)
theorem dX4_init_302 : decode cX4_init 302 = .ok (.dup, 1) := dk_89 (dk_at dksX4_init_12 17 rfl rfl)
theorem dX4_init_303 : decode cX4_init 303 = .ok (.bipush 34, 2) := dk_16 34 (dk_at dksX4_init_12 18 rfl rfl)
theorem dX4_init_305 : decode cX4_init 305 = .ok (.bipush 110, 2) := dk_16 110 (dk_at dksX4_init_12 20 rfl rfl)
theorem dX4_init_307 : decode cX4_init 307 = .ok (.iastore, 1) := dk_79 (dk_at dksX4_init_12 22 rfl rfl)
theorem dX4_init_308 : decode cX4_init 308 = .ok (.dup, 1) := dk_89 (dk_at dksX4_init_12 23 rfl rfl)
theorem dX4_init_309 : decode cX4_init 309 = .ok (.bipush 35, 2) := dk_16 35 (dk_at dksX4_init_13 0 rfl rfl)
theorem dX4_init_311 : decode cX4_init 311 = .ok (.bipush 117, 2) := dk_16 117 (dk_at dksX4_init_13 2 rfl rfl)
theorem dX4_init_313 : decode cX4_init 313 = .ok (.iastore, 1) := dk_79 (dk_at dksX4_init_13 4 rfl rfl)
theorem dX4_init_314 : decode cX4_init 314 = .ok (.dup, 1) := dk_89 (dk_at dksX4_init_13 5 rfl rfl)
theorem dX4_init_315 : decode cX4_init 315 = .ok (.bipush 36, 2) := dk_16 36 (dk_at dksX4_init_13 6 rfl rfl)
theorem dX4_init_317 : decode cX4_init 317 = .ok (.bipush 102, 2) := dk_16 102 (dk_at dksX4_init_13 8 rfl rfl)
theorem dX4_init_319 : decode cX4_init 319 = .ok (.iastore, 1) := dk_79 (dk_at dksX4_init_13 10 rfl rfl)
theorem dX4_init_320 : decode cX4_init 320 = .ok (.dup, 1) := dk_89 (dk_at dksX4_init_13 11 rfl rfl)
theorem dX4_init_321 : decode cX4_init 321 = .ok (.bipush 37, 2) := dk_16 37 (dk_at dksX4_init_13 12 rfl rfl)
theorem dX4_init_323 : decode cX4_init 323 = .ok (.bipush 102, 2) := dk_16 102 (dk_at dksX4_init_13 14 rfl rfl)
theorem dX4_init_325 : decode cX4_init 325 = .ok (.iastore, 1) := dk_79 (dk_at dksX4_init_13 16 rfl rfl)
theorem dX4_init_326 : decode cX4_init 326 = .ok (.dup, 1) := dk_89 (dk_at dksX4_init_13 17 rfl rfl)
theorem dX4_init_327 : decode cX4_init 327 = .ok (.bipush 38, 2) := dk_16 38 (dk_at dksX4_init_13 18 rfl rfl)
theorem dX4_init_329 : decode cX4_init 329 = .ok (.bipush 32, 2) := dk_16 32 (dk_at dksX4_init_13 20 rfl rfl)
theorem dX4_init_331 : decode cX4_init 331 = .ok (.iastore, 1) := dk_79 (dk_at dksX4_init_13 22 rfl rfl)
theorem dX4_init_332 : decode cX4_init 332 = .ok (.putfield 47, 3) := dk_181 0 47 (dk_at dksX4_init_14 0 rfl rfl)
theorem dX4_init_335 : decode cX4_init 335 = .ok (.aload_n 0, 1) := dk_42 (dk_at dksX4_init_14 3 rfl rfl)
theorem dX4_init_336 : decode cX4_init 336 = .ok (.bipush 8, 2) := dk_16 8 (dk_at dksX4_init_14 4 rfl rfl)
theorem dX4_init_338 : decode cX4_init 338 = .ok (.newarray .int, 2) := dk_188_10 (dk_at dksX4_init_14 6 rfl rfl)
theorem dX4_init_340 : decode cX4_init 340 = .ok (.dup, 1) := dk_89 (dk_at dksX4_init_14 8 rfl rfl)
theorem dX4_init_341 : decode cX4_init 341 = .ok (.iconst 0, 1) := dk_3 (dk_at dksX4_init_14 9 rfl rfl)
theorem dX4_init_342 : decode cX4_init 342 = .ok (.iconst 0, 1) := dk_3 (dk_at dksX4_init_14 10 rfl rfl)
theorem dX4_init_343 : decode cX4_init 343 = .ok (.iastore, 1) := dk_79 (dk_at dksX4_init_14 11 rfl rfl)
theorem dX4_init_344 : decode cX4_init 344 = .ok (.dup, 1) := dk_89 (dk_at dksX4_init_14 12 rfl rfl)
theorem dX4_init_345 : decode cX4_init 345 = .ok (.iconst 1, 1) := dk_4 (dk_at dksX4_init_14 13 rfl rfl)
theorem dX4_init_346 : decode cX4_init 346 = .ok (.iconst 5, 1) := dk_8 (dk_at dksX4_init_14 14 rfl rfl)
theorem dX4_init_347 : decode cX4_init 347 = .ok (.iastore, 1) := dk_79 (dk_at dksX4_init_14 15 rfl rfl)
theorem dX4_init_348 : decode cX4_init 348 = .ok (.dup, 1) := dk_89 (dk_at dksX4_init_14 16 rfl rfl)
theorem dX4_init_349 : decode cX4_init 349 = .ok (.iconst 2, 1) := dk_5 (dk_at dksX4_init_14 17 rfl rfl)
theorem dX4_init_350 : decode cX4_init 350 = .ok (.bipush 11, 2) := dk_16 11 (dk_at dksX4_init_14 18 rfl rfl)
theorem dX4_init_352 : decode cX4_init 352 = .ok (.iastore, 1) := dk_79 (dk_at dksX4_init_14 20 rfl rfl)
theorem dX4_init_353 : decode cX4_init 353 = .ok (.dup, 1) := dk_89 (dk_at dksX4_init_14 21 rfl rfl)
theorem dX4_init_354 : decode cX4_init 354 = .ok (.iconst 3, 1) := dk_6 (dk_at dksX4_init_14 22 rfl rfl)
theorem dX4_init_355 : decode cX4_init 355 = .ok (.bipush 15, 2) := dk_16 15 (dk_at dksX4_init_15 0 rfl rfl)
theorem dX4_init_357 : decode cX4_init 357 = .ok (.iastore, 1) := dk_79 (dk_at dksX4_init_15 2 rfl rfl)
theorem dX4_init_358 : decode cX4_init 358 = .ok (.dup, 1) := dk_89 (dk_at dksX4_init_15 3 rfl rfl)
theorem dX4_init_359 : decode cX4_init 359 = .ok (.iconst 4, 1) := dk_7 (dk_at dksX4_init_15 4 rfl rfl)
theorem dX4_init_360 : decode cX4_init 360 = .ok (.bipush 22, 2) := dk_16 22 (dk_at dksX4_init_15 5 rfl rfl)
theorem dX4_init_362 : decode cX4_init 362 = .ok (.iastore, 1) := dk_79 (dk_at dksX4_init_15 7 rfl rfl)
theorem dX4_init_363 : decode cX4_init 363 = .ok (.dup, 1) := dk_89 (dk_at dksX4_init_15 8 rfl rfl)
theorem dX4_init_364 : decode cX4_init 364 = .ok (.iconst 5, 1) := dk_8 (dk_at dksX4_init_15 9 rfl rfl)
theorem dX4_init_365 : decode cX4_init 365 = .ok (.bipush 27, 2) := dk_16 27 (dk_at dksX4_init_15 10 rfl rfl)
theorem dX4_init_367 : decode cX4_init 367 = .ok (.iastore, 1) := dk_79 (dk_at dksX4_init_15 12 rfl rfl)
theorem dX4_init_368 : decode cX4_init 368 = .ok (.dup, 1) := dk_89 (dk_at dksX4_init_15 13 rfl rfl)
theorem dX4_init_369 : decode cX4_init 369 = .ok (.bipush 6, 2) := dk_16 6 (dk_at dksX4_init_15 14 rfl rfl)
theorem dX4_init_371 : decode cX4_init 371 = .ok (.bipush 33, 2) := dk_16 33 (dk_at dksX4_init_15 16 rfl rfl)
theorem dX4_init_373 : decode cX4_init 373 = .ok (.iastore, 1) := dk_79 (dk_at dksX4_init_15 18 rfl rfl)
theorem dX4_init_374 : decode cX4_init 374 = .ok (.dup, 1) := dk_89 (dk_at dksX4_init_15 19 rfl rfl)
theorem dX4_init_375 : decode cX4_init 375 = .ok (.bipush 7, 2) := dk_16 7 (dk_at dksX4_init_15 20 rfl rfl)
theorem dX4_init_377 : decode cX4_init 377 = .ok (.bipush 39, 2) := dk_16 39 (dk_at dksX4_init_15 22 rfl rfl)
theorem dX4_init_379 : decode cX4_init 379 = .ok (.iastore, 1) := dk_79 (dk_at dksX4_init_16 0 rfl rfl)
theorem dX4_init_380 : decode cX4_init 380 = .ok (.putfield 50, 3) := dk_181 0 50 (dk_at dksX4_init_16 1 rfl rfl)
theorem dX4_init_383 : decode cX4_init 383 = .ok (.return_, 1) := dk_177 (dk_at dksX4_init_16 4 rfl rfl)
abbrev cX4_thrown : ByteArray := prog_16_method_2_code
def yX4_thrown : MethodName := ⟨RX4, "thrown", "()I"⟩
theorem dX4_thrown_0 : decode cX4_thrown 0 = .ok (.aload_n 0, 1) := by decide +kernel
theorem dX4_thrown_1 : decode cX4_thrown 1 = .ok (.getfield 53, 3) := by decide +kernel
theorem dX4_thrown_4 : decode cX4_thrown 4 = .ok (.ireturn, 1) := by decide +kernel
abbrev cX4_placeFoam : ByteArray := prog_16_method_24_code
def yX4_placeFoam : MethodName := ⟨RX4, "placeFoam", "(III)I"⟩
def dkwX4_placeFoam_0 : List UInt8 := [42, 182, 0, 118, 42, 42, 3, 27, 28, 29, 182, 0, 121, 182, 0, 125, 172]
abbrev dktX4_placeFoam_0 : List UInt8 := dkwX4_placeFoam_0 ++ []
theorem dksX4_placeFoam_0 : cX4_placeFoam.data.toList.drop 0 = dktX4_placeFoam_0 := by decide +kernel
theorem dX4_placeFoam_0 : decode cX4_placeFoam 0 = .ok (.aload_n 0, 1) := dk_42 (dk_at dksX4_placeFoam_0 0 rfl rfl)
theorem dX4_placeFoam_1 : decode cX4_placeFoam 1 = .ok (.invokevirtual 118, 3) := dk_182 0 118 (dk_at dksX4_placeFoam_0 1 rfl rfl)
theorem dX4_placeFoam_4 : decode cX4_placeFoam 4 = .ok (.aload_n 0, 1) := dk_42 (dk_at dksX4_placeFoam_0 4 rfl rfl)
theorem dX4_placeFoam_5 : decode cX4_placeFoam 5 = .ok (.aload_n 0, 1) := dk_42 (dk_at dksX4_placeFoam_0 5 rfl rfl)
theorem dX4_placeFoam_6 : decode cX4_placeFoam 6 = .ok (.iconst 0, 1) := dk_3 (dk_at dksX4_placeFoam_0 6 rfl rfl)
theorem dX4_placeFoam_7 : decode cX4_placeFoam 7 = .ok (.iload_n 1, 1) := dk_27 (dk_at dksX4_placeFoam_0 7 rfl rfl)
theorem dX4_placeFoam_8 : decode cX4_placeFoam 8 = .ok (.iload_n 2, 1) := dk_28 (dk_at dksX4_placeFoam_0 8 rfl rfl)
theorem dX4_placeFoam_9 : decode cX4_placeFoam 9 = .ok (.iload_n 3, 1) := dk_29 (dk_at dksX4_placeFoam_0 9 rfl rfl)
theorem dX4_placeFoam_10 : decode cX4_placeFoam 10 = .ok (.invokevirtual 121, 3) := dk_182 0 121 (dk_at dksX4_placeFoam_0 10 rfl rfl)
theorem dX4_placeFoam_13 : decode cX4_placeFoam 13 = .ok (.invokevirtual 125, 3) := dk_182 0 125 (dk_at dksX4_placeFoam_0 13 rfl rfl)
theorem dX4_placeFoam_16 : decode cX4_placeFoam 16 = .ok (.ireturn, 1) := dk_172 (dk_at dksX4_placeFoam_0 16 rfl rfl)
abbrev cX4_begins : ByteArray := prog_16_method_6_code
def yX4_begins : MethodName := ⟨RX4, "begins", "()V"⟩
def dkwX4_begins_0 : List UInt8 := [42, 3, 181, 0, 53, 42, 180, 0, 20, 42, 180, 0, 16, 184, 0, 56, 177]
abbrev dktX4_begins_0 : List UInt8 := dkwX4_begins_0 ++ []
theorem dksX4_begins_0 : cX4_begins.data.toList.drop 0 = dktX4_begins_0 := by decide +kernel
theorem dX4_begins_0 : decode cX4_begins 0 = .ok (.aload_n 0, 1) := dk_42 (dk_at dksX4_begins_0 0 rfl rfl)
theorem dX4_begins_1 : decode cX4_begins 1 = .ok (.iconst 0, 1) := dk_3 (dk_at dksX4_begins_0 1 rfl rfl)
theorem dX4_begins_2 : decode cX4_begins 2 = .ok (.putfield 53, 3) := dk_181 0 53 (dk_at dksX4_begins_0 2 rfl rfl)
theorem dX4_begins_5 : decode cX4_begins 5 = .ok (.aload_n 0, 1) := dk_42 (dk_at dksX4_begins_0 5 rfl rfl)
theorem dX4_begins_6 : decode cX4_begins 6 = .ok (.getfield 20, 3) := dk_180 0 20 (dk_at dksX4_begins_0 6 rfl rfl)
theorem dX4_begins_9 : decode cX4_begins 9 = .ok (.aload_n 0, 1) := dk_42 (dk_at dksX4_begins_0 9 rfl rfl)
theorem dX4_begins_10 : decode cX4_begins 10 = .ok (.getfield 16, 3) := dk_180 0 16 (dk_at dksX4_begins_0 10 rfl rfl)
theorem dX4_begins_13 : decode cX4_begins 13 = .ok (.invokestatic 56, 3) := dk_184 0 56 (dk_at dksX4_begins_0 13 rfl rfl)
theorem dX4_begins_16 : decode cX4_begins 16 = .ok (.return_, 1) := dk_177 (dk_at dksX4_begins_0 16 rfl rfl)
abbrev cX4_lays : ByteArray := prog_16_method_5_code
def yX4_lays : MethodName := ⟨RX4, "lays", "([I[I)V"⟩
def dkwX4_lays_0 : List UInt8 := [3, 61, 28, 17, 0, 170, 162, 0, 15, 42, 28, 43, 28, 46, 79, 132, 2, 1, 167, 255, 240, 177]
abbrev dktX4_lays_0 : List UInt8 := dkwX4_lays_0 ++ []
theorem dksX4_lays_0 : cX4_lays.data.toList.drop 0 = dktX4_lays_0 := by decide +kernel
theorem dX4_lays_0 : decode cX4_lays 0 = .ok (.iconst 0, 1) := dk_3 (dk_at dksX4_lays_0 0 rfl rfl)
theorem dX4_lays_1 : decode cX4_lays 1 = .ok (.istore_n 2, 1) := dk_61 (dk_at dksX4_lays_0 1 rfl rfl)
theorem dX4_lays_2 : decode cX4_lays 2 = .ok (.iload_n 2, 1) := dk_28 (dk_at dksX4_lays_0 2 rfl rfl)
theorem dX4_lays_3 : decode cX4_lays 3 = .ok (.sipush 170, 3) := dk_17 0 170 (dk_at dksX4_lays_0 3 rfl rfl)
theorem dX4_lays_6 : decode cX4_lays 6 = .ok (.if_icmp .ge 15, 3) := dk_162 0 15 (dk_at dksX4_lays_0 6 rfl rfl)
theorem dX4_lays_9 : decode cX4_lays 9 = .ok (.aload_n 0, 1) := dk_42 (dk_at dksX4_lays_0 9 rfl rfl)
theorem dX4_lays_10 : decode cX4_lays 10 = .ok (.iload_n 2, 1) := dk_28 (dk_at dksX4_lays_0 10 rfl rfl)
theorem dX4_lays_11 : decode cX4_lays 11 = .ok (.aload_n 1, 1) := dk_43 (dk_at dksX4_lays_0 11 rfl rfl)
theorem dX4_lays_12 : decode cX4_lays 12 = .ok (.iload_n 2, 1) := dk_28 (dk_at dksX4_lays_0 12 rfl rfl)
theorem dX4_lays_13 : decode cX4_lays 13 = .ok (.iaload, 1) := dk_46 (dk_at dksX4_lays_0 13 rfl rfl)
theorem dX4_lays_14 : decode cX4_lays 14 = .ok (.iastore, 1) := dk_79 (dk_at dksX4_lays_0 14 rfl rfl)
theorem dX4_lays_15 : decode cX4_lays 15 = .ok (.iinc 2 1, 3) := dk_132 2 1 (dk_at dksX4_lays_0 15 rfl rfl)
theorem dX4_lays_18 : decode cX4_lays 18 = .ok (.goto (-16), 3) := dk_167 255 240 (dk_at dksX4_lays_0 18 rfl rfl)
theorem dX4_lays_21 : decode cX4_lays 21 = .ok (.return_, 1) := dk_177 (dk_at dksX4_lays_0 21 rfl rfl)
abbrev cX4_places : ByteArray := prog_16_method_23_code
def yX4_places : MethodName := ⟨RX4, "places", "(IIII)I"⟩
def dkwX4_places_10 : List UInt8 := [172]
abbrev dktX4_places_10 : List UInt8 := dkwX4_places_10 ++ []
def dkwX4_places_9 : List UInt8 := [163, 0, 10, 42, 182, 0, 114, 154, 0, 9, 42, 5, 182, 0, 105, 172, 42, 180, 0, 16, 4, 46, 4, 100]
abbrev dktX4_places_9 : List UInt8 := dkwX4_places_9 ++ dktX4_places_10
def dkwX4_places_8 : List UInt8 := [180, 0, 16, 4, 92, 46, 4, 96, 79, 42, 42, 180, 0, 16, 3, 46, 4, 100, 182, 0, 75, 16, 30]
abbrev dktX4_places_8 : List UInt8 := dkwX4_places_8 ++ dktX4_places_9
def dkwX4_places_7 : List UInt8 := [42, 180, 0, 16, 21, 6, 8, 96, 21, 5, 79, 42, 180, 0, 16, 3, 92, 46, 4, 96, 79, 42]
abbrev dktX4_places_7 : List UInt8 := dkwX4_places_7 ++ dktX4_places_8
def dkwX4_places_6 : List UInt8 := [96, 28, 79, 42, 180, 0, 16, 21, 6, 6, 96, 29, 79, 42, 180, 0, 16, 21, 6, 7, 96, 21, 4, 79]
abbrev dktX4_places_6 : List UInt8 := dkwX4_places_6 ++ dktX4_places_7
def dkwX4_places_5 : List UInt8 := [42, 180, 0, 16, 4, 46, 79, 42, 180, 0, 16, 21, 6, 4, 96, 27, 79, 42, 180, 0, 16, 21, 6, 5]
abbrev dktX4_places_5 : List UInt8 := dkwX4_places_5 ++ dktX4_places_6
def dkwX4_places_4 : List UInt8 := [182, 0, 111, 167, 0, 5, 21, 5, 54, 5, 132, 7, 1, 167, 255, 221, 42, 180, 0, 16, 21, 6, 3, 96]
abbrev dktX4_places_4 : List UInt8 := dkwX4_places_4 ++ dktX4_places_5
def dkwX4_places_3 : List UInt8 := [21, 7, 28, 29, 96, 162, 0, 33, 42, 21, 7, 182, 0, 111, 21, 5, 164, 0, 12, 42, 21, 7]
abbrev dktX4_places_3 : List UInt8 := dkwX4_places_3 ++ dktX4_places_4
def dkwX4_places_2 : List UInt8 := [182, 0, 105, 172, 3, 54, 5, 16, 26, 16, 6, 42, 180, 0, 16, 3, 46, 104, 96, 54, 6, 28, 54, 7]
abbrev dktX4_places_2 : List UInt8 := dkwX4_places_2 ++ dktX4_places_3
def dkwX4_places_1 : List UInt8 := [172, 42, 27, 28, 29, 182, 0, 108, 153, 0, 14, 42, 180, 0, 16, 3, 46, 16, 24, 160, 0, 9, 42, 5]
abbrev dktX4_places_1 : List UInt8 := dkwX4_places_1 ++ dktX4_places_2
def dkwX4_places_0 : List UInt8 := [28, 29, 184, 0, 102, 153, 0, 14, 21, 4, 4, 16, 9, 184, 0, 63, 154, 0, 9, 42, 4, 182, 0, 105]
abbrev dktX4_places_0 : List UInt8 := dkwX4_places_0 ++ dktX4_places_1
theorem dksX4_places_0 : cX4_places.data.toList.drop 0 = dktX4_places_0 := by decide +kernel
theorem dksX4_places_1 : cX4_places.data.toList.drop 24 = dktX4_places_1 := dk_seg dksX4_places_0 24 rfl rfl
theorem dksX4_places_2 : cX4_places.data.toList.drop 48 = dktX4_places_2 := dk_seg dksX4_places_1 24 rfl rfl
theorem dksX4_places_3 : cX4_places.data.toList.drop 72 = dktX4_places_3 := dk_seg dksX4_places_2 24 rfl rfl
theorem dksX4_places_4 : cX4_places.data.toList.drop 94 = dktX4_places_4 := dk_seg dksX4_places_3 22 rfl rfl
theorem dksX4_places_5 : cX4_places.data.toList.drop 118 = dktX4_places_5 := dk_seg dksX4_places_4 24 rfl rfl
theorem dksX4_places_6 : cX4_places.data.toList.drop 142 = dktX4_places_6 := dk_seg dksX4_places_5 24 rfl rfl
theorem dksX4_places_7 : cX4_places.data.toList.drop 166 = dktX4_places_7 := dk_seg dksX4_places_6 24 rfl rfl
theorem dksX4_places_8 : cX4_places.data.toList.drop 188 = dktX4_places_8 := dk_seg dksX4_places_7 22 rfl rfl
theorem dksX4_places_9 : cX4_places.data.toList.drop 211 = dktX4_places_9 := dk_seg dksX4_places_8 23 rfl rfl
theorem dksX4_places_10 : cX4_places.data.toList.drop 235 = dktX4_places_10 := dk_seg dksX4_places_9 24 rfl rfl
theorem dX4_places_0 : decode cX4_places 0 = .ok (.iload_n 2, 1) := dk_28 (dk_at dksX4_places_0 0 rfl rfl)
theorem dX4_places_1 : decode cX4_places 1 = .ok (.iload_n 3, 1) := dk_29 (dk_at dksX4_places_0 1 rfl rfl)
theorem dX4_places_2 : decode cX4_places 2 = .ok (.invokestatic 102, 3) := dk_184 0 102 (dk_at dksX4_places_0 2 rfl rfl)
theorem dX4_places_5 : decode cX4_places 5 = .ok (.ifCond .eq 14, 3) := dk_153 0 14 (dk_at dksX4_places_0 5 rfl rfl)
theorem dX4_places_8 : decode cX4_places 8 = .ok (.iload 4, 2) := dk_21 4 (dk_at dksX4_places_0 8 rfl rfl)
theorem dX4_places_10 : decode cX4_places 10 = .ok (.iconst 1, 1) := dk_4 (dk_at dksX4_places_0 10 rfl rfl)
theorem dX4_places_11 : decode cX4_places 11 = .ok (.bipush 9, 2) := dk_16 9 (dk_at dksX4_places_0 11 rfl rfl)
theorem dX4_places_13 : decode cX4_places 13 = .ok (.invokestatic 63, 3) := dk_184 0 63 (dk_at dksX4_places_0 13 rfl rfl)
theorem dX4_places_16 : decode cX4_places 16 = .ok (.ifCond .ne 9, 3) := dk_154 0 9 (dk_at dksX4_places_0 16 rfl rfl)
theorem dX4_places_19 : decode cX4_places 19 = .ok (.aload_n 0, 1) := dk_42 (dk_at dksX4_places_0 19 rfl rfl)
theorem dX4_places_20 : decode cX4_places 20 = .ok (.iconst 1, 1) := dk_4 (dk_at dksX4_places_0 20 rfl rfl)
theorem dX4_places_21 : decode cX4_places 21 = .ok (.invokevirtual 105, 3) := dk_182 0 105 (dk_at dksX4_places_0 21 rfl rfl)
theorem dX4_places_24 : decode cX4_places 24 = .ok (.ireturn, 1) := dk_172 (dk_at dksX4_places_1 0 rfl rfl)
theorem dX4_places_25 : decode cX4_places 25 = .ok (.aload_n 0, 1) := dk_42 (dk_at dksX4_places_1 1 rfl rfl)
theorem dX4_places_26 : decode cX4_places 26 = .ok (.iload_n 1, 1) := dk_27 (dk_at dksX4_places_1 2 rfl rfl)
theorem dX4_places_27 : decode cX4_places 27 = .ok (.iload_n 2, 1) := dk_28 (dk_at dksX4_places_1 3 rfl rfl)
theorem dX4_places_28 : decode cX4_places 28 = .ok (.iload_n 3, 1) := dk_29 (dk_at dksX4_places_1 4 rfl rfl)
theorem dX4_places_29 : decode cX4_places 29 = .ok (.invokevirtual 108, 3) := dk_182 0 108 (dk_at dksX4_places_1 5 rfl rfl)
theorem dX4_places_32 : decode cX4_places 32 = .ok (.ifCond .eq 14, 3) := dk_153 0 14 (dk_at dksX4_places_1 8 rfl rfl)
theorem dX4_places_35 : decode cX4_places 35 = .ok (.aload_n 0, 1) := dk_42 (dk_at dksX4_places_1 11 rfl rfl)
theorem dX4_places_36 : decode cX4_places 36 = .ok (.getfield 16, 3) := dk_180 0 16 (dk_at dksX4_places_1 12 rfl rfl)
theorem dX4_places_39 : decode cX4_places 39 = .ok (.iconst 0, 1) := dk_3 (dk_at dksX4_places_1 15 rfl rfl)
theorem dX4_places_40 : decode cX4_places 40 = .ok (.iaload, 1) := dk_46 (dk_at dksX4_places_1 16 rfl rfl)
theorem dX4_places_41 : decode cX4_places 41 = .ok (.bipush 24, 2) := dk_16 24 (dk_at dksX4_places_1 17 rfl rfl)
theorem dX4_places_43 : decode cX4_places 43 = .ok (.if_icmp .ne 9, 3) := dk_160 0 9 (dk_at dksX4_places_1 19 rfl rfl)
theorem dX4_places_46 : decode cX4_places 46 = .ok (.aload_n 0, 1) := dk_42 (dk_at dksX4_places_1 22 rfl rfl)
theorem dX4_places_47 : decode cX4_places 47 = .ok (.iconst 2, 1) := dk_5 (dk_at dksX4_places_1 23 rfl rfl)
theorem dX4_places_48 : decode cX4_places 48 = .ok (.invokevirtual 105, 3) := dk_182 0 105 (dk_at dksX4_places_2 0 rfl rfl)
theorem dX4_places_51 : decode cX4_places 51 = .ok (.ireturn, 1) := dk_172 (dk_at dksX4_places_2 3 rfl rfl)
theorem dX4_places_52 : decode cX4_places 52 = .ok (.iconst 0, 1) := dk_3 (dk_at dksX4_places_2 4 rfl rfl)
theorem dX4_places_53 : decode cX4_places 53 = .ok (.istore 5, 2) := dk_54 5 (dk_at dksX4_places_2 5 rfl rfl)
theorem dX4_places_55 : decode cX4_places 55 = .ok (.bipush 26, 2) := dk_16 26 (dk_at dksX4_places_2 7 rfl rfl)
theorem dX4_places_57 : decode cX4_places 57 = .ok (.bipush 6, 2) := dk_16 6 (dk_at dksX4_places_2 9 rfl rfl)
theorem dX4_places_59 : decode cX4_places 59 = .ok (.aload_n 0, 1) := dk_42 (dk_at dksX4_places_2 11 rfl rfl)
theorem dX4_places_60 : decode cX4_places 60 = .ok (.getfield 16, 3) := dk_180 0 16 (dk_at dksX4_places_2 12 rfl rfl)
theorem dX4_places_63 : decode cX4_places 63 = .ok (.iconst 0, 1) := dk_3 (dk_at dksX4_places_2 15 rfl rfl)
theorem dX4_places_64 : decode cX4_places 64 = .ok (.iaload, 1) := dk_46 (dk_at dksX4_places_2 16 rfl rfl)
theorem dX4_places_65 : decode cX4_places 65 = .ok (.imul, 1) := dk_104 (dk_at dksX4_places_2 17 rfl rfl)
theorem dX4_places_66 : decode cX4_places 66 = .ok (.iadd, 1) := dk_96 (dk_at dksX4_places_2 18 rfl rfl)
theorem dX4_places_67 : decode cX4_places 67 = .ok (.istore 6, 2) := dk_54 6 (dk_at dksX4_places_2 19 rfl rfl)
theorem dX4_places_69 : decode cX4_places 69 = .ok (.iload_n 2, 1) := dk_28 (dk_at dksX4_places_2 21 rfl rfl)
theorem dX4_places_70 : decode cX4_places 70 = .ok (.istore 7, 2) := dk_54 7 (dk_at dksX4_places_2 22 rfl rfl)
theorem dX4_places_72 : decode cX4_places 72 = .ok (.iload 7, 2) := dk_21 7 (dk_at dksX4_places_3 0 rfl rfl)
theorem dX4_places_74 : decode cX4_places 74 = .ok (.iload_n 2, 1) := dk_28 (dk_at dksX4_places_3 2 rfl rfl)
theorem dX4_places_75 : decode cX4_places 75 = .ok (.iload_n 3, 1) := dk_29 (dk_at dksX4_places_3 3 rfl rfl)
theorem dX4_places_76 : decode cX4_places 76 = .ok (.iadd, 1) := dk_96 (dk_at dksX4_places_3 4 rfl rfl)
theorem dX4_places_77 : decode cX4_places 77 = .ok (.if_icmp .ge 33, 3) := dk_162 0 33 (dk_at dksX4_places_3 5 rfl rfl)
theorem dX4_places_80 : decode cX4_places 80 = .ok (.aload_n 0, 1) := dk_42 (dk_at dksX4_places_3 8 rfl rfl)
theorem dX4_places_81 : decode cX4_places 81 = .ok (.iload 7, 2) := dk_21 7 (dk_at dksX4_places_3 9 rfl rfl)
theorem dX4_places_83 : decode cX4_places 83 = .ok (.invokevirtual 111, 3) := dk_182 0 111 (dk_at dksX4_places_3 11 rfl rfl)
theorem dX4_places_86 : decode cX4_places 86 = .ok (.iload 5, 2) := dk_21 5 (dk_at dksX4_places_3 14 rfl rfl)
theorem dX4_places_88 : decode cX4_places 88 = .ok (.if_icmp .le 12, 3) := dk_164 0 12 (dk_at dksX4_places_3 16 rfl rfl)
theorem dX4_places_91 : decode cX4_places 91 = .ok (.aload_n 0, 1) := dk_42 (dk_at dksX4_places_3 19 rfl rfl)
theorem dX4_places_92 : decode cX4_places 92 = .ok (.iload 7, 2) := dk_21 7 (dk_at dksX4_places_3 20 rfl rfl)
theorem dX4_places_94 : decode cX4_places 94 = .ok (.invokevirtual 111, 3) := dk_182 0 111 (dk_at dksX4_places_4 0 rfl rfl)
theorem dX4_places_97 : decode cX4_places 97 = .ok (.goto 5, 3) := dk_167 0 5 (dk_at dksX4_places_4 3 rfl rfl)
theorem dX4_places_100 : decode cX4_places 100 = .ok (.iload 5, 2) := dk_21 5 (dk_at dksX4_places_4 6 rfl rfl)
theorem dX4_places_102 : decode cX4_places 102 = .ok (.istore 5, 2) := dk_54 5 (dk_at dksX4_places_4 8 rfl rfl)
theorem dX4_places_104 : decode cX4_places 104 = .ok (.iinc 7 1, 3) := dk_132 7 1 (dk_at dksX4_places_4 10 rfl rfl)
theorem dX4_places_107 : decode cX4_places 107 = .ok (.goto (-35), 3) := dk_167 255 221 (dk_at dksX4_places_4 13 rfl rfl)
theorem dX4_places_110 : decode cX4_places 110 = .ok (.aload_n 0, 1) := dk_42 (dk_at dksX4_places_4 16 rfl rfl)
theorem dX4_places_111 : decode cX4_places 111 = .ok (.getfield 16, 3) := dk_180 0 16 (dk_at dksX4_places_4 17 rfl rfl)
theorem dX4_places_114 : decode cX4_places 114 = .ok (.iload 6, 2) := dk_21 6 (dk_at dksX4_places_4 20 rfl rfl)
theorem dX4_places_116 : decode cX4_places 116 = .ok (.iconst 0, 1) := dk_3 (dk_at dksX4_places_4 22 rfl rfl)
theorem dX4_places_117 : decode cX4_places 117 = .ok (.iadd, 1) := dk_96 (dk_at dksX4_places_4 23 rfl rfl)
theorem dX4_places_118 : decode cX4_places 118 = .ok (.aload_n 0, 1) := dk_42 (dk_at dksX4_places_5 0 rfl rfl)
theorem dX4_places_119 : decode cX4_places 119 = .ok (.getfield 16, 3) := dk_180 0 16 (dk_at dksX4_places_5 1 rfl rfl)
theorem dX4_places_122 : decode cX4_places 122 = .ok (.iconst 1, 1) := dk_4 (dk_at dksX4_places_5 4 rfl rfl)
theorem dX4_places_123 : decode cX4_places 123 = .ok (.iaload, 1) := dk_46 (dk_at dksX4_places_5 5 rfl rfl)
theorem dX4_places_124 : decode cX4_places 124 = .ok (.iastore, 1) := dk_79 (dk_at dksX4_places_5 6 rfl rfl)
theorem dX4_places_125 : decode cX4_places 125 = .ok (.aload_n 0, 1) := dk_42 (dk_at dksX4_places_5 7 rfl rfl)
theorem dX4_places_126 : decode cX4_places 126 = .ok (.getfield 16, 3) := dk_180 0 16 (dk_at dksX4_places_5 8 rfl rfl)
theorem dX4_places_129 : decode cX4_places 129 = .ok (.iload 6, 2) := dk_21 6 (dk_at dksX4_places_5 11 rfl rfl)
theorem dX4_places_131 : decode cX4_places 131 = .ok (.iconst 1, 1) := dk_4 (dk_at dksX4_places_5 13 rfl rfl)
theorem dX4_places_132 : decode cX4_places 132 = .ok (.iadd, 1) := dk_96 (dk_at dksX4_places_5 14 rfl rfl)
theorem dX4_places_133 : decode cX4_places 133 = .ok (.iload_n 1, 1) := dk_27 (dk_at dksX4_places_5 15 rfl rfl)
theorem dX4_places_134 : decode cX4_places 134 = .ok (.iastore, 1) := dk_79 (dk_at dksX4_places_5 16 rfl rfl)
theorem dX4_places_135 : decode cX4_places 135 = .ok (.aload_n 0, 1) := dk_42 (dk_at dksX4_places_5 17 rfl rfl)
theorem dX4_places_136 : decode cX4_places 136 = .ok (.getfield 16, 3) := dk_180 0 16 (dk_at dksX4_places_5 18 rfl rfl)
theorem dX4_places_139 : decode cX4_places 139 = .ok (.iload 6, 2) := dk_21 6 (dk_at dksX4_places_5 21 rfl rfl)
theorem dX4_places_141 : decode cX4_places 141 = .ok (.iconst 2, 1) := dk_5 (dk_at dksX4_places_5 23 rfl rfl)
theorem dX4_places_142 : decode cX4_places 142 = .ok (.iadd, 1) := dk_96 (dk_at dksX4_places_6 0 rfl rfl)
theorem dX4_places_143 : decode cX4_places 143 = .ok (.iload_n 2, 1) := dk_28 (dk_at dksX4_places_6 1 rfl rfl)
theorem dX4_places_144 : decode cX4_places 144 = .ok (.iastore, 1) := dk_79 (dk_at dksX4_places_6 2 rfl rfl)
theorem dX4_places_145 : decode cX4_places 145 = .ok (.aload_n 0, 1) := dk_42 (dk_at dksX4_places_6 3 rfl rfl)
theorem dX4_places_146 : decode cX4_places 146 = .ok (.getfield 16, 3) := dk_180 0 16 (dk_at dksX4_places_6 4 rfl rfl)
theorem dX4_places_149 : decode cX4_places 149 = .ok (.iload 6, 2) := dk_21 6 (dk_at dksX4_places_6 7 rfl rfl)
theorem dX4_places_151 : decode cX4_places 151 = .ok (.iconst 3, 1) := dk_6 (dk_at dksX4_places_6 9 rfl rfl)
theorem dX4_places_152 : decode cX4_places 152 = .ok (.iadd, 1) := dk_96 (dk_at dksX4_places_6 10 rfl rfl)
theorem dX4_places_153 : decode cX4_places 153 = .ok (.iload_n 3, 1) := dk_29 (dk_at dksX4_places_6 11 rfl rfl)
theorem dX4_places_154 : decode cX4_places 154 = .ok (.iastore, 1) := dk_79 (dk_at dksX4_places_6 12 rfl rfl)
theorem dX4_places_155 : decode cX4_places 155 = .ok (.aload_n 0, 1) := dk_42 (dk_at dksX4_places_6 13 rfl rfl)
theorem dX4_places_156 : decode cX4_places 156 = .ok (.getfield 16, 3) := dk_180 0 16 (dk_at dksX4_places_6 14 rfl rfl)
theorem dX4_places_159 : decode cX4_places 159 = .ok (.iload 6, 2) := dk_21 6 (dk_at dksX4_places_6 17 rfl rfl)
theorem dX4_places_161 : decode cX4_places 161 = .ok (.iconst 4, 1) := dk_7 (dk_at dksX4_places_6 19 rfl rfl)
theorem dX4_places_162 : decode cX4_places 162 = .ok (.iadd, 1) := dk_96 (dk_at dksX4_places_6 20 rfl rfl)
theorem dX4_places_163 : decode cX4_places 163 = .ok (.iload 4, 2) := dk_21 4 (dk_at dksX4_places_6 21 rfl rfl)
theorem dX4_places_165 : decode cX4_places 165 = .ok (.iastore, 1) := dk_79 (dk_at dksX4_places_6 23 rfl rfl)
theorem dX4_places_166 : decode cX4_places 166 = .ok (.aload_n 0, 1) := dk_42 (dk_at dksX4_places_7 0 rfl rfl)
theorem dX4_places_167 : decode cX4_places 167 = .ok (.getfield 16, 3) := dk_180 0 16 (dk_at dksX4_places_7 1 rfl rfl)
theorem dX4_places_170 : decode cX4_places 170 = .ok (.iload 6, 2) := dk_21 6 (dk_at dksX4_places_7 4 rfl rfl)
theorem dX4_places_172 : decode cX4_places 172 = .ok (.iconst 5, 1) := dk_8 (dk_at dksX4_places_7 6 rfl rfl)
theorem dX4_places_173 : decode cX4_places 173 = .ok (.iadd, 1) := dk_96 (dk_at dksX4_places_7 7 rfl rfl)
theorem dX4_places_174 : decode cX4_places 174 = .ok (.iload 5, 2) := dk_21 5 (dk_at dksX4_places_7 8 rfl rfl)
theorem dX4_places_176 : decode cX4_places 176 = .ok (.iastore, 1) := dk_79 (dk_at dksX4_places_7 10 rfl rfl)
theorem dX4_places_177 : decode cX4_places 177 = .ok (.aload_n 0, 1) := dk_42 (dk_at dksX4_places_7 11 rfl rfl)
theorem dX4_places_178 : decode cX4_places 178 = .ok (.getfield 16, 3) := dk_180 0 16 (dk_at dksX4_places_7 12 rfl rfl)
theorem dX4_places_181 : decode cX4_places 181 = .ok (.iconst 0, 1) := dk_3 (dk_at dksX4_places_7 15 rfl rfl)
theorem dX4_places_182 : decode cX4_places 182 = .ok (.dup2, 1) := dk_92 (dk_at dksX4_places_7 16 rfl rfl)
theorem dX4_places_183 : decode cX4_places 183 = .ok (.iaload, 1) := dk_46 (dk_at dksX4_places_7 17 rfl rfl)
theorem dX4_places_184 : decode cX4_places 184 = .ok (.iconst 1, 1) := dk_4 (dk_at dksX4_places_7 18 rfl rfl)
theorem dX4_places_185 : decode cX4_places 185 = .ok (.iadd, 1) := dk_96 (dk_at dksX4_places_7 19 rfl rfl)
theorem dX4_places_186 : decode cX4_places 186 = .ok (.iastore, 1) := dk_79 (dk_at dksX4_places_7 20 rfl rfl)
theorem dX4_places_187 : decode cX4_places 187 = .ok (.aload_n 0, 1) := dk_42 (dk_at dksX4_places_7 21 rfl rfl)
theorem dX4_places_188 : decode cX4_places 188 = .ok (.getfield 16, 3) := dk_180 0 16 (dk_at dksX4_places_8 0 rfl rfl)
theorem dX4_places_191 : decode cX4_places 191 = .ok (.iconst 1, 1) := dk_4 (dk_at dksX4_places_8 3 rfl rfl)
theorem dX4_places_192 : decode cX4_places 192 = .ok (.dup2, 1) := dk_92 (dk_at dksX4_places_8 4 rfl rfl)
theorem dX4_places_193 : decode cX4_places 193 = .ok (.iaload, 1) := dk_46 (dk_at dksX4_places_8 5 rfl rfl)
theorem dX4_places_194 : decode cX4_places 194 = .ok (.iconst 1, 1) := dk_4 (dk_at dksX4_places_8 6 rfl rfl)
theorem dX4_places_195 : decode cX4_places 195 = .ok (.iadd, 1) := dk_96 (dk_at dksX4_places_8 7 rfl rfl)
theorem dX4_places_196 : decode cX4_places 196 = .ok (.iastore, 1) := dk_79 (dk_at dksX4_places_8 8 rfl rfl)
theorem dX4_places_197 : decode cX4_places 197 = .ok (.aload_n 0, 1) := dk_42 (dk_at dksX4_places_8 9 rfl rfl)
theorem dX4_places_198 : decode cX4_places 198 = .ok (.aload_n 0, 1) := dk_42 (dk_at dksX4_places_8 10 rfl rfl)
theorem dX4_places_199 : decode cX4_places 199 = .ok (.getfield 16, 3) := dk_180 0 16 (dk_at dksX4_places_8 11 rfl rfl)
theorem dX4_places_202 : decode cX4_places 202 = .ok (.iconst 0, 1) := dk_3 (dk_at dksX4_places_8 14 rfl rfl)
theorem dX4_places_203 : decode cX4_places 203 = .ok (.iaload, 1) := dk_46 (dk_at dksX4_places_8 15 rfl rfl)
theorem dX4_places_204 : decode cX4_places 204 = .ok (.iconst 1, 1) := dk_4 (dk_at dksX4_places_8 16 rfl rfl)
theorem dX4_places_205 : decode cX4_places 205 = .ok (.isub, 1) := dk_100 (dk_at dksX4_places_8 17 rfl rfl)
theorem dX4_places_206 : decode cX4_places 206 = .ok (.invokevirtual 75, 3) := dk_182 0 75 (dk_at dksX4_places_8 18 rfl rfl)
theorem dX4_places_209 : decode cX4_places 209 = .ok (.bipush 30, 2) := dk_16 30 (dk_at dksX4_places_8 21 rfl rfl)
theorem dX4_places_211 : decode cX4_places 211 = .ok (.if_icmp .gt 10, 3) := dk_163 0 10 (dk_at dksX4_places_9 0 rfl rfl)
theorem dX4_places_214 : decode cX4_places 214 = .ok (.aload_n 0, 1) := dk_42 (dk_at dksX4_places_9 3 rfl rfl)
theorem dX4_places_215 : decode cX4_places 215 = .ok (.invokevirtual 114, 3) := dk_182 0 114 (dk_at dksX4_places_9 4 rfl rfl)
theorem dX4_places_218 : decode cX4_places 218 = .ok (.ifCond .ne 9, 3) := dk_154 0 9 (dk_at dksX4_places_9 7 rfl rfl)
theorem dX4_places_221 : decode cX4_places 221 = .ok (.aload_n 0, 1) := dk_42 (dk_at dksX4_places_9 10 rfl rfl)
theorem dX4_places_222 : decode cX4_places 222 = .ok (.iconst 2, 1) := dk_5 (dk_at dksX4_places_9 11 rfl rfl)
theorem dX4_places_223 : decode cX4_places 223 = .ok (.invokevirtual 105, 3) := dk_182 0 105 (dk_at dksX4_places_9 12 rfl rfl)
theorem dX4_places_226 : decode cX4_places 226 = .ok (.ireturn, 1) := dk_172 (dk_at dksX4_places_9 15 rfl rfl)
theorem dX4_places_227 : decode cX4_places 227 = .ok (.aload_n 0, 1) := dk_42 (dk_at dksX4_places_9 16 rfl rfl)
theorem dX4_places_228 : decode cX4_places 228 = .ok (.getfield 16, 3) := dk_180 0 16 (dk_at dksX4_places_9 17 rfl rfl)
theorem dX4_places_231 : decode cX4_places 231 = .ok (.iconst 1, 1) := dk_4 (dk_at dksX4_places_9 20 rfl rfl)
theorem dX4_places_232 : decode cX4_places 232 = .ok (.iaload, 1) := dk_46 (dk_at dksX4_places_9 21 rfl rfl)
theorem dX4_places_233 : decode cX4_places 233 = .ok (.iconst 1, 1) := dk_4 (dk_at dksX4_places_9 22 rfl rfl)
theorem dX4_places_234 : decode cX4_places 234 = .ok (.isub, 1) := dk_100 (dk_at dksX4_places_9 23 rfl rfl)
theorem dX4_places_235 : decode cX4_places 235 = .ok (.ireturn, 1) := dk_172 (dk_at dksX4_places_10 0 rfl rfl)
abbrev cX4_isPlace : ByteArray := prog_16_method_21_code
def yX4_isPlace : MethodName := ⟨RX4, "isPlace", "(II)Z"⟩
def dkwX4_isPlace_1 : List UInt8 := [4, 167, 0, 4, 3, 172]
abbrev dktX4_isPlace_1 : List UInt8 := dkwX4_isPlace_1 ++ []
def dkwX4_isPlace_0 : List UInt8 := [26, 184, 0, 98, 153, 0, 24, 27, 4, 8, 184, 0, 63, 153, 0, 15, 26, 27, 96, 16, 12, 163, 0, 7]
abbrev dktX4_isPlace_0 : List UInt8 := dkwX4_isPlace_0 ++ dktX4_isPlace_1
theorem dksX4_isPlace_0 : cX4_isPlace.data.toList.drop 0 = dktX4_isPlace_0 := by decide +kernel
theorem dksX4_isPlace_1 : cX4_isPlace.data.toList.drop 24 = dktX4_isPlace_1 := dk_seg dksX4_isPlace_0 24 rfl rfl
theorem dX4_isPlace_0 : decode cX4_isPlace 0 = .ok (.iload_n 0, 1) := dk_26 (dk_at dksX4_isPlace_0 0 rfl rfl)
theorem dX4_isPlace_1 : decode cX4_isPlace 1 = .ok (.invokestatic 98, 3) := dk_184 0 98 (dk_at dksX4_isPlace_0 1 rfl rfl)
theorem dX4_isPlace_4 : decode cX4_isPlace 4 = .ok (.ifCond .eq 24, 3) := dk_153 0 24 (dk_at dksX4_isPlace_0 4 rfl rfl)
theorem dX4_isPlace_7 : decode cX4_isPlace 7 = .ok (.iload_n 1, 1) := dk_27 (dk_at dksX4_isPlace_0 7 rfl rfl)
theorem dX4_isPlace_8 : decode cX4_isPlace 8 = .ok (.iconst 1, 1) := dk_4 (dk_at dksX4_isPlace_0 8 rfl rfl)
theorem dX4_isPlace_9 : decode cX4_isPlace 9 = .ok (.iconst 5, 1) := dk_8 (dk_at dksX4_isPlace_0 9 rfl rfl)
theorem dX4_isPlace_10 : decode cX4_isPlace 10 = .ok (.invokestatic 63, 3) := dk_184 0 63 (dk_at dksX4_isPlace_0 10 rfl rfl)
theorem dX4_isPlace_13 : decode cX4_isPlace 13 = .ok (.ifCond .eq 15, 3) := dk_153 0 15 (dk_at dksX4_isPlace_0 13 rfl rfl)
theorem dX4_isPlace_16 : decode cX4_isPlace 16 = .ok (.iload_n 0, 1) := dk_26 (dk_at dksX4_isPlace_0 16 rfl rfl)
theorem dX4_isPlace_17 : decode cX4_isPlace 17 = .ok (.iload_n 1, 1) := dk_27 (dk_at dksX4_isPlace_0 17 rfl rfl)
theorem dX4_isPlace_18 : decode cX4_isPlace 18 = .ok (.iadd, 1) := dk_96 (dk_at dksX4_isPlace_0 18 rfl rfl)
theorem dX4_isPlace_19 : decode cX4_isPlace 19 = .ok (.bipush 12, 2) := dk_16 12 (dk_at dksX4_isPlace_0 19 rfl rfl)
theorem dX4_isPlace_21 : decode cX4_isPlace 21 = .ok (.if_icmp .gt 7, 3) := dk_163 0 7 (dk_at dksX4_isPlace_0 21 rfl rfl)
theorem dX4_isPlace_24 : decode cX4_isPlace 24 = .ok (.iconst 1, 1) := dk_4 (dk_at dksX4_isPlace_1 0 rfl rfl)
theorem dX4_isPlace_25 : decode cX4_isPlace 25 = .ok (.goto 4, 3) := dk_167 0 4 (dk_at dksX4_isPlace_1 1 rfl rfl)
theorem dX4_isPlace_28 : decode cX4_isPlace 28 = .ok (.iconst 0, 1) := dk_3 (dk_at dksX4_isPlace_1 4 rfl rfl)
theorem dX4_isPlace_29 : decode cX4_isPlace 29 = .ok (.ireturn, 1) := dk_172 (dk_at dksX4_isPlace_1 5 rfl rfl)
abbrev cX4_isColumn : ByteArray := prog_16_method_8_code
def yX4_isColumn : MethodName := ⟨RX4, "isColumn", "(I)Z"⟩
def dkwX4_isColumn_0 : List UInt8 := [26, 3, 16, 11, 184, 0, 63, 172]
abbrev dktX4_isColumn_0 : List UInt8 := dkwX4_isColumn_0 ++ []
theorem dksX4_isColumn_0 : cX4_isColumn.data.toList.drop 0 = dktX4_isColumn_0 := by decide +kernel
theorem dX4_isColumn_0 : decode cX4_isColumn 0 = .ok (.iload_n 0, 1) := dk_26 (dk_at dksX4_isColumn_0 0 rfl rfl)
theorem dX4_isColumn_1 : decode cX4_isColumn 1 = .ok (.iconst 0, 1) := dk_3 (dk_at dksX4_isColumn_0 1 rfl rfl)
theorem dX4_isColumn_2 : decode cX4_isColumn 2 = .ok (.bipush 11, 2) := dk_16 11 (dk_at dksX4_isColumn_0 2 rfl rfl)
theorem dX4_isColumn_4 : decode cX4_isColumn 4 = .ok (.invokestatic 63, 3) := dk_184 0 63 (dk_at dksX4_isColumn_0 4 rfl rfl)
theorem dX4_isColumn_7 : decode cX4_isColumn 7 = .ok (.ireturn, 1) := dk_172 (dk_at dksX4_isColumn_0 7 rfl rfl)
abbrev cX4_isIn : ByteArray := prog_16_method_4_code
def yX4_isIn : MethodName := ⟨RX4, "isIn", "(III)Z"⟩
def dkwX4_isIn_0 : List UInt8 := [26, 27, 161, 0, 12, 26, 28, 163, 0, 7, 4, 167, 0, 4, 3, 172]
abbrev dktX4_isIn_0 : List UInt8 := dkwX4_isIn_0 ++ []
theorem dksX4_isIn_0 : cX4_isIn.data.toList.drop 0 = dktX4_isIn_0 := by decide +kernel
theorem dX4_isIn_0 : decode cX4_isIn 0 = .ok (.iload_n 0, 1) := dk_26 (dk_at dksX4_isIn_0 0 rfl rfl)
theorem dX4_isIn_1 : decode cX4_isIn 1 = .ok (.iload_n 1, 1) := dk_27 (dk_at dksX4_isIn_0 1 rfl rfl)
theorem dX4_isIn_2 : decode cX4_isIn 2 = .ok (.if_icmp .lt 12, 3) := dk_161 0 12 (dk_at dksX4_isIn_0 2 rfl rfl)
theorem dX4_isIn_5 : decode cX4_isIn 5 = .ok (.iload_n 0, 1) := dk_26 (dk_at dksX4_isIn_0 5 rfl rfl)
theorem dX4_isIn_6 : decode cX4_isIn 6 = .ok (.iload_n 2, 1) := dk_28 (dk_at dksX4_isIn_0 6 rfl rfl)
theorem dX4_isIn_7 : decode cX4_isIn 7 = .ok (.if_icmp .gt 7, 3) := dk_163 0 7 (dk_at dksX4_isIn_0 7 rfl rfl)
theorem dX4_isIn_10 : decode cX4_isIn 10 = .ok (.iconst 1, 1) := dk_4 (dk_at dksX4_isIn_0 10 rfl rfl)
theorem dX4_isIn_11 : decode cX4_isIn 11 = .ok (.goto 4, 3) := dk_167 0 4 (dk_at dksX4_isIn_0 11 rfl rfl)
theorem dX4_isIn_14 : decode cX4_isIn 14 = .ok (.iconst 0, 1) := dk_3 (dk_at dksX4_isIn_0 14 rfl rfl)
theorem dX4_isIn_15 : decode cX4_isIn 15 = .ok (.ireturn, 1) := dk_172 (dk_at dksX4_isIn_0 15 rfl rfl)
abbrev cX4_fail : ByteArray := prog_16_method_3_code
def yX4_fail : MethodName := ⟨RX4, "fail", "(I)I"⟩
def dkwX4_fail_0 : List UInt8 := [42, 27, 181, 0, 53, 3, 172]
abbrev dktX4_fail_0 : List UInt8 := dkwX4_fail_0 ++ []
theorem dksX4_fail_0 : cX4_fail.data.toList.drop 0 = dktX4_fail_0 := by decide +kernel
theorem dX4_fail_0 : decode cX4_fail 0 = .ok (.aload_n 0, 1) := dk_42 (dk_at dksX4_fail_0 0 rfl rfl)
theorem dX4_fail_1 : decode cX4_fail 1 = .ok (.iload_n 1, 1) := dk_27 (dk_at dksX4_fail_0 1 rfl rfl)
theorem dX4_fail_2 : decode cX4_fail 2 = .ok (.putfield 53, 3) := dk_181 0 53 (dk_at dksX4_fail_0 2 rfl rfl)
theorem dX4_fail_5 : decode cX4_fail 5 = .ok (.iconst 0, 1) := dk_3 (dk_at dksX4_fail_0 5 rfl rfl)
theorem dX4_fail_6 : decode cX4_fail 6 = .ok (.ireturn, 1) := dk_172 (dk_at dksX4_fail_0 6 rfl rfl)
abbrev cX4_isZoned : ByteArray := prog_16_method_22_code
def yX4_isZoned : MethodName := ⟨RX4, "isZoned", "(III)Z"⟩
def dkwX4_isZoned_2 : List UInt8 := [167, 255, 212, 4, 172]
abbrev dktX4_isZoned_2 : List UInt8 := dkwX4_isZoned_2 ++ []
def dkwX4_isZoned_1 : List UInt8 := [42, 180, 0, 16, 5, 21, 4, 96, 46, 4, 160, 0, 10, 27, 4, 160, 0, 5, 3, 172, 132, 4, 1]
abbrev dktX4_isZoned_1 : List UInt8 := dkwX4_isZoned_1 ++ dktX4_isZoned_2
def dkwX4_isZoned_0 : List UInt8 := [28, 54, 4, 21, 4, 28, 29, 96, 162, 0, 42, 42, 180, 0, 16, 5, 21, 4, 96, 46, 5, 159, 0, 21]
abbrev dktX4_isZoned_0 : List UInt8 := dkwX4_isZoned_0 ++ dktX4_isZoned_1
theorem dksX4_isZoned_0 : cX4_isZoned.data.toList.drop 0 = dktX4_isZoned_0 := by decide +kernel
theorem dksX4_isZoned_1 : cX4_isZoned.data.toList.drop 24 = dktX4_isZoned_1 := dk_seg dksX4_isZoned_0 24 rfl rfl
theorem dksX4_isZoned_2 : cX4_isZoned.data.toList.drop 47 = dktX4_isZoned_2 := dk_seg dksX4_isZoned_1 23 rfl rfl
theorem dX4_isZoned_0 : decode cX4_isZoned 0 = .ok (.iload_n 2, 1) := dk_28 (dk_at dksX4_isZoned_0 0 rfl rfl)
theorem dX4_isZoned_1 : decode cX4_isZoned 1 = .ok (.istore 4, 2) := dk_54 4 (dk_at dksX4_isZoned_0 1 rfl rfl)
theorem dX4_isZoned_3 : decode cX4_isZoned 3 = .ok (.iload 4, 2) := dk_21 4 (dk_at dksX4_isZoned_0 3 rfl rfl)
theorem dX4_isZoned_5 : decode cX4_isZoned 5 = .ok (.iload_n 2, 1) := dk_28 (dk_at dksX4_isZoned_0 5 rfl rfl)
theorem dX4_isZoned_6 : decode cX4_isZoned 6 = .ok (.iload_n 3, 1) := dk_29 (dk_at dksX4_isZoned_0 6 rfl rfl)
theorem dX4_isZoned_7 : decode cX4_isZoned 7 = .ok (.iadd, 1) := dk_96 (dk_at dksX4_isZoned_0 7 rfl rfl)
theorem dX4_isZoned_8 : decode cX4_isZoned 8 = .ok (.if_icmp .ge 42, 3) := dk_162 0 42 (dk_at dksX4_isZoned_0 8 rfl rfl)
theorem dX4_isZoned_11 : decode cX4_isZoned 11 = .ok (.aload_n 0, 1) := dk_42 (dk_at dksX4_isZoned_0 11 rfl rfl)
theorem dX4_isZoned_12 : decode cX4_isZoned 12 = .ok (.getfield 16, 3) := dk_180 0 16 (dk_at dksX4_isZoned_0 12 rfl rfl)
theorem dX4_isZoned_15 : decode cX4_isZoned 15 = .ok (.iconst 2, 1) := dk_5 (dk_at dksX4_isZoned_0 15 rfl rfl)
theorem dX4_isZoned_16 : decode cX4_isZoned 16 = .ok (.iload 4, 2) := dk_21 4 (dk_at dksX4_isZoned_0 16 rfl rfl)
theorem dX4_isZoned_18 : decode cX4_isZoned 18 = .ok (.iadd, 1) := dk_96 (dk_at dksX4_isZoned_0 18 rfl rfl)
theorem dX4_isZoned_19 : decode cX4_isZoned 19 = .ok (.iaload, 1) := dk_46 (dk_at dksX4_isZoned_0 19 rfl rfl)
theorem dX4_isZoned_20 : decode cX4_isZoned 20 = .ok (.iconst 2, 1) := dk_5 (dk_at dksX4_isZoned_0 20 rfl rfl)
theorem dX4_isZoned_21 : decode cX4_isZoned 21 = .ok (.if_icmp .eq 21, 3) := dk_159 0 21 (dk_at dksX4_isZoned_0 21 rfl rfl)
theorem dX4_isZoned_24 : decode cX4_isZoned 24 = .ok (.aload_n 0, 1) := dk_42 (dk_at dksX4_isZoned_1 0 rfl rfl)
theorem dX4_isZoned_25 : decode cX4_isZoned 25 = .ok (.getfield 16, 3) := dk_180 0 16 (dk_at dksX4_isZoned_1 1 rfl rfl)
theorem dX4_isZoned_28 : decode cX4_isZoned 28 = .ok (.iconst 2, 1) := dk_5 (dk_at dksX4_isZoned_1 4 rfl rfl)
theorem dX4_isZoned_29 : decode cX4_isZoned 29 = .ok (.iload 4, 2) := dk_21 4 (dk_at dksX4_isZoned_1 5 rfl rfl)
theorem dX4_isZoned_31 : decode cX4_isZoned 31 = .ok (.iadd, 1) := dk_96 (dk_at dksX4_isZoned_1 7 rfl rfl)
theorem dX4_isZoned_32 : decode cX4_isZoned 32 = .ok (.iaload, 1) := dk_46 (dk_at dksX4_isZoned_1 8 rfl rfl)
theorem dX4_isZoned_33 : decode cX4_isZoned 33 = .ok (.iconst 1, 1) := dk_4 (dk_at dksX4_isZoned_1 9 rfl rfl)
theorem dX4_isZoned_34 : decode cX4_isZoned 34 = .ok (.if_icmp .ne 10, 3) := dk_160 0 10 (dk_at dksX4_isZoned_1 10 rfl rfl)
theorem dX4_isZoned_37 : decode cX4_isZoned 37 = .ok (.iload_n 1, 1) := dk_27 (dk_at dksX4_isZoned_1 13 rfl rfl)
theorem dX4_isZoned_38 : decode cX4_isZoned 38 = .ok (.iconst 1, 1) := dk_4 (dk_at dksX4_isZoned_1 14 rfl rfl)
theorem dX4_isZoned_39 : decode cX4_isZoned 39 = .ok (.if_icmp .ne 5, 3) := dk_160 0 5 (dk_at dksX4_isZoned_1 15 rfl rfl)
theorem dX4_isZoned_42 : decode cX4_isZoned 42 = .ok (.iconst 0, 1) := dk_3 (dk_at dksX4_isZoned_1 18 rfl rfl)
theorem dX4_isZoned_43 : decode cX4_isZoned 43 = .ok (.ireturn, 1) := dk_172 (dk_at dksX4_isZoned_1 19 rfl rfl)
theorem dX4_isZoned_44 : decode cX4_isZoned 44 = .ok (.iinc 4 1, 3) := dk_132 4 1 (dk_at dksX4_isZoned_1 20 rfl rfl)
theorem dX4_isZoned_47 : decode cX4_isZoned 47 = .ok (.goto (-44), 3) := dk_167 255 212 (dk_at dksX4_isZoned_2 0 rfl rfl)
theorem dX4_isZoned_50 : decode cX4_isZoned 50 = .ok (.iconst 1, 1) := dk_4 (dk_at dksX4_isZoned_2 3 rfl rfl)
theorem dX4_isZoned_51 : decode cX4_isZoned 51 = .ok (.ireturn, 1) := dk_172 (dk_at dksX4_isZoned_2 4 rfl rfl)
abbrev cX4_high : ByteArray := prog_16_method_14_code
def yX4_high : MethodName := ⟨RX4, "high", "(I)I"⟩
def dkwX4_high_1 : List UInt8 := [29, 182, 0, 75, 28, 164, 0, 9, 42, 29, 182, 0, 75, 61, 132, 3, 1, 167, 255, 219, 28, 172]
abbrev dktX4_high_1 : List UInt8 := dkwX4_high_1 ++ []
def dkwX4_high_0 : List UInt8 := [3, 61, 3, 62, 29, 42, 180, 0, 16, 3, 46, 162, 0, 33, 42, 29, 27, 182, 0, 71, 153, 0, 18, 42]
abbrev dktX4_high_0 : List UInt8 := dkwX4_high_0 ++ dktX4_high_1
theorem dksX4_high_0 : cX4_high.data.toList.drop 0 = dktX4_high_0 := by decide +kernel
theorem dksX4_high_1 : cX4_high.data.toList.drop 24 = dktX4_high_1 := dk_seg dksX4_high_0 24 rfl rfl
theorem dX4_high_0 : decode cX4_high 0 = .ok (.iconst 0, 1) := dk_3 (dk_at dksX4_high_0 0 rfl rfl)
theorem dX4_high_1 : decode cX4_high 1 = .ok (.istore_n 2, 1) := dk_61 (dk_at dksX4_high_0 1 rfl rfl)
theorem dX4_high_2 : decode cX4_high 2 = .ok (.iconst 0, 1) := dk_3 (dk_at dksX4_high_0 2 rfl rfl)
theorem dX4_high_3 : decode cX4_high 3 = .ok (.istore_n 3, 1) := dk_62 (dk_at dksX4_high_0 3 rfl rfl)
theorem dX4_high_4 : decode cX4_high 4 = .ok (.iload_n 3, 1) := dk_29 (dk_at dksX4_high_0 4 rfl rfl)
theorem dX4_high_5 : decode cX4_high 5 = .ok (.aload_n 0, 1) := dk_42 (dk_at dksX4_high_0 5 rfl rfl)
theorem dX4_high_6 : decode cX4_high 6 = .ok (.getfield 16, 3) := dk_180 0 16 (dk_at dksX4_high_0 6 rfl rfl)
theorem dX4_high_9 : decode cX4_high 9 = .ok (.iconst 0, 1) := dk_3 (dk_at dksX4_high_0 9 rfl rfl)
theorem dX4_high_10 : decode cX4_high 10 = .ok (.iaload, 1) := dk_46 (dk_at dksX4_high_0 10 rfl rfl)
theorem dX4_high_11 : decode cX4_high 11 = .ok (.if_icmp .ge 33, 3) := dk_162 0 33 (dk_at dksX4_high_0 11 rfl rfl)
theorem dX4_high_14 : decode cX4_high 14 = .ok (.aload_n 0, 1) := dk_42 (dk_at dksX4_high_0 14 rfl rfl)
theorem dX4_high_15 : decode cX4_high 15 = .ok (.iload_n 3, 1) := dk_29 (dk_at dksX4_high_0 15 rfl rfl)
theorem dX4_high_16 : decode cX4_high 16 = .ok (.iload_n 1, 1) := dk_27 (dk_at dksX4_high_0 16 rfl rfl)
theorem dX4_high_17 : decode cX4_high 17 = .ok (.invokevirtual 71, 3) := dk_182 0 71 (dk_at dksX4_high_0 17 rfl rfl)
theorem dX4_high_20 : decode cX4_high 20 = .ok (.ifCond .eq 18, 3) := dk_153 0 18 (dk_at dksX4_high_0 20 rfl rfl)
theorem dX4_high_23 : decode cX4_high 23 = .ok (.aload_n 0, 1) := dk_42 (dk_at dksX4_high_0 23 rfl rfl)
theorem dX4_high_24 : decode cX4_high 24 = .ok (.iload_n 3, 1) := dk_29 (dk_at dksX4_high_1 0 rfl rfl)
theorem dX4_high_25 : decode cX4_high 25 = .ok (.invokevirtual 75, 3) := dk_182 0 75 (dk_at dksX4_high_1 1 rfl rfl)
theorem dX4_high_28 : decode cX4_high 28 = .ok (.iload_n 2, 1) := dk_28 (dk_at dksX4_high_1 4 rfl rfl)
theorem dX4_high_29 : decode cX4_high 29 = .ok (.if_icmp .le 9, 3) := dk_164 0 9 (dk_at dksX4_high_1 5 rfl rfl)
theorem dX4_high_32 : decode cX4_high 32 = .ok (.aload_n 0, 1) := dk_42 (dk_at dksX4_high_1 8 rfl rfl)
theorem dX4_high_33 : decode cX4_high 33 = .ok (.iload_n 3, 1) := dk_29 (dk_at dksX4_high_1 9 rfl rfl)
theorem dX4_high_34 : decode cX4_high 34 = .ok (.invokevirtual 75, 3) := dk_182 0 75 (dk_at dksX4_high_1 10 rfl rfl)
theorem dX4_high_37 : decode cX4_high 37 = .ok (.istore_n 2, 1) := dk_61 (dk_at dksX4_high_1 13 rfl rfl)
theorem dX4_high_38 : decode cX4_high 38 = .ok (.iinc 3 1, 3) := dk_132 3 1 (dk_at dksX4_high_1 14 rfl rfl)
theorem dX4_high_41 : decode cX4_high 41 = .ok (.goto (-37), 3) := dk_167 255 219 (dk_at dksX4_high_1 17 rfl rfl)
theorem dX4_high_44 : decode cX4_high 44 = .ok (.iload_n 2, 1) := dk_28 (dk_at dksX4_high_1 20 rfl rfl)
theorem dX4_high_45 : decode cX4_high 45 = .ok (.ireturn, 1) := dk_172 (dk_at dksX4_high_1 21 rfl rfl)
abbrev cX4_covers : ByteArray := prog_16_method_11_code
def yX4_covers : MethodName := ⟨RX4, "covers", "(II)Z"⟩
def dkwX4_covers_0 : List UInt8 := [28, 42, 27, 5, 182, 0, 67, 100, 3, 42, 27, 6, 182, 0, 67, 4, 100, 184, 0, 63, 172]
abbrev dktX4_covers_0 : List UInt8 := dkwX4_covers_0 ++ []
theorem dksX4_covers_0 : cX4_covers.data.toList.drop 0 = dktX4_covers_0 := by decide +kernel
theorem dX4_covers_0 : decode cX4_covers 0 = .ok (.iload_n 2, 1) := dk_28 (dk_at dksX4_covers_0 0 rfl rfl)
theorem dX4_covers_1 : decode cX4_covers 1 = .ok (.aload_n 0, 1) := dk_42 (dk_at dksX4_covers_0 1 rfl rfl)
theorem dX4_covers_2 : decode cX4_covers 2 = .ok (.iload_n 1, 1) := dk_27 (dk_at dksX4_covers_0 2 rfl rfl)
theorem dX4_covers_3 : decode cX4_covers 3 = .ok (.iconst 2, 1) := dk_5 (dk_at dksX4_covers_0 3 rfl rfl)
theorem dX4_covers_4 : decode cX4_covers 4 = .ok (.invokevirtual 67, 3) := dk_182 0 67 (dk_at dksX4_covers_0 4 rfl rfl)
theorem dX4_covers_7 : decode cX4_covers 7 = .ok (.isub, 1) := dk_100 (dk_at dksX4_covers_0 7 rfl rfl)
theorem dX4_covers_8 : decode cX4_covers 8 = .ok (.iconst 0, 1) := dk_3 (dk_at dksX4_covers_0 8 rfl rfl)
theorem dX4_covers_9 : decode cX4_covers 9 = .ok (.aload_n 0, 1) := dk_42 (dk_at dksX4_covers_0 9 rfl rfl)
theorem dX4_covers_10 : decode cX4_covers 10 = .ok (.iload_n 1, 1) := dk_27 (dk_at dksX4_covers_0 10 rfl rfl)
theorem dX4_covers_11 : decode cX4_covers 11 = .ok (.iconst 3, 1) := dk_6 (dk_at dksX4_covers_0 11 rfl rfl)
theorem dX4_covers_12 : decode cX4_covers 12 = .ok (.invokevirtual 67, 3) := dk_182 0 67 (dk_at dksX4_covers_0 12 rfl rfl)
theorem dX4_covers_15 : decode cX4_covers 15 = .ok (.iconst 1, 1) := dk_4 (dk_at dksX4_covers_0 15 rfl rfl)
theorem dX4_covers_16 : decode cX4_covers 16 = .ok (.isub, 1) := dk_100 (dk_at dksX4_covers_0 16 rfl rfl)
theorem dX4_covers_17 : decode cX4_covers 17 = .ok (.invokestatic 63, 3) := dk_184 0 63 (dk_at dksX4_covers_0 17 rfl rfl)
theorem dX4_covers_20 : decode cX4_covers 20 = .ok (.ireturn, 1) := dk_172 (dk_at dksX4_covers_0 20 rfl rfl)
abbrev cX4_of : ByteArray := prog_16_method_9_code
def yX4_of : MethodName := ⟨RX4, "of", "(II)I"⟩
def dkwX4_of_0 : List UInt8 := [42, 180, 0, 16, 16, 26, 16, 6, 27, 104, 96, 28, 96, 46, 172]
abbrev dktX4_of_0 : List UInt8 := dkwX4_of_0 ++ []
theorem dksX4_of_0 : cX4_of.data.toList.drop 0 = dktX4_of_0 := by decide +kernel
theorem dX4_of_0 : decode cX4_of 0 = .ok (.aload_n 0, 1) := dk_42 (dk_at dksX4_of_0 0 rfl rfl)
theorem dX4_of_1 : decode cX4_of 1 = .ok (.getfield 16, 3) := dk_180 0 16 (dk_at dksX4_of_0 1 rfl rfl)
theorem dX4_of_4 : decode cX4_of 4 = .ok (.bipush 26, 2) := dk_16 26 (dk_at dksX4_of_0 4 rfl rfl)
theorem dX4_of_6 : decode cX4_of 6 = .ok (.bipush 6, 2) := dk_16 6 (dk_at dksX4_of_0 6 rfl rfl)
theorem dX4_of_8 : decode cX4_of 8 = .ok (.iload_n 1, 1) := dk_27 (dk_at dksX4_of_0 8 rfl rfl)
theorem dX4_of_9 : decode cX4_of 9 = .ok (.imul, 1) := dk_104 (dk_at dksX4_of_0 9 rfl rfl)
theorem dX4_of_10 : decode cX4_of 10 = .ok (.iadd, 1) := dk_96 (dk_at dksX4_of_0 10 rfl rfl)
theorem dX4_of_11 : decode cX4_of 11 = .ok (.iload_n 2, 1) := dk_28 (dk_at dksX4_of_0 11 rfl rfl)
theorem dX4_of_12 : decode cX4_of 12 = .ok (.iadd, 1) := dk_96 (dk_at dksX4_of_0 12 rfl rfl)
theorem dX4_of_13 : decode cX4_of 13 = .ok (.iaload, 1) := dk_46 (dk_at dksX4_of_0 13 rfl rfl)
theorem dX4_of_14 : decode cX4_of 14 = .ok (.ireturn, 1) := dk_172 (dk_at dksX4_of_0 14 rfl rfl)
abbrev cX4_topOf : ByteArray := prog_16_method_12_code
def yX4_topOf : MethodName := ⟨RX4, "topOf", "(I)I"⟩
def dkwX4_topOf_0 : List UInt8 := [42, 27, 8, 182, 0, 67, 42, 27, 4, 182, 0, 67, 154, 0, 7, 5, 167, 0, 4, 4, 96, 172]
abbrev dktX4_topOf_0 : List UInt8 := dkwX4_topOf_0 ++ []
theorem dksX4_topOf_0 : cX4_topOf.data.toList.drop 0 = dktX4_topOf_0 := by decide +kernel
theorem dX4_topOf_0 : decode cX4_topOf 0 = .ok (.aload_n 0, 1) := dk_42 (dk_at dksX4_topOf_0 0 rfl rfl)
theorem dX4_topOf_1 : decode cX4_topOf 1 = .ok (.iload_n 1, 1) := dk_27 (dk_at dksX4_topOf_0 1 rfl rfl)
theorem dX4_topOf_2 : decode cX4_topOf 2 = .ok (.iconst 5, 1) := dk_8 (dk_at dksX4_topOf_0 2 rfl rfl)
theorem dX4_topOf_3 : decode cX4_topOf 3 = .ok (.invokevirtual 67, 3) := dk_182 0 67 (dk_at dksX4_topOf_0 3 rfl rfl)
theorem dX4_topOf_6 : decode cX4_topOf 6 = .ok (.aload_n 0, 1) := dk_42 (dk_at dksX4_topOf_0 6 rfl rfl)
theorem dX4_topOf_7 : decode cX4_topOf 7 = .ok (.iload_n 1, 1) := dk_27 (dk_at dksX4_topOf_0 7 rfl rfl)
theorem dX4_topOf_8 : decode cX4_topOf 8 = .ok (.iconst 1, 1) := dk_4 (dk_at dksX4_topOf_0 8 rfl rfl)
theorem dX4_topOf_9 : decode cX4_topOf 9 = .ok (.invokevirtual 67, 3) := dk_182 0 67 (dk_at dksX4_topOf_0 9 rfl rfl)
theorem dX4_topOf_12 : decode cX4_topOf 12 = .ok (.ifCond .ne 7, 3) := dk_154 0 7 (dk_at dksX4_topOf_0 12 rfl rfl)
theorem dX4_topOf_15 : decode cX4_topOf 15 = .ok (.iconst 2, 1) := dk_5 (dk_at dksX4_topOf_0 15 rfl rfl)
theorem dX4_topOf_16 : decode cX4_topOf 16 = .ok (.goto 4, 3) := dk_167 0 4 (dk_at dksX4_topOf_0 16 rfl rfl)
theorem dX4_topOf_19 : decode cX4_topOf 19 = .ok (.iconst 1, 1) := dk_4 (dk_at dksX4_topOf_0 19 rfl rfl)
theorem dX4_topOf_20 : decode cX4_topOf 20 = .ok (.iadd, 1) := dk_96 (dk_at dksX4_topOf_0 20 rfl rfl)
theorem dX4_topOf_21 : decode cX4_topOf 21 = .ok (.ireturn, 1) := dk_172 (dk_at dksX4_topOf_0 21 rfl rfl)
abbrev cX4_bears : ByteArray := prog_16_method_20_code
def yX4_bears : MethodName := ⟨RX4, "bears", "()Z"⟩
def dkwX4_bears_1 : List UInt8 := [182, 0, 95, 164, 0, 5, 3, 172, 132, 1, 1, 167, 255, 227, 4, 172]
abbrev dktX4_bears_1 : List UInt8 := dkwX4_bears_1 ++ []
def dkwX4_bears_0 : List UInt8 := [42, 182, 0, 92, 3, 60, 27, 42, 180, 0, 16, 3, 46, 162, 0, 25, 42, 180, 0, 32, 27, 46, 42, 27]
abbrev dktX4_bears_0 : List UInt8 := dkwX4_bears_0 ++ dktX4_bears_1
theorem dksX4_bears_0 : cX4_bears.data.toList.drop 0 = dktX4_bears_0 := by decide +kernel
theorem dksX4_bears_1 : cX4_bears.data.toList.drop 24 = dktX4_bears_1 := dk_seg dksX4_bears_0 24 rfl rfl
theorem dX4_bears_0 : decode cX4_bears 0 = .ok (.aload_n 0, 1) := dk_42 (dk_at dksX4_bears_0 0 rfl rfl)
theorem dX4_bears_1 : decode cX4_bears 1 = .ok (.invokevirtual 92, 3) := dk_182 0 92 (dk_at dksX4_bears_0 1 rfl rfl)
theorem dX4_bears_4 : decode cX4_bears 4 = .ok (.iconst 0, 1) := dk_3 (dk_at dksX4_bears_0 4 rfl rfl)
theorem dX4_bears_5 : decode cX4_bears 5 = .ok (.istore_n 1, 1) := dk_60 (dk_at dksX4_bears_0 5 rfl rfl)
theorem dX4_bears_6 : decode cX4_bears 6 = .ok (.iload_n 1, 1) := dk_27 (dk_at dksX4_bears_0 6 rfl rfl)
theorem dX4_bears_7 : decode cX4_bears 7 = .ok (.aload_n 0, 1) := dk_42 (dk_at dksX4_bears_0 7 rfl rfl)
theorem dX4_bears_8 : decode cX4_bears 8 = .ok (.getfield 16, 3) := dk_180 0 16 (dk_at dksX4_bears_0 8 rfl rfl)
theorem dX4_bears_11 : decode cX4_bears 11 = .ok (.iconst 0, 1) := dk_3 (dk_at dksX4_bears_0 11 rfl rfl)
theorem dX4_bears_12 : decode cX4_bears 12 = .ok (.iaload, 1) := dk_46 (dk_at dksX4_bears_0 12 rfl rfl)
theorem dX4_bears_13 : decode cX4_bears 13 = .ok (.if_icmp .ge 25, 3) := dk_162 0 25 (dk_at dksX4_bears_0 13 rfl rfl)
theorem dX4_bears_16 : decode cX4_bears 16 = .ok (.aload_n 0, 1) := dk_42 (dk_at dksX4_bears_0 16 rfl rfl)
theorem dX4_bears_17 : decode cX4_bears 17 = .ok (.getfield 32, 3) := dk_180 0 32 (dk_at dksX4_bears_0 17 rfl rfl)
theorem dX4_bears_20 : decode cX4_bears 20 = .ok (.iload_n 1, 1) := dk_27 (dk_at dksX4_bears_0 20 rfl rfl)
theorem dX4_bears_21 : decode cX4_bears 21 = .ok (.iaload, 1) := dk_46 (dk_at dksX4_bears_0 21 rfl rfl)
theorem dX4_bears_22 : decode cX4_bears 22 = .ok (.aload_n 0, 1) := dk_42 (dk_at dksX4_bears_0 22 rfl rfl)
theorem dX4_bears_23 : decode cX4_bears 23 = .ok (.iload_n 1, 1) := dk_27 (dk_at dksX4_bears_0 23 rfl rfl)
theorem dX4_bears_24 : decode cX4_bears 24 = .ok (.invokevirtual 95, 3) := dk_182 0 95 (dk_at dksX4_bears_1 0 rfl rfl)
theorem dX4_bears_27 : decode cX4_bears 27 = .ok (.if_icmp .le 5, 3) := dk_164 0 5 (dk_at dksX4_bears_1 3 rfl rfl)
theorem dX4_bears_30 : decode cX4_bears 30 = .ok (.iconst 0, 1) := dk_3 (dk_at dksX4_bears_1 6 rfl rfl)
theorem dX4_bears_31 : decode cX4_bears 31 = .ok (.ireturn, 1) := dk_172 (dk_at dksX4_bears_1 7 rfl rfl)
theorem dX4_bears_32 : decode cX4_bears 32 = .ok (.iinc 1 1, 3) := dk_132 1 1 (dk_at dksX4_bears_1 8 rfl rfl)
theorem dX4_bears_35 : decode cX4_bears 35 = .ok (.goto (-29), 3) := dk_167 255 227 (dk_at dksX4_bears_1 11 rfl rfl)
theorem dX4_bears_38 : decode cX4_bears 38 = .ok (.iconst 1, 1) := dk_4 (dk_at dksX4_bears_1 14 rfl rfl)
theorem dX4_bears_39 : decode cX4_bears 39 = .ok (.ireturn, 1) := dk_172 (dk_at dksX4_bears_1 15 rfl rfl)
abbrev cX4_weighs : ByteArray := prog_16_method_19_code
def yX4_weighs : MethodName := ⟨RX4, "weighs", "()V"⟩
def dkwX4_weighs_3 : List UInt8 := [167, 255, 216, 177]
abbrev dktX4_weighs_3 : List UInt8 := dkwX4_weighs_3 ++ []
def dkwX4_weighs_2 : List UInt8 := [8, 182, 0, 67, 27, 160, 0, 8, 42, 28, 182, 0, 88, 132, 2, 1, 167, 255, 228, 132, 1, 255]
abbrev dktX4_weighs_2 : List UInt8 := dkwX4_weighs_2 ++ dktX4_weighs_3
def dkwX4_weighs_1 : List UInt8 := [167, 255, 236, 16, 30, 60, 27, 158, 0, 42, 3, 61, 28, 42, 180, 0, 16, 3, 46, 162, 0, 24, 42, 28]
abbrev dktX4_weighs_1 : List UInt8 := dkwX4_weighs_1 ++ dktX4_weighs_2
def dkwX4_weighs_0 : List UInt8 := [3, 60, 27, 42, 180, 0, 16, 3, 46, 162, 0, 16, 42, 180, 0, 32, 27, 3, 79, 132, 1, 1]
abbrev dktX4_weighs_0 : List UInt8 := dkwX4_weighs_0 ++ dktX4_weighs_1
theorem dksX4_weighs_0 : cX4_weighs.data.toList.drop 0 = dktX4_weighs_0 := by decide +kernel
theorem dksX4_weighs_1 : cX4_weighs.data.toList.drop 22 = dktX4_weighs_1 := dk_seg dksX4_weighs_0 22 rfl rfl
theorem dksX4_weighs_2 : cX4_weighs.data.toList.drop 46 = dktX4_weighs_2 := dk_seg dksX4_weighs_1 24 rfl rfl
theorem dksX4_weighs_3 : cX4_weighs.data.toList.drop 68 = dktX4_weighs_3 := dk_seg dksX4_weighs_2 22 rfl rfl
theorem dX4_weighs_0 : decode cX4_weighs 0 = .ok (.iconst 0, 1) := dk_3 (dk_at dksX4_weighs_0 0 rfl rfl)
theorem dX4_weighs_1 : decode cX4_weighs 1 = .ok (.istore_n 1, 1) := dk_60 (dk_at dksX4_weighs_0 1 rfl rfl)
theorem dX4_weighs_2 : decode cX4_weighs 2 = .ok (.iload_n 1, 1) := dk_27 (dk_at dksX4_weighs_0 2 rfl rfl)
theorem dX4_weighs_3 : decode cX4_weighs 3 = .ok (.aload_n 0, 1) := dk_42 (dk_at dksX4_weighs_0 3 rfl rfl)
theorem dX4_weighs_4 : decode cX4_weighs 4 = .ok (.getfield 16, 3) := dk_180 0 16 (dk_at dksX4_weighs_0 4 rfl rfl)
theorem dX4_weighs_7 : decode cX4_weighs 7 = .ok (.iconst 0, 1) := dk_3 (dk_at dksX4_weighs_0 7 rfl rfl)
theorem dX4_weighs_8 : decode cX4_weighs 8 = .ok (.iaload, 1) := dk_46 (dk_at dksX4_weighs_0 8 rfl rfl)
theorem dX4_weighs_9 : decode cX4_weighs 9 = .ok (.if_icmp .ge 16, 3) := dk_162 0 16 (dk_at dksX4_weighs_0 9 rfl rfl)
theorem dX4_weighs_12 : decode cX4_weighs 12 = .ok (.aload_n 0, 1) := dk_42 (dk_at dksX4_weighs_0 12 rfl rfl)
theorem dX4_weighs_13 : decode cX4_weighs 13 = .ok (.getfield 32, 3) := dk_180 0 32 (dk_at dksX4_weighs_0 13 rfl rfl)
theorem dX4_weighs_16 : decode cX4_weighs 16 = .ok (.iload_n 1, 1) := dk_27 (dk_at dksX4_weighs_0 16 rfl rfl)
theorem dX4_weighs_17 : decode cX4_weighs 17 = .ok (.iconst 0, 1) := dk_3 (dk_at dksX4_weighs_0 17 rfl rfl)
theorem dX4_weighs_18 : decode cX4_weighs 18 = .ok (.iastore, 1) := dk_79 (dk_at dksX4_weighs_0 18 rfl rfl)
theorem dX4_weighs_19 : decode cX4_weighs 19 = .ok (.iinc 1 1, 3) := dk_132 1 1 (dk_at dksX4_weighs_0 19 rfl rfl)
theorem dX4_weighs_22 : decode cX4_weighs 22 = .ok (.goto (-20), 3) := dk_167 255 236 (dk_at dksX4_weighs_1 0 rfl rfl)
theorem dX4_weighs_25 : decode cX4_weighs 25 = .ok (.bipush 30, 2) := dk_16 30 (dk_at dksX4_weighs_1 3 rfl rfl)
theorem dX4_weighs_27 : decode cX4_weighs 27 = .ok (.istore_n 1, 1) := dk_60 (dk_at dksX4_weighs_1 5 rfl rfl)
theorem dX4_weighs_28 : decode cX4_weighs 28 = .ok (.iload_n 1, 1) := dk_27 (dk_at dksX4_weighs_1 6 rfl rfl)
theorem dX4_weighs_29 : decode cX4_weighs 29 = .ok (.ifCond .le 42, 3) := dk_158 0 42 (dk_at dksX4_weighs_1 7 rfl rfl)
theorem dX4_weighs_32 : decode cX4_weighs 32 = .ok (.iconst 0, 1) := dk_3 (dk_at dksX4_weighs_1 10 rfl rfl)
theorem dX4_weighs_33 : decode cX4_weighs 33 = .ok (.istore_n 2, 1) := dk_61 (dk_at dksX4_weighs_1 11 rfl rfl)
theorem dX4_weighs_34 : decode cX4_weighs 34 = .ok (.iload_n 2, 1) := dk_28 (dk_at dksX4_weighs_1 12 rfl rfl)
theorem dX4_weighs_35 : decode cX4_weighs 35 = .ok (.aload_n 0, 1) := dk_42 (dk_at dksX4_weighs_1 13 rfl rfl)
theorem dX4_weighs_36 : decode cX4_weighs 36 = .ok (.getfield 16, 3) := dk_180 0 16 (dk_at dksX4_weighs_1 14 rfl rfl)
theorem dX4_weighs_39 : decode cX4_weighs 39 = .ok (.iconst 0, 1) := dk_3 (dk_at dksX4_weighs_1 17 rfl rfl)
theorem dX4_weighs_40 : decode cX4_weighs 40 = .ok (.iaload, 1) := dk_46 (dk_at dksX4_weighs_1 18 rfl rfl)
theorem dX4_weighs_41 : decode cX4_weighs 41 = .ok (.if_icmp .ge 24, 3) := dk_162 0 24 (dk_at dksX4_weighs_1 19 rfl rfl)
theorem dX4_weighs_44 : decode cX4_weighs 44 = .ok (.aload_n 0, 1) := dk_42 (dk_at dksX4_weighs_1 22 rfl rfl)
theorem dX4_weighs_45 : decode cX4_weighs 45 = .ok (.iload_n 2, 1) := dk_28 (dk_at dksX4_weighs_1 23 rfl rfl)
theorem dX4_weighs_46 : decode cX4_weighs 46 = .ok (.iconst 5, 1) := dk_8 (dk_at dksX4_weighs_2 0 rfl rfl)
theorem dX4_weighs_47 : decode cX4_weighs 47 = .ok (.invokevirtual 67, 3) := dk_182 0 67 (dk_at dksX4_weighs_2 1 rfl rfl)
theorem dX4_weighs_50 : decode cX4_weighs 50 = .ok (.iload_n 1, 1) := dk_27 (dk_at dksX4_weighs_2 4 rfl rfl)
theorem dX4_weighs_51 : decode cX4_weighs 51 = .ok (.if_icmp .ne 8, 3) := dk_160 0 8 (dk_at dksX4_weighs_2 5 rfl rfl)
theorem dX4_weighs_54 : decode cX4_weighs 54 = .ok (.aload_n 0, 1) := dk_42 (dk_at dksX4_weighs_2 8 rfl rfl)
theorem dX4_weighs_55 : decode cX4_weighs 55 = .ok (.iload_n 2, 1) := dk_28 (dk_at dksX4_weighs_2 9 rfl rfl)
theorem dX4_weighs_56 : decode cX4_weighs 56 = .ok (.invokevirtual 88, 3) := dk_182 0 88 (dk_at dksX4_weighs_2 10 rfl rfl)
theorem dX4_weighs_59 : decode cX4_weighs 59 = .ok (.iinc 2 1, 3) := dk_132 2 1 (dk_at dksX4_weighs_2 13 rfl rfl)
theorem dX4_weighs_62 : decode cX4_weighs 62 = .ok (.goto (-28), 3) := dk_167 255 228 (dk_at dksX4_weighs_2 16 rfl rfl)
theorem dX4_weighs_65 : decode cX4_weighs 65 = .ok (.iinc 1 (-1), 3) := dk_132 1 255 (dk_at dksX4_weighs_2 19 rfl rfl)
theorem dX4_weighs_68 : decode cX4_weighs 68 = .ok (.goto (-40), 3) := dk_167 255 216 (dk_at dksX4_weighs_3 0 rfl rfl)
theorem dX4_weighs_71 : decode cX4_weighs 71 = .ok (.return_, 1) := dk_177 (dk_at dksX4_weighs_3 3 rfl rfl)
abbrev cX4_passesOn : ByteArray := prog_16_method_18_code
def yX4_passesOn : MethodName := ⟨RX4, "passesOn", "(I)V"⟩
def dkwX4_passesOn_3 : List UInt8 := [167, 0, 4, 3, 96, 96, 79, 132, 4, 1, 167, 255, 200, 177]
abbrev dktX4_passesOn_3 : List UInt8 := dkwX4_passesOn_3 ++ []
def dkwX4_passesOn_2 : List UInt8 := [180, 0, 32, 21, 4, 92, 46, 29, 28, 108, 42, 21, 4, 27, 182, 0, 85, 29, 28, 112, 162, 0, 7, 4]
abbrev dktX4_passesOn_2 : List UInt8 := dkwX4_passesOn_2 ++ dktX4_passesOn_3
def dkwX4_passesOn_1 : List UInt8 := [21, 4, 42, 180, 0, 16, 3, 46, 162, 0, 51, 42, 21, 4, 27, 182, 0, 79, 153, 0, 35, 42]
abbrev dktX4_passesOn_1 : List UInt8 := dkwX4_passesOn_1 ++ dktX4_passesOn_2
def dkwX4_passesOn_0 : List UInt8 := [42, 27, 182, 0, 82, 61, 42, 27, 7, 182, 0, 67, 42, 180, 0, 32, 27, 46, 96, 62, 3, 54, 4]
abbrev dktX4_passesOn_0 : List UInt8 := dkwX4_passesOn_0 ++ dktX4_passesOn_1
theorem dksX4_passesOn_0 : cX4_passesOn.data.toList.drop 0 = dktX4_passesOn_0 := by decide +kernel
theorem dksX4_passesOn_1 : cX4_passesOn.data.toList.drop 23 = dktX4_passesOn_1 := dk_seg dksX4_passesOn_0 23 rfl rfl
theorem dksX4_passesOn_2 : cX4_passesOn.data.toList.drop 45 = dktX4_passesOn_2 := dk_seg dksX4_passesOn_1 22 rfl rfl
theorem dksX4_passesOn_3 : cX4_passesOn.data.toList.drop 69 = dktX4_passesOn_3 := dk_seg dksX4_passesOn_2 24 rfl rfl
theorem dX4_passesOn_0 : decode cX4_passesOn 0 = .ok (.aload_n 0, 1) := dk_42 (dk_at dksX4_passesOn_0 0 rfl rfl)
theorem dX4_passesOn_1 : decode cX4_passesOn 1 = .ok (.iload_n 1, 1) := dk_27 (dk_at dksX4_passesOn_0 1 rfl rfl)
theorem dX4_passesOn_2 : decode cX4_passesOn 2 = .ok (.invokevirtual 82, 3) := dk_182 0 82 (dk_at dksX4_passesOn_0 2 rfl rfl)
theorem dX4_passesOn_5 : decode cX4_passesOn 5 = .ok (.istore_n 2, 1) := dk_61 (dk_at dksX4_passesOn_0 5 rfl rfl)
theorem dX4_passesOn_6 : decode cX4_passesOn 6 = .ok (.aload_n 0, 1) := dk_42 (dk_at dksX4_passesOn_0 6 rfl rfl)
theorem dX4_passesOn_7 : decode cX4_passesOn 7 = .ok (.iload_n 1, 1) := dk_27 (dk_at dksX4_passesOn_0 7 rfl rfl)
theorem dX4_passesOn_8 : decode cX4_passesOn 8 = .ok (.iconst 4, 1) := dk_7 (dk_at dksX4_passesOn_0 8 rfl rfl)
theorem dX4_passesOn_9 : decode cX4_passesOn 9 = .ok (.invokevirtual 67, 3) := dk_182 0 67 (dk_at dksX4_passesOn_0 9 rfl rfl)
theorem dX4_passesOn_12 : decode cX4_passesOn 12 = .ok (.aload_n 0, 1) := dk_42 (dk_at dksX4_passesOn_0 12 rfl rfl)
theorem dX4_passesOn_13 : decode cX4_passesOn 13 = .ok (.getfield 32, 3) := dk_180 0 32 (dk_at dksX4_passesOn_0 13 rfl rfl)
theorem dX4_passesOn_16 : decode cX4_passesOn 16 = .ok (.iload_n 1, 1) := dk_27 (dk_at dksX4_passesOn_0 16 rfl rfl)
theorem dX4_passesOn_17 : decode cX4_passesOn 17 = .ok (.iaload, 1) := dk_46 (dk_at dksX4_passesOn_0 17 rfl rfl)
theorem dX4_passesOn_18 : decode cX4_passesOn 18 = .ok (.iadd, 1) := dk_96 (dk_at dksX4_passesOn_0 18 rfl rfl)
theorem dX4_passesOn_19 : decode cX4_passesOn 19 = .ok (.istore_n 3, 1) := dk_62 (dk_at dksX4_passesOn_0 19 rfl rfl)
theorem dX4_passesOn_20 : decode cX4_passesOn 20 = .ok (.iconst 0, 1) := dk_3 (dk_at dksX4_passesOn_0 20 rfl rfl)
theorem dX4_passesOn_21 : decode cX4_passesOn 21 = .ok (.istore 4, 2) := dk_54 4 (dk_at dksX4_passesOn_0 21 rfl rfl)
theorem dX4_passesOn_23 : decode cX4_passesOn 23 = .ok (.iload 4, 2) := dk_21 4 (dk_at dksX4_passesOn_1 0 rfl rfl)
theorem dX4_passesOn_25 : decode cX4_passesOn 25 = .ok (.aload_n 0, 1) := dk_42 (dk_at dksX4_passesOn_1 2 rfl rfl)
theorem dX4_passesOn_26 : decode cX4_passesOn 26 = .ok (.getfield 16, 3) := dk_180 0 16 (dk_at dksX4_passesOn_1 3 rfl rfl)
theorem dX4_passesOn_29 : decode cX4_passesOn 29 = .ok (.iconst 0, 1) := dk_3 (dk_at dksX4_passesOn_1 6 rfl rfl)
theorem dX4_passesOn_30 : decode cX4_passesOn 30 = .ok (.iaload, 1) := dk_46 (dk_at dksX4_passesOn_1 7 rfl rfl)
theorem dX4_passesOn_31 : decode cX4_passesOn 31 = .ok (.if_icmp .ge 51, 3) := dk_162 0 51 (dk_at dksX4_passesOn_1 8 rfl rfl)
theorem dX4_passesOn_34 : decode cX4_passesOn 34 = .ok (.aload_n 0, 1) := dk_42 (dk_at dksX4_passesOn_1 11 rfl rfl)
theorem dX4_passesOn_35 : decode cX4_passesOn 35 = .ok (.iload 4, 2) := dk_21 4 (dk_at dksX4_passesOn_1 12 rfl rfl)
theorem dX4_passesOn_37 : decode cX4_passesOn 37 = .ok (.iload_n 1, 1) := dk_27 (dk_at dksX4_passesOn_1 14 rfl rfl)
theorem dX4_passesOn_38 : decode cX4_passesOn 38 = .ok (.invokevirtual 79, 3) := dk_182 0 79 (dk_at dksX4_passesOn_1 15 rfl rfl)
theorem dX4_passesOn_41 : decode cX4_passesOn 41 = .ok (.ifCond .eq 35, 3) := dk_153 0 35 (dk_at dksX4_passesOn_1 18 rfl rfl)
theorem dX4_passesOn_44 : decode cX4_passesOn 44 = .ok (.aload_n 0, 1) := dk_42 (dk_at dksX4_passesOn_1 21 rfl rfl)
theorem dX4_passesOn_45 : decode cX4_passesOn 45 = .ok (.getfield 32, 3) := dk_180 0 32 (dk_at dksX4_passesOn_2 0 rfl rfl)
theorem dX4_passesOn_48 : decode cX4_passesOn 48 = .ok (.iload 4, 2) := dk_21 4 (dk_at dksX4_passesOn_2 3 rfl rfl)
theorem dX4_passesOn_50 : decode cX4_passesOn 50 = .ok (.dup2, 1) := dk_92 (dk_at dksX4_passesOn_2 5 rfl rfl)
theorem dX4_passesOn_51 : decode cX4_passesOn 51 = .ok (.iaload, 1) := dk_46 (dk_at dksX4_passesOn_2 6 rfl rfl)
theorem dX4_passesOn_52 : decode cX4_passesOn 52 = .ok (.iload_n 3, 1) := dk_29 (dk_at dksX4_passesOn_2 7 rfl rfl)
theorem dX4_passesOn_53 : decode cX4_passesOn 53 = .ok (.iload_n 2, 1) := dk_28 (dk_at dksX4_passesOn_2 8 rfl rfl)
theorem dX4_passesOn_54 : decode cX4_passesOn 54 = .ok (.idiv, 1) := dk_108 (dk_at dksX4_passesOn_2 9 rfl rfl)
theorem dX4_passesOn_55 : decode cX4_passesOn 55 = .ok (.aload_n 0, 1) := dk_42 (dk_at dksX4_passesOn_2 10 rfl rfl)
theorem dX4_passesOn_56 : decode cX4_passesOn 56 = .ok (.iload 4, 2) := dk_21 4 (dk_at dksX4_passesOn_2 11 rfl rfl)
theorem dX4_passesOn_58 : decode cX4_passesOn 58 = .ok (.iload_n 1, 1) := dk_27 (dk_at dksX4_passesOn_2 13 rfl rfl)
theorem dX4_passesOn_59 : decode cX4_passesOn 59 = .ok (.invokevirtual 85, 3) := dk_182 0 85 (dk_at dksX4_passesOn_2 14 rfl rfl)
theorem dX4_passesOn_62 : decode cX4_passesOn 62 = .ok (.iload_n 3, 1) := dk_29 (dk_at dksX4_passesOn_2 17 rfl rfl)
theorem dX4_passesOn_63 : decode cX4_passesOn 63 = .ok (.iload_n 2, 1) := dk_28 (dk_at dksX4_passesOn_2 18 rfl rfl)
theorem dX4_passesOn_64 : decode cX4_passesOn 64 = .ok (.irem, 1) := dk_112 (dk_at dksX4_passesOn_2 19 rfl rfl)
theorem dX4_passesOn_65 : decode cX4_passesOn 65 = .ok (.if_icmp .ge 7, 3) := dk_162 0 7 (dk_at dksX4_passesOn_2 20 rfl rfl)
theorem dX4_passesOn_68 : decode cX4_passesOn 68 = .ok (.iconst 1, 1) := dk_4 (dk_at dksX4_passesOn_2 23 rfl rfl)
theorem dX4_passesOn_69 : decode cX4_passesOn 69 = .ok (.goto 4, 3) := dk_167 0 4 (dk_at dksX4_passesOn_3 0 rfl rfl)
theorem dX4_passesOn_72 : decode cX4_passesOn 72 = .ok (.iconst 0, 1) := dk_3 (dk_at dksX4_passesOn_3 3 rfl rfl)
theorem dX4_passesOn_73 : decode cX4_passesOn 73 = .ok (.iadd, 1) := dk_96 (dk_at dksX4_passesOn_3 4 rfl rfl)
theorem dX4_passesOn_74 : decode cX4_passesOn 74 = .ok (.iadd, 1) := dk_96 (dk_at dksX4_passesOn_3 5 rfl rfl)
theorem dX4_passesOn_75 : decode cX4_passesOn 75 = .ok (.iastore, 1) := dk_79 (dk_at dksX4_passesOn_3 6 rfl rfl)
theorem dX4_passesOn_76 : decode cX4_passesOn 76 = .ok (.iinc 4 1, 3) := dk_132 4 1 (dk_at dksX4_passesOn_3 7 rfl rfl)
theorem dX4_passesOn_79 : decode cX4_passesOn 79 = .ok (.goto (-56), 3) := dk_167 255 200 (dk_at dksX4_passesOn_3 10 rfl rfl)
theorem dX4_passesOn_82 : decode cX4_passesOn 82 = .ok (.return_, 1) := dk_177 (dk_at dksX4_passesOn_3 13 rfl rfl)
abbrev cX4_supporters : ByteArray := prog_16_method_16_code
def yX4_supporters : MethodName := ⟨RX4, "supporters", "(I)I"⟩
def dkwX4_supporters_1 : List UInt8 := [4, 167, 0, 4, 3, 96, 61, 132, 3, 1, 167, 255, 226, 28, 172]
abbrev dktX4_supporters_1 : List UInt8 := dkwX4_supporters_1 ++ []
def dkwX4_supporters_0 : List UInt8 := [3, 61, 3, 62, 29, 42, 180, 0, 16, 3, 46, 162, 0, 26, 28, 42, 29, 27, 182, 0, 79, 153, 0, 7]
abbrev dktX4_supporters_0 : List UInt8 := dkwX4_supporters_0 ++ dktX4_supporters_1
theorem dksX4_supporters_0 : cX4_supporters.data.toList.drop 0 = dktX4_supporters_0 := by decide +kernel
theorem dksX4_supporters_1 : cX4_supporters.data.toList.drop 24 = dktX4_supporters_1 := dk_seg dksX4_supporters_0 24 rfl rfl
theorem dX4_supporters_0 : decode cX4_supporters 0 = .ok (.iconst 0, 1) := dk_3 (dk_at dksX4_supporters_0 0 rfl rfl)
theorem dX4_supporters_1 : decode cX4_supporters 1 = .ok (.istore_n 2, 1) := dk_61 (dk_at dksX4_supporters_0 1 rfl rfl)
theorem dX4_supporters_2 : decode cX4_supporters 2 = .ok (.iconst 0, 1) := dk_3 (dk_at dksX4_supporters_0 2 rfl rfl)
theorem dX4_supporters_3 : decode cX4_supporters 3 = .ok (.istore_n 3, 1) := dk_62 (dk_at dksX4_supporters_0 3 rfl rfl)
theorem dX4_supporters_4 : decode cX4_supporters 4 = .ok (.iload_n 3, 1) := dk_29 (dk_at dksX4_supporters_0 4 rfl rfl)
theorem dX4_supporters_5 : decode cX4_supporters 5 = .ok (.aload_n 0, 1) := dk_42 (dk_at dksX4_supporters_0 5 rfl rfl)
theorem dX4_supporters_6 : decode cX4_supporters 6 = .ok (.getfield 16, 3) := dk_180 0 16 (dk_at dksX4_supporters_0 6 rfl rfl)
theorem dX4_supporters_9 : decode cX4_supporters 9 = .ok (.iconst 0, 1) := dk_3 (dk_at dksX4_supporters_0 9 rfl rfl)
theorem dX4_supporters_10 : decode cX4_supporters 10 = .ok (.iaload, 1) := dk_46 (dk_at dksX4_supporters_0 10 rfl rfl)
theorem dX4_supporters_11 : decode cX4_supporters 11 = .ok (.if_icmp .ge 26, 3) := dk_162 0 26 (dk_at dksX4_supporters_0 11 rfl rfl)
theorem dX4_supporters_14 : decode cX4_supporters 14 = .ok (.iload_n 2, 1) := dk_28 (dk_at dksX4_supporters_0 14 rfl rfl)
theorem dX4_supporters_15 : decode cX4_supporters 15 = .ok (.aload_n 0, 1) := dk_42 (dk_at dksX4_supporters_0 15 rfl rfl)
theorem dX4_supporters_16 : decode cX4_supporters 16 = .ok (.iload_n 3, 1) := dk_29 (dk_at dksX4_supporters_0 16 rfl rfl)
theorem dX4_supporters_17 : decode cX4_supporters 17 = .ok (.iload_n 1, 1) := dk_27 (dk_at dksX4_supporters_0 17 rfl rfl)
theorem dX4_supporters_18 : decode cX4_supporters 18 = .ok (.invokevirtual 79, 3) := dk_182 0 79 (dk_at dksX4_supporters_0 18 rfl rfl)
theorem dX4_supporters_21 : decode cX4_supporters 21 = .ok (.ifCond .eq 7, 3) := dk_153 0 7 (dk_at dksX4_supporters_0 21 rfl rfl)
theorem dX4_supporters_24 : decode cX4_supporters 24 = .ok (.iconst 1, 1) := dk_4 (dk_at dksX4_supporters_1 0 rfl rfl)
theorem dX4_supporters_25 : decode cX4_supporters 25 = .ok (.goto 4, 3) := dk_167 0 4 (dk_at dksX4_supporters_1 1 rfl rfl)
theorem dX4_supporters_28 : decode cX4_supporters 28 = .ok (.iconst 0, 1) := dk_3 (dk_at dksX4_supporters_1 4 rfl rfl)
theorem dX4_supporters_29 : decode cX4_supporters 29 = .ok (.iadd, 1) := dk_96 (dk_at dksX4_supporters_1 5 rfl rfl)
theorem dX4_supporters_30 : decode cX4_supporters 30 = .ok (.istore_n 2, 1) := dk_61 (dk_at dksX4_supporters_1 6 rfl rfl)
theorem dX4_supporters_31 : decode cX4_supporters 31 = .ok (.iinc 3 1, 3) := dk_132 3 1 (dk_at dksX4_supporters_1 7 rfl rfl)
theorem dX4_supporters_34 : decode cX4_supporters 34 = .ok (.goto (-30), 3) := dk_167 255 226 (dk_at dksX4_supporters_1 10 rfl rfl)
theorem dX4_supporters_37 : decode cX4_supporters 37 = .ok (.iload_n 2, 1) := dk_28 (dk_at dksX4_supporters_1 13 rfl rfl)
theorem dX4_supporters_38 : decode cX4_supporters 38 = .ok (.ireturn, 1) := dk_172 (dk_at dksX4_supporters_1 14 rfl rfl)
abbrev cX4_supports : ByteArray := prog_16_method_15_code
def yX4_supports : MethodName := ⟨RX4, "supports", "(II)Z"⟩
def dkwX4_supports_3 : List UInt8 := [3, 172]
abbrev dktX4_supports_3 : List UInt8 := dkwX4_supports_3 ++ []
def dkwX4_supports_2 : List UInt8 := [3, 62, 29, 153, 0, 21, 42, 27, 182, 0, 75, 42, 28, 8, 182, 0, 67, 160, 0, 7, 4, 167, 0, 4]
abbrev dktX4_supports_2 : List UInt8 := dkwX4_supports_2 ++ dktX4_supports_3
def dkwX4_supports_1 : List UInt8 := [5, 182, 0, 67, 42, 27, 5, 182, 0, 67, 42, 27, 6, 182, 0, 67, 96, 162, 0, 7, 4, 167, 0, 4]
abbrev dktX4_supports_1 : List UInt8 := dkwX4_supports_1 ++ dktX4_supports_2
def dkwX4_supports_0 : List UInt8 := [42, 27, 5, 182, 0, 67, 42, 28, 5, 182, 0, 67, 42, 28, 6, 182, 0, 67, 96, 162, 0, 29, 42, 28]
abbrev dktX4_supports_0 : List UInt8 := dkwX4_supports_0 ++ dktX4_supports_1
theorem dksX4_supports_0 : cX4_supports.data.toList.drop 0 = dktX4_supports_0 := by decide +kernel
theorem dksX4_supports_1 : cX4_supports.data.toList.drop 24 = dktX4_supports_1 := dk_seg dksX4_supports_0 24 rfl rfl
theorem dksX4_supports_2 : cX4_supports.data.toList.drop 48 = dktX4_supports_2 := dk_seg dksX4_supports_1 24 rfl rfl
theorem dksX4_supports_3 : cX4_supports.data.toList.drop 72 = dktX4_supports_3 := dk_seg dksX4_supports_2 24 rfl rfl
theorem dX4_supports_0 : decode cX4_supports 0 = .ok (.aload_n 0, 1) := dk_42 (dk_at dksX4_supports_0 0 rfl rfl)
theorem dX4_supports_1 : decode cX4_supports 1 = .ok (.iload_n 1, 1) := dk_27 (dk_at dksX4_supports_0 1 rfl rfl)
theorem dX4_supports_2 : decode cX4_supports 2 = .ok (.iconst 2, 1) := dk_5 (dk_at dksX4_supports_0 2 rfl rfl)
theorem dX4_supports_3 : decode cX4_supports 3 = .ok (.invokevirtual 67, 3) := dk_182 0 67 (dk_at dksX4_supports_0 3 rfl rfl)
theorem dX4_supports_6 : decode cX4_supports 6 = .ok (.aload_n 0, 1) := dk_42 (dk_at dksX4_supports_0 6 rfl rfl)
theorem dX4_supports_7 : decode cX4_supports 7 = .ok (.iload_n 2, 1) := dk_28 (dk_at dksX4_supports_0 7 rfl rfl)
theorem dX4_supports_8 : decode cX4_supports 8 = .ok (.iconst 2, 1) := dk_5 (dk_at dksX4_supports_0 8 rfl rfl)
theorem dX4_supports_9 : decode cX4_supports 9 = .ok (.invokevirtual 67, 3) := dk_182 0 67 (dk_at dksX4_supports_0 9 rfl rfl)
theorem dX4_supports_12 : decode cX4_supports 12 = .ok (.aload_n 0, 1) := dk_42 (dk_at dksX4_supports_0 12 rfl rfl)
theorem dX4_supports_13 : decode cX4_supports 13 = .ok (.iload_n 2, 1) := dk_28 (dk_at dksX4_supports_0 13 rfl rfl)
theorem dX4_supports_14 : decode cX4_supports 14 = .ok (.iconst 3, 1) := dk_6 (dk_at dksX4_supports_0 14 rfl rfl)
theorem dX4_supports_15 : decode cX4_supports 15 = .ok (.invokevirtual 67, 3) := dk_182 0 67 (dk_at dksX4_supports_0 15 rfl rfl)
theorem dX4_supports_18 : decode cX4_supports 18 = .ok (.iadd, 1) := dk_96 (dk_at dksX4_supports_0 18 rfl rfl)
theorem dX4_supports_19 : decode cX4_supports 19 = .ok (.if_icmp .ge 29, 3) := dk_162 0 29 (dk_at dksX4_supports_0 19 rfl rfl)
theorem dX4_supports_22 : decode cX4_supports 22 = .ok (.aload_n 0, 1) := dk_42 (dk_at dksX4_supports_0 22 rfl rfl)
theorem dX4_supports_23 : decode cX4_supports 23 = .ok (.iload_n 2, 1) := dk_28 (dk_at dksX4_supports_0 23 rfl rfl)
theorem dX4_supports_24 : decode cX4_supports 24 = .ok (.iconst 2, 1) := dk_5 (dk_at dksX4_supports_1 0 rfl rfl)
theorem dX4_supports_25 : decode cX4_supports 25 = .ok (.invokevirtual 67, 3) := dk_182 0 67 (dk_at dksX4_supports_1 1 rfl rfl)
theorem dX4_supports_28 : decode cX4_supports 28 = .ok (.aload_n 0, 1) := dk_42 (dk_at dksX4_supports_1 4 rfl rfl)
theorem dX4_supports_29 : decode cX4_supports 29 = .ok (.iload_n 1, 1) := dk_27 (dk_at dksX4_supports_1 5 rfl rfl)
theorem dX4_supports_30 : decode cX4_supports 30 = .ok (.iconst 2, 1) := dk_5 (dk_at dksX4_supports_1 6 rfl rfl)
theorem dX4_supports_31 : decode cX4_supports 31 = .ok (.invokevirtual 67, 3) := dk_182 0 67 (dk_at dksX4_supports_1 7 rfl rfl)
theorem dX4_supports_34 : decode cX4_supports 34 = .ok (.aload_n 0, 1) := dk_42 (dk_at dksX4_supports_1 10 rfl rfl)
theorem dX4_supports_35 : decode cX4_supports 35 = .ok (.iload_n 1, 1) := dk_27 (dk_at dksX4_supports_1 11 rfl rfl)
theorem dX4_supports_36 : decode cX4_supports 36 = .ok (.iconst 3, 1) := dk_6 (dk_at dksX4_supports_1 12 rfl rfl)
theorem dX4_supports_37 : decode cX4_supports 37 = .ok (.invokevirtual 67, 3) := dk_182 0 67 (dk_at dksX4_supports_1 13 rfl rfl)
theorem dX4_supports_40 : decode cX4_supports 40 = .ok (.iadd, 1) := dk_96 (dk_at dksX4_supports_1 16 rfl rfl)
theorem dX4_supports_41 : decode cX4_supports 41 = .ok (.if_icmp .ge 7, 3) := dk_162 0 7 (dk_at dksX4_supports_1 17 rfl rfl)
theorem dX4_supports_44 : decode cX4_supports 44 = .ok (.iconst 1, 1) := dk_4 (dk_at dksX4_supports_1 20 rfl rfl)
theorem dX4_supports_45 : decode cX4_supports 45 = .ok (.goto 4, 3) := dk_167 0 4 (dk_at dksX4_supports_1 21 rfl rfl)
theorem dX4_supports_48 : decode cX4_supports 48 = .ok (.iconst 0, 1) := dk_3 (dk_at dksX4_supports_2 0 rfl rfl)
theorem dX4_supports_49 : decode cX4_supports 49 = .ok (.istore_n 3, 1) := dk_62 (dk_at dksX4_supports_2 1 rfl rfl)
theorem dX4_supports_50 : decode cX4_supports 50 = .ok (.iload_n 3, 1) := dk_29 (dk_at dksX4_supports_2 2 rfl rfl)
theorem dX4_supports_51 : decode cX4_supports 51 = .ok (.ifCond .eq 21, 3) := dk_153 0 21 (dk_at dksX4_supports_2 3 rfl rfl)
theorem dX4_supports_54 : decode cX4_supports 54 = .ok (.aload_n 0, 1) := dk_42 (dk_at dksX4_supports_2 6 rfl rfl)
theorem dX4_supports_55 : decode cX4_supports 55 = .ok (.iload_n 1, 1) := dk_27 (dk_at dksX4_supports_2 7 rfl rfl)
theorem dX4_supports_56 : decode cX4_supports 56 = .ok (.invokevirtual 75, 3) := dk_182 0 75 (dk_at dksX4_supports_2 8 rfl rfl)
theorem dX4_supports_59 : decode cX4_supports 59 = .ok (.aload_n 0, 1) := dk_42 (dk_at dksX4_supports_2 11 rfl rfl)
theorem dX4_supports_60 : decode cX4_supports 60 = .ok (.iload_n 2, 1) := dk_28 (dk_at dksX4_supports_2 12 rfl rfl)
theorem dX4_supports_61 : decode cX4_supports 61 = .ok (.iconst 5, 1) := dk_8 (dk_at dksX4_supports_2 13 rfl rfl)
theorem dX4_supports_62 : decode cX4_supports 62 = .ok (.invokevirtual 67, 3) := dk_182 0 67 (dk_at dksX4_supports_2 14 rfl rfl)
theorem dX4_supports_65 : decode cX4_supports 65 = .ok (.if_icmp .ne 7, 3) := dk_160 0 7 (dk_at dksX4_supports_2 17 rfl rfl)
theorem dX4_supports_68 : decode cX4_supports 68 = .ok (.iconst 1, 1) := dk_4 (dk_at dksX4_supports_2 20 rfl rfl)
theorem dX4_supports_69 : decode cX4_supports 69 = .ok (.goto 4, 3) := dk_167 0 4 (dk_at dksX4_supports_2 21 rfl rfl)
theorem dX4_supports_72 : decode cX4_supports 72 = .ok (.iconst 0, 1) := dk_3 (dk_at dksX4_supports_3 0 rfl rfl)
theorem dX4_supports_73 : decode cX4_supports 73 = .ok (.ireturn, 1) := dk_172 (dk_at dksX4_supports_3 1 rfl rfl)
abbrev cX4_rank : ByteArray := prog_16_method_17_code
def yX4_rank : MethodName := ⟨RX4, "rank", "(II)I"⟩
def dkwX4_rank_2 : List UInt8 := [96, 62, 132, 4, 1, 167, 255, 208, 29, 172]
abbrev dktX4_rank_2 : List UInt8 := dkwX4_rank_2 ++ []
def dkwX4_rank_1 : List UInt8 := [153, 0, 23, 42, 21, 4, 5, 182, 0, 67, 42, 27, 5, 182, 0, 67, 162, 0, 7, 4, 167, 0, 4, 3]
abbrev dktX4_rank_1 : List UInt8 := dkwX4_rank_1 ++ dktX4_rank_2
def dkwX4_rank_0 : List UInt8 := [3, 62, 3, 54, 4, 21, 4, 42, 180, 0, 16, 3, 46, 162, 0, 43, 29, 42, 21, 4, 28, 182, 0, 79]
abbrev dktX4_rank_0 : List UInt8 := dkwX4_rank_0 ++ dktX4_rank_1
theorem dksX4_rank_0 : cX4_rank.data.toList.drop 0 = dktX4_rank_0 := by decide +kernel
theorem dksX4_rank_1 : cX4_rank.data.toList.drop 24 = dktX4_rank_1 := dk_seg dksX4_rank_0 24 rfl rfl
theorem dksX4_rank_2 : cX4_rank.data.toList.drop 48 = dktX4_rank_2 := dk_seg dksX4_rank_1 24 rfl rfl
theorem dX4_rank_0 : decode cX4_rank 0 = .ok (.iconst 0, 1) := dk_3 (dk_at dksX4_rank_0 0 rfl rfl)
theorem dX4_rank_1 : decode cX4_rank 1 = .ok (.istore_n 3, 1) := dk_62 (dk_at dksX4_rank_0 1 rfl rfl)
theorem dX4_rank_2 : decode cX4_rank 2 = .ok (.iconst 0, 1) := dk_3 (dk_at dksX4_rank_0 2 rfl rfl)
theorem dX4_rank_3 : decode cX4_rank 3 = .ok (.istore 4, 2) := dk_54 4 (dk_at dksX4_rank_0 3 rfl rfl)
theorem dX4_rank_5 : decode cX4_rank 5 = .ok (.iload 4, 2) := dk_21 4 (dk_at dksX4_rank_0 5 rfl rfl)
theorem dX4_rank_7 : decode cX4_rank 7 = .ok (.aload_n 0, 1) := dk_42 (dk_at dksX4_rank_0 7 rfl rfl)
theorem dX4_rank_8 : decode cX4_rank 8 = .ok (.getfield 16, 3) := dk_180 0 16 (dk_at dksX4_rank_0 8 rfl rfl)
theorem dX4_rank_11 : decode cX4_rank 11 = .ok (.iconst 0, 1) := dk_3 (dk_at dksX4_rank_0 11 rfl rfl)
theorem dX4_rank_12 : decode cX4_rank 12 = .ok (.iaload, 1) := dk_46 (dk_at dksX4_rank_0 12 rfl rfl)
theorem dX4_rank_13 : decode cX4_rank 13 = .ok (.if_icmp .ge 43, 3) := dk_162 0 43 (dk_at dksX4_rank_0 13 rfl rfl)
theorem dX4_rank_16 : decode cX4_rank 16 = .ok (.iload_n 3, 1) := dk_29 (dk_at dksX4_rank_0 16 rfl rfl)
theorem dX4_rank_17 : decode cX4_rank 17 = .ok (.aload_n 0, 1) := dk_42 (dk_at dksX4_rank_0 17 rfl rfl)
theorem dX4_rank_18 : decode cX4_rank 18 = .ok (.iload 4, 2) := dk_21 4 (dk_at dksX4_rank_0 18 rfl rfl)
theorem dX4_rank_20 : decode cX4_rank 20 = .ok (.iload_n 2, 1) := dk_28 (dk_at dksX4_rank_0 20 rfl rfl)
theorem dX4_rank_21 : decode cX4_rank 21 = .ok (.invokevirtual 79, 3) := dk_182 0 79 (dk_at dksX4_rank_0 21 rfl rfl)
theorem dX4_rank_24 : decode cX4_rank 24 = .ok (.ifCond .eq 23, 3) := dk_153 0 23 (dk_at dksX4_rank_1 0 rfl rfl)
theorem dX4_rank_27 : decode cX4_rank 27 = .ok (.aload_n 0, 1) := dk_42 (dk_at dksX4_rank_1 3 rfl rfl)
theorem dX4_rank_28 : decode cX4_rank 28 = .ok (.iload 4, 2) := dk_21 4 (dk_at dksX4_rank_1 4 rfl rfl)
theorem dX4_rank_30 : decode cX4_rank 30 = .ok (.iconst 2, 1) := dk_5 (dk_at dksX4_rank_1 6 rfl rfl)
theorem dX4_rank_31 : decode cX4_rank 31 = .ok (.invokevirtual 67, 3) := dk_182 0 67 (dk_at dksX4_rank_1 7 rfl rfl)
theorem dX4_rank_34 : decode cX4_rank 34 = .ok (.aload_n 0, 1) := dk_42 (dk_at dksX4_rank_1 10 rfl rfl)
theorem dX4_rank_35 : decode cX4_rank 35 = .ok (.iload_n 1, 1) := dk_27 (dk_at dksX4_rank_1 11 rfl rfl)
theorem dX4_rank_36 : decode cX4_rank 36 = .ok (.iconst 2, 1) := dk_5 (dk_at dksX4_rank_1 12 rfl rfl)
theorem dX4_rank_37 : decode cX4_rank 37 = .ok (.invokevirtual 67, 3) := dk_182 0 67 (dk_at dksX4_rank_1 13 rfl rfl)
theorem dX4_rank_40 : decode cX4_rank 40 = .ok (.if_icmp .ge 7, 3) := dk_162 0 7 (dk_at dksX4_rank_1 16 rfl rfl)
theorem dX4_rank_43 : decode cX4_rank 43 = .ok (.iconst 1, 1) := dk_4 (dk_at dksX4_rank_1 19 rfl rfl)
theorem dX4_rank_44 : decode cX4_rank 44 = .ok (.goto 4, 3) := dk_167 0 4 (dk_at dksX4_rank_1 20 rfl rfl)
theorem dX4_rank_47 : decode cX4_rank 47 = .ok (.iconst 0, 1) := dk_3 (dk_at dksX4_rank_1 23 rfl rfl)
theorem dX4_rank_48 : decode cX4_rank 48 = .ok (.iadd, 1) := dk_96 (dk_at dksX4_rank_2 0 rfl rfl)
theorem dX4_rank_49 : decode cX4_rank 49 = .ok (.istore_n 3, 1) := dk_62 (dk_at dksX4_rank_2 1 rfl rfl)
theorem dX4_rank_50 : decode cX4_rank 50 = .ok (.iinc 4 1, 3) := dk_132 4 1 (dk_at dksX4_rank_2 2 rfl rfl)
theorem dX4_rank_53 : decode cX4_rank 53 = .ok (.goto (-48), 3) := dk_167 255 208 (dk_at dksX4_rank_2 5 rfl rfl)
theorem dX4_rank_56 : decode cX4_rank 56 = .ok (.iload_n 3, 1) := dk_29 (dk_at dksX4_rank_2 8 rfl rfl)
theorem dX4_rank_57 : decode cX4_rank 57 = .ok (.ireturn, 1) := dk_172 (dk_at dksX4_rank_2 9 rfl rfl)
abbrev cX4_strong : ByteArray := prog_16_method_13_code
def yX4_strong : MethodName := ⟨RX4, "strong", "(I)I"⟩
def dkwX4_strong_2 : List UInt8 := [182, 0, 67, 16, 8, 96, 172]
abbrev dktX4_strong_2 : List UInt8 := dkwX4_strong_2 ++ []
def dkwX4_strong_1 : List UInt8 := [182, 0, 67, 4, 160, 0, 15, 16, 12, 42, 27, 6, 182, 0, 67, 104, 167, 0, 12, 42, 27, 7]
abbrev dktX4_strong_1 : List UInt8 := dkwX4_strong_1 ++ dktX4_strong_2
def dkwX4_strong_0 : List UInt8 := [42, 27, 4, 182, 0, 67, 154, 0, 15, 16, 6, 42, 27, 6, 182, 0, 67, 104, 167, 0, 34, 42, 27, 4]
abbrev dktX4_strong_0 : List UInt8 := dkwX4_strong_0 ++ dktX4_strong_1
theorem dksX4_strong_0 : cX4_strong.data.toList.drop 0 = dktX4_strong_0 := by decide +kernel
theorem dksX4_strong_1 : cX4_strong.data.toList.drop 24 = dktX4_strong_1 := dk_seg dksX4_strong_0 24 rfl rfl
theorem dksX4_strong_2 : cX4_strong.data.toList.drop 46 = dktX4_strong_2 := dk_seg dksX4_strong_1 22 rfl rfl
theorem dX4_strong_0 : decode cX4_strong 0 = .ok (.aload_n 0, 1) := dk_42 (dk_at dksX4_strong_0 0 rfl rfl)
theorem dX4_strong_1 : decode cX4_strong 1 = .ok (.iload_n 1, 1) := dk_27 (dk_at dksX4_strong_0 1 rfl rfl)
theorem dX4_strong_2 : decode cX4_strong 2 = .ok (.iconst 1, 1) := dk_4 (dk_at dksX4_strong_0 2 rfl rfl)
theorem dX4_strong_3 : decode cX4_strong 3 = .ok (.invokevirtual 67, 3) := dk_182 0 67 (dk_at dksX4_strong_0 3 rfl rfl)
theorem dX4_strong_6 : decode cX4_strong 6 = .ok (.ifCond .ne 15, 3) := dk_154 0 15 (dk_at dksX4_strong_0 6 rfl rfl)
theorem dX4_strong_9 : decode cX4_strong 9 = .ok (.bipush 6, 2) := dk_16 6 (dk_at dksX4_strong_0 9 rfl rfl)
theorem dX4_strong_11 : decode cX4_strong 11 = .ok (.aload_n 0, 1) := dk_42 (dk_at dksX4_strong_0 11 rfl rfl)
theorem dX4_strong_12 : decode cX4_strong 12 = .ok (.iload_n 1, 1) := dk_27 (dk_at dksX4_strong_0 12 rfl rfl)
theorem dX4_strong_13 : decode cX4_strong 13 = .ok (.iconst 3, 1) := dk_6 (dk_at dksX4_strong_0 13 rfl rfl)
theorem dX4_strong_14 : decode cX4_strong 14 = .ok (.invokevirtual 67, 3) := dk_182 0 67 (dk_at dksX4_strong_0 14 rfl rfl)
theorem dX4_strong_17 : decode cX4_strong 17 = .ok (.imul, 1) := dk_104 (dk_at dksX4_strong_0 17 rfl rfl)
theorem dX4_strong_18 : decode cX4_strong 18 = .ok (.goto 34, 3) := dk_167 0 34 (dk_at dksX4_strong_0 18 rfl rfl)
theorem dX4_strong_21 : decode cX4_strong 21 = .ok (.aload_n 0, 1) := dk_42 (dk_at dksX4_strong_0 21 rfl rfl)
theorem dX4_strong_22 : decode cX4_strong 22 = .ok (.iload_n 1, 1) := dk_27 (dk_at dksX4_strong_0 22 rfl rfl)
theorem dX4_strong_23 : decode cX4_strong 23 = .ok (.iconst 1, 1) := dk_4 (dk_at dksX4_strong_0 23 rfl rfl)
theorem dX4_strong_24 : decode cX4_strong 24 = .ok (.invokevirtual 67, 3) := dk_182 0 67 (dk_at dksX4_strong_1 0 rfl rfl)
theorem dX4_strong_27 : decode cX4_strong 27 = .ok (.iconst 1, 1) := dk_4 (dk_at dksX4_strong_1 3 rfl rfl)
theorem dX4_strong_28 : decode cX4_strong 28 = .ok (.if_icmp .ne 15, 3) := dk_160 0 15 (dk_at dksX4_strong_1 4 rfl rfl)
theorem dX4_strong_31 : decode cX4_strong 31 = .ok (.bipush 12, 2) := dk_16 12 (dk_at dksX4_strong_1 7 rfl rfl)
theorem dX4_strong_33 : decode cX4_strong 33 = .ok (.aload_n 0, 1) := dk_42 (dk_at dksX4_strong_1 9 rfl rfl)
theorem dX4_strong_34 : decode cX4_strong 34 = .ok (.iload_n 1, 1) := dk_27 (dk_at dksX4_strong_1 10 rfl rfl)
theorem dX4_strong_35 : decode cX4_strong 35 = .ok (.iconst 3, 1) := dk_6 (dk_at dksX4_strong_1 11 rfl rfl)
theorem dX4_strong_36 : decode cX4_strong 36 = .ok (.invokevirtual 67, 3) := dk_182 0 67 (dk_at dksX4_strong_1 12 rfl rfl)
theorem dX4_strong_39 : decode cX4_strong 39 = .ok (.imul, 1) := dk_104 (dk_at dksX4_strong_1 15 rfl rfl)
theorem dX4_strong_40 : decode cX4_strong 40 = .ok (.goto 12, 3) := dk_167 0 12 (dk_at dksX4_strong_1 16 rfl rfl)
theorem dX4_strong_43 : decode cX4_strong 43 = .ok (.aload_n 0, 1) := dk_42 (dk_at dksX4_strong_1 19 rfl rfl)
theorem dX4_strong_44 : decode cX4_strong 44 = .ok (.iload_n 1, 1) := dk_27 (dk_at dksX4_strong_1 20 rfl rfl)
theorem dX4_strong_45 : decode cX4_strong 45 = .ok (.iconst 4, 1) := dk_7 (dk_at dksX4_strong_1 21 rfl rfl)
theorem dX4_strong_46 : decode cX4_strong 46 = .ok (.invokevirtual 67, 3) := dk_182 0 67 (dk_at dksX4_strong_2 0 rfl rfl)
theorem dX4_strong_49 : decode cX4_strong 49 = .ok (.bipush 8, 2) := dk_16 8 (dk_at dksX4_strong_2 3 rfl rfl)
theorem dX4_strong_51 : decode cX4_strong 51 = .ok (.iadd, 1) := dk_96 (dk_at dksX4_strong_2 5 rfl rfl)
theorem dX4_strong_52 : decode cX4_strong 52 = .ok (.ireturn, 1) := dk_172 (dk_at dksX4_strong_2 6 rfl rfl)
abbrev cX4_ends : ByteArray := prog_16_method_7_code
def yX4_ends : MethodName := ⟨RX4, "ends", "(I)I"⟩
def dkwX4_ends_4 : List UInt8 := [180, 0, 20, 28, 46, 79, 132, 2, 1, 167, 255, 225, 42, 89, 180, 0, 60, 4, 96, 181, 0, 60, 27, 172]
abbrev dktX4_ends_4 : List UInt8 := dkwX4_ends_4 ++ []
def dkwX4_ends_3 : List UInt8 := [28, 17, 0, 170, 162, 0, 30, 42, 180, 0, 29, 42, 180, 0, 60, 17, 0, 170, 104, 28, 96, 42]
abbrev dktX4_ends_3 : List UInt8 := dkwX4_ends_3 ++ dktX4_ends_4
def dkwX4_ends_2 : List UInt8 := [17, 0, 170, 96, 46, 79, 132, 2, 1, 167, 255, 230, 42, 89, 180, 0, 60, 4, 100, 181, 0, 60, 3, 61]
abbrev dktX4_ends_2 : List UInt8 := dkwX4_ends_2 ++ dktX4_ends_3
def dkwX4_ends_1 : List UInt8 := [16, 8, 160, 0, 44, 3, 61, 28, 17, 4, 166, 162, 0, 25, 42, 180, 0, 29, 28, 42, 180, 0, 29, 28]
abbrev dktX4_ends_1 : List UInt8 := dkwX4_ends_1 ++ dktX4_ends_2
def dkwX4_ends_0 : List UInt8 := [42, 180, 0, 53, 153, 0, 16, 42, 180, 0, 16, 42, 180, 0, 20, 184, 0, 56, 3, 172, 42, 180, 0, 60]
abbrev dktX4_ends_0 : List UInt8 := dkwX4_ends_0 ++ dktX4_ends_1
theorem dksX4_ends_0 : cX4_ends.data.toList.drop 0 = dktX4_ends_0 := by decide +kernel
theorem dksX4_ends_1 : cX4_ends.data.toList.drop 24 = dktX4_ends_1 := dk_seg dksX4_ends_0 24 rfl rfl
theorem dksX4_ends_2 : cX4_ends.data.toList.drop 48 = dktX4_ends_2 := dk_seg dksX4_ends_1 24 rfl rfl
theorem dksX4_ends_3 : cX4_ends.data.toList.drop 72 = dktX4_ends_3 := dk_seg dksX4_ends_2 24 rfl rfl
theorem dksX4_ends_4 : cX4_ends.data.toList.drop 94 = dktX4_ends_4 := dk_seg dksX4_ends_3 22 rfl rfl
theorem dX4_ends_0 : decode cX4_ends 0 = .ok (.aload_n 0, 1) := dk_42 (dk_at dksX4_ends_0 0 rfl rfl)
theorem dX4_ends_1 : decode cX4_ends 1 = .ok (.getfield 53, 3) := dk_180 0 53 (dk_at dksX4_ends_0 1 rfl rfl)
theorem dX4_ends_4 : decode cX4_ends 4 = .ok (.ifCond .eq 16, 3) := dk_153 0 16 (dk_at dksX4_ends_0 4 rfl rfl)
theorem dX4_ends_7 : decode cX4_ends 7 = .ok (.aload_n 0, 1) := dk_42 (dk_at dksX4_ends_0 7 rfl rfl)
theorem dX4_ends_8 : decode cX4_ends 8 = .ok (.getfield 16, 3) := dk_180 0 16 (dk_at dksX4_ends_0 8 rfl rfl)
theorem dX4_ends_11 : decode cX4_ends 11 = .ok (.aload_n 0, 1) := dk_42 (dk_at dksX4_ends_0 11 rfl rfl)
theorem dX4_ends_12 : decode cX4_ends 12 = .ok (.getfield 20, 3) := dk_180 0 20 (dk_at dksX4_ends_0 12 rfl rfl)
theorem dX4_ends_15 : decode cX4_ends 15 = .ok (.invokestatic 56, 3) := dk_184 0 56 (dk_at dksX4_ends_0 15 rfl rfl)
theorem dX4_ends_18 : decode cX4_ends 18 = .ok (.iconst 0, 1) := dk_3 (dk_at dksX4_ends_0 18 rfl rfl)
theorem dX4_ends_19 : decode cX4_ends 19 = .ok (.ireturn, 1) := dk_172 (dk_at dksX4_ends_0 19 rfl rfl)
theorem dX4_ends_20 : decode cX4_ends 20 = .ok (.aload_n 0, 1) := dk_42 (dk_at dksX4_ends_0 20 rfl rfl)
theorem dX4_ends_21 : decode cX4_ends 21 = .ok (.getfield 60, 3) := dk_180 0 60 (dk_at dksX4_ends_0 21 rfl rfl)
theorem dX4_ends_24 : decode cX4_ends 24 = .ok (.bipush 8, 2) := dk_16 8 (dk_at dksX4_ends_1 0 rfl rfl)
theorem dX4_ends_26 : decode cX4_ends 26 = .ok (.if_icmp .ne 44, 3) := dk_160 0 44 (dk_at dksX4_ends_1 2 rfl rfl)
theorem dX4_ends_29 : decode cX4_ends 29 = .ok (.iconst 0, 1) := dk_3 (dk_at dksX4_ends_1 5 rfl rfl)
theorem dX4_ends_30 : decode cX4_ends 30 = .ok (.istore_n 2, 1) := dk_61 (dk_at dksX4_ends_1 6 rfl rfl)
theorem dX4_ends_31 : decode cX4_ends 31 = .ok (.iload_n 2, 1) := dk_28 (dk_at dksX4_ends_1 7 rfl rfl)
theorem dX4_ends_32 : decode cX4_ends 32 = .ok (.sipush 1190, 3) := dk_17 4 166 (dk_at dksX4_ends_1 8 rfl rfl)
theorem dX4_ends_35 : decode cX4_ends 35 = .ok (.if_icmp .ge 25, 3) := dk_162 0 25 (dk_at dksX4_ends_1 11 rfl rfl)
theorem dX4_ends_38 : decode cX4_ends 38 = .ok (.aload_n 0, 1) := dk_42 (dk_at dksX4_ends_1 14 rfl rfl)
theorem dX4_ends_39 : decode cX4_ends 39 = .ok (.getfield 29, 3) := dk_180 0 29 (dk_at dksX4_ends_1 15 rfl rfl)
theorem dX4_ends_42 : decode cX4_ends 42 = .ok (.iload_n 2, 1) := dk_28 (dk_at dksX4_ends_1 18 rfl rfl)
theorem dX4_ends_43 : decode cX4_ends 43 = .ok (.aload_n 0, 1) := dk_42 (dk_at dksX4_ends_1 19 rfl rfl)
theorem dX4_ends_44 : decode cX4_ends 44 = .ok (.getfield 29, 3) := dk_180 0 29 (dk_at dksX4_ends_1 20 rfl rfl)
theorem dX4_ends_47 : decode cX4_ends 47 = .ok (.iload_n 2, 1) := dk_28 (dk_at dksX4_ends_1 23 rfl rfl)
theorem dX4_ends_48 : decode cX4_ends 48 = .ok (.sipush 170, 3) := dk_17 0 170 (dk_at dksX4_ends_2 0 rfl rfl)
theorem dX4_ends_51 : decode cX4_ends 51 = .ok (.iadd, 1) := dk_96 (dk_at dksX4_ends_2 3 rfl rfl)
theorem dX4_ends_52 : decode cX4_ends 52 = .ok (.iaload, 1) := dk_46 (dk_at dksX4_ends_2 4 rfl rfl)
theorem dX4_ends_53 : decode cX4_ends 53 = .ok (.iastore, 1) := dk_79 (dk_at dksX4_ends_2 5 rfl rfl)
theorem dX4_ends_54 : decode cX4_ends 54 = .ok (.iinc 2 1, 3) := dk_132 2 1 (dk_at dksX4_ends_2 6 rfl rfl)
theorem dX4_ends_57 : decode cX4_ends 57 = .ok (.goto (-26), 3) := dk_167 255 230 (dk_at dksX4_ends_2 9 rfl rfl)
theorem dX4_ends_60 : decode cX4_ends 60 = .ok (.aload_n 0, 1) := dk_42 (dk_at dksX4_ends_2 12 rfl rfl)
theorem dX4_ends_61 : decode cX4_ends 61 = .ok (.dup, 1) := dk_89 (dk_at dksX4_ends_2 13 rfl rfl)
theorem dX4_ends_62 : decode cX4_ends 62 = .ok (.getfield 60, 3) := dk_180 0 60 (dk_at dksX4_ends_2 14 rfl rfl)
theorem dX4_ends_65 : decode cX4_ends 65 = .ok (.iconst 1, 1) := dk_4 (dk_at dksX4_ends_2 17 rfl rfl)
theorem dX4_ends_66 : decode cX4_ends 66 = .ok (.isub, 1) := dk_100 (dk_at dksX4_ends_2 18 rfl rfl)
theorem dX4_ends_67 : decode cX4_ends 67 = .ok (.putfield 60, 3) := dk_181 0 60 (dk_at dksX4_ends_2 19 rfl rfl)
theorem dX4_ends_70 : decode cX4_ends 70 = .ok (.iconst 0, 1) := dk_3 (dk_at dksX4_ends_2 22 rfl rfl)
theorem dX4_ends_71 : decode cX4_ends 71 = .ok (.istore_n 2, 1) := dk_61 (dk_at dksX4_ends_2 23 rfl rfl)
theorem dX4_ends_72 : decode cX4_ends 72 = .ok (.iload_n 2, 1) := dk_28 (dk_at dksX4_ends_3 0 rfl rfl)
theorem dX4_ends_73 : decode cX4_ends 73 = .ok (.sipush 170, 3) := dk_17 0 170 (dk_at dksX4_ends_3 1 rfl rfl)
theorem dX4_ends_76 : decode cX4_ends 76 = .ok (.if_icmp .ge 30, 3) := dk_162 0 30 (dk_at dksX4_ends_3 4 rfl rfl)
theorem dX4_ends_79 : decode cX4_ends 79 = .ok (.aload_n 0, 1) := dk_42 (dk_at dksX4_ends_3 7 rfl rfl)
theorem dX4_ends_80 : decode cX4_ends 80 = .ok (.getfield 29, 3) := dk_180 0 29 (dk_at dksX4_ends_3 8 rfl rfl)
theorem dX4_ends_83 : decode cX4_ends 83 = .ok (.aload_n 0, 1) := dk_42 (dk_at dksX4_ends_3 11 rfl rfl)
theorem dX4_ends_84 : decode cX4_ends 84 = .ok (.getfield 60, 3) := dk_180 0 60 (dk_at dksX4_ends_3 12 rfl rfl)
theorem dX4_ends_87 : decode cX4_ends 87 = .ok (.sipush 170, 3) := dk_17 0 170 (dk_at dksX4_ends_3 15 rfl rfl)
theorem dX4_ends_90 : decode cX4_ends 90 = .ok (.imul, 1) := dk_104 (dk_at dksX4_ends_3 18 rfl rfl)
theorem dX4_ends_91 : decode cX4_ends 91 = .ok (.iload_n 2, 1) := dk_28 (dk_at dksX4_ends_3 19 rfl rfl)
theorem dX4_ends_92 : decode cX4_ends 92 = .ok (.iadd, 1) := dk_96 (dk_at dksX4_ends_3 20 rfl rfl)
theorem dX4_ends_93 : decode cX4_ends 93 = .ok (.aload_n 0, 1) := dk_42 (dk_at dksX4_ends_3 21 rfl rfl)
theorem dX4_ends_94 : decode cX4_ends 94 = .ok (.getfield 20, 3) := dk_180 0 20 (dk_at dksX4_ends_4 0 rfl rfl)
theorem dX4_ends_97 : decode cX4_ends 97 = .ok (.iload_n 2, 1) := dk_28 (dk_at dksX4_ends_4 3 rfl rfl)
theorem dX4_ends_98 : decode cX4_ends 98 = .ok (.iaload, 1) := dk_46 (dk_at dksX4_ends_4 4 rfl rfl)
theorem dX4_ends_99 : decode cX4_ends 99 = .ok (.iastore, 1) := dk_79 (dk_at dksX4_ends_4 5 rfl rfl)
theorem dX4_ends_100 : decode cX4_ends 100 = .ok (.iinc 2 1, 3) := dk_132 2 1 (dk_at dksX4_ends_4 6 rfl rfl)
theorem dX4_ends_103 : decode cX4_ends 103 = .ok (.goto (-31), 3) := dk_167 255 225 (dk_at dksX4_ends_4 9 rfl rfl)
theorem dX4_ends_106 : decode cX4_ends 106 = .ok (.aload_n 0, 1) := dk_42 (dk_at dksX4_ends_4 12 rfl rfl)
theorem dX4_ends_107 : decode cX4_ends 107 = .ok (.dup, 1) := dk_89 (dk_at dksX4_ends_4 13 rfl rfl)
theorem dX4_ends_108 : decode cX4_ends 108 = .ok (.getfield 60, 3) := dk_180 0 60 (dk_at dksX4_ends_4 14 rfl rfl)
theorem dX4_ends_111 : decode cX4_ends 111 = .ok (.iconst 1, 1) := dk_4 (dk_at dksX4_ends_4 17 rfl rfl)
theorem dX4_ends_112 : decode cX4_ends 112 = .ok (.iadd, 1) := dk_96 (dk_at dksX4_ends_4 18 rfl rfl)
theorem dX4_ends_113 : decode cX4_ends 113 = .ok (.putfield 60, 3) := dk_181 0 60 (dk_at dksX4_ends_4 19 rfl rfl)
theorem dX4_ends_116 : decode cX4_ends 116 = .ok (.iload_n 1, 1) := dk_27 (dk_at dksX4_ends_4 22 rfl rfl)
theorem dX4_ends_117 : decode cX4_ends 117 = .ok (.ireturn, 1) := dk_172 (dk_at dksX4_ends_4 23 rfl rfl)
abbrev cX4_placeBoard : ByteArray := prog_16_method_25_code
def yX4_placeBoard : MethodName := ⟨RX4, "placeBoard", "(III)I"⟩
def dkwX4_placeBoard_0 : List UInt8 := [42, 182, 0, 118, 42, 42, 4, 27, 28, 29, 182, 0, 121, 182, 0, 125, 172]
abbrev dktX4_placeBoard_0 : List UInt8 := dkwX4_placeBoard_0 ++ []
theorem dksX4_placeBoard_0 : cX4_placeBoard.data.toList.drop 0 = dktX4_placeBoard_0 := by decide +kernel
theorem dX4_placeBoard_0 : decode cX4_placeBoard 0 = .ok (.aload_n 0, 1) := dk_42 (dk_at dksX4_placeBoard_0 0 rfl rfl)
theorem dX4_placeBoard_1 : decode cX4_placeBoard 1 = .ok (.invokevirtual 118, 3) := dk_182 0 118 (dk_at dksX4_placeBoard_0 1 rfl rfl)
theorem dX4_placeBoard_4 : decode cX4_placeBoard 4 = .ok (.aload_n 0, 1) := dk_42 (dk_at dksX4_placeBoard_0 4 rfl rfl)
theorem dX4_placeBoard_5 : decode cX4_placeBoard 5 = .ok (.aload_n 0, 1) := dk_42 (dk_at dksX4_placeBoard_0 5 rfl rfl)
theorem dX4_placeBoard_6 : decode cX4_placeBoard 6 = .ok (.iconst 1, 1) := dk_4 (dk_at dksX4_placeBoard_0 6 rfl rfl)
theorem dX4_placeBoard_7 : decode cX4_placeBoard 7 = .ok (.iload_n 1, 1) := dk_27 (dk_at dksX4_placeBoard_0 7 rfl rfl)
theorem dX4_placeBoard_8 : decode cX4_placeBoard 8 = .ok (.iload_n 2, 1) := dk_28 (dk_at dksX4_placeBoard_0 8 rfl rfl)
theorem dX4_placeBoard_9 : decode cX4_placeBoard 9 = .ok (.iload_n 3, 1) := dk_29 (dk_at dksX4_placeBoard_0 9 rfl rfl)
theorem dX4_placeBoard_10 : decode cX4_placeBoard 10 = .ok (.invokevirtual 121, 3) := dk_182 0 121 (dk_at dksX4_placeBoard_0 10 rfl rfl)
theorem dX4_placeBoard_13 : decode cX4_placeBoard 13 = .ok (.invokevirtual 125, 3) := dk_182 0 125 (dk_at dksX4_placeBoard_0 13 rfl rfl)
theorem dX4_placeBoard_16 : decode cX4_placeBoard 16 = .ok (.ireturn, 1) := dk_172 (dk_at dksX4_placeBoard_0 16 rfl rfl)
abbrev cX4_placeBag : ByteArray := prog_16_method_26_code
def yX4_placeBag : MethodName := ⟨RX4, "placeBag", "(III)I"⟩
def dkwX4_placeBag_0 : List UInt8 := [42, 182, 0, 118, 42, 42, 5, 27, 28, 29, 182, 0, 121, 182, 0, 125, 172]
abbrev dktX4_placeBag_0 : List UInt8 := dkwX4_placeBag_0 ++ []
theorem dksX4_placeBag_0 : cX4_placeBag.data.toList.drop 0 = dktX4_placeBag_0 := by decide +kernel
theorem dX4_placeBag_0 : decode cX4_placeBag 0 = .ok (.aload_n 0, 1) := dk_42 (dk_at dksX4_placeBag_0 0 rfl rfl)
theorem dX4_placeBag_1 : decode cX4_placeBag 1 = .ok (.invokevirtual 118, 3) := dk_182 0 118 (dk_at dksX4_placeBag_0 1 rfl rfl)
theorem dX4_placeBag_4 : decode cX4_placeBag 4 = .ok (.aload_n 0, 1) := dk_42 (dk_at dksX4_placeBag_0 4 rfl rfl)
theorem dX4_placeBag_5 : decode cX4_placeBag 5 = .ok (.aload_n 0, 1) := dk_42 (dk_at dksX4_placeBag_0 5 rfl rfl)
theorem dX4_placeBag_6 : decode cX4_placeBag 6 = .ok (.iconst 2, 1) := dk_5 (dk_at dksX4_placeBag_0 6 rfl rfl)
theorem dX4_placeBag_7 : decode cX4_placeBag 7 = .ok (.iload_n 1, 1) := dk_27 (dk_at dksX4_placeBag_0 7 rfl rfl)
theorem dX4_placeBag_8 : decode cX4_placeBag 8 = .ok (.iload_n 2, 1) := dk_28 (dk_at dksX4_placeBag_0 8 rfl rfl)
theorem dX4_placeBag_9 : decode cX4_placeBag 9 = .ok (.iload_n 3, 1) := dk_29 (dk_at dksX4_placeBag_0 9 rfl rfl)
theorem dX4_placeBag_10 : decode cX4_placeBag 10 = .ok (.invokevirtual 121, 3) := dk_182 0 121 (dk_at dksX4_placeBag_0 10 rfl rfl)
theorem dX4_placeBag_13 : decode cX4_placeBag 13 = .ok (.invokevirtual 125, 3) := dk_182 0 125 (dk_at dksX4_placeBag_0 13 rfl rfl)
theorem dX4_placeBag_16 : decode cX4_placeBag 16 = .ok (.ireturn, 1) := dk_172 (dk_at dksX4_placeBag_0 16 rfl rfl)
abbrev cX4_remove : ByteArray := prog_16_method_29_code
def yX4_remove : MethodName := ⟨RX4, "remove", "(I)I"⟩
def dkwX4_remove_0 : List UInt8 := [42, 182, 0, 118, 42, 42, 27, 182, 0, 134, 182, 0, 125, 172]
abbrev dktX4_remove_0 : List UInt8 := dkwX4_remove_0 ++ []
theorem dksX4_remove_0 : cX4_remove.data.toList.drop 0 = dktX4_remove_0 := by decide +kernel
theorem dX4_remove_0 : decode cX4_remove 0 = .ok (.aload_n 0, 1) := dk_42 (dk_at dksX4_remove_0 0 rfl rfl)
theorem dX4_remove_1 : decode cX4_remove 1 = .ok (.invokevirtual 118, 3) := dk_182 0 118 (dk_at dksX4_remove_0 1 rfl rfl)
theorem dX4_remove_4 : decode cX4_remove 4 = .ok (.aload_n 0, 1) := dk_42 (dk_at dksX4_remove_0 4 rfl rfl)
theorem dX4_remove_5 : decode cX4_remove 5 = .ok (.aload_n 0, 1) := dk_42 (dk_at dksX4_remove_0 5 rfl rfl)
theorem dX4_remove_6 : decode cX4_remove 6 = .ok (.iload_n 1, 1) := dk_27 (dk_at dksX4_remove_0 6 rfl rfl)
theorem dX4_remove_7 : decode cX4_remove 7 = .ok (.invokevirtual 134, 3) := dk_182 0 134 (dk_at dksX4_remove_0 7 rfl rfl)
theorem dX4_remove_10 : decode cX4_remove 10 = .ok (.invokevirtual 125, 3) := dk_182 0 125 (dk_at dksX4_remove_0 10 rfl rfl)
theorem dX4_remove_13 : decode cX4_remove 13 = .ok (.ireturn, 1) := dk_172 (dk_at dksX4_remove_0 13 rfl rfl)
abbrev cX4_takes : ByteArray := prog_16_method_28_code
def yX4_takes : MethodName := ⟨RX4, "takes", "(I)I"⟩
def dkwX4_takes_3 : List UInt8 := [79, 132, 3, 1, 167, 255, 217, 42, 180, 0, 16, 3, 92, 46, 4, 100, 79, 42, 180, 0, 16, 3, 46, 172]
abbrev dktX4_takes_3 : List UInt8 := dkwX4_takes_3 ++ []
def dkwX4_takes_2 : List UInt8 := [29, 29, 16, 6, 96, 17, 0, 170, 162, 0, 15, 42, 180, 0, 16, 29, 16, 6, 96, 46, 167, 0, 4, 3]
abbrev dktX4_takes_2 : List UInt8 := dkwX4_takes_2 ++ dktX4_takes_3
def dkwX4_takes_1 : List UInt8 := [5, 182, 0, 105, 172, 16, 26, 16, 6, 28, 104, 96, 62, 29, 17, 0, 170, 162, 0, 38, 42, 180, 0, 16]
abbrev dktX4_takes_1 : List UInt8 := dkwX4_takes_1 ++ dktX4_takes_2
def dkwX4_takes_0 : List UInt8 := [42, 27, 182, 0, 128, 61, 42, 180, 0, 53, 153, 0, 5, 3, 172, 42, 28, 182, 0, 131, 153, 0, 9, 42]
abbrev dktX4_takes_0 : List UInt8 := dkwX4_takes_0 ++ dktX4_takes_1
theorem dksX4_takes_0 : cX4_takes.data.toList.drop 0 = dktX4_takes_0 := by decide +kernel
theorem dksX4_takes_1 : cX4_takes.data.toList.drop 24 = dktX4_takes_1 := dk_seg dksX4_takes_0 24 rfl rfl
theorem dksX4_takes_2 : cX4_takes.data.toList.drop 48 = dktX4_takes_2 := dk_seg dksX4_takes_1 24 rfl rfl
theorem dksX4_takes_3 : cX4_takes.data.toList.drop 72 = dktX4_takes_3 := dk_seg dksX4_takes_2 24 rfl rfl
theorem dX4_takes_0 : decode cX4_takes 0 = .ok (.aload_n 0, 1) := dk_42 (dk_at dksX4_takes_0 0 rfl rfl)
theorem dX4_takes_1 : decode cX4_takes 1 = .ok (.iload_n 1, 1) := dk_27 (dk_at dksX4_takes_0 1 rfl rfl)
theorem dX4_takes_2 : decode cX4_takes 2 = .ok (.invokevirtual 128, 3) := dk_182 0 128 (dk_at dksX4_takes_0 2 rfl rfl)
theorem dX4_takes_5 : decode cX4_takes 5 = .ok (.istore_n 2, 1) := dk_61 (dk_at dksX4_takes_0 5 rfl rfl)
theorem dX4_takes_6 : decode cX4_takes 6 = .ok (.aload_n 0, 1) := dk_42 (dk_at dksX4_takes_0 6 rfl rfl)
theorem dX4_takes_7 : decode cX4_takes 7 = .ok (.getfield 53, 3) := dk_180 0 53 (dk_at dksX4_takes_0 7 rfl rfl)
theorem dX4_takes_10 : decode cX4_takes 10 = .ok (.ifCond .eq 5, 3) := dk_153 0 5 (dk_at dksX4_takes_0 10 rfl rfl)
theorem dX4_takes_13 : decode cX4_takes 13 = .ok (.iconst 0, 1) := dk_3 (dk_at dksX4_takes_0 13 rfl rfl)
theorem dX4_takes_14 : decode cX4_takes 14 = .ok (.ireturn, 1) := dk_172 (dk_at dksX4_takes_0 14 rfl rfl)
theorem dX4_takes_15 : decode cX4_takes 15 = .ok (.aload_n 0, 1) := dk_42 (dk_at dksX4_takes_0 15 rfl rfl)
theorem dX4_takes_16 : decode cX4_takes 16 = .ok (.iload_n 2, 1) := dk_28 (dk_at dksX4_takes_0 16 rfl rfl)
theorem dX4_takes_17 : decode cX4_takes 17 = .ok (.invokevirtual 131, 3) := dk_182 0 131 (dk_at dksX4_takes_0 17 rfl rfl)
theorem dX4_takes_20 : decode cX4_takes 20 = .ok (.ifCond .eq 9, 3) := dk_153 0 9 (dk_at dksX4_takes_0 20 rfl rfl)
theorem dX4_takes_23 : decode cX4_takes 23 = .ok (.aload_n 0, 1) := dk_42 (dk_at dksX4_takes_0 23 rfl rfl)
theorem dX4_takes_24 : decode cX4_takes 24 = .ok (.iconst 2, 1) := dk_5 (dk_at dksX4_takes_1 0 rfl rfl)
theorem dX4_takes_25 : decode cX4_takes 25 = .ok (.invokevirtual 105, 3) := dk_182 0 105 (dk_at dksX4_takes_1 1 rfl rfl)
theorem dX4_takes_28 : decode cX4_takes 28 = .ok (.ireturn, 1) := dk_172 (dk_at dksX4_takes_1 4 rfl rfl)
theorem dX4_takes_29 : decode cX4_takes 29 = .ok (.bipush 26, 2) := dk_16 26 (dk_at dksX4_takes_1 5 rfl rfl)
theorem dX4_takes_31 : decode cX4_takes 31 = .ok (.bipush 6, 2) := dk_16 6 (dk_at dksX4_takes_1 7 rfl rfl)
theorem dX4_takes_33 : decode cX4_takes 33 = .ok (.iload_n 2, 1) := dk_28 (dk_at dksX4_takes_1 9 rfl rfl)
theorem dX4_takes_34 : decode cX4_takes 34 = .ok (.imul, 1) := dk_104 (dk_at dksX4_takes_1 10 rfl rfl)
theorem dX4_takes_35 : decode cX4_takes 35 = .ok (.iadd, 1) := dk_96 (dk_at dksX4_takes_1 11 rfl rfl)
theorem dX4_takes_36 : decode cX4_takes 36 = .ok (.istore_n 3, 1) := dk_62 (dk_at dksX4_takes_1 12 rfl rfl)
theorem dX4_takes_37 : decode cX4_takes 37 = .ok (.iload_n 3, 1) := dk_29 (dk_at dksX4_takes_1 13 rfl rfl)
theorem dX4_takes_38 : decode cX4_takes 38 = .ok (.sipush 170, 3) := dk_17 0 170 (dk_at dksX4_takes_1 14 rfl rfl)
theorem dX4_takes_41 : decode cX4_takes 41 = .ok (.if_icmp .ge 38, 3) := dk_162 0 38 (dk_at dksX4_takes_1 17 rfl rfl)
theorem dX4_takes_44 : decode cX4_takes 44 = .ok (.aload_n 0, 1) := dk_42 (dk_at dksX4_takes_1 20 rfl rfl)
theorem dX4_takes_45 : decode cX4_takes 45 = .ok (.getfield 16, 3) := dk_180 0 16 (dk_at dksX4_takes_1 21 rfl rfl)
theorem dX4_takes_48 : decode cX4_takes 48 = .ok (.iload_n 3, 1) := dk_29 (dk_at dksX4_takes_2 0 rfl rfl)
theorem dX4_takes_49 : decode cX4_takes 49 = .ok (.iload_n 3, 1) := dk_29 (dk_at dksX4_takes_2 1 rfl rfl)
theorem dX4_takes_50 : decode cX4_takes 50 = .ok (.bipush 6, 2) := dk_16 6 (dk_at dksX4_takes_2 2 rfl rfl)
theorem dX4_takes_52 : decode cX4_takes 52 = .ok (.iadd, 1) := dk_96 (dk_at dksX4_takes_2 4 rfl rfl)
theorem dX4_takes_53 : decode cX4_takes 53 = .ok (.sipush 170, 3) := dk_17 0 170 (dk_at dksX4_takes_2 5 rfl rfl)
theorem dX4_takes_56 : decode cX4_takes 56 = .ok (.if_icmp .ge 15, 3) := dk_162 0 15 (dk_at dksX4_takes_2 8 rfl rfl)
theorem dX4_takes_59 : decode cX4_takes 59 = .ok (.aload_n 0, 1) := dk_42 (dk_at dksX4_takes_2 11 rfl rfl)
theorem dX4_takes_60 : decode cX4_takes 60 = .ok (.getfield 16, 3) := dk_180 0 16 (dk_at dksX4_takes_2 12 rfl rfl)
theorem dX4_takes_63 : decode cX4_takes 63 = .ok (.iload_n 3, 1) := dk_29 (dk_at dksX4_takes_2 15 rfl rfl)
theorem dX4_takes_64 : decode cX4_takes 64 = .ok (.bipush 6, 2) := dk_16 6 (dk_at dksX4_takes_2 16 rfl rfl)
theorem dX4_takes_66 : decode cX4_takes 66 = .ok (.iadd, 1) := dk_96 (dk_at dksX4_takes_2 18 rfl rfl)
theorem dX4_takes_67 : decode cX4_takes 67 = .ok (.iaload, 1) := dk_46 (dk_at dksX4_takes_2 19 rfl rfl)
theorem dX4_takes_68 : decode cX4_takes 68 = .ok (.goto 4, 3) := dk_167 0 4 (dk_at dksX4_takes_2 20 rfl rfl)
theorem dX4_takes_71 : decode cX4_takes 71 = .ok (.iconst 0, 1) := dk_3 (dk_at dksX4_takes_2 23 rfl rfl)
theorem dX4_takes_72 : decode cX4_takes 72 = .ok (.iastore, 1) := dk_79 (dk_at dksX4_takes_3 0 rfl rfl)
theorem dX4_takes_73 : decode cX4_takes 73 = .ok (.iinc 3 1, 3) := dk_132 3 1 (dk_at dksX4_takes_3 1 rfl rfl)
theorem dX4_takes_76 : decode cX4_takes 76 = .ok (.goto (-39), 3) := dk_167 255 217 (dk_at dksX4_takes_3 4 rfl rfl)
theorem dX4_takes_79 : decode cX4_takes 79 = .ok (.aload_n 0, 1) := dk_42 (dk_at dksX4_takes_3 7 rfl rfl)
theorem dX4_takes_80 : decode cX4_takes 80 = .ok (.getfield 16, 3) := dk_180 0 16 (dk_at dksX4_takes_3 8 rfl rfl)
theorem dX4_takes_83 : decode cX4_takes 83 = .ok (.iconst 0, 1) := dk_3 (dk_at dksX4_takes_3 11 rfl rfl)
theorem dX4_takes_84 : decode cX4_takes 84 = .ok (.dup2, 1) := dk_92 (dk_at dksX4_takes_3 12 rfl rfl)
theorem dX4_takes_85 : decode cX4_takes 85 = .ok (.iaload, 1) := dk_46 (dk_at dksX4_takes_3 13 rfl rfl)
theorem dX4_takes_86 : decode cX4_takes 86 = .ok (.iconst 1, 1) := dk_4 (dk_at dksX4_takes_3 14 rfl rfl)
theorem dX4_takes_87 : decode cX4_takes 87 = .ok (.isub, 1) := dk_100 (dk_at dksX4_takes_3 15 rfl rfl)
theorem dX4_takes_88 : decode cX4_takes 88 = .ok (.iastore, 1) := dk_79 (dk_at dksX4_takes_3 16 rfl rfl)
theorem dX4_takes_89 : decode cX4_takes 89 = .ok (.aload_n 0, 1) := dk_42 (dk_at dksX4_takes_3 17 rfl rfl)
theorem dX4_takes_90 : decode cX4_takes 90 = .ok (.getfield 16, 3) := dk_180 0 16 (dk_at dksX4_takes_3 18 rfl rfl)
theorem dX4_takes_93 : decode cX4_takes 93 = .ok (.iconst 0, 1) := dk_3 (dk_at dksX4_takes_3 21 rfl rfl)
theorem dX4_takes_94 : decode cX4_takes 94 = .ok (.iaload, 1) := dk_46 (dk_at dksX4_takes_3 22 rfl rfl)
theorem dX4_takes_95 : decode cX4_takes 95 = .ok (.ireturn, 1) := dk_172 (dk_at dksX4_takes_3 23 rfl rfl)
abbrev cX4_finds : ByteArray := prog_16_method_10_code
def yX4_finds : MethodName := ⟨RX4, "finds", "(I)I"⟩
def dkwX4_finds_1 : List UInt8 := [160, 0, 5, 28, 172, 132, 2, 1, 167, 255, 231, 42, 4, 181, 0, 53, 2, 172]
abbrev dktX4_finds_1 : List UInt8 := dkwX4_finds_1 ++ []
def dkwX4_finds_0 : List UInt8 := [42, 3, 181, 0, 53, 3, 61, 28, 42, 180, 0, 16, 3, 46, 162, 0, 21, 42, 28, 3, 182, 0, 67, 27]
abbrev dktX4_finds_0 : List UInt8 := dkwX4_finds_0 ++ dktX4_finds_1
theorem dksX4_finds_0 : cX4_finds.data.toList.drop 0 = dktX4_finds_0 := by decide +kernel
theorem dksX4_finds_1 : cX4_finds.data.toList.drop 24 = dktX4_finds_1 := dk_seg dksX4_finds_0 24 rfl rfl
theorem dX4_finds_0 : decode cX4_finds 0 = .ok (.aload_n 0, 1) := dk_42 (dk_at dksX4_finds_0 0 rfl rfl)
theorem dX4_finds_1 : decode cX4_finds 1 = .ok (.iconst 0, 1) := dk_3 (dk_at dksX4_finds_0 1 rfl rfl)
theorem dX4_finds_2 : decode cX4_finds 2 = .ok (.putfield 53, 3) := dk_181 0 53 (dk_at dksX4_finds_0 2 rfl rfl)
theorem dX4_finds_5 : decode cX4_finds 5 = .ok (.iconst 0, 1) := dk_3 (dk_at dksX4_finds_0 5 rfl rfl)
theorem dX4_finds_6 : decode cX4_finds 6 = .ok (.istore_n 2, 1) := dk_61 (dk_at dksX4_finds_0 6 rfl rfl)
theorem dX4_finds_7 : decode cX4_finds 7 = .ok (.iload_n 2, 1) := dk_28 (dk_at dksX4_finds_0 7 rfl rfl)
theorem dX4_finds_8 : decode cX4_finds 8 = .ok (.aload_n 0, 1) := dk_42 (dk_at dksX4_finds_0 8 rfl rfl)
theorem dX4_finds_9 : decode cX4_finds 9 = .ok (.getfield 16, 3) := dk_180 0 16 (dk_at dksX4_finds_0 9 rfl rfl)
theorem dX4_finds_12 : decode cX4_finds 12 = .ok (.iconst 0, 1) := dk_3 (dk_at dksX4_finds_0 12 rfl rfl)
theorem dX4_finds_13 : decode cX4_finds 13 = .ok (.iaload, 1) := dk_46 (dk_at dksX4_finds_0 13 rfl rfl)
theorem dX4_finds_14 : decode cX4_finds 14 = .ok (.if_icmp .ge 21, 3) := dk_162 0 21 (dk_at dksX4_finds_0 14 rfl rfl)
theorem dX4_finds_17 : decode cX4_finds 17 = .ok (.aload_n 0, 1) := dk_42 (dk_at dksX4_finds_0 17 rfl rfl)
theorem dX4_finds_18 : decode cX4_finds 18 = .ok (.iload_n 2, 1) := dk_28 (dk_at dksX4_finds_0 18 rfl rfl)
theorem dX4_finds_19 : decode cX4_finds 19 = .ok (.iconst 0, 1) := dk_3 (dk_at dksX4_finds_0 19 rfl rfl)
theorem dX4_finds_20 : decode cX4_finds 20 = .ok (.invokevirtual 67, 3) := dk_182 0 67 (dk_at dksX4_finds_0 20 rfl rfl)
theorem dX4_finds_23 : decode cX4_finds 23 = .ok (.iload_n 1, 1) := dk_27 (dk_at dksX4_finds_0 23 rfl rfl)
theorem dX4_finds_24 : decode cX4_finds 24 = .ok (.if_icmp .ne 5, 3) := dk_160 0 5 (dk_at dksX4_finds_1 0 rfl rfl)
theorem dX4_finds_27 : decode cX4_finds 27 = .ok (.iload_n 2, 1) := dk_28 (dk_at dksX4_finds_1 3 rfl rfl)
theorem dX4_finds_28 : decode cX4_finds 28 = .ok (.ireturn, 1) := dk_172 (dk_at dksX4_finds_1 4 rfl rfl)
theorem dX4_finds_29 : decode cX4_finds 29 = .ok (.iinc 2 1, 3) := dk_132 2 1 (dk_at dksX4_finds_1 5 rfl rfl)
theorem dX4_finds_32 : decode cX4_finds 32 = .ok (.goto (-25), 3) := dk_167 255 231 (dk_at dksX4_finds_1 8 rfl rfl)
theorem dX4_finds_35 : decode cX4_finds 35 = .ok (.aload_n 0, 1) := dk_42 (dk_at dksX4_finds_1 11 rfl rfl)
theorem dX4_finds_36 : decode cX4_finds 36 = .ok (.iconst 1, 1) := dk_4 (dk_at dksX4_finds_1 12 rfl rfl)
theorem dX4_finds_37 : decode cX4_finds 37 = .ok (.putfield 53, 3) := dk_181 0 53 (dk_at dksX4_finds_1 13 rfl rfl)
theorem dX4_finds_40 : decode cX4_finds 40 = .ok (.iconst (-1), 1) := dk_2 (dk_at dksX4_finds_1 16 rfl rfl)
theorem dX4_finds_41 : decode cX4_finds 41 = .ok (.ireturn, 1) := dk_172 (dk_at dksX4_finds_1 17 rfl rfl)
abbrev cX4_isUnder : ByteArray := prog_16_method_27_code
def yX4_isUnder : MethodName := ⟨RX4, "isUnder", "(I)Z"⟩
def dkwX4_isUnder_1 : List UInt8 := [132, 2, 1, 167, 255, 232, 3, 172]
abbrev dktX4_isUnder_1 : List UInt8 := dkwX4_isUnder_1 ++ []
def dkwX4_isUnder_0 : List UInt8 := [3, 61, 28, 42, 180, 0, 16, 3, 46, 162, 0, 20, 42, 27, 28, 182, 0, 79, 153, 0, 5, 4, 172]
abbrev dktX4_isUnder_0 : List UInt8 := dkwX4_isUnder_0 ++ dktX4_isUnder_1
theorem dksX4_isUnder_0 : cX4_isUnder.data.toList.drop 0 = dktX4_isUnder_0 := by decide +kernel
theorem dksX4_isUnder_1 : cX4_isUnder.data.toList.drop 23 = dktX4_isUnder_1 := dk_seg dksX4_isUnder_0 23 rfl rfl
theorem dX4_isUnder_0 : decode cX4_isUnder 0 = .ok (.iconst 0, 1) := dk_3 (dk_at dksX4_isUnder_0 0 rfl rfl)
theorem dX4_isUnder_1 : decode cX4_isUnder 1 = .ok (.istore_n 2, 1) := dk_61 (dk_at dksX4_isUnder_0 1 rfl rfl)
theorem dX4_isUnder_2 : decode cX4_isUnder 2 = .ok (.iload_n 2, 1) := dk_28 (dk_at dksX4_isUnder_0 2 rfl rfl)
theorem dX4_isUnder_3 : decode cX4_isUnder 3 = .ok (.aload_n 0, 1) := dk_42 (dk_at dksX4_isUnder_0 3 rfl rfl)
theorem dX4_isUnder_4 : decode cX4_isUnder 4 = .ok (.getfield 16, 3) := dk_180 0 16 (dk_at dksX4_isUnder_0 4 rfl rfl)
theorem dX4_isUnder_7 : decode cX4_isUnder 7 = .ok (.iconst 0, 1) := dk_3 (dk_at dksX4_isUnder_0 7 rfl rfl)
theorem dX4_isUnder_8 : decode cX4_isUnder 8 = .ok (.iaload, 1) := dk_46 (dk_at dksX4_isUnder_0 8 rfl rfl)
theorem dX4_isUnder_9 : decode cX4_isUnder 9 = .ok (.if_icmp .ge 20, 3) := dk_162 0 20 (dk_at dksX4_isUnder_0 9 rfl rfl)
theorem dX4_isUnder_12 : decode cX4_isUnder 12 = .ok (.aload_n 0, 1) := dk_42 (dk_at dksX4_isUnder_0 12 rfl rfl)
theorem dX4_isUnder_13 : decode cX4_isUnder 13 = .ok (.iload_n 1, 1) := dk_27 (dk_at dksX4_isUnder_0 13 rfl rfl)
theorem dX4_isUnder_14 : decode cX4_isUnder 14 = .ok (.iload_n 2, 1) := dk_28 (dk_at dksX4_isUnder_0 14 rfl rfl)
theorem dX4_isUnder_15 : decode cX4_isUnder 15 = .ok (.invokevirtual 79, 3) := dk_182 0 79 (dk_at dksX4_isUnder_0 15 rfl rfl)
theorem dX4_isUnder_18 : decode cX4_isUnder 18 = .ok (.ifCond .eq 5, 3) := dk_153 0 5 (dk_at dksX4_isUnder_0 18 rfl rfl)
theorem dX4_isUnder_21 : decode cX4_isUnder 21 = .ok (.iconst 1, 1) := dk_4 (dk_at dksX4_isUnder_0 21 rfl rfl)
theorem dX4_isUnder_22 : decode cX4_isUnder 22 = .ok (.ireturn, 1) := dk_172 (dk_at dksX4_isUnder_0 22 rfl rfl)
theorem dX4_isUnder_23 : decode cX4_isUnder 23 = .ok (.iinc 2 1, 3) := dk_132 2 1 (dk_at dksX4_isUnder_1 0 rfl rfl)
theorem dX4_isUnder_26 : decode cX4_isUnder 26 = .ok (.goto (-24), 3) := dk_167 255 232 (dk_at dksX4_isUnder_1 3 rfl rfl)
theorem dX4_isUnder_29 : decode cX4_isUnder 29 = .ok (.iconst 0, 1) := dk_3 (dk_at dksX4_isUnder_1 6 rfl rfl)
theorem dX4_isUnder_30 : decode cX4_isUnder 30 = .ok (.ireturn, 1) := dk_172 (dk_at dksX4_isUnder_1 7 rfl rfl)
abbrev cX4_setZone : ByteArray := prog_16_method_33_code
def yX4_setZone : MethodName := ⟨RX4, "setZone", "(IC)C"⟩
def dkwX4_setZone_1 : List UInt8 := [167, 0, 5, 16, 97, 172]
abbrev dktX4_setZone_1 : List UInt8 := dkwX4_setZone_1 ++ []
def dkwX4_setZone_0 : List UInt8 := [42, 182, 0, 118, 42, 42, 27, 28, 182, 0, 143, 182, 0, 125, 62, 42, 180, 0, 53, 154, 0, 8, 29, 146]
abbrev dktX4_setZone_0 : List UInt8 := dkwX4_setZone_0 ++ dktX4_setZone_1
theorem dksX4_setZone_0 : cX4_setZone.data.toList.drop 0 = dktX4_setZone_0 := by decide +kernel
theorem dksX4_setZone_1 : cX4_setZone.data.toList.drop 24 = dktX4_setZone_1 := dk_seg dksX4_setZone_0 24 rfl rfl
theorem dX4_setZone_0 : decode cX4_setZone 0 = .ok (.aload_n 0, 1) := dk_42 (dk_at dksX4_setZone_0 0 rfl rfl)
theorem dX4_setZone_1 : decode cX4_setZone 1 = .ok (.invokevirtual 118, 3) := dk_182 0 118 (dk_at dksX4_setZone_0 1 rfl rfl)
theorem dX4_setZone_4 : decode cX4_setZone 4 = .ok (.aload_n 0, 1) := dk_42 (dk_at dksX4_setZone_0 4 rfl rfl)
theorem dX4_setZone_5 : decode cX4_setZone 5 = .ok (.aload_n 0, 1) := dk_42 (dk_at dksX4_setZone_0 5 rfl rfl)
theorem dX4_setZone_6 : decode cX4_setZone 6 = .ok (.iload_n 1, 1) := dk_27 (dk_at dksX4_setZone_0 6 rfl rfl)
theorem dX4_setZone_7 : decode cX4_setZone 7 = .ok (.iload_n 2, 1) := dk_28 (dk_at dksX4_setZone_0 7 rfl rfl)
theorem dX4_setZone_8 : decode cX4_setZone 8 = .ok (.invokevirtual 143, 3) := dk_182 0 143 (dk_at dksX4_setZone_0 8 rfl rfl)
theorem dX4_setZone_11 : decode cX4_setZone 11 = .ok (.invokevirtual 125, 3) := dk_182 0 125 (dk_at dksX4_setZone_0 11 rfl rfl)
theorem dX4_setZone_14 : decode cX4_setZone 14 = .ok (.istore_n 3, 1) := dk_62 (dk_at dksX4_setZone_0 14 rfl rfl)
theorem dX4_setZone_15 : decode cX4_setZone 15 = .ok (.aload_n 0, 1) := dk_42 (dk_at dksX4_setZone_0 15 rfl rfl)
theorem dX4_setZone_16 : decode cX4_setZone 16 = .ok (.getfield 53, 3) := dk_180 0 53 (dk_at dksX4_setZone_0 16 rfl rfl)
theorem dX4_setZone_19 : decode cX4_setZone 19 = .ok (.ifCond .ne 8, 3) := dk_154 0 8 (dk_at dksX4_setZone_0 19 rfl rfl)
theorem dX4_setZone_22 : decode cX4_setZone 22 = .ok (.iload_n 3, 1) := dk_29 (dk_at dksX4_setZone_0 22 rfl rfl)
theorem dX4_setZone_23 : decode cX4_setZone 23 = .ok (.i2c, 1) := dk_146 (dk_at dksX4_setZone_0 23 rfl rfl)
theorem dX4_setZone_24 : decode cX4_setZone 24 = .ok (.goto 5, 3) := dk_167 0 5 (dk_at dksX4_setZone_1 0 rfl rfl)
theorem dX4_setZone_27 : decode cX4_setZone 27 = .ok (.bipush 97, 2) := dk_16 97 (dk_at dksX4_setZone_1 3 rfl rfl)
theorem dX4_setZone_29 : decode cX4_setZone 29 = .ok (.ireturn, 1) := dk_172 (dk_at dksX4_setZone_1 5 rfl rfl)
abbrev cX4_zones : ByteArray := prog_16_method_32_code
def yX4_zones : MethodName := ⟨RX4, "zones", "(II)I"⟩
def dkwX4_zones_2 : List UInt8 := [79, 29, 184, 0, 140, 172]
abbrev dktX4_zones_2 : List UInt8 := dkwX4_zones_2 ++ []
def dkwX4_zones_1 : List UInt8 := [182, 0, 105, 172, 42, 180, 0, 16, 5, 27, 96, 46, 62, 42, 180, 0, 16, 5, 27, 96, 28, 184, 0, 137]
abbrev dktX4_zones_1 : List UInt8 := dkwX4_zones_1 ++ dktX4_zones_2
def dkwX4_zones_0 : List UInt8 := [27, 184, 0, 98, 154, 0, 9, 42, 4, 182, 0, 105, 172, 28, 184, 0, 137, 156, 0, 9, 42, 5]
abbrev dktX4_zones_0 : List UInt8 := dkwX4_zones_0 ++ dktX4_zones_1
theorem dksX4_zones_0 : cX4_zones.data.toList.drop 0 = dktX4_zones_0 := by decide +kernel
theorem dksX4_zones_1 : cX4_zones.data.toList.drop 22 = dktX4_zones_1 := dk_seg dksX4_zones_0 22 rfl rfl
theorem dksX4_zones_2 : cX4_zones.data.toList.drop 46 = dktX4_zones_2 := dk_seg dksX4_zones_1 24 rfl rfl
theorem dX4_zones_0 : decode cX4_zones 0 = .ok (.iload_n 1, 1) := dk_27 (dk_at dksX4_zones_0 0 rfl rfl)
theorem dX4_zones_1 : decode cX4_zones 1 = .ok (.invokestatic 98, 3) := dk_184 0 98 (dk_at dksX4_zones_0 1 rfl rfl)
theorem dX4_zones_4 : decode cX4_zones 4 = .ok (.ifCond .ne 9, 3) := dk_154 0 9 (dk_at dksX4_zones_0 4 rfl rfl)
theorem dX4_zones_7 : decode cX4_zones 7 = .ok (.aload_n 0, 1) := dk_42 (dk_at dksX4_zones_0 7 rfl rfl)
theorem dX4_zones_8 : decode cX4_zones 8 = .ok (.iconst 1, 1) := dk_4 (dk_at dksX4_zones_0 8 rfl rfl)
theorem dX4_zones_9 : decode cX4_zones 9 = .ok (.invokevirtual 105, 3) := dk_182 0 105 (dk_at dksX4_zones_0 9 rfl rfl)
theorem dX4_zones_12 : decode cX4_zones 12 = .ok (.ireturn, 1) := dk_172 (dk_at dksX4_zones_0 12 rfl rfl)
theorem dX4_zones_13 : decode cX4_zones 13 = .ok (.iload_n 2, 1) := dk_28 (dk_at dksX4_zones_0 13 rfl rfl)
theorem dX4_zones_14 : decode cX4_zones 14 = .ok (.invokestatic 137, 3) := dk_184 0 137 (dk_at dksX4_zones_0 14 rfl rfl)
theorem dX4_zones_17 : decode cX4_zones 17 = .ok (.ifCond .ge 9, 3) := dk_156 0 9 (dk_at dksX4_zones_0 17 rfl rfl)
theorem dX4_zones_20 : decode cX4_zones 20 = .ok (.aload_n 0, 1) := dk_42 (dk_at dksX4_zones_0 20 rfl rfl)
theorem dX4_zones_21 : decode cX4_zones 21 = .ok (.iconst 2, 1) := dk_5 (dk_at dksX4_zones_0 21 rfl rfl)
theorem dX4_zones_22 : decode cX4_zones 22 = .ok (.invokevirtual 105, 3) := dk_182 0 105 (dk_at dksX4_zones_1 0 rfl rfl)
theorem dX4_zones_25 : decode cX4_zones 25 = .ok (.ireturn, 1) := dk_172 (dk_at dksX4_zones_1 3 rfl rfl)
theorem dX4_zones_26 : decode cX4_zones 26 = .ok (.aload_n 0, 1) := dk_42 (dk_at dksX4_zones_1 4 rfl rfl)
theorem dX4_zones_27 : decode cX4_zones 27 = .ok (.getfield 16, 3) := dk_180 0 16 (dk_at dksX4_zones_1 5 rfl rfl)
theorem dX4_zones_30 : decode cX4_zones 30 = .ok (.iconst 2, 1) := dk_5 (dk_at dksX4_zones_1 8 rfl rfl)
theorem dX4_zones_31 : decode cX4_zones 31 = .ok (.iload_n 1, 1) := dk_27 (dk_at dksX4_zones_1 9 rfl rfl)
theorem dX4_zones_32 : decode cX4_zones 32 = .ok (.iadd, 1) := dk_96 (dk_at dksX4_zones_1 10 rfl rfl)
theorem dX4_zones_33 : decode cX4_zones 33 = .ok (.iaload, 1) := dk_46 (dk_at dksX4_zones_1 11 rfl rfl)
theorem dX4_zones_34 : decode cX4_zones 34 = .ok (.istore_n 3, 1) := dk_62 (dk_at dksX4_zones_1 12 rfl rfl)
theorem dX4_zones_35 : decode cX4_zones 35 = .ok (.aload_n 0, 1) := dk_42 (dk_at dksX4_zones_1 13 rfl rfl)
theorem dX4_zones_36 : decode cX4_zones 36 = .ok (.getfield 16, 3) := dk_180 0 16 (dk_at dksX4_zones_1 14 rfl rfl)
theorem dX4_zones_39 : decode cX4_zones 39 = .ok (.iconst 2, 1) := dk_5 (dk_at dksX4_zones_1 17 rfl rfl)
theorem dX4_zones_40 : decode cX4_zones 40 = .ok (.iload_n 1, 1) := dk_27 (dk_at dksX4_zones_1 18 rfl rfl)
theorem dX4_zones_41 : decode cX4_zones 41 = .ok (.iadd, 1) := dk_96 (dk_at dksX4_zones_1 19 rfl rfl)
theorem dX4_zones_42 : decode cX4_zones 42 = .ok (.iload_n 2, 1) := dk_28 (dk_at dksX4_zones_1 20 rfl rfl)
theorem dX4_zones_43 : decode cX4_zones 43 = .ok (.invokestatic 137, 3) := dk_184 0 137 (dk_at dksX4_zones_1 21 rfl rfl)
theorem dX4_zones_46 : decode cX4_zones 46 = .ok (.iastore, 1) := dk_79 (dk_at dksX4_zones_2 0 rfl rfl)
theorem dX4_zones_47 : decode cX4_zones 47 = .ok (.iload_n 3, 1) := dk_29 (dk_at dksX4_zones_2 1 rfl rfl)
theorem dX4_zones_48 : decode cX4_zones 48 = .ok (.invokestatic 140, 3) := dk_184 0 140 (dk_at dksX4_zones_2 2 rfl rfl)
theorem dX4_zones_51 : decode cX4_zones 51 = .ok (.ireturn, 1) := dk_172 (dk_at dksX4_zones_2 5 rfl rfl)
abbrev cX4_zoneBy : ByteArray := prog_16_method_30_code
def yX4_zoneBy : MethodName := ⟨RX4, "zoneBy", "(I)I"⟩
def dkwX4_zoneBy_1 : List UInt8 := [160, 0, 7, 5, 167, 0, 4, 2, 172]
abbrev dktX4_zoneBy_1 : List UInt8 := dkwX4_zoneBy_1 ++ []
def dkwX4_zoneBy_0 : List UInt8 := [26, 16, 111, 160, 0, 7, 3, 167, 0, 24, 26, 16, 113, 160, 0, 7, 4, 167, 0, 14, 26, 16, 99]
abbrev dktX4_zoneBy_0 : List UInt8 := dkwX4_zoneBy_0 ++ dktX4_zoneBy_1
theorem dksX4_zoneBy_0 : cX4_zoneBy.data.toList.drop 0 = dktX4_zoneBy_0 := by decide +kernel
theorem dksX4_zoneBy_1 : cX4_zoneBy.data.toList.drop 23 = dktX4_zoneBy_1 := dk_seg dksX4_zoneBy_0 23 rfl rfl
theorem dX4_zoneBy_0 : decode cX4_zoneBy 0 = .ok (.iload_n 0, 1) := dk_26 (dk_at dksX4_zoneBy_0 0 rfl rfl)
theorem dX4_zoneBy_1 : decode cX4_zoneBy 1 = .ok (.bipush 111, 2) := dk_16 111 (dk_at dksX4_zoneBy_0 1 rfl rfl)
theorem dX4_zoneBy_3 : decode cX4_zoneBy 3 = .ok (.if_icmp .ne 7, 3) := dk_160 0 7 (dk_at dksX4_zoneBy_0 3 rfl rfl)
theorem dX4_zoneBy_6 : decode cX4_zoneBy 6 = .ok (.iconst 0, 1) := dk_3 (dk_at dksX4_zoneBy_0 6 rfl rfl)
theorem dX4_zoneBy_7 : decode cX4_zoneBy 7 = .ok (.goto 24, 3) := dk_167 0 24 (dk_at dksX4_zoneBy_0 7 rfl rfl)
theorem dX4_zoneBy_10 : decode cX4_zoneBy 10 = .ok (.iload_n 0, 1) := dk_26 (dk_at dksX4_zoneBy_0 10 rfl rfl)
theorem dX4_zoneBy_11 : decode cX4_zoneBy 11 = .ok (.bipush 113, 2) := dk_16 113 (dk_at dksX4_zoneBy_0 11 rfl rfl)
theorem dX4_zoneBy_13 : decode cX4_zoneBy 13 = .ok (.if_icmp .ne 7, 3) := dk_160 0 7 (dk_at dksX4_zoneBy_0 13 rfl rfl)
theorem dX4_zoneBy_16 : decode cX4_zoneBy 16 = .ok (.iconst 1, 1) := dk_4 (dk_at dksX4_zoneBy_0 16 rfl rfl)
theorem dX4_zoneBy_17 : decode cX4_zoneBy 17 = .ok (.goto 14, 3) := dk_167 0 14 (dk_at dksX4_zoneBy_0 17 rfl rfl)
theorem dX4_zoneBy_20 : decode cX4_zoneBy 20 = .ok (.iload_n 0, 1) := dk_26 (dk_at dksX4_zoneBy_0 20 rfl rfl)
theorem dX4_zoneBy_21 : decode cX4_zoneBy 21 = .ok (.bipush 99, 2) := dk_16 99 (dk_at dksX4_zoneBy_0 21 rfl rfl)
theorem dX4_zoneBy_23 : decode cX4_zoneBy 23 = .ok (.if_icmp .ne 7, 3) := dk_160 0 7 (dk_at dksX4_zoneBy_1 0 rfl rfl)
theorem dX4_zoneBy_26 : decode cX4_zoneBy 26 = .ok (.iconst 2, 1) := dk_5 (dk_at dksX4_zoneBy_1 3 rfl rfl)
theorem dX4_zoneBy_27 : decode cX4_zoneBy 27 = .ok (.goto 4, 3) := dk_167 0 4 (dk_at dksX4_zoneBy_1 4 rfl rfl)
theorem dX4_zoneBy_30 : decode cX4_zoneBy 30 = .ok (.iconst (-1), 1) := dk_2 (dk_at dksX4_zoneBy_1 7 rfl rfl)
theorem dX4_zoneBy_31 : decode cX4_zoneBy 31 = .ok (.ireturn, 1) := dk_172 (dk_at dksX4_zoneBy_1 8 rfl rfl)
abbrev cX4_letterOf : ByteArray := prog_16_method_31_code
def yX4_letterOf : MethodName := ⟨RX4, "letterOf", "(I)I"⟩
def dkwX4_letterOf_0 : List UInt8 := [26, 154, 0, 8, 16, 111, 167, 0, 15, 26, 4, 160, 0, 8, 16, 113, 167, 0, 5, 16, 99, 172]
abbrev dktX4_letterOf_0 : List UInt8 := dkwX4_letterOf_0 ++ []
theorem dksX4_letterOf_0 : cX4_letterOf.data.toList.drop 0 = dktX4_letterOf_0 := by decide +kernel
theorem dX4_letterOf_0 : decode cX4_letterOf 0 = .ok (.iload_n 0, 1) := dk_26 (dk_at dksX4_letterOf_0 0 rfl rfl)
theorem dX4_letterOf_1 : decode cX4_letterOf 1 = .ok (.ifCond .ne 8, 3) := dk_154 0 8 (dk_at dksX4_letterOf_0 1 rfl rfl)
theorem dX4_letterOf_4 : decode cX4_letterOf 4 = .ok (.bipush 111, 2) := dk_16 111 (dk_at dksX4_letterOf_0 4 rfl rfl)
theorem dX4_letterOf_6 : decode cX4_letterOf 6 = .ok (.goto 15, 3) := dk_167 0 15 (dk_at dksX4_letterOf_0 6 rfl rfl)
theorem dX4_letterOf_9 : decode cX4_letterOf 9 = .ok (.iload_n 0, 1) := dk_26 (dk_at dksX4_letterOf_0 9 rfl rfl)
theorem dX4_letterOf_10 : decode cX4_letterOf 10 = .ok (.iconst 1, 1) := dk_4 (dk_at dksX4_letterOf_0 10 rfl rfl)
theorem dX4_letterOf_11 : decode cX4_letterOf 11 = .ok (.if_icmp .ne 8, 3) := dk_160 0 8 (dk_at dksX4_letterOf_0 11 rfl rfl)
theorem dX4_letterOf_14 : decode cX4_letterOf 14 = .ok (.bipush 113, 2) := dk_16 113 (dk_at dksX4_letterOf_0 14 rfl rfl)
theorem dX4_letterOf_16 : decode cX4_letterOf 16 = .ok (.goto 5, 3) := dk_167 0 5 (dk_at dksX4_letterOf_0 16 rfl rfl)
theorem dX4_letterOf_19 : decode cX4_letterOf 19 = .ok (.bipush 99, 2) := dk_16 99 (dk_at dksX4_letterOf_0 19 rfl rfl)
theorem dX4_letterOf_21 : decode cX4_letterOf 21 = .ok (.ireturn, 1) := dk_172 (dk_at dksX4_letterOf_0 21 rfl rfl)
abbrev cX4_addTorch : ByteArray := prog_16_method_36_code
def yX4_addTorch : MethodName := ⟨RX4, "addTorch", "(I)I"⟩
def dkwX4_addTorch_0 : List UInt8 := [42, 182, 0, 118, 42, 42, 27, 4, 182, 0, 150, 182, 0, 125, 172]
abbrev dktX4_addTorch_0 : List UInt8 := dkwX4_addTorch_0 ++ []
theorem dksX4_addTorch_0 : cX4_addTorch.data.toList.drop 0 = dktX4_addTorch_0 := by decide +kernel
theorem dX4_addTorch_0 : decode cX4_addTorch 0 = .ok (.aload_n 0, 1) := dk_42 (dk_at dksX4_addTorch_0 0 rfl rfl)
theorem dX4_addTorch_1 : decode cX4_addTorch 1 = .ok (.invokevirtual 118, 3) := dk_182 0 118 (dk_at dksX4_addTorch_0 1 rfl rfl)
theorem dX4_addTorch_4 : decode cX4_addTorch 4 = .ok (.aload_n 0, 1) := dk_42 (dk_at dksX4_addTorch_0 4 rfl rfl)
theorem dX4_addTorch_5 : decode cX4_addTorch 5 = .ok (.aload_n 0, 1) := dk_42 (dk_at dksX4_addTorch_0 5 rfl rfl)
theorem dX4_addTorch_6 : decode cX4_addTorch 6 = .ok (.iload_n 1, 1) := dk_27 (dk_at dksX4_addTorch_0 6 rfl rfl)
theorem dX4_addTorch_7 : decode cX4_addTorch 7 = .ok (.iconst 1, 1) := dk_4 (dk_at dksX4_addTorch_0 7 rfl rfl)
theorem dX4_addTorch_8 : decode cX4_addTorch 8 = .ok (.invokevirtual 150, 3) := dk_182 0 150 (dk_at dksX4_addTorch_0 8 rfl rfl)
theorem dX4_addTorch_11 : decode cX4_addTorch 11 = .ok (.invokevirtual 125, 3) := dk_182 0 125 (dk_at dksX4_addTorch_0 11 rfl rfl)
theorem dX4_addTorch_14 : decode cX4_addTorch 14 = .ok (.ireturn, 1) := dk_172 (dk_at dksX4_addTorch_0 14 rfl rfl)
abbrev cX4_lights : ByteArray := prog_16_method_35_code
def yX4_lights : MethodName := ⟨RX4, "lights", "(II)I"⟩
def dkwX4_lights_1 : List UInt8 := [160, 0, 9, 42, 5, 182, 0, 105, 172, 42, 180, 0, 16, 16, 14, 27, 96, 28, 79, 42, 182, 0, 146, 172]
abbrev dktX4_lights_1 : List UInt8 := dkwX4_lights_1 ++ []
def dkwX4_lights_0 : List UInt8 := [27, 184, 0, 98, 154, 0, 9, 42, 4, 182, 0, 105, 172, 42, 180, 0, 16, 16, 14, 27, 96, 46, 28]
abbrev dktX4_lights_0 : List UInt8 := dkwX4_lights_0 ++ dktX4_lights_1
theorem dksX4_lights_0 : cX4_lights.data.toList.drop 0 = dktX4_lights_0 := by decide +kernel
theorem dksX4_lights_1 : cX4_lights.data.toList.drop 23 = dktX4_lights_1 := dk_seg dksX4_lights_0 23 rfl rfl
theorem dX4_lights_0 : decode cX4_lights 0 = .ok (.iload_n 1, 1) := dk_27 (dk_at dksX4_lights_0 0 rfl rfl)
theorem dX4_lights_1 : decode cX4_lights 1 = .ok (.invokestatic 98, 3) := dk_184 0 98 (dk_at dksX4_lights_0 1 rfl rfl)
theorem dX4_lights_4 : decode cX4_lights 4 = .ok (.ifCond .ne 9, 3) := dk_154 0 9 (dk_at dksX4_lights_0 4 rfl rfl)
theorem dX4_lights_7 : decode cX4_lights 7 = .ok (.aload_n 0, 1) := dk_42 (dk_at dksX4_lights_0 7 rfl rfl)
theorem dX4_lights_8 : decode cX4_lights 8 = .ok (.iconst 1, 1) := dk_4 (dk_at dksX4_lights_0 8 rfl rfl)
theorem dX4_lights_9 : decode cX4_lights 9 = .ok (.invokevirtual 105, 3) := dk_182 0 105 (dk_at dksX4_lights_0 9 rfl rfl)
theorem dX4_lights_12 : decode cX4_lights 12 = .ok (.ireturn, 1) := dk_172 (dk_at dksX4_lights_0 12 rfl rfl)
theorem dX4_lights_13 : decode cX4_lights 13 = .ok (.aload_n 0, 1) := dk_42 (dk_at dksX4_lights_0 13 rfl rfl)
theorem dX4_lights_14 : decode cX4_lights 14 = .ok (.getfield 16, 3) := dk_180 0 16 (dk_at dksX4_lights_0 14 rfl rfl)
theorem dX4_lights_17 : decode cX4_lights 17 = .ok (.bipush 14, 2) := dk_16 14 (dk_at dksX4_lights_0 17 rfl rfl)
theorem dX4_lights_19 : decode cX4_lights 19 = .ok (.iload_n 1, 1) := dk_27 (dk_at dksX4_lights_0 19 rfl rfl)
theorem dX4_lights_20 : decode cX4_lights 20 = .ok (.iadd, 1) := dk_96 (dk_at dksX4_lights_0 20 rfl rfl)
theorem dX4_lights_21 : decode cX4_lights 21 = .ok (.iaload, 1) := dk_46 (dk_at dksX4_lights_0 21 rfl rfl)
theorem dX4_lights_22 : decode cX4_lights 22 = .ok (.iload_n 2, 1) := dk_28 (dk_at dksX4_lights_0 22 rfl rfl)
theorem dX4_lights_23 : decode cX4_lights 23 = .ok (.if_icmp .ne 9, 3) := dk_160 0 9 (dk_at dksX4_lights_1 0 rfl rfl)
theorem dX4_lights_26 : decode cX4_lights 26 = .ok (.aload_n 0, 1) := dk_42 (dk_at dksX4_lights_1 3 rfl rfl)
theorem dX4_lights_27 : decode cX4_lights 27 = .ok (.iconst 2, 1) := dk_5 (dk_at dksX4_lights_1 4 rfl rfl)
theorem dX4_lights_28 : decode cX4_lights 28 = .ok (.invokevirtual 105, 3) := dk_182 0 105 (dk_at dksX4_lights_1 5 rfl rfl)
theorem dX4_lights_31 : decode cX4_lights 31 = .ok (.ireturn, 1) := dk_172 (dk_at dksX4_lights_1 8 rfl rfl)
theorem dX4_lights_32 : decode cX4_lights 32 = .ok (.aload_n 0, 1) := dk_42 (dk_at dksX4_lights_1 9 rfl rfl)
theorem dX4_lights_33 : decode cX4_lights 33 = .ok (.getfield 16, 3) := dk_180 0 16 (dk_at dksX4_lights_1 10 rfl rfl)
theorem dX4_lights_36 : decode cX4_lights 36 = .ok (.bipush 14, 2) := dk_16 14 (dk_at dksX4_lights_1 13 rfl rfl)
theorem dX4_lights_38 : decode cX4_lights 38 = .ok (.iload_n 1, 1) := dk_27 (dk_at dksX4_lights_1 15 rfl rfl)
theorem dX4_lights_39 : decode cX4_lights 39 = .ok (.iadd, 1) := dk_96 (dk_at dksX4_lights_1 16 rfl rfl)
theorem dX4_lights_40 : decode cX4_lights 40 = .ok (.iload_n 2, 1) := dk_28 (dk_at dksX4_lights_1 17 rfl rfl)
theorem dX4_lights_41 : decode cX4_lights 41 = .ok (.iastore, 1) := dk_79 (dk_at dksX4_lights_1 18 rfl rfl)
theorem dX4_lights_42 : decode cX4_lights 42 = .ok (.aload_n 0, 1) := dk_42 (dk_at dksX4_lights_1 19 rfl rfl)
theorem dX4_lights_43 : decode cX4_lights 43 = .ok (.invokevirtual 146, 3) := dk_182 0 146 (dk_at dksX4_lights_1 20 rfl rfl)
theorem dX4_lights_46 : decode cX4_lights 46 = .ok (.ireturn, 1) := dk_172 (dk_at dksX4_lights_1 23 rfl rfl)
abbrev cX4_torches : ByteArray := prog_16_method_34_code
def yX4_torches : MethodName := ⟨RX4, "torches", "()I"⟩
def dkwX4_torches_1 : List UInt8 := [132, 2, 1, 167, 255, 235, 27, 172]
abbrev dktX4_torches_1 : List UInt8 := dkwX4_torches_1 ++ []
def dkwX4_torches_0 : List UInt8 := [3, 60, 3, 61, 28, 16, 12, 162, 0, 21, 27, 42, 180, 0, 16, 16, 14, 28, 96, 46, 96, 60]
abbrev dktX4_torches_0 : List UInt8 := dkwX4_torches_0 ++ dktX4_torches_1
theorem dksX4_torches_0 : cX4_torches.data.toList.drop 0 = dktX4_torches_0 := by decide +kernel
theorem dksX4_torches_1 : cX4_torches.data.toList.drop 22 = dktX4_torches_1 := dk_seg dksX4_torches_0 22 rfl rfl
theorem dX4_torches_0 : decode cX4_torches 0 = .ok (.iconst 0, 1) := dk_3 (dk_at dksX4_torches_0 0 rfl rfl)
theorem dX4_torches_1 : decode cX4_torches 1 = .ok (.istore_n 1, 1) := dk_60 (dk_at dksX4_torches_0 1 rfl rfl)
theorem dX4_torches_2 : decode cX4_torches 2 = .ok (.iconst 0, 1) := dk_3 (dk_at dksX4_torches_0 2 rfl rfl)
theorem dX4_torches_3 : decode cX4_torches 3 = .ok (.istore_n 2, 1) := dk_61 (dk_at dksX4_torches_0 3 rfl rfl)
theorem dX4_torches_4 : decode cX4_torches 4 = .ok (.iload_n 2, 1) := dk_28 (dk_at dksX4_torches_0 4 rfl rfl)
theorem dX4_torches_5 : decode cX4_torches 5 = .ok (.bipush 12, 2) := dk_16 12 (dk_at dksX4_torches_0 5 rfl rfl)
theorem dX4_torches_7 : decode cX4_torches 7 = .ok (.if_icmp .ge 21, 3) := dk_162 0 21 (dk_at dksX4_torches_0 7 rfl rfl)
theorem dX4_torches_10 : decode cX4_torches 10 = .ok (.iload_n 1, 1) := dk_27 (dk_at dksX4_torches_0 10 rfl rfl)
theorem dX4_torches_11 : decode cX4_torches 11 = .ok (.aload_n 0, 1) := dk_42 (dk_at dksX4_torches_0 11 rfl rfl)
theorem dX4_torches_12 : decode cX4_torches 12 = .ok (.getfield 16, 3) := dk_180 0 16 (dk_at dksX4_torches_0 12 rfl rfl)
theorem dX4_torches_15 : decode cX4_torches 15 = .ok (.bipush 14, 2) := dk_16 14 (dk_at dksX4_torches_0 15 rfl rfl)
theorem dX4_torches_17 : decode cX4_torches 17 = .ok (.iload_n 2, 1) := dk_28 (dk_at dksX4_torches_0 17 rfl rfl)
theorem dX4_torches_18 : decode cX4_torches 18 = .ok (.iadd, 1) := dk_96 (dk_at dksX4_torches_0 18 rfl rfl)
theorem dX4_torches_19 : decode cX4_torches 19 = .ok (.iaload, 1) := dk_46 (dk_at dksX4_torches_0 19 rfl rfl)
theorem dX4_torches_20 : decode cX4_torches 20 = .ok (.iadd, 1) := dk_96 (dk_at dksX4_torches_0 20 rfl rfl)
theorem dX4_torches_21 : decode cX4_torches 21 = .ok (.istore_n 1, 1) := dk_60 (dk_at dksX4_torches_0 21 rfl rfl)
theorem dX4_torches_22 : decode cX4_torches 22 = .ok (.iinc 2 1, 3) := dk_132 2 1 (dk_at dksX4_torches_1 0 rfl rfl)
theorem dX4_torches_25 : decode cX4_torches 25 = .ok (.goto (-21), 3) := dk_167 255 235 (dk_at dksX4_torches_1 3 rfl rfl)
theorem dX4_torches_28 : decode cX4_torches 28 = .ok (.iload_n 1, 1) := dk_27 (dk_at dksX4_torches_1 6 rfl rfl)
theorem dX4_torches_29 : decode cX4_torches 29 = .ok (.ireturn, 1) := dk_172 (dk_at dksX4_torches_1 7 rfl rfl)
abbrev cX4_removeTorch : ByteArray := prog_16_method_37_code
def yX4_removeTorch : MethodName := ⟨RX4, "removeTorch", "(I)I"⟩
def dkwX4_removeTorch_0 : List UInt8 := [42, 182, 0, 118, 42, 42, 27, 3, 182, 0, 150, 182, 0, 125, 172]
abbrev dktX4_removeTorch_0 : List UInt8 := dkwX4_removeTorch_0 ++ []
theorem dksX4_removeTorch_0 : cX4_removeTorch.data.toList.drop 0 = dktX4_removeTorch_0 := by decide +kernel
theorem dX4_removeTorch_0 : decode cX4_removeTorch 0 = .ok (.aload_n 0, 1) := dk_42 (dk_at dksX4_removeTorch_0 0 rfl rfl)
theorem dX4_removeTorch_1 : decode cX4_removeTorch 1 = .ok (.invokevirtual 118, 3) := dk_182 0 118 (dk_at dksX4_removeTorch_0 1 rfl rfl)
theorem dX4_removeTorch_4 : decode cX4_removeTorch 4 = .ok (.aload_n 0, 1) := dk_42 (dk_at dksX4_removeTorch_0 4 rfl rfl)
theorem dX4_removeTorch_5 : decode cX4_removeTorch 5 = .ok (.aload_n 0, 1) := dk_42 (dk_at dksX4_removeTorch_0 5 rfl rfl)
theorem dX4_removeTorch_6 : decode cX4_removeTorch 6 = .ok (.iload_n 1, 1) := dk_27 (dk_at dksX4_removeTorch_0 6 rfl rfl)
theorem dX4_removeTorch_7 : decode cX4_removeTorch 7 = .ok (.iconst 0, 1) := dk_3 (dk_at dksX4_removeTorch_0 7 rfl rfl)
theorem dX4_removeTorch_8 : decode cX4_removeTorch 8 = .ok (.invokevirtual 150, 3) := dk_182 0 150 (dk_at dksX4_removeTorch_0 8 rfl rfl)
theorem dX4_removeTorch_11 : decode cX4_removeTorch 11 = .ok (.invokevirtual 125, 3) := dk_182 0 125 (dk_at dksX4_removeTorch_0 11 rfl rfl)
theorem dX4_removeTorch_14 : decode cX4_removeTorch 14 = .ok (.ireturn, 1) := dk_172 (dk_at dksX4_removeTorch_0 14 rfl rfl)
abbrev cX4_canPlaceFoam : ByteArray := prog_16_method_39_code
def yX4_canPlaceFoam : MethodName := ⟨RX4, "canPlaceFoam", "(III)Z"⟩
def dkwX4_canPlaceFoam_0 : List UInt8 := [42, 3, 27, 28, 29, 182, 0, 153, 172]
abbrev dktX4_canPlaceFoam_0 : List UInt8 := dkwX4_canPlaceFoam_0 ++ []
theorem dksX4_canPlaceFoam_0 : cX4_canPlaceFoam.data.toList.drop 0 = dktX4_canPlaceFoam_0 := by decide +kernel
theorem dX4_canPlaceFoam_0 : decode cX4_canPlaceFoam 0 = .ok (.aload_n 0, 1) := dk_42 (dk_at dksX4_canPlaceFoam_0 0 rfl rfl)
theorem dX4_canPlaceFoam_1 : decode cX4_canPlaceFoam 1 = .ok (.iconst 0, 1) := dk_3 (dk_at dksX4_canPlaceFoam_0 1 rfl rfl)
theorem dX4_canPlaceFoam_2 : decode cX4_canPlaceFoam 2 = .ok (.iload_n 1, 1) := dk_27 (dk_at dksX4_canPlaceFoam_0 2 rfl rfl)
theorem dX4_canPlaceFoam_3 : decode cX4_canPlaceFoam 3 = .ok (.iload_n 2, 1) := dk_28 (dk_at dksX4_canPlaceFoam_0 3 rfl rfl)
theorem dX4_canPlaceFoam_4 : decode cX4_canPlaceFoam 4 = .ok (.iload_n 3, 1) := dk_29 (dk_at dksX4_canPlaceFoam_0 4 rfl rfl)
theorem dX4_canPlaceFoam_5 : decode cX4_canPlaceFoam 5 = .ok (.invokevirtual 153, 3) := dk_182 0 153 (dk_at dksX4_canPlaceFoam_0 5 rfl rfl)
theorem dX4_canPlaceFoam_8 : decode cX4_canPlaceFoam 8 = .ok (.ireturn, 1) := dk_172 (dk_at dksX4_canPlaceFoam_0 8 rfl rfl)
abbrev cX4_could : ByteArray := prog_16_method_38_code
def yX4_could : MethodName := ⟨RX4, "could", "(IIII)Z"⟩
def dkwX4_could_3 : List UInt8 := [21, 6, 172]
abbrev dktX4_could_3 : List UInt8 := dkwX4_could_3 ++ []
def dkwX4_could_2 : List UInt8 := [167, 0, 4, 3, 54, 6, 42, 42, 180, 0, 53, 4, 160, 0, 7, 4, 167, 0, 4, 3, 181, 0, 53]
abbrev dktX4_could_2 : List UInt8 := dkwX4_could_2 ++ dktX4_could_3
def dkwX4_could_1 : List UInt8 := [182, 0, 121, 54, 5, 42, 180, 0, 16, 42, 180, 0, 26, 184, 0, 56, 42, 180, 0, 53, 154, 0, 7, 4]
abbrev dktX4_could_1 : List UInt8 := dkwX4_could_1 ++ dktX4_could_2
def dkwX4_could_0 : List UInt8 := [42, 3, 181, 0, 53, 42, 180, 0, 26, 42, 180, 0, 16, 184, 0, 56, 42, 27, 28, 29, 21, 4]
abbrev dktX4_could_0 : List UInt8 := dkwX4_could_0 ++ dktX4_could_1
theorem dksX4_could_0 : cX4_could.data.toList.drop 0 = dktX4_could_0 := by decide +kernel
theorem dksX4_could_1 : cX4_could.data.toList.drop 22 = dktX4_could_1 := dk_seg dksX4_could_0 22 rfl rfl
theorem dksX4_could_2 : cX4_could.data.toList.drop 46 = dktX4_could_2 := dk_seg dksX4_could_1 24 rfl rfl
theorem dksX4_could_3 : cX4_could.data.toList.drop 69 = dktX4_could_3 := dk_seg dksX4_could_2 23 rfl rfl
theorem dX4_could_0 : decode cX4_could 0 = .ok (.aload_n 0, 1) := dk_42 (dk_at dksX4_could_0 0 rfl rfl)
theorem dX4_could_1 : decode cX4_could 1 = .ok (.iconst 0, 1) := dk_3 (dk_at dksX4_could_0 1 rfl rfl)
theorem dX4_could_2 : decode cX4_could 2 = .ok (.putfield 53, 3) := dk_181 0 53 (dk_at dksX4_could_0 2 rfl rfl)
theorem dX4_could_5 : decode cX4_could 5 = .ok (.aload_n 0, 1) := dk_42 (dk_at dksX4_could_0 5 rfl rfl)
theorem dX4_could_6 : decode cX4_could 6 = .ok (.getfield 26, 3) := dk_180 0 26 (dk_at dksX4_could_0 6 rfl rfl)
theorem dX4_could_9 : decode cX4_could 9 = .ok (.aload_n 0, 1) := dk_42 (dk_at dksX4_could_0 9 rfl rfl)
theorem dX4_could_10 : decode cX4_could 10 = .ok (.getfield 16, 3) := dk_180 0 16 (dk_at dksX4_could_0 10 rfl rfl)
theorem dX4_could_13 : decode cX4_could 13 = .ok (.invokestatic 56, 3) := dk_184 0 56 (dk_at dksX4_could_0 13 rfl rfl)
theorem dX4_could_16 : decode cX4_could 16 = .ok (.aload_n 0, 1) := dk_42 (dk_at dksX4_could_0 16 rfl rfl)
theorem dX4_could_17 : decode cX4_could 17 = .ok (.iload_n 1, 1) := dk_27 (dk_at dksX4_could_0 17 rfl rfl)
theorem dX4_could_18 : decode cX4_could 18 = .ok (.iload_n 2, 1) := dk_28 (dk_at dksX4_could_0 18 rfl rfl)
theorem dX4_could_19 : decode cX4_could 19 = .ok (.iload_n 3, 1) := dk_29 (dk_at dksX4_could_0 19 rfl rfl)
theorem dX4_could_20 : decode cX4_could 20 = .ok (.iload 4, 2) := dk_21 4 (dk_at dksX4_could_0 20 rfl rfl)
theorem dX4_could_22 : decode cX4_could 22 = .ok (.invokevirtual 121, 3) := dk_182 0 121 (dk_at dksX4_could_1 0 rfl rfl)
theorem dX4_could_25 : decode cX4_could 25 = .ok (.istore 5, 2) := dk_54 5 (dk_at dksX4_could_1 3 rfl rfl)
theorem dX4_could_27 : decode cX4_could 27 = .ok (.aload_n 0, 1) := dk_42 (dk_at dksX4_could_1 5 rfl rfl)
theorem dX4_could_28 : decode cX4_could 28 = .ok (.getfield 16, 3) := dk_180 0 16 (dk_at dksX4_could_1 6 rfl rfl)
theorem dX4_could_31 : decode cX4_could 31 = .ok (.aload_n 0, 1) := dk_42 (dk_at dksX4_could_1 9 rfl rfl)
theorem dX4_could_32 : decode cX4_could 32 = .ok (.getfield 26, 3) := dk_180 0 26 (dk_at dksX4_could_1 10 rfl rfl)
theorem dX4_could_35 : decode cX4_could 35 = .ok (.invokestatic 56, 3) := dk_184 0 56 (dk_at dksX4_could_1 13 rfl rfl)
theorem dX4_could_38 : decode cX4_could 38 = .ok (.aload_n 0, 1) := dk_42 (dk_at dksX4_could_1 16 rfl rfl)
theorem dX4_could_39 : decode cX4_could 39 = .ok (.getfield 53, 3) := dk_180 0 53 (dk_at dksX4_could_1 17 rfl rfl)
theorem dX4_could_42 : decode cX4_could 42 = .ok (.ifCond .ne 7, 3) := dk_154 0 7 (dk_at dksX4_could_1 20 rfl rfl)
theorem dX4_could_45 : decode cX4_could 45 = .ok (.iconst 1, 1) := dk_4 (dk_at dksX4_could_1 23 rfl rfl)
theorem dX4_could_46 : decode cX4_could 46 = .ok (.goto 4, 3) := dk_167 0 4 (dk_at dksX4_could_2 0 rfl rfl)
theorem dX4_could_49 : decode cX4_could 49 = .ok (.iconst 0, 1) := dk_3 (dk_at dksX4_could_2 3 rfl rfl)
theorem dX4_could_50 : decode cX4_could 50 = .ok (.istore 6, 2) := dk_54 6 (dk_at dksX4_could_2 4 rfl rfl)
theorem dX4_could_52 : decode cX4_could 52 = .ok (.aload_n 0, 1) := dk_42 (dk_at dksX4_could_2 6 rfl rfl)
theorem dX4_could_53 : decode cX4_could 53 = .ok (.aload_n 0, 1) := dk_42 (dk_at dksX4_could_2 7 rfl rfl)
theorem dX4_could_54 : decode cX4_could 54 = .ok (.getfield 53, 3) := dk_180 0 53 (dk_at dksX4_could_2 8 rfl rfl)
theorem dX4_could_57 : decode cX4_could 57 = .ok (.iconst 1, 1) := dk_4 (dk_at dksX4_could_2 11 rfl rfl)
theorem dX4_could_58 : decode cX4_could 58 = .ok (.if_icmp .ne 7, 3) := dk_160 0 7 (dk_at dksX4_could_2 12 rfl rfl)
theorem dX4_could_61 : decode cX4_could 61 = .ok (.iconst 1, 1) := dk_4 (dk_at dksX4_could_2 15 rfl rfl)
theorem dX4_could_62 : decode cX4_could 62 = .ok (.goto 4, 3) := dk_167 0 4 (dk_at dksX4_could_2 16 rfl rfl)
theorem dX4_could_65 : decode cX4_could 65 = .ok (.iconst 0, 1) := dk_3 (dk_at dksX4_could_2 19 rfl rfl)
theorem dX4_could_66 : decode cX4_could 66 = .ok (.putfield 53, 3) := dk_181 0 53 (dk_at dksX4_could_2 20 rfl rfl)
theorem dX4_could_69 : decode cX4_could 69 = .ok (.iload 6, 2) := dk_21 6 (dk_at dksX4_could_3 0 rfl rfl)
theorem dX4_could_71 : decode cX4_could 71 = .ok (.ireturn, 1) := dk_172 (dk_at dksX4_could_3 2 rfl rfl)
abbrev cX4_canPlaceBoard : ByteArray := prog_16_method_40_code
def yX4_canPlaceBoard : MethodName := ⟨RX4, "canPlaceBoard", "(III)Z"⟩
def dkwX4_canPlaceBoard_0 : List UInt8 := [42, 4, 27, 28, 29, 182, 0, 153, 172]
abbrev dktX4_canPlaceBoard_0 : List UInt8 := dkwX4_canPlaceBoard_0 ++ []
theorem dksX4_canPlaceBoard_0 : cX4_canPlaceBoard.data.toList.drop 0 = dktX4_canPlaceBoard_0 := by decide +kernel
theorem dX4_canPlaceBoard_0 : decode cX4_canPlaceBoard 0 = .ok (.aload_n 0, 1) := dk_42 (dk_at dksX4_canPlaceBoard_0 0 rfl rfl)
theorem dX4_canPlaceBoard_1 : decode cX4_canPlaceBoard 1 = .ok (.iconst 1, 1) := dk_4 (dk_at dksX4_canPlaceBoard_0 1 rfl rfl)
theorem dX4_canPlaceBoard_2 : decode cX4_canPlaceBoard 2 = .ok (.iload_n 1, 1) := dk_27 (dk_at dksX4_canPlaceBoard_0 2 rfl rfl)
theorem dX4_canPlaceBoard_3 : decode cX4_canPlaceBoard 3 = .ok (.iload_n 2, 1) := dk_28 (dk_at dksX4_canPlaceBoard_0 3 rfl rfl)
theorem dX4_canPlaceBoard_4 : decode cX4_canPlaceBoard 4 = .ok (.iload_n 3, 1) := dk_29 (dk_at dksX4_canPlaceBoard_0 4 rfl rfl)
theorem dX4_canPlaceBoard_5 : decode cX4_canPlaceBoard 5 = .ok (.invokevirtual 153, 3) := dk_182 0 153 (dk_at dksX4_canPlaceBoard_0 5 rfl rfl)
theorem dX4_canPlaceBoard_8 : decode cX4_canPlaceBoard 8 = .ok (.ireturn, 1) := dk_172 (dk_at dksX4_canPlaceBoard_0 8 rfl rfl)
abbrev cX4_canPlaceBag : ByteArray := prog_16_method_41_code
def yX4_canPlaceBag : MethodName := ⟨RX4, "canPlaceBag", "(III)Z"⟩
def dkwX4_canPlaceBag_0 : List UInt8 := [42, 5, 27, 28, 29, 182, 0, 153, 172]
abbrev dktX4_canPlaceBag_0 : List UInt8 := dkwX4_canPlaceBag_0 ++ []
theorem dksX4_canPlaceBag_0 : cX4_canPlaceBag.data.toList.drop 0 = dktX4_canPlaceBag_0 := by decide +kernel
theorem dX4_canPlaceBag_0 : decode cX4_canPlaceBag 0 = .ok (.aload_n 0, 1) := dk_42 (dk_at dksX4_canPlaceBag_0 0 rfl rfl)
theorem dX4_canPlaceBag_1 : decode cX4_canPlaceBag 1 = .ok (.iconst 2, 1) := dk_5 (dk_at dksX4_canPlaceBag_0 1 rfl rfl)
theorem dX4_canPlaceBag_2 : decode cX4_canPlaceBag 2 = .ok (.iload_n 1, 1) := dk_27 (dk_at dksX4_canPlaceBag_0 2 rfl rfl)
theorem dX4_canPlaceBag_3 : decode cX4_canPlaceBag 3 = .ok (.iload_n 2, 1) := dk_28 (dk_at dksX4_canPlaceBag_0 3 rfl rfl)
theorem dX4_canPlaceBag_4 : decode cX4_canPlaceBag 4 = .ok (.iload_n 3, 1) := dk_29 (dk_at dksX4_canPlaceBag_0 4 rfl rfl)
theorem dX4_canPlaceBag_5 : decode cX4_canPlaceBag 5 = .ok (.invokevirtual 153, 3) := dk_182 0 153 (dk_at dksX4_canPlaceBag_0 5 rfl rfl)
theorem dX4_canPlaceBag_8 : decode cX4_canPlaceBag 8 = .ok (.ireturn, 1) := dk_172 (dk_at dksX4_canPlaceBag_0 8 rfl rfl)
abbrev cX4_heaviestFoam : ByteArray := prog_16_method_42_code
def yX4_heaviestFoam : MethodName := ⟨RX4, "heaviestFoam", "(II)I"⟩
def dkwX4_heaviestFoam_2 : List UInt8 := [182, 0, 105, 172]
abbrev dktX4_heaviestFoam_2 : List UInt8 := dkwX4_heaviestFoam_2 ++ []
def dkwX4_heaviestFoam_1 : List UInt8 := [158, 0, 22, 42, 3, 27, 28, 29, 182, 0, 153, 153, 0, 5, 29, 172, 132, 3, 255, 167, 255, 236, 42, 5]
abbrev dktX4_heaviestFoam_1 : List UInt8 := dkwX4_heaviestFoam_1 ++ dktX4_heaviestFoam_2
def dkwX4_heaviestFoam_0 : List UInt8 := [42, 3, 181, 0, 53, 27, 28, 184, 0, 102, 154, 0, 9, 42, 4, 182, 0, 105, 172, 16, 9, 62, 29]
abbrev dktX4_heaviestFoam_0 : List UInt8 := dkwX4_heaviestFoam_0 ++ dktX4_heaviestFoam_1
theorem dksX4_heaviestFoam_0 : cX4_heaviestFoam.data.toList.drop 0 = dktX4_heaviestFoam_0 := by decide +kernel
theorem dksX4_heaviestFoam_1 : cX4_heaviestFoam.data.toList.drop 23 = dktX4_heaviestFoam_1 := dk_seg dksX4_heaviestFoam_0 23 rfl rfl
theorem dksX4_heaviestFoam_2 : cX4_heaviestFoam.data.toList.drop 47 = dktX4_heaviestFoam_2 := dk_seg dksX4_heaviestFoam_1 24 rfl rfl
theorem dX4_heaviestFoam_0 : decode cX4_heaviestFoam 0 = .ok (.aload_n 0, 1) := dk_42 (dk_at dksX4_heaviestFoam_0 0 rfl rfl)
theorem dX4_heaviestFoam_1 : decode cX4_heaviestFoam 1 = .ok (.iconst 0, 1) := dk_3 (dk_at dksX4_heaviestFoam_0 1 rfl rfl)
theorem dX4_heaviestFoam_2 : decode cX4_heaviestFoam 2 = .ok (.putfield 53, 3) := dk_181 0 53 (dk_at dksX4_heaviestFoam_0 2 rfl rfl)
theorem dX4_heaviestFoam_5 : decode cX4_heaviestFoam 5 = .ok (.iload_n 1, 1) := dk_27 (dk_at dksX4_heaviestFoam_0 5 rfl rfl)
theorem dX4_heaviestFoam_6 : decode cX4_heaviestFoam 6 = .ok (.iload_n 2, 1) := dk_28 (dk_at dksX4_heaviestFoam_0 6 rfl rfl)
theorem dX4_heaviestFoam_7 : decode cX4_heaviestFoam 7 = .ok (.invokestatic 102, 3) := dk_184 0 102 (dk_at dksX4_heaviestFoam_0 7 rfl rfl)
theorem dX4_heaviestFoam_10 : decode cX4_heaviestFoam 10 = .ok (.ifCond .ne 9, 3) := dk_154 0 9 (dk_at dksX4_heaviestFoam_0 10 rfl rfl)
theorem dX4_heaviestFoam_13 : decode cX4_heaviestFoam 13 = .ok (.aload_n 0, 1) := dk_42 (dk_at dksX4_heaviestFoam_0 13 rfl rfl)
theorem dX4_heaviestFoam_14 : decode cX4_heaviestFoam 14 = .ok (.iconst 1, 1) := dk_4 (dk_at dksX4_heaviestFoam_0 14 rfl rfl)
theorem dX4_heaviestFoam_15 : decode cX4_heaviestFoam 15 = .ok (.invokevirtual 105, 3) := dk_182 0 105 (dk_at dksX4_heaviestFoam_0 15 rfl rfl)
theorem dX4_heaviestFoam_18 : decode cX4_heaviestFoam 18 = .ok (.ireturn, 1) := dk_172 (dk_at dksX4_heaviestFoam_0 18 rfl rfl)
theorem dX4_heaviestFoam_19 : decode cX4_heaviestFoam 19 = .ok (.bipush 9, 2) := dk_16 9 (dk_at dksX4_heaviestFoam_0 19 rfl rfl)
theorem dX4_heaviestFoam_21 : decode cX4_heaviestFoam 21 = .ok (.istore_n 3, 1) := dk_62 (dk_at dksX4_heaviestFoam_0 21 rfl rfl)
theorem dX4_heaviestFoam_22 : decode cX4_heaviestFoam 22 = .ok (.iload_n 3, 1) := dk_29 (dk_at dksX4_heaviestFoam_0 22 rfl rfl)
theorem dX4_heaviestFoam_23 : decode cX4_heaviestFoam 23 = .ok (.ifCond .le 22, 3) := dk_158 0 22 (dk_at dksX4_heaviestFoam_1 0 rfl rfl)
theorem dX4_heaviestFoam_26 : decode cX4_heaviestFoam 26 = .ok (.aload_n 0, 1) := dk_42 (dk_at dksX4_heaviestFoam_1 3 rfl rfl)
theorem dX4_heaviestFoam_27 : decode cX4_heaviestFoam 27 = .ok (.iconst 0, 1) := dk_3 (dk_at dksX4_heaviestFoam_1 4 rfl rfl)
theorem dX4_heaviestFoam_28 : decode cX4_heaviestFoam 28 = .ok (.iload_n 1, 1) := dk_27 (dk_at dksX4_heaviestFoam_1 5 rfl rfl)
theorem dX4_heaviestFoam_29 : decode cX4_heaviestFoam 29 = .ok (.iload_n 2, 1) := dk_28 (dk_at dksX4_heaviestFoam_1 6 rfl rfl)
theorem dX4_heaviestFoam_30 : decode cX4_heaviestFoam 30 = .ok (.iload_n 3, 1) := dk_29 (dk_at dksX4_heaviestFoam_1 7 rfl rfl)
theorem dX4_heaviestFoam_31 : decode cX4_heaviestFoam 31 = .ok (.invokevirtual 153, 3) := dk_182 0 153 (dk_at dksX4_heaviestFoam_1 8 rfl rfl)
theorem dX4_heaviestFoam_34 : decode cX4_heaviestFoam 34 = .ok (.ifCond .eq 5, 3) := dk_153 0 5 (dk_at dksX4_heaviestFoam_1 11 rfl rfl)
theorem dX4_heaviestFoam_37 : decode cX4_heaviestFoam 37 = .ok (.iload_n 3, 1) := dk_29 (dk_at dksX4_heaviestFoam_1 14 rfl rfl)
theorem dX4_heaviestFoam_38 : decode cX4_heaviestFoam 38 = .ok (.ireturn, 1) := dk_172 (dk_at dksX4_heaviestFoam_1 15 rfl rfl)
theorem dX4_heaviestFoam_39 : decode cX4_heaviestFoam 39 = .ok (.iinc 3 (-1), 3) := dk_132 3 255 (dk_at dksX4_heaviestFoam_1 16 rfl rfl)
theorem dX4_heaviestFoam_42 : decode cX4_heaviestFoam 42 = .ok (.goto (-20), 3) := dk_167 255 236 (dk_at dksX4_heaviestFoam_1 19 rfl rfl)
theorem dX4_heaviestFoam_45 : decode cX4_heaviestFoam 45 = .ok (.aload_n 0, 1) := dk_42 (dk_at dksX4_heaviestFoam_1 22 rfl rfl)
theorem dX4_heaviestFoam_46 : decode cX4_heaviestFoam 46 = .ok (.iconst 2, 1) := dk_5 (dk_at dksX4_heaviestFoam_1 23 rfl rfl)
theorem dX4_heaviestFoam_47 : decode cX4_heaviestFoam 47 = .ok (.invokevirtual 105, 3) := dk_182 0 105 (dk_at dksX4_heaviestFoam_2 0 rfl rfl)
theorem dX4_heaviestFoam_50 : decode cX4_heaviestFoam 50 = .ok (.ireturn, 1) := dk_172 (dk_at dksX4_heaviestFoam_2 3 rfl rfl)
abbrev cX4_blockCount : ByteArray := prog_16_method_43_code
def yX4_blockCount : MethodName := ⟨RX4, "blockCount", "()I"⟩
def dkwX4_blockCount_0 : List UInt8 := [42, 3, 181, 0, 53, 42, 180, 0, 16, 3, 46, 172]
abbrev dktX4_blockCount_0 : List UInt8 := dkwX4_blockCount_0 ++ []
theorem dksX4_blockCount_0 : cX4_blockCount.data.toList.drop 0 = dktX4_blockCount_0 := by decide +kernel
theorem dX4_blockCount_0 : decode cX4_blockCount 0 = .ok (.aload_n 0, 1) := dk_42 (dk_at dksX4_blockCount_0 0 rfl rfl)
theorem dX4_blockCount_1 : decode cX4_blockCount 1 = .ok (.iconst 0, 1) := dk_3 (dk_at dksX4_blockCount_0 1 rfl rfl)
theorem dX4_blockCount_2 : decode cX4_blockCount 2 = .ok (.putfield 53, 3) := dk_181 0 53 (dk_at dksX4_blockCount_0 2 rfl rfl)
theorem dX4_blockCount_5 : decode cX4_blockCount 5 = .ok (.aload_n 0, 1) := dk_42 (dk_at dksX4_blockCount_0 5 rfl rfl)
theorem dX4_blockCount_6 : decode cX4_blockCount 6 = .ok (.getfield 16, 3) := dk_180 0 16 (dk_at dksX4_blockCount_0 6 rfl rfl)
theorem dX4_blockCount_9 : decode cX4_blockCount 9 = .ok (.iconst 0, 1) := dk_3 (dk_at dksX4_blockCount_0 9 rfl rfl)
theorem dX4_blockCount_10 : decode cX4_blockCount 10 = .ok (.iaload, 1) := dk_46 (dk_at dksX4_blockCount_0 10 rfl rfl)
theorem dX4_blockCount_11 : decode cX4_blockCount 11 = .ok (.ireturn, 1) := dk_172 (dk_at dksX4_blockCount_0 11 rfl rfl)
abbrev cX4_placedCount : ByteArray := prog_16_method_44_code
def yX4_placedCount : MethodName := ⟨RX4, "placedCount", "()I"⟩
def dkwX4_placedCount_0 : List UInt8 := [42, 3, 181, 0, 53, 42, 180, 0, 16, 4, 46, 172]
abbrev dktX4_placedCount_0 : List UInt8 := dkwX4_placedCount_0 ++ []
theorem dksX4_placedCount_0 : cX4_placedCount.data.toList.drop 0 = dktX4_placedCount_0 := by decide +kernel
theorem dX4_placedCount_0 : decode cX4_placedCount 0 = .ok (.aload_n 0, 1) := dk_42 (dk_at dksX4_placedCount_0 0 rfl rfl)
theorem dX4_placedCount_1 : decode cX4_placedCount 1 = .ok (.iconst 0, 1) := dk_3 (dk_at dksX4_placedCount_0 1 rfl rfl)
theorem dX4_placedCount_2 : decode cX4_placedCount 2 = .ok (.putfield 53, 3) := dk_181 0 53 (dk_at dksX4_placedCount_0 2 rfl rfl)
theorem dX4_placedCount_5 : decode cX4_placedCount 5 = .ok (.aload_n 0, 1) := dk_42 (dk_at dksX4_placedCount_0 5 rfl rfl)
theorem dX4_placedCount_6 : decode cX4_placedCount 6 = .ok (.getfield 16, 3) := dk_180 0 16 (dk_at dksX4_placedCount_0 6 rfl rfl)
theorem dX4_placedCount_9 : decode cX4_placedCount 9 = .ok (.iconst 1, 1) := dk_4 (dk_at dksX4_placedCount_0 9 rfl rfl)
theorem dX4_placedCount_10 : decode cX4_placedCount 10 = .ok (.iaload, 1) := dk_46 (dk_at dksX4_placedCount_0 10 rfl rfl)
theorem dX4_placedCount_11 : decode cX4_placedCount 11 = .ok (.ireturn, 1) := dk_172 (dk_at dksX4_placedCount_0 11 rfl rfl)
abbrev cX4_isPresent : ByteArray := prog_16_method_45_code
def yX4_isPresent : MethodName := ⟨RX4, "isPresent", "(I)Z"⟩
def dkwX4_isPresent_0 : List UInt8 := [42, 27, 182, 0, 128, 155, 0, 7, 4, 167, 0, 4, 3, 61, 42, 3, 181, 0, 53, 28, 172]
abbrev dktX4_isPresent_0 : List UInt8 := dkwX4_isPresent_0 ++ []
theorem dksX4_isPresent_0 : cX4_isPresent.data.toList.drop 0 = dktX4_isPresent_0 := by decide +kernel
theorem dX4_isPresent_0 : decode cX4_isPresent 0 = .ok (.aload_n 0, 1) := dk_42 (dk_at dksX4_isPresent_0 0 rfl rfl)
theorem dX4_isPresent_1 : decode cX4_isPresent 1 = .ok (.iload_n 1, 1) := dk_27 (dk_at dksX4_isPresent_0 1 rfl rfl)
theorem dX4_isPresent_2 : decode cX4_isPresent 2 = .ok (.invokevirtual 128, 3) := dk_182 0 128 (dk_at dksX4_isPresent_0 2 rfl rfl)
theorem dX4_isPresent_5 : decode cX4_isPresent 5 = .ok (.ifCond .lt 7, 3) := dk_155 0 7 (dk_at dksX4_isPresent_0 5 rfl rfl)
theorem dX4_isPresent_8 : decode cX4_isPresent 8 = .ok (.iconst 1, 1) := dk_4 (dk_at dksX4_isPresent_0 8 rfl rfl)
theorem dX4_isPresent_9 : decode cX4_isPresent 9 = .ok (.goto 4, 3) := dk_167 0 4 (dk_at dksX4_isPresent_0 9 rfl rfl)
theorem dX4_isPresent_12 : decode cX4_isPresent 12 = .ok (.iconst 0, 1) := dk_3 (dk_at dksX4_isPresent_0 12 rfl rfl)
theorem dX4_isPresent_13 : decode cX4_isPresent 13 = .ok (.istore_n 2, 1) := dk_61 (dk_at dksX4_isPresent_0 13 rfl rfl)
theorem dX4_isPresent_14 : decode cX4_isPresent 14 = .ok (.aload_n 0, 1) := dk_42 (dk_at dksX4_isPresent_0 14 rfl rfl)
theorem dX4_isPresent_15 : decode cX4_isPresent 15 = .ok (.iconst 0, 1) := dk_3 (dk_at dksX4_isPresent_0 15 rfl rfl)
theorem dX4_isPresent_16 : decode cX4_isPresent 16 = .ok (.putfield 53, 3) := dk_181 0 53 (dk_at dksX4_isPresent_0 16 rfl rfl)
theorem dX4_isPresent_19 : decode cX4_isPresent 19 = .ok (.iload_n 2, 1) := dk_28 (dk_at dksX4_isPresent_0 19 rfl rfl)
theorem dX4_isPresent_20 : decode cX4_isPresent 20 = .ok (.ireturn, 1) := dk_172 (dk_at dksX4_isPresent_0 20 rfl rfl)
abbrev cX4_blockAt : ByteArray := prog_16_method_46_code
def yX4_blockAt : MethodName := ⟨RX4, "blockAt", "(I)I"⟩
def dkwX4_blockAt_1 : List UInt8 := [181, 0, 53, 42, 180, 0, 53, 154, 0, 12, 42, 27, 3, 182, 0, 67, 167, 0, 4, 3, 172]
abbrev dktX4_blockAt_1 : List UInt8 := dkwX4_blockAt_1 ++ []
def dkwX4_blockAt_0 : List UInt8 := [42, 27, 3, 42, 180, 0, 16, 3, 46, 4, 100, 184, 0, 63, 153, 0, 7, 3, 167, 0, 4, 4]
abbrev dktX4_blockAt_0 : List UInt8 := dkwX4_blockAt_0 ++ dktX4_blockAt_1
theorem dksX4_blockAt_0 : cX4_blockAt.data.toList.drop 0 = dktX4_blockAt_0 := by decide +kernel
theorem dksX4_blockAt_1 : cX4_blockAt.data.toList.drop 22 = dktX4_blockAt_1 := dk_seg dksX4_blockAt_0 22 rfl rfl
theorem dX4_blockAt_0 : decode cX4_blockAt 0 = .ok (.aload_n 0, 1) := dk_42 (dk_at dksX4_blockAt_0 0 rfl rfl)
theorem dX4_blockAt_1 : decode cX4_blockAt 1 = .ok (.iload_n 1, 1) := dk_27 (dk_at dksX4_blockAt_0 1 rfl rfl)
theorem dX4_blockAt_2 : decode cX4_blockAt 2 = .ok (.iconst 0, 1) := dk_3 (dk_at dksX4_blockAt_0 2 rfl rfl)
theorem dX4_blockAt_3 : decode cX4_blockAt 3 = .ok (.aload_n 0, 1) := dk_42 (dk_at dksX4_blockAt_0 3 rfl rfl)
theorem dX4_blockAt_4 : decode cX4_blockAt 4 = .ok (.getfield 16, 3) := dk_180 0 16 (dk_at dksX4_blockAt_0 4 rfl rfl)
theorem dX4_blockAt_7 : decode cX4_blockAt 7 = .ok (.iconst 0, 1) := dk_3 (dk_at dksX4_blockAt_0 7 rfl rfl)
theorem dX4_blockAt_8 : decode cX4_blockAt 8 = .ok (.iaload, 1) := dk_46 (dk_at dksX4_blockAt_0 8 rfl rfl)
theorem dX4_blockAt_9 : decode cX4_blockAt 9 = .ok (.iconst 1, 1) := dk_4 (dk_at dksX4_blockAt_0 9 rfl rfl)
theorem dX4_blockAt_10 : decode cX4_blockAt 10 = .ok (.isub, 1) := dk_100 (dk_at dksX4_blockAt_0 10 rfl rfl)
theorem dX4_blockAt_11 : decode cX4_blockAt 11 = .ok (.invokestatic 63, 3) := dk_184 0 63 (dk_at dksX4_blockAt_0 11 rfl rfl)
theorem dX4_blockAt_14 : decode cX4_blockAt 14 = .ok (.ifCond .eq 7, 3) := dk_153 0 7 (dk_at dksX4_blockAt_0 14 rfl rfl)
theorem dX4_blockAt_17 : decode cX4_blockAt 17 = .ok (.iconst 0, 1) := dk_3 (dk_at dksX4_blockAt_0 17 rfl rfl)
theorem dX4_blockAt_18 : decode cX4_blockAt 18 = .ok (.goto 4, 3) := dk_167 0 4 (dk_at dksX4_blockAt_0 18 rfl rfl)
theorem dX4_blockAt_21 : decode cX4_blockAt 21 = .ok (.iconst 1, 1) := dk_4 (dk_at dksX4_blockAt_0 21 rfl rfl)
theorem dX4_blockAt_22 : decode cX4_blockAt 22 = .ok (.putfield 53, 3) := dk_181 0 53 (dk_at dksX4_blockAt_1 0 rfl rfl)
theorem dX4_blockAt_25 : decode cX4_blockAt 25 = .ok (.aload_n 0, 1) := dk_42 (dk_at dksX4_blockAt_1 3 rfl rfl)
theorem dX4_blockAt_26 : decode cX4_blockAt 26 = .ok (.getfield 53, 3) := dk_180 0 53 (dk_at dksX4_blockAt_1 4 rfl rfl)
theorem dX4_blockAt_29 : decode cX4_blockAt 29 = .ok (.ifCond .ne 12, 3) := dk_154 0 12 (dk_at dksX4_blockAt_1 7 rfl rfl)
theorem dX4_blockAt_32 : decode cX4_blockAt 32 = .ok (.aload_n 0, 1) := dk_42 (dk_at dksX4_blockAt_1 10 rfl rfl)
theorem dX4_blockAt_33 : decode cX4_blockAt 33 = .ok (.iload_n 1, 1) := dk_27 (dk_at dksX4_blockAt_1 11 rfl rfl)
theorem dX4_blockAt_34 : decode cX4_blockAt 34 = .ok (.iconst 0, 1) := dk_3 (dk_at dksX4_blockAt_1 12 rfl rfl)
theorem dX4_blockAt_35 : decode cX4_blockAt 35 = .ok (.invokevirtual 67, 3) := dk_182 0 67 (dk_at dksX4_blockAt_1 13 rfl rfl)
theorem dX4_blockAt_38 : decode cX4_blockAt 38 = .ok (.goto 4, 3) := dk_167 0 4 (dk_at dksX4_blockAt_1 16 rfl rfl)
theorem dX4_blockAt_41 : decode cX4_blockAt 41 = .ok (.iconst 0, 1) := dk_3 (dk_at dksX4_blockAt_1 19 rfl rfl)
theorem dX4_blockAt_42 : decode cX4_blockAt 42 = .ok (.ireturn, 1) := dk_172 (dk_at dksX4_blockAt_1 20 rfl rfl)
abbrev cX4_isFoam : ByteArray := prog_16_method_48_code
def yX4_isFoam : MethodName := ⟨RX4, "isFoam", "(I)Z"⟩
def dkwX4_isFoam_0 : List UInt8 := [42, 27, 3, 182, 0, 157, 172]
abbrev dktX4_isFoam_0 : List UInt8 := dkwX4_isFoam_0 ++ []
theorem dksX4_isFoam_0 : cX4_isFoam.data.toList.drop 0 = dktX4_isFoam_0 := by decide +kernel
theorem dX4_isFoam_0 : decode cX4_isFoam 0 = .ok (.aload_n 0, 1) := dk_42 (dk_at dksX4_isFoam_0 0 rfl rfl)
theorem dX4_isFoam_1 : decode cX4_isFoam 1 = .ok (.iload_n 1, 1) := dk_27 (dk_at dksX4_isFoam_0 1 rfl rfl)
theorem dX4_isFoam_2 : decode cX4_isFoam 2 = .ok (.iconst 0, 1) := dk_3 (dk_at dksX4_isFoam_0 2 rfl rfl)
theorem dX4_isFoam_3 : decode cX4_isFoam 3 = .ok (.invokevirtual 157, 3) := dk_182 0 157 (dk_at dksX4_isFoam_0 3 rfl rfl)
theorem dX4_isFoam_6 : decode cX4_isFoam 6 = .ok (.ireturn, 1) := dk_172 (dk_at dksX4_isFoam_0 6 rfl rfl)
abbrev cX4_isOf : ByteArray := prog_16_method_47_code
def yX4_isOf : MethodName := ⟨RX4, "isOf", "(II)Z"⟩
def dkwX4_isOf_1 : List UInt8 := [3, 172]
abbrev dktX4_isOf_1 : List UInt8 := dkwX4_isOf_1 ++ []
def dkwX4_isOf_0 : List UInt8 := [42, 27, 182, 0, 128, 62, 29, 155, 0, 17, 42, 29, 4, 182, 0, 67, 28, 160, 0, 7, 4, 167, 0, 4]
abbrev dktX4_isOf_0 : List UInt8 := dkwX4_isOf_0 ++ dktX4_isOf_1
theorem dksX4_isOf_0 : cX4_isOf.data.toList.drop 0 = dktX4_isOf_0 := by decide +kernel
theorem dksX4_isOf_1 : cX4_isOf.data.toList.drop 24 = dktX4_isOf_1 := dk_seg dksX4_isOf_0 24 rfl rfl
theorem dX4_isOf_0 : decode cX4_isOf 0 = .ok (.aload_n 0, 1) := dk_42 (dk_at dksX4_isOf_0 0 rfl rfl)
theorem dX4_isOf_1 : decode cX4_isOf 1 = .ok (.iload_n 1, 1) := dk_27 (dk_at dksX4_isOf_0 1 rfl rfl)
theorem dX4_isOf_2 : decode cX4_isOf 2 = .ok (.invokevirtual 128, 3) := dk_182 0 128 (dk_at dksX4_isOf_0 2 rfl rfl)
theorem dX4_isOf_5 : decode cX4_isOf 5 = .ok (.istore_n 3, 1) := dk_62 (dk_at dksX4_isOf_0 5 rfl rfl)
theorem dX4_isOf_6 : decode cX4_isOf 6 = .ok (.iload_n 3, 1) := dk_29 (dk_at dksX4_isOf_0 6 rfl rfl)
theorem dX4_isOf_7 : decode cX4_isOf 7 = .ok (.ifCond .lt 17, 3) := dk_155 0 17 (dk_at dksX4_isOf_0 7 rfl rfl)
theorem dX4_isOf_10 : decode cX4_isOf 10 = .ok (.aload_n 0, 1) := dk_42 (dk_at dksX4_isOf_0 10 rfl rfl)
theorem dX4_isOf_11 : decode cX4_isOf 11 = .ok (.iload_n 3, 1) := dk_29 (dk_at dksX4_isOf_0 11 rfl rfl)
theorem dX4_isOf_12 : decode cX4_isOf 12 = .ok (.iconst 1, 1) := dk_4 (dk_at dksX4_isOf_0 12 rfl rfl)
theorem dX4_isOf_13 : decode cX4_isOf 13 = .ok (.invokevirtual 67, 3) := dk_182 0 67 (dk_at dksX4_isOf_0 13 rfl rfl)
theorem dX4_isOf_16 : decode cX4_isOf 16 = .ok (.iload_n 2, 1) := dk_28 (dk_at dksX4_isOf_0 16 rfl rfl)
theorem dX4_isOf_17 : decode cX4_isOf 17 = .ok (.if_icmp .ne 7, 3) := dk_160 0 7 (dk_at dksX4_isOf_0 17 rfl rfl)
theorem dX4_isOf_20 : decode cX4_isOf 20 = .ok (.iconst 1, 1) := dk_4 (dk_at dksX4_isOf_0 20 rfl rfl)
theorem dX4_isOf_21 : decode cX4_isOf 21 = .ok (.goto 4, 3) := dk_167 0 4 (dk_at dksX4_isOf_0 21 rfl rfl)
theorem dX4_isOf_24 : decode cX4_isOf 24 = .ok (.iconst 0, 1) := dk_3 (dk_at dksX4_isOf_1 0 rfl rfl)
theorem dX4_isOf_25 : decode cX4_isOf 25 = .ok (.ireturn, 1) := dk_172 (dk_at dksX4_isOf_1 1 rfl rfl)
abbrev cX4_isBoard : ByteArray := prog_16_method_49_code
def yX4_isBoard : MethodName := ⟨RX4, "isBoard", "(I)Z"⟩
def dkwX4_isBoard_0 : List UInt8 := [42, 27, 4, 182, 0, 157, 172]
abbrev dktX4_isBoard_0 : List UInt8 := dkwX4_isBoard_0 ++ []
theorem dksX4_isBoard_0 : cX4_isBoard.data.toList.drop 0 = dktX4_isBoard_0 := by decide +kernel
theorem dX4_isBoard_0 : decode cX4_isBoard 0 = .ok (.aload_n 0, 1) := dk_42 (dk_at dksX4_isBoard_0 0 rfl rfl)
theorem dX4_isBoard_1 : decode cX4_isBoard 1 = .ok (.iload_n 1, 1) := dk_27 (dk_at dksX4_isBoard_0 1 rfl rfl)
theorem dX4_isBoard_2 : decode cX4_isBoard 2 = .ok (.iconst 1, 1) := dk_4 (dk_at dksX4_isBoard_0 2 rfl rfl)
theorem dX4_isBoard_3 : decode cX4_isBoard 3 = .ok (.invokevirtual 157, 3) := dk_182 0 157 (dk_at dksX4_isBoard_0 3 rfl rfl)
theorem dX4_isBoard_6 : decode cX4_isBoard 6 = .ok (.ireturn, 1) := dk_172 (dk_at dksX4_isBoard_0 6 rfl rfl)
abbrev cX4_left : ByteArray := prog_16_method_51_code
def yX4_left : MethodName := ⟨RX4, "left", "(I)I"⟩
def dkwX4_left_0 : List UInt8 := [42, 27, 5, 182, 0, 160, 172]
abbrev dktX4_left_0 : List UInt8 := dkwX4_left_0 ++ []
theorem dksX4_left_0 : cX4_left.data.toList.drop 0 = dktX4_left_0 := by decide +kernel
theorem dX4_left_0 : decode cX4_left 0 = .ok (.aload_n 0, 1) := dk_42 (dk_at dksX4_left_0 0 rfl rfl)
theorem dX4_left_1 : decode cX4_left 1 = .ok (.iload_n 1, 1) := dk_27 (dk_at dksX4_left_0 1 rfl rfl)
theorem dX4_left_2 : decode cX4_left 2 = .ok (.iconst 2, 1) := dk_5 (dk_at dksX4_left_0 2 rfl rfl)
theorem dX4_left_3 : decode cX4_left 3 = .ok (.invokevirtual 160, 3) := dk_182 0 160 (dk_at dksX4_left_0 3 rfl rfl)
theorem dX4_left_6 : decode cX4_left 6 = .ok (.ireturn, 1) := dk_172 (dk_at dksX4_left_0 6 rfl rfl)
abbrev cX4_tells : ByteArray := prog_16_method_50_code
def yX4_tells : MethodName := ⟨RX4, "tells", "(II)I"⟩
def dkwX4_tells_0 : List UInt8 := [42, 27, 182, 0, 128, 62, 29, 156, 0, 7, 3, 167, 0, 9, 42, 29, 28, 182, 0, 67, 172]
abbrev dktX4_tells_0 : List UInt8 := dkwX4_tells_0 ++ []
theorem dksX4_tells_0 : cX4_tells.data.toList.drop 0 = dktX4_tells_0 := by decide +kernel
theorem dX4_tells_0 : decode cX4_tells 0 = .ok (.aload_n 0, 1) := dk_42 (dk_at dksX4_tells_0 0 rfl rfl)
theorem dX4_tells_1 : decode cX4_tells 1 = .ok (.iload_n 1, 1) := dk_27 (dk_at dksX4_tells_0 1 rfl rfl)
theorem dX4_tells_2 : decode cX4_tells 2 = .ok (.invokevirtual 128, 3) := dk_182 0 128 (dk_at dksX4_tells_0 2 rfl rfl)
theorem dX4_tells_5 : decode cX4_tells 5 = .ok (.istore_n 3, 1) := dk_62 (dk_at dksX4_tells_0 5 rfl rfl)
theorem dX4_tells_6 : decode cX4_tells 6 = .ok (.iload_n 3, 1) := dk_29 (dk_at dksX4_tells_0 6 rfl rfl)
theorem dX4_tells_7 : decode cX4_tells 7 = .ok (.ifCond .ge 7, 3) := dk_156 0 7 (dk_at dksX4_tells_0 7 rfl rfl)
theorem dX4_tells_10 : decode cX4_tells 10 = .ok (.iconst 0, 1) := dk_3 (dk_at dksX4_tells_0 10 rfl rfl)
theorem dX4_tells_11 : decode cX4_tells 11 = .ok (.goto 9, 3) := dk_167 0 9 (dk_at dksX4_tells_0 11 rfl rfl)
theorem dX4_tells_14 : decode cX4_tells 14 = .ok (.aload_n 0, 1) := dk_42 (dk_at dksX4_tells_0 14 rfl rfl)
theorem dX4_tells_15 : decode cX4_tells 15 = .ok (.iload_n 3, 1) := dk_29 (dk_at dksX4_tells_0 15 rfl rfl)
theorem dX4_tells_16 : decode cX4_tells 16 = .ok (.iload_n 2, 1) := dk_28 (dk_at dksX4_tells_0 16 rfl rfl)
theorem dX4_tells_17 : decode cX4_tells 17 = .ok (.invokevirtual 67, 3) := dk_182 0 67 (dk_at dksX4_tells_0 17 rfl rfl)
theorem dX4_tells_20 : decode cX4_tells 20 = .ok (.ireturn, 1) := dk_172 (dk_at dksX4_tells_0 20 rfl rfl)
abbrev cX4_width : ByteArray := prog_16_method_52_code
def yX4_width : MethodName := ⟨RX4, "width", "(I)I"⟩
def dkwX4_width_0 : List UInt8 := [42, 27, 6, 182, 0, 160, 172]
abbrev dktX4_width_0 : List UInt8 := dkwX4_width_0 ++ []
theorem dksX4_width_0 : cX4_width.data.toList.drop 0 = dktX4_width_0 := by decide +kernel
theorem dX4_width_0 : decode cX4_width 0 = .ok (.aload_n 0, 1) := dk_42 (dk_at dksX4_width_0 0 rfl rfl)
theorem dX4_width_1 : decode cX4_width 1 = .ok (.iload_n 1, 1) := dk_27 (dk_at dksX4_width_0 1 rfl rfl)
theorem dX4_width_2 : decode cX4_width 2 = .ok (.iconst 3, 1) := dk_6 (dk_at dksX4_width_0 2 rfl rfl)
theorem dX4_width_3 : decode cX4_width 3 = .ok (.invokevirtual 160, 3) := dk_182 0 160 (dk_at dksX4_width_0 3 rfl rfl)
theorem dX4_width_6 : decode cX4_width 6 = .ok (.ireturn, 1) := dk_172 (dk_at dksX4_width_0 6 rfl rfl)
abbrev cX4_weight : ByteArray := prog_16_method_53_code
def yX4_weight : MethodName := ⟨RX4, "weight", "(I)I"⟩
def dkwX4_weight_0 : List UInt8 := [42, 27, 7, 182, 0, 160, 172]
abbrev dktX4_weight_0 : List UInt8 := dkwX4_weight_0 ++ []
theorem dksX4_weight_0 : cX4_weight.data.toList.drop 0 = dktX4_weight_0 := by decide +kernel
theorem dX4_weight_0 : decode cX4_weight 0 = .ok (.aload_n 0, 1) := dk_42 (dk_at dksX4_weight_0 0 rfl rfl)
theorem dX4_weight_1 : decode cX4_weight 1 = .ok (.iload_n 1, 1) := dk_27 (dk_at dksX4_weight_0 1 rfl rfl)
theorem dX4_weight_2 : decode cX4_weight 2 = .ok (.iconst 4, 1) := dk_7 (dk_at dksX4_weight_0 2 rfl rfl)
theorem dX4_weight_3 : decode cX4_weight 3 = .ok (.invokevirtual 160, 3) := dk_182 0 160 (dk_at dksX4_weight_0 3 rfl rfl)
theorem dX4_weight_6 : decode cX4_weight 6 = .ok (.ireturn, 1) := dk_172 (dk_at dksX4_weight_0 6 rfl rfl)
abbrev cX4_strength : ByteArray := prog_16_method_54_code
def yX4_strength : MethodName := ⟨RX4, "strength", "(I)I"⟩
def dkwX4_strength_0 : List UInt8 := [42, 27, 182, 0, 128, 61, 28, 156, 0, 7, 3, 167, 0, 8, 42, 28, 182, 0, 95, 172]
abbrev dktX4_strength_0 : List UInt8 := dkwX4_strength_0 ++ []
theorem dksX4_strength_0 : cX4_strength.data.toList.drop 0 = dktX4_strength_0 := by decide +kernel
theorem dX4_strength_0 : decode cX4_strength 0 = .ok (.aload_n 0, 1) := dk_42 (dk_at dksX4_strength_0 0 rfl rfl)
theorem dX4_strength_1 : decode cX4_strength 1 = .ok (.iload_n 1, 1) := dk_27 (dk_at dksX4_strength_0 1 rfl rfl)
theorem dX4_strength_2 : decode cX4_strength 2 = .ok (.invokevirtual 128, 3) := dk_182 0 128 (dk_at dksX4_strength_0 2 rfl rfl)
theorem dX4_strength_5 : decode cX4_strength 5 = .ok (.istore_n 2, 1) := dk_61 (dk_at dksX4_strength_0 5 rfl rfl)
theorem dX4_strength_6 : decode cX4_strength 6 = .ok (.iload_n 2, 1) := dk_28 (dk_at dksX4_strength_0 6 rfl rfl)
theorem dX4_strength_7 : decode cX4_strength 7 = .ok (.ifCond .ge 7, 3) := dk_156 0 7 (dk_at dksX4_strength_0 7 rfl rfl)
theorem dX4_strength_10 : decode cX4_strength 10 = .ok (.iconst 0, 1) := dk_3 (dk_at dksX4_strength_0 10 rfl rfl)
theorem dX4_strength_11 : decode cX4_strength 11 = .ok (.goto 8, 3) := dk_167 0 8 (dk_at dksX4_strength_0 11 rfl rfl)
theorem dX4_strength_14 : decode cX4_strength 14 = .ok (.aload_n 0, 1) := dk_42 (dk_at dksX4_strength_0 14 rfl rfl)
theorem dX4_strength_15 : decode cX4_strength 15 = .ok (.iload_n 2, 1) := dk_28 (dk_at dksX4_strength_0 15 rfl rfl)
theorem dX4_strength_16 : decode cX4_strength 16 = .ok (.invokevirtual 95, 3) := dk_182 0 95 (dk_at dksX4_strength_0 16 rfl rfl)
theorem dX4_strength_19 : decode cX4_strength 19 = .ok (.ireturn, 1) := dk_172 (dk_at dksX4_strength_0 19 rfl rfl)
abbrev cX4_bottom : ByteArray := prog_16_method_55_code
def yX4_bottom : MethodName := ⟨RX4, "bottom", "(I)I"⟩
def dkwX4_bottom_0 : List UInt8 := [42, 27, 8, 182, 0, 160, 172]
abbrev dktX4_bottom_0 : List UInt8 := dkwX4_bottom_0 ++ []
theorem dksX4_bottom_0 : cX4_bottom.data.toList.drop 0 = dktX4_bottom_0 := by decide +kernel
theorem dX4_bottom_0 : decode cX4_bottom 0 = .ok (.aload_n 0, 1) := dk_42 (dk_at dksX4_bottom_0 0 rfl rfl)
theorem dX4_bottom_1 : decode cX4_bottom 1 = .ok (.iload_n 1, 1) := dk_27 (dk_at dksX4_bottom_0 1 rfl rfl)
theorem dX4_bottom_2 : decode cX4_bottom 2 = .ok (.iconst 5, 1) := dk_8 (dk_at dksX4_bottom_0 2 rfl rfl)
theorem dX4_bottom_3 : decode cX4_bottom 3 = .ok (.invokevirtual 160, 3) := dk_182 0 160 (dk_at dksX4_bottom_0 3 rfl rfl)
theorem dX4_bottom_6 : decode cX4_bottom 6 = .ok (.ireturn, 1) := dk_172 (dk_at dksX4_bottom_0 6 rfl rfl)
abbrev cX4_top : ByteArray := prog_16_method_56_code
def yX4_top : MethodName := ⟨RX4, "top", "(I)I"⟩
def dkwX4_top_0 : List UInt8 := [42, 27, 182, 0, 128, 61, 28, 156, 0, 7, 3, 167, 0, 8, 42, 28, 182, 0, 75, 172]
abbrev dktX4_top_0 : List UInt8 := dkwX4_top_0 ++ []
theorem dksX4_top_0 : cX4_top.data.toList.drop 0 = dktX4_top_0 := by decide +kernel
theorem dX4_top_0 : decode cX4_top 0 = .ok (.aload_n 0, 1) := dk_42 (dk_at dksX4_top_0 0 rfl rfl)
theorem dX4_top_1 : decode cX4_top 1 = .ok (.iload_n 1, 1) := dk_27 (dk_at dksX4_top_0 1 rfl rfl)
theorem dX4_top_2 : decode cX4_top 2 = .ok (.invokevirtual 128, 3) := dk_182 0 128 (dk_at dksX4_top_0 2 rfl rfl)
theorem dX4_top_5 : decode cX4_top 5 = .ok (.istore_n 2, 1) := dk_61 (dk_at dksX4_top_0 5 rfl rfl)
theorem dX4_top_6 : decode cX4_top 6 = .ok (.iload_n 2, 1) := dk_28 (dk_at dksX4_top_0 6 rfl rfl)
theorem dX4_top_7 : decode cX4_top 7 = .ok (.ifCond .ge 7, 3) := dk_156 0 7 (dk_at dksX4_top_0 7 rfl rfl)
theorem dX4_top_10 : decode cX4_top 10 = .ok (.iconst 0, 1) := dk_3 (dk_at dksX4_top_0 10 rfl rfl)
theorem dX4_top_11 : decode cX4_top 11 = .ok (.goto 8, 3) := dk_167 0 8 (dk_at dksX4_top_0 11 rfl rfl)
theorem dX4_top_14 : decode cX4_top 14 = .ok (.aload_n 0, 1) := dk_42 (dk_at dksX4_top_0 14 rfl rfl)
theorem dX4_top_15 : decode cX4_top 15 = .ok (.iload_n 2, 1) := dk_28 (dk_at dksX4_top_0 15 rfl rfl)
theorem dX4_top_16 : decode cX4_top 16 = .ok (.invokevirtual 75, 3) := dk_182 0 75 (dk_at dksX4_top_0 16 rfl rfl)
theorem dX4_top_19 : decode cX4_top 19 = .ok (.ireturn, 1) := dk_172 (dk_at dksX4_top_0 19 rfl rfl)
abbrev cX4_supporterCount : ByteArray := prog_16_method_57_code
def yX4_supporterCount : MethodName := ⟨RX4, "supporterCount", "(I)I"⟩
def dkwX4_supporterCount_0 : List UInt8 := [42, 27, 182, 0, 128, 61, 28, 156, 0, 7, 3, 167, 0, 8, 42, 28, 182, 0, 82, 172]
abbrev dktX4_supporterCount_0 : List UInt8 := dkwX4_supporterCount_0 ++ []
theorem dksX4_supporterCount_0 : cX4_supporterCount.data.toList.drop 0 = dktX4_supporterCount_0 := by decide +kernel
theorem dX4_supporterCount_0 : decode cX4_supporterCount 0 = .ok (.aload_n 0, 1) := dk_42 (dk_at dksX4_supporterCount_0 0 rfl rfl)
theorem dX4_supporterCount_1 : decode cX4_supporterCount 1 = .ok (.iload_n 1, 1) := dk_27 (dk_at dksX4_supporterCount_0 1 rfl rfl)
theorem dX4_supporterCount_2 : decode cX4_supporterCount 2 = .ok (.invokevirtual 128, 3) := dk_182 0 128 (dk_at dksX4_supporterCount_0 2 rfl rfl)
theorem dX4_supporterCount_5 : decode cX4_supporterCount 5 = .ok (.istore_n 2, 1) := dk_61 (dk_at dksX4_supporterCount_0 5 rfl rfl)
theorem dX4_supporterCount_6 : decode cX4_supporterCount 6 = .ok (.iload_n 2, 1) := dk_28 (dk_at dksX4_supporterCount_0 6 rfl rfl)
theorem dX4_supporterCount_7 : decode cX4_supporterCount 7 = .ok (.ifCond .ge 7, 3) := dk_156 0 7 (dk_at dksX4_supporterCount_0 7 rfl rfl)
theorem dX4_supporterCount_10 : decode cX4_supporterCount 10 = .ok (.iconst 0, 1) := dk_3 (dk_at dksX4_supporterCount_0 10 rfl rfl)
theorem dX4_supporterCount_11 : decode cX4_supporterCount 11 = .ok (.goto 8, 3) := dk_167 0 8 (dk_at dksX4_supporterCount_0 11 rfl rfl)
theorem dX4_supporterCount_14 : decode cX4_supporterCount 14 = .ok (.aload_n 0, 1) := dk_42 (dk_at dksX4_supporterCount_0 14 rfl rfl)
theorem dX4_supporterCount_15 : decode cX4_supporterCount 15 = .ok (.iload_n 2, 1) := dk_28 (dk_at dksX4_supporterCount_0 15 rfl rfl)
theorem dX4_supporterCount_16 : decode cX4_supporterCount 16 = .ok (.invokevirtual 82, 3) := dk_182 0 82 (dk_at dksX4_supporterCount_0 16 rfl rfl)
theorem dX4_supporterCount_19 : decode cX4_supporterCount 19 = .ok (.ireturn, 1) := dk_172 (dk_at dksX4_supporterCount_0 19 rfl rfl)
abbrev cX4_supporterAt : ByteArray := prog_16_method_58_code
def yX4_supporterAt : MethodName := ⟨RX4, "supporterAt", "(II)I"⟩
def dkwX4_supporterAt_2 : List UInt8 := [42, 21, 4, 3, 182, 0, 67, 172, 132, 4, 1, 167, 255, 213, 42, 4, 182, 0, 105, 172]
abbrev dktX4_supporterAt_2 : List UInt8 := dkwX4_supporterAt_2 ++ []
def dkwX4_supporterAt_1 : List UInt8 := [162, 0, 38, 42, 21, 4, 29, 182, 0, 79, 153, 0, 22, 42, 21, 4, 29, 182, 0, 85, 28, 160, 0, 11]
abbrev dktX4_supporterAt_1 : List UInt8 := dkwX4_supporterAt_1 ++ dktX4_supporterAt_2
def dkwX4_supporterAt_0 : List UInt8 := [42, 27, 182, 0, 128, 62, 29, 156, 0, 5, 3, 172, 3, 54, 4, 21, 4, 42, 180, 0, 16, 3, 46]
abbrev dktX4_supporterAt_0 : List UInt8 := dkwX4_supporterAt_0 ++ dktX4_supporterAt_1
theorem dksX4_supporterAt_0 : cX4_supporterAt.data.toList.drop 0 = dktX4_supporterAt_0 := by decide +kernel
theorem dksX4_supporterAt_1 : cX4_supporterAt.data.toList.drop 23 = dktX4_supporterAt_1 := dk_seg dksX4_supporterAt_0 23 rfl rfl
theorem dksX4_supporterAt_2 : cX4_supporterAt.data.toList.drop 47 = dktX4_supporterAt_2 := dk_seg dksX4_supporterAt_1 24 rfl rfl
theorem dX4_supporterAt_0 : decode cX4_supporterAt 0 = .ok (.aload_n 0, 1) := dk_42 (dk_at dksX4_supporterAt_0 0 rfl rfl)
theorem dX4_supporterAt_1 : decode cX4_supporterAt 1 = .ok (.iload_n 1, 1) := dk_27 (dk_at dksX4_supporterAt_0 1 rfl rfl)
theorem dX4_supporterAt_2 : decode cX4_supporterAt 2 = .ok (.invokevirtual 128, 3) := dk_182 0 128 (dk_at dksX4_supporterAt_0 2 rfl rfl)
theorem dX4_supporterAt_5 : decode cX4_supporterAt 5 = .ok (.istore_n 3, 1) := dk_62 (dk_at dksX4_supporterAt_0 5 rfl rfl)
theorem dX4_supporterAt_6 : decode cX4_supporterAt 6 = .ok (.iload_n 3, 1) := dk_29 (dk_at dksX4_supporterAt_0 6 rfl rfl)
theorem dX4_supporterAt_7 : decode cX4_supporterAt 7 = .ok (.ifCond .ge 5, 3) := dk_156 0 5 (dk_at dksX4_supporterAt_0 7 rfl rfl)
theorem dX4_supporterAt_10 : decode cX4_supporterAt 10 = .ok (.iconst 0, 1) := dk_3 (dk_at dksX4_supporterAt_0 10 rfl rfl)
theorem dX4_supporterAt_11 : decode cX4_supporterAt 11 = .ok (.ireturn, 1) := dk_172 (dk_at dksX4_supporterAt_0 11 rfl rfl)
theorem dX4_supporterAt_12 : decode cX4_supporterAt 12 = .ok (.iconst 0, 1) := dk_3 (dk_at dksX4_supporterAt_0 12 rfl rfl)
theorem dX4_supporterAt_13 : decode cX4_supporterAt 13 = .ok (.istore 4, 2) := dk_54 4 (dk_at dksX4_supporterAt_0 13 rfl rfl)
theorem dX4_supporterAt_15 : decode cX4_supporterAt 15 = .ok (.iload 4, 2) := dk_21 4 (dk_at dksX4_supporterAt_0 15 rfl rfl)
theorem dX4_supporterAt_17 : decode cX4_supporterAt 17 = .ok (.aload_n 0, 1) := dk_42 (dk_at dksX4_supporterAt_0 17 rfl rfl)
theorem dX4_supporterAt_18 : decode cX4_supporterAt 18 = .ok (.getfield 16, 3) := dk_180 0 16 (dk_at dksX4_supporterAt_0 18 rfl rfl)
theorem dX4_supporterAt_21 : decode cX4_supporterAt 21 = .ok (.iconst 0, 1) := dk_3 (dk_at dksX4_supporterAt_0 21 rfl rfl)
theorem dX4_supporterAt_22 : decode cX4_supporterAt 22 = .ok (.iaload, 1) := dk_46 (dk_at dksX4_supporterAt_0 22 rfl rfl)
theorem dX4_supporterAt_23 : decode cX4_supporterAt 23 = .ok (.if_icmp .ge 38, 3) := dk_162 0 38 (dk_at dksX4_supporterAt_1 0 rfl rfl)
theorem dX4_supporterAt_26 : decode cX4_supporterAt 26 = .ok (.aload_n 0, 1) := dk_42 (dk_at dksX4_supporterAt_1 3 rfl rfl)
theorem dX4_supporterAt_27 : decode cX4_supporterAt 27 = .ok (.iload 4, 2) := dk_21 4 (dk_at dksX4_supporterAt_1 4 rfl rfl)
theorem dX4_supporterAt_29 : decode cX4_supporterAt 29 = .ok (.iload_n 3, 1) := dk_29 (dk_at dksX4_supporterAt_1 6 rfl rfl)
theorem dX4_supporterAt_30 : decode cX4_supporterAt 30 = .ok (.invokevirtual 79, 3) := dk_182 0 79 (dk_at dksX4_supporterAt_1 7 rfl rfl)
theorem dX4_supporterAt_33 : decode cX4_supporterAt 33 = .ok (.ifCond .eq 22, 3) := dk_153 0 22 (dk_at dksX4_supporterAt_1 10 rfl rfl)
theorem dX4_supporterAt_36 : decode cX4_supporterAt 36 = .ok (.aload_n 0, 1) := dk_42 (dk_at dksX4_supporterAt_1 13 rfl rfl)
theorem dX4_supporterAt_37 : decode cX4_supporterAt 37 = .ok (.iload 4, 2) := dk_21 4 (dk_at dksX4_supporterAt_1 14 rfl rfl)
theorem dX4_supporterAt_39 : decode cX4_supporterAt 39 = .ok (.iload_n 3, 1) := dk_29 (dk_at dksX4_supporterAt_1 16 rfl rfl)
theorem dX4_supporterAt_40 : decode cX4_supporterAt 40 = .ok (.invokevirtual 85, 3) := dk_182 0 85 (dk_at dksX4_supporterAt_1 17 rfl rfl)
theorem dX4_supporterAt_43 : decode cX4_supporterAt 43 = .ok (.iload_n 2, 1) := dk_28 (dk_at dksX4_supporterAt_1 20 rfl rfl)
theorem dX4_supporterAt_44 : decode cX4_supporterAt 44 = .ok (.if_icmp .ne 11, 3) := dk_160 0 11 (dk_at dksX4_supporterAt_1 21 rfl rfl)
theorem dX4_supporterAt_47 : decode cX4_supporterAt 47 = .ok (.aload_n 0, 1) := dk_42 (dk_at dksX4_supporterAt_2 0 rfl rfl)
theorem dX4_supporterAt_48 : decode cX4_supporterAt 48 = .ok (.iload 4, 2) := dk_21 4 (dk_at dksX4_supporterAt_2 1 rfl rfl)
theorem dX4_supporterAt_50 : decode cX4_supporterAt 50 = .ok (.iconst 0, 1) := dk_3 (dk_at dksX4_supporterAt_2 3 rfl rfl)
theorem dX4_supporterAt_51 : decode cX4_supporterAt 51 = .ok (.invokevirtual 67, 3) := dk_182 0 67 (dk_at dksX4_supporterAt_2 4 rfl rfl)
theorem dX4_supporterAt_54 : decode cX4_supporterAt 54 = .ok (.ireturn, 1) := dk_172 (dk_at dksX4_supporterAt_2 7 rfl rfl)
theorem dX4_supporterAt_55 : decode cX4_supporterAt 55 = .ok (.iinc 4 1, 3) := dk_132 4 1 (dk_at dksX4_supporterAt_2 8 rfl rfl)
theorem dX4_supporterAt_58 : decode cX4_supporterAt 58 = .ok (.goto (-43), 3) := dk_167 255 213 (dk_at dksX4_supporterAt_2 11 rfl rfl)
theorem dX4_supporterAt_61 : decode cX4_supporterAt 61 = .ok (.aload_n 0, 1) := dk_42 (dk_at dksX4_supporterAt_2 14 rfl rfl)
theorem dX4_supporterAt_62 : decode cX4_supporterAt 62 = .ok (.iconst 1, 1) := dk_4 (dk_at dksX4_supporterAt_2 15 rfl rfl)
theorem dX4_supporterAt_63 : decode cX4_supporterAt 63 = .ok (.invokevirtual 105, 3) := dk_182 0 105 (dk_at dksX4_supporterAt_2 16 rfl rfl)
theorem dX4_supporterAt_66 : decode cX4_supporterAt 66 = .ok (.ireturn, 1) := dk_172 (dk_at dksX4_supporterAt_2 19 rfl rfl)
abbrev cX4_isSupporting : ByteArray := prog_16_method_59_code
def yX4_isSupporting : MethodName := ⟨RX4, "isSupporting", "(I)Z"⟩
def dkwX4_isSupporting_0 : List UInt8 := [42, 27, 182, 0, 128, 61, 28, 155, 0, 15, 42, 28, 182, 0, 131, 153, 0, 7, 4, 167, 0, 4, 3, 172]
abbrev dktX4_isSupporting_0 : List UInt8 := dkwX4_isSupporting_0 ++ []
theorem dksX4_isSupporting_0 : cX4_isSupporting.data.toList.drop 0 = dktX4_isSupporting_0 := by decide +kernel
theorem dX4_isSupporting_0 : decode cX4_isSupporting 0 = .ok (.aload_n 0, 1) := dk_42 (dk_at dksX4_isSupporting_0 0 rfl rfl)
theorem dX4_isSupporting_1 : decode cX4_isSupporting 1 = .ok (.iload_n 1, 1) := dk_27 (dk_at dksX4_isSupporting_0 1 rfl rfl)
theorem dX4_isSupporting_2 : decode cX4_isSupporting 2 = .ok (.invokevirtual 128, 3) := dk_182 0 128 (dk_at dksX4_isSupporting_0 2 rfl rfl)
theorem dX4_isSupporting_5 : decode cX4_isSupporting 5 = .ok (.istore_n 2, 1) := dk_61 (dk_at dksX4_isSupporting_0 5 rfl rfl)
theorem dX4_isSupporting_6 : decode cX4_isSupporting 6 = .ok (.iload_n 2, 1) := dk_28 (dk_at dksX4_isSupporting_0 6 rfl rfl)
theorem dX4_isSupporting_7 : decode cX4_isSupporting 7 = .ok (.ifCond .lt 15, 3) := dk_155 0 15 (dk_at dksX4_isSupporting_0 7 rfl rfl)
theorem dX4_isSupporting_10 : decode cX4_isSupporting 10 = .ok (.aload_n 0, 1) := dk_42 (dk_at dksX4_isSupporting_0 10 rfl rfl)
theorem dX4_isSupporting_11 : decode cX4_isSupporting 11 = .ok (.iload_n 2, 1) := dk_28 (dk_at dksX4_isSupporting_0 11 rfl rfl)
theorem dX4_isSupporting_12 : decode cX4_isSupporting 12 = .ok (.invokevirtual 131, 3) := dk_182 0 131 (dk_at dksX4_isSupporting_0 12 rfl rfl)
theorem dX4_isSupporting_15 : decode cX4_isSupporting 15 = .ok (.ifCond .eq 7, 3) := dk_153 0 7 (dk_at dksX4_isSupporting_0 15 rfl rfl)
theorem dX4_isSupporting_18 : decode cX4_isSupporting 18 = .ok (.iconst 1, 1) := dk_4 (dk_at dksX4_isSupporting_0 18 rfl rfl)
theorem dX4_isSupporting_19 : decode cX4_isSupporting 19 = .ok (.goto 4, 3) := dk_167 0 4 (dk_at dksX4_isSupporting_0 19 rfl rfl)
theorem dX4_isSupporting_22 : decode cX4_isSupporting 22 = .ok (.iconst 0, 1) := dk_3 (dk_at dksX4_isSupporting_0 22 rfl rfl)
theorem dX4_isSupporting_23 : decode cX4_isSupporting 23 = .ok (.ireturn, 1) := dk_172 (dk_at dksX4_isSupporting_0 23 rfl rfl)
abbrev cX4_load : ByteArray := prog_16_method_60_code
def yX4_load : MethodName := ⟨RX4, "load", "(I)I"⟩
def dkwX4_load_0 : List UInt8 := [42, 27, 182, 0, 128, 61, 28, 156, 0, 5, 3, 172, 42, 182, 0, 92, 42, 180, 0, 32, 28, 46, 172]
abbrev dktX4_load_0 : List UInt8 := dkwX4_load_0 ++ []
theorem dksX4_load_0 : cX4_load.data.toList.drop 0 = dktX4_load_0 := by decide +kernel
theorem dX4_load_0 : decode cX4_load 0 = .ok (.aload_n 0, 1) := dk_42 (dk_at dksX4_load_0 0 rfl rfl)
theorem dX4_load_1 : decode cX4_load 1 = .ok (.iload_n 1, 1) := dk_27 (dk_at dksX4_load_0 1 rfl rfl)
theorem dX4_load_2 : decode cX4_load 2 = .ok (.invokevirtual 128, 3) := dk_182 0 128 (dk_at dksX4_load_0 2 rfl rfl)
theorem dX4_load_5 : decode cX4_load 5 = .ok (.istore_n 2, 1) := dk_61 (dk_at dksX4_load_0 5 rfl rfl)
theorem dX4_load_6 : decode cX4_load 6 = .ok (.iload_n 2, 1) := dk_28 (dk_at dksX4_load_0 6 rfl rfl)
theorem dX4_load_7 : decode cX4_load 7 = .ok (.ifCond .ge 5, 3) := dk_156 0 5 (dk_at dksX4_load_0 7 rfl rfl)
theorem dX4_load_10 : decode cX4_load 10 = .ok (.iconst 0, 1) := dk_3 (dk_at dksX4_load_0 10 rfl rfl)
theorem dX4_load_11 : decode cX4_load 11 = .ok (.ireturn, 1) := dk_172 (dk_at dksX4_load_0 11 rfl rfl)
theorem dX4_load_12 : decode cX4_load 12 = .ok (.aload_n 0, 1) := dk_42 (dk_at dksX4_load_0 12 rfl rfl)
theorem dX4_load_13 : decode cX4_load 13 = .ok (.invokevirtual 92, 3) := dk_182 0 92 (dk_at dksX4_load_0 13 rfl rfl)
theorem dX4_load_16 : decode cX4_load 16 = .ok (.aload_n 0, 1) := dk_42 (dk_at dksX4_load_0 16 rfl rfl)
theorem dX4_load_17 : decode cX4_load 17 = .ok (.getfield 32, 3) := dk_180 0 32 (dk_at dksX4_load_0 17 rfl rfl)
theorem dX4_load_20 : decode cX4_load 20 = .ok (.iload_n 2, 1) := dk_28 (dk_at dksX4_load_0 20 rfl rfl)
theorem dX4_load_21 : decode cX4_load 21 = .ok (.iaload, 1) := dk_46 (dk_at dksX4_load_0 21 rfl rfl)
theorem dX4_load_22 : decode cX4_load 22 = .ok (.ireturn, 1) := dk_172 (dk_at dksX4_load_0 22 rfl rfl)
abbrev cX4_loadByRecursion : ByteArray := prog_16_method_61_code
def yX4_loadByRecursion : MethodName := ⟨RX4, "loadByRecursion", "(I)I"⟩
def dkwX4_loadByRecursion_0 : List UInt8 := [42, 27, 182, 0, 163, 172]
abbrev dktX4_loadByRecursion_0 : List UInt8 := dkwX4_loadByRecursion_0 ++ []
theorem dksX4_loadByRecursion_0 : cX4_loadByRecursion.data.toList.drop 0 = dktX4_loadByRecursion_0 := by decide +kernel
theorem dX4_loadByRecursion_0 : decode cX4_loadByRecursion 0 = .ok (.aload_n 0, 1) := dk_42 (dk_at dksX4_loadByRecursion_0 0 rfl rfl)
theorem dX4_loadByRecursion_1 : decode cX4_loadByRecursion 1 = .ok (.iload_n 1, 1) := dk_27 (dk_at dksX4_loadByRecursion_0 1 rfl rfl)
theorem dX4_loadByRecursion_2 : decode cX4_loadByRecursion 2 = .ok (.invokevirtual 163, 3) := dk_182 0 163 (dk_at dksX4_loadByRecursion_0 2 rfl rfl)
theorem dX4_loadByRecursion_5 : decode cX4_loadByRecursion 5 = .ok (.ireturn, 1) := dk_172 (dk_at dksX4_loadByRecursion_0 5 rfl rfl)
abbrev cX4_slack : ByteArray := prog_16_method_62_code
def yX4_slack : MethodName := ⟨RX4, "slack", "(I)I"⟩
def dkwX4_slack_1 : List UInt8 := [180, 0, 32, 28, 46, 100, 172]
abbrev dktX4_slack_1 : List UInt8 := dkwX4_slack_1 ++ []
def dkwX4_slack_0 : List UInt8 := [42, 27, 182, 0, 128, 61, 28, 156, 0, 5, 3, 172, 42, 182, 0, 92, 42, 28, 182, 0, 95, 42]
abbrev dktX4_slack_0 : List UInt8 := dkwX4_slack_0 ++ dktX4_slack_1
theorem dksX4_slack_0 : cX4_slack.data.toList.drop 0 = dktX4_slack_0 := by decide +kernel
theorem dksX4_slack_1 : cX4_slack.data.toList.drop 22 = dktX4_slack_1 := dk_seg dksX4_slack_0 22 rfl rfl
theorem dX4_slack_0 : decode cX4_slack 0 = .ok (.aload_n 0, 1) := dk_42 (dk_at dksX4_slack_0 0 rfl rfl)
theorem dX4_slack_1 : decode cX4_slack 1 = .ok (.iload_n 1, 1) := dk_27 (dk_at dksX4_slack_0 1 rfl rfl)
theorem dX4_slack_2 : decode cX4_slack 2 = .ok (.invokevirtual 128, 3) := dk_182 0 128 (dk_at dksX4_slack_0 2 rfl rfl)
theorem dX4_slack_5 : decode cX4_slack 5 = .ok (.istore_n 2, 1) := dk_61 (dk_at dksX4_slack_0 5 rfl rfl)
theorem dX4_slack_6 : decode cX4_slack 6 = .ok (.iload_n 2, 1) := dk_28 (dk_at dksX4_slack_0 6 rfl rfl)
theorem dX4_slack_7 : decode cX4_slack 7 = .ok (.ifCond .ge 5, 3) := dk_156 0 5 (dk_at dksX4_slack_0 7 rfl rfl)
theorem dX4_slack_10 : decode cX4_slack 10 = .ok (.iconst 0, 1) := dk_3 (dk_at dksX4_slack_0 10 rfl rfl)
theorem dX4_slack_11 : decode cX4_slack 11 = .ok (.ireturn, 1) := dk_172 (dk_at dksX4_slack_0 11 rfl rfl)
theorem dX4_slack_12 : decode cX4_slack 12 = .ok (.aload_n 0, 1) := dk_42 (dk_at dksX4_slack_0 12 rfl rfl)
theorem dX4_slack_13 : decode cX4_slack 13 = .ok (.invokevirtual 92, 3) := dk_182 0 92 (dk_at dksX4_slack_0 13 rfl rfl)
theorem dX4_slack_16 : decode cX4_slack 16 = .ok (.aload_n 0, 1) := dk_42 (dk_at dksX4_slack_0 16 rfl rfl)
theorem dX4_slack_17 : decode cX4_slack 17 = .ok (.iload_n 2, 1) := dk_28 (dk_at dksX4_slack_0 17 rfl rfl)
theorem dX4_slack_18 : decode cX4_slack 18 = .ok (.invokevirtual 95, 3) := dk_182 0 95 (dk_at dksX4_slack_0 18 rfl rfl)
theorem dX4_slack_21 : decode cX4_slack 21 = .ok (.aload_n 0, 1) := dk_42 (dk_at dksX4_slack_0 21 rfl rfl)
theorem dX4_slack_22 : decode cX4_slack 22 = .ok (.getfield 32, 3) := dk_180 0 32 (dk_at dksX4_slack_1 0 rfl rfl)
theorem dX4_slack_25 : decode cX4_slack 25 = .ok (.iload_n 2, 1) := dk_28 (dk_at dksX4_slack_1 3 rfl rfl)
theorem dX4_slack_26 : decode cX4_slack 26 = .ok (.iaload, 1) := dk_46 (dk_at dksX4_slack_1 4 rfl rfl)
theorem dX4_slack_27 : decode cX4_slack 27 = .ok (.isub, 1) := dk_100 (dk_at dksX4_slack_1 5 rfl rfl)
theorem dX4_slack_28 : decode cX4_slack 28 = .ok (.ireturn, 1) := dk_172 (dk_at dksX4_slack_1 6 rfl rfl)
abbrev cX4_weakest : ByteArray := prog_16_method_63_code
def yX4_weakest : MethodName := ⟨RX4, "weakest", "()I"⟩
def dkwX4_weakest_3 : List UInt8 := [180, 0, 53, 154, 0, 12, 42, 27, 3, 182, 0, 67, 167, 0, 4, 3, 172]
abbrev dktX4_weakest_3 : List UInt8 := dkwX4_weakest_3 ++ []
def dkwX4_weakest_2 : List UInt8 := [42, 27, 182, 0, 95, 42, 180, 0, 32, 27, 46, 100, 162, 0, 5, 28, 60, 132, 2, 1, 167, 255, 214, 42]
abbrev dktX4_weakest_2 : List UInt8 := dkwX4_weakest_2 ++ dktX4_weakest_3
def dkwX4_weakest_1 : List UInt8 := [4, 61, 28, 42, 180, 0, 16, 3, 46, 162, 0, 38, 42, 28, 182, 0, 95, 42, 180, 0, 32, 28, 46, 100]
abbrev dktX4_weakest_1 : List UInt8 := dkwX4_weakest_1 ++ dktX4_weakest_2
def dkwX4_weakest_0 : List UInt8 := [42, 42, 180, 0, 16, 3, 46, 154, 0, 7, 4, 167, 0, 4, 3, 181, 0, 53, 42, 182, 0, 92, 3, 60]
abbrev dktX4_weakest_0 : List UInt8 := dkwX4_weakest_0 ++ dktX4_weakest_1
theorem dksX4_weakest_0 : cX4_weakest.data.toList.drop 0 = dktX4_weakest_0 := by decide +kernel
theorem dksX4_weakest_1 : cX4_weakest.data.toList.drop 24 = dktX4_weakest_1 := dk_seg dksX4_weakest_0 24 rfl rfl
theorem dksX4_weakest_2 : cX4_weakest.data.toList.drop 48 = dktX4_weakest_2 := dk_seg dksX4_weakest_1 24 rfl rfl
theorem dksX4_weakest_3 : cX4_weakest.data.toList.drop 72 = dktX4_weakest_3 := dk_seg dksX4_weakest_2 24 rfl rfl
theorem dX4_weakest_0 : decode cX4_weakest 0 = .ok (.aload_n 0, 1) := dk_42 (dk_at dksX4_weakest_0 0 rfl rfl)
theorem dX4_weakest_1 : decode cX4_weakest 1 = .ok (.aload_n 0, 1) := dk_42 (dk_at dksX4_weakest_0 1 rfl rfl)
theorem dX4_weakest_2 : decode cX4_weakest 2 = .ok (.getfield 16, 3) := dk_180 0 16 (dk_at dksX4_weakest_0 2 rfl rfl)
theorem dX4_weakest_5 : decode cX4_weakest 5 = .ok (.iconst 0, 1) := dk_3 (dk_at dksX4_weakest_0 5 rfl rfl)
theorem dX4_weakest_6 : decode cX4_weakest 6 = .ok (.iaload, 1) := dk_46 (dk_at dksX4_weakest_0 6 rfl rfl)
theorem dX4_weakest_7 : decode cX4_weakest 7 = .ok (.ifCond .ne 7, 3) := dk_154 0 7 (dk_at dksX4_weakest_0 7 rfl rfl)
theorem dX4_weakest_10 : decode cX4_weakest 10 = .ok (.iconst 1, 1) := dk_4 (dk_at dksX4_weakest_0 10 rfl rfl)
theorem dX4_weakest_11 : decode cX4_weakest 11 = .ok (.goto 4, 3) := dk_167 0 4 (dk_at dksX4_weakest_0 11 rfl rfl)
theorem dX4_weakest_14 : decode cX4_weakest 14 = .ok (.iconst 0, 1) := dk_3 (dk_at dksX4_weakest_0 14 rfl rfl)
theorem dX4_weakest_15 : decode cX4_weakest 15 = .ok (.putfield 53, 3) := dk_181 0 53 (dk_at dksX4_weakest_0 15 rfl rfl)
theorem dX4_weakest_18 : decode cX4_weakest 18 = .ok (.aload_n 0, 1) := dk_42 (dk_at dksX4_weakest_0 18 rfl rfl)
theorem dX4_weakest_19 : decode cX4_weakest 19 = .ok (.invokevirtual 92, 3) := dk_182 0 92 (dk_at dksX4_weakest_0 19 rfl rfl)
theorem dX4_weakest_22 : decode cX4_weakest 22 = .ok (.iconst 0, 1) := dk_3 (dk_at dksX4_weakest_0 22 rfl rfl)
theorem dX4_weakest_23 : decode cX4_weakest 23 = .ok (.istore_n 1, 1) := dk_60 (dk_at dksX4_weakest_0 23 rfl rfl)
theorem dX4_weakest_24 : decode cX4_weakest 24 = .ok (.iconst 1, 1) := dk_4 (dk_at dksX4_weakest_1 0 rfl rfl)
theorem dX4_weakest_25 : decode cX4_weakest 25 = .ok (.istore_n 2, 1) := dk_61 (dk_at dksX4_weakest_1 1 rfl rfl)
theorem dX4_weakest_26 : decode cX4_weakest 26 = .ok (.iload_n 2, 1) := dk_28 (dk_at dksX4_weakest_1 2 rfl rfl)
theorem dX4_weakest_27 : decode cX4_weakest 27 = .ok (.aload_n 0, 1) := dk_42 (dk_at dksX4_weakest_1 3 rfl rfl)
theorem dX4_weakest_28 : decode cX4_weakest 28 = .ok (.getfield 16, 3) := dk_180 0 16 (dk_at dksX4_weakest_1 4 rfl rfl)
theorem dX4_weakest_31 : decode cX4_weakest 31 = .ok (.iconst 0, 1) := dk_3 (dk_at dksX4_weakest_1 7 rfl rfl)
theorem dX4_weakest_32 : decode cX4_weakest 32 = .ok (.iaload, 1) := dk_46 (dk_at dksX4_weakest_1 8 rfl rfl)
theorem dX4_weakest_33 : decode cX4_weakest 33 = .ok (.if_icmp .ge 38, 3) := dk_162 0 38 (dk_at dksX4_weakest_1 9 rfl rfl)
theorem dX4_weakest_36 : decode cX4_weakest 36 = .ok (.aload_n 0, 1) := dk_42 (dk_at dksX4_weakest_1 12 rfl rfl)
theorem dX4_weakest_37 : decode cX4_weakest 37 = .ok (.iload_n 2, 1) := dk_28 (dk_at dksX4_weakest_1 13 rfl rfl)
theorem dX4_weakest_38 : decode cX4_weakest 38 = .ok (.invokevirtual 95, 3) := dk_182 0 95 (dk_at dksX4_weakest_1 14 rfl rfl)
theorem dX4_weakest_41 : decode cX4_weakest 41 = .ok (.aload_n 0, 1) := dk_42 (dk_at dksX4_weakest_1 17 rfl rfl)
theorem dX4_weakest_42 : decode cX4_weakest 42 = .ok (.getfield 32, 3) := dk_180 0 32 (dk_at dksX4_weakest_1 18 rfl rfl)
theorem dX4_weakest_45 : decode cX4_weakest 45 = .ok (.iload_n 2, 1) := dk_28 (dk_at dksX4_weakest_1 21 rfl rfl)
theorem dX4_weakest_46 : decode cX4_weakest 46 = .ok (.iaload, 1) := dk_46 (dk_at dksX4_weakest_1 22 rfl rfl)
theorem dX4_weakest_47 : decode cX4_weakest 47 = .ok (.isub, 1) := dk_100 (dk_at dksX4_weakest_1 23 rfl rfl)
theorem dX4_weakest_48 : decode cX4_weakest 48 = .ok (.aload_n 0, 1) := dk_42 (dk_at dksX4_weakest_2 0 rfl rfl)
theorem dX4_weakest_49 : decode cX4_weakest 49 = .ok (.iload_n 1, 1) := dk_27 (dk_at dksX4_weakest_2 1 rfl rfl)
theorem dX4_weakest_50 : decode cX4_weakest 50 = .ok (.invokevirtual 95, 3) := dk_182 0 95 (dk_at dksX4_weakest_2 2 rfl rfl)
theorem dX4_weakest_53 : decode cX4_weakest 53 = .ok (.aload_n 0, 1) := dk_42 (dk_at dksX4_weakest_2 5 rfl rfl)
theorem dX4_weakest_54 : decode cX4_weakest 54 = .ok (.getfield 32, 3) := dk_180 0 32 (dk_at dksX4_weakest_2 6 rfl rfl)
theorem dX4_weakest_57 : decode cX4_weakest 57 = .ok (.iload_n 1, 1) := dk_27 (dk_at dksX4_weakest_2 9 rfl rfl)
theorem dX4_weakest_58 : decode cX4_weakest 58 = .ok (.iaload, 1) := dk_46 (dk_at dksX4_weakest_2 10 rfl rfl)
theorem dX4_weakest_59 : decode cX4_weakest 59 = .ok (.isub, 1) := dk_100 (dk_at dksX4_weakest_2 11 rfl rfl)
theorem dX4_weakest_60 : decode cX4_weakest 60 = .ok (.if_icmp .ge 5, 3) := dk_162 0 5 (dk_at dksX4_weakest_2 12 rfl rfl)
theorem dX4_weakest_63 : decode cX4_weakest 63 = .ok (.iload_n 2, 1) := dk_28 (dk_at dksX4_weakest_2 15 rfl rfl)
theorem dX4_weakest_64 : decode cX4_weakest 64 = .ok (.istore_n 1, 1) := dk_60 (dk_at dksX4_weakest_2 16 rfl rfl)
theorem dX4_weakest_65 : decode cX4_weakest 65 = .ok (.iinc 2 1, 3) := dk_132 2 1 (dk_at dksX4_weakest_2 17 rfl rfl)
theorem dX4_weakest_68 : decode cX4_weakest 68 = .ok (.goto (-42), 3) := dk_167 255 214 (dk_at dksX4_weakest_2 20 rfl rfl)
theorem dX4_weakest_71 : decode cX4_weakest 71 = .ok (.aload_n 0, 1) := dk_42 (dk_at dksX4_weakest_2 23 rfl rfl)
theorem dX4_weakest_72 : decode cX4_weakest 72 = .ok (.getfield 53, 3) := dk_180 0 53 (dk_at dksX4_weakest_3 0 rfl rfl)
theorem dX4_weakest_75 : decode cX4_weakest 75 = .ok (.ifCond .ne 12, 3) := dk_154 0 12 (dk_at dksX4_weakest_3 3 rfl rfl)
theorem dX4_weakest_78 : decode cX4_weakest 78 = .ok (.aload_n 0, 1) := dk_42 (dk_at dksX4_weakest_3 6 rfl rfl)
theorem dX4_weakest_79 : decode cX4_weakest 79 = .ok (.iload_n 1, 1) := dk_27 (dk_at dksX4_weakest_3 7 rfl rfl)
theorem dX4_weakest_80 : decode cX4_weakest 80 = .ok (.iconst 0, 1) := dk_3 (dk_at dksX4_weakest_3 8 rfl rfl)
theorem dX4_weakest_81 : decode cX4_weakest 81 = .ok (.invokevirtual 67, 3) := dk_182 0 67 (dk_at dksX4_weakest_3 9 rfl rfl)
theorem dX4_weakest_84 : decode cX4_weakest 84 = .ok (.goto 4, 3) := dk_167 0 4 (dk_at dksX4_weakest_3 12 rfl rfl)
theorem dX4_weakest_87 : decode cX4_weakest 87 = .ok (.iconst 0, 1) := dk_3 (dk_at dksX4_weakest_3 15 rfl rfl)
theorem dX4_weakest_88 : decode cX4_weakest 88 = .ok (.ireturn, 1) := dk_172 (dk_at dksX4_weakest_3 16 rfl rfl)
abbrev cX4_blockBySlack : ByteArray := prog_16_method_64_code
def yX4_blockBySlack : MethodName := ⟨RX4, "blockBySlack", "(I)I"⟩
def dkwX4_blockBySlack_5 : List UInt8 := [172, 132, 2, 1, 167, 255, 143, 42, 4, 182, 0, 105, 172]
abbrev dktX4_blockBySlack_5 : List UInt8 := dkwX4_blockBySlack_5 ++ []
def dkwX4_blockBySlack_4 : List UInt8 := [4, 167, 0, 4, 3, 96, 62, 132, 5, 1, 167, 255, 190, 29, 27, 160, 0, 10, 42, 28, 3, 182, 0, 67]
abbrev dktX4_blockBySlack_4 : List UInt8 := dkwX4_blockBySlack_4 ++ dktX4_blockBySlack_5
def dkwX4_blockBySlack_3 : List UInt8 := [21, 5, 182, 0, 95, 42, 180, 0, 32, 21, 5, 46, 100, 21, 4, 160, 0, 13, 21, 5, 28, 162, 0, 7]
abbrev dktX4_blockBySlack_3 : List UInt8 := dkwX4_blockBySlack_3 ++ dktX4_blockBySlack_4
def dkwX4_blockBySlack_2 : List UInt8 := [162, 0, 61, 29, 42, 21, 5, 182, 0, 95, 42, 180, 0, 32, 21, 5, 46, 100, 21, 4, 161, 0, 28, 42]
abbrev dktX4_blockBySlack_2 : List UInt8 := dkwX4_blockBySlack_2 ++ dktX4_blockBySlack_3
def dkwX4_blockBySlack_1 : List UInt8 := [28, 182, 0, 95, 42, 180, 0, 32, 28, 46, 100, 54, 4, 3, 54, 5, 21, 5, 42, 180, 0, 16, 3, 46]
abbrev dktX4_blockBySlack_1 : List UInt8 := dkwX4_blockBySlack_1 ++ dktX4_blockBySlack_2
def dkwX4_blockBySlack_0 : List UInt8 := [42, 3, 181, 0, 53, 42, 182, 0, 92, 3, 61, 28, 42, 180, 0, 16, 3, 46, 162, 0, 109, 3, 62, 42]
abbrev dktX4_blockBySlack_0 : List UInt8 := dkwX4_blockBySlack_0 ++ dktX4_blockBySlack_1
theorem dksX4_blockBySlack_0 : cX4_blockBySlack.data.toList.drop 0 = dktX4_blockBySlack_0 := by decide +kernel
theorem dksX4_blockBySlack_1 : cX4_blockBySlack.data.toList.drop 24 = dktX4_blockBySlack_1 := dk_seg dksX4_blockBySlack_0 24 rfl rfl
theorem dksX4_blockBySlack_2 : cX4_blockBySlack.data.toList.drop 48 = dktX4_blockBySlack_2 := dk_seg dksX4_blockBySlack_1 24 rfl rfl
theorem dksX4_blockBySlack_3 : cX4_blockBySlack.data.toList.drop 72 = dktX4_blockBySlack_3 := dk_seg dksX4_blockBySlack_2 24 rfl rfl
theorem dksX4_blockBySlack_4 : cX4_blockBySlack.data.toList.drop 96 = dktX4_blockBySlack_4 := dk_seg dksX4_blockBySlack_3 24 rfl rfl
theorem dksX4_blockBySlack_5 : cX4_blockBySlack.data.toList.drop 120 = dktX4_blockBySlack_5 := dk_seg dksX4_blockBySlack_4 24 rfl rfl
theorem dX4_blockBySlack_0 : decode cX4_blockBySlack 0 = .ok (.aload_n 0, 1) := dk_42 (dk_at dksX4_blockBySlack_0 0 rfl rfl)
theorem dX4_blockBySlack_1 : decode cX4_blockBySlack 1 = .ok (.iconst 0, 1) := dk_3 (dk_at dksX4_blockBySlack_0 1 rfl rfl)
theorem dX4_blockBySlack_2 : decode cX4_blockBySlack 2 = .ok (.putfield 53, 3) := dk_181 0 53 (dk_at dksX4_blockBySlack_0 2 rfl rfl)
theorem dX4_blockBySlack_5 : decode cX4_blockBySlack 5 = .ok (.aload_n 0, 1) := dk_42 (dk_at dksX4_blockBySlack_0 5 rfl rfl)
theorem dX4_blockBySlack_6 : decode cX4_blockBySlack 6 = .ok (.invokevirtual 92, 3) := dk_182 0 92 (dk_at dksX4_blockBySlack_0 6 rfl rfl)
theorem dX4_blockBySlack_9 : decode cX4_blockBySlack 9 = .ok (.iconst 0, 1) := dk_3 (dk_at dksX4_blockBySlack_0 9 rfl rfl)
theorem dX4_blockBySlack_10 : decode cX4_blockBySlack 10 = .ok (.istore_n 2, 1) := dk_61 (dk_at dksX4_blockBySlack_0 10 rfl rfl)
theorem dX4_blockBySlack_11 : decode cX4_blockBySlack 11 = .ok (.iload_n 2, 1) := dk_28 (dk_at dksX4_blockBySlack_0 11 rfl rfl)
theorem dX4_blockBySlack_12 : decode cX4_blockBySlack 12 = .ok (.aload_n 0, 1) := dk_42 (dk_at dksX4_blockBySlack_0 12 rfl rfl)
theorem dX4_blockBySlack_13 : decode cX4_blockBySlack 13 = .ok (.getfield 16, 3) := dk_180 0 16 (dk_at dksX4_blockBySlack_0 13 rfl rfl)
theorem dX4_blockBySlack_16 : decode cX4_blockBySlack 16 = .ok (.iconst 0, 1) := dk_3 (dk_at dksX4_blockBySlack_0 16 rfl rfl)
theorem dX4_blockBySlack_17 : decode cX4_blockBySlack 17 = .ok (.iaload, 1) := dk_46 (dk_at dksX4_blockBySlack_0 17 rfl rfl)
theorem dX4_blockBySlack_18 : decode cX4_blockBySlack 18 = .ok (.if_icmp .ge 109, 3) := dk_162 0 109 (dk_at dksX4_blockBySlack_0 18 rfl rfl)
theorem dX4_blockBySlack_21 : decode cX4_blockBySlack 21 = .ok (.iconst 0, 1) := dk_3 (dk_at dksX4_blockBySlack_0 21 rfl rfl)
theorem dX4_blockBySlack_22 : decode cX4_blockBySlack 22 = .ok (.istore_n 3, 1) := dk_62 (dk_at dksX4_blockBySlack_0 22 rfl rfl)
theorem dX4_blockBySlack_23 : decode cX4_blockBySlack 23 = .ok (.aload_n 0, 1) := dk_42 (dk_at dksX4_blockBySlack_0 23 rfl rfl)
theorem dX4_blockBySlack_24 : decode cX4_blockBySlack 24 = .ok (.iload_n 2, 1) := dk_28 (dk_at dksX4_blockBySlack_1 0 rfl rfl)
theorem dX4_blockBySlack_25 : decode cX4_blockBySlack 25 = .ok (.invokevirtual 95, 3) := dk_182 0 95 (dk_at dksX4_blockBySlack_1 1 rfl rfl)
theorem dX4_blockBySlack_28 : decode cX4_blockBySlack 28 = .ok (.aload_n 0, 1) := dk_42 (dk_at dksX4_blockBySlack_1 4 rfl rfl)
theorem dX4_blockBySlack_29 : decode cX4_blockBySlack 29 = .ok (.getfield 32, 3) := dk_180 0 32 (dk_at dksX4_blockBySlack_1 5 rfl rfl)
theorem dX4_blockBySlack_32 : decode cX4_blockBySlack 32 = .ok (.iload_n 2, 1) := dk_28 (dk_at dksX4_blockBySlack_1 8 rfl rfl)
theorem dX4_blockBySlack_33 : decode cX4_blockBySlack 33 = .ok (.iaload, 1) := dk_46 (dk_at dksX4_blockBySlack_1 9 rfl rfl)
theorem dX4_blockBySlack_34 : decode cX4_blockBySlack 34 = .ok (.isub, 1) := dk_100 (dk_at dksX4_blockBySlack_1 10 rfl rfl)
theorem dX4_blockBySlack_35 : decode cX4_blockBySlack 35 = .ok (.istore 4, 2) := dk_54 4 (dk_at dksX4_blockBySlack_1 11 rfl rfl)
theorem dX4_blockBySlack_37 : decode cX4_blockBySlack 37 = .ok (.iconst 0, 1) := dk_3 (dk_at dksX4_blockBySlack_1 13 rfl rfl)
theorem dX4_blockBySlack_38 : decode cX4_blockBySlack 38 = .ok (.istore 5, 2) := dk_54 5 (dk_at dksX4_blockBySlack_1 14 rfl rfl)
theorem dX4_blockBySlack_40 : decode cX4_blockBySlack 40 = .ok (.iload 5, 2) := dk_21 5 (dk_at dksX4_blockBySlack_1 16 rfl rfl)
theorem dX4_blockBySlack_42 : decode cX4_blockBySlack 42 = .ok (.aload_n 0, 1) := dk_42 (dk_at dksX4_blockBySlack_1 18 rfl rfl)
theorem dX4_blockBySlack_43 : decode cX4_blockBySlack 43 = .ok (.getfield 16, 3) := dk_180 0 16 (dk_at dksX4_blockBySlack_1 19 rfl rfl)
theorem dX4_blockBySlack_46 : decode cX4_blockBySlack 46 = .ok (.iconst 0, 1) := dk_3 (dk_at dksX4_blockBySlack_1 22 rfl rfl)
theorem dX4_blockBySlack_47 : decode cX4_blockBySlack 47 = .ok (.iaload, 1) := dk_46 (dk_at dksX4_blockBySlack_1 23 rfl rfl)
theorem dX4_blockBySlack_48 : decode cX4_blockBySlack 48 = .ok (.if_icmp .ge 61, 3) := dk_162 0 61 (dk_at dksX4_blockBySlack_2 0 rfl rfl)
theorem dX4_blockBySlack_51 : decode cX4_blockBySlack 51 = .ok (.iload_n 3, 1) := dk_29 (dk_at dksX4_blockBySlack_2 3 rfl rfl)
theorem dX4_blockBySlack_52 : decode cX4_blockBySlack 52 = .ok (.aload_n 0, 1) := dk_42 (dk_at dksX4_blockBySlack_2 4 rfl rfl)
theorem dX4_blockBySlack_53 : decode cX4_blockBySlack 53 = .ok (.iload 5, 2) := dk_21 5 (dk_at dksX4_blockBySlack_2 5 rfl rfl)
theorem dX4_blockBySlack_55 : decode cX4_blockBySlack 55 = .ok (.invokevirtual 95, 3) := dk_182 0 95 (dk_at dksX4_blockBySlack_2 7 rfl rfl)
theorem dX4_blockBySlack_58 : decode cX4_blockBySlack 58 = .ok (.aload_n 0, 1) := dk_42 (dk_at dksX4_blockBySlack_2 10 rfl rfl)
theorem dX4_blockBySlack_59 : decode cX4_blockBySlack 59 = .ok (.getfield 32, 3) := dk_180 0 32 (dk_at dksX4_blockBySlack_2 11 rfl rfl)
theorem dX4_blockBySlack_62 : decode cX4_blockBySlack 62 = .ok (.iload 5, 2) := dk_21 5 (dk_at dksX4_blockBySlack_2 14 rfl rfl)
theorem dX4_blockBySlack_64 : decode cX4_blockBySlack 64 = .ok (.iaload, 1) := dk_46 (dk_at dksX4_blockBySlack_2 16 rfl rfl)
theorem dX4_blockBySlack_65 : decode cX4_blockBySlack 65 = .ok (.isub, 1) := dk_100 (dk_at dksX4_blockBySlack_2 17 rfl rfl)
theorem dX4_blockBySlack_66 : decode cX4_blockBySlack 66 = .ok (.iload 4, 2) := dk_21 4 (dk_at dksX4_blockBySlack_2 18 rfl rfl)
theorem dX4_blockBySlack_68 : decode cX4_blockBySlack 68 = .ok (.if_icmp .lt 28, 3) := dk_161 0 28 (dk_at dksX4_blockBySlack_2 20 rfl rfl)
theorem dX4_blockBySlack_71 : decode cX4_blockBySlack 71 = .ok (.aload_n 0, 1) := dk_42 (dk_at dksX4_blockBySlack_2 23 rfl rfl)
theorem dX4_blockBySlack_72 : decode cX4_blockBySlack 72 = .ok (.iload 5, 2) := dk_21 5 (dk_at dksX4_blockBySlack_3 0 rfl rfl)
theorem dX4_blockBySlack_74 : decode cX4_blockBySlack 74 = .ok (.invokevirtual 95, 3) := dk_182 0 95 (dk_at dksX4_blockBySlack_3 2 rfl rfl)
theorem dX4_blockBySlack_77 : decode cX4_blockBySlack 77 = .ok (.aload_n 0, 1) := dk_42 (dk_at dksX4_blockBySlack_3 5 rfl rfl)
theorem dX4_blockBySlack_78 : decode cX4_blockBySlack 78 = .ok (.getfield 32, 3) := dk_180 0 32 (dk_at dksX4_blockBySlack_3 6 rfl rfl)
theorem dX4_blockBySlack_81 : decode cX4_blockBySlack 81 = .ok (.iload 5, 2) := dk_21 5 (dk_at dksX4_blockBySlack_3 9 rfl rfl)
theorem dX4_blockBySlack_83 : decode cX4_blockBySlack 83 = .ok (.iaload, 1) := dk_46 (dk_at dksX4_blockBySlack_3 11 rfl rfl)
theorem dX4_blockBySlack_84 : decode cX4_blockBySlack 84 = .ok (.isub, 1) := dk_100 (dk_at dksX4_blockBySlack_3 12 rfl rfl)
theorem dX4_blockBySlack_85 : decode cX4_blockBySlack 85 = .ok (.iload 4, 2) := dk_21 4 (dk_at dksX4_blockBySlack_3 13 rfl rfl)
theorem dX4_blockBySlack_87 : decode cX4_blockBySlack 87 = .ok (.if_icmp .ne 13, 3) := dk_160 0 13 (dk_at dksX4_blockBySlack_3 15 rfl rfl)
theorem dX4_blockBySlack_90 : decode cX4_blockBySlack 90 = .ok (.iload 5, 2) := dk_21 5 (dk_at dksX4_blockBySlack_3 18 rfl rfl)
theorem dX4_blockBySlack_92 : decode cX4_blockBySlack 92 = .ok (.iload_n 2, 1) := dk_28 (dk_at dksX4_blockBySlack_3 20 rfl rfl)
theorem dX4_blockBySlack_93 : decode cX4_blockBySlack 93 = .ok (.if_icmp .ge 7, 3) := dk_162 0 7 (dk_at dksX4_blockBySlack_3 21 rfl rfl)
theorem dX4_blockBySlack_96 : decode cX4_blockBySlack 96 = .ok (.iconst 1, 1) := dk_4 (dk_at dksX4_blockBySlack_4 0 rfl rfl)
theorem dX4_blockBySlack_97 : decode cX4_blockBySlack 97 = .ok (.goto 4, 3) := dk_167 0 4 (dk_at dksX4_blockBySlack_4 1 rfl rfl)
theorem dX4_blockBySlack_100 : decode cX4_blockBySlack 100 = .ok (.iconst 0, 1) := dk_3 (dk_at dksX4_blockBySlack_4 4 rfl rfl)
theorem dX4_blockBySlack_101 : decode cX4_blockBySlack 101 = .ok (.iadd, 1) := dk_96 (dk_at dksX4_blockBySlack_4 5 rfl rfl)
theorem dX4_blockBySlack_102 : decode cX4_blockBySlack 102 = .ok (.istore_n 3, 1) := dk_62 (dk_at dksX4_blockBySlack_4 6 rfl rfl)
theorem dX4_blockBySlack_103 : decode cX4_blockBySlack 103 = .ok (.iinc 5 1, 3) := dk_132 5 1 (dk_at dksX4_blockBySlack_4 7 rfl rfl)
theorem dX4_blockBySlack_106 : decode cX4_blockBySlack 106 = .ok (.goto (-66), 3) := dk_167 255 190 (dk_at dksX4_blockBySlack_4 10 rfl rfl)
theorem dX4_blockBySlack_109 : decode cX4_blockBySlack 109 = .ok (.iload_n 3, 1) := dk_29 (dk_at dksX4_blockBySlack_4 13 rfl rfl)
theorem dX4_blockBySlack_110 : decode cX4_blockBySlack 110 = .ok (.iload_n 1, 1) := dk_27 (dk_at dksX4_blockBySlack_4 14 rfl rfl)
theorem dX4_blockBySlack_111 : decode cX4_blockBySlack 111 = .ok (.if_icmp .ne 10, 3) := dk_160 0 10 (dk_at dksX4_blockBySlack_4 15 rfl rfl)
theorem dX4_blockBySlack_114 : decode cX4_blockBySlack 114 = .ok (.aload_n 0, 1) := dk_42 (dk_at dksX4_blockBySlack_4 18 rfl rfl)
theorem dX4_blockBySlack_115 : decode cX4_blockBySlack 115 = .ok (.iload_n 2, 1) := dk_28 (dk_at dksX4_blockBySlack_4 19 rfl rfl)
theorem dX4_blockBySlack_116 : decode cX4_blockBySlack 116 = .ok (.iconst 0, 1) := dk_3 (dk_at dksX4_blockBySlack_4 20 rfl rfl)
theorem dX4_blockBySlack_117 : decode cX4_blockBySlack 117 = .ok (.invokevirtual 67, 3) := dk_182 0 67 (dk_at dksX4_blockBySlack_4 21 rfl rfl)
theorem dX4_blockBySlack_120 : decode cX4_blockBySlack 120 = .ok (.ireturn, 1) := dk_172 (dk_at dksX4_blockBySlack_5 0 rfl rfl)
theorem dX4_blockBySlack_121 : decode cX4_blockBySlack 121 = .ok (.iinc 2 1, 3) := dk_132 2 1 (dk_at dksX4_blockBySlack_5 1 rfl rfl)
theorem dX4_blockBySlack_124 : decode cX4_blockBySlack 124 = .ok (.goto (-113), 3) := dk_167 255 143 (dk_at dksX4_blockBySlack_5 4 rfl rfl)
theorem dX4_blockBySlack_127 : decode cX4_blockBySlack 127 = .ok (.aload_n 0, 1) := dk_42 (dk_at dksX4_blockBySlack_5 7 rfl rfl)
theorem dX4_blockBySlack_128 : decode cX4_blockBySlack 128 = .ok (.iconst 1, 1) := dk_4 (dk_at dksX4_blockBySlack_5 8 rfl rfl)
theorem dX4_blockBySlack_129 : decode cX4_blockBySlack 129 = .ok (.invokevirtual 105, 3) := dk_182 0 105 (dk_at dksX4_blockBySlack_5 9 rfl rfl)
theorem dX4_blockBySlack_132 : decode cX4_blockBySlack 132 = .ok (.ireturn, 1) := dk_172 (dk_at dksX4_blockBySlack_5 12 rfl rfl)
abbrev cX4_level : ByteArray := prog_16_method_66_code
def yX4_level : MethodName := ⟨RX4, "level", "(I)I"⟩
def dkwX4_level_0 : List UInt8 := [42, 27, 182, 0, 128, 61, 28, 156, 0, 5, 3, 172, 42, 182, 0, 166, 42, 180, 0, 35, 28, 46, 172]
abbrev dktX4_level_0 : List UInt8 := dkwX4_level_0 ++ []
theorem dksX4_level_0 : cX4_level.data.toList.drop 0 = dktX4_level_0 := by decide +kernel
theorem dX4_level_0 : decode cX4_level 0 = .ok (.aload_n 0, 1) := dk_42 (dk_at dksX4_level_0 0 rfl rfl)
theorem dX4_level_1 : decode cX4_level 1 = .ok (.iload_n 1, 1) := dk_27 (dk_at dksX4_level_0 1 rfl rfl)
theorem dX4_level_2 : decode cX4_level 2 = .ok (.invokevirtual 128, 3) := dk_182 0 128 (dk_at dksX4_level_0 2 rfl rfl)
theorem dX4_level_5 : decode cX4_level 5 = .ok (.istore_n 2, 1) := dk_61 (dk_at dksX4_level_0 5 rfl rfl)
theorem dX4_level_6 : decode cX4_level 6 = .ok (.iload_n 2, 1) := dk_28 (dk_at dksX4_level_0 6 rfl rfl)
theorem dX4_level_7 : decode cX4_level 7 = .ok (.ifCond .ge 5, 3) := dk_156 0 5 (dk_at dksX4_level_0 7 rfl rfl)
theorem dX4_level_10 : decode cX4_level 10 = .ok (.iconst 0, 1) := dk_3 (dk_at dksX4_level_0 10 rfl rfl)
theorem dX4_level_11 : decode cX4_level 11 = .ok (.ireturn, 1) := dk_172 (dk_at dksX4_level_0 11 rfl rfl)
theorem dX4_level_12 : decode cX4_level 12 = .ok (.aload_n 0, 1) := dk_42 (dk_at dksX4_level_0 12 rfl rfl)
theorem dX4_level_13 : decode cX4_level 13 = .ok (.invokevirtual 166, 3) := dk_182 0 166 (dk_at dksX4_level_0 13 rfl rfl)
theorem dX4_level_16 : decode cX4_level 16 = .ok (.aload_n 0, 1) := dk_42 (dk_at dksX4_level_0 16 rfl rfl)
theorem dX4_level_17 : decode cX4_level 17 = .ok (.getfield 35, 3) := dk_180 0 35 (dk_at dksX4_level_0 17 rfl rfl)
theorem dX4_level_20 : decode cX4_level 20 = .ok (.iload_n 2, 1) := dk_28 (dk_at dksX4_level_0 20 rfl rfl)
theorem dX4_level_21 : decode cX4_level 21 = .ok (.iaload, 1) := dk_46 (dk_at dksX4_level_0 21 rfl rfl)
theorem dX4_level_22 : decode cX4_level 22 = .ok (.ireturn, 1) := dk_172 (dk_at dksX4_level_0 22 rfl rfl)
abbrev cX4_ranks : ByteArray := prog_16_method_65_code
def yX4_ranks : MethodName := ⟨RX4, "ranks", "()V"⟩
def dkwX4_ranks_4 : List UInt8 := [167, 255, 205, 132, 2, 1, 167, 255, 167, 132, 1, 1, 167, 255, 153, 177]
abbrev dktX4_ranks_4 : List UInt8 := dkwX4_ranks_4 ++ []
def dkwX4_ranks_3 : List UInt8 := [28, 46, 161, 0, 17, 42, 180, 0, 35, 28, 42, 180, 0, 35, 29, 46, 4, 96, 79, 132, 3, 1]
abbrev dktX4_ranks_3 : List UInt8 := dkwX4_ranks_3 ++ dktX4_ranks_4
def dkwX4_ranks_2 : List UInt8 := [3, 46, 162, 0, 47, 42, 29, 28, 182, 0, 79, 153, 0, 32, 42, 180, 0, 35, 29, 46, 42, 180, 0, 35]
abbrev dktX4_ranks_2 : List UInt8 := dkwX4_ranks_2 ++ dktX4_ranks_3
def dkwX4_ranks_1 : List UInt8 := [182, 0, 67, 27, 159, 0, 6, 167, 0, 66, 42, 180, 0, 35, 28, 3, 79, 3, 62, 29, 42, 180, 0, 16]
abbrev dktX4_ranks_1 : List UInt8 := dkwX4_ranks_1 ++ dktX4_ranks_2
def dkwX4_ranks_0 : List UInt8 := [3, 60, 27, 16, 30, 163, 0, 103, 3, 61, 28, 42, 180, 0, 16, 3, 46, 162, 0, 85, 42, 28, 8]
abbrev dktX4_ranks_0 : List UInt8 := dkwX4_ranks_0 ++ dktX4_ranks_1
theorem dksX4_ranks_0 : cX4_ranks.data.toList.drop 0 = dktX4_ranks_0 := by decide +kernel
theorem dksX4_ranks_1 : cX4_ranks.data.toList.drop 23 = dktX4_ranks_1 := dk_seg dksX4_ranks_0 23 rfl rfl
theorem dksX4_ranks_2 : cX4_ranks.data.toList.drop 47 = dktX4_ranks_2 := dk_seg dksX4_ranks_1 24 rfl rfl
theorem dksX4_ranks_3 : cX4_ranks.data.toList.drop 71 = dktX4_ranks_3 := dk_seg dksX4_ranks_2 24 rfl rfl
theorem dksX4_ranks_4 : cX4_ranks.data.toList.drop 93 = dktX4_ranks_4 := dk_seg dksX4_ranks_3 22 rfl rfl
theorem dX4_ranks_0 : decode cX4_ranks 0 = .ok (.iconst 0, 1) := dk_3 (dk_at dksX4_ranks_0 0 rfl rfl)
theorem dX4_ranks_1 : decode cX4_ranks 1 = .ok (.istore_n 1, 1) := dk_60 (dk_at dksX4_ranks_0 1 rfl rfl)
theorem dX4_ranks_2 : decode cX4_ranks 2 = .ok (.iload_n 1, 1) := dk_27 (dk_at dksX4_ranks_0 2 rfl rfl)
theorem dX4_ranks_3 : decode cX4_ranks 3 = .ok (.bipush 30, 2) := dk_16 30 (dk_at dksX4_ranks_0 3 rfl rfl)
theorem dX4_ranks_5 : decode cX4_ranks 5 = .ok (.if_icmp .gt 103, 3) := dk_163 0 103 (dk_at dksX4_ranks_0 5 rfl rfl)
theorem dX4_ranks_8 : decode cX4_ranks 8 = .ok (.iconst 0, 1) := dk_3 (dk_at dksX4_ranks_0 8 rfl rfl)
theorem dX4_ranks_9 : decode cX4_ranks 9 = .ok (.istore_n 2, 1) := dk_61 (dk_at dksX4_ranks_0 9 rfl rfl)
theorem dX4_ranks_10 : decode cX4_ranks 10 = .ok (.iload_n 2, 1) := dk_28 (dk_at dksX4_ranks_0 10 rfl rfl)
theorem dX4_ranks_11 : decode cX4_ranks 11 = .ok (.aload_n 0, 1) := dk_42 (dk_at dksX4_ranks_0 11 rfl rfl)
theorem dX4_ranks_12 : decode cX4_ranks 12 = .ok (.getfield 16, 3) := dk_180 0 16 (dk_at dksX4_ranks_0 12 rfl rfl)
theorem dX4_ranks_15 : decode cX4_ranks 15 = .ok (.iconst 0, 1) := dk_3 (dk_at dksX4_ranks_0 15 rfl rfl)
theorem dX4_ranks_16 : decode cX4_ranks 16 = .ok (.iaload, 1) := dk_46 (dk_at dksX4_ranks_0 16 rfl rfl)
theorem dX4_ranks_17 : decode cX4_ranks 17 = .ok (.if_icmp .ge 85, 3) := dk_162 0 85 (dk_at dksX4_ranks_0 17 rfl rfl)
theorem dX4_ranks_20 : decode cX4_ranks 20 = .ok (.aload_n 0, 1) := dk_42 (dk_at dksX4_ranks_0 20 rfl rfl)
theorem dX4_ranks_21 : decode cX4_ranks 21 = .ok (.iload_n 2, 1) := dk_28 (dk_at dksX4_ranks_0 21 rfl rfl)
theorem dX4_ranks_22 : decode cX4_ranks 22 = .ok (.iconst 5, 1) := dk_8 (dk_at dksX4_ranks_0 22 rfl rfl)
theorem dX4_ranks_23 : decode cX4_ranks 23 = .ok (.invokevirtual 67, 3) := dk_182 0 67 (dk_at dksX4_ranks_1 0 rfl rfl)
theorem dX4_ranks_26 : decode cX4_ranks 26 = .ok (.iload_n 1, 1) := dk_27 (dk_at dksX4_ranks_1 3 rfl rfl)
theorem dX4_ranks_27 : decode cX4_ranks 27 = .ok (.if_icmp .eq 6, 3) := dk_159 0 6 (dk_at dksX4_ranks_1 4 rfl rfl)
theorem dX4_ranks_30 : decode cX4_ranks 30 = .ok (.goto 66, 3) := dk_167 0 66 (dk_at dksX4_ranks_1 7 rfl rfl)
theorem dX4_ranks_33 : decode cX4_ranks 33 = .ok (.aload_n 0, 1) := dk_42 (dk_at dksX4_ranks_1 10 rfl rfl)
theorem dX4_ranks_34 : decode cX4_ranks 34 = .ok (.getfield 35, 3) := dk_180 0 35 (dk_at dksX4_ranks_1 11 rfl rfl)
theorem dX4_ranks_37 : decode cX4_ranks 37 = .ok (.iload_n 2, 1) := dk_28 (dk_at dksX4_ranks_1 14 rfl rfl)
theorem dX4_ranks_38 : decode cX4_ranks 38 = .ok (.iconst 0, 1) := dk_3 (dk_at dksX4_ranks_1 15 rfl rfl)
theorem dX4_ranks_39 : decode cX4_ranks 39 = .ok (.iastore, 1) := dk_79 (dk_at dksX4_ranks_1 16 rfl rfl)
theorem dX4_ranks_40 : decode cX4_ranks 40 = .ok (.iconst 0, 1) := dk_3 (dk_at dksX4_ranks_1 17 rfl rfl)
theorem dX4_ranks_41 : decode cX4_ranks 41 = .ok (.istore_n 3, 1) := dk_62 (dk_at dksX4_ranks_1 18 rfl rfl)
theorem dX4_ranks_42 : decode cX4_ranks 42 = .ok (.iload_n 3, 1) := dk_29 (dk_at dksX4_ranks_1 19 rfl rfl)
theorem dX4_ranks_43 : decode cX4_ranks 43 = .ok (.aload_n 0, 1) := dk_42 (dk_at dksX4_ranks_1 20 rfl rfl)
theorem dX4_ranks_44 : decode cX4_ranks 44 = .ok (.getfield 16, 3) := dk_180 0 16 (dk_at dksX4_ranks_1 21 rfl rfl)
theorem dX4_ranks_47 : decode cX4_ranks 47 = .ok (.iconst 0, 1) := dk_3 (dk_at dksX4_ranks_2 0 rfl rfl)
theorem dX4_ranks_48 : decode cX4_ranks 48 = .ok (.iaload, 1) := dk_46 (dk_at dksX4_ranks_2 1 rfl rfl)
theorem dX4_ranks_49 : decode cX4_ranks 49 = .ok (.if_icmp .ge 47, 3) := dk_162 0 47 (dk_at dksX4_ranks_2 2 rfl rfl)
theorem dX4_ranks_52 : decode cX4_ranks 52 = .ok (.aload_n 0, 1) := dk_42 (dk_at dksX4_ranks_2 5 rfl rfl)
theorem dX4_ranks_53 : decode cX4_ranks 53 = .ok (.iload_n 3, 1) := dk_29 (dk_at dksX4_ranks_2 6 rfl rfl)
theorem dX4_ranks_54 : decode cX4_ranks 54 = .ok (.iload_n 2, 1) := dk_28 (dk_at dksX4_ranks_2 7 rfl rfl)
theorem dX4_ranks_55 : decode cX4_ranks 55 = .ok (.invokevirtual 79, 3) := dk_182 0 79 (dk_at dksX4_ranks_2 8 rfl rfl)
theorem dX4_ranks_58 : decode cX4_ranks 58 = .ok (.ifCond .eq 32, 3) := dk_153 0 32 (dk_at dksX4_ranks_2 11 rfl rfl)
theorem dX4_ranks_61 : decode cX4_ranks 61 = .ok (.aload_n 0, 1) := dk_42 (dk_at dksX4_ranks_2 14 rfl rfl)
theorem dX4_ranks_62 : decode cX4_ranks 62 = .ok (.getfield 35, 3) := dk_180 0 35 (dk_at dksX4_ranks_2 15 rfl rfl)
theorem dX4_ranks_65 : decode cX4_ranks 65 = .ok (.iload_n 3, 1) := dk_29 (dk_at dksX4_ranks_2 18 rfl rfl)
theorem dX4_ranks_66 : decode cX4_ranks 66 = .ok (.iaload, 1) := dk_46 (dk_at dksX4_ranks_2 19 rfl rfl)
theorem dX4_ranks_67 : decode cX4_ranks 67 = .ok (.aload_n 0, 1) := dk_42 (dk_at dksX4_ranks_2 20 rfl rfl)
theorem dX4_ranks_68 : decode cX4_ranks 68 = .ok (.getfield 35, 3) := dk_180 0 35 (dk_at dksX4_ranks_2 21 rfl rfl)
theorem dX4_ranks_71 : decode cX4_ranks 71 = .ok (.iload_n 2, 1) := dk_28 (dk_at dksX4_ranks_3 0 rfl rfl)
theorem dX4_ranks_72 : decode cX4_ranks 72 = .ok (.iaload, 1) := dk_46 (dk_at dksX4_ranks_3 1 rfl rfl)
theorem dX4_ranks_73 : decode cX4_ranks 73 = .ok (.if_icmp .lt 17, 3) := dk_161 0 17 (dk_at dksX4_ranks_3 2 rfl rfl)
theorem dX4_ranks_76 : decode cX4_ranks 76 = .ok (.aload_n 0, 1) := dk_42 (dk_at dksX4_ranks_3 5 rfl rfl)
theorem dX4_ranks_77 : decode cX4_ranks 77 = .ok (.getfield 35, 3) := dk_180 0 35 (dk_at dksX4_ranks_3 6 rfl rfl)
theorem dX4_ranks_80 : decode cX4_ranks 80 = .ok (.iload_n 2, 1) := dk_28 (dk_at dksX4_ranks_3 9 rfl rfl)
theorem dX4_ranks_81 : decode cX4_ranks 81 = .ok (.aload_n 0, 1) := dk_42 (dk_at dksX4_ranks_3 10 rfl rfl)
theorem dX4_ranks_82 : decode cX4_ranks 82 = .ok (.getfield 35, 3) := dk_180 0 35 (dk_at dksX4_ranks_3 11 rfl rfl)
theorem dX4_ranks_85 : decode cX4_ranks 85 = .ok (.iload_n 3, 1) := dk_29 (dk_at dksX4_ranks_3 14 rfl rfl)
theorem dX4_ranks_86 : decode cX4_ranks 86 = .ok (.iaload, 1) := dk_46 (dk_at dksX4_ranks_3 15 rfl rfl)
theorem dX4_ranks_87 : decode cX4_ranks 87 = .ok (.iconst 1, 1) := dk_4 (dk_at dksX4_ranks_3 16 rfl rfl)
theorem dX4_ranks_88 : decode cX4_ranks 88 = .ok (.iadd, 1) := dk_96 (dk_at dksX4_ranks_3 17 rfl rfl)
theorem dX4_ranks_89 : decode cX4_ranks 89 = .ok (.iastore, 1) := dk_79 (dk_at dksX4_ranks_3 18 rfl rfl)
theorem dX4_ranks_90 : decode cX4_ranks 90 = .ok (.iinc 3 1, 3) := dk_132 3 1 (dk_at dksX4_ranks_3 19 rfl rfl)
theorem dX4_ranks_93 : decode cX4_ranks 93 = .ok (.goto (-51), 3) := dk_167 255 205 (dk_at dksX4_ranks_4 0 rfl rfl)
theorem dX4_ranks_96 : decode cX4_ranks 96 = .ok (.iinc 2 1, 3) := dk_132 2 1 (dk_at dksX4_ranks_4 3 rfl rfl)
theorem dX4_ranks_99 : decode cX4_ranks 99 = .ok (.goto (-89), 3) := dk_167 255 167 (dk_at dksX4_ranks_4 6 rfl rfl)
theorem dX4_ranks_102 : decode cX4_ranks 102 = .ok (.iinc 1 1, 3) := dk_132 1 1 (dk_at dksX4_ranks_4 9 rfl rfl)
theorem dX4_ranks_105 : decode cX4_ranks 105 = .ok (.goto (-103), 3) := dk_167 255 153 (dk_at dksX4_ranks_4 12 rfl rfl)
theorem dX4_ranks_108 : decode cX4_ranks 108 = .ok (.return_, 1) := dk_177 (dk_at dksX4_ranks_4 15 rfl rfl)
abbrev cX4_levelCount : ByteArray := prog_16_method_67_code
def yX4_levelCount : MethodName := ⟨RX4, "levelCount", "()I"⟩
def dkwX4_levelCount_2 : List UInt8 := [153, 0, 15, 132, 2, 1, 29, 29, 4, 100, 126, 62, 167, 255, 243, 28, 172]
abbrev dktX4_levelCount_2 : List UInt8 := dkwX4_levelCount_2 ++ []
def dkwX4_levelCount_1 : List UInt8 := [162, 0, 20, 27, 4, 42, 180, 0, 35, 29, 46, 120, 128, 60, 132, 3, 1, 167, 255, 232, 27, 62, 29]
abbrev dktX4_levelCount_1 : List UInt8 := dkwX4_levelCount_1 ++ dktX4_levelCount_2
def dkwX4_levelCount_0 : List UInt8 := [42, 3, 181, 0, 53, 42, 182, 0, 166, 3, 60, 3, 61, 3, 62, 29, 42, 180, 0, 16, 3, 46]
abbrev dktX4_levelCount_0 : List UInt8 := dkwX4_levelCount_0 ++ dktX4_levelCount_1
theorem dksX4_levelCount_0 : cX4_levelCount.data.toList.drop 0 = dktX4_levelCount_0 := by decide +kernel
theorem dksX4_levelCount_1 : cX4_levelCount.data.toList.drop 22 = dktX4_levelCount_1 := dk_seg dksX4_levelCount_0 22 rfl rfl
theorem dksX4_levelCount_2 : cX4_levelCount.data.toList.drop 45 = dktX4_levelCount_2 := dk_seg dksX4_levelCount_1 23 rfl rfl
theorem dX4_levelCount_0 : decode cX4_levelCount 0 = .ok (.aload_n 0, 1) := dk_42 (dk_at dksX4_levelCount_0 0 rfl rfl)
theorem dX4_levelCount_1 : decode cX4_levelCount 1 = .ok (.iconst 0, 1) := dk_3 (dk_at dksX4_levelCount_0 1 rfl rfl)
theorem dX4_levelCount_2 : decode cX4_levelCount 2 = .ok (.putfield 53, 3) := dk_181 0 53 (dk_at dksX4_levelCount_0 2 rfl rfl)
theorem dX4_levelCount_5 : decode cX4_levelCount 5 = .ok (.aload_n 0, 1) := dk_42 (dk_at dksX4_levelCount_0 5 rfl rfl)
theorem dX4_levelCount_6 : decode cX4_levelCount 6 = .ok (.invokevirtual 166, 3) := dk_182 0 166 (dk_at dksX4_levelCount_0 6 rfl rfl)
theorem dX4_levelCount_9 : decode cX4_levelCount 9 = .ok (.iconst 0, 1) := dk_3 (dk_at dksX4_levelCount_0 9 rfl rfl)
theorem dX4_levelCount_10 : decode cX4_levelCount 10 = .ok (.istore_n 1, 1) := dk_60 (dk_at dksX4_levelCount_0 10 rfl rfl)
theorem dX4_levelCount_11 : decode cX4_levelCount 11 = .ok (.iconst 0, 1) := dk_3 (dk_at dksX4_levelCount_0 11 rfl rfl)
theorem dX4_levelCount_12 : decode cX4_levelCount 12 = .ok (.istore_n 2, 1) := dk_61 (dk_at dksX4_levelCount_0 12 rfl rfl)
theorem dX4_levelCount_13 : decode cX4_levelCount 13 = .ok (.iconst 0, 1) := dk_3 (dk_at dksX4_levelCount_0 13 rfl rfl)
theorem dX4_levelCount_14 : decode cX4_levelCount 14 = .ok (.istore_n 3, 1) := dk_62 (dk_at dksX4_levelCount_0 14 rfl rfl)
theorem dX4_levelCount_15 : decode cX4_levelCount 15 = .ok (.iload_n 3, 1) := dk_29 (dk_at dksX4_levelCount_0 15 rfl rfl)
theorem dX4_levelCount_16 : decode cX4_levelCount 16 = .ok (.aload_n 0, 1) := dk_42 (dk_at dksX4_levelCount_0 16 rfl rfl)
theorem dX4_levelCount_17 : decode cX4_levelCount 17 = .ok (.getfield 16, 3) := dk_180 0 16 (dk_at dksX4_levelCount_0 17 rfl rfl)
theorem dX4_levelCount_20 : decode cX4_levelCount 20 = .ok (.iconst 0, 1) := dk_3 (dk_at dksX4_levelCount_0 20 rfl rfl)
theorem dX4_levelCount_21 : decode cX4_levelCount 21 = .ok (.iaload, 1) := dk_46 (dk_at dksX4_levelCount_0 21 rfl rfl)
theorem dX4_levelCount_22 : decode cX4_levelCount 22 = .ok (.if_icmp .ge 20, 3) := dk_162 0 20 (dk_at dksX4_levelCount_1 0 rfl rfl)
theorem dX4_levelCount_25 : decode cX4_levelCount 25 = .ok (.iload_n 1, 1) := dk_27 (dk_at dksX4_levelCount_1 3 rfl rfl)
theorem dX4_levelCount_26 : decode cX4_levelCount 26 = .ok (.iconst 1, 1) := dk_4 (dk_at dksX4_levelCount_1 4 rfl rfl)
theorem dX4_levelCount_27 : decode cX4_levelCount 27 = .ok (.aload_n 0, 1) := dk_42 (dk_at dksX4_levelCount_1 5 rfl rfl)
theorem dX4_levelCount_28 : decode cX4_levelCount 28 = .ok (.getfield 35, 3) := dk_180 0 35 (dk_at dksX4_levelCount_1 6 rfl rfl)
theorem dX4_levelCount_31 : decode cX4_levelCount 31 = .ok (.iload_n 3, 1) := dk_29 (dk_at dksX4_levelCount_1 9 rfl rfl)
theorem dX4_levelCount_32 : decode cX4_levelCount 32 = .ok (.iaload, 1) := dk_46 (dk_at dksX4_levelCount_1 10 rfl rfl)
theorem dX4_levelCount_33 : decode cX4_levelCount 33 = .ok (.ishl, 1) := dk_120 (dk_at dksX4_levelCount_1 11 rfl rfl)
theorem dX4_levelCount_34 : decode cX4_levelCount 34 = .ok (.ior, 1) := dk_128 (dk_at dksX4_levelCount_1 12 rfl rfl)
theorem dX4_levelCount_35 : decode cX4_levelCount 35 = .ok (.istore_n 1, 1) := dk_60 (dk_at dksX4_levelCount_1 13 rfl rfl)
theorem dX4_levelCount_36 : decode cX4_levelCount 36 = .ok (.iinc 3 1, 3) := dk_132 3 1 (dk_at dksX4_levelCount_1 14 rfl rfl)
theorem dX4_levelCount_39 : decode cX4_levelCount 39 = .ok (.goto (-24), 3) := dk_167 255 232 (dk_at dksX4_levelCount_1 17 rfl rfl)
theorem dX4_levelCount_42 : decode cX4_levelCount 42 = .ok (.iload_n 1, 1) := dk_27 (dk_at dksX4_levelCount_1 20 rfl rfl)
theorem dX4_levelCount_43 : decode cX4_levelCount 43 = .ok (.istore_n 3, 1) := dk_62 (dk_at dksX4_levelCount_1 21 rfl rfl)
theorem dX4_levelCount_44 : decode cX4_levelCount 44 = .ok (.iload_n 3, 1) := dk_29 (dk_at dksX4_levelCount_1 22 rfl rfl)
theorem dX4_levelCount_45 : decode cX4_levelCount 45 = .ok (.ifCond .eq 15, 3) := dk_153 0 15 (dk_at dksX4_levelCount_2 0 rfl rfl)
theorem dX4_levelCount_48 : decode cX4_levelCount 48 = .ok (.iinc 2 1, 3) := dk_132 2 1 (dk_at dksX4_levelCount_2 3 rfl rfl)
theorem dX4_levelCount_51 : decode cX4_levelCount 51 = .ok (.iload_n 3, 1) := dk_29 (dk_at dksX4_levelCount_2 6 rfl rfl)
theorem dX4_levelCount_52 : decode cX4_levelCount 52 = .ok (.iload_n 3, 1) := dk_29 (dk_at dksX4_levelCount_2 7 rfl rfl)
theorem dX4_levelCount_53 : decode cX4_levelCount 53 = .ok (.iconst 1, 1) := dk_4 (dk_at dksX4_levelCount_2 8 rfl rfl)
theorem dX4_levelCount_54 : decode cX4_levelCount 54 = .ok (.isub, 1) := dk_100 (dk_at dksX4_levelCount_2 9 rfl rfl)
theorem dX4_levelCount_55 : decode cX4_levelCount 55 = .ok (.iand, 1) := dk_126 (dk_at dksX4_levelCount_2 10 rfl rfl)
theorem dX4_levelCount_56 : decode cX4_levelCount 56 = .ok (.istore_n 3, 1) := dk_62 (dk_at dksX4_levelCount_2 11 rfl rfl)
theorem dX4_levelCount_57 : decode cX4_levelCount 57 = .ok (.goto (-13), 3) := dk_167 255 243 (dk_at dksX4_levelCount_2 12 rfl rfl)
theorem dX4_levelCount_60 : decode cX4_levelCount 60 = .ok (.iload_n 2, 1) := dk_28 (dk_at dksX4_levelCount_2 15 rfl rfl)
theorem dX4_levelCount_61 : decode cX4_levelCount 61 = .ok (.ireturn, 1) := dk_172 (dk_at dksX4_levelCount_2 16 rfl rfl)
abbrev cX4_isAbove : ByteArray := prog_16_method_69_code
def yX4_isAbove : MethodName := ⟨RX4, "isAbove", "(II)Z"⟩
def dkwX4_isAbove_1 : List UInt8 := [155, 0, 21, 42, 21, 4, 182, 0, 169, 29, 122, 4, 126, 4, 160, 0, 7, 4, 167, 0, 4, 3, 172]
abbrev dktX4_isAbove_1 : List UInt8 := dkwX4_isAbove_1 ++ []
def dkwX4_isAbove_0 : List UInt8 := [42, 27, 182, 0, 128, 62, 29, 156, 0, 7, 2, 167, 0, 8, 42, 28, 182, 0, 128, 54, 4, 21, 4]
abbrev dktX4_isAbove_0 : List UInt8 := dkwX4_isAbove_0 ++ dktX4_isAbove_1
theorem dksX4_isAbove_0 : cX4_isAbove.data.toList.drop 0 = dktX4_isAbove_0 := by decide +kernel
theorem dksX4_isAbove_1 : cX4_isAbove.data.toList.drop 23 = dktX4_isAbove_1 := dk_seg dksX4_isAbove_0 23 rfl rfl
theorem dX4_isAbove_0 : decode cX4_isAbove 0 = .ok (.aload_n 0, 1) := dk_42 (dk_at dksX4_isAbove_0 0 rfl rfl)
theorem dX4_isAbove_1 : decode cX4_isAbove 1 = .ok (.iload_n 1, 1) := dk_27 (dk_at dksX4_isAbove_0 1 rfl rfl)
theorem dX4_isAbove_2 : decode cX4_isAbove 2 = .ok (.invokevirtual 128, 3) := dk_182 0 128 (dk_at dksX4_isAbove_0 2 rfl rfl)
theorem dX4_isAbove_5 : decode cX4_isAbove 5 = .ok (.istore_n 3, 1) := dk_62 (dk_at dksX4_isAbove_0 5 rfl rfl)
theorem dX4_isAbove_6 : decode cX4_isAbove 6 = .ok (.iload_n 3, 1) := dk_29 (dk_at dksX4_isAbove_0 6 rfl rfl)
theorem dX4_isAbove_7 : decode cX4_isAbove 7 = .ok (.ifCond .ge 7, 3) := dk_156 0 7 (dk_at dksX4_isAbove_0 7 rfl rfl)
theorem dX4_isAbove_10 : decode cX4_isAbove 10 = .ok (.iconst (-1), 1) := dk_2 (dk_at dksX4_isAbove_0 10 rfl rfl)
theorem dX4_isAbove_11 : decode cX4_isAbove 11 = .ok (.goto 8, 3) := dk_167 0 8 (dk_at dksX4_isAbove_0 11 rfl rfl)
theorem dX4_isAbove_14 : decode cX4_isAbove 14 = .ok (.aload_n 0, 1) := dk_42 (dk_at dksX4_isAbove_0 14 rfl rfl)
theorem dX4_isAbove_15 : decode cX4_isAbove 15 = .ok (.iload_n 2, 1) := dk_28 (dk_at dksX4_isAbove_0 15 rfl rfl)
theorem dX4_isAbove_16 : decode cX4_isAbove 16 = .ok (.invokevirtual 128, 3) := dk_182 0 128 (dk_at dksX4_isAbove_0 16 rfl rfl)
theorem dX4_isAbove_19 : decode cX4_isAbove 19 = .ok (.istore 4, 2) := dk_54 4 (dk_at dksX4_isAbove_0 19 rfl rfl)
theorem dX4_isAbove_21 : decode cX4_isAbove 21 = .ok (.iload 4, 2) := dk_21 4 (dk_at dksX4_isAbove_0 21 rfl rfl)
theorem dX4_isAbove_23 : decode cX4_isAbove 23 = .ok (.ifCond .lt 21, 3) := dk_155 0 21 (dk_at dksX4_isAbove_1 0 rfl rfl)
theorem dX4_isAbove_26 : decode cX4_isAbove 26 = .ok (.aload_n 0, 1) := dk_42 (dk_at dksX4_isAbove_1 3 rfl rfl)
theorem dX4_isAbove_27 : decode cX4_isAbove 27 = .ok (.iload 4, 2) := dk_21 4 (dk_at dksX4_isAbove_1 4 rfl rfl)
theorem dX4_isAbove_29 : decode cX4_isAbove 29 = .ok (.invokevirtual 169, 3) := dk_182 0 169 (dk_at dksX4_isAbove_1 6 rfl rfl)
theorem dX4_isAbove_32 : decode cX4_isAbove 32 = .ok (.iload_n 3, 1) := dk_29 (dk_at dksX4_isAbove_1 9 rfl rfl)
theorem dX4_isAbove_33 : decode cX4_isAbove 33 = .ok (.ishr, 1) := dk_122 (dk_at dksX4_isAbove_1 10 rfl rfl)
theorem dX4_isAbove_34 : decode cX4_isAbove 34 = .ok (.iconst 1, 1) := dk_4 (dk_at dksX4_isAbove_1 11 rfl rfl)
theorem dX4_isAbove_35 : decode cX4_isAbove 35 = .ok (.iand, 1) := dk_126 (dk_at dksX4_isAbove_1 12 rfl rfl)
theorem dX4_isAbove_36 : decode cX4_isAbove 36 = .ok (.iconst 1, 1) := dk_4 (dk_at dksX4_isAbove_1 13 rfl rfl)
theorem dX4_isAbove_37 : decode cX4_isAbove 37 = .ok (.if_icmp .ne 7, 3) := dk_160 0 7 (dk_at dksX4_isAbove_1 14 rfl rfl)
theorem dX4_isAbove_40 : decode cX4_isAbove 40 = .ok (.iconst 1, 1) := dk_4 (dk_at dksX4_isAbove_1 17 rfl rfl)
theorem dX4_isAbove_41 : decode cX4_isAbove 41 = .ok (.goto 4, 3) := dk_167 0 4 (dk_at dksX4_isAbove_1 18 rfl rfl)
theorem dX4_isAbove_44 : decode cX4_isAbove 44 = .ok (.iconst 0, 1) := dk_3 (dk_at dksX4_isAbove_1 21 rfl rfl)
theorem dX4_isAbove_45 : decode cX4_isAbove 45 = .ok (.ireturn, 1) := dk_172 (dk_at dksX4_isAbove_1 22 rfl rfl)
abbrev cX4_above : ByteArray := prog_16_method_68_code
def yX4_above : MethodName := ⟨RX4, "above", "(I)I"⟩
def dkwX4_above_4 : List UInt8 := [28, 172]
abbrev dktX4_above_4 : List UInt8 := dkwX4_above_4 ++ []
def dkwX4_above_3 : List UInt8 := [21, 4, 120, 167, 0, 4, 3, 128, 61, 132, 5, 1, 167, 255, 204, 132, 4, 1, 167, 255, 184, 167, 255, 171]
abbrev dktX4_above_3 : List UInt8 := dkwX4_above_3 ++ dktX4_above_4
def dkwX4_above_2 : List UInt8 := [182, 0, 79, 153, 0, 26, 21, 5, 27, 159, 0, 13, 29, 21, 5, 122, 4, 126, 4, 160, 0, 10, 4]
abbrev dktX4_above_2 : List UInt8 := dkwX4_above_2 ++ dktX4_above_3
def dkwX4_above_1 : List UInt8 := [162, 0, 67, 3, 54, 5, 21, 5, 42, 180, 0, 16, 3, 46, 162, 0, 47, 28, 42, 21, 5, 21, 4]
abbrev dktX4_above_1 : List UInt8 := dkwX4_above_1 ++ dktX4_above_2
def dkwX4_above_0 : List UInt8 := [3, 61, 2, 62, 28, 29, 159, 0, 86, 28, 62, 3, 54, 4, 21, 4, 42, 180, 0, 16, 3, 46]
abbrev dktX4_above_0 : List UInt8 := dkwX4_above_0 ++ dktX4_above_1
theorem dksX4_above_0 : cX4_above.data.toList.drop 0 = dktX4_above_0 := by decide +kernel
theorem dksX4_above_1 : cX4_above.data.toList.drop 22 = dktX4_above_1 := dk_seg dksX4_above_0 22 rfl rfl
theorem dksX4_above_2 : cX4_above.data.toList.drop 45 = dktX4_above_2 := dk_seg dksX4_above_1 23 rfl rfl
theorem dksX4_above_3 : cX4_above.data.toList.drop 68 = dktX4_above_3 := dk_seg dksX4_above_2 23 rfl rfl
theorem dksX4_above_4 : cX4_above.data.toList.drop 92 = dktX4_above_4 := dk_seg dksX4_above_3 24 rfl rfl
theorem dX4_above_0 : decode cX4_above 0 = .ok (.iconst 0, 1) := dk_3 (dk_at dksX4_above_0 0 rfl rfl)
theorem dX4_above_1 : decode cX4_above 1 = .ok (.istore_n 2, 1) := dk_61 (dk_at dksX4_above_0 1 rfl rfl)
theorem dX4_above_2 : decode cX4_above 2 = .ok (.iconst (-1), 1) := dk_2 (dk_at dksX4_above_0 2 rfl rfl)
theorem dX4_above_3 : decode cX4_above 3 = .ok (.istore_n 3, 1) := dk_62 (dk_at dksX4_above_0 3 rfl rfl)
theorem dX4_above_4 : decode cX4_above 4 = .ok (.iload_n 2, 1) := dk_28 (dk_at dksX4_above_0 4 rfl rfl)
theorem dX4_above_5 : decode cX4_above 5 = .ok (.iload_n 3, 1) := dk_29 (dk_at dksX4_above_0 5 rfl rfl)
theorem dX4_above_6 : decode cX4_above 6 = .ok (.if_icmp .eq 86, 3) := dk_159 0 86 (dk_at dksX4_above_0 6 rfl rfl)
theorem dX4_above_9 : decode cX4_above 9 = .ok (.iload_n 2, 1) := dk_28 (dk_at dksX4_above_0 9 rfl rfl)
theorem dX4_above_10 : decode cX4_above 10 = .ok (.istore_n 3, 1) := dk_62 (dk_at dksX4_above_0 10 rfl rfl)
theorem dX4_above_11 : decode cX4_above 11 = .ok (.iconst 0, 1) := dk_3 (dk_at dksX4_above_0 11 rfl rfl)
theorem dX4_above_12 : decode cX4_above 12 = .ok (.istore 4, 2) := dk_54 4 (dk_at dksX4_above_0 12 rfl rfl)
theorem dX4_above_14 : decode cX4_above 14 = .ok (.iload 4, 2) := dk_21 4 (dk_at dksX4_above_0 14 rfl rfl)
theorem dX4_above_16 : decode cX4_above 16 = .ok (.aload_n 0, 1) := dk_42 (dk_at dksX4_above_0 16 rfl rfl)
theorem dX4_above_17 : decode cX4_above 17 = .ok (.getfield 16, 3) := dk_180 0 16 (dk_at dksX4_above_0 17 rfl rfl)
theorem dX4_above_20 : decode cX4_above 20 = .ok (.iconst 0, 1) := dk_3 (dk_at dksX4_above_0 20 rfl rfl)
theorem dX4_above_21 : decode cX4_above 21 = .ok (.iaload, 1) := dk_46 (dk_at dksX4_above_0 21 rfl rfl)
theorem dX4_above_22 : decode cX4_above 22 = .ok (.if_icmp .ge 67, 3) := dk_162 0 67 (dk_at dksX4_above_1 0 rfl rfl)
theorem dX4_above_25 : decode cX4_above 25 = .ok (.iconst 0, 1) := dk_3 (dk_at dksX4_above_1 3 rfl rfl)
theorem dX4_above_26 : decode cX4_above 26 = .ok (.istore 5, 2) := dk_54 5 (dk_at dksX4_above_1 4 rfl rfl)
theorem dX4_above_28 : decode cX4_above 28 = .ok (.iload 5, 2) := dk_21 5 (dk_at dksX4_above_1 6 rfl rfl)
theorem dX4_above_30 : decode cX4_above 30 = .ok (.aload_n 0, 1) := dk_42 (dk_at dksX4_above_1 8 rfl rfl)
theorem dX4_above_31 : decode cX4_above 31 = .ok (.getfield 16, 3) := dk_180 0 16 (dk_at dksX4_above_1 9 rfl rfl)
theorem dX4_above_34 : decode cX4_above 34 = .ok (.iconst 0, 1) := dk_3 (dk_at dksX4_above_1 12 rfl rfl)
theorem dX4_above_35 : decode cX4_above 35 = .ok (.iaload, 1) := dk_46 (dk_at dksX4_above_1 13 rfl rfl)
theorem dX4_above_36 : decode cX4_above 36 = .ok (.if_icmp .ge 47, 3) := dk_162 0 47 (dk_at dksX4_above_1 14 rfl rfl)
theorem dX4_above_39 : decode cX4_above 39 = .ok (.iload_n 2, 1) := dk_28 (dk_at dksX4_above_1 17 rfl rfl)
theorem dX4_above_40 : decode cX4_above 40 = .ok (.aload_n 0, 1) := dk_42 (dk_at dksX4_above_1 18 rfl rfl)
theorem dX4_above_41 : decode cX4_above 41 = .ok (.iload 5, 2) := dk_21 5 (dk_at dksX4_above_1 19 rfl rfl)
theorem dX4_above_43 : decode cX4_above 43 = .ok (.iload 4, 2) := dk_21 4 (dk_at dksX4_above_1 21 rfl rfl)
theorem dX4_above_45 : decode cX4_above 45 = .ok (.invokevirtual 79, 3) := dk_182 0 79 (dk_at dksX4_above_2 0 rfl rfl)
theorem dX4_above_48 : decode cX4_above 48 = .ok (.ifCond .eq 26, 3) := dk_153 0 26 (dk_at dksX4_above_2 3 rfl rfl)
theorem dX4_above_51 : decode cX4_above 51 = .ok (.iload 5, 2) := dk_21 5 (dk_at dksX4_above_2 6 rfl rfl)
theorem dX4_above_53 : decode cX4_above 53 = .ok (.iload_n 1, 1) := dk_27 (dk_at dksX4_above_2 8 rfl rfl)
theorem dX4_above_54 : decode cX4_above 54 = .ok (.if_icmp .eq 13, 3) := dk_159 0 13 (dk_at dksX4_above_2 9 rfl rfl)
theorem dX4_above_57 : decode cX4_above 57 = .ok (.iload_n 3, 1) := dk_29 (dk_at dksX4_above_2 12 rfl rfl)
theorem dX4_above_58 : decode cX4_above 58 = .ok (.iload 5, 2) := dk_21 5 (dk_at dksX4_above_2 13 rfl rfl)
theorem dX4_above_60 : decode cX4_above 60 = .ok (.ishr, 1) := dk_122 (dk_at dksX4_above_2 15 rfl rfl)
theorem dX4_above_61 : decode cX4_above 61 = .ok (.iconst 1, 1) := dk_4 (dk_at dksX4_above_2 16 rfl rfl)
theorem dX4_above_62 : decode cX4_above 62 = .ok (.iand, 1) := dk_126 (dk_at dksX4_above_2 17 rfl rfl)
theorem dX4_above_63 : decode cX4_above 63 = .ok (.iconst 1, 1) := dk_4 (dk_at dksX4_above_2 18 rfl rfl)
theorem dX4_above_64 : decode cX4_above 64 = .ok (.if_icmp .ne 10, 3) := dk_160 0 10 (dk_at dksX4_above_2 19 rfl rfl)
theorem dX4_above_67 : decode cX4_above 67 = .ok (.iconst 1, 1) := dk_4 (dk_at dksX4_above_2 22 rfl rfl)
theorem dX4_above_68 : decode cX4_above 68 = .ok (.iload 4, 2) := dk_21 4 (dk_at dksX4_above_3 0 rfl rfl)
theorem dX4_above_70 : decode cX4_above 70 = .ok (.ishl, 1) := dk_120 (dk_at dksX4_above_3 2 rfl rfl)
theorem dX4_above_71 : decode cX4_above 71 = .ok (.goto 4, 3) := dk_167 0 4 (dk_at dksX4_above_3 3 rfl rfl)
theorem dX4_above_74 : decode cX4_above 74 = .ok (.iconst 0, 1) := dk_3 (dk_at dksX4_above_3 6 rfl rfl)
theorem dX4_above_75 : decode cX4_above 75 = .ok (.ior, 1) := dk_128 (dk_at dksX4_above_3 7 rfl rfl)
theorem dX4_above_76 : decode cX4_above 76 = .ok (.istore_n 2, 1) := dk_61 (dk_at dksX4_above_3 8 rfl rfl)
theorem dX4_above_77 : decode cX4_above 77 = .ok (.iinc 5 1, 3) := dk_132 5 1 (dk_at dksX4_above_3 9 rfl rfl)
theorem dX4_above_80 : decode cX4_above 80 = .ok (.goto (-52), 3) := dk_167 255 204 (dk_at dksX4_above_3 12 rfl rfl)
theorem dX4_above_83 : decode cX4_above 83 = .ok (.iinc 4 1, 3) := dk_132 4 1 (dk_at dksX4_above_3 15 rfl rfl)
theorem dX4_above_86 : decode cX4_above 86 = .ok (.goto (-72), 3) := dk_167 255 184 (dk_at dksX4_above_3 18 rfl rfl)
theorem dX4_above_89 : decode cX4_above 89 = .ok (.goto (-85), 3) := dk_167 255 171 (dk_at dksX4_above_3 21 rfl rfl)
theorem dX4_above_92 : decode cX4_above 92 = .ok (.iload_n 2, 1) := dk_28 (dk_at dksX4_above_4 0 rfl rfl)
theorem dX4_above_93 : decode cX4_above 93 = .ok (.ireturn, 1) := dk_172 (dk_at dksX4_above_4 1 rfl rfl)
abbrev cX4_countAbove : ByteArray := prog_16_method_70_code
def yX4_countAbove : MethodName := ⟨RX4, "countAbove", "(I)I"⟩
def dkwX4_countAbove_1 : List UInt8 := [153, 0, 18, 132, 3, 1, 21, 4, 21, 4, 4, 100, 126, 54, 4, 167, 255, 239, 29, 172]
abbrev dktX4_countAbove_1 : List UInt8 := dkwX4_countAbove_1 ++ []
def dkwX4_countAbove_0 : List UInt8 := [42, 27, 182, 0, 128, 61, 3, 62, 28, 156, 0, 5, 3, 172, 42, 28, 182, 0, 169, 54, 4, 21, 4]
abbrev dktX4_countAbove_0 : List UInt8 := dkwX4_countAbove_0 ++ dktX4_countAbove_1
theorem dksX4_countAbove_0 : cX4_countAbove.data.toList.drop 0 = dktX4_countAbove_0 := by decide +kernel
theorem dksX4_countAbove_1 : cX4_countAbove.data.toList.drop 23 = dktX4_countAbove_1 := dk_seg dksX4_countAbove_0 23 rfl rfl
theorem dX4_countAbove_0 : decode cX4_countAbove 0 = .ok (.aload_n 0, 1) := dk_42 (dk_at dksX4_countAbove_0 0 rfl rfl)
theorem dX4_countAbove_1 : decode cX4_countAbove 1 = .ok (.iload_n 1, 1) := dk_27 (dk_at dksX4_countAbove_0 1 rfl rfl)
theorem dX4_countAbove_2 : decode cX4_countAbove 2 = .ok (.invokevirtual 128, 3) := dk_182 0 128 (dk_at dksX4_countAbove_0 2 rfl rfl)
theorem dX4_countAbove_5 : decode cX4_countAbove 5 = .ok (.istore_n 2, 1) := dk_61 (dk_at dksX4_countAbove_0 5 rfl rfl)
theorem dX4_countAbove_6 : decode cX4_countAbove 6 = .ok (.iconst 0, 1) := dk_3 (dk_at dksX4_countAbove_0 6 rfl rfl)
theorem dX4_countAbove_7 : decode cX4_countAbove 7 = .ok (.istore_n 3, 1) := dk_62 (dk_at dksX4_countAbove_0 7 rfl rfl)
theorem dX4_countAbove_8 : decode cX4_countAbove 8 = .ok (.iload_n 2, 1) := dk_28 (dk_at dksX4_countAbove_0 8 rfl rfl)
theorem dX4_countAbove_9 : decode cX4_countAbove 9 = .ok (.ifCond .ge 5, 3) := dk_156 0 5 (dk_at dksX4_countAbove_0 9 rfl rfl)
theorem dX4_countAbove_12 : decode cX4_countAbove 12 = .ok (.iconst 0, 1) := dk_3 (dk_at dksX4_countAbove_0 12 rfl rfl)
theorem dX4_countAbove_13 : decode cX4_countAbove 13 = .ok (.ireturn, 1) := dk_172 (dk_at dksX4_countAbove_0 13 rfl rfl)
theorem dX4_countAbove_14 : decode cX4_countAbove 14 = .ok (.aload_n 0, 1) := dk_42 (dk_at dksX4_countAbove_0 14 rfl rfl)
theorem dX4_countAbove_15 : decode cX4_countAbove 15 = .ok (.iload_n 2, 1) := dk_28 (dk_at dksX4_countAbove_0 15 rfl rfl)
theorem dX4_countAbove_16 : decode cX4_countAbove 16 = .ok (.invokevirtual 169, 3) := dk_182 0 169 (dk_at dksX4_countAbove_0 16 rfl rfl)
theorem dX4_countAbove_19 : decode cX4_countAbove 19 = .ok (.istore 4, 2) := dk_54 4 (dk_at dksX4_countAbove_0 19 rfl rfl)
theorem dX4_countAbove_21 : decode cX4_countAbove 21 = .ok (.iload 4, 2) := dk_21 4 (dk_at dksX4_countAbove_0 21 rfl rfl)
theorem dX4_countAbove_23 : decode cX4_countAbove 23 = .ok (.ifCond .eq 18, 3) := dk_153 0 18 (dk_at dksX4_countAbove_1 0 rfl rfl)
theorem dX4_countAbove_26 : decode cX4_countAbove 26 = .ok (.iinc 3 1, 3) := dk_132 3 1 (dk_at dksX4_countAbove_1 3 rfl rfl)
theorem dX4_countAbove_29 : decode cX4_countAbove 29 = .ok (.iload 4, 2) := dk_21 4 (dk_at dksX4_countAbove_1 6 rfl rfl)
theorem dX4_countAbove_31 : decode cX4_countAbove 31 = .ok (.iload 4, 2) := dk_21 4 (dk_at dksX4_countAbove_1 8 rfl rfl)
theorem dX4_countAbove_33 : decode cX4_countAbove 33 = .ok (.iconst 1, 1) := dk_4 (dk_at dksX4_countAbove_1 10 rfl rfl)
theorem dX4_countAbove_34 : decode cX4_countAbove 34 = .ok (.isub, 1) := dk_100 (dk_at dksX4_countAbove_1 11 rfl rfl)
theorem dX4_countAbove_35 : decode cX4_countAbove 35 = .ok (.iand, 1) := dk_126 (dk_at dksX4_countAbove_1 12 rfl rfl)
theorem dX4_countAbove_36 : decode cX4_countAbove 36 = .ok (.istore 4, 2) := dk_54 4 (dk_at dksX4_countAbove_1 13 rfl rfl)
theorem dX4_countAbove_38 : decode cX4_countAbove 38 = .ok (.goto (-17), 3) := dk_167 255 239 (dk_at dksX4_countAbove_1 15 rfl rfl)
theorem dX4_countAbove_41 : decode cX4_countAbove 41 = .ok (.iload_n 3, 1) := dk_29 (dk_at dksX4_countAbove_1 18 rfl rfl)
theorem dX4_countAbove_42 : decode cX4_countAbove 42 = .ok (.ireturn, 1) := dk_172 (dk_at dksX4_countAbove_1 19 rfl rfl)
abbrev cX4_height : ByteArray := prog_16_method_71_code
def yX4_height : MethodName := ⟨RX4, "height", "(I)I"⟩
def dkwX4_height_1 : List UInt8 := [27, 182, 0, 111, 167, 0, 4, 3, 172]
abbrev dktX4_height_1 : List UInt8 := dkwX4_height_1 ++ []
def dkwX4_height_0 : List UInt8 := [42, 27, 184, 0, 98, 153, 0, 7, 3, 167, 0, 4, 4, 181, 0, 53, 42, 180, 0, 53, 154, 0, 11, 42]
abbrev dktX4_height_0 : List UInt8 := dkwX4_height_0 ++ dktX4_height_1
theorem dksX4_height_0 : cX4_height.data.toList.drop 0 = dktX4_height_0 := by decide +kernel
theorem dksX4_height_1 : cX4_height.data.toList.drop 24 = dktX4_height_1 := dk_seg dksX4_height_0 24 rfl rfl
theorem dX4_height_0 : decode cX4_height 0 = .ok (.aload_n 0, 1) := dk_42 (dk_at dksX4_height_0 0 rfl rfl)
theorem dX4_height_1 : decode cX4_height 1 = .ok (.iload_n 1, 1) := dk_27 (dk_at dksX4_height_0 1 rfl rfl)
theorem dX4_height_2 : decode cX4_height 2 = .ok (.invokestatic 98, 3) := dk_184 0 98 (dk_at dksX4_height_0 2 rfl rfl)
theorem dX4_height_5 : decode cX4_height 5 = .ok (.ifCond .eq 7, 3) := dk_153 0 7 (dk_at dksX4_height_0 5 rfl rfl)
theorem dX4_height_8 : decode cX4_height 8 = .ok (.iconst 0, 1) := dk_3 (dk_at dksX4_height_0 8 rfl rfl)
theorem dX4_height_9 : decode cX4_height 9 = .ok (.goto 4, 3) := dk_167 0 4 (dk_at dksX4_height_0 9 rfl rfl)
theorem dX4_height_12 : decode cX4_height 12 = .ok (.iconst 1, 1) := dk_4 (dk_at dksX4_height_0 12 rfl rfl)
theorem dX4_height_13 : decode cX4_height 13 = .ok (.putfield 53, 3) := dk_181 0 53 (dk_at dksX4_height_0 13 rfl rfl)
theorem dX4_height_16 : decode cX4_height 16 = .ok (.aload_n 0, 1) := dk_42 (dk_at dksX4_height_0 16 rfl rfl)
theorem dX4_height_17 : decode cX4_height 17 = .ok (.getfield 53, 3) := dk_180 0 53 (dk_at dksX4_height_0 17 rfl rfl)
theorem dX4_height_20 : decode cX4_height 20 = .ok (.ifCond .ne 11, 3) := dk_154 0 11 (dk_at dksX4_height_0 20 rfl rfl)
theorem dX4_height_23 : decode cX4_height 23 = .ok (.aload_n 0, 1) := dk_42 (dk_at dksX4_height_0 23 rfl rfl)
theorem dX4_height_24 : decode cX4_height 24 = .ok (.iload_n 1, 1) := dk_27 (dk_at dksX4_height_1 0 rfl rfl)
theorem dX4_height_25 : decode cX4_height 25 = .ok (.invokevirtual 111, 3) := dk_182 0 111 (dk_at dksX4_height_1 1 rfl rfl)
theorem dX4_height_28 : decode cX4_height 28 = .ok (.goto 4, 3) := dk_167 0 4 (dk_at dksX4_height_1 4 rfl rfl)
theorem dX4_height_31 : decode cX4_height 31 = .ok (.iconst 0, 1) := dk_3 (dk_at dksX4_height_1 7 rfl rfl)
theorem dX4_height_32 : decode cX4_height 32 = .ok (.ireturn, 1) := dk_172 (dk_at dksX4_height_1 8 rfl rfl)
abbrev cX4_holes : ByteArray := prog_16_method_72_code
def yX4_holes : MethodName := ⟨RX4, "holes", "(I)I"⟩
def dkwX4_holes_3 : List UInt8 := [132, 3, 1, 167, 255, 215, 28, 172]
abbrev dktX4_holes_3 : List UInt8 := dkwX4_holes_3 ++ []
def dkwX4_holes_2 : List UInt8 := [182, 0, 71, 153, 0, 18, 42, 29, 182, 0, 75, 42, 29, 8, 182, 0, 67, 100, 167, 0, 4, 3, 100, 61]
abbrev dktX4_holes_2 : List UInt8 := dkwX4_holes_2 ++ dktX4_holes_3
def dkwX4_holes_1 : List UInt8 := [172, 42, 27, 182, 0, 111, 61, 3, 62, 29, 42, 180, 0, 16, 3, 46, 162, 0, 37, 28, 42, 29, 27]
abbrev dktX4_holes_1 : List UInt8 := dkwX4_holes_1 ++ dktX4_holes_2
def dkwX4_holes_0 : List UInt8 := [42, 27, 184, 0, 98, 153, 0, 7, 3, 167, 0, 4, 4, 181, 0, 53, 42, 180, 0, 53, 153, 0, 5, 3]
abbrev dktX4_holes_0 : List UInt8 := dkwX4_holes_0 ++ dktX4_holes_1
theorem dksX4_holes_0 : cX4_holes.data.toList.drop 0 = dktX4_holes_0 := by decide +kernel
theorem dksX4_holes_1 : cX4_holes.data.toList.drop 24 = dktX4_holes_1 := dk_seg dksX4_holes_0 24 rfl rfl
theorem dksX4_holes_2 : cX4_holes.data.toList.drop 47 = dktX4_holes_2 := dk_seg dksX4_holes_1 23 rfl rfl
theorem dksX4_holes_3 : cX4_holes.data.toList.drop 71 = dktX4_holes_3 := dk_seg dksX4_holes_2 24 rfl rfl
theorem dX4_holes_0 : decode cX4_holes 0 = .ok (.aload_n 0, 1) := dk_42 (dk_at dksX4_holes_0 0 rfl rfl)
theorem dX4_holes_1 : decode cX4_holes 1 = .ok (.iload_n 1, 1) := dk_27 (dk_at dksX4_holes_0 1 rfl rfl)
theorem dX4_holes_2 : decode cX4_holes 2 = .ok (.invokestatic 98, 3) := dk_184 0 98 (dk_at dksX4_holes_0 2 rfl rfl)
theorem dX4_holes_5 : decode cX4_holes 5 = .ok (.ifCond .eq 7, 3) := dk_153 0 7 (dk_at dksX4_holes_0 5 rfl rfl)
theorem dX4_holes_8 : decode cX4_holes 8 = .ok (.iconst 0, 1) := dk_3 (dk_at dksX4_holes_0 8 rfl rfl)
theorem dX4_holes_9 : decode cX4_holes 9 = .ok (.goto 4, 3) := dk_167 0 4 (dk_at dksX4_holes_0 9 rfl rfl)
theorem dX4_holes_12 : decode cX4_holes 12 = .ok (.iconst 1, 1) := dk_4 (dk_at dksX4_holes_0 12 rfl rfl)
theorem dX4_holes_13 : decode cX4_holes 13 = .ok (.putfield 53, 3) := dk_181 0 53 (dk_at dksX4_holes_0 13 rfl rfl)
theorem dX4_holes_16 : decode cX4_holes 16 = .ok (.aload_n 0, 1) := dk_42 (dk_at dksX4_holes_0 16 rfl rfl)
theorem dX4_holes_17 : decode cX4_holes 17 = .ok (.getfield 53, 3) := dk_180 0 53 (dk_at dksX4_holes_0 17 rfl rfl)
theorem dX4_holes_20 : decode cX4_holes 20 = .ok (.ifCond .eq 5, 3) := dk_153 0 5 (dk_at dksX4_holes_0 20 rfl rfl)
theorem dX4_holes_23 : decode cX4_holes 23 = .ok (.iconst 0, 1) := dk_3 (dk_at dksX4_holes_0 23 rfl rfl)
theorem dX4_holes_24 : decode cX4_holes 24 = .ok (.ireturn, 1) := dk_172 (dk_at dksX4_holes_1 0 rfl rfl)
theorem dX4_holes_25 : decode cX4_holes 25 = .ok (.aload_n 0, 1) := dk_42 (dk_at dksX4_holes_1 1 rfl rfl)
theorem dX4_holes_26 : decode cX4_holes 26 = .ok (.iload_n 1, 1) := dk_27 (dk_at dksX4_holes_1 2 rfl rfl)
theorem dX4_holes_27 : decode cX4_holes 27 = .ok (.invokevirtual 111, 3) := dk_182 0 111 (dk_at dksX4_holes_1 3 rfl rfl)
theorem dX4_holes_30 : decode cX4_holes 30 = .ok (.istore_n 2, 1) := dk_61 (dk_at dksX4_holes_1 6 rfl rfl)
theorem dX4_holes_31 : decode cX4_holes 31 = .ok (.iconst 0, 1) := dk_3 (dk_at dksX4_holes_1 7 rfl rfl)
theorem dX4_holes_32 : decode cX4_holes 32 = .ok (.istore_n 3, 1) := dk_62 (dk_at dksX4_holes_1 8 rfl rfl)
theorem dX4_holes_33 : decode cX4_holes 33 = .ok (.iload_n 3, 1) := dk_29 (dk_at dksX4_holes_1 9 rfl rfl)
theorem dX4_holes_34 : decode cX4_holes 34 = .ok (.aload_n 0, 1) := dk_42 (dk_at dksX4_holes_1 10 rfl rfl)
theorem dX4_holes_35 : decode cX4_holes 35 = .ok (.getfield 16, 3) := dk_180 0 16 (dk_at dksX4_holes_1 11 rfl rfl)
theorem dX4_holes_38 : decode cX4_holes 38 = .ok (.iconst 0, 1) := dk_3 (dk_at dksX4_holes_1 14 rfl rfl)
theorem dX4_holes_39 : decode cX4_holes 39 = .ok (.iaload, 1) := dk_46 (dk_at dksX4_holes_1 15 rfl rfl)
theorem dX4_holes_40 : decode cX4_holes 40 = .ok (.if_icmp .ge 37, 3) := dk_162 0 37 (dk_at dksX4_holes_1 16 rfl rfl)
theorem dX4_holes_43 : decode cX4_holes 43 = .ok (.iload_n 2, 1) := dk_28 (dk_at dksX4_holes_1 19 rfl rfl)
theorem dX4_holes_44 : decode cX4_holes 44 = .ok (.aload_n 0, 1) := dk_42 (dk_at dksX4_holes_1 20 rfl rfl)
theorem dX4_holes_45 : decode cX4_holes 45 = .ok (.iload_n 3, 1) := dk_29 (dk_at dksX4_holes_1 21 rfl rfl)
theorem dX4_holes_46 : decode cX4_holes 46 = .ok (.iload_n 1, 1) := dk_27 (dk_at dksX4_holes_1 22 rfl rfl)
theorem dX4_holes_47 : decode cX4_holes 47 = .ok (.invokevirtual 71, 3) := dk_182 0 71 (dk_at dksX4_holes_2 0 rfl rfl)
theorem dX4_holes_50 : decode cX4_holes 50 = .ok (.ifCond .eq 18, 3) := dk_153 0 18 (dk_at dksX4_holes_2 3 rfl rfl)
theorem dX4_holes_53 : decode cX4_holes 53 = .ok (.aload_n 0, 1) := dk_42 (dk_at dksX4_holes_2 6 rfl rfl)
theorem dX4_holes_54 : decode cX4_holes 54 = .ok (.iload_n 3, 1) := dk_29 (dk_at dksX4_holes_2 7 rfl rfl)
theorem dX4_holes_55 : decode cX4_holes 55 = .ok (.invokevirtual 75, 3) := dk_182 0 75 (dk_at dksX4_holes_2 8 rfl rfl)
theorem dX4_holes_58 : decode cX4_holes 58 = .ok (.aload_n 0, 1) := dk_42 (dk_at dksX4_holes_2 11 rfl rfl)
theorem dX4_holes_59 : decode cX4_holes 59 = .ok (.iload_n 3, 1) := dk_29 (dk_at dksX4_holes_2 12 rfl rfl)
theorem dX4_holes_60 : decode cX4_holes 60 = .ok (.iconst 5, 1) := dk_8 (dk_at dksX4_holes_2 13 rfl rfl)
theorem dX4_holes_61 : decode cX4_holes 61 = .ok (.invokevirtual 67, 3) := dk_182 0 67 (dk_at dksX4_holes_2 14 rfl rfl)
theorem dX4_holes_64 : decode cX4_holes 64 = .ok (.isub, 1) := dk_100 (dk_at dksX4_holes_2 17 rfl rfl)
theorem dX4_holes_65 : decode cX4_holes 65 = .ok (.goto 4, 3) := dk_167 0 4 (dk_at dksX4_holes_2 18 rfl rfl)
theorem dX4_holes_68 : decode cX4_holes 68 = .ok (.iconst 0, 1) := dk_3 (dk_at dksX4_holes_2 21 rfl rfl)
theorem dX4_holes_69 : decode cX4_holes 69 = .ok (.isub, 1) := dk_100 (dk_at dksX4_holes_2 22 rfl rfl)
theorem dX4_holes_70 : decode cX4_holes 70 = .ok (.istore_n 2, 1) := dk_61 (dk_at dksX4_holes_2 23 rfl rfl)
theorem dX4_holes_71 : decode cX4_holes 71 = .ok (.iinc 3 1, 3) := dk_132 3 1 (dk_at dksX4_holes_3 0 rfl rfl)
theorem dX4_holes_74 : decode cX4_holes 74 = .ok (.goto (-41), 3) := dk_167 255 215 (dk_at dksX4_holes_3 3 rfl rfl)
theorem dX4_holes_77 : decode cX4_holes 77 = .ok (.iload_n 2, 1) := dk_28 (dk_at dksX4_holes_3 6 rfl rfl)
theorem dX4_holes_78 : decode cX4_holes 78 = .ok (.ireturn, 1) := dk_172 (dk_at dksX4_holes_3 7 rfl rfl)
abbrev cX4_holesByHeights : ByteArray := prog_16_method_73_code
def yX4_holesByHeights : MethodName := ⟨RX4, "holesByHeights", "(I)I"⟩
def dkwX4_holesByHeights_0 : List UInt8 := [42, 27, 182, 0, 172, 172]
abbrev dktX4_holesByHeights_0 : List UInt8 := dkwX4_holesByHeights_0 ++ []
theorem dksX4_holesByHeights_0 : cX4_holesByHeights.data.toList.drop 0 = dktX4_holesByHeights_0 := by decide +kernel
theorem dX4_holesByHeights_0 : decode cX4_holesByHeights 0 = .ok (.aload_n 0, 1) := dk_42 (dk_at dksX4_holesByHeights_0 0 rfl rfl)
theorem dX4_holesByHeights_1 : decode cX4_holesByHeights 1 = .ok (.iload_n 1, 1) := dk_27 (dk_at dksX4_holesByHeights_0 1 rfl rfl)
theorem dX4_holesByHeights_2 : decode cX4_holesByHeights 2 = .ok (.invokevirtual 172, 3) := dk_182 0 172 (dk_at dksX4_holesByHeights_0 2 rfl rfl)
theorem dX4_holesByHeights_5 : decode cX4_holesByHeights 5 = .ok (.ireturn, 1) := dk_172 (dk_at dksX4_holesByHeights_0 5 rfl rfl)
abbrev cX4_steps : ByteArray := prog_16_method_74_code
def yX4_steps : MethodName := ⟨RX4, "steps", "()I"⟩
def dkwX4_steps_2 : List UInt8 := [28, 4, 100, 182, 0, 111, 42, 28, 182, 0, 111, 100, 96, 60, 132, 2, 1, 167, 255, 200, 27, 172]
abbrev dktX4_steps_2 : List UInt8 := dkwX4_steps_2 ++ []
def dkwX4_steps_1 : List UInt8 := [100, 182, 0, 111, 164, 0, 19, 42, 28, 182, 0, 111, 42, 28, 4, 100, 182, 0, 111, 100, 167, 0, 16, 42]
abbrev dktX4_steps_1 : List UInt8 := dkwX4_steps_1 ++ dktX4_steps_2
def dkwX4_steps_0 : List UInt8 := [42, 3, 181, 0, 53, 3, 60, 4, 61, 28, 16, 12, 162, 0, 56, 27, 42, 28, 182, 0, 111, 42, 28, 4]
abbrev dktX4_steps_0 : List UInt8 := dkwX4_steps_0 ++ dktX4_steps_1
theorem dksX4_steps_0 : cX4_steps.data.toList.drop 0 = dktX4_steps_0 := by decide +kernel
theorem dksX4_steps_1 : cX4_steps.data.toList.drop 24 = dktX4_steps_1 := dk_seg dksX4_steps_0 24 rfl rfl
theorem dksX4_steps_2 : cX4_steps.data.toList.drop 48 = dktX4_steps_2 := dk_seg dksX4_steps_1 24 rfl rfl
theorem dX4_steps_0 : decode cX4_steps 0 = .ok (.aload_n 0, 1) := dk_42 (dk_at dksX4_steps_0 0 rfl rfl)
theorem dX4_steps_1 : decode cX4_steps 1 = .ok (.iconst 0, 1) := dk_3 (dk_at dksX4_steps_0 1 rfl rfl)
theorem dX4_steps_2 : decode cX4_steps 2 = .ok (.putfield 53, 3) := dk_181 0 53 (dk_at dksX4_steps_0 2 rfl rfl)
theorem dX4_steps_5 : decode cX4_steps 5 = .ok (.iconst 0, 1) := dk_3 (dk_at dksX4_steps_0 5 rfl rfl)
theorem dX4_steps_6 : decode cX4_steps 6 = .ok (.istore_n 1, 1) := dk_60 (dk_at dksX4_steps_0 6 rfl rfl)
theorem dX4_steps_7 : decode cX4_steps 7 = .ok (.iconst 1, 1) := dk_4 (dk_at dksX4_steps_0 7 rfl rfl)
theorem dX4_steps_8 : decode cX4_steps 8 = .ok (.istore_n 2, 1) := dk_61 (dk_at dksX4_steps_0 8 rfl rfl)
theorem dX4_steps_9 : decode cX4_steps 9 = .ok (.iload_n 2, 1) := dk_28 (dk_at dksX4_steps_0 9 rfl rfl)
theorem dX4_steps_10 : decode cX4_steps 10 = .ok (.bipush 12, 2) := dk_16 12 (dk_at dksX4_steps_0 10 rfl rfl)
theorem dX4_steps_12 : decode cX4_steps 12 = .ok (.if_icmp .ge 56, 3) := dk_162 0 56 (dk_at dksX4_steps_0 12 rfl rfl)
theorem dX4_steps_15 : decode cX4_steps 15 = .ok (.iload_n 1, 1) := dk_27 (dk_at dksX4_steps_0 15 rfl rfl)
theorem dX4_steps_16 : decode cX4_steps 16 = .ok (.aload_n 0, 1) := dk_42 (dk_at dksX4_steps_0 16 rfl rfl)
theorem dX4_steps_17 : decode cX4_steps 17 = .ok (.iload_n 2, 1) := dk_28 (dk_at dksX4_steps_0 17 rfl rfl)
theorem dX4_steps_18 : decode cX4_steps 18 = .ok (.invokevirtual 111, 3) := dk_182 0 111 (dk_at dksX4_steps_0 18 rfl rfl)
theorem dX4_steps_21 : decode cX4_steps 21 = .ok (.aload_n 0, 1) := dk_42 (dk_at dksX4_steps_0 21 rfl rfl)
theorem dX4_steps_22 : decode cX4_steps 22 = .ok (.iload_n 2, 1) := dk_28 (dk_at dksX4_steps_0 22 rfl rfl)
theorem dX4_steps_23 : decode cX4_steps 23 = .ok (.iconst 1, 1) := dk_4 (dk_at dksX4_steps_0 23 rfl rfl)
theorem dX4_steps_24 : decode cX4_steps 24 = .ok (.isub, 1) := dk_100 (dk_at dksX4_steps_1 0 rfl rfl)
theorem dX4_steps_25 : decode cX4_steps 25 = .ok (.invokevirtual 111, 3) := dk_182 0 111 (dk_at dksX4_steps_1 1 rfl rfl)
theorem dX4_steps_28 : decode cX4_steps 28 = .ok (.if_icmp .le 19, 3) := dk_164 0 19 (dk_at dksX4_steps_1 4 rfl rfl)
theorem dX4_steps_31 : decode cX4_steps 31 = .ok (.aload_n 0, 1) := dk_42 (dk_at dksX4_steps_1 7 rfl rfl)
theorem dX4_steps_32 : decode cX4_steps 32 = .ok (.iload_n 2, 1) := dk_28 (dk_at dksX4_steps_1 8 rfl rfl)
theorem dX4_steps_33 : decode cX4_steps 33 = .ok (.invokevirtual 111, 3) := dk_182 0 111 (dk_at dksX4_steps_1 9 rfl rfl)
theorem dX4_steps_36 : decode cX4_steps 36 = .ok (.aload_n 0, 1) := dk_42 (dk_at dksX4_steps_1 12 rfl rfl)
theorem dX4_steps_37 : decode cX4_steps 37 = .ok (.iload_n 2, 1) := dk_28 (dk_at dksX4_steps_1 13 rfl rfl)
theorem dX4_steps_38 : decode cX4_steps 38 = .ok (.iconst 1, 1) := dk_4 (dk_at dksX4_steps_1 14 rfl rfl)
theorem dX4_steps_39 : decode cX4_steps 39 = .ok (.isub, 1) := dk_100 (dk_at dksX4_steps_1 15 rfl rfl)
theorem dX4_steps_40 : decode cX4_steps 40 = .ok (.invokevirtual 111, 3) := dk_182 0 111 (dk_at dksX4_steps_1 16 rfl rfl)
theorem dX4_steps_43 : decode cX4_steps 43 = .ok (.isub, 1) := dk_100 (dk_at dksX4_steps_1 19 rfl rfl)
theorem dX4_steps_44 : decode cX4_steps 44 = .ok (.goto 16, 3) := dk_167 0 16 (dk_at dksX4_steps_1 20 rfl rfl)
theorem dX4_steps_47 : decode cX4_steps 47 = .ok (.aload_n 0, 1) := dk_42 (dk_at dksX4_steps_1 23 rfl rfl)
theorem dX4_steps_48 : decode cX4_steps 48 = .ok (.iload_n 2, 1) := dk_28 (dk_at dksX4_steps_2 0 rfl rfl)
theorem dX4_steps_49 : decode cX4_steps 49 = .ok (.iconst 1, 1) := dk_4 (dk_at dksX4_steps_2 1 rfl rfl)
theorem dX4_steps_50 : decode cX4_steps 50 = .ok (.isub, 1) := dk_100 (dk_at dksX4_steps_2 2 rfl rfl)
theorem dX4_steps_51 : decode cX4_steps 51 = .ok (.invokevirtual 111, 3) := dk_182 0 111 (dk_at dksX4_steps_2 3 rfl rfl)
theorem dX4_steps_54 : decode cX4_steps 54 = .ok (.aload_n 0, 1) := dk_42 (dk_at dksX4_steps_2 6 rfl rfl)
theorem dX4_steps_55 : decode cX4_steps 55 = .ok (.iload_n 2, 1) := dk_28 (dk_at dksX4_steps_2 7 rfl rfl)
theorem dX4_steps_56 : decode cX4_steps 56 = .ok (.invokevirtual 111, 3) := dk_182 0 111 (dk_at dksX4_steps_2 8 rfl rfl)
theorem dX4_steps_59 : decode cX4_steps 59 = .ok (.isub, 1) := dk_100 (dk_at dksX4_steps_2 11 rfl rfl)
theorem dX4_steps_60 : decode cX4_steps 60 = .ok (.iadd, 1) := dk_96 (dk_at dksX4_steps_2 12 rfl rfl)
theorem dX4_steps_61 : decode cX4_steps 61 = .ok (.istore_n 1, 1) := dk_60 (dk_at dksX4_steps_2 13 rfl rfl)
theorem dX4_steps_62 : decode cX4_steps 62 = .ok (.iinc 2 1, 3) := dk_132 2 1 (dk_at dksX4_steps_2 14 rfl rfl)
theorem dX4_steps_65 : decode cX4_steps 65 = .ok (.goto (-56), 3) := dk_167 255 200 (dk_at dksX4_steps_2 17 rfl rfl)
theorem dX4_steps_68 : decode cX4_steps 68 = .ok (.iload_n 1, 1) := dk_27 (dk_at dksX4_steps_2 20 rfl rfl)
theorem dX4_steps_69 : decode cX4_steps 69 = .ok (.ireturn, 1) := dk_172 (dk_at dksX4_steps_2 21 rfl rfl)
abbrev cX4_highestColumn : ByteArray := prog_16_method_75_code
def yX4_highestColumn : MethodName := ⟨RX4, "highestColumn", "()I"⟩
def dkwX4_highestColumn_1 : List UInt8 := [182, 0, 111, 164, 0, 5, 28, 60, 132, 2, 1, 167, 255, 232, 27, 172]
abbrev dktX4_highestColumn_1 : List UInt8 := dkwX4_highestColumn_1 ++ []
def dkwX4_highestColumn_0 : List UInt8 := [42, 3, 181, 0, 53, 3, 60, 4, 61, 28, 16, 12, 162, 0, 24, 42, 28, 182, 0, 111, 42, 27]
abbrev dktX4_highestColumn_0 : List UInt8 := dkwX4_highestColumn_0 ++ dktX4_highestColumn_1
theorem dksX4_highestColumn_0 : cX4_highestColumn.data.toList.drop 0 = dktX4_highestColumn_0 := by decide +kernel
theorem dksX4_highestColumn_1 : cX4_highestColumn.data.toList.drop 22 = dktX4_highestColumn_1 := dk_seg dksX4_highestColumn_0 22 rfl rfl
theorem dX4_highestColumn_0 : decode cX4_highestColumn 0 = .ok (.aload_n 0, 1) := dk_42 (dk_at dksX4_highestColumn_0 0 rfl rfl)
theorem dX4_highestColumn_1 : decode cX4_highestColumn 1 = .ok (.iconst 0, 1) := dk_3 (dk_at dksX4_highestColumn_0 1 rfl rfl)
theorem dX4_highestColumn_2 : decode cX4_highestColumn 2 = .ok (.putfield 53, 3) := dk_181 0 53 (dk_at dksX4_highestColumn_0 2 rfl rfl)
theorem dX4_highestColumn_5 : decode cX4_highestColumn 5 = .ok (.iconst 0, 1) := dk_3 (dk_at dksX4_highestColumn_0 5 rfl rfl)
theorem dX4_highestColumn_6 : decode cX4_highestColumn 6 = .ok (.istore_n 1, 1) := dk_60 (dk_at dksX4_highestColumn_0 6 rfl rfl)
theorem dX4_highestColumn_7 : decode cX4_highestColumn 7 = .ok (.iconst 1, 1) := dk_4 (dk_at dksX4_highestColumn_0 7 rfl rfl)
theorem dX4_highestColumn_8 : decode cX4_highestColumn 8 = .ok (.istore_n 2, 1) := dk_61 (dk_at dksX4_highestColumn_0 8 rfl rfl)
theorem dX4_highestColumn_9 : decode cX4_highestColumn 9 = .ok (.iload_n 2, 1) := dk_28 (dk_at dksX4_highestColumn_0 9 rfl rfl)
theorem dX4_highestColumn_10 : decode cX4_highestColumn 10 = .ok (.bipush 12, 2) := dk_16 12 (dk_at dksX4_highestColumn_0 10 rfl rfl)
theorem dX4_highestColumn_12 : decode cX4_highestColumn 12 = .ok (.if_icmp .ge 24, 3) := dk_162 0 24 (dk_at dksX4_highestColumn_0 12 rfl rfl)
theorem dX4_highestColumn_15 : decode cX4_highestColumn 15 = .ok (.aload_n 0, 1) := dk_42 (dk_at dksX4_highestColumn_0 15 rfl rfl)
theorem dX4_highestColumn_16 : decode cX4_highestColumn 16 = .ok (.iload_n 2, 1) := dk_28 (dk_at dksX4_highestColumn_0 16 rfl rfl)
theorem dX4_highestColumn_17 : decode cX4_highestColumn 17 = .ok (.invokevirtual 111, 3) := dk_182 0 111 (dk_at dksX4_highestColumn_0 17 rfl rfl)
theorem dX4_highestColumn_20 : decode cX4_highestColumn 20 = .ok (.aload_n 0, 1) := dk_42 (dk_at dksX4_highestColumn_0 20 rfl rfl)
theorem dX4_highestColumn_21 : decode cX4_highestColumn 21 = .ok (.iload_n 1, 1) := dk_27 (dk_at dksX4_highestColumn_0 21 rfl rfl)
theorem dX4_highestColumn_22 : decode cX4_highestColumn 22 = .ok (.invokevirtual 111, 3) := dk_182 0 111 (dk_at dksX4_highestColumn_1 0 rfl rfl)
theorem dX4_highestColumn_25 : decode cX4_highestColumn 25 = .ok (.if_icmp .le 5, 3) := dk_164 0 5 (dk_at dksX4_highestColumn_1 3 rfl rfl)
theorem dX4_highestColumn_28 : decode cX4_highestColumn 28 = .ok (.iload_n 2, 1) := dk_28 (dk_at dksX4_highestColumn_1 6 rfl rfl)
theorem dX4_highestColumn_29 : decode cX4_highestColumn 29 = .ok (.istore_n 1, 1) := dk_60 (dk_at dksX4_highestColumn_1 7 rfl rfl)
theorem dX4_highestColumn_30 : decode cX4_highestColumn 30 = .ok (.iinc 2 1, 3) := dk_132 2 1 (dk_at dksX4_highestColumn_1 8 rfl rfl)
theorem dX4_highestColumn_33 : decode cX4_highestColumn 33 = .ok (.goto (-24), 3) := dk_167 255 232 (dk_at dksX4_highestColumn_1 11 rfl rfl)
theorem dX4_highestColumn_36 : decode cX4_highestColumn 36 = .ok (.iload_n 1, 1) := dk_27 (dk_at dksX4_highestColumn_1 14 rfl rfl)
theorem dX4_highestColumn_37 : decode cX4_highestColumn 37 = .ok (.ireturn, 1) := dk_172 (dk_at dksX4_highestColumn_1 15 rfl rfl)
abbrev cX4_zone : ByteArray := prog_16_method_76_code
def yX4_zone : MethodName := ⟨RX4, "zone", "(I)C"⟩
def dkwX4_zone_1 : List UInt8 := [180, 0, 16, 5, 27, 96, 46, 184, 0, 140, 146, 167, 0, 5, 16, 97, 172]
abbrev dktX4_zone_1 : List UInt8 := dkwX4_zone_1 ++ []
def dkwX4_zone_0 : List UInt8 := [42, 27, 184, 0, 98, 153, 0, 7, 3, 167, 0, 4, 4, 181, 0, 53, 42, 180, 0, 53, 154, 0, 18, 42]
abbrev dktX4_zone_0 : List UInt8 := dkwX4_zone_0 ++ dktX4_zone_1
theorem dksX4_zone_0 : cX4_zone.data.toList.drop 0 = dktX4_zone_0 := by decide +kernel
theorem dksX4_zone_1 : cX4_zone.data.toList.drop 24 = dktX4_zone_1 := dk_seg dksX4_zone_0 24 rfl rfl
theorem dX4_zone_0 : decode cX4_zone 0 = .ok (.aload_n 0, 1) := dk_42 (dk_at dksX4_zone_0 0 rfl rfl)
theorem dX4_zone_1 : decode cX4_zone 1 = .ok (.iload_n 1, 1) := dk_27 (dk_at dksX4_zone_0 1 rfl rfl)
theorem dX4_zone_2 : decode cX4_zone 2 = .ok (.invokestatic 98, 3) := dk_184 0 98 (dk_at dksX4_zone_0 2 rfl rfl)
theorem dX4_zone_5 : decode cX4_zone 5 = .ok (.ifCond .eq 7, 3) := dk_153 0 7 (dk_at dksX4_zone_0 5 rfl rfl)
theorem dX4_zone_8 : decode cX4_zone 8 = .ok (.iconst 0, 1) := dk_3 (dk_at dksX4_zone_0 8 rfl rfl)
theorem dX4_zone_9 : decode cX4_zone 9 = .ok (.goto 4, 3) := dk_167 0 4 (dk_at dksX4_zone_0 9 rfl rfl)
theorem dX4_zone_12 : decode cX4_zone 12 = .ok (.iconst 1, 1) := dk_4 (dk_at dksX4_zone_0 12 rfl rfl)
theorem dX4_zone_13 : decode cX4_zone 13 = .ok (.putfield 53, 3) := dk_181 0 53 (dk_at dksX4_zone_0 13 rfl rfl)
theorem dX4_zone_16 : decode cX4_zone 16 = .ok (.aload_n 0, 1) := dk_42 (dk_at dksX4_zone_0 16 rfl rfl)
theorem dX4_zone_17 : decode cX4_zone 17 = .ok (.getfield 53, 3) := dk_180 0 53 (dk_at dksX4_zone_0 17 rfl rfl)
theorem dX4_zone_20 : decode cX4_zone 20 = .ok (.ifCond .ne 18, 3) := dk_154 0 18 (dk_at dksX4_zone_0 20 rfl rfl)
theorem dX4_zone_23 : decode cX4_zone 23 = .ok (.aload_n 0, 1) := dk_42 (dk_at dksX4_zone_0 23 rfl rfl)
theorem dX4_zone_24 : decode cX4_zone 24 = .ok (.getfield 16, 3) := dk_180 0 16 (dk_at dksX4_zone_1 0 rfl rfl)
theorem dX4_zone_27 : decode cX4_zone 27 = .ok (.iconst 2, 1) := dk_5 (dk_at dksX4_zone_1 3 rfl rfl)
theorem dX4_zone_28 : decode cX4_zone 28 = .ok (.iload_n 1, 1) := dk_27 (dk_at dksX4_zone_1 4 rfl rfl)
theorem dX4_zone_29 : decode cX4_zone 29 = .ok (.iadd, 1) := dk_96 (dk_at dksX4_zone_1 5 rfl rfl)
theorem dX4_zone_30 : decode cX4_zone 30 = .ok (.iaload, 1) := dk_46 (dk_at dksX4_zone_1 6 rfl rfl)
theorem dX4_zone_31 : decode cX4_zone 31 = .ok (.invokestatic 140, 3) := dk_184 0 140 (dk_at dksX4_zone_1 7 rfl rfl)
theorem dX4_zone_34 : decode cX4_zone 34 = .ok (.i2c, 1) := dk_146 (dk_at dksX4_zone_1 10 rfl rfl)
theorem dX4_zone_35 : decode cX4_zone 35 = .ok (.goto 5, 3) := dk_167 0 5 (dk_at dksX4_zone_1 11 rfl rfl)
theorem dX4_zone_38 : decode cX4_zone 38 = .ok (.bipush 97, 2) := dk_16 97 (dk_at dksX4_zone_1 14 rfl rfl)
theorem dX4_zone_40 : decode cX4_zone 40 = .ok (.ireturn, 1) := dk_172 (dk_at dksX4_zone_1 16 rfl rfl)
abbrev cX4_hasTorch : ByteArray := prog_16_method_77_code
def yX4_hasTorch : MethodName := ⟨RX4, "hasTorch", "(I)Z"⟩
def dkwX4_hasTorch_1 : List UInt8 := [180, 0, 16, 16, 14, 27, 96, 46, 4, 160, 0, 7, 4, 167, 0, 4, 3, 172]
abbrev dktX4_hasTorch_1 : List UInt8 := dkwX4_hasTorch_1 ++ []
def dkwX4_hasTorch_0 : List UInt8 := [42, 27, 184, 0, 98, 153, 0, 7, 3, 167, 0, 4, 4, 181, 0, 53, 42, 180, 0, 53, 154, 0, 20, 42]
abbrev dktX4_hasTorch_0 : List UInt8 := dkwX4_hasTorch_0 ++ dktX4_hasTorch_1
theorem dksX4_hasTorch_0 : cX4_hasTorch.data.toList.drop 0 = dktX4_hasTorch_0 := by decide +kernel
theorem dksX4_hasTorch_1 : cX4_hasTorch.data.toList.drop 24 = dktX4_hasTorch_1 := dk_seg dksX4_hasTorch_0 24 rfl rfl
theorem dX4_hasTorch_0 : decode cX4_hasTorch 0 = .ok (.aload_n 0, 1) := dk_42 (dk_at dksX4_hasTorch_0 0 rfl rfl)
theorem dX4_hasTorch_1 : decode cX4_hasTorch 1 = .ok (.iload_n 1, 1) := dk_27 (dk_at dksX4_hasTorch_0 1 rfl rfl)
theorem dX4_hasTorch_2 : decode cX4_hasTorch 2 = .ok (.invokestatic 98, 3) := dk_184 0 98 (dk_at dksX4_hasTorch_0 2 rfl rfl)
theorem dX4_hasTorch_5 : decode cX4_hasTorch 5 = .ok (.ifCond .eq 7, 3) := dk_153 0 7 (dk_at dksX4_hasTorch_0 5 rfl rfl)
theorem dX4_hasTorch_8 : decode cX4_hasTorch 8 = .ok (.iconst 0, 1) := dk_3 (dk_at dksX4_hasTorch_0 8 rfl rfl)
theorem dX4_hasTorch_9 : decode cX4_hasTorch 9 = .ok (.goto 4, 3) := dk_167 0 4 (dk_at dksX4_hasTorch_0 9 rfl rfl)
theorem dX4_hasTorch_12 : decode cX4_hasTorch 12 = .ok (.iconst 1, 1) := dk_4 (dk_at dksX4_hasTorch_0 12 rfl rfl)
theorem dX4_hasTorch_13 : decode cX4_hasTorch 13 = .ok (.putfield 53, 3) := dk_181 0 53 (dk_at dksX4_hasTorch_0 13 rfl rfl)
theorem dX4_hasTorch_16 : decode cX4_hasTorch 16 = .ok (.aload_n 0, 1) := dk_42 (dk_at dksX4_hasTorch_0 16 rfl rfl)
theorem dX4_hasTorch_17 : decode cX4_hasTorch 17 = .ok (.getfield 53, 3) := dk_180 0 53 (dk_at dksX4_hasTorch_0 17 rfl rfl)
theorem dX4_hasTorch_20 : decode cX4_hasTorch 20 = .ok (.ifCond .ne 20, 3) := dk_154 0 20 (dk_at dksX4_hasTorch_0 20 rfl rfl)
theorem dX4_hasTorch_23 : decode cX4_hasTorch 23 = .ok (.aload_n 0, 1) := dk_42 (dk_at dksX4_hasTorch_0 23 rfl rfl)
theorem dX4_hasTorch_24 : decode cX4_hasTorch 24 = .ok (.getfield 16, 3) := dk_180 0 16 (dk_at dksX4_hasTorch_1 0 rfl rfl)
theorem dX4_hasTorch_27 : decode cX4_hasTorch 27 = .ok (.bipush 14, 2) := dk_16 14 (dk_at dksX4_hasTorch_1 3 rfl rfl)
theorem dX4_hasTorch_29 : decode cX4_hasTorch 29 = .ok (.iload_n 1, 1) := dk_27 (dk_at dksX4_hasTorch_1 5 rfl rfl)
theorem dX4_hasTorch_30 : decode cX4_hasTorch 30 = .ok (.iadd, 1) := dk_96 (dk_at dksX4_hasTorch_1 6 rfl rfl)
theorem dX4_hasTorch_31 : decode cX4_hasTorch 31 = .ok (.iaload, 1) := dk_46 (dk_at dksX4_hasTorch_1 7 rfl rfl)
theorem dX4_hasTorch_32 : decode cX4_hasTorch 32 = .ok (.iconst 1, 1) := dk_4 (dk_at dksX4_hasTorch_1 8 rfl rfl)
theorem dX4_hasTorch_33 : decode cX4_hasTorch 33 = .ok (.if_icmp .ne 7, 3) := dk_160 0 7 (dk_at dksX4_hasTorch_1 9 rfl rfl)
theorem dX4_hasTorch_36 : decode cX4_hasTorch 36 = .ok (.iconst 1, 1) := dk_4 (dk_at dksX4_hasTorch_1 12 rfl rfl)
theorem dX4_hasTorch_37 : decode cX4_hasTorch 37 = .ok (.goto 4, 3) := dk_167 0 4 (dk_at dksX4_hasTorch_1 13 rfl rfl)
theorem dX4_hasTorch_40 : decode cX4_hasTorch 40 = .ok (.iconst 0, 1) := dk_3 (dk_at dksX4_hasTorch_1 16 rfl rfl)
theorem dX4_hasTorch_41 : decode cX4_hasTorch 41 = .ok (.ireturn, 1) := dk_172 (dk_at dksX4_hasTorch_1 17 rfl rfl)
abbrev cX4_isLit : ByteArray := prog_16_method_80_code
def yX4_isLit : MethodName := ⟨RX4, "isLit", "(I)Z"⟩
def dkwX4_isLit_1 : List UInt8 := [27, 182, 0, 178, 153, 0, 7, 4, 167, 0, 4, 3, 172]
abbrev dktX4_isLit_1 : List UInt8 := dkwX4_isLit_1 ++ []
def dkwX4_isLit_0 : List UInt8 := [42, 27, 184, 0, 98, 153, 0, 7, 3, 167, 0, 4, 4, 181, 0, 53, 42, 180, 0, 53, 154, 0, 15, 42]
abbrev dktX4_isLit_0 : List UInt8 := dkwX4_isLit_0 ++ dktX4_isLit_1
theorem dksX4_isLit_0 : cX4_isLit.data.toList.drop 0 = dktX4_isLit_0 := by decide +kernel
theorem dksX4_isLit_1 : cX4_isLit.data.toList.drop 24 = dktX4_isLit_1 := dk_seg dksX4_isLit_0 24 rfl rfl
theorem dX4_isLit_0 : decode cX4_isLit 0 = .ok (.aload_n 0, 1) := dk_42 (dk_at dksX4_isLit_0 0 rfl rfl)
theorem dX4_isLit_1 : decode cX4_isLit 1 = .ok (.iload_n 1, 1) := dk_27 (dk_at dksX4_isLit_0 1 rfl rfl)
theorem dX4_isLit_2 : decode cX4_isLit 2 = .ok (.invokestatic 98, 3) := dk_184 0 98 (dk_at dksX4_isLit_0 2 rfl rfl)
theorem dX4_isLit_5 : decode cX4_isLit 5 = .ok (.ifCond .eq 7, 3) := dk_153 0 7 (dk_at dksX4_isLit_0 5 rfl rfl)
theorem dX4_isLit_8 : decode cX4_isLit 8 = .ok (.iconst 0, 1) := dk_3 (dk_at dksX4_isLit_0 8 rfl rfl)
theorem dX4_isLit_9 : decode cX4_isLit 9 = .ok (.goto 4, 3) := dk_167 0 4 (dk_at dksX4_isLit_0 9 rfl rfl)
theorem dX4_isLit_12 : decode cX4_isLit 12 = .ok (.iconst 1, 1) := dk_4 (dk_at dksX4_isLit_0 12 rfl rfl)
theorem dX4_isLit_13 : decode cX4_isLit 13 = .ok (.putfield 53, 3) := dk_181 0 53 (dk_at dksX4_isLit_0 13 rfl rfl)
theorem dX4_isLit_16 : decode cX4_isLit 16 = .ok (.aload_n 0, 1) := dk_42 (dk_at dksX4_isLit_0 16 rfl rfl)
theorem dX4_isLit_17 : decode cX4_isLit 17 = .ok (.getfield 53, 3) := dk_180 0 53 (dk_at dksX4_isLit_0 17 rfl rfl)
theorem dX4_isLit_20 : decode cX4_isLit 20 = .ok (.ifCond .ne 15, 3) := dk_154 0 15 (dk_at dksX4_isLit_0 20 rfl rfl)
theorem dX4_isLit_23 : decode cX4_isLit 23 = .ok (.aload_n 0, 1) := dk_42 (dk_at dksX4_isLit_0 23 rfl rfl)
theorem dX4_isLit_24 : decode cX4_isLit 24 = .ok (.iload_n 1, 1) := dk_27 (dk_at dksX4_isLit_1 0 rfl rfl)
theorem dX4_isLit_25 : decode cX4_isLit 25 = .ok (.invokevirtual 178, 3) := dk_182 0 178 (dk_at dksX4_isLit_1 1 rfl rfl)
theorem dX4_isLit_28 : decode cX4_isLit 28 = .ok (.ifCond .eq 7, 3) := dk_153 0 7 (dk_at dksX4_isLit_1 4 rfl rfl)
theorem dX4_isLit_31 : decode cX4_isLit 31 = .ok (.iconst 1, 1) := dk_4 (dk_at dksX4_isLit_1 7 rfl rfl)
theorem dX4_isLit_32 : decode cX4_isLit 32 = .ok (.goto 4, 3) := dk_167 0 4 (dk_at dksX4_isLit_1 8 rfl rfl)
theorem dX4_isLit_35 : decode cX4_isLit 35 = .ok (.iconst 0, 1) := dk_3 (dk_at dksX4_isLit_1 11 rfl rfl)
theorem dX4_isLit_36 : decode cX4_isLit 36 = .ok (.ireturn, 1) := dk_172 (dk_at dksX4_isLit_1 12 rfl rfl)
abbrev cX4_lit : ByteArray := prog_16_method_79_code
def yX4_lit : MethodName := ⟨RX4, "lit", "(I)Z"⟩
def dkwX4_lit_1 : List UInt8 := [167, 255, 236, 3, 172]
abbrev dktX4_lit_1 : List UInt8 := dkwX4_lit_1 ++ []
def dkwX4_lit_0 : List UInt8 := [3, 61, 28, 16, 12, 162, 0, 20, 42, 28, 27, 182, 0, 175, 153, 0, 5, 4, 172, 132, 2, 1]
abbrev dktX4_lit_0 : List UInt8 := dkwX4_lit_0 ++ dktX4_lit_1
theorem dksX4_lit_0 : cX4_lit.data.toList.drop 0 = dktX4_lit_0 := by decide +kernel
theorem dksX4_lit_1 : cX4_lit.data.toList.drop 22 = dktX4_lit_1 := dk_seg dksX4_lit_0 22 rfl rfl
theorem dX4_lit_0 : decode cX4_lit 0 = .ok (.iconst 0, 1) := dk_3 (dk_at dksX4_lit_0 0 rfl rfl)
theorem dX4_lit_1 : decode cX4_lit 1 = .ok (.istore_n 2, 1) := dk_61 (dk_at dksX4_lit_0 1 rfl rfl)
theorem dX4_lit_2 : decode cX4_lit 2 = .ok (.iload_n 2, 1) := dk_28 (dk_at dksX4_lit_0 2 rfl rfl)
theorem dX4_lit_3 : decode cX4_lit 3 = .ok (.bipush 12, 2) := dk_16 12 (dk_at dksX4_lit_0 3 rfl rfl)
theorem dX4_lit_5 : decode cX4_lit 5 = .ok (.if_icmp .ge 20, 3) := dk_162 0 20 (dk_at dksX4_lit_0 5 rfl rfl)
theorem dX4_lit_8 : decode cX4_lit 8 = .ok (.aload_n 0, 1) := dk_42 (dk_at dksX4_lit_0 8 rfl rfl)
theorem dX4_lit_9 : decode cX4_lit 9 = .ok (.iload_n 2, 1) := dk_28 (dk_at dksX4_lit_0 9 rfl rfl)
theorem dX4_lit_10 : decode cX4_lit 10 = .ok (.iload_n 1, 1) := dk_27 (dk_at dksX4_lit_0 10 rfl rfl)
theorem dX4_lit_11 : decode cX4_lit 11 = .ok (.invokevirtual 175, 3) := dk_182 0 175 (dk_at dksX4_lit_0 11 rfl rfl)
theorem dX4_lit_14 : decode cX4_lit 14 = .ok (.ifCond .eq 5, 3) := dk_153 0 5 (dk_at dksX4_lit_0 14 rfl rfl)
theorem dX4_lit_17 : decode cX4_lit 17 = .ok (.iconst 1, 1) := dk_4 (dk_at dksX4_lit_0 17 rfl rfl)
theorem dX4_lit_18 : decode cX4_lit 18 = .ok (.ireturn, 1) := dk_172 (dk_at dksX4_lit_0 18 rfl rfl)
theorem dX4_lit_19 : decode cX4_lit 19 = .ok (.iinc 2 1, 3) := dk_132 2 1 (dk_at dksX4_lit_0 19 rfl rfl)
theorem dX4_lit_22 : decode cX4_lit 22 = .ok (.goto (-20), 3) := dk_167 255 236 (dk_at dksX4_lit_1 0 rfl rfl)
theorem dX4_lit_25 : decode cX4_lit 25 = .ok (.iconst 0, 1) := dk_3 (dk_at dksX4_lit_1 3 rfl rfl)
theorem dX4_lit_26 : decode cX4_lit 26 = .ok (.ireturn, 1) := dk_172 (dk_at dksX4_lit_1 4 rfl rfl)
abbrev cX4_reaches : ByteArray := prog_16_method_78_code
def yX4_reaches : MethodName := ⟨RX4, "reaches", "(II)Z"⟩
def dkwX4_reaches_3 : List UInt8 := [182, 0, 111, 21, 5, 164, 0, 5, 3, 172, 132, 6, 1, 167, 255, 231, 4, 172]
abbrev dktX4_reaches_3 : List UInt8 := dkwX4_reaches_3 ++ []
def dkwX4_reaches_2 : List UInt8 := [164, 0, 5, 3, 172, 29, 4, 96, 54, 6, 21, 6, 29, 21, 4, 96, 162, 0, 22, 42, 21, 6]
abbrev dktX4_reaches_2 : List UInt8 := dkwX4_reaches_2 ++ dktX4_reaches_3
def dkwX4_reaches_1 : List UInt8 := [182, 0, 111, 5, 96, 54, 5, 42, 180, 0, 16, 16, 14, 27, 96, 46, 153, 0, 9, 21, 4, 7]
abbrev dktX4_reaches_1 : List UInt8 := dkwX4_reaches_1 ++ dktX4_reaches_2
def dkwX4_reaches_0 : List UInt8 := [27, 28, 162, 0, 7, 27, 167, 0, 4, 28, 62, 27, 28, 96, 5, 29, 104, 100, 54, 4, 42, 27]
abbrev dktX4_reaches_0 : List UInt8 := dkwX4_reaches_0 ++ dktX4_reaches_1
theorem dksX4_reaches_0 : cX4_reaches.data.toList.drop 0 = dktX4_reaches_0 := by decide +kernel
theorem dksX4_reaches_1 : cX4_reaches.data.toList.drop 22 = dktX4_reaches_1 := dk_seg dksX4_reaches_0 22 rfl rfl
theorem dksX4_reaches_2 : cX4_reaches.data.toList.drop 44 = dktX4_reaches_2 := dk_seg dksX4_reaches_1 22 rfl rfl
theorem dksX4_reaches_3 : cX4_reaches.data.toList.drop 66 = dktX4_reaches_3 := dk_seg dksX4_reaches_2 22 rfl rfl
theorem dX4_reaches_0 : decode cX4_reaches 0 = .ok (.iload_n 1, 1) := dk_27 (dk_at dksX4_reaches_0 0 rfl rfl)
theorem dX4_reaches_1 : decode cX4_reaches 1 = .ok (.iload_n 2, 1) := dk_28 (dk_at dksX4_reaches_0 1 rfl rfl)
theorem dX4_reaches_2 : decode cX4_reaches 2 = .ok (.if_icmp .ge 7, 3) := dk_162 0 7 (dk_at dksX4_reaches_0 2 rfl rfl)
theorem dX4_reaches_5 : decode cX4_reaches 5 = .ok (.iload_n 1, 1) := dk_27 (dk_at dksX4_reaches_0 5 rfl rfl)
theorem dX4_reaches_6 : decode cX4_reaches 6 = .ok (.goto 4, 3) := dk_167 0 4 (dk_at dksX4_reaches_0 6 rfl rfl)
theorem dX4_reaches_9 : decode cX4_reaches 9 = .ok (.iload_n 2, 1) := dk_28 (dk_at dksX4_reaches_0 9 rfl rfl)
theorem dX4_reaches_10 : decode cX4_reaches 10 = .ok (.istore_n 3, 1) := dk_62 (dk_at dksX4_reaches_0 10 rfl rfl)
theorem dX4_reaches_11 : decode cX4_reaches 11 = .ok (.iload_n 1, 1) := dk_27 (dk_at dksX4_reaches_0 11 rfl rfl)
theorem dX4_reaches_12 : decode cX4_reaches 12 = .ok (.iload_n 2, 1) := dk_28 (dk_at dksX4_reaches_0 12 rfl rfl)
theorem dX4_reaches_13 : decode cX4_reaches 13 = .ok (.iadd, 1) := dk_96 (dk_at dksX4_reaches_0 13 rfl rfl)
theorem dX4_reaches_14 : decode cX4_reaches 14 = .ok (.iconst 2, 1) := dk_5 (dk_at dksX4_reaches_0 14 rfl rfl)
theorem dX4_reaches_15 : decode cX4_reaches 15 = .ok (.iload_n 3, 1) := dk_29 (dk_at dksX4_reaches_0 15 rfl rfl)
theorem dX4_reaches_16 : decode cX4_reaches 16 = .ok (.imul, 1) := dk_104 (dk_at dksX4_reaches_0 16 rfl rfl)
theorem dX4_reaches_17 : decode cX4_reaches 17 = .ok (.isub, 1) := dk_100 (dk_at dksX4_reaches_0 17 rfl rfl)
theorem dX4_reaches_18 : decode cX4_reaches 18 = .ok (.istore 4, 2) := dk_54 4 (dk_at dksX4_reaches_0 18 rfl rfl)
theorem dX4_reaches_20 : decode cX4_reaches 20 = .ok (.aload_n 0, 1) := dk_42 (dk_at dksX4_reaches_0 20 rfl rfl)
theorem dX4_reaches_21 : decode cX4_reaches 21 = .ok (.iload_n 1, 1) := dk_27 (dk_at dksX4_reaches_0 21 rfl rfl)
theorem dX4_reaches_22 : decode cX4_reaches 22 = .ok (.invokevirtual 111, 3) := dk_182 0 111 (dk_at dksX4_reaches_1 0 rfl rfl)
theorem dX4_reaches_25 : decode cX4_reaches 25 = .ok (.iconst 2, 1) := dk_5 (dk_at dksX4_reaches_1 3 rfl rfl)
theorem dX4_reaches_26 : decode cX4_reaches 26 = .ok (.iadd, 1) := dk_96 (dk_at dksX4_reaches_1 4 rfl rfl)
theorem dX4_reaches_27 : decode cX4_reaches 27 = .ok (.istore 5, 2) := dk_54 5 (dk_at dksX4_reaches_1 5 rfl rfl)
theorem dX4_reaches_29 : decode cX4_reaches 29 = .ok (.aload_n 0, 1) := dk_42 (dk_at dksX4_reaches_1 7 rfl rfl)
theorem dX4_reaches_30 : decode cX4_reaches 30 = .ok (.getfield 16, 3) := dk_180 0 16 (dk_at dksX4_reaches_1 8 rfl rfl)
theorem dX4_reaches_33 : decode cX4_reaches 33 = .ok (.bipush 14, 2) := dk_16 14 (dk_at dksX4_reaches_1 11 rfl rfl)
theorem dX4_reaches_35 : decode cX4_reaches 35 = .ok (.iload_n 1, 1) := dk_27 (dk_at dksX4_reaches_1 13 rfl rfl)
theorem dX4_reaches_36 : decode cX4_reaches 36 = .ok (.iadd, 1) := dk_96 (dk_at dksX4_reaches_1 14 rfl rfl)
theorem dX4_reaches_37 : decode cX4_reaches 37 = .ok (.iaload, 1) := dk_46 (dk_at dksX4_reaches_1 15 rfl rfl)
theorem dX4_reaches_38 : decode cX4_reaches 38 = .ok (.ifCond .eq 9, 3) := dk_153 0 9 (dk_at dksX4_reaches_1 16 rfl rfl)
theorem dX4_reaches_41 : decode cX4_reaches 41 = .ok (.iload 4, 2) := dk_21 4 (dk_at dksX4_reaches_1 19 rfl rfl)
theorem dX4_reaches_43 : decode cX4_reaches 43 = .ok (.iconst 4, 1) := dk_7 (dk_at dksX4_reaches_1 21 rfl rfl)
theorem dX4_reaches_44 : decode cX4_reaches 44 = .ok (.if_icmp .le 5, 3) := dk_164 0 5 (dk_at dksX4_reaches_2 0 rfl rfl)
theorem dX4_reaches_47 : decode cX4_reaches 47 = .ok (.iconst 0, 1) := dk_3 (dk_at dksX4_reaches_2 3 rfl rfl)
theorem dX4_reaches_48 : decode cX4_reaches 48 = .ok (.ireturn, 1) := dk_172 (dk_at dksX4_reaches_2 4 rfl rfl)
theorem dX4_reaches_49 : decode cX4_reaches 49 = .ok (.iload_n 3, 1) := dk_29 (dk_at dksX4_reaches_2 5 rfl rfl)
theorem dX4_reaches_50 : decode cX4_reaches 50 = .ok (.iconst 1, 1) := dk_4 (dk_at dksX4_reaches_2 6 rfl rfl)
theorem dX4_reaches_51 : decode cX4_reaches 51 = .ok (.iadd, 1) := dk_96 (dk_at dksX4_reaches_2 7 rfl rfl)
theorem dX4_reaches_52 : decode cX4_reaches 52 = .ok (.istore 6, 2) := dk_54 6 (dk_at dksX4_reaches_2 8 rfl rfl)
theorem dX4_reaches_54 : decode cX4_reaches 54 = .ok (.iload 6, 2) := dk_21 6 (dk_at dksX4_reaches_2 10 rfl rfl)
theorem dX4_reaches_56 : decode cX4_reaches 56 = .ok (.iload_n 3, 1) := dk_29 (dk_at dksX4_reaches_2 12 rfl rfl)
theorem dX4_reaches_57 : decode cX4_reaches 57 = .ok (.iload 4, 2) := dk_21 4 (dk_at dksX4_reaches_2 13 rfl rfl)
theorem dX4_reaches_59 : decode cX4_reaches 59 = .ok (.iadd, 1) := dk_96 (dk_at dksX4_reaches_2 15 rfl rfl)
theorem dX4_reaches_60 : decode cX4_reaches 60 = .ok (.if_icmp .ge 22, 3) := dk_162 0 22 (dk_at dksX4_reaches_2 16 rfl rfl)
theorem dX4_reaches_63 : decode cX4_reaches 63 = .ok (.aload_n 0, 1) := dk_42 (dk_at dksX4_reaches_2 19 rfl rfl)
theorem dX4_reaches_64 : decode cX4_reaches 64 = .ok (.iload 6, 2) := dk_21 6 (dk_at dksX4_reaches_2 20 rfl rfl)
theorem dX4_reaches_66 : decode cX4_reaches 66 = .ok (.invokevirtual 111, 3) := dk_182 0 111 (dk_at dksX4_reaches_3 0 rfl rfl)
theorem dX4_reaches_69 : decode cX4_reaches 69 = .ok (.iload 5, 2) := dk_21 5 (dk_at dksX4_reaches_3 3 rfl rfl)
theorem dX4_reaches_71 : decode cX4_reaches 71 = .ok (.if_icmp .le 5, 3) := dk_164 0 5 (dk_at dksX4_reaches_3 5 rfl rfl)
theorem dX4_reaches_74 : decode cX4_reaches 74 = .ok (.iconst 0, 1) := dk_3 (dk_at dksX4_reaches_3 8 rfl rfl)
theorem dX4_reaches_75 : decode cX4_reaches 75 = .ok (.ireturn, 1) := dk_172 (dk_at dksX4_reaches_3 9 rfl rfl)
theorem dX4_reaches_76 : decode cX4_reaches 76 = .ok (.iinc 6 1, 3) := dk_132 6 1 (dk_at dksX4_reaches_3 10 rfl rfl)
theorem dX4_reaches_79 : decode cX4_reaches 79 = .ok (.goto (-25), 3) := dk_167 255 231 (dk_at dksX4_reaches_3 13 rfl rfl)
theorem dX4_reaches_82 : decode cX4_reaches 82 = .ok (.iconst 1, 1) := dk_4 (dk_at dksX4_reaches_3 16 rfl rfl)
theorem dX4_reaches_83 : decode cX4_reaches 83 = .ok (.ireturn, 1) := dk_172 (dk_at dksX4_reaches_3 17 rfl rfl)
abbrev cX4_isLitByMaxima : ByteArray := prog_16_method_81_code
def yX4_isLitByMaxima : MethodName := ⟨RX4, "isLitByMaxima", "(I)Z"⟩
def dkwX4_isLitByMaxima_0 : List UInt8 := [42, 27, 182, 0, 181, 172]
abbrev dktX4_isLitByMaxima_0 : List UInt8 := dkwX4_isLitByMaxima_0 ++ []
theorem dksX4_isLitByMaxima_0 : cX4_isLitByMaxima.data.toList.drop 0 = dktX4_isLitByMaxima_0 := by decide +kernel
theorem dX4_isLitByMaxima_0 : decode cX4_isLitByMaxima 0 = .ok (.aload_n 0, 1) := dk_42 (dk_at dksX4_isLitByMaxima_0 0 rfl rfl)
theorem dX4_isLitByMaxima_1 : decode cX4_isLitByMaxima 1 = .ok (.iload_n 1, 1) := dk_27 (dk_at dksX4_isLitByMaxima_0 1 rfl rfl)
theorem dX4_isLitByMaxima_2 : decode cX4_isLitByMaxima 2 = .ok (.invokevirtual 181, 3) := dk_182 0 181 (dk_at dksX4_isLitByMaxima_0 2 rfl rfl)
theorem dX4_isLitByMaxima_5 : decode cX4_isLitByMaxima 5 = .ok (.ireturn, 1) := dk_172 (dk_at dksX4_isLitByMaxima_0 5 rfl rfl)
abbrev cX4_litCount : ByteArray := prog_16_method_83_code
def yX4_litCount : MethodName := ⟨RX4, "litCount", "()I"⟩
def dkwX4_litCount_0 : List UInt8 := [42, 3, 181, 0, 53, 42, 182, 0, 184, 172]
abbrev dktX4_litCount_0 : List UInt8 := dkwX4_litCount_0 ++ []
theorem dksX4_litCount_0 : cX4_litCount.data.toList.drop 0 = dktX4_litCount_0 := by decide +kernel
theorem dX4_litCount_0 : decode cX4_litCount 0 = .ok (.aload_n 0, 1) := dk_42 (dk_at dksX4_litCount_0 0 rfl rfl)
theorem dX4_litCount_1 : decode cX4_litCount 1 = .ok (.iconst 0, 1) := dk_3 (dk_at dksX4_litCount_0 1 rfl rfl)
theorem dX4_litCount_2 : decode cX4_litCount 2 = .ok (.putfield 53, 3) := dk_181 0 53 (dk_at dksX4_litCount_0 2 rfl rfl)
theorem dX4_litCount_5 : decode cX4_litCount 5 = .ok (.aload_n 0, 1) := dk_42 (dk_at dksX4_litCount_0 5 rfl rfl)
theorem dX4_litCount_6 : decode cX4_litCount 6 = .ok (.invokevirtual 184, 3) := dk_182 0 184 (dk_at dksX4_litCount_0 6 rfl rfl)
theorem dX4_litCount_9 : decode cX4_litCount 9 = .ok (.ireturn, 1) := dk_172 (dk_at dksX4_litCount_0 9 rfl rfl)
abbrev cX4_allLit : ByteArray := prog_16_method_82_code
def yX4_allLit : MethodName := ⟨RX4, "allLit", "()I"⟩
def dkwX4_allLit_1 : List UInt8 := [96, 60, 132, 2, 1, 167, 255, 231, 27, 172]
abbrev dktX4_allLit_1 : List UInt8 := dkwX4_allLit_1 ++ []
def dkwX4_allLit_0 : List UInt8 := [3, 60, 3, 61, 28, 16, 12, 162, 0, 25, 27, 42, 28, 182, 0, 178, 153, 0, 7, 4, 167, 0, 4, 3]
abbrev dktX4_allLit_0 : List UInt8 := dkwX4_allLit_0 ++ dktX4_allLit_1
theorem dksX4_allLit_0 : cX4_allLit.data.toList.drop 0 = dktX4_allLit_0 := by decide +kernel
theorem dksX4_allLit_1 : cX4_allLit.data.toList.drop 24 = dktX4_allLit_1 := dk_seg dksX4_allLit_0 24 rfl rfl
theorem dX4_allLit_0 : decode cX4_allLit 0 = .ok (.iconst 0, 1) := dk_3 (dk_at dksX4_allLit_0 0 rfl rfl)
theorem dX4_allLit_1 : decode cX4_allLit 1 = .ok (.istore_n 1, 1) := dk_60 (dk_at dksX4_allLit_0 1 rfl rfl)
theorem dX4_allLit_2 : decode cX4_allLit 2 = .ok (.iconst 0, 1) := dk_3 (dk_at dksX4_allLit_0 2 rfl rfl)
theorem dX4_allLit_3 : decode cX4_allLit 3 = .ok (.istore_n 2, 1) := dk_61 (dk_at dksX4_allLit_0 3 rfl rfl)
theorem dX4_allLit_4 : decode cX4_allLit 4 = .ok (.iload_n 2, 1) := dk_28 (dk_at dksX4_allLit_0 4 rfl rfl)
theorem dX4_allLit_5 : decode cX4_allLit 5 = .ok (.bipush 12, 2) := dk_16 12 (dk_at dksX4_allLit_0 5 rfl rfl)
theorem dX4_allLit_7 : decode cX4_allLit 7 = .ok (.if_icmp .ge 25, 3) := dk_162 0 25 (dk_at dksX4_allLit_0 7 rfl rfl)
theorem dX4_allLit_10 : decode cX4_allLit 10 = .ok (.iload_n 1, 1) := dk_27 (dk_at dksX4_allLit_0 10 rfl rfl)
theorem dX4_allLit_11 : decode cX4_allLit 11 = .ok (.aload_n 0, 1) := dk_42 (dk_at dksX4_allLit_0 11 rfl rfl)
theorem dX4_allLit_12 : decode cX4_allLit 12 = .ok (.iload_n 2, 1) := dk_28 (dk_at dksX4_allLit_0 12 rfl rfl)
theorem dX4_allLit_13 : decode cX4_allLit 13 = .ok (.invokevirtual 178, 3) := dk_182 0 178 (dk_at dksX4_allLit_0 13 rfl rfl)
theorem dX4_allLit_16 : decode cX4_allLit 16 = .ok (.ifCond .eq 7, 3) := dk_153 0 7 (dk_at dksX4_allLit_0 16 rfl rfl)
theorem dX4_allLit_19 : decode cX4_allLit 19 = .ok (.iconst 1, 1) := dk_4 (dk_at dksX4_allLit_0 19 rfl rfl)
theorem dX4_allLit_20 : decode cX4_allLit 20 = .ok (.goto 4, 3) := dk_167 0 4 (dk_at dksX4_allLit_0 20 rfl rfl)
theorem dX4_allLit_23 : decode cX4_allLit 23 = .ok (.iconst 0, 1) := dk_3 (dk_at dksX4_allLit_0 23 rfl rfl)
theorem dX4_allLit_24 : decode cX4_allLit 24 = .ok (.iadd, 1) := dk_96 (dk_at dksX4_allLit_1 0 rfl rfl)
theorem dX4_allLit_25 : decode cX4_allLit 25 = .ok (.istore_n 1, 1) := dk_60 (dk_at dksX4_allLit_1 1 rfl rfl)
theorem dX4_allLit_26 : decode cX4_allLit 26 = .ok (.iinc 2 1, 3) := dk_132 2 1 (dk_at dksX4_allLit_1 2 rfl rfl)
theorem dX4_allLit_29 : decode cX4_allLit 29 = .ok (.goto (-25), 3) := dk_167 255 231 (dk_at dksX4_allLit_1 5 rfl rfl)
theorem dX4_allLit_32 : decode cX4_allLit 32 = .ok (.iload_n 1, 1) := dk_27 (dk_at dksX4_allLit_1 8 rfl rfl)
theorem dX4_allLit_33 : decode cX4_allLit 33 = .ok (.ireturn, 1) := dk_172 (dk_at dksX4_allLit_1 9 rfl rfl)
abbrev cX4_totalWeight : ByteArray := prog_16_method_84_code
def yX4_totalWeight : MethodName := ⟨RX4, "totalWeight", "()I"⟩
def dkwX4_totalWeight_1 : List UInt8 := [182, 0, 67, 96, 60, 132, 2, 1, 167, 255, 234, 27, 172]
abbrev dktX4_totalWeight_1 : List UInt8 := dkwX4_totalWeight_1 ++ []
def dkwX4_totalWeight_0 : List UInt8 := [42, 3, 181, 0, 53, 3, 60, 3, 61, 28, 42, 180, 0, 16, 3, 46, 162, 0, 18, 27, 42, 28, 7]
abbrev dktX4_totalWeight_0 : List UInt8 := dkwX4_totalWeight_0 ++ dktX4_totalWeight_1
theorem dksX4_totalWeight_0 : cX4_totalWeight.data.toList.drop 0 = dktX4_totalWeight_0 := by decide +kernel
theorem dksX4_totalWeight_1 : cX4_totalWeight.data.toList.drop 23 = dktX4_totalWeight_1 := dk_seg dksX4_totalWeight_0 23 rfl rfl
theorem dX4_totalWeight_0 : decode cX4_totalWeight 0 = .ok (.aload_n 0, 1) := dk_42 (dk_at dksX4_totalWeight_0 0 rfl rfl)
theorem dX4_totalWeight_1 : decode cX4_totalWeight 1 = .ok (.iconst 0, 1) := dk_3 (dk_at dksX4_totalWeight_0 1 rfl rfl)
theorem dX4_totalWeight_2 : decode cX4_totalWeight 2 = .ok (.putfield 53, 3) := dk_181 0 53 (dk_at dksX4_totalWeight_0 2 rfl rfl)
theorem dX4_totalWeight_5 : decode cX4_totalWeight 5 = .ok (.iconst 0, 1) := dk_3 (dk_at dksX4_totalWeight_0 5 rfl rfl)
theorem dX4_totalWeight_6 : decode cX4_totalWeight 6 = .ok (.istore_n 1, 1) := dk_60 (dk_at dksX4_totalWeight_0 6 rfl rfl)
theorem dX4_totalWeight_7 : decode cX4_totalWeight 7 = .ok (.iconst 0, 1) := dk_3 (dk_at dksX4_totalWeight_0 7 rfl rfl)
theorem dX4_totalWeight_8 : decode cX4_totalWeight 8 = .ok (.istore_n 2, 1) := dk_61 (dk_at dksX4_totalWeight_0 8 rfl rfl)
theorem dX4_totalWeight_9 : decode cX4_totalWeight 9 = .ok (.iload_n 2, 1) := dk_28 (dk_at dksX4_totalWeight_0 9 rfl rfl)
theorem dX4_totalWeight_10 : decode cX4_totalWeight 10 = .ok (.aload_n 0, 1) := dk_42 (dk_at dksX4_totalWeight_0 10 rfl rfl)
theorem dX4_totalWeight_11 : decode cX4_totalWeight 11 = .ok (.getfield 16, 3) := dk_180 0 16 (dk_at dksX4_totalWeight_0 11 rfl rfl)
theorem dX4_totalWeight_14 : decode cX4_totalWeight 14 = .ok (.iconst 0, 1) := dk_3 (dk_at dksX4_totalWeight_0 14 rfl rfl)
theorem dX4_totalWeight_15 : decode cX4_totalWeight 15 = .ok (.iaload, 1) := dk_46 (dk_at dksX4_totalWeight_0 15 rfl rfl)
theorem dX4_totalWeight_16 : decode cX4_totalWeight 16 = .ok (.if_icmp .ge 18, 3) := dk_162 0 18 (dk_at dksX4_totalWeight_0 16 rfl rfl)
theorem dX4_totalWeight_19 : decode cX4_totalWeight 19 = .ok (.iload_n 1, 1) := dk_27 (dk_at dksX4_totalWeight_0 19 rfl rfl)
theorem dX4_totalWeight_20 : decode cX4_totalWeight 20 = .ok (.aload_n 0, 1) := dk_42 (dk_at dksX4_totalWeight_0 20 rfl rfl)
theorem dX4_totalWeight_21 : decode cX4_totalWeight 21 = .ok (.iload_n 2, 1) := dk_28 (dk_at dksX4_totalWeight_0 21 rfl rfl)
theorem dX4_totalWeight_22 : decode cX4_totalWeight 22 = .ok (.iconst 4, 1) := dk_7 (dk_at dksX4_totalWeight_0 22 rfl rfl)
theorem dX4_totalWeight_23 : decode cX4_totalWeight 23 = .ok (.invokevirtual 67, 3) := dk_182 0 67 (dk_at dksX4_totalWeight_1 0 rfl rfl)
theorem dX4_totalWeight_26 : decode cX4_totalWeight 26 = .ok (.iadd, 1) := dk_96 (dk_at dksX4_totalWeight_1 3 rfl rfl)
theorem dX4_totalWeight_27 : decode cX4_totalWeight 27 = .ok (.istore_n 1, 1) := dk_60 (dk_at dksX4_totalWeight_1 4 rfl rfl)
theorem dX4_totalWeight_28 : decode cX4_totalWeight 28 = .ok (.iinc 2 1, 3) := dk_132 2 1 (dk_at dksX4_totalWeight_1 5 rfl rfl)
theorem dX4_totalWeight_31 : decode cX4_totalWeight 31 = .ok (.goto (-22), 3) := dk_167 255 234 (dk_at dksX4_totalWeight_1 8 rfl rfl)
theorem dX4_totalWeight_34 : decode cX4_totalWeight 34 = .ok (.iload_n 1, 1) := dk_27 (dk_at dksX4_totalWeight_1 11 rfl rfl)
theorem dX4_totalWeight_35 : decode cX4_totalWeight 35 = .ok (.ireturn, 1) := dk_172 (dk_at dksX4_totalWeight_1 12 rfl rfl)
abbrev cX4_floorPressure : ByteArray := prog_16_method_85_code
def yX4_floorPressure : MethodName := ⟨RX4, "floorPressure", "()I"⟩
def dkwX4_floorPressure_2 : List UInt8 := [167, 0, 4, 3, 96, 60, 132, 2, 1, 167, 255, 214, 27, 172]
abbrev dktX4_floorPressure_2 : List UInt8 := dkwX4_floorPressure_2 ++ []
def dkwX4_floorPressure_1 : List UInt8 := [42, 28, 8, 182, 0, 67, 154, 0, 19, 42, 28, 7, 182, 0, 67, 42, 180, 0, 32, 28, 46, 96]
abbrev dktX4_floorPressure_1 : List UInt8 := dkwX4_floorPressure_1 ++ dktX4_floorPressure_2
def dkwX4_floorPressure_0 : List UInt8 := [42, 3, 181, 0, 53, 42, 182, 0, 92, 3, 60, 3, 61, 28, 42, 180, 0, 16, 3, 46, 162, 0, 38, 27]
abbrev dktX4_floorPressure_0 : List UInt8 := dkwX4_floorPressure_0 ++ dktX4_floorPressure_1
theorem dksX4_floorPressure_0 : cX4_floorPressure.data.toList.drop 0 = dktX4_floorPressure_0 := by decide +kernel
theorem dksX4_floorPressure_1 : cX4_floorPressure.data.toList.drop 24 = dktX4_floorPressure_1 := dk_seg dksX4_floorPressure_0 24 rfl rfl
theorem dksX4_floorPressure_2 : cX4_floorPressure.data.toList.drop 46 = dktX4_floorPressure_2 := dk_seg dksX4_floorPressure_1 22 rfl rfl
theorem dX4_floorPressure_0 : decode cX4_floorPressure 0 = .ok (.aload_n 0, 1) := dk_42 (dk_at dksX4_floorPressure_0 0 rfl rfl)
theorem dX4_floorPressure_1 : decode cX4_floorPressure 1 = .ok (.iconst 0, 1) := dk_3 (dk_at dksX4_floorPressure_0 1 rfl rfl)
theorem dX4_floorPressure_2 : decode cX4_floorPressure 2 = .ok (.putfield 53, 3) := dk_181 0 53 (dk_at dksX4_floorPressure_0 2 rfl rfl)
theorem dX4_floorPressure_5 : decode cX4_floorPressure 5 = .ok (.aload_n 0, 1) := dk_42 (dk_at dksX4_floorPressure_0 5 rfl rfl)
theorem dX4_floorPressure_6 : decode cX4_floorPressure 6 = .ok (.invokevirtual 92, 3) := dk_182 0 92 (dk_at dksX4_floorPressure_0 6 rfl rfl)
theorem dX4_floorPressure_9 : decode cX4_floorPressure 9 = .ok (.iconst 0, 1) := dk_3 (dk_at dksX4_floorPressure_0 9 rfl rfl)
theorem dX4_floorPressure_10 : decode cX4_floorPressure 10 = .ok (.istore_n 1, 1) := dk_60 (dk_at dksX4_floorPressure_0 10 rfl rfl)
theorem dX4_floorPressure_11 : decode cX4_floorPressure 11 = .ok (.iconst 0, 1) := dk_3 (dk_at dksX4_floorPressure_0 11 rfl rfl)
theorem dX4_floorPressure_12 : decode cX4_floorPressure 12 = .ok (.istore_n 2, 1) := dk_61 (dk_at dksX4_floorPressure_0 12 rfl rfl)
theorem dX4_floorPressure_13 : decode cX4_floorPressure 13 = .ok (.iload_n 2, 1) := dk_28 (dk_at dksX4_floorPressure_0 13 rfl rfl)
theorem dX4_floorPressure_14 : decode cX4_floorPressure 14 = .ok (.aload_n 0, 1) := dk_42 (dk_at dksX4_floorPressure_0 14 rfl rfl)
theorem dX4_floorPressure_15 : decode cX4_floorPressure 15 = .ok (.getfield 16, 3) := dk_180 0 16 (dk_at dksX4_floorPressure_0 15 rfl rfl)
theorem dX4_floorPressure_18 : decode cX4_floorPressure 18 = .ok (.iconst 0, 1) := dk_3 (dk_at dksX4_floorPressure_0 18 rfl rfl)
theorem dX4_floorPressure_19 : decode cX4_floorPressure 19 = .ok (.iaload, 1) := dk_46 (dk_at dksX4_floorPressure_0 19 rfl rfl)
theorem dX4_floorPressure_20 : decode cX4_floorPressure 20 = .ok (.if_icmp .ge 38, 3) := dk_162 0 38 (dk_at dksX4_floorPressure_0 20 rfl rfl)
theorem dX4_floorPressure_23 : decode cX4_floorPressure 23 = .ok (.iload_n 1, 1) := dk_27 (dk_at dksX4_floorPressure_0 23 rfl rfl)
theorem dX4_floorPressure_24 : decode cX4_floorPressure 24 = .ok (.aload_n 0, 1) := dk_42 (dk_at dksX4_floorPressure_1 0 rfl rfl)
theorem dX4_floorPressure_25 : decode cX4_floorPressure 25 = .ok (.iload_n 2, 1) := dk_28 (dk_at dksX4_floorPressure_1 1 rfl rfl)
theorem dX4_floorPressure_26 : decode cX4_floorPressure 26 = .ok (.iconst 5, 1) := dk_8 (dk_at dksX4_floorPressure_1 2 rfl rfl)
theorem dX4_floorPressure_27 : decode cX4_floorPressure 27 = .ok (.invokevirtual 67, 3) := dk_182 0 67 (dk_at dksX4_floorPressure_1 3 rfl rfl)
theorem dX4_floorPressure_30 : decode cX4_floorPressure 30 = .ok (.ifCond .ne 19, 3) := dk_154 0 19 (dk_at dksX4_floorPressure_1 6 rfl rfl)
theorem dX4_floorPressure_33 : decode cX4_floorPressure 33 = .ok (.aload_n 0, 1) := dk_42 (dk_at dksX4_floorPressure_1 9 rfl rfl)
theorem dX4_floorPressure_34 : decode cX4_floorPressure 34 = .ok (.iload_n 2, 1) := dk_28 (dk_at dksX4_floorPressure_1 10 rfl rfl)
theorem dX4_floorPressure_35 : decode cX4_floorPressure 35 = .ok (.iconst 4, 1) := dk_7 (dk_at dksX4_floorPressure_1 11 rfl rfl)
theorem dX4_floorPressure_36 : decode cX4_floorPressure 36 = .ok (.invokevirtual 67, 3) := dk_182 0 67 (dk_at dksX4_floorPressure_1 12 rfl rfl)
theorem dX4_floorPressure_39 : decode cX4_floorPressure 39 = .ok (.aload_n 0, 1) := dk_42 (dk_at dksX4_floorPressure_1 15 rfl rfl)
theorem dX4_floorPressure_40 : decode cX4_floorPressure 40 = .ok (.getfield 32, 3) := dk_180 0 32 (dk_at dksX4_floorPressure_1 16 rfl rfl)
theorem dX4_floorPressure_43 : decode cX4_floorPressure 43 = .ok (.iload_n 2, 1) := dk_28 (dk_at dksX4_floorPressure_1 19 rfl rfl)
theorem dX4_floorPressure_44 : decode cX4_floorPressure 44 = .ok (.iaload, 1) := dk_46 (dk_at dksX4_floorPressure_1 20 rfl rfl)
theorem dX4_floorPressure_45 : decode cX4_floorPressure 45 = .ok (.iadd, 1) := dk_96 (dk_at dksX4_floorPressure_1 21 rfl rfl)
theorem dX4_floorPressure_46 : decode cX4_floorPressure 46 = .ok (.goto 4, 3) := dk_167 0 4 (dk_at dksX4_floorPressure_2 0 rfl rfl)
theorem dX4_floorPressure_49 : decode cX4_floorPressure 49 = .ok (.iconst 0, 1) := dk_3 (dk_at dksX4_floorPressure_2 3 rfl rfl)
theorem dX4_floorPressure_50 : decode cX4_floorPressure 50 = .ok (.iadd, 1) := dk_96 (dk_at dksX4_floorPressure_2 4 rfl rfl)
theorem dX4_floorPressure_51 : decode cX4_floorPressure 51 = .ok (.istore_n 1, 1) := dk_60 (dk_at dksX4_floorPressure_2 5 rfl rfl)
theorem dX4_floorPressure_52 : decode cX4_floorPressure 52 = .ok (.iinc 2 1, 3) := dk_132 2 1 (dk_at dksX4_floorPressure_2 6 rfl rfl)
theorem dX4_floorPressure_55 : decode cX4_floorPressure 55 = .ok (.goto (-42), 3) := dk_167 255 214 (dk_at dksX4_floorPressure_2 9 rfl rfl)
theorem dX4_floorPressure_58 : decode cX4_floorPressure 58 = .ok (.iload_n 1, 1) := dk_27 (dk_at dksX4_floorPressure_2 12 rfl rfl)
theorem dX4_floorPressure_59 : decode cX4_floorPressure 59 = .ok (.ireturn, 1) := dk_172 (dk_at dksX4_floorPressure_2 13 rfl rfl)
abbrev cX4_meanHeight : ByteArray := prog_16_method_86_code
def yX4_meanHeight : MethodName := ⟨RX4, "meanHeight", "()D"⟩
def dkwX4_meanHeight_1 : List UInt8 := [132, 2, 1, 167, 255, 239, 27, 135, 20, 0, 187, 111, 175]
abbrev dktX4_meanHeight_1 : List UInt8 := dkwX4_meanHeight_1 ++ []
def dkwX4_meanHeight_0 : List UInt8 := [42, 3, 181, 0, 53, 3, 60, 3, 61, 28, 16, 12, 162, 0, 17, 27, 42, 28, 182, 0, 111, 96, 60]
abbrev dktX4_meanHeight_0 : List UInt8 := dkwX4_meanHeight_0 ++ dktX4_meanHeight_1
theorem dksX4_meanHeight_0 : cX4_meanHeight.data.toList.drop 0 = dktX4_meanHeight_0 := by decide +kernel
theorem dksX4_meanHeight_1 : cX4_meanHeight.data.toList.drop 23 = dktX4_meanHeight_1 := dk_seg dksX4_meanHeight_0 23 rfl rfl
theorem dX4_meanHeight_0 : decode cX4_meanHeight 0 = .ok (.aload_n 0, 1) := dk_42 (dk_at dksX4_meanHeight_0 0 rfl rfl)
theorem dX4_meanHeight_1 : decode cX4_meanHeight 1 = .ok (.iconst 0, 1) := dk_3 (dk_at dksX4_meanHeight_0 1 rfl rfl)
theorem dX4_meanHeight_2 : decode cX4_meanHeight 2 = .ok (.putfield 53, 3) := dk_181 0 53 (dk_at dksX4_meanHeight_0 2 rfl rfl)
theorem dX4_meanHeight_5 : decode cX4_meanHeight 5 = .ok (.iconst 0, 1) := dk_3 (dk_at dksX4_meanHeight_0 5 rfl rfl)
theorem dX4_meanHeight_6 : decode cX4_meanHeight 6 = .ok (.istore_n 1, 1) := dk_60 (dk_at dksX4_meanHeight_0 6 rfl rfl)
theorem dX4_meanHeight_7 : decode cX4_meanHeight 7 = .ok (.iconst 0, 1) := dk_3 (dk_at dksX4_meanHeight_0 7 rfl rfl)
theorem dX4_meanHeight_8 : decode cX4_meanHeight 8 = .ok (.istore_n 2, 1) := dk_61 (dk_at dksX4_meanHeight_0 8 rfl rfl)
theorem dX4_meanHeight_9 : decode cX4_meanHeight 9 = .ok (.iload_n 2, 1) := dk_28 (dk_at dksX4_meanHeight_0 9 rfl rfl)
theorem dX4_meanHeight_10 : decode cX4_meanHeight 10 = .ok (.bipush 12, 2) := dk_16 12 (dk_at dksX4_meanHeight_0 10 rfl rfl)
theorem dX4_meanHeight_12 : decode cX4_meanHeight 12 = .ok (.if_icmp .ge 17, 3) := dk_162 0 17 (dk_at dksX4_meanHeight_0 12 rfl rfl)
theorem dX4_meanHeight_15 : decode cX4_meanHeight 15 = .ok (.iload_n 1, 1) := dk_27 (dk_at dksX4_meanHeight_0 15 rfl rfl)
theorem dX4_meanHeight_16 : decode cX4_meanHeight 16 = .ok (.aload_n 0, 1) := dk_42 (dk_at dksX4_meanHeight_0 16 rfl rfl)
theorem dX4_meanHeight_17 : decode cX4_meanHeight 17 = .ok (.iload_n 2, 1) := dk_28 (dk_at dksX4_meanHeight_0 17 rfl rfl)
theorem dX4_meanHeight_18 : decode cX4_meanHeight 18 = .ok (.invokevirtual 111, 3) := dk_182 0 111 (dk_at dksX4_meanHeight_0 18 rfl rfl)
theorem dX4_meanHeight_21 : decode cX4_meanHeight 21 = .ok (.iadd, 1) := dk_96 (dk_at dksX4_meanHeight_0 21 rfl rfl)
theorem dX4_meanHeight_22 : decode cX4_meanHeight 22 = .ok (.istore_n 1, 1) := dk_60 (dk_at dksX4_meanHeight_0 22 rfl rfl)
theorem dX4_meanHeight_23 : decode cX4_meanHeight 23 = .ok (.iinc 2 1, 3) := dk_132 2 1 (dk_at dksX4_meanHeight_1 0 rfl rfl)
theorem dX4_meanHeight_26 : decode cX4_meanHeight 26 = .ok (.goto (-17), 3) := dk_167 255 239 (dk_at dksX4_meanHeight_1 3 rfl rfl)
theorem dX4_meanHeight_29 : decode cX4_meanHeight 29 = .ok (.iload_n 1, 1) := dk_27 (dk_at dksX4_meanHeight_1 6 rfl rfl)
theorem dX4_meanHeight_30 : decode cX4_meanHeight 30 = .ok (.i2d, 1) := dk_135 (dk_at dksX4_meanHeight_1 7 rfl rfl)
theorem dX4_meanHeight_31 : decode cX4_meanHeight 31 = .ok (.ldc2_w 187, 3) := dk_20 0 187 (dk_at dksX4_meanHeight_1 8 rfl rfl)
theorem dX4_meanHeight_34 : decode cX4_meanHeight 34 = .ok (.ddiv, 1) := dk_111 (dk_at dksX4_meanHeight_1 11 rfl rfl)
theorem dX4_meanHeight_35 : decode cX4_meanHeight 35 = .ok (.dreturn, 1) := dk_175 (dk_at dksX4_meanHeight_1 12 rfl rfl)
abbrev cX4_litShare : ByteArray := prog_16_method_87_code
def yX4_litShare : MethodName := ⟨RX4, "litShare", "()F"⟩
def dkwX4_litShare_0 : List UInt8 := [42, 3, 181, 0, 53, 42, 182, 0, 184, 134, 18, 189, 110, 174]
abbrev dktX4_litShare_0 : List UInt8 := dkwX4_litShare_0 ++ []
theorem dksX4_litShare_0 : cX4_litShare.data.toList.drop 0 = dktX4_litShare_0 := by decide +kernel
theorem dX4_litShare_0 : decode cX4_litShare 0 = .ok (.aload_n 0, 1) := dk_42 (dk_at dksX4_litShare_0 0 rfl rfl)
theorem dX4_litShare_1 : decode cX4_litShare 1 = .ok (.iconst 0, 1) := dk_3 (dk_at dksX4_litShare_0 1 rfl rfl)
theorem dX4_litShare_2 : decode cX4_litShare 2 = .ok (.putfield 53, 3) := dk_181 0 53 (dk_at dksX4_litShare_0 2 rfl rfl)
theorem dX4_litShare_5 : decode cX4_litShare 5 = .ok (.aload_n 0, 1) := dk_42 (dk_at dksX4_litShare_0 5 rfl rfl)
theorem dX4_litShare_6 : decode cX4_litShare 6 = .ok (.invokevirtual 184, 3) := dk_182 0 184 (dk_at dksX4_litShare_0 6 rfl rfl)
theorem dX4_litShare_9 : decode cX4_litShare 9 = .ok (.i2f, 1) := dk_134 (dk_at dksX4_litShare_0 9 rfl rfl)
theorem dX4_litShare_10 : decode cX4_litShare 10 = .ok (.ldc 189, 2) := dk_18 189 (dk_at dksX4_litShare_0 10 rfl rfl)
theorem dX4_litShare_12 : decode cX4_litShare 12 = .ok (.fdiv, 1) := dk_110 (dk_at dksX4_litShare_0 12 rfl rfl)
theorem dX4_litShare_13 : decode cX4_litShare 13 = .ok (.freturn, 1) := dk_174 (dk_at dksX4_litShare_0 13 rfl rfl)
abbrev cX4_isConsistent : ByteArray := prog_16_method_88_code
def yX4_isConsistent : MethodName := ⟨RX4, "isConsistent", "()Z"⟩
def dkwX4_isConsistent_0 : List UInt8 := [42, 182, 0, 114, 60, 42, 3, 181, 0, 53, 27, 172]
abbrev dktX4_isConsistent_0 : List UInt8 := dkwX4_isConsistent_0 ++ []
theorem dksX4_isConsistent_0 : cX4_isConsistent.data.toList.drop 0 = dktX4_isConsistent_0 := by decide +kernel
theorem dX4_isConsistent_0 : decode cX4_isConsistent 0 = .ok (.aload_n 0, 1) := dk_42 (dk_at dksX4_isConsistent_0 0 rfl rfl)
theorem dX4_isConsistent_1 : decode cX4_isConsistent 1 = .ok (.invokevirtual 114, 3) := dk_182 0 114 (dk_at dksX4_isConsistent_0 1 rfl rfl)
theorem dX4_isConsistent_4 : decode cX4_isConsistent 4 = .ok (.istore_n 1, 1) := dk_60 (dk_at dksX4_isConsistent_0 4 rfl rfl)
theorem dX4_isConsistent_5 : decode cX4_isConsistent 5 = .ok (.aload_n 0, 1) := dk_42 (dk_at dksX4_isConsistent_0 5 rfl rfl)
theorem dX4_isConsistent_6 : decode cX4_isConsistent 6 = .ok (.iconst 0, 1) := dk_3 (dk_at dksX4_isConsistent_0 6 rfl rfl)
theorem dX4_isConsistent_7 : decode cX4_isConsistent 7 = .ok (.putfield 53, 3) := dk_181 0 53 (dk_at dksX4_isConsistent_0 7 rfl rfl)
theorem dX4_isConsistent_10 : decode cX4_isConsistent 10 = .ok (.iload_n 1, 1) := dk_27 (dk_at dksX4_isConsistent_0 10 rfl rfl)
theorem dX4_isConsistent_11 : decode cX4_isConsistent 11 = .ok (.ireturn, 1) := dk_172 (dk_at dksX4_isConsistent_0 11 rfl rfl)
abbrev cX4_formatBlock : ByteArray := prog_16_method_92_code
def yX4_formatBlock : MethodName := ⟨RX4, "formatBlock", "(I)I"⟩
def dkwX4_formatBlock_5 : List UInt8 := [182, 0, 199, 42, 16, 47, 42, 28, 182, 0, 95, 182, 0, 199, 42, 180, 0, 190, 172]
abbrev dktX4_formatBlock_5 : List UInt8 := dkwX4_formatBlock_5 ++ []
def dkwX4_formatBlock_4 : List UInt8 := [182, 0, 199, 42, 16, 42, 42, 28, 7, 182, 0, 67, 182, 0, 199, 42, 16, 32, 42, 180, 0, 32, 28, 46]
abbrev dktX4_formatBlock_4 : List UInt8 := dkwX4_formatBlock_4 ++ dktX4_formatBlock_5
def dkwX4_formatBlock_3 : List UInt8 := [42, 28, 6, 182, 0, 67, 182, 0, 199, 42, 16, 93, 182, 0, 193, 42, 16, 64, 42, 28, 8, 182, 0, 67]
abbrev dktX4_formatBlock_3 : List UInt8 := dkwX4_formatBlock_3 ++ dktX4_formatBlock_4
def dkwX4_formatBlock_2 : List UInt8 := [167, 0, 5, 16, 103, 27, 182, 0, 199, 42, 16, 91, 42, 28, 5, 182, 0, 67, 182, 0, 199, 42, 16, 43]
abbrev dktX4_formatBlock_2 : List UInt8 := dkwX4_formatBlock_2 ++ dktX4_formatBlock_3
def dkwX4_formatBlock_1 : List UInt8 := [4, 182, 0, 67, 154, 0, 8, 16, 102, 167, 0, 20, 42, 28, 4, 182, 0, 67, 4, 160, 0, 8, 16, 98]
abbrev dktX4_formatBlock_1 : List UInt8 := dkwX4_formatBlock_1 ++ dktX4_formatBlock_2
def dkwX4_formatBlock_0 : List UInt8 := [42, 27, 182, 0, 128, 61, 28, 156, 0, 5, 3, 172, 42, 182, 0, 92, 42, 3, 181, 0, 190, 42, 42, 28]
abbrev dktX4_formatBlock_0 : List UInt8 := dkwX4_formatBlock_0 ++ dktX4_formatBlock_1
theorem dksX4_formatBlock_0 : cX4_formatBlock.data.toList.drop 0 = dktX4_formatBlock_0 := by decide +kernel
theorem dksX4_formatBlock_1 : cX4_formatBlock.data.toList.drop 24 = dktX4_formatBlock_1 := dk_seg dksX4_formatBlock_0 24 rfl rfl
theorem dksX4_formatBlock_2 : cX4_formatBlock.data.toList.drop 48 = dktX4_formatBlock_2 := dk_seg dksX4_formatBlock_1 24 rfl rfl
theorem dksX4_formatBlock_3 : cX4_formatBlock.data.toList.drop 72 = dktX4_formatBlock_3 := dk_seg dksX4_formatBlock_2 24 rfl rfl
theorem dksX4_formatBlock_4 : cX4_formatBlock.data.toList.drop 96 = dktX4_formatBlock_4 := dk_seg dksX4_formatBlock_3 24 rfl rfl
theorem dksX4_formatBlock_5 : cX4_formatBlock.data.toList.drop 120 = dktX4_formatBlock_5 := dk_seg dksX4_formatBlock_4 24 rfl rfl
theorem dX4_formatBlock_0 : decode cX4_formatBlock 0 = .ok (.aload_n 0, 1) := dk_42 (dk_at dksX4_formatBlock_0 0 rfl rfl)
theorem dX4_formatBlock_1 : decode cX4_formatBlock 1 = .ok (.iload_n 1, 1) := dk_27 (dk_at dksX4_formatBlock_0 1 rfl rfl)
theorem dX4_formatBlock_2 : decode cX4_formatBlock 2 = .ok (.invokevirtual 128, 3) := dk_182 0 128 (dk_at dksX4_formatBlock_0 2 rfl rfl)
theorem dX4_formatBlock_5 : decode cX4_formatBlock 5 = .ok (.istore_n 2, 1) := dk_61 (dk_at dksX4_formatBlock_0 5 rfl rfl)
theorem dX4_formatBlock_6 : decode cX4_formatBlock 6 = .ok (.iload_n 2, 1) := dk_28 (dk_at dksX4_formatBlock_0 6 rfl rfl)
theorem dX4_formatBlock_7 : decode cX4_formatBlock 7 = .ok (.ifCond .ge 5, 3) := dk_156 0 5 (dk_at dksX4_formatBlock_0 7 rfl rfl)
theorem dX4_formatBlock_10 : decode cX4_formatBlock 10 = .ok (.iconst 0, 1) := dk_3 (dk_at dksX4_formatBlock_0 10 rfl rfl)
theorem dX4_formatBlock_11 : decode cX4_formatBlock 11 = .ok (.ireturn, 1) := dk_172 (dk_at dksX4_formatBlock_0 11 rfl rfl)
theorem dX4_formatBlock_12 : decode cX4_formatBlock 12 = .ok (.aload_n 0, 1) := dk_42 (dk_at dksX4_formatBlock_0 12 rfl rfl)
theorem dX4_formatBlock_13 : decode cX4_formatBlock 13 = .ok (.invokevirtual 92, 3) := dk_182 0 92 (dk_at dksX4_formatBlock_0 13 rfl rfl)
theorem dX4_formatBlock_16 : decode cX4_formatBlock 16 = .ok (.aload_n 0, 1) := dk_42 (dk_at dksX4_formatBlock_0 16 rfl rfl)
theorem dX4_formatBlock_17 : decode cX4_formatBlock 17 = .ok (.iconst 0, 1) := dk_3 (dk_at dksX4_formatBlock_0 17 rfl rfl)
theorem dX4_formatBlock_18 : decode cX4_formatBlock 18 = .ok (.putfield 190, 3) := dk_181 0 190 (dk_at dksX4_formatBlock_0 18 rfl rfl)
theorem dX4_formatBlock_21 : decode cX4_formatBlock 21 = .ok (.aload_n 0, 1) := dk_42 (dk_at dksX4_formatBlock_0 21 rfl rfl)
theorem dX4_formatBlock_22 : decode cX4_formatBlock 22 = .ok (.aload_n 0, 1) := dk_42 (dk_at dksX4_formatBlock_0 22 rfl rfl)
theorem dX4_formatBlock_23 : decode cX4_formatBlock 23 = .ok (.iload_n 2, 1) := dk_28 (dk_at dksX4_formatBlock_0 23 rfl rfl)
theorem dX4_formatBlock_24 : decode cX4_formatBlock 24 = .ok (.iconst 1, 1) := dk_4 (dk_at dksX4_formatBlock_1 0 rfl rfl)
theorem dX4_formatBlock_25 : decode cX4_formatBlock 25 = .ok (.invokevirtual 67, 3) := dk_182 0 67 (dk_at dksX4_formatBlock_1 1 rfl rfl)
theorem dX4_formatBlock_28 : decode cX4_formatBlock 28 = .ok (.ifCond .ne 8, 3) := dk_154 0 8 (dk_at dksX4_formatBlock_1 4 rfl rfl)
theorem dX4_formatBlock_31 : decode cX4_formatBlock 31 = .ok (.bipush 102, 2) := dk_16 102 (dk_at dksX4_formatBlock_1 7 rfl rfl)
theorem dX4_formatBlock_33 : decode cX4_formatBlock 33 = .ok (.goto 20, 3) := dk_167 0 20 (dk_at dksX4_formatBlock_1 9 rfl rfl)
theorem dX4_formatBlock_36 : decode cX4_formatBlock 36 = .ok (.aload_n 0, 1) := dk_42 (dk_at dksX4_formatBlock_1 12 rfl rfl)
theorem dX4_formatBlock_37 : decode cX4_formatBlock 37 = .ok (.iload_n 2, 1) := dk_28 (dk_at dksX4_formatBlock_1 13 rfl rfl)
theorem dX4_formatBlock_38 : decode cX4_formatBlock 38 = .ok (.iconst 1, 1) := dk_4 (dk_at dksX4_formatBlock_1 14 rfl rfl)
theorem dX4_formatBlock_39 : decode cX4_formatBlock 39 = .ok (.invokevirtual 67, 3) := dk_182 0 67 (dk_at dksX4_formatBlock_1 15 rfl rfl)
theorem dX4_formatBlock_42 : decode cX4_formatBlock 42 = .ok (.iconst 1, 1) := dk_4 (dk_at dksX4_formatBlock_1 18 rfl rfl)
theorem dX4_formatBlock_43 : decode cX4_formatBlock 43 = .ok (.if_icmp .ne 8, 3) := dk_160 0 8 (dk_at dksX4_formatBlock_1 19 rfl rfl)
theorem dX4_formatBlock_46 : decode cX4_formatBlock 46 = .ok (.bipush 98, 2) := dk_16 98 (dk_at dksX4_formatBlock_1 22 rfl rfl)
theorem dX4_formatBlock_48 : decode cX4_formatBlock 48 = .ok (.goto 5, 3) := dk_167 0 5 (dk_at dksX4_formatBlock_2 0 rfl rfl)
theorem dX4_formatBlock_51 : decode cX4_formatBlock 51 = .ok (.bipush 103, 2) := dk_16 103 (dk_at dksX4_formatBlock_2 3 rfl rfl)
theorem dX4_formatBlock_53 : decode cX4_formatBlock 53 = .ok (.iload_n 1, 1) := dk_27 (dk_at dksX4_formatBlock_2 5 rfl rfl)
theorem dX4_formatBlock_54 : decode cX4_formatBlock 54 = .ok (.invokevirtual 199, 3) := dk_182 0 199 (dk_at dksX4_formatBlock_2 6 rfl rfl)
theorem dX4_formatBlock_57 : decode cX4_formatBlock 57 = .ok (.aload_n 0, 1) := dk_42 (dk_at dksX4_formatBlock_2 9 rfl rfl)
theorem dX4_formatBlock_58 : decode cX4_formatBlock 58 = .ok (.bipush 91, 2) := dk_16 91 (dk_at dksX4_formatBlock_2 10 rfl rfl)
theorem dX4_formatBlock_60 : decode cX4_formatBlock 60 = .ok (.aload_n 0, 1) := dk_42 (dk_at dksX4_formatBlock_2 12 rfl rfl)
theorem dX4_formatBlock_61 : decode cX4_formatBlock 61 = .ok (.iload_n 2, 1) := dk_28 (dk_at dksX4_formatBlock_2 13 rfl rfl)
theorem dX4_formatBlock_62 : decode cX4_formatBlock 62 = .ok (.iconst 2, 1) := dk_5 (dk_at dksX4_formatBlock_2 14 rfl rfl)
theorem dX4_formatBlock_63 : decode cX4_formatBlock 63 = .ok (.invokevirtual 67, 3) := dk_182 0 67 (dk_at dksX4_formatBlock_2 15 rfl rfl)
theorem dX4_formatBlock_66 : decode cX4_formatBlock 66 = .ok (.invokevirtual 199, 3) := dk_182 0 199 (dk_at dksX4_formatBlock_2 18 rfl rfl)
theorem dX4_formatBlock_69 : decode cX4_formatBlock 69 = .ok (.aload_n 0, 1) := dk_42 (dk_at dksX4_formatBlock_2 21 rfl rfl)
theorem dX4_formatBlock_70 : decode cX4_formatBlock 70 = .ok (.bipush 43, 2) := dk_16 43 (dk_at dksX4_formatBlock_2 22 rfl rfl)
theorem dX4_formatBlock_72 : decode cX4_formatBlock 72 = .ok (.aload_n 0, 1) := dk_42 (dk_at dksX4_formatBlock_3 0 rfl rfl)
theorem dX4_formatBlock_73 : decode cX4_formatBlock 73 = .ok (.iload_n 2, 1) := dk_28 (dk_at dksX4_formatBlock_3 1 rfl rfl)
theorem dX4_formatBlock_74 : decode cX4_formatBlock 74 = .ok (.iconst 3, 1) := dk_6 (dk_at dksX4_formatBlock_3 2 rfl rfl)
theorem dX4_formatBlock_75 : decode cX4_formatBlock 75 = .ok (.invokevirtual 67, 3) := dk_182 0 67 (dk_at dksX4_formatBlock_3 3 rfl rfl)
theorem dX4_formatBlock_78 : decode cX4_formatBlock 78 = .ok (.invokevirtual 199, 3) := dk_182 0 199 (dk_at dksX4_formatBlock_3 6 rfl rfl)
theorem dX4_formatBlock_81 : decode cX4_formatBlock 81 = .ok (.aload_n 0, 1) := dk_42 (dk_at dksX4_formatBlock_3 9 rfl rfl)
theorem dX4_formatBlock_82 : decode cX4_formatBlock 82 = .ok (.bipush 93, 2) := dk_16 93 (dk_at dksX4_formatBlock_3 10 rfl rfl)
theorem dX4_formatBlock_84 : decode cX4_formatBlock 84 = .ok (.invokevirtual 193, 3) := dk_182 0 193 (dk_at dksX4_formatBlock_3 12 rfl rfl)
theorem dX4_formatBlock_87 : decode cX4_formatBlock 87 = .ok (.aload_n 0, 1) := dk_42 (dk_at dksX4_formatBlock_3 15 rfl rfl)
theorem dX4_formatBlock_88 : decode cX4_formatBlock 88 = .ok (.bipush 64, 2) := dk_16 64 (dk_at dksX4_formatBlock_3 16 rfl rfl)
theorem dX4_formatBlock_90 : decode cX4_formatBlock 90 = .ok (.aload_n 0, 1) := dk_42 (dk_at dksX4_formatBlock_3 18 rfl rfl)
theorem dX4_formatBlock_91 : decode cX4_formatBlock 91 = .ok (.iload_n 2, 1) := dk_28 (dk_at dksX4_formatBlock_3 19 rfl rfl)
theorem dX4_formatBlock_92 : decode cX4_formatBlock 92 = .ok (.iconst 5, 1) := dk_8 (dk_at dksX4_formatBlock_3 20 rfl rfl)
theorem dX4_formatBlock_93 : decode cX4_formatBlock 93 = .ok (.invokevirtual 67, 3) := dk_182 0 67 (dk_at dksX4_formatBlock_3 21 rfl rfl)
theorem dX4_formatBlock_96 : decode cX4_formatBlock 96 = .ok (.invokevirtual 199, 3) := dk_182 0 199 (dk_at dksX4_formatBlock_4 0 rfl rfl)
theorem dX4_formatBlock_99 : decode cX4_formatBlock 99 = .ok (.aload_n 0, 1) := dk_42 (dk_at dksX4_formatBlock_4 3 rfl rfl)
theorem dX4_formatBlock_100 : decode cX4_formatBlock 100 = .ok (.bipush 42, 2) := dk_16 42 (dk_at dksX4_formatBlock_4 4 rfl rfl)
theorem dX4_formatBlock_102 : decode cX4_formatBlock 102 = .ok (.aload_n 0, 1) := dk_42 (dk_at dksX4_formatBlock_4 6 rfl rfl)
theorem dX4_formatBlock_103 : decode cX4_formatBlock 103 = .ok (.iload_n 2, 1) := dk_28 (dk_at dksX4_formatBlock_4 7 rfl rfl)
theorem dX4_formatBlock_104 : decode cX4_formatBlock 104 = .ok (.iconst 4, 1) := dk_7 (dk_at dksX4_formatBlock_4 8 rfl rfl)
theorem dX4_formatBlock_105 : decode cX4_formatBlock 105 = .ok (.invokevirtual 67, 3) := dk_182 0 67 (dk_at dksX4_formatBlock_4 9 rfl rfl)
theorem dX4_formatBlock_108 : decode cX4_formatBlock 108 = .ok (.invokevirtual 199, 3) := dk_182 0 199 (dk_at dksX4_formatBlock_4 12 rfl rfl)
theorem dX4_formatBlock_111 : decode cX4_formatBlock 111 = .ok (.aload_n 0, 1) := dk_42 (dk_at dksX4_formatBlock_4 15 rfl rfl)
theorem dX4_formatBlock_112 : decode cX4_formatBlock 112 = .ok (.bipush 32, 2) := dk_16 32 (dk_at dksX4_formatBlock_4 16 rfl rfl)
theorem dX4_formatBlock_114 : decode cX4_formatBlock 114 = .ok (.aload_n 0, 1) := dk_42 (dk_at dksX4_formatBlock_4 18 rfl rfl)
theorem dX4_formatBlock_115 : decode cX4_formatBlock 115 = .ok (.getfield 32, 3) := dk_180 0 32 (dk_at dksX4_formatBlock_4 19 rfl rfl)
theorem dX4_formatBlock_118 : decode cX4_formatBlock 118 = .ok (.iload_n 2, 1) := dk_28 (dk_at dksX4_formatBlock_4 22 rfl rfl)
theorem dX4_formatBlock_119 : decode cX4_formatBlock 119 = .ok (.iaload, 1) := dk_46 (dk_at dksX4_formatBlock_4 23 rfl rfl)
theorem dX4_formatBlock_120 : decode cX4_formatBlock 120 = .ok (.invokevirtual 199, 3) := dk_182 0 199 (dk_at dksX4_formatBlock_5 0 rfl rfl)
theorem dX4_formatBlock_123 : decode cX4_formatBlock 123 = .ok (.aload_n 0, 1) := dk_42 (dk_at dksX4_formatBlock_5 3 rfl rfl)
theorem dX4_formatBlock_124 : decode cX4_formatBlock 124 = .ok (.bipush 47, 2) := dk_16 47 (dk_at dksX4_formatBlock_5 4 rfl rfl)
theorem dX4_formatBlock_126 : decode cX4_formatBlock 126 = .ok (.aload_n 0, 1) := dk_42 (dk_at dksX4_formatBlock_5 6 rfl rfl)
theorem dX4_formatBlock_127 : decode cX4_formatBlock 127 = .ok (.iload_n 2, 1) := dk_28 (dk_at dksX4_formatBlock_5 7 rfl rfl)
theorem dX4_formatBlock_128 : decode cX4_formatBlock 128 = .ok (.invokevirtual 95, 3) := dk_182 0 95 (dk_at dksX4_formatBlock_5 8 rfl rfl)
theorem dX4_formatBlock_131 : decode cX4_formatBlock 131 = .ok (.invokevirtual 199, 3) := dk_182 0 199 (dk_at dksX4_formatBlock_5 11 rfl rfl)
theorem dX4_formatBlock_134 : decode cX4_formatBlock 134 = .ok (.aload_n 0, 1) := dk_42 (dk_at dksX4_formatBlock_5 14 rfl rfl)
theorem dX4_formatBlock_135 : decode cX4_formatBlock 135 = .ok (.getfield 190, 3) := dk_180 0 190 (dk_at dksX4_formatBlock_5 15 rfl rfl)
theorem dX4_formatBlock_138 : decode cX4_formatBlock 138 = .ok (.ireturn, 1) := dk_172 (dk_at dksX4_formatBlock_5 18 rfl rfl)
abbrev cX4_writesBehind : ByteArray := prog_16_method_91_code
def yX4_writesBehind : MethodName := ⟨RX4, "writesBehind", "(II)V"⟩
def dkwX4_writesBehind_0 : List UInt8 := [42, 27, 182, 0, 193, 42, 28, 182, 0, 196, 177]
abbrev dktX4_writesBehind_0 : List UInt8 := dkwX4_writesBehind_0 ++ []
theorem dksX4_writesBehind_0 : cX4_writesBehind.data.toList.drop 0 = dktX4_writesBehind_0 := by decide +kernel
theorem dX4_writesBehind_0 : decode cX4_writesBehind 0 = .ok (.aload_n 0, 1) := dk_42 (dk_at dksX4_writesBehind_0 0 rfl rfl)
theorem dX4_writesBehind_1 : decode cX4_writesBehind 1 = .ok (.iload_n 1, 1) := dk_27 (dk_at dksX4_writesBehind_0 1 rfl rfl)
theorem dX4_writesBehind_2 : decode cX4_writesBehind 2 = .ok (.invokevirtual 193, 3) := dk_182 0 193 (dk_at dksX4_writesBehind_0 2 rfl rfl)
theorem dX4_writesBehind_5 : decode cX4_writesBehind 5 = .ok (.aload_n 0, 1) := dk_42 (dk_at dksX4_writesBehind_0 5 rfl rfl)
theorem dX4_writesBehind_6 : decode cX4_writesBehind 6 = .ok (.iload_n 2, 1) := dk_28 (dk_at dksX4_writesBehind_0 6 rfl rfl)
theorem dX4_writesBehind_7 : decode cX4_writesBehind 7 = .ok (.invokevirtual 196, 3) := dk_182 0 196 (dk_at dksX4_writesBehind_0 7 rfl rfl)
theorem dX4_writesBehind_10 : decode cX4_writesBehind 10 = .ok (.return_, 1) := dk_177 (dk_at dksX4_writesBehind_0 10 rfl rfl)
abbrev cX4_writes : ByteArray := prog_16_method_89_code
def yX4_writes : MethodName := ⟨RX4, "writes", "(I)V"⟩
def dkwX4_writes_0 : List UInt8 := [42, 180, 0, 41, 42, 180, 0, 190, 27, 79, 42, 89, 180, 0, 190, 4, 96, 181, 0, 190, 177]
abbrev dktX4_writes_0 : List UInt8 := dkwX4_writes_0 ++ []
theorem dksX4_writes_0 : cX4_writes.data.toList.drop 0 = dktX4_writes_0 := by decide +kernel
theorem dX4_writes_0 : decode cX4_writes 0 = .ok (.aload_n 0, 1) := dk_42 (dk_at dksX4_writes_0 0 rfl rfl)
theorem dX4_writes_1 : decode cX4_writes 1 = .ok (.getfield 41, 3) := dk_180 0 41 (dk_at dksX4_writes_0 1 rfl rfl)
theorem dX4_writes_4 : decode cX4_writes 4 = .ok (.aload_n 0, 1) := dk_42 (dk_at dksX4_writes_0 4 rfl rfl)
theorem dX4_writes_5 : decode cX4_writes 5 = .ok (.getfield 190, 3) := dk_180 0 190 (dk_at dksX4_writes_0 5 rfl rfl)
theorem dX4_writes_8 : decode cX4_writes 8 = .ok (.iload_n 1, 1) := dk_27 (dk_at dksX4_writes_0 8 rfl rfl)
theorem dX4_writes_9 : decode cX4_writes 9 = .ok (.iastore, 1) := dk_79 (dk_at dksX4_writes_0 9 rfl rfl)
theorem dX4_writes_10 : decode cX4_writes 10 = .ok (.aload_n 0, 1) := dk_42 (dk_at dksX4_writes_0 10 rfl rfl)
theorem dX4_writes_11 : decode cX4_writes 11 = .ok (.dup, 1) := dk_89 (dk_at dksX4_writes_0 11 rfl rfl)
theorem dX4_writes_12 : decode cX4_writes 12 = .ok (.getfield 190, 3) := dk_180 0 190 (dk_at dksX4_writes_0 12 rfl rfl)
theorem dX4_writes_15 : decode cX4_writes 15 = .ok (.iconst 1, 1) := dk_4 (dk_at dksX4_writes_0 15 rfl rfl)
theorem dX4_writes_16 : decode cX4_writes 16 = .ok (.iadd, 1) := dk_96 (dk_at dksX4_writes_0 16 rfl rfl)
theorem dX4_writes_17 : decode cX4_writes 17 = .ok (.putfield 190, 3) := dk_181 0 190 (dk_at dksX4_writes_0 17 rfl rfl)
theorem dX4_writes_20 : decode cX4_writes 20 = .ok (.return_, 1) := dk_177 (dk_at dksX4_writes_0 20 rfl rfl)
abbrev cX4_writesNumber : ByteArray := prog_16_method_90_code
def yX4_writesNumber : MethodName := ⟨RX4, "writesNumber", "(I)V"⟩
def dkwX4_writesNumber_1 : List UInt8 := [16, 48, 27, 28, 108, 16, 10, 112, 96, 182, 0, 193, 28, 16, 10, 108, 61, 167, 255, 234, 177]
abbrev dktX4_writesNumber_1 : List UInt8 := dkwX4_writesNumber_1 ++ []
def dkwX4_writesNumber_0 : List UInt8 := [4, 61, 27, 28, 108, 16, 10, 161, 0, 11, 28, 16, 10, 104, 61, 167, 255, 243, 28, 158, 0, 24, 42]
abbrev dktX4_writesNumber_0 : List UInt8 := dkwX4_writesNumber_0 ++ dktX4_writesNumber_1
theorem dksX4_writesNumber_0 : cX4_writesNumber.data.toList.drop 0 = dktX4_writesNumber_0 := by decide +kernel
theorem dksX4_writesNumber_1 : cX4_writesNumber.data.toList.drop 23 = dktX4_writesNumber_1 := dk_seg dksX4_writesNumber_0 23 rfl rfl
theorem dX4_writesNumber_0 : decode cX4_writesNumber 0 = .ok (.iconst 1, 1) := dk_4 (dk_at dksX4_writesNumber_0 0 rfl rfl)
theorem dX4_writesNumber_1 : decode cX4_writesNumber 1 = .ok (.istore_n 2, 1) := dk_61 (dk_at dksX4_writesNumber_0 1 rfl rfl)
theorem dX4_writesNumber_2 : decode cX4_writesNumber 2 = .ok (.iload_n 1, 1) := dk_27 (dk_at dksX4_writesNumber_0 2 rfl rfl)
theorem dX4_writesNumber_3 : decode cX4_writesNumber 3 = .ok (.iload_n 2, 1) := dk_28 (dk_at dksX4_writesNumber_0 3 rfl rfl)
theorem dX4_writesNumber_4 : decode cX4_writesNumber 4 = .ok (.idiv, 1) := dk_108 (dk_at dksX4_writesNumber_0 4 rfl rfl)
theorem dX4_writesNumber_5 : decode cX4_writesNumber 5 = .ok (.bipush 10, 2) := dk_16 10 (dk_at dksX4_writesNumber_0 5 rfl rfl)
theorem dX4_writesNumber_7 : decode cX4_writesNumber 7 = .ok (.if_icmp .lt 11, 3) := dk_161 0 11 (dk_at dksX4_writesNumber_0 7 rfl rfl)
theorem dX4_writesNumber_10 : decode cX4_writesNumber 10 = .ok (.iload_n 2, 1) := dk_28 (dk_at dksX4_writesNumber_0 10 rfl rfl)
theorem dX4_writesNumber_11 : decode cX4_writesNumber 11 = .ok (.bipush 10, 2) := dk_16 10 (dk_at dksX4_writesNumber_0 11 rfl rfl)
theorem dX4_writesNumber_13 : decode cX4_writesNumber 13 = .ok (.imul, 1) := dk_104 (dk_at dksX4_writesNumber_0 13 rfl rfl)
theorem dX4_writesNumber_14 : decode cX4_writesNumber 14 = .ok (.istore_n 2, 1) := dk_61 (dk_at dksX4_writesNumber_0 14 rfl rfl)
theorem dX4_writesNumber_15 : decode cX4_writesNumber 15 = .ok (.goto (-13), 3) := dk_167 255 243 (dk_at dksX4_writesNumber_0 15 rfl rfl)
theorem dX4_writesNumber_18 : decode cX4_writesNumber 18 = .ok (.iload_n 2, 1) := dk_28 (dk_at dksX4_writesNumber_0 18 rfl rfl)
theorem dX4_writesNumber_19 : decode cX4_writesNumber 19 = .ok (.ifCond .le 24, 3) := dk_158 0 24 (dk_at dksX4_writesNumber_0 19 rfl rfl)
theorem dX4_writesNumber_22 : decode cX4_writesNumber 22 = .ok (.aload_n 0, 1) := dk_42 (dk_at dksX4_writesNumber_0 22 rfl rfl)
theorem dX4_writesNumber_23 : decode cX4_writesNumber 23 = .ok (.bipush 48, 2) := dk_16 48 (dk_at dksX4_writesNumber_1 0 rfl rfl)
theorem dX4_writesNumber_25 : decode cX4_writesNumber 25 = .ok (.iload_n 1, 1) := dk_27 (dk_at dksX4_writesNumber_1 2 rfl rfl)
theorem dX4_writesNumber_26 : decode cX4_writesNumber 26 = .ok (.iload_n 2, 1) := dk_28 (dk_at dksX4_writesNumber_1 3 rfl rfl)
theorem dX4_writesNumber_27 : decode cX4_writesNumber 27 = .ok (.idiv, 1) := dk_108 (dk_at dksX4_writesNumber_1 4 rfl rfl)
theorem dX4_writesNumber_28 : decode cX4_writesNumber 28 = .ok (.bipush 10, 2) := dk_16 10 (dk_at dksX4_writesNumber_1 5 rfl rfl)
theorem dX4_writesNumber_30 : decode cX4_writesNumber 30 = .ok (.irem, 1) := dk_112 (dk_at dksX4_writesNumber_1 7 rfl rfl)
theorem dX4_writesNumber_31 : decode cX4_writesNumber 31 = .ok (.iadd, 1) := dk_96 (dk_at dksX4_writesNumber_1 8 rfl rfl)
theorem dX4_writesNumber_32 : decode cX4_writesNumber 32 = .ok (.invokevirtual 193, 3) := dk_182 0 193 (dk_at dksX4_writesNumber_1 9 rfl rfl)
theorem dX4_writesNumber_35 : decode cX4_writesNumber 35 = .ok (.iload_n 2, 1) := dk_28 (dk_at dksX4_writesNumber_1 12 rfl rfl)
theorem dX4_writesNumber_36 : decode cX4_writesNumber 36 = .ok (.bipush 10, 2) := dk_16 10 (dk_at dksX4_writesNumber_1 13 rfl rfl)
theorem dX4_writesNumber_38 : decode cX4_writesNumber 38 = .ok (.idiv, 1) := dk_108 (dk_at dksX4_writesNumber_1 15 rfl rfl)
theorem dX4_writesNumber_39 : decode cX4_writesNumber 39 = .ok (.istore_n 2, 1) := dk_61 (dk_at dksX4_writesNumber_1 16 rfl rfl)
theorem dX4_writesNumber_40 : decode cX4_writesNumber 40 = .ok (.goto (-22), 3) := dk_167 255 234 (dk_at dksX4_writesNumber_1 17 rfl rfl)
theorem dX4_writesNumber_43 : decode cX4_writesNumber 43 = .ok (.return_, 1) := dk_177 (dk_at dksX4_writesNumber_1 20 rfl rfl)
abbrev cX4_formatHeights : ByteArray := prog_16_method_93_code
def yX4_formatHeights : MethodName := ⟨RX4, "formatHeights", "()I"⟩
def dkwX4_formatHeights_2 : List UInt8 := [42, 42, 27, 182, 0, 111, 182, 0, 196, 132, 1, 1, 167, 255, 209, 42, 180, 0, 190, 172]
abbrev dktX4_formatHeights_2 : List UInt8 := dkwX4_formatHeights_2 ++ []
def dkwX4_formatHeights_1 : List UInt8 := [16, 32, 182, 0, 193, 42, 180, 0, 16, 16, 14, 27, 96, 46, 4, 160, 0, 9, 42, 16, 33, 182, 0, 193]
abbrev dktX4_formatHeights_1 : List UInt8 := dkwX4_formatHeights_1 ++ dktX4_formatHeights_2
def dkwX4_formatHeights_0 : List UInt8 := [42, 3, 181, 0, 53, 42, 3, 181, 0, 190, 3, 60, 27, 16, 12, 162, 0, 47, 27, 158, 0, 9, 42]
abbrev dktX4_formatHeights_0 : List UInt8 := dkwX4_formatHeights_0 ++ dktX4_formatHeights_1
theorem dksX4_formatHeights_0 : cX4_formatHeights.data.toList.drop 0 = dktX4_formatHeights_0 := by decide +kernel
theorem dksX4_formatHeights_1 : cX4_formatHeights.data.toList.drop 23 = dktX4_formatHeights_1 := dk_seg dksX4_formatHeights_0 23 rfl rfl
theorem dksX4_formatHeights_2 : cX4_formatHeights.data.toList.drop 47 = dktX4_formatHeights_2 := dk_seg dksX4_formatHeights_1 24 rfl rfl
theorem dX4_formatHeights_0 : decode cX4_formatHeights 0 = .ok (.aload_n 0, 1) := dk_42 (dk_at dksX4_formatHeights_0 0 rfl rfl)
theorem dX4_formatHeights_1 : decode cX4_formatHeights 1 = .ok (.iconst 0, 1) := dk_3 (dk_at dksX4_formatHeights_0 1 rfl rfl)
theorem dX4_formatHeights_2 : decode cX4_formatHeights 2 = .ok (.putfield 53, 3) := dk_181 0 53 (dk_at dksX4_formatHeights_0 2 rfl rfl)
theorem dX4_formatHeights_5 : decode cX4_formatHeights 5 = .ok (.aload_n 0, 1) := dk_42 (dk_at dksX4_formatHeights_0 5 rfl rfl)
theorem dX4_formatHeights_6 : decode cX4_formatHeights 6 = .ok (.iconst 0, 1) := dk_3 (dk_at dksX4_formatHeights_0 6 rfl rfl)
theorem dX4_formatHeights_7 : decode cX4_formatHeights 7 = .ok (.putfield 190, 3) := dk_181 0 190 (dk_at dksX4_formatHeights_0 7 rfl rfl)
theorem dX4_formatHeights_10 : decode cX4_formatHeights 10 = .ok (.iconst 0, 1) := dk_3 (dk_at dksX4_formatHeights_0 10 rfl rfl)
theorem dX4_formatHeights_11 : decode cX4_formatHeights 11 = .ok (.istore_n 1, 1) := dk_60 (dk_at dksX4_formatHeights_0 11 rfl rfl)
theorem dX4_formatHeights_12 : decode cX4_formatHeights 12 = .ok (.iload_n 1, 1) := dk_27 (dk_at dksX4_formatHeights_0 12 rfl rfl)
theorem dX4_formatHeights_13 : decode cX4_formatHeights 13 = .ok (.bipush 12, 2) := dk_16 12 (dk_at dksX4_formatHeights_0 13 rfl rfl)
theorem dX4_formatHeights_15 : decode cX4_formatHeights 15 = .ok (.if_icmp .ge 47, 3) := dk_162 0 47 (dk_at dksX4_formatHeights_0 15 rfl rfl)
theorem dX4_formatHeights_18 : decode cX4_formatHeights 18 = .ok (.iload_n 1, 1) := dk_27 (dk_at dksX4_formatHeights_0 18 rfl rfl)
theorem dX4_formatHeights_19 : decode cX4_formatHeights 19 = .ok (.ifCond .le 9, 3) := dk_158 0 9 (dk_at dksX4_formatHeights_0 19 rfl rfl)
theorem dX4_formatHeights_22 : decode cX4_formatHeights 22 = .ok (.aload_n 0, 1) := dk_42 (dk_at dksX4_formatHeights_0 22 rfl rfl)
theorem dX4_formatHeights_23 : decode cX4_formatHeights 23 = .ok (.bipush 32, 2) := dk_16 32 (dk_at dksX4_formatHeights_1 0 rfl rfl)
theorem dX4_formatHeights_25 : decode cX4_formatHeights 25 = .ok (.invokevirtual 193, 3) := dk_182 0 193 (dk_at dksX4_formatHeights_1 2 rfl rfl)
theorem dX4_formatHeights_28 : decode cX4_formatHeights 28 = .ok (.aload_n 0, 1) := dk_42 (dk_at dksX4_formatHeights_1 5 rfl rfl)
theorem dX4_formatHeights_29 : decode cX4_formatHeights 29 = .ok (.getfield 16, 3) := dk_180 0 16 (dk_at dksX4_formatHeights_1 6 rfl rfl)
theorem dX4_formatHeights_32 : decode cX4_formatHeights 32 = .ok (.bipush 14, 2) := dk_16 14 (dk_at dksX4_formatHeights_1 9 rfl rfl)
theorem dX4_formatHeights_34 : decode cX4_formatHeights 34 = .ok (.iload_n 1, 1) := dk_27 (dk_at dksX4_formatHeights_1 11 rfl rfl)
theorem dX4_formatHeights_35 : decode cX4_formatHeights 35 = .ok (.iadd, 1) := dk_96 (dk_at dksX4_formatHeights_1 12 rfl rfl)
theorem dX4_formatHeights_36 : decode cX4_formatHeights 36 = .ok (.iaload, 1) := dk_46 (dk_at dksX4_formatHeights_1 13 rfl rfl)
theorem dX4_formatHeights_37 : decode cX4_formatHeights 37 = .ok (.iconst 1, 1) := dk_4 (dk_at dksX4_formatHeights_1 14 rfl rfl)
theorem dX4_formatHeights_38 : decode cX4_formatHeights 38 = .ok (.if_icmp .ne 9, 3) := dk_160 0 9 (dk_at dksX4_formatHeights_1 15 rfl rfl)
theorem dX4_formatHeights_41 : decode cX4_formatHeights 41 = .ok (.aload_n 0, 1) := dk_42 (dk_at dksX4_formatHeights_1 18 rfl rfl)
theorem dX4_formatHeights_42 : decode cX4_formatHeights 42 = .ok (.bipush 33, 2) := dk_16 33 (dk_at dksX4_formatHeights_1 19 rfl rfl)
theorem dX4_formatHeights_44 : decode cX4_formatHeights 44 = .ok (.invokevirtual 193, 3) := dk_182 0 193 (dk_at dksX4_formatHeights_1 21 rfl rfl)
theorem dX4_formatHeights_47 : decode cX4_formatHeights 47 = .ok (.aload_n 0, 1) := dk_42 (dk_at dksX4_formatHeights_2 0 rfl rfl)
theorem dX4_formatHeights_48 : decode cX4_formatHeights 48 = .ok (.aload_n 0, 1) := dk_42 (dk_at dksX4_formatHeights_2 1 rfl rfl)
theorem dX4_formatHeights_49 : decode cX4_formatHeights 49 = .ok (.iload_n 1, 1) := dk_27 (dk_at dksX4_formatHeights_2 2 rfl rfl)
theorem dX4_formatHeights_50 : decode cX4_formatHeights 50 = .ok (.invokevirtual 111, 3) := dk_182 0 111 (dk_at dksX4_formatHeights_2 3 rfl rfl)
theorem dX4_formatHeights_53 : decode cX4_formatHeights 53 = .ok (.invokevirtual 196, 3) := dk_182 0 196 (dk_at dksX4_formatHeights_2 6 rfl rfl)
theorem dX4_formatHeights_56 : decode cX4_formatHeights 56 = .ok (.iinc 1 1, 3) := dk_132 1 1 (dk_at dksX4_formatHeights_2 9 rfl rfl)
theorem dX4_formatHeights_59 : decode cX4_formatHeights 59 = .ok (.goto (-47), 3) := dk_167 255 209 (dk_at dksX4_formatHeights_2 12 rfl rfl)
theorem dX4_formatHeights_62 : decode cX4_formatHeights 62 = .ok (.aload_n 0, 1) := dk_42 (dk_at dksX4_formatHeights_2 15 rfl rfl)
theorem dX4_formatHeights_63 : decode cX4_formatHeights 63 = .ok (.getfield 190, 3) := dk_180 0 190 (dk_at dksX4_formatHeights_2 16 rfl rfl)
theorem dX4_formatHeights_66 : decode cX4_formatHeights 66 = .ok (.ireturn, 1) := dk_172 (dk_at dksX4_formatHeights_2 19 rfl rfl)
abbrev cX4_lineChar : ByteArray := prog_16_method_94_code
def yX4_lineChar : MethodName := ⟨RX4, "lineChar", "(I)C"⟩
def dkwX4_lineChar_1 : List UInt8 := [180, 0, 53, 154, 0, 13, 42, 180, 0, 41, 27, 46, 146, 167, 0, 5, 16, 97, 172]
abbrev dktX4_lineChar_1 : List UInt8 := dkwX4_lineChar_1 ++ []
def dkwX4_lineChar_0 : List UInt8 := [42, 27, 3, 42, 180, 0, 190, 4, 100, 184, 0, 63, 153, 0, 7, 3, 167, 0, 4, 4, 181, 0, 53, 42]
abbrev dktX4_lineChar_0 : List UInt8 := dkwX4_lineChar_0 ++ dktX4_lineChar_1
theorem dksX4_lineChar_0 : cX4_lineChar.data.toList.drop 0 = dktX4_lineChar_0 := by decide +kernel
theorem dksX4_lineChar_1 : cX4_lineChar.data.toList.drop 24 = dktX4_lineChar_1 := dk_seg dksX4_lineChar_0 24 rfl rfl
theorem dX4_lineChar_0 : decode cX4_lineChar 0 = .ok (.aload_n 0, 1) := dk_42 (dk_at dksX4_lineChar_0 0 rfl rfl)
theorem dX4_lineChar_1 : decode cX4_lineChar 1 = .ok (.iload_n 1, 1) := dk_27 (dk_at dksX4_lineChar_0 1 rfl rfl)
theorem dX4_lineChar_2 : decode cX4_lineChar 2 = .ok (.iconst 0, 1) := dk_3 (dk_at dksX4_lineChar_0 2 rfl rfl)
theorem dX4_lineChar_3 : decode cX4_lineChar 3 = .ok (.aload_n 0, 1) := dk_42 (dk_at dksX4_lineChar_0 3 rfl rfl)
theorem dX4_lineChar_4 : decode cX4_lineChar 4 = .ok (.getfield 190, 3) := dk_180 0 190 (dk_at dksX4_lineChar_0 4 rfl rfl)
theorem dX4_lineChar_7 : decode cX4_lineChar 7 = .ok (.iconst 1, 1) := dk_4 (dk_at dksX4_lineChar_0 7 rfl rfl)
theorem dX4_lineChar_8 : decode cX4_lineChar 8 = .ok (.isub, 1) := dk_100 (dk_at dksX4_lineChar_0 8 rfl rfl)
theorem dX4_lineChar_9 : decode cX4_lineChar 9 = .ok (.invokestatic 63, 3) := dk_184 0 63 (dk_at dksX4_lineChar_0 9 rfl rfl)
theorem dX4_lineChar_12 : decode cX4_lineChar 12 = .ok (.ifCond .eq 7, 3) := dk_153 0 7 (dk_at dksX4_lineChar_0 12 rfl rfl)
theorem dX4_lineChar_15 : decode cX4_lineChar 15 = .ok (.iconst 0, 1) := dk_3 (dk_at dksX4_lineChar_0 15 rfl rfl)
theorem dX4_lineChar_16 : decode cX4_lineChar 16 = .ok (.goto 4, 3) := dk_167 0 4 (dk_at dksX4_lineChar_0 16 rfl rfl)
theorem dX4_lineChar_19 : decode cX4_lineChar 19 = .ok (.iconst 1, 1) := dk_4 (dk_at dksX4_lineChar_0 19 rfl rfl)
theorem dX4_lineChar_20 : decode cX4_lineChar 20 = .ok (.putfield 53, 3) := dk_181 0 53 (dk_at dksX4_lineChar_0 20 rfl rfl)
theorem dX4_lineChar_23 : decode cX4_lineChar 23 = .ok (.aload_n 0, 1) := dk_42 (dk_at dksX4_lineChar_0 23 rfl rfl)
theorem dX4_lineChar_24 : decode cX4_lineChar 24 = .ok (.getfield 53, 3) := dk_180 0 53 (dk_at dksX4_lineChar_1 0 rfl rfl)
theorem dX4_lineChar_27 : decode cX4_lineChar 27 = .ok (.ifCond .ne 13, 3) := dk_154 0 13 (dk_at dksX4_lineChar_1 3 rfl rfl)
theorem dX4_lineChar_30 : decode cX4_lineChar 30 = .ok (.aload_n 0, 1) := dk_42 (dk_at dksX4_lineChar_1 6 rfl rfl)
theorem dX4_lineChar_31 : decode cX4_lineChar 31 = .ok (.getfield 41, 3) := dk_180 0 41 (dk_at dksX4_lineChar_1 7 rfl rfl)
theorem dX4_lineChar_34 : decode cX4_lineChar 34 = .ok (.iload_n 1, 1) := dk_27 (dk_at dksX4_lineChar_1 10 rfl rfl)
theorem dX4_lineChar_35 : decode cX4_lineChar 35 = .ok (.iaload, 1) := dk_46 (dk_at dksX4_lineChar_1 11 rfl rfl)
theorem dX4_lineChar_36 : decode cX4_lineChar 36 = .ok (.i2c, 1) := dk_146 (dk_at dksX4_lineChar_1 12 rfl rfl)
theorem dX4_lineChar_37 : decode cX4_lineChar 37 = .ok (.goto 5, 3) := dk_167 0 5 (dk_at dksX4_lineChar_1 13 rfl rfl)
theorem dX4_lineChar_40 : decode cX4_lineChar 40 = .ok (.bipush 97, 2) := dk_16 97 (dk_at dksX4_lineChar_1 16 rfl rfl)
theorem dX4_lineChar_42 : decode cX4_lineChar 42 = .ok (.ireturn, 1) := dk_172 (dk_at dksX4_lineChar_1 18 rfl rfl)
abbrev cX4_append : ByteArray := prog_16_method_95_code
def yX4_append : MethodName := ⟨RX4, "append", "(C)I"⟩
def dkwX4_append_2 : List UInt8 := [42, 180, 0, 203, 27, 79, 42, 89, 180, 0, 203, 4, 96, 181, 0, 203, 42, 180, 0, 203, 172]
abbrev dktX4_append_2 : List UInt8 := dkwX4_append_2 ++ []
def dkwX4_append_1 : List UInt8 := [160, 0, 7, 5, 167, 0, 4, 3, 181, 0, 53, 42, 180, 0, 53, 153, 0, 5, 3, 172, 42, 180, 0, 38]
abbrev dktX4_append_1 : List UInt8 := dkwX4_append_1 ++ dktX4_append_2
def dkwX4_append_0 : List UInt8 := [42, 27, 16, 32, 16, 126, 184, 0, 63, 154, 0, 7, 4, 167, 0, 17, 42, 180, 0, 203, 16, 60]
abbrev dktX4_append_0 : List UInt8 := dkwX4_append_0 ++ dktX4_append_1
theorem dksX4_append_0 : cX4_append.data.toList.drop 0 = dktX4_append_0 := by decide +kernel
theorem dksX4_append_1 : cX4_append.data.toList.drop 22 = dktX4_append_1 := dk_seg dksX4_append_0 22 rfl rfl
theorem dksX4_append_2 : cX4_append.data.toList.drop 46 = dktX4_append_2 := dk_seg dksX4_append_1 24 rfl rfl
theorem dX4_append_0 : decode cX4_append 0 = .ok (.aload_n 0, 1) := dk_42 (dk_at dksX4_append_0 0 rfl rfl)
theorem dX4_append_1 : decode cX4_append 1 = .ok (.iload_n 1, 1) := dk_27 (dk_at dksX4_append_0 1 rfl rfl)
theorem dX4_append_2 : decode cX4_append 2 = .ok (.bipush 32, 2) := dk_16 32 (dk_at dksX4_append_0 2 rfl rfl)
theorem dX4_append_4 : decode cX4_append 4 = .ok (.bipush 126, 2) := dk_16 126 (dk_at dksX4_append_0 4 rfl rfl)
theorem dX4_append_6 : decode cX4_append 6 = .ok (.invokestatic 63, 3) := dk_184 0 63 (dk_at dksX4_append_0 6 rfl rfl)
theorem dX4_append_9 : decode cX4_append 9 = .ok (.ifCond .ne 7, 3) := dk_154 0 7 (dk_at dksX4_append_0 9 rfl rfl)
theorem dX4_append_12 : decode cX4_append 12 = .ok (.iconst 1, 1) := dk_4 (dk_at dksX4_append_0 12 rfl rfl)
theorem dX4_append_13 : decode cX4_append 13 = .ok (.goto 17, 3) := dk_167 0 17 (dk_at dksX4_append_0 13 rfl rfl)
theorem dX4_append_16 : decode cX4_append 16 = .ok (.aload_n 0, 1) := dk_42 (dk_at dksX4_append_0 16 rfl rfl)
theorem dX4_append_17 : decode cX4_append 17 = .ok (.getfield 203, 3) := dk_180 0 203 (dk_at dksX4_append_0 17 rfl rfl)
theorem dX4_append_20 : decode cX4_append 20 = .ok (.bipush 60, 2) := dk_16 60 (dk_at dksX4_append_0 20 rfl rfl)
theorem dX4_append_22 : decode cX4_append 22 = .ok (.if_icmp .ne 7, 3) := dk_160 0 7 (dk_at dksX4_append_1 0 rfl rfl)
theorem dX4_append_25 : decode cX4_append 25 = .ok (.iconst 2, 1) := dk_5 (dk_at dksX4_append_1 3 rfl rfl)
theorem dX4_append_26 : decode cX4_append 26 = .ok (.goto 4, 3) := dk_167 0 4 (dk_at dksX4_append_1 4 rfl rfl)
theorem dX4_append_29 : decode cX4_append 29 = .ok (.iconst 0, 1) := dk_3 (dk_at dksX4_append_1 7 rfl rfl)
theorem dX4_append_30 : decode cX4_append 30 = .ok (.putfield 53, 3) := dk_181 0 53 (dk_at dksX4_append_1 8 rfl rfl)
theorem dX4_append_33 : decode cX4_append 33 = .ok (.aload_n 0, 1) := dk_42 (dk_at dksX4_append_1 11 rfl rfl)
theorem dX4_append_34 : decode cX4_append 34 = .ok (.getfield 53, 3) := dk_180 0 53 (dk_at dksX4_append_1 12 rfl rfl)
theorem dX4_append_37 : decode cX4_append 37 = .ok (.ifCond .eq 5, 3) := dk_153 0 5 (dk_at dksX4_append_1 15 rfl rfl)
theorem dX4_append_40 : decode cX4_append 40 = .ok (.iconst 0, 1) := dk_3 (dk_at dksX4_append_1 18 rfl rfl)
theorem dX4_append_41 : decode cX4_append 41 = .ok (.ireturn, 1) := dk_172 (dk_at dksX4_append_1 19 rfl rfl)
theorem dX4_append_42 : decode cX4_append 42 = .ok (.aload_n 0, 1) := dk_42 (dk_at dksX4_append_1 20 rfl rfl)
theorem dX4_append_43 : decode cX4_append 43 = .ok (.getfield 38, 3) := dk_180 0 38 (dk_at dksX4_append_1 21 rfl rfl)
theorem dX4_append_46 : decode cX4_append 46 = .ok (.aload_n 0, 1) := dk_42 (dk_at dksX4_append_2 0 rfl rfl)
theorem dX4_append_47 : decode cX4_append 47 = .ok (.getfield 203, 3) := dk_180 0 203 (dk_at dksX4_append_2 1 rfl rfl)
theorem dX4_append_50 : decode cX4_append 50 = .ok (.iload_n 1, 1) := dk_27 (dk_at dksX4_append_2 4 rfl rfl)
theorem dX4_append_51 : decode cX4_append 51 = .ok (.iastore, 1) := dk_79 (dk_at dksX4_append_2 5 rfl rfl)
theorem dX4_append_52 : decode cX4_append 52 = .ok (.aload_n 0, 1) := dk_42 (dk_at dksX4_append_2 6 rfl rfl)
theorem dX4_append_53 : decode cX4_append 53 = .ok (.dup, 1) := dk_89 (dk_at dksX4_append_2 7 rfl rfl)
theorem dX4_append_54 : decode cX4_append 54 = .ok (.getfield 203, 3) := dk_180 0 203 (dk_at dksX4_append_2 8 rfl rfl)
theorem dX4_append_57 : decode cX4_append 57 = .ok (.iconst 1, 1) := dk_4 (dk_at dksX4_append_2 11 rfl rfl)
theorem dX4_append_58 : decode cX4_append 58 = .ok (.iadd, 1) := dk_96 (dk_at dksX4_append_2 12 rfl rfl)
theorem dX4_append_59 : decode cX4_append 59 = .ok (.putfield 203, 3) := dk_181 0 203 (dk_at dksX4_append_2 13 rfl rfl)
theorem dX4_append_62 : decode cX4_append 62 = .ok (.aload_n 0, 1) := dk_42 (dk_at dksX4_append_2 16 rfl rfl)
theorem dX4_append_63 : decode cX4_append 63 = .ok (.getfield 203, 3) := dk_180 0 203 (dk_at dksX4_append_2 17 rfl rfl)
theorem dX4_append_66 : decode cX4_append 66 = .ok (.ireturn, 1) := dk_172 (dk_at dksX4_append_2 20 rfl rfl)
abbrev cX4_run : ByteArray := prog_16_method_105_code
def yX4_run : MethodName := ⟨RX4, "run", "()I"⟩
def dkwX4_run_3 : List UInt8 := [181, 0, 13, 42, 5, 181, 0, 53, 42, 27, 182, 0, 125, 172]
abbrev dktX4_run_3 : List UInt8 := dkwX4_run_3 ++ []
def dkwX4_run_2 : List UInt8 := [172, 42, 4, 181, 0, 234, 42, 182, 0, 243, 60, 42, 180, 0, 53, 153, 0, 15, 42, 27, 4, 100]
abbrev dktX4_run_2 : List UInt8 := dkwX4_run_2 ++ dktX4_run_3
def dkwX4_run_1 : List UInt8 := [182, 0, 243, 60, 42, 180, 0, 212, 153, 0, 17, 42, 42, 180, 0, 206, 181, 0, 7, 42, 4, 182, 0, 105]
abbrev dktX4_run_1 : List UInt8 := dkwX4_run_1 ++ dktX4_run_2
def dkwX4_run_0 : List UInt8 := [42, 182, 0, 118, 42, 42, 180, 0, 203, 181, 0, 209, 42, 3, 181, 0, 203, 42, 3, 181, 0, 234, 42]
abbrev dktX4_run_0 : List UInt8 := dkwX4_run_0 ++ dktX4_run_1
theorem dksX4_run_0 : cX4_run.data.toList.drop 0 = dktX4_run_0 := by decide +kernel
theorem dksX4_run_1 : cX4_run.data.toList.drop 23 = dktX4_run_1 := dk_seg dksX4_run_0 23 rfl rfl
theorem dksX4_run_2 : cX4_run.data.toList.drop 47 = dktX4_run_2 := dk_seg dksX4_run_1 24 rfl rfl
theorem dksX4_run_3 : cX4_run.data.toList.drop 69 = dktX4_run_3 := dk_seg dksX4_run_2 22 rfl rfl
theorem dX4_run_0 : decode cX4_run 0 = .ok (.aload_n 0, 1) := dk_42 (dk_at dksX4_run_0 0 rfl rfl)
theorem dX4_run_1 : decode cX4_run 1 = .ok (.invokevirtual 118, 3) := dk_182 0 118 (dk_at dksX4_run_0 1 rfl rfl)
theorem dX4_run_4 : decode cX4_run 4 = .ok (.aload_n 0, 1) := dk_42 (dk_at dksX4_run_0 4 rfl rfl)
theorem dX4_run_5 : decode cX4_run 5 = .ok (.aload_n 0, 1) := dk_42 (dk_at dksX4_run_0 5 rfl rfl)
theorem dX4_run_6 : decode cX4_run 6 = .ok (.getfield 203, 3) := dk_180 0 203 (dk_at dksX4_run_0 6 rfl rfl)
theorem dX4_run_9 : decode cX4_run 9 = .ok (.putfield 209, 3) := dk_181 0 209 (dk_at dksX4_run_0 9 rfl rfl)
theorem dX4_run_12 : decode cX4_run 12 = .ok (.aload_n 0, 1) := dk_42 (dk_at dksX4_run_0 12 rfl rfl)
theorem dX4_run_13 : decode cX4_run 13 = .ok (.iconst 0, 1) := dk_3 (dk_at dksX4_run_0 13 rfl rfl)
theorem dX4_run_14 : decode cX4_run 14 = .ok (.putfield 203, 3) := dk_181 0 203 (dk_at dksX4_run_0 14 rfl rfl)
theorem dX4_run_17 : decode cX4_run 17 = .ok (.aload_n 0, 1) := dk_42 (dk_at dksX4_run_0 17 rfl rfl)
theorem dX4_run_18 : decode cX4_run 18 = .ok (.iconst 0, 1) := dk_3 (dk_at dksX4_run_0 18 rfl rfl)
theorem dX4_run_19 : decode cX4_run 19 = .ok (.putfield 234, 3) := dk_181 0 234 (dk_at dksX4_run_0 19 rfl rfl)
theorem dX4_run_22 : decode cX4_run 22 = .ok (.aload_n 0, 1) := dk_42 (dk_at dksX4_run_0 22 rfl rfl)
theorem dX4_run_23 : decode cX4_run 23 = .ok (.invokevirtual 243, 3) := dk_182 0 243 (dk_at dksX4_run_1 0 rfl rfl)
theorem dX4_run_26 : decode cX4_run 26 = .ok (.istore_n 1, 1) := dk_60 (dk_at dksX4_run_1 3 rfl rfl)
theorem dX4_run_27 : decode cX4_run 27 = .ok (.aload_n 0, 1) := dk_42 (dk_at dksX4_run_1 4 rfl rfl)
theorem dX4_run_28 : decode cX4_run 28 = .ok (.getfield 212, 3) := dk_180 0 212 (dk_at dksX4_run_1 5 rfl rfl)
theorem dX4_run_31 : decode cX4_run 31 = .ok (.ifCond .eq 17, 3) := dk_153 0 17 (dk_at dksX4_run_1 8 rfl rfl)
theorem dX4_run_34 : decode cX4_run 34 = .ok (.aload_n 0, 1) := dk_42 (dk_at dksX4_run_1 11 rfl rfl)
theorem dX4_run_35 : decode cX4_run 35 = .ok (.aload_n 0, 1) := dk_42 (dk_at dksX4_run_1 12 rfl rfl)
theorem dX4_run_36 : decode cX4_run 36 = .ok (.getfield 206, 3) := dk_180 0 206 (dk_at dksX4_run_1 13 rfl rfl)
theorem dX4_run_39 : decode cX4_run 39 = .ok (.putfield 7, 3) := dk_181 0 7 (dk_at dksX4_run_1 16 rfl rfl)
theorem dX4_run_42 : decode cX4_run 42 = .ok (.aload_n 0, 1) := dk_42 (dk_at dksX4_run_1 19 rfl rfl)
theorem dX4_run_43 : decode cX4_run 43 = .ok (.iconst 1, 1) := dk_4 (dk_at dksX4_run_1 20 rfl rfl)
theorem dX4_run_44 : decode cX4_run 44 = .ok (.invokevirtual 105, 3) := dk_182 0 105 (dk_at dksX4_run_1 21 rfl rfl)
theorem dX4_run_47 : decode cX4_run 47 = .ok (.ireturn, 1) := dk_172 (dk_at dksX4_run_2 0 rfl rfl)
theorem dX4_run_48 : decode cX4_run 48 = .ok (.aload_n 0, 1) := dk_42 (dk_at dksX4_run_2 1 rfl rfl)
theorem dX4_run_49 : decode cX4_run 49 = .ok (.iconst 1, 1) := dk_4 (dk_at dksX4_run_2 2 rfl rfl)
theorem dX4_run_50 : decode cX4_run 50 = .ok (.putfield 234, 3) := dk_181 0 234 (dk_at dksX4_run_2 3 rfl rfl)
theorem dX4_run_53 : decode cX4_run 53 = .ok (.aload_n 0, 1) := dk_42 (dk_at dksX4_run_2 6 rfl rfl)
theorem dX4_run_54 : decode cX4_run 54 = .ok (.invokevirtual 243, 3) := dk_182 0 243 (dk_at dksX4_run_2 7 rfl rfl)
theorem dX4_run_57 : decode cX4_run 57 = .ok (.istore_n 1, 1) := dk_60 (dk_at dksX4_run_2 10 rfl rfl)
theorem dX4_run_58 : decode cX4_run 58 = .ok (.aload_n 0, 1) := dk_42 (dk_at dksX4_run_2 11 rfl rfl)
theorem dX4_run_59 : decode cX4_run 59 = .ok (.getfield 53, 3) := dk_180 0 53 (dk_at dksX4_run_2 12 rfl rfl)
theorem dX4_run_62 : decode cX4_run 62 = .ok (.ifCond .eq 15, 3) := dk_153 0 15 (dk_at dksX4_run_2 15 rfl rfl)
theorem dX4_run_65 : decode cX4_run 65 = .ok (.aload_n 0, 1) := dk_42 (dk_at dksX4_run_2 18 rfl rfl)
theorem dX4_run_66 : decode cX4_run 66 = .ok (.iload_n 1, 1) := dk_27 (dk_at dksX4_run_2 19 rfl rfl)
theorem dX4_run_67 : decode cX4_run 67 = .ok (.iconst 1, 1) := dk_4 (dk_at dksX4_run_2 20 rfl rfl)
theorem dX4_run_68 : decode cX4_run 68 = .ok (.isub, 1) := dk_100 (dk_at dksX4_run_2 21 rfl rfl)
theorem dX4_run_69 : decode cX4_run 69 = .ok (.putfield 13, 3) := dk_181 0 13 (dk_at dksX4_run_3 0 rfl rfl)
theorem dX4_run_72 : decode cX4_run 72 = .ok (.aload_n 0, 1) := dk_42 (dk_at dksX4_run_3 3 rfl rfl)
theorem dX4_run_73 : decode cX4_run 73 = .ok (.iconst 2, 1) := dk_5 (dk_at dksX4_run_3 4 rfl rfl)
theorem dX4_run_74 : decode cX4_run 74 = .ok (.putfield 53, 3) := dk_181 0 53 (dk_at dksX4_run_3 5 rfl rfl)
theorem dX4_run_77 : decode cX4_run 77 = .ok (.aload_n 0, 1) := dk_42 (dk_at dksX4_run_3 8 rfl rfl)
theorem dX4_run_78 : decode cX4_run 78 = .ok (.iload_n 1, 1) := dk_27 (dk_at dksX4_run_3 9 rfl rfl)
theorem dX4_run_79 : decode cX4_run 79 = .ok (.invokevirtual 125, 3) := dk_182 0 125 (dk_at dksX4_run_3 10 rfl rfl)
theorem dX4_run_82 : decode cX4_run 82 = .ok (.ireturn, 1) := dk_172 (dk_at dksX4_run_3 13 rfl rfl)
abbrev cX4_commands : ByteArray := prog_16_method_104_code
def yX4_commands : MethodName := ⟨RX4, "commands", "()I"⟩
def dkwX4_commands_2 : List UInt8 := [180, 0, 212, 154, 0, 7, 42, 182, 0, 240, 132, 1, 1, 167, 255, 211, 27, 172]
abbrev dktX4_commands_2 : List UInt8 := dkwX4_commands_2 ++ []
def dkwX4_commands_1 : List UInt8 := [180, 0, 53, 154, 0, 37, 42, 180, 0, 206, 42, 180, 0, 209, 162, 0, 26, 42, 16, 59, 182, 0, 219, 42]
abbrev dktX4_commands_1 : List UInt8 := dkwX4_commands_1 ++ dktX4_commands_2
def dkwX4_commands_0 : List UInt8 := [42, 3, 181, 0, 206, 42, 3, 181, 0, 212, 4, 60, 42, 182, 0, 240, 42, 180, 0, 212, 154, 0, 44, 42]
abbrev dktX4_commands_0 : List UInt8 := dkwX4_commands_0 ++ dktX4_commands_1
theorem dksX4_commands_0 : cX4_commands.data.toList.drop 0 = dktX4_commands_0 := by decide +kernel
theorem dksX4_commands_1 : cX4_commands.data.toList.drop 24 = dktX4_commands_1 := dk_seg dksX4_commands_0 24 rfl rfl
theorem dksX4_commands_2 : cX4_commands.data.toList.drop 48 = dktX4_commands_2 := dk_seg dksX4_commands_1 24 rfl rfl
theorem dX4_commands_0 : decode cX4_commands 0 = .ok (.aload_n 0, 1) := dk_42 (dk_at dksX4_commands_0 0 rfl rfl)
theorem dX4_commands_1 : decode cX4_commands 1 = .ok (.iconst 0, 1) := dk_3 (dk_at dksX4_commands_0 1 rfl rfl)
theorem dX4_commands_2 : decode cX4_commands 2 = .ok (.putfield 206, 3) := dk_181 0 206 (dk_at dksX4_commands_0 2 rfl rfl)
theorem dX4_commands_5 : decode cX4_commands 5 = .ok (.aload_n 0, 1) := dk_42 (dk_at dksX4_commands_0 5 rfl rfl)
theorem dX4_commands_6 : decode cX4_commands 6 = .ok (.iconst 0, 1) := dk_3 (dk_at dksX4_commands_0 6 rfl rfl)
theorem dX4_commands_7 : decode cX4_commands 7 = .ok (.putfield 212, 3) := dk_181 0 212 (dk_at dksX4_commands_0 7 rfl rfl)
theorem dX4_commands_10 : decode cX4_commands 10 = .ok (.iconst 1, 1) := dk_4 (dk_at dksX4_commands_0 10 rfl rfl)
theorem dX4_commands_11 : decode cX4_commands 11 = .ok (.istore_n 1, 1) := dk_60 (dk_at dksX4_commands_0 11 rfl rfl)
theorem dX4_commands_12 : decode cX4_commands 12 = .ok (.aload_n 0, 1) := dk_42 (dk_at dksX4_commands_0 12 rfl rfl)
theorem dX4_commands_13 : decode cX4_commands 13 = .ok (.invokevirtual 240, 3) := dk_182 0 240 (dk_at dksX4_commands_0 13 rfl rfl)
theorem dX4_commands_16 : decode cX4_commands 16 = .ok (.aload_n 0, 1) := dk_42 (dk_at dksX4_commands_0 16 rfl rfl)
theorem dX4_commands_17 : decode cX4_commands 17 = .ok (.getfield 212, 3) := dk_180 0 212 (dk_at dksX4_commands_0 17 rfl rfl)
theorem dX4_commands_20 : decode cX4_commands 20 = .ok (.ifCond .ne 44, 3) := dk_154 0 44 (dk_at dksX4_commands_0 20 rfl rfl)
theorem dX4_commands_23 : decode cX4_commands 23 = .ok (.aload_n 0, 1) := dk_42 (dk_at dksX4_commands_0 23 rfl rfl)
theorem dX4_commands_24 : decode cX4_commands 24 = .ok (.getfield 53, 3) := dk_180 0 53 (dk_at dksX4_commands_1 0 rfl rfl)
theorem dX4_commands_27 : decode cX4_commands 27 = .ok (.ifCond .ne 37, 3) := dk_154 0 37 (dk_at dksX4_commands_1 3 rfl rfl)
theorem dX4_commands_30 : decode cX4_commands 30 = .ok (.aload_n 0, 1) := dk_42 (dk_at dksX4_commands_1 6 rfl rfl)
theorem dX4_commands_31 : decode cX4_commands 31 = .ok (.getfield 206, 3) := dk_180 0 206 (dk_at dksX4_commands_1 7 rfl rfl)
theorem dX4_commands_34 : decode cX4_commands 34 = .ok (.aload_n 0, 1) := dk_42 (dk_at dksX4_commands_1 10 rfl rfl)
theorem dX4_commands_35 : decode cX4_commands 35 = .ok (.getfield 209, 3) := dk_180 0 209 (dk_at dksX4_commands_1 11 rfl rfl)
theorem dX4_commands_38 : decode cX4_commands 38 = .ok (.if_icmp .ge 26, 3) := dk_162 0 26 (dk_at dksX4_commands_1 14 rfl rfl)
theorem dX4_commands_41 : decode cX4_commands 41 = .ok (.aload_n 0, 1) := dk_42 (dk_at dksX4_commands_1 17 rfl rfl)
theorem dX4_commands_42 : decode cX4_commands 42 = .ok (.bipush 59, 2) := dk_16 59 (dk_at dksX4_commands_1 18 rfl rfl)
theorem dX4_commands_44 : decode cX4_commands 44 = .ok (.invokevirtual 219, 3) := dk_182 0 219 (dk_at dksX4_commands_1 20 rfl rfl)
theorem dX4_commands_47 : decode cX4_commands 47 = .ok (.aload_n 0, 1) := dk_42 (dk_at dksX4_commands_1 23 rfl rfl)
theorem dX4_commands_48 : decode cX4_commands 48 = .ok (.getfield 212, 3) := dk_180 0 212 (dk_at dksX4_commands_2 0 rfl rfl)
theorem dX4_commands_51 : decode cX4_commands 51 = .ok (.ifCond .ne 7, 3) := dk_154 0 7 (dk_at dksX4_commands_2 3 rfl rfl)
theorem dX4_commands_54 : decode cX4_commands 54 = .ok (.aload_n 0, 1) := dk_42 (dk_at dksX4_commands_2 6 rfl rfl)
theorem dX4_commands_55 : decode cX4_commands 55 = .ok (.invokevirtual 240, 3) := dk_182 0 240 (dk_at dksX4_commands_2 7 rfl rfl)
theorem dX4_commands_58 : decode cX4_commands 58 = .ok (.iinc 1 1, 3) := dk_132 1 1 (dk_at dksX4_commands_2 10 rfl rfl)
theorem dX4_commands_61 : decode cX4_commands 61 = .ok (.goto (-45), 3) := dk_167 255 211 (dk_at dksX4_commands_2 13 rfl rfl)
theorem dX4_commands_64 : decode cX4_commands 64 = .ok (.iload_n 1, 1) := dk_27 (dk_at dksX4_commands_2 16 rfl rfl)
theorem dX4_commands_65 : decode cX4_commands 65 = .ok (.ireturn, 1) := dk_172 (dk_at dksX4_commands_2 17 rfl rfl)
abbrev cX4_command : ByteArray := prog_16_method_103_code
def yX4_command : MethodName := ⟨RX4, "command", "()V"⟩
def dkwX4_command_4 : List UInt8 := [27, 21, 4, 28, 29, 182, 0, 237, 54, 5, 177]
abbrev dktX4_command_4 : List UInt8 := dkwX4_command_4 ++ []
def dkwX4_command_3 : List UInt8 := [154, 0, 8, 42, 182, 0, 231, 61, 42, 180, 0, 212, 154, 0, 10, 42, 180, 0, 234, 154, 0, 4, 177, 42]
abbrev dktX4_command_3 : List UInt8 := dkwX4_command_3 ++ dktX4_command_4
def dkwX4_command_2 : List UInt8 := [162, 0, 15, 42, 180, 0, 212, 154, 0, 8, 42, 182, 0, 228, 62, 27, 7, 160, 0, 15, 42, 180, 0, 212]
abbrev dktX4_command_2 : List UInt8 := dkwX4_command_2 ++ dktX4_command_3
def dkwX4_command_1 : List UInt8 := [182, 0, 222, 54, 4, 27, 6, 162, 0, 15, 42, 180, 0, 212, 154, 0, 8, 42, 182, 0, 228, 61, 27, 6]
abbrev dktX4_command_1 : List UInt8 := dkwX4_command_1 ++ dktX4_command_2
def dkwX4_command_0 : List UInt8 := [42, 182, 0, 225, 60, 3, 61, 3, 62, 42, 180, 0, 212, 153, 0, 7, 3, 167, 0, 8, 42, 5]
abbrev dktX4_command_0 : List UInt8 := dkwX4_command_0 ++ dktX4_command_1
theorem dksX4_command_0 : cX4_command.data.toList.drop 0 = dktX4_command_0 := by decide +kernel
theorem dksX4_command_1 : cX4_command.data.toList.drop 22 = dktX4_command_1 := dk_seg dksX4_command_0 22 rfl rfl
theorem dksX4_command_2 : cX4_command.data.toList.drop 46 = dktX4_command_2 := dk_seg dksX4_command_1 24 rfl rfl
theorem dksX4_command_3 : cX4_command.data.toList.drop 70 = dktX4_command_3 := dk_seg dksX4_command_2 24 rfl rfl
theorem dksX4_command_4 : cX4_command.data.toList.drop 94 = dktX4_command_4 := dk_seg dksX4_command_3 24 rfl rfl
theorem dX4_command_0 : decode cX4_command 0 = .ok (.aload_n 0, 1) := dk_42 (dk_at dksX4_command_0 0 rfl rfl)
theorem dX4_command_1 : decode cX4_command 1 = .ok (.invokevirtual 225, 3) := dk_182 0 225 (dk_at dksX4_command_0 1 rfl rfl)
theorem dX4_command_4 : decode cX4_command 4 = .ok (.istore_n 1, 1) := dk_60 (dk_at dksX4_command_0 4 rfl rfl)
theorem dX4_command_5 : decode cX4_command 5 = .ok (.iconst 0, 1) := dk_3 (dk_at dksX4_command_0 5 rfl rfl)
theorem dX4_command_6 : decode cX4_command 6 = .ok (.istore_n 2, 1) := dk_61 (dk_at dksX4_command_0 6 rfl rfl)
theorem dX4_command_7 : decode cX4_command 7 = .ok (.iconst 0, 1) := dk_3 (dk_at dksX4_command_0 7 rfl rfl)
theorem dX4_command_8 : decode cX4_command 8 = .ok (.istore_n 3, 1) := dk_62 (dk_at dksX4_command_0 8 rfl rfl)
theorem dX4_command_9 : decode cX4_command 9 = .ok (.aload_n 0, 1) := dk_42 (dk_at dksX4_command_0 9 rfl rfl)
theorem dX4_command_10 : decode cX4_command 10 = .ok (.getfield 212, 3) := dk_180 0 212 (dk_at dksX4_command_0 10 rfl rfl)
theorem dX4_command_13 : decode cX4_command 13 = .ok (.ifCond .eq 7, 3) := dk_153 0 7 (dk_at dksX4_command_0 13 rfl rfl)
theorem dX4_command_16 : decode cX4_command 16 = .ok (.iconst 0, 1) := dk_3 (dk_at dksX4_command_0 16 rfl rfl)
theorem dX4_command_17 : decode cX4_command 17 = .ok (.goto 8, 3) := dk_167 0 8 (dk_at dksX4_command_0 17 rfl rfl)
theorem dX4_command_20 : decode cX4_command 20 = .ok (.aload_n 0, 1) := dk_42 (dk_at dksX4_command_0 20 rfl rfl)
theorem dX4_command_21 : decode cX4_command 21 = .ok (.iconst 2, 1) := dk_5 (dk_at dksX4_command_0 21 rfl rfl)
theorem dX4_command_22 : decode cX4_command 22 = .ok (.invokevirtual 222, 3) := dk_182 0 222 (dk_at dksX4_command_1 0 rfl rfl)
theorem dX4_command_25 : decode cX4_command 25 = .ok (.istore 4, 2) := dk_54 4 (dk_at dksX4_command_1 3 rfl rfl)
theorem dX4_command_27 : decode cX4_command 27 = .ok (.iload_n 1, 1) := dk_27 (dk_at dksX4_command_1 5 rfl rfl)
theorem dX4_command_28 : decode cX4_command 28 = .ok (.iconst 3, 1) := dk_6 (dk_at dksX4_command_1 6 rfl rfl)
theorem dX4_command_29 : decode cX4_command 29 = .ok (.if_icmp .ge 15, 3) := dk_162 0 15 (dk_at dksX4_command_1 7 rfl rfl)
theorem dX4_command_32 : decode cX4_command 32 = .ok (.aload_n 0, 1) := dk_42 (dk_at dksX4_command_1 10 rfl rfl)
theorem dX4_command_33 : decode cX4_command 33 = .ok (.getfield 212, 3) := dk_180 0 212 (dk_at dksX4_command_1 11 rfl rfl)
theorem dX4_command_36 : decode cX4_command 36 = .ok (.ifCond .ne 8, 3) := dk_154 0 8 (dk_at dksX4_command_1 14 rfl rfl)
theorem dX4_command_39 : decode cX4_command 39 = .ok (.aload_n 0, 1) := dk_42 (dk_at dksX4_command_1 17 rfl rfl)
theorem dX4_command_40 : decode cX4_command 40 = .ok (.invokevirtual 228, 3) := dk_182 0 228 (dk_at dksX4_command_1 18 rfl rfl)
theorem dX4_command_43 : decode cX4_command 43 = .ok (.istore_n 2, 1) := dk_61 (dk_at dksX4_command_1 21 rfl rfl)
theorem dX4_command_44 : decode cX4_command 44 = .ok (.iload_n 1, 1) := dk_27 (dk_at dksX4_command_1 22 rfl rfl)
theorem dX4_command_45 : decode cX4_command 45 = .ok (.iconst 3, 1) := dk_6 (dk_at dksX4_command_1 23 rfl rfl)
theorem dX4_command_46 : decode cX4_command 46 = .ok (.if_icmp .ge 15, 3) := dk_162 0 15 (dk_at dksX4_command_2 0 rfl rfl)
theorem dX4_command_49 : decode cX4_command 49 = .ok (.aload_n 0, 1) := dk_42 (dk_at dksX4_command_2 3 rfl rfl)
theorem dX4_command_50 : decode cX4_command 50 = .ok (.getfield 212, 3) := dk_180 0 212 (dk_at dksX4_command_2 4 rfl rfl)
theorem dX4_command_53 : decode cX4_command 53 = .ok (.ifCond .ne 8, 3) := dk_154 0 8 (dk_at dksX4_command_2 7 rfl rfl)
theorem dX4_command_56 : decode cX4_command 56 = .ok (.aload_n 0, 1) := dk_42 (dk_at dksX4_command_2 10 rfl rfl)
theorem dX4_command_57 : decode cX4_command 57 = .ok (.invokevirtual 228, 3) := dk_182 0 228 (dk_at dksX4_command_2 11 rfl rfl)
theorem dX4_command_60 : decode cX4_command 60 = .ok (.istore_n 3, 1) := dk_62 (dk_at dksX4_command_2 14 rfl rfl)
theorem dX4_command_61 : decode cX4_command 61 = .ok (.iload_n 1, 1) := dk_27 (dk_at dksX4_command_2 15 rfl rfl)
theorem dX4_command_62 : decode cX4_command 62 = .ok (.iconst 4, 1) := dk_7 (dk_at dksX4_command_2 16 rfl rfl)
theorem dX4_command_63 : decode cX4_command 63 = .ok (.if_icmp .ne 15, 3) := dk_160 0 15 (dk_at dksX4_command_2 17 rfl rfl)
theorem dX4_command_66 : decode cX4_command 66 = .ok (.aload_n 0, 1) := dk_42 (dk_at dksX4_command_2 20 rfl rfl)
theorem dX4_command_67 : decode cX4_command 67 = .ok (.getfield 212, 3) := dk_180 0 212 (dk_at dksX4_command_2 21 rfl rfl)
theorem dX4_command_70 : decode cX4_command 70 = .ok (.ifCond .ne 8, 3) := dk_154 0 8 (dk_at dksX4_command_3 0 rfl rfl)
theorem dX4_command_73 : decode cX4_command 73 = .ok (.aload_n 0, 1) := dk_42 (dk_at dksX4_command_3 3 rfl rfl)
theorem dX4_command_74 : decode cX4_command 74 = .ok (.invokevirtual 231, 3) := dk_182 0 231 (dk_at dksX4_command_3 4 rfl rfl)
theorem dX4_command_77 : decode cX4_command 77 = .ok (.istore_n 2, 1) := dk_61 (dk_at dksX4_command_3 7 rfl rfl)
theorem dX4_command_78 : decode cX4_command 78 = .ok (.aload_n 0, 1) := dk_42 (dk_at dksX4_command_3 8 rfl rfl)
theorem dX4_command_79 : decode cX4_command 79 = .ok (.getfield 212, 3) := dk_180 0 212 (dk_at dksX4_command_3 9 rfl rfl)
theorem dX4_command_82 : decode cX4_command 82 = .ok (.ifCond .ne 10, 3) := dk_154 0 10 (dk_at dksX4_command_3 12 rfl rfl)
theorem dX4_command_85 : decode cX4_command 85 = .ok (.aload_n 0, 1) := dk_42 (dk_at dksX4_command_3 15 rfl rfl)
theorem dX4_command_86 : decode cX4_command 86 = .ok (.getfield 234, 3) := dk_180 0 234 (dk_at dksX4_command_3 16 rfl rfl)
theorem dX4_command_89 : decode cX4_command 89 = .ok (.ifCond .ne 4, 3) := dk_154 0 4 (dk_at dksX4_command_3 19 rfl rfl)
theorem dX4_command_92 : decode cX4_command 92 = .ok (.return_, 1) := dk_177 (dk_at dksX4_command_3 22 rfl rfl)
theorem dX4_command_93 : decode cX4_command 93 = .ok (.aload_n 0, 1) := dk_42 (dk_at dksX4_command_3 23 rfl rfl)
theorem dX4_command_94 : decode cX4_command 94 = .ok (.iload_n 1, 1) := dk_27 (dk_at dksX4_command_4 0 rfl rfl)
theorem dX4_command_95 : decode cX4_command 95 = .ok (.iload 4, 2) := dk_21 4 (dk_at dksX4_command_4 1 rfl rfl)
theorem dX4_command_97 : decode cX4_command 97 = .ok (.iload_n 2, 1) := dk_28 (dk_at dksX4_command_4 3 rfl rfl)
theorem dX4_command_98 : decode cX4_command 98 = .ok (.iload_n 3, 1) := dk_29 (dk_at dksX4_command_4 4 rfl rfl)
theorem dX4_command_99 : decode cX4_command 99 = .ok (.invokevirtual 237, 3) := dk_182 0 237 (dk_at dksX4_command_4 5 rfl rfl)
theorem dX4_command_102 : decode cX4_command 102 = .ok (.istore 5, 2) := dk_54 5 (dk_at dksX4_command_4 8 rfl rfl)
theorem dX4_command_104 : decode cX4_command 104 = .ok (.return_, 1) := dk_177 (dk_at dksX4_command_4 10 rfl rfl)
abbrev cX4_word : ByteArray := prog_16_method_99_code
def yX4_word : MethodName := ⟨RX4, "word", "()I"⟩
def dkwX4_word_9 : List UInt8 := [167, 0, 4, 28, 61, 132, 4, 1, 167, 255, 207, 167, 255, 62, 28, 172]
abbrev dktX4_word_9 : List UInt8 := dkwX4_word_9 ++ []
def dkwX4_word_8 : List UInt8 := [180, 0, 50, 21, 4, 46, 27, 96, 42, 180, 0, 50, 21, 4, 4, 96, 46, 160, 0, 8, 21, 4]
abbrev dktX4_word_8 : List UInt8 := dkwX4_word_8 ++ dktX4_word_9
def dkwX4_word_7 : List UInt8 := [3, 54, 4, 21, 4, 16, 7, 162, 0, 48, 42, 180, 0, 44, 21, 4, 46, 4, 160, 0, 29, 42]
abbrev dktX4_word_7 : List UInt8 := dkwX4_word_7 ++ dktX4_word_8
def dkwX4_word_6 : List UInt8 := [181, 0, 212, 42, 89, 180, 0, 206, 29, 153, 0, 7, 4, 167, 0, 4, 3, 96, 181, 0, 206, 132, 1, 1]
abbrev dktX4_word_6 : List UInt8 := dkwX4_word_6 ++ dktX4_word_7
def dkwX4_word_5 : List UInt8 := [167, 0, 4, 3, 128, 62, 132, 4, 1, 167, 255, 170, 42, 29, 154, 0, 7, 4, 167, 0, 4, 3]
abbrev dktX4_word_5 : List UInt8 := dkwX4_word_5 ++ dktX4_word_6
def dkwX4_word_4 : List UInt8 := [160, 0, 7, 4, 167, 0, 4, 3, 126, 79, 29, 42, 180, 0, 44, 21, 4, 46, 4, 160, 0, 7, 4]
abbrev dktX4_word_4 : List UInt8 := dkwX4_word_4 ++ dktX4_word_5
def dkwX4_word_3 : List UInt8 := [96, 46, 162, 0, 28, 42, 180, 0, 47, 42, 180, 0, 50, 21, 4, 46, 27, 96, 46, 42, 182, 0, 216]
abbrev dktX4_word_3 : List UInt8 := dkwX4_word_3 ++ dktX4_word_4
def dkwX4_word_2 : List UInt8 := [42, 180, 0, 44, 21, 4, 92, 46, 42, 180, 0, 50, 21, 4, 46, 27, 96, 42, 180, 0, 50, 21, 4, 4]
abbrev dktX4_word_2 : List UInt8 := dkwX4_word_2 ++ dktX4_word_3
def dkwX4_word_1 : List UInt8 := [61, 28, 156, 0, 196, 42, 180, 0, 212, 154, 0, 189, 3, 62, 3, 54, 4, 21, 4, 16, 7, 162, 0, 85]
abbrev dktX4_word_1 : List UInt8 := dkwX4_word_1 ++ dktX4_word_2
def dkwX4_word_0 : List UInt8 := [3, 60, 27, 16, 7, 162, 0, 16, 42, 180, 0, 44, 27, 4, 79, 132, 1, 1, 167, 255, 240, 3, 60, 2]
abbrev dktX4_word_0 : List UInt8 := dkwX4_word_0 ++ dktX4_word_1
theorem dksX4_word_0 : cX4_word.data.toList.drop 0 = dktX4_word_0 := by decide +kernel
theorem dksX4_word_1 : cX4_word.data.toList.drop 24 = dktX4_word_1 := dk_seg dksX4_word_0 24 rfl rfl
theorem dksX4_word_2 : cX4_word.data.toList.drop 48 = dktX4_word_2 := dk_seg dksX4_word_1 24 rfl rfl
theorem dksX4_word_3 : cX4_word.data.toList.drop 72 = dktX4_word_3 := dk_seg dksX4_word_2 24 rfl rfl
theorem dksX4_word_4 : cX4_word.data.toList.drop 95 = dktX4_word_4 := dk_seg dksX4_word_3 23 rfl rfl
theorem dksX4_word_5 : cX4_word.data.toList.drop 118 = dktX4_word_5 := dk_seg dksX4_word_4 23 rfl rfl
theorem dksX4_word_6 : cX4_word.data.toList.drop 140 = dktX4_word_6 := dk_seg dksX4_word_5 22 rfl rfl
theorem dksX4_word_7 : cX4_word.data.toList.drop 164 = dktX4_word_7 := dk_seg dksX4_word_6 24 rfl rfl
theorem dksX4_word_8 : cX4_word.data.toList.drop 186 = dktX4_word_8 := dk_seg dksX4_word_7 22 rfl rfl
theorem dksX4_word_9 : cX4_word.data.toList.drop 208 = dktX4_word_9 := dk_seg dksX4_word_8 22 rfl rfl
theorem dX4_word_0 : decode cX4_word 0 = .ok (.iconst 0, 1) := dk_3 (dk_at dksX4_word_0 0 rfl rfl)
theorem dX4_word_1 : decode cX4_word 1 = .ok (.istore_n 1, 1) := dk_60 (dk_at dksX4_word_0 1 rfl rfl)
theorem dX4_word_2 : decode cX4_word 2 = .ok (.iload_n 1, 1) := dk_27 (dk_at dksX4_word_0 2 rfl rfl)
theorem dX4_word_3 : decode cX4_word 3 = .ok (.bipush 7, 2) := dk_16 7 (dk_at dksX4_word_0 3 rfl rfl)
theorem dX4_word_5 : decode cX4_word 5 = .ok (.if_icmp .ge 16, 3) := dk_162 0 16 (dk_at dksX4_word_0 5 rfl rfl)
theorem dX4_word_8 : decode cX4_word 8 = .ok (.aload_n 0, 1) := dk_42 (dk_at dksX4_word_0 8 rfl rfl)
theorem dX4_word_9 : decode cX4_word 9 = .ok (.getfield 44, 3) := dk_180 0 44 (dk_at dksX4_word_0 9 rfl rfl)
theorem dX4_word_12 : decode cX4_word 12 = .ok (.iload_n 1, 1) := dk_27 (dk_at dksX4_word_0 12 rfl rfl)
theorem dX4_word_13 : decode cX4_word 13 = .ok (.iconst 1, 1) := dk_4 (dk_at dksX4_word_0 13 rfl rfl)
theorem dX4_word_14 : decode cX4_word 14 = .ok (.iastore, 1) := dk_79 (dk_at dksX4_word_0 14 rfl rfl)
theorem dX4_word_15 : decode cX4_word 15 = .ok (.iinc 1 1, 3) := dk_132 1 1 (dk_at dksX4_word_0 15 rfl rfl)
theorem dX4_word_18 : decode cX4_word 18 = .ok (.goto (-16), 3) := dk_167 255 240 (dk_at dksX4_word_0 18 rfl rfl)
theorem dX4_word_21 : decode cX4_word 21 = .ok (.iconst 0, 1) := dk_3 (dk_at dksX4_word_0 21 rfl rfl)
theorem dX4_word_22 : decode cX4_word 22 = .ok (.istore_n 1, 1) := dk_60 (dk_at dksX4_word_0 22 rfl rfl)
theorem dX4_word_23 : decode cX4_word 23 = .ok (.iconst (-1), 1) := dk_2 (dk_at dksX4_word_0 23 rfl rfl)
theorem dX4_word_24 : decode cX4_word 24 = .ok (.istore_n 2, 1) := dk_61 (dk_at dksX4_word_1 0 rfl rfl)
theorem dX4_word_25 : decode cX4_word 25 = .ok (.iload_n 2, 1) := dk_28 (dk_at dksX4_word_1 1 rfl rfl)
theorem dX4_word_26 : decode cX4_word 26 = .ok (.ifCond .ge 196, 3) := dk_156 0 196 (dk_at dksX4_word_1 2 rfl rfl)
theorem dX4_word_29 : decode cX4_word 29 = .ok (.aload_n 0, 1) := dk_42 (dk_at dksX4_word_1 5 rfl rfl)
theorem dX4_word_30 : decode cX4_word 30 = .ok (.getfield 212, 3) := dk_180 0 212 (dk_at dksX4_word_1 6 rfl rfl)
theorem dX4_word_33 : decode cX4_word 33 = .ok (.ifCond .ne 189, 3) := dk_154 0 189 (dk_at dksX4_word_1 9 rfl rfl)
theorem dX4_word_36 : decode cX4_word 36 = .ok (.iconst 0, 1) := dk_3 (dk_at dksX4_word_1 12 rfl rfl)
theorem dX4_word_37 : decode cX4_word 37 = .ok (.istore_n 3, 1) := dk_62 (dk_at dksX4_word_1 13 rfl rfl)
theorem dX4_word_38 : decode cX4_word 38 = .ok (.iconst 0, 1) := dk_3 (dk_at dksX4_word_1 14 rfl rfl)
theorem dX4_word_39 : decode cX4_word 39 = .ok (.istore 4, 2) := dk_54 4 (dk_at dksX4_word_1 15 rfl rfl)
theorem dX4_word_41 : decode cX4_word 41 = .ok (.iload 4, 2) := dk_21 4 (dk_at dksX4_word_1 17 rfl rfl)
theorem dX4_word_43 : decode cX4_word 43 = .ok (.bipush 7, 2) := dk_16 7 (dk_at dksX4_word_1 19 rfl rfl)
theorem dX4_word_45 : decode cX4_word 45 = .ok (.if_icmp .ge 85, 3) := dk_162 0 85 (dk_at dksX4_word_1 21 rfl rfl)
theorem dX4_word_48 : decode cX4_word 48 = .ok (.aload_n 0, 1) := dk_42 (dk_at dksX4_word_2 0 rfl rfl)
theorem dX4_word_49 : decode cX4_word 49 = .ok (.getfield 44, 3) := dk_180 0 44 (dk_at dksX4_word_2 1 rfl rfl)
theorem dX4_word_52 : decode cX4_word 52 = .ok (.iload 4, 2) := dk_21 4 (dk_at dksX4_word_2 4 rfl rfl)
theorem dX4_word_54 : decode cX4_word 54 = .ok (.dup2, 1) := dk_92 (dk_at dksX4_word_2 6 rfl rfl)
theorem dX4_word_55 : decode cX4_word 55 = .ok (.iaload, 1) := dk_46 (dk_at dksX4_word_2 7 rfl rfl)
theorem dX4_word_56 : decode cX4_word 56 = .ok (.aload_n 0, 1) := dk_42 (dk_at dksX4_word_2 8 rfl rfl)
theorem dX4_word_57 : decode cX4_word 57 = .ok (.getfield 50, 3) := dk_180 0 50 (dk_at dksX4_word_2 9 rfl rfl)
theorem dX4_word_60 : decode cX4_word 60 = .ok (.iload 4, 2) := dk_21 4 (dk_at dksX4_word_2 12 rfl rfl)
theorem dX4_word_62 : decode cX4_word 62 = .ok (.iaload, 1) := dk_46 (dk_at dksX4_word_2 14 rfl rfl)
theorem dX4_word_63 : decode cX4_word 63 = .ok (.iload_n 1, 1) := dk_27 (dk_at dksX4_word_2 15 rfl rfl)
theorem dX4_word_64 : decode cX4_word 64 = .ok (.iadd, 1) := dk_96 (dk_at dksX4_word_2 16 rfl rfl)
theorem dX4_word_65 : decode cX4_word 65 = .ok (.aload_n 0, 1) := dk_42 (dk_at dksX4_word_2 17 rfl rfl)
theorem dX4_word_66 : decode cX4_word 66 = .ok (.getfield 50, 3) := dk_180 0 50 (dk_at dksX4_word_2 18 rfl rfl)
theorem dX4_word_69 : decode cX4_word 69 = .ok (.iload 4, 2) := dk_21 4 (dk_at dksX4_word_2 21 rfl rfl)
theorem dX4_word_71 : decode cX4_word 71 = .ok (.iconst 1, 1) := dk_4 (dk_at dksX4_word_2 23 rfl rfl)
theorem dX4_word_72 : decode cX4_word 72 = .ok (.iadd, 1) := dk_96 (dk_at dksX4_word_3 0 rfl rfl)
theorem dX4_word_73 : decode cX4_word 73 = .ok (.iaload, 1) := dk_46 (dk_at dksX4_word_3 1 rfl rfl)
theorem dX4_word_74 : decode cX4_word 74 = .ok (.if_icmp .ge 28, 3) := dk_162 0 28 (dk_at dksX4_word_3 2 rfl rfl)
theorem dX4_word_77 : decode cX4_word 77 = .ok (.aload_n 0, 1) := dk_42 (dk_at dksX4_word_3 5 rfl rfl)
theorem dX4_word_78 : decode cX4_word 78 = .ok (.getfield 47, 3) := dk_180 0 47 (dk_at dksX4_word_3 6 rfl rfl)
theorem dX4_word_81 : decode cX4_word 81 = .ok (.aload_n 0, 1) := dk_42 (dk_at dksX4_word_3 9 rfl rfl)
theorem dX4_word_82 : decode cX4_word 82 = .ok (.getfield 50, 3) := dk_180 0 50 (dk_at dksX4_word_3 10 rfl rfl)
theorem dX4_word_85 : decode cX4_word 85 = .ok (.iload 4, 2) := dk_21 4 (dk_at dksX4_word_3 13 rfl rfl)
theorem dX4_word_87 : decode cX4_word 87 = .ok (.iaload, 1) := dk_46 (dk_at dksX4_word_3 15 rfl rfl)
theorem dX4_word_88 : decode cX4_word 88 = .ok (.iload_n 1, 1) := dk_27 (dk_at dksX4_word_3 16 rfl rfl)
theorem dX4_word_89 : decode cX4_word 89 = .ok (.iadd, 1) := dk_96 (dk_at dksX4_word_3 17 rfl rfl)
theorem dX4_word_90 : decode cX4_word 90 = .ok (.iaload, 1) := dk_46 (dk_at dksX4_word_3 18 rfl rfl)
theorem dX4_word_91 : decode cX4_word 91 = .ok (.aload_n 0, 1) := dk_42 (dk_at dksX4_word_3 19 rfl rfl)
theorem dX4_word_92 : decode cX4_word 92 = .ok (.invokevirtual 216, 3) := dk_182 0 216 (dk_at dksX4_word_3 20 rfl rfl)
theorem dX4_word_95 : decode cX4_word 95 = .ok (.if_icmp .ne 7, 3) := dk_160 0 7 (dk_at dksX4_word_4 0 rfl rfl)
theorem dX4_word_98 : decode cX4_word 98 = .ok (.iconst 1, 1) := dk_4 (dk_at dksX4_word_4 3 rfl rfl)
theorem dX4_word_99 : decode cX4_word 99 = .ok (.goto 4, 3) := dk_167 0 4 (dk_at dksX4_word_4 4 rfl rfl)
theorem dX4_word_102 : decode cX4_word 102 = .ok (.iconst 0, 1) := dk_3 (dk_at dksX4_word_4 7 rfl rfl)
theorem dX4_word_103 : decode cX4_word 103 = .ok (.iand, 1) := dk_126 (dk_at dksX4_word_4 8 rfl rfl)
theorem dX4_word_104 : decode cX4_word 104 = .ok (.iastore, 1) := dk_79 (dk_at dksX4_word_4 9 rfl rfl)
theorem dX4_word_105 : decode cX4_word 105 = .ok (.iload_n 3, 1) := dk_29 (dk_at dksX4_word_4 10 rfl rfl)
theorem dX4_word_106 : decode cX4_word 106 = .ok (.aload_n 0, 1) := dk_42 (dk_at dksX4_word_4 11 rfl rfl)
theorem dX4_word_107 : decode cX4_word 107 = .ok (.getfield 44, 3) := dk_180 0 44 (dk_at dksX4_word_4 12 rfl rfl)
theorem dX4_word_110 : decode cX4_word 110 = .ok (.iload 4, 2) := dk_21 4 (dk_at dksX4_word_4 15 rfl rfl)
theorem dX4_word_112 : decode cX4_word 112 = .ok (.iaload, 1) := dk_46 (dk_at dksX4_word_4 17 rfl rfl)
theorem dX4_word_113 : decode cX4_word 113 = .ok (.iconst 1, 1) := dk_4 (dk_at dksX4_word_4 18 rfl rfl)
theorem dX4_word_114 : decode cX4_word 114 = .ok (.if_icmp .ne 7, 3) := dk_160 0 7 (dk_at dksX4_word_4 19 rfl rfl)
theorem dX4_word_117 : decode cX4_word 117 = .ok (.iconst 1, 1) := dk_4 (dk_at dksX4_word_4 22 rfl rfl)
theorem dX4_word_118 : decode cX4_word 118 = .ok (.goto 4, 3) := dk_167 0 4 (dk_at dksX4_word_5 0 rfl rfl)
theorem dX4_word_121 : decode cX4_word 121 = .ok (.iconst 0, 1) := dk_3 (dk_at dksX4_word_5 3 rfl rfl)
theorem dX4_word_122 : decode cX4_word 122 = .ok (.ior, 1) := dk_128 (dk_at dksX4_word_5 4 rfl rfl)
theorem dX4_word_123 : decode cX4_word 123 = .ok (.istore_n 3, 1) := dk_62 (dk_at dksX4_word_5 5 rfl rfl)
theorem dX4_word_124 : decode cX4_word 124 = .ok (.iinc 4 1, 3) := dk_132 4 1 (dk_at dksX4_word_5 6 rfl rfl)
theorem dX4_word_127 : decode cX4_word 127 = .ok (.goto (-86), 3) := dk_167 255 170 (dk_at dksX4_word_5 9 rfl rfl)
theorem dX4_word_130 : decode cX4_word 130 = .ok (.aload_n 0, 1) := dk_42 (dk_at dksX4_word_5 12 rfl rfl)
theorem dX4_word_131 : decode cX4_word 131 = .ok (.iload_n 3, 1) := dk_29 (dk_at dksX4_word_5 13 rfl rfl)
theorem dX4_word_132 : decode cX4_word 132 = .ok (.ifCond .ne 7, 3) := dk_154 0 7 (dk_at dksX4_word_5 14 rfl rfl)
theorem dX4_word_135 : decode cX4_word 135 = .ok (.iconst 1, 1) := dk_4 (dk_at dksX4_word_5 17 rfl rfl)
theorem dX4_word_136 : decode cX4_word 136 = .ok (.goto 4, 3) := dk_167 0 4 (dk_at dksX4_word_5 18 rfl rfl)
theorem dX4_word_139 : decode cX4_word 139 = .ok (.iconst 0, 1) := dk_3 (dk_at dksX4_word_5 21 rfl rfl)
theorem dX4_word_140 : decode cX4_word 140 = .ok (.putfield 212, 3) := dk_181 0 212 (dk_at dksX4_word_6 0 rfl rfl)
theorem dX4_word_143 : decode cX4_word 143 = .ok (.aload_n 0, 1) := dk_42 (dk_at dksX4_word_6 3 rfl rfl)
theorem dX4_word_144 : decode cX4_word 144 = .ok (.dup, 1) := dk_89 (dk_at dksX4_word_6 4 rfl rfl)
theorem dX4_word_145 : decode cX4_word 145 = .ok (.getfield 206, 3) := dk_180 0 206 (dk_at dksX4_word_6 5 rfl rfl)
theorem dX4_word_148 : decode cX4_word 148 = .ok (.iload_n 3, 1) := dk_29 (dk_at dksX4_word_6 8 rfl rfl)
theorem dX4_word_149 : decode cX4_word 149 = .ok (.ifCond .eq 7, 3) := dk_153 0 7 (dk_at dksX4_word_6 9 rfl rfl)
theorem dX4_word_152 : decode cX4_word 152 = .ok (.iconst 1, 1) := dk_4 (dk_at dksX4_word_6 12 rfl rfl)
theorem dX4_word_153 : decode cX4_word 153 = .ok (.goto 4, 3) := dk_167 0 4 (dk_at dksX4_word_6 13 rfl rfl)
theorem dX4_word_156 : decode cX4_word 156 = .ok (.iconst 0, 1) := dk_3 (dk_at dksX4_word_6 16 rfl rfl)
theorem dX4_word_157 : decode cX4_word 157 = .ok (.iadd, 1) := dk_96 (dk_at dksX4_word_6 17 rfl rfl)
theorem dX4_word_158 : decode cX4_word 158 = .ok (.putfield 206, 3) := dk_181 0 206 (dk_at dksX4_word_6 18 rfl rfl)
theorem dX4_word_161 : decode cX4_word 161 = .ok (.iinc 1 1, 3) := dk_132 1 1 (dk_at dksX4_word_6 21 rfl rfl)
theorem dX4_word_164 : decode cX4_word 164 = .ok (.iconst 0, 1) := dk_3 (dk_at dksX4_word_7 0 rfl rfl)
theorem dX4_word_165 : decode cX4_word 165 = .ok (.istore 4, 2) := dk_54 4 (dk_at dksX4_word_7 1 rfl rfl)
theorem dX4_word_167 : decode cX4_word 167 = .ok (.iload 4, 2) := dk_21 4 (dk_at dksX4_word_7 3 rfl rfl)
theorem dX4_word_169 : decode cX4_word 169 = .ok (.bipush 7, 2) := dk_16 7 (dk_at dksX4_word_7 5 rfl rfl)
theorem dX4_word_171 : decode cX4_word 171 = .ok (.if_icmp .ge 48, 3) := dk_162 0 48 (dk_at dksX4_word_7 7 rfl rfl)
theorem dX4_word_174 : decode cX4_word 174 = .ok (.aload_n 0, 1) := dk_42 (dk_at dksX4_word_7 10 rfl rfl)
theorem dX4_word_175 : decode cX4_word 175 = .ok (.getfield 44, 3) := dk_180 0 44 (dk_at dksX4_word_7 11 rfl rfl)
theorem dX4_word_178 : decode cX4_word 178 = .ok (.iload 4, 2) := dk_21 4 (dk_at dksX4_word_7 14 rfl rfl)
theorem dX4_word_180 : decode cX4_word 180 = .ok (.iaload, 1) := dk_46 (dk_at dksX4_word_7 16 rfl rfl)
theorem dX4_word_181 : decode cX4_word 181 = .ok (.iconst 1, 1) := dk_4 (dk_at dksX4_word_7 17 rfl rfl)
theorem dX4_word_182 : decode cX4_word 182 = .ok (.if_icmp .ne 29, 3) := dk_160 0 29 (dk_at dksX4_word_7 18 rfl rfl)
theorem dX4_word_185 : decode cX4_word 185 = .ok (.aload_n 0, 1) := dk_42 (dk_at dksX4_word_7 21 rfl rfl)
theorem dX4_word_186 : decode cX4_word 186 = .ok (.getfield 50, 3) := dk_180 0 50 (dk_at dksX4_word_8 0 rfl rfl)
theorem dX4_word_189 : decode cX4_word 189 = .ok (.iload 4, 2) := dk_21 4 (dk_at dksX4_word_8 3 rfl rfl)
theorem dX4_word_191 : decode cX4_word 191 = .ok (.iaload, 1) := dk_46 (dk_at dksX4_word_8 5 rfl rfl)
theorem dX4_word_192 : decode cX4_word 192 = .ok (.iload_n 1, 1) := dk_27 (dk_at dksX4_word_8 6 rfl rfl)
theorem dX4_word_193 : decode cX4_word 193 = .ok (.iadd, 1) := dk_96 (dk_at dksX4_word_8 7 rfl rfl)
theorem dX4_word_194 : decode cX4_word 194 = .ok (.aload_n 0, 1) := dk_42 (dk_at dksX4_word_8 8 rfl rfl)
theorem dX4_word_195 : decode cX4_word 195 = .ok (.getfield 50, 3) := dk_180 0 50 (dk_at dksX4_word_8 9 rfl rfl)
theorem dX4_word_198 : decode cX4_word 198 = .ok (.iload 4, 2) := dk_21 4 (dk_at dksX4_word_8 12 rfl rfl)
theorem dX4_word_200 : decode cX4_word 200 = .ok (.iconst 1, 1) := dk_4 (dk_at dksX4_word_8 14 rfl rfl)
theorem dX4_word_201 : decode cX4_word 201 = .ok (.iadd, 1) := dk_96 (dk_at dksX4_word_8 15 rfl rfl)
theorem dX4_word_202 : decode cX4_word 202 = .ok (.iaload, 1) := dk_46 (dk_at dksX4_word_8 16 rfl rfl)
theorem dX4_word_203 : decode cX4_word 203 = .ok (.if_icmp .ne 8, 3) := dk_160 0 8 (dk_at dksX4_word_8 17 rfl rfl)
theorem dX4_word_206 : decode cX4_word 206 = .ok (.iload 4, 2) := dk_21 4 (dk_at dksX4_word_8 20 rfl rfl)
theorem dX4_word_208 : decode cX4_word 208 = .ok (.goto 4, 3) := dk_167 0 4 (dk_at dksX4_word_9 0 rfl rfl)
theorem dX4_word_211 : decode cX4_word 211 = .ok (.iload_n 2, 1) := dk_28 (dk_at dksX4_word_9 3 rfl rfl)
theorem dX4_word_212 : decode cX4_word 212 = .ok (.istore_n 2, 1) := dk_61 (dk_at dksX4_word_9 4 rfl rfl)
theorem dX4_word_213 : decode cX4_word 213 = .ok (.iinc 4 1, 3) := dk_132 4 1 (dk_at dksX4_word_9 5 rfl rfl)
theorem dX4_word_216 : decode cX4_word 216 = .ok (.goto (-49), 3) := dk_167 255 207 (dk_at dksX4_word_9 8 rfl rfl)
theorem dX4_word_219 : decode cX4_word 219 = .ok (.goto (-194), 3) := dk_167 255 62 (dk_at dksX4_word_9 11 rfl rfl)
theorem dX4_word_222 : decode cX4_word 222 = .ok (.iload_n 2, 1) := dk_28 (dk_at dksX4_word_9 14 rfl rfl)
theorem dX4_word_223 : decode cX4_word 223 = .ok (.ireturn, 1) := dk_172 (dk_at dksX4_word_9 15 rfl rfl)
abbrev cX4_sign : ByteArray := prog_16_method_96_code
def yX4_sign : MethodName := ⟨RX4, "sign", "()I"⟩
def dkwX4_sign_1 : List UInt8 := [172]
abbrev dktX4_sign_1 : List UInt8 := dkwX4_sign_1 ++ []
def dkwX4_sign_0 : List UInt8 := [42, 180, 0, 206, 42, 180, 0, 209, 162, 0, 15, 42, 180, 0, 38, 42, 180, 0, 206, 46, 167, 0, 4, 2]
abbrev dktX4_sign_0 : List UInt8 := dkwX4_sign_0 ++ dktX4_sign_1
theorem dksX4_sign_0 : cX4_sign.data.toList.drop 0 = dktX4_sign_0 := by decide +kernel
theorem dksX4_sign_1 : cX4_sign.data.toList.drop 24 = dktX4_sign_1 := dk_seg dksX4_sign_0 24 rfl rfl
theorem dX4_sign_0 : decode cX4_sign 0 = .ok (.aload_n 0, 1) := dk_42 (dk_at dksX4_sign_0 0 rfl rfl)
theorem dX4_sign_1 : decode cX4_sign 1 = .ok (.getfield 206, 3) := dk_180 0 206 (dk_at dksX4_sign_0 1 rfl rfl)
theorem dX4_sign_4 : decode cX4_sign 4 = .ok (.aload_n 0, 1) := dk_42 (dk_at dksX4_sign_0 4 rfl rfl)
theorem dX4_sign_5 : decode cX4_sign 5 = .ok (.getfield 209, 3) := dk_180 0 209 (dk_at dksX4_sign_0 5 rfl rfl)
theorem dX4_sign_8 : decode cX4_sign 8 = .ok (.if_icmp .ge 15, 3) := dk_162 0 15 (dk_at dksX4_sign_0 8 rfl rfl)
theorem dX4_sign_11 : decode cX4_sign 11 = .ok (.aload_n 0, 1) := dk_42 (dk_at dksX4_sign_0 11 rfl rfl)
theorem dX4_sign_12 : decode cX4_sign 12 = .ok (.getfield 38, 3) := dk_180 0 38 (dk_at dksX4_sign_0 12 rfl rfl)
theorem dX4_sign_15 : decode cX4_sign 15 = .ok (.aload_n 0, 1) := dk_42 (dk_at dksX4_sign_0 15 rfl rfl)
theorem dX4_sign_16 : decode cX4_sign 16 = .ok (.getfield 206, 3) := dk_180 0 206 (dk_at dksX4_sign_0 16 rfl rfl)
theorem dX4_sign_19 : decode cX4_sign 19 = .ok (.iaload, 1) := dk_46 (dk_at dksX4_sign_0 19 rfl rfl)
theorem dX4_sign_20 : decode cX4_sign 20 = .ok (.goto 4, 3) := dk_167 0 4 (dk_at dksX4_sign_0 20 rfl rfl)
theorem dX4_sign_23 : decode cX4_sign 23 = .ok (.iconst (-1), 1) := dk_2 (dk_at dksX4_sign_0 23 rfl rfl)
theorem dX4_sign_24 : decode cX4_sign 24 = .ok (.ireturn, 1) := dk_172 (dk_at dksX4_sign_1 0 rfl rfl)
abbrev cX4_digits : ByteArray := prog_16_method_98_code
def yX4_digits : MethodName := ⟨RX4, "digits", "(I)I"⟩
def dkwX4_digits_3 : List UInt8 := [3, 128, 181, 0, 212, 28, 172]
abbrev dktX4_digits_3 : List UInt8 := dkwX4_digits_3 ++ []
def dkwX4_digits_2 : List UInt8 := [4, 96, 181, 0, 206, 132, 3, 1, 167, 255, 204, 42, 89, 180, 0, 212, 29, 154, 0, 7, 4, 167, 0, 4]
abbrev dktX4_digits_2 : List UInt8 := dkwX4_digits_2 ++ dktX4_digits_3
def dkwX4_digits_1 : List UInt8 := [184, 0, 63, 153, 0, 32, 16, 10, 28, 104, 42, 182, 0, 216, 96, 16, 48, 100, 61, 42, 89, 180, 0, 206]
abbrev dktX4_digits_1 : List UInt8 := dkwX4_digits_1 ++ dktX4_digits_2
def dkwX4_digits_0 : List UInt8 := [3, 61, 3, 62, 42, 180, 0, 212, 154, 0, 51, 29, 27, 162, 0, 46, 42, 182, 0, 216, 16, 48, 16, 57]
abbrev dktX4_digits_0 : List UInt8 := dkwX4_digits_0 ++ dktX4_digits_1
theorem dksX4_digits_0 : cX4_digits.data.toList.drop 0 = dktX4_digits_0 := by decide +kernel
theorem dksX4_digits_1 : cX4_digits.data.toList.drop 24 = dktX4_digits_1 := dk_seg dksX4_digits_0 24 rfl rfl
theorem dksX4_digits_2 : cX4_digits.data.toList.drop 48 = dktX4_digits_2 := dk_seg dksX4_digits_1 24 rfl rfl
theorem dksX4_digits_3 : cX4_digits.data.toList.drop 72 = dktX4_digits_3 := dk_seg dksX4_digits_2 24 rfl rfl
theorem dX4_digits_0 : decode cX4_digits 0 = .ok (.iconst 0, 1) := dk_3 (dk_at dksX4_digits_0 0 rfl rfl)
theorem dX4_digits_1 : decode cX4_digits 1 = .ok (.istore_n 2, 1) := dk_61 (dk_at dksX4_digits_0 1 rfl rfl)
theorem dX4_digits_2 : decode cX4_digits 2 = .ok (.iconst 0, 1) := dk_3 (dk_at dksX4_digits_0 2 rfl rfl)
theorem dX4_digits_3 : decode cX4_digits 3 = .ok (.istore_n 3, 1) := dk_62 (dk_at dksX4_digits_0 3 rfl rfl)
theorem dX4_digits_4 : decode cX4_digits 4 = .ok (.aload_n 0, 1) := dk_42 (dk_at dksX4_digits_0 4 rfl rfl)
theorem dX4_digits_5 : decode cX4_digits 5 = .ok (.getfield 212, 3) := dk_180 0 212 (dk_at dksX4_digits_0 5 rfl rfl)
theorem dX4_digits_8 : decode cX4_digits 8 = .ok (.ifCond .ne 51, 3) := dk_154 0 51 (dk_at dksX4_digits_0 8 rfl rfl)
theorem dX4_digits_11 : decode cX4_digits 11 = .ok (.iload_n 3, 1) := dk_29 (dk_at dksX4_digits_0 11 rfl rfl)
theorem dX4_digits_12 : decode cX4_digits 12 = .ok (.iload_n 1, 1) := dk_27 (dk_at dksX4_digits_0 12 rfl rfl)
theorem dX4_digits_13 : decode cX4_digits 13 = .ok (.if_icmp .ge 46, 3) := dk_162 0 46 (dk_at dksX4_digits_0 13 rfl rfl)
theorem dX4_digits_16 : decode cX4_digits 16 = .ok (.aload_n 0, 1) := dk_42 (dk_at dksX4_digits_0 16 rfl rfl)
theorem dX4_digits_17 : decode cX4_digits 17 = .ok (.invokevirtual 216, 3) := dk_182 0 216 (dk_at dksX4_digits_0 17 rfl rfl)
theorem dX4_digits_20 : decode cX4_digits 20 = .ok (.bipush 48, 2) := dk_16 48 (dk_at dksX4_digits_0 20 rfl rfl)
theorem dX4_digits_22 : decode cX4_digits 22 = .ok (.bipush 57, 2) := dk_16 57 (dk_at dksX4_digits_0 22 rfl rfl)
theorem dX4_digits_24 : decode cX4_digits 24 = .ok (.invokestatic 63, 3) := dk_184 0 63 (dk_at dksX4_digits_1 0 rfl rfl)
theorem dX4_digits_27 : decode cX4_digits 27 = .ok (.ifCond .eq 32, 3) := dk_153 0 32 (dk_at dksX4_digits_1 3 rfl rfl)
theorem dX4_digits_30 : decode cX4_digits 30 = .ok (.bipush 10, 2) := dk_16 10 (dk_at dksX4_digits_1 6 rfl rfl)
theorem dX4_digits_32 : decode cX4_digits 32 = .ok (.iload_n 2, 1) := dk_28 (dk_at dksX4_digits_1 8 rfl rfl)
theorem dX4_digits_33 : decode cX4_digits 33 = .ok (.imul, 1) := dk_104 (dk_at dksX4_digits_1 9 rfl rfl)
theorem dX4_digits_34 : decode cX4_digits 34 = .ok (.aload_n 0, 1) := dk_42 (dk_at dksX4_digits_1 10 rfl rfl)
theorem dX4_digits_35 : decode cX4_digits 35 = .ok (.invokevirtual 216, 3) := dk_182 0 216 (dk_at dksX4_digits_1 11 rfl rfl)
theorem dX4_digits_38 : decode cX4_digits 38 = .ok (.iadd, 1) := dk_96 (dk_at dksX4_digits_1 14 rfl rfl)
theorem dX4_digits_39 : decode cX4_digits 39 = .ok (.bipush 48, 2) := dk_16 48 (dk_at dksX4_digits_1 15 rfl rfl)
theorem dX4_digits_41 : decode cX4_digits 41 = .ok (.isub, 1) := dk_100 (dk_at dksX4_digits_1 17 rfl rfl)
theorem dX4_digits_42 : decode cX4_digits 42 = .ok (.istore_n 2, 1) := dk_61 (dk_at dksX4_digits_1 18 rfl rfl)
theorem dX4_digits_43 : decode cX4_digits 43 = .ok (.aload_n 0, 1) := dk_42 (dk_at dksX4_digits_1 19 rfl rfl)
theorem dX4_digits_44 : decode cX4_digits 44 = .ok (.dup, 1) := dk_89 (dk_at dksX4_digits_1 20 rfl rfl)
theorem dX4_digits_45 : decode cX4_digits 45 = .ok (.getfield 206, 3) := dk_180 0 206 (dk_at dksX4_digits_1 21 rfl rfl)
theorem dX4_digits_48 : decode cX4_digits 48 = .ok (.iconst 1, 1) := dk_4 (dk_at dksX4_digits_2 0 rfl rfl)
theorem dX4_digits_49 : decode cX4_digits 49 = .ok (.iadd, 1) := dk_96 (dk_at dksX4_digits_2 1 rfl rfl)
theorem dX4_digits_50 : decode cX4_digits 50 = .ok (.putfield 206, 3) := dk_181 0 206 (dk_at dksX4_digits_2 2 rfl rfl)
theorem dX4_digits_53 : decode cX4_digits 53 = .ok (.iinc 3 1, 3) := dk_132 3 1 (dk_at dksX4_digits_2 5 rfl rfl)
theorem dX4_digits_56 : decode cX4_digits 56 = .ok (.goto (-52), 3) := dk_167 255 204 (dk_at dksX4_digits_2 8 rfl rfl)
theorem dX4_digits_59 : decode cX4_digits 59 = .ok (.aload_n 0, 1) := dk_42 (dk_at dksX4_digits_2 11 rfl rfl)
theorem dX4_digits_60 : decode cX4_digits 60 = .ok (.dup, 1) := dk_89 (dk_at dksX4_digits_2 12 rfl rfl)
theorem dX4_digits_61 : decode cX4_digits 61 = .ok (.getfield 212, 3) := dk_180 0 212 (dk_at dksX4_digits_2 13 rfl rfl)
theorem dX4_digits_64 : decode cX4_digits 64 = .ok (.iload_n 3, 1) := dk_29 (dk_at dksX4_digits_2 16 rfl rfl)
theorem dX4_digits_65 : decode cX4_digits 65 = .ok (.ifCond .ne 7, 3) := dk_154 0 7 (dk_at dksX4_digits_2 17 rfl rfl)
theorem dX4_digits_68 : decode cX4_digits 68 = .ok (.iconst 1, 1) := dk_4 (dk_at dksX4_digits_2 20 rfl rfl)
theorem dX4_digits_69 : decode cX4_digits 69 = .ok (.goto 4, 3) := dk_167 0 4 (dk_at dksX4_digits_2 21 rfl rfl)
theorem dX4_digits_72 : decode cX4_digits 72 = .ok (.iconst 0, 1) := dk_3 (dk_at dksX4_digits_3 0 rfl rfl)
theorem dX4_digits_73 : decode cX4_digits 73 = .ok (.ior, 1) := dk_128 (dk_at dksX4_digits_3 1 rfl rfl)
theorem dX4_digits_74 : decode cX4_digits 74 = .ok (.putfield 212, 3) := dk_181 0 212 (dk_at dksX4_digits_3 2 rfl rfl)
theorem dX4_digits_77 : decode cX4_digits 77 = .ok (.iload_n 2, 1) := dk_28 (dk_at dksX4_digits_3 5 rfl rfl)
theorem dX4_digits_78 : decode cX4_digits 78 = .ok (.ireturn, 1) := dk_172 (dk_at dksX4_digits_3 6 rfl rfl)
abbrev cX4_digitBehind : ByteArray := prog_16_method_101_code
def yX4_digitBehind : MethodName := ⟨RX4, "digitBehind", "()I"⟩
def dkwX4_digitBehind_0 : List UInt8 := [42, 16, 32, 182, 0, 219, 42, 180, 0, 212, 153, 0, 7, 3, 167, 0, 8, 42, 4, 182, 0, 222, 172]
abbrev dktX4_digitBehind_0 : List UInt8 := dkwX4_digitBehind_0 ++ []
theorem dksX4_digitBehind_0 : cX4_digitBehind.data.toList.drop 0 = dktX4_digitBehind_0 := by decide +kernel
theorem dX4_digitBehind_0 : decode cX4_digitBehind 0 = .ok (.aload_n 0, 1) := dk_42 (dk_at dksX4_digitBehind_0 0 rfl rfl)
theorem dX4_digitBehind_1 : decode cX4_digitBehind 1 = .ok (.bipush 32, 2) := dk_16 32 (dk_at dksX4_digitBehind_0 1 rfl rfl)
theorem dX4_digitBehind_3 : decode cX4_digitBehind 3 = .ok (.invokevirtual 219, 3) := dk_182 0 219 (dk_at dksX4_digitBehind_0 3 rfl rfl)
theorem dX4_digitBehind_6 : decode cX4_digitBehind 6 = .ok (.aload_n 0, 1) := dk_42 (dk_at dksX4_digitBehind_0 6 rfl rfl)
theorem dX4_digitBehind_7 : decode cX4_digitBehind 7 = .ok (.getfield 212, 3) := dk_180 0 212 (dk_at dksX4_digitBehind_0 7 rfl rfl)
theorem dX4_digitBehind_10 : decode cX4_digitBehind 10 = .ok (.ifCond .eq 7, 3) := dk_153 0 7 (dk_at dksX4_digitBehind_0 10 rfl rfl)
theorem dX4_digitBehind_13 : decode cX4_digitBehind 13 = .ok (.iconst 0, 1) := dk_3 (dk_at dksX4_digitBehind_0 13 rfl rfl)
theorem dX4_digitBehind_14 : decode cX4_digitBehind 14 = .ok (.goto 8, 3) := dk_167 0 8 (dk_at dksX4_digitBehind_0 14 rfl rfl)
theorem dX4_digitBehind_17 : decode cX4_digitBehind 17 = .ok (.aload_n 0, 1) := dk_42 (dk_at dksX4_digitBehind_0 17 rfl rfl)
theorem dX4_digitBehind_18 : decode cX4_digitBehind 18 = .ok (.iconst 1, 1) := dk_4 (dk_at dksX4_digitBehind_0 18 rfl rfl)
theorem dX4_digitBehind_19 : decode cX4_digitBehind 19 = .ok (.invokevirtual 222, 3) := dk_182 0 222 (dk_at dksX4_digitBehind_0 19 rfl rfl)
theorem dX4_digitBehind_22 : decode cX4_digitBehind 22 = .ok (.ireturn, 1) := dk_172 (dk_at dksX4_digitBehind_0 22 rfl rfl)
abbrev cX4_mark : ByteArray := prog_16_method_97_code
def yX4_mark : MethodName := ⟨RX4, "mark", "(I)V"⟩
def dkwX4_mark_2 : List UInt8 := [177]
abbrev dktX4_mark_2 : List UInt8 := dkwX4_mark_2 ++ []
def dkwX4_mark_1 : List UInt8 := [181, 0, 212, 42, 89, 180, 0, 206, 42, 180, 0, 212, 153, 0, 7, 3, 167, 0, 4, 4, 96, 181, 0, 206]
abbrev dktX4_mark_1 : List UInt8 := dkwX4_mark_1 ++ dktX4_mark_2
def dkwX4_mark_0 : List UInt8 := [42, 180, 0, 212, 153, 0, 4, 177, 42, 42, 182, 0, 216, 27, 159, 0, 7, 4, 167, 0, 4, 3]
abbrev dktX4_mark_0 : List UInt8 := dkwX4_mark_0 ++ dktX4_mark_1
theorem dksX4_mark_0 : cX4_mark.data.toList.drop 0 = dktX4_mark_0 := by decide +kernel
theorem dksX4_mark_1 : cX4_mark.data.toList.drop 22 = dktX4_mark_1 := dk_seg dksX4_mark_0 22 rfl rfl
theorem dksX4_mark_2 : cX4_mark.data.toList.drop 46 = dktX4_mark_2 := dk_seg dksX4_mark_1 24 rfl rfl
theorem dX4_mark_0 : decode cX4_mark 0 = .ok (.aload_n 0, 1) := dk_42 (dk_at dksX4_mark_0 0 rfl rfl)
theorem dX4_mark_1 : decode cX4_mark 1 = .ok (.getfield 212, 3) := dk_180 0 212 (dk_at dksX4_mark_0 1 rfl rfl)
theorem dX4_mark_4 : decode cX4_mark 4 = .ok (.ifCond .eq 4, 3) := dk_153 0 4 (dk_at dksX4_mark_0 4 rfl rfl)
theorem dX4_mark_7 : decode cX4_mark 7 = .ok (.return_, 1) := dk_177 (dk_at dksX4_mark_0 7 rfl rfl)
theorem dX4_mark_8 : decode cX4_mark 8 = .ok (.aload_n 0, 1) := dk_42 (dk_at dksX4_mark_0 8 rfl rfl)
theorem dX4_mark_9 : decode cX4_mark 9 = .ok (.aload_n 0, 1) := dk_42 (dk_at dksX4_mark_0 9 rfl rfl)
theorem dX4_mark_10 : decode cX4_mark 10 = .ok (.invokevirtual 216, 3) := dk_182 0 216 (dk_at dksX4_mark_0 10 rfl rfl)
theorem dX4_mark_13 : decode cX4_mark 13 = .ok (.iload_n 1, 1) := dk_27 (dk_at dksX4_mark_0 13 rfl rfl)
theorem dX4_mark_14 : decode cX4_mark 14 = .ok (.if_icmp .eq 7, 3) := dk_159 0 7 (dk_at dksX4_mark_0 14 rfl rfl)
theorem dX4_mark_17 : decode cX4_mark 17 = .ok (.iconst 1, 1) := dk_4 (dk_at dksX4_mark_0 17 rfl rfl)
theorem dX4_mark_18 : decode cX4_mark 18 = .ok (.goto 4, 3) := dk_167 0 4 (dk_at dksX4_mark_0 18 rfl rfl)
theorem dX4_mark_21 : decode cX4_mark 21 = .ok (.iconst 0, 1) := dk_3 (dk_at dksX4_mark_0 21 rfl rfl)
theorem dX4_mark_22 : decode cX4_mark 22 = .ok (.putfield 212, 3) := dk_181 0 212 (dk_at dksX4_mark_1 0 rfl rfl)
theorem dX4_mark_25 : decode cX4_mark 25 = .ok (.aload_n 0, 1) := dk_42 (dk_at dksX4_mark_1 3 rfl rfl)
theorem dX4_mark_26 : decode cX4_mark 26 = .ok (.dup, 1) := dk_89 (dk_at dksX4_mark_1 4 rfl rfl)
theorem dX4_mark_27 : decode cX4_mark 27 = .ok (.getfield 206, 3) := dk_180 0 206 (dk_at dksX4_mark_1 5 rfl rfl)
theorem dX4_mark_30 : decode cX4_mark 30 = .ok (.aload_n 0, 1) := dk_42 (dk_at dksX4_mark_1 8 rfl rfl)
theorem dX4_mark_31 : decode cX4_mark 31 = .ok (.getfield 212, 3) := dk_180 0 212 (dk_at dksX4_mark_1 9 rfl rfl)
theorem dX4_mark_34 : decode cX4_mark 34 = .ok (.ifCond .eq 7, 3) := dk_153 0 7 (dk_at dksX4_mark_1 12 rfl rfl)
theorem dX4_mark_37 : decode cX4_mark 37 = .ok (.iconst 0, 1) := dk_3 (dk_at dksX4_mark_1 15 rfl rfl)
theorem dX4_mark_38 : decode cX4_mark 38 = .ok (.goto 4, 3) := dk_167 0 4 (dk_at dksX4_mark_1 16 rfl rfl)
theorem dX4_mark_41 : decode cX4_mark 41 = .ok (.iconst 1, 1) := dk_4 (dk_at dksX4_mark_1 19 rfl rfl)
theorem dX4_mark_42 : decode cX4_mark 42 = .ok (.iadd, 1) := dk_96 (dk_at dksX4_mark_1 20 rfl rfl)
theorem dX4_mark_43 : decode cX4_mark 43 = .ok (.putfield 206, 3) := dk_181 0 206 (dk_at dksX4_mark_1 21 rfl rfl)
theorem dX4_mark_46 : decode cX4_mark 46 = .ok (.return_, 1) := dk_177 (dk_at dksX4_mark_2 0 rfl rfl)
abbrev cX4_letterBehind : ByteArray := prog_16_method_102_code
def yX4_letterBehind : MethodName := ⟨RX4, "letterBehind", "()I"⟩
def dkwX4_letterBehind_2 : List UInt8 := [153, 0, 7, 3, 167, 0, 4, 4, 96, 181, 0, 206, 27, 172]
abbrev dktX4_letterBehind_2 : List UInt8 := dkwX4_letterBehind_2 ++ []
def dkwX4_letterBehind_1 : List UInt8 := [184, 0, 137, 156, 0, 7, 4, 167, 0, 4, 3, 181, 0, 212, 42, 89, 180, 0, 206, 42, 180, 0, 212]
abbrev dktX4_letterBehind_1 : List UInt8 := dkwX4_letterBehind_1 ++ dktX4_letterBehind_2
def dkwX4_letterBehind_0 : List UInt8 := [42, 16, 32, 182, 0, 219, 42, 180, 0, 212, 153, 0, 5, 3, 172, 42, 182, 0, 216, 60, 42, 27]
abbrev dktX4_letterBehind_0 : List UInt8 := dkwX4_letterBehind_0 ++ dktX4_letterBehind_1
theorem dksX4_letterBehind_0 : cX4_letterBehind.data.toList.drop 0 = dktX4_letterBehind_0 := by decide +kernel
theorem dksX4_letterBehind_1 : cX4_letterBehind.data.toList.drop 22 = dktX4_letterBehind_1 := dk_seg dksX4_letterBehind_0 22 rfl rfl
theorem dksX4_letterBehind_2 : cX4_letterBehind.data.toList.drop 45 = dktX4_letterBehind_2 := dk_seg dksX4_letterBehind_1 23 rfl rfl
theorem dX4_letterBehind_0 : decode cX4_letterBehind 0 = .ok (.aload_n 0, 1) := dk_42 (dk_at dksX4_letterBehind_0 0 rfl rfl)
theorem dX4_letterBehind_1 : decode cX4_letterBehind 1 = .ok (.bipush 32, 2) := dk_16 32 (dk_at dksX4_letterBehind_0 1 rfl rfl)
theorem dX4_letterBehind_3 : decode cX4_letterBehind 3 = .ok (.invokevirtual 219, 3) := dk_182 0 219 (dk_at dksX4_letterBehind_0 3 rfl rfl)
theorem dX4_letterBehind_6 : decode cX4_letterBehind 6 = .ok (.aload_n 0, 1) := dk_42 (dk_at dksX4_letterBehind_0 6 rfl rfl)
theorem dX4_letterBehind_7 : decode cX4_letterBehind 7 = .ok (.getfield 212, 3) := dk_180 0 212 (dk_at dksX4_letterBehind_0 7 rfl rfl)
theorem dX4_letterBehind_10 : decode cX4_letterBehind 10 = .ok (.ifCond .eq 5, 3) := dk_153 0 5 (dk_at dksX4_letterBehind_0 10 rfl rfl)
theorem dX4_letterBehind_13 : decode cX4_letterBehind 13 = .ok (.iconst 0, 1) := dk_3 (dk_at dksX4_letterBehind_0 13 rfl rfl)
theorem dX4_letterBehind_14 : decode cX4_letterBehind 14 = .ok (.ireturn, 1) := dk_172 (dk_at dksX4_letterBehind_0 14 rfl rfl)
theorem dX4_letterBehind_15 : decode cX4_letterBehind 15 = .ok (.aload_n 0, 1) := dk_42 (dk_at dksX4_letterBehind_0 15 rfl rfl)
theorem dX4_letterBehind_16 : decode cX4_letterBehind 16 = .ok (.invokevirtual 216, 3) := dk_182 0 216 (dk_at dksX4_letterBehind_0 16 rfl rfl)
theorem dX4_letterBehind_19 : decode cX4_letterBehind 19 = .ok (.istore_n 1, 1) := dk_60 (dk_at dksX4_letterBehind_0 19 rfl rfl)
theorem dX4_letterBehind_20 : decode cX4_letterBehind 20 = .ok (.aload_n 0, 1) := dk_42 (dk_at dksX4_letterBehind_0 20 rfl rfl)
theorem dX4_letterBehind_21 : decode cX4_letterBehind 21 = .ok (.iload_n 1, 1) := dk_27 (dk_at dksX4_letterBehind_0 21 rfl rfl)
theorem dX4_letterBehind_22 : decode cX4_letterBehind 22 = .ok (.invokestatic 137, 3) := dk_184 0 137 (dk_at dksX4_letterBehind_1 0 rfl rfl)
theorem dX4_letterBehind_25 : decode cX4_letterBehind 25 = .ok (.ifCond .ge 7, 3) := dk_156 0 7 (dk_at dksX4_letterBehind_1 3 rfl rfl)
theorem dX4_letterBehind_28 : decode cX4_letterBehind 28 = .ok (.iconst 1, 1) := dk_4 (dk_at dksX4_letterBehind_1 6 rfl rfl)
theorem dX4_letterBehind_29 : decode cX4_letterBehind 29 = .ok (.goto 4, 3) := dk_167 0 4 (dk_at dksX4_letterBehind_1 7 rfl rfl)
theorem dX4_letterBehind_32 : decode cX4_letterBehind 32 = .ok (.iconst 0, 1) := dk_3 (dk_at dksX4_letterBehind_1 10 rfl rfl)
theorem dX4_letterBehind_33 : decode cX4_letterBehind 33 = .ok (.putfield 212, 3) := dk_181 0 212 (dk_at dksX4_letterBehind_1 11 rfl rfl)
theorem dX4_letterBehind_36 : decode cX4_letterBehind 36 = .ok (.aload_n 0, 1) := dk_42 (dk_at dksX4_letterBehind_1 14 rfl rfl)
theorem dX4_letterBehind_37 : decode cX4_letterBehind 37 = .ok (.dup, 1) := dk_89 (dk_at dksX4_letterBehind_1 15 rfl rfl)
theorem dX4_letterBehind_38 : decode cX4_letterBehind 38 = .ok (.getfield 206, 3) := dk_180 0 206 (dk_at dksX4_letterBehind_1 16 rfl rfl)
theorem dX4_letterBehind_41 : decode cX4_letterBehind 41 = .ok (.aload_n 0, 1) := dk_42 (dk_at dksX4_letterBehind_1 19 rfl rfl)
theorem dX4_letterBehind_42 : decode cX4_letterBehind 42 = .ok (.getfield 212, 3) := dk_180 0 212 (dk_at dksX4_letterBehind_1 20 rfl rfl)
theorem dX4_letterBehind_45 : decode cX4_letterBehind 45 = .ok (.ifCond .eq 7, 3) := dk_153 0 7 (dk_at dksX4_letterBehind_2 0 rfl rfl)
theorem dX4_letterBehind_48 : decode cX4_letterBehind 48 = .ok (.iconst 0, 1) := dk_3 (dk_at dksX4_letterBehind_2 3 rfl rfl)
theorem dX4_letterBehind_49 : decode cX4_letterBehind 49 = .ok (.goto 4, 3) := dk_167 0 4 (dk_at dksX4_letterBehind_2 4 rfl rfl)
theorem dX4_letterBehind_52 : decode cX4_letterBehind 52 = .ok (.iconst 1, 1) := dk_4 (dk_at dksX4_letterBehind_2 7 rfl rfl)
theorem dX4_letterBehind_53 : decode cX4_letterBehind 53 = .ok (.iadd, 1) := dk_96 (dk_at dksX4_letterBehind_2 8 rfl rfl)
theorem dX4_letterBehind_54 : decode cX4_letterBehind 54 = .ok (.putfield 206, 3) := dk_181 0 206 (dk_at dksX4_letterBehind_2 9 rfl rfl)
theorem dX4_letterBehind_57 : decode cX4_letterBehind 57 = .ok (.iload_n 1, 1) := dk_27 (dk_at dksX4_letterBehind_2 12 rfl rfl)
theorem dX4_letterBehind_58 : decode cX4_letterBehind 58 = .ok (.ireturn, 1) := dk_172 (dk_at dksX4_letterBehind_2 13 rfl rfl)
abbrev cX4_does : ByteArray := prog_16_method_100_code
def yX4_does : MethodName := ⟨RX4, "does", "(IIII)I"⟩
def dkwX4_does_3 : List UInt8 := [28, 4, 182, 0, 150, 172, 42, 28, 3, 182, 0, 150, 172]
abbrev dktX4_does_3 : List UInt8 := dkwX4_does_3 ++ []
def dkwX4_does_2 : List UInt8 := [42, 27, 28, 29, 21, 4, 182, 0, 121, 172, 42, 28, 182, 0, 134, 172, 42, 28, 29, 182, 0, 143, 172, 42]
abbrev dktX4_does_2 : List UInt8 := dkwX4_does_2 ++ dktX4_does_3
def dkwX4_does_1 : List UInt8 := [170, 0, 0, 0, 0, 0, 69, 0, 0, 0, 0, 0, 0, 0, 5, 0, 0, 0, 39, 0, 0, 0, 39, 0, 0, 0, 39, 0, 0, 0, 49, 0, 0, 0, 55, 0, 0, 0, 62]
abbrev dktX4_does_1 : List UInt8 := dkwX4_does_1 ++ dktX4_does_2
def dkwX4_does_0 : List UInt8 := [27]
abbrev dktX4_does_0 : List UInt8 := dkwX4_does_0 ++ dktX4_does_1
theorem dksX4_does_0 : cX4_does.data.toList.drop 0 = dktX4_does_0 := by decide +kernel
theorem dksX4_does_1 : cX4_does.data.toList.drop 1 = dktX4_does_1 := dk_seg dksX4_does_0 1 rfl rfl
theorem dksX4_does_2 : cX4_does.data.toList.drop 40 = dktX4_does_2 := dk_seg dksX4_does_1 39 rfl rfl
theorem dksX4_does_3 : cX4_does.data.toList.drop 64 = dktX4_does_3 := dk_seg dksX4_does_2 24 rfl rfl
theorem dX4_does_0 : decode cX4_does 0 = .ok (.iload_n 1, 1) := dk_27 (dk_at dksX4_does_0 0 rfl rfl)
theorem dX4_does_1 : decode cX4_does 1 = .ok (.tableswitch 69 0 5 #[39, 39, 39, 49, 55, 62], 39) := by decide +kernel
theorem dX4_does_40 : decode cX4_does 40 = .ok (.aload_n 0, 1) := dk_42 (dk_at dksX4_does_2 0 rfl rfl)
theorem dX4_does_41 : decode cX4_does 41 = .ok (.iload_n 1, 1) := dk_27 (dk_at dksX4_does_2 1 rfl rfl)
theorem dX4_does_42 : decode cX4_does 42 = .ok (.iload_n 2, 1) := dk_28 (dk_at dksX4_does_2 2 rfl rfl)
theorem dX4_does_43 : decode cX4_does 43 = .ok (.iload_n 3, 1) := dk_29 (dk_at dksX4_does_2 3 rfl rfl)
theorem dX4_does_44 : decode cX4_does 44 = .ok (.iload 4, 2) := dk_21 4 (dk_at dksX4_does_2 4 rfl rfl)
theorem dX4_does_46 : decode cX4_does 46 = .ok (.invokevirtual 121, 3) := dk_182 0 121 (dk_at dksX4_does_2 6 rfl rfl)
theorem dX4_does_49 : decode cX4_does 49 = .ok (.ireturn, 1) := dk_172 (dk_at dksX4_does_2 9 rfl rfl)
theorem dX4_does_50 : decode cX4_does 50 = .ok (.aload_n 0, 1) := dk_42 (dk_at dksX4_does_2 10 rfl rfl)
theorem dX4_does_51 : decode cX4_does 51 = .ok (.iload_n 2, 1) := dk_28 (dk_at dksX4_does_2 11 rfl rfl)
theorem dX4_does_52 : decode cX4_does 52 = .ok (.invokevirtual 134, 3) := dk_182 0 134 (dk_at dksX4_does_2 12 rfl rfl)
theorem dX4_does_55 : decode cX4_does 55 = .ok (.ireturn, 1) := dk_172 (dk_at dksX4_does_2 15 rfl rfl)
theorem dX4_does_56 : decode cX4_does 56 = .ok (.aload_n 0, 1) := dk_42 (dk_at dksX4_does_2 16 rfl rfl)
theorem dX4_does_57 : decode cX4_does 57 = .ok (.iload_n 2, 1) := dk_28 (dk_at dksX4_does_2 17 rfl rfl)
theorem dX4_does_58 : decode cX4_does 58 = .ok (.iload_n 3, 1) := dk_29 (dk_at dksX4_does_2 18 rfl rfl)
theorem dX4_does_59 : decode cX4_does 59 = .ok (.invokevirtual 143, 3) := dk_182 0 143 (dk_at dksX4_does_2 19 rfl rfl)
theorem dX4_does_62 : decode cX4_does 62 = .ok (.ireturn, 1) := dk_172 (dk_at dksX4_does_2 22 rfl rfl)
theorem dX4_does_63 : decode cX4_does 63 = .ok (.aload_n 0, 1) := dk_42 (dk_at dksX4_does_2 23 rfl rfl)
theorem dX4_does_64 : decode cX4_does 64 = .ok (.iload_n 2, 1) := dk_28 (dk_at dksX4_does_3 0 rfl rfl)
theorem dX4_does_65 : decode cX4_does 65 = .ok (.iconst 1, 1) := dk_4 (dk_at dksX4_does_3 1 rfl rfl)
theorem dX4_does_66 : decode cX4_does 66 = .ok (.invokevirtual 150, 3) := dk_182 0 150 (dk_at dksX4_does_3 2 rfl rfl)
theorem dX4_does_69 : decode cX4_does 69 = .ok (.ireturn, 1) := dk_172 (dk_at dksX4_does_3 5 rfl rfl)
theorem dX4_does_70 : decode cX4_does 70 = .ok (.aload_n 0, 1) := dk_42 (dk_at dksX4_does_3 6 rfl rfl)
theorem dX4_does_71 : decode cX4_does 71 = .ok (.iload_n 2, 1) := dk_28 (dk_at dksX4_does_3 7 rfl rfl)
theorem dX4_does_72 : decode cX4_does 72 = .ok (.iconst 0, 1) := dk_3 (dk_at dksX4_does_3 8 rfl rfl)
theorem dX4_does_73 : decode cX4_does 73 = .ok (.invokevirtual 150, 3) := dk_182 0 150 (dk_at dksX4_does_3 9 rfl rfl)
theorem dX4_does_76 : decode cX4_does 76 = .ok (.ireturn, 1) := dk_172 (dk_at dksX4_does_3 12 rfl rfl)
abbrev cX4_errorPosition : ByteArray := prog_16_method_106_code
def yX4_errorPosition : MethodName := ⟨RX4, "errorPosition", "()I"⟩
def dkwX4_errorPosition_1 : List UInt8 := [180, 0, 7, 167, 0, 4, 3, 172]
abbrev dktX4_errorPosition_1 : List UInt8 := dkwX4_errorPosition_1 ++ []
def dkwX4_errorPosition_0 : List UInt8 := [42, 42, 180, 0, 7, 156, 0, 7, 4, 167, 0, 4, 3, 181, 0, 53, 42, 180, 0, 53, 154, 0, 10, 42]
abbrev dktX4_errorPosition_0 : List UInt8 := dkwX4_errorPosition_0 ++ dktX4_errorPosition_1
theorem dksX4_errorPosition_0 : cX4_errorPosition.data.toList.drop 0 = dktX4_errorPosition_0 := by decide +kernel
theorem dksX4_errorPosition_1 : cX4_errorPosition.data.toList.drop 24 = dktX4_errorPosition_1 := dk_seg dksX4_errorPosition_0 24 rfl rfl
theorem dX4_errorPosition_0 : decode cX4_errorPosition 0 = .ok (.aload_n 0, 1) := dk_42 (dk_at dksX4_errorPosition_0 0 rfl rfl)
theorem dX4_errorPosition_1 : decode cX4_errorPosition 1 = .ok (.aload_n 0, 1) := dk_42 (dk_at dksX4_errorPosition_0 1 rfl rfl)
theorem dX4_errorPosition_2 : decode cX4_errorPosition 2 = .ok (.getfield 7, 3) := dk_180 0 7 (dk_at dksX4_errorPosition_0 2 rfl rfl)
theorem dX4_errorPosition_5 : decode cX4_errorPosition 5 = .ok (.ifCond .ge 7, 3) := dk_156 0 7 (dk_at dksX4_errorPosition_0 5 rfl rfl)
theorem dX4_errorPosition_8 : decode cX4_errorPosition 8 = .ok (.iconst 1, 1) := dk_4 (dk_at dksX4_errorPosition_0 8 rfl rfl)
theorem dX4_errorPosition_9 : decode cX4_errorPosition 9 = .ok (.goto 4, 3) := dk_167 0 4 (dk_at dksX4_errorPosition_0 9 rfl rfl)
theorem dX4_errorPosition_12 : decode cX4_errorPosition 12 = .ok (.iconst 0, 1) := dk_3 (dk_at dksX4_errorPosition_0 12 rfl rfl)
theorem dX4_errorPosition_13 : decode cX4_errorPosition 13 = .ok (.putfield 53, 3) := dk_181 0 53 (dk_at dksX4_errorPosition_0 13 rfl rfl)
theorem dX4_errorPosition_16 : decode cX4_errorPosition 16 = .ok (.aload_n 0, 1) := dk_42 (dk_at dksX4_errorPosition_0 16 rfl rfl)
theorem dX4_errorPosition_17 : decode cX4_errorPosition 17 = .ok (.getfield 53, 3) := dk_180 0 53 (dk_at dksX4_errorPosition_0 17 rfl rfl)
theorem dX4_errorPosition_20 : decode cX4_errorPosition 20 = .ok (.ifCond .ne 10, 3) := dk_154 0 10 (dk_at dksX4_errorPosition_0 20 rfl rfl)
theorem dX4_errorPosition_23 : decode cX4_errorPosition 23 = .ok (.aload_n 0, 1) := dk_42 (dk_at dksX4_errorPosition_0 23 rfl rfl)
theorem dX4_errorPosition_24 : decode cX4_errorPosition 24 = .ok (.getfield 7, 3) := dk_180 0 7 (dk_at dksX4_errorPosition_1 0 rfl rfl)
theorem dX4_errorPosition_27 : decode cX4_errorPosition 27 = .ok (.goto 4, 3) := dk_167 0 4 (dk_at dksX4_errorPosition_1 3 rfl rfl)
theorem dX4_errorPosition_30 : decode cX4_errorPosition 30 = .ok (.iconst 0, 1) := dk_3 (dk_at dksX4_errorPosition_1 6 rfl rfl)
theorem dX4_errorPosition_31 : decode cX4_errorPosition 31 = .ok (.ireturn, 1) := dk_172 (dk_at dksX4_errorPosition_1 7 rfl rfl)
abbrev cX4_failedCommand : ByteArray := prog_16_method_107_code
def yX4_failedCommand : MethodName := ⟨RX4, "failedCommand", "()I"⟩
def dkwX4_failedCommand_1 : List UInt8 := [180, 0, 13, 167, 0, 4, 3, 172]
abbrev dktX4_failedCommand_1 : List UInt8 := dkwX4_failedCommand_1 ++ []
def dkwX4_failedCommand_0 : List UInt8 := [42, 42, 180, 0, 13, 156, 0, 7, 4, 167, 0, 4, 3, 181, 0, 53, 42, 180, 0, 53, 154, 0, 10, 42]
abbrev dktX4_failedCommand_0 : List UInt8 := dkwX4_failedCommand_0 ++ dktX4_failedCommand_1
theorem dksX4_failedCommand_0 : cX4_failedCommand.data.toList.drop 0 = dktX4_failedCommand_0 := by decide +kernel
theorem dksX4_failedCommand_1 : cX4_failedCommand.data.toList.drop 24 = dktX4_failedCommand_1 := dk_seg dksX4_failedCommand_0 24 rfl rfl
theorem dX4_failedCommand_0 : decode cX4_failedCommand 0 = .ok (.aload_n 0, 1) := dk_42 (dk_at dksX4_failedCommand_0 0 rfl rfl)
theorem dX4_failedCommand_1 : decode cX4_failedCommand 1 = .ok (.aload_n 0, 1) := dk_42 (dk_at dksX4_failedCommand_0 1 rfl rfl)
theorem dX4_failedCommand_2 : decode cX4_failedCommand 2 = .ok (.getfield 13, 3) := dk_180 0 13 (dk_at dksX4_failedCommand_0 2 rfl rfl)
theorem dX4_failedCommand_5 : decode cX4_failedCommand 5 = .ok (.ifCond .ge 7, 3) := dk_156 0 7 (dk_at dksX4_failedCommand_0 5 rfl rfl)
theorem dX4_failedCommand_8 : decode cX4_failedCommand 8 = .ok (.iconst 1, 1) := dk_4 (dk_at dksX4_failedCommand_0 8 rfl rfl)
theorem dX4_failedCommand_9 : decode cX4_failedCommand 9 = .ok (.goto 4, 3) := dk_167 0 4 (dk_at dksX4_failedCommand_0 9 rfl rfl)
theorem dX4_failedCommand_12 : decode cX4_failedCommand 12 = .ok (.iconst 0, 1) := dk_3 (dk_at dksX4_failedCommand_0 12 rfl rfl)
theorem dX4_failedCommand_13 : decode cX4_failedCommand 13 = .ok (.putfield 53, 3) := dk_181 0 53 (dk_at dksX4_failedCommand_0 13 rfl rfl)
theorem dX4_failedCommand_16 : decode cX4_failedCommand 16 = .ok (.aload_n 0, 1) := dk_42 (dk_at dksX4_failedCommand_0 16 rfl rfl)
theorem dX4_failedCommand_17 : decode cX4_failedCommand 17 = .ok (.getfield 53, 3) := dk_180 0 53 (dk_at dksX4_failedCommand_0 17 rfl rfl)
theorem dX4_failedCommand_20 : decode cX4_failedCommand 20 = .ok (.ifCond .ne 10, 3) := dk_154 0 10 (dk_at dksX4_failedCommand_0 20 rfl rfl)
theorem dX4_failedCommand_23 : decode cX4_failedCommand 23 = .ok (.aload_n 0, 1) := dk_42 (dk_at dksX4_failedCommand_0 23 rfl rfl)
theorem dX4_failedCommand_24 : decode cX4_failedCommand 24 = .ok (.getfield 13, 3) := dk_180 0 13 (dk_at dksX4_failedCommand_1 0 rfl rfl)
theorem dX4_failedCommand_27 : decode cX4_failedCommand 27 = .ok (.goto 4, 3) := dk_167 0 4 (dk_at dksX4_failedCommand_1 3 rfl rfl)
theorem dX4_failedCommand_30 : decode cX4_failedCommand 30 = .ok (.iconst 0, 1) := dk_3 (dk_at dksX4_failedCommand_1 6 rfl rfl)
theorem dX4_failedCommand_31 : decode cX4_failedCommand 31 = .ok (.ireturn, 1) := dk_172 (dk_at dksX4_failedCommand_1 7 rfl rfl)
abbrev cX4_undoableCount : ByteArray := prog_16_method_108_code
def yX4_undoableCount : MethodName := ⟨RX4, "undoableCount", "()I"⟩
def dkwX4_undoableCount_0 : List UInt8 := [42, 3, 181, 0, 53, 42, 180, 0, 60, 172]
abbrev dktX4_undoableCount_0 : List UInt8 := dkwX4_undoableCount_0 ++ []
theorem dksX4_undoableCount_0 : cX4_undoableCount.data.toList.drop 0 = dktX4_undoableCount_0 := by decide +kernel
theorem dX4_undoableCount_0 : decode cX4_undoableCount 0 = .ok (.aload_n 0, 1) := dk_42 (dk_at dksX4_undoableCount_0 0 rfl rfl)
theorem dX4_undoableCount_1 : decode cX4_undoableCount 1 = .ok (.iconst 0, 1) := dk_3 (dk_at dksX4_undoableCount_0 1 rfl rfl)
theorem dX4_undoableCount_2 : decode cX4_undoableCount 2 = .ok (.putfield 53, 3) := dk_181 0 53 (dk_at dksX4_undoableCount_0 2 rfl rfl)
theorem dX4_undoableCount_5 : decode cX4_undoableCount 5 = .ok (.aload_n 0, 1) := dk_42 (dk_at dksX4_undoableCount_0 5 rfl rfl)
theorem dX4_undoableCount_6 : decode cX4_undoableCount 6 = .ok (.getfield 60, 3) := dk_180 0 60 (dk_at dksX4_undoableCount_0 6 rfl rfl)
theorem dX4_undoableCount_9 : decode cX4_undoableCount 9 = .ok (.ireturn, 1) := dk_172 (dk_at dksX4_undoableCount_0 9 rfl rfl)
abbrev cX4_undo : ByteArray := prog_16_method_109_code
def yX4_undo : MethodName := ⟨RX4, "undo", "()I"⟩
def dkwX4_undo_3 : List UInt8 := [180, 0, 60, 172]
abbrev dktX4_undo_3 : List UInt8 := dkwX4_undo_3 ++ []
def dkwX4_undo_2 : List UInt8 := [27, 42, 180, 0, 29, 42, 180, 0, 60, 17, 0, 170, 104, 27, 96, 46, 79, 132, 1, 1, 167, 255, 225, 42]
abbrev dktX4_undo_2 : List UInt8 := dkwX4_undo_2 ++ dktX4_undo_3
def dkwX4_undo_1 : List UInt8 := [172, 42, 89, 180, 0, 60, 4, 100, 181, 0, 60, 3, 60, 27, 17, 0, 170, 162, 0, 30, 42, 180, 0, 16]
abbrev dktX4_undo_1 : List UInt8 := dkwX4_undo_1 ++ dktX4_undo_2
def dkwX4_undo_0 : List UInt8 := [42, 42, 180, 0, 60, 154, 0, 7, 4, 167, 0, 4, 3, 181, 0, 53, 42, 180, 0, 53, 153, 0, 5, 3]
abbrev dktX4_undo_0 : List UInt8 := dkwX4_undo_0 ++ dktX4_undo_1
theorem dksX4_undo_0 : cX4_undo.data.toList.drop 0 = dktX4_undo_0 := by decide +kernel
theorem dksX4_undo_1 : cX4_undo.data.toList.drop 24 = dktX4_undo_1 := dk_seg dksX4_undo_0 24 rfl rfl
theorem dksX4_undo_2 : cX4_undo.data.toList.drop 48 = dktX4_undo_2 := dk_seg dksX4_undo_1 24 rfl rfl
theorem dksX4_undo_3 : cX4_undo.data.toList.drop 72 = dktX4_undo_3 := dk_seg dksX4_undo_2 24 rfl rfl
theorem dX4_undo_0 : decode cX4_undo 0 = .ok (.aload_n 0, 1) := dk_42 (dk_at dksX4_undo_0 0 rfl rfl)
theorem dX4_undo_1 : decode cX4_undo 1 = .ok (.aload_n 0, 1) := dk_42 (dk_at dksX4_undo_0 1 rfl rfl)
theorem dX4_undo_2 : decode cX4_undo 2 = .ok (.getfield 60, 3) := dk_180 0 60 (dk_at dksX4_undo_0 2 rfl rfl)
theorem dX4_undo_5 : decode cX4_undo 5 = .ok (.ifCond .ne 7, 3) := dk_154 0 7 (dk_at dksX4_undo_0 5 rfl rfl)
theorem dX4_undo_8 : decode cX4_undo 8 = .ok (.iconst 1, 1) := dk_4 (dk_at dksX4_undo_0 8 rfl rfl)
theorem dX4_undo_9 : decode cX4_undo 9 = .ok (.goto 4, 3) := dk_167 0 4 (dk_at dksX4_undo_0 9 rfl rfl)
theorem dX4_undo_12 : decode cX4_undo 12 = .ok (.iconst 0, 1) := dk_3 (dk_at dksX4_undo_0 12 rfl rfl)
theorem dX4_undo_13 : decode cX4_undo 13 = .ok (.putfield 53, 3) := dk_181 0 53 (dk_at dksX4_undo_0 13 rfl rfl)
theorem dX4_undo_16 : decode cX4_undo 16 = .ok (.aload_n 0, 1) := dk_42 (dk_at dksX4_undo_0 16 rfl rfl)
theorem dX4_undo_17 : decode cX4_undo 17 = .ok (.getfield 53, 3) := dk_180 0 53 (dk_at dksX4_undo_0 17 rfl rfl)
theorem dX4_undo_20 : decode cX4_undo 20 = .ok (.ifCond .eq 5, 3) := dk_153 0 5 (dk_at dksX4_undo_0 20 rfl rfl)
theorem dX4_undo_23 : decode cX4_undo 23 = .ok (.iconst 0, 1) := dk_3 (dk_at dksX4_undo_0 23 rfl rfl)
theorem dX4_undo_24 : decode cX4_undo 24 = .ok (.ireturn, 1) := dk_172 (dk_at dksX4_undo_1 0 rfl rfl)
theorem dX4_undo_25 : decode cX4_undo 25 = .ok (.aload_n 0, 1) := dk_42 (dk_at dksX4_undo_1 1 rfl rfl)
theorem dX4_undo_26 : decode cX4_undo 26 = .ok (.dup, 1) := dk_89 (dk_at dksX4_undo_1 2 rfl rfl)
theorem dX4_undo_27 : decode cX4_undo 27 = .ok (.getfield 60, 3) := dk_180 0 60 (dk_at dksX4_undo_1 3 rfl rfl)
theorem dX4_undo_30 : decode cX4_undo 30 = .ok (.iconst 1, 1) := dk_4 (dk_at dksX4_undo_1 6 rfl rfl)
theorem dX4_undo_31 : decode cX4_undo 31 = .ok (.isub, 1) := dk_100 (dk_at dksX4_undo_1 7 rfl rfl)
theorem dX4_undo_32 : decode cX4_undo 32 = .ok (.putfield 60, 3) := dk_181 0 60 (dk_at dksX4_undo_1 8 rfl rfl)
theorem dX4_undo_35 : decode cX4_undo 35 = .ok (.iconst 0, 1) := dk_3 (dk_at dksX4_undo_1 11 rfl rfl)
theorem dX4_undo_36 : decode cX4_undo 36 = .ok (.istore_n 1, 1) := dk_60 (dk_at dksX4_undo_1 12 rfl rfl)
theorem dX4_undo_37 : decode cX4_undo 37 = .ok (.iload_n 1, 1) := dk_27 (dk_at dksX4_undo_1 13 rfl rfl)
theorem dX4_undo_38 : decode cX4_undo 38 = .ok (.sipush 170, 3) := dk_17 0 170 (dk_at dksX4_undo_1 14 rfl rfl)
theorem dX4_undo_41 : decode cX4_undo 41 = .ok (.if_icmp .ge 30, 3) := dk_162 0 30 (dk_at dksX4_undo_1 17 rfl rfl)
theorem dX4_undo_44 : decode cX4_undo 44 = .ok (.aload_n 0, 1) := dk_42 (dk_at dksX4_undo_1 20 rfl rfl)
theorem dX4_undo_45 : decode cX4_undo 45 = .ok (.getfield 16, 3) := dk_180 0 16 (dk_at dksX4_undo_1 21 rfl rfl)
theorem dX4_undo_48 : decode cX4_undo 48 = .ok (.iload_n 1, 1) := dk_27 (dk_at dksX4_undo_2 0 rfl rfl)
theorem dX4_undo_49 : decode cX4_undo 49 = .ok (.aload_n 0, 1) := dk_42 (dk_at dksX4_undo_2 1 rfl rfl)
theorem dX4_undo_50 : decode cX4_undo 50 = .ok (.getfield 29, 3) := dk_180 0 29 (dk_at dksX4_undo_2 2 rfl rfl)
theorem dX4_undo_53 : decode cX4_undo 53 = .ok (.aload_n 0, 1) := dk_42 (dk_at dksX4_undo_2 5 rfl rfl)
theorem dX4_undo_54 : decode cX4_undo 54 = .ok (.getfield 60, 3) := dk_180 0 60 (dk_at dksX4_undo_2 6 rfl rfl)
theorem dX4_undo_57 : decode cX4_undo 57 = .ok (.sipush 170, 3) := dk_17 0 170 (dk_at dksX4_undo_2 9 rfl rfl)
theorem dX4_undo_60 : decode cX4_undo 60 = .ok (.imul, 1) := dk_104 (dk_at dksX4_undo_2 12 rfl rfl)
theorem dX4_undo_61 : decode cX4_undo 61 = .ok (.iload_n 1, 1) := dk_27 (dk_at dksX4_undo_2 13 rfl rfl)
theorem dX4_undo_62 : decode cX4_undo 62 = .ok (.iadd, 1) := dk_96 (dk_at dksX4_undo_2 14 rfl rfl)
theorem dX4_undo_63 : decode cX4_undo 63 = .ok (.iaload, 1) := dk_46 (dk_at dksX4_undo_2 15 rfl rfl)
theorem dX4_undo_64 : decode cX4_undo 64 = .ok (.iastore, 1) := dk_79 (dk_at dksX4_undo_2 16 rfl rfl)
theorem dX4_undo_65 : decode cX4_undo 65 = .ok (.iinc 1 1, 3) := dk_132 1 1 (dk_at dksX4_undo_2 17 rfl rfl)
theorem dX4_undo_68 : decode cX4_undo 68 = .ok (.goto (-31), 3) := dk_167 255 225 (dk_at dksX4_undo_2 20 rfl rfl)
theorem dX4_undo_71 : decode cX4_undo 71 = .ok (.aload_n 0, 1) := dk_42 (dk_at dksX4_undo_2 23 rfl rfl)
theorem dX4_undo_72 : decode cX4_undo 72 = .ok (.getfield 60, 3) := dk_180 0 60 (dk_at dksX4_undo_3 0 rfl rfl)
theorem dX4_undo_75 : decode cX4_undo 75 = .ok (.ireturn, 1) := dk_172 (dk_at dksX4_undo_3 3 rfl rfl)
abbrev cX4_save : ByteArray := prog_16_method_110_code
def yX4_save : MethodName := ⟨RX4, "save", "()I"⟩
def dkwX4_save_1 : List UInt8 := [180, 0, 16, 3, 46, 172]
abbrev dktX4_save_1 : List UInt8 := dkwX4_save_1 ++ []
def dkwX4_save_0 : List UInt8 := [42, 3, 181, 0, 53, 42, 180, 0, 23, 42, 180, 0, 16, 184, 0, 56, 42, 4, 181, 0, 246, 42]
abbrev dktX4_save_0 : List UInt8 := dkwX4_save_0 ++ dktX4_save_1
theorem dksX4_save_0 : cX4_save.data.toList.drop 0 = dktX4_save_0 := by decide +kernel
theorem dksX4_save_1 : cX4_save.data.toList.drop 22 = dktX4_save_1 := dk_seg dksX4_save_0 22 rfl rfl
theorem dX4_save_0 : decode cX4_save 0 = .ok (.aload_n 0, 1) := dk_42 (dk_at dksX4_save_0 0 rfl rfl)
theorem dX4_save_1 : decode cX4_save 1 = .ok (.iconst 0, 1) := dk_3 (dk_at dksX4_save_0 1 rfl rfl)
theorem dX4_save_2 : decode cX4_save 2 = .ok (.putfield 53, 3) := dk_181 0 53 (dk_at dksX4_save_0 2 rfl rfl)
theorem dX4_save_5 : decode cX4_save 5 = .ok (.aload_n 0, 1) := dk_42 (dk_at dksX4_save_0 5 rfl rfl)
theorem dX4_save_6 : decode cX4_save 6 = .ok (.getfield 23, 3) := dk_180 0 23 (dk_at dksX4_save_0 6 rfl rfl)
theorem dX4_save_9 : decode cX4_save 9 = .ok (.aload_n 0, 1) := dk_42 (dk_at dksX4_save_0 9 rfl rfl)
theorem dX4_save_10 : decode cX4_save 10 = .ok (.getfield 16, 3) := dk_180 0 16 (dk_at dksX4_save_0 10 rfl rfl)
theorem dX4_save_13 : decode cX4_save 13 = .ok (.invokestatic 56, 3) := dk_184 0 56 (dk_at dksX4_save_0 13 rfl rfl)
theorem dX4_save_16 : decode cX4_save 16 = .ok (.aload_n 0, 1) := dk_42 (dk_at dksX4_save_0 16 rfl rfl)
theorem dX4_save_17 : decode cX4_save 17 = .ok (.iconst 1, 1) := dk_4 (dk_at dksX4_save_0 17 rfl rfl)
theorem dX4_save_18 : decode cX4_save 18 = .ok (.putfield 246, 3) := dk_181 0 246 (dk_at dksX4_save_0 18 rfl rfl)
theorem dX4_save_21 : decode cX4_save 21 = .ok (.aload_n 0, 1) := dk_42 (dk_at dksX4_save_0 21 rfl rfl)
theorem dX4_save_22 : decode cX4_save 22 = .ok (.getfield 16, 3) := dk_180 0 16 (dk_at dksX4_save_1 0 rfl rfl)
theorem dX4_save_25 : decode cX4_save 25 = .ok (.iconst 0, 1) := dk_3 (dk_at dksX4_save_1 3 rfl rfl)
theorem dX4_save_26 : decode cX4_save 26 = .ok (.iaload, 1) := dk_46 (dk_at dksX4_save_1 4 rfl rfl)
theorem dX4_save_27 : decode cX4_save 27 = .ok (.ireturn, 1) := dk_172 (dk_at dksX4_save_1 5 rfl rfl)
abbrev cX4_restore : ByteArray := prog_16_method_111_code
def yX4_restore : MethodName := ⟨RX4, "restore", "()I"⟩
def dkwX4_restore_1 : List UInt8 := [172, 42, 180, 0, 16, 42, 180, 0, 23, 184, 0, 56, 42, 3, 181, 0, 60, 42, 180, 0, 16, 3, 46, 172]
abbrev dktX4_restore_1 : List UInt8 := dkwX4_restore_1 ++ []
def dkwX4_restore_0 : List UInt8 := [42, 42, 180, 0, 246, 153, 0, 7, 3, 167, 0, 4, 4, 181, 0, 53, 42, 180, 0, 53, 153, 0, 5, 3]
abbrev dktX4_restore_0 : List UInt8 := dkwX4_restore_0 ++ dktX4_restore_1
theorem dksX4_restore_0 : cX4_restore.data.toList.drop 0 = dktX4_restore_0 := by decide +kernel
theorem dksX4_restore_1 : cX4_restore.data.toList.drop 24 = dktX4_restore_1 := dk_seg dksX4_restore_0 24 rfl rfl
theorem dX4_restore_0 : decode cX4_restore 0 = .ok (.aload_n 0, 1) := dk_42 (dk_at dksX4_restore_0 0 rfl rfl)
theorem dX4_restore_1 : decode cX4_restore 1 = .ok (.aload_n 0, 1) := dk_42 (dk_at dksX4_restore_0 1 rfl rfl)
theorem dX4_restore_2 : decode cX4_restore 2 = .ok (.getfield 246, 3) := dk_180 0 246 (dk_at dksX4_restore_0 2 rfl rfl)
theorem dX4_restore_5 : decode cX4_restore 5 = .ok (.ifCond .eq 7, 3) := dk_153 0 7 (dk_at dksX4_restore_0 5 rfl rfl)
theorem dX4_restore_8 : decode cX4_restore 8 = .ok (.iconst 0, 1) := dk_3 (dk_at dksX4_restore_0 8 rfl rfl)
theorem dX4_restore_9 : decode cX4_restore 9 = .ok (.goto 4, 3) := dk_167 0 4 (dk_at dksX4_restore_0 9 rfl rfl)
theorem dX4_restore_12 : decode cX4_restore 12 = .ok (.iconst 1, 1) := dk_4 (dk_at dksX4_restore_0 12 rfl rfl)
theorem dX4_restore_13 : decode cX4_restore 13 = .ok (.putfield 53, 3) := dk_181 0 53 (dk_at dksX4_restore_0 13 rfl rfl)
theorem dX4_restore_16 : decode cX4_restore 16 = .ok (.aload_n 0, 1) := dk_42 (dk_at dksX4_restore_0 16 rfl rfl)
theorem dX4_restore_17 : decode cX4_restore 17 = .ok (.getfield 53, 3) := dk_180 0 53 (dk_at dksX4_restore_0 17 rfl rfl)
theorem dX4_restore_20 : decode cX4_restore 20 = .ok (.ifCond .eq 5, 3) := dk_153 0 5 (dk_at dksX4_restore_0 20 rfl rfl)
theorem dX4_restore_23 : decode cX4_restore 23 = .ok (.iconst 0, 1) := dk_3 (dk_at dksX4_restore_0 23 rfl rfl)
theorem dX4_restore_24 : decode cX4_restore 24 = .ok (.ireturn, 1) := dk_172 (dk_at dksX4_restore_1 0 rfl rfl)
theorem dX4_restore_25 : decode cX4_restore 25 = .ok (.aload_n 0, 1) := dk_42 (dk_at dksX4_restore_1 1 rfl rfl)
theorem dX4_restore_26 : decode cX4_restore 26 = .ok (.getfield 16, 3) := dk_180 0 16 (dk_at dksX4_restore_1 2 rfl rfl)
theorem dX4_restore_29 : decode cX4_restore 29 = .ok (.aload_n 0, 1) := dk_42 (dk_at dksX4_restore_1 5 rfl rfl)
theorem dX4_restore_30 : decode cX4_restore 30 = .ok (.getfield 23, 3) := dk_180 0 23 (dk_at dksX4_restore_1 6 rfl rfl)
theorem dX4_restore_33 : decode cX4_restore 33 = .ok (.invokestatic 56, 3) := dk_184 0 56 (dk_at dksX4_restore_1 9 rfl rfl)
theorem dX4_restore_36 : decode cX4_restore 36 = .ok (.aload_n 0, 1) := dk_42 (dk_at dksX4_restore_1 12 rfl rfl)
theorem dX4_restore_37 : decode cX4_restore 37 = .ok (.iconst 0, 1) := dk_3 (dk_at dksX4_restore_1 13 rfl rfl)
theorem dX4_restore_38 : decode cX4_restore 38 = .ok (.putfield 60, 3) := dk_181 0 60 (dk_at dksX4_restore_1 14 rfl rfl)
theorem dX4_restore_41 : decode cX4_restore 41 = .ok (.aload_n 0, 1) := dk_42 (dk_at dksX4_restore_1 17 rfl rfl)
theorem dX4_restore_42 : decode cX4_restore 42 = .ok (.getfield 16, 3) := dk_180 0 16 (dk_at dksX4_restore_1 18 rfl rfl)
theorem dX4_restore_45 : decode cX4_restore 45 = .ok (.iconst 0, 1) := dk_3 (dk_at dksX4_restore_1 21 rfl rfl)
theorem dX4_restore_46 : decode cX4_restore 46 = .ok (.iaload, 1) := dk_46 (dk_at dksX4_restore_1 22 rfl rfl)
theorem dX4_restore_47 : decode cX4_restore 47 = .ok (.ireturn, 1) := dk_172 (dk_at dksX4_restore_1 23 rfl rfl)
theorem q100 : (Jvm.Cond.initialized "FortPlannerModel") ∈ lw_all := lw_g (lw_at lw_m1 13 rfl) rfl
theorem q848 : (Jvm.Cond.selects "FortPlannerModel" ({ cls := "java/lang/Object", name := "getClass", desc := "()Ljava/lang/Class;" } : Jvm.MethodName) ({ cls := "java/lang/Object", name := "getClass", desc := "()Ljava/lang/Class;" } : Jvm.MethodName)) ∈ lw_all := lw_g (lw_at lw_m4 41 rfl) rfl
theorem q894 : (Jvm.Cond.selects "FortPlannerModel" ({ cls := "java/lang/Object", name := "equals", desc := "(Ljava/lang/Object;)Z" } : Jvm.MethodName) ({ cls := "java/lang/Object", name := "equals", desc := "(Ljava/lang/Object;)Z" } : Jvm.MethodName)) ∈ lw_all := lw_g (lw_at lw_m4 87 rfl) rfl
theorem q2004 : (Jvm.Cond.instantiable "FortPlannerModel" (23 : Nat)) ∈ lw_all := lw_g (lw_at lw_m8 237 rfl) rfl
theorem q2006 : (Jvm.Cond.instanceMethod ({ cls := "FortPlannerModel", name := "<init>", desc := "()V" } : Jvm.MethodName)) ∈ lw_all := lw_g (lw_at lw_m8 239 rfl) rfl
theorem q2007 : (Jvm.Cond.code ({ cls := "FortPlannerModel", name := "<init>", desc := "()V" } : Jvm.MethodName) prog_16_method_1_code (1 : Nat) (Option.none : Option Jvm.ClassFile.FieldType)) ∈ lw_all := lw_g (lw_at lw_m9 0 rfl) rfl
theorem q2008 : (Jvm.Cond.methodLink "FortPlannerModel" (1 : Nat) ({ cls := "java/lang/Object", name := "<init>", desc := "()V" } : Jvm.MethodName)) ∈ lw_all := lw_g (lw_at lw_m9 1 rfl) rfl
theorem q2009 : (Jvm.Cond.fieldLink "FortPlannerModel" (53 : Nat) "FortPlannerModel" "thrown" "I") ∈ lw_all := lw_g (lw_at lw_m9 2 rfl) rfl
theorem q2010 : (Jvm.Cond.fieldLink "FortPlannerModel" (60 : Nat) "FortPlannerModel" "changes" "I") ∈ lw_all := lw_g (lw_at lw_m9 3 rfl) rfl
theorem q2011 : (Jvm.Cond.fieldLink "FortPlannerModel" (7 : Nat) "FortPlannerModel" "errorAt" "I") ∈ lw_all := lw_g (lw_at lw_m9 4 rfl) rfl
theorem q2012 : (Jvm.Cond.fieldLink "FortPlannerModel" (13 : Nat) "FortPlannerModel" "failedAt" "I") ∈ lw_all := lw_g (lw_at lw_m9 5 rfl) rfl
theorem q2013 : (Jvm.Cond.fieldLink "FortPlannerModel" (246 : Nat) "FortPlannerModel" "isSaved" "Z") ∈ lw_all := lw_g (lw_at lw_m9 6 rfl) rfl
theorem q2014 : (Jvm.Cond.fieldLink "FortPlannerModel" (16 : Nat) "FortPlannerModel" "v" "[I") ∈ lw_all := lw_g (lw_at lw_m9 7 rfl) rfl
theorem q2015 : (Jvm.Cond.fieldLink "FortPlannerModel" (20 : Nat) "FortPlannerModel" "before" "[I") ∈ lw_all := lw_g (lw_at lw_m9 8 rfl) rfl
theorem q2016 : (Jvm.Cond.fieldLink "FortPlannerModel" (23 : Nat) "FortPlannerModel" "saved" "[I") ∈ lw_all := lw_g (lw_at lw_m9 9 rfl) rfl
theorem q2017 : (Jvm.Cond.fieldLink "FortPlannerModel" (26 : Nat) "FortPlannerModel" "kept" "[I") ∈ lw_all := lw_g (lw_at lw_m9 10 rfl) rfl
theorem q2018 : (Jvm.Cond.fieldLink "FortPlannerModel" (29 : Nat) "FortPlannerModel" "past" "[I") ∈ lw_all := lw_g (lw_at lw_m9 11 rfl) rfl
theorem q2019 : (Jvm.Cond.fieldLink "FortPlannerModel" (32 : Nat) "FortPlannerModel" "loads" "[I") ∈ lw_all := lw_g (lw_at lw_m9 12 rfl) rfl
theorem q2020 : (Jvm.Cond.fieldLink "FortPlannerModel" (35 : Nat) "FortPlannerModel" "levels" "[I") ∈ lw_all := lw_g (lw_at lw_m9 13 rfl) rfl
theorem q2021 : (Jvm.Cond.fieldLink "FortPlannerModel" (38 : Nat) "FortPlannerModel" "text" "[I") ∈ lw_all := lw_g (lw_at lw_m9 14 rfl) rfl
theorem q2022 : (Jvm.Cond.fieldLink "FortPlannerModel" (41 : Nat) "FortPlannerModel" "line" "[I") ∈ lw_all := lw_g (lw_at lw_m9 15 rfl) rfl
theorem q2023 : (Jvm.Cond.fieldLink "FortPlannerModel" (44 : Nat) "FortPlannerModel" "isLeft" "[I") ∈ lw_all := lw_g (lw_at lw_m9 16 rfl) rfl
theorem q2024 : (Jvm.Cond.fieldLink "FortPlannerModel" (47 : Nat) "FortPlannerModel" "words" "[I") ∈ lw_all := lw_g (lw_at lw_m9 17 rfl) rfl
theorem q2025 : (Jvm.Cond.fieldLink "FortPlannerModel" (50 : Nat) "FortPlannerModel" "wordAt" "[I") ∈ lw_all := lw_g (lw_at lw_m9 18 rfl) rfl
theorem q2026 : (Jvm.Cond.fieldLink "FortPlannerModel" (203 : Nat) "FortPlannerModel" "textN" "I") ∈ lw_all := lw_g (lw_at lw_m9 19 rfl) rfl
theorem q2027 : (Jvm.Cond.fieldLink "FortPlannerModel" (206 : Nat) "FortPlannerModel" "here" "I") ∈ lw_all := lw_g (lw_at lw_m9 20 rfl) rfl
theorem q2028 : (Jvm.Cond.fieldLink "FortPlannerModel" (209 : Nat) "FortPlannerModel" "end" "I") ∈ lw_all := lw_g (lw_at lw_m9 21 rfl) rfl
theorem q2029 : (Jvm.Cond.fieldLink "FortPlannerModel" (190 : Nat) "FortPlannerModel" "lineN" "I") ∈ lw_all := lw_g (lw_at lw_m9 22 rfl) rfl
theorem q2030 : (Jvm.Cond.fieldLink "FortPlannerModel" (212 : Nat) "FortPlannerModel" "isWrong" "Z") ∈ lw_all := lw_g (lw_at lw_m9 23 rfl) rfl
theorem q2031 : (Jvm.Cond.fieldLink "FortPlannerModel" (234 : Nat) "FortPlannerModel" "isDoing" "Z") ∈ lw_all := lw_g (lw_at lw_m9 24 rfl) rfl
theorem q2032 : (Jvm.Cond.lays "FortPlannerModel" "FortPlannerModel" "thrown" "I") ∈ lw_all := lw_g (lw_at lw_m9 25 rfl) rfl
theorem q2033 : (Jvm.Cond.soleField "FortPlannerModel" "thrown") ∈ lw_all := lw_g (lw_at lw_m9 26 rfl) rfl
theorem q2034 : (Jvm.Cond.lays "FortPlannerModel" "FortPlannerModel" "changes" "I") ∈ lw_all := lw_g (lw_at lw_m9 27 rfl) rfl
theorem q2035 : (Jvm.Cond.soleField "FortPlannerModel" "changes") ∈ lw_all := lw_g (lw_at lw_m9 28 rfl) rfl
theorem q2036 : (Jvm.Cond.lays "FortPlannerModel" "FortPlannerModel" "errorAt" "I") ∈ lw_all := lw_g (lw_at lw_m9 29 rfl) rfl
theorem q2037 : (Jvm.Cond.soleField "FortPlannerModel" "errorAt") ∈ lw_all := lw_g (lw_at lw_m9 30 rfl) rfl
theorem q2038 : (Jvm.Cond.lays "FortPlannerModel" "FortPlannerModel" "failedAt" "I") ∈ lw_all := lw_g (lw_at lw_m9 31 rfl) rfl
theorem q2039 : (Jvm.Cond.soleField "FortPlannerModel" "failedAt") ∈ lw_all := lw_g (lw_at lw_m9 32 rfl) rfl
theorem q2040 : (Jvm.Cond.lays "FortPlannerModel" "FortPlannerModel" "isSaved" "Z") ∈ lw_all := lw_g (lw_at lw_m9 33 rfl) rfl
theorem q2041 : (Jvm.Cond.soleField "FortPlannerModel" "isSaved") ∈ lw_all := lw_g (lw_at lw_m9 34 rfl) rfl
theorem q2042 : (Jvm.Cond.laysFinal "FortPlannerModel" "FortPlannerModel" "v" "[I") ∈ lw_all := lw_g (lw_at lw_m9 35 rfl) rfl
theorem q2043 : (Jvm.Cond.soleField "FortPlannerModel" "v") ∈ lw_all := lw_g (lw_at lw_m9 36 rfl) rfl
theorem q2044 : (Jvm.Cond.laysFinal "FortPlannerModel" "FortPlannerModel" "before" "[I") ∈ lw_all := lw_g (lw_at lw_m9 37 rfl) rfl
theorem q2045 : (Jvm.Cond.soleField "FortPlannerModel" "before") ∈ lw_all := lw_g (lw_at lw_m9 38 rfl) rfl
theorem q2046 : (Jvm.Cond.laysFinal "FortPlannerModel" "FortPlannerModel" "saved" "[I") ∈ lw_all := lw_g (lw_at lw_m9 39 rfl) rfl
theorem q2047 : (Jvm.Cond.soleField "FortPlannerModel" "saved") ∈ lw_all := lw_g (lw_at lw_m9 40 rfl) rfl
theorem q2048 : (Jvm.Cond.laysFinal "FortPlannerModel" "FortPlannerModel" "kept" "[I") ∈ lw_all := lw_g (lw_at lw_m9 41 rfl) rfl
theorem q2049 : (Jvm.Cond.soleField "FortPlannerModel" "kept") ∈ lw_all := lw_g (lw_at lw_m9 42 rfl) rfl
theorem q2050 : (Jvm.Cond.laysFinal "FortPlannerModel" "FortPlannerModel" "past" "[I") ∈ lw_all := lw_g (lw_at lw_m9 43 rfl) rfl
theorem q2051 : (Jvm.Cond.soleField "FortPlannerModel" "past") ∈ lw_all := lw_g (lw_at lw_m9 44 rfl) rfl
theorem q2052 : (Jvm.Cond.laysFinal "FortPlannerModel" "FortPlannerModel" "loads" "[I") ∈ lw_all := lw_g (lw_at lw_m9 45 rfl) rfl
theorem q2053 : (Jvm.Cond.soleField "FortPlannerModel" "loads") ∈ lw_all := lw_g (lw_at lw_m9 46 rfl) rfl
theorem q2054 : (Jvm.Cond.laysFinal "FortPlannerModel" "FortPlannerModel" "levels" "[I") ∈ lw_all := lw_g (lw_at lw_m9 47 rfl) rfl
theorem q2055 : (Jvm.Cond.soleField "FortPlannerModel" "levels") ∈ lw_all := lw_g (lw_at lw_m9 48 rfl) rfl
theorem q2056 : (Jvm.Cond.laysFinal "FortPlannerModel" "FortPlannerModel" "text" "[I") ∈ lw_all := lw_g (lw_at lw_m9 49 rfl) rfl
theorem q2057 : (Jvm.Cond.soleField "FortPlannerModel" "text") ∈ lw_all := lw_g (lw_at lw_m9 50 rfl) rfl
theorem q2058 : (Jvm.Cond.laysFinal "FortPlannerModel" "FortPlannerModel" "line" "[I") ∈ lw_all := lw_g (lw_at lw_m9 51 rfl) rfl
theorem q2059 : (Jvm.Cond.soleField "FortPlannerModel" "line") ∈ lw_all := lw_g (lw_at lw_m9 52 rfl) rfl
theorem q2060 : (Jvm.Cond.laysFinal "FortPlannerModel" "FortPlannerModel" "isLeft" "[I") ∈ lw_all := lw_g (lw_at lw_m9 53 rfl) rfl
theorem q2061 : (Jvm.Cond.soleField "FortPlannerModel" "isLeft") ∈ lw_all := lw_g (lw_at lw_m9 54 rfl) rfl
theorem q2062 : (Jvm.Cond.laysFinal "FortPlannerModel" "FortPlannerModel" "words" "[I") ∈ lw_all := lw_g (lw_at lw_m9 55 rfl) rfl
theorem q2063 : (Jvm.Cond.soleField "FortPlannerModel" "words") ∈ lw_all := lw_g (lw_at lw_m9 56 rfl) rfl
theorem q2064 : (Jvm.Cond.laysFinal "FortPlannerModel" "FortPlannerModel" "wordAt" "[I") ∈ lw_all := lw_g (lw_at lw_m9 57 rfl) rfl
theorem q2065 : (Jvm.Cond.soleField "FortPlannerModel" "wordAt") ∈ lw_all := lw_g (lw_at lw_m9 58 rfl) rfl
theorem q2066 : (Jvm.Cond.lays "FortPlannerModel" "FortPlannerModel" "textN" "I") ∈ lw_all := lw_g (lw_at lw_m9 59 rfl) rfl
theorem q2067 : (Jvm.Cond.soleField "FortPlannerModel" "textN") ∈ lw_all := lw_g (lw_at lw_m9 60 rfl) rfl
theorem q2068 : (Jvm.Cond.lays "FortPlannerModel" "FortPlannerModel" "here" "I") ∈ lw_all := lw_g (lw_at lw_m9 61 rfl) rfl
theorem q2069 : (Jvm.Cond.soleField "FortPlannerModel" "here") ∈ lw_all := lw_g (lw_at lw_m9 62 rfl) rfl
theorem q2070 : (Jvm.Cond.lays "FortPlannerModel" "FortPlannerModel" "end" "I") ∈ lw_all := lw_g (lw_at lw_m9 63 rfl) rfl
theorem q2071 : (Jvm.Cond.soleField "FortPlannerModel" "end") ∈ lw_all := lw_g (lw_at lw_m9 64 rfl) rfl
theorem q2072 : (Jvm.Cond.lays "FortPlannerModel" "FortPlannerModel" "lineN" "I") ∈ lw_all := lw_g (lw_at lw_m9 65 rfl) rfl
theorem q2073 : (Jvm.Cond.soleField "FortPlannerModel" "lineN") ∈ lw_all := lw_g (lw_at lw_m9 66 rfl) rfl
theorem q2074 : (Jvm.Cond.lays "FortPlannerModel" "FortPlannerModel" "isWrong" "Z") ∈ lw_all := lw_g (lw_at lw_m9 67 rfl) rfl
theorem q2075 : (Jvm.Cond.soleField "FortPlannerModel" "isWrong") ∈ lw_all := lw_g (lw_at lw_m9 68 rfl) rfl
theorem q2076 : (Jvm.Cond.lays "FortPlannerModel" "FortPlannerModel" "isDoing" "Z") ∈ lw_all := lw_g (lw_at lw_m9 69 rfl) rfl
theorem q2077 : (Jvm.Cond.soleField "FortPlannerModel" "isDoing") ∈ lw_all := lw_g (lw_at lw_m9 70 rfl) rfl
theorem q2078 : (Jvm.Cond.superclass "FortPlannerModel" "java/lang/Object") ∈ lw_all := lw_g (lw_at lw_m9 71 rfl) rfl
theorem q2080 : (Jvm.Cond.instanceMethod ({ cls := "FortPlannerModel", name := "thrown", desc := "()I" } : Jvm.MethodName)) ∈ lw_all := lw_g (lw_at lw_m9 73 rfl) rfl
theorem q2081 : (Jvm.Cond.selects "FortPlannerModel" ({ cls := "FortPlannerModel", name := "thrown", desc := "()I" } : Jvm.MethodName) ({ cls := "FortPlannerModel", name := "thrown", desc := "()I" } : Jvm.MethodName)) ∈ lw_all := lw_g (lw_at lw_m9 74 rfl) rfl
theorem q2082 : (Jvm.Cond.code ({ cls := "FortPlannerModel", name := "thrown", desc := "()I" } : Jvm.MethodName) prog_16_method_2_code (1 : Nat) (Option.some Jvm.ClassFile.FieldType.int)) ∈ lw_all := lw_g (lw_at lw_m9 75 rfl) rfl
theorem q2084 : (Jvm.Cond.instanceMethod ({ cls := "FortPlannerModel", name := "placeFoam", desc := "(III)I" } : Jvm.MethodName)) ∈ lw_all := lw_g (lw_at lw_m9 77 rfl) rfl
theorem q2085 : (Jvm.Cond.selects "FortPlannerModel" ({ cls := "FortPlannerModel", name := "placeFoam", desc := "(III)I" } : Jvm.MethodName) ({ cls := "FortPlannerModel", name := "placeFoam", desc := "(III)I" } : Jvm.MethodName)) ∈ lw_all := lw_g (lw_at lw_m9 78 rfl) rfl
theorem q2086 : (Jvm.Cond.code ({ cls := "FortPlannerModel", name := "placeFoam", desc := "(III)I" } : Jvm.MethodName) prog_16_method_24_code (4 : Nat) (Option.some Jvm.ClassFile.FieldType.int)) ∈ lw_all := lw_g (lw_at lw_m9 79 rfl) rfl
theorem q2087 : (Jvm.Cond.methodLink "FortPlannerModel" (118 : Nat) ({ cls := "FortPlannerModel", name := "begins", desc := "()V" } : Jvm.MethodName)) ∈ lw_all := lw_g (lw_at lw_m9 80 rfl) rfl
theorem q2088 : (Jvm.Cond.privateMethod ({ cls := "FortPlannerModel", name := "begins", desc := "()V" } : Jvm.MethodName)) ∈ lw_tbl := lw_at lw_m9 81 rfl
theorem q2089 : (Jvm.Cond.instanceMethod ({ cls := "FortPlannerModel", name := "begins", desc := "()V" } : Jvm.MethodName)) ∈ lw_all := lw_g (lw_at lw_m9 82 rfl) rfl
theorem q2090 : (Jvm.Cond.code ({ cls := "FortPlannerModel", name := "begins", desc := "()V" } : Jvm.MethodName) prog_16_method_6_code (1 : Nat) (Option.none : Option Jvm.ClassFile.FieldType)) ∈ lw_all := lw_g (lw_at lw_m9 83 rfl) rfl
theorem q2091 : (Jvm.Cond.methodLink "FortPlannerModel" (56 : Nat) ({ cls := "FortPlannerModel", name := "lays", desc := "([I[I)V" } : Jvm.MethodName)) ∈ lw_all := lw_g (lw_at lw_m9 84 rfl) rfl
theorem q2092 : (Jvm.Cond.static ({ cls := "FortPlannerModel", name := "lays", desc := "([I[I)V" } : Jvm.MethodName)) ∈ lw_all := lw_g (lw_at lw_m9 85 rfl) rfl
theorem q2093 : (Jvm.Cond.code ({ cls := "FortPlannerModel", name := "lays", desc := "([I[I)V" } : Jvm.MethodName) prog_16_method_5_code (3 : Nat) (Option.none : Option Jvm.ClassFile.FieldType)) ∈ lw_all := lw_g (lw_at lw_m9 86 rfl) rfl
theorem q2094 : (Jvm.Cond.methodLink "FortPlannerModel" (121 : Nat) ({ cls := "FortPlannerModel", name := "places", desc := "(IIII)I" } : Jvm.MethodName)) ∈ lw_all := lw_g (lw_at lw_m9 87 rfl) rfl
theorem q2095 : (Jvm.Cond.privateMethod ({ cls := "FortPlannerModel", name := "places", desc := "(IIII)I" } : Jvm.MethodName)) ∈ lw_tbl := lw_at lw_m9 88 rfl
theorem q2096 : (Jvm.Cond.instanceMethod ({ cls := "FortPlannerModel", name := "places", desc := "(IIII)I" } : Jvm.MethodName)) ∈ lw_all := lw_g (lw_at lw_m9 89 rfl) rfl
theorem q2097 : (Jvm.Cond.code ({ cls := "FortPlannerModel", name := "places", desc := "(IIII)I" } : Jvm.MethodName) prog_16_method_23_code (8 : Nat) (Option.some Jvm.ClassFile.FieldType.int)) ∈ lw_all := lw_g (lw_at lw_m9 90 rfl) rfl
theorem q2098 : (Jvm.Cond.methodLink "FortPlannerModel" (102 : Nat) ({ cls := "FortPlannerModel", name := "isPlace", desc := "(II)Z" } : Jvm.MethodName)) ∈ lw_all := lw_g (lw_at lw_m9 91 rfl) rfl
theorem q2099 : (Jvm.Cond.static ({ cls := "FortPlannerModel", name := "isPlace", desc := "(II)Z" } : Jvm.MethodName)) ∈ lw_all := lw_g (lw_at lw_m9 92 rfl) rfl
theorem q2100 : (Jvm.Cond.code ({ cls := "FortPlannerModel", name := "isPlace", desc := "(II)Z" } : Jvm.MethodName) prog_16_method_21_code (2 : Nat) (Option.some Jvm.ClassFile.FieldType.boolean)) ∈ lw_all := lw_g (lw_at lw_m9 93 rfl) rfl
theorem q2101 : (Jvm.Cond.methodLink "FortPlannerModel" (98 : Nat) ({ cls := "FortPlannerModel", name := "isColumn", desc := "(I)Z" } : Jvm.MethodName)) ∈ lw_all := lw_g (lw_at lw_m9 94 rfl) rfl
theorem q2102 : (Jvm.Cond.static ({ cls := "FortPlannerModel", name := "isColumn", desc := "(I)Z" } : Jvm.MethodName)) ∈ lw_all := lw_g (lw_at lw_m9 95 rfl) rfl
theorem q2103 : (Jvm.Cond.code ({ cls := "FortPlannerModel", name := "isColumn", desc := "(I)Z" } : Jvm.MethodName) prog_16_method_8_code (1 : Nat) (Option.some Jvm.ClassFile.FieldType.boolean)) ∈ lw_all := lw_g (lw_at lw_m9 96 rfl) rfl
theorem q2104 : (Jvm.Cond.methodLink "FortPlannerModel" (63 : Nat) ({ cls := "FortPlannerModel", name := "isIn", desc := "(III)Z" } : Jvm.MethodName)) ∈ lw_all := lw_g (lw_at lw_m9 97 rfl) rfl
theorem q2105 : (Jvm.Cond.static ({ cls := "FortPlannerModel", name := "isIn", desc := "(III)Z" } : Jvm.MethodName)) ∈ lw_all := lw_g (lw_at lw_m9 98 rfl) rfl
theorem q2106 : (Jvm.Cond.code ({ cls := "FortPlannerModel", name := "isIn", desc := "(III)Z" } : Jvm.MethodName) prog_16_method_4_code (3 : Nat) (Option.some Jvm.ClassFile.FieldType.boolean)) ∈ lw_all := lw_g (lw_at lw_m9 99 rfl) rfl
theorem q2107 : (Jvm.Cond.methodLink "FortPlannerModel" (105 : Nat) ({ cls := "FortPlannerModel", name := "fail", desc := "(I)I" } : Jvm.MethodName)) ∈ lw_all := lw_g (lw_at lw_m9 100 rfl) rfl
theorem q2108 : (Jvm.Cond.privateMethod ({ cls := "FortPlannerModel", name := "fail", desc := "(I)I" } : Jvm.MethodName)) ∈ lw_tbl := lw_at lw_m9 101 rfl
theorem q2109 : (Jvm.Cond.instanceMethod ({ cls := "FortPlannerModel", name := "fail", desc := "(I)I" } : Jvm.MethodName)) ∈ lw_all := lw_g (lw_at lw_m9 102 rfl) rfl
theorem q2110 : (Jvm.Cond.code ({ cls := "FortPlannerModel", name := "fail", desc := "(I)I" } : Jvm.MethodName) prog_16_method_3_code (2 : Nat) (Option.some Jvm.ClassFile.FieldType.int)) ∈ lw_all := lw_g (lw_at lw_m9 103 rfl) rfl
theorem q2111 : (Jvm.Cond.methodLink "FortPlannerModel" (108 : Nat) ({ cls := "FortPlannerModel", name := "isZoned", desc := "(III)Z" } : Jvm.MethodName)) ∈ lw_all := lw_g (lw_at lw_m9 104 rfl) rfl
theorem q2112 : (Jvm.Cond.privateMethod ({ cls := "FortPlannerModel", name := "isZoned", desc := "(III)Z" } : Jvm.MethodName)) ∈ lw_tbl := lw_at lw_m9 105 rfl
theorem q2113 : (Jvm.Cond.instanceMethod ({ cls := "FortPlannerModel", name := "isZoned", desc := "(III)Z" } : Jvm.MethodName)) ∈ lw_all := lw_g (lw_at lw_m9 106 rfl) rfl
theorem q2114 : (Jvm.Cond.code ({ cls := "FortPlannerModel", name := "isZoned", desc := "(III)Z" } : Jvm.MethodName) prog_16_method_22_code (5 : Nat) (Option.some Jvm.ClassFile.FieldType.boolean)) ∈ lw_all := lw_g (lw_at lw_m9 107 rfl) rfl
theorem q2115 : (Jvm.Cond.methodLink "FortPlannerModel" (111 : Nat) ({ cls := "FortPlannerModel", name := "high", desc := "(I)I" } : Jvm.MethodName)) ∈ lw_all := lw_g (lw_at lw_m9 108 rfl) rfl
theorem q2116 : (Jvm.Cond.privateMethod ({ cls := "FortPlannerModel", name := "high", desc := "(I)I" } : Jvm.MethodName)) ∈ lw_tbl := lw_at lw_m9 109 rfl
theorem q2117 : (Jvm.Cond.instanceMethod ({ cls := "FortPlannerModel", name := "high", desc := "(I)I" } : Jvm.MethodName)) ∈ lw_all := lw_g (lw_at lw_m9 110 rfl) rfl
theorem q2118 : (Jvm.Cond.code ({ cls := "FortPlannerModel", name := "high", desc := "(I)I" } : Jvm.MethodName) prog_16_method_14_code (4 : Nat) (Option.some Jvm.ClassFile.FieldType.int)) ∈ lw_all := lw_g (lw_at lw_m9 111 rfl) rfl
theorem q2119 : (Jvm.Cond.methodLink "FortPlannerModel" (71 : Nat) ({ cls := "FortPlannerModel", name := "covers", desc := "(II)Z" } : Jvm.MethodName)) ∈ lw_all := lw_g (lw_at lw_m9 112 rfl) rfl
theorem q2120 : (Jvm.Cond.privateMethod ({ cls := "FortPlannerModel", name := "covers", desc := "(II)Z" } : Jvm.MethodName)) ∈ lw_tbl := lw_at lw_m9 113 rfl
theorem q2121 : (Jvm.Cond.instanceMethod ({ cls := "FortPlannerModel", name := "covers", desc := "(II)Z" } : Jvm.MethodName)) ∈ lw_all := lw_g (lw_at lw_m9 114 rfl) rfl
theorem q2122 : (Jvm.Cond.code ({ cls := "FortPlannerModel", name := "covers", desc := "(II)Z" } : Jvm.MethodName) prog_16_method_11_code (3 : Nat) (Option.some Jvm.ClassFile.FieldType.boolean)) ∈ lw_all := lw_g (lw_at lw_m9 115 rfl) rfl
theorem q2123 : (Jvm.Cond.methodLink "FortPlannerModel" (67 : Nat) ({ cls := "FortPlannerModel", name := "of", desc := "(II)I" } : Jvm.MethodName)) ∈ lw_all := lw_g (lw_at lw_m9 116 rfl) rfl
theorem q2124 : (Jvm.Cond.privateMethod ({ cls := "FortPlannerModel", name := "of", desc := "(II)I" } : Jvm.MethodName)) ∈ lw_tbl := lw_at lw_m9 117 rfl
theorem q2125 : (Jvm.Cond.instanceMethod ({ cls := "FortPlannerModel", name := "of", desc := "(II)I" } : Jvm.MethodName)) ∈ lw_all := lw_g (lw_at lw_m9 118 rfl) rfl
theorem q2126 : (Jvm.Cond.code ({ cls := "FortPlannerModel", name := "of", desc := "(II)I" } : Jvm.MethodName) prog_16_method_9_code (3 : Nat) (Option.some Jvm.ClassFile.FieldType.int)) ∈ lw_all := lw_g (lw_at lw_m9 119 rfl) rfl
theorem q2127 : (Jvm.Cond.methodLink "FortPlannerModel" (75 : Nat) ({ cls := "FortPlannerModel", name := "topOf", desc := "(I)I" } : Jvm.MethodName)) ∈ lw_all := lw_g (lw_at lw_m9 120 rfl) rfl
theorem q2128 : (Jvm.Cond.privateMethod ({ cls := "FortPlannerModel", name := "topOf", desc := "(I)I" } : Jvm.MethodName)) ∈ lw_tbl := lw_at lw_m9 121 rfl
theorem q2129 : (Jvm.Cond.instanceMethod ({ cls := "FortPlannerModel", name := "topOf", desc := "(I)I" } : Jvm.MethodName)) ∈ lw_all := lw_g (lw_at lw_m9 122 rfl) rfl
theorem q2130 : (Jvm.Cond.code ({ cls := "FortPlannerModel", name := "topOf", desc := "(I)I" } : Jvm.MethodName) prog_16_method_12_code (2 : Nat) (Option.some Jvm.ClassFile.FieldType.int)) ∈ lw_all := lw_g (lw_at lw_m9 123 rfl) rfl
theorem q2131 : (Jvm.Cond.methodLink "FortPlannerModel" (114 : Nat) ({ cls := "FortPlannerModel", name := "bears", desc := "()Z" } : Jvm.MethodName)) ∈ lw_all := lw_g (lw_at lw_m9 124 rfl) rfl
theorem q2132 : (Jvm.Cond.privateMethod ({ cls := "FortPlannerModel", name := "bears", desc := "()Z" } : Jvm.MethodName)) ∈ lw_tbl := lw_at lw_m9 125 rfl
theorem q2133 : (Jvm.Cond.instanceMethod ({ cls := "FortPlannerModel", name := "bears", desc := "()Z" } : Jvm.MethodName)) ∈ lw_all := lw_g (lw_at lw_m9 126 rfl) rfl
theorem q2134 : (Jvm.Cond.code ({ cls := "FortPlannerModel", name := "bears", desc := "()Z" } : Jvm.MethodName) prog_16_method_20_code (2 : Nat) (Option.some Jvm.ClassFile.FieldType.boolean)) ∈ lw_all := lw_g (lw_at lw_m9 127 rfl) rfl
theorem q2135 : (Jvm.Cond.methodLink "FortPlannerModel" (92 : Nat) ({ cls := "FortPlannerModel", name := "weighs", desc := "()V" } : Jvm.MethodName)) ∈ lw_all := lw_g (lw_at lw_m9 128 rfl) rfl
theorem q2136 : (Jvm.Cond.privateMethod ({ cls := "FortPlannerModel", name := "weighs", desc := "()V" } : Jvm.MethodName)) ∈ lw_tbl := lw_at lw_m9 129 rfl
theorem q2137 : (Jvm.Cond.instanceMethod ({ cls := "FortPlannerModel", name := "weighs", desc := "()V" } : Jvm.MethodName)) ∈ lw_all := lw_g (lw_at lw_m9 130 rfl) rfl
theorem q2138 : (Jvm.Cond.code ({ cls := "FortPlannerModel", name := "weighs", desc := "()V" } : Jvm.MethodName) prog_16_method_19_code (3 : Nat) (Option.none : Option Jvm.ClassFile.FieldType)) ∈ lw_all := lw_g (lw_at lw_m9 131 rfl) rfl
theorem q2139 : (Jvm.Cond.methodLink "FortPlannerModel" (88 : Nat) ({ cls := "FortPlannerModel", name := "passesOn", desc := "(I)V" } : Jvm.MethodName)) ∈ lw_all := lw_g (lw_at lw_m9 132 rfl) rfl
theorem q2140 : (Jvm.Cond.privateMethod ({ cls := "FortPlannerModel", name := "passesOn", desc := "(I)V" } : Jvm.MethodName)) ∈ lw_tbl := lw_at lw_m9 133 rfl
theorem q2141 : (Jvm.Cond.instanceMethod ({ cls := "FortPlannerModel", name := "passesOn", desc := "(I)V" } : Jvm.MethodName)) ∈ lw_all := lw_g (lw_at lw_m9 134 rfl) rfl
theorem q2142 : (Jvm.Cond.code ({ cls := "FortPlannerModel", name := "passesOn", desc := "(I)V" } : Jvm.MethodName) prog_16_method_18_code (5 : Nat) (Option.none : Option Jvm.ClassFile.FieldType)) ∈ lw_all := lw_g (lw_at lw_m9 135 rfl) rfl
theorem q2143 : (Jvm.Cond.methodLink "FortPlannerModel" (82 : Nat) ({ cls := "FortPlannerModel", name := "supporters", desc := "(I)I" } : Jvm.MethodName)) ∈ lw_all := lw_g (lw_at lw_m9 136 rfl) rfl
theorem q2144 : (Jvm.Cond.privateMethod ({ cls := "FortPlannerModel", name := "supporters", desc := "(I)I" } : Jvm.MethodName)) ∈ lw_tbl := lw_at lw_m9 137 rfl
theorem q2145 : (Jvm.Cond.instanceMethod ({ cls := "FortPlannerModel", name := "supporters", desc := "(I)I" } : Jvm.MethodName)) ∈ lw_all := lw_g (lw_at lw_m9 138 rfl) rfl
theorem q2146 : (Jvm.Cond.code ({ cls := "FortPlannerModel", name := "supporters", desc := "(I)I" } : Jvm.MethodName) prog_16_method_16_code (4 : Nat) (Option.some Jvm.ClassFile.FieldType.int)) ∈ lw_all := lw_g (lw_at lw_m9 139 rfl) rfl
theorem q2147 : (Jvm.Cond.methodLink "FortPlannerModel" (79 : Nat) ({ cls := "FortPlannerModel", name := "supports", desc := "(II)Z" } : Jvm.MethodName)) ∈ lw_all := lw_g (lw_at lw_m9 140 rfl) rfl
theorem q2148 : (Jvm.Cond.privateMethod ({ cls := "FortPlannerModel", name := "supports", desc := "(II)Z" } : Jvm.MethodName)) ∈ lw_tbl := lw_at lw_m9 141 rfl
theorem q2149 : (Jvm.Cond.instanceMethod ({ cls := "FortPlannerModel", name := "supports", desc := "(II)Z" } : Jvm.MethodName)) ∈ lw_all := lw_g (lw_at lw_m9 142 rfl) rfl
theorem q2150 : (Jvm.Cond.code ({ cls := "FortPlannerModel", name := "supports", desc := "(II)Z" } : Jvm.MethodName) prog_16_method_15_code (4 : Nat) (Option.some Jvm.ClassFile.FieldType.boolean)) ∈ lw_all := lw_g (lw_at lw_m9 143 rfl) rfl
theorem q2151 : (Jvm.Cond.methodLink "FortPlannerModel" (85 : Nat) ({ cls := "FortPlannerModel", name := "rank", desc := "(II)I" } : Jvm.MethodName)) ∈ lw_all := lw_g (lw_at lw_m9 144 rfl) rfl
theorem q2152 : (Jvm.Cond.privateMethod ({ cls := "FortPlannerModel", name := "rank", desc := "(II)I" } : Jvm.MethodName)) ∈ lw_tbl := lw_at lw_m9 145 rfl
theorem q2153 : (Jvm.Cond.instanceMethod ({ cls := "FortPlannerModel", name := "rank", desc := "(II)I" } : Jvm.MethodName)) ∈ lw_all := lw_g (lw_at lw_m9 146 rfl) rfl
theorem q2154 : (Jvm.Cond.code ({ cls := "FortPlannerModel", name := "rank", desc := "(II)I" } : Jvm.MethodName) prog_16_method_17_code (5 : Nat) (Option.some Jvm.ClassFile.FieldType.int)) ∈ lw_all := lw_g (lw_at lw_m9 147 rfl) rfl
theorem q2155 : (Jvm.Cond.methodLink "FortPlannerModel" (95 : Nat) ({ cls := "FortPlannerModel", name := "strong", desc := "(I)I" } : Jvm.MethodName)) ∈ lw_all := lw_g (lw_at lw_m9 148 rfl) rfl
theorem q2156 : (Jvm.Cond.privateMethod ({ cls := "FortPlannerModel", name := "strong", desc := "(I)I" } : Jvm.MethodName)) ∈ lw_tbl := lw_at lw_m9 149 rfl
theorem q2157 : (Jvm.Cond.instanceMethod ({ cls := "FortPlannerModel", name := "strong", desc := "(I)I" } : Jvm.MethodName)) ∈ lw_all := lw_g (lw_at lw_m9 150 rfl) rfl
theorem q2158 : (Jvm.Cond.code ({ cls := "FortPlannerModel", name := "strong", desc := "(I)I" } : Jvm.MethodName) prog_16_method_13_code (2 : Nat) (Option.some Jvm.ClassFile.FieldType.int)) ∈ lw_all := lw_g (lw_at lw_m9 151 rfl) rfl
theorem q2159 : (Jvm.Cond.methodLink "FortPlannerModel" (125 : Nat) ({ cls := "FortPlannerModel", name := "ends", desc := "(I)I" } : Jvm.MethodName)) ∈ lw_all := lw_g (lw_at lw_m9 152 rfl) rfl
theorem q2160 : (Jvm.Cond.privateMethod ({ cls := "FortPlannerModel", name := "ends", desc := "(I)I" } : Jvm.MethodName)) ∈ lw_tbl := lw_at lw_m9 153 rfl
theorem q2161 : (Jvm.Cond.instanceMethod ({ cls := "FortPlannerModel", name := "ends", desc := "(I)I" } : Jvm.MethodName)) ∈ lw_all := lw_g (lw_at lw_m9 154 rfl) rfl
theorem q2162 : (Jvm.Cond.code ({ cls := "FortPlannerModel", name := "ends", desc := "(I)I" } : Jvm.MethodName) prog_16_method_7_code (3 : Nat) (Option.some Jvm.ClassFile.FieldType.int)) ∈ lw_all := lw_g (lw_at lw_m9 155 rfl) rfl
theorem q2164 : (Jvm.Cond.instanceMethod ({ cls := "FortPlannerModel", name := "placeBoard", desc := "(III)I" } : Jvm.MethodName)) ∈ lw_all := lw_g (lw_at lw_m9 157 rfl) rfl
theorem q2165 : (Jvm.Cond.selects "FortPlannerModel" ({ cls := "FortPlannerModel", name := "placeBoard", desc := "(III)I" } : Jvm.MethodName) ({ cls := "FortPlannerModel", name := "placeBoard", desc := "(III)I" } : Jvm.MethodName)) ∈ lw_all := lw_g (lw_at lw_m9 158 rfl) rfl
theorem q2166 : (Jvm.Cond.code ({ cls := "FortPlannerModel", name := "placeBoard", desc := "(III)I" } : Jvm.MethodName) prog_16_method_25_code (4 : Nat) (Option.some Jvm.ClassFile.FieldType.int)) ∈ lw_all := lw_g (lw_at lw_m9 159 rfl) rfl
theorem q2168 : (Jvm.Cond.instanceMethod ({ cls := "FortPlannerModel", name := "placeBag", desc := "(III)I" } : Jvm.MethodName)) ∈ lw_all := lw_g (lw_at lw_m9 161 rfl) rfl
theorem q2169 : (Jvm.Cond.selects "FortPlannerModel" ({ cls := "FortPlannerModel", name := "placeBag", desc := "(III)I" } : Jvm.MethodName) ({ cls := "FortPlannerModel", name := "placeBag", desc := "(III)I" } : Jvm.MethodName)) ∈ lw_all := lw_g (lw_at lw_m9 162 rfl) rfl
theorem q2170 : (Jvm.Cond.code ({ cls := "FortPlannerModel", name := "placeBag", desc := "(III)I" } : Jvm.MethodName) prog_16_method_26_code (4 : Nat) (Option.some Jvm.ClassFile.FieldType.int)) ∈ lw_all := lw_g (lw_at lw_m9 163 rfl) rfl
theorem q2172 : (Jvm.Cond.instanceMethod ({ cls := "FortPlannerModel", name := "remove", desc := "(I)I" } : Jvm.MethodName)) ∈ lw_all := lw_g (lw_at lw_m9 165 rfl) rfl
theorem q2173 : (Jvm.Cond.selects "FortPlannerModel" ({ cls := "FortPlannerModel", name := "remove", desc := "(I)I" } : Jvm.MethodName) ({ cls := "FortPlannerModel", name := "remove", desc := "(I)I" } : Jvm.MethodName)) ∈ lw_all := lw_g (lw_at lw_m9 166 rfl) rfl
theorem q2174 : (Jvm.Cond.code ({ cls := "FortPlannerModel", name := "remove", desc := "(I)I" } : Jvm.MethodName) prog_16_method_29_code (2 : Nat) (Option.some Jvm.ClassFile.FieldType.int)) ∈ lw_all := lw_g (lw_at lw_m9 167 rfl) rfl
theorem q2175 : (Jvm.Cond.methodLink "FortPlannerModel" (134 : Nat) ({ cls := "FortPlannerModel", name := "takes", desc := "(I)I" } : Jvm.MethodName)) ∈ lw_all := lw_g (lw_at lw_m9 168 rfl) rfl
theorem q2176 : (Jvm.Cond.privateMethod ({ cls := "FortPlannerModel", name := "takes", desc := "(I)I" } : Jvm.MethodName)) ∈ lw_tbl := lw_at lw_m9 169 rfl
theorem q2177 : (Jvm.Cond.instanceMethod ({ cls := "FortPlannerModel", name := "takes", desc := "(I)I" } : Jvm.MethodName)) ∈ lw_all := lw_g (lw_at lw_m9 170 rfl) rfl
theorem q2178 : (Jvm.Cond.code ({ cls := "FortPlannerModel", name := "takes", desc := "(I)I" } : Jvm.MethodName) prog_16_method_28_code (4 : Nat) (Option.some Jvm.ClassFile.FieldType.int)) ∈ lw_all := lw_g (lw_at lw_m9 171 rfl) rfl
theorem q2179 : (Jvm.Cond.methodLink "FortPlannerModel" (128 : Nat) ({ cls := "FortPlannerModel", name := "finds", desc := "(I)I" } : Jvm.MethodName)) ∈ lw_all := lw_g (lw_at lw_m9 172 rfl) rfl
theorem q2180 : (Jvm.Cond.privateMethod ({ cls := "FortPlannerModel", name := "finds", desc := "(I)I" } : Jvm.MethodName)) ∈ lw_tbl := lw_at lw_m9 173 rfl
theorem q2181 : (Jvm.Cond.instanceMethod ({ cls := "FortPlannerModel", name := "finds", desc := "(I)I" } : Jvm.MethodName)) ∈ lw_all := lw_g (lw_at lw_m9 174 rfl) rfl
theorem q2182 : (Jvm.Cond.code ({ cls := "FortPlannerModel", name := "finds", desc := "(I)I" } : Jvm.MethodName) prog_16_method_10_code (3 : Nat) (Option.some Jvm.ClassFile.FieldType.int)) ∈ lw_all := lw_g (lw_at lw_m9 175 rfl) rfl
theorem q2183 : (Jvm.Cond.methodLink "FortPlannerModel" (131 : Nat) ({ cls := "FortPlannerModel", name := "isUnder", desc := "(I)Z" } : Jvm.MethodName)) ∈ lw_all := lw_g (lw_at lw_m9 176 rfl) rfl
theorem q2184 : (Jvm.Cond.privateMethod ({ cls := "FortPlannerModel", name := "isUnder", desc := "(I)Z" } : Jvm.MethodName)) ∈ lw_tbl := lw_at lw_m9 177 rfl
theorem q2185 : (Jvm.Cond.instanceMethod ({ cls := "FortPlannerModel", name := "isUnder", desc := "(I)Z" } : Jvm.MethodName)) ∈ lw_all := lw_g (lw_at lw_m9 178 rfl) rfl
theorem q2186 : (Jvm.Cond.code ({ cls := "FortPlannerModel", name := "isUnder", desc := "(I)Z" } : Jvm.MethodName) prog_16_method_27_code (3 : Nat) (Option.some Jvm.ClassFile.FieldType.boolean)) ∈ lw_all := lw_g (lw_at lw_m9 179 rfl) rfl
theorem q2188 : (Jvm.Cond.instanceMethod ({ cls := "FortPlannerModel", name := "setZone", desc := "(IC)C" } : Jvm.MethodName)) ∈ lw_all := lw_g (lw_at lw_m9 181 rfl) rfl
theorem q2189 : (Jvm.Cond.selects "FortPlannerModel" ({ cls := "FortPlannerModel", name := "setZone", desc := "(IC)C" } : Jvm.MethodName) ({ cls := "FortPlannerModel", name := "setZone", desc := "(IC)C" } : Jvm.MethodName)) ∈ lw_all := lw_g (lw_at lw_m9 182 rfl) rfl
theorem q2190 : (Jvm.Cond.code ({ cls := "FortPlannerModel", name := "setZone", desc := "(IC)C" } : Jvm.MethodName) prog_16_method_33_code (4 : Nat) (Option.some Jvm.ClassFile.FieldType.char)) ∈ lw_all := lw_g (lw_at lw_m9 183 rfl) rfl
theorem q2191 : (Jvm.Cond.methodLink "FortPlannerModel" (143 : Nat) ({ cls := "FortPlannerModel", name := "zones", desc := "(II)I" } : Jvm.MethodName)) ∈ lw_all := lw_g (lw_at lw_m9 184 rfl) rfl
theorem q2192 : (Jvm.Cond.privateMethod ({ cls := "FortPlannerModel", name := "zones", desc := "(II)I" } : Jvm.MethodName)) ∈ lw_tbl := lw_at lw_m9 185 rfl
theorem q2193 : (Jvm.Cond.instanceMethod ({ cls := "FortPlannerModel", name := "zones", desc := "(II)I" } : Jvm.MethodName)) ∈ lw_all := lw_g (lw_at lw_m9 186 rfl) rfl
theorem q2194 : (Jvm.Cond.code ({ cls := "FortPlannerModel", name := "zones", desc := "(II)I" } : Jvm.MethodName) prog_16_method_32_code (4 : Nat) (Option.some Jvm.ClassFile.FieldType.int)) ∈ lw_all := lw_g (lw_at lw_m9 187 rfl) rfl
theorem q2195 : (Jvm.Cond.methodLink "FortPlannerModel" (137 : Nat) ({ cls := "FortPlannerModel", name := "zoneBy", desc := "(I)I" } : Jvm.MethodName)) ∈ lw_all := lw_g (lw_at lw_m9 188 rfl) rfl
theorem q2196 : (Jvm.Cond.static ({ cls := "FortPlannerModel", name := "zoneBy", desc := "(I)I" } : Jvm.MethodName)) ∈ lw_all := lw_g (lw_at lw_m9 189 rfl) rfl
theorem q2197 : (Jvm.Cond.code ({ cls := "FortPlannerModel", name := "zoneBy", desc := "(I)I" } : Jvm.MethodName) prog_16_method_30_code (1 : Nat) (Option.some Jvm.ClassFile.FieldType.int)) ∈ lw_all := lw_g (lw_at lw_m9 190 rfl) rfl
theorem q2198 : (Jvm.Cond.methodLink "FortPlannerModel" (140 : Nat) ({ cls := "FortPlannerModel", name := "letterOf", desc := "(I)I" } : Jvm.MethodName)) ∈ lw_all := lw_g (lw_at lw_m9 191 rfl) rfl
theorem q2199 : (Jvm.Cond.static ({ cls := "FortPlannerModel", name := "letterOf", desc := "(I)I" } : Jvm.MethodName)) ∈ lw_all := lw_g (lw_at lw_m9 192 rfl) rfl
theorem q2200 : (Jvm.Cond.code ({ cls := "FortPlannerModel", name := "letterOf", desc := "(I)I" } : Jvm.MethodName) prog_16_method_31_code (1 : Nat) (Option.some Jvm.ClassFile.FieldType.int)) ∈ lw_all := lw_g (lw_at lw_m9 193 rfl) rfl
theorem q2202 : (Jvm.Cond.instanceMethod ({ cls := "FortPlannerModel", name := "addTorch", desc := "(I)I" } : Jvm.MethodName)) ∈ lw_all := lw_g (lw_at lw_m9 195 rfl) rfl
theorem q2203 : (Jvm.Cond.selects "FortPlannerModel" ({ cls := "FortPlannerModel", name := "addTorch", desc := "(I)I" } : Jvm.MethodName) ({ cls := "FortPlannerModel", name := "addTorch", desc := "(I)I" } : Jvm.MethodName)) ∈ lw_all := lw_g (lw_at lw_m9 196 rfl) rfl
theorem q2204 : (Jvm.Cond.code ({ cls := "FortPlannerModel", name := "addTorch", desc := "(I)I" } : Jvm.MethodName) prog_16_method_36_code (2 : Nat) (Option.some Jvm.ClassFile.FieldType.int)) ∈ lw_all := lw_g (lw_at lw_m9 197 rfl) rfl
theorem q2205 : (Jvm.Cond.methodLink "FortPlannerModel" (150 : Nat) ({ cls := "FortPlannerModel", name := "lights", desc := "(II)I" } : Jvm.MethodName)) ∈ lw_all := lw_g (lw_at lw_m9 198 rfl) rfl
theorem q2206 : (Jvm.Cond.privateMethod ({ cls := "FortPlannerModel", name := "lights", desc := "(II)I" } : Jvm.MethodName)) ∈ lw_tbl := lw_at lw_m9 199 rfl
theorem q2207 : (Jvm.Cond.instanceMethod ({ cls := "FortPlannerModel", name := "lights", desc := "(II)I" } : Jvm.MethodName)) ∈ lw_all := lw_g (lw_at lw_m9 200 rfl) rfl
theorem q2208 : (Jvm.Cond.code ({ cls := "FortPlannerModel", name := "lights", desc := "(II)I" } : Jvm.MethodName) prog_16_method_35_code (3 : Nat) (Option.some Jvm.ClassFile.FieldType.int)) ∈ lw_all := lw_g (lw_at lw_m9 201 rfl) rfl
theorem q2209 : (Jvm.Cond.methodLink "FortPlannerModel" (146 : Nat) ({ cls := "FortPlannerModel", name := "torches", desc := "()I" } : Jvm.MethodName)) ∈ lw_all := lw_g (lw_at lw_m9 202 rfl) rfl
theorem q2210 : (Jvm.Cond.privateMethod ({ cls := "FortPlannerModel", name := "torches", desc := "()I" } : Jvm.MethodName)) ∈ lw_tbl := lw_at lw_m9 203 rfl
theorem q2211 : (Jvm.Cond.instanceMethod ({ cls := "FortPlannerModel", name := "torches", desc := "()I" } : Jvm.MethodName)) ∈ lw_all := lw_g (lw_at lw_m9 204 rfl) rfl
theorem q2212 : (Jvm.Cond.code ({ cls := "FortPlannerModel", name := "torches", desc := "()I" } : Jvm.MethodName) prog_16_method_34_code (3 : Nat) (Option.some Jvm.ClassFile.FieldType.int)) ∈ lw_all := lw_g (lw_at lw_m9 205 rfl) rfl
theorem q2214 : (Jvm.Cond.instanceMethod ({ cls := "FortPlannerModel", name := "removeTorch", desc := "(I)I" } : Jvm.MethodName)) ∈ lw_all := lw_g (lw_at lw_m9 207 rfl) rfl
theorem q2215 : (Jvm.Cond.selects "FortPlannerModel" ({ cls := "FortPlannerModel", name := "removeTorch", desc := "(I)I" } : Jvm.MethodName) ({ cls := "FortPlannerModel", name := "removeTorch", desc := "(I)I" } : Jvm.MethodName)) ∈ lw_all := lw_g (lw_at lw_m9 208 rfl) rfl
theorem q2216 : (Jvm.Cond.code ({ cls := "FortPlannerModel", name := "removeTorch", desc := "(I)I" } : Jvm.MethodName) prog_16_method_37_code (2 : Nat) (Option.some Jvm.ClassFile.FieldType.int)) ∈ lw_all := lw_g (lw_at lw_m9 209 rfl) rfl
theorem q2218 : (Jvm.Cond.instanceMethod ({ cls := "FortPlannerModel", name := "canPlaceFoam", desc := "(III)Z" } : Jvm.MethodName)) ∈ lw_all := lw_g (lw_at lw_m9 211 rfl) rfl
theorem q2219 : (Jvm.Cond.selects "FortPlannerModel" ({ cls := "FortPlannerModel", name := "canPlaceFoam", desc := "(III)Z" } : Jvm.MethodName) ({ cls := "FortPlannerModel", name := "canPlaceFoam", desc := "(III)Z" } : Jvm.MethodName)) ∈ lw_all := lw_g (lw_at lw_m9 212 rfl) rfl
theorem q2220 : (Jvm.Cond.code ({ cls := "FortPlannerModel", name := "canPlaceFoam", desc := "(III)Z" } : Jvm.MethodName) prog_16_method_39_code (4 : Nat) (Option.some Jvm.ClassFile.FieldType.boolean)) ∈ lw_all := lw_g (lw_at lw_m9 213 rfl) rfl
theorem q2221 : (Jvm.Cond.methodLink "FortPlannerModel" (153 : Nat) ({ cls := "FortPlannerModel", name := "could", desc := "(IIII)Z" } : Jvm.MethodName)) ∈ lw_all := lw_g (lw_at lw_m9 214 rfl) rfl
theorem q2222 : (Jvm.Cond.privateMethod ({ cls := "FortPlannerModel", name := "could", desc := "(IIII)Z" } : Jvm.MethodName)) ∈ lw_tbl := lw_at lw_m9 215 rfl
theorem q2223 : (Jvm.Cond.instanceMethod ({ cls := "FortPlannerModel", name := "could", desc := "(IIII)Z" } : Jvm.MethodName)) ∈ lw_all := lw_g (lw_at lw_m9 216 rfl) rfl
theorem q2224 : (Jvm.Cond.code ({ cls := "FortPlannerModel", name := "could", desc := "(IIII)Z" } : Jvm.MethodName) prog_16_method_38_code (7 : Nat) (Option.some Jvm.ClassFile.FieldType.boolean)) ∈ lw_all := lw_g (lw_at lw_m9 217 rfl) rfl
theorem q2226 : (Jvm.Cond.instanceMethod ({ cls := "FortPlannerModel", name := "canPlaceBoard", desc := "(III)Z" } : Jvm.MethodName)) ∈ lw_all := lw_g (lw_at lw_m9 219 rfl) rfl
theorem q2227 : (Jvm.Cond.selects "FortPlannerModel" ({ cls := "FortPlannerModel", name := "canPlaceBoard", desc := "(III)Z" } : Jvm.MethodName) ({ cls := "FortPlannerModel", name := "canPlaceBoard", desc := "(III)Z" } : Jvm.MethodName)) ∈ lw_all := lw_g (lw_at lw_m9 220 rfl) rfl
theorem q2228 : (Jvm.Cond.code ({ cls := "FortPlannerModel", name := "canPlaceBoard", desc := "(III)Z" } : Jvm.MethodName) prog_16_method_40_code (4 : Nat) (Option.some Jvm.ClassFile.FieldType.boolean)) ∈ lw_all := lw_g (lw_at lw_m9 221 rfl) rfl
theorem q2230 : (Jvm.Cond.instanceMethod ({ cls := "FortPlannerModel", name := "canPlaceBag", desc := "(III)Z" } : Jvm.MethodName)) ∈ lw_all := lw_g (lw_at lw_m9 223 rfl) rfl
theorem q2231 : (Jvm.Cond.selects "FortPlannerModel" ({ cls := "FortPlannerModel", name := "canPlaceBag", desc := "(III)Z" } : Jvm.MethodName) ({ cls := "FortPlannerModel", name := "canPlaceBag", desc := "(III)Z" } : Jvm.MethodName)) ∈ lw_all := lw_g (lw_at lw_m9 224 rfl) rfl
theorem q2232 : (Jvm.Cond.code ({ cls := "FortPlannerModel", name := "canPlaceBag", desc := "(III)Z" } : Jvm.MethodName) prog_16_method_41_code (4 : Nat) (Option.some Jvm.ClassFile.FieldType.boolean)) ∈ lw_all := lw_g (lw_at lw_m9 225 rfl) rfl
theorem q2234 : (Jvm.Cond.instanceMethod ({ cls := "FortPlannerModel", name := "heaviestFoam", desc := "(II)I" } : Jvm.MethodName)) ∈ lw_all := lw_g (lw_at lw_m9 227 rfl) rfl
theorem q2235 : (Jvm.Cond.selects "FortPlannerModel" ({ cls := "FortPlannerModel", name := "heaviestFoam", desc := "(II)I" } : Jvm.MethodName) ({ cls := "FortPlannerModel", name := "heaviestFoam", desc := "(II)I" } : Jvm.MethodName)) ∈ lw_all := lw_g (lw_at lw_m9 228 rfl) rfl
theorem q2236 : (Jvm.Cond.code ({ cls := "FortPlannerModel", name := "heaviestFoam", desc := "(II)I" } : Jvm.MethodName) prog_16_method_42_code (4 : Nat) (Option.some Jvm.ClassFile.FieldType.int)) ∈ lw_all := lw_g (lw_at lw_m9 229 rfl) rfl
theorem q2238 : (Jvm.Cond.instanceMethod ({ cls := "FortPlannerModel", name := "blockCount", desc := "()I" } : Jvm.MethodName)) ∈ lw_all := lw_g (lw_at lw_m9 231 rfl) rfl
theorem q2239 : (Jvm.Cond.selects "FortPlannerModel" ({ cls := "FortPlannerModel", name := "blockCount", desc := "()I" } : Jvm.MethodName) ({ cls := "FortPlannerModel", name := "blockCount", desc := "()I" } : Jvm.MethodName)) ∈ lw_all := lw_g (lw_at lw_m9 232 rfl) rfl
theorem q2240 : (Jvm.Cond.code ({ cls := "FortPlannerModel", name := "blockCount", desc := "()I" } : Jvm.MethodName) prog_16_method_43_code (1 : Nat) (Option.some Jvm.ClassFile.FieldType.int)) ∈ lw_all := lw_g (lw_at lw_m9 233 rfl) rfl
theorem q2242 : (Jvm.Cond.instanceMethod ({ cls := "FortPlannerModel", name := "placedCount", desc := "()I" } : Jvm.MethodName)) ∈ lw_all := lw_g (lw_at lw_m9 235 rfl) rfl
theorem q2243 : (Jvm.Cond.selects "FortPlannerModel" ({ cls := "FortPlannerModel", name := "placedCount", desc := "()I" } : Jvm.MethodName) ({ cls := "FortPlannerModel", name := "placedCount", desc := "()I" } : Jvm.MethodName)) ∈ lw_all := lw_g (lw_at lw_m9 236 rfl) rfl
theorem q2244 : (Jvm.Cond.code ({ cls := "FortPlannerModel", name := "placedCount", desc := "()I" } : Jvm.MethodName) prog_16_method_44_code (1 : Nat) (Option.some Jvm.ClassFile.FieldType.int)) ∈ lw_all := lw_g (lw_at lw_m9 237 rfl) rfl
theorem q2246 : (Jvm.Cond.instanceMethod ({ cls := "FortPlannerModel", name := "isPresent", desc := "(I)Z" } : Jvm.MethodName)) ∈ lw_all := lw_g (lw_at lw_m9 239 rfl) rfl
theorem q2247 : (Jvm.Cond.selects "FortPlannerModel" ({ cls := "FortPlannerModel", name := "isPresent", desc := "(I)Z" } : Jvm.MethodName) ({ cls := "FortPlannerModel", name := "isPresent", desc := "(I)Z" } : Jvm.MethodName)) ∈ lw_all := lw_g (lw_at lw_m10 0 rfl) rfl
theorem q2248 : (Jvm.Cond.code ({ cls := "FortPlannerModel", name := "isPresent", desc := "(I)Z" } : Jvm.MethodName) prog_16_method_45_code (3 : Nat) (Option.some Jvm.ClassFile.FieldType.boolean)) ∈ lw_all := lw_g (lw_at lw_m10 1 rfl) rfl
theorem q2250 : (Jvm.Cond.instanceMethod ({ cls := "FortPlannerModel", name := "blockAt", desc := "(I)I" } : Jvm.MethodName)) ∈ lw_all := lw_g (lw_at lw_m10 3 rfl) rfl
theorem q2251 : (Jvm.Cond.selects "FortPlannerModel" ({ cls := "FortPlannerModel", name := "blockAt", desc := "(I)I" } : Jvm.MethodName) ({ cls := "FortPlannerModel", name := "blockAt", desc := "(I)I" } : Jvm.MethodName)) ∈ lw_all := lw_g (lw_at lw_m10 4 rfl) rfl
theorem q2252 : (Jvm.Cond.code ({ cls := "FortPlannerModel", name := "blockAt", desc := "(I)I" } : Jvm.MethodName) prog_16_method_46_code (2 : Nat) (Option.some Jvm.ClassFile.FieldType.int)) ∈ lw_all := lw_g (lw_at lw_m10 5 rfl) rfl
theorem q2254 : (Jvm.Cond.instanceMethod ({ cls := "FortPlannerModel", name := "isFoam", desc := "(I)Z" } : Jvm.MethodName)) ∈ lw_all := lw_g (lw_at lw_m10 7 rfl) rfl
theorem q2255 : (Jvm.Cond.selects "FortPlannerModel" ({ cls := "FortPlannerModel", name := "isFoam", desc := "(I)Z" } : Jvm.MethodName) ({ cls := "FortPlannerModel", name := "isFoam", desc := "(I)Z" } : Jvm.MethodName)) ∈ lw_all := lw_g (lw_at lw_m10 8 rfl) rfl
theorem q2256 : (Jvm.Cond.code ({ cls := "FortPlannerModel", name := "isFoam", desc := "(I)Z" } : Jvm.MethodName) prog_16_method_48_code (2 : Nat) (Option.some Jvm.ClassFile.FieldType.boolean)) ∈ lw_all := lw_g (lw_at lw_m10 9 rfl) rfl
theorem q2257 : (Jvm.Cond.methodLink "FortPlannerModel" (157 : Nat) ({ cls := "FortPlannerModel", name := "isOf", desc := "(II)Z" } : Jvm.MethodName)) ∈ lw_all := lw_g (lw_at lw_m10 10 rfl) rfl
theorem q2258 : (Jvm.Cond.privateMethod ({ cls := "FortPlannerModel", name := "isOf", desc := "(II)Z" } : Jvm.MethodName)) ∈ lw_tbl := lw_at lw_m10 11 rfl
theorem q2259 : (Jvm.Cond.instanceMethod ({ cls := "FortPlannerModel", name := "isOf", desc := "(II)Z" } : Jvm.MethodName)) ∈ lw_all := lw_g (lw_at lw_m10 12 rfl) rfl
theorem q2260 : (Jvm.Cond.code ({ cls := "FortPlannerModel", name := "isOf", desc := "(II)Z" } : Jvm.MethodName) prog_16_method_47_code (4 : Nat) (Option.some Jvm.ClassFile.FieldType.boolean)) ∈ lw_all := lw_g (lw_at lw_m10 13 rfl) rfl
theorem q2262 : (Jvm.Cond.instanceMethod ({ cls := "FortPlannerModel", name := "isBoard", desc := "(I)Z" } : Jvm.MethodName)) ∈ lw_all := lw_g (lw_at lw_m10 15 rfl) rfl
theorem q2263 : (Jvm.Cond.selects "FortPlannerModel" ({ cls := "FortPlannerModel", name := "isBoard", desc := "(I)Z" } : Jvm.MethodName) ({ cls := "FortPlannerModel", name := "isBoard", desc := "(I)Z" } : Jvm.MethodName)) ∈ lw_all := lw_g (lw_at lw_m10 16 rfl) rfl
theorem q2264 : (Jvm.Cond.code ({ cls := "FortPlannerModel", name := "isBoard", desc := "(I)Z" } : Jvm.MethodName) prog_16_method_49_code (2 : Nat) (Option.some Jvm.ClassFile.FieldType.boolean)) ∈ lw_all := lw_g (lw_at lw_m10 17 rfl) rfl
theorem q2266 : (Jvm.Cond.instanceMethod ({ cls := "FortPlannerModel", name := "left", desc := "(I)I" } : Jvm.MethodName)) ∈ lw_all := lw_g (lw_at lw_m10 19 rfl) rfl
theorem q2267 : (Jvm.Cond.selects "FortPlannerModel" ({ cls := "FortPlannerModel", name := "left", desc := "(I)I" } : Jvm.MethodName) ({ cls := "FortPlannerModel", name := "left", desc := "(I)I" } : Jvm.MethodName)) ∈ lw_all := lw_g (lw_at lw_m10 20 rfl) rfl
theorem q2268 : (Jvm.Cond.code ({ cls := "FortPlannerModel", name := "left", desc := "(I)I" } : Jvm.MethodName) prog_16_method_51_code (2 : Nat) (Option.some Jvm.ClassFile.FieldType.int)) ∈ lw_all := lw_g (lw_at lw_m10 21 rfl) rfl
theorem q2269 : (Jvm.Cond.methodLink "FortPlannerModel" (160 : Nat) ({ cls := "FortPlannerModel", name := "tells", desc := "(II)I" } : Jvm.MethodName)) ∈ lw_all := lw_g (lw_at lw_m10 22 rfl) rfl
theorem q2270 : (Jvm.Cond.privateMethod ({ cls := "FortPlannerModel", name := "tells", desc := "(II)I" } : Jvm.MethodName)) ∈ lw_tbl := lw_at lw_m10 23 rfl
theorem q2271 : (Jvm.Cond.instanceMethod ({ cls := "FortPlannerModel", name := "tells", desc := "(II)I" } : Jvm.MethodName)) ∈ lw_all := lw_g (lw_at lw_m10 24 rfl) rfl
theorem q2272 : (Jvm.Cond.code ({ cls := "FortPlannerModel", name := "tells", desc := "(II)I" } : Jvm.MethodName) prog_16_method_50_code (4 : Nat) (Option.some Jvm.ClassFile.FieldType.int)) ∈ lw_all := lw_g (lw_at lw_m10 25 rfl) rfl
theorem q2274 : (Jvm.Cond.instanceMethod ({ cls := "FortPlannerModel", name := "width", desc := "(I)I" } : Jvm.MethodName)) ∈ lw_all := lw_g (lw_at lw_m10 27 rfl) rfl
theorem q2275 : (Jvm.Cond.selects "FortPlannerModel" ({ cls := "FortPlannerModel", name := "width", desc := "(I)I" } : Jvm.MethodName) ({ cls := "FortPlannerModel", name := "width", desc := "(I)I" } : Jvm.MethodName)) ∈ lw_all := lw_g (lw_at lw_m10 28 rfl) rfl
theorem q2276 : (Jvm.Cond.code ({ cls := "FortPlannerModel", name := "width", desc := "(I)I" } : Jvm.MethodName) prog_16_method_52_code (2 : Nat) (Option.some Jvm.ClassFile.FieldType.int)) ∈ lw_all := lw_g (lw_at lw_m10 29 rfl) rfl
theorem q2278 : (Jvm.Cond.instanceMethod ({ cls := "FortPlannerModel", name := "weight", desc := "(I)I" } : Jvm.MethodName)) ∈ lw_all := lw_g (lw_at lw_m10 31 rfl) rfl
theorem q2279 : (Jvm.Cond.selects "FortPlannerModel" ({ cls := "FortPlannerModel", name := "weight", desc := "(I)I" } : Jvm.MethodName) ({ cls := "FortPlannerModel", name := "weight", desc := "(I)I" } : Jvm.MethodName)) ∈ lw_all := lw_g (lw_at lw_m10 32 rfl) rfl
theorem q2280 : (Jvm.Cond.code ({ cls := "FortPlannerModel", name := "weight", desc := "(I)I" } : Jvm.MethodName) prog_16_method_53_code (2 : Nat) (Option.some Jvm.ClassFile.FieldType.int)) ∈ lw_all := lw_g (lw_at lw_m10 33 rfl) rfl
theorem q2282 : (Jvm.Cond.instanceMethod ({ cls := "FortPlannerModel", name := "strength", desc := "(I)I" } : Jvm.MethodName)) ∈ lw_all := lw_g (lw_at lw_m10 35 rfl) rfl
theorem q2283 : (Jvm.Cond.selects "FortPlannerModel" ({ cls := "FortPlannerModel", name := "strength", desc := "(I)I" } : Jvm.MethodName) ({ cls := "FortPlannerModel", name := "strength", desc := "(I)I" } : Jvm.MethodName)) ∈ lw_all := lw_g (lw_at lw_m10 36 rfl) rfl
theorem q2284 : (Jvm.Cond.code ({ cls := "FortPlannerModel", name := "strength", desc := "(I)I" } : Jvm.MethodName) prog_16_method_54_code (3 : Nat) (Option.some Jvm.ClassFile.FieldType.int)) ∈ lw_all := lw_g (lw_at lw_m10 37 rfl) rfl
theorem q2286 : (Jvm.Cond.instanceMethod ({ cls := "FortPlannerModel", name := "bottom", desc := "(I)I" } : Jvm.MethodName)) ∈ lw_all := lw_g (lw_at lw_m10 39 rfl) rfl
theorem q2287 : (Jvm.Cond.selects "FortPlannerModel" ({ cls := "FortPlannerModel", name := "bottom", desc := "(I)I" } : Jvm.MethodName) ({ cls := "FortPlannerModel", name := "bottom", desc := "(I)I" } : Jvm.MethodName)) ∈ lw_all := lw_g (lw_at lw_m10 40 rfl) rfl
theorem q2288 : (Jvm.Cond.code ({ cls := "FortPlannerModel", name := "bottom", desc := "(I)I" } : Jvm.MethodName) prog_16_method_55_code (2 : Nat) (Option.some Jvm.ClassFile.FieldType.int)) ∈ lw_all := lw_g (lw_at lw_m10 41 rfl) rfl
theorem q2290 : (Jvm.Cond.instanceMethod ({ cls := "FortPlannerModel", name := "top", desc := "(I)I" } : Jvm.MethodName)) ∈ lw_all := lw_g (lw_at lw_m10 43 rfl) rfl
theorem q2291 : (Jvm.Cond.selects "FortPlannerModel" ({ cls := "FortPlannerModel", name := "top", desc := "(I)I" } : Jvm.MethodName) ({ cls := "FortPlannerModel", name := "top", desc := "(I)I" } : Jvm.MethodName)) ∈ lw_all := lw_g (lw_at lw_m10 44 rfl) rfl
theorem q2292 : (Jvm.Cond.code ({ cls := "FortPlannerModel", name := "top", desc := "(I)I" } : Jvm.MethodName) prog_16_method_56_code (3 : Nat) (Option.some Jvm.ClassFile.FieldType.int)) ∈ lw_all := lw_g (lw_at lw_m10 45 rfl) rfl
theorem q2294 : (Jvm.Cond.instanceMethod ({ cls := "FortPlannerModel", name := "supporterCount", desc := "(I)I" } : Jvm.MethodName)) ∈ lw_all := lw_g (lw_at lw_m10 47 rfl) rfl
theorem q2295 : (Jvm.Cond.selects "FortPlannerModel" ({ cls := "FortPlannerModel", name := "supporterCount", desc := "(I)I" } : Jvm.MethodName) ({ cls := "FortPlannerModel", name := "supporterCount", desc := "(I)I" } : Jvm.MethodName)) ∈ lw_all := lw_g (lw_at lw_m10 48 rfl) rfl
theorem q2296 : (Jvm.Cond.code ({ cls := "FortPlannerModel", name := "supporterCount", desc := "(I)I" } : Jvm.MethodName) prog_16_method_57_code (3 : Nat) (Option.some Jvm.ClassFile.FieldType.int)) ∈ lw_all := lw_g (lw_at lw_m10 49 rfl) rfl
theorem q2298 : (Jvm.Cond.instanceMethod ({ cls := "FortPlannerModel", name := "supporterAt", desc := "(II)I" } : Jvm.MethodName)) ∈ lw_all := lw_g (lw_at lw_m10 51 rfl) rfl
theorem q2299 : (Jvm.Cond.selects "FortPlannerModel" ({ cls := "FortPlannerModel", name := "supporterAt", desc := "(II)I" } : Jvm.MethodName) ({ cls := "FortPlannerModel", name := "supporterAt", desc := "(II)I" } : Jvm.MethodName)) ∈ lw_all := lw_g (lw_at lw_m10 52 rfl) rfl
theorem q2300 : (Jvm.Cond.code ({ cls := "FortPlannerModel", name := "supporterAt", desc := "(II)I" } : Jvm.MethodName) prog_16_method_58_code (5 : Nat) (Option.some Jvm.ClassFile.FieldType.int)) ∈ lw_all := lw_g (lw_at lw_m10 53 rfl) rfl
theorem q2302 : (Jvm.Cond.instanceMethod ({ cls := "FortPlannerModel", name := "isSupporting", desc := "(I)Z" } : Jvm.MethodName)) ∈ lw_all := lw_g (lw_at lw_m10 55 rfl) rfl
theorem q2303 : (Jvm.Cond.selects "FortPlannerModel" ({ cls := "FortPlannerModel", name := "isSupporting", desc := "(I)Z" } : Jvm.MethodName) ({ cls := "FortPlannerModel", name := "isSupporting", desc := "(I)Z" } : Jvm.MethodName)) ∈ lw_all := lw_g (lw_at lw_m10 56 rfl) rfl
theorem q2304 : (Jvm.Cond.code ({ cls := "FortPlannerModel", name := "isSupporting", desc := "(I)Z" } : Jvm.MethodName) prog_16_method_59_code (3 : Nat) (Option.some Jvm.ClassFile.FieldType.boolean)) ∈ lw_all := lw_g (lw_at lw_m10 57 rfl) rfl
theorem q2306 : (Jvm.Cond.instanceMethod ({ cls := "FortPlannerModel", name := "load", desc := "(I)I" } : Jvm.MethodName)) ∈ lw_all := lw_g (lw_at lw_m10 59 rfl) rfl
theorem q2307 : (Jvm.Cond.selects "FortPlannerModel" ({ cls := "FortPlannerModel", name := "load", desc := "(I)I" } : Jvm.MethodName) ({ cls := "FortPlannerModel", name := "load", desc := "(I)I" } : Jvm.MethodName)) ∈ lw_all := lw_g (lw_at lw_m10 60 rfl) rfl
theorem q2308 : (Jvm.Cond.code ({ cls := "FortPlannerModel", name := "load", desc := "(I)I" } : Jvm.MethodName) prog_16_method_60_code (3 : Nat) (Option.some Jvm.ClassFile.FieldType.int)) ∈ lw_all := lw_g (lw_at lw_m10 61 rfl) rfl
theorem q2310 : (Jvm.Cond.instanceMethod ({ cls := "FortPlannerModel", name := "loadByRecursion", desc := "(I)I" } : Jvm.MethodName)) ∈ lw_all := lw_g (lw_at lw_m10 63 rfl) rfl
theorem q2311 : (Jvm.Cond.selects "FortPlannerModel" ({ cls := "FortPlannerModel", name := "loadByRecursion", desc := "(I)I" } : Jvm.MethodName) ({ cls := "FortPlannerModel", name := "loadByRecursion", desc := "(I)I" } : Jvm.MethodName)) ∈ lw_all := lw_g (lw_at lw_m10 64 rfl) rfl
theorem q2312 : (Jvm.Cond.code ({ cls := "FortPlannerModel", name := "loadByRecursion", desc := "(I)I" } : Jvm.MethodName) prog_16_method_61_code (2 : Nat) (Option.some Jvm.ClassFile.FieldType.int)) ∈ lw_all := lw_g (lw_at lw_m10 65 rfl) rfl
theorem q2313 : (Jvm.Cond.methodLink "FortPlannerModel" (163 : Nat) ({ cls := "FortPlannerModel", name := "load", desc := "(I)I" } : Jvm.MethodName)) ∈ lw_all := lw_g (lw_at lw_m10 66 rfl) rfl
theorem q2315 : (Jvm.Cond.instanceMethod ({ cls := "FortPlannerModel", name := "slack", desc := "(I)I" } : Jvm.MethodName)) ∈ lw_all := lw_g (lw_at lw_m10 68 rfl) rfl
theorem q2316 : (Jvm.Cond.selects "FortPlannerModel" ({ cls := "FortPlannerModel", name := "slack", desc := "(I)I" } : Jvm.MethodName) ({ cls := "FortPlannerModel", name := "slack", desc := "(I)I" } : Jvm.MethodName)) ∈ lw_all := lw_g (lw_at lw_m10 69 rfl) rfl
theorem q2317 : (Jvm.Cond.code ({ cls := "FortPlannerModel", name := "slack", desc := "(I)I" } : Jvm.MethodName) prog_16_method_62_code (3 : Nat) (Option.some Jvm.ClassFile.FieldType.int)) ∈ lw_all := lw_g (lw_at lw_m10 70 rfl) rfl
theorem q2319 : (Jvm.Cond.instanceMethod ({ cls := "FortPlannerModel", name := "weakest", desc := "()I" } : Jvm.MethodName)) ∈ lw_all := lw_g (lw_at lw_m10 72 rfl) rfl
theorem q2320 : (Jvm.Cond.selects "FortPlannerModel" ({ cls := "FortPlannerModel", name := "weakest", desc := "()I" } : Jvm.MethodName) ({ cls := "FortPlannerModel", name := "weakest", desc := "()I" } : Jvm.MethodName)) ∈ lw_all := lw_g (lw_at lw_m10 73 rfl) rfl
theorem q2321 : (Jvm.Cond.code ({ cls := "FortPlannerModel", name := "weakest", desc := "()I" } : Jvm.MethodName) prog_16_method_63_code (3 : Nat) (Option.some Jvm.ClassFile.FieldType.int)) ∈ lw_all := lw_g (lw_at lw_m10 74 rfl) rfl
theorem q2323 : (Jvm.Cond.instanceMethod ({ cls := "FortPlannerModel", name := "blockBySlack", desc := "(I)I" } : Jvm.MethodName)) ∈ lw_all := lw_g (lw_at lw_m10 76 rfl) rfl
theorem q2324 : (Jvm.Cond.selects "FortPlannerModel" ({ cls := "FortPlannerModel", name := "blockBySlack", desc := "(I)I" } : Jvm.MethodName) ({ cls := "FortPlannerModel", name := "blockBySlack", desc := "(I)I" } : Jvm.MethodName)) ∈ lw_all := lw_g (lw_at lw_m10 77 rfl) rfl
theorem q2325 : (Jvm.Cond.code ({ cls := "FortPlannerModel", name := "blockBySlack", desc := "(I)I" } : Jvm.MethodName) prog_16_method_64_code (6 : Nat) (Option.some Jvm.ClassFile.FieldType.int)) ∈ lw_all := lw_g (lw_at lw_m10 78 rfl) rfl
theorem q2327 : (Jvm.Cond.instanceMethod ({ cls := "FortPlannerModel", name := "level", desc := "(I)I" } : Jvm.MethodName)) ∈ lw_all := lw_g (lw_at lw_m10 80 rfl) rfl
theorem q2328 : (Jvm.Cond.selects "FortPlannerModel" ({ cls := "FortPlannerModel", name := "level", desc := "(I)I" } : Jvm.MethodName) ({ cls := "FortPlannerModel", name := "level", desc := "(I)I" } : Jvm.MethodName)) ∈ lw_all := lw_g (lw_at lw_m10 81 rfl) rfl
theorem q2329 : (Jvm.Cond.code ({ cls := "FortPlannerModel", name := "level", desc := "(I)I" } : Jvm.MethodName) prog_16_method_66_code (3 : Nat) (Option.some Jvm.ClassFile.FieldType.int)) ∈ lw_all := lw_g (lw_at lw_m10 82 rfl) rfl
theorem q2330 : (Jvm.Cond.methodLink "FortPlannerModel" (166 : Nat) ({ cls := "FortPlannerModel", name := "ranks", desc := "()V" } : Jvm.MethodName)) ∈ lw_all := lw_g (lw_at lw_m10 83 rfl) rfl
theorem q2331 : (Jvm.Cond.privateMethod ({ cls := "FortPlannerModel", name := "ranks", desc := "()V" } : Jvm.MethodName)) ∈ lw_tbl := lw_at lw_m10 84 rfl
theorem q2332 : (Jvm.Cond.instanceMethod ({ cls := "FortPlannerModel", name := "ranks", desc := "()V" } : Jvm.MethodName)) ∈ lw_all := lw_g (lw_at lw_m10 85 rfl) rfl
theorem q2333 : (Jvm.Cond.code ({ cls := "FortPlannerModel", name := "ranks", desc := "()V" } : Jvm.MethodName) prog_16_method_65_code (4 : Nat) (Option.none : Option Jvm.ClassFile.FieldType)) ∈ lw_all := lw_g (lw_at lw_m10 86 rfl) rfl
theorem q2335 : (Jvm.Cond.instanceMethod ({ cls := "FortPlannerModel", name := "levelCount", desc := "()I" } : Jvm.MethodName)) ∈ lw_all := lw_g (lw_at lw_m10 88 rfl) rfl
theorem q2336 : (Jvm.Cond.selects "FortPlannerModel" ({ cls := "FortPlannerModel", name := "levelCount", desc := "()I" } : Jvm.MethodName) ({ cls := "FortPlannerModel", name := "levelCount", desc := "()I" } : Jvm.MethodName)) ∈ lw_all := lw_g (lw_at lw_m10 89 rfl) rfl
theorem q2337 : (Jvm.Cond.code ({ cls := "FortPlannerModel", name := "levelCount", desc := "()I" } : Jvm.MethodName) prog_16_method_67_code (4 : Nat) (Option.some Jvm.ClassFile.FieldType.int)) ∈ lw_all := lw_g (lw_at lw_m10 90 rfl) rfl
theorem q2339 : (Jvm.Cond.instanceMethod ({ cls := "FortPlannerModel", name := "isAbove", desc := "(II)Z" } : Jvm.MethodName)) ∈ lw_all := lw_g (lw_at lw_m10 92 rfl) rfl
theorem q2340 : (Jvm.Cond.selects "FortPlannerModel" ({ cls := "FortPlannerModel", name := "isAbove", desc := "(II)Z" } : Jvm.MethodName) ({ cls := "FortPlannerModel", name := "isAbove", desc := "(II)Z" } : Jvm.MethodName)) ∈ lw_all := lw_g (lw_at lw_m10 93 rfl) rfl
theorem q2341 : (Jvm.Cond.code ({ cls := "FortPlannerModel", name := "isAbove", desc := "(II)Z" } : Jvm.MethodName) prog_16_method_69_code (5 : Nat) (Option.some Jvm.ClassFile.FieldType.boolean)) ∈ lw_all := lw_g (lw_at lw_m10 94 rfl) rfl
theorem q2342 : (Jvm.Cond.methodLink "FortPlannerModel" (169 : Nat) ({ cls := "FortPlannerModel", name := "above", desc := "(I)I" } : Jvm.MethodName)) ∈ lw_all := lw_g (lw_at lw_m10 95 rfl) rfl
theorem q2343 : (Jvm.Cond.privateMethod ({ cls := "FortPlannerModel", name := "above", desc := "(I)I" } : Jvm.MethodName)) ∈ lw_tbl := lw_at lw_m10 96 rfl
theorem q2344 : (Jvm.Cond.instanceMethod ({ cls := "FortPlannerModel", name := "above", desc := "(I)I" } : Jvm.MethodName)) ∈ lw_all := lw_g (lw_at lw_m10 97 rfl) rfl
theorem q2345 : (Jvm.Cond.code ({ cls := "FortPlannerModel", name := "above", desc := "(I)I" } : Jvm.MethodName) prog_16_method_68_code (6 : Nat) (Option.some Jvm.ClassFile.FieldType.int)) ∈ lw_all := lw_g (lw_at lw_m10 98 rfl) rfl
theorem q2347 : (Jvm.Cond.instanceMethod ({ cls := "FortPlannerModel", name := "countAbove", desc := "(I)I" } : Jvm.MethodName)) ∈ lw_all := lw_g (lw_at lw_m10 100 rfl) rfl
theorem q2348 : (Jvm.Cond.selects "FortPlannerModel" ({ cls := "FortPlannerModel", name := "countAbove", desc := "(I)I" } : Jvm.MethodName) ({ cls := "FortPlannerModel", name := "countAbove", desc := "(I)I" } : Jvm.MethodName)) ∈ lw_all := lw_g (lw_at lw_m10 101 rfl) rfl
theorem q2349 : (Jvm.Cond.code ({ cls := "FortPlannerModel", name := "countAbove", desc := "(I)I" } : Jvm.MethodName) prog_16_method_70_code (5 : Nat) (Option.some Jvm.ClassFile.FieldType.int)) ∈ lw_all := lw_g (lw_at lw_m10 102 rfl) rfl
theorem q2351 : (Jvm.Cond.instanceMethod ({ cls := "FortPlannerModel", name := "height", desc := "(I)I" } : Jvm.MethodName)) ∈ lw_all := lw_g (lw_at lw_m10 104 rfl) rfl
theorem q2352 : (Jvm.Cond.selects "FortPlannerModel" ({ cls := "FortPlannerModel", name := "height", desc := "(I)I" } : Jvm.MethodName) ({ cls := "FortPlannerModel", name := "height", desc := "(I)I" } : Jvm.MethodName)) ∈ lw_all := lw_g (lw_at lw_m10 105 rfl) rfl
theorem q2353 : (Jvm.Cond.code ({ cls := "FortPlannerModel", name := "height", desc := "(I)I" } : Jvm.MethodName) prog_16_method_71_code (2 : Nat) (Option.some Jvm.ClassFile.FieldType.int)) ∈ lw_all := lw_g (lw_at lw_m10 106 rfl) rfl
theorem q2355 : (Jvm.Cond.instanceMethod ({ cls := "FortPlannerModel", name := "holes", desc := "(I)I" } : Jvm.MethodName)) ∈ lw_all := lw_g (lw_at lw_m10 108 rfl) rfl
theorem q2356 : (Jvm.Cond.selects "FortPlannerModel" ({ cls := "FortPlannerModel", name := "holes", desc := "(I)I" } : Jvm.MethodName) ({ cls := "FortPlannerModel", name := "holes", desc := "(I)I" } : Jvm.MethodName)) ∈ lw_all := lw_g (lw_at lw_m10 109 rfl) rfl
theorem q2357 : (Jvm.Cond.code ({ cls := "FortPlannerModel", name := "holes", desc := "(I)I" } : Jvm.MethodName) prog_16_method_72_code (4 : Nat) (Option.some Jvm.ClassFile.FieldType.int)) ∈ lw_all := lw_g (lw_at lw_m10 110 rfl) rfl
theorem q2359 : (Jvm.Cond.instanceMethod ({ cls := "FortPlannerModel", name := "holesByHeights", desc := "(I)I" } : Jvm.MethodName)) ∈ lw_all := lw_g (lw_at lw_m10 112 rfl) rfl
theorem q2360 : (Jvm.Cond.selects "FortPlannerModel" ({ cls := "FortPlannerModel", name := "holesByHeights", desc := "(I)I" } : Jvm.MethodName) ({ cls := "FortPlannerModel", name := "holesByHeights", desc := "(I)I" } : Jvm.MethodName)) ∈ lw_all := lw_g (lw_at lw_m10 113 rfl) rfl
theorem q2361 : (Jvm.Cond.code ({ cls := "FortPlannerModel", name := "holesByHeights", desc := "(I)I" } : Jvm.MethodName) prog_16_method_73_code (2 : Nat) (Option.some Jvm.ClassFile.FieldType.int)) ∈ lw_all := lw_g (lw_at lw_m10 114 rfl) rfl
theorem q2362 : (Jvm.Cond.methodLink "FortPlannerModel" (172 : Nat) ({ cls := "FortPlannerModel", name := "holes", desc := "(I)I" } : Jvm.MethodName)) ∈ lw_all := lw_g (lw_at lw_m10 115 rfl) rfl
theorem q2364 : (Jvm.Cond.instanceMethod ({ cls := "FortPlannerModel", name := "steps", desc := "()I" } : Jvm.MethodName)) ∈ lw_all := lw_g (lw_at lw_m10 117 rfl) rfl
theorem q2365 : (Jvm.Cond.selects "FortPlannerModel" ({ cls := "FortPlannerModel", name := "steps", desc := "()I" } : Jvm.MethodName) ({ cls := "FortPlannerModel", name := "steps", desc := "()I" } : Jvm.MethodName)) ∈ lw_all := lw_g (lw_at lw_m10 118 rfl) rfl
theorem q2366 : (Jvm.Cond.code ({ cls := "FortPlannerModel", name := "steps", desc := "()I" } : Jvm.MethodName) prog_16_method_74_code (3 : Nat) (Option.some Jvm.ClassFile.FieldType.int)) ∈ lw_all := lw_g (lw_at lw_m10 119 rfl) rfl
theorem q2368 : (Jvm.Cond.instanceMethod ({ cls := "FortPlannerModel", name := "highestColumn", desc := "()I" } : Jvm.MethodName)) ∈ lw_all := lw_g (lw_at lw_m10 121 rfl) rfl
theorem q2369 : (Jvm.Cond.selects "FortPlannerModel" ({ cls := "FortPlannerModel", name := "highestColumn", desc := "()I" } : Jvm.MethodName) ({ cls := "FortPlannerModel", name := "highestColumn", desc := "()I" } : Jvm.MethodName)) ∈ lw_all := lw_g (lw_at lw_m10 122 rfl) rfl
theorem q2370 : (Jvm.Cond.code ({ cls := "FortPlannerModel", name := "highestColumn", desc := "()I" } : Jvm.MethodName) prog_16_method_75_code (3 : Nat) (Option.some Jvm.ClassFile.FieldType.int)) ∈ lw_all := lw_g (lw_at lw_m10 123 rfl) rfl
theorem q2372 : (Jvm.Cond.instanceMethod ({ cls := "FortPlannerModel", name := "zone", desc := "(I)C" } : Jvm.MethodName)) ∈ lw_all := lw_g (lw_at lw_m10 125 rfl) rfl
theorem q2373 : (Jvm.Cond.selects "FortPlannerModel" ({ cls := "FortPlannerModel", name := "zone", desc := "(I)C" } : Jvm.MethodName) ({ cls := "FortPlannerModel", name := "zone", desc := "(I)C" } : Jvm.MethodName)) ∈ lw_all := lw_g (lw_at lw_m10 126 rfl) rfl
theorem q2374 : (Jvm.Cond.code ({ cls := "FortPlannerModel", name := "zone", desc := "(I)C" } : Jvm.MethodName) prog_16_method_76_code (2 : Nat) (Option.some Jvm.ClassFile.FieldType.char)) ∈ lw_all := lw_g (lw_at lw_m10 127 rfl) rfl
theorem q2376 : (Jvm.Cond.instanceMethod ({ cls := "FortPlannerModel", name := "hasTorch", desc := "(I)Z" } : Jvm.MethodName)) ∈ lw_all := lw_g (lw_at lw_m10 129 rfl) rfl
theorem q2377 : (Jvm.Cond.selects "FortPlannerModel" ({ cls := "FortPlannerModel", name := "hasTorch", desc := "(I)Z" } : Jvm.MethodName) ({ cls := "FortPlannerModel", name := "hasTorch", desc := "(I)Z" } : Jvm.MethodName)) ∈ lw_all := lw_g (lw_at lw_m10 130 rfl) rfl
theorem q2378 : (Jvm.Cond.code ({ cls := "FortPlannerModel", name := "hasTorch", desc := "(I)Z" } : Jvm.MethodName) prog_16_method_77_code (2 : Nat) (Option.some Jvm.ClassFile.FieldType.boolean)) ∈ lw_all := lw_g (lw_at lw_m10 131 rfl) rfl
theorem q2380 : (Jvm.Cond.instanceMethod ({ cls := "FortPlannerModel", name := "isLit", desc := "(I)Z" } : Jvm.MethodName)) ∈ lw_all := lw_g (lw_at lw_m10 133 rfl) rfl
theorem q2381 : (Jvm.Cond.selects "FortPlannerModel" ({ cls := "FortPlannerModel", name := "isLit", desc := "(I)Z" } : Jvm.MethodName) ({ cls := "FortPlannerModel", name := "isLit", desc := "(I)Z" } : Jvm.MethodName)) ∈ lw_all := lw_g (lw_at lw_m10 134 rfl) rfl
theorem q2382 : (Jvm.Cond.code ({ cls := "FortPlannerModel", name := "isLit", desc := "(I)Z" } : Jvm.MethodName) prog_16_method_80_code (2 : Nat) (Option.some Jvm.ClassFile.FieldType.boolean)) ∈ lw_all := lw_g (lw_at lw_m10 135 rfl) rfl
theorem q2383 : (Jvm.Cond.methodLink "FortPlannerModel" (178 : Nat) ({ cls := "FortPlannerModel", name := "lit", desc := "(I)Z" } : Jvm.MethodName)) ∈ lw_all := lw_g (lw_at lw_m10 136 rfl) rfl
theorem q2384 : (Jvm.Cond.privateMethod ({ cls := "FortPlannerModel", name := "lit", desc := "(I)Z" } : Jvm.MethodName)) ∈ lw_tbl := lw_at lw_m10 137 rfl
theorem q2385 : (Jvm.Cond.instanceMethod ({ cls := "FortPlannerModel", name := "lit", desc := "(I)Z" } : Jvm.MethodName)) ∈ lw_all := lw_g (lw_at lw_m10 138 rfl) rfl
theorem q2386 : (Jvm.Cond.code ({ cls := "FortPlannerModel", name := "lit", desc := "(I)Z" } : Jvm.MethodName) prog_16_method_79_code (3 : Nat) (Option.some Jvm.ClassFile.FieldType.boolean)) ∈ lw_all := lw_g (lw_at lw_m10 139 rfl) rfl
theorem q2387 : (Jvm.Cond.methodLink "FortPlannerModel" (175 : Nat) ({ cls := "FortPlannerModel", name := "reaches", desc := "(II)Z" } : Jvm.MethodName)) ∈ lw_all := lw_g (lw_at lw_m10 140 rfl) rfl
theorem q2388 : (Jvm.Cond.privateMethod ({ cls := "FortPlannerModel", name := "reaches", desc := "(II)Z" } : Jvm.MethodName)) ∈ lw_tbl := lw_at lw_m10 141 rfl
theorem q2389 : (Jvm.Cond.instanceMethod ({ cls := "FortPlannerModel", name := "reaches", desc := "(II)Z" } : Jvm.MethodName)) ∈ lw_all := lw_g (lw_at lw_m10 142 rfl) rfl
theorem q2390 : (Jvm.Cond.code ({ cls := "FortPlannerModel", name := "reaches", desc := "(II)Z" } : Jvm.MethodName) prog_16_method_78_code (7 : Nat) (Option.some Jvm.ClassFile.FieldType.boolean)) ∈ lw_all := lw_g (lw_at lw_m10 143 rfl) rfl
theorem q2392 : (Jvm.Cond.instanceMethod ({ cls := "FortPlannerModel", name := "isLitByMaxima", desc := "(I)Z" } : Jvm.MethodName)) ∈ lw_all := lw_g (lw_at lw_m10 145 rfl) rfl
theorem q2393 : (Jvm.Cond.selects "FortPlannerModel" ({ cls := "FortPlannerModel", name := "isLitByMaxima", desc := "(I)Z" } : Jvm.MethodName) ({ cls := "FortPlannerModel", name := "isLitByMaxima", desc := "(I)Z" } : Jvm.MethodName)) ∈ lw_all := lw_g (lw_at lw_m10 146 rfl) rfl
theorem q2394 : (Jvm.Cond.code ({ cls := "FortPlannerModel", name := "isLitByMaxima", desc := "(I)Z" } : Jvm.MethodName) prog_16_method_81_code (2 : Nat) (Option.some Jvm.ClassFile.FieldType.boolean)) ∈ lw_all := lw_g (lw_at lw_m10 147 rfl) rfl
theorem q2395 : (Jvm.Cond.methodLink "FortPlannerModel" (181 : Nat) ({ cls := "FortPlannerModel", name := "isLit", desc := "(I)Z" } : Jvm.MethodName)) ∈ lw_all := lw_g (lw_at lw_m10 148 rfl) rfl
theorem q2397 : (Jvm.Cond.instanceMethod ({ cls := "FortPlannerModel", name := "litCount", desc := "()I" } : Jvm.MethodName)) ∈ lw_all := lw_g (lw_at lw_m10 150 rfl) rfl
theorem q2398 : (Jvm.Cond.selects "FortPlannerModel" ({ cls := "FortPlannerModel", name := "litCount", desc := "()I" } : Jvm.MethodName) ({ cls := "FortPlannerModel", name := "litCount", desc := "()I" } : Jvm.MethodName)) ∈ lw_all := lw_g (lw_at lw_m10 151 rfl) rfl
theorem q2399 : (Jvm.Cond.code ({ cls := "FortPlannerModel", name := "litCount", desc := "()I" } : Jvm.MethodName) prog_16_method_83_code (1 : Nat) (Option.some Jvm.ClassFile.FieldType.int)) ∈ lw_all := lw_g (lw_at lw_m10 152 rfl) rfl
theorem q2400 : (Jvm.Cond.methodLink "FortPlannerModel" (184 : Nat) ({ cls := "FortPlannerModel", name := "allLit", desc := "()I" } : Jvm.MethodName)) ∈ lw_all := lw_g (lw_at lw_m10 153 rfl) rfl
theorem q2401 : (Jvm.Cond.privateMethod ({ cls := "FortPlannerModel", name := "allLit", desc := "()I" } : Jvm.MethodName)) ∈ lw_tbl := lw_at lw_m10 154 rfl
theorem q2402 : (Jvm.Cond.instanceMethod ({ cls := "FortPlannerModel", name := "allLit", desc := "()I" } : Jvm.MethodName)) ∈ lw_all := lw_g (lw_at lw_m10 155 rfl) rfl
theorem q2403 : (Jvm.Cond.code ({ cls := "FortPlannerModel", name := "allLit", desc := "()I" } : Jvm.MethodName) prog_16_method_82_code (3 : Nat) (Option.some Jvm.ClassFile.FieldType.int)) ∈ lw_all := lw_g (lw_at lw_m10 156 rfl) rfl
theorem q2405 : (Jvm.Cond.instanceMethod ({ cls := "FortPlannerModel", name := "totalWeight", desc := "()I" } : Jvm.MethodName)) ∈ lw_all := lw_g (lw_at lw_m10 158 rfl) rfl
theorem q2406 : (Jvm.Cond.selects "FortPlannerModel" ({ cls := "FortPlannerModel", name := "totalWeight", desc := "()I" } : Jvm.MethodName) ({ cls := "FortPlannerModel", name := "totalWeight", desc := "()I" } : Jvm.MethodName)) ∈ lw_all := lw_g (lw_at lw_m10 159 rfl) rfl
theorem q2407 : (Jvm.Cond.code ({ cls := "FortPlannerModel", name := "totalWeight", desc := "()I" } : Jvm.MethodName) prog_16_method_84_code (3 : Nat) (Option.some Jvm.ClassFile.FieldType.int)) ∈ lw_all := lw_g (lw_at lw_m10 160 rfl) rfl
theorem q2409 : (Jvm.Cond.instanceMethod ({ cls := "FortPlannerModel", name := "floorPressure", desc := "()I" } : Jvm.MethodName)) ∈ lw_all := lw_g (lw_at lw_m10 162 rfl) rfl
theorem q2410 : (Jvm.Cond.selects "FortPlannerModel" ({ cls := "FortPlannerModel", name := "floorPressure", desc := "()I" } : Jvm.MethodName) ({ cls := "FortPlannerModel", name := "floorPressure", desc := "()I" } : Jvm.MethodName)) ∈ lw_all := lw_g (lw_at lw_m10 163 rfl) rfl
theorem q2411 : (Jvm.Cond.code ({ cls := "FortPlannerModel", name := "floorPressure", desc := "()I" } : Jvm.MethodName) prog_16_method_85_code (3 : Nat) (Option.some Jvm.ClassFile.FieldType.int)) ∈ lw_all := lw_g (lw_at lw_m10 164 rfl) rfl
theorem q2413 : (Jvm.Cond.instanceMethod ({ cls := "FortPlannerModel", name := "meanHeight", desc := "()D" } : Jvm.MethodName)) ∈ lw_all := lw_g (lw_at lw_m10 166 rfl) rfl
theorem q2414 : (Jvm.Cond.selects "FortPlannerModel" ({ cls := "FortPlannerModel", name := "meanHeight", desc := "()D" } : Jvm.MethodName) ({ cls := "FortPlannerModel", name := "meanHeight", desc := "()D" } : Jvm.MethodName)) ∈ lw_all := lw_g (lw_at lw_m10 167 rfl) rfl
theorem q2415 : (Jvm.Cond.code ({ cls := "FortPlannerModel", name := "meanHeight", desc := "()D" } : Jvm.MethodName) prog_16_method_86_code (3 : Nat) (Option.some Jvm.ClassFile.FieldType.double)) ∈ lw_all := lw_g (lw_at lw_m10 168 rfl) rfl
theorem q2416 : (Jvm.Cond.constantDouble "FortPlannerModel" (187 : Nat) (4622945017495814144 : UInt64)) ∈ lw_all := lw_g (lw_at lw_m10 169 rfl) rfl
theorem q2418 : (Jvm.Cond.instanceMethod ({ cls := "FortPlannerModel", name := "litShare", desc := "()F" } : Jvm.MethodName)) ∈ lw_all := lw_g (lw_at lw_m10 171 rfl) rfl
theorem q2419 : (Jvm.Cond.selects "FortPlannerModel" ({ cls := "FortPlannerModel", name := "litShare", desc := "()F" } : Jvm.MethodName) ({ cls := "FortPlannerModel", name := "litShare", desc := "()F" } : Jvm.MethodName)) ∈ lw_all := lw_g (lw_at lw_m10 172 rfl) rfl
theorem q2420 : (Jvm.Cond.code ({ cls := "FortPlannerModel", name := "litShare", desc := "()F" } : Jvm.MethodName) prog_16_method_87_code (1 : Nat) (Option.some Jvm.ClassFile.FieldType.float)) ∈ lw_all := lw_g (lw_at lw_m10 173 rfl) rfl
theorem q2421 : (Jvm.Cond.constantFloat "FortPlannerModel" (189 : Nat) (1094713344 : UInt32)) ∈ lw_all := lw_g (lw_at lw_m10 174 rfl) rfl
theorem q2423 : (Jvm.Cond.instanceMethod ({ cls := "FortPlannerModel", name := "isConsistent", desc := "()Z" } : Jvm.MethodName)) ∈ lw_all := lw_g (lw_at lw_m10 176 rfl) rfl
theorem q2424 : (Jvm.Cond.selects "FortPlannerModel" ({ cls := "FortPlannerModel", name := "isConsistent", desc := "()Z" } : Jvm.MethodName) ({ cls := "FortPlannerModel", name := "isConsistent", desc := "()Z" } : Jvm.MethodName)) ∈ lw_all := lw_g (lw_at lw_m10 177 rfl) rfl
theorem q2425 : (Jvm.Cond.code ({ cls := "FortPlannerModel", name := "isConsistent", desc := "()Z" } : Jvm.MethodName) prog_16_method_88_code (2 : Nat) (Option.some Jvm.ClassFile.FieldType.boolean)) ∈ lw_all := lw_g (lw_at lw_m10 178 rfl) rfl
theorem q2427 : (Jvm.Cond.instanceMethod ({ cls := "FortPlannerModel", name := "formatBlock", desc := "(I)I" } : Jvm.MethodName)) ∈ lw_all := lw_g (lw_at lw_m10 180 rfl) rfl
theorem q2428 : (Jvm.Cond.selects "FortPlannerModel" ({ cls := "FortPlannerModel", name := "formatBlock", desc := "(I)I" } : Jvm.MethodName) ({ cls := "FortPlannerModel", name := "formatBlock", desc := "(I)I" } : Jvm.MethodName)) ∈ lw_all := lw_g (lw_at lw_m10 181 rfl) rfl
theorem q2429 : (Jvm.Cond.code ({ cls := "FortPlannerModel", name := "formatBlock", desc := "(I)I" } : Jvm.MethodName) prog_16_method_92_code (3 : Nat) (Option.some Jvm.ClassFile.FieldType.int)) ∈ lw_all := lw_g (lw_at lw_m10 182 rfl) rfl
theorem q2430 : (Jvm.Cond.methodLink "FortPlannerModel" (199 : Nat) ({ cls := "FortPlannerModel", name := "writesBehind", desc := "(II)V" } : Jvm.MethodName)) ∈ lw_all := lw_g (lw_at lw_m10 183 rfl) rfl
theorem q2431 : (Jvm.Cond.privateMethod ({ cls := "FortPlannerModel", name := "writesBehind", desc := "(II)V" } : Jvm.MethodName)) ∈ lw_tbl := lw_at lw_m10 184 rfl
theorem q2432 : (Jvm.Cond.instanceMethod ({ cls := "FortPlannerModel", name := "writesBehind", desc := "(II)V" } : Jvm.MethodName)) ∈ lw_all := lw_g (lw_at lw_m10 185 rfl) rfl
theorem q2433 : (Jvm.Cond.code ({ cls := "FortPlannerModel", name := "writesBehind", desc := "(II)V" } : Jvm.MethodName) prog_16_method_91_code (3 : Nat) (Option.none : Option Jvm.ClassFile.FieldType)) ∈ lw_all := lw_g (lw_at lw_m10 186 rfl) rfl
theorem q2434 : (Jvm.Cond.methodLink "FortPlannerModel" (193 : Nat) ({ cls := "FortPlannerModel", name := "writes", desc := "(I)V" } : Jvm.MethodName)) ∈ lw_all := lw_g (lw_at lw_m10 187 rfl) rfl
theorem q2435 : (Jvm.Cond.privateMethod ({ cls := "FortPlannerModel", name := "writes", desc := "(I)V" } : Jvm.MethodName)) ∈ lw_tbl := lw_at lw_m10 188 rfl
theorem q2436 : (Jvm.Cond.instanceMethod ({ cls := "FortPlannerModel", name := "writes", desc := "(I)V" } : Jvm.MethodName)) ∈ lw_all := lw_g (lw_at lw_m10 189 rfl) rfl
theorem q2437 : (Jvm.Cond.code ({ cls := "FortPlannerModel", name := "writes", desc := "(I)V" } : Jvm.MethodName) prog_16_method_89_code (2 : Nat) (Option.none : Option Jvm.ClassFile.FieldType)) ∈ lw_all := lw_g (lw_at lw_m10 190 rfl) rfl
theorem q2438 : (Jvm.Cond.methodLink "FortPlannerModel" (196 : Nat) ({ cls := "FortPlannerModel", name := "writesNumber", desc := "(I)V" } : Jvm.MethodName)) ∈ lw_all := lw_g (lw_at lw_m10 191 rfl) rfl
theorem q2439 : (Jvm.Cond.privateMethod ({ cls := "FortPlannerModel", name := "writesNumber", desc := "(I)V" } : Jvm.MethodName)) ∈ lw_tbl := lw_at lw_m10 192 rfl
theorem q2440 : (Jvm.Cond.instanceMethod ({ cls := "FortPlannerModel", name := "writesNumber", desc := "(I)V" } : Jvm.MethodName)) ∈ lw_all := lw_g (lw_at lw_m10 193 rfl) rfl
theorem q2441 : (Jvm.Cond.code ({ cls := "FortPlannerModel", name := "writesNumber", desc := "(I)V" } : Jvm.MethodName) prog_16_method_90_code (3 : Nat) (Option.none : Option Jvm.ClassFile.FieldType)) ∈ lw_all := lw_g (lw_at lw_m10 194 rfl) rfl
theorem q2443 : (Jvm.Cond.instanceMethod ({ cls := "FortPlannerModel", name := "formatHeights", desc := "()I" } : Jvm.MethodName)) ∈ lw_all := lw_g (lw_at lw_m10 196 rfl) rfl
theorem q2444 : (Jvm.Cond.selects "FortPlannerModel" ({ cls := "FortPlannerModel", name := "formatHeights", desc := "()I" } : Jvm.MethodName) ({ cls := "FortPlannerModel", name := "formatHeights", desc := "()I" } : Jvm.MethodName)) ∈ lw_all := lw_g (lw_at lw_m10 197 rfl) rfl
theorem q2445 : (Jvm.Cond.code ({ cls := "FortPlannerModel", name := "formatHeights", desc := "()I" } : Jvm.MethodName) prog_16_method_93_code (2 : Nat) (Option.some Jvm.ClassFile.FieldType.int)) ∈ lw_all := lw_g (lw_at lw_m10 198 rfl) rfl
theorem q2447 : (Jvm.Cond.instanceMethod ({ cls := "FortPlannerModel", name := "lineChar", desc := "(I)C" } : Jvm.MethodName)) ∈ lw_all := lw_g (lw_at lw_m10 200 rfl) rfl
theorem q2448 : (Jvm.Cond.selects "FortPlannerModel" ({ cls := "FortPlannerModel", name := "lineChar", desc := "(I)C" } : Jvm.MethodName) ({ cls := "FortPlannerModel", name := "lineChar", desc := "(I)C" } : Jvm.MethodName)) ∈ lw_all := lw_g (lw_at lw_m10 201 rfl) rfl
theorem q2449 : (Jvm.Cond.code ({ cls := "FortPlannerModel", name := "lineChar", desc := "(I)C" } : Jvm.MethodName) prog_16_method_94_code (2 : Nat) (Option.some Jvm.ClassFile.FieldType.char)) ∈ lw_all := lw_g (lw_at lw_m10 202 rfl) rfl
theorem q2451 : (Jvm.Cond.instanceMethod ({ cls := "FortPlannerModel", name := "append", desc := "(C)I" } : Jvm.MethodName)) ∈ lw_all := lw_g (lw_at lw_m10 204 rfl) rfl
theorem q2452 : (Jvm.Cond.selects "FortPlannerModel" ({ cls := "FortPlannerModel", name := "append", desc := "(C)I" } : Jvm.MethodName) ({ cls := "FortPlannerModel", name := "append", desc := "(C)I" } : Jvm.MethodName)) ∈ lw_all := lw_g (lw_at lw_m10 205 rfl) rfl
theorem q2453 : (Jvm.Cond.code ({ cls := "FortPlannerModel", name := "append", desc := "(C)I" } : Jvm.MethodName) prog_16_method_95_code (2 : Nat) (Option.some Jvm.ClassFile.FieldType.int)) ∈ lw_all := lw_g (lw_at lw_m10 206 rfl) rfl
theorem q2455 : (Jvm.Cond.instanceMethod ({ cls := "FortPlannerModel", name := "run", desc := "()I" } : Jvm.MethodName)) ∈ lw_all := lw_g (lw_at lw_m10 208 rfl) rfl
theorem q2456 : (Jvm.Cond.selects "FortPlannerModel" ({ cls := "FortPlannerModel", name := "run", desc := "()I" } : Jvm.MethodName) ({ cls := "FortPlannerModel", name := "run", desc := "()I" } : Jvm.MethodName)) ∈ lw_all := lw_g (lw_at lw_m10 209 rfl) rfl
theorem q2457 : (Jvm.Cond.code ({ cls := "FortPlannerModel", name := "run", desc := "()I" } : Jvm.MethodName) prog_16_method_105_code (2 : Nat) (Option.some Jvm.ClassFile.FieldType.int)) ∈ lw_all := lw_g (lw_at lw_m10 210 rfl) rfl
theorem q2458 : (Jvm.Cond.methodLink "FortPlannerModel" (243 : Nat) ({ cls := "FortPlannerModel", name := "commands", desc := "()I" } : Jvm.MethodName)) ∈ lw_all := lw_g (lw_at lw_m10 211 rfl) rfl
theorem q2459 : (Jvm.Cond.privateMethod ({ cls := "FortPlannerModel", name := "commands", desc := "()I" } : Jvm.MethodName)) ∈ lw_tbl := lw_at lw_m10 212 rfl
theorem q2460 : (Jvm.Cond.instanceMethod ({ cls := "FortPlannerModel", name := "commands", desc := "()I" } : Jvm.MethodName)) ∈ lw_all := lw_g (lw_at lw_m10 213 rfl) rfl
theorem q2461 : (Jvm.Cond.code ({ cls := "FortPlannerModel", name := "commands", desc := "()I" } : Jvm.MethodName) prog_16_method_104_code (2 : Nat) (Option.some Jvm.ClassFile.FieldType.int)) ∈ lw_all := lw_g (lw_at lw_m10 214 rfl) rfl
theorem q2462 : (Jvm.Cond.methodLink "FortPlannerModel" (240 : Nat) ({ cls := "FortPlannerModel", name := "command", desc := "()V" } : Jvm.MethodName)) ∈ lw_all := lw_g (lw_at lw_m10 215 rfl) rfl
theorem q2463 : (Jvm.Cond.privateMethod ({ cls := "FortPlannerModel", name := "command", desc := "()V" } : Jvm.MethodName)) ∈ lw_tbl := lw_at lw_m10 216 rfl
theorem q2464 : (Jvm.Cond.instanceMethod ({ cls := "FortPlannerModel", name := "command", desc := "()V" } : Jvm.MethodName)) ∈ lw_all := lw_g (lw_at lw_m10 217 rfl) rfl
theorem q2465 : (Jvm.Cond.code ({ cls := "FortPlannerModel", name := "command", desc := "()V" } : Jvm.MethodName) prog_16_method_103_code (6 : Nat) (Option.none : Option Jvm.ClassFile.FieldType)) ∈ lw_all := lw_g (lw_at lw_m10 218 rfl) rfl
theorem q2466 : (Jvm.Cond.methodLink "FortPlannerModel" (225 : Nat) ({ cls := "FortPlannerModel", name := "word", desc := "()I" } : Jvm.MethodName)) ∈ lw_all := lw_g (lw_at lw_m10 219 rfl) rfl
theorem q2467 : (Jvm.Cond.privateMethod ({ cls := "FortPlannerModel", name := "word", desc := "()I" } : Jvm.MethodName)) ∈ lw_tbl := lw_at lw_m10 220 rfl
theorem q2468 : (Jvm.Cond.instanceMethod ({ cls := "FortPlannerModel", name := "word", desc := "()I" } : Jvm.MethodName)) ∈ lw_all := lw_g (lw_at lw_m10 221 rfl) rfl
theorem q2469 : (Jvm.Cond.code ({ cls := "FortPlannerModel", name := "word", desc := "()I" } : Jvm.MethodName) prog_16_method_99_code (5 : Nat) (Option.some Jvm.ClassFile.FieldType.int)) ∈ lw_all := lw_g (lw_at lw_m10 222 rfl) rfl
theorem q2470 : (Jvm.Cond.methodLink "FortPlannerModel" (216 : Nat) ({ cls := "FortPlannerModel", name := "sign", desc := "()I" } : Jvm.MethodName)) ∈ lw_all := lw_g (lw_at lw_m10 223 rfl) rfl
theorem q2471 : (Jvm.Cond.privateMethod ({ cls := "FortPlannerModel", name := "sign", desc := "()I" } : Jvm.MethodName)) ∈ lw_tbl := lw_at lw_m10 224 rfl
theorem q2472 : (Jvm.Cond.instanceMethod ({ cls := "FortPlannerModel", name := "sign", desc := "()I" } : Jvm.MethodName)) ∈ lw_all := lw_g (lw_at lw_m10 225 rfl) rfl
theorem q2473 : (Jvm.Cond.code ({ cls := "FortPlannerModel", name := "sign", desc := "()I" } : Jvm.MethodName) prog_16_method_96_code (1 : Nat) (Option.some Jvm.ClassFile.FieldType.int)) ∈ lw_all := lw_g (lw_at lw_m10 226 rfl) rfl
theorem q2474 : (Jvm.Cond.methodLink "FortPlannerModel" (222 : Nat) ({ cls := "FortPlannerModel", name := "digits", desc := "(I)I" } : Jvm.MethodName)) ∈ lw_all := lw_g (lw_at lw_m10 227 rfl) rfl
theorem q2475 : (Jvm.Cond.privateMethod ({ cls := "FortPlannerModel", name := "digits", desc := "(I)I" } : Jvm.MethodName)) ∈ lw_tbl := lw_at lw_m10 228 rfl
theorem q2476 : (Jvm.Cond.instanceMethod ({ cls := "FortPlannerModel", name := "digits", desc := "(I)I" } : Jvm.MethodName)) ∈ lw_all := lw_g (lw_at lw_m10 229 rfl) rfl
theorem q2477 : (Jvm.Cond.code ({ cls := "FortPlannerModel", name := "digits", desc := "(I)I" } : Jvm.MethodName) prog_16_method_98_code (4 : Nat) (Option.some Jvm.ClassFile.FieldType.int)) ∈ lw_all := lw_g (lw_at lw_m10 230 rfl) rfl
theorem q2478 : (Jvm.Cond.methodLink "FortPlannerModel" (228 : Nat) ({ cls := "FortPlannerModel", name := "digitBehind", desc := "()I" } : Jvm.MethodName)) ∈ lw_all := lw_g (lw_at lw_m10 231 rfl) rfl
theorem q2479 : (Jvm.Cond.privateMethod ({ cls := "FortPlannerModel", name := "digitBehind", desc := "()I" } : Jvm.MethodName)) ∈ lw_tbl := lw_at lw_m10 232 rfl
theorem q2480 : (Jvm.Cond.instanceMethod ({ cls := "FortPlannerModel", name := "digitBehind", desc := "()I" } : Jvm.MethodName)) ∈ lw_all := lw_g (lw_at lw_m10 233 rfl) rfl
theorem q2481 : (Jvm.Cond.code ({ cls := "FortPlannerModel", name := "digitBehind", desc := "()I" } : Jvm.MethodName) prog_16_method_101_code (1 : Nat) (Option.some Jvm.ClassFile.FieldType.int)) ∈ lw_all := lw_g (lw_at lw_m10 234 rfl) rfl
theorem q2482 : (Jvm.Cond.methodLink "FortPlannerModel" (219 : Nat) ({ cls := "FortPlannerModel", name := "mark", desc := "(I)V" } : Jvm.MethodName)) ∈ lw_all := lw_g (lw_at lw_m10 235 rfl) rfl
theorem q2483 : (Jvm.Cond.privateMethod ({ cls := "FortPlannerModel", name := "mark", desc := "(I)V" } : Jvm.MethodName)) ∈ lw_tbl := lw_at lw_m10 236 rfl
theorem q2484 : (Jvm.Cond.instanceMethod ({ cls := "FortPlannerModel", name := "mark", desc := "(I)V" } : Jvm.MethodName)) ∈ lw_all := lw_g (lw_at lw_m10 237 rfl) rfl
theorem q2485 : (Jvm.Cond.code ({ cls := "FortPlannerModel", name := "mark", desc := "(I)V" } : Jvm.MethodName) prog_16_method_97_code (2 : Nat) (Option.none : Option Jvm.ClassFile.FieldType)) ∈ lw_all := lw_g (lw_at lw_m10 238 rfl) rfl
theorem q2486 : (Jvm.Cond.methodLink "FortPlannerModel" (231 : Nat) ({ cls := "FortPlannerModel", name := "letterBehind", desc := "()I" } : Jvm.MethodName)) ∈ lw_all := lw_g (lw_at lw_m10 239 rfl) rfl
theorem q2487 : (Jvm.Cond.privateMethod ({ cls := "FortPlannerModel", name := "letterBehind", desc := "()I" } : Jvm.MethodName)) ∈ lw_tbl := lw_at lw_m11 0 rfl
theorem q2488 : (Jvm.Cond.instanceMethod ({ cls := "FortPlannerModel", name := "letterBehind", desc := "()I" } : Jvm.MethodName)) ∈ lw_all := lw_g (lw_at lw_m11 1 rfl) rfl
theorem q2489 : (Jvm.Cond.code ({ cls := "FortPlannerModel", name := "letterBehind", desc := "()I" } : Jvm.MethodName) prog_16_method_102_code (2 : Nat) (Option.some Jvm.ClassFile.FieldType.int)) ∈ lw_all := lw_g (lw_at lw_m11 2 rfl) rfl
theorem q2490 : (Jvm.Cond.methodLink "FortPlannerModel" (237 : Nat) ({ cls := "FortPlannerModel", name := "does", desc := "(IIII)I" } : Jvm.MethodName)) ∈ lw_all := lw_g (lw_at lw_m11 3 rfl) rfl
theorem q2491 : (Jvm.Cond.privateMethod ({ cls := "FortPlannerModel", name := "does", desc := "(IIII)I" } : Jvm.MethodName)) ∈ lw_tbl := lw_at lw_m11 4 rfl
theorem q2492 : (Jvm.Cond.instanceMethod ({ cls := "FortPlannerModel", name := "does", desc := "(IIII)I" } : Jvm.MethodName)) ∈ lw_all := lw_g (lw_at lw_m11 5 rfl) rfl
theorem q2493 : (Jvm.Cond.code ({ cls := "FortPlannerModel", name := "does", desc := "(IIII)I" } : Jvm.MethodName) prog_16_method_100_code (5 : Nat) (Option.some Jvm.ClassFile.FieldType.int)) ∈ lw_all := lw_g (lw_at lw_m11 6 rfl) rfl
theorem q2495 : (Jvm.Cond.instanceMethod ({ cls := "FortPlannerModel", name := "errorPosition", desc := "()I" } : Jvm.MethodName)) ∈ lw_all := lw_g (lw_at lw_m11 8 rfl) rfl
theorem q2496 : (Jvm.Cond.selects "FortPlannerModel" ({ cls := "FortPlannerModel", name := "errorPosition", desc := "()I" } : Jvm.MethodName) ({ cls := "FortPlannerModel", name := "errorPosition", desc := "()I" } : Jvm.MethodName)) ∈ lw_all := lw_g (lw_at lw_m11 9 rfl) rfl
theorem q2497 : (Jvm.Cond.code ({ cls := "FortPlannerModel", name := "errorPosition", desc := "()I" } : Jvm.MethodName) prog_16_method_106_code (1 : Nat) (Option.some Jvm.ClassFile.FieldType.int)) ∈ lw_all := lw_g (lw_at lw_m11 10 rfl) rfl
theorem q2499 : (Jvm.Cond.instanceMethod ({ cls := "FortPlannerModel", name := "failedCommand", desc := "()I" } : Jvm.MethodName)) ∈ lw_all := lw_g (lw_at lw_m11 12 rfl) rfl
theorem q2500 : (Jvm.Cond.selects "FortPlannerModel" ({ cls := "FortPlannerModel", name := "failedCommand", desc := "()I" } : Jvm.MethodName) ({ cls := "FortPlannerModel", name := "failedCommand", desc := "()I" } : Jvm.MethodName)) ∈ lw_all := lw_g (lw_at lw_m11 13 rfl) rfl
theorem q2501 : (Jvm.Cond.code ({ cls := "FortPlannerModel", name := "failedCommand", desc := "()I" } : Jvm.MethodName) prog_16_method_107_code (1 : Nat) (Option.some Jvm.ClassFile.FieldType.int)) ∈ lw_all := lw_g (lw_at lw_m11 14 rfl) rfl
theorem q2503 : (Jvm.Cond.instanceMethod ({ cls := "FortPlannerModel", name := "undoableCount", desc := "()I" } : Jvm.MethodName)) ∈ lw_all := lw_g (lw_at lw_m11 16 rfl) rfl
theorem q2504 : (Jvm.Cond.selects "FortPlannerModel" ({ cls := "FortPlannerModel", name := "undoableCount", desc := "()I" } : Jvm.MethodName) ({ cls := "FortPlannerModel", name := "undoableCount", desc := "()I" } : Jvm.MethodName)) ∈ lw_all := lw_g (lw_at lw_m11 17 rfl) rfl
theorem q2505 : (Jvm.Cond.code ({ cls := "FortPlannerModel", name := "undoableCount", desc := "()I" } : Jvm.MethodName) prog_16_method_108_code (1 : Nat) (Option.some Jvm.ClassFile.FieldType.int)) ∈ lw_all := lw_g (lw_at lw_m11 18 rfl) rfl
theorem q2507 : (Jvm.Cond.instanceMethod ({ cls := "FortPlannerModel", name := "undo", desc := "()I" } : Jvm.MethodName)) ∈ lw_all := lw_g (lw_at lw_m11 20 rfl) rfl
theorem q2508 : (Jvm.Cond.selects "FortPlannerModel" ({ cls := "FortPlannerModel", name := "undo", desc := "()I" } : Jvm.MethodName) ({ cls := "FortPlannerModel", name := "undo", desc := "()I" } : Jvm.MethodName)) ∈ lw_all := lw_g (lw_at lw_m11 21 rfl) rfl
theorem q2509 : (Jvm.Cond.code ({ cls := "FortPlannerModel", name := "undo", desc := "()I" } : Jvm.MethodName) prog_16_method_109_code (2 : Nat) (Option.some Jvm.ClassFile.FieldType.int)) ∈ lw_all := lw_g (lw_at lw_m11 22 rfl) rfl
theorem q2511 : (Jvm.Cond.instanceMethod ({ cls := "FortPlannerModel", name := "save", desc := "()I" } : Jvm.MethodName)) ∈ lw_all := lw_g (lw_at lw_m11 24 rfl) rfl
theorem q2512 : (Jvm.Cond.selects "FortPlannerModel" ({ cls := "FortPlannerModel", name := "save", desc := "()I" } : Jvm.MethodName) ({ cls := "FortPlannerModel", name := "save", desc := "()I" } : Jvm.MethodName)) ∈ lw_all := lw_g (lw_at lw_m11 25 rfl) rfl
theorem q2513 : (Jvm.Cond.code ({ cls := "FortPlannerModel", name := "save", desc := "()I" } : Jvm.MethodName) prog_16_method_110_code (1 : Nat) (Option.some Jvm.ClassFile.FieldType.int)) ∈ lw_all := lw_g (lw_at lw_m11 26 rfl) rfl
theorem q2515 : (Jvm.Cond.instanceMethod ({ cls := "FortPlannerModel", name := "restore", desc := "()I" } : Jvm.MethodName)) ∈ lw_all := lw_g (lw_at lw_m11 28 rfl) rfl
theorem q2516 : (Jvm.Cond.selects "FortPlannerModel" ({ cls := "FortPlannerModel", name := "restore", desc := "()I" } : Jvm.MethodName) ({ cls := "FortPlannerModel", name := "restore", desc := "()I" } : Jvm.MethodName)) ∈ lw_all := lw_g (lw_at lw_m11 29 rfl) rfl
theorem q2517 : (Jvm.Cond.code ({ cls := "FortPlannerModel", name := "restore", desc := "()I" } : Jvm.MethodName) prog_16_method_111_code (1 : Nat) (Option.some Jvm.ClassFile.FieldType.int)) ∈ lw_all := lw_g (lw_at lw_m11 30 rfl) rfl
theorem q2547 : (Jvm.Cond.castable "FortPlannerModel" "java/lang/Object") ∈ lw_tbl := lw_at lw_m11 60 rfl
theorem in_X4 : ∀ w ∈ wsX40, w ∈ lw_all := lw_in wsX40 [2032, 2034, 2036, 2038, 2040, 2042, 2044, 2046, 2048, 2050, 2052, 2054, 2056, 2058, 2060, 2062, 2064, 2066, 2068, 2070, 2072, 2074, 2076] (by decide +kernel) (by decide +kernel)
