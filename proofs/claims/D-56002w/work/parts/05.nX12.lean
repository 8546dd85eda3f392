/-! FortPlanner -/
set_option maxRecDepth 100000
def RX1 : String := "FortPlanner"
def TX1 : u_T := fun k => match k with
  | 0 => ("FortPlanner", "state", "LFortPlanner$State;", false)
  | 1 => ("FortPlanner", "saved", "LFortPlanner$State;", false)
  | 2 => ("FortPlanner", "history", "Ljava/util/ArrayDeque;", true)
  | 3 => ("FortPlanner", "input", "Ljava/lang/StringBuilder;", true)
  | 4 => ("FortPlanner", "line", "Ljava/lang/StringBuilder;", true)
  | 5 => ("FortPlanner", "isExecuting", "Z", false)
  | 6 => ("FortPlanner", "errorPosition", "I", false)
  | _ => ("FortPlanner", "failedCommand", "I", false)
def tyX1 : Nat → FieldType := fun k => match k with
  | 0 => .object "FortPlanner$State"
  | 1 => .object "FortPlanner$State"
  | 2 => .object "java/util/ArrayDeque"
  | 3 => .object "java/lang/StringBuilder"
  | 4 => .object "java/lang/StringBuilder"
  | 5 => .boolean
  | 6 => .int
  | _ => .int
abbrev wsX10 : List Cond := u_ws RX1 TX1 8
theorem nmX1 : ∀ a, a < 8 → ∀ b, b < 8 → a ≠ b → (TX1 a).2.1 ≠ (TX1 b).2.1 := by decide +kernel
theorem tyX1_ok : ∀ k, k < 8 → parseFieldDescriptor (TX1 k).2.2.1 = some (tyX1 k) := by decide +kernel
abbrev cX1_init : ByteArray := prog_1_method_1_code
def yX1_init : MethodName := ⟨RX1, "<init>", "()V"⟩
def dkwX1_init_2 : List UInt8 := [181, 0, 30, 42, 2, 181, 0, 33, 42, 2, 181, 0, 37, 177]
abbrev dktX1_init_2 : List UInt8 := dkwX1_init_2 ++ []
def dkwX1_init_1 : List UInt8 := [181, 0, 19, 42, 187, 0, 23, 89, 183, 0, 25, 181, 0, 26, 42, 187, 0, 23, 89, 183, 0, 25]
abbrev dktX1_init_1 : List UInt8 := dkwX1_init_1 ++ dktX1_init_2
def dkwX1_init_0 : List UInt8 := [42, 183, 0, 1, 42, 187, 0, 7, 89, 183, 0, 9, 181, 0, 10, 42, 187, 0, 16, 89, 183, 0, 18]
abbrev dktX1_init_0 : List UInt8 := dkwX1_init_0 ++ dktX1_init_1
theorem dksX1_init_0 : cX1_init.data.toList.drop 0 = dktX1_init_0 := by decide +kernel
theorem dksX1_init_1 : cX1_init.data.toList.drop 23 = dktX1_init_1 := dk_seg dksX1_init_0 23 rfl rfl
theorem dksX1_init_2 : cX1_init.data.toList.drop 45 = dktX1_init_2 := dk_seg dksX1_init_1 22 rfl rfl
theorem dX1_init_0 : decode cX1_init 0 = .ok (.aload_n 0, 1) := dk_42 (dk_at dksX1_init_0 0 rfl rfl)
theorem dX1_init_1 : decode cX1_init 1 = .ok (.invokespecial 1, 3) := dk_183 0 1 (dk_at dksX1_init_0 1 rfl rfl)
theorem dX1_init_4 : decode cX1_init 4 = .ok (.aload_n 0, 1) := dk_42 (dk_at dksX1_init_0 4 rfl rfl)
theorem dX1_init_5 : decode cX1_init 5 = .ok (.new 7, 3) := dk_187 0 7 (dk_at dksX1_init_0 5 rfl rfl)
theorem dX1_init_8 : decode cX1_init 8 = .ok (.dup, 1) := dk_89 (dk_at dksX1_init_0 8 rfl rfl)
theorem dX1_init_9 : decode cX1_init 9 = .ok (.invokespecial 9, 3) := dk_183 0 9 (dk_at dksX1_init_0 9 rfl rfl)
theorem dX1_init_12 : decode cX1_init 12 = .ok (.putfield 10, 3) := dk_181 0 10 (dk_at dksX1_init_0 12 rfl rfl)
theorem dX1_init_15 : decode cX1_init 15 = .ok (.aload_n 0, 1) := dk_42 (dk_at dksX1_init_0 15 rfl rfl)
theorem dX1_init_16 : decode cX1_init 16 = .ok (.new 16, 3) := dk_187 0 16 (dk_at dksX1_init_0 16 rfl rfl)
theorem dX1_init_19 : decode cX1_init 19 = .ok (.dup, 1) := dk_89 (dk_at dksX1_init_0 19 rfl rfl)
theorem dX1_init_20 : decode cX1_init 20 = .ok (.invokespecial 18, 3) := dk_183 0 18 (dk_at dksX1_init_0 20 rfl rfl)
theorem dX1_init_23 : decode cX1_init 23 = .ok (.putfield 19, 3) := dk_181 0 19 (dk_at dksX1_init_1 0 rfl rfl)
theorem dX1_init_26 : decode cX1_init 26 = .ok (.aload_n 0, 1) := dk_42 (dk_at dksX1_init_1 3 rfl rfl)
theorem dX1_init_27 : decode cX1_init 27 = .ok (.new 23, 3) := dk_187 0 23 (dk_at dksX1_init_1 4 rfl rfl)
theorem dX1_init_30 : decode cX1_init 30 = .ok (.dup, 1) := dk_89 (dk_at dksX1_init_1 7 rfl rfl)
theorem dX1_init_31 : decode cX1_init 31 = .ok (.invokespecial 25, 3) := dk_183 0 25 (dk_at dksX1_init_1 8 rfl rfl)
theorem dX1_init_34 : decode cX1_init 34 = .ok (.putfield 26, 3) := dk_181 0 26 (dk_at dksX1_init_1 11 rfl rfl)
theorem dX1_init_37 : decode cX1_init 37 = .ok (.aload_n 0, 1) := dk_42 (dk_at dksX1_init_1 14 rfl rfl)
theorem dX1_init_38 : decode cX1_init 38 = .ok (.new 23, 3) := dk_187 0 23 (dk_at dksX1_init_1 15 rfl rfl)
theorem dX1_init_41 : decode cX1_init 41 = .ok (.dup, 1) := dk_89 (dk_at dksX1_init_1 18 rfl rfl)
theorem dX1_init_42 : decode cX1_init 42 = .ok (.invokespecial 25, 3) := dk_183 0 25 (dk_at dksX1_init_1 19 rfl rfl)
theorem dX1_init_45 : decode cX1_init 45 = .ok (.putfield 30, 3) := dk_181 0 30 (dk_at dksX1_init_2 0 rfl rfl)
theorem dX1_init_48 : decode cX1_init 48 = .ok (.aload_n 0, 1) := dk_42 (dk_at dksX1_init_2 3 rfl rfl)
theorem dX1_init_49 : decode cX1_init 49 = .ok (.iconst (-1), 1) := dk_2 (dk_at dksX1_init_2 4 rfl rfl)
theorem dX1_init_50 : decode cX1_init 50 = .ok (.putfield 33, 3) := dk_181 0 33 (dk_at dksX1_init_2 5 rfl rfl)
theorem dX1_init_53 : decode cX1_init 53 = .ok (.aload_n 0, 1) := dk_42 (dk_at dksX1_init_2 8 rfl rfl)
theorem dX1_init_54 : decode cX1_init 54 = .ok (.iconst (-1), 1) := dk_2 (dk_at dksX1_init_2 9 rfl rfl)
theorem dX1_init_55 : decode cX1_init 55 = .ok (.putfield 37, 3) := dk_181 0 37 (dk_at dksX1_init_2 10 rfl rfl)
theorem dX1_init_58 : decode cX1_init 58 = .ok (.return_, 1) := dk_177 (dk_at dksX1_init_2 13 rfl rfl)
abbrev cX1_steps : ByteArray := prog_1_method_34_code
def yX1_steps : MethodName := ⟨RX1, "steps", "()I"⟩
def dkwX1_steps_2 : List UInt8 := [167, 255, 214, 27, 172]
abbrev dktX1_steps_2 : List UInt8 := dkwX1_steps_2 ++ []
def dkwX1_steps_1 : List UInt8 := [100, 182, 0, 188, 100, 62, 27, 29, 156, 0, 8, 29, 116, 167, 0, 4, 29, 96, 60, 132, 2, 1]
abbrev dktX1_steps_1 : List UInt8 := dkwX1_steps_1 ++ dktX1_steps_2
def dkwX1_steps_0 : List UInt8 := [3, 60, 4, 61, 28, 16, 12, 162, 0, 42, 42, 180, 0, 10, 28, 182, 0, 188, 42, 180, 0, 10, 28, 4]
abbrev dktX1_steps_0 : List UInt8 := dkwX1_steps_0 ++ dktX1_steps_1
theorem dksX1_steps_0 : cX1_steps.data.toList.drop 0 = dktX1_steps_0 := by decide +kernel
theorem dksX1_steps_1 : cX1_steps.data.toList.drop 24 = dktX1_steps_1 := dk_seg dksX1_steps_0 24 rfl rfl
theorem dksX1_steps_2 : cX1_steps.data.toList.drop 46 = dktX1_steps_2 := dk_seg dksX1_steps_1 22 rfl rfl
theorem dX1_steps_0 : decode cX1_steps 0 = .ok (.iconst 0, 1) := dk_3 (dk_at dksX1_steps_0 0 rfl rfl)
theorem dX1_steps_1 : decode cX1_steps 1 = .ok (.istore_n 1, 1) := dk_60 (dk_at dksX1_steps_0 1 rfl rfl)
theorem dX1_steps_2 : decode cX1_steps 2 = .ok (.iconst 1, 1) := dk_4 (dk_at dksX1_steps_0 2 rfl rfl)
theorem dX1_steps_3 : decode cX1_steps 3 = .ok (.istore_n 2, 1) := dk_61 (dk_at dksX1_steps_0 3 rfl rfl)
theorem dX1_steps_4 : decode cX1_steps 4 = .ok (.iload_n 2, 1) := dk_28 (dk_at dksX1_steps_0 4 rfl rfl)
theorem dX1_steps_5 : decode cX1_steps 5 = .ok (.bipush 12, 2) := dk_16 12 (dk_at dksX1_steps_0 5 rfl rfl)
theorem dX1_steps_7 : decode cX1_steps 7 = .ok (.if_icmp .ge 42, 3) := dk_162 0 42 (dk_at dksX1_steps_0 7 rfl rfl)
theorem dX1_steps_10 : decode cX1_steps 10 = .ok (.aload_n 0, 1) := dk_42 (dk_at dksX1_steps_0 10 rfl rfl)
theorem dX1_steps_11 : decode cX1_steps 11 = .ok (.getfield 10, 3) := dk_180 0 10 (dk_at dksX1_steps_0 11 rfl rfl)
theorem dX1_steps_14 : decode cX1_steps 14 = .ok (.iload_n 2, 1) := dk_28 (dk_at dksX1_steps_0 14 rfl rfl)
theorem dX1_steps_15 : decode cX1_steps 15 = .ok (.invokevirtual 188, 3) := dk_182 0 188 (dk_at dksX1_steps_0 15 rfl rfl)
theorem dX1_steps_18 : decode cX1_steps 18 = .ok (.aload_n 0, 1) := dk_42 (dk_at dksX1_steps_0 18 rfl rfl)
theorem dX1_steps_19 : decode cX1_steps 19 = .ok (.getfield 10, 3) := dk_180 0 10 (dk_at dksX1_steps_0 19 rfl rfl)
theorem dX1_steps_22 : decode cX1_steps 22 = .ok (.iload_n 2, 1) := dk_28 (dk_at dksX1_steps_0 22 rfl rfl)
theorem dX1_steps_23 : decode cX1_steps 23 = .ok (.iconst 1, 1) := dk_4 (dk_at dksX1_steps_0 23 rfl rfl)
theorem dX1_steps_24 : decode cX1_steps 24 = .ok (.isub, 1) := dk_100 (dk_at dksX1_steps_1 0 rfl rfl)
theorem dX1_steps_25 : decode cX1_steps 25 = .ok (.invokevirtual 188, 3) := dk_182 0 188 (dk_at dksX1_steps_1 1 rfl rfl)
theorem dX1_steps_28 : decode cX1_steps 28 = .ok (.isub, 1) := dk_100 (dk_at dksX1_steps_1 4 rfl rfl)
theorem dX1_steps_29 : decode cX1_steps 29 = .ok (.istore_n 3, 1) := dk_62 (dk_at dksX1_steps_1 5 rfl rfl)
theorem dX1_steps_30 : decode cX1_steps 30 = .ok (.iload_n 1, 1) := dk_27 (dk_at dksX1_steps_1 6 rfl rfl)
theorem dX1_steps_31 : decode cX1_steps 31 = .ok (.iload_n 3, 1) := dk_29 (dk_at dksX1_steps_1 7 rfl rfl)
theorem dX1_steps_32 : decode cX1_steps 32 = .ok (.ifCond .ge 8, 3) := dk_156 0 8 (dk_at dksX1_steps_1 8 rfl rfl)
theorem dX1_steps_35 : decode cX1_steps 35 = .ok (.iload_n 3, 1) := dk_29 (dk_at dksX1_steps_1 11 rfl rfl)
theorem dX1_steps_36 : decode cX1_steps 36 = .ok (.ineg, 1) := dk_116 (dk_at dksX1_steps_1 12 rfl rfl)
theorem dX1_steps_37 : decode cX1_steps 37 = .ok (.goto 4, 3) := dk_167 0 4 (dk_at dksX1_steps_1 13 rfl rfl)
theorem dX1_steps_40 : decode cX1_steps 40 = .ok (.iload_n 3, 1) := dk_29 (dk_at dksX1_steps_1 16 rfl rfl)
theorem dX1_steps_41 : decode cX1_steps 41 = .ok (.iadd, 1) := dk_96 (dk_at dksX1_steps_1 17 rfl rfl)
theorem dX1_steps_42 : decode cX1_steps 42 = .ok (.istore_n 1, 1) := dk_60 (dk_at dksX1_steps_1 18 rfl rfl)
theorem dX1_steps_43 : decode cX1_steps 43 = .ok (.iinc 2 1, 3) := dk_132 2 1 (dk_at dksX1_steps_1 19 rfl rfl)
theorem dX1_steps_46 : decode cX1_steps 46 = .ok (.goto (-42), 3) := dk_167 255 214 (dk_at dksX1_steps_2 0 rfl rfl)
theorem dX1_steps_49 : decode cX1_steps 49 = .ok (.iload_n 1, 1) := dk_27 (dk_at dksX1_steps_2 3 rfl rfl)
theorem dX1_steps_50 : decode cX1_steps 50 = .ok (.ireturn, 1) := dk_172 (dk_at dksX1_steps_2 4 rfl rfl)
abbrev cX1_isBetween : ByteArray := prog_1_method_6_code
def yX1_isBetween : MethodName := ⟨RX1, "isBetween", "(III)Z"⟩
def dkwX1_isBetween_0 : List UInt8 := [26, 27, 161, 0, 12, 26, 28, 163, 0, 7, 4, 167, 0, 4, 3, 172]
abbrev dktX1_isBetween_0 : List UInt8 := dkwX1_isBetween_0 ++ []
theorem dksX1_isBetween_0 : cX1_isBetween.data.toList.drop 0 = dktX1_isBetween_0 := by decide +kernel
theorem dX1_isBetween_0 : decode cX1_isBetween 0 = .ok (.iload_n 0, 1) := dk_26 (dk_at dksX1_isBetween_0 0 rfl rfl)
theorem dX1_isBetween_1 : decode cX1_isBetween 1 = .ok (.iload_n 1, 1) := dk_27 (dk_at dksX1_isBetween_0 1 rfl rfl)
theorem dX1_isBetween_2 : decode cX1_isBetween 2 = .ok (.if_icmp .lt 12, 3) := dk_161 0 12 (dk_at dksX1_isBetween_0 2 rfl rfl)
theorem dX1_isBetween_5 : decode cX1_isBetween 5 = .ok (.iload_n 0, 1) := dk_26 (dk_at dksX1_isBetween_0 5 rfl rfl)
theorem dX1_isBetween_6 : decode cX1_isBetween 6 = .ok (.iload_n 2, 1) := dk_28 (dk_at dksX1_isBetween_0 6 rfl rfl)
theorem dX1_isBetween_7 : decode cX1_isBetween 7 = .ok (.if_icmp .gt 7, 3) := dk_163 0 7 (dk_at dksX1_isBetween_0 7 rfl rfl)
theorem dX1_isBetween_10 : decode cX1_isBetween 10 = .ok (.iconst 1, 1) := dk_4 (dk_at dksX1_isBetween_0 10 rfl rfl)
theorem dX1_isBetween_11 : decode cX1_isBetween 11 = .ok (.goto 4, 3) := dk_167 0 4 (dk_at dksX1_isBetween_0 11 rfl rfl)
theorem dX1_isBetween_14 : decode cX1_isBetween 14 = .ok (.iconst 0, 1) := dk_3 (dk_at dksX1_isBetween_0 14 rfl rfl)
theorem dX1_isBetween_15 : decode cX1_isBetween 15 = .ok (.ireturn, 1) := dk_172 (dk_at dksX1_isBetween_0 15 rfl rfl)
abbrev cX1_highestColumn : ByteArray := prog_1_method_35_code
def yX1_highestColumn : MethodName := ⟨RX1, "highestColumn", "()I"⟩
def dkwX1_highestColumn_1 : List UInt8 := [182, 0, 188, 164, 0, 5, 28, 60, 132, 2, 1, 167, 255, 226, 27, 172]
abbrev dktX1_highestColumn_1 : List UInt8 := dkwX1_highestColumn_1 ++ []
def dkwX1_highestColumn_0 : List UInt8 := [3, 60, 4, 61, 28, 16, 12, 162, 0, 30, 42, 180, 0, 10, 28, 182, 0, 188, 42, 180, 0, 10, 27]
abbrev dktX1_highestColumn_0 : List UInt8 := dkwX1_highestColumn_0 ++ dktX1_highestColumn_1
theorem dksX1_highestColumn_0 : cX1_highestColumn.data.toList.drop 0 = dktX1_highestColumn_0 := by decide +kernel
theorem dksX1_highestColumn_1 : cX1_highestColumn.data.toList.drop 23 = dktX1_highestColumn_1 := dk_seg dksX1_highestColumn_0 23 rfl rfl
theorem dX1_highestColumn_0 : decode cX1_highestColumn 0 = .ok (.iconst 0, 1) := dk_3 (dk_at dksX1_highestColumn_0 0 rfl rfl)
theorem dX1_highestColumn_1 : decode cX1_highestColumn 1 = .ok (.istore_n 1, 1) := dk_60 (dk_at dksX1_highestColumn_0 1 rfl rfl)
theorem dX1_highestColumn_2 : decode cX1_highestColumn 2 = .ok (.iconst 1, 1) := dk_4 (dk_at dksX1_highestColumn_0 2 rfl rfl)
theorem dX1_highestColumn_3 : decode cX1_highestColumn 3 = .ok (.istore_n 2, 1) := dk_61 (dk_at dksX1_highestColumn_0 3 rfl rfl)
theorem dX1_highestColumn_4 : decode cX1_highestColumn 4 = .ok (.iload_n 2, 1) := dk_28 (dk_at dksX1_highestColumn_0 4 rfl rfl)
theorem dX1_highestColumn_5 : decode cX1_highestColumn 5 = .ok (.bipush 12, 2) := dk_16 12 (dk_at dksX1_highestColumn_0 5 rfl rfl)
theorem dX1_highestColumn_7 : decode cX1_highestColumn 7 = .ok (.if_icmp .ge 30, 3) := dk_162 0 30 (dk_at dksX1_highestColumn_0 7 rfl rfl)
theorem dX1_highestColumn_10 : decode cX1_highestColumn 10 = .ok (.aload_n 0, 1) := dk_42 (dk_at dksX1_highestColumn_0 10 rfl rfl)
theorem dX1_highestColumn_11 : decode cX1_highestColumn 11 = .ok (.getfield 10, 3) := dk_180 0 10 (dk_at dksX1_highestColumn_0 11 rfl rfl)
theorem dX1_highestColumn_14 : decode cX1_highestColumn 14 = .ok (.iload_n 2, 1) := dk_28 (dk_at dksX1_highestColumn_0 14 rfl rfl)
theorem dX1_highestColumn_15 : decode cX1_highestColumn 15 = .ok (.invokevirtual 188, 3) := dk_182 0 188 (dk_at dksX1_highestColumn_0 15 rfl rfl)
theorem dX1_highestColumn_18 : decode cX1_highestColumn 18 = .ok (.aload_n 0, 1) := dk_42 (dk_at dksX1_highestColumn_0 18 rfl rfl)
theorem dX1_highestColumn_19 : decode cX1_highestColumn 19 = .ok (.getfield 10, 3) := dk_180 0 10 (dk_at dksX1_highestColumn_0 19 rfl rfl)
theorem dX1_highestColumn_22 : decode cX1_highestColumn 22 = .ok (.iload_n 1, 1) := dk_27 (dk_at dksX1_highestColumn_0 22 rfl rfl)
theorem dX1_highestColumn_23 : decode cX1_highestColumn 23 = .ok (.invokevirtual 188, 3) := dk_182 0 188 (dk_at dksX1_highestColumn_1 0 rfl rfl)
theorem dX1_highestColumn_26 : decode cX1_highestColumn 26 = .ok (.if_icmp .le 5, 3) := dk_164 0 5 (dk_at dksX1_highestColumn_1 3 rfl rfl)
theorem dX1_highestColumn_29 : decode cX1_highestColumn 29 = .ok (.iload_n 2, 1) := dk_28 (dk_at dksX1_highestColumn_1 6 rfl rfl)
theorem dX1_highestColumn_30 : decode cX1_highestColumn 30 = .ok (.istore_n 1, 1) := dk_60 (dk_at dksX1_highestColumn_1 7 rfl rfl)
theorem dX1_highestColumn_31 : decode cX1_highestColumn 31 = .ok (.iinc 2 1, 3) := dk_132 2 1 (dk_at dksX1_highestColumn_1 8 rfl rfl)
theorem dX1_highestColumn_34 : decode cX1_highestColumn 34 = .ok (.goto (-30), 3) := dk_167 255 226 (dk_at dksX1_highestColumn_1 11 rfl rfl)
theorem dX1_highestColumn_37 : decode cX1_highestColumn 37 = .ok (.iload_n 1, 1) := dk_27 (dk_at dksX1_highestColumn_1 14 rfl rfl)
theorem dX1_highestColumn_38 : decode cX1_highestColumn 38 = .ok (.ireturn, 1) := dk_172 (dk_at dksX1_highestColumn_1 15 rfl rfl)
abbrev cX1_litCount : ByteArray := prog_1_method_41_code
def yX1_litCount : MethodName := ⟨RX1, "litCount", "()I"⟩
theorem dX1_litCount_0 : decode cX1_litCount 0 = .ok (.aload_n 0, 1) := by decide +kernel
theorem dX1_litCount_1 : decode cX1_litCount 1 = .ok (.invokevirtual 227, 3) := by decide +kernel
theorem dX1_litCount_4 : decode cX1_litCount 4 = .ok (.ireturn, 1) := by decide +kernel
abbrev cX1_countLit : ByteArray := prog_1_method_40_code
def yX1_countLit : MethodName := ⟨RX1, "countLit", "()I"⟩
def dkwX1_countLit_2 : List UInt8 := [27, 172]
abbrev dktX1_countLit_2 : List UInt8 := dkwX1_countLit_2 ++ []
def dkwX1_countLit_1 : List UInt8 := [21, 4, 51, 54, 5, 27, 21, 5, 153, 0, 7, 4, 167, 0, 4, 3, 96, 60, 132, 4, 1, 167, 255, 228]
abbrev dktX1_countLit_1 : List UInt8 := dkwX1_countLit_1 ++ dktX1_countLit_2
def dkwX1_countLit_0 : List UInt8 := [3, 60, 42, 180, 0, 10, 182, 0, 223, 77, 44, 190, 62, 3, 54, 4, 21, 4, 29, 162, 0, 28, 44]
abbrev dktX1_countLit_0 : List UInt8 := dkwX1_countLit_0 ++ dktX1_countLit_1
theorem dksX1_countLit_0 : cX1_countLit.data.toList.drop 0 = dktX1_countLit_0 := by decide +kernel
theorem dksX1_countLit_1 : cX1_countLit.data.toList.drop 23 = dktX1_countLit_1 := dk_seg dksX1_countLit_0 23 rfl rfl
theorem dksX1_countLit_2 : cX1_countLit.data.toList.drop 47 = dktX1_countLit_2 := dk_seg dksX1_countLit_1 24 rfl rfl
theorem dX1_countLit_0 : decode cX1_countLit 0 = .ok (.iconst 0, 1) := dk_3 (dk_at dksX1_countLit_0 0 rfl rfl)
theorem dX1_countLit_1 : decode cX1_countLit 1 = .ok (.istore_n 1, 1) := dk_60 (dk_at dksX1_countLit_0 1 rfl rfl)
theorem dX1_countLit_2 : decode cX1_countLit 2 = .ok (.aload_n 0, 1) := dk_42 (dk_at dksX1_countLit_0 2 rfl rfl)
theorem dX1_countLit_3 : decode cX1_countLit 3 = .ok (.getfield 10, 3) := dk_180 0 10 (dk_at dksX1_countLit_0 3 rfl rfl)
theorem dX1_countLit_6 : decode cX1_countLit 6 = .ok (.invokevirtual 223, 3) := dk_182 0 223 (dk_at dksX1_countLit_0 6 rfl rfl)
theorem dX1_countLit_9 : decode cX1_countLit 9 = .ok (.astore_n 2, 1) := dk_77 (dk_at dksX1_countLit_0 9 rfl rfl)
theorem dX1_countLit_10 : decode cX1_countLit 10 = .ok (.aload_n 2, 1) := dk_44 (dk_at dksX1_countLit_0 10 rfl rfl)
theorem dX1_countLit_11 : decode cX1_countLit 11 = .ok (.arraylength, 1) := dk_190 (dk_at dksX1_countLit_0 11 rfl rfl)
theorem dX1_countLit_12 : decode cX1_countLit 12 = .ok (.istore_n 3, 1) := dk_62 (dk_at dksX1_countLit_0 12 rfl rfl)
theorem dX1_countLit_13 : decode cX1_countLit 13 = .ok (.iconst 0, 1) := dk_3 (dk_at dksX1_countLit_0 13 rfl rfl)
theorem dX1_countLit_14 : decode cX1_countLit 14 = .ok (.istore 4, 2) := dk_54 4 (dk_at dksX1_countLit_0 14 rfl rfl)
theorem dX1_countLit_16 : decode cX1_countLit 16 = .ok (.iload 4, 2) := dk_21 4 (dk_at dksX1_countLit_0 16 rfl rfl)
theorem dX1_countLit_18 : decode cX1_countLit 18 = .ok (.iload_n 3, 1) := dk_29 (dk_at dksX1_countLit_0 18 rfl rfl)
theorem dX1_countLit_19 : decode cX1_countLit 19 = .ok (.if_icmp .ge 28, 3) := dk_162 0 28 (dk_at dksX1_countLit_0 19 rfl rfl)
theorem dX1_countLit_22 : decode cX1_countLit 22 = .ok (.aload_n 2, 1) := dk_44 (dk_at dksX1_countLit_0 22 rfl rfl)
theorem dX1_countLit_23 : decode cX1_countLit 23 = .ok (.iload 4, 2) := dk_21 4 (dk_at dksX1_countLit_1 0 rfl rfl)
theorem dX1_countLit_25 : decode cX1_countLit 25 = .ok (.baload, 1) := dk_51 (dk_at dksX1_countLit_1 2 rfl rfl)
theorem dX1_countLit_26 : decode cX1_countLit 26 = .ok (.istore 5, 2) := dk_54 5 (dk_at dksX1_countLit_1 3 rfl rfl)
theorem dX1_countLit_28 : decode cX1_countLit 28 = .ok (.iload_n 1, 1) := dk_27 (dk_at dksX1_countLit_1 5 rfl rfl)
theorem dX1_countLit_29 : decode cX1_countLit 29 = .ok (.iload 5, 2) := dk_21 5 (dk_at dksX1_countLit_1 6 rfl rfl)
theorem dX1_countLit_31 : decode cX1_countLit 31 = .ok (.ifCond .eq 7, 3) := dk_153 0 7 (dk_at dksX1_countLit_1 8 rfl rfl)
theorem dX1_countLit_34 : decode cX1_countLit 34 = .ok (.iconst 1, 1) := dk_4 (dk_at dksX1_countLit_1 11 rfl rfl)
theorem dX1_countLit_35 : decode cX1_countLit 35 = .ok (.goto 4, 3) := dk_167 0 4 (dk_at dksX1_countLit_1 12 rfl rfl)
theorem dX1_countLit_38 : decode cX1_countLit 38 = .ok (.iconst 0, 1) := dk_3 (dk_at dksX1_countLit_1 15 rfl rfl)
theorem dX1_countLit_39 : decode cX1_countLit 39 = .ok (.iadd, 1) := dk_96 (dk_at dksX1_countLit_1 16 rfl rfl)
theorem dX1_countLit_40 : decode cX1_countLit 40 = .ok (.istore_n 1, 1) := dk_60 (dk_at dksX1_countLit_1 17 rfl rfl)
theorem dX1_countLit_41 : decode cX1_countLit 41 = .ok (.iinc 4 1, 3) := dk_132 4 1 (dk_at dksX1_countLit_1 18 rfl rfl)
theorem dX1_countLit_44 : decode cX1_countLit 44 = .ok (.goto (-28), 3) := dk_167 255 228 (dk_at dksX1_countLit_1 21 rfl rfl)
theorem dX1_countLit_47 : decode cX1_countLit 47 = .ok (.iload_n 1, 1) := dk_27 (dk_at dksX1_countLit_2 0 rfl rfl)
theorem dX1_countLit_48 : decode cX1_countLit 48 = .ok (.ireturn, 1) := dk_172 (dk_at dksX1_countLit_2 1 rfl rfl)
abbrev cX1_isColumn : ByteArray := prog_1_method_7_code
def yX1_isColumn : MethodName := ⟨RX1, "isColumn", "(I)Z"⟩
def dkwX1_isColumn_0 : List UInt8 := [26, 3, 16, 11, 184, 0, 52, 172]
abbrev dktX1_isColumn_0 : List UInt8 := dkwX1_isColumn_0 ++ []
theorem dksX1_isColumn_0 : cX1_isColumn.data.toList.drop 0 = dktX1_isColumn_0 := by decide +kernel
theorem dX1_isColumn_0 : decode cX1_isColumn 0 = .ok (.iload_n 0, 1) := dk_26 (dk_at dksX1_isColumn_0 0 rfl rfl)
theorem dX1_isColumn_1 : decode cX1_isColumn 1 = .ok (.iconst 0, 1) := dk_3 (dk_at dksX1_isColumn_0 1 rfl rfl)
theorem dX1_isColumn_2 : decode cX1_isColumn 2 = .ok (.bipush 11, 2) := dk_16 11 (dk_at dksX1_isColumn_0 2 rfl rfl)
theorem dX1_isColumn_4 : decode cX1_isColumn 4 = .ok (.invokestatic 52, 3) := dk_184 0 52 (dk_at dksX1_isColumn_0 4 rfl rfl)
theorem dX1_isColumn_7 : decode cX1_isColumn 7 = .ok (.ireturn, 1) := dk_172 (dk_at dksX1_isColumn_0 7 rfl rfl)
abbrev cX1_blockCount : ByteArray := prog_1_method_42_code
def yX1_blockCount : MethodName := ⟨RX1, "blockCount", "()I"⟩
def dkwX1_blockCount_0 : List UInt8 := [42, 180, 0, 10, 180, 0, 148, 182, 0, 158, 172]
abbrev dktX1_blockCount_0 : List UInt8 := dkwX1_blockCount_0 ++ []
theorem dksX1_blockCount_0 : cX1_blockCount.data.toList.drop 0 = dktX1_blockCount_0 := by decide +kernel
theorem dX1_blockCount_0 : decode cX1_blockCount 0 = .ok (.aload_n 0, 1) := dk_42 (dk_at dksX1_blockCount_0 0 rfl rfl)
theorem dX1_blockCount_1 : decode cX1_blockCount 1 = .ok (.getfield 10, 3) := dk_180 0 10 (dk_at dksX1_blockCount_0 1 rfl rfl)
theorem dX1_blockCount_4 : decode cX1_blockCount 4 = .ok (.getfield 148, 3) := dk_180 0 148 (dk_at dksX1_blockCount_0 4 rfl rfl)
theorem dX1_blockCount_7 : decode cX1_blockCount 7 = .ok (.invokevirtual 158, 3) := dk_182 0 158 (dk_at dksX1_blockCount_0 7 rfl rfl)
theorem dX1_blockCount_10 : decode cX1_blockCount 10 = .ok (.ireturn, 1) := dk_172 (dk_at dksX1_blockCount_0 10 rfl rfl)
abbrev cX1_placedCount : ByteArray := prog_1_method_43_code
def yX1_placedCount : MethodName := ⟨RX1, "placedCount", "()I"⟩
def dkwX1_placedCount_0 : List UInt8 := [42, 180, 0, 10, 180, 0, 230, 172]
abbrev dktX1_placedCount_0 : List UInt8 := dkwX1_placedCount_0 ++ []
theorem dksX1_placedCount_0 : cX1_placedCount.data.toList.drop 0 = dktX1_placedCount_0 := by decide +kernel
theorem dX1_placedCount_0 : decode cX1_placedCount 0 = .ok (.aload_n 0, 1) := dk_42 (dk_at dksX1_placedCount_0 0 rfl rfl)
theorem dX1_placedCount_1 : decode cX1_placedCount 1 = .ok (.getfield 10, 3) := dk_180 0 10 (dk_at dksX1_placedCount_0 1 rfl rfl)
theorem dX1_placedCount_4 : decode cX1_placedCount 4 = .ok (.getfield 230, 3) := dk_180 0 230 (dk_at dksX1_placedCount_0 4 rfl rfl)
theorem dX1_placedCount_7 : decode cX1_placedCount 7 = .ok (.ireturn, 1) := dk_172 (dk_at dksX1_placedCount_0 7 rfl rfl)
abbrev cX1_isPresent : ByteArray := prog_1_method_44_code
def yX1_isPresent : MethodName := ⟨RX1, "isPresent", "(I)Z"⟩
def dkwX1_isPresent_0 : List UInt8 := [42, 180, 0, 10, 27, 182, 0, 87, 198, 0, 7, 4, 167, 0, 4, 3, 172]
abbrev dktX1_isPresent_0 : List UInt8 := dkwX1_isPresent_0 ++ []
theorem dksX1_isPresent_0 : cX1_isPresent.data.toList.drop 0 = dktX1_isPresent_0 := by decide +kernel
theorem dX1_isPresent_0 : decode cX1_isPresent 0 = .ok (.aload_n 0, 1) := dk_42 (dk_at dksX1_isPresent_0 0 rfl rfl)
theorem dX1_isPresent_1 : decode cX1_isPresent 1 = .ok (.getfield 10, 3) := dk_180 0 10 (dk_at dksX1_isPresent_0 1 rfl rfl)
theorem dX1_isPresent_4 : decode cX1_isPresent 4 = .ok (.iload_n 1, 1) := dk_27 (dk_at dksX1_isPresent_0 4 rfl rfl)
theorem dX1_isPresent_5 : decode cX1_isPresent 5 = .ok (.invokevirtual 87, 3) := dk_182 0 87 (dk_at dksX1_isPresent_0 5 rfl rfl)
theorem dX1_isPresent_8 : decode cX1_isPresent 8 = .ok (.ifnull 7, 3) := dk_198 0 7 (dk_at dksX1_isPresent_0 8 rfl rfl)
theorem dX1_isPresent_11 : decode cX1_isPresent 11 = .ok (.iconst 1, 1) := dk_4 (dk_at dksX1_isPresent_0 11 rfl rfl)
theorem dX1_isPresent_12 : decode cX1_isPresent 12 = .ok (.goto 4, 3) := dk_167 0 4 (dk_at dksX1_isPresent_0 12 rfl rfl)
theorem dX1_isPresent_15 : decode cX1_isPresent 15 = .ok (.iconst 0, 1) := dk_3 (dk_at dksX1_isPresent_0 15 rfl rfl)
theorem dX1_isPresent_16 : decode cX1_isPresent 16 = .ok (.ireturn, 1) := dk_172 (dk_at dksX1_isPresent_0 16 rfl rfl)
abbrev cX1_levelCount : ByteArray := prog_1_method_65_code
def yX1_levelCount : MethodName := ⟨RX1, "levelCount", "()I"⟩
def dkwX1_levelCount_1 : List UInt8 := [29, 43, 182, 1, 26, 96, 184, 1, 30, 61, 132, 3, 1, 167, 255, 231, 28, 172]
abbrev dktX1_levelCount_1 : List UInt8 := dkwX1_levelCount_1 ++ []
def dkwX1_levelCount_0 : List UInt8 := [42, 180, 0, 10, 182, 1, 23, 76, 3, 61, 3, 62, 29, 43, 190, 162, 0, 25, 28, 4, 42, 180, 0, 10]
abbrev dktX1_levelCount_0 : List UInt8 := dkwX1_levelCount_0 ++ dktX1_levelCount_1
theorem dksX1_levelCount_0 : cX1_levelCount.data.toList.drop 0 = dktX1_levelCount_0 := by decide +kernel
theorem dksX1_levelCount_1 : cX1_levelCount.data.toList.drop 24 = dktX1_levelCount_1 := dk_seg dksX1_levelCount_0 24 rfl rfl
theorem dX1_levelCount_0 : decode cX1_levelCount 0 = .ok (.aload_n 0, 1) := dk_42 (dk_at dksX1_levelCount_0 0 rfl rfl)
theorem dX1_levelCount_1 : decode cX1_levelCount 1 = .ok (.getfield 10, 3) := dk_180 0 10 (dk_at dksX1_levelCount_0 1 rfl rfl)
theorem dX1_levelCount_4 : decode cX1_levelCount 4 = .ok (.invokevirtual 279, 3) := dk_182 1 23 (dk_at dksX1_levelCount_0 4 rfl rfl)
theorem dX1_levelCount_7 : decode cX1_levelCount 7 = .ok (.astore_n 1, 1) := dk_76 (dk_at dksX1_levelCount_0 7 rfl rfl)
theorem dX1_levelCount_8 : decode cX1_levelCount 8 = .ok (.iconst 0, 1) := dk_3 (dk_at dksX1_levelCount_0 8 rfl rfl)
theorem dX1_levelCount_9 : decode cX1_levelCount 9 = .ok (.istore_n 2, 1) := dk_61 (dk_at dksX1_levelCount_0 9 rfl rfl)
theorem dX1_levelCount_10 : decode cX1_levelCount 10 = .ok (.iconst 0, 1) := dk_3 (dk_at dksX1_levelCount_0 10 rfl rfl)
theorem dX1_levelCount_11 : decode cX1_levelCount 11 = .ok (.istore_n 3, 1) := dk_62 (dk_at dksX1_levelCount_0 11 rfl rfl)
theorem dX1_levelCount_12 : decode cX1_levelCount 12 = .ok (.iload_n 3, 1) := dk_29 (dk_at dksX1_levelCount_0 12 rfl rfl)
theorem dX1_levelCount_13 : decode cX1_levelCount 13 = .ok (.aload_n 1, 1) := dk_43 (dk_at dksX1_levelCount_0 13 rfl rfl)
theorem dX1_levelCount_14 : decode cX1_levelCount 14 = .ok (.arraylength, 1) := dk_190 (dk_at dksX1_levelCount_0 14 rfl rfl)
theorem dX1_levelCount_15 : decode cX1_levelCount 15 = .ok (.if_icmp .ge 25, 3) := dk_162 0 25 (dk_at dksX1_levelCount_0 15 rfl rfl)
theorem dX1_levelCount_18 : decode cX1_levelCount 18 = .ok (.iload_n 2, 1) := dk_28 (dk_at dksX1_levelCount_0 18 rfl rfl)
theorem dX1_levelCount_19 : decode cX1_levelCount 19 = .ok (.iconst 1, 1) := dk_4 (dk_at dksX1_levelCount_0 19 rfl rfl)
theorem dX1_levelCount_20 : decode cX1_levelCount 20 = .ok (.aload_n 0, 1) := dk_42 (dk_at dksX1_levelCount_0 20 rfl rfl)
theorem dX1_levelCount_21 : decode cX1_levelCount 21 = .ok (.getfield 10, 3) := dk_180 0 10 (dk_at dksX1_levelCount_0 21 rfl rfl)
theorem dX1_levelCount_24 : decode cX1_levelCount 24 = .ok (.iload_n 3, 1) := dk_29 (dk_at dksX1_levelCount_1 0 rfl rfl)
theorem dX1_levelCount_25 : decode cX1_levelCount 25 = .ok (.aload_n 1, 1) := dk_43 (dk_at dksX1_levelCount_1 1 rfl rfl)
theorem dX1_levelCount_26 : decode cX1_levelCount 26 = .ok (.invokevirtual 282, 3) := dk_182 1 26 (dk_at dksX1_levelCount_1 2 rfl rfl)
theorem dX1_levelCount_29 : decode cX1_levelCount 29 = .ok (.iadd, 1) := dk_96 (dk_at dksX1_levelCount_1 5 rfl rfl)
theorem dX1_levelCount_30 : decode cX1_levelCount 30 = .ok (.invokestatic 286, 3) := dk_184 1 30 (dk_at dksX1_levelCount_1 6 rfl rfl)
theorem dX1_levelCount_33 : decode cX1_levelCount 33 = .ok (.istore_n 2, 1) := dk_61 (dk_at dksX1_levelCount_1 9 rfl rfl)
theorem dX1_levelCount_34 : decode cX1_levelCount 34 = .ok (.iinc 3 1, 3) := dk_132 3 1 (dk_at dksX1_levelCount_1 10 rfl rfl)
theorem dX1_levelCount_37 : decode cX1_levelCount 37 = .ok (.goto (-25), 3) := dk_167 255 231 (dk_at dksX1_levelCount_1 13 rfl rfl)
theorem dX1_levelCount_40 : decode cX1_levelCount 40 = .ok (.iload_n 2, 1) := dk_28 (dk_at dksX1_levelCount_1 16 rfl rfl)
theorem dX1_levelCount_41 : decode cX1_levelCount 41 = .ok (.ireturn, 1) := dk_172 (dk_at dksX1_levelCount_1 17 rfl rfl)
abbrev cX1_totalWeight : ByteArray := prog_1_method_70_code
def yX1_totalWeight : MethodName := ⟨RX1, "totalWeight", "()I"⟩
theorem dX1_totalWeight_0 : decode cX1_totalWeight 0 = .ok (.aload_n 0, 1) := by decide +kernel
theorem dX1_totalWeight_1 : decode cX1_totalWeight 1 = .ok (.invokevirtual 307, 3) := by decide +kernel
theorem dX1_totalWeight_4 : decode cX1_totalWeight 4 = .ok (.ireturn, 1) := by decide +kernel
abbrev cX1_weightOfAll : ByteArray := prog_1_method_68_code
def yX1_weightOfAll : MethodName := ⟨RX1, "weightOfAll", "()I"⟩
def dkwX1_weightOfAll_0 : List UInt8 := [42, 180, 0, 10, 186, 1, 43, 0, 0, 186, 1, 46, 0, 0, 182, 0, 210, 172]
abbrev dktX1_weightOfAll_0 : List UInt8 := dkwX1_weightOfAll_0 ++ []
theorem dksX1_weightOfAll_0 : cX1_weightOfAll.data.toList.drop 0 = dktX1_weightOfAll_0 := by decide +kernel
theorem dX1_weightOfAll_0 : decode cX1_weightOfAll 0 = .ok (.aload_n 0, 1) := dk_42 (dk_at dksX1_weightOfAll_0 0 rfl rfl)
theorem dX1_weightOfAll_1 : decode cX1_weightOfAll 1 = .ok (.getfield 10, 3) := dk_180 0 10 (dk_at dksX1_weightOfAll_0 1 rfl rfl)
theorem dX1_weightOfAll_4 : decode cX1_weightOfAll 4 = .ok (.invokedynamic 299, 5) := by decide +kernel
theorem dX1_weightOfAll_9 : decode cX1_weightOfAll 9 = .ok (.invokedynamic 302, 5) := by decide +kernel
theorem dX1_weightOfAll_14 : decode cX1_weightOfAll 14 = .ok (.invokevirtual 210, 3) := dk_182 0 210 (dk_at dksX1_weightOfAll_0 14 rfl rfl)
theorem dX1_weightOfAll_17 : decode cX1_weightOfAll 17 = .ok (.ireturn, 1) := dk_172 (dk_at dksX1_weightOfAll_0 17 rfl rfl)
abbrev cX1_lambda_weightOfAll_4 : ByteArray := prog_1_method_94_code
def yX1_lambda_weightOfAll_4 : MethodName := ⟨RX1, "lambda$weightOfAll$4", "(LFortPlanner$Block;)Z"⟩
theorem dX1_lambda_weightOfAll_4_0 : decode cX1_lambda_weightOfAll_4 0 = .ok (.iconst 1, 1) := by decide +kernel
theorem dX1_lambda_weightOfAll_4_1 : decode cX1_lambda_weightOfAll_4 1 = .ok (.ireturn, 1) := by decide +kernel
abbrev cX1_lambda_weightOfAll_5 : ByteArray := prog_1_method_93_code
def yX1_lambda_weightOfAll_5 : MethodName := ⟨RX1, "lambda$weightOfAll$5", "(LFortPlanner$Block;)I"⟩
theorem dX1_lambda_weightOfAll_5_0 : decode cX1_lambda_weightOfAll_5 0 = .ok (.aload_n 0, 1) := by decide +kernel
theorem dX1_lambda_weightOfAll_5_1 : decode cX1_lambda_weightOfAll_5 1 = .ok (.getfield 243, 3) := by decide +kernel
theorem dX1_lambda_weightOfAll_5_4 : decode cX1_lambda_weightOfAll_5 4 = .ok (.ireturn, 1) := by decide +kernel
abbrev cX1_floorPressure : ByteArray := prog_1_method_71_code
def yX1_floorPressure : MethodName := ⟨RX1, "floorPressure", "()I"⟩
theorem dX1_floorPressure_0 : decode cX1_floorPressure 0 = .ok (.aload_n 0, 1) := by decide +kernel
theorem dX1_floorPressure_1 : decode cX1_floorPressure 1 = .ok (.invokevirtual 310, 3) := by decide +kernel
theorem dX1_floorPressure_4 : decode cX1_floorPressure 4 = .ok (.ireturn, 1) := by decide +kernel
abbrev cX1_pressureOnFloor : ByteArray := prog_1_method_69_code
def yX1_pressureOnFloor : MethodName := ⟨RX1, "pressureOnFloor", "()I"⟩
def dkwX1_pressureOnFloor_1 : List UInt8 := [182, 0, 210, 172]
abbrev dktX1_pressureOnFloor_1 : List UInt8 := dkwX1_pressureOnFloor_1 ++ []
def dkwX1_pressureOnFloor_0 : List UInt8 := [42, 180, 0, 10, 182, 1, 10, 76, 42, 180, 0, 10, 186, 1, 47, 0, 0, 42, 43, 186, 1, 48, 0, 0]
abbrev dktX1_pressureOnFloor_0 : List UInt8 := dkwX1_pressureOnFloor_0 ++ dktX1_pressureOnFloor_1
theorem dksX1_pressureOnFloor_0 : cX1_pressureOnFloor.data.toList.drop 0 = dktX1_pressureOnFloor_0 := by decide +kernel
theorem dksX1_pressureOnFloor_1 : cX1_pressureOnFloor.data.toList.drop 24 = dktX1_pressureOnFloor_1 := dk_seg dksX1_pressureOnFloor_0 24 rfl rfl
theorem dX1_pressureOnFloor_0 : decode cX1_pressureOnFloor 0 = .ok (.aload_n 0, 1) := dk_42 (dk_at dksX1_pressureOnFloor_0 0 rfl rfl)
theorem dX1_pressureOnFloor_1 : decode cX1_pressureOnFloor 1 = .ok (.getfield 10, 3) := dk_180 0 10 (dk_at dksX1_pressureOnFloor_0 1 rfl rfl)
theorem dX1_pressureOnFloor_4 : decode cX1_pressureOnFloor 4 = .ok (.invokevirtual 266, 3) := dk_182 1 10 (dk_at dksX1_pressureOnFloor_0 4 rfl rfl)
theorem dX1_pressureOnFloor_7 : decode cX1_pressureOnFloor 7 = .ok (.astore_n 1, 1) := dk_76 (dk_at dksX1_pressureOnFloor_0 7 rfl rfl)
theorem dX1_pressureOnFloor_8 : decode cX1_pressureOnFloor 8 = .ok (.aload_n 0, 1) := dk_42 (dk_at dksX1_pressureOnFloor_0 8 rfl rfl)
theorem dX1_pressureOnFloor_9 : decode cX1_pressureOnFloor 9 = .ok (.getfield 10, 3) := dk_180 0 10 (dk_at dksX1_pressureOnFloor_0 9 rfl rfl)
theorem dX1_pressureOnFloor_12 : decode cX1_pressureOnFloor 12 = .ok (.invokedynamic 303, 5) := by decide +kernel
theorem dX1_pressureOnFloor_17 : decode cX1_pressureOnFloor 17 = .ok (.aload_n 0, 1) := dk_42 (dk_at dksX1_pressureOnFloor_0 17 rfl rfl)
theorem dX1_pressureOnFloor_18 : decode cX1_pressureOnFloor 18 = .ok (.aload_n 1, 1) := dk_43 (dk_at dksX1_pressureOnFloor_0 18 rfl rfl)
theorem dX1_pressureOnFloor_19 : decode cX1_pressureOnFloor 19 = .ok (.invokedynamic 304, 5) := by decide +kernel
theorem dX1_pressureOnFloor_24 : decode cX1_pressureOnFloor 24 = .ok (.invokevirtual 210, 3) := dk_182 0 210 (dk_at dksX1_pressureOnFloor_1 0 rfl rfl)
theorem dX1_pressureOnFloor_27 : decode cX1_pressureOnFloor 27 = .ok (.ireturn, 1) := dk_172 (dk_at dksX1_pressureOnFloor_1 3 rfl rfl)
abbrev cX1_lambda_pressureOnFloor_6 : ByteArray := prog_1_method_92_code
def yX1_lambda_pressureOnFloor_6 : MethodName := ⟨RX1, "lambda$pressureOnFloor$6", "(LFortPlanner$Block;)Z"⟩
def dkwX1_lambda_pressureOnFloor_6_0 : List UInt8 := [42, 180, 0, 249, 154, 0, 7, 4, 167, 0, 4, 3, 172]
abbrev dktX1_lambda_pressureOnFloor_6_0 : List UInt8 := dkwX1_lambda_pressureOnFloor_6_0 ++ []
theorem dksX1_lambda_pressureOnFloor_6_0 : cX1_lambda_pressureOnFloor_6.data.toList.drop 0 = dktX1_lambda_pressureOnFloor_6_0 := by decide +kernel
theorem dX1_lambda_pressureOnFloor_6_0 : decode cX1_lambda_pressureOnFloor_6 0 = .ok (.aload_n 0, 1) := dk_42 (dk_at dksX1_lambda_pressureOnFloor_6_0 0 rfl rfl)
theorem dX1_lambda_pressureOnFloor_6_1 : decode cX1_lambda_pressureOnFloor_6 1 = .ok (.getfield 249, 3) := dk_180 0 249 (dk_at dksX1_lambda_pressureOnFloor_6_0 1 rfl rfl)
theorem dX1_lambda_pressureOnFloor_6_4 : decode cX1_lambda_pressureOnFloor_6 4 = .ok (.ifCond .ne 7, 3) := dk_154 0 7 (dk_at dksX1_lambda_pressureOnFloor_6_0 4 rfl rfl)
theorem dX1_lambda_pressureOnFloor_6_7 : decode cX1_lambda_pressureOnFloor_6 7 = .ok (.iconst 1, 1) := dk_4 (dk_at dksX1_lambda_pressureOnFloor_6_0 7 rfl rfl)
theorem dX1_lambda_pressureOnFloor_6_8 : decode cX1_lambda_pressureOnFloor_6 8 = .ok (.goto 4, 3) := dk_167 0 4 (dk_at dksX1_lambda_pressureOnFloor_6_0 8 rfl rfl)
theorem dX1_lambda_pressureOnFloor_6_11 : decode cX1_lambda_pressureOnFloor_6 11 = .ok (.iconst 0, 1) := dk_3 (dk_at dksX1_lambda_pressureOnFloor_6_0 11 rfl rfl)
theorem dX1_lambda_pressureOnFloor_6_12 : decode cX1_lambda_pressureOnFloor_6 12 = .ok (.ireturn, 1) := dk_172 (dk_at dksX1_lambda_pressureOnFloor_6_0 12 rfl rfl)
abbrev cX1_lambda_pressureOnFloor_7 : ByteArray := prog_1_method_91_code
def yX1_lambda_pressureOnFloor_7 : MethodName := ⟨RX1, "lambda$pressureOnFloor$7", "([ILFortPlanner$Block;)I"⟩
def dkwX1_lambda_pressureOnFloor_7_0 : List UInt8 := [44, 180, 0, 243, 43, 42, 180, 0, 10, 180, 0, 148, 44, 182, 1, 209, 46, 96, 172]
abbrev dktX1_lambda_pressureOnFloor_7_0 : List UInt8 := dkwX1_lambda_pressureOnFloor_7_0 ++ []
theorem dksX1_lambda_pressureOnFloor_7_0 : cX1_lambda_pressureOnFloor_7.data.toList.drop 0 = dktX1_lambda_pressureOnFloor_7_0 := by decide +kernel
theorem dX1_lambda_pressureOnFloor_7_0 : decode cX1_lambda_pressureOnFloor_7 0 = .ok (.aload_n 2, 1) := dk_44 (dk_at dksX1_lambda_pressureOnFloor_7_0 0 rfl rfl)
theorem dX1_lambda_pressureOnFloor_7_1 : decode cX1_lambda_pressureOnFloor_7 1 = .ok (.getfield 243, 3) := dk_180 0 243 (dk_at dksX1_lambda_pressureOnFloor_7_0 1 rfl rfl)
theorem dX1_lambda_pressureOnFloor_7_4 : decode cX1_lambda_pressureOnFloor_7 4 = .ok (.aload_n 1, 1) := dk_43 (dk_at dksX1_lambda_pressureOnFloor_7_0 4 rfl rfl)
theorem dX1_lambda_pressureOnFloor_7_5 : decode cX1_lambda_pressureOnFloor_7 5 = .ok (.aload_n 0, 1) := dk_42 (dk_at dksX1_lambda_pressureOnFloor_7_0 5 rfl rfl)
theorem dX1_lambda_pressureOnFloor_7_6 : decode cX1_lambda_pressureOnFloor_7 6 = .ok (.getfield 10, 3) := dk_180 0 10 (dk_at dksX1_lambda_pressureOnFloor_7_0 6 rfl rfl)
theorem dX1_lambda_pressureOnFloor_7_9 : decode cX1_lambda_pressureOnFloor_7 9 = .ok (.getfield 148, 3) := dk_180 0 148 (dk_at dksX1_lambda_pressureOnFloor_7_0 9 rfl rfl)
theorem dX1_lambda_pressureOnFloor_7_12 : decode cX1_lambda_pressureOnFloor_7 12 = .ok (.aload_n 2, 1) := dk_44 (dk_at dksX1_lambda_pressureOnFloor_7_0 12 rfl rfl)
theorem dX1_lambda_pressureOnFloor_7_13 : decode cX1_lambda_pressureOnFloor_7 13 = .ok (.invokevirtual 465, 3) := dk_182 1 209 (dk_at dksX1_lambda_pressureOnFloor_7_0 13 rfl rfl)
theorem dX1_lambda_pressureOnFloor_7_16 : decode cX1_lambda_pressureOnFloor_7 16 = .ok (.iaload, 1) := dk_46 (dk_at dksX1_lambda_pressureOnFloor_7_0 16 rfl rfl)
theorem dX1_lambda_pressureOnFloor_7_17 : decode cX1_lambda_pressureOnFloor_7 17 = .ok (.iadd, 1) := dk_96 (dk_at dksX1_lambda_pressureOnFloor_7_0 17 rfl rfl)
theorem dX1_lambda_pressureOnFloor_7_18 : decode cX1_lambda_pressureOnFloor_7 18 = .ok (.ireturn, 1) := dk_172 (dk_at dksX1_lambda_pressureOnFloor_7_0 18 rfl rfl)
abbrev cX1_meanHeight : ByteArray := prog_1_method_72_code
def yX1_meanHeight : MethodName := ⟨RX1, "meanHeight", "()D"⟩
def dkwX1_meanHeight_1 : List UInt8 := [167, 255, 236, 27, 135, 20, 1, 57, 111, 175]
abbrev dktX1_meanHeight_1 : List UInt8 := dkwX1_meanHeight_1 ++ []
def dkwX1_meanHeight_0 : List UInt8 := [3, 60, 3, 61, 28, 16, 12, 162, 0, 20, 27, 42, 180, 0, 10, 28, 182, 0, 188, 96, 60, 132, 2, 1]
abbrev dktX1_meanHeight_0 : List UInt8 := dkwX1_meanHeight_0 ++ dktX1_meanHeight_1
theorem dksX1_meanHeight_0 : cX1_meanHeight.data.toList.drop 0 = dktX1_meanHeight_0 := by decide +kernel
theorem dksX1_meanHeight_1 : cX1_meanHeight.data.toList.drop 24 = dktX1_meanHeight_1 := dk_seg dksX1_meanHeight_0 24 rfl rfl
theorem dX1_meanHeight_0 : decode cX1_meanHeight 0 = .ok (.iconst 0, 1) := dk_3 (dk_at dksX1_meanHeight_0 0 rfl rfl)
theorem dX1_meanHeight_1 : decode cX1_meanHeight 1 = .ok (.istore_n 1, 1) := dk_60 (dk_at dksX1_meanHeight_0 1 rfl rfl)
theorem dX1_meanHeight_2 : decode cX1_meanHeight 2 = .ok (.iconst 0, 1) := dk_3 (dk_at dksX1_meanHeight_0 2 rfl rfl)
theorem dX1_meanHeight_3 : decode cX1_meanHeight 3 = .ok (.istore_n 2, 1) := dk_61 (dk_at dksX1_meanHeight_0 3 rfl rfl)
theorem dX1_meanHeight_4 : decode cX1_meanHeight 4 = .ok (.iload_n 2, 1) := dk_28 (dk_at dksX1_meanHeight_0 4 rfl rfl)
theorem dX1_meanHeight_5 : decode cX1_meanHeight 5 = .ok (.bipush 12, 2) := dk_16 12 (dk_at dksX1_meanHeight_0 5 rfl rfl)
theorem dX1_meanHeight_7 : decode cX1_meanHeight 7 = .ok (.if_icmp .ge 20, 3) := dk_162 0 20 (dk_at dksX1_meanHeight_0 7 rfl rfl)
theorem dX1_meanHeight_10 : decode cX1_meanHeight 10 = .ok (.iload_n 1, 1) := dk_27 (dk_at dksX1_meanHeight_0 10 rfl rfl)
theorem dX1_meanHeight_11 : decode cX1_meanHeight 11 = .ok (.aload_n 0, 1) := dk_42 (dk_at dksX1_meanHeight_0 11 rfl rfl)
theorem dX1_meanHeight_12 : decode cX1_meanHeight 12 = .ok (.getfield 10, 3) := dk_180 0 10 (dk_at dksX1_meanHeight_0 12 rfl rfl)
theorem dX1_meanHeight_15 : decode cX1_meanHeight 15 = .ok (.iload_n 2, 1) := dk_28 (dk_at dksX1_meanHeight_0 15 rfl rfl)
theorem dX1_meanHeight_16 : decode cX1_meanHeight 16 = .ok (.invokevirtual 188, 3) := dk_182 0 188 (dk_at dksX1_meanHeight_0 16 rfl rfl)
theorem dX1_meanHeight_19 : decode cX1_meanHeight 19 = .ok (.iadd, 1) := dk_96 (dk_at dksX1_meanHeight_0 19 rfl rfl)
theorem dX1_meanHeight_20 : decode cX1_meanHeight 20 = .ok (.istore_n 1, 1) := dk_60 (dk_at dksX1_meanHeight_0 20 rfl rfl)
theorem dX1_meanHeight_21 : decode cX1_meanHeight 21 = .ok (.iinc 2 1, 3) := dk_132 2 1 (dk_at dksX1_meanHeight_0 21 rfl rfl)
theorem dX1_meanHeight_24 : decode cX1_meanHeight 24 = .ok (.goto (-20), 3) := dk_167 255 236 (dk_at dksX1_meanHeight_1 0 rfl rfl)
theorem dX1_meanHeight_27 : decode cX1_meanHeight 27 = .ok (.iload_n 1, 1) := dk_27 (dk_at dksX1_meanHeight_1 3 rfl rfl)
theorem dX1_meanHeight_28 : decode cX1_meanHeight 28 = .ok (.i2d, 1) := dk_135 (dk_at dksX1_meanHeight_1 4 rfl rfl)
theorem dX1_meanHeight_29 : decode cX1_meanHeight 29 = .ok (.ldc2_w 313, 3) := dk_20 1 57 (dk_at dksX1_meanHeight_1 5 rfl rfl)
theorem dX1_meanHeight_32 : decode cX1_meanHeight 32 = .ok (.ddiv, 1) := dk_111 (dk_at dksX1_meanHeight_1 8 rfl rfl)
theorem dX1_meanHeight_33 : decode cX1_meanHeight 33 = .ok (.dreturn, 1) := dk_175 (dk_at dksX1_meanHeight_1 9 rfl rfl)
abbrev cX1_litShare : ByteArray := prog_1_method_73_code
def yX1_litShare : MethodName := ⟨RX1, "litShare", "()F"⟩
def dkwX1_litShare_0 : List UInt8 := [42, 182, 0, 227, 134, 19, 1, 59, 110, 174]
abbrev dktX1_litShare_0 : List UInt8 := dkwX1_litShare_0 ++ []
theorem dksX1_litShare_0 : cX1_litShare.data.toList.drop 0 = dktX1_litShare_0 := by decide +kernel
theorem dX1_litShare_0 : decode cX1_litShare 0 = .ok (.aload_n 0, 1) := dk_42 (dk_at dksX1_litShare_0 0 rfl rfl)
theorem dX1_litShare_1 : decode cX1_litShare 1 = .ok (.invokevirtual 227, 3) := dk_182 0 227 (dk_at dksX1_litShare_0 1 rfl rfl)
theorem dX1_litShare_4 : decode cX1_litShare 4 = .ok (.i2f, 1) := dk_134 (dk_at dksX1_litShare_0 4 rfl rfl)
theorem dX1_litShare_5 : decode cX1_litShare 5 = .ok (.ldc_w 315, 3) := dk_19 1 59 (dk_at dksX1_litShare_0 5 rfl rfl)
theorem dX1_litShare_8 : decode cX1_litShare 8 = .ok (.fdiv, 1) := dk_110 (dk_at dksX1_litShare_0 8 rfl rfl)
theorem dX1_litShare_9 : decode cX1_litShare 9 = .ok (.freturn, 1) := dk_174 (dk_at dksX1_litShare_0 9 rfl rfl)
abbrev cX1_isConsistent : ByteArray := prog_1_method_77_code
def yX1_isConsistent : MethodName := ⟨RX1, "isConsistent", "()Z"⟩
def dkwX1_isConsistent_2 : List UInt8 := [182, 1, 51, 160, 0, 7, 4, 167, 0, 4, 3, 172]
abbrev dktX1_isConsistent_2 : List UInt8 := dkwX1_isConsistent_2 ++ []
def dkwX1_isConsistent_1 : List UInt8 := [167, 0, 4, 3, 60, 27, 153, 0, 28, 42, 180, 0, 10, 182, 1, 73, 154, 0, 18, 42, 182, 1, 54, 42]
abbrev dktX1_isConsistent_1 : List UInt8 := dkwX1_isConsistent_1 ++ dktX1_isConsistent_2
def dkwX1_isConsistent_0 : List UInt8 := [42, 182, 1, 63, 153, 0, 21, 42, 182, 1, 67, 153, 0, 14, 42, 182, 1, 70, 153, 0, 7, 4]
abbrev dktX1_isConsistent_0 : List UInt8 := dkwX1_isConsistent_0 ++ dktX1_isConsistent_1
theorem dksX1_isConsistent_0 : cX1_isConsistent.data.toList.drop 0 = dktX1_isConsistent_0 := by decide +kernel
theorem dksX1_isConsistent_1 : cX1_isConsistent.data.toList.drop 22 = dktX1_isConsistent_1 := dk_seg dksX1_isConsistent_0 22 rfl rfl
theorem dksX1_isConsistent_2 : cX1_isConsistent.data.toList.drop 46 = dktX1_isConsistent_2 := dk_seg dksX1_isConsistent_1 24 rfl rfl
theorem dX1_isConsistent_0 : decode cX1_isConsistent 0 = .ok (.aload_n 0, 1) := dk_42 (dk_at dksX1_isConsistent_0 0 rfl rfl)
theorem dX1_isConsistent_1 : decode cX1_isConsistent 1 = .ok (.invokevirtual 319, 3) := dk_182 1 63 (dk_at dksX1_isConsistent_0 1 rfl rfl)
theorem dX1_isConsistent_4 : decode cX1_isConsistent 4 = .ok (.ifCond .eq 21, 3) := dk_153 0 21 (dk_at dksX1_isConsistent_0 4 rfl rfl)
theorem dX1_isConsistent_7 : decode cX1_isConsistent 7 = .ok (.aload_n 0, 1) := dk_42 (dk_at dksX1_isConsistent_0 7 rfl rfl)
theorem dX1_isConsistent_8 : decode cX1_isConsistent 8 = .ok (.invokevirtual 323, 3) := dk_182 1 67 (dk_at dksX1_isConsistent_0 8 rfl rfl)
theorem dX1_isConsistent_11 : decode cX1_isConsistent 11 = .ok (.ifCond .eq 14, 3) := dk_153 0 14 (dk_at dksX1_isConsistent_0 11 rfl rfl)
theorem dX1_isConsistent_14 : decode cX1_isConsistent 14 = .ok (.aload_n 0, 1) := dk_42 (dk_at dksX1_isConsistent_0 14 rfl rfl)
theorem dX1_isConsistent_15 : decode cX1_isConsistent 15 = .ok (.invokevirtual 326, 3) := dk_182 1 70 (dk_at dksX1_isConsistent_0 15 rfl rfl)
theorem dX1_isConsistent_18 : decode cX1_isConsistent 18 = .ok (.ifCond .eq 7, 3) := dk_153 0 7 (dk_at dksX1_isConsistent_0 18 rfl rfl)
theorem dX1_isConsistent_21 : decode cX1_isConsistent 21 = .ok (.iconst 1, 1) := dk_4 (dk_at dksX1_isConsistent_0 21 rfl rfl)
theorem dX1_isConsistent_22 : decode cX1_isConsistent 22 = .ok (.goto 4, 3) := dk_167 0 4 (dk_at dksX1_isConsistent_1 0 rfl rfl)
theorem dX1_isConsistent_25 : decode cX1_isConsistent 25 = .ok (.iconst 0, 1) := dk_3 (dk_at dksX1_isConsistent_1 3 rfl rfl)
theorem dX1_isConsistent_26 : decode cX1_isConsistent 26 = .ok (.istore_n 1, 1) := dk_60 (dk_at dksX1_isConsistent_1 4 rfl rfl)
theorem dX1_isConsistent_27 : decode cX1_isConsistent 27 = .ok (.iload_n 1, 1) := dk_27 (dk_at dksX1_isConsistent_1 5 rfl rfl)
theorem dX1_isConsistent_28 : decode cX1_isConsistent 28 = .ok (.ifCond .eq 28, 3) := dk_153 0 28 (dk_at dksX1_isConsistent_1 6 rfl rfl)
theorem dX1_isConsistent_31 : decode cX1_isConsistent 31 = .ok (.aload_n 0, 1) := dk_42 (dk_at dksX1_isConsistent_1 9 rfl rfl)
theorem dX1_isConsistent_32 : decode cX1_isConsistent 32 = .ok (.getfield 10, 3) := dk_180 0 10 (dk_at dksX1_isConsistent_1 10 rfl rfl)
theorem dX1_isConsistent_35 : decode cX1_isConsistent 35 = .ok (.invokevirtual 329, 3) := dk_182 1 73 (dk_at dksX1_isConsistent_1 13 rfl rfl)
theorem dX1_isConsistent_38 : decode cX1_isConsistent 38 = .ok (.ifCond .ne 18, 3) := dk_154 0 18 (dk_at dksX1_isConsistent_1 16 rfl rfl)
theorem dX1_isConsistent_41 : decode cX1_isConsistent 41 = .ok (.aload_n 0, 1) := dk_42 (dk_at dksX1_isConsistent_1 19 rfl rfl)
theorem dX1_isConsistent_42 : decode cX1_isConsistent 42 = .ok (.invokevirtual 310, 3) := dk_182 1 54 (dk_at dksX1_isConsistent_1 20 rfl rfl)
theorem dX1_isConsistent_45 : decode cX1_isConsistent 45 = .ok (.aload_n 0, 1) := dk_42 (dk_at dksX1_isConsistent_1 23 rfl rfl)
theorem dX1_isConsistent_46 : decode cX1_isConsistent 46 = .ok (.invokevirtual 307, 3) := dk_182 1 51 (dk_at dksX1_isConsistent_2 0 rfl rfl)
theorem dX1_isConsistent_49 : decode cX1_isConsistent 49 = .ok (.if_icmp .ne 7, 3) := dk_160 0 7 (dk_at dksX1_isConsistent_2 3 rfl rfl)
theorem dX1_isConsistent_52 : decode cX1_isConsistent 52 = .ok (.iconst 1, 1) := dk_4 (dk_at dksX1_isConsistent_2 6 rfl rfl)
theorem dX1_isConsistent_53 : decode cX1_isConsistent 53 = .ok (.goto 4, 3) := dk_167 0 4 (dk_at dksX1_isConsistent_2 7 rfl rfl)
theorem dX1_isConsistent_56 : decode cX1_isConsistent 56 = .ok (.iconst 0, 1) := dk_3 (dk_at dksX1_isConsistent_2 10 rfl rfl)
theorem dX1_isConsistent_57 : decode cX1_isConsistent 57 = .ok (.ireturn, 1) := dk_172 (dk_at dksX1_isConsistent_2 11 rfl rfl)
abbrev cX1_areLoadsEqual : ByteArray := prog_1_method_74_code
def yX1_areLoadsEqual : MethodName := ⟨RX1, "areLoadsEqual", "()Z"⟩
def dkwX1_areLoadsEqual_2 : List UInt8 := [172]
abbrev dktX1_areLoadsEqual_2 : List UInt8 := dkwX1_areLoadsEqual_2 ++ []
def dkwX1_areLoadsEqual_1 : List UInt8 := [43, 29, 46, 42, 180, 0, 10, 29, 44, 182, 1, 60, 159, 0, 5, 3, 172, 132, 3, 1, 167, 255, 230, 4]
abbrev dktX1_areLoadsEqual_1 : List UInt8 := dkwX1_areLoadsEqual_1 ++ dktX1_areLoadsEqual_2
def dkwX1_areLoadsEqual_0 : List UInt8 := [42, 180, 0, 10, 182, 1, 10, 76, 42, 180, 0, 10, 182, 1, 23, 77, 3, 62, 29, 43, 190, 162, 0, 26]
abbrev dktX1_areLoadsEqual_0 : List UInt8 := dkwX1_areLoadsEqual_0 ++ dktX1_areLoadsEqual_1
theorem dksX1_areLoadsEqual_0 : cX1_areLoadsEqual.data.toList.drop 0 = dktX1_areLoadsEqual_0 := by decide +kernel
theorem dksX1_areLoadsEqual_1 : cX1_areLoadsEqual.data.toList.drop 24 = dktX1_areLoadsEqual_1 := dk_seg dksX1_areLoadsEqual_0 24 rfl rfl
theorem dksX1_areLoadsEqual_2 : cX1_areLoadsEqual.data.toList.drop 48 = dktX1_areLoadsEqual_2 := dk_seg dksX1_areLoadsEqual_1 24 rfl rfl
theorem dX1_areLoadsEqual_0 : decode cX1_areLoadsEqual 0 = .ok (.aload_n 0, 1) := dk_42 (dk_at dksX1_areLoadsEqual_0 0 rfl rfl)
theorem dX1_areLoadsEqual_1 : decode cX1_areLoadsEqual 1 = .ok (.getfield 10, 3) := dk_180 0 10 (dk_at dksX1_areLoadsEqual_0 1 rfl rfl)
theorem dX1_areLoadsEqual_4 : decode cX1_areLoadsEqual 4 = .ok (.invokevirtual 266, 3) := dk_182 1 10 (dk_at dksX1_areLoadsEqual_0 4 rfl rfl)
theorem dX1_areLoadsEqual_7 : decode cX1_areLoadsEqual 7 = .ok (.astore_n 1, 1) := dk_76 (dk_at dksX1_areLoadsEqual_0 7 rfl rfl)
theorem dX1_areLoadsEqual_8 : decode cX1_areLoadsEqual 8 = .ok (.aload_n 0, 1) := dk_42 (dk_at dksX1_areLoadsEqual_0 8 rfl rfl)
theorem dX1_areLoadsEqual_9 : decode cX1_areLoadsEqual 9 = .ok (.getfield 10, 3) := dk_180 0 10 (dk_at dksX1_areLoadsEqual_0 9 rfl rfl)
theorem dX1_areLoadsEqual_12 : decode cX1_areLoadsEqual 12 = .ok (.invokevirtual 279, 3) := dk_182 1 23 (dk_at dksX1_areLoadsEqual_0 12 rfl rfl)
theorem dX1_areLoadsEqual_15 : decode cX1_areLoadsEqual 15 = .ok (.astore_n 2, 1) := dk_77 (dk_at dksX1_areLoadsEqual_0 15 rfl rfl)
theorem dX1_areLoadsEqual_16 : decode cX1_areLoadsEqual 16 = .ok (.iconst 0, 1) := dk_3 (dk_at dksX1_areLoadsEqual_0 16 rfl rfl)
theorem dX1_areLoadsEqual_17 : decode cX1_areLoadsEqual 17 = .ok (.istore_n 3, 1) := dk_62 (dk_at dksX1_areLoadsEqual_0 17 rfl rfl)
theorem dX1_areLoadsEqual_18 : decode cX1_areLoadsEqual 18 = .ok (.iload_n 3, 1) := dk_29 (dk_at dksX1_areLoadsEqual_0 18 rfl rfl)
theorem dX1_areLoadsEqual_19 : decode cX1_areLoadsEqual 19 = .ok (.aload_n 1, 1) := dk_43 (dk_at dksX1_areLoadsEqual_0 19 rfl rfl)
theorem dX1_areLoadsEqual_20 : decode cX1_areLoadsEqual 20 = .ok (.arraylength, 1) := dk_190 (dk_at dksX1_areLoadsEqual_0 20 rfl rfl)
theorem dX1_areLoadsEqual_21 : decode cX1_areLoadsEqual 21 = .ok (.if_icmp .ge 26, 3) := dk_162 0 26 (dk_at dksX1_areLoadsEqual_0 21 rfl rfl)
theorem dX1_areLoadsEqual_24 : decode cX1_areLoadsEqual 24 = .ok (.aload_n 1, 1) := dk_43 (dk_at dksX1_areLoadsEqual_1 0 rfl rfl)
theorem dX1_areLoadsEqual_25 : decode cX1_areLoadsEqual 25 = .ok (.iload_n 3, 1) := dk_29 (dk_at dksX1_areLoadsEqual_1 1 rfl rfl)
theorem dX1_areLoadsEqual_26 : decode cX1_areLoadsEqual 26 = .ok (.iaload, 1) := dk_46 (dk_at dksX1_areLoadsEqual_1 2 rfl rfl)
theorem dX1_areLoadsEqual_27 : decode cX1_areLoadsEqual 27 = .ok (.aload_n 0, 1) := dk_42 (dk_at dksX1_areLoadsEqual_1 3 rfl rfl)
theorem dX1_areLoadsEqual_28 : decode cX1_areLoadsEqual 28 = .ok (.getfield 10, 3) := dk_180 0 10 (dk_at dksX1_areLoadsEqual_1 4 rfl rfl)
theorem dX1_areLoadsEqual_31 : decode cX1_areLoadsEqual 31 = .ok (.iload_n 3, 1) := dk_29 (dk_at dksX1_areLoadsEqual_1 7 rfl rfl)
theorem dX1_areLoadsEqual_32 : decode cX1_areLoadsEqual 32 = .ok (.aload_n 2, 1) := dk_44 (dk_at dksX1_areLoadsEqual_1 8 rfl rfl)
theorem dX1_areLoadsEqual_33 : decode cX1_areLoadsEqual 33 = .ok (.invokevirtual 316, 3) := dk_182 1 60 (dk_at dksX1_areLoadsEqual_1 9 rfl rfl)
theorem dX1_areLoadsEqual_36 : decode cX1_areLoadsEqual 36 = .ok (.if_icmp .eq 5, 3) := dk_159 0 5 (dk_at dksX1_areLoadsEqual_1 12 rfl rfl)
theorem dX1_areLoadsEqual_39 : decode cX1_areLoadsEqual 39 = .ok (.iconst 0, 1) := dk_3 (dk_at dksX1_areLoadsEqual_1 15 rfl rfl)
theorem dX1_areLoadsEqual_40 : decode cX1_areLoadsEqual 40 = .ok (.ireturn, 1) := dk_172 (dk_at dksX1_areLoadsEqual_1 16 rfl rfl)
theorem dX1_areLoadsEqual_41 : decode cX1_areLoadsEqual 41 = .ok (.iinc 3 1, 3) := dk_132 3 1 (dk_at dksX1_areLoadsEqual_1 17 rfl rfl)
theorem dX1_areLoadsEqual_44 : decode cX1_areLoadsEqual 44 = .ok (.goto (-26), 3) := dk_167 255 230 (dk_at dksX1_areLoadsEqual_1 20 rfl rfl)
theorem dX1_areLoadsEqual_47 : decode cX1_areLoadsEqual 47 = .ok (.iconst 1, 1) := dk_4 (dk_at dksX1_areLoadsEqual_1 23 rfl rfl)
theorem dX1_areLoadsEqual_48 : decode cX1_areLoadsEqual 48 = .ok (.ireturn, 1) := dk_172 (dk_at dksX1_areLoadsEqual_2 0 rfl rfl)
abbrev cX1_isLightEqual : ByteArray := prog_1_method_76_code
def yX1_isLightEqual : MethodName := ⟨RX1, "isLightEqual", "()Z"⟩
def dkwX1_isLightEqual_1 : List UInt8 := [182, 0, 220, 159, 0, 5, 3, 172, 132, 2, 1, 167, 255, 231, 4, 172]
abbrev dktX1_isLightEqual_1 : List UInt8 := dkwX1_isLightEqual_1 ++ []
def dkwX1_isLightEqual_0 : List UInt8 := [42, 180, 0, 10, 182, 0, 223, 76, 3, 61, 28, 16, 12, 162, 0, 25, 43, 28, 51, 42, 180, 0, 10, 28]
abbrev dktX1_isLightEqual_0 : List UInt8 := dkwX1_isLightEqual_0 ++ dktX1_isLightEqual_1
theorem dksX1_isLightEqual_0 : cX1_isLightEqual.data.toList.drop 0 = dktX1_isLightEqual_0 := by decide +kernel
theorem dksX1_isLightEqual_1 : cX1_isLightEqual.data.toList.drop 24 = dktX1_isLightEqual_1 := dk_seg dksX1_isLightEqual_0 24 rfl rfl
theorem dX1_isLightEqual_0 : decode cX1_isLightEqual 0 = .ok (.aload_n 0, 1) := dk_42 (dk_at dksX1_isLightEqual_0 0 rfl rfl)
theorem dX1_isLightEqual_1 : decode cX1_isLightEqual 1 = .ok (.getfield 10, 3) := dk_180 0 10 (dk_at dksX1_isLightEqual_0 1 rfl rfl)
theorem dX1_isLightEqual_4 : decode cX1_isLightEqual 4 = .ok (.invokevirtual 223, 3) := dk_182 0 223 (dk_at dksX1_isLightEqual_0 4 rfl rfl)
theorem dX1_isLightEqual_7 : decode cX1_isLightEqual 7 = .ok (.astore_n 1, 1) := dk_76 (dk_at dksX1_isLightEqual_0 7 rfl rfl)
theorem dX1_isLightEqual_8 : decode cX1_isLightEqual 8 = .ok (.iconst 0, 1) := dk_3 (dk_at dksX1_isLightEqual_0 8 rfl rfl)
theorem dX1_isLightEqual_9 : decode cX1_isLightEqual 9 = .ok (.istore_n 2, 1) := dk_61 (dk_at dksX1_isLightEqual_0 9 rfl rfl)
theorem dX1_isLightEqual_10 : decode cX1_isLightEqual 10 = .ok (.iload_n 2, 1) := dk_28 (dk_at dksX1_isLightEqual_0 10 rfl rfl)
theorem dX1_isLightEqual_11 : decode cX1_isLightEqual 11 = .ok (.bipush 12, 2) := dk_16 12 (dk_at dksX1_isLightEqual_0 11 rfl rfl)
theorem dX1_isLightEqual_13 : decode cX1_isLightEqual 13 = .ok (.if_icmp .ge 25, 3) := dk_162 0 25 (dk_at dksX1_isLightEqual_0 13 rfl rfl)
theorem dX1_isLightEqual_16 : decode cX1_isLightEqual 16 = .ok (.aload_n 1, 1) := dk_43 (dk_at dksX1_isLightEqual_0 16 rfl rfl)
theorem dX1_isLightEqual_17 : decode cX1_isLightEqual 17 = .ok (.iload_n 2, 1) := dk_28 (dk_at dksX1_isLightEqual_0 17 rfl rfl)
theorem dX1_isLightEqual_18 : decode cX1_isLightEqual 18 = .ok (.baload, 1) := dk_51 (dk_at dksX1_isLightEqual_0 18 rfl rfl)
theorem dX1_isLightEqual_19 : decode cX1_isLightEqual 19 = .ok (.aload_n 0, 1) := dk_42 (dk_at dksX1_isLightEqual_0 19 rfl rfl)
theorem dX1_isLightEqual_20 : decode cX1_isLightEqual 20 = .ok (.getfield 10, 3) := dk_180 0 10 (dk_at dksX1_isLightEqual_0 20 rfl rfl)
theorem dX1_isLightEqual_23 : decode cX1_isLightEqual 23 = .ok (.iload_n 2, 1) := dk_28 (dk_at dksX1_isLightEqual_0 23 rfl rfl)
theorem dX1_isLightEqual_24 : decode cX1_isLightEqual 24 = .ok (.invokevirtual 220, 3) := dk_182 0 220 (dk_at dksX1_isLightEqual_1 0 rfl rfl)
theorem dX1_isLightEqual_27 : decode cX1_isLightEqual 27 = .ok (.if_icmp .eq 5, 3) := dk_159 0 5 (dk_at dksX1_isLightEqual_1 3 rfl rfl)
theorem dX1_isLightEqual_30 : decode cX1_isLightEqual 30 = .ok (.iconst 0, 1) := dk_3 (dk_at dksX1_isLightEqual_1 6 rfl rfl)
theorem dX1_isLightEqual_31 : decode cX1_isLightEqual 31 = .ok (.ireturn, 1) := dk_172 (dk_at dksX1_isLightEqual_1 7 rfl rfl)
theorem dX1_isLightEqual_32 : decode cX1_isLightEqual 32 = .ok (.iinc 2 1, 3) := dk_132 2 1 (dk_at dksX1_isLightEqual_1 8 rfl rfl)
theorem dX1_isLightEqual_35 : decode cX1_isLightEqual 35 = .ok (.goto (-25), 3) := dk_167 255 231 (dk_at dksX1_isLightEqual_1 11 rfl rfl)
theorem dX1_isLightEqual_38 : decode cX1_isLightEqual 38 = .ok (.iconst 1, 1) := dk_4 (dk_at dksX1_isLightEqual_1 14 rfl rfl)
theorem dX1_isLightEqual_39 : decode cX1_isLightEqual 39 = .ok (.ireturn, 1) := dk_172 (dk_at dksX1_isLightEqual_1 15 rfl rfl)
abbrev cX1_areHolesEqual : ByteArray := prog_1_method_75_code
def yX1_areHolesEqual : MethodName := ⟨RX1, "areHolesEqual", "()Z"⟩
def dkwX1_areHolesEqual_1 : List UInt8 := [132, 1, 1, 167, 255, 232, 4, 172]
abbrev dktX1_areHolesEqual_1 : List UInt8 := dkwX1_areHolesEqual_1 ++ []
def dkwX1_areHolesEqual_0 : List UInt8 := [3, 60, 27, 16, 12, 162, 0, 24, 42, 27, 182, 0, 214, 42, 27, 182, 0, 217, 159, 0, 5, 3, 172]
abbrev dktX1_areHolesEqual_0 : List UInt8 := dkwX1_areHolesEqual_0 ++ dktX1_areHolesEqual_1
theorem dksX1_areHolesEqual_0 : cX1_areHolesEqual.data.toList.drop 0 = dktX1_areHolesEqual_0 := by decide +kernel
theorem dksX1_areHolesEqual_1 : cX1_areHolesEqual.data.toList.drop 23 = dktX1_areHolesEqual_1 := dk_seg dksX1_areHolesEqual_0 23 rfl rfl
theorem dX1_areHolesEqual_0 : decode cX1_areHolesEqual 0 = .ok (.iconst 0, 1) := dk_3 (dk_at dksX1_areHolesEqual_0 0 rfl rfl)
theorem dX1_areHolesEqual_1 : decode cX1_areHolesEqual 1 = .ok (.istore_n 1, 1) := dk_60 (dk_at dksX1_areHolesEqual_0 1 rfl rfl)
theorem dX1_areHolesEqual_2 : decode cX1_areHolesEqual 2 = .ok (.iload_n 1, 1) := dk_27 (dk_at dksX1_areHolesEqual_0 2 rfl rfl)
theorem dX1_areHolesEqual_3 : decode cX1_areHolesEqual 3 = .ok (.bipush 12, 2) := dk_16 12 (dk_at dksX1_areHolesEqual_0 3 rfl rfl)
theorem dX1_areHolesEqual_5 : decode cX1_areHolesEqual 5 = .ok (.if_icmp .ge 24, 3) := dk_162 0 24 (dk_at dksX1_areHolesEqual_0 5 rfl rfl)
theorem dX1_areHolesEqual_8 : decode cX1_areHolesEqual 8 = .ok (.aload_n 0, 1) := dk_42 (dk_at dksX1_areHolesEqual_0 8 rfl rfl)
theorem dX1_areHolesEqual_9 : decode cX1_areHolesEqual 9 = .ok (.iload_n 1, 1) := dk_27 (dk_at dksX1_areHolesEqual_0 9 rfl rfl)
theorem dX1_areHolesEqual_10 : decode cX1_areHolesEqual 10 = .ok (.invokevirtual 214, 3) := dk_182 0 214 (dk_at dksX1_areHolesEqual_0 10 rfl rfl)
theorem dX1_areHolesEqual_13 : decode cX1_areHolesEqual 13 = .ok (.aload_n 0, 1) := dk_42 (dk_at dksX1_areHolesEqual_0 13 rfl rfl)
theorem dX1_areHolesEqual_14 : decode cX1_areHolesEqual 14 = .ok (.iload_n 1, 1) := dk_27 (dk_at dksX1_areHolesEqual_0 14 rfl rfl)
theorem dX1_areHolesEqual_15 : decode cX1_areHolesEqual 15 = .ok (.invokevirtual 217, 3) := dk_182 0 217 (dk_at dksX1_areHolesEqual_0 15 rfl rfl)
theorem dX1_areHolesEqual_18 : decode cX1_areHolesEqual 18 = .ok (.if_icmp .eq 5, 3) := dk_159 0 5 (dk_at dksX1_areHolesEqual_0 18 rfl rfl)
theorem dX1_areHolesEqual_21 : decode cX1_areHolesEqual 21 = .ok (.iconst 0, 1) := dk_3 (dk_at dksX1_areHolesEqual_0 21 rfl rfl)
theorem dX1_areHolesEqual_22 : decode cX1_areHolesEqual 22 = .ok (.ireturn, 1) := dk_172 (dk_at dksX1_areHolesEqual_0 22 rfl rfl)
theorem dX1_areHolesEqual_23 : decode cX1_areHolesEqual 23 = .ok (.iinc 1 1, 3) := dk_132 1 1 (dk_at dksX1_areHolesEqual_1 0 rfl rfl)
theorem dX1_areHolesEqual_26 : decode cX1_areHolesEqual 26 = .ok (.goto (-24), 3) := dk_167 255 232 (dk_at dksX1_areHolesEqual_1 3 rfl rfl)
theorem dX1_areHolesEqual_29 : decode cX1_areHolesEqual 29 = .ok (.iconst 1, 1) := dk_4 (dk_at dksX1_areHolesEqual_1 6 rfl rfl)
theorem dX1_areHolesEqual_30 : decode cX1_areHolesEqual 30 = .ok (.ireturn, 1) := dk_172 (dk_at dksX1_areHolesEqual_1 7 rfl rfl)
abbrev cX1_countHoles : ByteArray := prog_1_method_30_code
def yX1_countHoles : MethodName := ⟨RX1, "countHoles", "(I)I"⟩
def dkwX1_countHoles_1 : List UInt8 := [153, 0, 7, 3, 167, 0, 4, 4, 96, 61, 132, 3, 1, 167, 255, 224, 28, 172]
abbrev dktX1_countHoles_1 : List UInt8 := dkwX1_countHoles_1 ++ []
def dkwX1_countHoles_0 : List UInt8 := [3, 61, 3, 62, 29, 42, 180, 0, 10, 27, 182, 0, 188, 162, 0, 26, 28, 42, 27, 29, 182, 0, 200]
abbrev dktX1_countHoles_0 : List UInt8 := dkwX1_countHoles_0 ++ dktX1_countHoles_1
theorem dksX1_countHoles_0 : cX1_countHoles.data.toList.drop 0 = dktX1_countHoles_0 := by decide +kernel
theorem dksX1_countHoles_1 : cX1_countHoles.data.toList.drop 23 = dktX1_countHoles_1 := dk_seg dksX1_countHoles_0 23 rfl rfl
theorem dX1_countHoles_0 : decode cX1_countHoles 0 = .ok (.iconst 0, 1) := dk_3 (dk_at dksX1_countHoles_0 0 rfl rfl)
theorem dX1_countHoles_1 : decode cX1_countHoles 1 = .ok (.istore_n 2, 1) := dk_61 (dk_at dksX1_countHoles_0 1 rfl rfl)
theorem dX1_countHoles_2 : decode cX1_countHoles 2 = .ok (.iconst 0, 1) := dk_3 (dk_at dksX1_countHoles_0 2 rfl rfl)
theorem dX1_countHoles_3 : decode cX1_countHoles 3 = .ok (.istore_n 3, 1) := dk_62 (dk_at dksX1_countHoles_0 3 rfl rfl)
theorem dX1_countHoles_4 : decode cX1_countHoles 4 = .ok (.iload_n 3, 1) := dk_29 (dk_at dksX1_countHoles_0 4 rfl rfl)
theorem dX1_countHoles_5 : decode cX1_countHoles 5 = .ok (.aload_n 0, 1) := dk_42 (dk_at dksX1_countHoles_0 5 rfl rfl)
theorem dX1_countHoles_6 : decode cX1_countHoles 6 = .ok (.getfield 10, 3) := dk_180 0 10 (dk_at dksX1_countHoles_0 6 rfl rfl)
theorem dX1_countHoles_9 : decode cX1_countHoles 9 = .ok (.iload_n 1, 1) := dk_27 (dk_at dksX1_countHoles_0 9 rfl rfl)
theorem dX1_countHoles_10 : decode cX1_countHoles 10 = .ok (.invokevirtual 188, 3) := dk_182 0 188 (dk_at dksX1_countHoles_0 10 rfl rfl)
theorem dX1_countHoles_13 : decode cX1_countHoles 13 = .ok (.if_icmp .ge 26, 3) := dk_162 0 26 (dk_at dksX1_countHoles_0 13 rfl rfl)
theorem dX1_countHoles_16 : decode cX1_countHoles 16 = .ok (.iload_n 2, 1) := dk_28 (dk_at dksX1_countHoles_0 16 rfl rfl)
theorem dX1_countHoles_17 : decode cX1_countHoles 17 = .ok (.aload_n 0, 1) := dk_42 (dk_at dksX1_countHoles_0 17 rfl rfl)
theorem dX1_countHoles_18 : decode cX1_countHoles 18 = .ok (.iload_n 1, 1) := dk_27 (dk_at dksX1_countHoles_0 18 rfl rfl)
theorem dX1_countHoles_19 : decode cX1_countHoles 19 = .ok (.iload_n 3, 1) := dk_29 (dk_at dksX1_countHoles_0 19 rfl rfl)
theorem dX1_countHoles_20 : decode cX1_countHoles 20 = .ok (.invokevirtual 200, 3) := dk_182 0 200 (dk_at dksX1_countHoles_0 20 rfl rfl)
theorem dX1_countHoles_23 : decode cX1_countHoles 23 = .ok (.ifCond .eq 7, 3) := dk_153 0 7 (dk_at dksX1_countHoles_1 0 rfl rfl)
theorem dX1_countHoles_26 : decode cX1_countHoles 26 = .ok (.iconst 0, 1) := dk_3 (dk_at dksX1_countHoles_1 3 rfl rfl)
theorem dX1_countHoles_27 : decode cX1_countHoles 27 = .ok (.goto 4, 3) := dk_167 0 4 (dk_at dksX1_countHoles_1 4 rfl rfl)
theorem dX1_countHoles_30 : decode cX1_countHoles 30 = .ok (.iconst 1, 1) := dk_4 (dk_at dksX1_countHoles_1 7 rfl rfl)
theorem dX1_countHoles_31 : decode cX1_countHoles 31 = .ok (.iadd, 1) := dk_96 (dk_at dksX1_countHoles_1 8 rfl rfl)
theorem dX1_countHoles_32 : decode cX1_countHoles 32 = .ok (.istore_n 2, 1) := dk_61 (dk_at dksX1_countHoles_1 9 rfl rfl)
theorem dX1_countHoles_33 : decode cX1_countHoles 33 = .ok (.iinc 3 1, 3) := dk_132 3 1 (dk_at dksX1_countHoles_1 10 rfl rfl)
theorem dX1_countHoles_36 : decode cX1_countHoles 36 = .ok (.goto (-32), 3) := dk_167 255 224 (dk_at dksX1_countHoles_1 13 rfl rfl)
theorem dX1_countHoles_39 : decode cX1_countHoles 39 = .ok (.iload_n 2, 1) := dk_28 (dk_at dksX1_countHoles_1 16 rfl rfl)
theorem dX1_countHoles_40 : decode cX1_countHoles 40 = .ok (.ireturn, 1) := dk_172 (dk_at dksX1_countHoles_1 17 rfl rfl)
abbrev cX1_isFilled : ByteArray := prog_1_method_29_code
def yX1_isFilled : MethodName := ⟨RX1, "isFilled", "(II)Z"⟩
def dkwX1_isFilled_0 : List UInt8 := [42, 180, 0, 10, 27, 28, 186, 0, 192, 0, 0, 182, 0, 196, 158, 0, 7, 4, 167, 0, 4, 3, 172]
abbrev dktX1_isFilled_0 : List UInt8 := dkwX1_isFilled_0 ++ []
theorem dksX1_isFilled_0 : cX1_isFilled.data.toList.drop 0 = dktX1_isFilled_0 := by decide +kernel
theorem dX1_isFilled_0 : decode cX1_isFilled 0 = .ok (.aload_n 0, 1) := dk_42 (dk_at dksX1_isFilled_0 0 rfl rfl)
theorem dX1_isFilled_1 : decode cX1_isFilled 1 = .ok (.getfield 10, 3) := dk_180 0 10 (dk_at dksX1_isFilled_0 1 rfl rfl)
theorem dX1_isFilled_4 : decode cX1_isFilled 4 = .ok (.iload_n 1, 1) := dk_27 (dk_at dksX1_isFilled_0 4 rfl rfl)
theorem dX1_isFilled_5 : decode cX1_isFilled 5 = .ok (.iload_n 2, 1) := dk_28 (dk_at dksX1_isFilled_0 5 rfl rfl)
theorem dX1_isFilled_6 : decode cX1_isFilled 6 = .ok (.invokedynamic 192, 5) := by decide +kernel
theorem dX1_isFilled_11 : decode cX1_isFilled 11 = .ok (.invokevirtual 196, 3) := dk_182 0 196 (dk_at dksX1_isFilled_0 11 rfl rfl)
theorem dX1_isFilled_14 : decode cX1_isFilled 14 = .ok (.ifCond .le 7, 3) := dk_158 0 7 (dk_at dksX1_isFilled_0 14 rfl rfl)
theorem dX1_isFilled_17 : decode cX1_isFilled 17 = .ok (.iconst 1, 1) := dk_4 (dk_at dksX1_isFilled_0 17 rfl rfl)
theorem dX1_isFilled_18 : decode cX1_isFilled 18 = .ok (.goto 4, 3) := dk_167 0 4 (dk_at dksX1_isFilled_0 18 rfl rfl)
theorem dX1_isFilled_21 : decode cX1_isFilled 21 = .ok (.iconst 0, 1) := dk_3 (dk_at dksX1_isFilled_0 21 rfl rfl)
theorem dX1_isFilled_22 : decode cX1_isFilled 22 = .ok (.ireturn, 1) := dk_172 (dk_at dksX1_isFilled_0 22 rfl rfl)
abbrev cX1_lambda_isFilled_0 : ByteArray := prog_1_method_98_code
def yX1_lambda_isFilled_0 : MethodName := ⟨RX1, "lambda$isFilled$0", "(IILFortPlanner$Block;)Z"⟩
def dkwX1_lambda_isFilled_0_1 : List UInt8 := [4, 167, 0, 4, 3, 172]
abbrev dktX1_lambda_isFilled_0_1 : List UInt8 := dkwX1_lambda_isFilled_0_1 ++ []
def dkwX1_lambda_isFilled_0_0 : List UInt8 := [44, 26, 182, 1, 216, 153, 0, 23, 44, 180, 0, 249, 27, 163, 0, 15, 27, 44, 182, 0, 252, 162, 0, 7]
abbrev dktX1_lambda_isFilled_0_0 : List UInt8 := dkwX1_lambda_isFilled_0_0 ++ dktX1_lambda_isFilled_0_1
theorem dksX1_lambda_isFilled_0_0 : cX1_lambda_isFilled_0.data.toList.drop 0 = dktX1_lambda_isFilled_0_0 := by decide +kernel
theorem dksX1_lambda_isFilled_0_1 : cX1_lambda_isFilled_0.data.toList.drop 24 = dktX1_lambda_isFilled_0_1 := dk_seg dksX1_lambda_isFilled_0_0 24 rfl rfl
theorem dX1_lambda_isFilled_0_0 : decode cX1_lambda_isFilled_0 0 = .ok (.aload_n 2, 1) := dk_44 (dk_at dksX1_lambda_isFilled_0_0 0 rfl rfl)
theorem dX1_lambda_isFilled_0_1 : decode cX1_lambda_isFilled_0 1 = .ok (.iload_n 0, 1) := dk_26 (dk_at dksX1_lambda_isFilled_0_0 1 rfl rfl)
theorem dX1_lambda_isFilled_0_2 : decode cX1_lambda_isFilled_0 2 = .ok (.invokevirtual 472, 3) := dk_182 1 216 (dk_at dksX1_lambda_isFilled_0_0 2 rfl rfl)
theorem dX1_lambda_isFilled_0_5 : decode cX1_lambda_isFilled_0 5 = .ok (.ifCond .eq 23, 3) := dk_153 0 23 (dk_at dksX1_lambda_isFilled_0_0 5 rfl rfl)
theorem dX1_lambda_isFilled_0_8 : decode cX1_lambda_isFilled_0 8 = .ok (.aload_n 2, 1) := dk_44 (dk_at dksX1_lambda_isFilled_0_0 8 rfl rfl)
theorem dX1_lambda_isFilled_0_9 : decode cX1_lambda_isFilled_0 9 = .ok (.getfield 249, 3) := dk_180 0 249 (dk_at dksX1_lambda_isFilled_0_0 9 rfl rfl)
theorem dX1_lambda_isFilled_0_12 : decode cX1_lambda_isFilled_0 12 = .ok (.iload_n 1, 1) := dk_27 (dk_at dksX1_lambda_isFilled_0_0 12 rfl rfl)
theorem dX1_lambda_isFilled_0_13 : decode cX1_lambda_isFilled_0 13 = .ok (.if_icmp .gt 15, 3) := dk_163 0 15 (dk_at dksX1_lambda_isFilled_0_0 13 rfl rfl)
theorem dX1_lambda_isFilled_0_16 : decode cX1_lambda_isFilled_0 16 = .ok (.iload_n 1, 1) := dk_27 (dk_at dksX1_lambda_isFilled_0_0 16 rfl rfl)
theorem dX1_lambda_isFilled_0_17 : decode cX1_lambda_isFilled_0 17 = .ok (.aload_n 2, 1) := dk_44 (dk_at dksX1_lambda_isFilled_0_0 17 rfl rfl)
theorem dX1_lambda_isFilled_0_18 : decode cX1_lambda_isFilled_0 18 = .ok (.invokevirtual 252, 3) := dk_182 0 252 (dk_at dksX1_lambda_isFilled_0_0 18 rfl rfl)
theorem dX1_lambda_isFilled_0_21 : decode cX1_lambda_isFilled_0 21 = .ok (.if_icmp .ge 7, 3) := dk_162 0 7 (dk_at dksX1_lambda_isFilled_0_0 21 rfl rfl)
theorem dX1_lambda_isFilled_0_24 : decode cX1_lambda_isFilled_0 24 = .ok (.iconst 1, 1) := dk_4 (dk_at dksX1_lambda_isFilled_0_1 0 rfl rfl)
theorem dX1_lambda_isFilled_0_25 : decode cX1_lambda_isFilled_0 25 = .ok (.goto 4, 3) := dk_167 0 4 (dk_at dksX1_lambda_isFilled_0_1 1 rfl rfl)
theorem dX1_lambda_isFilled_0_28 : decode cX1_lambda_isFilled_0 28 = .ok (.iconst 0, 1) := dk_3 (dk_at dksX1_lambda_isFilled_0_1 4 rfl rfl)
theorem dX1_lambda_isFilled_0_29 : decode cX1_lambda_isFilled_0 29 = .ok (.ireturn, 1) := dk_172 (dk_at dksX1_lambda_isFilled_0_1 5 rfl rfl)
abbrev cX1_computeHoles : ByteArray := prog_1_method_31_code
def yX1_computeHoles : MethodName := ⟨RX1, "computeHoles", "(I)I"⟩
def dkwX1_computeHoles_1 : List UInt8 := [182, 0, 210, 100, 172]
abbrev dktX1_computeHoles_1 : List UInt8 := dkwX1_computeHoles_1 ++ []
def dkwX1_computeHoles_0 : List UInt8 := [42, 180, 0, 10, 27, 182, 0, 188, 42, 180, 0, 10, 27, 186, 0, 204, 0, 0, 186, 0, 207, 0, 0]
abbrev dktX1_computeHoles_0 : List UInt8 := dkwX1_computeHoles_0 ++ dktX1_computeHoles_1
theorem dksX1_computeHoles_0 : cX1_computeHoles.data.toList.drop 0 = dktX1_computeHoles_0 := by decide +kernel
theorem dksX1_computeHoles_1 : cX1_computeHoles.data.toList.drop 23 = dktX1_computeHoles_1 := dk_seg dksX1_computeHoles_0 23 rfl rfl
theorem dX1_computeHoles_0 : decode cX1_computeHoles 0 = .ok (.aload_n 0, 1) := dk_42 (dk_at dksX1_computeHoles_0 0 rfl rfl)
theorem dX1_computeHoles_1 : decode cX1_computeHoles 1 = .ok (.getfield 10, 3) := dk_180 0 10 (dk_at dksX1_computeHoles_0 1 rfl rfl)
theorem dX1_computeHoles_4 : decode cX1_computeHoles 4 = .ok (.iload_n 1, 1) := dk_27 (dk_at dksX1_computeHoles_0 4 rfl rfl)
theorem dX1_computeHoles_5 : decode cX1_computeHoles 5 = .ok (.invokevirtual 188, 3) := dk_182 0 188 (dk_at dksX1_computeHoles_0 5 rfl rfl)
theorem dX1_computeHoles_8 : decode cX1_computeHoles 8 = .ok (.aload_n 0, 1) := dk_42 (dk_at dksX1_computeHoles_0 8 rfl rfl)
theorem dX1_computeHoles_9 : decode cX1_computeHoles 9 = .ok (.getfield 10, 3) := dk_180 0 10 (dk_at dksX1_computeHoles_0 9 rfl rfl)
theorem dX1_computeHoles_12 : decode cX1_computeHoles 12 = .ok (.iload_n 1, 1) := dk_27 (dk_at dksX1_computeHoles_0 12 rfl rfl)
theorem dX1_computeHoles_13 : decode cX1_computeHoles 13 = .ok (.invokedynamic 204, 5) := by decide +kernel
theorem dX1_computeHoles_18 : decode cX1_computeHoles 18 = .ok (.invokedynamic 207, 5) := by decide +kernel
theorem dX1_computeHoles_23 : decode cX1_computeHoles 23 = .ok (.invokevirtual 210, 3) := dk_182 0 210 (dk_at dksX1_computeHoles_1 0 rfl rfl)
theorem dX1_computeHoles_26 : decode cX1_computeHoles 26 = .ok (.isub, 1) := dk_100 (dk_at dksX1_computeHoles_1 3 rfl rfl)
theorem dX1_computeHoles_27 : decode cX1_computeHoles 27 = .ok (.ireturn, 1) := dk_172 (dk_at dksX1_computeHoles_1 4 rfl rfl)
abbrev cX1_lambda_computeHoles_1 : ByteArray := prog_1_method_97_code
def yX1_lambda_computeHoles_1 : MethodName := ⟨RX1, "lambda$computeHoles$1", "(ILFortPlanner$Block;)Z"⟩
def dkwX1_lambda_computeHoles_1_0 : List UInt8 := [43, 26, 182, 1, 216, 172]
abbrev dktX1_lambda_computeHoles_1_0 : List UInt8 := dkwX1_lambda_computeHoles_1_0 ++ []
theorem dksX1_lambda_computeHoles_1_0 : cX1_lambda_computeHoles_1.data.toList.drop 0 = dktX1_lambda_computeHoles_1_0 := by decide +kernel
theorem dX1_lambda_computeHoles_1_0 : decode cX1_lambda_computeHoles_1 0 = .ok (.aload_n 1, 1) := dk_43 (dk_at dksX1_lambda_computeHoles_1_0 0 rfl rfl)
theorem dX1_lambda_computeHoles_1_1 : decode cX1_lambda_computeHoles_1 1 = .ok (.iload_n 0, 1) := dk_26 (dk_at dksX1_lambda_computeHoles_1_0 1 rfl rfl)
theorem dX1_lambda_computeHoles_1_2 : decode cX1_lambda_computeHoles_1 2 = .ok (.invokevirtual 472, 3) := dk_182 1 216 (dk_at dksX1_lambda_computeHoles_1_0 2 rfl rfl)
theorem dX1_lambda_computeHoles_1_5 : decode cX1_lambda_computeHoles_1 5 = .ok (.ireturn, 1) := dk_172 (dk_at dksX1_lambda_computeHoles_1_0 5 rfl rfl)
abbrev cX1_lambda_computeHoles_2 : ByteArray := prog_1_method_96_code
def yX1_lambda_computeHoles_2 : MethodName := ⟨RX1, "lambda$computeHoles$2", "(LFortPlanner$Block;)I"⟩
theorem dX1_lambda_computeHoles_2_0 : decode cX1_lambda_computeHoles_2 0 = .ok (.aload_n 0, 1) := by decide +kernel
theorem dX1_lambda_computeHoles_2_1 : decode cX1_lambda_computeHoles_2 1 = .ok (.invokevirtual 469, 3) := by decide +kernel
theorem dX1_lambda_computeHoles_2_4 : decode cX1_lambda_computeHoles_2 4 = .ok (.ireturn, 1) := by decide +kernel
abbrev cX1_formatHeights : ByteArray := prog_1_method_79_code
def yX1_formatHeights : MethodName := ⟨RX1, "formatHeights", "()I"⟩
def dkwX1_formatHeights_3 : List UInt8 := [132, 1, 1, 167, 255, 191, 42, 180, 0, 30, 182, 1, 94, 172]
abbrev dktX1_formatHeights_3 : List UInt8 := dkwX1_formatHeights_3 ++ []
def dkwX1_formatHeights_2 : List UInt8 := [19, 1, 101, 167, 0, 6, 19, 1, 99, 182, 1, 91, 42, 180, 0, 10, 27, 182, 0, 188, 182, 1, 86, 87]
abbrev dktX1_formatHeights_2 : List UInt8 := dkwX1_formatHeights_2 ++ dktX1_formatHeights_3
def dkwX1_formatHeights_1 : List UInt8 := [19, 1, 97, 167, 0, 6, 19, 1, 99, 182, 1, 91, 42, 180, 0, 10, 180, 0, 177, 27, 51, 153, 0, 9]
abbrev dktX1_formatHeights_1 : List UInt8 := dkwX1_formatHeights_1 ++ dktX1_formatHeights_2
def dkwX1_formatHeights_0 : List UInt8 := [42, 180, 0, 30, 3, 182, 1, 76, 3, 60, 27, 16, 12, 162, 0, 65, 42, 180, 0, 30, 27, 158, 0, 9]
abbrev dktX1_formatHeights_0 : List UInt8 := dkwX1_formatHeights_0 ++ dktX1_formatHeights_1
theorem dksX1_formatHeights_0 : cX1_formatHeights.data.toList.drop 0 = dktX1_formatHeights_0 := by decide +kernel
theorem dksX1_formatHeights_1 : cX1_formatHeights.data.toList.drop 24 = dktX1_formatHeights_1 := dk_seg dksX1_formatHeights_0 24 rfl rfl
theorem dksX1_formatHeights_2 : cX1_formatHeights.data.toList.drop 48 = dktX1_formatHeights_2 := dk_seg dksX1_formatHeights_1 24 rfl rfl
theorem dksX1_formatHeights_3 : cX1_formatHeights.data.toList.drop 72 = dktX1_formatHeights_3 := dk_seg dksX1_formatHeights_2 24 rfl rfl
theorem dX1_formatHeights_0 : decode cX1_formatHeights 0 = .ok (.aload_n 0, 1) := dk_42 (dk_at dksX1_formatHeights_0 0 rfl rfl)
theorem dX1_formatHeights_1 : decode cX1_formatHeights 1 = .ok (.getfield 30, 3) := dk_180 0 30 (dk_at dksX1_formatHeights_0 1 rfl rfl)
theorem dX1_formatHeights_4 : decode cX1_formatHeights 4 = .ok (.iconst 0, 1) := dk_3 (dk_at dksX1_formatHeights_0 4 rfl rfl)
theorem dX1_formatHeights_5 : decode cX1_formatHeights 5 = .ok (.invokevirtual 332, 3) := dk_182 1 76 (dk_at dksX1_formatHeights_0 5 rfl rfl)
theorem dX1_formatHeights_8 : decode cX1_formatHeights 8 = .ok (.iconst 0, 1) := dk_3 (dk_at dksX1_formatHeights_0 8 rfl rfl)
theorem dX1_formatHeights_9 : decode cX1_formatHeights 9 = .ok (.istore_n 1, 1) := dk_60 (dk_at dksX1_formatHeights_0 9 rfl rfl)
theorem dX1_formatHeights_10 : decode cX1_formatHeights 10 = .ok (.iload_n 1, 1) := dk_27 (dk_at dksX1_formatHeights_0 10 rfl rfl)
theorem dX1_formatHeights_11 : decode cX1_formatHeights 11 = .ok (.bipush 12, 2) := dk_16 12 (dk_at dksX1_formatHeights_0 11 rfl rfl)
theorem dX1_formatHeights_13 : decode cX1_formatHeights 13 = .ok (.if_icmp .ge 65, 3) := dk_162 0 65 (dk_at dksX1_formatHeights_0 13 rfl rfl)
theorem dX1_formatHeights_16 : decode cX1_formatHeights 16 = .ok (.aload_n 0, 1) := dk_42 (dk_at dksX1_formatHeights_0 16 rfl rfl)
theorem dX1_formatHeights_17 : decode cX1_formatHeights 17 = .ok (.getfield 30, 3) := dk_180 0 30 (dk_at dksX1_formatHeights_0 17 rfl rfl)
theorem dX1_formatHeights_20 : decode cX1_formatHeights 20 = .ok (.iload_n 1, 1) := dk_27 (dk_at dksX1_formatHeights_0 20 rfl rfl)
theorem dX1_formatHeights_21 : decode cX1_formatHeights 21 = .ok (.ifCond .le 9, 3) := dk_158 0 9 (dk_at dksX1_formatHeights_0 21 rfl rfl)
theorem dX1_formatHeights_24 : decode cX1_formatHeights 24 = .ok (.ldc_w 353, 3) := dk_19 1 97 (dk_at dksX1_formatHeights_1 0 rfl rfl)
theorem dX1_formatHeights_27 : decode cX1_formatHeights 27 = .ok (.goto 6, 3) := dk_167 0 6 (dk_at dksX1_formatHeights_1 3 rfl rfl)
theorem dX1_formatHeights_30 : decode cX1_formatHeights 30 = .ok (.ldc_w 355, 3) := dk_19 1 99 (dk_at dksX1_formatHeights_1 6 rfl rfl)
theorem dX1_formatHeights_33 : decode cX1_formatHeights 33 = .ok (.invokevirtual 347, 3) := dk_182 1 91 (dk_at dksX1_formatHeights_1 9 rfl rfl)
theorem dX1_formatHeights_36 : decode cX1_formatHeights 36 = .ok (.aload_n 0, 1) := dk_42 (dk_at dksX1_formatHeights_1 12 rfl rfl)
theorem dX1_formatHeights_37 : decode cX1_formatHeights 37 = .ok (.getfield 10, 3) := dk_180 0 10 (dk_at dksX1_formatHeights_1 13 rfl rfl)
theorem dX1_formatHeights_40 : decode cX1_formatHeights 40 = .ok (.getfield 177, 3) := dk_180 0 177 (dk_at dksX1_formatHeights_1 16 rfl rfl)
theorem dX1_formatHeights_43 : decode cX1_formatHeights 43 = .ok (.iload_n 1, 1) := dk_27 (dk_at dksX1_formatHeights_1 19 rfl rfl)
theorem dX1_formatHeights_44 : decode cX1_formatHeights 44 = .ok (.baload, 1) := dk_51 (dk_at dksX1_formatHeights_1 20 rfl rfl)
theorem dX1_formatHeights_45 : decode cX1_formatHeights 45 = .ok (.ifCond .eq 9, 3) := dk_153 0 9 (dk_at dksX1_formatHeights_1 21 rfl rfl)
theorem dX1_formatHeights_48 : decode cX1_formatHeights 48 = .ok (.ldc_w 357, 3) := dk_19 1 101 (dk_at dksX1_formatHeights_2 0 rfl rfl)
theorem dX1_formatHeights_51 : decode cX1_formatHeights 51 = .ok (.goto 6, 3) := dk_167 0 6 (dk_at dksX1_formatHeights_2 3 rfl rfl)
theorem dX1_formatHeights_54 : decode cX1_formatHeights 54 = .ok (.ldc_w 355, 3) := dk_19 1 99 (dk_at dksX1_formatHeights_2 6 rfl rfl)
theorem dX1_formatHeights_57 : decode cX1_formatHeights 57 = .ok (.invokevirtual 347, 3) := dk_182 1 91 (dk_at dksX1_formatHeights_2 9 rfl rfl)
theorem dX1_formatHeights_60 : decode cX1_formatHeights 60 = .ok (.aload_n 0, 1) := dk_42 (dk_at dksX1_formatHeights_2 12 rfl rfl)
theorem dX1_formatHeights_61 : decode cX1_formatHeights 61 = .ok (.getfield 10, 3) := dk_180 0 10 (dk_at dksX1_formatHeights_2 13 rfl rfl)
theorem dX1_formatHeights_64 : decode cX1_formatHeights 64 = .ok (.iload_n 1, 1) := dk_27 (dk_at dksX1_formatHeights_2 16 rfl rfl)
theorem dX1_formatHeights_65 : decode cX1_formatHeights 65 = .ok (.invokevirtual 188, 3) := dk_182 0 188 (dk_at dksX1_formatHeights_2 17 rfl rfl)
theorem dX1_formatHeights_68 : decode cX1_formatHeights 68 = .ok (.invokevirtual 342, 3) := dk_182 1 86 (dk_at dksX1_formatHeights_2 20 rfl rfl)
theorem dX1_formatHeights_71 : decode cX1_formatHeights 71 = .ok (.pop, 1) := dk_87 (dk_at dksX1_formatHeights_2 23 rfl rfl)
theorem dX1_formatHeights_72 : decode cX1_formatHeights 72 = .ok (.iinc 1 1, 3) := dk_132 1 1 (dk_at dksX1_formatHeights_3 0 rfl rfl)
theorem dX1_formatHeights_75 : decode cX1_formatHeights 75 = .ok (.goto (-65), 3) := dk_167 255 191 (dk_at dksX1_formatHeights_3 3 rfl rfl)
theorem dX1_formatHeights_78 : decode cX1_formatHeights 78 = .ok (.aload_n 0, 1) := dk_42 (dk_at dksX1_formatHeights_3 6 rfl rfl)
theorem dX1_formatHeights_79 : decode cX1_formatHeights 79 = .ok (.getfield 30, 3) := dk_180 0 30 (dk_at dksX1_formatHeights_3 7 rfl rfl)
theorem dX1_formatHeights_82 : decode cX1_formatHeights 82 = .ok (.invokevirtual 350, 3) := dk_182 1 94 (dk_at dksX1_formatHeights_3 10 rfl rfl)
theorem dX1_formatHeights_85 : decode cX1_formatHeights 85 = .ok (.ireturn, 1) := dk_172 (dk_at dksX1_formatHeights_3 13 rfl rfl)
abbrev cX1_undoableCount : ByteArray := prog_1_method_87_code
def yX1_undoableCount : MethodName := ⟨RX1, "undoableCount", "()I"⟩
def dkwX1_undoableCount_0 : List UInt8 := [42, 180, 0, 19, 182, 0, 79, 172]
abbrev dktX1_undoableCount_0 : List UInt8 := dkwX1_undoableCount_0 ++ []
theorem dksX1_undoableCount_0 : cX1_undoableCount.data.toList.drop 0 = dktX1_undoableCount_0 := by decide +kernel
theorem dX1_undoableCount_0 : decode cX1_undoableCount 0 = .ok (.aload_n 0, 1) := dk_42 (dk_at dksX1_undoableCount_0 0 rfl rfl)
theorem dX1_undoableCount_1 : decode cX1_undoableCount 1 = .ok (.getfield 19, 3) := dk_180 0 19 (dk_at dksX1_undoableCount_0 1 rfl rfl)
theorem dX1_undoableCount_4 : decode cX1_undoableCount 4 = .ok (.invokevirtual 79, 3) := dk_182 0 79 (dk_at dksX1_undoableCount_0 4 rfl rfl)
theorem dX1_undoableCount_7 : decode cX1_undoableCount 7 = .ok (.ireturn, 1) := dk_172 (dk_at dksX1_undoableCount_0 7 rfl rfl)
abbrev cX1_save : ByteArray := prog_1_method_89_code
def yX1_save : MethodName := ⟨RX1, "save", "()I"⟩
def dkwX1_save_0 : List UInt8 := [42, 42, 180, 0, 10, 182, 0, 71, 181, 1, 203, 42, 180, 0, 10, 180, 0, 148, 182, 0, 158, 172]
abbrev dktX1_save_0 : List UInt8 := dkwX1_save_0 ++ []
theorem dksX1_save_0 : cX1_save.data.toList.drop 0 = dktX1_save_0 := by decide +kernel
theorem dX1_save_0 : decode cX1_save 0 = .ok (.aload_n 0, 1) := dk_42 (dk_at dksX1_save_0 0 rfl rfl)
theorem dX1_save_1 : decode cX1_save 1 = .ok (.aload_n 0, 1) := dk_42 (dk_at dksX1_save_0 1 rfl rfl)
theorem dX1_save_2 : decode cX1_save 2 = .ok (.getfield 10, 3) := dk_180 0 10 (dk_at dksX1_save_0 2 rfl rfl)
theorem dX1_save_5 : decode cX1_save 5 = .ok (.invokevirtual 71, 3) := dk_182 0 71 (dk_at dksX1_save_0 5 rfl rfl)
theorem dX1_save_8 : decode cX1_save 8 = .ok (.putfield 459, 3) := dk_181 1 203 (dk_at dksX1_save_0 8 rfl rfl)
theorem dX1_save_11 : decode cX1_save 11 = .ok (.aload_n 0, 1) := dk_42 (dk_at dksX1_save_0 11 rfl rfl)
theorem dX1_save_12 : decode cX1_save 12 = .ok (.getfield 10, 3) := dk_180 0 10 (dk_at dksX1_save_0 12 rfl rfl)
theorem dX1_save_15 : decode cX1_save 15 = .ok (.getfield 148, 3) := dk_180 0 148 (dk_at dksX1_save_0 15 rfl rfl)
theorem dX1_save_18 : decode cX1_save 18 = .ok (.invokevirtual 158, 3) := dk_182 0 158 (dk_at dksX1_save_0 18 rfl rfl)
theorem dX1_save_21 : decode cX1_save 21 = .ok (.ireturn, 1) := dk_172 (dk_at dksX1_save_0 21 rfl rfl)
abbrev cX1_placeFoam : ByteArray := prog_1_method_16_code
def yX1_placeFoam : MethodName := ⟨RX1, "placeFoam", "(III)I"⟩
def dkwX1_placeFoam_0 : List UInt8 := [42, 16, 102, 27, 28, 29, 182, 0, 136, 172]
abbrev dktX1_placeFoam_0 : List UInt8 := dkwX1_placeFoam_0 ++ []
theorem dksX1_placeFoam_0 : cX1_placeFoam.data.toList.drop 0 = dktX1_placeFoam_0 := by decide +kernel
theorem dX1_placeFoam_0 : decode cX1_placeFoam 0 = .ok (.aload_n 0, 1) := dk_42 (dk_at dksX1_placeFoam_0 0 rfl rfl)
theorem dX1_placeFoam_1 : decode cX1_placeFoam 1 = .ok (.bipush 102, 2) := dk_16 102 (dk_at dksX1_placeFoam_0 1 rfl rfl)
theorem dX1_placeFoam_3 : decode cX1_placeFoam 3 = .ok (.iload_n 1, 1) := dk_27 (dk_at dksX1_placeFoam_0 3 rfl rfl)
theorem dX1_placeFoam_4 : decode cX1_placeFoam 4 = .ok (.iload_n 2, 1) := dk_28 (dk_at dksX1_placeFoam_0 4 rfl rfl)
theorem dX1_placeFoam_5 : decode cX1_placeFoam 5 = .ok (.iload_n 3, 1) := dk_29 (dk_at dksX1_placeFoam_0 5 rfl rfl)
theorem dX1_placeFoam_6 : decode cX1_placeFoam 6 = .ok (.invokevirtual 136, 3) := dk_182 0 136 (dk_at dksX1_placeFoam_0 6 rfl rfl)
theorem dX1_placeFoam_9 : decode cX1_placeFoam 9 = .ok (.ireturn, 1) := dk_172 (dk_at dksX1_placeFoam_0 9 rfl rfl)
abbrev cX1_place : ByteArray := prog_1_method_14_code
def yX1_place : MethodName := ⟨RX1, "place", "(CIII)I"⟩
def dkwX1_place_2 : List UInt8 := [25, 5, 180, 0, 131, 172]
abbrev dktX1_place_2 : List UInt8 := dkwX1_place_2 ++ []
def dkwX1_place_1 : List UInt8 := [180, 0, 10, 25, 5, 182, 0, 117, 184, 0, 121, 42, 182, 0, 124, 42, 180, 0, 10, 25, 5, 182, 0, 127]
abbrev dktX1_place_1 : List UInt8 := dkwX1_place_1 ++ dktX1_place_2
def dkwX1_place_0 : List UInt8 := [28, 29, 21, 4, 184, 0, 109, 42, 180, 0, 10, 27, 28, 29, 21, 4, 182, 0, 113, 58, 5, 42]
abbrev dktX1_place_0 : List UInt8 := dkwX1_place_0 ++ dktX1_place_1
theorem dksX1_place_0 : cX1_place.data.toList.drop 0 = dktX1_place_0 := by decide +kernel
theorem dksX1_place_1 : cX1_place.data.toList.drop 22 = dktX1_place_1 := dk_seg dksX1_place_0 22 rfl rfl
theorem dksX1_place_2 : cX1_place.data.toList.drop 46 = dktX1_place_2 := dk_seg dksX1_place_1 24 rfl rfl
theorem dX1_place_0 : decode cX1_place 0 = .ok (.iload_n 2, 1) := dk_28 (dk_at dksX1_place_0 0 rfl rfl)
theorem dX1_place_1 : decode cX1_place 1 = .ok (.iload_n 3, 1) := dk_29 (dk_at dksX1_place_0 1 rfl rfl)
theorem dX1_place_2 : decode cX1_place 2 = .ok (.iload 4, 2) := dk_21 4 (dk_at dksX1_place_0 2 rfl rfl)
theorem dX1_place_4 : decode cX1_place 4 = .ok (.invokestatic 109, 3) := dk_184 0 109 (dk_at dksX1_place_0 4 rfl rfl)
theorem dX1_place_7 : decode cX1_place 7 = .ok (.aload_n 0, 1) := dk_42 (dk_at dksX1_place_0 7 rfl rfl)
theorem dX1_place_8 : decode cX1_place 8 = .ok (.getfield 10, 3) := dk_180 0 10 (dk_at dksX1_place_0 8 rfl rfl)
theorem dX1_place_11 : decode cX1_place 11 = .ok (.iload_n 1, 1) := dk_27 (dk_at dksX1_place_0 11 rfl rfl)
theorem dX1_place_12 : decode cX1_place 12 = .ok (.iload_n 2, 1) := dk_28 (dk_at dksX1_place_0 12 rfl rfl)
theorem dX1_place_13 : decode cX1_place 13 = .ok (.iload_n 3, 1) := dk_29 (dk_at dksX1_place_0 13 rfl rfl)
theorem dX1_place_14 : decode cX1_place 14 = .ok (.iload 4, 2) := dk_21 4 (dk_at dksX1_place_0 14 rfl rfl)
theorem dX1_place_16 : decode cX1_place 16 = .ok (.invokevirtual 113, 3) := dk_182 0 113 (dk_at dksX1_place_0 16 rfl rfl)
theorem dX1_place_19 : decode cX1_place 19 = .ok (.astore 5, 2) := dk_58 5 (dk_at dksX1_place_0 19 rfl rfl)
theorem dX1_place_21 : decode cX1_place 21 = .ok (.aload_n 0, 1) := dk_42 (dk_at dksX1_place_0 21 rfl rfl)
theorem dX1_place_22 : decode cX1_place 22 = .ok (.getfield 10, 3) := dk_180 0 10 (dk_at dksX1_place_1 0 rfl rfl)
theorem dX1_place_25 : decode cX1_place 25 = .ok (.aload 5, 2) := dk_25 5 (dk_at dksX1_place_1 3 rfl rfl)
theorem dX1_place_27 : decode cX1_place 27 = .ok (.invokevirtual 117, 3) := dk_182 0 117 (dk_at dksX1_place_1 5 rfl rfl)
theorem dX1_place_30 : decode cX1_place 30 = .ok (.invokestatic 121, 3) := dk_184 0 121 (dk_at dksX1_place_1 8 rfl rfl)
theorem dX1_place_33 : decode cX1_place 33 = .ok (.aload_n 0, 1) := dk_42 (dk_at dksX1_place_1 11 rfl rfl)
theorem dX1_place_34 : decode cX1_place 34 = .ok (.invokevirtual 124, 3) := dk_182 0 124 (dk_at dksX1_place_1 12 rfl rfl)
theorem dX1_place_37 : decode cX1_place 37 = .ok (.aload_n 0, 1) := dk_42 (dk_at dksX1_place_1 15 rfl rfl)
theorem dX1_place_38 : decode cX1_place 38 = .ok (.getfield 10, 3) := dk_180 0 10 (dk_at dksX1_place_1 16 rfl rfl)
theorem dX1_place_41 : decode cX1_place 41 = .ok (.aload 5, 2) := dk_25 5 (dk_at dksX1_place_1 19 rfl rfl)
theorem dX1_place_43 : decode cX1_place 43 = .ok (.invokevirtual 127, 3) := dk_182 0 127 (dk_at dksX1_place_1 21 rfl rfl)
theorem dX1_place_46 : decode cX1_place 46 = .ok (.aload 5, 2) := dk_25 5 (dk_at dksX1_place_2 0 rfl rfl)
theorem dX1_place_48 : decode cX1_place 48 = .ok (.getfield 131, 3) := dk_180 0 131 (dk_at dksX1_place_2 2 rfl rfl)
theorem dX1_place_51 : decode cX1_place 51 = .ok (.ireturn, 1) := dk_172 (dk_at dksX1_place_2 5 rfl rfl)
abbrev cX1_checkBlock : ByteArray := prog_1_method_13_code
def yX1_checkBlock : MethodName := ⟨RX1, "checkBlock", "(III)V"⟩
def dkwX1_checkBlock_0 : List UInt8 := [26, 27, 184, 0, 105, 28, 4, 16, 9, 184, 0, 52, 184, 0, 102, 177]
abbrev dktX1_checkBlock_0 : List UInt8 := dkwX1_checkBlock_0 ++ []
theorem dksX1_checkBlock_0 : cX1_checkBlock.data.toList.drop 0 = dktX1_checkBlock_0 := by decide +kernel
theorem dX1_checkBlock_0 : decode cX1_checkBlock 0 = .ok (.iload_n 0, 1) := dk_26 (dk_at dksX1_checkBlock_0 0 rfl rfl)
theorem dX1_checkBlock_1 : decode cX1_checkBlock 1 = .ok (.iload_n 1, 1) := dk_27 (dk_at dksX1_checkBlock_0 1 rfl rfl)
theorem dX1_checkBlock_2 : decode cX1_checkBlock 2 = .ok (.invokestatic 105, 3) := dk_184 0 105 (dk_at dksX1_checkBlock_0 2 rfl rfl)
theorem dX1_checkBlock_5 : decode cX1_checkBlock 5 = .ok (.iload_n 2, 1) := dk_28 (dk_at dksX1_checkBlock_0 5 rfl rfl)
theorem dX1_checkBlock_6 : decode cX1_checkBlock 6 = .ok (.iconst 1, 1) := dk_4 (dk_at dksX1_checkBlock_0 6 rfl rfl)
theorem dX1_checkBlock_7 : decode cX1_checkBlock 7 = .ok (.bipush 9, 2) := dk_16 9 (dk_at dksX1_checkBlock_0 7 rfl rfl)
theorem dX1_checkBlock_9 : decode cX1_checkBlock 9 = .ok (.invokestatic 52, 3) := dk_184 0 52 (dk_at dksX1_checkBlock_0 9 rfl rfl)
theorem dX1_checkBlock_12 : decode cX1_checkBlock 12 = .ok (.invokestatic 102, 3) := dk_184 0 102 (dk_at dksX1_checkBlock_0 12 rfl rfl)
theorem dX1_checkBlock_15 : decode cX1_checkBlock 15 = .ok (.return_, 1) := dk_177 (dk_at dksX1_checkBlock_0 15 rfl rfl)
abbrev cX1_checkPlace : ByteArray := prog_1_method_12_code
def yX1_checkPlace : MethodName := ⟨RX1, "checkPlace", "(II)V"⟩
def dkwX1_checkPlace_1 : List UInt8 := [4, 167, 0, 4, 3, 184, 0, 102, 177]
abbrev dktX1_checkPlace_1 : List UInt8 := dkwX1_checkPlace_1 ++ []
def dkwX1_checkPlace_0 : List UInt8 := [26, 184, 0, 95, 153, 0, 24, 27, 4, 8, 184, 0, 52, 153, 0, 15, 26, 27, 96, 16, 12, 163, 0, 7]
abbrev dktX1_checkPlace_0 : List UInt8 := dkwX1_checkPlace_0 ++ dktX1_checkPlace_1
theorem dksX1_checkPlace_0 : cX1_checkPlace.data.toList.drop 0 = dktX1_checkPlace_0 := by decide +kernel
theorem dksX1_checkPlace_1 : cX1_checkPlace.data.toList.drop 24 = dktX1_checkPlace_1 := dk_seg dksX1_checkPlace_0 24 rfl rfl
theorem dX1_checkPlace_0 : decode cX1_checkPlace 0 = .ok (.iload_n 0, 1) := dk_26 (dk_at dksX1_checkPlace_0 0 rfl rfl)
theorem dX1_checkPlace_1 : decode cX1_checkPlace 1 = .ok (.invokestatic 95, 3) := dk_184 0 95 (dk_at dksX1_checkPlace_0 1 rfl rfl)
theorem dX1_checkPlace_4 : decode cX1_checkPlace 4 = .ok (.ifCond .eq 24, 3) := dk_153 0 24 (dk_at dksX1_checkPlace_0 4 rfl rfl)
theorem dX1_checkPlace_7 : decode cX1_checkPlace 7 = .ok (.iload_n 1, 1) := dk_27 (dk_at dksX1_checkPlace_0 7 rfl rfl)
theorem dX1_checkPlace_8 : decode cX1_checkPlace 8 = .ok (.iconst 1, 1) := dk_4 (dk_at dksX1_checkPlace_0 8 rfl rfl)
theorem dX1_checkPlace_9 : decode cX1_checkPlace 9 = .ok (.iconst 5, 1) := dk_8 (dk_at dksX1_checkPlace_0 9 rfl rfl)
theorem dX1_checkPlace_10 : decode cX1_checkPlace 10 = .ok (.invokestatic 52, 3) := dk_184 0 52 (dk_at dksX1_checkPlace_0 10 rfl rfl)
theorem dX1_checkPlace_13 : decode cX1_checkPlace 13 = .ok (.ifCond .eq 15, 3) := dk_153 0 15 (dk_at dksX1_checkPlace_0 13 rfl rfl)
theorem dX1_checkPlace_16 : decode cX1_checkPlace 16 = .ok (.iload_n 0, 1) := dk_26 (dk_at dksX1_checkPlace_0 16 rfl rfl)
theorem dX1_checkPlace_17 : decode cX1_checkPlace 17 = .ok (.iload_n 1, 1) := dk_27 (dk_at dksX1_checkPlace_0 17 rfl rfl)
theorem dX1_checkPlace_18 : decode cX1_checkPlace 18 = .ok (.iadd, 1) := dk_96 (dk_at dksX1_checkPlace_0 18 rfl rfl)
theorem dX1_checkPlace_19 : decode cX1_checkPlace 19 = .ok (.bipush 12, 2) := dk_16 12 (dk_at dksX1_checkPlace_0 19 rfl rfl)
theorem dX1_checkPlace_21 : decode cX1_checkPlace 21 = .ok (.if_icmp .gt 7, 3) := dk_163 0 7 (dk_at dksX1_checkPlace_0 21 rfl rfl)
theorem dX1_checkPlace_24 : decode cX1_checkPlace 24 = .ok (.iconst 1, 1) := dk_4 (dk_at dksX1_checkPlace_1 0 rfl rfl)
theorem dX1_checkPlace_25 : decode cX1_checkPlace 25 = .ok (.goto 4, 3) := dk_167 0 4 (dk_at dksX1_checkPlace_1 1 rfl rfl)
theorem dX1_checkPlace_28 : decode cX1_checkPlace 28 = .ok (.iconst 0, 1) := dk_3 (dk_at dksX1_checkPlace_1 4 rfl rfl)
theorem dX1_checkPlace_29 : decode cX1_checkPlace 29 = .ok (.invokestatic 102, 3) := dk_184 0 102 (dk_at dksX1_checkPlace_1 5 rfl rfl)
theorem dX1_checkPlace_32 : decode cX1_checkPlace 32 = .ok (.return_, 1) := dk_177 (dk_at dksX1_checkPlace_1 8 rfl rfl)
abbrev cX1_checkArgument : ByteArray := prog_1_method_2_code
def yX1_checkArgument : MethodName := ⟨RX1, "checkArgument", "(Z)V"⟩
def dkwX1_checkArgument_0 : List UInt8 := [26, 154, 0, 11, 187, 0, 40, 89, 183, 0, 42, 191, 177]
abbrev dktX1_checkArgument_0 : List UInt8 := dkwX1_checkArgument_0 ++ []
theorem dksX1_checkArgument_0 : cX1_checkArgument.data.toList.drop 0 = dktX1_checkArgument_0 := by decide +kernel
theorem dX1_checkArgument_0 : decode cX1_checkArgument 0 = .ok (.iload_n 0, 1) := dk_26 (dk_at dksX1_checkArgument_0 0 rfl rfl)
theorem dX1_checkArgument_1 : decode cX1_checkArgument 1 = .ok (.ifCond .ne 11, 3) := dk_154 0 11 (dk_at dksX1_checkArgument_0 1 rfl rfl)
theorem dX1_checkArgument_4 : decode cX1_checkArgument 4 = .ok (.new 40, 3) := dk_187 0 40 (dk_at dksX1_checkArgument_0 4 rfl rfl)
theorem dX1_checkArgument_7 : decode cX1_checkArgument 7 = .ok (.dup, 1) := dk_89 (dk_at dksX1_checkArgument_0 7 rfl rfl)
theorem dX1_checkArgument_8 : decode cX1_checkArgument 8 = .ok (.invokespecial 42, 3) := dk_183 0 42 (dk_at dksX1_checkArgument_0 8 rfl rfl)
theorem dX1_checkArgument_11 : decode cX1_checkArgument 11 = .ok (.athrow, 1) := dk_191 (dk_at dksX1_checkArgument_0 11 rfl rfl)
theorem dX1_checkArgument_12 : decode cX1_checkArgument 12 = .ok (.return_, 1) := dk_177 (dk_at dksX1_checkArgument_0 12 rfl rfl)
abbrev cX1_create : ByteArray := prog_1_method_8_code
def yX1_create : MethodName := ⟨RX1, "create", "(CIIIII)LFortPlanner$Block;"⟩
def dkwX1_create_3 : List UInt8 := [21, 5, 183, 0, 63, 176, 187, 0, 64, 89, 27, 28, 29, 21, 4, 21, 5, 183, 0, 66, 176]
abbrev dktX1_create_3 : List UInt8 := dkwX1_create_3 ++ []
def dkwX1_create_2 : List UInt8 := [187, 0, 56, 89, 27, 28, 29, 21, 4, 21, 5, 183, 0, 58, 176, 187, 0, 61, 89, 27, 28, 29, 21, 4]
abbrev dktX1_create_2 : List UInt8 := dkwX1_create_2 ++ dktX1_create_3
def dkwX1_create_1 : List UInt8 := [171, 0, 0, 0, 0, 0, 57, 0, 0, 0, 2, 0, 0, 0, 98, 0, 0, 0, 42, 0, 0, 0, 102, 0, 0, 0, 27]
abbrev dktX1_create_1 : List UInt8 := dkwX1_create_1 ++ dktX1_create_2
def dkwX1_create_0 : List UInt8 := [26]
abbrev dktX1_create_0 : List UInt8 := dkwX1_create_0 ++ dktX1_create_1
theorem dksX1_create_0 : cX1_create.data.toList.drop 0 = dktX1_create_0 := by decide +kernel
theorem dksX1_create_1 : cX1_create.data.toList.drop 1 = dktX1_create_1 := dk_seg dksX1_create_0 1 rfl rfl
theorem dksX1_create_2 : cX1_create.data.toList.drop 28 = dktX1_create_2 := dk_seg dksX1_create_1 27 rfl rfl
theorem dksX1_create_3 : cX1_create.data.toList.drop 52 = dktX1_create_3 := dk_seg dksX1_create_2 24 rfl rfl
theorem dX1_create_0 : decode cX1_create 0 = .ok (.iload_n 0, 1) := dk_26 (dk_at dksX1_create_0 0 rfl rfl)
theorem dX1_create_1 : decode cX1_create 1 = .ok (.lookupswitch 57 #[(98, 42), (102, 27)], 27) := by decide +kernel
theorem dX1_create_28 : decode cX1_create 28 = .ok (.new 56, 3) := dk_187 0 56 (dk_at dksX1_create_2 0 rfl rfl)
theorem dX1_create_31 : decode cX1_create 31 = .ok (.dup, 1) := dk_89 (dk_at dksX1_create_2 3 rfl rfl)
theorem dX1_create_32 : decode cX1_create 32 = .ok (.iload_n 1, 1) := dk_27 (dk_at dksX1_create_2 4 rfl rfl)
theorem dX1_create_33 : decode cX1_create 33 = .ok (.iload_n 2, 1) := dk_28 (dk_at dksX1_create_2 5 rfl rfl)
theorem dX1_create_34 : decode cX1_create 34 = .ok (.iload_n 3, 1) := dk_29 (dk_at dksX1_create_2 6 rfl rfl)
theorem dX1_create_35 : decode cX1_create 35 = .ok (.iload 4, 2) := dk_21 4 (dk_at dksX1_create_2 7 rfl rfl)
theorem dX1_create_37 : decode cX1_create 37 = .ok (.iload 5, 2) := dk_21 5 (dk_at dksX1_create_2 9 rfl rfl)
theorem dX1_create_39 : decode cX1_create 39 = .ok (.invokespecial 58, 3) := dk_183 0 58 (dk_at dksX1_create_2 11 rfl rfl)
theorem dX1_create_42 : decode cX1_create 42 = .ok (.areturn, 1) := dk_176 (dk_at dksX1_create_2 14 rfl rfl)
theorem dX1_create_43 : decode cX1_create 43 = .ok (.new 61, 3) := dk_187 0 61 (dk_at dksX1_create_2 15 rfl rfl)
theorem dX1_create_46 : decode cX1_create 46 = .ok (.dup, 1) := dk_89 (dk_at dksX1_create_2 18 rfl rfl)
theorem dX1_create_47 : decode cX1_create 47 = .ok (.iload_n 1, 1) := dk_27 (dk_at dksX1_create_2 19 rfl rfl)
theorem dX1_create_48 : decode cX1_create 48 = .ok (.iload_n 2, 1) := dk_28 (dk_at dksX1_create_2 20 rfl rfl)
theorem dX1_create_49 : decode cX1_create 49 = .ok (.iload_n 3, 1) := dk_29 (dk_at dksX1_create_2 21 rfl rfl)
theorem dX1_create_50 : decode cX1_create 50 = .ok (.iload 4, 2) := dk_21 4 (dk_at dksX1_create_2 22 rfl rfl)
theorem dX1_create_52 : decode cX1_create 52 = .ok (.iload 5, 2) := dk_21 5 (dk_at dksX1_create_3 0 rfl rfl)
theorem dX1_create_54 : decode cX1_create 54 = .ok (.invokespecial 63, 3) := dk_183 0 63 (dk_at dksX1_create_3 2 rfl rfl)
theorem dX1_create_57 : decode cX1_create 57 = .ok (.areturn, 1) := dk_176 (dk_at dksX1_create_3 5 rfl rfl)
theorem dX1_create_58 : decode cX1_create 58 = .ok (.new 64, 3) := dk_187 0 64 (dk_at dksX1_create_3 6 rfl rfl)
theorem dX1_create_61 : decode cX1_create 61 = .ok (.dup, 1) := dk_89 (dk_at dksX1_create_3 9 rfl rfl)
theorem dX1_create_62 : decode cX1_create 62 = .ok (.iload_n 1, 1) := dk_27 (dk_at dksX1_create_3 10 rfl rfl)
theorem dX1_create_63 : decode cX1_create 63 = .ok (.iload_n 2, 1) := dk_28 (dk_at dksX1_create_3 11 rfl rfl)
theorem dX1_create_64 : decode cX1_create 64 = .ok (.iload_n 3, 1) := dk_29 (dk_at dksX1_create_3 12 rfl rfl)
theorem dX1_create_65 : decode cX1_create 65 = .ok (.iload 4, 2) := dk_21 4 (dk_at dksX1_create_3 13 rfl rfl)
theorem dX1_create_67 : decode cX1_create 67 = .ok (.iload 5, 2) := dk_21 5 (dk_at dksX1_create_3 15 rfl rfl)
theorem dX1_create_69 : decode cX1_create 69 = .ok (.invokespecial 66, 3) := dk_183 0 66 (dk_at dksX1_create_3 17 rfl rfl)
theorem dX1_create_72 : decode cX1_create 72 = .ok (.areturn, 1) := dk_176 (dk_at dksX1_create_3 20 rfl rfl)
abbrev cX1_checkState : ByteArray := prog_1_method_3_code
def yX1_checkState : MethodName := ⟨RX1, "checkState", "(Z)V"⟩
def dkwX1_checkState_0 : List UInt8 := [26, 154, 0, 11, 187, 0, 43, 89, 183, 0, 45, 191, 177]
abbrev dktX1_checkState_0 : List UInt8 := dkwX1_checkState_0 ++ []
theorem dksX1_checkState_0 : cX1_checkState.data.toList.drop 0 = dktX1_checkState_0 := by decide +kernel
theorem dX1_checkState_0 : decode cX1_checkState 0 = .ok (.iload_n 0, 1) := dk_26 (dk_at dksX1_checkState_0 0 rfl rfl)
theorem dX1_checkState_1 : decode cX1_checkState 1 = .ok (.ifCond .ne 11, 3) := dk_154 0 11 (dk_at dksX1_checkState_0 1 rfl rfl)
theorem dX1_checkState_4 : decode cX1_checkState 4 = .ok (.new 43, 3) := dk_187 0 43 (dk_at dksX1_checkState_0 4 rfl rfl)
theorem dX1_checkState_7 : decode cX1_checkState 7 = .ok (.dup, 1) := dk_89 (dk_at dksX1_checkState_0 7 rfl rfl)
theorem dX1_checkState_8 : decode cX1_checkState 8 = .ok (.invokespecial 45, 3) := dk_183 0 45 (dk_at dksX1_checkState_0 8 rfl rfl)
theorem dX1_checkState_11 : decode cX1_checkState 11 = .ok (.athrow, 1) := dk_191 (dk_at dksX1_checkState_0 11 rfl rfl)
theorem dX1_checkState_12 : decode cX1_checkState 12 = .ok (.return_, 1) := dk_177 (dk_at dksX1_checkState_0 12 rfl rfl)
abbrev cX1_beginChange : ByteArray := prog_1_method_9_code
def yX1_beginChange : MethodName := ⟨RX1, "beginChange", "()V"⟩
def dkwX1_beginChange_1 : List UInt8 := [180, 0, 19, 182, 0, 79, 16, 8, 164, 0, 11, 42, 180, 0, 19, 182, 0, 83, 87, 177]
abbrev dktX1_beginChange_1 : List UInt8 := dkwX1_beginChange_1 ++ []
def dkwX1_beginChange_0 : List UInt8 := [42, 180, 0, 67, 153, 0, 4, 177, 42, 180, 0, 19, 42, 180, 0, 10, 182, 0, 71, 182, 0, 75, 42]
abbrev dktX1_beginChange_0 : List UInt8 := dkwX1_beginChange_0 ++ dktX1_beginChange_1
theorem dksX1_beginChange_0 : cX1_beginChange.data.toList.drop 0 = dktX1_beginChange_0 := by decide +kernel
theorem dksX1_beginChange_1 : cX1_beginChange.data.toList.drop 23 = dktX1_beginChange_1 := dk_seg dksX1_beginChange_0 23 rfl rfl
theorem dX1_beginChange_0 : decode cX1_beginChange 0 = .ok (.aload_n 0, 1) := dk_42 (dk_at dksX1_beginChange_0 0 rfl rfl)
theorem dX1_beginChange_1 : decode cX1_beginChange 1 = .ok (.getfield 67, 3) := dk_180 0 67 (dk_at dksX1_beginChange_0 1 rfl rfl)
theorem dX1_beginChange_4 : decode cX1_beginChange 4 = .ok (.ifCond .eq 4, 3) := dk_153 0 4 (dk_at dksX1_beginChange_0 4 rfl rfl)
theorem dX1_beginChange_7 : decode cX1_beginChange 7 = .ok (.return_, 1) := dk_177 (dk_at dksX1_beginChange_0 7 rfl rfl)
theorem dX1_beginChange_8 : decode cX1_beginChange 8 = .ok (.aload_n 0, 1) := dk_42 (dk_at dksX1_beginChange_0 8 rfl rfl)
theorem dX1_beginChange_9 : decode cX1_beginChange 9 = .ok (.getfield 19, 3) := dk_180 0 19 (dk_at dksX1_beginChange_0 9 rfl rfl)
theorem dX1_beginChange_12 : decode cX1_beginChange 12 = .ok (.aload_n 0, 1) := dk_42 (dk_at dksX1_beginChange_0 12 rfl rfl)
theorem dX1_beginChange_13 : decode cX1_beginChange 13 = .ok (.getfield 10, 3) := dk_180 0 10 (dk_at dksX1_beginChange_0 13 rfl rfl)
theorem dX1_beginChange_16 : decode cX1_beginChange 16 = .ok (.invokevirtual 71, 3) := dk_182 0 71 (dk_at dksX1_beginChange_0 16 rfl rfl)
theorem dX1_beginChange_19 : decode cX1_beginChange 19 = .ok (.invokevirtual 75, 3) := dk_182 0 75 (dk_at dksX1_beginChange_0 19 rfl rfl)
theorem dX1_beginChange_22 : decode cX1_beginChange 22 = .ok (.aload_n 0, 1) := dk_42 (dk_at dksX1_beginChange_0 22 rfl rfl)
theorem dX1_beginChange_23 : decode cX1_beginChange 23 = .ok (.getfield 19, 3) := dk_180 0 19 (dk_at dksX1_beginChange_1 0 rfl rfl)
theorem dX1_beginChange_26 : decode cX1_beginChange 26 = .ok (.invokevirtual 79, 3) := dk_182 0 79 (dk_at dksX1_beginChange_1 3 rfl rfl)
theorem dX1_beginChange_29 : decode cX1_beginChange 29 = .ok (.bipush 8, 2) := dk_16 8 (dk_at dksX1_beginChange_1 6 rfl rfl)
theorem dX1_beginChange_31 : decode cX1_beginChange 31 = .ok (.if_icmp .le 11, 3) := dk_164 0 11 (dk_at dksX1_beginChange_1 8 rfl rfl)
theorem dX1_beginChange_34 : decode cX1_beginChange 34 = .ok (.aload_n 0, 1) := dk_42 (dk_at dksX1_beginChange_1 11 rfl rfl)
theorem dX1_beginChange_35 : decode cX1_beginChange 35 = .ok (.getfield 19, 3) := dk_180 0 19 (dk_at dksX1_beginChange_1 12 rfl rfl)
theorem dX1_beginChange_38 : decode cX1_beginChange 38 = .ok (.invokevirtual 83, 3) := dk_182 0 83 (dk_at dksX1_beginChange_1 15 rfl rfl)
theorem dX1_beginChange_41 : decode cX1_beginChange 41 = .ok (.pop, 1) := dk_87 (dk_at dksX1_beginChange_1 18 rfl rfl)
theorem dX1_beginChange_42 : decode cX1_beginChange 42 = .ok (.return_, 1) := dk_177 (dk_at dksX1_beginChange_1 19 rfl rfl)
abbrev cX1_placeBoard : ByteArray := prog_1_method_17_code
def yX1_placeBoard : MethodName := ⟨RX1, "placeBoard", "(III)I"⟩
def dkwX1_placeBoard_0 : List UInt8 := [42, 16, 98, 27, 28, 29, 182, 0, 136, 172]
abbrev dktX1_placeBoard_0 : List UInt8 := dkwX1_placeBoard_0 ++ []
theorem dksX1_placeBoard_0 : cX1_placeBoard.data.toList.drop 0 = dktX1_placeBoard_0 := by decide +kernel
theorem dX1_placeBoard_0 : decode cX1_placeBoard 0 = .ok (.aload_n 0, 1) := dk_42 (dk_at dksX1_placeBoard_0 0 rfl rfl)
theorem dX1_placeBoard_1 : decode cX1_placeBoard 1 = .ok (.bipush 98, 2) := dk_16 98 (dk_at dksX1_placeBoard_0 1 rfl rfl)
theorem dX1_placeBoard_3 : decode cX1_placeBoard 3 = .ok (.iload_n 1, 1) := dk_27 (dk_at dksX1_placeBoard_0 3 rfl rfl)
theorem dX1_placeBoard_4 : decode cX1_placeBoard 4 = .ok (.iload_n 2, 1) := dk_28 (dk_at dksX1_placeBoard_0 4 rfl rfl)
theorem dX1_placeBoard_5 : decode cX1_placeBoard 5 = .ok (.iload_n 3, 1) := dk_29 (dk_at dksX1_placeBoard_0 5 rfl rfl)
theorem dX1_placeBoard_6 : decode cX1_placeBoard 6 = .ok (.invokevirtual 136, 3) := dk_182 0 136 (dk_at dksX1_placeBoard_0 6 rfl rfl)
theorem dX1_placeBoard_9 : decode cX1_placeBoard 9 = .ok (.ireturn, 1) := dk_172 (dk_at dksX1_placeBoard_0 9 rfl rfl)
abbrev cX1_placeBag : ByteArray := prog_1_method_18_code
def yX1_placeBag : MethodName := ⟨RX1, "placeBag", "(III)I"⟩
def dkwX1_placeBag_0 : List UInt8 := [42, 16, 103, 27, 28, 29, 182, 0, 136, 172]
abbrev dktX1_placeBag_0 : List UInt8 := dkwX1_placeBag_0 ++ []
theorem dksX1_placeBag_0 : cX1_placeBag.data.toList.drop 0 = dktX1_placeBag_0 := by decide +kernel
theorem dX1_placeBag_0 : decode cX1_placeBag 0 = .ok (.aload_n 0, 1) := dk_42 (dk_at dksX1_placeBag_0 0 rfl rfl)
theorem dX1_placeBag_1 : decode cX1_placeBag 1 = .ok (.bipush 103, 2) := dk_16 103 (dk_at dksX1_placeBag_0 1 rfl rfl)
theorem dX1_placeBag_3 : decode cX1_placeBag 3 = .ok (.iload_n 1, 1) := dk_27 (dk_at dksX1_placeBag_0 3 rfl rfl)
theorem dX1_placeBag_4 : decode cX1_placeBag 4 = .ok (.iload_n 2, 1) := dk_28 (dk_at dksX1_placeBag_0 4 rfl rfl)
theorem dX1_placeBag_5 : decode cX1_placeBag 5 = .ok (.iload_n 3, 1) := dk_29 (dk_at dksX1_placeBag_0 5 rfl rfl)
theorem dX1_placeBag_6 : decode cX1_placeBag 6 = .ok (.invokevirtual 136, 3) := dk_182 0 136 (dk_at dksX1_placeBag_0 6 rfl rfl)
theorem dX1_placeBag_9 : decode cX1_placeBag 9 = .ok (.ireturn, 1) := dk_172 (dk_at dksX1_placeBag_0 9 rfl rfl)
abbrev cX1_remove : ByteArray := prog_1_method_23_code
def yX1_remove : MethodName := ⟨RX1, "remove", "(I)I"⟩
def dkwX1_remove_2 : List UInt8 := [180, 0, 148, 182, 0, 158, 172]
abbrev dktX1_remove_2 : List UInt8 := dkwX1_remove_2 ++ []
def dkwX1_remove_1 : List UInt8 := [184, 0, 121, 42, 182, 0, 124, 42, 180, 0, 10, 180, 0, 148, 44, 182, 0, 152, 87, 42, 180, 0, 10]
abbrev dktX1_remove_1 : List UInt8 := dkwX1_remove_1 ++ dktX1_remove_2
def dkwX1_remove_0 : List UInt8 := [42, 27, 182, 0, 142, 77, 42, 180, 0, 10, 44, 182, 0, 145, 154, 0, 7, 4, 167, 0, 4, 3]
abbrev dktX1_remove_0 : List UInt8 := dkwX1_remove_0 ++ dktX1_remove_1
theorem dksX1_remove_0 : cX1_remove.data.toList.drop 0 = dktX1_remove_0 := by decide +kernel
theorem dksX1_remove_1 : cX1_remove.data.toList.drop 22 = dktX1_remove_1 := dk_seg dksX1_remove_0 22 rfl rfl
theorem dksX1_remove_2 : cX1_remove.data.toList.drop 45 = dktX1_remove_2 := dk_seg dksX1_remove_1 23 rfl rfl
theorem dX1_remove_0 : decode cX1_remove 0 = .ok (.aload_n 0, 1) := dk_42 (dk_at dksX1_remove_0 0 rfl rfl)
theorem dX1_remove_1 : decode cX1_remove 1 = .ok (.iload_n 1, 1) := dk_27 (dk_at dksX1_remove_0 1 rfl rfl)
theorem dX1_remove_2 : decode cX1_remove 2 = .ok (.invokevirtual 142, 3) := dk_182 0 142 (dk_at dksX1_remove_0 2 rfl rfl)
theorem dX1_remove_5 : decode cX1_remove 5 = .ok (.astore_n 2, 1) := dk_77 (dk_at dksX1_remove_0 5 rfl rfl)
theorem dX1_remove_6 : decode cX1_remove 6 = .ok (.aload_n 0, 1) := dk_42 (dk_at dksX1_remove_0 6 rfl rfl)
theorem dX1_remove_7 : decode cX1_remove 7 = .ok (.getfield 10, 3) := dk_180 0 10 (dk_at dksX1_remove_0 7 rfl rfl)
theorem dX1_remove_10 : decode cX1_remove 10 = .ok (.aload_n 2, 1) := dk_44 (dk_at dksX1_remove_0 10 rfl rfl)
theorem dX1_remove_11 : decode cX1_remove 11 = .ok (.invokevirtual 145, 3) := dk_182 0 145 (dk_at dksX1_remove_0 11 rfl rfl)
theorem dX1_remove_14 : decode cX1_remove 14 = .ok (.ifCond .ne 7, 3) := dk_154 0 7 (dk_at dksX1_remove_0 14 rfl rfl)
theorem dX1_remove_17 : decode cX1_remove 17 = .ok (.iconst 1, 1) := dk_4 (dk_at dksX1_remove_0 17 rfl rfl)
theorem dX1_remove_18 : decode cX1_remove 18 = .ok (.goto 4, 3) := dk_167 0 4 (dk_at dksX1_remove_0 18 rfl rfl)
theorem dX1_remove_21 : decode cX1_remove 21 = .ok (.iconst 0, 1) := dk_3 (dk_at dksX1_remove_0 21 rfl rfl)
theorem dX1_remove_22 : decode cX1_remove 22 = .ok (.invokestatic 121, 3) := dk_184 0 121 (dk_at dksX1_remove_1 0 rfl rfl)
theorem dX1_remove_25 : decode cX1_remove 25 = .ok (.aload_n 0, 1) := dk_42 (dk_at dksX1_remove_1 3 rfl rfl)
theorem dX1_remove_26 : decode cX1_remove 26 = .ok (.invokevirtual 124, 3) := dk_182 0 124 (dk_at dksX1_remove_1 4 rfl rfl)
theorem dX1_remove_29 : decode cX1_remove 29 = .ok (.aload_n 0, 1) := dk_42 (dk_at dksX1_remove_1 7 rfl rfl)
theorem dX1_remove_30 : decode cX1_remove 30 = .ok (.getfield 10, 3) := dk_180 0 10 (dk_at dksX1_remove_1 8 rfl rfl)
theorem dX1_remove_33 : decode cX1_remove 33 = .ok (.getfield 148, 3) := dk_180 0 148 (dk_at dksX1_remove_1 11 rfl rfl)
theorem dX1_remove_36 : decode cX1_remove 36 = .ok (.aload_n 2, 1) := dk_44 (dk_at dksX1_remove_1 14 rfl rfl)
theorem dX1_remove_37 : decode cX1_remove 37 = .ok (.invokevirtual 152, 3) := dk_182 0 152 (dk_at dksX1_remove_1 15 rfl rfl)
theorem dX1_remove_40 : decode cX1_remove 40 = .ok (.pop, 1) := dk_87 (dk_at dksX1_remove_1 18 rfl rfl)
theorem dX1_remove_41 : decode cX1_remove 41 = .ok (.aload_n 0, 1) := dk_42 (dk_at dksX1_remove_1 19 rfl rfl)
theorem dX1_remove_42 : decode cX1_remove 42 = .ok (.getfield 10, 3) := dk_180 0 10 (dk_at dksX1_remove_1 20 rfl rfl)
theorem dX1_remove_45 : decode cX1_remove 45 = .ok (.getfield 148, 3) := dk_180 0 148 (dk_at dksX1_remove_2 0 rfl rfl)
theorem dX1_remove_48 : decode cX1_remove 48 = .ok (.invokevirtual 158, 3) := dk_182 0 158 (dk_at dksX1_remove_2 3 rfl rfl)
theorem dX1_remove_51 : decode cX1_remove 51 = .ok (.ireturn, 1) := dk_172 (dk_at dksX1_remove_2 6 rfl rfl)
abbrev cX1_block : ByteArray := prog_1_method_10_code
def yX1_block : MethodName := ⟨RX1, "block", "(I)LFortPlanner$Block;"⟩
def dkwX1_block_0 : List UInt8 := [42, 180, 0, 10, 27, 182, 0, 87, 77, 44, 198, 0, 7, 4, 167, 0, 4, 3, 184, 0, 91, 44, 176]
abbrev dktX1_block_0 : List UInt8 := dkwX1_block_0 ++ []
theorem dksX1_block_0 : cX1_block.data.toList.drop 0 = dktX1_block_0 := by decide +kernel
theorem dX1_block_0 : decode cX1_block 0 = .ok (.aload_n 0, 1) := dk_42 (dk_at dksX1_block_0 0 rfl rfl)
theorem dX1_block_1 : decode cX1_block 1 = .ok (.getfield 10, 3) := dk_180 0 10 (dk_at dksX1_block_0 1 rfl rfl)
theorem dX1_block_4 : decode cX1_block 4 = .ok (.iload_n 1, 1) := dk_27 (dk_at dksX1_block_0 4 rfl rfl)
theorem dX1_block_5 : decode cX1_block 5 = .ok (.invokevirtual 87, 3) := dk_182 0 87 (dk_at dksX1_block_0 5 rfl rfl)
theorem dX1_block_8 : decode cX1_block 8 = .ok (.astore_n 2, 1) := dk_77 (dk_at dksX1_block_0 8 rfl rfl)
theorem dX1_block_9 : decode cX1_block 9 = .ok (.aload_n 2, 1) := dk_44 (dk_at dksX1_block_0 9 rfl rfl)
theorem dX1_block_10 : decode cX1_block 10 = .ok (.ifnull 7, 3) := dk_198 0 7 (dk_at dksX1_block_0 10 rfl rfl)
theorem dX1_block_13 : decode cX1_block 13 = .ok (.iconst 1, 1) := dk_4 (dk_at dksX1_block_0 13 rfl rfl)
theorem dX1_block_14 : decode cX1_block 14 = .ok (.goto 4, 3) := dk_167 0 4 (dk_at dksX1_block_0 14 rfl rfl)
theorem dX1_block_17 : decode cX1_block 17 = .ok (.iconst 0, 1) := dk_3 (dk_at dksX1_block_0 17 rfl rfl)
theorem dX1_block_18 : decode cX1_block 18 = .ok (.invokestatic 91, 3) := dk_184 0 91 (dk_at dksX1_block_0 18 rfl rfl)
theorem dX1_block_21 : decode cX1_block 21 = .ok (.aload_n 2, 1) := dk_44 (dk_at dksX1_block_0 21 rfl rfl)
theorem dX1_block_22 : decode cX1_block 22 = .ok (.areturn, 1) := dk_176 (dk_at dksX1_block_0 22 rfl rfl)
abbrev cX1_checkElement : ByteArray := prog_1_method_4_code
def yX1_checkElement : MethodName := ⟨RX1, "checkElement", "(Z)V"⟩
def dkwX1_checkElement_0 : List UInt8 := [26, 154, 0, 11, 187, 0, 46, 89, 183, 0, 48, 191, 177]
abbrev dktX1_checkElement_0 : List UInt8 := dkwX1_checkElement_0 ++ []
theorem dksX1_checkElement_0 : cX1_checkElement.data.toList.drop 0 = dktX1_checkElement_0 := by decide +kernel
theorem dX1_checkElement_0 : decode cX1_checkElement 0 = .ok (.iload_n 0, 1) := dk_26 (dk_at dksX1_checkElement_0 0 rfl rfl)
theorem dX1_checkElement_1 : decode cX1_checkElement 1 = .ok (.ifCond .ne 11, 3) := dk_154 0 11 (dk_at dksX1_checkElement_0 1 rfl rfl)
theorem dX1_checkElement_4 : decode cX1_checkElement 4 = .ok (.new 46, 3) := dk_187 0 46 (dk_at dksX1_checkElement_0 4 rfl rfl)
theorem dX1_checkElement_7 : decode cX1_checkElement 7 = .ok (.dup, 1) := dk_89 (dk_at dksX1_checkElement_0 7 rfl rfl)
theorem dX1_checkElement_8 : decode cX1_checkElement 8 = .ok (.invokespecial 48, 3) := dk_183 0 48 (dk_at dksX1_checkElement_0 8 rfl rfl)
theorem dX1_checkElement_11 : decode cX1_checkElement 11 = .ok (.athrow, 1) := dk_191 (dk_at dksX1_checkElement_0 11 rfl rfl)
theorem dX1_checkElement_12 : decode cX1_checkElement 12 = .ok (.return_, 1) := dk_177 (dk_at dksX1_checkElement_0 12 rfl rfl)
abbrev cX1_setZone : ByteArray := prog_1_method_24_code
def yX1_setZone : MethodName := ⟨RX1, "setZone", "(IC)C"⟩
def dkwX1_setZone_2 : List UInt8 := [27, 45, 83, 21, 4, 172]
abbrev dktX1_setZone_2 : List UInt8 := dkwX1_setZone_2 ++ []
def dkwX1_setZone_1 : List UInt8 := [182, 0, 124, 42, 180, 0, 10, 180, 0, 169, 27, 50, 180, 0, 173, 54, 4, 42, 180, 0, 10, 180, 0, 169]
abbrev dktX1_setZone_1 : List UInt8 := dkwX1_setZone_1 ++ dktX1_setZone_2
def dkwX1_setZone_0 : List UInt8 := [27, 184, 0, 159, 28, 184, 0, 163, 78, 45, 198, 0, 7, 4, 167, 0, 4, 3, 184, 0, 102, 42]
abbrev dktX1_setZone_0 : List UInt8 := dkwX1_setZone_0 ++ dktX1_setZone_1
theorem dksX1_setZone_0 : cX1_setZone.data.toList.drop 0 = dktX1_setZone_0 := by decide +kernel
theorem dksX1_setZone_1 : cX1_setZone.data.toList.drop 22 = dktX1_setZone_1 := dk_seg dksX1_setZone_0 22 rfl rfl
theorem dksX1_setZone_2 : cX1_setZone.data.toList.drop 46 = dktX1_setZone_2 := dk_seg dksX1_setZone_1 24 rfl rfl
theorem dX1_setZone_0 : decode cX1_setZone 0 = .ok (.iload_n 1, 1) := dk_27 (dk_at dksX1_setZone_0 0 rfl rfl)
theorem dX1_setZone_1 : decode cX1_setZone 1 = .ok (.invokestatic 159, 3) := dk_184 0 159 (dk_at dksX1_setZone_0 1 rfl rfl)
theorem dX1_setZone_4 : decode cX1_setZone 4 = .ok (.iload_n 2, 1) := dk_28 (dk_at dksX1_setZone_0 4 rfl rfl)
theorem dX1_setZone_5 : decode cX1_setZone 5 = .ok (.invokestatic 163, 3) := dk_184 0 163 (dk_at dksX1_setZone_0 5 rfl rfl)
theorem dX1_setZone_8 : decode cX1_setZone 8 = .ok (.astore_n 3, 1) := dk_78 (dk_at dksX1_setZone_0 8 rfl rfl)
theorem dX1_setZone_9 : decode cX1_setZone 9 = .ok (.aload_n 3, 1) := dk_45 (dk_at dksX1_setZone_0 9 rfl rfl)
theorem dX1_setZone_10 : decode cX1_setZone 10 = .ok (.ifnull 7, 3) := dk_198 0 7 (dk_at dksX1_setZone_0 10 rfl rfl)
theorem dX1_setZone_13 : decode cX1_setZone 13 = .ok (.iconst 1, 1) := dk_4 (dk_at dksX1_setZone_0 13 rfl rfl)
theorem dX1_setZone_14 : decode cX1_setZone 14 = .ok (.goto 4, 3) := dk_167 0 4 (dk_at dksX1_setZone_0 14 rfl rfl)
theorem dX1_setZone_17 : decode cX1_setZone 17 = .ok (.iconst 0, 1) := dk_3 (dk_at dksX1_setZone_0 17 rfl rfl)
theorem dX1_setZone_18 : decode cX1_setZone 18 = .ok (.invokestatic 102, 3) := dk_184 0 102 (dk_at dksX1_setZone_0 18 rfl rfl)
theorem dX1_setZone_21 : decode cX1_setZone 21 = .ok (.aload_n 0, 1) := dk_42 (dk_at dksX1_setZone_0 21 rfl rfl)
theorem dX1_setZone_22 : decode cX1_setZone 22 = .ok (.invokevirtual 124, 3) := dk_182 0 124 (dk_at dksX1_setZone_1 0 rfl rfl)
theorem dX1_setZone_25 : decode cX1_setZone 25 = .ok (.aload_n 0, 1) := dk_42 (dk_at dksX1_setZone_1 3 rfl rfl)
theorem dX1_setZone_26 : decode cX1_setZone 26 = .ok (.getfield 10, 3) := dk_180 0 10 (dk_at dksX1_setZone_1 4 rfl rfl)
theorem dX1_setZone_29 : decode cX1_setZone 29 = .ok (.getfield 169, 3) := dk_180 0 169 (dk_at dksX1_setZone_1 7 rfl rfl)
theorem dX1_setZone_32 : decode cX1_setZone 32 = .ok (.iload_n 1, 1) := dk_27 (dk_at dksX1_setZone_1 10 rfl rfl)
theorem dX1_setZone_33 : decode cX1_setZone 33 = .ok (.aaload, 1) := dk_50 (dk_at dksX1_setZone_1 11 rfl rfl)
theorem dX1_setZone_34 : decode cX1_setZone 34 = .ok (.getfield 173, 3) := dk_180 0 173 (dk_at dksX1_setZone_1 12 rfl rfl)
theorem dX1_setZone_37 : decode cX1_setZone 37 = .ok (.istore 4, 2) := dk_54 4 (dk_at dksX1_setZone_1 15 rfl rfl)
theorem dX1_setZone_39 : decode cX1_setZone 39 = .ok (.aload_n 0, 1) := dk_42 (dk_at dksX1_setZone_1 17 rfl rfl)
theorem dX1_setZone_40 : decode cX1_setZone 40 = .ok (.getfield 10, 3) := dk_180 0 10 (dk_at dksX1_setZone_1 18 rfl rfl)
theorem dX1_setZone_43 : decode cX1_setZone 43 = .ok (.getfield 169, 3) := dk_180 0 169 (dk_at dksX1_setZone_1 21 rfl rfl)
theorem dX1_setZone_46 : decode cX1_setZone 46 = .ok (.iload_n 1, 1) := dk_27 (dk_at dksX1_setZone_2 0 rfl rfl)
theorem dX1_setZone_47 : decode cX1_setZone 47 = .ok (.aload_n 3, 1) := dk_45 (dk_at dksX1_setZone_2 1 rfl rfl)
theorem dX1_setZone_48 : decode cX1_setZone 48 = .ok (.aastore, 1) := dk_83 (dk_at dksX1_setZone_2 2 rfl rfl)
theorem dX1_setZone_49 : decode cX1_setZone 49 = .ok (.iload 4, 2) := dk_21 4 (dk_at dksX1_setZone_2 3 rfl rfl)
theorem dX1_setZone_51 : decode cX1_setZone 51 = .ok (.ireturn, 1) := dk_172 (dk_at dksX1_setZone_2 5 rfl rfl)
abbrev cX1_checkColumn : ByteArray := prog_1_method_11_code
def yX1_checkColumn : MethodName := ⟨RX1, "checkColumn", "(I)V"⟩
def dkwX1_checkColumn_0 : List UInt8 := [26, 184, 0, 95, 184, 0, 99, 177]
abbrev dktX1_checkColumn_0 : List UInt8 := dkwX1_checkColumn_0 ++ []
theorem dksX1_checkColumn_0 : cX1_checkColumn.data.toList.drop 0 = dktX1_checkColumn_0 := by decide +kernel
theorem dX1_checkColumn_0 : decode cX1_checkColumn 0 = .ok (.iload_n 0, 1) := dk_26 (dk_at dksX1_checkColumn_0 0 rfl rfl)
theorem dX1_checkColumn_1 : decode cX1_checkColumn 1 = .ok (.invokestatic 95, 3) := dk_184 0 95 (dk_at dksX1_checkColumn_0 1 rfl rfl)
theorem dX1_checkColumn_4 : decode cX1_checkColumn 4 = .ok (.invokestatic 99, 3) := dk_184 0 99 (dk_at dksX1_checkColumn_0 4 rfl rfl)
theorem dX1_checkColumn_7 : decode cX1_checkColumn 7 = .ok (.return_, 1) := dk_177 (dk_at dksX1_checkColumn_0 7 rfl rfl)
abbrev cX1_checkIndex : ByteArray := prog_1_method_5_code
def yX1_checkIndex : MethodName := ⟨RX1, "checkIndex", "(Z)V"⟩
def dkwX1_checkIndex_0 : List UInt8 := [26, 154, 0, 11, 187, 0, 49, 89, 183, 0, 51, 191, 177]
abbrev dktX1_checkIndex_0 : List UInt8 := dkwX1_checkIndex_0 ++ []
theorem dksX1_checkIndex_0 : cX1_checkIndex.data.toList.drop 0 = dktX1_checkIndex_0 := by decide +kernel
theorem dX1_checkIndex_0 : decode cX1_checkIndex 0 = .ok (.iload_n 0, 1) := dk_26 (dk_at dksX1_checkIndex_0 0 rfl rfl)
theorem dX1_checkIndex_1 : decode cX1_checkIndex 1 = .ok (.ifCond .ne 11, 3) := dk_154 0 11 (dk_at dksX1_checkIndex_0 1 rfl rfl)
theorem dX1_checkIndex_4 : decode cX1_checkIndex 4 = .ok (.new 49, 3) := dk_187 0 49 (dk_at dksX1_checkIndex_0 4 rfl rfl)
theorem dX1_checkIndex_7 : decode cX1_checkIndex 7 = .ok (.dup, 1) := dk_89 (dk_at dksX1_checkIndex_0 7 rfl rfl)
theorem dX1_checkIndex_8 : decode cX1_checkIndex 8 = .ok (.invokespecial 51, 3) := dk_183 0 51 (dk_at dksX1_checkIndex_0 8 rfl rfl)
theorem dX1_checkIndex_11 : decode cX1_checkIndex 11 = .ok (.athrow, 1) := dk_191 (dk_at dksX1_checkIndex_0 11 rfl rfl)
theorem dX1_checkIndex_12 : decode cX1_checkIndex 12 = .ok (.return_, 1) := dk_177 (dk_at dksX1_checkIndex_0 12 rfl rfl)
abbrev cX1_addTorch : ByteArray := prog_1_method_26_code
def yX1_addTorch : MethodName := ⟨RX1, "addTorch", "(I)I"⟩
def dkwX1_addTorch_0 : List UInt8 := [42, 27, 4, 182, 0, 184, 172]
abbrev dktX1_addTorch_0 : List UInt8 := dkwX1_addTorch_0 ++ []
theorem dksX1_addTorch_0 : cX1_addTorch.data.toList.drop 0 = dktX1_addTorch_0 := by decide +kernel
theorem dX1_addTorch_0 : decode cX1_addTorch 0 = .ok (.aload_n 0, 1) := dk_42 (dk_at dksX1_addTorch_0 0 rfl rfl)
theorem dX1_addTorch_1 : decode cX1_addTorch 1 = .ok (.iload_n 1, 1) := dk_27 (dk_at dksX1_addTorch_0 1 rfl rfl)
theorem dX1_addTorch_2 : decode cX1_addTorch 2 = .ok (.iconst 1, 1) := dk_4 (dk_at dksX1_addTorch_0 2 rfl rfl)
theorem dX1_addTorch_3 : decode cX1_addTorch 3 = .ok (.invokevirtual 184, 3) := dk_182 0 184 (dk_at dksX1_addTorch_0 3 rfl rfl)
theorem dX1_addTorch_6 : decode cX1_addTorch 6 = .ok (.ireturn, 1) := dk_172 (dk_at dksX1_addTorch_0 6 rfl rfl)
abbrev cX1_setTorch : ByteArray := prog_1_method_25_code
def yX1_setTorch : MethodName := ⟨RX1, "setTorch", "(IZ)I"⟩
def dkwX1_setTorch_2 : List UInt8 := [172]
abbrev dktX1_setTorch_2 : List UInt8 := dkwX1_setTorch_2 ++ []
def dkwX1_setTorch_1 : List UInt8 := [184, 0, 121, 42, 182, 0, 124, 42, 180, 0, 10, 180, 0, 177, 27, 28, 84, 42, 180, 0, 10, 182, 0, 181]
abbrev dktX1_setTorch_1 : List UInt8 := dkwX1_setTorch_1 ++ dktX1_setTorch_2
def dkwX1_setTorch_0 : List UInt8 := [27, 184, 0, 159, 42, 180, 0, 10, 180, 0, 177, 27, 51, 28, 159, 0, 7, 4, 167, 0, 4, 3]
abbrev dktX1_setTorch_0 : List UInt8 := dkwX1_setTorch_0 ++ dktX1_setTorch_1
theorem dksX1_setTorch_0 : cX1_setTorch.data.toList.drop 0 = dktX1_setTorch_0 := by decide +kernel
theorem dksX1_setTorch_1 : cX1_setTorch.data.toList.drop 22 = dktX1_setTorch_1 := dk_seg dksX1_setTorch_0 22 rfl rfl
theorem dksX1_setTorch_2 : cX1_setTorch.data.toList.drop 46 = dktX1_setTorch_2 := dk_seg dksX1_setTorch_1 24 rfl rfl
theorem dX1_setTorch_0 : decode cX1_setTorch 0 = .ok (.iload_n 1, 1) := dk_27 (dk_at dksX1_setTorch_0 0 rfl rfl)
theorem dX1_setTorch_1 : decode cX1_setTorch 1 = .ok (.invokestatic 159, 3) := dk_184 0 159 (dk_at dksX1_setTorch_0 1 rfl rfl)
theorem dX1_setTorch_4 : decode cX1_setTorch 4 = .ok (.aload_n 0, 1) := dk_42 (dk_at dksX1_setTorch_0 4 rfl rfl)
theorem dX1_setTorch_5 : decode cX1_setTorch 5 = .ok (.getfield 10, 3) := dk_180 0 10 (dk_at dksX1_setTorch_0 5 rfl rfl)
theorem dX1_setTorch_8 : decode cX1_setTorch 8 = .ok (.getfield 177, 3) := dk_180 0 177 (dk_at dksX1_setTorch_0 8 rfl rfl)
theorem dX1_setTorch_11 : decode cX1_setTorch 11 = .ok (.iload_n 1, 1) := dk_27 (dk_at dksX1_setTorch_0 11 rfl rfl)
theorem dX1_setTorch_12 : decode cX1_setTorch 12 = .ok (.baload, 1) := dk_51 (dk_at dksX1_setTorch_0 12 rfl rfl)
theorem dX1_setTorch_13 : decode cX1_setTorch 13 = .ok (.iload_n 2, 1) := dk_28 (dk_at dksX1_setTorch_0 13 rfl rfl)
theorem dX1_setTorch_14 : decode cX1_setTorch 14 = .ok (.if_icmp .eq 7, 3) := dk_159 0 7 (dk_at dksX1_setTorch_0 14 rfl rfl)
theorem dX1_setTorch_17 : decode cX1_setTorch 17 = .ok (.iconst 1, 1) := dk_4 (dk_at dksX1_setTorch_0 17 rfl rfl)
theorem dX1_setTorch_18 : decode cX1_setTorch 18 = .ok (.goto 4, 3) := dk_167 0 4 (dk_at dksX1_setTorch_0 18 rfl rfl)
theorem dX1_setTorch_21 : decode cX1_setTorch 21 = .ok (.iconst 0, 1) := dk_3 (dk_at dksX1_setTorch_0 21 rfl rfl)
theorem dX1_setTorch_22 : decode cX1_setTorch 22 = .ok (.invokestatic 121, 3) := dk_184 0 121 (dk_at dksX1_setTorch_1 0 rfl rfl)
theorem dX1_setTorch_25 : decode cX1_setTorch 25 = .ok (.aload_n 0, 1) := dk_42 (dk_at dksX1_setTorch_1 3 rfl rfl)
theorem dX1_setTorch_26 : decode cX1_setTorch 26 = .ok (.invokevirtual 124, 3) := dk_182 0 124 (dk_at dksX1_setTorch_1 4 rfl rfl)
theorem dX1_setTorch_29 : decode cX1_setTorch 29 = .ok (.aload_n 0, 1) := dk_42 (dk_at dksX1_setTorch_1 7 rfl rfl)
theorem dX1_setTorch_30 : decode cX1_setTorch 30 = .ok (.getfield 10, 3) := dk_180 0 10 (dk_at dksX1_setTorch_1 8 rfl rfl)
theorem dX1_setTorch_33 : decode cX1_setTorch 33 = .ok (.getfield 177, 3) := dk_180 0 177 (dk_at dksX1_setTorch_1 11 rfl rfl)
theorem dX1_setTorch_36 : decode cX1_setTorch 36 = .ok (.iload_n 1, 1) := dk_27 (dk_at dksX1_setTorch_1 14 rfl rfl)
theorem dX1_setTorch_37 : decode cX1_setTorch 37 = .ok (.iload_n 2, 1) := dk_28 (dk_at dksX1_setTorch_1 15 rfl rfl)
theorem dX1_setTorch_38 : decode cX1_setTorch 38 = .ok (.bastore, 1) := dk_84 (dk_at dksX1_setTorch_1 16 rfl rfl)
theorem dX1_setTorch_39 : decode cX1_setTorch 39 = .ok (.aload_n 0, 1) := dk_42 (dk_at dksX1_setTorch_1 17 rfl rfl)
theorem dX1_setTorch_40 : decode cX1_setTorch 40 = .ok (.getfield 10, 3) := dk_180 0 10 (dk_at dksX1_setTorch_1 18 rfl rfl)
theorem dX1_setTorch_43 : decode cX1_setTorch 43 = .ok (.invokevirtual 181, 3) := dk_182 0 181 (dk_at dksX1_setTorch_1 21 rfl rfl)
theorem dX1_setTorch_46 : decode cX1_setTorch 46 = .ok (.ireturn, 1) := dk_172 (dk_at dksX1_setTorch_2 0 rfl rfl)
abbrev cX1_removeTorch : ByteArray := prog_1_method_27_code
def yX1_removeTorch : MethodName := ⟨RX1, "removeTorch", "(I)I"⟩
def dkwX1_removeTorch_0 : List UInt8 := [42, 27, 3, 182, 0, 184, 172]
abbrev dktX1_removeTorch_0 : List UInt8 := dkwX1_removeTorch_0 ++ []
theorem dksX1_removeTorch_0 : cX1_removeTorch.data.toList.drop 0 = dktX1_removeTorch_0 := by decide +kernel
theorem dX1_removeTorch_0 : decode cX1_removeTorch 0 = .ok (.aload_n 0, 1) := dk_42 (dk_at dksX1_removeTorch_0 0 rfl rfl)
theorem dX1_removeTorch_1 : decode cX1_removeTorch 1 = .ok (.iload_n 1, 1) := dk_27 (dk_at dksX1_removeTorch_0 1 rfl rfl)
theorem dX1_removeTorch_2 : decode cX1_removeTorch 2 = .ok (.iconst 0, 1) := dk_3 (dk_at dksX1_removeTorch_0 2 rfl rfl)
theorem dX1_removeTorch_3 : decode cX1_removeTorch 3 = .ok (.invokevirtual 184, 3) := dk_182 0 184 (dk_at dksX1_removeTorch_0 3 rfl rfl)
theorem dX1_removeTorch_6 : decode cX1_removeTorch 6 = .ok (.ireturn, 1) := dk_172 (dk_at dksX1_removeTorch_0 6 rfl rfl)
abbrev cX1_canPlaceFoam : ByteArray := prog_1_method_19_code
def yX1_canPlaceFoam : MethodName := ⟨RX1, "canPlaceFoam", "(III)Z"⟩
def dkwX1_canPlaceFoam_0 : List UInt8 := [42, 16, 102, 27, 28, 29, 182, 0, 139, 172]
abbrev dktX1_canPlaceFoam_0 : List UInt8 := dkwX1_canPlaceFoam_0 ++ []
theorem dksX1_canPlaceFoam_0 : cX1_canPlaceFoam.data.toList.drop 0 = dktX1_canPlaceFoam_0 := by decide +kernel
theorem dX1_canPlaceFoam_0 : decode cX1_canPlaceFoam 0 = .ok (.aload_n 0, 1) := dk_42 (dk_at dksX1_canPlaceFoam_0 0 rfl rfl)
theorem dX1_canPlaceFoam_1 : decode cX1_canPlaceFoam 1 = .ok (.bipush 102, 2) := dk_16 102 (dk_at dksX1_canPlaceFoam_0 1 rfl rfl)
theorem dX1_canPlaceFoam_3 : decode cX1_canPlaceFoam 3 = .ok (.iload_n 1, 1) := dk_27 (dk_at dksX1_canPlaceFoam_0 3 rfl rfl)
theorem dX1_canPlaceFoam_4 : decode cX1_canPlaceFoam 4 = .ok (.iload_n 2, 1) := dk_28 (dk_at dksX1_canPlaceFoam_0 4 rfl rfl)
theorem dX1_canPlaceFoam_5 : decode cX1_canPlaceFoam 5 = .ok (.iload_n 3, 1) := dk_29 (dk_at dksX1_canPlaceFoam_0 5 rfl rfl)
theorem dX1_canPlaceFoam_6 : decode cX1_canPlaceFoam 6 = .ok (.invokevirtual 139, 3) := dk_182 0 139 (dk_at dksX1_canPlaceFoam_0 6 rfl rfl)
theorem dX1_canPlaceFoam_9 : decode cX1_canPlaceFoam 9 = .ok (.ireturn, 1) := dk_172 (dk_at dksX1_canPlaceFoam_0 9 rfl rfl)
abbrev cX1_canPlace : ByteArray := prog_1_method_15_code
def yX1_canPlace : MethodName := ⟨RX1, "canPlace", "(CIII)Z"⟩
def dkwX1_canPlace_1 : List UInt8 := [182, 0, 117, 172]
abbrev dktX1_canPlace_1 : List UInt8 := dkwX1_canPlace_1 ++ []
def dkwX1_canPlace_0 : List UInt8 := [28, 29, 21, 4, 184, 0, 109, 42, 180, 0, 10, 42, 180, 0, 10, 27, 28, 29, 21, 4, 182, 0, 113]
abbrev dktX1_canPlace_0 : List UInt8 := dkwX1_canPlace_0 ++ dktX1_canPlace_1
theorem dksX1_canPlace_0 : cX1_canPlace.data.toList.drop 0 = dktX1_canPlace_0 := by decide +kernel
theorem dksX1_canPlace_1 : cX1_canPlace.data.toList.drop 23 = dktX1_canPlace_1 := dk_seg dksX1_canPlace_0 23 rfl rfl
theorem dX1_canPlace_0 : decode cX1_canPlace 0 = .ok (.iload_n 2, 1) := dk_28 (dk_at dksX1_canPlace_0 0 rfl rfl)
theorem dX1_canPlace_1 : decode cX1_canPlace 1 = .ok (.iload_n 3, 1) := dk_29 (dk_at dksX1_canPlace_0 1 rfl rfl)
theorem dX1_canPlace_2 : decode cX1_canPlace 2 = .ok (.iload 4, 2) := dk_21 4 (dk_at dksX1_canPlace_0 2 rfl rfl)
theorem dX1_canPlace_4 : decode cX1_canPlace 4 = .ok (.invokestatic 109, 3) := dk_184 0 109 (dk_at dksX1_canPlace_0 4 rfl rfl)
theorem dX1_canPlace_7 : decode cX1_canPlace 7 = .ok (.aload_n 0, 1) := dk_42 (dk_at dksX1_canPlace_0 7 rfl rfl)
theorem dX1_canPlace_8 : decode cX1_canPlace 8 = .ok (.getfield 10, 3) := dk_180 0 10 (dk_at dksX1_canPlace_0 8 rfl rfl)
theorem dX1_canPlace_11 : decode cX1_canPlace 11 = .ok (.aload_n 0, 1) := dk_42 (dk_at dksX1_canPlace_0 11 rfl rfl)
theorem dX1_canPlace_12 : decode cX1_canPlace 12 = .ok (.getfield 10, 3) := dk_180 0 10 (dk_at dksX1_canPlace_0 12 rfl rfl)
theorem dX1_canPlace_15 : decode cX1_canPlace 15 = .ok (.iload_n 1, 1) := dk_27 (dk_at dksX1_canPlace_0 15 rfl rfl)
theorem dX1_canPlace_16 : decode cX1_canPlace 16 = .ok (.iload_n 2, 1) := dk_28 (dk_at dksX1_canPlace_0 16 rfl rfl)
theorem dX1_canPlace_17 : decode cX1_canPlace 17 = .ok (.iload_n 3, 1) := dk_29 (dk_at dksX1_canPlace_0 17 rfl rfl)
theorem dX1_canPlace_18 : decode cX1_canPlace 18 = .ok (.iload 4, 2) := dk_21 4 (dk_at dksX1_canPlace_0 18 rfl rfl)
theorem dX1_canPlace_20 : decode cX1_canPlace 20 = .ok (.invokevirtual 113, 3) := dk_182 0 113 (dk_at dksX1_canPlace_0 20 rfl rfl)
theorem dX1_canPlace_23 : decode cX1_canPlace 23 = .ok (.invokevirtual 117, 3) := dk_182 0 117 (dk_at dksX1_canPlace_1 0 rfl rfl)
theorem dX1_canPlace_26 : decode cX1_canPlace 26 = .ok (.ireturn, 1) := dk_172 (dk_at dksX1_canPlace_1 3 rfl rfl)
abbrev cX1_canPlaceBoard : ByteArray := prog_1_method_20_code
def yX1_canPlaceBoard : MethodName := ⟨RX1, "canPlaceBoard", "(III)Z"⟩
def dkwX1_canPlaceBoard_0 : List UInt8 := [42, 16, 98, 27, 28, 29, 182, 0, 139, 172]
abbrev dktX1_canPlaceBoard_0 : List UInt8 := dkwX1_canPlaceBoard_0 ++ []
theorem dksX1_canPlaceBoard_0 : cX1_canPlaceBoard.data.toList.drop 0 = dktX1_canPlaceBoard_0 := by decide +kernel
theorem dX1_canPlaceBoard_0 : decode cX1_canPlaceBoard 0 = .ok (.aload_n 0, 1) := dk_42 (dk_at dksX1_canPlaceBoard_0 0 rfl rfl)
theorem dX1_canPlaceBoard_1 : decode cX1_canPlaceBoard 1 = .ok (.bipush 98, 2) := dk_16 98 (dk_at dksX1_canPlaceBoard_0 1 rfl rfl)
theorem dX1_canPlaceBoard_3 : decode cX1_canPlaceBoard 3 = .ok (.iload_n 1, 1) := dk_27 (dk_at dksX1_canPlaceBoard_0 3 rfl rfl)
theorem dX1_canPlaceBoard_4 : decode cX1_canPlaceBoard 4 = .ok (.iload_n 2, 1) := dk_28 (dk_at dksX1_canPlaceBoard_0 4 rfl rfl)
theorem dX1_canPlaceBoard_5 : decode cX1_canPlaceBoard 5 = .ok (.iload_n 3, 1) := dk_29 (dk_at dksX1_canPlaceBoard_0 5 rfl rfl)
theorem dX1_canPlaceBoard_6 : decode cX1_canPlaceBoard 6 = .ok (.invokevirtual 139, 3) := dk_182 0 139 (dk_at dksX1_canPlaceBoard_0 6 rfl rfl)
theorem dX1_canPlaceBoard_9 : decode cX1_canPlaceBoard 9 = .ok (.ireturn, 1) := dk_172 (dk_at dksX1_canPlaceBoard_0 9 rfl rfl)
abbrev cX1_canPlaceBag : ByteArray := prog_1_method_21_code
def yX1_canPlaceBag : MethodName := ⟨RX1, "canPlaceBag", "(III)Z"⟩
def dkwX1_canPlaceBag_0 : List UInt8 := [42, 16, 103, 27, 28, 29, 182, 0, 139, 172]
abbrev dktX1_canPlaceBag_0 : List UInt8 := dkwX1_canPlaceBag_0 ++ []
theorem dksX1_canPlaceBag_0 : cX1_canPlaceBag.data.toList.drop 0 = dktX1_canPlaceBag_0 := by decide +kernel
theorem dX1_canPlaceBag_0 : decode cX1_canPlaceBag 0 = .ok (.aload_n 0, 1) := dk_42 (dk_at dksX1_canPlaceBag_0 0 rfl rfl)
theorem dX1_canPlaceBag_1 : decode cX1_canPlaceBag 1 = .ok (.bipush 103, 2) := dk_16 103 (dk_at dksX1_canPlaceBag_0 1 rfl rfl)
theorem dX1_canPlaceBag_3 : decode cX1_canPlaceBag 3 = .ok (.iload_n 1, 1) := dk_27 (dk_at dksX1_canPlaceBag_0 3 rfl rfl)
theorem dX1_canPlaceBag_4 : decode cX1_canPlaceBag 4 = .ok (.iload_n 2, 1) := dk_28 (dk_at dksX1_canPlaceBag_0 4 rfl rfl)
theorem dX1_canPlaceBag_5 : decode cX1_canPlaceBag 5 = .ok (.iload_n 3, 1) := dk_29 (dk_at dksX1_canPlaceBag_0 5 rfl rfl)
theorem dX1_canPlaceBag_6 : decode cX1_canPlaceBag 6 = .ok (.invokevirtual 139, 3) := dk_182 0 139 (dk_at dksX1_canPlaceBag_0 6 rfl rfl)
theorem dX1_canPlaceBag_9 : decode cX1_canPlaceBag 9 = .ok (.ireturn, 1) := dk_172 (dk_at dksX1_canPlaceBag_0 9 rfl rfl)
abbrev cX1_heaviestFoam : ByteArray := prog_1_method_22_code
def yX1_heaviestFoam : MethodName := ⟨RX1, "heaviestFoam", "(II)I"⟩
def dkwX1_heaviestFoam_2 : List UInt8 := [3, 184, 0, 91, 29, 172]
abbrev dktX1_heaviestFoam_2 : List UInt8 := dkwX1_heaviestFoam_2 ++ []
def dkwX1_heaviestFoam_1 : List UInt8 := [29, 182, 0, 113, 182, 0, 117, 154, 0, 9, 132, 3, 255, 167, 255, 227, 29, 158, 0, 7, 4, 167, 0, 4]
abbrev dktX1_heaviestFoam_1 : List UInt8 := dkwX1_heaviestFoam_1 ++ dktX1_heaviestFoam_2
def dkwX1_heaviestFoam_0 : List UInt8 := [27, 28, 184, 0, 105, 16, 9, 62, 29, 158, 0, 31, 42, 180, 0, 10, 42, 180, 0, 10, 16, 102, 27, 28]
abbrev dktX1_heaviestFoam_0 : List UInt8 := dkwX1_heaviestFoam_0 ++ dktX1_heaviestFoam_1
theorem dksX1_heaviestFoam_0 : cX1_heaviestFoam.data.toList.drop 0 = dktX1_heaviestFoam_0 := by decide +kernel
theorem dksX1_heaviestFoam_1 : cX1_heaviestFoam.data.toList.drop 24 = dktX1_heaviestFoam_1 := dk_seg dksX1_heaviestFoam_0 24 rfl rfl
theorem dksX1_heaviestFoam_2 : cX1_heaviestFoam.data.toList.drop 48 = dktX1_heaviestFoam_2 := dk_seg dksX1_heaviestFoam_1 24 rfl rfl
theorem dX1_heaviestFoam_0 : decode cX1_heaviestFoam 0 = .ok (.iload_n 1, 1) := dk_27 (dk_at dksX1_heaviestFoam_0 0 rfl rfl)
theorem dX1_heaviestFoam_1 : decode cX1_heaviestFoam 1 = .ok (.iload_n 2, 1) := dk_28 (dk_at dksX1_heaviestFoam_0 1 rfl rfl)
theorem dX1_heaviestFoam_2 : decode cX1_heaviestFoam 2 = .ok (.invokestatic 105, 3) := dk_184 0 105 (dk_at dksX1_heaviestFoam_0 2 rfl rfl)
theorem dX1_heaviestFoam_5 : decode cX1_heaviestFoam 5 = .ok (.bipush 9, 2) := dk_16 9 (dk_at dksX1_heaviestFoam_0 5 rfl rfl)
theorem dX1_heaviestFoam_7 : decode cX1_heaviestFoam 7 = .ok (.istore_n 3, 1) := dk_62 (dk_at dksX1_heaviestFoam_0 7 rfl rfl)
theorem dX1_heaviestFoam_8 : decode cX1_heaviestFoam 8 = .ok (.iload_n 3, 1) := dk_29 (dk_at dksX1_heaviestFoam_0 8 rfl rfl)
theorem dX1_heaviestFoam_9 : decode cX1_heaviestFoam 9 = .ok (.ifCond .le 31, 3) := dk_158 0 31 (dk_at dksX1_heaviestFoam_0 9 rfl rfl)
theorem dX1_heaviestFoam_12 : decode cX1_heaviestFoam 12 = .ok (.aload_n 0, 1) := dk_42 (dk_at dksX1_heaviestFoam_0 12 rfl rfl)
theorem dX1_heaviestFoam_13 : decode cX1_heaviestFoam 13 = .ok (.getfield 10, 3) := dk_180 0 10 (dk_at dksX1_heaviestFoam_0 13 rfl rfl)
theorem dX1_heaviestFoam_16 : decode cX1_heaviestFoam 16 = .ok (.aload_n 0, 1) := dk_42 (dk_at dksX1_heaviestFoam_0 16 rfl rfl)
theorem dX1_heaviestFoam_17 : decode cX1_heaviestFoam 17 = .ok (.getfield 10, 3) := dk_180 0 10 (dk_at dksX1_heaviestFoam_0 17 rfl rfl)
theorem dX1_heaviestFoam_20 : decode cX1_heaviestFoam 20 = .ok (.bipush 102, 2) := dk_16 102 (dk_at dksX1_heaviestFoam_0 20 rfl rfl)
theorem dX1_heaviestFoam_22 : decode cX1_heaviestFoam 22 = .ok (.iload_n 1, 1) := dk_27 (dk_at dksX1_heaviestFoam_0 22 rfl rfl)
theorem dX1_heaviestFoam_23 : decode cX1_heaviestFoam 23 = .ok (.iload_n 2, 1) := dk_28 (dk_at dksX1_heaviestFoam_0 23 rfl rfl)
theorem dX1_heaviestFoam_24 : decode cX1_heaviestFoam 24 = .ok (.iload_n 3, 1) := dk_29 (dk_at dksX1_heaviestFoam_1 0 rfl rfl)
theorem dX1_heaviestFoam_25 : decode cX1_heaviestFoam 25 = .ok (.invokevirtual 113, 3) := dk_182 0 113 (dk_at dksX1_heaviestFoam_1 1 rfl rfl)
theorem dX1_heaviestFoam_28 : decode cX1_heaviestFoam 28 = .ok (.invokevirtual 117, 3) := dk_182 0 117 (dk_at dksX1_heaviestFoam_1 4 rfl rfl)
theorem dX1_heaviestFoam_31 : decode cX1_heaviestFoam 31 = .ok (.ifCond .ne 9, 3) := dk_154 0 9 (dk_at dksX1_heaviestFoam_1 7 rfl rfl)
theorem dX1_heaviestFoam_34 : decode cX1_heaviestFoam 34 = .ok (.iinc 3 (-1), 3) := dk_132 3 255 (dk_at dksX1_heaviestFoam_1 10 rfl rfl)
theorem dX1_heaviestFoam_37 : decode cX1_heaviestFoam 37 = .ok (.goto (-29), 3) := dk_167 255 227 (dk_at dksX1_heaviestFoam_1 13 rfl rfl)
theorem dX1_heaviestFoam_40 : decode cX1_heaviestFoam 40 = .ok (.iload_n 3, 1) := dk_29 (dk_at dksX1_heaviestFoam_1 16 rfl rfl)
theorem dX1_heaviestFoam_41 : decode cX1_heaviestFoam 41 = .ok (.ifCond .le 7, 3) := dk_158 0 7 (dk_at dksX1_heaviestFoam_1 17 rfl rfl)
theorem dX1_heaviestFoam_44 : decode cX1_heaviestFoam 44 = .ok (.iconst 1, 1) := dk_4 (dk_at dksX1_heaviestFoam_1 20 rfl rfl)
theorem dX1_heaviestFoam_45 : decode cX1_heaviestFoam 45 = .ok (.goto 4, 3) := dk_167 0 4 (dk_at dksX1_heaviestFoam_1 21 rfl rfl)
theorem dX1_heaviestFoam_48 : decode cX1_heaviestFoam 48 = .ok (.iconst 0, 1) := dk_3 (dk_at dksX1_heaviestFoam_2 0 rfl rfl)
theorem dX1_heaviestFoam_49 : decode cX1_heaviestFoam 49 = .ok (.invokestatic 91, 3) := dk_184 0 91 (dk_at dksX1_heaviestFoam_2 1 rfl rfl)
theorem dX1_heaviestFoam_52 : decode cX1_heaviestFoam 52 = .ok (.iload_n 3, 1) := dk_29 (dk_at dksX1_heaviestFoam_2 4 rfl rfl)
theorem dX1_heaviestFoam_53 : decode cX1_heaviestFoam 53 = .ok (.ireturn, 1) := dk_172 (dk_at dksX1_heaviestFoam_2 5 rfl rfl)
abbrev cX1_blockAt : ByteArray := prog_1_method_45_code
def yX1_blockAt : MethodName := ⟨RX1, "blockAt", "(I)I"⟩
def dkwX1_blockAt_1 : List UInt8 := [180, 0, 148, 27, 182, 0, 233, 192, 0, 132, 180, 0, 131, 172]
abbrev dktX1_blockAt_1 : List UInt8 := dkwX1_blockAt_1 ++ []
def dkwX1_blockAt_0 : List UInt8 := [27, 3, 42, 180, 0, 10, 180, 0, 148, 182, 0, 158, 4, 100, 184, 0, 52, 184, 0, 99, 42, 180, 0, 10]
abbrev dktX1_blockAt_0 : List UInt8 := dkwX1_blockAt_0 ++ dktX1_blockAt_1
theorem dksX1_blockAt_0 : cX1_blockAt.data.toList.drop 0 = dktX1_blockAt_0 := by decide +kernel
theorem dksX1_blockAt_1 : cX1_blockAt.data.toList.drop 24 = dktX1_blockAt_1 := dk_seg dksX1_blockAt_0 24 rfl rfl
theorem dX1_blockAt_0 : decode cX1_blockAt 0 = .ok (.iload_n 1, 1) := dk_27 (dk_at dksX1_blockAt_0 0 rfl rfl)
theorem dX1_blockAt_1 : decode cX1_blockAt 1 = .ok (.iconst 0, 1) := dk_3 (dk_at dksX1_blockAt_0 1 rfl rfl)
theorem dX1_blockAt_2 : decode cX1_blockAt 2 = .ok (.aload_n 0, 1) := dk_42 (dk_at dksX1_blockAt_0 2 rfl rfl)
theorem dX1_blockAt_3 : decode cX1_blockAt 3 = .ok (.getfield 10, 3) := dk_180 0 10 (dk_at dksX1_blockAt_0 3 rfl rfl)
theorem dX1_blockAt_6 : decode cX1_blockAt 6 = .ok (.getfield 148, 3) := dk_180 0 148 (dk_at dksX1_blockAt_0 6 rfl rfl)
theorem dX1_blockAt_9 : decode cX1_blockAt 9 = .ok (.invokevirtual 158, 3) := dk_182 0 158 (dk_at dksX1_blockAt_0 9 rfl rfl)
theorem dX1_blockAt_12 : decode cX1_blockAt 12 = .ok (.iconst 1, 1) := dk_4 (dk_at dksX1_blockAt_0 12 rfl rfl)
theorem dX1_blockAt_13 : decode cX1_blockAt 13 = .ok (.isub, 1) := dk_100 (dk_at dksX1_blockAt_0 13 rfl rfl)
theorem dX1_blockAt_14 : decode cX1_blockAt 14 = .ok (.invokestatic 52, 3) := dk_184 0 52 (dk_at dksX1_blockAt_0 14 rfl rfl)
theorem dX1_blockAt_17 : decode cX1_blockAt 17 = .ok (.invokestatic 99, 3) := dk_184 0 99 (dk_at dksX1_blockAt_0 17 rfl rfl)
theorem dX1_blockAt_20 : decode cX1_blockAt 20 = .ok (.aload_n 0, 1) := dk_42 (dk_at dksX1_blockAt_0 20 rfl rfl)
theorem dX1_blockAt_21 : decode cX1_blockAt 21 = .ok (.getfield 10, 3) := dk_180 0 10 (dk_at dksX1_blockAt_0 21 rfl rfl)
theorem dX1_blockAt_24 : decode cX1_blockAt 24 = .ok (.getfield 148, 3) := dk_180 0 148 (dk_at dksX1_blockAt_1 0 rfl rfl)
theorem dX1_blockAt_27 : decode cX1_blockAt 27 = .ok (.iload_n 1, 1) := dk_27 (dk_at dksX1_blockAt_1 3 rfl rfl)
theorem dX1_blockAt_28 : decode cX1_blockAt 28 = .ok (.invokevirtual 233, 3) := dk_182 0 233 (dk_at dksX1_blockAt_1 4 rfl rfl)
theorem dX1_blockAt_31 : decode cX1_blockAt 31 = .ok (.checkcast 132, 3) := dk_192 0 132 (dk_at dksX1_blockAt_1 7 rfl rfl)
theorem dX1_blockAt_34 : decode cX1_blockAt 34 = .ok (.getfield 131, 3) := dk_180 0 131 (dk_at dksX1_blockAt_1 10 rfl rfl)
theorem dX1_blockAt_37 : decode cX1_blockAt 37 = .ok (.ireturn, 1) := dk_172 (dk_at dksX1_blockAt_1 13 rfl rfl)
abbrev cX1_isFoam : ByteArray := prog_1_method_46_code
def yX1_isFoam : MethodName := ⟨RX1, "isFoam", "(I)Z"⟩
def dkwX1_isFoam_0 : List UInt8 := [42, 27, 182, 0, 142, 193, 0, 56, 172]
abbrev dktX1_isFoam_0 : List UInt8 := dkwX1_isFoam_0 ++ []
theorem dksX1_isFoam_0 : cX1_isFoam.data.toList.drop 0 = dktX1_isFoam_0 := by decide +kernel
theorem dX1_isFoam_0 : decode cX1_isFoam 0 = .ok (.aload_n 0, 1) := dk_42 (dk_at dksX1_isFoam_0 0 rfl rfl)
theorem dX1_isFoam_1 : decode cX1_isFoam 1 = .ok (.iload_n 1, 1) := dk_27 (dk_at dksX1_isFoam_0 1 rfl rfl)
theorem dX1_isFoam_2 : decode cX1_isFoam 2 = .ok (.invokevirtual 142, 3) := dk_182 0 142 (dk_at dksX1_isFoam_0 2 rfl rfl)
theorem dX1_isFoam_5 : decode cX1_isFoam 5 = .ok (.instanceof 56, 3) := dk_193 0 56 (dk_at dksX1_isFoam_0 5 rfl rfl)
theorem dX1_isFoam_8 : decode cX1_isFoam 8 = .ok (.ireturn, 1) := dk_172 (dk_at dksX1_isFoam_0 8 rfl rfl)
abbrev cX1_isBoard : ByteArray := prog_1_method_47_code
def yX1_isBoard : MethodName := ⟨RX1, "isBoard", "(I)Z"⟩
def dkwX1_isBoard_0 : List UInt8 := [42, 27, 182, 0, 142, 193, 0, 61, 172]
abbrev dktX1_isBoard_0 : List UInt8 := dkwX1_isBoard_0 ++ []
theorem dksX1_isBoard_0 : cX1_isBoard.data.toList.drop 0 = dktX1_isBoard_0 := by decide +kernel
theorem dX1_isBoard_0 : decode cX1_isBoard 0 = .ok (.aload_n 0, 1) := dk_42 (dk_at dksX1_isBoard_0 0 rfl rfl)
theorem dX1_isBoard_1 : decode cX1_isBoard 1 = .ok (.iload_n 1, 1) := dk_27 (dk_at dksX1_isBoard_0 1 rfl rfl)
theorem dX1_isBoard_2 : decode cX1_isBoard 2 = .ok (.invokevirtual 142, 3) := dk_182 0 142 (dk_at dksX1_isBoard_0 2 rfl rfl)
theorem dX1_isBoard_5 : decode cX1_isBoard 5 = .ok (.instanceof 61, 3) := dk_193 0 61 (dk_at dksX1_isBoard_0 5 rfl rfl)
theorem dX1_isBoard_8 : decode cX1_isBoard 8 = .ok (.ireturn, 1) := dk_172 (dk_at dksX1_isBoard_0 8 rfl rfl)
abbrev cX1_left : ByteArray := prog_1_method_48_code
def yX1_left : MethodName := ⟨RX1, "left", "(I)I"⟩
def dkwX1_left_0 : List UInt8 := [42, 27, 182, 0, 142, 180, 0, 237, 172]
abbrev dktX1_left_0 : List UInt8 := dkwX1_left_0 ++ []
theorem dksX1_left_0 : cX1_left.data.toList.drop 0 = dktX1_left_0 := by decide +kernel
theorem dX1_left_0 : decode cX1_left 0 = .ok (.aload_n 0, 1) := dk_42 (dk_at dksX1_left_0 0 rfl rfl)
theorem dX1_left_1 : decode cX1_left 1 = .ok (.iload_n 1, 1) := dk_27 (dk_at dksX1_left_0 1 rfl rfl)
theorem dX1_left_2 : decode cX1_left 2 = .ok (.invokevirtual 142, 3) := dk_182 0 142 (dk_at dksX1_left_0 2 rfl rfl)
theorem dX1_left_5 : decode cX1_left 5 = .ok (.getfield 237, 3) := dk_180 0 237 (dk_at dksX1_left_0 5 rfl rfl)
theorem dX1_left_8 : decode cX1_left 8 = .ok (.ireturn, 1) := dk_172 (dk_at dksX1_left_0 8 rfl rfl)
abbrev cX1_width : ByteArray := prog_1_method_49_code
def yX1_width : MethodName := ⟨RX1, "width", "(I)I"⟩
def dkwX1_width_0 : List UInt8 := [42, 27, 182, 0, 142, 180, 0, 240, 172]
abbrev dktX1_width_0 : List UInt8 := dkwX1_width_0 ++ []
theorem dksX1_width_0 : cX1_width.data.toList.drop 0 = dktX1_width_0 := by decide +kernel
theorem dX1_width_0 : decode cX1_width 0 = .ok (.aload_n 0, 1) := dk_42 (dk_at dksX1_width_0 0 rfl rfl)
theorem dX1_width_1 : decode cX1_width 1 = .ok (.iload_n 1, 1) := dk_27 (dk_at dksX1_width_0 1 rfl rfl)
theorem dX1_width_2 : decode cX1_width 2 = .ok (.invokevirtual 142, 3) := dk_182 0 142 (dk_at dksX1_width_0 2 rfl rfl)
theorem dX1_width_5 : decode cX1_width 5 = .ok (.getfield 240, 3) := dk_180 0 240 (dk_at dksX1_width_0 5 rfl rfl)
theorem dX1_width_8 : decode cX1_width 8 = .ok (.ireturn, 1) := dk_172 (dk_at dksX1_width_0 8 rfl rfl)
abbrev cX1_weight : ByteArray := prog_1_method_50_code
def yX1_weight : MethodName := ⟨RX1, "weight", "(I)I"⟩
def dkwX1_weight_0 : List UInt8 := [42, 27, 182, 0, 142, 180, 0, 243, 172]
abbrev dktX1_weight_0 : List UInt8 := dkwX1_weight_0 ++ []
theorem dksX1_weight_0 : cX1_weight.data.toList.drop 0 = dktX1_weight_0 := by decide +kernel
theorem dX1_weight_0 : decode cX1_weight 0 = .ok (.aload_n 0, 1) := dk_42 (dk_at dksX1_weight_0 0 rfl rfl)
theorem dX1_weight_1 : decode cX1_weight 1 = .ok (.iload_n 1, 1) := dk_27 (dk_at dksX1_weight_0 1 rfl rfl)
theorem dX1_weight_2 : decode cX1_weight 2 = .ok (.invokevirtual 142, 3) := dk_182 0 142 (dk_at dksX1_weight_0 2 rfl rfl)
theorem dX1_weight_5 : decode cX1_weight 5 = .ok (.getfield 243, 3) := dk_180 0 243 (dk_at dksX1_weight_0 5 rfl rfl)
theorem dX1_weight_8 : decode cX1_weight 8 = .ok (.ireturn, 1) := dk_172 (dk_at dksX1_weight_0 8 rfl rfl)
abbrev cX1_strength : ByteArray := prog_1_method_51_code
def yX1_strength : MethodName := ⟨RX1, "strength", "(I)I"⟩
def dkwX1_strength_0 : List UInt8 := [42, 27, 182, 0, 142, 182, 0, 246, 172]
abbrev dktX1_strength_0 : List UInt8 := dkwX1_strength_0 ++ []
theorem dksX1_strength_0 : cX1_strength.data.toList.drop 0 = dktX1_strength_0 := by decide +kernel
theorem dX1_strength_0 : decode cX1_strength 0 = .ok (.aload_n 0, 1) := dk_42 (dk_at dksX1_strength_0 0 rfl rfl)
theorem dX1_strength_1 : decode cX1_strength 1 = .ok (.iload_n 1, 1) := dk_27 (dk_at dksX1_strength_0 1 rfl rfl)
theorem dX1_strength_2 : decode cX1_strength 2 = .ok (.invokevirtual 142, 3) := dk_182 0 142 (dk_at dksX1_strength_0 2 rfl rfl)
theorem dX1_strength_5 : decode cX1_strength 5 = .ok (.invokevirtual 246, 3) := dk_182 0 246 (dk_at dksX1_strength_0 5 rfl rfl)
theorem dX1_strength_8 : decode cX1_strength 8 = .ok (.ireturn, 1) := dk_172 (dk_at dksX1_strength_0 8 rfl rfl)
abbrev cX1_bottom : ByteArray := prog_1_method_52_code
def yX1_bottom : MethodName := ⟨RX1, "bottom", "(I)I"⟩
def dkwX1_bottom_0 : List UInt8 := [42, 27, 182, 0, 142, 180, 0, 249, 172]
abbrev dktX1_bottom_0 : List UInt8 := dkwX1_bottom_0 ++ []
theorem dksX1_bottom_0 : cX1_bottom.data.toList.drop 0 = dktX1_bottom_0 := by decide +kernel
theorem dX1_bottom_0 : decode cX1_bottom 0 = .ok (.aload_n 0, 1) := dk_42 (dk_at dksX1_bottom_0 0 rfl rfl)
theorem dX1_bottom_1 : decode cX1_bottom 1 = .ok (.iload_n 1, 1) := dk_27 (dk_at dksX1_bottom_0 1 rfl rfl)
theorem dX1_bottom_2 : decode cX1_bottom 2 = .ok (.invokevirtual 142, 3) := dk_182 0 142 (dk_at dksX1_bottom_0 2 rfl rfl)
theorem dX1_bottom_5 : decode cX1_bottom 5 = .ok (.getfield 249, 3) := dk_180 0 249 (dk_at dksX1_bottom_0 5 rfl rfl)
theorem dX1_bottom_8 : decode cX1_bottom 8 = .ok (.ireturn, 1) := dk_172 (dk_at dksX1_bottom_0 8 rfl rfl)
abbrev cX1_top : ByteArray := prog_1_method_53_code
def yX1_top : MethodName := ⟨RX1, "top", "(I)I"⟩
def dkwX1_top_0 : List UInt8 := [42, 27, 182, 0, 142, 182, 0, 252, 172]
abbrev dktX1_top_0 : List UInt8 := dkwX1_top_0 ++ []
theorem dksX1_top_0 : cX1_top.data.toList.drop 0 = dktX1_top_0 := by decide +kernel
theorem dX1_top_0 : decode cX1_top 0 = .ok (.aload_n 0, 1) := dk_42 (dk_at dksX1_top_0 0 rfl rfl)
theorem dX1_top_1 : decode cX1_top 1 = .ok (.iload_n 1, 1) := dk_27 (dk_at dksX1_top_0 1 rfl rfl)
theorem dX1_top_2 : decode cX1_top 2 = .ok (.invokevirtual 142, 3) := dk_182 0 142 (dk_at dksX1_top_0 2 rfl rfl)
theorem dX1_top_5 : decode cX1_top 5 = .ok (.invokevirtual 252, 3) := dk_182 0 252 (dk_at dksX1_top_0 5 rfl rfl)
theorem dX1_top_8 : decode cX1_top 8 = .ok (.ireturn, 1) := dk_172 (dk_at dksX1_top_0 8 rfl rfl)
abbrev cX1_supporterCount : ByteArray := prog_1_method_54_code
def yX1_supporterCount : MethodName := ⟨RX1, "supporterCount", "(I)I"⟩
def dkwX1_supporterCount_0 : List UInt8 := [42, 180, 0, 10, 42, 27, 182, 0, 142, 182, 0, 255, 182, 0, 158, 172]
abbrev dktX1_supporterCount_0 : List UInt8 := dkwX1_supporterCount_0 ++ []
theorem dksX1_supporterCount_0 : cX1_supporterCount.data.toList.drop 0 = dktX1_supporterCount_0 := by decide +kernel
theorem dX1_supporterCount_0 : decode cX1_supporterCount 0 = .ok (.aload_n 0, 1) := dk_42 (dk_at dksX1_supporterCount_0 0 rfl rfl)
theorem dX1_supporterCount_1 : decode cX1_supporterCount 1 = .ok (.getfield 10, 3) := dk_180 0 10 (dk_at dksX1_supporterCount_0 1 rfl rfl)
theorem dX1_supporterCount_4 : decode cX1_supporterCount 4 = .ok (.aload_n 0, 1) := dk_42 (dk_at dksX1_supporterCount_0 4 rfl rfl)
theorem dX1_supporterCount_5 : decode cX1_supporterCount 5 = .ok (.iload_n 1, 1) := dk_27 (dk_at dksX1_supporterCount_0 5 rfl rfl)
theorem dX1_supporterCount_6 : decode cX1_supporterCount 6 = .ok (.invokevirtual 142, 3) := dk_182 0 142 (dk_at dksX1_supporterCount_0 6 rfl rfl)
theorem dX1_supporterCount_9 : decode cX1_supporterCount 9 = .ok (.invokevirtual 255, 3) := dk_182 0 255 (dk_at dksX1_supporterCount_0 9 rfl rfl)
theorem dX1_supporterCount_12 : decode cX1_supporterCount 12 = .ok (.invokevirtual 158, 3) := dk_182 0 158 (dk_at dksX1_supporterCount_0 12 rfl rfl)
theorem dX1_supporterCount_15 : decode cX1_supporterCount 15 = .ok (.ireturn, 1) := dk_172 (dk_at dksX1_supporterCount_0 15 rfl rfl)
abbrev cX1_supporterAt : ByteArray := prog_1_method_55_code
def yX1_supporterAt : MethodName := ⟨RX1, "supporterAt", "(II)I"⟩
def dkwX1_supporterAt_1 : List UInt8 := [184, 0, 91, 45, 28, 182, 0, 233, 192, 0, 132, 180, 0, 131, 172]
abbrev dktX1_supporterAt_1 : List UInt8 := dkwX1_supporterAt_1 ++ []
def dkwX1_supporterAt_0 : List UInt8 := [42, 180, 0, 10, 42, 27, 182, 0, 142, 182, 0, 255, 78, 28, 3, 45, 182, 0, 158, 4, 100, 184, 0, 52]
abbrev dktX1_supporterAt_0 : List UInt8 := dkwX1_supporterAt_0 ++ dktX1_supporterAt_1
theorem dksX1_supporterAt_0 : cX1_supporterAt.data.toList.drop 0 = dktX1_supporterAt_0 := by decide +kernel
theorem dksX1_supporterAt_1 : cX1_supporterAt.data.toList.drop 24 = dktX1_supporterAt_1 := dk_seg dksX1_supporterAt_0 24 rfl rfl
theorem dX1_supporterAt_0 : decode cX1_supporterAt 0 = .ok (.aload_n 0, 1) := dk_42 (dk_at dksX1_supporterAt_0 0 rfl rfl)
theorem dX1_supporterAt_1 : decode cX1_supporterAt 1 = .ok (.getfield 10, 3) := dk_180 0 10 (dk_at dksX1_supporterAt_0 1 rfl rfl)
theorem dX1_supporterAt_4 : decode cX1_supporterAt 4 = .ok (.aload_n 0, 1) := dk_42 (dk_at dksX1_supporterAt_0 4 rfl rfl)
theorem dX1_supporterAt_5 : decode cX1_supporterAt 5 = .ok (.iload_n 1, 1) := dk_27 (dk_at dksX1_supporterAt_0 5 rfl rfl)
theorem dX1_supporterAt_6 : decode cX1_supporterAt 6 = .ok (.invokevirtual 142, 3) := dk_182 0 142 (dk_at dksX1_supporterAt_0 6 rfl rfl)
theorem dX1_supporterAt_9 : decode cX1_supporterAt 9 = .ok (.invokevirtual 255, 3) := dk_182 0 255 (dk_at dksX1_supporterAt_0 9 rfl rfl)
theorem dX1_supporterAt_12 : decode cX1_supporterAt 12 = .ok (.astore_n 3, 1) := dk_78 (dk_at dksX1_supporterAt_0 12 rfl rfl)
theorem dX1_supporterAt_13 : decode cX1_supporterAt 13 = .ok (.iload_n 2, 1) := dk_28 (dk_at dksX1_supporterAt_0 13 rfl rfl)
theorem dX1_supporterAt_14 : decode cX1_supporterAt 14 = .ok (.iconst 0, 1) := dk_3 (dk_at dksX1_supporterAt_0 14 rfl rfl)
theorem dX1_supporterAt_15 : decode cX1_supporterAt 15 = .ok (.aload_n 3, 1) := dk_45 (dk_at dksX1_supporterAt_0 15 rfl rfl)
theorem dX1_supporterAt_16 : decode cX1_supporterAt 16 = .ok (.invokevirtual 158, 3) := dk_182 0 158 (dk_at dksX1_supporterAt_0 16 rfl rfl)
theorem dX1_supporterAt_19 : decode cX1_supporterAt 19 = .ok (.iconst 1, 1) := dk_4 (dk_at dksX1_supporterAt_0 19 rfl rfl)
theorem dX1_supporterAt_20 : decode cX1_supporterAt 20 = .ok (.isub, 1) := dk_100 (dk_at dksX1_supporterAt_0 20 rfl rfl)
theorem dX1_supporterAt_21 : decode cX1_supporterAt 21 = .ok (.invokestatic 52, 3) := dk_184 0 52 (dk_at dksX1_supporterAt_0 21 rfl rfl)
theorem dX1_supporterAt_24 : decode cX1_supporterAt 24 = .ok (.invokestatic 91, 3) := dk_184 0 91 (dk_at dksX1_supporterAt_1 0 rfl rfl)
theorem dX1_supporterAt_27 : decode cX1_supporterAt 27 = .ok (.aload_n 3, 1) := dk_45 (dk_at dksX1_supporterAt_1 3 rfl rfl)
theorem dX1_supporterAt_28 : decode cX1_supporterAt 28 = .ok (.iload_n 2, 1) := dk_28 (dk_at dksX1_supporterAt_1 4 rfl rfl)
theorem dX1_supporterAt_29 : decode cX1_supporterAt 29 = .ok (.invokevirtual 233, 3) := dk_182 0 233 (dk_at dksX1_supporterAt_1 5 rfl rfl)
theorem dX1_supporterAt_32 : decode cX1_supporterAt 32 = .ok (.checkcast 132, 3) := dk_192 0 132 (dk_at dksX1_supporterAt_1 8 rfl rfl)
theorem dX1_supporterAt_35 : decode cX1_supporterAt 35 = .ok (.getfield 131, 3) := dk_180 0 131 (dk_at dksX1_supporterAt_1 11 rfl rfl)
theorem dX1_supporterAt_38 : decode cX1_supporterAt 38 = .ok (.ireturn, 1) := dk_172 (dk_at dksX1_supporterAt_1 14 rfl rfl)
abbrev cX1_isSupporting : ByteArray := prog_1_method_56_code
def yX1_isSupporting : MethodName := ⟨RX1, "isSupporting", "(I)Z"⟩
def dkwX1_isSupporting_0 : List UInt8 := [42, 180, 0, 10, 42, 27, 182, 0, 142, 182, 0, 145, 172]
abbrev dktX1_isSupporting_0 : List UInt8 := dkwX1_isSupporting_0 ++ []
theorem dksX1_isSupporting_0 : cX1_isSupporting.data.toList.drop 0 = dktX1_isSupporting_0 := by decide +kernel
theorem dX1_isSupporting_0 : decode cX1_isSupporting 0 = .ok (.aload_n 0, 1) := dk_42 (dk_at dksX1_isSupporting_0 0 rfl rfl)
theorem dX1_isSupporting_1 : decode cX1_isSupporting 1 = .ok (.getfield 10, 3) := dk_180 0 10 (dk_at dksX1_isSupporting_0 1 rfl rfl)
theorem dX1_isSupporting_4 : decode cX1_isSupporting 4 = .ok (.aload_n 0, 1) := dk_42 (dk_at dksX1_isSupporting_0 4 rfl rfl)
theorem dX1_isSupporting_5 : decode cX1_isSupporting 5 = .ok (.iload_n 1, 1) := dk_27 (dk_at dksX1_isSupporting_0 5 rfl rfl)
theorem dX1_isSupporting_6 : decode cX1_isSupporting 6 = .ok (.invokevirtual 142, 3) := dk_182 0 142 (dk_at dksX1_isSupporting_0 6 rfl rfl)
theorem dX1_isSupporting_9 : decode cX1_isSupporting 9 = .ok (.invokevirtual 145, 3) := dk_182 0 145 (dk_at dksX1_isSupporting_0 9 rfl rfl)
theorem dX1_isSupporting_12 : decode cX1_isSupporting 12 = .ok (.ireturn, 1) := dk_172 (dk_at dksX1_isSupporting_0 12 rfl rfl)
abbrev cX1_load : ByteArray := prog_1_method_57_code
def yX1_load : MethodName := ⟨RX1, "load", "(I)I"⟩
def dkwX1_load_0 : List UInt8 := [42, 180, 0, 10, 42, 27, 182, 0, 142, 182, 1, 3, 172]
abbrev dktX1_load_0 : List UInt8 := dkwX1_load_0 ++ []
theorem dksX1_load_0 : cX1_load.data.toList.drop 0 = dktX1_load_0 := by decide +kernel
theorem dX1_load_0 : decode cX1_load 0 = .ok (.aload_n 0, 1) := dk_42 (dk_at dksX1_load_0 0 rfl rfl)
theorem dX1_load_1 : decode cX1_load 1 = .ok (.getfield 10, 3) := dk_180 0 10 (dk_at dksX1_load_0 1 rfl rfl)
theorem dX1_load_4 : decode cX1_load 4 = .ok (.aload_n 0, 1) := dk_42 (dk_at dksX1_load_0 4 rfl rfl)
theorem dX1_load_5 : decode cX1_load 5 = .ok (.iload_n 1, 1) := dk_27 (dk_at dksX1_load_0 5 rfl rfl)
theorem dX1_load_6 : decode cX1_load 6 = .ok (.invokevirtual 142, 3) := dk_182 0 142 (dk_at dksX1_load_0 6 rfl rfl)
theorem dX1_load_9 : decode cX1_load 9 = .ok (.invokevirtual 259, 3) := dk_182 1 3 (dk_at dksX1_load_0 9 rfl rfl)
theorem dX1_load_12 : decode cX1_load 12 = .ok (.ireturn, 1) := dk_172 (dk_at dksX1_load_0 12 rfl rfl)
abbrev cX1_loadByRecursion : ByteArray := prog_1_method_58_code
def yX1_loadByRecursion : MethodName := ⟨RX1, "loadByRecursion", "(I)I"⟩
def dkwX1_loadByRecursion_0 : List UInt8 := [42, 180, 0, 10, 42, 27, 182, 0, 142, 182, 1, 7, 172]
abbrev dktX1_loadByRecursion_0 : List UInt8 := dkwX1_loadByRecursion_0 ++ []
theorem dksX1_loadByRecursion_0 : cX1_loadByRecursion.data.toList.drop 0 = dktX1_loadByRecursion_0 := by decide +kernel
theorem dX1_loadByRecursion_0 : decode cX1_loadByRecursion 0 = .ok (.aload_n 0, 1) := dk_42 (dk_at dksX1_loadByRecursion_0 0 rfl rfl)
theorem dX1_loadByRecursion_1 : decode cX1_loadByRecursion 1 = .ok (.getfield 10, 3) := dk_180 0 10 (dk_at dksX1_loadByRecursion_0 1 rfl rfl)
theorem dX1_loadByRecursion_4 : decode cX1_loadByRecursion 4 = .ok (.aload_n 0, 1) := dk_42 (dk_at dksX1_loadByRecursion_0 4 rfl rfl)
theorem dX1_loadByRecursion_5 : decode cX1_loadByRecursion 5 = .ok (.iload_n 1, 1) := dk_27 (dk_at dksX1_loadByRecursion_0 5 rfl rfl)
theorem dX1_loadByRecursion_6 : decode cX1_loadByRecursion 6 = .ok (.invokevirtual 142, 3) := dk_182 0 142 (dk_at dksX1_loadByRecursion_0 6 rfl rfl)
theorem dX1_loadByRecursion_9 : decode cX1_loadByRecursion 9 = .ok (.invokevirtual 263, 3) := dk_182 1 7 (dk_at dksX1_loadByRecursion_0 9 rfl rfl)
theorem dX1_loadByRecursion_12 : decode cX1_loadByRecursion 12 = .ok (.ireturn, 1) := dk_172 (dk_at dksX1_loadByRecursion_0 12 rfl rfl)
abbrev cX1_slack : ByteArray := prog_1_method_59_code
def yX1_slack : MethodName := ⟨RX1, "slack", "(I)I"⟩
def dkwX1_slack_0 : List UInt8 := [42, 27, 182, 0, 142, 77, 44, 182, 0, 246, 42, 180, 0, 10, 44, 182, 1, 3, 100, 172]
abbrev dktX1_slack_0 : List UInt8 := dkwX1_slack_0 ++ []
theorem dksX1_slack_0 : cX1_slack.data.toList.drop 0 = dktX1_slack_0 := by decide +kernel
theorem dX1_slack_0 : decode cX1_slack 0 = .ok (.aload_n 0, 1) := dk_42 (dk_at dksX1_slack_0 0 rfl rfl)
theorem dX1_slack_1 : decode cX1_slack 1 = .ok (.iload_n 1, 1) := dk_27 (dk_at dksX1_slack_0 1 rfl rfl)
theorem dX1_slack_2 : decode cX1_slack 2 = .ok (.invokevirtual 142, 3) := dk_182 0 142 (dk_at dksX1_slack_0 2 rfl rfl)
theorem dX1_slack_5 : decode cX1_slack 5 = .ok (.astore_n 2, 1) := dk_77 (dk_at dksX1_slack_0 5 rfl rfl)
theorem dX1_slack_6 : decode cX1_slack 6 = .ok (.aload_n 2, 1) := dk_44 (dk_at dksX1_slack_0 6 rfl rfl)
theorem dX1_slack_7 : decode cX1_slack 7 = .ok (.invokevirtual 246, 3) := dk_182 0 246 (dk_at dksX1_slack_0 7 rfl rfl)
theorem dX1_slack_10 : decode cX1_slack 10 = .ok (.aload_n 0, 1) := dk_42 (dk_at dksX1_slack_0 10 rfl rfl)
theorem dX1_slack_11 : decode cX1_slack 11 = .ok (.getfield 10, 3) := dk_180 0 10 (dk_at dksX1_slack_0 11 rfl rfl)
theorem dX1_slack_14 : decode cX1_slack 14 = .ok (.aload_n 2, 1) := dk_44 (dk_at dksX1_slack_0 14 rfl rfl)
theorem dX1_slack_15 : decode cX1_slack 15 = .ok (.invokevirtual 259, 3) := dk_182 1 3 (dk_at dksX1_slack_0 15 rfl rfl)
theorem dX1_slack_18 : decode cX1_slack 18 = .ok (.isub, 1) := dk_100 (dk_at dksX1_slack_0 18 rfl rfl)
theorem dX1_slack_19 : decode cX1_slack 19 = .ok (.ireturn, 1) := dk_172 (dk_at dksX1_slack_0 19 rfl rfl)
abbrev cX1_weakest : ByteArray := prog_1_method_61_code
def yX1_weakest : MethodName := ⟨RX1, "weakest", "()I"⟩
def dkwX1_weakest_0 : List UInt8 := [42, 3, 182, 1, 14, 172]
abbrev dktX1_weakest_0 : List UInt8 := dkwX1_weakest_0 ++ []
theorem dksX1_weakest_0 : cX1_weakest.data.toList.drop 0 = dktX1_weakest_0 := by decide +kernel
theorem dX1_weakest_0 : decode cX1_weakest 0 = .ok (.aload_n 0, 1) := dk_42 (dk_at dksX1_weakest_0 0 rfl rfl)
theorem dX1_weakest_1 : decode cX1_weakest 1 = .ok (.iconst 0, 1) := dk_3 (dk_at dksX1_weakest_0 1 rfl rfl)
theorem dX1_weakest_2 : decode cX1_weakest 2 = .ok (.invokevirtual 270, 3) := dk_182 1 14 (dk_at dksX1_weakest_0 2 rfl rfl)
theorem dX1_weakest_5 : decode cX1_weakest 5 = .ok (.ireturn, 1) := dk_172 (dk_at dksX1_weakest_0 5 rfl rfl)
abbrev cX1_blockWithSlackAt : ByteArray := prog_1_method_62_code
def yX1_blockWithSlackAt : MethodName := ⟨RX1, "blockWithSlackAt", "(I)I"⟩
def dkwX1_blockWithSlackAt_1 : List UInt8 := [44, 27, 46, 182, 0, 233, 192, 0, 132, 180, 0, 131, 172]
abbrev dktX1_blockWithSlackAt_1 : List UInt8 := dkwX1_blockWithSlackAt_1 ++ []
def dkwX1_blockWithSlackAt_0 : List UInt8 := [42, 182, 1, 17, 77, 27, 3, 44, 190, 4, 100, 184, 0, 52, 184, 0, 91, 42, 180, 0, 10, 180, 0, 148]
abbrev dktX1_blockWithSlackAt_0 : List UInt8 := dkwX1_blockWithSlackAt_0 ++ dktX1_blockWithSlackAt_1
theorem dksX1_blockWithSlackAt_0 : cX1_blockWithSlackAt.data.toList.drop 0 = dktX1_blockWithSlackAt_0 := by decide +kernel
theorem dksX1_blockWithSlackAt_1 : cX1_blockWithSlackAt.data.toList.drop 24 = dktX1_blockWithSlackAt_1 := dk_seg dksX1_blockWithSlackAt_0 24 rfl rfl
theorem dX1_blockWithSlackAt_0 : decode cX1_blockWithSlackAt 0 = .ok (.aload_n 0, 1) := dk_42 (dk_at dksX1_blockWithSlackAt_0 0 rfl rfl)
theorem dX1_blockWithSlackAt_1 : decode cX1_blockWithSlackAt 1 = .ok (.invokevirtual 273, 3) := dk_182 1 17 (dk_at dksX1_blockWithSlackAt_0 1 rfl rfl)
theorem dX1_blockWithSlackAt_4 : decode cX1_blockWithSlackAt 4 = .ok (.astore_n 2, 1) := dk_77 (dk_at dksX1_blockWithSlackAt_0 4 rfl rfl)
theorem dX1_blockWithSlackAt_5 : decode cX1_blockWithSlackAt 5 = .ok (.iload_n 1, 1) := dk_27 (dk_at dksX1_blockWithSlackAt_0 5 rfl rfl)
theorem dX1_blockWithSlackAt_6 : decode cX1_blockWithSlackAt 6 = .ok (.iconst 0, 1) := dk_3 (dk_at dksX1_blockWithSlackAt_0 6 rfl rfl)
theorem dX1_blockWithSlackAt_7 : decode cX1_blockWithSlackAt 7 = .ok (.aload_n 2, 1) := dk_44 (dk_at dksX1_blockWithSlackAt_0 7 rfl rfl)
theorem dX1_blockWithSlackAt_8 : decode cX1_blockWithSlackAt 8 = .ok (.arraylength, 1) := dk_190 (dk_at dksX1_blockWithSlackAt_0 8 rfl rfl)
theorem dX1_blockWithSlackAt_9 : decode cX1_blockWithSlackAt 9 = .ok (.iconst 1, 1) := dk_4 (dk_at dksX1_blockWithSlackAt_0 9 rfl rfl)
theorem dX1_blockWithSlackAt_10 : decode cX1_blockWithSlackAt 10 = .ok (.isub, 1) := dk_100 (dk_at dksX1_blockWithSlackAt_0 10 rfl rfl)
theorem dX1_blockWithSlackAt_11 : decode cX1_blockWithSlackAt 11 = .ok (.invokestatic 52, 3) := dk_184 0 52 (dk_at dksX1_blockWithSlackAt_0 11 rfl rfl)
theorem dX1_blockWithSlackAt_14 : decode cX1_blockWithSlackAt 14 = .ok (.invokestatic 91, 3) := dk_184 0 91 (dk_at dksX1_blockWithSlackAt_0 14 rfl rfl)
theorem dX1_blockWithSlackAt_17 : decode cX1_blockWithSlackAt 17 = .ok (.aload_n 0, 1) := dk_42 (dk_at dksX1_blockWithSlackAt_0 17 rfl rfl)
theorem dX1_blockWithSlackAt_18 : decode cX1_blockWithSlackAt 18 = .ok (.getfield 10, 3) := dk_180 0 10 (dk_at dksX1_blockWithSlackAt_0 18 rfl rfl)
theorem dX1_blockWithSlackAt_21 : decode cX1_blockWithSlackAt 21 = .ok (.getfield 148, 3) := dk_180 0 148 (dk_at dksX1_blockWithSlackAt_0 21 rfl rfl)
theorem dX1_blockWithSlackAt_24 : decode cX1_blockWithSlackAt 24 = .ok (.aload_n 2, 1) := dk_44 (dk_at dksX1_blockWithSlackAt_1 0 rfl rfl)
theorem dX1_blockWithSlackAt_25 : decode cX1_blockWithSlackAt 25 = .ok (.iload_n 1, 1) := dk_27 (dk_at dksX1_blockWithSlackAt_1 1 rfl rfl)
theorem dX1_blockWithSlackAt_26 : decode cX1_blockWithSlackAt 26 = .ok (.iaload, 1) := dk_46 (dk_at dksX1_blockWithSlackAt_1 2 rfl rfl)
theorem dX1_blockWithSlackAt_27 : decode cX1_blockWithSlackAt 27 = .ok (.invokevirtual 233, 3) := dk_182 0 233 (dk_at dksX1_blockWithSlackAt_1 3 rfl rfl)
theorem dX1_blockWithSlackAt_30 : decode cX1_blockWithSlackAt 30 = .ok (.checkcast 132, 3) := dk_192 0 132 (dk_at dksX1_blockWithSlackAt_1 6 rfl rfl)
theorem dX1_blockWithSlackAt_33 : decode cX1_blockWithSlackAt 33 = .ok (.getfield 131, 3) := dk_180 0 131 (dk_at dksX1_blockWithSlackAt_1 9 rfl rfl)
theorem dX1_blockWithSlackAt_36 : decode cX1_blockWithSlackAt 36 = .ok (.ireturn, 1) := dk_172 (dk_at dksX1_blockWithSlackAt_1 12 rfl rfl)
abbrev cX1_sortBySlack : ByteArray := prog_1_method_60_code
def yX1_sortBySlack : MethodName := ⟨RX1, "sortBySlack", "()[I"⟩
def dkwX1_sortBySlack_4 : List UInt8 := [167, 255, 223, 45, 21, 5, 21, 4, 79, 132, 4, 1, 167, 255, 173, 45, 176]
abbrev dktX1_sortBySlack_4 : List UInt8 := dkwX1_sortBySlack_4 ++ []
def dkwX1_sortBySlack_3 : List UInt8 := [21, 5, 4, 100, 46, 46, 162, 0, 19, 45, 21, 5, 45, 21, 5, 4, 100, 46, 79, 132, 5, 255]
abbrev dktX1_sortBySlack_3 : List UInt8 := dkwX1_sortBySlack_3 ++ dktX1_sortBySlack_4
def dkwX1_sortBySlack_2 : List UInt8 := [182, 0, 246, 43, 21, 4, 46, 100, 79, 21, 4, 54, 5, 21, 5, 158, 0, 34, 44, 21, 4, 46, 44, 45]
abbrev dktX1_sortBySlack_2 : List UInt8 := dkwX1_sortBySlack_2 ++ dktX1_sortBySlack_3
def dkwX1_sortBySlack_1 : List UInt8 := [190, 162, 0, 82, 44, 21, 4, 42, 180, 0, 10, 180, 0, 148, 21, 4, 182, 0, 233, 192, 0, 132]
abbrev dktX1_sortBySlack_1 : List UInt8 := dkwX1_sortBySlack_1 ++ dktX1_sortBySlack_2
def dkwX1_sortBySlack_0 : List UInt8 := [42, 180, 0, 10, 182, 1, 10, 76, 43, 190, 188, 10, 77, 43, 190, 188, 10, 78, 3, 54, 4, 21, 4, 45]
abbrev dktX1_sortBySlack_0 : List UInt8 := dkwX1_sortBySlack_0 ++ dktX1_sortBySlack_1
theorem dksX1_sortBySlack_0 : cX1_sortBySlack.data.toList.drop 0 = dktX1_sortBySlack_0 := by decide +kernel
theorem dksX1_sortBySlack_1 : cX1_sortBySlack.data.toList.drop 24 = dktX1_sortBySlack_1 := dk_seg dksX1_sortBySlack_0 24 rfl rfl
theorem dksX1_sortBySlack_2 : cX1_sortBySlack.data.toList.drop 46 = dktX1_sortBySlack_2 := dk_seg dksX1_sortBySlack_1 22 rfl rfl
theorem dksX1_sortBySlack_3 : cX1_sortBySlack.data.toList.drop 70 = dktX1_sortBySlack_3 := dk_seg dksX1_sortBySlack_2 24 rfl rfl
theorem dksX1_sortBySlack_4 : cX1_sortBySlack.data.toList.drop 92 = dktX1_sortBySlack_4 := dk_seg dksX1_sortBySlack_3 22 rfl rfl
theorem dX1_sortBySlack_0 : decode cX1_sortBySlack 0 = .ok (.aload_n 0, 1) := dk_42 (dk_at dksX1_sortBySlack_0 0 rfl rfl)
theorem dX1_sortBySlack_1 : decode cX1_sortBySlack 1 = .ok (.getfield 10, 3) := dk_180 0 10 (dk_at dksX1_sortBySlack_0 1 rfl rfl)
theorem dX1_sortBySlack_4 : decode cX1_sortBySlack 4 = .ok (.invokevirtual 266, 3) := dk_182 1 10 (dk_at dksX1_sortBySlack_0 4 rfl rfl)
theorem dX1_sortBySlack_7 : decode cX1_sortBySlack 7 = .ok (.astore_n 1, 1) := dk_76 (dk_at dksX1_sortBySlack_0 7 rfl rfl)
theorem dX1_sortBySlack_8 : decode cX1_sortBySlack 8 = .ok (.aload_n 1, 1) := dk_43 (dk_at dksX1_sortBySlack_0 8 rfl rfl)
theorem dX1_sortBySlack_9 : decode cX1_sortBySlack 9 = .ok (.arraylength, 1) := dk_190 (dk_at dksX1_sortBySlack_0 9 rfl rfl)
theorem dX1_sortBySlack_10 : decode cX1_sortBySlack 10 = .ok (.newarray .int, 2) := dk_188_10 (dk_at dksX1_sortBySlack_0 10 rfl rfl)
theorem dX1_sortBySlack_12 : decode cX1_sortBySlack 12 = .ok (.astore_n 2, 1) := dk_77 (dk_at dksX1_sortBySlack_0 12 rfl rfl)
theorem dX1_sortBySlack_13 : decode cX1_sortBySlack 13 = .ok (.aload_n 1, 1) := dk_43 (dk_at dksX1_sortBySlack_0 13 rfl rfl)
theorem dX1_sortBySlack_14 : decode cX1_sortBySlack 14 = .ok (.arraylength, 1) := dk_190 (dk_at dksX1_sortBySlack_0 14 rfl rfl)
theorem dX1_sortBySlack_15 : decode cX1_sortBySlack 15 = .ok (.newarray .int, 2) := dk_188_10 (dk_at dksX1_sortBySlack_0 15 rfl rfl)
theorem dX1_sortBySlack_17 : decode cX1_sortBySlack 17 = .ok (.astore_n 3, 1) := dk_78 (dk_at dksX1_sortBySlack_0 17 rfl rfl)
theorem dX1_sortBySlack_18 : decode cX1_sortBySlack 18 = .ok (.iconst 0, 1) := dk_3 (dk_at dksX1_sortBySlack_0 18 rfl rfl)
theorem dX1_sortBySlack_19 : decode cX1_sortBySlack 19 = .ok (.istore 4, 2) := dk_54 4 (dk_at dksX1_sortBySlack_0 19 rfl rfl)
theorem dX1_sortBySlack_21 : decode cX1_sortBySlack 21 = .ok (.iload 4, 2) := dk_21 4 (dk_at dksX1_sortBySlack_0 21 rfl rfl)
theorem dX1_sortBySlack_23 : decode cX1_sortBySlack 23 = .ok (.aload_n 3, 1) := dk_45 (dk_at dksX1_sortBySlack_0 23 rfl rfl)
theorem dX1_sortBySlack_24 : decode cX1_sortBySlack 24 = .ok (.arraylength, 1) := dk_190 (dk_at dksX1_sortBySlack_1 0 rfl rfl)
theorem dX1_sortBySlack_25 : decode cX1_sortBySlack 25 = .ok (.if_icmp .ge 82, 3) := dk_162 0 82 (dk_at dksX1_sortBySlack_1 1 rfl rfl)
theorem dX1_sortBySlack_28 : decode cX1_sortBySlack 28 = .ok (.aload_n 2, 1) := dk_44 (dk_at dksX1_sortBySlack_1 4 rfl rfl)
theorem dX1_sortBySlack_29 : decode cX1_sortBySlack 29 = .ok (.iload 4, 2) := dk_21 4 (dk_at dksX1_sortBySlack_1 5 rfl rfl)
theorem dX1_sortBySlack_31 : decode cX1_sortBySlack 31 = .ok (.aload_n 0, 1) := dk_42 (dk_at dksX1_sortBySlack_1 7 rfl rfl)
theorem dX1_sortBySlack_32 : decode cX1_sortBySlack 32 = .ok (.getfield 10, 3) := dk_180 0 10 (dk_at dksX1_sortBySlack_1 8 rfl rfl)
theorem dX1_sortBySlack_35 : decode cX1_sortBySlack 35 = .ok (.getfield 148, 3) := dk_180 0 148 (dk_at dksX1_sortBySlack_1 11 rfl rfl)
theorem dX1_sortBySlack_38 : decode cX1_sortBySlack 38 = .ok (.iload 4, 2) := dk_21 4 (dk_at dksX1_sortBySlack_1 14 rfl rfl)
theorem dX1_sortBySlack_40 : decode cX1_sortBySlack 40 = .ok (.invokevirtual 233, 3) := dk_182 0 233 (dk_at dksX1_sortBySlack_1 16 rfl rfl)
theorem dX1_sortBySlack_43 : decode cX1_sortBySlack 43 = .ok (.checkcast 132, 3) := dk_192 0 132 (dk_at dksX1_sortBySlack_1 19 rfl rfl)
theorem dX1_sortBySlack_46 : decode cX1_sortBySlack 46 = .ok (.invokevirtual 246, 3) := dk_182 0 246 (dk_at dksX1_sortBySlack_2 0 rfl rfl)
theorem dX1_sortBySlack_49 : decode cX1_sortBySlack 49 = .ok (.aload_n 1, 1) := dk_43 (dk_at dksX1_sortBySlack_2 3 rfl rfl)
theorem dX1_sortBySlack_50 : decode cX1_sortBySlack 50 = .ok (.iload 4, 2) := dk_21 4 (dk_at dksX1_sortBySlack_2 4 rfl rfl)
theorem dX1_sortBySlack_52 : decode cX1_sortBySlack 52 = .ok (.iaload, 1) := dk_46 (dk_at dksX1_sortBySlack_2 6 rfl rfl)
theorem dX1_sortBySlack_53 : decode cX1_sortBySlack 53 = .ok (.isub, 1) := dk_100 (dk_at dksX1_sortBySlack_2 7 rfl rfl)
theorem dX1_sortBySlack_54 : decode cX1_sortBySlack 54 = .ok (.iastore, 1) := dk_79 (dk_at dksX1_sortBySlack_2 8 rfl rfl)
theorem dX1_sortBySlack_55 : decode cX1_sortBySlack 55 = .ok (.iload 4, 2) := dk_21 4 (dk_at dksX1_sortBySlack_2 9 rfl rfl)
theorem dX1_sortBySlack_57 : decode cX1_sortBySlack 57 = .ok (.istore 5, 2) := dk_54 5 (dk_at dksX1_sortBySlack_2 11 rfl rfl)
theorem dX1_sortBySlack_59 : decode cX1_sortBySlack 59 = .ok (.iload 5, 2) := dk_21 5 (dk_at dksX1_sortBySlack_2 13 rfl rfl)
theorem dX1_sortBySlack_61 : decode cX1_sortBySlack 61 = .ok (.ifCond .le 34, 3) := dk_158 0 34 (dk_at dksX1_sortBySlack_2 15 rfl rfl)
theorem dX1_sortBySlack_64 : decode cX1_sortBySlack 64 = .ok (.aload_n 2, 1) := dk_44 (dk_at dksX1_sortBySlack_2 18 rfl rfl)
theorem dX1_sortBySlack_65 : decode cX1_sortBySlack 65 = .ok (.iload 4, 2) := dk_21 4 (dk_at dksX1_sortBySlack_2 19 rfl rfl)
theorem dX1_sortBySlack_67 : decode cX1_sortBySlack 67 = .ok (.iaload, 1) := dk_46 (dk_at dksX1_sortBySlack_2 21 rfl rfl)
theorem dX1_sortBySlack_68 : decode cX1_sortBySlack 68 = .ok (.aload_n 2, 1) := dk_44 (dk_at dksX1_sortBySlack_2 22 rfl rfl)
theorem dX1_sortBySlack_69 : decode cX1_sortBySlack 69 = .ok (.aload_n 3, 1) := dk_45 (dk_at dksX1_sortBySlack_2 23 rfl rfl)
theorem dX1_sortBySlack_70 : decode cX1_sortBySlack 70 = .ok (.iload 5, 2) := dk_21 5 (dk_at dksX1_sortBySlack_3 0 rfl rfl)
theorem dX1_sortBySlack_72 : decode cX1_sortBySlack 72 = .ok (.iconst 1, 1) := dk_4 (dk_at dksX1_sortBySlack_3 2 rfl rfl)
theorem dX1_sortBySlack_73 : decode cX1_sortBySlack 73 = .ok (.isub, 1) := dk_100 (dk_at dksX1_sortBySlack_3 3 rfl rfl)
theorem dX1_sortBySlack_74 : decode cX1_sortBySlack 74 = .ok (.iaload, 1) := dk_46 (dk_at dksX1_sortBySlack_3 4 rfl rfl)
theorem dX1_sortBySlack_75 : decode cX1_sortBySlack 75 = .ok (.iaload, 1) := dk_46 (dk_at dksX1_sortBySlack_3 5 rfl rfl)
theorem dX1_sortBySlack_76 : decode cX1_sortBySlack 76 = .ok (.if_icmp .ge 19, 3) := dk_162 0 19 (dk_at dksX1_sortBySlack_3 6 rfl rfl)
theorem dX1_sortBySlack_79 : decode cX1_sortBySlack 79 = .ok (.aload_n 3, 1) := dk_45 (dk_at dksX1_sortBySlack_3 9 rfl rfl)
theorem dX1_sortBySlack_80 : decode cX1_sortBySlack 80 = .ok (.iload 5, 2) := dk_21 5 (dk_at dksX1_sortBySlack_3 10 rfl rfl)
theorem dX1_sortBySlack_82 : decode cX1_sortBySlack 82 = .ok (.aload_n 3, 1) := dk_45 (dk_at dksX1_sortBySlack_3 12 rfl rfl)
theorem dX1_sortBySlack_83 : decode cX1_sortBySlack 83 = .ok (.iload 5, 2) := dk_21 5 (dk_at dksX1_sortBySlack_3 13 rfl rfl)
theorem dX1_sortBySlack_85 : decode cX1_sortBySlack 85 = .ok (.iconst 1, 1) := dk_4 (dk_at dksX1_sortBySlack_3 15 rfl rfl)
theorem dX1_sortBySlack_86 : decode cX1_sortBySlack 86 = .ok (.isub, 1) := dk_100 (dk_at dksX1_sortBySlack_3 16 rfl rfl)
theorem dX1_sortBySlack_87 : decode cX1_sortBySlack 87 = .ok (.iaload, 1) := dk_46 (dk_at dksX1_sortBySlack_3 17 rfl rfl)
theorem dX1_sortBySlack_88 : decode cX1_sortBySlack 88 = .ok (.iastore, 1) := dk_79 (dk_at dksX1_sortBySlack_3 18 rfl rfl)
theorem dX1_sortBySlack_89 : decode cX1_sortBySlack 89 = .ok (.iinc 5 (-1), 3) := dk_132 5 255 (dk_at dksX1_sortBySlack_3 19 rfl rfl)
theorem dX1_sortBySlack_92 : decode cX1_sortBySlack 92 = .ok (.goto (-33), 3) := dk_167 255 223 (dk_at dksX1_sortBySlack_4 0 rfl rfl)
theorem dX1_sortBySlack_95 : decode cX1_sortBySlack 95 = .ok (.aload_n 3, 1) := dk_45 (dk_at dksX1_sortBySlack_4 3 rfl rfl)
theorem dX1_sortBySlack_96 : decode cX1_sortBySlack 96 = .ok (.iload 5, 2) := dk_21 5 (dk_at dksX1_sortBySlack_4 4 rfl rfl)
theorem dX1_sortBySlack_98 : decode cX1_sortBySlack 98 = .ok (.iload 4, 2) := dk_21 4 (dk_at dksX1_sortBySlack_4 6 rfl rfl)
theorem dX1_sortBySlack_100 : decode cX1_sortBySlack 100 = .ok (.iastore, 1) := dk_79 (dk_at dksX1_sortBySlack_4 8 rfl rfl)
theorem dX1_sortBySlack_101 : decode cX1_sortBySlack 101 = .ok (.iinc 4 1, 3) := dk_132 4 1 (dk_at dksX1_sortBySlack_4 9 rfl rfl)
theorem dX1_sortBySlack_104 : decode cX1_sortBySlack 104 = .ok (.goto (-83), 3) := dk_167 255 173 (dk_at dksX1_sortBySlack_4 12 rfl rfl)
theorem dX1_sortBySlack_107 : decode cX1_sortBySlack 107 = .ok (.aload_n 3, 1) := dk_45 (dk_at dksX1_sortBySlack_4 15 rfl rfl)
theorem dX1_sortBySlack_108 : decode cX1_sortBySlack 108 = .ok (.areturn, 1) := dk_176 (dk_at dksX1_sortBySlack_4 16 rfl rfl)
abbrev cX1_blockBySlack : ByteArray := prog_1_method_63_code
def yX1_blockBySlack : MethodName := ⟨RX1, "blockBySlack", "(I)I"⟩
def dkwX1_blockBySlack_0 : List UInt8 := [42, 27, 182, 1, 14, 172]
abbrev dktX1_blockBySlack_0 : List UInt8 := dkwX1_blockBySlack_0 ++ []
theorem dksX1_blockBySlack_0 : cX1_blockBySlack.data.toList.drop 0 = dktX1_blockBySlack_0 := by decide +kernel
theorem dX1_blockBySlack_0 : decode cX1_blockBySlack 0 = .ok (.aload_n 0, 1) := dk_42 (dk_at dksX1_blockBySlack_0 0 rfl rfl)
theorem dX1_blockBySlack_1 : decode cX1_blockBySlack 1 = .ok (.iload_n 1, 1) := dk_27 (dk_at dksX1_blockBySlack_0 1 rfl rfl)
theorem dX1_blockBySlack_2 : decode cX1_blockBySlack 2 = .ok (.invokevirtual 270, 3) := dk_182 1 14 (dk_at dksX1_blockBySlack_0 2 rfl rfl)
theorem dX1_blockBySlack_5 : decode cX1_blockBySlack 5 = .ok (.ireturn, 1) := dk_172 (dk_at dksX1_blockBySlack_0 5 rfl rfl)
abbrev cX1_level : ByteArray := prog_1_method_64_code
def yX1_level : MethodName := ⟨RX1, "level", "(I)I"⟩
def dkwX1_level_0 : List UInt8 := [42, 180, 0, 10, 42, 27, 182, 0, 142, 182, 1, 20, 172]
abbrev dktX1_level_0 : List UInt8 := dkwX1_level_0 ++ []
theorem dksX1_level_0 : cX1_level.data.toList.drop 0 = dktX1_level_0 := by decide +kernel
theorem dX1_level_0 : decode cX1_level 0 = .ok (.aload_n 0, 1) := dk_42 (dk_at dksX1_level_0 0 rfl rfl)
theorem dX1_level_1 : decode cX1_level 1 = .ok (.getfield 10, 3) := dk_180 0 10 (dk_at dksX1_level_0 1 rfl rfl)
theorem dX1_level_4 : decode cX1_level 4 = .ok (.aload_n 0, 1) := dk_42 (dk_at dksX1_level_0 4 rfl rfl)
theorem dX1_level_5 : decode cX1_level 5 = .ok (.iload_n 1, 1) := dk_27 (dk_at dksX1_level_0 5 rfl rfl)
theorem dX1_level_6 : decode cX1_level 6 = .ok (.invokevirtual 142, 3) := dk_182 0 142 (dk_at dksX1_level_0 6 rfl rfl)
theorem dX1_level_9 : decode cX1_level 9 = .ok (.invokevirtual 276, 3) := dk_182 1 20 (dk_at dksX1_level_0 9 rfl rfl)
theorem dX1_level_12 : decode cX1_level 12 = .ok (.ireturn, 1) := dk_172 (dk_at dksX1_level_0 12 rfl rfl)
abbrev cX1_isAbove : ByteArray := prog_1_method_66_code
def yX1_isAbove : MethodName := ⟨RX1, "isAbove", "(II)Z"⟩
def dkwX1_isAbove_0 : List UInt8 := [42, 27, 182, 0, 142, 78, 42, 180, 0, 10, 45, 42, 28, 182, 0, 142, 182, 1, 36, 172]
abbrev dktX1_isAbove_0 : List UInt8 := dkwX1_isAbove_0 ++ []
theorem dksX1_isAbove_0 : cX1_isAbove.data.toList.drop 0 = dktX1_isAbove_0 := by decide +kernel
theorem dX1_isAbove_0 : decode cX1_isAbove 0 = .ok (.aload_n 0, 1) := dk_42 (dk_at dksX1_isAbove_0 0 rfl rfl)
theorem dX1_isAbove_1 : decode cX1_isAbove 1 = .ok (.iload_n 1, 1) := dk_27 (dk_at dksX1_isAbove_0 1 rfl rfl)
theorem dX1_isAbove_2 : decode cX1_isAbove 2 = .ok (.invokevirtual 142, 3) := dk_182 0 142 (dk_at dksX1_isAbove_0 2 rfl rfl)
theorem dX1_isAbove_5 : decode cX1_isAbove 5 = .ok (.astore_n 3, 1) := dk_78 (dk_at dksX1_isAbove_0 5 rfl rfl)
theorem dX1_isAbove_6 : decode cX1_isAbove 6 = .ok (.aload_n 0, 1) := dk_42 (dk_at dksX1_isAbove_0 6 rfl rfl)
theorem dX1_isAbove_7 : decode cX1_isAbove 7 = .ok (.getfield 10, 3) := dk_180 0 10 (dk_at dksX1_isAbove_0 7 rfl rfl)
theorem dX1_isAbove_10 : decode cX1_isAbove 10 = .ok (.aload_n 3, 1) := dk_45 (dk_at dksX1_isAbove_0 10 rfl rfl)
theorem dX1_isAbove_11 : decode cX1_isAbove 11 = .ok (.aload_n 0, 1) := dk_42 (dk_at dksX1_isAbove_0 11 rfl rfl)
theorem dX1_isAbove_12 : decode cX1_isAbove 12 = .ok (.iload_n 2, 1) := dk_28 (dk_at dksX1_isAbove_0 12 rfl rfl)
theorem dX1_isAbove_13 : decode cX1_isAbove 13 = .ok (.invokevirtual 142, 3) := dk_182 0 142 (dk_at dksX1_isAbove_0 13 rfl rfl)
theorem dX1_isAbove_16 : decode cX1_isAbove 16 = .ok (.invokevirtual 292, 3) := dk_182 1 36 (dk_at dksX1_isAbove_0 16 rfl rfl)
theorem dX1_isAbove_19 : decode cX1_isAbove 19 = .ok (.ireturn, 1) := dk_172 (dk_at dksX1_isAbove_0 19 rfl rfl)
abbrev cX1_countAbove : ByteArray := prog_1_method_67_code
def yX1_countAbove : MethodName := ⟨RX1, "countAbove", "(I)I"⟩
def dkwX1_countAbove_0 : List UInt8 := [42, 27, 182, 0, 142, 77, 42, 180, 0, 10, 42, 44, 186, 1, 40, 0, 0, 182, 0, 196, 172]
abbrev dktX1_countAbove_0 : List UInt8 := dkwX1_countAbove_0 ++ []
theorem dksX1_countAbove_0 : cX1_countAbove.data.toList.drop 0 = dktX1_countAbove_0 := by decide +kernel
theorem dX1_countAbove_0 : decode cX1_countAbove 0 = .ok (.aload_n 0, 1) := dk_42 (dk_at dksX1_countAbove_0 0 rfl rfl)
theorem dX1_countAbove_1 : decode cX1_countAbove 1 = .ok (.iload_n 1, 1) := dk_27 (dk_at dksX1_countAbove_0 1 rfl rfl)
theorem dX1_countAbove_2 : decode cX1_countAbove 2 = .ok (.invokevirtual 142, 3) := dk_182 0 142 (dk_at dksX1_countAbove_0 2 rfl rfl)
theorem dX1_countAbove_5 : decode cX1_countAbove 5 = .ok (.astore_n 2, 1) := dk_77 (dk_at dksX1_countAbove_0 5 rfl rfl)
theorem dX1_countAbove_6 : decode cX1_countAbove 6 = .ok (.aload_n 0, 1) := dk_42 (dk_at dksX1_countAbove_0 6 rfl rfl)
theorem dX1_countAbove_7 : decode cX1_countAbove 7 = .ok (.getfield 10, 3) := dk_180 0 10 (dk_at dksX1_countAbove_0 7 rfl rfl)
theorem dX1_countAbove_10 : decode cX1_countAbove 10 = .ok (.aload_n 0, 1) := dk_42 (dk_at dksX1_countAbove_0 10 rfl rfl)
theorem dX1_countAbove_11 : decode cX1_countAbove 11 = .ok (.aload_n 2, 1) := dk_44 (dk_at dksX1_countAbove_0 11 rfl rfl)
theorem dX1_countAbove_12 : decode cX1_countAbove 12 = .ok (.invokedynamic 296, 5) := by decide +kernel
theorem dX1_countAbove_17 : decode cX1_countAbove 17 = .ok (.invokevirtual 196, 3) := dk_182 0 196 (dk_at dksX1_countAbove_0 17 rfl rfl)
theorem dX1_countAbove_20 : decode cX1_countAbove 20 = .ok (.ireturn, 1) := dk_172 (dk_at dksX1_countAbove_0 20 rfl rfl)
abbrev cX1_lambda_countAbove_3 : ByteArray := prog_1_method_95_code
def yX1_lambda_countAbove_3 : MethodName := ⟨RX1, "lambda$countAbove$3", "(LFortPlanner$Block;LFortPlanner$Block;)Z"⟩
def dkwX1_lambda_countAbove_3_0 : List UInt8 := [42, 180, 0, 10, 44, 43, 182, 1, 36, 172]
abbrev dktX1_lambda_countAbove_3_0 : List UInt8 := dkwX1_lambda_countAbove_3_0 ++ []
theorem dksX1_lambda_countAbove_3_0 : cX1_lambda_countAbove_3.data.toList.drop 0 = dktX1_lambda_countAbove_3_0 := by decide +kernel
theorem dX1_lambda_countAbove_3_0 : decode cX1_lambda_countAbove_3 0 = .ok (.aload_n 0, 1) := dk_42 (dk_at dksX1_lambda_countAbove_3_0 0 rfl rfl)
theorem dX1_lambda_countAbove_3_1 : decode cX1_lambda_countAbove_3 1 = .ok (.getfield 10, 3) := dk_180 0 10 (dk_at dksX1_lambda_countAbove_3_0 1 rfl rfl)
theorem dX1_lambda_countAbove_3_4 : decode cX1_lambda_countAbove_3 4 = .ok (.aload_n 2, 1) := dk_44 (dk_at dksX1_lambda_countAbove_3_0 4 rfl rfl)
theorem dX1_lambda_countAbove_3_5 : decode cX1_lambda_countAbove_3 5 = .ok (.aload_n 1, 1) := dk_43 (dk_at dksX1_lambda_countAbove_3_0 5 rfl rfl)
theorem dX1_lambda_countAbove_3_6 : decode cX1_lambda_countAbove_3 6 = .ok (.invokevirtual 292, 3) := dk_182 1 36 (dk_at dksX1_lambda_countAbove_3_0 6 rfl rfl)
theorem dX1_lambda_countAbove_3_9 : decode cX1_lambda_countAbove_3 9 = .ok (.ireturn, 1) := dk_172 (dk_at dksX1_lambda_countAbove_3_0 9 rfl rfl)
abbrev cX1_height : ByteArray := prog_1_method_28_code
def yX1_height : MethodName := ⟨RX1, "height", "(I)I"⟩
def dkwX1_height_0 : List UInt8 := [27, 184, 0, 159, 42, 180, 0, 10, 27, 182, 0, 188, 172]
abbrev dktX1_height_0 : List UInt8 := dkwX1_height_0 ++ []
theorem dksX1_height_0 : cX1_height.data.toList.drop 0 = dktX1_height_0 := by decide +kernel
theorem dX1_height_0 : decode cX1_height 0 = .ok (.iload_n 1, 1) := dk_27 (dk_at dksX1_height_0 0 rfl rfl)
theorem dX1_height_1 : decode cX1_height 1 = .ok (.invokestatic 159, 3) := dk_184 0 159 (dk_at dksX1_height_0 1 rfl rfl)
theorem dX1_height_4 : decode cX1_height 4 = .ok (.aload_n 0, 1) := dk_42 (dk_at dksX1_height_0 4 rfl rfl)
theorem dX1_height_5 : decode cX1_height 5 = .ok (.getfield 10, 3) := dk_180 0 10 (dk_at dksX1_height_0 5 rfl rfl)
theorem dX1_height_8 : decode cX1_height 8 = .ok (.iload_n 1, 1) := dk_27 (dk_at dksX1_height_0 8 rfl rfl)
theorem dX1_height_9 : decode cX1_height 9 = .ok (.invokevirtual 188, 3) := dk_182 0 188 (dk_at dksX1_height_0 9 rfl rfl)
theorem dX1_height_12 : decode cX1_height 12 = .ok (.ireturn, 1) := dk_172 (dk_at dksX1_height_0 12 rfl rfl)
abbrev cX1_holes : ByteArray := prog_1_method_32_code
def yX1_holes : MethodName := ⟨RX1, "holes", "(I)I"⟩
def dkwX1_holes_0 : List UInt8 := [27, 184, 0, 159, 42, 27, 182, 0, 214, 172]
abbrev dktX1_holes_0 : List UInt8 := dkwX1_holes_0 ++ []
theorem dksX1_holes_0 : cX1_holes.data.toList.drop 0 = dktX1_holes_0 := by decide +kernel
theorem dX1_holes_0 : decode cX1_holes 0 = .ok (.iload_n 1, 1) := dk_27 (dk_at dksX1_holes_0 0 rfl rfl)
theorem dX1_holes_1 : decode cX1_holes 1 = .ok (.invokestatic 159, 3) := dk_184 0 159 (dk_at dksX1_holes_0 1 rfl rfl)
theorem dX1_holes_4 : decode cX1_holes 4 = .ok (.aload_n 0, 1) := dk_42 (dk_at dksX1_holes_0 4 rfl rfl)
theorem dX1_holes_5 : decode cX1_holes 5 = .ok (.iload_n 1, 1) := dk_27 (dk_at dksX1_holes_0 5 rfl rfl)
theorem dX1_holes_6 : decode cX1_holes 6 = .ok (.invokevirtual 214, 3) := dk_182 0 214 (dk_at dksX1_holes_0 6 rfl rfl)
theorem dX1_holes_9 : decode cX1_holes 9 = .ok (.ireturn, 1) := dk_172 (dk_at dksX1_holes_0 9 rfl rfl)
abbrev cX1_holesByHeights : ByteArray := prog_1_method_33_code
def yX1_holesByHeights : MethodName := ⟨RX1, "holesByHeights", "(I)I"⟩
def dkwX1_holesByHeights_0 : List UInt8 := [27, 184, 0, 159, 42, 27, 182, 0, 217, 172]
abbrev dktX1_holesByHeights_0 : List UInt8 := dkwX1_holesByHeights_0 ++ []
theorem dksX1_holesByHeights_0 : cX1_holesByHeights.data.toList.drop 0 = dktX1_holesByHeights_0 := by decide +kernel
theorem dX1_holesByHeights_0 : decode cX1_holesByHeights 0 = .ok (.iload_n 1, 1) := dk_27 (dk_at dksX1_holesByHeights_0 0 rfl rfl)
theorem dX1_holesByHeights_1 : decode cX1_holesByHeights 1 = .ok (.invokestatic 159, 3) := dk_184 0 159 (dk_at dksX1_holesByHeights_0 1 rfl rfl)
theorem dX1_holesByHeights_4 : decode cX1_holesByHeights 4 = .ok (.aload_n 0, 1) := dk_42 (dk_at dksX1_holesByHeights_0 4 rfl rfl)
theorem dX1_holesByHeights_5 : decode cX1_holesByHeights 5 = .ok (.iload_n 1, 1) := dk_27 (dk_at dksX1_holesByHeights_0 5 rfl rfl)
theorem dX1_holesByHeights_6 : decode cX1_holesByHeights 6 = .ok (.invokevirtual 217, 3) := dk_182 0 217 (dk_at dksX1_holesByHeights_0 6 rfl rfl)
theorem dX1_holesByHeights_9 : decode cX1_holesByHeights 9 = .ok (.ireturn, 1) := dk_172 (dk_at dksX1_holesByHeights_0 9 rfl rfl)
abbrev cX1_zone : ByteArray := prog_1_method_36_code
def yX1_zone : MethodName := ⟨RX1, "zone", "(I)C"⟩
def dkwX1_zone_0 : List UInt8 := [27, 184, 0, 159, 42, 180, 0, 10, 180, 0, 169, 27, 50, 180, 0, 173, 172]
abbrev dktX1_zone_0 : List UInt8 := dkwX1_zone_0 ++ []
theorem dksX1_zone_0 : cX1_zone.data.toList.drop 0 = dktX1_zone_0 := by decide +kernel
theorem dX1_zone_0 : decode cX1_zone 0 = .ok (.iload_n 1, 1) := dk_27 (dk_at dksX1_zone_0 0 rfl rfl)
theorem dX1_zone_1 : decode cX1_zone 1 = .ok (.invokestatic 159, 3) := dk_184 0 159 (dk_at dksX1_zone_0 1 rfl rfl)
theorem dX1_zone_4 : decode cX1_zone 4 = .ok (.aload_n 0, 1) := dk_42 (dk_at dksX1_zone_0 4 rfl rfl)
theorem dX1_zone_5 : decode cX1_zone 5 = .ok (.getfield 10, 3) := dk_180 0 10 (dk_at dksX1_zone_0 5 rfl rfl)
theorem dX1_zone_8 : decode cX1_zone 8 = .ok (.getfield 169, 3) := dk_180 0 169 (dk_at dksX1_zone_0 8 rfl rfl)
theorem dX1_zone_11 : decode cX1_zone 11 = .ok (.iload_n 1, 1) := dk_27 (dk_at dksX1_zone_0 11 rfl rfl)
theorem dX1_zone_12 : decode cX1_zone 12 = .ok (.aaload, 1) := dk_50 (dk_at dksX1_zone_0 12 rfl rfl)
theorem dX1_zone_13 : decode cX1_zone 13 = .ok (.getfield 173, 3) := dk_180 0 173 (dk_at dksX1_zone_0 13 rfl rfl)
theorem dX1_zone_16 : decode cX1_zone 16 = .ok (.ireturn, 1) := dk_172 (dk_at dksX1_zone_0 16 rfl rfl)
abbrev cX1_hasTorch : ByteArray := prog_1_method_37_code
def yX1_hasTorch : MethodName := ⟨RX1, "hasTorch", "(I)Z"⟩
def dkwX1_hasTorch_0 : List UInt8 := [27, 184, 0, 159, 42, 180, 0, 10, 180, 0, 177, 27, 51, 172]
abbrev dktX1_hasTorch_0 : List UInt8 := dkwX1_hasTorch_0 ++ []
theorem dksX1_hasTorch_0 : cX1_hasTorch.data.toList.drop 0 = dktX1_hasTorch_0 := by decide +kernel
theorem dX1_hasTorch_0 : decode cX1_hasTorch 0 = .ok (.iload_n 1, 1) := dk_27 (dk_at dksX1_hasTorch_0 0 rfl rfl)
theorem dX1_hasTorch_1 : decode cX1_hasTorch 1 = .ok (.invokestatic 159, 3) := dk_184 0 159 (dk_at dksX1_hasTorch_0 1 rfl rfl)
theorem dX1_hasTorch_4 : decode cX1_hasTorch 4 = .ok (.aload_n 0, 1) := dk_42 (dk_at dksX1_hasTorch_0 4 rfl rfl)
theorem dX1_hasTorch_5 : decode cX1_hasTorch 5 = .ok (.getfield 10, 3) := dk_180 0 10 (dk_at dksX1_hasTorch_0 5 rfl rfl)
theorem dX1_hasTorch_8 : decode cX1_hasTorch 8 = .ok (.getfield 177, 3) := dk_180 0 177 (dk_at dksX1_hasTorch_0 8 rfl rfl)
theorem dX1_hasTorch_11 : decode cX1_hasTorch 11 = .ok (.iload_n 1, 1) := dk_27 (dk_at dksX1_hasTorch_0 11 rfl rfl)
theorem dX1_hasTorch_12 : decode cX1_hasTorch 12 = .ok (.baload, 1) := dk_51 (dk_at dksX1_hasTorch_0 12 rfl rfl)
theorem dX1_hasTorch_13 : decode cX1_hasTorch 13 = .ok (.ireturn, 1) := dk_172 (dk_at dksX1_hasTorch_0 13 rfl rfl)
abbrev cX1_isLit : ByteArray := prog_1_method_38_code
def yX1_isLit : MethodName := ⟨RX1, "isLit", "(I)Z"⟩
def dkwX1_isLit_0 : List UInt8 := [27, 184, 0, 159, 42, 180, 0, 10, 27, 182, 0, 220, 172]
abbrev dktX1_isLit_0 : List UInt8 := dkwX1_isLit_0 ++ []
theorem dksX1_isLit_0 : cX1_isLit.data.toList.drop 0 = dktX1_isLit_0 := by decide +kernel
theorem dX1_isLit_0 : decode cX1_isLit 0 = .ok (.iload_n 1, 1) := dk_27 (dk_at dksX1_isLit_0 0 rfl rfl)
theorem dX1_isLit_1 : decode cX1_isLit 1 = .ok (.invokestatic 159, 3) := dk_184 0 159 (dk_at dksX1_isLit_0 1 rfl rfl)
theorem dX1_isLit_4 : decode cX1_isLit 4 = .ok (.aload_n 0, 1) := dk_42 (dk_at dksX1_isLit_0 4 rfl rfl)
theorem dX1_isLit_5 : decode cX1_isLit 5 = .ok (.getfield 10, 3) := dk_180 0 10 (dk_at dksX1_isLit_0 5 rfl rfl)
theorem dX1_isLit_8 : decode cX1_isLit 8 = .ok (.iload_n 1, 1) := dk_27 (dk_at dksX1_isLit_0 8 rfl rfl)
theorem dX1_isLit_9 : decode cX1_isLit 9 = .ok (.invokevirtual 220, 3) := dk_182 0 220 (dk_at dksX1_isLit_0 9 rfl rfl)
theorem dX1_isLit_12 : decode cX1_isLit 12 = .ok (.ireturn, 1) := dk_172 (dk_at dksX1_isLit_0 12 rfl rfl)
abbrev cX1_isLitByMaxima : ByteArray := prog_1_method_39_code
def yX1_isLitByMaxima : MethodName := ⟨RX1, "isLitByMaxima", "(I)Z"⟩
def dkwX1_isLitByMaxima_0 : List UInt8 := [27, 184, 0, 159, 42, 180, 0, 10, 182, 0, 223, 27, 51, 172]
abbrev dktX1_isLitByMaxima_0 : List UInt8 := dkwX1_isLitByMaxima_0 ++ []
theorem dksX1_isLitByMaxima_0 : cX1_isLitByMaxima.data.toList.drop 0 = dktX1_isLitByMaxima_0 := by decide +kernel
theorem dX1_isLitByMaxima_0 : decode cX1_isLitByMaxima 0 = .ok (.iload_n 1, 1) := dk_27 (dk_at dksX1_isLitByMaxima_0 0 rfl rfl)
theorem dX1_isLitByMaxima_1 : decode cX1_isLitByMaxima 1 = .ok (.invokestatic 159, 3) := dk_184 0 159 (dk_at dksX1_isLitByMaxima_0 1 rfl rfl)
theorem dX1_isLitByMaxima_4 : decode cX1_isLitByMaxima 4 = .ok (.aload_n 0, 1) := dk_42 (dk_at dksX1_isLitByMaxima_0 4 rfl rfl)
theorem dX1_isLitByMaxima_5 : decode cX1_isLitByMaxima 5 = .ok (.getfield 10, 3) := dk_180 0 10 (dk_at dksX1_isLitByMaxima_0 5 rfl rfl)
theorem dX1_isLitByMaxima_8 : decode cX1_isLitByMaxima 8 = .ok (.invokevirtual 223, 3) := dk_182 0 223 (dk_at dksX1_isLitByMaxima_0 8 rfl rfl)
theorem dX1_isLitByMaxima_11 : decode cX1_isLitByMaxima 11 = .ok (.iload_n 1, 1) := dk_27 (dk_at dksX1_isLitByMaxima_0 11 rfl rfl)
theorem dX1_isLitByMaxima_12 : decode cX1_isLitByMaxima 12 = .ok (.baload, 1) := dk_51 (dk_at dksX1_isLitByMaxima_0 12 rfl rfl)
theorem dX1_isLitByMaxima_13 : decode cX1_isLitByMaxima 13 = .ok (.ireturn, 1) := dk_172 (dk_at dksX1_isLitByMaxima_0 13 rfl rfl)
abbrev cX1_formatBlock : ByteArray := prog_1_method_78_code
def yX1_formatBlock : MethodName := ⟨RX1, "formatBlock", "(I)I"⟩
def dkwX1_formatBlock_5 : List UInt8 := [182, 1, 82, 44, 182, 0, 246, 182, 1, 86, 87, 42, 180, 0, 30, 182, 1, 94, 172]
abbrev dktX1_formatBlock_5 : List UInt8 := dkwX1_formatBlock_5 ++ []
def dkwX1_formatBlock_4 : List UInt8 := [16, 32, 182, 1, 82, 42, 180, 0, 10, 44, 182, 1, 3, 182, 1, 86, 87, 42, 180, 0, 30, 16, 47]
abbrev dktX1_formatBlock_4 : List UInt8 := dkwX1_formatBlock_4 ++ dktX1_formatBlock_5
def dkwX1_formatBlock_3 : List UInt8 := [180, 0, 249, 182, 1, 86, 87, 42, 180, 0, 30, 16, 42, 182, 1, 82, 44, 180, 0, 243, 182, 1, 86]
abbrev dktX1_formatBlock_3 : List UInt8 := dkwX1_formatBlock_3 ++ dktX1_formatBlock_4
def dkwX1_formatBlock_2 : List UInt8 := [180, 0, 30, 16, 43, 182, 1, 82, 44, 180, 0, 240, 182, 1, 86, 19, 1, 89, 182, 1, 91, 44]
abbrev dktX1_formatBlock_2 : List UInt8 := dkwX1_formatBlock_2 ++ dktX1_formatBlock_3
def dkwX1_formatBlock_1 : List UInt8 := [182, 1, 82, 44, 180, 0, 131, 182, 1, 86, 16, 91, 182, 1, 82, 44, 180, 0, 237, 182, 1, 86, 87, 42]
abbrev dktX1_formatBlock_1 : List UInt8 := dkwX1_formatBlock_1 ++ dktX1_formatBlock_2
def dkwX1_formatBlock_0 : List UInt8 := [42, 27, 182, 0, 142, 77, 42, 180, 0, 30, 3, 182, 1, 76, 42, 180, 0, 30, 44, 182, 1, 79]
abbrev dktX1_formatBlock_0 : List UInt8 := dkwX1_formatBlock_0 ++ dktX1_formatBlock_1
theorem dksX1_formatBlock_0 : cX1_formatBlock.data.toList.drop 0 = dktX1_formatBlock_0 := by decide +kernel
theorem dksX1_formatBlock_1 : cX1_formatBlock.data.toList.drop 22 = dktX1_formatBlock_1 := dk_seg dksX1_formatBlock_0 22 rfl rfl
theorem dksX1_formatBlock_2 : cX1_formatBlock.data.toList.drop 46 = dktX1_formatBlock_2 := dk_seg dksX1_formatBlock_1 24 rfl rfl
theorem dksX1_formatBlock_3 : cX1_formatBlock.data.toList.drop 68 = dktX1_formatBlock_3 := dk_seg dksX1_formatBlock_2 22 rfl rfl
theorem dksX1_formatBlock_4 : cX1_formatBlock.data.toList.drop 91 = dktX1_formatBlock_4 := dk_seg dksX1_formatBlock_3 23 rfl rfl
theorem dksX1_formatBlock_5 : cX1_formatBlock.data.toList.drop 114 = dktX1_formatBlock_5 := dk_seg dksX1_formatBlock_4 23 rfl rfl
theorem dX1_formatBlock_0 : decode cX1_formatBlock 0 = .ok (.aload_n 0, 1) := dk_42 (dk_at dksX1_formatBlock_0 0 rfl rfl)
theorem dX1_formatBlock_1 : decode cX1_formatBlock 1 = .ok (.iload_n 1, 1) := dk_27 (dk_at dksX1_formatBlock_0 1 rfl rfl)
theorem dX1_formatBlock_2 : decode cX1_formatBlock 2 = .ok (.invokevirtual 142, 3) := dk_182 0 142 (dk_at dksX1_formatBlock_0 2 rfl rfl)
theorem dX1_formatBlock_5 : decode cX1_formatBlock 5 = .ok (.astore_n 2, 1) := dk_77 (dk_at dksX1_formatBlock_0 5 rfl rfl)
theorem dX1_formatBlock_6 : decode cX1_formatBlock 6 = .ok (.aload_n 0, 1) := dk_42 (dk_at dksX1_formatBlock_0 6 rfl rfl)
theorem dX1_formatBlock_7 : decode cX1_formatBlock 7 = .ok (.getfield 30, 3) := dk_180 0 30 (dk_at dksX1_formatBlock_0 7 rfl rfl)
theorem dX1_formatBlock_10 : decode cX1_formatBlock 10 = .ok (.iconst 0, 1) := dk_3 (dk_at dksX1_formatBlock_0 10 rfl rfl)
theorem dX1_formatBlock_11 : decode cX1_formatBlock 11 = .ok (.invokevirtual 332, 3) := dk_182 1 76 (dk_at dksX1_formatBlock_0 11 rfl rfl)
theorem dX1_formatBlock_14 : decode cX1_formatBlock 14 = .ok (.aload_n 0, 1) := dk_42 (dk_at dksX1_formatBlock_0 14 rfl rfl)
theorem dX1_formatBlock_15 : decode cX1_formatBlock 15 = .ok (.getfield 30, 3) := dk_180 0 30 (dk_at dksX1_formatBlock_0 15 rfl rfl)
theorem dX1_formatBlock_18 : decode cX1_formatBlock 18 = .ok (.aload_n 2, 1) := dk_44 (dk_at dksX1_formatBlock_0 18 rfl rfl)
theorem dX1_formatBlock_19 : decode cX1_formatBlock 19 = .ok (.invokevirtual 335, 3) := dk_182 1 79 (dk_at dksX1_formatBlock_0 19 rfl rfl)
theorem dX1_formatBlock_22 : decode cX1_formatBlock 22 = .ok (.invokevirtual 338, 3) := dk_182 1 82 (dk_at dksX1_formatBlock_1 0 rfl rfl)
theorem dX1_formatBlock_25 : decode cX1_formatBlock 25 = .ok (.aload_n 2, 1) := dk_44 (dk_at dksX1_formatBlock_1 3 rfl rfl)
theorem dX1_formatBlock_26 : decode cX1_formatBlock 26 = .ok (.getfield 131, 3) := dk_180 0 131 (dk_at dksX1_formatBlock_1 4 rfl rfl)
theorem dX1_formatBlock_29 : decode cX1_formatBlock 29 = .ok (.invokevirtual 342, 3) := dk_182 1 86 (dk_at dksX1_formatBlock_1 7 rfl rfl)
theorem dX1_formatBlock_32 : decode cX1_formatBlock 32 = .ok (.bipush 91, 2) := dk_16 91 (dk_at dksX1_formatBlock_1 10 rfl rfl)
theorem dX1_formatBlock_34 : decode cX1_formatBlock 34 = .ok (.invokevirtual 338, 3) := dk_182 1 82 (dk_at dksX1_formatBlock_1 12 rfl rfl)
theorem dX1_formatBlock_37 : decode cX1_formatBlock 37 = .ok (.aload_n 2, 1) := dk_44 (dk_at dksX1_formatBlock_1 15 rfl rfl)
theorem dX1_formatBlock_38 : decode cX1_formatBlock 38 = .ok (.getfield 237, 3) := dk_180 0 237 (dk_at dksX1_formatBlock_1 16 rfl rfl)
theorem dX1_formatBlock_41 : decode cX1_formatBlock 41 = .ok (.invokevirtual 342, 3) := dk_182 1 86 (dk_at dksX1_formatBlock_1 19 rfl rfl)
theorem dX1_formatBlock_44 : decode cX1_formatBlock 44 = .ok (.pop, 1) := dk_87 (dk_at dksX1_formatBlock_1 22 rfl rfl)
theorem dX1_formatBlock_45 : decode cX1_formatBlock 45 = .ok (.aload_n 0, 1) := dk_42 (dk_at dksX1_formatBlock_1 23 rfl rfl)
theorem dX1_formatBlock_46 : decode cX1_formatBlock 46 = .ok (.getfield 30, 3) := dk_180 0 30 (dk_at dksX1_formatBlock_2 0 rfl rfl)
theorem dX1_formatBlock_49 : decode cX1_formatBlock 49 = .ok (.bipush 43, 2) := dk_16 43 (dk_at dksX1_formatBlock_2 3 rfl rfl)
theorem dX1_formatBlock_51 : decode cX1_formatBlock 51 = .ok (.invokevirtual 338, 3) := dk_182 1 82 (dk_at dksX1_formatBlock_2 5 rfl rfl)
theorem dX1_formatBlock_54 : decode cX1_formatBlock 54 = .ok (.aload_n 2, 1) := dk_44 (dk_at dksX1_formatBlock_2 8 rfl rfl)
theorem dX1_formatBlock_55 : decode cX1_formatBlock 55 = .ok (.getfield 240, 3) := dk_180 0 240 (dk_at dksX1_formatBlock_2 9 rfl rfl)
theorem dX1_formatBlock_58 : decode cX1_formatBlock 58 = .ok (.invokevirtual 342, 3) := dk_182 1 86 (dk_at dksX1_formatBlock_2 12 rfl rfl)
theorem dX1_formatBlock_61 : decode cX1_formatBlock 61 = .ok (.ldc_w 345, 3) := dk_19 1 89 (dk_at dksX1_formatBlock_2 15 rfl rfl)
theorem dX1_formatBlock_64 : decode cX1_formatBlock 64 = .ok (.invokevirtual 347, 3) := dk_182 1 91 (dk_at dksX1_formatBlock_2 18 rfl rfl)
theorem dX1_formatBlock_67 : decode cX1_formatBlock 67 = .ok (.aload_n 2, 1) := dk_44 (dk_at dksX1_formatBlock_2 21 rfl rfl)
theorem dX1_formatBlock_68 : decode cX1_formatBlock 68 = .ok (.getfield 249, 3) := dk_180 0 249 (dk_at dksX1_formatBlock_3 0 rfl rfl)
theorem dX1_formatBlock_71 : decode cX1_formatBlock 71 = .ok (.invokevirtual 342, 3) := dk_182 1 86 (dk_at dksX1_formatBlock_3 3 rfl rfl)
theorem dX1_formatBlock_74 : decode cX1_formatBlock 74 = .ok (.pop, 1) := dk_87 (dk_at dksX1_formatBlock_3 6 rfl rfl)
theorem dX1_formatBlock_75 : decode cX1_formatBlock 75 = .ok (.aload_n 0, 1) := dk_42 (dk_at dksX1_formatBlock_3 7 rfl rfl)
theorem dX1_formatBlock_76 : decode cX1_formatBlock 76 = .ok (.getfield 30, 3) := dk_180 0 30 (dk_at dksX1_formatBlock_3 8 rfl rfl)
theorem dX1_formatBlock_79 : decode cX1_formatBlock 79 = .ok (.bipush 42, 2) := dk_16 42 (dk_at dksX1_formatBlock_3 11 rfl rfl)
theorem dX1_formatBlock_81 : decode cX1_formatBlock 81 = .ok (.invokevirtual 338, 3) := dk_182 1 82 (dk_at dksX1_formatBlock_3 13 rfl rfl)
theorem dX1_formatBlock_84 : decode cX1_formatBlock 84 = .ok (.aload_n 2, 1) := dk_44 (dk_at dksX1_formatBlock_3 16 rfl rfl)
theorem dX1_formatBlock_85 : decode cX1_formatBlock 85 = .ok (.getfield 243, 3) := dk_180 0 243 (dk_at dksX1_formatBlock_3 17 rfl rfl)
theorem dX1_formatBlock_88 : decode cX1_formatBlock 88 = .ok (.invokevirtual 342, 3) := dk_182 1 86 (dk_at dksX1_formatBlock_3 20 rfl rfl)
theorem dX1_formatBlock_91 : decode cX1_formatBlock 91 = .ok (.bipush 32, 2) := dk_16 32 (dk_at dksX1_formatBlock_4 0 rfl rfl)
theorem dX1_formatBlock_93 : decode cX1_formatBlock 93 = .ok (.invokevirtual 338, 3) := dk_182 1 82 (dk_at dksX1_formatBlock_4 2 rfl rfl)
theorem dX1_formatBlock_96 : decode cX1_formatBlock 96 = .ok (.aload_n 0, 1) := dk_42 (dk_at dksX1_formatBlock_4 5 rfl rfl)
theorem dX1_formatBlock_97 : decode cX1_formatBlock 97 = .ok (.getfield 10, 3) := dk_180 0 10 (dk_at dksX1_formatBlock_4 6 rfl rfl)
theorem dX1_formatBlock_100 : decode cX1_formatBlock 100 = .ok (.aload_n 2, 1) := dk_44 (dk_at dksX1_formatBlock_4 9 rfl rfl)
theorem dX1_formatBlock_101 : decode cX1_formatBlock 101 = .ok (.invokevirtual 259, 3) := dk_182 1 3 (dk_at dksX1_formatBlock_4 10 rfl rfl)
theorem dX1_formatBlock_104 : decode cX1_formatBlock 104 = .ok (.invokevirtual 342, 3) := dk_182 1 86 (dk_at dksX1_formatBlock_4 13 rfl rfl)
theorem dX1_formatBlock_107 : decode cX1_formatBlock 107 = .ok (.pop, 1) := dk_87 (dk_at dksX1_formatBlock_4 16 rfl rfl)
theorem dX1_formatBlock_108 : decode cX1_formatBlock 108 = .ok (.aload_n 0, 1) := dk_42 (dk_at dksX1_formatBlock_4 17 rfl rfl)
theorem dX1_formatBlock_109 : decode cX1_formatBlock 109 = .ok (.getfield 30, 3) := dk_180 0 30 (dk_at dksX1_formatBlock_4 18 rfl rfl)
theorem dX1_formatBlock_112 : decode cX1_formatBlock 112 = .ok (.bipush 47, 2) := dk_16 47 (dk_at dksX1_formatBlock_4 21 rfl rfl)
theorem dX1_formatBlock_114 : decode cX1_formatBlock 114 = .ok (.invokevirtual 338, 3) := dk_182 1 82 (dk_at dksX1_formatBlock_5 0 rfl rfl)
theorem dX1_formatBlock_117 : decode cX1_formatBlock 117 = .ok (.aload_n 2, 1) := dk_44 (dk_at dksX1_formatBlock_5 3 rfl rfl)
theorem dX1_formatBlock_118 : decode cX1_formatBlock 118 = .ok (.invokevirtual 246, 3) := dk_182 0 246 (dk_at dksX1_formatBlock_5 4 rfl rfl)
theorem dX1_formatBlock_121 : decode cX1_formatBlock 121 = .ok (.invokevirtual 342, 3) := dk_182 1 86 (dk_at dksX1_formatBlock_5 7 rfl rfl)
theorem dX1_formatBlock_124 : decode cX1_formatBlock 124 = .ok (.pop, 1) := dk_87 (dk_at dksX1_formatBlock_5 10 rfl rfl)
theorem dX1_formatBlock_125 : decode cX1_formatBlock 125 = .ok (.aload_n 0, 1) := dk_42 (dk_at dksX1_formatBlock_5 11 rfl rfl)
theorem dX1_formatBlock_126 : decode cX1_formatBlock 126 = .ok (.getfield 30, 3) := dk_180 0 30 (dk_at dksX1_formatBlock_5 12 rfl rfl)
theorem dX1_formatBlock_129 : decode cX1_formatBlock 129 = .ok (.invokevirtual 350, 3) := dk_182 1 94 (dk_at dksX1_formatBlock_5 15 rfl rfl)
theorem dX1_formatBlock_132 : decode cX1_formatBlock 132 = .ok (.ireturn, 1) := dk_172 (dk_at dksX1_formatBlock_5 18 rfl rfl)
abbrev cX1_lineChar : ByteArray := prog_1_method_80_code
def yX1_lineChar : MethodName := ⟨RX1, "lineChar", "(I)C"⟩
def dkwX1_lineChar_1 : List UInt8 := [182, 1, 103, 172]
abbrev dktX1_lineChar_1 : List UInt8 := dkwX1_lineChar_1 ++ []
def dkwX1_lineChar_0 : List UInt8 := [27, 3, 42, 180, 0, 30, 182, 1, 94, 4, 100, 184, 0, 52, 184, 0, 99, 42, 180, 0, 30, 27]
abbrev dktX1_lineChar_0 : List UInt8 := dkwX1_lineChar_0 ++ dktX1_lineChar_1
theorem dksX1_lineChar_0 : cX1_lineChar.data.toList.drop 0 = dktX1_lineChar_0 := by decide +kernel
theorem dksX1_lineChar_1 : cX1_lineChar.data.toList.drop 22 = dktX1_lineChar_1 := dk_seg dksX1_lineChar_0 22 rfl rfl
theorem dX1_lineChar_0 : decode cX1_lineChar 0 = .ok (.iload_n 1, 1) := dk_27 (dk_at dksX1_lineChar_0 0 rfl rfl)
theorem dX1_lineChar_1 : decode cX1_lineChar 1 = .ok (.iconst 0, 1) := dk_3 (dk_at dksX1_lineChar_0 1 rfl rfl)
theorem dX1_lineChar_2 : decode cX1_lineChar 2 = .ok (.aload_n 0, 1) := dk_42 (dk_at dksX1_lineChar_0 2 rfl rfl)
theorem dX1_lineChar_3 : decode cX1_lineChar 3 = .ok (.getfield 30, 3) := dk_180 0 30 (dk_at dksX1_lineChar_0 3 rfl rfl)
theorem dX1_lineChar_6 : decode cX1_lineChar 6 = .ok (.invokevirtual 350, 3) := dk_182 1 94 (dk_at dksX1_lineChar_0 6 rfl rfl)
theorem dX1_lineChar_9 : decode cX1_lineChar 9 = .ok (.iconst 1, 1) := dk_4 (dk_at dksX1_lineChar_0 9 rfl rfl)
theorem dX1_lineChar_10 : decode cX1_lineChar 10 = .ok (.isub, 1) := dk_100 (dk_at dksX1_lineChar_0 10 rfl rfl)
theorem dX1_lineChar_11 : decode cX1_lineChar 11 = .ok (.invokestatic 52, 3) := dk_184 0 52 (dk_at dksX1_lineChar_0 11 rfl rfl)
theorem dX1_lineChar_14 : decode cX1_lineChar 14 = .ok (.invokestatic 99, 3) := dk_184 0 99 (dk_at dksX1_lineChar_0 14 rfl rfl)
theorem dX1_lineChar_17 : decode cX1_lineChar 17 = .ok (.aload_n 0, 1) := dk_42 (dk_at dksX1_lineChar_0 17 rfl rfl)
theorem dX1_lineChar_18 : decode cX1_lineChar 18 = .ok (.getfield 30, 3) := dk_180 0 30 (dk_at dksX1_lineChar_0 18 rfl rfl)
theorem dX1_lineChar_21 : decode cX1_lineChar 21 = .ok (.iload_n 1, 1) := dk_27 (dk_at dksX1_lineChar_0 21 rfl rfl)
theorem dX1_lineChar_22 : decode cX1_lineChar 22 = .ok (.invokevirtual 359, 3) := dk_182 1 103 (dk_at dksX1_lineChar_1 0 rfl rfl)
theorem dX1_lineChar_25 : decode cX1_lineChar 25 = .ok (.ireturn, 1) := dk_172 (dk_at dksX1_lineChar_1 3 rfl rfl)
abbrev cX1_append : ByteArray := prog_1_method_83_code
def yX1_append : MethodName := ⟨RX1, "append", "(C)I"⟩
def dkwX1_append_1 : List UInt8 := [167, 0, 4, 3, 184, 0, 121, 42, 180, 0, 26, 27, 182, 1, 82, 87, 42, 180, 0, 26, 182, 1, 94, 172]
abbrev dktX1_append_1 : List UInt8 := dkwX1_append_1 ++ []
def dkwX1_append_0 : List UInt8 := [27, 16, 32, 16, 126, 184, 0, 52, 184, 0, 102, 42, 180, 0, 26, 182, 1, 94, 16, 60, 162, 0, 7, 4]
abbrev dktX1_append_0 : List UInt8 := dkwX1_append_0 ++ dktX1_append_1
theorem dksX1_append_0 : cX1_append.data.toList.drop 0 = dktX1_append_0 := by decide +kernel
theorem dksX1_append_1 : cX1_append.data.toList.drop 24 = dktX1_append_1 := dk_seg dksX1_append_0 24 rfl rfl
theorem dX1_append_0 : decode cX1_append 0 = .ok (.iload_n 1, 1) := dk_27 (dk_at dksX1_append_0 0 rfl rfl)
theorem dX1_append_1 : decode cX1_append 1 = .ok (.bipush 32, 2) := dk_16 32 (dk_at dksX1_append_0 1 rfl rfl)
theorem dX1_append_3 : decode cX1_append 3 = .ok (.bipush 126, 2) := dk_16 126 (dk_at dksX1_append_0 3 rfl rfl)
theorem dX1_append_5 : decode cX1_append 5 = .ok (.invokestatic 52, 3) := dk_184 0 52 (dk_at dksX1_append_0 5 rfl rfl)
theorem dX1_append_8 : decode cX1_append 8 = .ok (.invokestatic 102, 3) := dk_184 0 102 (dk_at dksX1_append_0 8 rfl rfl)
theorem dX1_append_11 : decode cX1_append 11 = .ok (.aload_n 0, 1) := dk_42 (dk_at dksX1_append_0 11 rfl rfl)
theorem dX1_append_12 : decode cX1_append 12 = .ok (.getfield 26, 3) := dk_180 0 26 (dk_at dksX1_append_0 12 rfl rfl)
theorem dX1_append_15 : decode cX1_append 15 = .ok (.invokevirtual 350, 3) := dk_182 1 94 (dk_at dksX1_append_0 15 rfl rfl)
theorem dX1_append_18 : decode cX1_append 18 = .ok (.bipush 60, 2) := dk_16 60 (dk_at dksX1_append_0 18 rfl rfl)
theorem dX1_append_20 : decode cX1_append 20 = .ok (.if_icmp .ge 7, 3) := dk_162 0 7 (dk_at dksX1_append_0 20 rfl rfl)
theorem dX1_append_23 : decode cX1_append 23 = .ok (.iconst 1, 1) := dk_4 (dk_at dksX1_append_0 23 rfl rfl)
theorem dX1_append_24 : decode cX1_append 24 = .ok (.goto 4, 3) := dk_167 0 4 (dk_at dksX1_append_1 0 rfl rfl)
theorem dX1_append_27 : decode cX1_append 27 = .ok (.iconst 0, 1) := dk_3 (dk_at dksX1_append_1 3 rfl rfl)
theorem dX1_append_28 : decode cX1_append 28 = .ok (.invokestatic 121, 3) := dk_184 0 121 (dk_at dksX1_append_1 4 rfl rfl)
theorem dX1_append_31 : decode cX1_append 31 = .ok (.aload_n 0, 1) := dk_42 (dk_at dksX1_append_1 7 rfl rfl)
theorem dX1_append_32 : decode cX1_append 32 = .ok (.getfield 26, 3) := dk_180 0 26 (dk_at dksX1_append_1 8 rfl rfl)
theorem dX1_append_35 : decode cX1_append 35 = .ok (.iload_n 1, 1) := dk_27 (dk_at dksX1_append_1 11 rfl rfl)
theorem dX1_append_36 : decode cX1_append 36 = .ok (.invokevirtual 338, 3) := dk_182 1 82 (dk_at dksX1_append_1 12 rfl rfl)
theorem dX1_append_39 : decode cX1_append 39 = .ok (.pop, 1) := dk_87 (dk_at dksX1_append_1 15 rfl rfl)
theorem dX1_append_40 : decode cX1_append 40 = .ok (.aload_n 0, 1) := dk_42 (dk_at dksX1_append_1 16 rfl rfl)
theorem dX1_append_41 : decode cX1_append 41 = .ok (.getfield 26, 3) := dk_180 0 26 (dk_at dksX1_append_1 17 rfl rfl)
theorem dX1_append_44 : decode cX1_append 44 = .ok (.invokevirtual 350, 3) := dk_182 1 94 (dk_at dksX1_append_1 20 rfl rfl)
theorem dX1_append_47 : decode cX1_append 47 = .ok (.ireturn, 1) := dk_172 (dk_at dksX1_append_1 23 rfl rfl)
abbrev cX1_run : ByteArray := prog_1_method_84_code
def yX1_run : MethodName := ⟨RX1, "run", "()I"⟩
def dkwX1_run_2 : List UInt8 := [180, 1, 190, 182, 1, 193, 43, 180, 1, 190, 182, 0, 158, 172]
abbrev dktX1_run_2 : List UInt8 := dkwX1_run_2 ++ []
def dkwX1_run_1 : List UInt8 := [182, 1, 184, 154, 0, 19, 42, 43, 180, 1, 187, 181, 0, 33, 187, 0, 40, 89, 183, 0, 42, 191, 42, 43]
abbrev dktX1_run_1 : List UInt8 := dkwX1_run_1 ++ dktX1_run_2
def dkwX1_run_0 : List UInt8 := [187, 1, 175, 89, 42, 180, 0, 26, 182, 1, 177, 183, 1, 181, 76, 42, 180, 0, 26, 3, 182, 1, 76, 43]
abbrev dktX1_run_0 : List UInt8 := dkwX1_run_0 ++ dktX1_run_1
theorem dksX1_run_0 : cX1_run.data.toList.drop 0 = dktX1_run_0 := by decide +kernel
theorem dksX1_run_1 : cX1_run.data.toList.drop 24 = dktX1_run_1 := dk_seg dksX1_run_0 24 rfl rfl
theorem dksX1_run_2 : cX1_run.data.toList.drop 48 = dktX1_run_2 := dk_seg dksX1_run_1 24 rfl rfl
theorem dX1_run_0 : decode cX1_run 0 = .ok (.new 431, 3) := dk_187 1 175 (dk_at dksX1_run_0 0 rfl rfl)
theorem dX1_run_3 : decode cX1_run 3 = .ok (.dup, 1) := dk_89 (dk_at dksX1_run_0 3 rfl rfl)
theorem dX1_run_4 : decode cX1_run 4 = .ok (.aload_n 0, 1) := dk_42 (dk_at dksX1_run_0 4 rfl rfl)
theorem dX1_run_5 : decode cX1_run 5 = .ok (.getfield 26, 3) := dk_180 0 26 (dk_at dksX1_run_0 5 rfl rfl)
theorem dX1_run_8 : decode cX1_run 8 = .ok (.invokevirtual 433, 3) := dk_182 1 177 (dk_at dksX1_run_0 8 rfl rfl)
theorem dX1_run_11 : decode cX1_run 11 = .ok (.invokespecial 437, 3) := dk_183 1 181 (dk_at dksX1_run_0 11 rfl rfl)
theorem dX1_run_14 : decode cX1_run 14 = .ok (.astore_n 1, 1) := dk_76 (dk_at dksX1_run_0 14 rfl rfl)
theorem dX1_run_15 : decode cX1_run 15 = .ok (.aload_n 0, 1) := dk_42 (dk_at dksX1_run_0 15 rfl rfl)
theorem dX1_run_16 : decode cX1_run 16 = .ok (.getfield 26, 3) := dk_180 0 26 (dk_at dksX1_run_0 16 rfl rfl)
theorem dX1_run_19 : decode cX1_run 19 = .ok (.iconst 0, 1) := dk_3 (dk_at dksX1_run_0 19 rfl rfl)
theorem dX1_run_20 : decode cX1_run 20 = .ok (.invokevirtual 332, 3) := dk_182 1 76 (dk_at dksX1_run_0 20 rfl rfl)
theorem dX1_run_23 : decode cX1_run 23 = .ok (.aload_n 1, 1) := dk_43 (dk_at dksX1_run_0 23 rfl rfl)
theorem dX1_run_24 : decode cX1_run 24 = .ok (.invokevirtual 440, 3) := dk_182 1 184 (dk_at dksX1_run_1 0 rfl rfl)
theorem dX1_run_27 : decode cX1_run 27 = .ok (.ifCond .ne 19, 3) := dk_154 0 19 (dk_at dksX1_run_1 3 rfl rfl)
theorem dX1_run_30 : decode cX1_run 30 = .ok (.aload_n 0, 1) := dk_42 (dk_at dksX1_run_1 6 rfl rfl)
theorem dX1_run_31 : decode cX1_run 31 = .ok (.aload_n 1, 1) := dk_43 (dk_at dksX1_run_1 7 rfl rfl)
theorem dX1_run_32 : decode cX1_run 32 = .ok (.getfield 443, 3) := dk_180 1 187 (dk_at dksX1_run_1 8 rfl rfl)
theorem dX1_run_35 : decode cX1_run 35 = .ok (.putfield 33, 3) := dk_181 0 33 (dk_at dksX1_run_1 11 rfl rfl)
theorem dX1_run_38 : decode cX1_run 38 = .ok (.new 40, 3) := dk_187 0 40 (dk_at dksX1_run_1 14 rfl rfl)
theorem dX1_run_41 : decode cX1_run 41 = .ok (.dup, 1) := dk_89 (dk_at dksX1_run_1 17 rfl rfl)
theorem dX1_run_42 : decode cX1_run 42 = .ok (.invokespecial 42, 3) := dk_183 0 42 (dk_at dksX1_run_1 18 rfl rfl)
theorem dX1_run_45 : decode cX1_run 45 = .ok (.athrow, 1) := dk_191 (dk_at dksX1_run_1 21 rfl rfl)
theorem dX1_run_46 : decode cX1_run 46 = .ok (.aload_n 0, 1) := dk_42 (dk_at dksX1_run_1 22 rfl rfl)
theorem dX1_run_47 : decode cX1_run 47 = .ok (.aload_n 1, 1) := dk_43 (dk_at dksX1_run_1 23 rfl rfl)
theorem dX1_run_48 : decode cX1_run 48 = .ok (.getfield 446, 3) := dk_180 1 190 (dk_at dksX1_run_2 0 rfl rfl)
theorem dX1_run_51 : decode cX1_run 51 = .ok (.invokevirtual 449, 3) := dk_182 1 193 (dk_at dksX1_run_2 3 rfl rfl)
theorem dX1_run_54 : decode cX1_run 54 = .ok (.aload_n 1, 1) := dk_43 (dk_at dksX1_run_2 6 rfl rfl)
theorem dX1_run_55 : decode cX1_run 55 = .ok (.getfield 446, 3) := dk_180 1 190 (dk_at dksX1_run_2 7 rfl rfl)
theorem dX1_run_58 : decode cX1_run 58 = .ok (.invokevirtual 158, 3) := dk_182 0 158 (dk_at dksX1_run_2 10 rfl rfl)
theorem dX1_run_61 : decode cX1_run 61 = .ok (.ireturn, 1) := dk_172 (dk_at dksX1_run_2 13 rfl rfl)
abbrev cX1_executeAll : ByteArray := prog_1_method_82_code
def yX1_executeAll : MethodName := ⟨RX1, "executeAll", "(Ljava/util/ArrayList;)V"⟩
def dkwX1_executeAll_5 : List UInt8 := [177]
abbrev dktX1_executeAll_5 : List UInt8 := dkwX1_executeAll_5 ++ []
def dkwX1_executeAll_4 : List UInt8 := [25, 6, 191, 42, 180, 0, 10, 58, 4, 42, 44, 181, 0, 10, 42, 182, 0, 124, 42, 25, 4, 181, 0, 10]
abbrev dktX1_executeAll_4 : List UInt8 := dkwX1_executeAll_4 ++ dktX1_executeAll_5
def dkwX1_executeAll_3 : List UInt8 := [181, 0, 10, 42, 29, 181, 0, 37, 187, 0, 43, 89, 183, 0, 45, 191, 58, 6, 42, 3, 181, 0, 67]
abbrev dktX1_executeAll_3 : List UInt8 := dkwX1_executeAll_3 ++ dktX1_executeAll_4
def dkwX1_executeAll_2 : List UInt8 := [42, 25, 5, 182, 1, 171, 132, 3, 1, 167, 255, 225, 42, 3, 181, 0, 67, 167, 0, 33, 58, 4, 42, 44]
abbrev dktX1_executeAll_2 : List UInt8 := dkwX1_executeAll_2 ++ dktX1_executeAll_3
def dkwX1_executeAll_1 : List UInt8 := [58, 4, 25, 4, 185, 1, 163, 1, 0, 153, 0, 27, 25, 4, 185, 1, 168, 1, 0, 192, 1, 108, 58, 5]
abbrev dktX1_executeAll_1 : List UInt8 := dkwX1_executeAll_1 ++ dktX1_executeAll_2
def dkwX1_executeAll_0 : List UInt8 := [42, 180, 0, 10, 77, 3, 62, 42, 44, 182, 0, 71, 181, 0, 10, 42, 4, 181, 0, 67, 43, 182, 1, 159]
abbrev dktX1_executeAll_0 : List UInt8 := dkwX1_executeAll_0 ++ dktX1_executeAll_1
theorem dksX1_executeAll_0 : cX1_executeAll.data.toList.drop 0 = dktX1_executeAll_0 := by decide +kernel
theorem dksX1_executeAll_1 : cX1_executeAll.data.toList.drop 24 = dktX1_executeAll_1 := dk_seg dksX1_executeAll_0 24 rfl rfl
theorem dksX1_executeAll_2 : cX1_executeAll.data.toList.drop 48 = dktX1_executeAll_2 := dk_seg dksX1_executeAll_1 24 rfl rfl
theorem dksX1_executeAll_3 : cX1_executeAll.data.toList.drop 72 = dktX1_executeAll_3 := dk_seg dksX1_executeAll_2 24 rfl rfl
theorem dksX1_executeAll_4 : cX1_executeAll.data.toList.drop 95 = dktX1_executeAll_4 := dk_seg dksX1_executeAll_3 23 rfl rfl
theorem dksX1_executeAll_5 : cX1_executeAll.data.toList.drop 119 = dktX1_executeAll_5 := dk_seg dksX1_executeAll_4 24 rfl rfl
theorem dX1_executeAll_0 : decode cX1_executeAll 0 = .ok (.aload_n 0, 1) := dk_42 (dk_at dksX1_executeAll_0 0 rfl rfl)
theorem dX1_executeAll_1 : decode cX1_executeAll 1 = .ok (.getfield 10, 3) := dk_180 0 10 (dk_at dksX1_executeAll_0 1 rfl rfl)
theorem dX1_executeAll_4 : decode cX1_executeAll 4 = .ok (.astore_n 2, 1) := dk_77 (dk_at dksX1_executeAll_0 4 rfl rfl)
theorem dX1_executeAll_5 : decode cX1_executeAll 5 = .ok (.iconst 0, 1) := dk_3 (dk_at dksX1_executeAll_0 5 rfl rfl)
theorem dX1_executeAll_6 : decode cX1_executeAll 6 = .ok (.istore_n 3, 1) := dk_62 (dk_at dksX1_executeAll_0 6 rfl rfl)
theorem dX1_executeAll_7 : decode cX1_executeAll 7 = .ok (.aload_n 0, 1) := dk_42 (dk_at dksX1_executeAll_0 7 rfl rfl)
theorem dX1_executeAll_8 : decode cX1_executeAll 8 = .ok (.aload_n 2, 1) := dk_44 (dk_at dksX1_executeAll_0 8 rfl rfl)
theorem dX1_executeAll_9 : decode cX1_executeAll 9 = .ok (.invokevirtual 71, 3) := dk_182 0 71 (dk_at dksX1_executeAll_0 9 rfl rfl)
theorem dX1_executeAll_12 : decode cX1_executeAll 12 = .ok (.putfield 10, 3) := dk_181 0 10 (dk_at dksX1_executeAll_0 12 rfl rfl)
theorem dX1_executeAll_15 : decode cX1_executeAll 15 = .ok (.aload_n 0, 1) := dk_42 (dk_at dksX1_executeAll_0 15 rfl rfl)
theorem dX1_executeAll_16 : decode cX1_executeAll 16 = .ok (.iconst 1, 1) := dk_4 (dk_at dksX1_executeAll_0 16 rfl rfl)
theorem dX1_executeAll_17 : decode cX1_executeAll 17 = .ok (.putfield 67, 3) := dk_181 0 67 (dk_at dksX1_executeAll_0 17 rfl rfl)
theorem dX1_executeAll_20 : decode cX1_executeAll 20 = .ok (.aload_n 1, 1) := dk_43 (dk_at dksX1_executeAll_0 20 rfl rfl)
theorem dX1_executeAll_21 : decode cX1_executeAll 21 = .ok (.invokevirtual 415, 3) := dk_182 1 159 (dk_at dksX1_executeAll_0 21 rfl rfl)
theorem dX1_executeAll_24 : decode cX1_executeAll 24 = .ok (.astore 4, 2) := dk_58 4 (dk_at dksX1_executeAll_1 0 rfl rfl)
theorem dX1_executeAll_26 : decode cX1_executeAll 26 = .ok (.aload 4, 2) := dk_25 4 (dk_at dksX1_executeAll_1 2 rfl rfl)
theorem dX1_executeAll_28 : decode cX1_executeAll 28 = .ok (.invokeinterface 419 1, 5) := by decide +kernel
theorem dX1_executeAll_33 : decode cX1_executeAll 33 = .ok (.ifCond .eq 27, 3) := dk_153 0 27 (dk_at dksX1_executeAll_1 9 rfl rfl)
theorem dX1_executeAll_36 : decode cX1_executeAll 36 = .ok (.aload 4, 2) := dk_25 4 (dk_at dksX1_executeAll_1 12 rfl rfl)
theorem dX1_executeAll_38 : decode cX1_executeAll 38 = .ok (.invokeinterface 424 1, 5) := by decide +kernel
theorem dX1_executeAll_43 : decode cX1_executeAll 43 = .ok (.checkcast 364, 3) := dk_192 1 108 (dk_at dksX1_executeAll_1 19 rfl rfl)
theorem dX1_executeAll_46 : decode cX1_executeAll 46 = .ok (.astore 5, 2) := dk_58 5 (dk_at dksX1_executeAll_1 22 rfl rfl)
theorem dX1_executeAll_48 : decode cX1_executeAll 48 = .ok (.aload_n 0, 1) := dk_42 (dk_at dksX1_executeAll_2 0 rfl rfl)
theorem dX1_executeAll_49 : decode cX1_executeAll 49 = .ok (.aload 5, 2) := dk_25 5 (dk_at dksX1_executeAll_2 1 rfl rfl)
theorem dX1_executeAll_51 : decode cX1_executeAll 51 = .ok (.invokevirtual 427, 3) := dk_182 1 171 (dk_at dksX1_executeAll_2 3 rfl rfl)
theorem dX1_executeAll_54 : decode cX1_executeAll 54 = .ok (.iinc 3 1, 3) := dk_132 3 1 (dk_at dksX1_executeAll_2 6 rfl rfl)
theorem dX1_executeAll_57 : decode cX1_executeAll 57 = .ok (.goto (-31), 3) := dk_167 255 225 (dk_at dksX1_executeAll_2 9 rfl rfl)
theorem dX1_executeAll_60 : decode cX1_executeAll 60 = .ok (.aload_n 0, 1) := dk_42 (dk_at dksX1_executeAll_2 12 rfl rfl)
theorem dX1_executeAll_61 : decode cX1_executeAll 61 = .ok (.iconst 0, 1) := dk_3 (dk_at dksX1_executeAll_2 13 rfl rfl)
theorem dX1_executeAll_62 : decode cX1_executeAll 62 = .ok (.putfield 67, 3) := dk_181 0 67 (dk_at dksX1_executeAll_2 14 rfl rfl)
theorem dX1_executeAll_65 : decode cX1_executeAll 65 = .ok (.goto 33, 3) := dk_167 0 33 (dk_at dksX1_executeAll_2 17 rfl rfl)
theorem dX1_executeAll_68 : decode cX1_executeAll 68 = .ok (.astore 4, 2) := dk_58 4 (dk_at dksX1_executeAll_2 20 rfl rfl)
theorem dX1_executeAll_70 : decode cX1_executeAll 70 = .ok (.aload_n 0, 1) := dk_42 (dk_at dksX1_executeAll_2 22 rfl rfl)
theorem dX1_executeAll_71 : decode cX1_executeAll 71 = .ok (.aload_n 2, 1) := dk_44 (dk_at dksX1_executeAll_2 23 rfl rfl)
theorem dX1_executeAll_72 : decode cX1_executeAll 72 = .ok (.putfield 10, 3) := dk_181 0 10 (dk_at dksX1_executeAll_3 0 rfl rfl)
theorem dX1_executeAll_75 : decode cX1_executeAll 75 = .ok (.aload_n 0, 1) := dk_42 (dk_at dksX1_executeAll_3 3 rfl rfl)
theorem dX1_executeAll_76 : decode cX1_executeAll 76 = .ok (.iload_n 3, 1) := dk_29 (dk_at dksX1_executeAll_3 4 rfl rfl)
theorem dX1_executeAll_77 : decode cX1_executeAll 77 = .ok (.putfield 37, 3) := dk_181 0 37 (dk_at dksX1_executeAll_3 5 rfl rfl)
theorem dX1_executeAll_80 : decode cX1_executeAll 80 = .ok (.new 43, 3) := dk_187 0 43 (dk_at dksX1_executeAll_3 8 rfl rfl)
theorem dX1_executeAll_83 : decode cX1_executeAll 83 = .ok (.dup, 1) := dk_89 (dk_at dksX1_executeAll_3 11 rfl rfl)
theorem dX1_executeAll_84 : decode cX1_executeAll 84 = .ok (.invokespecial 45, 3) := dk_183 0 45 (dk_at dksX1_executeAll_3 12 rfl rfl)
theorem dX1_executeAll_87 : decode cX1_executeAll 87 = .ok (.athrow, 1) := dk_191 (dk_at dksX1_executeAll_3 15 rfl rfl)
theorem dX1_executeAll_88 : decode cX1_executeAll 88 = .ok (.astore 6, 2) := dk_58 6 (dk_at dksX1_executeAll_3 16 rfl rfl)
theorem dX1_executeAll_90 : decode cX1_executeAll 90 = .ok (.aload_n 0, 1) := dk_42 (dk_at dksX1_executeAll_3 18 rfl rfl)
theorem dX1_executeAll_91 : decode cX1_executeAll 91 = .ok (.iconst 0, 1) := dk_3 (dk_at dksX1_executeAll_3 19 rfl rfl)
theorem dX1_executeAll_92 : decode cX1_executeAll 92 = .ok (.putfield 67, 3) := dk_181 0 67 (dk_at dksX1_executeAll_3 20 rfl rfl)
theorem dX1_executeAll_95 : decode cX1_executeAll 95 = .ok (.aload 6, 2) := dk_25 6 (dk_at dksX1_executeAll_4 0 rfl rfl)
theorem dX1_executeAll_97 : decode cX1_executeAll 97 = .ok (.athrow, 1) := dk_191 (dk_at dksX1_executeAll_4 2 rfl rfl)
theorem dX1_executeAll_98 : decode cX1_executeAll 98 = .ok (.aload_n 0, 1) := dk_42 (dk_at dksX1_executeAll_4 3 rfl rfl)
theorem dX1_executeAll_99 : decode cX1_executeAll 99 = .ok (.getfield 10, 3) := dk_180 0 10 (dk_at dksX1_executeAll_4 4 rfl rfl)
theorem dX1_executeAll_102 : decode cX1_executeAll 102 = .ok (.astore 4, 2) := dk_58 4 (dk_at dksX1_executeAll_4 7 rfl rfl)
theorem dX1_executeAll_104 : decode cX1_executeAll 104 = .ok (.aload_n 0, 1) := dk_42 (dk_at dksX1_executeAll_4 9 rfl rfl)
theorem dX1_executeAll_105 : decode cX1_executeAll 105 = .ok (.aload_n 2, 1) := dk_44 (dk_at dksX1_executeAll_4 10 rfl rfl)
theorem dX1_executeAll_106 : decode cX1_executeAll 106 = .ok (.putfield 10, 3) := dk_181 0 10 (dk_at dksX1_executeAll_4 11 rfl rfl)
theorem dX1_executeAll_109 : decode cX1_executeAll 109 = .ok (.aload_n 0, 1) := dk_42 (dk_at dksX1_executeAll_4 14 rfl rfl)
theorem dX1_executeAll_110 : decode cX1_executeAll 110 = .ok (.invokevirtual 124, 3) := dk_182 0 124 (dk_at dksX1_executeAll_4 15 rfl rfl)
theorem dX1_executeAll_113 : decode cX1_executeAll 113 = .ok (.aload_n 0, 1) := dk_42 (dk_at dksX1_executeAll_4 18 rfl rfl)
theorem dX1_executeAll_114 : decode cX1_executeAll 114 = .ok (.aload 4, 2) := dk_25 4 (dk_at dksX1_executeAll_4 19 rfl rfl)
theorem dX1_executeAll_116 : decode cX1_executeAll 116 = .ok (.putfield 10, 3) := dk_181 0 10 (dk_at dksX1_executeAll_4 21 rfl rfl)
theorem dX1_executeAll_119 : decode cX1_executeAll 119 = .ok (.return_, 1) := dk_177 (dk_at dksX1_executeAll_5 0 rfl rfl)
abbrev cX1_execute : ByteArray := prog_1_method_81_code
def yX1_execute : MethodName := ⟨RX1, "execute", "(LFortPlanner$Command;)V"⟩
def dkwX1_execute_12 : List UInt8 := [87, 177]
abbrev dktX1_execute_12 : List UInt8 := dkwX1_execute_12 ++ []
def dkwX1_execute_11 : List UInt8 := [180, 1, 148, 182, 1, 149, 87, 167, 0, 18, 42, 28, 182, 1, 153, 87, 167, 0, 9, 42, 28, 182, 1, 156]
abbrev dktX1_execute_11 : List UInt8 := dkwX1_execute_11 ++ dktX1_execute_12
def dkwX1_execute_10 : List UInt8 := [42, 28, 29, 21, 4, 182, 1, 143, 87, 167, 0, 40, 42, 28, 182, 1, 146, 87, 167, 0, 31, 42, 28, 43]
abbrev dktX1_execute_10 : List UInt8 := dkwX1_execute_10 ++ dktX1_execute_11
def dkwX1_execute_9 : List UInt8 := [42, 28, 29, 21, 4, 182, 1, 136, 87, 167, 0, 64, 42, 28, 29, 21, 4, 182, 1, 140, 87, 167, 0, 52]
abbrev dktX1_execute_9 : List UInt8 := dkwX1_execute_9 ++ dktX1_execute_10
def dkwX1_execute_8 : List UInt8 := [170, 0, 0, 0, 0, 0, 106, 0, 0, 0, 0, 0, 0, 0, 5, 0, 0, 0, 39, 0, 0, 0, 51, 0, 0, 0, 63, 0, 0, 0, 75, 0, 0, 0, 84, 0, 0, 0, 97]
abbrev dktX1_execute_8 : List UInt8 := dkwX1_execute_8 ++ dktX1_execute_9
def dkwX1_execute_7 : List UInt8 := [153, 0, 6, 8, 54, 6, 21, 6]
abbrev dktX1_execute_7 : List UInt8 := dkwX1_execute_7 ++ dktX1_execute_8
def dkwX1_execute_6 : List UInt8 := [19, 1, 132, 182, 1, 124, 153, 0, 23, 7, 54, 6, 167, 0, 17, 25, 5, 19, 1, 134, 182, 1, 124]
abbrev dktX1_execute_6 : List UInt8 := dkwX1_execute_6 ++ dktX1_execute_7
def dkwX1_execute_5 : List UInt8 := [54, 6, 167, 0, 51, 25, 5, 19, 1, 131, 182, 1, 124, 153, 0, 40, 6, 54, 6, 167, 0, 34, 25, 5]
abbrev dktX1_execute_5 : List UInt8 := dkwX1_execute_5 ++ dktX1_execute_6
def dkwX1_execute_4 : List UInt8 := [182, 1, 124, 153, 0, 74, 4, 54, 6, 167, 0, 68, 25, 5, 19, 1, 129, 182, 1, 124, 153, 0, 57, 5]
abbrev dktX1_execute_4 : List UInt8 := dkwX1_execute_4 ++ dktX1_execute_5
def dkwX1_execute_3 : List UInt8 := [25, 5, 19, 1, 122, 182, 1, 124, 153, 0, 91, 3, 54, 6, 167, 0, 85, 25, 5, 19, 1, 127]
abbrev dktX1_execute_3 : List UInt8 := dkwX1_execute_3 ++ dktX1_execute_4
def dkwX1_execute_2 : List UInt8 := [171, 0, 0, 0, 0, 0, 0, 159, 0, 0, 0, 6, 200, 74, 248, 132, 0, 0, 0, 111, 0, 1, 124, 8, 0, 0, 0, 94, 0, 48, 10, 181, 0, 0, 0, 60, 0, 57, 35, 172, 0, 0, 0, 128, 5, 152, 238, 230, 0, 0, 0, 77, 6, 150, 211, 252, 0, 0, 0, 145]
abbrev dktX1_execute_2 : List UInt8 := dkwX1_execute_2 ++ dktX1_execute_3
def dkwX1_execute_1 : List UInt8 := [180, 1, 113, 58, 5, 2, 54, 6, 25, 5, 182, 1, 117]
abbrev dktX1_execute_1 : List UInt8 := dkwX1_execute_1 ++ dktX1_execute_2
def dkwX1_execute_0 : List UInt8 := [43, 180, 1, 107, 3, 46, 61, 43, 180, 1, 107, 4, 46, 62, 43, 180, 1, 107, 5, 46, 54, 4, 43]
abbrev dktX1_execute_0 : List UInt8 := dkwX1_execute_0 ++ dktX1_execute_1
theorem dksX1_execute_0 : cX1_execute.data.toList.drop 0 = dktX1_execute_0 := by decide +kernel
theorem dksX1_execute_1 : cX1_execute.data.toList.drop 23 = dktX1_execute_1 := dk_seg dksX1_execute_0 23 rfl rfl
theorem dksX1_execute_2 : cX1_execute.data.toList.drop 36 = dktX1_execute_2 := dk_seg dksX1_execute_1 13 rfl rfl
theorem dksX1_execute_3 : cX1_execute.data.toList.drop 96 = dktX1_execute_3 := dk_seg dksX1_execute_2 60 rfl rfl
theorem dksX1_execute_4 : cX1_execute.data.toList.drop 118 = dktX1_execute_4 := dk_seg dksX1_execute_3 22 rfl rfl
theorem dksX1_execute_5 : cX1_execute.data.toList.drop 142 = dktX1_execute_5 := dk_seg dksX1_execute_4 24 rfl rfl
theorem dksX1_execute_6 : cX1_execute.data.toList.drop 166 = dktX1_execute_6 := dk_seg dksX1_execute_5 24 rfl rfl
theorem dksX1_execute_7 : cX1_execute.data.toList.drop 189 = dktX1_execute_7 := dk_seg dksX1_execute_6 23 rfl rfl
theorem dksX1_execute_8 : cX1_execute.data.toList.drop 197 = dktX1_execute_8 := dk_seg dksX1_execute_7 8 rfl rfl
theorem dksX1_execute_9 : cX1_execute.data.toList.drop 236 = dktX1_execute_9 := dk_seg dksX1_execute_8 39 rfl rfl
theorem dksX1_execute_10 : cX1_execute.data.toList.drop 260 = dktX1_execute_10 := dk_seg dksX1_execute_9 24 rfl rfl
theorem dksX1_execute_11 : cX1_execute.data.toList.drop 284 = dktX1_execute_11 := dk_seg dksX1_execute_10 24 rfl rfl
theorem dksX1_execute_12 : cX1_execute.data.toList.drop 308 = dktX1_execute_12 := dk_seg dksX1_execute_11 24 rfl rfl
theorem dX1_execute_0 : decode cX1_execute 0 = .ok (.aload_n 1, 1) := dk_43 (dk_at dksX1_execute_0 0 rfl rfl)
theorem dX1_execute_1 : decode cX1_execute 1 = .ok (.getfield 363, 3) := dk_180 1 107 (dk_at dksX1_execute_0 1 rfl rfl)
theorem dX1_execute_4 : decode cX1_execute 4 = .ok (.iconst 0, 1) := dk_3 (dk_at dksX1_execute_0 4 rfl rfl)
theorem dX1_execute_5 : decode cX1_execute 5 = .ok (.iaload, 1) := dk_46 (dk_at dksX1_execute_0 5 rfl rfl)
theorem dX1_execute_6 : decode cX1_execute 6 = .ok (.istore_n 2, 1) := dk_61 (dk_at dksX1_execute_0 6 rfl rfl)
theorem dX1_execute_7 : decode cX1_execute 7 = .ok (.aload_n 1, 1) := dk_43 (dk_at dksX1_execute_0 7 rfl rfl)
theorem dX1_execute_8 : decode cX1_execute 8 = .ok (.getfield 363, 3) := dk_180 1 107 (dk_at dksX1_execute_0 8 rfl rfl)
theorem dX1_execute_11 : decode cX1_execute 11 = .ok (.iconst 1, 1) := dk_4 (dk_at dksX1_execute_0 11 rfl rfl)
theorem dX1_execute_12 : decode cX1_execute 12 = .ok (.iaload, 1) := dk_46 (dk_at dksX1_execute_0 12 rfl rfl)
theorem dX1_execute_13 : decode cX1_execute 13 = .ok (.istore_n 3, 1) := dk_62 (dk_at dksX1_execute_0 13 rfl rfl)
theorem dX1_execute_14 : decode cX1_execute 14 = .ok (.aload_n 1, 1) := dk_43 (dk_at dksX1_execute_0 14 rfl rfl)
theorem dX1_execute_15 : decode cX1_execute 15 = .ok (.getfield 363, 3) := dk_180 1 107 (dk_at dksX1_execute_0 15 rfl rfl)
theorem dX1_execute_18 : decode cX1_execute 18 = .ok (.iconst 2, 1) := dk_5 (dk_at dksX1_execute_0 18 rfl rfl)
theorem dX1_execute_19 : decode cX1_execute 19 = .ok (.iaload, 1) := dk_46 (dk_at dksX1_execute_0 19 rfl rfl)
theorem dX1_execute_20 : decode cX1_execute 20 = .ok (.istore 4, 2) := dk_54 4 (dk_at dksX1_execute_0 20 rfl rfl)
theorem dX1_execute_22 : decode cX1_execute 22 = .ok (.aload_n 1, 1) := dk_43 (dk_at dksX1_execute_0 22 rfl rfl)
theorem dX1_execute_23 : decode cX1_execute 23 = .ok (.getfield 369, 3) := dk_180 1 113 (dk_at dksX1_execute_1 0 rfl rfl)
theorem dX1_execute_26 : decode cX1_execute 26 = .ok (.astore 5, 2) := dk_58 5 (dk_at dksX1_execute_1 3 rfl rfl)
theorem dX1_execute_28 : decode cX1_execute 28 = .ok (.iconst (-1), 1) := dk_2 (dk_at dksX1_execute_1 5 rfl rfl)
theorem dX1_execute_29 : decode cX1_execute 29 = .ok (.istore 6, 2) := dk_54 6 (dk_at dksX1_execute_1 6 rfl rfl)
theorem dX1_execute_31 : decode cX1_execute 31 = .ok (.aload 5, 2) := dk_25 5 (dk_at dksX1_execute_1 8 rfl rfl)
theorem dX1_execute_33 : decode cX1_execute 33 = .ok (.invokevirtual 373, 3) := dk_182 1 117 (dk_at dksX1_execute_1 10 rfl rfl)
theorem dX1_execute_36 : decode cX1_execute 36 = .ok (.lookupswitch 159 #[(-934610812, 111), (97288, 94), (3148469, 60), (3744684, 128), (93908710, 77), (110547964, 145)], 60) := by decide +kernel
theorem dX1_execute_96 : decode cX1_execute 96 = .ok (.aload 5, 2) := dk_25 5 (dk_at dksX1_execute_3 0 rfl rfl)
theorem dX1_execute_98 : decode cX1_execute 98 = .ok (.ldc_w 378, 3) := dk_19 1 122 (dk_at dksX1_execute_3 2 rfl rfl)
theorem dX1_execute_101 : decode cX1_execute 101 = .ok (.invokevirtual 380, 3) := dk_182 1 124 (dk_at dksX1_execute_3 5 rfl rfl)
theorem dX1_execute_104 : decode cX1_execute 104 = .ok (.ifCond .eq 91, 3) := dk_153 0 91 (dk_at dksX1_execute_3 8 rfl rfl)
theorem dX1_execute_107 : decode cX1_execute 107 = .ok (.iconst 0, 1) := dk_3 (dk_at dksX1_execute_3 11 rfl rfl)
theorem dX1_execute_108 : decode cX1_execute 108 = .ok (.istore 6, 2) := dk_54 6 (dk_at dksX1_execute_3 12 rfl rfl)
theorem dX1_execute_110 : decode cX1_execute 110 = .ok (.goto 85, 3) := dk_167 0 85 (dk_at dksX1_execute_3 14 rfl rfl)
theorem dX1_execute_113 : decode cX1_execute 113 = .ok (.aload 5, 2) := dk_25 5 (dk_at dksX1_execute_3 17 rfl rfl)
theorem dX1_execute_115 : decode cX1_execute 115 = .ok (.ldc_w 383, 3) := dk_19 1 127 (dk_at dksX1_execute_3 19 rfl rfl)
theorem dX1_execute_118 : decode cX1_execute 118 = .ok (.invokevirtual 380, 3) := dk_182 1 124 (dk_at dksX1_execute_4 0 rfl rfl)
theorem dX1_execute_121 : decode cX1_execute 121 = .ok (.ifCond .eq 74, 3) := dk_153 0 74 (dk_at dksX1_execute_4 3 rfl rfl)
theorem dX1_execute_124 : decode cX1_execute 124 = .ok (.iconst 1, 1) := dk_4 (dk_at dksX1_execute_4 6 rfl rfl)
theorem dX1_execute_125 : decode cX1_execute 125 = .ok (.istore 6, 2) := dk_54 6 (dk_at dksX1_execute_4 7 rfl rfl)
theorem dX1_execute_127 : decode cX1_execute 127 = .ok (.goto 68, 3) := dk_167 0 68 (dk_at dksX1_execute_4 9 rfl rfl)
theorem dX1_execute_130 : decode cX1_execute 130 = .ok (.aload 5, 2) := dk_25 5 (dk_at dksX1_execute_4 12 rfl rfl)
theorem dX1_execute_132 : decode cX1_execute 132 = .ok (.ldc_w 385, 3) := dk_19 1 129 (dk_at dksX1_execute_4 14 rfl rfl)
theorem dX1_execute_135 : decode cX1_execute 135 = .ok (.invokevirtual 380, 3) := dk_182 1 124 (dk_at dksX1_execute_4 17 rfl rfl)
theorem dX1_execute_138 : decode cX1_execute 138 = .ok (.ifCond .eq 57, 3) := dk_153 0 57 (dk_at dksX1_execute_4 20 rfl rfl)
theorem dX1_execute_141 : decode cX1_execute 141 = .ok (.iconst 2, 1) := dk_5 (dk_at dksX1_execute_4 23 rfl rfl)
theorem dX1_execute_142 : decode cX1_execute 142 = .ok (.istore 6, 2) := dk_54 6 (dk_at dksX1_execute_5 0 rfl rfl)
theorem dX1_execute_144 : decode cX1_execute 144 = .ok (.goto 51, 3) := dk_167 0 51 (dk_at dksX1_execute_5 2 rfl rfl)
theorem dX1_execute_147 : decode cX1_execute 147 = .ok (.aload 5, 2) := dk_25 5 (dk_at dksX1_execute_5 5 rfl rfl)
theorem dX1_execute_149 : decode cX1_execute 149 = .ok (.ldc_w 387, 3) := dk_19 1 131 (dk_at dksX1_execute_5 7 rfl rfl)
theorem dX1_execute_152 : decode cX1_execute 152 = .ok (.invokevirtual 380, 3) := dk_182 1 124 (dk_at dksX1_execute_5 10 rfl rfl)
theorem dX1_execute_155 : decode cX1_execute 155 = .ok (.ifCond .eq 40, 3) := dk_153 0 40 (dk_at dksX1_execute_5 13 rfl rfl)
theorem dX1_execute_158 : decode cX1_execute 158 = .ok (.iconst 3, 1) := dk_6 (dk_at dksX1_execute_5 16 rfl rfl)
theorem dX1_execute_159 : decode cX1_execute 159 = .ok (.istore 6, 2) := dk_54 6 (dk_at dksX1_execute_5 17 rfl rfl)
theorem dX1_execute_161 : decode cX1_execute 161 = .ok (.goto 34, 3) := dk_167 0 34 (dk_at dksX1_execute_5 19 rfl rfl)
theorem dX1_execute_164 : decode cX1_execute 164 = .ok (.aload 5, 2) := dk_25 5 (dk_at dksX1_execute_5 22 rfl rfl)
theorem dX1_execute_166 : decode cX1_execute 166 = .ok (.ldc_w 388, 3) := dk_19 1 132 (dk_at dksX1_execute_6 0 rfl rfl)
theorem dX1_execute_169 : decode cX1_execute 169 = .ok (.invokevirtual 380, 3) := dk_182 1 124 (dk_at dksX1_execute_6 3 rfl rfl)
theorem dX1_execute_172 : decode cX1_execute 172 = .ok (.ifCond .eq 23, 3) := dk_153 0 23 (dk_at dksX1_execute_6 6 rfl rfl)
theorem dX1_execute_175 : decode cX1_execute 175 = .ok (.iconst 4, 1) := dk_7 (dk_at dksX1_execute_6 9 rfl rfl)
theorem dX1_execute_176 : decode cX1_execute 176 = .ok (.istore 6, 2) := dk_54 6 (dk_at dksX1_execute_6 10 rfl rfl)
theorem dX1_execute_178 : decode cX1_execute 178 = .ok (.goto 17, 3) := dk_167 0 17 (dk_at dksX1_execute_6 12 rfl rfl)
theorem dX1_execute_181 : decode cX1_execute 181 = .ok (.aload 5, 2) := dk_25 5 (dk_at dksX1_execute_6 15 rfl rfl)
theorem dX1_execute_183 : decode cX1_execute 183 = .ok (.ldc_w 390, 3) := dk_19 1 134 (dk_at dksX1_execute_6 17 rfl rfl)
theorem dX1_execute_186 : decode cX1_execute 186 = .ok (.invokevirtual 380, 3) := dk_182 1 124 (dk_at dksX1_execute_6 20 rfl rfl)
theorem dX1_execute_189 : decode cX1_execute 189 = .ok (.ifCond .eq 6, 3) := dk_153 0 6 (dk_at dksX1_execute_7 0 rfl rfl)
theorem dX1_execute_192 : decode cX1_execute 192 = .ok (.iconst 5, 1) := dk_8 (dk_at dksX1_execute_7 3 rfl rfl)
theorem dX1_execute_193 : decode cX1_execute 193 = .ok (.istore 6, 2) := dk_54 6 (dk_at dksX1_execute_7 4 rfl rfl)
theorem dX1_execute_195 : decode cX1_execute 195 = .ok (.iload 6, 2) := dk_21 6 (dk_at dksX1_execute_7 6 rfl rfl)
theorem dX1_execute_197 : decode cX1_execute 197 = .ok (.tableswitch 106 0 5 #[39, 51, 63, 75, 84, 97], 39) := by decide +kernel
theorem dX1_execute_236 : decode cX1_execute 236 = .ok (.aload_n 0, 1) := dk_42 (dk_at dksX1_execute_9 0 rfl rfl)
theorem dX1_execute_237 : decode cX1_execute 237 = .ok (.iload_n 2, 1) := dk_28 (dk_at dksX1_execute_9 1 rfl rfl)
theorem dX1_execute_238 : decode cX1_execute 238 = .ok (.iload_n 3, 1) := dk_29 (dk_at dksX1_execute_9 2 rfl rfl)
theorem dX1_execute_239 : decode cX1_execute 239 = .ok (.iload 4, 2) := dk_21 4 (dk_at dksX1_execute_9 3 rfl rfl)
theorem dX1_execute_241 : decode cX1_execute 241 = .ok (.invokevirtual 392, 3) := dk_182 1 136 (dk_at dksX1_execute_9 5 rfl rfl)
theorem dX1_execute_244 : decode cX1_execute 244 = .ok (.pop, 1) := dk_87 (dk_at dksX1_execute_9 8 rfl rfl)
theorem dX1_execute_245 : decode cX1_execute 245 = .ok (.goto 64, 3) := dk_167 0 64 (dk_at dksX1_execute_9 9 rfl rfl)
theorem dX1_execute_248 : decode cX1_execute 248 = .ok (.aload_n 0, 1) := dk_42 (dk_at dksX1_execute_9 12 rfl rfl)
theorem dX1_execute_249 : decode cX1_execute 249 = .ok (.iload_n 2, 1) := dk_28 (dk_at dksX1_execute_9 13 rfl rfl)
theorem dX1_execute_250 : decode cX1_execute 250 = .ok (.iload_n 3, 1) := dk_29 (dk_at dksX1_execute_9 14 rfl rfl)
theorem dX1_execute_251 : decode cX1_execute 251 = .ok (.iload 4, 2) := dk_21 4 (dk_at dksX1_execute_9 15 rfl rfl)
theorem dX1_execute_253 : decode cX1_execute 253 = .ok (.invokevirtual 396, 3) := dk_182 1 140 (dk_at dksX1_execute_9 17 rfl rfl)
theorem dX1_execute_256 : decode cX1_execute 256 = .ok (.pop, 1) := dk_87 (dk_at dksX1_execute_9 20 rfl rfl)
theorem dX1_execute_257 : decode cX1_execute 257 = .ok (.goto 52, 3) := dk_167 0 52 (dk_at dksX1_execute_9 21 rfl rfl)
theorem dX1_execute_260 : decode cX1_execute 260 = .ok (.aload_n 0, 1) := dk_42 (dk_at dksX1_execute_10 0 rfl rfl)
theorem dX1_execute_261 : decode cX1_execute 261 = .ok (.iload_n 2, 1) := dk_28 (dk_at dksX1_execute_10 1 rfl rfl)
theorem dX1_execute_262 : decode cX1_execute 262 = .ok (.iload_n 3, 1) := dk_29 (dk_at dksX1_execute_10 2 rfl rfl)
theorem dX1_execute_263 : decode cX1_execute 263 = .ok (.iload 4, 2) := dk_21 4 (dk_at dksX1_execute_10 3 rfl rfl)
theorem dX1_execute_265 : decode cX1_execute 265 = .ok (.invokevirtual 399, 3) := dk_182 1 143 (dk_at dksX1_execute_10 5 rfl rfl)
theorem dX1_execute_268 : decode cX1_execute 268 = .ok (.pop, 1) := dk_87 (dk_at dksX1_execute_10 8 rfl rfl)
theorem dX1_execute_269 : decode cX1_execute 269 = .ok (.goto 40, 3) := dk_167 0 40 (dk_at dksX1_execute_10 9 rfl rfl)
theorem dX1_execute_272 : decode cX1_execute 272 = .ok (.aload_n 0, 1) := dk_42 (dk_at dksX1_execute_10 12 rfl rfl)
theorem dX1_execute_273 : decode cX1_execute 273 = .ok (.iload_n 2, 1) := dk_28 (dk_at dksX1_execute_10 13 rfl rfl)
theorem dX1_execute_274 : decode cX1_execute 274 = .ok (.invokevirtual 402, 3) := dk_182 1 146 (dk_at dksX1_execute_10 14 rfl rfl)
theorem dX1_execute_277 : decode cX1_execute 277 = .ok (.pop, 1) := dk_87 (dk_at dksX1_execute_10 17 rfl rfl)
theorem dX1_execute_278 : decode cX1_execute 278 = .ok (.goto 31, 3) := dk_167 0 31 (dk_at dksX1_execute_10 18 rfl rfl)
theorem dX1_execute_281 : decode cX1_execute 281 = .ok (.aload_n 0, 1) := dk_42 (dk_at dksX1_execute_10 21 rfl rfl)
theorem dX1_execute_282 : decode cX1_execute 282 = .ok (.iload_n 2, 1) := dk_28 (dk_at dksX1_execute_10 22 rfl rfl)
theorem dX1_execute_283 : decode cX1_execute 283 = .ok (.aload_n 1, 1) := dk_43 (dk_at dksX1_execute_10 23 rfl rfl)
theorem dX1_execute_284 : decode cX1_execute 284 = .ok (.getfield 404, 3) := dk_180 1 148 (dk_at dksX1_execute_11 0 rfl rfl)
theorem dX1_execute_287 : decode cX1_execute 287 = .ok (.invokevirtual 405, 3) := dk_182 1 149 (dk_at dksX1_execute_11 3 rfl rfl)
theorem dX1_execute_290 : decode cX1_execute 290 = .ok (.pop, 1) := dk_87 (dk_at dksX1_execute_11 6 rfl rfl)
theorem dX1_execute_291 : decode cX1_execute 291 = .ok (.goto 18, 3) := dk_167 0 18 (dk_at dksX1_execute_11 7 rfl rfl)
theorem dX1_execute_294 : decode cX1_execute 294 = .ok (.aload_n 0, 1) := dk_42 (dk_at dksX1_execute_11 10 rfl rfl)
theorem dX1_execute_295 : decode cX1_execute 295 = .ok (.iload_n 2, 1) := dk_28 (dk_at dksX1_execute_11 11 rfl rfl)
theorem dX1_execute_296 : decode cX1_execute 296 = .ok (.invokevirtual 409, 3) := dk_182 1 153 (dk_at dksX1_execute_11 12 rfl rfl)
theorem dX1_execute_299 : decode cX1_execute 299 = .ok (.pop, 1) := dk_87 (dk_at dksX1_execute_11 15 rfl rfl)
theorem dX1_execute_300 : decode cX1_execute 300 = .ok (.goto 9, 3) := dk_167 0 9 (dk_at dksX1_execute_11 16 rfl rfl)
theorem dX1_execute_303 : decode cX1_execute 303 = .ok (.aload_n 0, 1) := dk_42 (dk_at dksX1_execute_11 19 rfl rfl)
theorem dX1_execute_304 : decode cX1_execute 304 = .ok (.iload_n 2, 1) := dk_28 (dk_at dksX1_execute_11 20 rfl rfl)
theorem dX1_execute_305 : decode cX1_execute 305 = .ok (.invokevirtual 412, 3) := dk_182 1 156 (dk_at dksX1_execute_11 21 rfl rfl)
theorem dX1_execute_308 : decode cX1_execute 308 = .ok (.pop, 1) := dk_87 (dk_at dksX1_execute_12 0 rfl rfl)
theorem dX1_execute_309 : decode cX1_execute 309 = .ok (.return_, 1) := dk_177 (dk_at dksX1_execute_12 1 rfl rfl)
abbrev cX1_errorPosition : ByteArray := prog_1_method_85_code
def yX1_errorPosition : MethodName := ⟨RX1, "errorPosition", "()I"⟩
def dkwX1_errorPosition_0 : List UInt8 := [42, 180, 0, 33, 2, 159, 0, 7, 4, 167, 0, 4, 3, 184, 0, 91, 42, 180, 0, 33, 172]
abbrev dktX1_errorPosition_0 : List UInt8 := dkwX1_errorPosition_0 ++ []
theorem dksX1_errorPosition_0 : cX1_errorPosition.data.toList.drop 0 = dktX1_errorPosition_0 := by decide +kernel
theorem dX1_errorPosition_0 : decode cX1_errorPosition 0 = .ok (.aload_n 0, 1) := dk_42 (dk_at dksX1_errorPosition_0 0 rfl rfl)
theorem dX1_errorPosition_1 : decode cX1_errorPosition 1 = .ok (.getfield 33, 3) := dk_180 0 33 (dk_at dksX1_errorPosition_0 1 rfl rfl)
theorem dX1_errorPosition_4 : decode cX1_errorPosition 4 = .ok (.iconst (-1), 1) := dk_2 (dk_at dksX1_errorPosition_0 4 rfl rfl)
theorem dX1_errorPosition_5 : decode cX1_errorPosition 5 = .ok (.if_icmp .eq 7, 3) := dk_159 0 7 (dk_at dksX1_errorPosition_0 5 rfl rfl)
theorem dX1_errorPosition_8 : decode cX1_errorPosition 8 = .ok (.iconst 1, 1) := dk_4 (dk_at dksX1_errorPosition_0 8 rfl rfl)
theorem dX1_errorPosition_9 : decode cX1_errorPosition 9 = .ok (.goto 4, 3) := dk_167 0 4 (dk_at dksX1_errorPosition_0 9 rfl rfl)
theorem dX1_errorPosition_12 : decode cX1_errorPosition 12 = .ok (.iconst 0, 1) := dk_3 (dk_at dksX1_errorPosition_0 12 rfl rfl)
theorem dX1_errorPosition_13 : decode cX1_errorPosition 13 = .ok (.invokestatic 91, 3) := dk_184 0 91 (dk_at dksX1_errorPosition_0 13 rfl rfl)
theorem dX1_errorPosition_16 : decode cX1_errorPosition 16 = .ok (.aload_n 0, 1) := dk_42 (dk_at dksX1_errorPosition_0 16 rfl rfl)
theorem dX1_errorPosition_17 : decode cX1_errorPosition 17 = .ok (.getfield 33, 3) := dk_180 0 33 (dk_at dksX1_errorPosition_0 17 rfl rfl)
theorem dX1_errorPosition_20 : decode cX1_errorPosition 20 = .ok (.ireturn, 1) := dk_172 (dk_at dksX1_errorPosition_0 20 rfl rfl)
abbrev cX1_failedCommand : ByteArray := prog_1_method_86_code
def yX1_failedCommand : MethodName := ⟨RX1, "failedCommand", "()I"⟩
def dkwX1_failedCommand_0 : List UInt8 := [42, 180, 0, 37, 2, 159, 0, 7, 4, 167, 0, 4, 3, 184, 0, 91, 42, 180, 0, 37, 172]
abbrev dktX1_failedCommand_0 : List UInt8 := dkwX1_failedCommand_0 ++ []
theorem dksX1_failedCommand_0 : cX1_failedCommand.data.toList.drop 0 = dktX1_failedCommand_0 := by decide +kernel
theorem dX1_failedCommand_0 : decode cX1_failedCommand 0 = .ok (.aload_n 0, 1) := dk_42 (dk_at dksX1_failedCommand_0 0 rfl rfl)
theorem dX1_failedCommand_1 : decode cX1_failedCommand 1 = .ok (.getfield 37, 3) := dk_180 0 37 (dk_at dksX1_failedCommand_0 1 rfl rfl)
theorem dX1_failedCommand_4 : decode cX1_failedCommand 4 = .ok (.iconst (-1), 1) := dk_2 (dk_at dksX1_failedCommand_0 4 rfl rfl)
theorem dX1_failedCommand_5 : decode cX1_failedCommand 5 = .ok (.if_icmp .eq 7, 3) := dk_159 0 7 (dk_at dksX1_failedCommand_0 5 rfl rfl)
theorem dX1_failedCommand_8 : decode cX1_failedCommand 8 = .ok (.iconst 1, 1) := dk_4 (dk_at dksX1_failedCommand_0 8 rfl rfl)
theorem dX1_failedCommand_9 : decode cX1_failedCommand 9 = .ok (.goto 4, 3) := dk_167 0 4 (dk_at dksX1_failedCommand_0 9 rfl rfl)
theorem dX1_failedCommand_12 : decode cX1_failedCommand 12 = .ok (.iconst 0, 1) := dk_3 (dk_at dksX1_failedCommand_0 12 rfl rfl)
theorem dX1_failedCommand_13 : decode cX1_failedCommand 13 = .ok (.invokestatic 91, 3) := dk_184 0 91 (dk_at dksX1_failedCommand_0 13 rfl rfl)
theorem dX1_failedCommand_16 : decode cX1_failedCommand 16 = .ok (.aload_n 0, 1) := dk_42 (dk_at dksX1_failedCommand_0 16 rfl rfl)
theorem dX1_failedCommand_17 : decode cX1_failedCommand 17 = .ok (.getfield 37, 3) := dk_180 0 37 (dk_at dksX1_failedCommand_0 17 rfl rfl)
theorem dX1_failedCommand_20 : decode cX1_failedCommand 20 = .ok (.ireturn, 1) := dk_172 (dk_at dksX1_failedCommand_0 20 rfl rfl)
abbrev cX1_undo : ByteArray := prog_1_method_88_code
def yX1_undo : MethodName := ⟨RX1, "undo", "()I"⟩
def dkwX1_undo_1 : List UInt8 := [182, 1, 200, 192, 0, 7, 181, 0, 10, 42, 180, 0, 19, 182, 0, 79, 172]
abbrev dktX1_undo_1 : List UInt8 := dkwX1_undo_1 ++ []
def dkwX1_undo_0 : List UInt8 := [42, 180, 0, 19, 182, 1, 197, 154, 0, 7, 4, 167, 0, 4, 3, 184, 0, 121, 42, 42, 180, 0, 19]
abbrev dktX1_undo_0 : List UInt8 := dkwX1_undo_0 ++ dktX1_undo_1
theorem dksX1_undo_0 : cX1_undo.data.toList.drop 0 = dktX1_undo_0 := by decide +kernel
theorem dksX1_undo_1 : cX1_undo.data.toList.drop 23 = dktX1_undo_1 := dk_seg dksX1_undo_0 23 rfl rfl
theorem dX1_undo_0 : decode cX1_undo 0 = .ok (.aload_n 0, 1) := dk_42 (dk_at dksX1_undo_0 0 rfl rfl)
theorem dX1_undo_1 : decode cX1_undo 1 = .ok (.getfield 19, 3) := dk_180 0 19 (dk_at dksX1_undo_0 1 rfl rfl)
theorem dX1_undo_4 : decode cX1_undo 4 = .ok (.invokevirtual 453, 3) := dk_182 1 197 (dk_at dksX1_undo_0 4 rfl rfl)
theorem dX1_undo_7 : decode cX1_undo 7 = .ok (.ifCond .ne 7, 3) := dk_154 0 7 (dk_at dksX1_undo_0 7 rfl rfl)
theorem dX1_undo_10 : decode cX1_undo 10 = .ok (.iconst 1, 1) := dk_4 (dk_at dksX1_undo_0 10 rfl rfl)
theorem dX1_undo_11 : decode cX1_undo 11 = .ok (.goto 4, 3) := dk_167 0 4 (dk_at dksX1_undo_0 11 rfl rfl)
theorem dX1_undo_14 : decode cX1_undo 14 = .ok (.iconst 0, 1) := dk_3 (dk_at dksX1_undo_0 14 rfl rfl)
theorem dX1_undo_15 : decode cX1_undo 15 = .ok (.invokestatic 121, 3) := dk_184 0 121 (dk_at dksX1_undo_0 15 rfl rfl)
theorem dX1_undo_18 : decode cX1_undo 18 = .ok (.aload_n 0, 1) := dk_42 (dk_at dksX1_undo_0 18 rfl rfl)
theorem dX1_undo_19 : decode cX1_undo 19 = .ok (.aload_n 0, 1) := dk_42 (dk_at dksX1_undo_0 19 rfl rfl)
theorem dX1_undo_20 : decode cX1_undo 20 = .ok (.getfield 19, 3) := dk_180 0 19 (dk_at dksX1_undo_0 20 rfl rfl)
theorem dX1_undo_23 : decode cX1_undo 23 = .ok (.invokevirtual 456, 3) := dk_182 1 200 (dk_at dksX1_undo_1 0 rfl rfl)
theorem dX1_undo_26 : decode cX1_undo 26 = .ok (.checkcast 7, 3) := dk_192 0 7 (dk_at dksX1_undo_1 3 rfl rfl)
theorem dX1_undo_29 : decode cX1_undo 29 = .ok (.putfield 10, 3) := dk_181 0 10 (dk_at dksX1_undo_1 6 rfl rfl)
theorem dX1_undo_32 : decode cX1_undo 32 = .ok (.aload_n 0, 1) := dk_42 (dk_at dksX1_undo_1 9 rfl rfl)
theorem dX1_undo_33 : decode cX1_undo 33 = .ok (.getfield 19, 3) := dk_180 0 19 (dk_at dksX1_undo_1 10 rfl rfl)
theorem dX1_undo_36 : decode cX1_undo 36 = .ok (.invokevirtual 79, 3) := dk_182 0 79 (dk_at dksX1_undo_1 13 rfl rfl)
theorem dX1_undo_39 : decode cX1_undo 39 = .ok (.ireturn, 1) := dk_172 (dk_at dksX1_undo_1 16 rfl rfl)
abbrev cX1_restore : ByteArray := prog_1_method_90_code
def yX1_restore : MethodName := ⟨RX1, "restore", "()I"⟩
def dkwX1_restore_1 : List UInt8 := [181, 0, 10, 42, 180, 0, 19, 182, 1, 206, 42, 180, 0, 10, 180, 0, 148, 182, 0, 158, 172]
abbrev dktX1_restore_1 : List UInt8 := dkwX1_restore_1 ++ []
def dkwX1_restore_0 : List UInt8 := [42, 180, 1, 203, 198, 0, 7, 4, 167, 0, 4, 3, 184, 0, 121, 42, 42, 180, 1, 203, 182, 0, 71]
abbrev dktX1_restore_0 : List UInt8 := dkwX1_restore_0 ++ dktX1_restore_1
theorem dksX1_restore_0 : cX1_restore.data.toList.drop 0 = dktX1_restore_0 := by decide +kernel
theorem dksX1_restore_1 : cX1_restore.data.toList.drop 23 = dktX1_restore_1 := dk_seg dksX1_restore_0 23 rfl rfl
theorem dX1_restore_0 : decode cX1_restore 0 = .ok (.aload_n 0, 1) := dk_42 (dk_at dksX1_restore_0 0 rfl rfl)
theorem dX1_restore_1 : decode cX1_restore 1 = .ok (.getfield 459, 3) := dk_180 1 203 (dk_at dksX1_restore_0 1 rfl rfl)
theorem dX1_restore_4 : decode cX1_restore 4 = .ok (.ifnull 7, 3) := dk_198 0 7 (dk_at dksX1_restore_0 4 rfl rfl)
theorem dX1_restore_7 : decode cX1_restore 7 = .ok (.iconst 1, 1) := dk_4 (dk_at dksX1_restore_0 7 rfl rfl)
theorem dX1_restore_8 : decode cX1_restore 8 = .ok (.goto 4, 3) := dk_167 0 4 (dk_at dksX1_restore_0 8 rfl rfl)
theorem dX1_restore_11 : decode cX1_restore 11 = .ok (.iconst 0, 1) := dk_3 (dk_at dksX1_restore_0 11 rfl rfl)
theorem dX1_restore_12 : decode cX1_restore 12 = .ok (.invokestatic 121, 3) := dk_184 0 121 (dk_at dksX1_restore_0 12 rfl rfl)
theorem dX1_restore_15 : decode cX1_restore 15 = .ok (.aload_n 0, 1) := dk_42 (dk_at dksX1_restore_0 15 rfl rfl)
theorem dX1_restore_16 : decode cX1_restore 16 = .ok (.aload_n 0, 1) := dk_42 (dk_at dksX1_restore_0 16 rfl rfl)
theorem dX1_restore_17 : decode cX1_restore 17 = .ok (.getfield 459, 3) := dk_180 1 203 (dk_at dksX1_restore_0 17 rfl rfl)
theorem dX1_restore_20 : decode cX1_restore 20 = .ok (.invokevirtual 71, 3) := dk_182 0 71 (dk_at dksX1_restore_0 20 rfl rfl)
theorem dX1_restore_23 : decode cX1_restore 23 = .ok (.putfield 10, 3) := dk_181 0 10 (dk_at dksX1_restore_1 0 rfl rfl)
theorem dX1_restore_26 : decode cX1_restore 26 = .ok (.aload_n 0, 1) := dk_42 (dk_at dksX1_restore_1 3 rfl rfl)
theorem dX1_restore_27 : decode cX1_restore 27 = .ok (.getfield 19, 3) := dk_180 0 19 (dk_at dksX1_restore_1 4 rfl rfl)
theorem dX1_restore_30 : decode cX1_restore 30 = .ok (.invokevirtual 462, 3) := dk_182 1 206 (dk_at dksX1_restore_1 7 rfl rfl)
theorem dX1_restore_33 : decode cX1_restore 33 = .ok (.aload_n 0, 1) := dk_42 (dk_at dksX1_restore_1 10 rfl rfl)
theorem dX1_restore_34 : decode cX1_restore 34 = .ok (.getfield 10, 3) := dk_180 0 10 (dk_at dksX1_restore_1 11 rfl rfl)
theorem dX1_restore_37 : decode cX1_restore 37 = .ok (.getfield 148, 3) := dk_180 0 148 (dk_at dksX1_restore_1 14 rfl rfl)
theorem dX1_restore_40 : decode cX1_restore 40 = .ok (.invokevirtual 158, 3) := dk_182 0 158 (dk_at dksX1_restore_1 17 rfl rfl)
theorem dX1_restore_43 : decode cX1_restore 43 = .ok (.ireturn, 1) := dk_172 (dk_at dksX1_restore_1 20 rfl rfl)
theorem q88 : (Jvm.Cond.initialized "FortPlanner") ∈ lw_all := lw_g (lw_at lw_m1 1 rfl) rfl
theorem q127 : (Jvm.Cond.instantiable "FortPlanner" (8 : Nat)) ∈ lw_all := lw_g (lw_at lw_m1 40 rfl) rfl
theorem q129 : (Jvm.Cond.instanceMethod ({ cls := "FortPlanner", name := "<init>", desc := "()V" } : Jvm.MethodName)) ∈ lw_all := lw_g (lw_at lw_m1 42 rfl) rfl
theorem q130 : (Jvm.Cond.code ({ cls := "FortPlanner", name := "<init>", desc := "()V" } : Jvm.MethodName) prog_1_method_1_code (1 : Nat) (Option.none : Option Jvm.ClassFile.FieldType)) ∈ lw_all := lw_g (lw_at lw_m1 43 rfl) rfl
theorem q131 : (Jvm.Cond.methodLink "FortPlanner" (1 : Nat) ({ cls := "java/lang/Object", name := "<init>", desc := "()V" } : Jvm.MethodName)) ∈ lw_all := lw_g (lw_at lw_m1 44 rfl) rfl
theorem q134 : (Jvm.Cond.classLink "FortPlanner" (7 : Nat) "FortPlanner$State") ∈ lw_all := lw_g (lw_at lw_m1 47 rfl) rfl
theorem q136 : (Jvm.Cond.methodLink "FortPlanner" (9 : Nat) ({ cls := "FortPlanner$State", name := "<init>", desc := "()V" } : Jvm.MethodName)) ∈ lw_all := lw_g (lw_at lw_m1 49 rfl) rfl
theorem q174 : (Jvm.Cond.fieldLinkNest "FortPlanner" (148 : Nat) "FortPlanner$State" "blocks" "Ljava/util/ArrayList;" "FortPlanner") ∈ lw_tbl := lw_at lw_m1 87 rfl
theorem q176 : (Jvm.Cond.fieldLinkNest "FortPlanner" (169 : Nat) "FortPlanner$State" "zones" "[LFortPlanner$Zone;" "FortPlanner") ∈ lw_tbl := lw_at lw_m1 89 rfl
theorem q178 : (Jvm.Cond.fieldLinkNest "FortPlanner" (177 : Nat) "FortPlanner$State" "hasTorch" "[Z" "FortPlanner") ∈ lw_tbl := lw_at lw_m1 91 rfl
theorem q180 : (Jvm.Cond.fieldLinkNest "FortPlanner" (230 : Nat) "FortPlanner$State" "placed" "I" "FortPlanner") ∈ lw_tbl := lw_at lw_m1 93 rfl
theorem q191 : (Jvm.Cond.classLink "FortPlanner" (16 : Nat) "java/util/ArrayDeque") ∈ lw_all := lw_g (lw_at lw_m1 104 rfl) rfl
theorem q193 : (Jvm.Cond.methodLink "FortPlanner" (18 : Nat) ({ cls := "java/util/ArrayDeque", name := "<init>", desc := "()V" } : Jvm.MethodName)) ∈ lw_all := lw_g (lw_at lw_m1 106 rfl) rfl
theorem q209 : (Jvm.Cond.classLink "FortPlanner" (23 : Nat) "java/lang/StringBuilder") ∈ lw_all := lw_g (lw_at lw_m1 122 rfl) rfl
theorem q211 : (Jvm.Cond.methodLink "FortPlanner" (25 : Nat) ({ cls := "java/lang/StringBuilder", name := "<init>", desc := "()V" } : Jvm.MethodName)) ∈ lw_all := lw_g (lw_at lw_m1 124 rfl) rfl
theorem q242 : (Jvm.Cond.fieldLink "FortPlanner" (10 : Nat) "FortPlanner" "state" "LFortPlanner$State;") ∈ lw_all := lw_g (lw_at lw_m1 155 rfl) rfl
theorem q243 : (Jvm.Cond.fieldLink "FortPlanner" (459 : Nat) "FortPlanner" "saved" "LFortPlanner$State;") ∈ lw_all := lw_g (lw_at lw_m1 156 rfl) rfl
theorem q244 : (Jvm.Cond.fieldLink "FortPlanner" (19 : Nat) "FortPlanner" "history" "Ljava/util/ArrayDeque;") ∈ lw_all := lw_g (lw_at lw_m1 157 rfl) rfl
theorem q245 : (Jvm.Cond.fieldLink "FortPlanner" (26 : Nat) "FortPlanner" "input" "Ljava/lang/StringBuilder;") ∈ lw_all := lw_g (lw_at lw_m1 158 rfl) rfl
theorem q246 : (Jvm.Cond.fieldLink "FortPlanner" (30 : Nat) "FortPlanner" "line" "Ljava/lang/StringBuilder;") ∈ lw_all := lw_g (lw_at lw_m1 159 rfl) rfl
theorem q247 : (Jvm.Cond.fieldLink "FortPlanner" (67 : Nat) "FortPlanner" "isExecuting" "Z") ∈ lw_all := lw_g (lw_at lw_m1 160 rfl) rfl
theorem q248 : (Jvm.Cond.fieldLink "FortPlanner" (33 : Nat) "FortPlanner" "errorPosition" "I") ∈ lw_all := lw_g (lw_at lw_m1 161 rfl) rfl
theorem q249 : (Jvm.Cond.fieldLink "FortPlanner" (37 : Nat) "FortPlanner" "failedCommand" "I") ∈ lw_all := lw_g (lw_at lw_m1 162 rfl) rfl
theorem q250 : (Jvm.Cond.lays "FortPlanner" "FortPlanner" "state" "LFortPlanner$State;") ∈ lw_all := lw_g (lw_at lw_m1 163 rfl) rfl
theorem q251 : (Jvm.Cond.soleField "FortPlanner" "state") ∈ lw_all := lw_g (lw_at lw_m1 164 rfl) rfl
theorem q252 : (Jvm.Cond.lays "FortPlanner" "FortPlanner" "saved" "LFortPlanner$State;") ∈ lw_all := lw_g (lw_at lw_m1 165 rfl) rfl
theorem q253 : (Jvm.Cond.soleField "FortPlanner" "saved") ∈ lw_all := lw_g (lw_at lw_m1 166 rfl) rfl
theorem q254 : (Jvm.Cond.laysFinal "FortPlanner" "FortPlanner" "history" "Ljava/util/ArrayDeque;") ∈ lw_all := lw_g (lw_at lw_m1 167 rfl) rfl
theorem q255 : (Jvm.Cond.soleField "FortPlanner" "history") ∈ lw_all := lw_g (lw_at lw_m1 168 rfl) rfl
theorem q256 : (Jvm.Cond.laysFinal "FortPlanner" "FortPlanner" "input" "Ljava/lang/StringBuilder;") ∈ lw_all := lw_g (lw_at lw_m1 169 rfl) rfl
theorem q257 : (Jvm.Cond.soleField "FortPlanner" "input") ∈ lw_all := lw_g (lw_at lw_m1 170 rfl) rfl
theorem q258 : (Jvm.Cond.laysFinal "FortPlanner" "FortPlanner" "line" "Ljava/lang/StringBuilder;") ∈ lw_all := lw_g (lw_at lw_m1 171 rfl) rfl
theorem q259 : (Jvm.Cond.soleField "FortPlanner" "line") ∈ lw_all := lw_g (lw_at lw_m1 172 rfl) rfl
theorem q260 : (Jvm.Cond.lays "FortPlanner" "FortPlanner" "isExecuting" "Z") ∈ lw_all := lw_g (lw_at lw_m1 173 rfl) rfl
theorem q261 : (Jvm.Cond.soleField "FortPlanner" "isExecuting") ∈ lw_all := lw_g (lw_at lw_m1 174 rfl) rfl
theorem q262 : (Jvm.Cond.lays "FortPlanner" "FortPlanner" "errorPosition" "I") ∈ lw_all := lw_g (lw_at lw_m1 175 rfl) rfl
theorem q263 : (Jvm.Cond.soleField "FortPlanner" "errorPosition") ∈ lw_all := lw_g (lw_at lw_m1 176 rfl) rfl
theorem q264 : (Jvm.Cond.lays "FortPlanner" "FortPlanner" "failedCommand" "I") ∈ lw_all := lw_g (lw_at lw_m1 177 rfl) rfl
theorem q265 : (Jvm.Cond.soleField "FortPlanner" "failedCommand") ∈ lw_all := lw_g (lw_at lw_m1 178 rfl) rfl
theorem q266 : (Jvm.Cond.superclass "FortPlanner" "java/lang/Object") ∈ lw_all := lw_g (lw_at lw_m1 179 rfl) rfl
theorem q268 : (Jvm.Cond.instanceMethod ({ cls := "FortPlanner", name := "steps", desc := "()I" } : Jvm.MethodName)) ∈ lw_all := lw_g (lw_at lw_m1 181 rfl) rfl
theorem q269 : (Jvm.Cond.selects "FortPlanner" ({ cls := "FortPlanner", name := "steps", desc := "()I" } : Jvm.MethodName) ({ cls := "FortPlanner", name := "steps", desc := "()I" } : Jvm.MethodName)) ∈ lw_all := lw_g (lw_at lw_m1 182 rfl) rfl
theorem q270 : (Jvm.Cond.code ({ cls := "FortPlanner", name := "steps", desc := "()I" } : Jvm.MethodName) prog_1_method_34_code (4 : Nat) (Option.some Jvm.ClassFile.FieldType.int)) ∈ lw_all := lw_g (lw_at lw_m1 183 rfl) rfl
theorem q271 : (Jvm.Cond.methodLink "FortPlanner" (188 : Nat) ({ cls := "FortPlanner$State", name := "height", desc := "(I)I" } : Jvm.MethodName)) ∈ lw_all := lw_g (lw_at lw_m1 184 rfl) rfl
theorem q404 : (Jvm.Cond.static ({ cls := "FortPlanner", name := "isBetween", desc := "(III)Z" } : Jvm.MethodName)) ∈ lw_all := lw_g (lw_at lw_m2 77 rfl) rfl
theorem q405 : (Jvm.Cond.code ({ cls := "FortPlanner", name := "isBetween", desc := "(III)Z" } : Jvm.MethodName) prog_1_method_6_code (3 : Nat) (Option.some Jvm.ClassFile.FieldType.boolean)) ∈ lw_all := lw_g (lw_at lw_m2 78 rfl) rfl
theorem q428 : (Jvm.Cond.instanceMethod ({ cls := "FortPlanner", name := "highestColumn", desc := "()I" } : Jvm.MethodName)) ∈ lw_all := lw_g (lw_at lw_m2 101 rfl) rfl
theorem q429 : (Jvm.Cond.selects "FortPlanner" ({ cls := "FortPlanner", name := "highestColumn", desc := "()I" } : Jvm.MethodName) ({ cls := "FortPlanner", name := "highestColumn", desc := "()I" } : Jvm.MethodName)) ∈ lw_all := lw_g (lw_at lw_m2 102 rfl) rfl
theorem q430 : (Jvm.Cond.code ({ cls := "FortPlanner", name := "highestColumn", desc := "()I" } : Jvm.MethodName) prog_1_method_35_code (3 : Nat) (Option.some Jvm.ClassFile.FieldType.int)) ∈ lw_all := lw_g (lw_at lw_m2 103 rfl) rfl
theorem q432 : (Jvm.Cond.instanceMethod ({ cls := "FortPlanner", name := "litCount", desc := "()I" } : Jvm.MethodName)) ∈ lw_all := lw_g (lw_at lw_m2 105 rfl) rfl
theorem q433 : (Jvm.Cond.selects "FortPlanner" ({ cls := "FortPlanner", name := "litCount", desc := "()I" } : Jvm.MethodName) ({ cls := "FortPlanner", name := "litCount", desc := "()I" } : Jvm.MethodName)) ∈ lw_all := lw_g (lw_at lw_m2 106 rfl) rfl
theorem q434 : (Jvm.Cond.code ({ cls := "FortPlanner", name := "litCount", desc := "()I" } : Jvm.MethodName) prog_1_method_41_code (1 : Nat) (Option.some Jvm.ClassFile.FieldType.int)) ∈ lw_all := lw_g (lw_at lw_m2 107 rfl) rfl
theorem q435 : (Jvm.Cond.methodLink "FortPlanner" (227 : Nat) ({ cls := "FortPlanner", name := "countLit", desc := "()I" } : Jvm.MethodName)) ∈ lw_all := lw_g (lw_at lw_m2 108 rfl) rfl
theorem q436 : (Jvm.Cond.privateMethod ({ cls := "FortPlanner", name := "countLit", desc := "()I" } : Jvm.MethodName)) ∈ lw_tbl := lw_at lw_m2 109 rfl
theorem q437 : (Jvm.Cond.instanceMethod ({ cls := "FortPlanner", name := "countLit", desc := "()I" } : Jvm.MethodName)) ∈ lw_all := lw_g (lw_at lw_m2 110 rfl) rfl
theorem q438 : (Jvm.Cond.code ({ cls := "FortPlanner", name := "countLit", desc := "()I" } : Jvm.MethodName) prog_1_method_40_code (6 : Nat) (Option.some Jvm.ClassFile.FieldType.int)) ∈ lw_all := lw_g (lw_at lw_m2 111 rfl) rfl
theorem q439 : (Jvm.Cond.methodLink "FortPlanner" (223 : Nat) ({ cls := "FortPlanner$State", name := "light", desc := "()[Z" } : Jvm.MethodName)) ∈ lw_all := lw_g (lw_at lw_m2 112 rfl) rfl
theorem q448 : (Jvm.Cond.static ({ cls := "FortPlanner", name := "isColumn", desc := "(I)Z" } : Jvm.MethodName)) ∈ lw_all := lw_g (lw_at lw_m2 121 rfl) rfl
theorem q449 : (Jvm.Cond.code ({ cls := "FortPlanner", name := "isColumn", desc := "(I)Z" } : Jvm.MethodName) prog_1_method_7_code (1 : Nat) (Option.some Jvm.ClassFile.FieldType.boolean)) ∈ lw_all := lw_g (lw_at lw_m2 122 rfl) rfl
theorem q450 : (Jvm.Cond.methodLink "FortPlanner" (52 : Nat) ({ cls := "FortPlanner", name := "isBetween", desc := "(III)Z" } : Jvm.MethodName)) ∈ lw_all := lw_g (lw_at lw_m2 123 rfl) rfl
theorem q457 : (Jvm.Cond.instanceMethod ({ cls := "FortPlanner", name := "blockCount", desc := "()I" } : Jvm.MethodName)) ∈ lw_all := lw_g (lw_at lw_m2 130 rfl) rfl
theorem q458 : (Jvm.Cond.selects "FortPlanner" ({ cls := "FortPlanner", name := "blockCount", desc := "()I" } : Jvm.MethodName) ({ cls := "FortPlanner", name := "blockCount", desc := "()I" } : Jvm.MethodName)) ∈ lw_all := lw_g (lw_at lw_m2 131 rfl) rfl
theorem q459 : (Jvm.Cond.code ({ cls := "FortPlanner", name := "blockCount", desc := "()I" } : Jvm.MethodName) prog_1_method_42_code (1 : Nat) (Option.some Jvm.ClassFile.FieldType.int)) ∈ lw_all := lw_g (lw_at lw_m2 132 rfl) rfl
theorem q460 : (Jvm.Cond.methodLink "FortPlanner" (158 : Nat) ({ cls := "java/util/ArrayList", name := "size", desc := "()I" } : Jvm.MethodName)) ∈ lw_all := lw_g (lw_at lw_m2 133 rfl) rfl
theorem q465 : (Jvm.Cond.instanceMethod ({ cls := "FortPlanner", name := "placedCount", desc := "()I" } : Jvm.MethodName)) ∈ lw_all := lw_g (lw_at lw_m2 138 rfl) rfl
theorem q466 : (Jvm.Cond.selects "FortPlanner" ({ cls := "FortPlanner", name := "placedCount", desc := "()I" } : Jvm.MethodName) ({ cls := "FortPlanner", name := "placedCount", desc := "()I" } : Jvm.MethodName)) ∈ lw_all := lw_g (lw_at lw_m2 139 rfl) rfl
theorem q467 : (Jvm.Cond.code ({ cls := "FortPlanner", name := "placedCount", desc := "()I" } : Jvm.MethodName) prog_1_method_43_code (1 : Nat) (Option.some Jvm.ClassFile.FieldType.int)) ∈ lw_all := lw_g (lw_at lw_m2 140 rfl) rfl
theorem q469 : (Jvm.Cond.instanceMethod ({ cls := "FortPlanner", name := "isPresent", desc := "(I)Z" } : Jvm.MethodName)) ∈ lw_all := lw_g (lw_at lw_m2 142 rfl) rfl
theorem q470 : (Jvm.Cond.selects "FortPlanner" ({ cls := "FortPlanner", name := "isPresent", desc := "(I)Z" } : Jvm.MethodName) ({ cls := "FortPlanner", name := "isPresent", desc := "(I)Z" } : Jvm.MethodName)) ∈ lw_all := lw_g (lw_at lw_m2 143 rfl) rfl
theorem q471 : (Jvm.Cond.code ({ cls := "FortPlanner", name := "isPresent", desc := "(I)Z" } : Jvm.MethodName) prog_1_method_44_code (2 : Nat) (Option.some Jvm.ClassFile.FieldType.boolean)) ∈ lw_all := lw_g (lw_at lw_m2 144 rfl) rfl
theorem q472 : (Jvm.Cond.methodLink "FortPlanner" (87 : Nat) ({ cls := "FortPlanner$State", name := "find", desc := "(I)LFortPlanner$Block;" } : Jvm.MethodName)) ∈ lw_all := lw_g (lw_at lw_m2 145 rfl) rfl
theorem q477 : (Jvm.Cond.instanceMethod ({ cls := "FortPlanner", name := "levelCount", desc := "()I" } : Jvm.MethodName)) ∈ lw_all := lw_g (lw_at lw_m2 150 rfl) rfl
theorem q478 : (Jvm.Cond.selects "FortPlanner" ({ cls := "FortPlanner", name := "levelCount", desc := "()I" } : Jvm.MethodName) ({ cls := "FortPlanner", name := "levelCount", desc := "()I" } : Jvm.MethodName)) ∈ lw_all := lw_g (lw_at lw_m2 151 rfl) rfl
theorem q479 : (Jvm.Cond.code ({ cls := "FortPlanner", name := "levelCount", desc := "()I" } : Jvm.MethodName) prog_1_method_65_code (4 : Nat) (Option.some Jvm.ClassFile.FieldType.int)) ∈ lw_all := lw_g (lw_at lw_m2 152 rfl) rfl
theorem q480 : (Jvm.Cond.methodLink "FortPlanner" (279 : Nat) ({ cls := "FortPlanner$State", name := "unknownNumbers", desc := "()[I" } : Jvm.MethodName)) ∈ lw_all := lw_g (lw_at lw_m2 153 rfl) rfl
theorem q485 : (Jvm.Cond.methodLink "FortPlanner" (282 : Nat) ({ cls := "FortPlanner$State", name := "recursiveLevel", desc := "(I[I)I" } : Jvm.MethodName)) ∈ lw_all := lw_g (lw_at lw_m2 158 rfl) rfl
theorem q512 : (Jvm.Cond.methodLink "FortPlanner" (286 : Nat) ({ cls := "java/lang/Math", name := "max", desc := "(II)I" } : Jvm.MethodName)) ∈ lw_all := lw_g (lw_at lw_m2 185 rfl) rfl
theorem q515 : (Jvm.Cond.instanceMethod ({ cls := "FortPlanner", name := "totalWeight", desc := "()I" } : Jvm.MethodName)) ∈ lw_all := lw_g (lw_at lw_m2 188 rfl) rfl
theorem q516 : (Jvm.Cond.selects "FortPlanner" ({ cls := "FortPlanner", name := "totalWeight", desc := "()I" } : Jvm.MethodName) ({ cls := "FortPlanner", name := "totalWeight", desc := "()I" } : Jvm.MethodName)) ∈ lw_all := lw_g (lw_at lw_m2 189 rfl) rfl
theorem q517 : (Jvm.Cond.code ({ cls := "FortPlanner", name := "totalWeight", desc := "()I" } : Jvm.MethodName) prog_1_method_70_code (1 : Nat) (Option.some Jvm.ClassFile.FieldType.int)) ∈ lw_all := lw_g (lw_at lw_m2 190 rfl) rfl
theorem q518 : (Jvm.Cond.methodLink "FortPlanner" (307 : Nat) ({ cls := "FortPlanner", name := "weightOfAll", desc := "()I" } : Jvm.MethodName)) ∈ lw_all := lw_g (lw_at lw_m2 191 rfl) rfl
theorem q519 : (Jvm.Cond.privateMethod ({ cls := "FortPlanner", name := "weightOfAll", desc := "()I" } : Jvm.MethodName)) ∈ lw_tbl := lw_at lw_m2 192 rfl
theorem q520 : (Jvm.Cond.instanceMethod ({ cls := "FortPlanner", name := "weightOfAll", desc := "()I" } : Jvm.MethodName)) ∈ lw_all := lw_g (lw_at lw_m2 193 rfl) rfl
theorem q521 : (Jvm.Cond.code ({ cls := "FortPlanner", name := "weightOfAll", desc := "()I" } : Jvm.MethodName) prog_1_method_68_code (1 : Nat) (Option.some Jvm.ClassFile.FieldType.int)) ∈ lw_all := lw_g (lw_at lw_m2 194 rfl) rfl
theorem q522 : (Jvm.Cond.static ({ cls := "FortPlanner", name := "lambda$weightOfAll$4", desc := "(LFortPlanner$Block;)Z" } : Jvm.MethodName)) ∈ lw_all := lw_g (lw_at lw_m2 195 rfl) rfl
theorem q523 : (Jvm.Cond.code ({ cls := "FortPlanner", name := "lambda$weightOfAll$4", desc := "(LFortPlanner$Block;)Z" } : Jvm.MethodName) prog_1_method_94_code (1 : Nat) (Option.some Jvm.ClassFile.FieldType.boolean)) ∈ lw_all := lw_g (lw_at lw_m2 196 rfl) rfl
theorem q524 : (Jvm.Cond.static ({ cls := "FortPlanner", name := "lambda$weightOfAll$5", desc := "(LFortPlanner$Block;)I" } : Jvm.MethodName)) ∈ lw_all := lw_g (lw_at lw_m2 197 rfl) rfl
theorem q525 : (Jvm.Cond.code ({ cls := "FortPlanner", name := "lambda$weightOfAll$5", desc := "(LFortPlanner$Block;)I" } : Jvm.MethodName) prog_1_method_93_code (1 : Nat) (Option.some Jvm.ClassFile.FieldType.int)) ∈ lw_all := lw_g (lw_at lw_m2 198 rfl) rfl
theorem q526 : (Jvm.Cond.methodLink "FortPlanner" (210 : Nat) ({ cls := "FortPlanner$State", name := "sum", desc := "(LFortPlanner$BlockTest;LFortPlanner$BlockValue;)I" } : Jvm.MethodName)) ∈ lw_all := lw_g (lw_at lw_m2 199 rfl) rfl
theorem q539 : (Jvm.Cond.instanceMethod ({ cls := "FortPlanner", name := "floorPressure", desc := "()I" } : Jvm.MethodName)) ∈ lw_all := lw_g (lw_at lw_m2 212 rfl) rfl
theorem q540 : (Jvm.Cond.selects "FortPlanner" ({ cls := "FortPlanner", name := "floorPressure", desc := "()I" } : Jvm.MethodName) ({ cls := "FortPlanner", name := "floorPressure", desc := "()I" } : Jvm.MethodName)) ∈ lw_all := lw_g (lw_at lw_m2 213 rfl) rfl
theorem q541 : (Jvm.Cond.code ({ cls := "FortPlanner", name := "floorPressure", desc := "()I" } : Jvm.MethodName) prog_1_method_71_code (1 : Nat) (Option.some Jvm.ClassFile.FieldType.int)) ∈ lw_all := lw_g (lw_at lw_m2 214 rfl) rfl
theorem q542 : (Jvm.Cond.methodLink "FortPlanner" (310 : Nat) ({ cls := "FortPlanner", name := "pressureOnFloor", desc := "()I" } : Jvm.MethodName)) ∈ lw_all := lw_g (lw_at lw_m2 215 rfl) rfl
theorem q543 : (Jvm.Cond.privateMethod ({ cls := "FortPlanner", name := "pressureOnFloor", desc := "()I" } : Jvm.MethodName)) ∈ lw_tbl := lw_at lw_m2 216 rfl
theorem q544 : (Jvm.Cond.instanceMethod ({ cls := "FortPlanner", name := "pressureOnFloor", desc := "()I" } : Jvm.MethodName)) ∈ lw_all := lw_g (lw_at lw_m2 217 rfl) rfl
theorem q545 : (Jvm.Cond.code ({ cls := "FortPlanner", name := "pressureOnFloor", desc := "()I" } : Jvm.MethodName) prog_1_method_69_code (2 : Nat) (Option.some Jvm.ClassFile.FieldType.int)) ∈ lw_all := lw_g (lw_at lw_m2 218 rfl) rfl
theorem q546 : (Jvm.Cond.methodLink "FortPlanner" (266 : Nat) ({ cls := "FortPlanner$State", name := "loads", desc := "()[I" } : Jvm.MethodName)) ∈ lw_all := lw_g (lw_at lw_m2 219 rfl) rfl
theorem q838 : (Jvm.Cond.selects "FortPlanner" ({ cls := "java/lang/Object", name := "getClass", desc := "()Ljava/lang/Class;" } : Jvm.MethodName) ({ cls := "java/lang/Object", name := "getClass", desc := "()Ljava/lang/Class;" } : Jvm.MethodName)) ∈ lw_all := lw_g (lw_at lw_m4 31 rfl) rfl
theorem q882 : (Jvm.Cond.selects "FortPlanner" ({ cls := "java/lang/Object", name := "equals", desc := "(Ljava/lang/Object;)Z" } : Jvm.MethodName) ({ cls := "java/lang/Object", name := "equals", desc := "(Ljava/lang/Object;)Z" } : Jvm.MethodName)) ∈ lw_all := lw_g (lw_at lw_m4 75 rfl) rfl
theorem q913 : (Jvm.Cond.static ({ cls := "FortPlanner", name := "lambda$pressureOnFloor$6", desc := "(LFortPlanner$Block;)Z" } : Jvm.MethodName)) ∈ lw_all := lw_g (lw_at lw_m4 106 rfl) rfl
theorem q914 : (Jvm.Cond.code ({ cls := "FortPlanner", name := "lambda$pressureOnFloor$6", desc := "(LFortPlanner$Block;)Z" } : Jvm.MethodName) prog_1_method_92_code (1 : Nat) (Option.some Jvm.ClassFile.FieldType.boolean)) ∈ lw_all := lw_g (lw_at lw_m4 107 rfl) rfl
theorem q915 : (Jvm.Cond.privateMethod ({ cls := "FortPlanner", name := "lambda$pressureOnFloor$7", desc := "([ILFortPlanner$Block;)I" } : Jvm.MethodName)) ∈ lw_tbl := lw_at lw_m4 108 rfl
theorem q916 : (Jvm.Cond.instanceMethod ({ cls := "FortPlanner", name := "lambda$pressureOnFloor$7", desc := "([ILFortPlanner$Block;)I" } : Jvm.MethodName)) ∈ lw_all := lw_g (lw_at lw_m4 109 rfl) rfl
theorem q917 : (Jvm.Cond.code ({ cls := "FortPlanner", name := "lambda$pressureOnFloor$7", desc := "([ILFortPlanner$Block;)I" } : Jvm.MethodName) prog_1_method_91_code (3 : Nat) (Option.some Jvm.ClassFile.FieldType.int)) ∈ lw_all := lw_g (lw_at lw_m4 110 rfl) rfl
theorem q918 : (Jvm.Cond.methodLink "FortPlanner" (465 : Nat) ({ cls := "java/util/ArrayList", name := "indexOf", desc := "(Ljava/lang/Object;)I" } : Jvm.MethodName)) ∈ lw_all := lw_g (lw_at lw_m4 111 rfl) rfl
theorem q920 : (Jvm.Cond.instanceMethod ({ cls := "FortPlanner", name := "meanHeight", desc := "()D" } : Jvm.MethodName)) ∈ lw_all := lw_g (lw_at lw_m4 113 rfl) rfl
theorem q921 : (Jvm.Cond.selects "FortPlanner" ({ cls := "FortPlanner", name := "meanHeight", desc := "()D" } : Jvm.MethodName) ({ cls := "FortPlanner", name := "meanHeight", desc := "()D" } : Jvm.MethodName)) ∈ lw_all := lw_g (lw_at lw_m4 114 rfl) rfl
theorem q922 : (Jvm.Cond.code ({ cls := "FortPlanner", name := "meanHeight", desc := "()D" } : Jvm.MethodName) prog_1_method_72_code (3 : Nat) (Option.some Jvm.ClassFile.FieldType.double)) ∈ lw_all := lw_g (lw_at lw_m4 115 rfl) rfl
theorem q923 : (Jvm.Cond.constantDouble "FortPlanner" (313 : Nat) (4622945017495814144 : UInt64)) ∈ lw_all := lw_g (lw_at lw_m4 116 rfl) rfl
theorem q925 : (Jvm.Cond.instanceMethod ({ cls := "FortPlanner", name := "litShare", desc := "()F" } : Jvm.MethodName)) ∈ lw_all := lw_g (lw_at lw_m4 118 rfl) rfl
theorem q926 : (Jvm.Cond.selects "FortPlanner" ({ cls := "FortPlanner", name := "litShare", desc := "()F" } : Jvm.MethodName) ({ cls := "FortPlanner", name := "litShare", desc := "()F" } : Jvm.MethodName)) ∈ lw_all := lw_g (lw_at lw_m4 119 rfl) rfl
theorem q927 : (Jvm.Cond.code ({ cls := "FortPlanner", name := "litShare", desc := "()F" } : Jvm.MethodName) prog_1_method_73_code (1 : Nat) (Option.some Jvm.ClassFile.FieldType.float)) ∈ lw_all := lw_g (lw_at lw_m4 120 rfl) rfl
theorem q928 : (Jvm.Cond.constantFloat "FortPlanner" (315 : Nat) (1094713344 : UInt32)) ∈ lw_all := lw_g (lw_at lw_m4 121 rfl) rfl
theorem q930 : (Jvm.Cond.instanceMethod ({ cls := "FortPlanner", name := "isConsistent", desc := "()Z" } : Jvm.MethodName)) ∈ lw_all := lw_g (lw_at lw_m4 123 rfl) rfl
theorem q931 : (Jvm.Cond.selects "FortPlanner" ({ cls := "FortPlanner", name := "isConsistent", desc := "()Z" } : Jvm.MethodName) ({ cls := "FortPlanner", name := "isConsistent", desc := "()Z" } : Jvm.MethodName)) ∈ lw_all := lw_g (lw_at lw_m4 124 rfl) rfl
theorem q932 : (Jvm.Cond.code ({ cls := "FortPlanner", name := "isConsistent", desc := "()Z" } : Jvm.MethodName) prog_1_method_77_code (2 : Nat) (Option.some Jvm.ClassFile.FieldType.boolean)) ∈ lw_all := lw_g (lw_at lw_m4 125 rfl) rfl
theorem q933 : (Jvm.Cond.methodLink "FortPlanner" (319 : Nat) ({ cls := "FortPlanner", name := "areLoadsEqual", desc := "()Z" } : Jvm.MethodName)) ∈ lw_all := lw_g (lw_at lw_m4 126 rfl) rfl
theorem q934 : (Jvm.Cond.privateMethod ({ cls := "FortPlanner", name := "areLoadsEqual", desc := "()Z" } : Jvm.MethodName)) ∈ lw_tbl := lw_at lw_m4 127 rfl
theorem q935 : (Jvm.Cond.instanceMethod ({ cls := "FortPlanner", name := "areLoadsEqual", desc := "()Z" } : Jvm.MethodName)) ∈ lw_all := lw_g (lw_at lw_m4 128 rfl) rfl
theorem q936 : (Jvm.Cond.code ({ cls := "FortPlanner", name := "areLoadsEqual", desc := "()Z" } : Jvm.MethodName) prog_1_method_74_code (4 : Nat) (Option.some Jvm.ClassFile.FieldType.boolean)) ∈ lw_all := lw_g (lw_at lw_m4 129 rfl) rfl
theorem q937 : (Jvm.Cond.methodLink "FortPlanner" (316 : Nat) ({ cls := "FortPlanner$State", name := "recursiveLoad", desc := "(I[I)I" } : Jvm.MethodName)) ∈ lw_all := lw_g (lw_at lw_m4 130 rfl) rfl
theorem q942 : (Jvm.Cond.methodLink "FortPlanner" (323 : Nat) ({ cls := "FortPlanner", name := "isLightEqual", desc := "()Z" } : Jvm.MethodName)) ∈ lw_all := lw_g (lw_at lw_m4 135 rfl) rfl
theorem q943 : (Jvm.Cond.privateMethod ({ cls := "FortPlanner", name := "isLightEqual", desc := "()Z" } : Jvm.MethodName)) ∈ lw_tbl := lw_at lw_m4 136 rfl
theorem q944 : (Jvm.Cond.instanceMethod ({ cls := "FortPlanner", name := "isLightEqual", desc := "()Z" } : Jvm.MethodName)) ∈ lw_all := lw_g (lw_at lw_m4 137 rfl) rfl
theorem q945 : (Jvm.Cond.code ({ cls := "FortPlanner", name := "isLightEqual", desc := "()Z" } : Jvm.MethodName) prog_1_method_76_code (3 : Nat) (Option.some Jvm.ClassFile.FieldType.boolean)) ∈ lw_all := lw_g (lw_at lw_m4 138 rfl) rfl
theorem q946 : (Jvm.Cond.methodLink "FortPlanner" (220 : Nat) ({ cls := "FortPlanner$State", name := "isLit", desc := "(I)Z" } : Jvm.MethodName)) ∈ lw_all := lw_g (lw_at lw_m4 139 rfl) rfl
theorem q955 : (Jvm.Cond.methodLink "FortPlanner" (326 : Nat) ({ cls := "FortPlanner", name := "areHolesEqual", desc := "()Z" } : Jvm.MethodName)) ∈ lw_all := lw_g (lw_at lw_m4 148 rfl) rfl
theorem q956 : (Jvm.Cond.privateMethod ({ cls := "FortPlanner", name := "areHolesEqual", desc := "()Z" } : Jvm.MethodName)) ∈ lw_tbl := lw_at lw_m4 149 rfl
theorem q957 : (Jvm.Cond.instanceMethod ({ cls := "FortPlanner", name := "areHolesEqual", desc := "()Z" } : Jvm.MethodName)) ∈ lw_all := lw_g (lw_at lw_m4 150 rfl) rfl
theorem q958 : (Jvm.Cond.code ({ cls := "FortPlanner", name := "areHolesEqual", desc := "()Z" } : Jvm.MethodName) prog_1_method_75_code (2 : Nat) (Option.some Jvm.ClassFile.FieldType.boolean)) ∈ lw_all := lw_g (lw_at lw_m4 151 rfl) rfl
theorem q959 : (Jvm.Cond.methodLink "FortPlanner" (214 : Nat) ({ cls := "FortPlanner", name := "countHoles", desc := "(I)I" } : Jvm.MethodName)) ∈ lw_all := lw_g (lw_at lw_m4 152 rfl) rfl
theorem q960 : (Jvm.Cond.privateMethod ({ cls := "FortPlanner", name := "countHoles", desc := "(I)I" } : Jvm.MethodName)) ∈ lw_tbl := lw_at lw_m4 153 rfl
theorem q961 : (Jvm.Cond.instanceMethod ({ cls := "FortPlanner", name := "countHoles", desc := "(I)I" } : Jvm.MethodName)) ∈ lw_all := lw_g (lw_at lw_m4 154 rfl) rfl
theorem q962 : (Jvm.Cond.code ({ cls := "FortPlanner", name := "countHoles", desc := "(I)I" } : Jvm.MethodName) prog_1_method_30_code (4 : Nat) (Option.some Jvm.ClassFile.FieldType.int)) ∈ lw_all := lw_g (lw_at lw_m4 155 rfl) rfl
theorem q963 : (Jvm.Cond.methodLink "FortPlanner" (200 : Nat) ({ cls := "FortPlanner", name := "isFilled", desc := "(II)Z" } : Jvm.MethodName)) ∈ lw_all := lw_g (lw_at lw_m4 156 rfl) rfl
theorem q964 : (Jvm.Cond.privateMethod ({ cls := "FortPlanner", name := "isFilled", desc := "(II)Z" } : Jvm.MethodName)) ∈ lw_tbl := lw_at lw_m4 157 rfl
theorem q965 : (Jvm.Cond.instanceMethod ({ cls := "FortPlanner", name := "isFilled", desc := "(II)Z" } : Jvm.MethodName)) ∈ lw_all := lw_g (lw_at lw_m4 158 rfl) rfl
theorem q966 : (Jvm.Cond.code ({ cls := "FortPlanner", name := "isFilled", desc := "(II)Z" } : Jvm.MethodName) prog_1_method_29_code (3 : Nat) (Option.some Jvm.ClassFile.FieldType.boolean)) ∈ lw_all := lw_g (lw_at lw_m4 159 rfl) rfl
theorem q967 : (Jvm.Cond.static ({ cls := "FortPlanner", name := "lambda$isFilled$0", desc := "(IILFortPlanner$Block;)Z" } : Jvm.MethodName)) ∈ lw_all := lw_g (lw_at lw_m4 160 rfl) rfl
theorem q968 : (Jvm.Cond.code ({ cls := "FortPlanner", name := "lambda$isFilled$0", desc := "(IILFortPlanner$Block;)Z" } : Jvm.MethodName) prog_1_method_98_code (3 : Nat) (Option.some Jvm.ClassFile.FieldType.boolean)) ∈ lw_all := lw_g (lw_at lw_m4 161 rfl) rfl
theorem q969 : (Jvm.Cond.methodLink "FortPlanner" (472 : Nat) ({ cls := "FortPlanner$Block", name := "covers", desc := "(I)Z" } : Jvm.MethodName)) ∈ lw_all := lw_g (lw_at lw_m4 162 rfl) rfl
theorem q970 : (Jvm.Cond.methodLink "FortPlanner" (252 : Nat) ({ cls := "FortPlanner$Block", name := "top", desc := "()I" } : Jvm.MethodName)) ∈ lw_all := lw_g (lw_at lw_m4 163 rfl) rfl
theorem q971 : (Jvm.Cond.methodLink "FortPlanner" (196 : Nat) ({ cls := "FortPlanner$State", name := "count", desc := "(LFortPlanner$BlockTest;)I" } : Jvm.MethodName)) ∈ lw_all := lw_g (lw_at lw_m4 164 rfl) rfl
theorem q975 : (Jvm.Cond.methodLink "FortPlanner" (217 : Nat) ({ cls := "FortPlanner", name := "computeHoles", desc := "(I)I" } : Jvm.MethodName)) ∈ lw_all := lw_g (lw_at lw_m4 168 rfl) rfl
theorem q976 : (Jvm.Cond.privateMethod ({ cls := "FortPlanner", name := "computeHoles", desc := "(I)I" } : Jvm.MethodName)) ∈ lw_tbl := lw_at lw_m4 169 rfl
theorem q977 : (Jvm.Cond.instanceMethod ({ cls := "FortPlanner", name := "computeHoles", desc := "(I)I" } : Jvm.MethodName)) ∈ lw_all := lw_g (lw_at lw_m4 170 rfl) rfl
theorem q978 : (Jvm.Cond.code ({ cls := "FortPlanner", name := "computeHoles", desc := "(I)I" } : Jvm.MethodName) prog_1_method_31_code (2 : Nat) (Option.some Jvm.ClassFile.FieldType.int)) ∈ lw_all := lw_g (lw_at lw_m4 171 rfl) rfl
theorem q979 : (Jvm.Cond.static ({ cls := "FortPlanner", name := "lambda$computeHoles$1", desc := "(ILFortPlanner$Block;)Z" } : Jvm.MethodName)) ∈ lw_all := lw_g (lw_at lw_m4 172 rfl) rfl
theorem q980 : (Jvm.Cond.code ({ cls := "FortPlanner", name := "lambda$computeHoles$1", desc := "(ILFortPlanner$Block;)Z" } : Jvm.MethodName) prog_1_method_97_code (2 : Nat) (Option.some Jvm.ClassFile.FieldType.boolean)) ∈ lw_all := lw_g (lw_at lw_m4 173 rfl) rfl
theorem q981 : (Jvm.Cond.static ({ cls := "FortPlanner", name := "lambda$computeHoles$2", desc := "(LFortPlanner$Block;)I" } : Jvm.MethodName)) ∈ lw_all := lw_g (lw_at lw_m4 174 rfl) rfl
theorem q982 : (Jvm.Cond.code ({ cls := "FortPlanner", name := "lambda$computeHoles$2", desc := "(LFortPlanner$Block;)I" } : Jvm.MethodName) prog_1_method_96_code (1 : Nat) (Option.some Jvm.ClassFile.FieldType.int)) ∈ lw_all := lw_g (lw_at lw_m4 175 rfl) rfl
theorem q983 : (Jvm.Cond.methodLink "FortPlanner" (469 : Nat) ({ cls := "FortPlanner$Block", name := "thickness", desc := "()I" } : Jvm.MethodName)) ∈ lw_all := lw_g (lw_at lw_m4 176 rfl) rfl
theorem q984 : (Jvm.Cond.methodLink "FortPlanner" (329 : Nat) ({ cls := "FortPlanner$State", name := "isOverloaded", desc := "()Z" } : Jvm.MethodName)) ∈ lw_all := lw_g (lw_at lw_m4 177 rfl) rfl
theorem q1006 : (Jvm.Cond.instanceMethod ({ cls := "FortPlanner", name := "formatHeights", desc := "()I" } : Jvm.MethodName)) ∈ lw_all := lw_g (lw_at lw_m4 199 rfl) rfl
theorem q1007 : (Jvm.Cond.selects "FortPlanner" ({ cls := "FortPlanner", name := "formatHeights", desc := "()I" } : Jvm.MethodName) ({ cls := "FortPlanner", name := "formatHeights", desc := "()I" } : Jvm.MethodName)) ∈ lw_all := lw_g (lw_at lw_m4 200 rfl) rfl
theorem q1008 : (Jvm.Cond.code ({ cls := "FortPlanner", name := "formatHeights", desc := "()I" } : Jvm.MethodName) prog_1_method_79_code (2 : Nat) (Option.some Jvm.ClassFile.FieldType.int)) ∈ lw_all := lw_g (lw_at lw_m4 201 rfl) rfl
theorem q1009 : (Jvm.Cond.methodLink "FortPlanner" (332 : Nat) ({ cls := "java/lang/StringBuilder", name := "setLength", desc := "(I)V" } : Jvm.MethodName)) ∈ lw_all := lw_g (lw_at lw_m4 202 rfl) rfl
theorem q1074 : (Jvm.Cond.stringRef "FortPlanner" (353 : Nat) " ") ∈ lw_tbl := lw_at lw_m5 27 rfl
theorem q1075 : (Jvm.Cond.stringRef "FortPlanner" (355 : Nat) "") ∈ lw_tbl := lw_at lw_m5 28 rfl
theorem q1076 : (Jvm.Cond.methodLink "FortPlanner" (347 : Nat) ({ cls := "java/lang/StringBuilder", name := "append", desc := "(Ljava/lang/String;)Ljava/lang/StringBuilder;" } : Jvm.MethodName)) ∈ lw_all := lw_g (lw_at lw_m5 29 rfl) rfl
theorem q1077 : (Jvm.Cond.stringRef "FortPlanner" (357 : Nat) "!") ∈ lw_tbl := lw_at lw_m5 30 rfl
theorem q1078 : (Jvm.Cond.methodLink "FortPlanner" (342 : Nat) ({ cls := "java/lang/StringBuilder", name := "append", desc := "(I)Ljava/lang/StringBuilder;" } : Jvm.MethodName)) ∈ lw_all := lw_g (lw_at lw_m5 31 rfl) rfl
theorem q1079 : (Jvm.Cond.methodLink "FortPlanner" (350 : Nat) ({ cls := "java/lang/StringBuilder", name := "length", desc := "()I" } : Jvm.MethodName)) ∈ lw_all := lw_g (lw_at lw_m5 32 rfl) rfl
theorem q1081 : (Jvm.Cond.instanceMethod ({ cls := "FortPlanner", name := "undoableCount", desc := "()I" } : Jvm.MethodName)) ∈ lw_all := lw_g (lw_at lw_m5 34 rfl) rfl
theorem q1082 : (Jvm.Cond.selects "FortPlanner" ({ cls := "FortPlanner", name := "undoableCount", desc := "()I" } : Jvm.MethodName) ({ cls := "FortPlanner", name := "undoableCount", desc := "()I" } : Jvm.MethodName)) ∈ lw_all := lw_g (lw_at lw_m5 35 rfl) rfl
theorem q1083 : (Jvm.Cond.code ({ cls := "FortPlanner", name := "undoableCount", desc := "()I" } : Jvm.MethodName) prog_1_method_87_code (1 : Nat) (Option.some Jvm.ClassFile.FieldType.int)) ∈ lw_all := lw_g (lw_at lw_m5 36 rfl) rfl
theorem q1084 : (Jvm.Cond.methodLink "FortPlanner" (79 : Nat) ({ cls := "java/util/ArrayDeque", name := "size", desc := "()I" } : Jvm.MethodName)) ∈ lw_all := lw_g (lw_at lw_m5 37 rfl) rfl
theorem q1092 : (Jvm.Cond.instanceMethod ({ cls := "FortPlanner", name := "save", desc := "()I" } : Jvm.MethodName)) ∈ lw_all := lw_g (lw_at lw_m5 45 rfl) rfl
theorem q1093 : (Jvm.Cond.selects "FortPlanner" ({ cls := "FortPlanner", name := "save", desc := "()I" } : Jvm.MethodName) ({ cls := "FortPlanner", name := "save", desc := "()I" } : Jvm.MethodName)) ∈ lw_all := lw_g (lw_at lw_m5 46 rfl) rfl
theorem q1094 : (Jvm.Cond.code ({ cls := "FortPlanner", name := "save", desc := "()I" } : Jvm.MethodName) prog_1_method_89_code (1 : Nat) (Option.some Jvm.ClassFile.FieldType.int)) ∈ lw_all := lw_g (lw_at lw_m5 47 rfl) rfl
theorem q1095 : (Jvm.Cond.methodLink "FortPlanner" (71 : Nat) ({ cls := "FortPlanner$State", name := "copy", desc := "()LFortPlanner$State;" } : Jvm.MethodName)) ∈ lw_all := lw_g (lw_at lw_m5 48 rfl) rfl
theorem q1115 : (Jvm.Cond.instanceMethod ({ cls := "FortPlanner", name := "placeFoam", desc := "(III)I" } : Jvm.MethodName)) ∈ lw_all := lw_g (lw_at lw_m5 68 rfl) rfl
theorem q1116 : (Jvm.Cond.selects "FortPlanner" ({ cls := "FortPlanner", name := "placeFoam", desc := "(III)I" } : Jvm.MethodName) ({ cls := "FortPlanner", name := "placeFoam", desc := "(III)I" } : Jvm.MethodName)) ∈ lw_all := lw_g (lw_at lw_m5 69 rfl) rfl
theorem q1117 : (Jvm.Cond.code ({ cls := "FortPlanner", name := "placeFoam", desc := "(III)I" } : Jvm.MethodName) prog_1_method_16_code (4 : Nat) (Option.some Jvm.ClassFile.FieldType.int)) ∈ lw_all := lw_g (lw_at lw_m5 70 rfl) rfl
theorem q1118 : (Jvm.Cond.methodLink "FortPlanner" (136 : Nat) ({ cls := "FortPlanner", name := "place", desc := "(CIII)I" } : Jvm.MethodName)) ∈ lw_all := lw_g (lw_at lw_m5 71 rfl) rfl
theorem q1119 : (Jvm.Cond.privateMethod ({ cls := "FortPlanner", name := "place", desc := "(CIII)I" } : Jvm.MethodName)) ∈ lw_tbl := lw_at lw_m5 72 rfl
theorem q1120 : (Jvm.Cond.instanceMethod ({ cls := "FortPlanner", name := "place", desc := "(CIII)I" } : Jvm.MethodName)) ∈ lw_all := lw_g (lw_at lw_m5 73 rfl) rfl
theorem q1121 : (Jvm.Cond.code ({ cls := "FortPlanner", name := "place", desc := "(CIII)I" } : Jvm.MethodName) prog_1_method_14_code (6 : Nat) (Option.some Jvm.ClassFile.FieldType.int)) ∈ lw_all := lw_g (lw_at lw_m5 74 rfl) rfl
theorem q1122 : (Jvm.Cond.methodLink "FortPlanner" (109 : Nat) ({ cls := "FortPlanner", name := "checkBlock", desc := "(III)V" } : Jvm.MethodName)) ∈ lw_all := lw_g (lw_at lw_m5 75 rfl) rfl
theorem q1123 : (Jvm.Cond.static ({ cls := "FortPlanner", name := "checkBlock", desc := "(III)V" } : Jvm.MethodName)) ∈ lw_all := lw_g (lw_at lw_m5 76 rfl) rfl
theorem q1124 : (Jvm.Cond.code ({ cls := "FortPlanner", name := "checkBlock", desc := "(III)V" } : Jvm.MethodName) prog_1_method_13_code (3 : Nat) (Option.none : Option Jvm.ClassFile.FieldType)) ∈ lw_all := lw_g (lw_at lw_m5 77 rfl) rfl
theorem q1125 : (Jvm.Cond.methodLink "FortPlanner" (105 : Nat) ({ cls := "FortPlanner", name := "checkPlace", desc := "(II)V" } : Jvm.MethodName)) ∈ lw_all := lw_g (lw_at lw_m5 78 rfl) rfl
theorem q1126 : (Jvm.Cond.static ({ cls := "FortPlanner", name := "checkPlace", desc := "(II)V" } : Jvm.MethodName)) ∈ lw_all := lw_g (lw_at lw_m5 79 rfl) rfl
theorem q1127 : (Jvm.Cond.code ({ cls := "FortPlanner", name := "checkPlace", desc := "(II)V" } : Jvm.MethodName) prog_1_method_12_code (2 : Nat) (Option.none : Option Jvm.ClassFile.FieldType)) ∈ lw_all := lw_g (lw_at lw_m5 80 rfl) rfl
theorem q1128 : (Jvm.Cond.methodLink "FortPlanner" (95 : Nat) ({ cls := "FortPlanner", name := "isColumn", desc := "(I)Z" } : Jvm.MethodName)) ∈ lw_all := lw_g (lw_at lw_m5 81 rfl) rfl
theorem q1129 : (Jvm.Cond.methodLink "FortPlanner" (102 : Nat) ({ cls := "FortPlanner", name := "checkArgument", desc := "(Z)V" } : Jvm.MethodName)) ∈ lw_all := lw_g (lw_at lw_m5 82 rfl) rfl
theorem q1130 : (Jvm.Cond.static ({ cls := "FortPlanner", name := "checkArgument", desc := "(Z)V" } : Jvm.MethodName)) ∈ lw_all := lw_g (lw_at lw_m5 83 rfl) rfl
theorem q1131 : (Jvm.Cond.code ({ cls := "FortPlanner", name := "checkArgument", desc := "(Z)V" } : Jvm.MethodName) prog_1_method_2_code (1 : Nat) (Option.none : Option Jvm.ClassFile.FieldType)) ∈ lw_all := lw_g (lw_at lw_m5 84 rfl) rfl
theorem q1132 : (Jvm.Cond.classLink "FortPlanner" (40 : Nat) "java/lang/IllegalArgumentException") ∈ lw_all := lw_g (lw_at lw_m5 85 rfl) rfl
theorem q1133 : (Jvm.Cond.methodLink "FortPlanner" (42 : Nat) ({ cls := "java/lang/IllegalArgumentException", name := "<init>", desc := "()V" } : Jvm.MethodName)) ∈ lw_all := lw_g (lw_at lw_m5 86 rfl) rfl
theorem q1137 : (Jvm.Cond.methodLink "FortPlanner" (113 : Nat) ({ cls := "FortPlanner$State", name := "prepare", desc := "(CIII)LFortPlanner$Block;" } : Jvm.MethodName)) ∈ lw_all := lw_g (lw_at lw_m5 90 rfl) rfl
theorem q1142 : (Jvm.Cond.static ({ cls := "FortPlanner", name := "create", desc := "(CIIIII)LFortPlanner$Block;" } : Jvm.MethodName)) ∈ lw_all := lw_g (lw_at lw_m5 95 rfl) rfl
theorem q1143 : (Jvm.Cond.code ({ cls := "FortPlanner", name := "create", desc := "(CIIIII)LFortPlanner$Block;" } : Jvm.MethodName) prog_1_method_8_code (6 : Nat) (Option.some (Jvm.ClassFile.FieldType.object "FortPlanner$Block"))) ∈ lw_all := lw_g (lw_at lw_m5 96 rfl) rfl
theorem q1144 : (Jvm.Cond.classLink "FortPlanner" (56 : Nat) "FortPlanner$Foam") ∈ lw_all := lw_g (lw_at lw_m5 97 rfl) rfl
theorem q1146 : (Jvm.Cond.methodLink "FortPlanner" (58 : Nat) ({ cls := "FortPlanner$Foam", name := "<init>", desc := "(IIIII)V" } : Jvm.MethodName)) ∈ lw_all := lw_g (lw_at lw_m5 99 rfl) rfl
theorem q1155 : (Jvm.Cond.fieldLinkNest "FortPlanner" (131 : Nat) "FortPlanner$Block" "number" "I" "FortPlanner") ∈ lw_tbl := lw_at lw_m5 108 rfl
theorem q1158 : (Jvm.Cond.fieldLinkNest "FortPlanner" (237 : Nat) "FortPlanner$Block" "left" "I" "FortPlanner") ∈ lw_tbl := lw_at lw_m5 111 rfl
theorem q1160 : (Jvm.Cond.fieldLinkNest "FortPlanner" (240 : Nat) "FortPlanner$Block" "width" "I" "FortPlanner") ∈ lw_tbl := lw_at lw_m5 113 rfl
theorem q1163 : (Jvm.Cond.fieldLinkNest "FortPlanner" (243 : Nat) "FortPlanner$Block" "weight" "I" "FortPlanner") ∈ lw_tbl := lw_at lw_m5 116 rfl
theorem q1166 : (Jvm.Cond.fieldLinkNest "FortPlanner" (249 : Nat) "FortPlanner$Block" "bottom" "I" "FortPlanner") ∈ lw_tbl := lw_at lw_m5 119 rfl
theorem q1177 : (Jvm.Cond.classLink "FortPlanner" (61 : Nat) "FortPlanner$Board") ∈ lw_all := lw_g (lw_at lw_m5 130 rfl) rfl
theorem q1179 : (Jvm.Cond.methodLink "FortPlanner" (63 : Nat) ({ cls := "FortPlanner$Board", name := "<init>", desc := "(IIIII)V" } : Jvm.MethodName)) ∈ lw_all := lw_g (lw_at lw_m5 132 rfl) rfl
theorem q1188 : (Jvm.Cond.classLink "FortPlanner" (64 : Nat) "FortPlanner$Bag") ∈ lw_all := lw_g (lw_at lw_m5 141 rfl) rfl
theorem q1190 : (Jvm.Cond.methodLink "FortPlanner" (66 : Nat) ({ cls := "FortPlanner$Bag", name := "<init>", desc := "(IIIII)V" } : Jvm.MethodName)) ∈ lw_all := lw_g (lw_at lw_m5 143 rfl) rfl
theorem q1203 : (Jvm.Cond.methodLink "FortPlanner" (117 : Nat) ({ cls := "FortPlanner$State", name := "canPlace", desc := "(LFortPlanner$Block;)Z" } : Jvm.MethodName)) ∈ lw_all := lw_g (lw_at lw_m5 156 rfl) rfl
theorem q1234 : (Jvm.Cond.methodLink "FortPlanner" (121 : Nat) ({ cls := "FortPlanner", name := "checkState", desc := "(Z)V" } : Jvm.MethodName)) ∈ lw_all := lw_g (lw_at lw_m5 187 rfl) rfl
theorem q1235 : (Jvm.Cond.static ({ cls := "FortPlanner", name := "checkState", desc := "(Z)V" } : Jvm.MethodName)) ∈ lw_all := lw_g (lw_at lw_m5 188 rfl) rfl
theorem q1236 : (Jvm.Cond.code ({ cls := "FortPlanner", name := "checkState", desc := "(Z)V" } : Jvm.MethodName) prog_1_method_3_code (1 : Nat) (Option.none : Option Jvm.ClassFile.FieldType)) ∈ lw_all := lw_g (lw_at lw_m5 189 rfl) rfl
theorem q1237 : (Jvm.Cond.classLink "FortPlanner" (43 : Nat) "java/lang/IllegalStateException") ∈ lw_all := lw_g (lw_at lw_m5 190 rfl) rfl
theorem q1246 : (Jvm.Cond.methodLink "FortPlanner" (45 : Nat) ({ cls := "java/lang/IllegalStateException", name := "<init>", desc := "()V" } : Jvm.MethodName)) ∈ lw_all := lw_g (lw_at lw_m5 199 rfl) rfl
theorem q1252 : (Jvm.Cond.methodLink "FortPlanner" (124 : Nat) ({ cls := "FortPlanner", name := "beginChange", desc := "()V" } : Jvm.MethodName)) ∈ lw_all := lw_g (lw_at lw_m5 205 rfl) rfl
theorem q1253 : (Jvm.Cond.privateMethod ({ cls := "FortPlanner", name := "beginChange", desc := "()V" } : Jvm.MethodName)) ∈ lw_tbl := lw_at lw_m5 206 rfl
theorem q1254 : (Jvm.Cond.instanceMethod ({ cls := "FortPlanner", name := "beginChange", desc := "()V" } : Jvm.MethodName)) ∈ lw_all := lw_g (lw_at lw_m5 207 rfl) rfl
theorem q1255 : (Jvm.Cond.code ({ cls := "FortPlanner", name := "beginChange", desc := "()V" } : Jvm.MethodName) prog_1_method_9_code (1 : Nat) (Option.none : Option Jvm.ClassFile.FieldType)) ∈ lw_all := lw_g (lw_at lw_m5 208 rfl) rfl
theorem q1256 : (Jvm.Cond.methodLink "FortPlanner" (75 : Nat) ({ cls := "java/util/ArrayDeque", name := "addLast", desc := "(Ljava/lang/Object;)V" } : Jvm.MethodName)) ∈ lw_all := lw_g (lw_at lw_m5 209 rfl) rfl
theorem q1281 : (Jvm.Cond.methodLink "FortPlanner" (83 : Nat) ({ cls := "java/util/ArrayDeque", name := "removeFirst", desc := "()Ljava/lang/Object;" } : Jvm.MethodName)) ∈ lw_all := lw_g (lw_at lw_m5 234 rfl) rfl
theorem q1294 : (Jvm.Cond.methodLink "FortPlanner" (127 : Nat) ({ cls := "FortPlanner$State", name := "place", desc := "(LFortPlanner$Block;)V" } : Jvm.MethodName)) ∈ lw_all := lw_g (lw_at lw_m6 7 rfl) rfl
theorem q1302 : (Jvm.Cond.instanceMethod ({ cls := "FortPlanner", name := "placeBoard", desc := "(III)I" } : Jvm.MethodName)) ∈ lw_all := lw_g (lw_at lw_m6 15 rfl) rfl
theorem q1303 : (Jvm.Cond.selects "FortPlanner" ({ cls := "FortPlanner", name := "placeBoard", desc := "(III)I" } : Jvm.MethodName) ({ cls := "FortPlanner", name := "placeBoard", desc := "(III)I" } : Jvm.MethodName)) ∈ lw_all := lw_g (lw_at lw_m6 16 rfl) rfl
theorem q1304 : (Jvm.Cond.code ({ cls := "FortPlanner", name := "placeBoard", desc := "(III)I" } : Jvm.MethodName) prog_1_method_17_code (4 : Nat) (Option.some Jvm.ClassFile.FieldType.int)) ∈ lw_all := lw_g (lw_at lw_m6 17 rfl) rfl
theorem q1309 : (Jvm.Cond.instanceMethod ({ cls := "FortPlanner", name := "placeBag", desc := "(III)I" } : Jvm.MethodName)) ∈ lw_all := lw_g (lw_at lw_m6 22 rfl) rfl
theorem q1310 : (Jvm.Cond.selects "FortPlanner" ({ cls := "FortPlanner", name := "placeBag", desc := "(III)I" } : Jvm.MethodName) ({ cls := "FortPlanner", name := "placeBag", desc := "(III)I" } : Jvm.MethodName)) ∈ lw_all := lw_g (lw_at lw_m6 23 rfl) rfl
theorem q1311 : (Jvm.Cond.code ({ cls := "FortPlanner", name := "placeBag", desc := "(III)I" } : Jvm.MethodName) prog_1_method_18_code (4 : Nat) (Option.some Jvm.ClassFile.FieldType.int)) ∈ lw_all := lw_g (lw_at lw_m6 24 rfl) rfl
theorem q1317 : (Jvm.Cond.instanceMethod ({ cls := "FortPlanner", name := "remove", desc := "(I)I" } : Jvm.MethodName)) ∈ lw_all := lw_g (lw_at lw_m6 30 rfl) rfl
theorem q1318 : (Jvm.Cond.selects "FortPlanner" ({ cls := "FortPlanner", name := "remove", desc := "(I)I" } : Jvm.MethodName) ({ cls := "FortPlanner", name := "remove", desc := "(I)I" } : Jvm.MethodName)) ∈ lw_all := lw_g (lw_at lw_m6 31 rfl) rfl
theorem q1319 : (Jvm.Cond.code ({ cls := "FortPlanner", name := "remove", desc := "(I)I" } : Jvm.MethodName) prog_1_method_23_code (3 : Nat) (Option.some Jvm.ClassFile.FieldType.int)) ∈ lw_all := lw_g (lw_at lw_m6 32 rfl) rfl
theorem q1320 : (Jvm.Cond.methodLink "FortPlanner" (142 : Nat) ({ cls := "FortPlanner", name := "block", desc := "(I)LFortPlanner$Block;" } : Jvm.MethodName)) ∈ lw_all := lw_g (lw_at lw_m6 33 rfl) rfl
theorem q1321 : (Jvm.Cond.privateMethod ({ cls := "FortPlanner", name := "block", desc := "(I)LFortPlanner$Block;" } : Jvm.MethodName)) ∈ lw_tbl := lw_at lw_m6 34 rfl
theorem q1322 : (Jvm.Cond.instanceMethod ({ cls := "FortPlanner", name := "block", desc := "(I)LFortPlanner$Block;" } : Jvm.MethodName)) ∈ lw_all := lw_g (lw_at lw_m6 35 rfl) rfl
theorem q1323 : (Jvm.Cond.code ({ cls := "FortPlanner", name := "block", desc := "(I)LFortPlanner$Block;" } : Jvm.MethodName) prog_1_method_10_code (3 : Nat) (Option.some (Jvm.ClassFile.FieldType.object "FortPlanner$Block"))) ∈ lw_all := lw_g (lw_at lw_m6 36 rfl) rfl
theorem q1324 : (Jvm.Cond.methodLink "FortPlanner" (91 : Nat) ({ cls := "FortPlanner", name := "checkElement", desc := "(Z)V" } : Jvm.MethodName)) ∈ lw_all := lw_g (lw_at lw_m6 37 rfl) rfl
theorem q1325 : (Jvm.Cond.static ({ cls := "FortPlanner", name := "checkElement", desc := "(Z)V" } : Jvm.MethodName)) ∈ lw_all := lw_g (lw_at lw_m6 38 rfl) rfl
theorem q1326 : (Jvm.Cond.code ({ cls := "FortPlanner", name := "checkElement", desc := "(Z)V" } : Jvm.MethodName) prog_1_method_4_code (1 : Nat) (Option.none : Option Jvm.ClassFile.FieldType)) ∈ lw_all := lw_g (lw_at lw_m6 39 rfl) rfl
theorem q1327 : (Jvm.Cond.classLink "FortPlanner" (46 : Nat) "java/util/NoSuchElementException") ∈ lw_all := lw_g (lw_at lw_m6 40 rfl) rfl
theorem q1328 : (Jvm.Cond.methodLink "FortPlanner" (48 : Nat) ({ cls := "java/util/NoSuchElementException", name := "<init>", desc := "()V" } : Jvm.MethodName)) ∈ lw_all := lw_g (lw_at lw_m6 41 rfl) rfl
theorem q1329 : (Jvm.Cond.methodLink "FortPlanner" (145 : Nat) ({ cls := "FortPlanner$State", name := "isSupporting", desc := "(LFortPlanner$Block;)Z" } : Jvm.MethodName)) ∈ lw_all := lw_g (lw_at lw_m6 42 rfl) rfl
theorem q1336 : (Jvm.Cond.methodLink "FortPlanner" (152 : Nat) ({ cls := "java/util/ArrayList", name := "remove", desc := "(Ljava/lang/Object;)Z" } : Jvm.MethodName)) ∈ lw_all := lw_g (lw_at lw_m6 49 rfl) rfl
theorem q1344 : (Jvm.Cond.instanceMethod ({ cls := "FortPlanner", name := "setZone", desc := "(IC)C" } : Jvm.MethodName)) ∈ lw_all := lw_g (lw_at lw_m6 57 rfl) rfl
theorem q1345 : (Jvm.Cond.selects "FortPlanner" ({ cls := "FortPlanner", name := "setZone", desc := "(IC)C" } : Jvm.MethodName) ({ cls := "FortPlanner", name := "setZone", desc := "(IC)C" } : Jvm.MethodName)) ∈ lw_all := lw_g (lw_at lw_m6 58 rfl) rfl
theorem q1346 : (Jvm.Cond.code ({ cls := "FortPlanner", name := "setZone", desc := "(IC)C" } : Jvm.MethodName) prog_1_method_24_code (5 : Nat) (Option.some Jvm.ClassFile.FieldType.char)) ∈ lw_all := lw_g (lw_at lw_m6 59 rfl) rfl
theorem q1347 : (Jvm.Cond.methodLink "FortPlanner" (159 : Nat) ({ cls := "FortPlanner", name := "checkColumn", desc := "(I)V" } : Jvm.MethodName)) ∈ lw_all := lw_g (lw_at lw_m6 60 rfl) rfl
theorem q1348 : (Jvm.Cond.static ({ cls := "FortPlanner", name := "checkColumn", desc := "(I)V" } : Jvm.MethodName)) ∈ lw_all := lw_g (lw_at lw_m6 61 rfl) rfl
theorem q1349 : (Jvm.Cond.code ({ cls := "FortPlanner", name := "checkColumn", desc := "(I)V" } : Jvm.MethodName) prog_1_method_11_code (1 : Nat) (Option.none : Option Jvm.ClassFile.FieldType)) ∈ lw_all := lw_g (lw_at lw_m6 62 rfl) rfl
theorem q1350 : (Jvm.Cond.methodLink "FortPlanner" (99 : Nat) ({ cls := "FortPlanner", name := "checkIndex", desc := "(Z)V" } : Jvm.MethodName)) ∈ lw_all := lw_g (lw_at lw_m6 63 rfl) rfl
theorem q1351 : (Jvm.Cond.static ({ cls := "FortPlanner", name := "checkIndex", desc := "(Z)V" } : Jvm.MethodName)) ∈ lw_all := lw_g (lw_at lw_m6 64 rfl) rfl
theorem q1352 : (Jvm.Cond.code ({ cls := "FortPlanner", name := "checkIndex", desc := "(Z)V" } : Jvm.MethodName) prog_1_method_5_code (1 : Nat) (Option.none : Option Jvm.ClassFile.FieldType)) ∈ lw_all := lw_g (lw_at lw_m6 65 rfl) rfl
theorem q1353 : (Jvm.Cond.classLink "FortPlanner" (49 : Nat) "java/lang/IndexOutOfBoundsException") ∈ lw_all := lw_g (lw_at lw_m6 66 rfl) rfl
theorem q1354 : (Jvm.Cond.methodLink "FortPlanner" (51 : Nat) ({ cls := "java/lang/IndexOutOfBoundsException", name := "<init>", desc := "()V" } : Jvm.MethodName)) ∈ lw_all := lw_g (lw_at lw_m6 67 rfl) rfl
theorem q1358 : (Jvm.Cond.methodLink "FortPlanner" (163 : Nat) ({ cls := "FortPlanner$Zone", name := "of", desc := "(C)LFortPlanner$Zone;" } : Jvm.MethodName)) ∈ lw_all := lw_g (lw_at lw_m6 71 rfl) rfl
theorem q1375 : (Jvm.Cond.instanceMethod ({ cls := "FortPlanner", name := "addTorch", desc := "(I)I" } : Jvm.MethodName)) ∈ lw_all := lw_g (lw_at lw_m6 88 rfl) rfl
theorem q1376 : (Jvm.Cond.selects "FortPlanner" ({ cls := "FortPlanner", name := "addTorch", desc := "(I)I" } : Jvm.MethodName) ({ cls := "FortPlanner", name := "addTorch", desc := "(I)I" } : Jvm.MethodName)) ∈ lw_all := lw_g (lw_at lw_m6 89 rfl) rfl
theorem q1377 : (Jvm.Cond.code ({ cls := "FortPlanner", name := "addTorch", desc := "(I)I" } : Jvm.MethodName) prog_1_method_26_code (2 : Nat) (Option.some Jvm.ClassFile.FieldType.int)) ∈ lw_all := lw_g (lw_at lw_m6 90 rfl) rfl
theorem q1378 : (Jvm.Cond.methodLink "FortPlanner" (184 : Nat) ({ cls := "FortPlanner", name := "setTorch", desc := "(IZ)I" } : Jvm.MethodName)) ∈ lw_all := lw_g (lw_at lw_m6 91 rfl) rfl
theorem q1379 : (Jvm.Cond.privateMethod ({ cls := "FortPlanner", name := "setTorch", desc := "(IZ)I" } : Jvm.MethodName)) ∈ lw_tbl := lw_at lw_m6 92 rfl
theorem q1380 : (Jvm.Cond.instanceMethod ({ cls := "FortPlanner", name := "setTorch", desc := "(IZ)I" } : Jvm.MethodName)) ∈ lw_all := lw_g (lw_at lw_m6 93 rfl) rfl
theorem q1381 : (Jvm.Cond.code ({ cls := "FortPlanner", name := "setTorch", desc := "(IZ)I" } : Jvm.MethodName) prog_1_method_25_code (3 : Nat) (Option.some Jvm.ClassFile.FieldType.int)) ∈ lw_all := lw_g (lw_at lw_m6 94 rfl) rfl
theorem q1382 : (Jvm.Cond.methodLink "FortPlanner" (181 : Nat) ({ cls := "FortPlanner$State", name := "torches", desc := "()I" } : Jvm.MethodName)) ∈ lw_all := lw_g (lw_at lw_m6 95 rfl) rfl
theorem q1390 : (Jvm.Cond.instanceMethod ({ cls := "FortPlanner", name := "removeTorch", desc := "(I)I" } : Jvm.MethodName)) ∈ lw_all := lw_g (lw_at lw_m6 103 rfl) rfl
theorem q1391 : (Jvm.Cond.selects "FortPlanner" ({ cls := "FortPlanner", name := "removeTorch", desc := "(I)I" } : Jvm.MethodName) ({ cls := "FortPlanner", name := "removeTorch", desc := "(I)I" } : Jvm.MethodName)) ∈ lw_all := lw_g (lw_at lw_m6 104 rfl) rfl
theorem q1392 : (Jvm.Cond.code ({ cls := "FortPlanner", name := "removeTorch", desc := "(I)I" } : Jvm.MethodName) prog_1_method_27_code (2 : Nat) (Option.some Jvm.ClassFile.FieldType.int)) ∈ lw_all := lw_g (lw_at lw_m6 105 rfl) rfl
theorem q1397 : (Jvm.Cond.instanceMethod ({ cls := "FortPlanner", name := "canPlaceFoam", desc := "(III)Z" } : Jvm.MethodName)) ∈ lw_all := lw_g (lw_at lw_m6 110 rfl) rfl
theorem q1398 : (Jvm.Cond.selects "FortPlanner" ({ cls := "FortPlanner", name := "canPlaceFoam", desc := "(III)Z" } : Jvm.MethodName) ({ cls := "FortPlanner", name := "canPlaceFoam", desc := "(III)Z" } : Jvm.MethodName)) ∈ lw_all := lw_g (lw_at lw_m6 111 rfl) rfl
theorem q1399 : (Jvm.Cond.code ({ cls := "FortPlanner", name := "canPlaceFoam", desc := "(III)Z" } : Jvm.MethodName) prog_1_method_19_code (4 : Nat) (Option.some Jvm.ClassFile.FieldType.boolean)) ∈ lw_all := lw_g (lw_at lw_m6 112 rfl) rfl
theorem q1400 : (Jvm.Cond.methodLink "FortPlanner" (139 : Nat) ({ cls := "FortPlanner", name := "canPlace", desc := "(CIII)Z" } : Jvm.MethodName)) ∈ lw_all := lw_g (lw_at lw_m6 113 rfl) rfl
theorem q1401 : (Jvm.Cond.privateMethod ({ cls := "FortPlanner", name := "canPlace", desc := "(CIII)Z" } : Jvm.MethodName)) ∈ lw_tbl := lw_at lw_m6 114 rfl
theorem q1402 : (Jvm.Cond.instanceMethod ({ cls := "FortPlanner", name := "canPlace", desc := "(CIII)Z" } : Jvm.MethodName)) ∈ lw_all := lw_g (lw_at lw_m6 115 rfl) rfl
theorem q1403 : (Jvm.Cond.code ({ cls := "FortPlanner", name := "canPlace", desc := "(CIII)Z" } : Jvm.MethodName) prog_1_method_15_code (5 : Nat) (Option.some Jvm.ClassFile.FieldType.boolean)) ∈ lw_all := lw_g (lw_at lw_m6 116 rfl) rfl
theorem q1408 : (Jvm.Cond.instanceMethod ({ cls := "FortPlanner", name := "canPlaceBoard", desc := "(III)Z" } : Jvm.MethodName)) ∈ lw_all := lw_g (lw_at lw_m6 121 rfl) rfl
theorem q1409 : (Jvm.Cond.selects "FortPlanner" ({ cls := "FortPlanner", name := "canPlaceBoard", desc := "(III)Z" } : Jvm.MethodName) ({ cls := "FortPlanner", name := "canPlaceBoard", desc := "(III)Z" } : Jvm.MethodName)) ∈ lw_all := lw_g (lw_at lw_m6 122 rfl) rfl
theorem q1410 : (Jvm.Cond.code ({ cls := "FortPlanner", name := "canPlaceBoard", desc := "(III)Z" } : Jvm.MethodName) prog_1_method_20_code (4 : Nat) (Option.some Jvm.ClassFile.FieldType.boolean)) ∈ lw_all := lw_g (lw_at lw_m6 123 rfl) rfl
theorem q1415 : (Jvm.Cond.instanceMethod ({ cls := "FortPlanner", name := "canPlaceBag", desc := "(III)Z" } : Jvm.MethodName)) ∈ lw_all := lw_g (lw_at lw_m6 128 rfl) rfl
theorem q1416 : (Jvm.Cond.selects "FortPlanner" ({ cls := "FortPlanner", name := "canPlaceBag", desc := "(III)Z" } : Jvm.MethodName) ({ cls := "FortPlanner", name := "canPlaceBag", desc := "(III)Z" } : Jvm.MethodName)) ∈ lw_all := lw_g (lw_at lw_m6 129 rfl) rfl
theorem q1417 : (Jvm.Cond.code ({ cls := "FortPlanner", name := "canPlaceBag", desc := "(III)Z" } : Jvm.MethodName) prog_1_method_21_code (4 : Nat) (Option.some Jvm.ClassFile.FieldType.boolean)) ∈ lw_all := lw_g (lw_at lw_m6 130 rfl) rfl
theorem q1422 : (Jvm.Cond.instanceMethod ({ cls := "FortPlanner", name := "heaviestFoam", desc := "(II)I" } : Jvm.MethodName)) ∈ lw_all := lw_g (lw_at lw_m6 135 rfl) rfl
theorem q1423 : (Jvm.Cond.selects "FortPlanner" ({ cls := "FortPlanner", name := "heaviestFoam", desc := "(II)I" } : Jvm.MethodName) ({ cls := "FortPlanner", name := "heaviestFoam", desc := "(II)I" } : Jvm.MethodName)) ∈ lw_all := lw_g (lw_at lw_m6 136 rfl) rfl
theorem q1424 : (Jvm.Cond.code ({ cls := "FortPlanner", name := "heaviestFoam", desc := "(II)I" } : Jvm.MethodName) prog_1_method_22_code (4 : Nat) (Option.some Jvm.ClassFile.FieldType.int)) ∈ lw_all := lw_g (lw_at lw_m6 137 rfl) rfl
theorem q1429 : (Jvm.Cond.instanceMethod ({ cls := "FortPlanner", name := "blockAt", desc := "(I)I" } : Jvm.MethodName)) ∈ lw_all := lw_g (lw_at lw_m6 142 rfl) rfl
theorem q1430 : (Jvm.Cond.selects "FortPlanner" ({ cls := "FortPlanner", name := "blockAt", desc := "(I)I" } : Jvm.MethodName) ({ cls := "FortPlanner", name := "blockAt", desc := "(I)I" } : Jvm.MethodName)) ∈ lw_all := lw_g (lw_at lw_m6 143 rfl) rfl
theorem q1431 : (Jvm.Cond.code ({ cls := "FortPlanner", name := "blockAt", desc := "(I)I" } : Jvm.MethodName) prog_1_method_45_code (2 : Nat) (Option.some Jvm.ClassFile.FieldType.int)) ∈ lw_all := lw_g (lw_at lw_m6 144 rfl) rfl
theorem q1432 : (Jvm.Cond.methodLink "FortPlanner" (233 : Nat) ({ cls := "java/util/ArrayList", name := "get", desc := "(I)Ljava/lang/Object;" } : Jvm.MethodName)) ∈ lw_all := lw_g (lw_at lw_m6 145 rfl) rfl
theorem q1433 : (Jvm.Cond.classLink "FortPlanner" (132 : Nat) "FortPlanner$Block") ∈ lw_all := lw_g (lw_at lw_m6 146 rfl) rfl
theorem q1438 : (Jvm.Cond.instanceMethod ({ cls := "FortPlanner", name := "isFoam", desc := "(I)Z" } : Jvm.MethodName)) ∈ lw_all := lw_g (lw_at lw_m6 151 rfl) rfl
theorem q1439 : (Jvm.Cond.selects "FortPlanner" ({ cls := "FortPlanner", name := "isFoam", desc := "(I)Z" } : Jvm.MethodName) ({ cls := "FortPlanner", name := "isFoam", desc := "(I)Z" } : Jvm.MethodName)) ∈ lw_all := lw_g (lw_at lw_m6 152 rfl) rfl
theorem q1440 : (Jvm.Cond.code ({ cls := "FortPlanner", name := "isFoam", desc := "(I)Z" } : Jvm.MethodName) prog_1_method_46_code (2 : Nat) (Option.some Jvm.ClassFile.FieldType.boolean)) ∈ lw_all := lw_g (lw_at lw_m6 153 rfl) rfl
theorem q1445 : (Jvm.Cond.instanceMethod ({ cls := "FortPlanner", name := "isBoard", desc := "(I)Z" } : Jvm.MethodName)) ∈ lw_all := lw_g (lw_at lw_m6 158 rfl) rfl
theorem q1446 : (Jvm.Cond.selects "FortPlanner" ({ cls := "FortPlanner", name := "isBoard", desc := "(I)Z" } : Jvm.MethodName) ({ cls := "FortPlanner", name := "isBoard", desc := "(I)Z" } : Jvm.MethodName)) ∈ lw_all := lw_g (lw_at lw_m6 159 rfl) rfl
theorem q1447 : (Jvm.Cond.code ({ cls := "FortPlanner", name := "isBoard", desc := "(I)Z" } : Jvm.MethodName) prog_1_method_47_code (2 : Nat) (Option.some Jvm.ClassFile.FieldType.boolean)) ∈ lw_all := lw_g (lw_at lw_m6 160 rfl) rfl
theorem q1452 : (Jvm.Cond.instanceMethod ({ cls := "FortPlanner", name := "left", desc := "(I)I" } : Jvm.MethodName)) ∈ lw_all := lw_g (lw_at lw_m6 165 rfl) rfl
theorem q1453 : (Jvm.Cond.selects "FortPlanner" ({ cls := "FortPlanner", name := "left", desc := "(I)I" } : Jvm.MethodName) ({ cls := "FortPlanner", name := "left", desc := "(I)I" } : Jvm.MethodName)) ∈ lw_all := lw_g (lw_at lw_m6 166 rfl) rfl
theorem q1454 : (Jvm.Cond.code ({ cls := "FortPlanner", name := "left", desc := "(I)I" } : Jvm.MethodName) prog_1_method_48_code (2 : Nat) (Option.some Jvm.ClassFile.FieldType.int)) ∈ lw_all := lw_g (lw_at lw_m6 167 rfl) rfl
theorem q1459 : (Jvm.Cond.instanceMethod ({ cls := "FortPlanner", name := "width", desc := "(I)I" } : Jvm.MethodName)) ∈ lw_all := lw_g (lw_at lw_m6 172 rfl) rfl
theorem q1460 : (Jvm.Cond.selects "FortPlanner" ({ cls := "FortPlanner", name := "width", desc := "(I)I" } : Jvm.MethodName) ({ cls := "FortPlanner", name := "width", desc := "(I)I" } : Jvm.MethodName)) ∈ lw_all := lw_g (lw_at lw_m6 173 rfl) rfl
theorem q1461 : (Jvm.Cond.code ({ cls := "FortPlanner", name := "width", desc := "(I)I" } : Jvm.MethodName) prog_1_method_49_code (2 : Nat) (Option.some Jvm.ClassFile.FieldType.int)) ∈ lw_all := lw_g (lw_at lw_m6 174 rfl) rfl
theorem q1466 : (Jvm.Cond.instanceMethod ({ cls := "FortPlanner", name := "weight", desc := "(I)I" } : Jvm.MethodName)) ∈ lw_all := lw_g (lw_at lw_m6 179 rfl) rfl
theorem q1467 : (Jvm.Cond.selects "FortPlanner" ({ cls := "FortPlanner", name := "weight", desc := "(I)I" } : Jvm.MethodName) ({ cls := "FortPlanner", name := "weight", desc := "(I)I" } : Jvm.MethodName)) ∈ lw_all := lw_g (lw_at lw_m6 180 rfl) rfl
theorem q1468 : (Jvm.Cond.code ({ cls := "FortPlanner", name := "weight", desc := "(I)I" } : Jvm.MethodName) prog_1_method_50_code (2 : Nat) (Option.some Jvm.ClassFile.FieldType.int)) ∈ lw_all := lw_g (lw_at lw_m6 181 rfl) rfl
theorem q1473 : (Jvm.Cond.instanceMethod ({ cls := "FortPlanner", name := "strength", desc := "(I)I" } : Jvm.MethodName)) ∈ lw_all := lw_g (lw_at lw_m6 186 rfl) rfl
theorem q1474 : (Jvm.Cond.selects "FortPlanner" ({ cls := "FortPlanner", name := "strength", desc := "(I)I" } : Jvm.MethodName) ({ cls := "FortPlanner", name := "strength", desc := "(I)I" } : Jvm.MethodName)) ∈ lw_all := lw_g (lw_at lw_m6 187 rfl) rfl
theorem q1475 : (Jvm.Cond.code ({ cls := "FortPlanner", name := "strength", desc := "(I)I" } : Jvm.MethodName) prog_1_method_51_code (2 : Nat) (Option.some Jvm.ClassFile.FieldType.int)) ∈ lw_all := lw_g (lw_at lw_m6 188 rfl) rfl
theorem q1476 : (Jvm.Cond.methodLink "FortPlanner" (246 : Nat) ({ cls := "FortPlanner$Block", name := "strength", desc := "()I" } : Jvm.MethodName)) ∈ lw_all := lw_g (lw_at lw_m6 189 rfl) rfl
theorem q1481 : (Jvm.Cond.instanceMethod ({ cls := "FortPlanner", name := "bottom", desc := "(I)I" } : Jvm.MethodName)) ∈ lw_all := lw_g (lw_at lw_m6 194 rfl) rfl
theorem q1482 : (Jvm.Cond.selects "FortPlanner" ({ cls := "FortPlanner", name := "bottom", desc := "(I)I" } : Jvm.MethodName) ({ cls := "FortPlanner", name := "bottom", desc := "(I)I" } : Jvm.MethodName)) ∈ lw_all := lw_g (lw_at lw_m6 195 rfl) rfl
theorem q1483 : (Jvm.Cond.code ({ cls := "FortPlanner", name := "bottom", desc := "(I)I" } : Jvm.MethodName) prog_1_method_52_code (2 : Nat) (Option.some Jvm.ClassFile.FieldType.int)) ∈ lw_all := lw_g (lw_at lw_m6 196 rfl) rfl
theorem q1488 : (Jvm.Cond.instanceMethod ({ cls := "FortPlanner", name := "top", desc := "(I)I" } : Jvm.MethodName)) ∈ lw_all := lw_g (lw_at lw_m6 201 rfl) rfl
theorem q1489 : (Jvm.Cond.selects "FortPlanner" ({ cls := "FortPlanner", name := "top", desc := "(I)I" } : Jvm.MethodName) ({ cls := "FortPlanner", name := "top", desc := "(I)I" } : Jvm.MethodName)) ∈ lw_all := lw_g (lw_at lw_m6 202 rfl) rfl
theorem q1490 : (Jvm.Cond.code ({ cls := "FortPlanner", name := "top", desc := "(I)I" } : Jvm.MethodName) prog_1_method_53_code (2 : Nat) (Option.some Jvm.ClassFile.FieldType.int)) ∈ lw_all := lw_g (lw_at lw_m6 203 rfl) rfl
theorem q1495 : (Jvm.Cond.instanceMethod ({ cls := "FortPlanner", name := "supporterCount", desc := "(I)I" } : Jvm.MethodName)) ∈ lw_all := lw_g (lw_at lw_m6 208 rfl) rfl
theorem q1496 : (Jvm.Cond.selects "FortPlanner" ({ cls := "FortPlanner", name := "supporterCount", desc := "(I)I" } : Jvm.MethodName) ({ cls := "FortPlanner", name := "supporterCount", desc := "(I)I" } : Jvm.MethodName)) ∈ lw_all := lw_g (lw_at lw_m6 209 rfl) rfl
theorem q1497 : (Jvm.Cond.code ({ cls := "FortPlanner", name := "supporterCount", desc := "(I)I" } : Jvm.MethodName) prog_1_method_54_code (2 : Nat) (Option.some Jvm.ClassFile.FieldType.int)) ∈ lw_all := lw_g (lw_at lw_m6 210 rfl) rfl
theorem q1498 : (Jvm.Cond.methodLink "FortPlanner" (255 : Nat) ({ cls := "FortPlanner$State", name := "supporters", desc := "(LFortPlanner$Block;)Ljava/util/ArrayList;" } : Jvm.MethodName)) ∈ lw_all := lw_g (lw_at lw_m6 211 rfl) rfl
theorem q1503 : (Jvm.Cond.instanceMethod ({ cls := "FortPlanner", name := "supporterAt", desc := "(II)I" } : Jvm.MethodName)) ∈ lw_all := lw_g (lw_at lw_m6 216 rfl) rfl
theorem q1504 : (Jvm.Cond.selects "FortPlanner" ({ cls := "FortPlanner", name := "supporterAt", desc := "(II)I" } : Jvm.MethodName) ({ cls := "FortPlanner", name := "supporterAt", desc := "(II)I" } : Jvm.MethodName)) ∈ lw_all := lw_g (lw_at lw_m6 217 rfl) rfl
theorem q1505 : (Jvm.Cond.code ({ cls := "FortPlanner", name := "supporterAt", desc := "(II)I" } : Jvm.MethodName) prog_1_method_55_code (4 : Nat) (Option.some Jvm.ClassFile.FieldType.int)) ∈ lw_all := lw_g (lw_at lw_m6 218 rfl) rfl
theorem q1510 : (Jvm.Cond.instanceMethod ({ cls := "FortPlanner", name := "isSupporting", desc := "(I)Z" } : Jvm.MethodName)) ∈ lw_all := lw_g (lw_at lw_m6 223 rfl) rfl
theorem q1511 : (Jvm.Cond.selects "FortPlanner" ({ cls := "FortPlanner", name := "isSupporting", desc := "(I)Z" } : Jvm.MethodName) ({ cls := "FortPlanner", name := "isSupporting", desc := "(I)Z" } : Jvm.MethodName)) ∈ lw_all := lw_g (lw_at lw_m6 224 rfl) rfl
theorem q1512 : (Jvm.Cond.code ({ cls := "FortPlanner", name := "isSupporting", desc := "(I)Z" } : Jvm.MethodName) prog_1_method_56_code (2 : Nat) (Option.some Jvm.ClassFile.FieldType.boolean)) ∈ lw_all := lw_g (lw_at lw_m6 225 rfl) rfl
theorem q1517 : (Jvm.Cond.instanceMethod ({ cls := "FortPlanner", name := "load", desc := "(I)I" } : Jvm.MethodName)) ∈ lw_all := lw_g (lw_at lw_m6 230 rfl) rfl
theorem q1518 : (Jvm.Cond.selects "FortPlanner" ({ cls := "FortPlanner", name := "load", desc := "(I)I" } : Jvm.MethodName) ({ cls := "FortPlanner", name := "load", desc := "(I)I" } : Jvm.MethodName)) ∈ lw_all := lw_g (lw_at lw_m6 231 rfl) rfl
theorem q1519 : (Jvm.Cond.code ({ cls := "FortPlanner", name := "load", desc := "(I)I" } : Jvm.MethodName) prog_1_method_57_code (2 : Nat) (Option.some Jvm.ClassFile.FieldType.int)) ∈ lw_all := lw_g (lw_at lw_m6 232 rfl) rfl
theorem q1520 : (Jvm.Cond.methodLink "FortPlanner" (259 : Nat) ({ cls := "FortPlanner$State", name := "load", desc := "(LFortPlanner$Block;)I" } : Jvm.MethodName)) ∈ lw_all := lw_g (lw_at lw_m6 233 rfl) rfl
theorem q1528 : (Jvm.Cond.instanceMethod ({ cls := "FortPlanner", name := "loadByRecursion", desc := "(I)I" } : Jvm.MethodName)) ∈ lw_all := lw_g (lw_at lw_m7 1 rfl) rfl
theorem q1529 : (Jvm.Cond.selects "FortPlanner" ({ cls := "FortPlanner", name := "loadByRecursion", desc := "(I)I" } : Jvm.MethodName) ({ cls := "FortPlanner", name := "loadByRecursion", desc := "(I)I" } : Jvm.MethodName)) ∈ lw_all := lw_g (lw_at lw_m7 2 rfl) rfl
theorem q1530 : (Jvm.Cond.code ({ cls := "FortPlanner", name := "loadByRecursion", desc := "(I)I" } : Jvm.MethodName) prog_1_method_58_code (2 : Nat) (Option.some Jvm.ClassFile.FieldType.int)) ∈ lw_all := lw_g (lw_at lw_m7 3 rfl) rfl
theorem q1531 : (Jvm.Cond.methodLink "FortPlanner" (263 : Nat) ({ cls := "FortPlanner$State", name := "loadByRecursion", desc := "(LFortPlanner$Block;)I" } : Jvm.MethodName)) ∈ lw_all := lw_g (lw_at lw_m7 4 rfl) rfl
theorem q1540 : (Jvm.Cond.instanceMethod ({ cls := "FortPlanner", name := "slack", desc := "(I)I" } : Jvm.MethodName)) ∈ lw_all := lw_g (lw_at lw_m7 13 rfl) rfl
theorem q1541 : (Jvm.Cond.selects "FortPlanner" ({ cls := "FortPlanner", name := "slack", desc := "(I)I" } : Jvm.MethodName) ({ cls := "FortPlanner", name := "slack", desc := "(I)I" } : Jvm.MethodName)) ∈ lw_all := lw_g (lw_at lw_m7 14 rfl) rfl
theorem q1542 : (Jvm.Cond.code ({ cls := "FortPlanner", name := "slack", desc := "(I)I" } : Jvm.MethodName) prog_1_method_59_code (3 : Nat) (Option.some Jvm.ClassFile.FieldType.int)) ∈ lw_all := lw_g (lw_at lw_m7 15 rfl) rfl
theorem q1547 : (Jvm.Cond.instanceMethod ({ cls := "FortPlanner", name := "weakest", desc := "()I" } : Jvm.MethodName)) ∈ lw_all := lw_g (lw_at lw_m7 20 rfl) rfl
theorem q1548 : (Jvm.Cond.selects "FortPlanner" ({ cls := "FortPlanner", name := "weakest", desc := "()I" } : Jvm.MethodName) ({ cls := "FortPlanner", name := "weakest", desc := "()I" } : Jvm.MethodName)) ∈ lw_all := lw_g (lw_at lw_m7 21 rfl) rfl
theorem q1549 : (Jvm.Cond.code ({ cls := "FortPlanner", name := "weakest", desc := "()I" } : Jvm.MethodName) prog_1_method_61_code (1 : Nat) (Option.some Jvm.ClassFile.FieldType.int)) ∈ lw_all := lw_g (lw_at lw_m7 22 rfl) rfl
theorem q1550 : (Jvm.Cond.methodLink "FortPlanner" (270 : Nat) ({ cls := "FortPlanner", name := "blockWithSlackAt", desc := "(I)I" } : Jvm.MethodName)) ∈ lw_all := lw_g (lw_at lw_m7 23 rfl) rfl
theorem q1551 : (Jvm.Cond.privateMethod ({ cls := "FortPlanner", name := "blockWithSlackAt", desc := "(I)I" } : Jvm.MethodName)) ∈ lw_tbl := lw_at lw_m7 24 rfl
theorem q1552 : (Jvm.Cond.instanceMethod ({ cls := "FortPlanner", name := "blockWithSlackAt", desc := "(I)I" } : Jvm.MethodName)) ∈ lw_all := lw_g (lw_at lw_m7 25 rfl) rfl
theorem q1553 : (Jvm.Cond.code ({ cls := "FortPlanner", name := "blockWithSlackAt", desc := "(I)I" } : Jvm.MethodName) prog_1_method_62_code (3 : Nat) (Option.some Jvm.ClassFile.FieldType.int)) ∈ lw_all := lw_g (lw_at lw_m7 26 rfl) rfl
theorem q1554 : (Jvm.Cond.methodLink "FortPlanner" (273 : Nat) ({ cls := "FortPlanner", name := "sortBySlack", desc := "()[I" } : Jvm.MethodName)) ∈ lw_all := lw_g (lw_at lw_m7 27 rfl) rfl
theorem q1555 : (Jvm.Cond.privateMethod ({ cls := "FortPlanner", name := "sortBySlack", desc := "()[I" } : Jvm.MethodName)) ∈ lw_tbl := lw_at lw_m7 28 rfl
theorem q1556 : (Jvm.Cond.instanceMethod ({ cls := "FortPlanner", name := "sortBySlack", desc := "()[I" } : Jvm.MethodName)) ∈ lw_all := lw_g (lw_at lw_m7 29 rfl) rfl
theorem q1557 : (Jvm.Cond.code ({ cls := "FortPlanner", name := "sortBySlack", desc := "()[I" } : Jvm.MethodName) prog_1_method_60_code (6 : Nat) (Option.some (Jvm.ClassFile.FieldType.array Jvm.ClassFile.FieldType.int))) ∈ lw_all := lw_g (lw_at lw_m7 30 rfl) rfl
theorem q1562 : (Jvm.Cond.instanceMethod ({ cls := "FortPlanner", name := "blockBySlack", desc := "(I)I" } : Jvm.MethodName)) ∈ lw_all := lw_g (lw_at lw_m7 35 rfl) rfl
theorem q1563 : (Jvm.Cond.selects "FortPlanner" ({ cls := "FortPlanner", name := "blockBySlack", desc := "(I)I" } : Jvm.MethodName) ({ cls := "FortPlanner", name := "blockBySlack", desc := "(I)I" } : Jvm.MethodName)) ∈ lw_all := lw_g (lw_at lw_m7 36 rfl) rfl
theorem q1564 : (Jvm.Cond.code ({ cls := "FortPlanner", name := "blockBySlack", desc := "(I)I" } : Jvm.MethodName) prog_1_method_63_code (2 : Nat) (Option.some Jvm.ClassFile.FieldType.int)) ∈ lw_all := lw_g (lw_at lw_m7 37 rfl) rfl
theorem q1569 : (Jvm.Cond.instanceMethod ({ cls := "FortPlanner", name := "level", desc := "(I)I" } : Jvm.MethodName)) ∈ lw_all := lw_g (lw_at lw_m7 42 rfl) rfl
theorem q1570 : (Jvm.Cond.selects "FortPlanner" ({ cls := "FortPlanner", name := "level", desc := "(I)I" } : Jvm.MethodName) ({ cls := "FortPlanner", name := "level", desc := "(I)I" } : Jvm.MethodName)) ∈ lw_all := lw_g (lw_at lw_m7 43 rfl) rfl
theorem q1571 : (Jvm.Cond.code ({ cls := "FortPlanner", name := "level", desc := "(I)I" } : Jvm.MethodName) prog_1_method_64_code (2 : Nat) (Option.some Jvm.ClassFile.FieldType.int)) ∈ lw_all := lw_g (lw_at lw_m7 44 rfl) rfl
theorem q1572 : (Jvm.Cond.methodLink "FortPlanner" (276 : Nat) ({ cls := "FortPlanner$State", name := "level", desc := "(LFortPlanner$Block;)I" } : Jvm.MethodName)) ∈ lw_all := lw_g (lw_at lw_m7 45 rfl) rfl
theorem q1580 : (Jvm.Cond.instanceMethod ({ cls := "FortPlanner", name := "isAbove", desc := "(II)Z" } : Jvm.MethodName)) ∈ lw_all := lw_g (lw_at lw_m7 53 rfl) rfl
theorem q1581 : (Jvm.Cond.selects "FortPlanner" ({ cls := "FortPlanner", name := "isAbove", desc := "(II)Z" } : Jvm.MethodName) ({ cls := "FortPlanner", name := "isAbove", desc := "(II)Z" } : Jvm.MethodName)) ∈ lw_all := lw_g (lw_at lw_m7 54 rfl) rfl
theorem q1582 : (Jvm.Cond.code ({ cls := "FortPlanner", name := "isAbove", desc := "(II)Z" } : Jvm.MethodName) prog_1_method_66_code (4 : Nat) (Option.some Jvm.ClassFile.FieldType.boolean)) ∈ lw_all := lw_g (lw_at lw_m7 55 rfl) rfl
theorem q1583 : (Jvm.Cond.methodLink "FortPlanner" (292 : Nat) ({ cls := "FortPlanner$State", name := "isAbove", desc := "(LFortPlanner$Block;LFortPlanner$Block;)Z" } : Jvm.MethodName)) ∈ lw_all := lw_g (lw_at lw_m7 56 rfl) rfl
theorem q1595 : (Jvm.Cond.instanceMethod ({ cls := "FortPlanner", name := "countAbove", desc := "(I)I" } : Jvm.MethodName)) ∈ lw_all := lw_g (lw_at lw_m7 68 rfl) rfl
theorem q1596 : (Jvm.Cond.selects "FortPlanner" ({ cls := "FortPlanner", name := "countAbove", desc := "(I)I" } : Jvm.MethodName) ({ cls := "FortPlanner", name := "countAbove", desc := "(I)I" } : Jvm.MethodName)) ∈ lw_all := lw_g (lw_at lw_m7 69 rfl) rfl
theorem q1597 : (Jvm.Cond.code ({ cls := "FortPlanner", name := "countAbove", desc := "(I)I" } : Jvm.MethodName) prog_1_method_67_code (3 : Nat) (Option.some Jvm.ClassFile.FieldType.int)) ∈ lw_all := lw_g (lw_at lw_m7 70 rfl) rfl
theorem q1598 : (Jvm.Cond.privateMethod ({ cls := "FortPlanner", name := "lambda$countAbove$3", desc := "(LFortPlanner$Block;LFortPlanner$Block;)Z" } : Jvm.MethodName)) ∈ lw_tbl := lw_at lw_m7 71 rfl
theorem q1599 : (Jvm.Cond.instanceMethod ({ cls := "FortPlanner", name := "lambda$countAbove$3", desc := "(LFortPlanner$Block;LFortPlanner$Block;)Z" } : Jvm.MethodName)) ∈ lw_all := lw_g (lw_at lw_m7 72 rfl) rfl
theorem q1600 : (Jvm.Cond.code ({ cls := "FortPlanner", name := "lambda$countAbove$3", desc := "(LFortPlanner$Block;LFortPlanner$Block;)Z" } : Jvm.MethodName) prog_1_method_95_code (3 : Nat) (Option.some Jvm.ClassFile.FieldType.boolean)) ∈ lw_all := lw_g (lw_at lw_m7 73 rfl) rfl
theorem q1605 : (Jvm.Cond.instanceMethod ({ cls := "FortPlanner", name := "height", desc := "(I)I" } : Jvm.MethodName)) ∈ lw_all := lw_g (lw_at lw_m7 78 rfl) rfl
theorem q1606 : (Jvm.Cond.selects "FortPlanner" ({ cls := "FortPlanner", name := "height", desc := "(I)I" } : Jvm.MethodName) ({ cls := "FortPlanner", name := "height", desc := "(I)I" } : Jvm.MethodName)) ∈ lw_all := lw_g (lw_at lw_m7 79 rfl) rfl
theorem q1607 : (Jvm.Cond.code ({ cls := "FortPlanner", name := "height", desc := "(I)I" } : Jvm.MethodName) prog_1_method_28_code (2 : Nat) (Option.some Jvm.ClassFile.FieldType.int)) ∈ lw_all := lw_g (lw_at lw_m7 80 rfl) rfl
theorem q1612 : (Jvm.Cond.instanceMethod ({ cls := "FortPlanner", name := "holes", desc := "(I)I" } : Jvm.MethodName)) ∈ lw_all := lw_g (lw_at lw_m7 85 rfl) rfl
theorem q1613 : (Jvm.Cond.selects "FortPlanner" ({ cls := "FortPlanner", name := "holes", desc := "(I)I" } : Jvm.MethodName) ({ cls := "FortPlanner", name := "holes", desc := "(I)I" } : Jvm.MethodName)) ∈ lw_all := lw_g (lw_at lw_m7 86 rfl) rfl
theorem q1614 : (Jvm.Cond.code ({ cls := "FortPlanner", name := "holes", desc := "(I)I" } : Jvm.MethodName) prog_1_method_32_code (2 : Nat) (Option.some Jvm.ClassFile.FieldType.int)) ∈ lw_all := lw_g (lw_at lw_m7 87 rfl) rfl
theorem q1619 : (Jvm.Cond.instanceMethod ({ cls := "FortPlanner", name := "holesByHeights", desc := "(I)I" } : Jvm.MethodName)) ∈ lw_all := lw_g (lw_at lw_m7 92 rfl) rfl
theorem q1620 : (Jvm.Cond.selects "FortPlanner" ({ cls := "FortPlanner", name := "holesByHeights", desc := "(I)I" } : Jvm.MethodName) ({ cls := "FortPlanner", name := "holesByHeights", desc := "(I)I" } : Jvm.MethodName)) ∈ lw_all := lw_g (lw_at lw_m7 93 rfl) rfl
theorem q1621 : (Jvm.Cond.code ({ cls := "FortPlanner", name := "holesByHeights", desc := "(I)I" } : Jvm.MethodName) prog_1_method_33_code (2 : Nat) (Option.some Jvm.ClassFile.FieldType.int)) ∈ lw_all := lw_g (lw_at lw_m7 94 rfl) rfl
theorem q1626 : (Jvm.Cond.instanceMethod ({ cls := "FortPlanner", name := "zone", desc := "(I)C" } : Jvm.MethodName)) ∈ lw_all := lw_g (lw_at lw_m7 99 rfl) rfl
theorem q1627 : (Jvm.Cond.selects "FortPlanner" ({ cls := "FortPlanner", name := "zone", desc := "(I)C" } : Jvm.MethodName) ({ cls := "FortPlanner", name := "zone", desc := "(I)C" } : Jvm.MethodName)) ∈ lw_all := lw_g (lw_at lw_m7 100 rfl) rfl
theorem q1628 : (Jvm.Cond.code ({ cls := "FortPlanner", name := "zone", desc := "(I)C" } : Jvm.MethodName) prog_1_method_36_code (2 : Nat) (Option.some Jvm.ClassFile.FieldType.char)) ∈ lw_all := lw_g (lw_at lw_m7 101 rfl) rfl
theorem q1633 : (Jvm.Cond.instanceMethod ({ cls := "FortPlanner", name := "hasTorch", desc := "(I)Z" } : Jvm.MethodName)) ∈ lw_all := lw_g (lw_at lw_m7 106 rfl) rfl
theorem q1634 : (Jvm.Cond.selects "FortPlanner" ({ cls := "FortPlanner", name := "hasTorch", desc := "(I)Z" } : Jvm.MethodName) ({ cls := "FortPlanner", name := "hasTorch", desc := "(I)Z" } : Jvm.MethodName)) ∈ lw_all := lw_g (lw_at lw_m7 107 rfl) rfl
theorem q1635 : (Jvm.Cond.code ({ cls := "FortPlanner", name := "hasTorch", desc := "(I)Z" } : Jvm.MethodName) prog_1_method_37_code (2 : Nat) (Option.some Jvm.ClassFile.FieldType.boolean)) ∈ lw_all := lw_g (lw_at lw_m7 108 rfl) rfl
theorem q1640 : (Jvm.Cond.instanceMethod ({ cls := "FortPlanner", name := "isLit", desc := "(I)Z" } : Jvm.MethodName)) ∈ lw_all := lw_g (lw_at lw_m7 113 rfl) rfl
theorem q1641 : (Jvm.Cond.selects "FortPlanner" ({ cls := "FortPlanner", name := "isLit", desc := "(I)Z" } : Jvm.MethodName) ({ cls := "FortPlanner", name := "isLit", desc := "(I)Z" } : Jvm.MethodName)) ∈ lw_all := lw_g (lw_at lw_m7 114 rfl) rfl
theorem q1642 : (Jvm.Cond.code ({ cls := "FortPlanner", name := "isLit", desc := "(I)Z" } : Jvm.MethodName) prog_1_method_38_code (2 : Nat) (Option.some Jvm.ClassFile.FieldType.boolean)) ∈ lw_all := lw_g (lw_at lw_m7 115 rfl) rfl
theorem q1647 : (Jvm.Cond.instanceMethod ({ cls := "FortPlanner", name := "isLitByMaxima", desc := "(I)Z" } : Jvm.MethodName)) ∈ lw_all := lw_g (lw_at lw_m7 120 rfl) rfl
theorem q1648 : (Jvm.Cond.selects "FortPlanner" ({ cls := "FortPlanner", name := "isLitByMaxima", desc := "(I)Z" } : Jvm.MethodName) ({ cls := "FortPlanner", name := "isLitByMaxima", desc := "(I)Z" } : Jvm.MethodName)) ∈ lw_all := lw_g (lw_at lw_m7 121 rfl) rfl
theorem q1649 : (Jvm.Cond.code ({ cls := "FortPlanner", name := "isLitByMaxima", desc := "(I)Z" } : Jvm.MethodName) prog_1_method_39_code (2 : Nat) (Option.some Jvm.ClassFile.FieldType.boolean)) ∈ lw_all := lw_g (lw_at lw_m7 122 rfl) rfl
theorem q1654 : (Jvm.Cond.instanceMethod ({ cls := "FortPlanner", name := "formatBlock", desc := "(I)I" } : Jvm.MethodName)) ∈ lw_all := lw_g (lw_at lw_m7 127 rfl) rfl
theorem q1655 : (Jvm.Cond.selects "FortPlanner" ({ cls := "FortPlanner", name := "formatBlock", desc := "(I)I" } : Jvm.MethodName) ({ cls := "FortPlanner", name := "formatBlock", desc := "(I)I" } : Jvm.MethodName)) ∈ lw_all := lw_g (lw_at lw_m7 128 rfl) rfl
theorem q1656 : (Jvm.Cond.code ({ cls := "FortPlanner", name := "formatBlock", desc := "(I)I" } : Jvm.MethodName) prog_1_method_78_code (3 : Nat) (Option.some Jvm.ClassFile.FieldType.int)) ∈ lw_all := lw_g (lw_at lw_m7 129 rfl) rfl
theorem q1657 : (Jvm.Cond.methodLink "FortPlanner" (335 : Nat) ({ cls := "FortPlanner$Block", name := "letter", desc := "()C" } : Jvm.MethodName)) ∈ lw_all := lw_g (lw_at lw_m7 130 rfl) rfl
theorem q1669 : (Jvm.Cond.methodLink "FortPlanner" (338 : Nat) ({ cls := "java/lang/StringBuilder", name := "append", desc := "(C)Ljava/lang/StringBuilder;" } : Jvm.MethodName)) ∈ lw_all := lw_g (lw_at lw_m7 142 rfl) rfl
theorem q1689 : (Jvm.Cond.stringRef "FortPlanner" (345 : Nat) "]@") ∈ lw_tbl := lw_at lw_m7 162 rfl
theorem q1694 : (Jvm.Cond.instanceMethod ({ cls := "FortPlanner", name := "lineChar", desc := "(I)C" } : Jvm.MethodName)) ∈ lw_all := lw_g (lw_at lw_m7 167 rfl) rfl
theorem q1695 : (Jvm.Cond.selects "FortPlanner" ({ cls := "FortPlanner", name := "lineChar", desc := "(I)C" } : Jvm.MethodName) ({ cls := "FortPlanner", name := "lineChar", desc := "(I)C" } : Jvm.MethodName)) ∈ lw_all := lw_g (lw_at lw_m7 168 rfl) rfl
theorem q1696 : (Jvm.Cond.code ({ cls := "FortPlanner", name := "lineChar", desc := "(I)C" } : Jvm.MethodName) prog_1_method_80_code (2 : Nat) (Option.some Jvm.ClassFile.FieldType.char)) ∈ lw_all := lw_g (lw_at lw_m7 169 rfl) rfl
theorem q1697 : (Jvm.Cond.methodLink "FortPlanner" (359 : Nat) ({ cls := "java/lang/StringBuilder", name := "charAt", desc := "(I)C" } : Jvm.MethodName)) ∈ lw_all := lw_g (lw_at lw_m7 170 rfl) rfl
theorem q1711 : (Jvm.Cond.instanceMethod ({ cls := "FortPlanner", name := "append", desc := "(C)I" } : Jvm.MethodName)) ∈ lw_all := lw_g (lw_at lw_m7 184 rfl) rfl
theorem q1712 : (Jvm.Cond.selects "FortPlanner" ({ cls := "FortPlanner", name := "append", desc := "(C)I" } : Jvm.MethodName) ({ cls := "FortPlanner", name := "append", desc := "(C)I" } : Jvm.MethodName)) ∈ lw_all := lw_g (lw_at lw_m7 185 rfl) rfl
theorem q1713 : (Jvm.Cond.code ({ cls := "FortPlanner", name := "append", desc := "(C)I" } : Jvm.MethodName) prog_1_method_83_code (2 : Nat) (Option.some Jvm.ClassFile.FieldType.int)) ∈ lw_all := lw_g (lw_at lw_m7 186 rfl) rfl
theorem q1718 : (Jvm.Cond.instanceMethod ({ cls := "FortPlanner", name := "run", desc := "()I" } : Jvm.MethodName)) ∈ lw_all := lw_g (lw_at lw_m7 191 rfl) rfl
theorem q1719 : (Jvm.Cond.selects "FortPlanner" ({ cls := "FortPlanner", name := "run", desc := "()I" } : Jvm.MethodName) ({ cls := "FortPlanner", name := "run", desc := "()I" } : Jvm.MethodName)) ∈ lw_all := lw_g (lw_at lw_m7 192 rfl) rfl
theorem q1720 : (Jvm.Cond.code ({ cls := "FortPlanner", name := "run", desc := "()I" } : Jvm.MethodName) prog_1_method_84_code (2 : Nat) (Option.some Jvm.ClassFile.FieldType.int)) ∈ lw_all := lw_g (lw_at lw_m7 193 rfl) rfl
theorem q1721 : (Jvm.Cond.classLink "FortPlanner" (431 : Nat) "FortPlanner$Parser") ∈ lw_all := lw_g (lw_at lw_m7 194 rfl) rfl
theorem q1723 : (Jvm.Cond.methodLink "FortPlanner" (433 : Nat) ({ cls := "java/lang/StringBuilder", name := "toString", desc := "()Ljava/lang/String;" } : Jvm.MethodName)) ∈ lw_all := lw_g (lw_at lw_m7 196 rfl) rfl
theorem q1724 : (Jvm.Cond.methodLink "FortPlanner" (437 : Nat) ({ cls := "FortPlanner$Parser", name := "<init>", desc := "(Ljava/lang/String;)V" } : Jvm.MethodName)) ∈ lw_all := lw_g (lw_at lw_m7 197 rfl) rfl
theorem q1742 : (Jvm.Cond.fieldLinkNest "FortPlanner" (446 : Nat) "FortPlanner$Parser" "commands" "Ljava/util/ArrayList;" "FortPlanner") ∈ lw_tbl := lw_at lw_m7 215 rfl
theorem q1744 : (Jvm.Cond.fieldLinkNest "FortPlanner" (443 : Nat) "FortPlanner$Parser" "position" "I" "FortPlanner") ∈ lw_tbl := lw_at lw_m7 217 rfl
theorem q1757 : (Jvm.Cond.methodLink "FortPlanner" (440 : Nat) ({ cls := "FortPlanner$Parser", name := "parse", desc := "()Z" } : Jvm.MethodName)) ∈ lw_all := lw_g (lw_at lw_m7 230 rfl) rfl
theorem q1829 : (Jvm.Cond.fieldLinkNest "FortPlanner" (369 : Nat) "FortPlanner$Command" "keyword" "Ljava/lang/String;" "FortPlanner") ∈ lw_tbl := lw_at lw_m8 62 rfl
theorem q1832 : (Jvm.Cond.fieldLinkNest "FortPlanner" (363 : Nat) "FortPlanner$Command" "numbers" "[I" "FortPlanner") ∈ lw_tbl := lw_at lw_m8 65 rfl
theorem q1834 : (Jvm.Cond.fieldLinkNest "FortPlanner" (404 : Nat) "FortPlanner$Command" "letter" "C" "FortPlanner") ∈ lw_tbl := lw_at lw_m8 67 rfl
theorem q1924 : (Jvm.Cond.methodLink "FortPlanner" (449 : Nat) ({ cls := "FortPlanner", name := "executeAll", desc := "(Ljava/util/ArrayList;)V" } : Jvm.MethodName)) ∈ lw_all := lw_g (lw_at lw_m8 157 rfl) rfl
theorem q1925 : (Jvm.Cond.privateMethod ({ cls := "FortPlanner", name := "executeAll", desc := "(Ljava/util/ArrayList;)V" } : Jvm.MethodName)) ∈ lw_tbl := lw_at lw_m8 158 rfl
theorem q1926 : (Jvm.Cond.instanceMethod ({ cls := "FortPlanner", name := "executeAll", desc := "(Ljava/util/ArrayList;)V" } : Jvm.MethodName)) ∈ lw_all := lw_g (lw_at lw_m8 159 rfl) rfl
theorem q1927 : (Jvm.Cond.codeWith ({ cls := "FortPlanner", name := "executeAll", desc := "(Ljava/util/ArrayList;)V" } : Jvm.MethodName) prog_1_method_82_code (7 : Nat) (Option.none : Option Jvm.ClassFile.FieldType) [((20 : Nat), (60 : Nat), (68 : Nat), (40 : Nat)), ((20 : Nat), (60 : Nat), (68 : Nat), (43 : Nat)), ((20 : Nat), (60 : Nat), (68 : Nat), (49 : Nat)), ((20 : Nat), (60 : Nat), (68 : Nat), (46 : Nat)), ((20 : Nat), (60 : Nat), (88 : Nat), (0 : Nat)), ((68 : Nat), (90 : Nat), (88 : Nat), (0 : Nat))]) ∈ lw_all := lw_g (lw_at lw_m8 160 rfl) rfl
theorem q1928 : (Jvm.Cond.methodLink "FortPlanner" (415 : Nat) ({ cls := "java/util/ArrayList", name := "iterator", desc := "()Ljava/util/Iterator;" } : Jvm.MethodName)) ∈ lw_all := lw_g (lw_at lw_m8 161 rfl) rfl
theorem q1929 : (Jvm.Cond.interfaceEntry "FortPlanner" (419 : Nat)) ∈ lw_tbl := lw_at lw_m8 162 rfl
theorem q1930 : (Jvm.Cond.methodLink "FortPlanner" (419 : Nat) ({ cls := "java/util/Iterator", name := "hasNext", desc := "()Z" } : Jvm.MethodName)) ∈ lw_all := lw_g (lw_at lw_m8 163 rfl) rfl
theorem q1931 : (Jvm.Cond.interfaceEntry "FortPlanner" (424 : Nat)) ∈ lw_tbl := lw_at lw_m8 164 rfl
theorem q1932 : (Jvm.Cond.methodLink "FortPlanner" (424 : Nat) ({ cls := "java/util/Iterator", name := "next", desc := "()Ljava/lang/Object;" } : Jvm.MethodName)) ∈ lw_all := lw_g (lw_at lw_m8 165 rfl) rfl
theorem q1933 : (Jvm.Cond.classLink "FortPlanner" (364 : Nat) "FortPlanner$Command") ∈ lw_all := lw_g (lw_at lw_m8 166 rfl) rfl
theorem q1934 : (Jvm.Cond.methodLink "FortPlanner" (427 : Nat) ({ cls := "FortPlanner", name := "execute", desc := "(LFortPlanner$Command;)V" } : Jvm.MethodName)) ∈ lw_all := lw_g (lw_at lw_m8 167 rfl) rfl
theorem q1935 : (Jvm.Cond.privateMethod ({ cls := "FortPlanner", name := "execute", desc := "(LFortPlanner$Command;)V" } : Jvm.MethodName)) ∈ lw_tbl := lw_at lw_m8 168 rfl
theorem q1936 : (Jvm.Cond.instanceMethod ({ cls := "FortPlanner", name := "execute", desc := "(LFortPlanner$Command;)V" } : Jvm.MethodName)) ∈ lw_all := lw_g (lw_at lw_m8 169 rfl) rfl
theorem q1937 : (Jvm.Cond.code ({ cls := "FortPlanner", name := "execute", desc := "(LFortPlanner$Command;)V" } : Jvm.MethodName) prog_1_method_81_code (7 : Nat) (Option.none : Option Jvm.ClassFile.FieldType)) ∈ lw_all := lw_g (lw_at lw_m8 170 rfl) rfl
theorem q1938 : (Jvm.Cond.methodLink "FortPlanner" (373 : Nat) ({ cls := "java/lang/String", name := "hashCode", desc := "()I" } : Jvm.MethodName)) ∈ lw_all := lw_g (lw_at lw_m8 171 rfl) rfl
theorem q1939 : (Jvm.Cond.stringRef "FortPlanner" (378 : Nat) "foam") ∈ lw_tbl := lw_at lw_m8 172 rfl
theorem q1940 : (Jvm.Cond.methodLink "FortPlanner" (380 : Nat) ({ cls := "java/lang/String", name := "equals", desc := "(Ljava/lang/Object;)Z" } : Jvm.MethodName)) ∈ lw_all := lw_g (lw_at lw_m8 173 rfl) rfl
theorem q1941 : (Jvm.Cond.stringRef "FortPlanner" (383 : Nat) "board") ∈ lw_tbl := lw_at lw_m8 174 rfl
theorem q1942 : (Jvm.Cond.stringRef "FortPlanner" (385 : Nat) "bag") ∈ lw_tbl := lw_at lw_m8 175 rfl
theorem q1943 : (Jvm.Cond.stringRef "FortPlanner" (387 : Nat) "remove") ∈ lw_tbl := lw_at lw_m8 176 rfl
theorem q1944 : (Jvm.Cond.stringRef "FortPlanner" (388 : Nat) "zone") ∈ lw_tbl := lw_at lw_m8 177 rfl
theorem q1945 : (Jvm.Cond.stringRef "FortPlanner" (390 : Nat) "torch") ∈ lw_tbl := lw_at lw_m8 178 rfl
theorem q1946 : (Jvm.Cond.methodLink "FortPlanner" (392 : Nat) ({ cls := "FortPlanner", name := "placeFoam", desc := "(III)I" } : Jvm.MethodName)) ∈ lw_all := lw_g (lw_at lw_m8 179 rfl) rfl
theorem q1947 : (Jvm.Cond.methodLink "FortPlanner" (396 : Nat) ({ cls := "FortPlanner", name := "placeBoard", desc := "(III)I" } : Jvm.MethodName)) ∈ lw_all := lw_g (lw_at lw_m8 180 rfl) rfl
theorem q1948 : (Jvm.Cond.methodLink "FortPlanner" (399 : Nat) ({ cls := "FortPlanner", name := "placeBag", desc := "(III)I" } : Jvm.MethodName)) ∈ lw_all := lw_g (lw_at lw_m8 181 rfl) rfl
theorem q1949 : (Jvm.Cond.methodLink "FortPlanner" (402 : Nat) ({ cls := "FortPlanner", name := "remove", desc := "(I)I" } : Jvm.MethodName)) ∈ lw_all := lw_g (lw_at lw_m8 182 rfl) rfl
theorem q1950 : (Jvm.Cond.methodLink "FortPlanner" (405 : Nat) ({ cls := "FortPlanner", name := "setZone", desc := "(IC)C" } : Jvm.MethodName)) ∈ lw_all := lw_g (lw_at lw_m8 183 rfl) rfl
theorem q1951 : (Jvm.Cond.methodLink "FortPlanner" (409 : Nat) ({ cls := "FortPlanner", name := "addTorch", desc := "(I)I" } : Jvm.MethodName)) ∈ lw_all := lw_g (lw_at lw_m8 184 rfl) rfl
theorem q1952 : (Jvm.Cond.methodLink "FortPlanner" (412 : Nat) ({ cls := "FortPlanner", name := "removeTorch", desc := "(I)I" } : Jvm.MethodName)) ∈ lw_all := lw_g (lw_at lw_m8 185 rfl) rfl
theorem q1957 : (Jvm.Cond.instanceMethod ({ cls := "FortPlanner", name := "errorPosition", desc := "()I" } : Jvm.MethodName)) ∈ lw_all := lw_g (lw_at lw_m8 190 rfl) rfl
theorem q1958 : (Jvm.Cond.selects "FortPlanner" ({ cls := "FortPlanner", name := "errorPosition", desc := "()I" } : Jvm.MethodName) ({ cls := "FortPlanner", name := "errorPosition", desc := "()I" } : Jvm.MethodName)) ∈ lw_all := lw_g (lw_at lw_m8 191 rfl) rfl
theorem q1959 : (Jvm.Cond.code ({ cls := "FortPlanner", name := "errorPosition", desc := "()I" } : Jvm.MethodName) prog_1_method_85_code (1 : Nat) (Option.some Jvm.ClassFile.FieldType.int)) ∈ lw_all := lw_g (lw_at lw_m8 192 rfl) rfl
theorem q1964 : (Jvm.Cond.instanceMethod ({ cls := "FortPlanner", name := "failedCommand", desc := "()I" } : Jvm.MethodName)) ∈ lw_all := lw_g (lw_at lw_m8 197 rfl) rfl
theorem q1965 : (Jvm.Cond.selects "FortPlanner" ({ cls := "FortPlanner", name := "failedCommand", desc := "()I" } : Jvm.MethodName) ({ cls := "FortPlanner", name := "failedCommand", desc := "()I" } : Jvm.MethodName)) ∈ lw_all := lw_g (lw_at lw_m8 198 rfl) rfl
theorem q1966 : (Jvm.Cond.code ({ cls := "FortPlanner", name := "failedCommand", desc := "()I" } : Jvm.MethodName) prog_1_method_86_code (1 : Nat) (Option.some Jvm.ClassFile.FieldType.int)) ∈ lw_all := lw_g (lw_at lw_m8 199 rfl) rfl
theorem q1971 : (Jvm.Cond.instanceMethod ({ cls := "FortPlanner", name := "undo", desc := "()I" } : Jvm.MethodName)) ∈ lw_all := lw_g (lw_at lw_m8 204 rfl) rfl
theorem q1972 : (Jvm.Cond.selects "FortPlanner" ({ cls := "FortPlanner", name := "undo", desc := "()I" } : Jvm.MethodName) ({ cls := "FortPlanner", name := "undo", desc := "()I" } : Jvm.MethodName)) ∈ lw_all := lw_g (lw_at lw_m8 205 rfl) rfl
theorem q1973 : (Jvm.Cond.code ({ cls := "FortPlanner", name := "undo", desc := "()I" } : Jvm.MethodName) prog_1_method_88_code (1 : Nat) (Option.some Jvm.ClassFile.FieldType.int)) ∈ lw_all := lw_g (lw_at lw_m8 206 rfl) rfl
theorem q1974 : (Jvm.Cond.methodLink "FortPlanner" (453 : Nat) ({ cls := "java/util/ArrayDeque", name := "isEmpty", desc := "()Z" } : Jvm.MethodName)) ∈ lw_all := lw_g (lw_at lw_m8 207 rfl) rfl
theorem q1978 : (Jvm.Cond.methodLink "FortPlanner" (456 : Nat) ({ cls := "java/util/ArrayDeque", name := "removeLast", desc := "()Ljava/lang/Object;" } : Jvm.MethodName)) ∈ lw_all := lw_g (lw_at lw_m8 211 rfl) rfl
theorem q1993 : (Jvm.Cond.instanceMethod ({ cls := "FortPlanner", name := "restore", desc := "()I" } : Jvm.MethodName)) ∈ lw_all := lw_g (lw_at lw_m8 226 rfl) rfl
theorem q1994 : (Jvm.Cond.selects "FortPlanner" ({ cls := "FortPlanner", name := "restore", desc := "()I" } : Jvm.MethodName) ({ cls := "FortPlanner", name := "restore", desc := "()I" } : Jvm.MethodName)) ∈ lw_all := lw_g (lw_at lw_m8 227 rfl) rfl
theorem q1995 : (Jvm.Cond.code ({ cls := "FortPlanner", name := "restore", desc := "()I" } : Jvm.MethodName) prog_1_method_90_code (1 : Nat) (Option.some Jvm.ClassFile.FieldType.int)) ∈ lw_all := lw_g (lw_at lw_m8 228 rfl) rfl
theorem q1996 : (Jvm.Cond.methodLink "FortPlanner" (462 : Nat) ({ cls := "java/util/ArrayDeque", name := "clear", desc := "()V" } : Jvm.MethodName)) ∈ lw_all := lw_g (lw_at lw_m8 229 rfl) rfl
theorem q2541 : (Jvm.Cond.castable "FortPlanner" "java/lang/Object") ∈ lw_tbl := lw_at lw_m11 54 rfl
theorem q2580 : (Jvm.Cond.fieldLinkNest "FortPlanner" (173 : Nat) "FortPlanner$Zone" "letter" "C" "FortPlanner") ∈ lw_tbl := lw_at lw_m11 93 rfl
theorem in_X1 : ∀ w ∈ wsX10, w ∈ lw_all := lw_in wsX10 [250, 252, 254, 256, 258, 260, 262, 264] (by decide +kernel) (by decide +kernel)
/-! FortPlanner$State -/
set_option maxRecDepth 100000
def RX2 : String := "FortPlanner$State"
def TX2 : u_T := fun k => match k with
  | 0 => ("FortPlanner$State", "blocks", "Ljava/util/ArrayList;", true)
  | 1 => ("FortPlanner$State", "zones", "[LFortPlanner$Zone;", true)
  | 2 => ("FortPlanner$State", "hasTorch", "[Z", true)
  | _ => ("FortPlanner$State", "placed", "I", false)
def tyX2 : Nat → FieldType := fun k => match k with
  | 0 => .object "java/util/ArrayList"
  | 1 => .array (.object "FortPlanner$Zone")
  | 2 => .array .boolean
  | _ => .int
abbrev wsX20 : List Cond := u_ws RX2 TX2 4
theorem nmX2 : ∀ a, a < 4 → ∀ b, b < 4 → a ≠ b → (TX2 a).2.1 ≠ (TX2 b).2.1 := by decide +kernel
theorem tyX2_ok : ∀ k, k < 4 → parseFieldDescriptor (TX2 k).2.2.1 = some (tyX2 k) := by decide +kernel
abbrev cX2_init : ByteArray := prog_10_method_1_code
def yX2_init : MethodName := ⟨RX2, "<init>", "()V"⟩
def dkwX2_init_2 : List UInt8 := [83, 132, 1, 1, 167, 255, 238, 177]
abbrev dktX2_init_2 : List UInt8 := dkwX2_init_2 ++ []
def dkwX2_init_1 : List UInt8 := [42, 16, 12, 188, 4, 181, 0, 24, 3, 60, 27, 16, 12, 162, 0, 18, 42, 180, 0, 20, 27, 178, 0, 28]
abbrev dktX2_init_1 : List UInt8 := dkwX2_init_1 ++ dktX2_init_2
def dkwX2_init_0 : List UInt8 := [42, 183, 0, 3, 42, 187, 0, 9, 89, 183, 0, 11, 181, 0, 12, 42, 16, 12, 189, 0, 18, 181, 0, 20]
abbrev dktX2_init_0 : List UInt8 := dkwX2_init_0 ++ dktX2_init_1
theorem dksX2_init_0 : cX2_init.data.toList.drop 0 = dktX2_init_0 := by decide +kernel
theorem dksX2_init_1 : cX2_init.data.toList.drop 24 = dktX2_init_1 := dk_seg dksX2_init_0 24 rfl rfl
theorem dksX2_init_2 : cX2_init.data.toList.drop 48 = dktX2_init_2 := dk_seg dksX2_init_1 24 rfl rfl
theorem dX2_init_0 : decode cX2_init 0 = .ok (.aload_n 0, 1) := dk_42 (dk_at dksX2_init_0 0 rfl rfl)
theorem dX2_init_1 : decode cX2_init 1 = .ok (.invokespecial 3, 3) := dk_183 0 3 (dk_at dksX2_init_0 1 rfl rfl)
theorem dX2_init_4 : decode cX2_init 4 = .ok (.aload_n 0, 1) := dk_42 (dk_at dksX2_init_0 4 rfl rfl)
theorem dX2_init_5 : decode cX2_init 5 = .ok (.new 9, 3) := dk_187 0 9 (dk_at dksX2_init_0 5 rfl rfl)
theorem dX2_init_8 : decode cX2_init 8 = .ok (.dup, 1) := dk_89 (dk_at dksX2_init_0 8 rfl rfl)
theorem dX2_init_9 : decode cX2_init 9 = .ok (.invokespecial 11, 3) := dk_183 0 11 (dk_at dksX2_init_0 9 rfl rfl)
theorem dX2_init_12 : decode cX2_init 12 = .ok (.putfield 12, 3) := dk_181 0 12 (dk_at dksX2_init_0 12 rfl rfl)
theorem dX2_init_15 : decode cX2_init 15 = .ok (.aload_n 0, 1) := dk_42 (dk_at dksX2_init_0 15 rfl rfl)
theorem dX2_init_16 : decode cX2_init 16 = .ok (.bipush 12, 2) := dk_16 12 (dk_at dksX2_init_0 16 rfl rfl)
theorem dX2_init_18 : decode cX2_init 18 = .ok (.anewarray 18, 3) := dk_189 0 18 (dk_at dksX2_init_0 18 rfl rfl)
theorem dX2_init_21 : decode cX2_init 21 = .ok (.putfield 20, 3) := dk_181 0 20 (dk_at dksX2_init_0 21 rfl rfl)
theorem dX2_init_24 : decode cX2_init 24 = .ok (.aload_n 0, 1) := dk_42 (dk_at dksX2_init_1 0 rfl rfl)
theorem dX2_init_25 : decode cX2_init 25 = .ok (.bipush 12, 2) := dk_16 12 (dk_at dksX2_init_1 1 rfl rfl)
theorem dX2_init_27 : decode cX2_init 27 = .ok (.newarray .boolean, 2) := dk_188_4 (dk_at dksX2_init_1 3 rfl rfl)
theorem dX2_init_29 : decode cX2_init 29 = .ok (.putfield 24, 3) := dk_181 0 24 (dk_at dksX2_init_1 5 rfl rfl)
theorem dX2_init_32 : decode cX2_init 32 = .ok (.iconst 0, 1) := dk_3 (dk_at dksX2_init_1 8 rfl rfl)
theorem dX2_init_33 : decode cX2_init 33 = .ok (.istore_n 1, 1) := dk_60 (dk_at dksX2_init_1 9 rfl rfl)
theorem dX2_init_34 : decode cX2_init 34 = .ok (.iload_n 1, 1) := dk_27 (dk_at dksX2_init_1 10 rfl rfl)
theorem dX2_init_35 : decode cX2_init 35 = .ok (.bipush 12, 2) := dk_16 12 (dk_at dksX2_init_1 11 rfl rfl)
theorem dX2_init_37 : decode cX2_init 37 = .ok (.if_icmp .ge 18, 3) := dk_162 0 18 (dk_at dksX2_init_1 13 rfl rfl)
theorem dX2_init_40 : decode cX2_init 40 = .ok (.aload_n 0, 1) := dk_42 (dk_at dksX2_init_1 16 rfl rfl)
theorem dX2_init_41 : decode cX2_init 41 = .ok (.getfield 20, 3) := dk_180 0 20 (dk_at dksX2_init_1 17 rfl rfl)
theorem dX2_init_44 : decode cX2_init 44 = .ok (.iload_n 1, 1) := dk_27 (dk_at dksX2_init_1 20 rfl rfl)
theorem dX2_init_45 : decode cX2_init 45 = .ok (.getstatic 28, 3) := dk_178 0 28 (dk_at dksX2_init_1 21 rfl rfl)
theorem dX2_init_48 : decode cX2_init 48 = .ok (.aastore, 1) := dk_83 (dk_at dksX2_init_2 0 rfl rfl)
theorem dX2_init_49 : decode cX2_init 49 = .ok (.iinc 1 1, 3) := dk_132 1 1 (dk_at dksX2_init_2 1 rfl rfl)
theorem dX2_init_52 : decode cX2_init 52 = .ok (.goto (-18), 3) := dk_167 255 238 (dk_at dksX2_init_2 4 rfl rfl)
theorem dX2_init_55 : decode cX2_init 55 = .ok (.return_, 1) := dk_177 (dk_at dksX2_init_2 7 rfl rfl)
abbrev cX2_height : ByteArray := prog_10_method_6_code
def yX2_height : MethodName := ⟨RX2, "height", "(I)I"⟩
def dkwX2_height_2 : List UInt8 := [182, 0, 76, 184, 0, 80, 167, 0, 4, 28, 61, 167, 255, 213, 28, 172]
abbrev dktX2_height_2 : List UInt8 := dkwX2_height_2 ++ []
def dkwX2_height_1 : List UInt8 := [185, 0, 43, 1, 0, 192, 0, 47, 58, 4, 25, 4, 27, 182, 0, 72, 153, 0, 15, 28, 25, 4]
abbrev dktX2_height_1 : List UInt8 := dkwX2_height_1 ++ dktX2_height_2
def dkwX2_height_0 : List UInt8 := [3, 61, 42, 180, 0, 12, 182, 0, 33, 78, 45, 185, 0, 37, 1, 0, 153, 0, 40, 45]
abbrev dktX2_height_0 : List UInt8 := dkwX2_height_0 ++ dktX2_height_1
theorem dksX2_height_0 : cX2_height.data.toList.drop 0 = dktX2_height_0 := by decide +kernel
theorem dksX2_height_1 : cX2_height.data.toList.drop 20 = dktX2_height_1 := dk_seg dksX2_height_0 20 rfl rfl
theorem dksX2_height_2 : cX2_height.data.toList.drop 42 = dktX2_height_2 := dk_seg dksX2_height_1 22 rfl rfl
theorem dX2_height_0 : decode cX2_height 0 = .ok (.iconst 0, 1) := dk_3 (dk_at dksX2_height_0 0 rfl rfl)
theorem dX2_height_1 : decode cX2_height 1 = .ok (.istore_n 2, 1) := dk_61 (dk_at dksX2_height_0 1 rfl rfl)
theorem dX2_height_2 : decode cX2_height 2 = .ok (.aload_n 0, 1) := dk_42 (dk_at dksX2_height_0 2 rfl rfl)
theorem dX2_height_3 : decode cX2_height 3 = .ok (.getfield 12, 3) := dk_180 0 12 (dk_at dksX2_height_0 3 rfl rfl)
theorem dX2_height_6 : decode cX2_height 6 = .ok (.invokevirtual 33, 3) := dk_182 0 33 (dk_at dksX2_height_0 6 rfl rfl)
theorem dX2_height_9 : decode cX2_height 9 = .ok (.astore_n 3, 1) := dk_78 (dk_at dksX2_height_0 9 rfl rfl)
theorem dX2_height_10 : decode cX2_height 10 = .ok (.aload_n 3, 1) := dk_45 (dk_at dksX2_height_0 10 rfl rfl)
theorem dX2_height_11 : decode cX2_height 11 = .ok (.invokeinterface 37 1, 5) := by decide +kernel
theorem dX2_height_16 : decode cX2_height 16 = .ok (.ifCond .eq 40, 3) := dk_153 0 40 (dk_at dksX2_height_0 16 rfl rfl)
theorem dX2_height_19 : decode cX2_height 19 = .ok (.aload_n 3, 1) := dk_45 (dk_at dksX2_height_0 19 rfl rfl)
theorem dX2_height_20 : decode cX2_height 20 = .ok (.invokeinterface 43 1, 5) := by decide +kernel
theorem dX2_height_25 : decode cX2_height 25 = .ok (.checkcast 47, 3) := dk_192 0 47 (dk_at dksX2_height_1 5 rfl rfl)
theorem dX2_height_28 : decode cX2_height 28 = .ok (.astore 4, 2) := dk_58 4 (dk_at dksX2_height_1 8 rfl rfl)
theorem dX2_height_30 : decode cX2_height 30 = .ok (.aload 4, 2) := dk_25 4 (dk_at dksX2_height_1 10 rfl rfl)
theorem dX2_height_32 : decode cX2_height 32 = .ok (.iload_n 1, 1) := dk_27 (dk_at dksX2_height_1 12 rfl rfl)
theorem dX2_height_33 : decode cX2_height 33 = .ok (.invokevirtual 72, 3) := dk_182 0 72 (dk_at dksX2_height_1 13 rfl rfl)
theorem dX2_height_36 : decode cX2_height 36 = .ok (.ifCond .eq 15, 3) := dk_153 0 15 (dk_at dksX2_height_1 16 rfl rfl)
theorem dX2_height_39 : decode cX2_height 39 = .ok (.iload_n 2, 1) := dk_28 (dk_at dksX2_height_1 19 rfl rfl)
theorem dX2_height_40 : decode cX2_height 40 = .ok (.aload 4, 2) := dk_25 4 (dk_at dksX2_height_1 20 rfl rfl)
theorem dX2_height_42 : decode cX2_height 42 = .ok (.invokevirtual 76, 3) := dk_182 0 76 (dk_at dksX2_height_2 0 rfl rfl)
theorem dX2_height_45 : decode cX2_height 45 = .ok (.invokestatic 80, 3) := dk_184 0 80 (dk_at dksX2_height_2 3 rfl rfl)
theorem dX2_height_48 : decode cX2_height 48 = .ok (.goto 4, 3) := dk_167 0 4 (dk_at dksX2_height_2 6 rfl rfl)
theorem dX2_height_51 : decode cX2_height 51 = .ok (.iload_n 2, 1) := dk_28 (dk_at dksX2_height_2 9 rfl rfl)
theorem dX2_height_52 : decode cX2_height 52 = .ok (.istore_n 2, 1) := dk_61 (dk_at dksX2_height_2 10 rfl rfl)
theorem dX2_height_53 : decode cX2_height 53 = .ok (.goto (-43), 3) := dk_167 255 213 (dk_at dksX2_height_2 11 rfl rfl)
theorem dX2_height_56 : decode cX2_height 56 = .ok (.iload_n 2, 1) := dk_28 (dk_at dksX2_height_2 14 rfl rfl)
theorem dX2_height_57 : decode cX2_height 57 = .ok (.ireturn, 1) := dk_172 (dk_at dksX2_height_2 15 rfl rfl)
abbrev cX2_light : ByteArray := prog_10_method_30_code
def yX2_light : MethodName := ⟨RX2, "light", "()[Z"⟩
def dkwX2_light_1 : List UInt8 := [4, 84, 42, 28, 2, 43, 182, 0, 188, 42, 28, 4, 43, 182, 0, 188, 132, 2, 1, 167, 255, 220, 43, 176]
abbrev dktX2_light_1 : List UInt8 := dkwX2_light_1 ++ []
def dkwX2_light_0 : List UInt8 := [16, 12, 188, 4, 76, 3, 61, 28, 16, 12, 162, 0, 36, 42, 180, 0, 24, 28, 51, 153, 0, 21, 43, 28]
abbrev dktX2_light_0 : List UInt8 := dkwX2_light_0 ++ dktX2_light_1
theorem dksX2_light_0 : cX2_light.data.toList.drop 0 = dktX2_light_0 := by decide +kernel
theorem dksX2_light_1 : cX2_light.data.toList.drop 24 = dktX2_light_1 := dk_seg dksX2_light_0 24 rfl rfl
theorem dX2_light_0 : decode cX2_light 0 = .ok (.bipush 12, 2) := dk_16 12 (dk_at dksX2_light_0 0 rfl rfl)
theorem dX2_light_2 : decode cX2_light 2 = .ok (.newarray .boolean, 2) := dk_188_4 (dk_at dksX2_light_0 2 rfl rfl)
theorem dX2_light_4 : decode cX2_light 4 = .ok (.astore_n 1, 1) := dk_76 (dk_at dksX2_light_0 4 rfl rfl)
theorem dX2_light_5 : decode cX2_light 5 = .ok (.iconst 0, 1) := dk_3 (dk_at dksX2_light_0 5 rfl rfl)
theorem dX2_light_6 : decode cX2_light 6 = .ok (.istore_n 2, 1) := dk_61 (dk_at dksX2_light_0 6 rfl rfl)
theorem dX2_light_7 : decode cX2_light 7 = .ok (.iload_n 2, 1) := dk_28 (dk_at dksX2_light_0 7 rfl rfl)
theorem dX2_light_8 : decode cX2_light 8 = .ok (.bipush 12, 2) := dk_16 12 (dk_at dksX2_light_0 8 rfl rfl)
theorem dX2_light_10 : decode cX2_light 10 = .ok (.if_icmp .ge 36, 3) := dk_162 0 36 (dk_at dksX2_light_0 10 rfl rfl)
theorem dX2_light_13 : decode cX2_light 13 = .ok (.aload_n 0, 1) := dk_42 (dk_at dksX2_light_0 13 rfl rfl)
theorem dX2_light_14 : decode cX2_light 14 = .ok (.getfield 24, 3) := dk_180 0 24 (dk_at dksX2_light_0 14 rfl rfl)
theorem dX2_light_17 : decode cX2_light 17 = .ok (.iload_n 2, 1) := dk_28 (dk_at dksX2_light_0 17 rfl rfl)
theorem dX2_light_18 : decode cX2_light 18 = .ok (.baload, 1) := dk_51 (dk_at dksX2_light_0 18 rfl rfl)
theorem dX2_light_19 : decode cX2_light 19 = .ok (.ifCond .eq 21, 3) := dk_153 0 21 (dk_at dksX2_light_0 19 rfl rfl)
theorem dX2_light_22 : decode cX2_light 22 = .ok (.aload_n 1, 1) := dk_43 (dk_at dksX2_light_0 22 rfl rfl)
theorem dX2_light_23 : decode cX2_light 23 = .ok (.iload_n 2, 1) := dk_28 (dk_at dksX2_light_0 23 rfl rfl)
theorem dX2_light_24 : decode cX2_light 24 = .ok (.iconst 1, 1) := dk_4 (dk_at dksX2_light_1 0 rfl rfl)
theorem dX2_light_25 : decode cX2_light 25 = .ok (.bastore, 1) := dk_84 (dk_at dksX2_light_1 1 rfl rfl)
theorem dX2_light_26 : decode cX2_light 26 = .ok (.aload_n 0, 1) := dk_42 (dk_at dksX2_light_1 2 rfl rfl)
theorem dX2_light_27 : decode cX2_light 27 = .ok (.iload_n 2, 1) := dk_28 (dk_at dksX2_light_1 3 rfl rfl)
theorem dX2_light_28 : decode cX2_light 28 = .ok (.iconst (-1), 1) := dk_2 (dk_at dksX2_light_1 4 rfl rfl)
theorem dX2_light_29 : decode cX2_light 29 = .ok (.aload_n 1, 1) := dk_43 (dk_at dksX2_light_1 5 rfl rfl)
theorem dX2_light_30 : decode cX2_light 30 = .ok (.invokevirtual 188, 3) := dk_182 0 188 (dk_at dksX2_light_1 6 rfl rfl)
theorem dX2_light_33 : decode cX2_light 33 = .ok (.aload_n 0, 1) := dk_42 (dk_at dksX2_light_1 9 rfl rfl)
theorem dX2_light_34 : decode cX2_light 34 = .ok (.iload_n 2, 1) := dk_28 (dk_at dksX2_light_1 10 rfl rfl)
theorem dX2_light_35 : decode cX2_light 35 = .ok (.iconst 1, 1) := dk_4 (dk_at dksX2_light_1 11 rfl rfl)
theorem dX2_light_36 : decode cX2_light 36 = .ok (.aload_n 1, 1) := dk_43 (dk_at dksX2_light_1 12 rfl rfl)
theorem dX2_light_37 : decode cX2_light 37 = .ok (.invokevirtual 188, 3) := dk_182 0 188 (dk_at dksX2_light_1 13 rfl rfl)
theorem dX2_light_40 : decode cX2_light 40 = .ok (.iinc 2 1, 3) := dk_132 2 1 (dk_at dksX2_light_1 16 rfl rfl)
theorem dX2_light_43 : decode cX2_light 43 = .ok (.goto (-36), 3) := dk_167 255 220 (dk_at dksX2_light_1 19 rfl rfl)
theorem dX2_light_46 : decode cX2_light 46 = .ok (.aload_n 1, 1) := dk_43 (dk_at dksX2_light_1 22 rfl rfl)
theorem dX2_light_47 : decode cX2_light 47 = .ok (.areturn, 1) := dk_176 (dk_at dksX2_light_1 23 rfl rfl)
abbrev cX2_lightSide : ByteArray := prog_10_method_29_code
def yX2_lightSide : MethodName := ⟨RX2, "lightSide", "(II[Z)V"⟩
def dkwX2_lightSide_3 : List UInt8 := [167, 255, 196, 177]
abbrev dktX2_lightSide_3 : List UInt8 := dkwX2_lightSide_3 ++ []
def dkwX2_lightSide_2 : List UInt8 := [167, 0, 4, 3, 128, 84, 21, 4, 42, 21, 6, 182, 0, 145, 184, 0, 80, 54, 4, 132, 5, 1]
abbrev dktX2_lightSide_2 : List UInt8 := dkwX2_lightSide_2 ++ dktX2_lightSide_3
def dkwX2_lightSide_1 : List UInt8 := [184, 0, 185, 153, 0, 38, 45, 21, 6, 92, 51, 21, 4, 42, 27, 182, 0, 178, 163, 0, 7, 4]
abbrev dktX2_lightSide_1 : List UInt8 := dkwX2_lightSide_1 ++ dktX2_lightSide_2
def dkwX2_lightSide_0 : List UInt8 := [3, 54, 4, 4, 54, 5, 21, 5, 7, 163, 0, 60, 27, 28, 21, 5, 104, 96, 54, 6, 21, 6]
abbrev dktX2_lightSide_0 : List UInt8 := dkwX2_lightSide_0 ++ dktX2_lightSide_1
theorem dksX2_lightSide_0 : cX2_lightSide.data.toList.drop 0 = dktX2_lightSide_0 := by decide +kernel
theorem dksX2_lightSide_1 : cX2_lightSide.data.toList.drop 22 = dktX2_lightSide_1 := dk_seg dksX2_lightSide_0 22 rfl rfl
theorem dksX2_lightSide_2 : cX2_lightSide.data.toList.drop 44 = dktX2_lightSide_2 := dk_seg dksX2_lightSide_1 22 rfl rfl
theorem dksX2_lightSide_3 : cX2_lightSide.data.toList.drop 66 = dktX2_lightSide_3 := dk_seg dksX2_lightSide_2 22 rfl rfl
theorem dX2_lightSide_0 : decode cX2_lightSide 0 = .ok (.iconst 0, 1) := dk_3 (dk_at dksX2_lightSide_0 0 rfl rfl)
theorem dX2_lightSide_1 : decode cX2_lightSide 1 = .ok (.istore 4, 2) := dk_54 4 (dk_at dksX2_lightSide_0 1 rfl rfl)
theorem dX2_lightSide_3 : decode cX2_lightSide 3 = .ok (.iconst 1, 1) := dk_4 (dk_at dksX2_lightSide_0 3 rfl rfl)
theorem dX2_lightSide_4 : decode cX2_lightSide 4 = .ok (.istore 5, 2) := dk_54 5 (dk_at dksX2_lightSide_0 4 rfl rfl)
theorem dX2_lightSide_6 : decode cX2_lightSide 6 = .ok (.iload 5, 2) := dk_21 5 (dk_at dksX2_lightSide_0 6 rfl rfl)
theorem dX2_lightSide_8 : decode cX2_lightSide 8 = .ok (.iconst 4, 1) := dk_7 (dk_at dksX2_lightSide_0 8 rfl rfl)
theorem dX2_lightSide_9 : decode cX2_lightSide 9 = .ok (.if_icmp .gt 60, 3) := dk_163 0 60 (dk_at dksX2_lightSide_0 9 rfl rfl)
theorem dX2_lightSide_12 : decode cX2_lightSide 12 = .ok (.iload_n 1, 1) := dk_27 (dk_at dksX2_lightSide_0 12 rfl rfl)
theorem dX2_lightSide_13 : decode cX2_lightSide 13 = .ok (.iload_n 2, 1) := dk_28 (dk_at dksX2_lightSide_0 13 rfl rfl)
theorem dX2_lightSide_14 : decode cX2_lightSide 14 = .ok (.iload 5, 2) := dk_21 5 (dk_at dksX2_lightSide_0 14 rfl rfl)
theorem dX2_lightSide_16 : decode cX2_lightSide 16 = .ok (.imul, 1) := dk_104 (dk_at dksX2_lightSide_0 16 rfl rfl)
theorem dX2_lightSide_17 : decode cX2_lightSide 17 = .ok (.iadd, 1) := dk_96 (dk_at dksX2_lightSide_0 17 rfl rfl)
theorem dX2_lightSide_18 : decode cX2_lightSide 18 = .ok (.istore 6, 2) := dk_54 6 (dk_at dksX2_lightSide_0 18 rfl rfl)
theorem dX2_lightSide_20 : decode cX2_lightSide 20 = .ok (.iload 6, 2) := dk_21 6 (dk_at dksX2_lightSide_0 20 rfl rfl)
theorem dX2_lightSide_22 : decode cX2_lightSide 22 = .ok (.invokestatic 185, 3) := dk_184 0 185 (dk_at dksX2_lightSide_1 0 rfl rfl)
theorem dX2_lightSide_25 : decode cX2_lightSide 25 = .ok (.ifCond .eq 38, 3) := dk_153 0 38 (dk_at dksX2_lightSide_1 3 rfl rfl)
theorem dX2_lightSide_28 : decode cX2_lightSide 28 = .ok (.aload_n 3, 1) := dk_45 (dk_at dksX2_lightSide_1 6 rfl rfl)
theorem dX2_lightSide_29 : decode cX2_lightSide 29 = .ok (.iload 6, 2) := dk_21 6 (dk_at dksX2_lightSide_1 7 rfl rfl)
theorem dX2_lightSide_31 : decode cX2_lightSide 31 = .ok (.dup2, 1) := dk_92 (dk_at dksX2_lightSide_1 9 rfl rfl)
theorem dX2_lightSide_32 : decode cX2_lightSide 32 = .ok (.baload, 1) := dk_51 (dk_at dksX2_lightSide_1 10 rfl rfl)
theorem dX2_lightSide_33 : decode cX2_lightSide 33 = .ok (.iload 4, 2) := dk_21 4 (dk_at dksX2_lightSide_1 11 rfl rfl)
theorem dX2_lightSide_35 : decode cX2_lightSide 35 = .ok (.aload_n 0, 1) := dk_42 (dk_at dksX2_lightSide_1 13 rfl rfl)
theorem dX2_lightSide_36 : decode cX2_lightSide 36 = .ok (.iload_n 1, 1) := dk_27 (dk_at dksX2_lightSide_1 14 rfl rfl)
theorem dX2_lightSide_37 : decode cX2_lightSide 37 = .ok (.invokevirtual 178, 3) := dk_182 0 178 (dk_at dksX2_lightSide_1 15 rfl rfl)
theorem dX2_lightSide_40 : decode cX2_lightSide 40 = .ok (.if_icmp .gt 7, 3) := dk_163 0 7 (dk_at dksX2_lightSide_1 18 rfl rfl)
theorem dX2_lightSide_43 : decode cX2_lightSide 43 = .ok (.iconst 1, 1) := dk_4 (dk_at dksX2_lightSide_1 21 rfl rfl)
theorem dX2_lightSide_44 : decode cX2_lightSide 44 = .ok (.goto 4, 3) := dk_167 0 4 (dk_at dksX2_lightSide_2 0 rfl rfl)
theorem dX2_lightSide_47 : decode cX2_lightSide 47 = .ok (.iconst 0, 1) := dk_3 (dk_at dksX2_lightSide_2 3 rfl rfl)
theorem dX2_lightSide_48 : decode cX2_lightSide 48 = .ok (.ior, 1) := dk_128 (dk_at dksX2_lightSide_2 4 rfl rfl)
theorem dX2_lightSide_49 : decode cX2_lightSide 49 = .ok (.bastore, 1) := dk_84 (dk_at dksX2_lightSide_2 5 rfl rfl)
theorem dX2_lightSide_50 : decode cX2_lightSide 50 = .ok (.iload 4, 2) := dk_21 4 (dk_at dksX2_lightSide_2 6 rfl rfl)
theorem dX2_lightSide_52 : decode cX2_lightSide 52 = .ok (.aload_n 0, 1) := dk_42 (dk_at dksX2_lightSide_2 8 rfl rfl)
theorem dX2_lightSide_53 : decode cX2_lightSide 53 = .ok (.iload 6, 2) := dk_21 6 (dk_at dksX2_lightSide_2 9 rfl rfl)
theorem dX2_lightSide_55 : decode cX2_lightSide 55 = .ok (.invokevirtual 145, 3) := dk_182 0 145 (dk_at dksX2_lightSide_2 11 rfl rfl)
theorem dX2_lightSide_58 : decode cX2_lightSide 58 = .ok (.invokestatic 80, 3) := dk_184 0 80 (dk_at dksX2_lightSide_2 14 rfl rfl)
theorem dX2_lightSide_61 : decode cX2_lightSide 61 = .ok (.istore 4, 2) := dk_54 4 (dk_at dksX2_lightSide_2 17 rfl rfl)
theorem dX2_lightSide_63 : decode cX2_lightSide 63 = .ok (.iinc 5 1, 3) := dk_132 5 1 (dk_at dksX2_lightSide_2 19 rfl rfl)
theorem dX2_lightSide_66 : decode cX2_lightSide 66 = .ok (.goto (-60), 3) := dk_167 255 196 (dk_at dksX2_lightSide_3 0 rfl rfl)
theorem dX2_lightSide_69 : decode cX2_lightSide 69 = .ok (.return_, 1) := dk_177 (dk_at dksX2_lightSide_3 3 rfl rfl)
abbrev cX2_flame : ByteArray := prog_10_method_26_code
def yX2_flame : MethodName := ⟨RX2, "flame", "(I)I"⟩
def dkwX2_flame_0 : List UInt8 := [42, 27, 182, 0, 145, 5, 96, 172]
abbrev dktX2_flame_0 : List UInt8 := dkwX2_flame_0 ++ []
theorem dksX2_flame_0 : cX2_flame.data.toList.drop 0 = dktX2_flame_0 := by decide +kernel
theorem dX2_flame_0 : decode cX2_flame 0 = .ok (.aload_n 0, 1) := dk_42 (dk_at dksX2_flame_0 0 rfl rfl)
theorem dX2_flame_1 : decode cX2_flame 1 = .ok (.iload_n 1, 1) := dk_27 (dk_at dksX2_flame_0 1 rfl rfl)
theorem dX2_flame_2 : decode cX2_flame 2 = .ok (.invokevirtual 145, 3) := dk_182 0 145 (dk_at dksX2_flame_0 2 rfl rfl)
theorem dX2_flame_5 : decode cX2_flame 5 = .ok (.iconst 2, 1) := dk_5 (dk_at dksX2_flame_0 5 rfl rfl)
theorem dX2_flame_6 : decode cX2_flame 6 = .ok (.iadd, 1) := dk_96 (dk_at dksX2_flame_0 6 rfl rfl)
theorem dX2_flame_7 : decode cX2_flame 7 = .ok (.ireturn, 1) := dk_172 (dk_at dksX2_flame_0 7 rfl rfl)
abbrev cX2_find : ByteArray := prog_10_method_3_code
def yX2_find : MethodName := ⟨RX2, "find", "(I)LFortPlanner$Block;"⟩
def dkwX2_find_1 : List UInt8 := [192, 0, 47, 78, 45, 180, 0, 57, 27, 160, 0, 5, 45, 176, 167, 255, 227, 1, 176]
abbrev dktX2_find_1 : List UInt8 := dkwX2_find_1 ++ []
def dkwX2_find_0 : List UInt8 := [42, 180, 0, 12, 182, 0, 33, 77, 44, 185, 0, 37, 1, 0, 153, 0, 26, 44, 185, 0, 43, 1, 0]
abbrev dktX2_find_0 : List UInt8 := dkwX2_find_0 ++ dktX2_find_1
theorem dksX2_find_0 : cX2_find.data.toList.drop 0 = dktX2_find_0 := by decide +kernel
theorem dksX2_find_1 : cX2_find.data.toList.drop 23 = dktX2_find_1 := dk_seg dksX2_find_0 23 rfl rfl
theorem dX2_find_0 : decode cX2_find 0 = .ok (.aload_n 0, 1) := dk_42 (dk_at dksX2_find_0 0 rfl rfl)
theorem dX2_find_1 : decode cX2_find 1 = .ok (.getfield 12, 3) := dk_180 0 12 (dk_at dksX2_find_0 1 rfl rfl)
theorem dX2_find_4 : decode cX2_find 4 = .ok (.invokevirtual 33, 3) := dk_182 0 33 (dk_at dksX2_find_0 4 rfl rfl)
theorem dX2_find_7 : decode cX2_find 7 = .ok (.astore_n 2, 1) := dk_77 (dk_at dksX2_find_0 7 rfl rfl)
theorem dX2_find_8 : decode cX2_find 8 = .ok (.aload_n 2, 1) := dk_44 (dk_at dksX2_find_0 8 rfl rfl)
theorem dX2_find_9 : decode cX2_find 9 = .ok (.invokeinterface 37 1, 5) := by decide +kernel
theorem dX2_find_14 : decode cX2_find 14 = .ok (.ifCond .eq 26, 3) := dk_153 0 26 (dk_at dksX2_find_0 14 rfl rfl)
theorem dX2_find_17 : decode cX2_find 17 = .ok (.aload_n 2, 1) := dk_44 (dk_at dksX2_find_0 17 rfl rfl)
theorem dX2_find_18 : decode cX2_find 18 = .ok (.invokeinterface 43 1, 5) := by decide +kernel
theorem dX2_find_23 : decode cX2_find 23 = .ok (.checkcast 47, 3) := dk_192 0 47 (dk_at dksX2_find_1 0 rfl rfl)
theorem dX2_find_26 : decode cX2_find 26 = .ok (.astore_n 3, 1) := dk_78 (dk_at dksX2_find_1 3 rfl rfl)
theorem dX2_find_27 : decode cX2_find 27 = .ok (.aload_n 3, 1) := dk_45 (dk_at dksX2_find_1 4 rfl rfl)
theorem dX2_find_28 : decode cX2_find 28 = .ok (.getfield 57, 3) := dk_180 0 57 (dk_at dksX2_find_1 5 rfl rfl)
theorem dX2_find_31 : decode cX2_find 31 = .ok (.iload_n 1, 1) := dk_27 (dk_at dksX2_find_1 8 rfl rfl)
theorem dX2_find_32 : decode cX2_find 32 = .ok (.if_icmp .ne 5, 3) := dk_160 0 5 (dk_at dksX2_find_1 9 rfl rfl)
theorem dX2_find_35 : decode cX2_find 35 = .ok (.aload_n 3, 1) := dk_45 (dk_at dksX2_find_1 12 rfl rfl)
theorem dX2_find_36 : decode cX2_find 36 = .ok (.areturn, 1) := dk_176 (dk_at dksX2_find_1 13 rfl rfl)
theorem dX2_find_37 : decode cX2_find 37 = .ok (.goto (-29), 3) := dk_167 255 227 (dk_at dksX2_find_1 14 rfl rfl)
theorem dX2_find_40 : decode cX2_find 40 = .ok (.aconst_null, 1) := dk_1 (dk_at dksX2_find_1 17 rfl rfl)
theorem dX2_find_41 : decode cX2_find 41 = .ok (.areturn, 1) := dk_176 (dk_at dksX2_find_1 18 rfl rfl)
abbrev cX2_unknownNumbers : ByteArray := prog_10_method_14_code
def yX2_unknownNumbers : MethodName := ⟨RX2, "unknownNumbers", "()[I"⟩
def dkwX2_unknownNumbers_1 : List UInt8 := [132, 2, 1, 167, 255, 242, 43, 176]
abbrev dktX2_unknownNumbers_1 : List UInt8 := dkwX2_unknownNumbers_1 ++ []
def dkwX2_unknownNumbers_0 : List UInt8 := [42, 180, 0, 12, 182, 0, 89, 188, 10, 76, 3, 61, 28, 43, 190, 162, 0, 14, 43, 28, 16, 254, 79]
abbrev dktX2_unknownNumbers_0 : List UInt8 := dkwX2_unknownNumbers_0 ++ dktX2_unknownNumbers_1
theorem dksX2_unknownNumbers_0 : cX2_unknownNumbers.data.toList.drop 0 = dktX2_unknownNumbers_0 := by decide +kernel
theorem dksX2_unknownNumbers_1 : cX2_unknownNumbers.data.toList.drop 23 = dktX2_unknownNumbers_1 := dk_seg dksX2_unknownNumbers_0 23 rfl rfl
theorem dX2_unknownNumbers_0 : decode cX2_unknownNumbers 0 = .ok (.aload_n 0, 1) := dk_42 (dk_at dksX2_unknownNumbers_0 0 rfl rfl)
theorem dX2_unknownNumbers_1 : decode cX2_unknownNumbers 1 = .ok (.getfield 12, 3) := dk_180 0 12 (dk_at dksX2_unknownNumbers_0 1 rfl rfl)
theorem dX2_unknownNumbers_4 : decode cX2_unknownNumbers 4 = .ok (.invokevirtual 89, 3) := dk_182 0 89 (dk_at dksX2_unknownNumbers_0 4 rfl rfl)
theorem dX2_unknownNumbers_7 : decode cX2_unknownNumbers 7 = .ok (.newarray .int, 2) := dk_188_10 (dk_at dksX2_unknownNumbers_0 7 rfl rfl)
theorem dX2_unknownNumbers_9 : decode cX2_unknownNumbers 9 = .ok (.astore_n 1, 1) := dk_76 (dk_at dksX2_unknownNumbers_0 9 rfl rfl)
theorem dX2_unknownNumbers_10 : decode cX2_unknownNumbers 10 = .ok (.iconst 0, 1) := dk_3 (dk_at dksX2_unknownNumbers_0 10 rfl rfl)
theorem dX2_unknownNumbers_11 : decode cX2_unknownNumbers 11 = .ok (.istore_n 2, 1) := dk_61 (dk_at dksX2_unknownNumbers_0 11 rfl rfl)
theorem dX2_unknownNumbers_12 : decode cX2_unknownNumbers 12 = .ok (.iload_n 2, 1) := dk_28 (dk_at dksX2_unknownNumbers_0 12 rfl rfl)
theorem dX2_unknownNumbers_13 : decode cX2_unknownNumbers 13 = .ok (.aload_n 1, 1) := dk_43 (dk_at dksX2_unknownNumbers_0 13 rfl rfl)
theorem dX2_unknownNumbers_14 : decode cX2_unknownNumbers 14 = .ok (.arraylength, 1) := dk_190 (dk_at dksX2_unknownNumbers_0 14 rfl rfl)
theorem dX2_unknownNumbers_15 : decode cX2_unknownNumbers 15 = .ok (.if_icmp .ge 14, 3) := dk_162 0 14 (dk_at dksX2_unknownNumbers_0 15 rfl rfl)
theorem dX2_unknownNumbers_18 : decode cX2_unknownNumbers 18 = .ok (.aload_n 1, 1) := dk_43 (dk_at dksX2_unknownNumbers_0 18 rfl rfl)
theorem dX2_unknownNumbers_19 : decode cX2_unknownNumbers 19 = .ok (.iload_n 2, 1) := dk_28 (dk_at dksX2_unknownNumbers_0 19 rfl rfl)
theorem dX2_unknownNumbers_20 : decode cX2_unknownNumbers 20 = .ok (.bipush (-2), 2) := dk_16 254 (dk_at dksX2_unknownNumbers_0 20 rfl rfl)
theorem dX2_unknownNumbers_22 : decode cX2_unknownNumbers 22 = .ok (.iastore, 1) := dk_79 (dk_at dksX2_unknownNumbers_0 22 rfl rfl)
theorem dX2_unknownNumbers_23 : decode cX2_unknownNumbers 23 = .ok (.iinc 2 1, 3) := dk_132 2 1 (dk_at dksX2_unknownNumbers_1 0 rfl rfl)
theorem dX2_unknownNumbers_26 : decode cX2_unknownNumbers 26 = .ok (.goto (-14), 3) := dk_167 255 242 (dk_at dksX2_unknownNumbers_1 3 rfl rfl)
theorem dX2_unknownNumbers_29 : decode cX2_unknownNumbers 29 = .ok (.aload_n 1, 1) := dk_43 (dk_at dksX2_unknownNumbers_1 6 rfl rfl)
theorem dX2_unknownNumbers_30 : decode cX2_unknownNumbers 30 = .ok (.areturn, 1) := dk_176 (dk_at dksX2_unknownNumbers_1 7 rfl rfl)
abbrev cX2_recursiveLevel : ByteArray := prog_10_method_22_code
def yX2_recursiveLevel : MethodName := ⟨RX2, "recursiveLevel", "(I[I)I"⟩
def dkwX2_recursiveLevel_3 : List UInt8 := [27, 29, 79, 44, 27, 46, 172]
abbrev dktX2_recursiveLevel_3 : List UInt8 := dkwX2_recursiveLevel_3 ++ []
def dkwX2_recursiveLevel_2 : List UInt8 := [153, 0, 17, 29, 4, 42, 21, 4, 44, 182, 0, 168, 96, 184, 0, 80, 62, 132, 4, 1, 167, 255, 203, 44]
abbrev dktX2_recursiveLevel_2 : List UInt8 := dkwX2_recursiveLevel_2 ++ dktX2_recursiveLevel_3
def dkwX2_recursiveLevel_1 : List UInt8 := [21, 4, 182, 0, 95, 192, 0, 47, 42, 180, 0, 12, 27, 182, 0, 95, 192, 0, 47, 182, 0, 86]
abbrev dktX2_recursiveLevel_1 : List UInt8 := dkwX2_recursiveLevel_1 ++ dktX2_recursiveLevel_2
def dkwX2_recursiveLevel_0 : List UInt8 := [44, 27, 46, 16, 254, 160, 0, 68, 3, 62, 3, 54, 4, 21, 4, 44, 190, 162, 0, 52, 42, 180, 0, 12]
abbrev dktX2_recursiveLevel_0 : List UInt8 := dkwX2_recursiveLevel_0 ++ dktX2_recursiveLevel_1
theorem dksX2_recursiveLevel_0 : cX2_recursiveLevel.data.toList.drop 0 = dktX2_recursiveLevel_0 := by decide +kernel
theorem dksX2_recursiveLevel_1 : cX2_recursiveLevel.data.toList.drop 24 = dktX2_recursiveLevel_1 := dk_seg dksX2_recursiveLevel_0 24 rfl rfl
theorem dksX2_recursiveLevel_2 : cX2_recursiveLevel.data.toList.drop 46 = dktX2_recursiveLevel_2 := dk_seg dksX2_recursiveLevel_1 22 rfl rfl
theorem dksX2_recursiveLevel_3 : cX2_recursiveLevel.data.toList.drop 70 = dktX2_recursiveLevel_3 := dk_seg dksX2_recursiveLevel_2 24 rfl rfl
theorem dX2_recursiveLevel_0 : decode cX2_recursiveLevel 0 = .ok (.aload_n 2, 1) := dk_44 (dk_at dksX2_recursiveLevel_0 0 rfl rfl)
theorem dX2_recursiveLevel_1 : decode cX2_recursiveLevel 1 = .ok (.iload_n 1, 1) := dk_27 (dk_at dksX2_recursiveLevel_0 1 rfl rfl)
theorem dX2_recursiveLevel_2 : decode cX2_recursiveLevel 2 = .ok (.iaload, 1) := dk_46 (dk_at dksX2_recursiveLevel_0 2 rfl rfl)
theorem dX2_recursiveLevel_3 : decode cX2_recursiveLevel 3 = .ok (.bipush (-2), 2) := dk_16 254 (dk_at dksX2_recursiveLevel_0 3 rfl rfl)
theorem dX2_recursiveLevel_5 : decode cX2_recursiveLevel 5 = .ok (.if_icmp .ne 68, 3) := dk_160 0 68 (dk_at dksX2_recursiveLevel_0 5 rfl rfl)
theorem dX2_recursiveLevel_8 : decode cX2_recursiveLevel 8 = .ok (.iconst 0, 1) := dk_3 (dk_at dksX2_recursiveLevel_0 8 rfl rfl)
theorem dX2_recursiveLevel_9 : decode cX2_recursiveLevel 9 = .ok (.istore_n 3, 1) := dk_62 (dk_at dksX2_recursiveLevel_0 9 rfl rfl)
theorem dX2_recursiveLevel_10 : decode cX2_recursiveLevel 10 = .ok (.iconst 0, 1) := dk_3 (dk_at dksX2_recursiveLevel_0 10 rfl rfl)
theorem dX2_recursiveLevel_11 : decode cX2_recursiveLevel 11 = .ok (.istore 4, 2) := dk_54 4 (dk_at dksX2_recursiveLevel_0 11 rfl rfl)
theorem dX2_recursiveLevel_13 : decode cX2_recursiveLevel 13 = .ok (.iload 4, 2) := dk_21 4 (dk_at dksX2_recursiveLevel_0 13 rfl rfl)
theorem dX2_recursiveLevel_15 : decode cX2_recursiveLevel 15 = .ok (.aload_n 2, 1) := dk_44 (dk_at dksX2_recursiveLevel_0 15 rfl rfl)
theorem dX2_recursiveLevel_16 : decode cX2_recursiveLevel 16 = .ok (.arraylength, 1) := dk_190 (dk_at dksX2_recursiveLevel_0 16 rfl rfl)
theorem dX2_recursiveLevel_17 : decode cX2_recursiveLevel 17 = .ok (.if_icmp .ge 52, 3) := dk_162 0 52 (dk_at dksX2_recursiveLevel_0 17 rfl rfl)
theorem dX2_recursiveLevel_20 : decode cX2_recursiveLevel 20 = .ok (.aload_n 0, 1) := dk_42 (dk_at dksX2_recursiveLevel_0 20 rfl rfl)
theorem dX2_recursiveLevel_21 : decode cX2_recursiveLevel 21 = .ok (.getfield 12, 3) := dk_180 0 12 (dk_at dksX2_recursiveLevel_0 21 rfl rfl)
theorem dX2_recursiveLevel_24 : decode cX2_recursiveLevel 24 = .ok (.iload 4, 2) := dk_21 4 (dk_at dksX2_recursiveLevel_1 0 rfl rfl)
theorem dX2_recursiveLevel_26 : decode cX2_recursiveLevel 26 = .ok (.invokevirtual 95, 3) := dk_182 0 95 (dk_at dksX2_recursiveLevel_1 2 rfl rfl)
theorem dX2_recursiveLevel_29 : decode cX2_recursiveLevel 29 = .ok (.checkcast 47, 3) := dk_192 0 47 (dk_at dksX2_recursiveLevel_1 5 rfl rfl)
theorem dX2_recursiveLevel_32 : decode cX2_recursiveLevel 32 = .ok (.aload_n 0, 1) := dk_42 (dk_at dksX2_recursiveLevel_1 8 rfl rfl)
theorem dX2_recursiveLevel_33 : decode cX2_recursiveLevel 33 = .ok (.getfield 12, 3) := dk_180 0 12 (dk_at dksX2_recursiveLevel_1 9 rfl rfl)
theorem dX2_recursiveLevel_36 : decode cX2_recursiveLevel 36 = .ok (.iload_n 1, 1) := dk_27 (dk_at dksX2_recursiveLevel_1 12 rfl rfl)
theorem dX2_recursiveLevel_37 : decode cX2_recursiveLevel 37 = .ok (.invokevirtual 95, 3) := dk_182 0 95 (dk_at dksX2_recursiveLevel_1 13 rfl rfl)
theorem dX2_recursiveLevel_40 : decode cX2_recursiveLevel 40 = .ok (.checkcast 47, 3) := dk_192 0 47 (dk_at dksX2_recursiveLevel_1 16 rfl rfl)
theorem dX2_recursiveLevel_43 : decode cX2_recursiveLevel 43 = .ok (.invokevirtual 86, 3) := dk_182 0 86 (dk_at dksX2_recursiveLevel_1 19 rfl rfl)
theorem dX2_recursiveLevel_46 : decode cX2_recursiveLevel 46 = .ok (.ifCond .eq 17, 3) := dk_153 0 17 (dk_at dksX2_recursiveLevel_2 0 rfl rfl)
theorem dX2_recursiveLevel_49 : decode cX2_recursiveLevel 49 = .ok (.iload_n 3, 1) := dk_29 (dk_at dksX2_recursiveLevel_2 3 rfl rfl)
theorem dX2_recursiveLevel_50 : decode cX2_recursiveLevel 50 = .ok (.iconst 1, 1) := dk_4 (dk_at dksX2_recursiveLevel_2 4 rfl rfl)
theorem dX2_recursiveLevel_51 : decode cX2_recursiveLevel 51 = .ok (.aload_n 0, 1) := dk_42 (dk_at dksX2_recursiveLevel_2 5 rfl rfl)
theorem dX2_recursiveLevel_52 : decode cX2_recursiveLevel 52 = .ok (.iload 4, 2) := dk_21 4 (dk_at dksX2_recursiveLevel_2 6 rfl rfl)
theorem dX2_recursiveLevel_54 : decode cX2_recursiveLevel 54 = .ok (.aload_n 2, 1) := dk_44 (dk_at dksX2_recursiveLevel_2 8 rfl rfl)
theorem dX2_recursiveLevel_55 : decode cX2_recursiveLevel 55 = .ok (.invokevirtual 168, 3) := dk_182 0 168 (dk_at dksX2_recursiveLevel_2 9 rfl rfl)
theorem dX2_recursiveLevel_58 : decode cX2_recursiveLevel 58 = .ok (.iadd, 1) := dk_96 (dk_at dksX2_recursiveLevel_2 12 rfl rfl)
theorem dX2_recursiveLevel_59 : decode cX2_recursiveLevel 59 = .ok (.invokestatic 80, 3) := dk_184 0 80 (dk_at dksX2_recursiveLevel_2 13 rfl rfl)
theorem dX2_recursiveLevel_62 : decode cX2_recursiveLevel 62 = .ok (.istore_n 3, 1) := dk_62 (dk_at dksX2_recursiveLevel_2 16 rfl rfl)
theorem dX2_recursiveLevel_63 : decode cX2_recursiveLevel 63 = .ok (.iinc 4 1, 3) := dk_132 4 1 (dk_at dksX2_recursiveLevel_2 17 rfl rfl)
theorem dX2_recursiveLevel_66 : decode cX2_recursiveLevel 66 = .ok (.goto (-53), 3) := dk_167 255 203 (dk_at dksX2_recursiveLevel_2 20 rfl rfl)
theorem dX2_recursiveLevel_69 : decode cX2_recursiveLevel 69 = .ok (.aload_n 2, 1) := dk_44 (dk_at dksX2_recursiveLevel_2 23 rfl rfl)
theorem dX2_recursiveLevel_70 : decode cX2_recursiveLevel 70 = .ok (.iload_n 1, 1) := dk_27 (dk_at dksX2_recursiveLevel_3 0 rfl rfl)
theorem dX2_recursiveLevel_71 : decode cX2_recursiveLevel 71 = .ok (.iload_n 3, 1) := dk_29 (dk_at dksX2_recursiveLevel_3 1 rfl rfl)
theorem dX2_recursiveLevel_72 : decode cX2_recursiveLevel 72 = .ok (.iastore, 1) := dk_79 (dk_at dksX2_recursiveLevel_3 2 rfl rfl)
theorem dX2_recursiveLevel_73 : decode cX2_recursiveLevel 73 = .ok (.aload_n 2, 1) := dk_44 (dk_at dksX2_recursiveLevel_3 3 rfl rfl)
theorem dX2_recursiveLevel_74 : decode cX2_recursiveLevel 74 = .ok (.iload_n 1, 1) := dk_27 (dk_at dksX2_recursiveLevel_3 4 rfl rfl)
theorem dX2_recursiveLevel_75 : decode cX2_recursiveLevel 75 = .ok (.iaload, 1) := dk_46 (dk_at dksX2_recursiveLevel_3 5 rfl rfl)
theorem dX2_recursiveLevel_76 : decode cX2_recursiveLevel 76 = .ok (.ireturn, 1) := dk_172 (dk_at dksX2_recursiveLevel_3 6 rfl rfl)
abbrev cX2_sum : ByteArray := prog_10_method_5_code
def yX2_sum : MethodName := ⟨RX2, "sum", "(LFortPlanner$BlockTest;LFortPlanner$BlockValue;)I"⟩
def dkwX2_sum_2 : List UInt8 := [25, 5, 185, 0, 66, 2, 0, 167, 0, 4, 3, 96, 62, 167, 255, 208, 29, 172]
abbrev dktX2_sum_2 : List UInt8 := dkwX2_sum_2 ++ []
def dkwX2_sum_1 : List UInt8 := [185, 0, 43, 1, 0, 192, 0, 47, 58, 5, 29, 43, 25, 5, 185, 0, 60, 2, 0, 153, 0, 14, 44]
abbrev dktX2_sum_1 : List UInt8 := dkwX2_sum_1 ++ dktX2_sum_2
def dkwX2_sum_0 : List UInt8 := [3, 62, 42, 180, 0, 12, 182, 0, 33, 58, 4, 25, 4, 185, 0, 37, 1, 0, 153, 0, 44, 25, 4]
abbrev dktX2_sum_0 : List UInt8 := dkwX2_sum_0 ++ dktX2_sum_1
theorem dksX2_sum_0 : cX2_sum.data.toList.drop 0 = dktX2_sum_0 := by decide +kernel
theorem dksX2_sum_1 : cX2_sum.data.toList.drop 23 = dktX2_sum_1 := dk_seg dksX2_sum_0 23 rfl rfl
theorem dksX2_sum_2 : cX2_sum.data.toList.drop 46 = dktX2_sum_2 := dk_seg dksX2_sum_1 23 rfl rfl
theorem dX2_sum_0 : decode cX2_sum 0 = .ok (.iconst 0, 1) := dk_3 (dk_at dksX2_sum_0 0 rfl rfl)
theorem dX2_sum_1 : decode cX2_sum 1 = .ok (.istore_n 3, 1) := dk_62 (dk_at dksX2_sum_0 1 rfl rfl)
theorem dX2_sum_2 : decode cX2_sum 2 = .ok (.aload_n 0, 1) := dk_42 (dk_at dksX2_sum_0 2 rfl rfl)
theorem dX2_sum_3 : decode cX2_sum 3 = .ok (.getfield 12, 3) := dk_180 0 12 (dk_at dksX2_sum_0 3 rfl rfl)
theorem dX2_sum_6 : decode cX2_sum 6 = .ok (.invokevirtual 33, 3) := dk_182 0 33 (dk_at dksX2_sum_0 6 rfl rfl)
theorem dX2_sum_9 : decode cX2_sum 9 = .ok (.astore 4, 2) := dk_58 4 (dk_at dksX2_sum_0 9 rfl rfl)
theorem dX2_sum_11 : decode cX2_sum 11 = .ok (.aload 4, 2) := dk_25 4 (dk_at dksX2_sum_0 11 rfl rfl)
theorem dX2_sum_13 : decode cX2_sum 13 = .ok (.invokeinterface 37 1, 5) := by decide +kernel
theorem dX2_sum_18 : decode cX2_sum 18 = .ok (.ifCond .eq 44, 3) := dk_153 0 44 (dk_at dksX2_sum_0 18 rfl rfl)
theorem dX2_sum_21 : decode cX2_sum 21 = .ok (.aload 4, 2) := dk_25 4 (dk_at dksX2_sum_0 21 rfl rfl)
theorem dX2_sum_23 : decode cX2_sum 23 = .ok (.invokeinterface 43 1, 5) := by decide +kernel
theorem dX2_sum_28 : decode cX2_sum 28 = .ok (.checkcast 47, 3) := dk_192 0 47 (dk_at dksX2_sum_1 5 rfl rfl)
theorem dX2_sum_31 : decode cX2_sum 31 = .ok (.astore 5, 2) := dk_58 5 (dk_at dksX2_sum_1 8 rfl rfl)
theorem dX2_sum_33 : decode cX2_sum 33 = .ok (.iload_n 3, 1) := dk_29 (dk_at dksX2_sum_1 10 rfl rfl)
theorem dX2_sum_34 : decode cX2_sum 34 = .ok (.aload_n 1, 1) := dk_43 (dk_at dksX2_sum_1 11 rfl rfl)
theorem dX2_sum_35 : decode cX2_sum 35 = .ok (.aload 5, 2) := dk_25 5 (dk_at dksX2_sum_1 12 rfl rfl)
theorem dX2_sum_37 : decode cX2_sum 37 = .ok (.invokeinterface 60 2, 5) := by decide +kernel
theorem dX2_sum_42 : decode cX2_sum 42 = .ok (.ifCond .eq 14, 3) := dk_153 0 14 (dk_at dksX2_sum_1 19 rfl rfl)
theorem dX2_sum_45 : decode cX2_sum 45 = .ok (.aload_n 2, 1) := dk_44 (dk_at dksX2_sum_1 22 rfl rfl)
theorem dX2_sum_46 : decode cX2_sum 46 = .ok (.aload 5, 2) := dk_25 5 (dk_at dksX2_sum_2 0 rfl rfl)
theorem dX2_sum_48 : decode cX2_sum 48 = .ok (.invokeinterface 66 2, 5) := by decide +kernel
theorem dX2_sum_53 : decode cX2_sum 53 = .ok (.goto 4, 3) := dk_167 0 4 (dk_at dksX2_sum_2 7 rfl rfl)
theorem dX2_sum_56 : decode cX2_sum 56 = .ok (.iconst 0, 1) := dk_3 (dk_at dksX2_sum_2 10 rfl rfl)
theorem dX2_sum_57 : decode cX2_sum 57 = .ok (.iadd, 1) := dk_96 (dk_at dksX2_sum_2 11 rfl rfl)
theorem dX2_sum_58 : decode cX2_sum 58 = .ok (.istore_n 3, 1) := dk_62 (dk_at dksX2_sum_2 12 rfl rfl)
theorem dX2_sum_59 : decode cX2_sum 59 = .ok (.goto (-48), 3) := dk_167 255 208 (dk_at dksX2_sum_2 13 rfl rfl)
theorem dX2_sum_62 : decode cX2_sum 62 = .ok (.iload_n 3, 1) := dk_29 (dk_at dksX2_sum_2 16 rfl rfl)
theorem dX2_sum_63 : decode cX2_sum 63 = .ok (.ireturn, 1) := dk_172 (dk_at dksX2_sum_2 17 rfl rfl)
abbrev cX2_loads : ByteArray := prog_10_method_11_code
def yX2_loads : MethodName := ⟨RX2, "loads", "()[I"⟩
def dkwX2_loads_3 : List UInt8 := [132, 2, 255, 167, 255, 198, 43, 176]
abbrev dktX2_loads_3 : List UInt8 := dkwX2_loads_3 ++ []
def dkwX2_loads_2 : List UInt8 := [180, 0, 12, 29, 182, 0, 95, 192, 0, 47, 43, 29, 46, 43, 182, 0, 112, 132, 3, 1, 167, 255, 210]
abbrev dktX2_loads_2 : List UInt8 := dkwX2_loads_2 ++ dktX2_loads_3
def dkwX2_loads_1 : List UInt8 := [162, 0, 46, 42, 180, 0, 12, 29, 182, 0, 95, 192, 0, 47, 180, 0, 109, 28, 160, 0, 22, 42, 42]
abbrev dktX2_loads_1 : List UInt8 := dkwX2_loads_1 ++ dktX2_loads_2
def dkwX2_loads_0 : List UInt8 := [42, 180, 0, 12, 182, 0, 89, 188, 10, 76, 16, 30, 61, 28, 158, 0, 60, 3, 62, 29, 43, 190]
abbrev dktX2_loads_0 : List UInt8 := dkwX2_loads_0 ++ dktX2_loads_1
theorem dksX2_loads_0 : cX2_loads.data.toList.drop 0 = dktX2_loads_0 := by decide +kernel
theorem dksX2_loads_1 : cX2_loads.data.toList.drop 22 = dktX2_loads_1 := dk_seg dksX2_loads_0 22 rfl rfl
theorem dksX2_loads_2 : cX2_loads.data.toList.drop 45 = dktX2_loads_2 := dk_seg dksX2_loads_1 23 rfl rfl
theorem dksX2_loads_3 : cX2_loads.data.toList.drop 68 = dktX2_loads_3 := dk_seg dksX2_loads_2 23 rfl rfl
theorem dX2_loads_0 : decode cX2_loads 0 = .ok (.aload_n 0, 1) := dk_42 (dk_at dksX2_loads_0 0 rfl rfl)
theorem dX2_loads_1 : decode cX2_loads 1 = .ok (.getfield 12, 3) := dk_180 0 12 (dk_at dksX2_loads_0 1 rfl rfl)
theorem dX2_loads_4 : decode cX2_loads 4 = .ok (.invokevirtual 89, 3) := dk_182 0 89 (dk_at dksX2_loads_0 4 rfl rfl)
theorem dX2_loads_7 : decode cX2_loads 7 = .ok (.newarray .int, 2) := dk_188_10 (dk_at dksX2_loads_0 7 rfl rfl)
theorem dX2_loads_9 : decode cX2_loads 9 = .ok (.astore_n 1, 1) := dk_76 (dk_at dksX2_loads_0 9 rfl rfl)
theorem dX2_loads_10 : decode cX2_loads 10 = .ok (.bipush 30, 2) := dk_16 30 (dk_at dksX2_loads_0 10 rfl rfl)
theorem dX2_loads_12 : decode cX2_loads 12 = .ok (.istore_n 2, 1) := dk_61 (dk_at dksX2_loads_0 12 rfl rfl)
theorem dX2_loads_13 : decode cX2_loads 13 = .ok (.iload_n 2, 1) := dk_28 (dk_at dksX2_loads_0 13 rfl rfl)
theorem dX2_loads_14 : decode cX2_loads 14 = .ok (.ifCond .le 60, 3) := dk_158 0 60 (dk_at dksX2_loads_0 14 rfl rfl)
theorem dX2_loads_17 : decode cX2_loads 17 = .ok (.iconst 0, 1) := dk_3 (dk_at dksX2_loads_0 17 rfl rfl)
theorem dX2_loads_18 : decode cX2_loads 18 = .ok (.istore_n 3, 1) := dk_62 (dk_at dksX2_loads_0 18 rfl rfl)
theorem dX2_loads_19 : decode cX2_loads 19 = .ok (.iload_n 3, 1) := dk_29 (dk_at dksX2_loads_0 19 rfl rfl)
theorem dX2_loads_20 : decode cX2_loads 20 = .ok (.aload_n 1, 1) := dk_43 (dk_at dksX2_loads_0 20 rfl rfl)
theorem dX2_loads_21 : decode cX2_loads 21 = .ok (.arraylength, 1) := dk_190 (dk_at dksX2_loads_0 21 rfl rfl)
theorem dX2_loads_22 : decode cX2_loads 22 = .ok (.if_icmp .ge 46, 3) := dk_162 0 46 (dk_at dksX2_loads_1 0 rfl rfl)
theorem dX2_loads_25 : decode cX2_loads 25 = .ok (.aload_n 0, 1) := dk_42 (dk_at dksX2_loads_1 3 rfl rfl)
theorem dX2_loads_26 : decode cX2_loads 26 = .ok (.getfield 12, 3) := dk_180 0 12 (dk_at dksX2_loads_1 4 rfl rfl)
theorem dX2_loads_29 : decode cX2_loads 29 = .ok (.iload_n 3, 1) := dk_29 (dk_at dksX2_loads_1 7 rfl rfl)
theorem dX2_loads_30 : decode cX2_loads 30 = .ok (.invokevirtual 95, 3) := dk_182 0 95 (dk_at dksX2_loads_1 8 rfl rfl)
theorem dX2_loads_33 : decode cX2_loads 33 = .ok (.checkcast 47, 3) := dk_192 0 47 (dk_at dksX2_loads_1 11 rfl rfl)
theorem dX2_loads_36 : decode cX2_loads 36 = .ok (.getfield 109, 3) := dk_180 0 109 (dk_at dksX2_loads_1 14 rfl rfl)
theorem dX2_loads_39 : decode cX2_loads 39 = .ok (.iload_n 2, 1) := dk_28 (dk_at dksX2_loads_1 17 rfl rfl)
theorem dX2_loads_40 : decode cX2_loads 40 = .ok (.if_icmp .ne 22, 3) := dk_160 0 22 (dk_at dksX2_loads_1 18 rfl rfl)
theorem dX2_loads_43 : decode cX2_loads 43 = .ok (.aload_n 0, 1) := dk_42 (dk_at dksX2_loads_1 21 rfl rfl)
theorem dX2_loads_44 : decode cX2_loads 44 = .ok (.aload_n 0, 1) := dk_42 (dk_at dksX2_loads_1 22 rfl rfl)
theorem dX2_loads_45 : decode cX2_loads 45 = .ok (.getfield 12, 3) := dk_180 0 12 (dk_at dksX2_loads_2 0 rfl rfl)
theorem dX2_loads_48 : decode cX2_loads 48 = .ok (.iload_n 3, 1) := dk_29 (dk_at dksX2_loads_2 3 rfl rfl)
theorem dX2_loads_49 : decode cX2_loads 49 = .ok (.invokevirtual 95, 3) := dk_182 0 95 (dk_at dksX2_loads_2 4 rfl rfl)
theorem dX2_loads_52 : decode cX2_loads 52 = .ok (.checkcast 47, 3) := dk_192 0 47 (dk_at dksX2_loads_2 7 rfl rfl)
theorem dX2_loads_55 : decode cX2_loads 55 = .ok (.aload_n 1, 1) := dk_43 (dk_at dksX2_loads_2 10 rfl rfl)
theorem dX2_loads_56 : decode cX2_loads 56 = .ok (.iload_n 3, 1) := dk_29 (dk_at dksX2_loads_2 11 rfl rfl)
theorem dX2_loads_57 : decode cX2_loads 57 = .ok (.iaload, 1) := dk_46 (dk_at dksX2_loads_2 12 rfl rfl)
theorem dX2_loads_58 : decode cX2_loads 58 = .ok (.aload_n 1, 1) := dk_43 (dk_at dksX2_loads_2 13 rfl rfl)
theorem dX2_loads_59 : decode cX2_loads 59 = .ok (.invokevirtual 112, 3) := dk_182 0 112 (dk_at dksX2_loads_2 14 rfl rfl)
theorem dX2_loads_62 : decode cX2_loads 62 = .ok (.iinc 3 1, 3) := dk_132 3 1 (dk_at dksX2_loads_2 17 rfl rfl)
theorem dX2_loads_65 : decode cX2_loads 65 = .ok (.goto (-46), 3) := dk_167 255 210 (dk_at dksX2_loads_2 20 rfl rfl)
theorem dX2_loads_68 : decode cX2_loads 68 = .ok (.iinc 2 (-1), 3) := dk_132 2 255 (dk_at dksX2_loads_3 0 rfl rfl)
theorem dX2_loads_71 : decode cX2_loads 71 = .ok (.goto (-58), 3) := dk_167 255 198 (dk_at dksX2_loads_3 3 rfl rfl)
theorem dX2_loads_74 : decode cX2_loads 74 = .ok (.aload_n 1, 1) := dk_43 (dk_at dksX2_loads_3 6 rfl rfl)
theorem dX2_loads_75 : decode cX2_loads 75 = .ok (.areturn, 1) := dk_176 (dk_at dksX2_loads_3 7 rfl rfl)
abbrev cX2_passOn : ByteArray := prog_10_method_12_code
def yX2_passOn : MethodName := ⟨RX2, "passOn", "(LFortPlanner$Block;I[I)V"⟩
def dkwX2_passOn_2 : List UInt8 := [25, 4, 182, 0, 89, 21, 5, 184, 0, 127, 96, 79, 132, 5, 1, 167, 255, 204, 177]
abbrev dktX2_passOn_2 : List UInt8 := dkwX2_passOn_2 ++ []
def dkwX2_passOn_1 : List UInt8 := [25, 4, 21, 5, 182, 0, 95, 182, 0, 120, 54, 6, 45, 21, 6, 92, 46, 43, 180, 0, 124, 28, 96]
abbrev dktX2_passOn_1 : List UInt8 := dkwX2_passOn_1 ++ dktX2_passOn_2
def dkwX2_passOn_0 : List UInt8 := [42, 43, 182, 0, 116, 58, 4, 3, 54, 5, 21, 5, 25, 4, 182, 0, 89, 162, 0, 48, 42, 180, 0, 12]
abbrev dktX2_passOn_0 : List UInt8 := dkwX2_passOn_0 ++ dktX2_passOn_1
theorem dksX2_passOn_0 : cX2_passOn.data.toList.drop 0 = dktX2_passOn_0 := by decide +kernel
theorem dksX2_passOn_1 : cX2_passOn.data.toList.drop 24 = dktX2_passOn_1 := dk_seg dksX2_passOn_0 24 rfl rfl
theorem dksX2_passOn_2 : cX2_passOn.data.toList.drop 47 = dktX2_passOn_2 := dk_seg dksX2_passOn_1 23 rfl rfl
theorem dX2_passOn_0 : decode cX2_passOn 0 = .ok (.aload_n 0, 1) := dk_42 (dk_at dksX2_passOn_0 0 rfl rfl)
theorem dX2_passOn_1 : decode cX2_passOn 1 = .ok (.aload_n 1, 1) := dk_43 (dk_at dksX2_passOn_0 1 rfl rfl)
theorem dX2_passOn_2 : decode cX2_passOn 2 = .ok (.invokevirtual 116, 3) := dk_182 0 116 (dk_at dksX2_passOn_0 2 rfl rfl)
theorem dX2_passOn_5 : decode cX2_passOn 5 = .ok (.astore 4, 2) := dk_58 4 (dk_at dksX2_passOn_0 5 rfl rfl)
theorem dX2_passOn_7 : decode cX2_passOn 7 = .ok (.iconst 0, 1) := dk_3 (dk_at dksX2_passOn_0 7 rfl rfl)
theorem dX2_passOn_8 : decode cX2_passOn 8 = .ok (.istore 5, 2) := dk_54 5 (dk_at dksX2_passOn_0 8 rfl rfl)
theorem dX2_passOn_10 : decode cX2_passOn 10 = .ok (.iload 5, 2) := dk_21 5 (dk_at dksX2_passOn_0 10 rfl rfl)
theorem dX2_passOn_12 : decode cX2_passOn 12 = .ok (.aload 4, 2) := dk_25 4 (dk_at dksX2_passOn_0 12 rfl rfl)
theorem dX2_passOn_14 : decode cX2_passOn 14 = .ok (.invokevirtual 89, 3) := dk_182 0 89 (dk_at dksX2_passOn_0 14 rfl rfl)
theorem dX2_passOn_17 : decode cX2_passOn 17 = .ok (.if_icmp .ge 48, 3) := dk_162 0 48 (dk_at dksX2_passOn_0 17 rfl rfl)
theorem dX2_passOn_20 : decode cX2_passOn 20 = .ok (.aload_n 0, 1) := dk_42 (dk_at dksX2_passOn_0 20 rfl rfl)
theorem dX2_passOn_21 : decode cX2_passOn 21 = .ok (.getfield 12, 3) := dk_180 0 12 (dk_at dksX2_passOn_0 21 rfl rfl)
theorem dX2_passOn_24 : decode cX2_passOn 24 = .ok (.aload 4, 2) := dk_25 4 (dk_at dksX2_passOn_1 0 rfl rfl)
theorem dX2_passOn_26 : decode cX2_passOn 26 = .ok (.iload 5, 2) := dk_21 5 (dk_at dksX2_passOn_1 2 rfl rfl)
theorem dX2_passOn_28 : decode cX2_passOn 28 = .ok (.invokevirtual 95, 3) := dk_182 0 95 (dk_at dksX2_passOn_1 4 rfl rfl)
theorem dX2_passOn_31 : decode cX2_passOn 31 = .ok (.invokevirtual 120, 3) := dk_182 0 120 (dk_at dksX2_passOn_1 7 rfl rfl)
theorem dX2_passOn_34 : decode cX2_passOn 34 = .ok (.istore 6, 2) := dk_54 6 (dk_at dksX2_passOn_1 10 rfl rfl)
theorem dX2_passOn_36 : decode cX2_passOn 36 = .ok (.aload_n 3, 1) := dk_45 (dk_at dksX2_passOn_1 12 rfl rfl)
theorem dX2_passOn_37 : decode cX2_passOn 37 = .ok (.iload 6, 2) := dk_21 6 (dk_at dksX2_passOn_1 13 rfl rfl)
theorem dX2_passOn_39 : decode cX2_passOn 39 = .ok (.dup2, 1) := dk_92 (dk_at dksX2_passOn_1 15 rfl rfl)
theorem dX2_passOn_40 : decode cX2_passOn 40 = .ok (.iaload, 1) := dk_46 (dk_at dksX2_passOn_1 16 rfl rfl)
theorem dX2_passOn_41 : decode cX2_passOn 41 = .ok (.aload_n 1, 1) := dk_43 (dk_at dksX2_passOn_1 17 rfl rfl)
theorem dX2_passOn_42 : decode cX2_passOn 42 = .ok (.getfield 124, 3) := dk_180 0 124 (dk_at dksX2_passOn_1 18 rfl rfl)
theorem dX2_passOn_45 : decode cX2_passOn 45 = .ok (.iload_n 2, 1) := dk_28 (dk_at dksX2_passOn_1 21 rfl rfl)
theorem dX2_passOn_46 : decode cX2_passOn 46 = .ok (.iadd, 1) := dk_96 (dk_at dksX2_passOn_1 22 rfl rfl)
theorem dX2_passOn_47 : decode cX2_passOn 47 = .ok (.aload 4, 2) := dk_25 4 (dk_at dksX2_passOn_2 0 rfl rfl)
theorem dX2_passOn_49 : decode cX2_passOn 49 = .ok (.invokevirtual 89, 3) := dk_182 0 89 (dk_at dksX2_passOn_2 2 rfl rfl)
theorem dX2_passOn_52 : decode cX2_passOn 52 = .ok (.iload 5, 2) := dk_21 5 (dk_at dksX2_passOn_2 5 rfl rfl)
theorem dX2_passOn_54 : decode cX2_passOn 54 = .ok (.invokestatic 127, 3) := dk_184 0 127 (dk_at dksX2_passOn_2 7 rfl rfl)
theorem dX2_passOn_57 : decode cX2_passOn 57 = .ok (.iadd, 1) := dk_96 (dk_at dksX2_passOn_2 10 rfl rfl)
theorem dX2_passOn_58 : decode cX2_passOn 58 = .ok (.iastore, 1) := dk_79 (dk_at dksX2_passOn_2 11 rfl rfl)
theorem dX2_passOn_59 : decode cX2_passOn 59 = .ok (.iinc 5 1, 3) := dk_132 5 1 (dk_at dksX2_passOn_2 12 rfl rfl)
theorem dX2_passOn_62 : decode cX2_passOn 62 = .ok (.goto (-52), 3) := dk_167 255 204 (dk_at dksX2_passOn_2 15 rfl rfl)
theorem dX2_passOn_65 : decode cX2_passOn 65 = .ok (.return_, 1) := dk_177 (dk_at dksX2_passOn_2 18 rfl rfl)
abbrev cX2_supporters : ByteArray := prog_10_method_8_code
def yX2_supporters : MethodName := ⟨RX2, "supporters", "(LFortPlanner$Block;)Ljava/util/ArrayList;"⟩
def dkwX2_supporters_4 : List UInt8 := [167, 255, 180, 44, 176]
abbrev dktX2_supporters_4 : List UInt8 := dkwX2_supporters_4 ++ []
def dkwX2_supporters_3 : List UInt8 := [192, 0, 47, 180, 0, 92, 162, 0, 9, 132, 5, 255, 167, 255, 226, 44, 21, 5, 25, 4, 182, 0, 99]
abbrev dktX2_supporters_3 : List UInt8 := dkwX2_supporters_3 ++ dktX2_supporters_4
def dkwX2_supporters_2 : List UInt8 := [182, 0, 89, 54, 5, 21, 5, 158, 0, 31, 25, 4, 180, 0, 92, 44, 21, 5, 4, 100, 182, 0, 95]
abbrev dktX2_supporters_2 : List UInt8 := dkwX2_supporters_2 ++ dktX2_supporters_3
def dkwX2_supporters_1 : List UInt8 := [153, 0, 73, 45, 185, 0, 43, 1, 0, 192, 0, 47, 58, 4, 25, 4, 43, 182, 0, 86, 153, 0, 50, 44]
abbrev dktX2_supporters_1 : List UInt8 := dkwX2_supporters_1 ++ dktX2_supporters_2
def dkwX2_supporters_0 : List UInt8 := [187, 0, 9, 89, 183, 0, 11, 77, 42, 180, 0, 12, 182, 0, 33, 78, 45, 185, 0, 37, 1, 0]
abbrev dktX2_supporters_0 : List UInt8 := dkwX2_supporters_0 ++ dktX2_supporters_1
theorem dksX2_supporters_0 : cX2_supporters.data.toList.drop 0 = dktX2_supporters_0 := by decide +kernel
theorem dksX2_supporters_1 : cX2_supporters.data.toList.drop 22 = dktX2_supporters_1 := dk_seg dksX2_supporters_0 22 rfl rfl
theorem dksX2_supporters_2 : cX2_supporters.data.toList.drop 46 = dktX2_supporters_2 := dk_seg dksX2_supporters_1 24 rfl rfl
theorem dksX2_supporters_3 : cX2_supporters.data.toList.drop 69 = dktX2_supporters_3 := dk_seg dksX2_supporters_2 23 rfl rfl
theorem dksX2_supporters_4 : cX2_supporters.data.toList.drop 92 = dktX2_supporters_4 := dk_seg dksX2_supporters_3 23 rfl rfl
theorem dX2_supporters_0 : decode cX2_supporters 0 = .ok (.new 9, 3) := dk_187 0 9 (dk_at dksX2_supporters_0 0 rfl rfl)
theorem dX2_supporters_3 : decode cX2_supporters 3 = .ok (.dup, 1) := dk_89 (dk_at dksX2_supporters_0 3 rfl rfl)
theorem dX2_supporters_4 : decode cX2_supporters 4 = .ok (.invokespecial 11, 3) := dk_183 0 11 (dk_at dksX2_supporters_0 4 rfl rfl)
theorem dX2_supporters_7 : decode cX2_supporters 7 = .ok (.astore_n 2, 1) := dk_77 (dk_at dksX2_supporters_0 7 rfl rfl)
theorem dX2_supporters_8 : decode cX2_supporters 8 = .ok (.aload_n 0, 1) := dk_42 (dk_at dksX2_supporters_0 8 rfl rfl)
theorem dX2_supporters_9 : decode cX2_supporters 9 = .ok (.getfield 12, 3) := dk_180 0 12 (dk_at dksX2_supporters_0 9 rfl rfl)
theorem dX2_supporters_12 : decode cX2_supporters 12 = .ok (.invokevirtual 33, 3) := dk_182 0 33 (dk_at dksX2_supporters_0 12 rfl rfl)
theorem dX2_supporters_15 : decode cX2_supporters 15 = .ok (.astore_n 3, 1) := dk_78 (dk_at dksX2_supporters_0 15 rfl rfl)
theorem dX2_supporters_16 : decode cX2_supporters 16 = .ok (.aload_n 3, 1) := dk_45 (dk_at dksX2_supporters_0 16 rfl rfl)
theorem dX2_supporters_17 : decode cX2_supporters 17 = .ok (.invokeinterface 37 1, 5) := by decide +kernel
theorem dX2_supporters_22 : decode cX2_supporters 22 = .ok (.ifCond .eq 73, 3) := dk_153 0 73 (dk_at dksX2_supporters_1 0 rfl rfl)
theorem dX2_supporters_25 : decode cX2_supporters 25 = .ok (.aload_n 3, 1) := dk_45 (dk_at dksX2_supporters_1 3 rfl rfl)
theorem dX2_supporters_26 : decode cX2_supporters 26 = .ok (.invokeinterface 43 1, 5) := by decide +kernel
theorem dX2_supporters_31 : decode cX2_supporters 31 = .ok (.checkcast 47, 3) := dk_192 0 47 (dk_at dksX2_supporters_1 9 rfl rfl)
theorem dX2_supporters_34 : decode cX2_supporters 34 = .ok (.astore 4, 2) := dk_58 4 (dk_at dksX2_supporters_1 12 rfl rfl)
theorem dX2_supporters_36 : decode cX2_supporters 36 = .ok (.aload 4, 2) := dk_25 4 (dk_at dksX2_supporters_1 14 rfl rfl)
theorem dX2_supporters_38 : decode cX2_supporters 38 = .ok (.aload_n 1, 1) := dk_43 (dk_at dksX2_supporters_1 16 rfl rfl)
theorem dX2_supporters_39 : decode cX2_supporters 39 = .ok (.invokevirtual 86, 3) := dk_182 0 86 (dk_at dksX2_supporters_1 17 rfl rfl)
theorem dX2_supporters_42 : decode cX2_supporters 42 = .ok (.ifCond .eq 50, 3) := dk_153 0 50 (dk_at dksX2_supporters_1 20 rfl rfl)
theorem dX2_supporters_45 : decode cX2_supporters 45 = .ok (.aload_n 2, 1) := dk_44 (dk_at dksX2_supporters_1 23 rfl rfl)
theorem dX2_supporters_46 : decode cX2_supporters 46 = .ok (.invokevirtual 89, 3) := dk_182 0 89 (dk_at dksX2_supporters_2 0 rfl rfl)
theorem dX2_supporters_49 : decode cX2_supporters 49 = .ok (.istore 5, 2) := dk_54 5 (dk_at dksX2_supporters_2 3 rfl rfl)
theorem dX2_supporters_51 : decode cX2_supporters 51 = .ok (.iload 5, 2) := dk_21 5 (dk_at dksX2_supporters_2 5 rfl rfl)
theorem dX2_supporters_53 : decode cX2_supporters 53 = .ok (.ifCond .le 31, 3) := dk_158 0 31 (dk_at dksX2_supporters_2 7 rfl rfl)
theorem dX2_supporters_56 : decode cX2_supporters 56 = .ok (.aload 4, 2) := dk_25 4 (dk_at dksX2_supporters_2 10 rfl rfl)
theorem dX2_supporters_58 : decode cX2_supporters 58 = .ok (.getfield 92, 3) := dk_180 0 92 (dk_at dksX2_supporters_2 12 rfl rfl)
theorem dX2_supporters_61 : decode cX2_supporters 61 = .ok (.aload_n 2, 1) := dk_44 (dk_at dksX2_supporters_2 15 rfl rfl)
theorem dX2_supporters_62 : decode cX2_supporters 62 = .ok (.iload 5, 2) := dk_21 5 (dk_at dksX2_supporters_2 16 rfl rfl)
theorem dX2_supporters_64 : decode cX2_supporters 64 = .ok (.iconst 1, 1) := dk_4 (dk_at dksX2_supporters_2 18 rfl rfl)
theorem dX2_supporters_65 : decode cX2_supporters 65 = .ok (.isub, 1) := dk_100 (dk_at dksX2_supporters_2 19 rfl rfl)
theorem dX2_supporters_66 : decode cX2_supporters 66 = .ok (.invokevirtual 95, 3) := dk_182 0 95 (dk_at dksX2_supporters_2 20 rfl rfl)
theorem dX2_supporters_69 : decode cX2_supporters 69 = .ok (.checkcast 47, 3) := dk_192 0 47 (dk_at dksX2_supporters_3 0 rfl rfl)
theorem dX2_supporters_72 : decode cX2_supporters 72 = .ok (.getfield 92, 3) := dk_180 0 92 (dk_at dksX2_supporters_3 3 rfl rfl)
theorem dX2_supporters_75 : decode cX2_supporters 75 = .ok (.if_icmp .ge 9, 3) := dk_162 0 9 (dk_at dksX2_supporters_3 6 rfl rfl)
theorem dX2_supporters_78 : decode cX2_supporters 78 = .ok (.iinc 5 (-1), 3) := dk_132 5 255 (dk_at dksX2_supporters_3 9 rfl rfl)
theorem dX2_supporters_81 : decode cX2_supporters 81 = .ok (.goto (-30), 3) := dk_167 255 226 (dk_at dksX2_supporters_3 12 rfl rfl)
theorem dX2_supporters_84 : decode cX2_supporters 84 = .ok (.aload_n 2, 1) := dk_44 (dk_at dksX2_supporters_3 15 rfl rfl)
theorem dX2_supporters_85 : decode cX2_supporters 85 = .ok (.iload 5, 2) := dk_21 5 (dk_at dksX2_supporters_3 16 rfl rfl)
theorem dX2_supporters_87 : decode cX2_supporters 87 = .ok (.aload 4, 2) := dk_25 4 (dk_at dksX2_supporters_3 18 rfl rfl)
theorem dX2_supporters_89 : decode cX2_supporters 89 = .ok (.invokevirtual 99, 3) := dk_182 0 99 (dk_at dksX2_supporters_3 20 rfl rfl)
theorem dX2_supporters_92 : decode cX2_supporters 92 = .ok (.goto (-76), 3) := dk_167 255 180 (dk_at dksX2_supporters_4 0 rfl rfl)
theorem dX2_supporters_95 : decode cX2_supporters 95 = .ok (.aload_n 2, 1) := dk_44 (dk_at dksX2_supporters_4 3 rfl rfl)
theorem dX2_supporters_96 : decode cX2_supporters 96 = .ok (.areturn, 1) := dk_176 (dk_at dksX2_supporters_4 4 rfl rfl)
abbrev cX2_share : ByteArray := prog_10_method_10_code
def yX2_share : MethodName := ⟨RX2, "share", "(III)I"⟩
def dkwX2_share_0 : List UInt8 := [26, 27, 108, 28, 26, 27, 112, 162, 0, 7, 4, 167, 0, 4, 3, 96, 172]
abbrev dktX2_share_0 : List UInt8 := dkwX2_share_0 ++ []
theorem dksX2_share_0 : cX2_share.data.toList.drop 0 = dktX2_share_0 := by decide +kernel
theorem dX2_share_0 : decode cX2_share 0 = .ok (.iload_n 0, 1) := dk_26 (dk_at dksX2_share_0 0 rfl rfl)
theorem dX2_share_1 : decode cX2_share 1 = .ok (.iload_n 1, 1) := dk_27 (dk_at dksX2_share_0 1 rfl rfl)
theorem dX2_share_2 : decode cX2_share 2 = .ok (.idiv, 1) := dk_108 (dk_at dksX2_share_0 2 rfl rfl)
theorem dX2_share_3 : decode cX2_share 3 = .ok (.iload_n 2, 1) := dk_28 (dk_at dksX2_share_0 3 rfl rfl)
theorem dX2_share_4 : decode cX2_share 4 = .ok (.iload_n 0, 1) := dk_26 (dk_at dksX2_share_0 4 rfl rfl)
theorem dX2_share_5 : decode cX2_share 5 = .ok (.iload_n 1, 1) := dk_27 (dk_at dksX2_share_0 5 rfl rfl)
theorem dX2_share_6 : decode cX2_share 6 = .ok (.irem, 1) := dk_112 (dk_at dksX2_share_0 6 rfl rfl)
theorem dX2_share_7 : decode cX2_share 7 = .ok (.if_icmp .ge 7, 3) := dk_162 0 7 (dk_at dksX2_share_0 7 rfl rfl)
theorem dX2_share_10 : decode cX2_share 10 = .ok (.iconst 1, 1) := dk_4 (dk_at dksX2_share_0 10 rfl rfl)
theorem dX2_share_11 : decode cX2_share 11 = .ok (.goto 4, 3) := dk_167 0 4 (dk_at dksX2_share_0 11 rfl rfl)
theorem dX2_share_14 : decode cX2_share 14 = .ok (.iconst 0, 1) := dk_3 (dk_at dksX2_share_0 14 rfl rfl)
theorem dX2_share_15 : decode cX2_share 15 = .ok (.iadd, 1) := dk_96 (dk_at dksX2_share_0 15 rfl rfl)
theorem dX2_share_16 : decode cX2_share 16 = .ok (.ireturn, 1) := dk_172 (dk_at dksX2_share_0 16 rfl rfl)
abbrev cX2_recursiveLoad : ByteArray := prog_10_method_15_code
def yX2_recursiveLoad : MethodName := ⟨RX2, "recursiveLoad", "(I[I)I"⟩
def dkwX2_recursiveLoad_5 : List UInt8 := [132, 5, 1, 167, 255, 163, 44, 27, 21, 4, 79, 44, 27, 46, 172]
abbrev dktX2_recursiveLoad_5 : List UInt8 := dkwX2_recursiveLoad_5 ++ []
def dkwX2_recursiveLoad_4 : List UInt8 := [54, 7, 21, 4, 21, 7, 25, 6, 182, 0, 89, 25, 6, 45, 182, 0, 120, 184, 0, 127, 96, 54, 4]
abbrev dktX2_recursiveLoad_4 : List UInt8 := dkwX2_recursiveLoad_4 ++ dktX2_recursiveLoad_5
def dkwX2_recursiveLoad_3 : List UInt8 := [42, 180, 0, 12, 21, 5, 182, 0, 95, 192, 0, 47, 180, 0, 124, 42, 21, 5, 44, 182, 0, 135, 96]
abbrev dktX2_recursiveLoad_3 : List UInt8 := dkwX2_recursiveLoad_3 ++ dktX2_recursiveLoad_4
def dkwX2_recursiveLoad_2 : List UInt8 := [182, 0, 86, 153, 0, 67, 42, 42, 180, 0, 12, 21, 5, 182, 0, 95, 192, 0, 47, 182, 0, 116, 58, 6]
abbrev dktX2_recursiveLoad_2 : List UInt8 := dkwX2_recursiveLoad_2 ++ dktX2_recursiveLoad_3
def dkwX2_recursiveLoad_1 : List UInt8 := [54, 5, 21, 5, 44, 190, 162, 0, 92, 45, 42, 180, 0, 12, 21, 5, 182, 0, 95, 192, 0, 47]
abbrev dktX2_recursiveLoad_1 : List UInt8 := dkwX2_recursiveLoad_1 ++ dktX2_recursiveLoad_2
def dkwX2_recursiveLoad_0 : List UInt8 := [44, 27, 46, 16, 254, 160, 0, 122, 42, 180, 0, 12, 27, 182, 0, 95, 192, 0, 47, 78, 3, 54, 4, 3]
abbrev dktX2_recursiveLoad_0 : List UInt8 := dkwX2_recursiveLoad_0 ++ dktX2_recursiveLoad_1
theorem dksX2_recursiveLoad_0 : cX2_recursiveLoad.data.toList.drop 0 = dktX2_recursiveLoad_0 := by decide +kernel
theorem dksX2_recursiveLoad_1 : cX2_recursiveLoad.data.toList.drop 24 = dktX2_recursiveLoad_1 := dk_seg dksX2_recursiveLoad_0 24 rfl rfl
theorem dksX2_recursiveLoad_2 : cX2_recursiveLoad.data.toList.drop 46 = dktX2_recursiveLoad_2 := dk_seg dksX2_recursiveLoad_1 22 rfl rfl
theorem dksX2_recursiveLoad_3 : cX2_recursiveLoad.data.toList.drop 70 = dktX2_recursiveLoad_3 := dk_seg dksX2_recursiveLoad_2 24 rfl rfl
theorem dksX2_recursiveLoad_4 : cX2_recursiveLoad.data.toList.drop 93 = dktX2_recursiveLoad_4 := dk_seg dksX2_recursiveLoad_3 23 rfl rfl
theorem dksX2_recursiveLoad_5 : cX2_recursiveLoad.data.toList.drop 116 = dktX2_recursiveLoad_5 := dk_seg dksX2_recursiveLoad_4 23 rfl rfl
theorem dX2_recursiveLoad_0 : decode cX2_recursiveLoad 0 = .ok (.aload_n 2, 1) := dk_44 (dk_at dksX2_recursiveLoad_0 0 rfl rfl)
theorem dX2_recursiveLoad_1 : decode cX2_recursiveLoad 1 = .ok (.iload_n 1, 1) := dk_27 (dk_at dksX2_recursiveLoad_0 1 rfl rfl)
theorem dX2_recursiveLoad_2 : decode cX2_recursiveLoad 2 = .ok (.iaload, 1) := dk_46 (dk_at dksX2_recursiveLoad_0 2 rfl rfl)
theorem dX2_recursiveLoad_3 : decode cX2_recursiveLoad 3 = .ok (.bipush (-2), 2) := dk_16 254 (dk_at dksX2_recursiveLoad_0 3 rfl rfl)
theorem dX2_recursiveLoad_5 : decode cX2_recursiveLoad 5 = .ok (.if_icmp .ne 122, 3) := dk_160 0 122 (dk_at dksX2_recursiveLoad_0 5 rfl rfl)
theorem dX2_recursiveLoad_8 : decode cX2_recursiveLoad 8 = .ok (.aload_n 0, 1) := dk_42 (dk_at dksX2_recursiveLoad_0 8 rfl rfl)
theorem dX2_recursiveLoad_9 : decode cX2_recursiveLoad 9 = .ok (.getfield 12, 3) := dk_180 0 12 (dk_at dksX2_recursiveLoad_0 9 rfl rfl)
theorem dX2_recursiveLoad_12 : decode cX2_recursiveLoad 12 = .ok (.iload_n 1, 1) := dk_27 (dk_at dksX2_recursiveLoad_0 12 rfl rfl)
theorem dX2_recursiveLoad_13 : decode cX2_recursiveLoad 13 = .ok (.invokevirtual 95, 3) := dk_182 0 95 (dk_at dksX2_recursiveLoad_0 13 rfl rfl)
theorem dX2_recursiveLoad_16 : decode cX2_recursiveLoad 16 = .ok (.checkcast 47, 3) := dk_192 0 47 (dk_at dksX2_recursiveLoad_0 16 rfl rfl)
theorem dX2_recursiveLoad_19 : decode cX2_recursiveLoad 19 = .ok (.astore_n 3, 1) := dk_78 (dk_at dksX2_recursiveLoad_0 19 rfl rfl)
theorem dX2_recursiveLoad_20 : decode cX2_recursiveLoad 20 = .ok (.iconst 0, 1) := dk_3 (dk_at dksX2_recursiveLoad_0 20 rfl rfl)
theorem dX2_recursiveLoad_21 : decode cX2_recursiveLoad 21 = .ok (.istore 4, 2) := dk_54 4 (dk_at dksX2_recursiveLoad_0 21 rfl rfl)
theorem dX2_recursiveLoad_23 : decode cX2_recursiveLoad 23 = .ok (.iconst 0, 1) := dk_3 (dk_at dksX2_recursiveLoad_0 23 rfl rfl)
theorem dX2_recursiveLoad_24 : decode cX2_recursiveLoad 24 = .ok (.istore 5, 2) := dk_54 5 (dk_at dksX2_recursiveLoad_1 0 rfl rfl)
theorem dX2_recursiveLoad_26 : decode cX2_recursiveLoad 26 = .ok (.iload 5, 2) := dk_21 5 (dk_at dksX2_recursiveLoad_1 2 rfl rfl)
theorem dX2_recursiveLoad_28 : decode cX2_recursiveLoad 28 = .ok (.aload_n 2, 1) := dk_44 (dk_at dksX2_recursiveLoad_1 4 rfl rfl)
theorem dX2_recursiveLoad_29 : decode cX2_recursiveLoad 29 = .ok (.arraylength, 1) := dk_190 (dk_at dksX2_recursiveLoad_1 5 rfl rfl)
theorem dX2_recursiveLoad_30 : decode cX2_recursiveLoad 30 = .ok (.if_icmp .ge 92, 3) := dk_162 0 92 (dk_at dksX2_recursiveLoad_1 6 rfl rfl)
theorem dX2_recursiveLoad_33 : decode cX2_recursiveLoad 33 = .ok (.aload_n 3, 1) := dk_45 (dk_at dksX2_recursiveLoad_1 9 rfl rfl)
theorem dX2_recursiveLoad_34 : decode cX2_recursiveLoad 34 = .ok (.aload_n 0, 1) := dk_42 (dk_at dksX2_recursiveLoad_1 10 rfl rfl)
theorem dX2_recursiveLoad_35 : decode cX2_recursiveLoad 35 = .ok (.getfield 12, 3) := dk_180 0 12 (dk_at dksX2_recursiveLoad_1 11 rfl rfl)
theorem dX2_recursiveLoad_38 : decode cX2_recursiveLoad 38 = .ok (.iload 5, 2) := dk_21 5 (dk_at dksX2_recursiveLoad_1 14 rfl rfl)
theorem dX2_recursiveLoad_40 : decode cX2_recursiveLoad 40 = .ok (.invokevirtual 95, 3) := dk_182 0 95 (dk_at dksX2_recursiveLoad_1 16 rfl rfl)
theorem dX2_recursiveLoad_43 : decode cX2_recursiveLoad 43 = .ok (.checkcast 47, 3) := dk_192 0 47 (dk_at dksX2_recursiveLoad_1 19 rfl rfl)
theorem dX2_recursiveLoad_46 : decode cX2_recursiveLoad 46 = .ok (.invokevirtual 86, 3) := dk_182 0 86 (dk_at dksX2_recursiveLoad_2 0 rfl rfl)
theorem dX2_recursiveLoad_49 : decode cX2_recursiveLoad 49 = .ok (.ifCond .eq 67, 3) := dk_153 0 67 (dk_at dksX2_recursiveLoad_2 3 rfl rfl)
theorem dX2_recursiveLoad_52 : decode cX2_recursiveLoad 52 = .ok (.aload_n 0, 1) := dk_42 (dk_at dksX2_recursiveLoad_2 6 rfl rfl)
theorem dX2_recursiveLoad_53 : decode cX2_recursiveLoad 53 = .ok (.aload_n 0, 1) := dk_42 (dk_at dksX2_recursiveLoad_2 7 rfl rfl)
theorem dX2_recursiveLoad_54 : decode cX2_recursiveLoad 54 = .ok (.getfield 12, 3) := dk_180 0 12 (dk_at dksX2_recursiveLoad_2 8 rfl rfl)
theorem dX2_recursiveLoad_57 : decode cX2_recursiveLoad 57 = .ok (.iload 5, 2) := dk_21 5 (dk_at dksX2_recursiveLoad_2 11 rfl rfl)
theorem dX2_recursiveLoad_59 : decode cX2_recursiveLoad 59 = .ok (.invokevirtual 95, 3) := dk_182 0 95 (dk_at dksX2_recursiveLoad_2 13 rfl rfl)
theorem dX2_recursiveLoad_62 : decode cX2_recursiveLoad 62 = .ok (.checkcast 47, 3) := dk_192 0 47 (dk_at dksX2_recursiveLoad_2 16 rfl rfl)
theorem dX2_recursiveLoad_65 : decode cX2_recursiveLoad 65 = .ok (.invokevirtual 116, 3) := dk_182 0 116 (dk_at dksX2_recursiveLoad_2 19 rfl rfl)
theorem dX2_recursiveLoad_68 : decode cX2_recursiveLoad 68 = .ok (.astore 6, 2) := dk_58 6 (dk_at dksX2_recursiveLoad_2 22 rfl rfl)
theorem dX2_recursiveLoad_70 : decode cX2_recursiveLoad 70 = .ok (.aload_n 0, 1) := dk_42 (dk_at dksX2_recursiveLoad_3 0 rfl rfl)
theorem dX2_recursiveLoad_71 : decode cX2_recursiveLoad 71 = .ok (.getfield 12, 3) := dk_180 0 12 (dk_at dksX2_recursiveLoad_3 1 rfl rfl)
theorem dX2_recursiveLoad_74 : decode cX2_recursiveLoad 74 = .ok (.iload 5, 2) := dk_21 5 (dk_at dksX2_recursiveLoad_3 4 rfl rfl)
theorem dX2_recursiveLoad_76 : decode cX2_recursiveLoad 76 = .ok (.invokevirtual 95, 3) := dk_182 0 95 (dk_at dksX2_recursiveLoad_3 6 rfl rfl)
theorem dX2_recursiveLoad_79 : decode cX2_recursiveLoad 79 = .ok (.checkcast 47, 3) := dk_192 0 47 (dk_at dksX2_recursiveLoad_3 9 rfl rfl)
theorem dX2_recursiveLoad_82 : decode cX2_recursiveLoad 82 = .ok (.getfield 124, 3) := dk_180 0 124 (dk_at dksX2_recursiveLoad_3 12 rfl rfl)
theorem dX2_recursiveLoad_85 : decode cX2_recursiveLoad 85 = .ok (.aload_n 0, 1) := dk_42 (dk_at dksX2_recursiveLoad_3 15 rfl rfl)
theorem dX2_recursiveLoad_86 : decode cX2_recursiveLoad 86 = .ok (.iload 5, 2) := dk_21 5 (dk_at dksX2_recursiveLoad_3 16 rfl rfl)
theorem dX2_recursiveLoad_88 : decode cX2_recursiveLoad 88 = .ok (.aload_n 2, 1) := dk_44 (dk_at dksX2_recursiveLoad_3 18 rfl rfl)
theorem dX2_recursiveLoad_89 : decode cX2_recursiveLoad 89 = .ok (.invokevirtual 135, 3) := dk_182 0 135 (dk_at dksX2_recursiveLoad_3 19 rfl rfl)
theorem dX2_recursiveLoad_92 : decode cX2_recursiveLoad 92 = .ok (.iadd, 1) := dk_96 (dk_at dksX2_recursiveLoad_3 22 rfl rfl)
theorem dX2_recursiveLoad_93 : decode cX2_recursiveLoad 93 = .ok (.istore 7, 2) := dk_54 7 (dk_at dksX2_recursiveLoad_4 0 rfl rfl)
theorem dX2_recursiveLoad_95 : decode cX2_recursiveLoad 95 = .ok (.iload 4, 2) := dk_21 4 (dk_at dksX2_recursiveLoad_4 2 rfl rfl)
theorem dX2_recursiveLoad_97 : decode cX2_recursiveLoad 97 = .ok (.iload 7, 2) := dk_21 7 (dk_at dksX2_recursiveLoad_4 4 rfl rfl)
theorem dX2_recursiveLoad_99 : decode cX2_recursiveLoad 99 = .ok (.aload 6, 2) := dk_25 6 (dk_at dksX2_recursiveLoad_4 6 rfl rfl)
theorem dX2_recursiveLoad_101 : decode cX2_recursiveLoad 101 = .ok (.invokevirtual 89, 3) := dk_182 0 89 (dk_at dksX2_recursiveLoad_4 8 rfl rfl)
theorem dX2_recursiveLoad_104 : decode cX2_recursiveLoad 104 = .ok (.aload 6, 2) := dk_25 6 (dk_at dksX2_recursiveLoad_4 11 rfl rfl)
theorem dX2_recursiveLoad_106 : decode cX2_recursiveLoad 106 = .ok (.aload_n 3, 1) := dk_45 (dk_at dksX2_recursiveLoad_4 13 rfl rfl)
theorem dX2_recursiveLoad_107 : decode cX2_recursiveLoad 107 = .ok (.invokevirtual 120, 3) := dk_182 0 120 (dk_at dksX2_recursiveLoad_4 14 rfl rfl)
theorem dX2_recursiveLoad_110 : decode cX2_recursiveLoad 110 = .ok (.invokestatic 127, 3) := dk_184 0 127 (dk_at dksX2_recursiveLoad_4 17 rfl rfl)
theorem dX2_recursiveLoad_113 : decode cX2_recursiveLoad 113 = .ok (.iadd, 1) := dk_96 (dk_at dksX2_recursiveLoad_4 20 rfl rfl)
theorem dX2_recursiveLoad_114 : decode cX2_recursiveLoad 114 = .ok (.istore 4, 2) := dk_54 4 (dk_at dksX2_recursiveLoad_4 21 rfl rfl)
theorem dX2_recursiveLoad_116 : decode cX2_recursiveLoad 116 = .ok (.iinc 5 1, 3) := dk_132 5 1 (dk_at dksX2_recursiveLoad_5 0 rfl rfl)
theorem dX2_recursiveLoad_119 : decode cX2_recursiveLoad 119 = .ok (.goto (-93), 3) := dk_167 255 163 (dk_at dksX2_recursiveLoad_5 3 rfl rfl)
theorem dX2_recursiveLoad_122 : decode cX2_recursiveLoad 122 = .ok (.aload_n 2, 1) := dk_44 (dk_at dksX2_recursiveLoad_5 6 rfl rfl)
theorem dX2_recursiveLoad_123 : decode cX2_recursiveLoad 123 = .ok (.iload_n 1, 1) := dk_27 (dk_at dksX2_recursiveLoad_5 7 rfl rfl)
theorem dX2_recursiveLoad_124 : decode cX2_recursiveLoad 124 = .ok (.iload 4, 2) := dk_21 4 (dk_at dksX2_recursiveLoad_5 8 rfl rfl)
theorem dX2_recursiveLoad_126 : decode cX2_recursiveLoad 126 = .ok (.iastore, 1) := dk_79 (dk_at dksX2_recursiveLoad_5 10 rfl rfl)
theorem dX2_recursiveLoad_127 : decode cX2_recursiveLoad 127 = .ok (.aload_n 2, 1) := dk_44 (dk_at dksX2_recursiveLoad_5 11 rfl rfl)
theorem dX2_recursiveLoad_128 : decode cX2_recursiveLoad 128 = .ok (.iload_n 1, 1) := dk_27 (dk_at dksX2_recursiveLoad_5 12 rfl rfl)
theorem dX2_recursiveLoad_129 : decode cX2_recursiveLoad 129 = .ok (.iaload, 1) := dk_46 (dk_at dksX2_recursiveLoad_5 13 rfl rfl)
theorem dX2_recursiveLoad_130 : decode cX2_recursiveLoad 130 = .ok (.ireturn, 1) := dk_172 (dk_at dksX2_recursiveLoad_5 14 rfl rfl)
abbrev cX2_isLit : ByteArray := prog_10_method_28_code
def yX2_isLit : MethodName := ⟨RX2, "isLit", "(I)Z"⟩
def dkwX2_isLit_1 : List UInt8 := [28, 51, 153, 0, 14, 42, 28, 27, 182, 0, 181, 153, 0, 5, 4, 172, 132, 2, 1, 167, 255, 221, 3, 172]
abbrev dktX2_isLit_1 : List UInt8 := dkwX2_isLit_1 ++ []
def dkwX2_isLit_0 : List UInt8 := [3, 27, 7, 100, 184, 0, 80, 61, 28, 16, 11, 27, 7, 96, 184, 0, 175, 163, 0, 29, 42, 180, 0, 24]
abbrev dktX2_isLit_0 : List UInt8 := dkwX2_isLit_0 ++ dktX2_isLit_1
theorem dksX2_isLit_0 : cX2_isLit.data.toList.drop 0 = dktX2_isLit_0 := by decide +kernel
theorem dksX2_isLit_1 : cX2_isLit.data.toList.drop 24 = dktX2_isLit_1 := dk_seg dksX2_isLit_0 24 rfl rfl
theorem dX2_isLit_0 : decode cX2_isLit 0 = .ok (.iconst 0, 1) := dk_3 (dk_at dksX2_isLit_0 0 rfl rfl)
theorem dX2_isLit_1 : decode cX2_isLit 1 = .ok (.iload_n 1, 1) := dk_27 (dk_at dksX2_isLit_0 1 rfl rfl)
theorem dX2_isLit_2 : decode cX2_isLit 2 = .ok (.iconst 4, 1) := dk_7 (dk_at dksX2_isLit_0 2 rfl rfl)
theorem dX2_isLit_3 : decode cX2_isLit 3 = .ok (.isub, 1) := dk_100 (dk_at dksX2_isLit_0 3 rfl rfl)
theorem dX2_isLit_4 : decode cX2_isLit 4 = .ok (.invokestatic 80, 3) := dk_184 0 80 (dk_at dksX2_isLit_0 4 rfl rfl)
theorem dX2_isLit_7 : decode cX2_isLit 7 = .ok (.istore_n 2, 1) := dk_61 (dk_at dksX2_isLit_0 7 rfl rfl)
theorem dX2_isLit_8 : decode cX2_isLit 8 = .ok (.iload_n 2, 1) := dk_28 (dk_at dksX2_isLit_0 8 rfl rfl)
theorem dX2_isLit_9 : decode cX2_isLit 9 = .ok (.bipush 11, 2) := dk_16 11 (dk_at dksX2_isLit_0 9 rfl rfl)
theorem dX2_isLit_11 : decode cX2_isLit 11 = .ok (.iload_n 1, 1) := dk_27 (dk_at dksX2_isLit_0 11 rfl rfl)
theorem dX2_isLit_12 : decode cX2_isLit 12 = .ok (.iconst 4, 1) := dk_7 (dk_at dksX2_isLit_0 12 rfl rfl)
theorem dX2_isLit_13 : decode cX2_isLit 13 = .ok (.iadd, 1) := dk_96 (dk_at dksX2_isLit_0 13 rfl rfl)
theorem dX2_isLit_14 : decode cX2_isLit 14 = .ok (.invokestatic 175, 3) := dk_184 0 175 (dk_at dksX2_isLit_0 14 rfl rfl)
theorem dX2_isLit_17 : decode cX2_isLit 17 = .ok (.if_icmp .gt 29, 3) := dk_163 0 29 (dk_at dksX2_isLit_0 17 rfl rfl)
theorem dX2_isLit_20 : decode cX2_isLit 20 = .ok (.aload_n 0, 1) := dk_42 (dk_at dksX2_isLit_0 20 rfl rfl)
theorem dX2_isLit_21 : decode cX2_isLit 21 = .ok (.getfield 24, 3) := dk_180 0 24 (dk_at dksX2_isLit_0 21 rfl rfl)
theorem dX2_isLit_24 : decode cX2_isLit 24 = .ok (.iload_n 2, 1) := dk_28 (dk_at dksX2_isLit_1 0 rfl rfl)
theorem dX2_isLit_25 : decode cX2_isLit 25 = .ok (.baload, 1) := dk_51 (dk_at dksX2_isLit_1 1 rfl rfl)
theorem dX2_isLit_26 : decode cX2_isLit 26 = .ok (.ifCond .eq 14, 3) := dk_153 0 14 (dk_at dksX2_isLit_1 2 rfl rfl)
theorem dX2_isLit_29 : decode cX2_isLit 29 = .ok (.aload_n 0, 1) := dk_42 (dk_at dksX2_isLit_1 5 rfl rfl)
theorem dX2_isLit_30 : decode cX2_isLit 30 = .ok (.iload_n 2, 1) := dk_28 (dk_at dksX2_isLit_1 6 rfl rfl)
theorem dX2_isLit_31 : decode cX2_isLit 31 = .ok (.iload_n 1, 1) := dk_27 (dk_at dksX2_isLit_1 7 rfl rfl)
theorem dX2_isLit_32 : decode cX2_isLit 32 = .ok (.invokevirtual 181, 3) := dk_182 0 181 (dk_at dksX2_isLit_1 8 rfl rfl)
theorem dX2_isLit_35 : decode cX2_isLit 35 = .ok (.ifCond .eq 5, 3) := dk_153 0 5 (dk_at dksX2_isLit_1 11 rfl rfl)
theorem dX2_isLit_38 : decode cX2_isLit 38 = .ok (.iconst 1, 1) := dk_4 (dk_at dksX2_isLit_1 14 rfl rfl)
theorem dX2_isLit_39 : decode cX2_isLit 39 = .ok (.ireturn, 1) := dk_172 (dk_at dksX2_isLit_1 15 rfl rfl)
theorem dX2_isLit_40 : decode cX2_isLit 40 = .ok (.iinc 2 1, 3) := dk_132 2 1 (dk_at dksX2_isLit_1 16 rfl rfl)
theorem dX2_isLit_43 : decode cX2_isLit 43 = .ok (.goto (-35), 3) := dk_167 255 221 (dk_at dksX2_isLit_1 19 rfl rfl)
theorem dX2_isLit_46 : decode cX2_isLit 46 = .ok (.iconst 0, 1) := dk_3 (dk_at dksX2_isLit_1 22 rfl rfl)
theorem dX2_isLit_47 : decode cX2_isLit 47 = .ok (.ireturn, 1) := dk_172 (dk_at dksX2_isLit_1 23 rfl rfl)
abbrev cX2_isClear : ByteArray := prog_10_method_27_code
def yX2_isClear : MethodName := ⟨RX2, "isClear", "(II)Z"⟩
def dkwX2_isClear_1 : List UInt8 := [182, 0, 178, 164, 0, 5, 3, 172, 132, 3, 1, 167, 255, 229, 4, 172]
abbrev dktX2_isClear_1 : List UInt8 := dkwX2_isClear_1 ++ []
def dkwX2_isClear_0 : List UInt8 := [27, 28, 184, 0, 175, 4, 96, 62, 29, 27, 28, 184, 0, 80, 162, 0, 24, 42, 29, 182, 0, 145, 42, 27]
abbrev dktX2_isClear_0 : List UInt8 := dkwX2_isClear_0 ++ dktX2_isClear_1
theorem dksX2_isClear_0 : cX2_isClear.data.toList.drop 0 = dktX2_isClear_0 := by decide +kernel
theorem dksX2_isClear_1 : cX2_isClear.data.toList.drop 24 = dktX2_isClear_1 := dk_seg dksX2_isClear_0 24 rfl rfl
theorem dX2_isClear_0 : decode cX2_isClear 0 = .ok (.iload_n 1, 1) := dk_27 (dk_at dksX2_isClear_0 0 rfl rfl)
theorem dX2_isClear_1 : decode cX2_isClear 1 = .ok (.iload_n 2, 1) := dk_28 (dk_at dksX2_isClear_0 1 rfl rfl)
theorem dX2_isClear_2 : decode cX2_isClear 2 = .ok (.invokestatic 175, 3) := dk_184 0 175 (dk_at dksX2_isClear_0 2 rfl rfl)
theorem dX2_isClear_5 : decode cX2_isClear 5 = .ok (.iconst 1, 1) := dk_4 (dk_at dksX2_isClear_0 5 rfl rfl)
theorem dX2_isClear_6 : decode cX2_isClear 6 = .ok (.iadd, 1) := dk_96 (dk_at dksX2_isClear_0 6 rfl rfl)
theorem dX2_isClear_7 : decode cX2_isClear 7 = .ok (.istore_n 3, 1) := dk_62 (dk_at dksX2_isClear_0 7 rfl rfl)
theorem dX2_isClear_8 : decode cX2_isClear 8 = .ok (.iload_n 3, 1) := dk_29 (dk_at dksX2_isClear_0 8 rfl rfl)
theorem dX2_isClear_9 : decode cX2_isClear 9 = .ok (.iload_n 1, 1) := dk_27 (dk_at dksX2_isClear_0 9 rfl rfl)
theorem dX2_isClear_10 : decode cX2_isClear 10 = .ok (.iload_n 2, 1) := dk_28 (dk_at dksX2_isClear_0 10 rfl rfl)
theorem dX2_isClear_11 : decode cX2_isClear 11 = .ok (.invokestatic 80, 3) := dk_184 0 80 (dk_at dksX2_isClear_0 11 rfl rfl)
theorem dX2_isClear_14 : decode cX2_isClear 14 = .ok (.if_icmp .ge 24, 3) := dk_162 0 24 (dk_at dksX2_isClear_0 14 rfl rfl)
theorem dX2_isClear_17 : decode cX2_isClear 17 = .ok (.aload_n 0, 1) := dk_42 (dk_at dksX2_isClear_0 17 rfl rfl)
theorem dX2_isClear_18 : decode cX2_isClear 18 = .ok (.iload_n 3, 1) := dk_29 (dk_at dksX2_isClear_0 18 rfl rfl)
theorem dX2_isClear_19 : decode cX2_isClear 19 = .ok (.invokevirtual 145, 3) := dk_182 0 145 (dk_at dksX2_isClear_0 19 rfl rfl)
theorem dX2_isClear_22 : decode cX2_isClear 22 = .ok (.aload_n 0, 1) := dk_42 (dk_at dksX2_isClear_0 22 rfl rfl)
theorem dX2_isClear_23 : decode cX2_isClear 23 = .ok (.iload_n 1, 1) := dk_27 (dk_at dksX2_isClear_0 23 rfl rfl)
theorem dX2_isClear_24 : decode cX2_isClear 24 = .ok (.invokevirtual 178, 3) := dk_182 0 178 (dk_at dksX2_isClear_1 0 rfl rfl)
theorem dX2_isClear_27 : decode cX2_isClear 27 = .ok (.if_icmp .le 5, 3) := dk_164 0 5 (dk_at dksX2_isClear_1 3 rfl rfl)
theorem dX2_isClear_30 : decode cX2_isClear 30 = .ok (.iconst 0, 1) := dk_3 (dk_at dksX2_isClear_1 6 rfl rfl)
theorem dX2_isClear_31 : decode cX2_isClear 31 = .ok (.ireturn, 1) := dk_172 (dk_at dksX2_isClear_1 7 rfl rfl)
theorem dX2_isClear_32 : decode cX2_isClear 32 = .ok (.iinc 3 1, 3) := dk_132 3 1 (dk_at dksX2_isClear_1 8 rfl rfl)
theorem dX2_isClear_35 : decode cX2_isClear 35 = .ok (.goto (-27), 3) := dk_167 255 229 (dk_at dksX2_isClear_1 11 rfl rfl)
theorem dX2_isClear_38 : decode cX2_isClear 38 = .ok (.iconst 1, 1) := dk_4 (dk_at dksX2_isClear_1 14 rfl rfl)
theorem dX2_isClear_39 : decode cX2_isClear 39 = .ok (.ireturn, 1) := dk_172 (dk_at dksX2_isClear_1 15 rfl rfl)
abbrev cX2_count : ByteArray := prog_10_method_4_code
def yX2_count : MethodName := ⟨RX2, "count", "(LFortPlanner$BlockTest;)I"⟩
def dkwX2_count_2 : List UInt8 := [167, 0, 4, 3, 96, 61, 167, 255, 217, 28, 172]
abbrev dktX2_count_2 : List UInt8 := dkwX2_count_2 ++ []
def dkwX2_count_1 : List UInt8 := [185, 0, 43, 1, 0, 192, 0, 47, 58, 4, 28, 43, 25, 4, 185, 0, 60, 2, 0, 153, 0, 7, 4]
abbrev dktX2_count_1 : List UInt8 := dkwX2_count_1 ++ dktX2_count_2
def dkwX2_count_0 : List UInt8 := [3, 61, 42, 180, 0, 12, 182, 0, 33, 78, 45, 185, 0, 37, 1, 0, 153, 0, 36, 45]
abbrev dktX2_count_0 : List UInt8 := dkwX2_count_0 ++ dktX2_count_1
theorem dksX2_count_0 : cX2_count.data.toList.drop 0 = dktX2_count_0 := by decide +kernel
theorem dksX2_count_1 : cX2_count.data.toList.drop 20 = dktX2_count_1 := dk_seg dksX2_count_0 20 rfl rfl
theorem dksX2_count_2 : cX2_count.data.toList.drop 43 = dktX2_count_2 := dk_seg dksX2_count_1 23 rfl rfl
theorem dX2_count_0 : decode cX2_count 0 = .ok (.iconst 0, 1) := dk_3 (dk_at dksX2_count_0 0 rfl rfl)
theorem dX2_count_1 : decode cX2_count 1 = .ok (.istore_n 2, 1) := dk_61 (dk_at dksX2_count_0 1 rfl rfl)
theorem dX2_count_2 : decode cX2_count 2 = .ok (.aload_n 0, 1) := dk_42 (dk_at dksX2_count_0 2 rfl rfl)
theorem dX2_count_3 : decode cX2_count 3 = .ok (.getfield 12, 3) := dk_180 0 12 (dk_at dksX2_count_0 3 rfl rfl)
theorem dX2_count_6 : decode cX2_count 6 = .ok (.invokevirtual 33, 3) := dk_182 0 33 (dk_at dksX2_count_0 6 rfl rfl)
theorem dX2_count_9 : decode cX2_count 9 = .ok (.astore_n 3, 1) := dk_78 (dk_at dksX2_count_0 9 rfl rfl)
theorem dX2_count_10 : decode cX2_count 10 = .ok (.aload_n 3, 1) := dk_45 (dk_at dksX2_count_0 10 rfl rfl)
theorem dX2_count_11 : decode cX2_count 11 = .ok (.invokeinterface 37 1, 5) := by decide +kernel
theorem dX2_count_16 : decode cX2_count 16 = .ok (.ifCond .eq 36, 3) := dk_153 0 36 (dk_at dksX2_count_0 16 rfl rfl)
theorem dX2_count_19 : decode cX2_count 19 = .ok (.aload_n 3, 1) := dk_45 (dk_at dksX2_count_0 19 rfl rfl)
theorem dX2_count_20 : decode cX2_count 20 = .ok (.invokeinterface 43 1, 5) := by decide +kernel
theorem dX2_count_25 : decode cX2_count 25 = .ok (.checkcast 47, 3) := dk_192 0 47 (dk_at dksX2_count_1 5 rfl rfl)
theorem dX2_count_28 : decode cX2_count 28 = .ok (.astore 4, 2) := dk_58 4 (dk_at dksX2_count_1 8 rfl rfl)
theorem dX2_count_30 : decode cX2_count 30 = .ok (.iload_n 2, 1) := dk_28 (dk_at dksX2_count_1 10 rfl rfl)
theorem dX2_count_31 : decode cX2_count 31 = .ok (.aload_n 1, 1) := dk_43 (dk_at dksX2_count_1 11 rfl rfl)
theorem dX2_count_32 : decode cX2_count 32 = .ok (.aload 4, 2) := dk_25 4 (dk_at dksX2_count_1 12 rfl rfl)
theorem dX2_count_34 : decode cX2_count 34 = .ok (.invokeinterface 60 2, 5) := by decide +kernel
theorem dX2_count_39 : decode cX2_count 39 = .ok (.ifCond .eq 7, 3) := dk_153 0 7 (dk_at dksX2_count_1 19 rfl rfl)
theorem dX2_count_42 : decode cX2_count 42 = .ok (.iconst 1, 1) := dk_4 (dk_at dksX2_count_1 22 rfl rfl)
theorem dX2_count_43 : decode cX2_count 43 = .ok (.goto 4, 3) := dk_167 0 4 (dk_at dksX2_count_2 0 rfl rfl)
theorem dX2_count_46 : decode cX2_count 46 = .ok (.iconst 0, 1) := dk_3 (dk_at dksX2_count_2 3 rfl rfl)
theorem dX2_count_47 : decode cX2_count 47 = .ok (.iadd, 1) := dk_96 (dk_at dksX2_count_2 4 rfl rfl)
theorem dX2_count_48 : decode cX2_count 48 = .ok (.istore_n 2, 1) := dk_61 (dk_at dksX2_count_2 5 rfl rfl)
theorem dX2_count_49 : decode cX2_count 49 = .ok (.goto (-39), 3) := dk_167 255 217 (dk_at dksX2_count_2 6 rfl rfl)
theorem dX2_count_52 : decode cX2_count 52 = .ok (.iload_n 2, 1) := dk_28 (dk_at dksX2_count_2 9 rfl rfl)
theorem dX2_count_53 : decode cX2_count 53 = .ok (.ireturn, 1) := dk_172 (dk_at dksX2_count_2 10 rfl rfl)
abbrev cX2_isOverloaded : ByteArray := prog_10_method_17_code
def yX2_isOverloaded : MethodName := ⟨RX2, "isOverloaded", "()Z"⟩
def dkwX2_isOverloaded_1 : List UInt8 := [192, 0, 47, 182, 0, 142, 164, 0, 5, 4, 172, 132, 2, 1, 167, 255, 225, 3, 172]
abbrev dktX2_isOverloaded_1 : List UInt8 := dkwX2_isOverloaded_1 ++ []
def dkwX2_isOverloaded_0 : List UInt8 := [42, 182, 0, 131, 76, 3, 61, 28, 43, 190, 162, 0, 31, 43, 28, 46, 42, 180, 0, 12, 28, 182, 0, 95]
abbrev dktX2_isOverloaded_0 : List UInt8 := dkwX2_isOverloaded_0 ++ dktX2_isOverloaded_1
theorem dksX2_isOverloaded_0 : cX2_isOverloaded.data.toList.drop 0 = dktX2_isOverloaded_0 := by decide +kernel
theorem dksX2_isOverloaded_1 : cX2_isOverloaded.data.toList.drop 24 = dktX2_isOverloaded_1 := dk_seg dksX2_isOverloaded_0 24 rfl rfl
theorem dX2_isOverloaded_0 : decode cX2_isOverloaded 0 = .ok (.aload_n 0, 1) := dk_42 (dk_at dksX2_isOverloaded_0 0 rfl rfl)
theorem dX2_isOverloaded_1 : decode cX2_isOverloaded 1 = .ok (.invokevirtual 131, 3) := dk_182 0 131 (dk_at dksX2_isOverloaded_0 1 rfl rfl)
theorem dX2_isOverloaded_4 : decode cX2_isOverloaded 4 = .ok (.astore_n 1, 1) := dk_76 (dk_at dksX2_isOverloaded_0 4 rfl rfl)
theorem dX2_isOverloaded_5 : decode cX2_isOverloaded 5 = .ok (.iconst 0, 1) := dk_3 (dk_at dksX2_isOverloaded_0 5 rfl rfl)
theorem dX2_isOverloaded_6 : decode cX2_isOverloaded 6 = .ok (.istore_n 2, 1) := dk_61 (dk_at dksX2_isOverloaded_0 6 rfl rfl)
theorem dX2_isOverloaded_7 : decode cX2_isOverloaded 7 = .ok (.iload_n 2, 1) := dk_28 (dk_at dksX2_isOverloaded_0 7 rfl rfl)
theorem dX2_isOverloaded_8 : decode cX2_isOverloaded 8 = .ok (.aload_n 1, 1) := dk_43 (dk_at dksX2_isOverloaded_0 8 rfl rfl)
theorem dX2_isOverloaded_9 : decode cX2_isOverloaded 9 = .ok (.arraylength, 1) := dk_190 (dk_at dksX2_isOverloaded_0 9 rfl rfl)
theorem dX2_isOverloaded_10 : decode cX2_isOverloaded 10 = .ok (.if_icmp .ge 31, 3) := dk_162 0 31 (dk_at dksX2_isOverloaded_0 10 rfl rfl)
theorem dX2_isOverloaded_13 : decode cX2_isOverloaded 13 = .ok (.aload_n 1, 1) := dk_43 (dk_at dksX2_isOverloaded_0 13 rfl rfl)
theorem dX2_isOverloaded_14 : decode cX2_isOverloaded 14 = .ok (.iload_n 2, 1) := dk_28 (dk_at dksX2_isOverloaded_0 14 rfl rfl)
theorem dX2_isOverloaded_15 : decode cX2_isOverloaded 15 = .ok (.iaload, 1) := dk_46 (dk_at dksX2_isOverloaded_0 15 rfl rfl)
theorem dX2_isOverloaded_16 : decode cX2_isOverloaded 16 = .ok (.aload_n 0, 1) := dk_42 (dk_at dksX2_isOverloaded_0 16 rfl rfl)
theorem dX2_isOverloaded_17 : decode cX2_isOverloaded 17 = .ok (.getfield 12, 3) := dk_180 0 12 (dk_at dksX2_isOverloaded_0 17 rfl rfl)
theorem dX2_isOverloaded_20 : decode cX2_isOverloaded 20 = .ok (.iload_n 2, 1) := dk_28 (dk_at dksX2_isOverloaded_0 20 rfl rfl)
theorem dX2_isOverloaded_21 : decode cX2_isOverloaded 21 = .ok (.invokevirtual 95, 3) := dk_182 0 95 (dk_at dksX2_isOverloaded_0 21 rfl rfl)
theorem dX2_isOverloaded_24 : decode cX2_isOverloaded 24 = .ok (.checkcast 47, 3) := dk_192 0 47 (dk_at dksX2_isOverloaded_1 0 rfl rfl)
theorem dX2_isOverloaded_27 : decode cX2_isOverloaded 27 = .ok (.invokevirtual 142, 3) := dk_182 0 142 (dk_at dksX2_isOverloaded_1 3 rfl rfl)
theorem dX2_isOverloaded_30 : decode cX2_isOverloaded 30 = .ok (.if_icmp .le 5, 3) := dk_164 0 5 (dk_at dksX2_isOverloaded_1 6 rfl rfl)
theorem dX2_isOverloaded_33 : decode cX2_isOverloaded 33 = .ok (.iconst 1, 1) := dk_4 (dk_at dksX2_isOverloaded_1 9 rfl rfl)
theorem dX2_isOverloaded_34 : decode cX2_isOverloaded 34 = .ok (.ireturn, 1) := dk_172 (dk_at dksX2_isOverloaded_1 10 rfl rfl)
theorem dX2_isOverloaded_35 : decode cX2_isOverloaded 35 = .ok (.iinc 2 1, 3) := dk_132 2 1 (dk_at dksX2_isOverloaded_1 11 rfl rfl)
theorem dX2_isOverloaded_38 : decode cX2_isOverloaded 38 = .ok (.goto (-31), 3) := dk_167 255 225 (dk_at dksX2_isOverloaded_1 14 rfl rfl)
theorem dX2_isOverloaded_41 : decode cX2_isOverloaded 41 = .ok (.iconst 0, 1) := dk_3 (dk_at dksX2_isOverloaded_1 17 rfl rfl)
theorem dX2_isOverloaded_42 : decode cX2_isOverloaded 42 = .ok (.ireturn, 1) := dk_172 (dk_at dksX2_isOverloaded_1 18 rfl rfl)
abbrev cX2_copy : ByteArray := prog_10_method_2_code
def yX2_copy : MethodName := ⟨RX2, "copy", "()LFortPlanner$State;"⟩
def dkwX2_copy_4 : List UInt8 := [181, 0, 53, 43, 176]
abbrev dktX2_copy_4 : List UInt8 := dkwX2_copy_4 ++ []
def dkwX2_copy_3 : List UInt8 := [180, 0, 24, 28, 42, 180, 0, 24, 28, 51, 84, 132, 2, 1, 167, 255, 223, 43, 42, 180, 0, 53]
abbrev dktX2_copy_3 : List UInt8 := dkwX2_copy_3 ++ dktX2_copy_4
def dkwX2_copy_2 : List UInt8 := [167, 255, 228, 3, 61, 28, 16, 12, 162, 0, 33, 43, 180, 0, 20, 28, 42, 180, 0, 20, 28, 50, 83, 43]
abbrev dktX2_copy_2 : List UInt8 := dkwX2_copy_2 ++ dktX2_copy_3
def dkwX2_copy_1 : List UInt8 := [153, 0, 25, 44, 185, 0, 43, 1, 0, 192, 0, 47, 78, 43, 180, 0, 12, 45, 182, 0, 49, 87]
abbrev dktX2_copy_1 : List UInt8 := dkwX2_copy_1 ++ dktX2_copy_2
def dkwX2_copy_0 : List UInt8 := [187, 0, 13, 89, 183, 0, 32, 76, 42, 180, 0, 12, 182, 0, 33, 77, 44, 185, 0, 37, 1, 0]
abbrev dktX2_copy_0 : List UInt8 := dkwX2_copy_0 ++ dktX2_copy_1
theorem dksX2_copy_0 : cX2_copy.data.toList.drop 0 = dktX2_copy_0 := by decide +kernel
theorem dksX2_copy_1 : cX2_copy.data.toList.drop 22 = dktX2_copy_1 := dk_seg dksX2_copy_0 22 rfl rfl
theorem dksX2_copy_2 : cX2_copy.data.toList.drop 44 = dktX2_copy_2 := dk_seg dksX2_copy_1 22 rfl rfl
theorem dksX2_copy_3 : cX2_copy.data.toList.drop 68 = dktX2_copy_3 := dk_seg dksX2_copy_2 24 rfl rfl
theorem dksX2_copy_4 : cX2_copy.data.toList.drop 90 = dktX2_copy_4 := dk_seg dksX2_copy_3 22 rfl rfl
theorem dX2_copy_0 : decode cX2_copy 0 = .ok (.new 13, 3) := dk_187 0 13 (dk_at dksX2_copy_0 0 rfl rfl)
theorem dX2_copy_3 : decode cX2_copy 3 = .ok (.dup, 1) := dk_89 (dk_at dksX2_copy_0 3 rfl rfl)
theorem dX2_copy_4 : decode cX2_copy 4 = .ok (.invokespecial 32, 3) := dk_183 0 32 (dk_at dksX2_copy_0 4 rfl rfl)
theorem dX2_copy_7 : decode cX2_copy 7 = .ok (.astore_n 1, 1) := dk_76 (dk_at dksX2_copy_0 7 rfl rfl)
theorem dX2_copy_8 : decode cX2_copy 8 = .ok (.aload_n 0, 1) := dk_42 (dk_at dksX2_copy_0 8 rfl rfl)
theorem dX2_copy_9 : decode cX2_copy 9 = .ok (.getfield 12, 3) := dk_180 0 12 (dk_at dksX2_copy_0 9 rfl rfl)
theorem dX2_copy_12 : decode cX2_copy 12 = .ok (.invokevirtual 33, 3) := dk_182 0 33 (dk_at dksX2_copy_0 12 rfl rfl)
theorem dX2_copy_15 : decode cX2_copy 15 = .ok (.astore_n 2, 1) := dk_77 (dk_at dksX2_copy_0 15 rfl rfl)
theorem dX2_copy_16 : decode cX2_copy 16 = .ok (.aload_n 2, 1) := dk_44 (dk_at dksX2_copy_0 16 rfl rfl)
theorem dX2_copy_17 : decode cX2_copy 17 = .ok (.invokeinterface 37 1, 5) := by decide +kernel
theorem dX2_copy_22 : decode cX2_copy 22 = .ok (.ifCond .eq 25, 3) := dk_153 0 25 (dk_at dksX2_copy_1 0 rfl rfl)
theorem dX2_copy_25 : decode cX2_copy 25 = .ok (.aload_n 2, 1) := dk_44 (dk_at dksX2_copy_1 3 rfl rfl)
theorem dX2_copy_26 : decode cX2_copy 26 = .ok (.invokeinterface 43 1, 5) := by decide +kernel
theorem dX2_copy_31 : decode cX2_copy 31 = .ok (.checkcast 47, 3) := dk_192 0 47 (dk_at dksX2_copy_1 9 rfl rfl)
theorem dX2_copy_34 : decode cX2_copy 34 = .ok (.astore_n 3, 1) := dk_78 (dk_at dksX2_copy_1 12 rfl rfl)
theorem dX2_copy_35 : decode cX2_copy 35 = .ok (.aload_n 1, 1) := dk_43 (dk_at dksX2_copy_1 13 rfl rfl)
theorem dX2_copy_36 : decode cX2_copy 36 = .ok (.getfield 12, 3) := dk_180 0 12 (dk_at dksX2_copy_1 14 rfl rfl)
theorem dX2_copy_39 : decode cX2_copy 39 = .ok (.aload_n 3, 1) := dk_45 (dk_at dksX2_copy_1 17 rfl rfl)
theorem dX2_copy_40 : decode cX2_copy 40 = .ok (.invokevirtual 49, 3) := dk_182 0 49 (dk_at dksX2_copy_1 18 rfl rfl)
theorem dX2_copy_43 : decode cX2_copy 43 = .ok (.pop, 1) := dk_87 (dk_at dksX2_copy_1 21 rfl rfl)
theorem dX2_copy_44 : decode cX2_copy 44 = .ok (.goto (-28), 3) := dk_167 255 228 (dk_at dksX2_copy_2 0 rfl rfl)
theorem dX2_copy_47 : decode cX2_copy 47 = .ok (.iconst 0, 1) := dk_3 (dk_at dksX2_copy_2 3 rfl rfl)
theorem dX2_copy_48 : decode cX2_copy 48 = .ok (.istore_n 2, 1) := dk_61 (dk_at dksX2_copy_2 4 rfl rfl)
theorem dX2_copy_49 : decode cX2_copy 49 = .ok (.iload_n 2, 1) := dk_28 (dk_at dksX2_copy_2 5 rfl rfl)
theorem dX2_copy_50 : decode cX2_copy 50 = .ok (.bipush 12, 2) := dk_16 12 (dk_at dksX2_copy_2 6 rfl rfl)
theorem dX2_copy_52 : decode cX2_copy 52 = .ok (.if_icmp .ge 33, 3) := dk_162 0 33 (dk_at dksX2_copy_2 8 rfl rfl)
theorem dX2_copy_55 : decode cX2_copy 55 = .ok (.aload_n 1, 1) := dk_43 (dk_at dksX2_copy_2 11 rfl rfl)
theorem dX2_copy_56 : decode cX2_copy 56 = .ok (.getfield 20, 3) := dk_180 0 20 (dk_at dksX2_copy_2 12 rfl rfl)
theorem dX2_copy_59 : decode cX2_copy 59 = .ok (.iload_n 2, 1) := dk_28 (dk_at dksX2_copy_2 15 rfl rfl)
theorem dX2_copy_60 : decode cX2_copy 60 = .ok (.aload_n 0, 1) := dk_42 (dk_at dksX2_copy_2 16 rfl rfl)
theorem dX2_copy_61 : decode cX2_copy 61 = .ok (.getfield 20, 3) := dk_180 0 20 (dk_at dksX2_copy_2 17 rfl rfl)
theorem dX2_copy_64 : decode cX2_copy 64 = .ok (.iload_n 2, 1) := dk_28 (dk_at dksX2_copy_2 20 rfl rfl)
theorem dX2_copy_65 : decode cX2_copy 65 = .ok (.aaload, 1) := dk_50 (dk_at dksX2_copy_2 21 rfl rfl)
theorem dX2_copy_66 : decode cX2_copy 66 = .ok (.aastore, 1) := dk_83 (dk_at dksX2_copy_2 22 rfl rfl)
theorem dX2_copy_67 : decode cX2_copy 67 = .ok (.aload_n 1, 1) := dk_43 (dk_at dksX2_copy_2 23 rfl rfl)
theorem dX2_copy_68 : decode cX2_copy 68 = .ok (.getfield 24, 3) := dk_180 0 24 (dk_at dksX2_copy_3 0 rfl rfl)
theorem dX2_copy_71 : decode cX2_copy 71 = .ok (.iload_n 2, 1) := dk_28 (dk_at dksX2_copy_3 3 rfl rfl)
theorem dX2_copy_72 : decode cX2_copy 72 = .ok (.aload_n 0, 1) := dk_42 (dk_at dksX2_copy_3 4 rfl rfl)
theorem dX2_copy_73 : decode cX2_copy 73 = .ok (.getfield 24, 3) := dk_180 0 24 (dk_at dksX2_copy_3 5 rfl rfl)
theorem dX2_copy_76 : decode cX2_copy 76 = .ok (.iload_n 2, 1) := dk_28 (dk_at dksX2_copy_3 8 rfl rfl)
theorem dX2_copy_77 : decode cX2_copy 77 = .ok (.baload, 1) := dk_51 (dk_at dksX2_copy_3 9 rfl rfl)
theorem dX2_copy_78 : decode cX2_copy 78 = .ok (.bastore, 1) := dk_84 (dk_at dksX2_copy_3 10 rfl rfl)
theorem dX2_copy_79 : decode cX2_copy 79 = .ok (.iinc 2 1, 3) := dk_132 2 1 (dk_at dksX2_copy_3 11 rfl rfl)
theorem dX2_copy_82 : decode cX2_copy 82 = .ok (.goto (-33), 3) := dk_167 255 223 (dk_at dksX2_copy_3 14 rfl rfl)
theorem dX2_copy_85 : decode cX2_copy 85 = .ok (.aload_n 1, 1) := dk_43 (dk_at dksX2_copy_3 17 rfl rfl)
theorem dX2_copy_86 : decode cX2_copy 86 = .ok (.aload_n 0, 1) := dk_42 (dk_at dksX2_copy_3 18 rfl rfl)
theorem dX2_copy_87 : decode cX2_copy 87 = .ok (.getfield 53, 3) := dk_180 0 53 (dk_at dksX2_copy_3 19 rfl rfl)
theorem dX2_copy_90 : decode cX2_copy 90 = .ok (.putfield 53, 3) := dk_181 0 53 (dk_at dksX2_copy_4 0 rfl rfl)
theorem dX2_copy_93 : decode cX2_copy 93 = .ok (.aload_n 1, 1) := dk_43 (dk_at dksX2_copy_4 3 rfl rfl)
theorem dX2_copy_94 : decode cX2_copy 94 = .ok (.areturn, 1) := dk_176 (dk_at dksX2_copy_4 4 rfl rfl)
abbrev cX2_prepare : ByteArray := prog_10_method_18_code
def yX2_prepare : MethodName := ⟨RX2, "prepare", "(CIII)LFortPlanner$Block;"⟩
def dkwX2_prepare_2 : List UInt8 := [184, 0, 149, 176]
abbrev dktX2_prepare_2 : List UInt8 := dkwX2_prepare_2 ++ []
def dkwX2_prepare_1 : List UInt8 := [184, 0, 80, 54, 5, 132, 6, 1, 167, 255, 232, 27, 42, 180, 0, 53, 28, 29, 21, 4, 21, 5]
abbrev dktX2_prepare_1 : List UInt8 := dkwX2_prepare_1 ++ dktX2_prepare_2
def dkwX2_prepare_0 : List UInt8 := [3, 54, 5, 28, 54, 6, 21, 6, 28, 29, 96, 162, 0, 22, 21, 5, 42, 21, 6, 182, 0, 145]
abbrev dktX2_prepare_0 : List UInt8 := dkwX2_prepare_0 ++ dktX2_prepare_1
theorem dksX2_prepare_0 : cX2_prepare.data.toList.drop 0 = dktX2_prepare_0 := by decide +kernel
theorem dksX2_prepare_1 : cX2_prepare.data.toList.drop 22 = dktX2_prepare_1 := dk_seg dksX2_prepare_0 22 rfl rfl
theorem dksX2_prepare_2 : cX2_prepare.data.toList.drop 44 = dktX2_prepare_2 := dk_seg dksX2_prepare_1 22 rfl rfl
theorem dX2_prepare_0 : decode cX2_prepare 0 = .ok (.iconst 0, 1) := dk_3 (dk_at dksX2_prepare_0 0 rfl rfl)
theorem dX2_prepare_1 : decode cX2_prepare 1 = .ok (.istore 5, 2) := dk_54 5 (dk_at dksX2_prepare_0 1 rfl rfl)
theorem dX2_prepare_3 : decode cX2_prepare 3 = .ok (.iload_n 2, 1) := dk_28 (dk_at dksX2_prepare_0 3 rfl rfl)
theorem dX2_prepare_4 : decode cX2_prepare 4 = .ok (.istore 6, 2) := dk_54 6 (dk_at dksX2_prepare_0 4 rfl rfl)
theorem dX2_prepare_6 : decode cX2_prepare 6 = .ok (.iload 6, 2) := dk_21 6 (dk_at dksX2_prepare_0 6 rfl rfl)
theorem dX2_prepare_8 : decode cX2_prepare 8 = .ok (.iload_n 2, 1) := dk_28 (dk_at dksX2_prepare_0 8 rfl rfl)
theorem dX2_prepare_9 : decode cX2_prepare 9 = .ok (.iload_n 3, 1) := dk_29 (dk_at dksX2_prepare_0 9 rfl rfl)
theorem dX2_prepare_10 : decode cX2_prepare 10 = .ok (.iadd, 1) := dk_96 (dk_at dksX2_prepare_0 10 rfl rfl)
theorem dX2_prepare_11 : decode cX2_prepare 11 = .ok (.if_icmp .ge 22, 3) := dk_162 0 22 (dk_at dksX2_prepare_0 11 rfl rfl)
theorem dX2_prepare_14 : decode cX2_prepare 14 = .ok (.iload 5, 2) := dk_21 5 (dk_at dksX2_prepare_0 14 rfl rfl)
theorem dX2_prepare_16 : decode cX2_prepare 16 = .ok (.aload_n 0, 1) := dk_42 (dk_at dksX2_prepare_0 16 rfl rfl)
theorem dX2_prepare_17 : decode cX2_prepare 17 = .ok (.iload 6, 2) := dk_21 6 (dk_at dksX2_prepare_0 17 rfl rfl)
theorem dX2_prepare_19 : decode cX2_prepare 19 = .ok (.invokevirtual 145, 3) := dk_182 0 145 (dk_at dksX2_prepare_0 19 rfl rfl)
theorem dX2_prepare_22 : decode cX2_prepare 22 = .ok (.invokestatic 80, 3) := dk_184 0 80 (dk_at dksX2_prepare_1 0 rfl rfl)
theorem dX2_prepare_25 : decode cX2_prepare 25 = .ok (.istore 5, 2) := dk_54 5 (dk_at dksX2_prepare_1 3 rfl rfl)
theorem dX2_prepare_27 : decode cX2_prepare 27 = .ok (.iinc 6 1, 3) := dk_132 6 1 (dk_at dksX2_prepare_1 5 rfl rfl)
theorem dX2_prepare_30 : decode cX2_prepare 30 = .ok (.goto (-24), 3) := dk_167 255 232 (dk_at dksX2_prepare_1 8 rfl rfl)
theorem dX2_prepare_33 : decode cX2_prepare 33 = .ok (.iload_n 1, 1) := dk_27 (dk_at dksX2_prepare_1 11 rfl rfl)
theorem dX2_prepare_34 : decode cX2_prepare 34 = .ok (.aload_n 0, 1) := dk_42 (dk_at dksX2_prepare_1 12 rfl rfl)
theorem dX2_prepare_35 : decode cX2_prepare 35 = .ok (.getfield 53, 3) := dk_180 0 53 (dk_at dksX2_prepare_1 13 rfl rfl)
theorem dX2_prepare_38 : decode cX2_prepare 38 = .ok (.iload_n 2, 1) := dk_28 (dk_at dksX2_prepare_1 16 rfl rfl)
theorem dX2_prepare_39 : decode cX2_prepare 39 = .ok (.iload_n 3, 1) := dk_29 (dk_at dksX2_prepare_1 17 rfl rfl)
theorem dX2_prepare_40 : decode cX2_prepare 40 = .ok (.iload 4, 2) := dk_21 4 (dk_at dksX2_prepare_1 18 rfl rfl)
theorem dX2_prepare_42 : decode cX2_prepare 42 = .ok (.iload 5, 2) := dk_21 5 (dk_at dksX2_prepare_1 20 rfl rfl)
theorem dX2_prepare_44 : decode cX2_prepare 44 = .ok (.invokestatic 149, 3) := dk_184 0 149 (dk_at dksX2_prepare_2 0 rfl rfl)
theorem dX2_prepare_47 : decode cX2_prepare 47 = .ok (.areturn, 1) := dk_176 (dk_at dksX2_prepare_2 3 rfl rfl)
abbrev cX2_canPlace : ByteArray := prog_10_method_20_code
def yX2_canPlace : MethodName := ⟨RX2, "canPlace", "(LFortPlanner$Block;)Z"⟩
def dkwX2_canPlace_2 : List UInt8 := [4, 167, 0, 4, 3, 61, 42, 180, 0, 12, 43, 182, 0, 165, 87, 28, 172]
abbrev dktX2_canPlace_2 : List UInt8 := dkwX2_canPlace_2 ++ []
def dkwX2_canPlace_1 : List UInt8 := [182, 0, 159, 154, 0, 5, 3, 172, 42, 180, 0, 12, 43, 182, 0, 49, 87, 42, 182, 0, 162, 154, 0, 7]
abbrev dktX2_canPlace_1 : List UInt8 := dkwX2_canPlace_1 ++ dktX2_canPlace_2
def dkwX2_canPlace_0 : List UInt8 := [42, 180, 0, 12, 182, 0, 89, 16, 24, 159, 0, 20, 43, 182, 0, 76, 16, 30, 163, 0, 11, 42, 43]
abbrev dktX2_canPlace_0 : List UInt8 := dkwX2_canPlace_0 ++ dktX2_canPlace_1
theorem dksX2_canPlace_0 : cX2_canPlace.data.toList.drop 0 = dktX2_canPlace_0 := by decide +kernel
theorem dksX2_canPlace_1 : cX2_canPlace.data.toList.drop 23 = dktX2_canPlace_1 := dk_seg dksX2_canPlace_0 23 rfl rfl
theorem dksX2_canPlace_2 : cX2_canPlace.data.toList.drop 47 = dktX2_canPlace_2 := dk_seg dksX2_canPlace_1 24 rfl rfl
theorem dX2_canPlace_0 : decode cX2_canPlace 0 = .ok (.aload_n 0, 1) := dk_42 (dk_at dksX2_canPlace_0 0 rfl rfl)
theorem dX2_canPlace_1 : decode cX2_canPlace 1 = .ok (.getfield 12, 3) := dk_180 0 12 (dk_at dksX2_canPlace_0 1 rfl rfl)
theorem dX2_canPlace_4 : decode cX2_canPlace 4 = .ok (.invokevirtual 89, 3) := dk_182 0 89 (dk_at dksX2_canPlace_0 4 rfl rfl)
theorem dX2_canPlace_7 : decode cX2_canPlace 7 = .ok (.bipush 24, 2) := dk_16 24 (dk_at dksX2_canPlace_0 7 rfl rfl)
theorem dX2_canPlace_9 : decode cX2_canPlace 9 = .ok (.if_icmp .eq 20, 3) := dk_159 0 20 (dk_at dksX2_canPlace_0 9 rfl rfl)
theorem dX2_canPlace_12 : decode cX2_canPlace 12 = .ok (.aload_n 1, 1) := dk_43 (dk_at dksX2_canPlace_0 12 rfl rfl)
theorem dX2_canPlace_13 : decode cX2_canPlace 13 = .ok (.invokevirtual 76, 3) := dk_182 0 76 (dk_at dksX2_canPlace_0 13 rfl rfl)
theorem dX2_canPlace_16 : decode cX2_canPlace 16 = .ok (.bipush 30, 2) := dk_16 30 (dk_at dksX2_canPlace_0 16 rfl rfl)
theorem dX2_canPlace_18 : decode cX2_canPlace 18 = .ok (.if_icmp .gt 11, 3) := dk_163 0 11 (dk_at dksX2_canPlace_0 18 rfl rfl)
theorem dX2_canPlace_21 : decode cX2_canPlace 21 = .ok (.aload_n 0, 1) := dk_42 (dk_at dksX2_canPlace_0 21 rfl rfl)
theorem dX2_canPlace_22 : decode cX2_canPlace 22 = .ok (.aload_n 1, 1) := dk_43 (dk_at dksX2_canPlace_0 22 rfl rfl)
theorem dX2_canPlace_23 : decode cX2_canPlace 23 = .ok (.invokevirtual 159, 3) := dk_182 0 159 (dk_at dksX2_canPlace_1 0 rfl rfl)
theorem dX2_canPlace_26 : decode cX2_canPlace 26 = .ok (.ifCond .ne 5, 3) := dk_154 0 5 (dk_at dksX2_canPlace_1 3 rfl rfl)
theorem dX2_canPlace_29 : decode cX2_canPlace 29 = .ok (.iconst 0, 1) := dk_3 (dk_at dksX2_canPlace_1 6 rfl rfl)
theorem dX2_canPlace_30 : decode cX2_canPlace 30 = .ok (.ireturn, 1) := dk_172 (dk_at dksX2_canPlace_1 7 rfl rfl)
theorem dX2_canPlace_31 : decode cX2_canPlace 31 = .ok (.aload_n 0, 1) := dk_42 (dk_at dksX2_canPlace_1 8 rfl rfl)
theorem dX2_canPlace_32 : decode cX2_canPlace 32 = .ok (.getfield 12, 3) := dk_180 0 12 (dk_at dksX2_canPlace_1 9 rfl rfl)
theorem dX2_canPlace_35 : decode cX2_canPlace 35 = .ok (.aload_n 1, 1) := dk_43 (dk_at dksX2_canPlace_1 12 rfl rfl)
theorem dX2_canPlace_36 : decode cX2_canPlace 36 = .ok (.invokevirtual 49, 3) := dk_182 0 49 (dk_at dksX2_canPlace_1 13 rfl rfl)
theorem dX2_canPlace_39 : decode cX2_canPlace 39 = .ok (.pop, 1) := dk_87 (dk_at dksX2_canPlace_1 16 rfl rfl)
theorem dX2_canPlace_40 : decode cX2_canPlace 40 = .ok (.aload_n 0, 1) := dk_42 (dk_at dksX2_canPlace_1 17 rfl rfl)
theorem dX2_canPlace_41 : decode cX2_canPlace 41 = .ok (.invokevirtual 162, 3) := dk_182 0 162 (dk_at dksX2_canPlace_1 18 rfl rfl)
theorem dX2_canPlace_44 : decode cX2_canPlace 44 = .ok (.ifCond .ne 7, 3) := dk_154 0 7 (dk_at dksX2_canPlace_1 21 rfl rfl)
theorem dX2_canPlace_47 : decode cX2_canPlace 47 = .ok (.iconst 1, 1) := dk_4 (dk_at dksX2_canPlace_2 0 rfl rfl)
theorem dX2_canPlace_48 : decode cX2_canPlace 48 = .ok (.goto 4, 3) := dk_167 0 4 (dk_at dksX2_canPlace_2 1 rfl rfl)
theorem dX2_canPlace_51 : decode cX2_canPlace 51 = .ok (.iconst 0, 1) := dk_3 (dk_at dksX2_canPlace_2 4 rfl rfl)
theorem dX2_canPlace_52 : decode cX2_canPlace 52 = .ok (.istore_n 2, 1) := dk_61 (dk_at dksX2_canPlace_2 5 rfl rfl)
theorem dX2_canPlace_53 : decode cX2_canPlace 53 = .ok (.aload_n 0, 1) := dk_42 (dk_at dksX2_canPlace_2 6 rfl rfl)
theorem dX2_canPlace_54 : decode cX2_canPlace 54 = .ok (.getfield 12, 3) := dk_180 0 12 (dk_at dksX2_canPlace_2 7 rfl rfl)
theorem dX2_canPlace_57 : decode cX2_canPlace 57 = .ok (.aload_n 1, 1) := dk_43 (dk_at dksX2_canPlace_2 10 rfl rfl)
theorem dX2_canPlace_58 : decode cX2_canPlace 58 = .ok (.invokevirtual 165, 3) := dk_182 0 165 (dk_at dksX2_canPlace_2 11 rfl rfl)
theorem dX2_canPlace_61 : decode cX2_canPlace 61 = .ok (.pop, 1) := dk_87 (dk_at dksX2_canPlace_2 14 rfl rfl)
theorem dX2_canPlace_62 : decode cX2_canPlace 62 = .ok (.iload_n 2, 1) := dk_28 (dk_at dksX2_canPlace_2 15 rfl rfl)
theorem dX2_canPlace_63 : decode cX2_canPlace 63 = .ok (.ireturn, 1) := dk_172 (dk_at dksX2_canPlace_2 16 rfl rfl)
abbrev cX2_isInAllowedZones : ByteArray := prog_10_method_19_code
def yX2_isInAllowedZones : MethodName := ⟨RX2, "isInAllowedZones", "(LFortPlanner$Block;)Z"⟩
def dkwX2_isInAllowedZones_1 : List UInt8 := [154, 0, 5, 3, 172, 132, 2, 1, 167, 255, 230, 4, 172]
abbrev dktX2_isInAllowedZones_1 : List UInt8 := dkwX2_isInAllowedZones_1 ++ []
def dkwX2_isInAllowedZones_0 : List UInt8 := [43, 180, 0, 92, 61, 28, 43, 182, 0, 153, 163, 0, 24, 42, 180, 0, 20, 28, 50, 43, 182, 0, 156]
abbrev dktX2_isInAllowedZones_0 : List UInt8 := dkwX2_isInAllowedZones_0 ++ dktX2_isInAllowedZones_1
theorem dksX2_isInAllowedZones_0 : cX2_isInAllowedZones.data.toList.drop 0 = dktX2_isInAllowedZones_0 := by decide +kernel
theorem dksX2_isInAllowedZones_1 : cX2_isInAllowedZones.data.toList.drop 23 = dktX2_isInAllowedZones_1 := dk_seg dksX2_isInAllowedZones_0 23 rfl rfl
theorem dX2_isInAllowedZones_0 : decode cX2_isInAllowedZones 0 = .ok (.aload_n 1, 1) := dk_43 (dk_at dksX2_isInAllowedZones_0 0 rfl rfl)
theorem dX2_isInAllowedZones_1 : decode cX2_isInAllowedZones 1 = .ok (.getfield 92, 3) := dk_180 0 92 (dk_at dksX2_isInAllowedZones_0 1 rfl rfl)
theorem dX2_isInAllowedZones_4 : decode cX2_isInAllowedZones 4 = .ok (.istore_n 2, 1) := dk_61 (dk_at dksX2_isInAllowedZones_0 4 rfl rfl)
theorem dX2_isInAllowedZones_5 : decode cX2_isInAllowedZones 5 = .ok (.iload_n 2, 1) := dk_28 (dk_at dksX2_isInAllowedZones_0 5 rfl rfl)
theorem dX2_isInAllowedZones_6 : decode cX2_isInAllowedZones 6 = .ok (.aload_n 1, 1) := dk_43 (dk_at dksX2_isInAllowedZones_0 6 rfl rfl)
theorem dX2_isInAllowedZones_7 : decode cX2_isInAllowedZones 7 = .ok (.invokevirtual 153, 3) := dk_182 0 153 (dk_at dksX2_isInAllowedZones_0 7 rfl rfl)
theorem dX2_isInAllowedZones_10 : decode cX2_isInAllowedZones 10 = .ok (.if_icmp .gt 24, 3) := dk_163 0 24 (dk_at dksX2_isInAllowedZones_0 10 rfl rfl)
theorem dX2_isInAllowedZones_13 : decode cX2_isInAllowedZones 13 = .ok (.aload_n 0, 1) := dk_42 (dk_at dksX2_isInAllowedZones_0 13 rfl rfl)
theorem dX2_isInAllowedZones_14 : decode cX2_isInAllowedZones 14 = .ok (.getfield 20, 3) := dk_180 0 20 (dk_at dksX2_isInAllowedZones_0 14 rfl rfl)
theorem dX2_isInAllowedZones_17 : decode cX2_isInAllowedZones 17 = .ok (.iload_n 2, 1) := dk_28 (dk_at dksX2_isInAllowedZones_0 17 rfl rfl)
theorem dX2_isInAllowedZones_18 : decode cX2_isInAllowedZones 18 = .ok (.aaload, 1) := dk_50 (dk_at dksX2_isInAllowedZones_0 18 rfl rfl)
theorem dX2_isInAllowedZones_19 : decode cX2_isInAllowedZones 19 = .ok (.aload_n 1, 1) := dk_43 (dk_at dksX2_isInAllowedZones_0 19 rfl rfl)
theorem dX2_isInAllowedZones_20 : decode cX2_isInAllowedZones 20 = .ok (.invokevirtual 156, 3) := dk_182 0 156 (dk_at dksX2_isInAllowedZones_0 20 rfl rfl)
theorem dX2_isInAllowedZones_23 : decode cX2_isInAllowedZones 23 = .ok (.ifCond .ne 5, 3) := dk_154 0 5 (dk_at dksX2_isInAllowedZones_1 0 rfl rfl)
theorem dX2_isInAllowedZones_26 : decode cX2_isInAllowedZones 26 = .ok (.iconst 0, 1) := dk_3 (dk_at dksX2_isInAllowedZones_1 3 rfl rfl)
theorem dX2_isInAllowedZones_27 : decode cX2_isInAllowedZones 27 = .ok (.ireturn, 1) := dk_172 (dk_at dksX2_isInAllowedZones_1 4 rfl rfl)
theorem dX2_isInAllowedZones_28 : decode cX2_isInAllowedZones 28 = .ok (.iinc 2 1, 3) := dk_132 2 1 (dk_at dksX2_isInAllowedZones_1 5 rfl rfl)
theorem dX2_isInAllowedZones_31 : decode cX2_isInAllowedZones 31 = .ok (.goto (-26), 3) := dk_167 255 230 (dk_at dksX2_isInAllowedZones_1 8 rfl rfl)
theorem dX2_isInAllowedZones_34 : decode cX2_isInAllowedZones 34 = .ok (.iconst 1, 1) := dk_4 (dk_at dksX2_isInAllowedZones_1 11 rfl rfl)
theorem dX2_isInAllowedZones_35 : decode cX2_isInAllowedZones 35 = .ok (.ireturn, 1) := dk_172 (dk_at dksX2_isInAllowedZones_1 12 rfl rfl)
abbrev cX2_place : ByteArray := prog_10_method_21_code
def yX2_place : MethodName := ⟨RX2, "place", "(LFortPlanner$Block;)V"⟩
def dkwX2_place_0 : List UInt8 := [42, 180, 0, 12, 43, 182, 0, 49, 87, 42, 89, 180, 0, 53, 4, 96, 181, 0, 53, 177]
abbrev dktX2_place_0 : List UInt8 := dkwX2_place_0 ++ []
theorem dksX2_place_0 : cX2_place.data.toList.drop 0 = dktX2_place_0 := by decide +kernel
theorem dX2_place_0 : decode cX2_place 0 = .ok (.aload_n 0, 1) := dk_42 (dk_at dksX2_place_0 0 rfl rfl)
theorem dX2_place_1 : decode cX2_place 1 = .ok (.getfield 12, 3) := dk_180 0 12 (dk_at dksX2_place_0 1 rfl rfl)
theorem dX2_place_4 : decode cX2_place 4 = .ok (.aload_n 1, 1) := dk_43 (dk_at dksX2_place_0 4 rfl rfl)
theorem dX2_place_5 : decode cX2_place 5 = .ok (.invokevirtual 49, 3) := dk_182 0 49 (dk_at dksX2_place_0 5 rfl rfl)
theorem dX2_place_8 : decode cX2_place 8 = .ok (.pop, 1) := dk_87 (dk_at dksX2_place_0 8 rfl rfl)
theorem dX2_place_9 : decode cX2_place 9 = .ok (.aload_n 0, 1) := dk_42 (dk_at dksX2_place_0 9 rfl rfl)
theorem dX2_place_10 : decode cX2_place 10 = .ok (.dup, 1) := dk_89 (dk_at dksX2_place_0 10 rfl rfl)
theorem dX2_place_11 : decode cX2_place 11 = .ok (.getfield 53, 3) := dk_180 0 53 (dk_at dksX2_place_0 11 rfl rfl)
theorem dX2_place_14 : decode cX2_place 14 = .ok (.iconst 1, 1) := dk_4 (dk_at dksX2_place_0 14 rfl rfl)
theorem dX2_place_15 : decode cX2_place 15 = .ok (.iadd, 1) := dk_96 (dk_at dksX2_place_0 15 rfl rfl)
theorem dX2_place_16 : decode cX2_place 16 = .ok (.putfield 53, 3) := dk_181 0 53 (dk_at dksX2_place_0 16 rfl rfl)
theorem dX2_place_19 : decode cX2_place 19 = .ok (.return_, 1) := dk_177 (dk_at dksX2_place_0 19 rfl rfl)
abbrev cX2_isSupporting : ByteArray := prog_10_method_9_code
def yX2_isSupporting : MethodName := ⟨RX2, "isSupporting", "(LFortPlanner$Block;)Z"⟩
def dkwX2_isSupporting_0 : List UInt8 := [42, 43, 186, 0, 102, 0, 0, 182, 0, 105, 158, 0, 7, 4, 167, 0, 4, 3, 172]
abbrev dktX2_isSupporting_0 : List UInt8 := dkwX2_isSupporting_0 ++ []
theorem dksX2_isSupporting_0 : cX2_isSupporting.data.toList.drop 0 = dktX2_isSupporting_0 := by decide +kernel
theorem dX2_isSupporting_0 : decode cX2_isSupporting 0 = .ok (.aload_n 0, 1) := dk_42 (dk_at dksX2_isSupporting_0 0 rfl rfl)
theorem dX2_isSupporting_1 : decode cX2_isSupporting 1 = .ok (.aload_n 1, 1) := dk_43 (dk_at dksX2_isSupporting_0 1 rfl rfl)
theorem dX2_isSupporting_2 : decode cX2_isSupporting 2 = .ok (.invokedynamic 102, 5) := by decide +kernel
theorem dX2_isSupporting_7 : decode cX2_isSupporting 7 = .ok (.invokevirtual 105, 3) := dk_182 0 105 (dk_at dksX2_isSupporting_0 7 rfl rfl)
theorem dX2_isSupporting_10 : decode cX2_isSupporting 10 = .ok (.ifCond .le 7, 3) := dk_158 0 7 (dk_at dksX2_isSupporting_0 10 rfl rfl)
theorem dX2_isSupporting_13 : decode cX2_isSupporting 13 = .ok (.iconst 1, 1) := dk_4 (dk_at dksX2_isSupporting_0 13 rfl rfl)
theorem dX2_isSupporting_14 : decode cX2_isSupporting 14 = .ok (.goto 4, 3) := dk_167 0 4 (dk_at dksX2_isSupporting_0 14 rfl rfl)
theorem dX2_isSupporting_17 : decode cX2_isSupporting 17 = .ok (.iconst 0, 1) := dk_3 (dk_at dksX2_isSupporting_0 17 rfl rfl)
theorem dX2_isSupporting_18 : decode cX2_isSupporting 18 = .ok (.ireturn, 1) := dk_172 (dk_at dksX2_isSupporting_0 18 rfl rfl)
abbrev cX2_lambda_isSupporting_0 : ByteArray := prog_10_method_31_code
def yX2_lambda_isSupporting_0 : MethodName := ⟨RX2, "lambda$isSupporting$0", "(LFortPlanner$Block;LFortPlanner$Block;)Z"⟩
def dkwX2_lambda_isSupporting_0_0 : List UInt8 := [42, 43, 182, 0, 86, 172]
abbrev dktX2_lambda_isSupporting_0_0 : List UInt8 := dkwX2_lambda_isSupporting_0_0 ++ []
theorem dksX2_lambda_isSupporting_0_0 : cX2_lambda_isSupporting_0.data.toList.drop 0 = dktX2_lambda_isSupporting_0_0 := by decide +kernel
theorem dX2_lambda_isSupporting_0_0 : decode cX2_lambda_isSupporting_0 0 = .ok (.aload_n 0, 1) := dk_42 (dk_at dksX2_lambda_isSupporting_0_0 0 rfl rfl)
theorem dX2_lambda_isSupporting_0_1 : decode cX2_lambda_isSupporting_0 1 = .ok (.aload_n 1, 1) := dk_43 (dk_at dksX2_lambda_isSupporting_0_0 1 rfl rfl)
theorem dX2_lambda_isSupporting_0_2 : decode cX2_lambda_isSupporting_0 2 = .ok (.invokevirtual 86, 3) := dk_182 0 86 (dk_at dksX2_lambda_isSupporting_0_0 2 rfl rfl)
theorem dX2_lambda_isSupporting_0_5 : decode cX2_lambda_isSupporting_0 5 = .ok (.ireturn, 1) := dk_172 (dk_at dksX2_lambda_isSupporting_0_0 5 rfl rfl)
abbrev cX2_torches : ByteArray := prog_10_method_7_code
def yX2_torches : MethodName := ⟨RX2, "torches", "()I"⟩
def dkwX2_torches_1 : List UInt8 := [54, 5, 27, 21, 5, 153, 0, 7, 4, 167, 0, 4, 3, 96, 60, 132, 4, 1, 167, 255, 228, 27, 172]
abbrev dktX2_torches_1 : List UInt8 := dkwX2_torches_1 ++ []
def dkwX2_torches_0 : List UInt8 := [3, 60, 42, 180, 0, 24, 77, 44, 190, 62, 3, 54, 4, 21, 4, 29, 162, 0, 28, 44, 21, 4, 51]
abbrev dktX2_torches_0 : List UInt8 := dkwX2_torches_0 ++ dktX2_torches_1
theorem dksX2_torches_0 : cX2_torches.data.toList.drop 0 = dktX2_torches_0 := by decide +kernel
theorem dksX2_torches_1 : cX2_torches.data.toList.drop 23 = dktX2_torches_1 := dk_seg dksX2_torches_0 23 rfl rfl
theorem dX2_torches_0 : decode cX2_torches 0 = .ok (.iconst 0, 1) := dk_3 (dk_at dksX2_torches_0 0 rfl rfl)
theorem dX2_torches_1 : decode cX2_torches 1 = .ok (.istore_n 1, 1) := dk_60 (dk_at dksX2_torches_0 1 rfl rfl)
theorem dX2_torches_2 : decode cX2_torches 2 = .ok (.aload_n 0, 1) := dk_42 (dk_at dksX2_torches_0 2 rfl rfl)
theorem dX2_torches_3 : decode cX2_torches 3 = .ok (.getfield 24, 3) := dk_180 0 24 (dk_at dksX2_torches_0 3 rfl rfl)
theorem dX2_torches_6 : decode cX2_torches 6 = .ok (.astore_n 2, 1) := dk_77 (dk_at dksX2_torches_0 6 rfl rfl)
theorem dX2_torches_7 : decode cX2_torches 7 = .ok (.aload_n 2, 1) := dk_44 (dk_at dksX2_torches_0 7 rfl rfl)
theorem dX2_torches_8 : decode cX2_torches 8 = .ok (.arraylength, 1) := dk_190 (dk_at dksX2_torches_0 8 rfl rfl)
theorem dX2_torches_9 : decode cX2_torches 9 = .ok (.istore_n 3, 1) := dk_62 (dk_at dksX2_torches_0 9 rfl rfl)
theorem dX2_torches_10 : decode cX2_torches 10 = .ok (.iconst 0, 1) := dk_3 (dk_at dksX2_torches_0 10 rfl rfl)
theorem dX2_torches_11 : decode cX2_torches 11 = .ok (.istore 4, 2) := dk_54 4 (dk_at dksX2_torches_0 11 rfl rfl)
theorem dX2_torches_13 : decode cX2_torches 13 = .ok (.iload 4, 2) := dk_21 4 (dk_at dksX2_torches_0 13 rfl rfl)
theorem dX2_torches_15 : decode cX2_torches 15 = .ok (.iload_n 3, 1) := dk_29 (dk_at dksX2_torches_0 15 rfl rfl)
theorem dX2_torches_16 : decode cX2_torches 16 = .ok (.if_icmp .ge 28, 3) := dk_162 0 28 (dk_at dksX2_torches_0 16 rfl rfl)
theorem dX2_torches_19 : decode cX2_torches 19 = .ok (.aload_n 2, 1) := dk_44 (dk_at dksX2_torches_0 19 rfl rfl)
theorem dX2_torches_20 : decode cX2_torches 20 = .ok (.iload 4, 2) := dk_21 4 (dk_at dksX2_torches_0 20 rfl rfl)
theorem dX2_torches_22 : decode cX2_torches 22 = .ok (.baload, 1) := dk_51 (dk_at dksX2_torches_0 22 rfl rfl)
theorem dX2_torches_23 : decode cX2_torches 23 = .ok (.istore 5, 2) := dk_54 5 (dk_at dksX2_torches_1 0 rfl rfl)
theorem dX2_torches_25 : decode cX2_torches 25 = .ok (.iload_n 1, 1) := dk_27 (dk_at dksX2_torches_1 2 rfl rfl)
theorem dX2_torches_26 : decode cX2_torches 26 = .ok (.iload 5, 2) := dk_21 5 (dk_at dksX2_torches_1 3 rfl rfl)
theorem dX2_torches_28 : decode cX2_torches 28 = .ok (.ifCond .eq 7, 3) := dk_153 0 7 (dk_at dksX2_torches_1 5 rfl rfl)
theorem dX2_torches_31 : decode cX2_torches 31 = .ok (.iconst 1, 1) := dk_4 (dk_at dksX2_torches_1 8 rfl rfl)
theorem dX2_torches_32 : decode cX2_torches 32 = .ok (.goto 4, 3) := dk_167 0 4 (dk_at dksX2_torches_1 9 rfl rfl)
theorem dX2_torches_35 : decode cX2_torches 35 = .ok (.iconst 0, 1) := dk_3 (dk_at dksX2_torches_1 12 rfl rfl)
theorem dX2_torches_36 : decode cX2_torches 36 = .ok (.iadd, 1) := dk_96 (dk_at dksX2_torches_1 13 rfl rfl)
theorem dX2_torches_37 : decode cX2_torches 37 = .ok (.istore_n 1, 1) := dk_60 (dk_at dksX2_torches_1 14 rfl rfl)
theorem dX2_torches_38 : decode cX2_torches 38 = .ok (.iinc 4 1, 3) := dk_132 4 1 (dk_at dksX2_torches_1 15 rfl rfl)
theorem dX2_torches_41 : decode cX2_torches 41 = .ok (.goto (-28), 3) := dk_167 255 228 (dk_at dksX2_torches_1 18 rfl rfl)
theorem dX2_torches_44 : decode cX2_torches 44 = .ok (.iload_n 1, 1) := dk_27 (dk_at dksX2_torches_1 21 rfl rfl)
theorem dX2_torches_45 : decode cX2_torches 45 = .ok (.ireturn, 1) := dk_172 (dk_at dksX2_torches_1 22 rfl rfl)
abbrev cX2_load : ByteArray := prog_10_method_13_code
def yX2_load : MethodName := ⟨RX2, "load", "(LFortPlanner$Block;)I"⟩
def dkwX2_load_0 : List UInt8 := [42, 182, 0, 131, 42, 180, 0, 12, 43, 182, 0, 120, 46, 172]
abbrev dktX2_load_0 : List UInt8 := dkwX2_load_0 ++ []
theorem dksX2_load_0 : cX2_load.data.toList.drop 0 = dktX2_load_0 := by decide +kernel
theorem dX2_load_0 : decode cX2_load 0 = .ok (.aload_n 0, 1) := dk_42 (dk_at dksX2_load_0 0 rfl rfl)
theorem dX2_load_1 : decode cX2_load 1 = .ok (.invokevirtual 131, 3) := dk_182 0 131 (dk_at dksX2_load_0 1 rfl rfl)
theorem dX2_load_4 : decode cX2_load 4 = .ok (.aload_n 0, 1) := dk_42 (dk_at dksX2_load_0 4 rfl rfl)
theorem dX2_load_5 : decode cX2_load 5 = .ok (.getfield 12, 3) := dk_180 0 12 (dk_at dksX2_load_0 5 rfl rfl)
theorem dX2_load_8 : decode cX2_load 8 = .ok (.aload_n 1, 1) := dk_43 (dk_at dksX2_load_0 8 rfl rfl)
theorem dX2_load_9 : decode cX2_load 9 = .ok (.invokevirtual 120, 3) := dk_182 0 120 (dk_at dksX2_load_0 9 rfl rfl)
theorem dX2_load_12 : decode cX2_load 12 = .ok (.iaload, 1) := dk_46 (dk_at dksX2_load_0 12 rfl rfl)
theorem dX2_load_13 : decode cX2_load 13 = .ok (.ireturn, 1) := dk_172 (dk_at dksX2_load_0 13 rfl rfl)
abbrev cX2_loadByRecursion : ByteArray := prog_10_method_16_code
def yX2_loadByRecursion : MethodName := ⟨RX2, "loadByRecursion", "(LFortPlanner$Block;)I"⟩
def dkwX2_loadByRecursion_0 : List UInt8 := [42, 42, 180, 0, 12, 43, 182, 0, 120, 42, 182, 0, 139, 182, 0, 135, 172]
abbrev dktX2_loadByRecursion_0 : List UInt8 := dkwX2_loadByRecursion_0 ++ []
theorem dksX2_loadByRecursion_0 : cX2_loadByRecursion.data.toList.drop 0 = dktX2_loadByRecursion_0 := by decide +kernel
theorem dX2_loadByRecursion_0 : decode cX2_loadByRecursion 0 = .ok (.aload_n 0, 1) := dk_42 (dk_at dksX2_loadByRecursion_0 0 rfl rfl)
theorem dX2_loadByRecursion_1 : decode cX2_loadByRecursion 1 = .ok (.aload_n 0, 1) := dk_42 (dk_at dksX2_loadByRecursion_0 1 rfl rfl)
theorem dX2_loadByRecursion_2 : decode cX2_loadByRecursion 2 = .ok (.getfield 12, 3) := dk_180 0 12 (dk_at dksX2_loadByRecursion_0 2 rfl rfl)
theorem dX2_loadByRecursion_5 : decode cX2_loadByRecursion 5 = .ok (.aload_n 1, 1) := dk_43 (dk_at dksX2_loadByRecursion_0 5 rfl rfl)
theorem dX2_loadByRecursion_6 : decode cX2_loadByRecursion 6 = .ok (.invokevirtual 120, 3) := dk_182 0 120 (dk_at dksX2_loadByRecursion_0 6 rfl rfl)
theorem dX2_loadByRecursion_9 : decode cX2_loadByRecursion 9 = .ok (.aload_n 0, 1) := dk_42 (dk_at dksX2_loadByRecursion_0 9 rfl rfl)
theorem dX2_loadByRecursion_10 : decode cX2_loadByRecursion 10 = .ok (.invokevirtual 139, 3) := dk_182 0 139 (dk_at dksX2_loadByRecursion_0 10 rfl rfl)
theorem dX2_loadByRecursion_13 : decode cX2_loadByRecursion 13 = .ok (.invokevirtual 135, 3) := dk_182 0 135 (dk_at dksX2_loadByRecursion_0 13 rfl rfl)
theorem dX2_loadByRecursion_16 : decode cX2_loadByRecursion 16 = .ok (.ireturn, 1) := dk_172 (dk_at dksX2_loadByRecursion_0 16 rfl rfl)
abbrev cX2_level : ByteArray := prog_10_method_23_code
def yX2_level : MethodName := ⟨RX2, "level", "(LFortPlanner$Block;)I"⟩
def dkwX2_level_0 : List UInt8 := [42, 42, 180, 0, 12, 43, 182, 0, 120, 42, 182, 0, 139, 182, 0, 168, 172]
abbrev dktX2_level_0 : List UInt8 := dkwX2_level_0 ++ []
theorem dksX2_level_0 : cX2_level.data.toList.drop 0 = dktX2_level_0 := by decide +kernel
theorem dX2_level_0 : decode cX2_level 0 = .ok (.aload_n 0, 1) := dk_42 (dk_at dksX2_level_0 0 rfl rfl)
theorem dX2_level_1 : decode cX2_level 1 = .ok (.aload_n 0, 1) := dk_42 (dk_at dksX2_level_0 1 rfl rfl)
theorem dX2_level_2 : decode cX2_level 2 = .ok (.getfield 12, 3) := dk_180 0 12 (dk_at dksX2_level_0 2 rfl rfl)
theorem dX2_level_5 : decode cX2_level 5 = .ok (.aload_n 1, 1) := dk_43 (dk_at dksX2_level_0 5 rfl rfl)
theorem dX2_level_6 : decode cX2_level 6 = .ok (.invokevirtual 120, 3) := dk_182 0 120 (dk_at dksX2_level_0 6 rfl rfl)
theorem dX2_level_9 : decode cX2_level 9 = .ok (.aload_n 0, 1) := dk_42 (dk_at dksX2_level_0 9 rfl rfl)
theorem dX2_level_10 : decode cX2_level 10 = .ok (.invokevirtual 139, 3) := dk_182 0 139 (dk_at dksX2_level_0 10 rfl rfl)
theorem dX2_level_13 : decode cX2_level 13 = .ok (.invokevirtual 168, 3) := dk_182 0 168 (dk_at dksX2_level_0 13 rfl rfl)
theorem dX2_level_16 : decode cX2_level 16 = .ok (.ireturn, 1) := dk_172 (dk_at dksX2_level_0 16 rfl rfl)
abbrev cX2_isAbove : ByteArray := prog_10_method_25_code
def yX2_isAbove : MethodName := ⟨RX2, "isAbove", "(LFortPlanner$Block;LFortPlanner$Block;)Z"⟩
def dkwX2_isAbove_1 : List UInt8 := [42, 180, 0, 12, 44, 182, 0, 120, 51, 172]
abbrev dktX2_isAbove_1 : List UInt8 := dkwX2_isAbove_1 ++ []
def dkwX2_isAbove_0 : List UInt8 := [42, 180, 0, 12, 182, 0, 89, 188, 4, 78, 42, 42, 180, 0, 12, 43, 182, 0, 120, 45, 182, 0, 171, 45]
abbrev dktX2_isAbove_0 : List UInt8 := dkwX2_isAbove_0 ++ dktX2_isAbove_1
theorem dksX2_isAbove_0 : cX2_isAbove.data.toList.drop 0 = dktX2_isAbove_0 := by decide +kernel
theorem dksX2_isAbove_1 : cX2_isAbove.data.toList.drop 24 = dktX2_isAbove_1 := dk_seg dksX2_isAbove_0 24 rfl rfl
theorem dX2_isAbove_0 : decode cX2_isAbove 0 = .ok (.aload_n 0, 1) := dk_42 (dk_at dksX2_isAbove_0 0 rfl rfl)
theorem dX2_isAbove_1 : decode cX2_isAbove 1 = .ok (.getfield 12, 3) := dk_180 0 12 (dk_at dksX2_isAbove_0 1 rfl rfl)
theorem dX2_isAbove_4 : decode cX2_isAbove 4 = .ok (.invokevirtual 89, 3) := dk_182 0 89 (dk_at dksX2_isAbove_0 4 rfl rfl)
theorem dX2_isAbove_7 : decode cX2_isAbove 7 = .ok (.newarray .boolean, 2) := dk_188_4 (dk_at dksX2_isAbove_0 7 rfl rfl)
theorem dX2_isAbove_9 : decode cX2_isAbove 9 = .ok (.astore_n 3, 1) := dk_78 (dk_at dksX2_isAbove_0 9 rfl rfl)
theorem dX2_isAbove_10 : decode cX2_isAbove 10 = .ok (.aload_n 0, 1) := dk_42 (dk_at dksX2_isAbove_0 10 rfl rfl)
theorem dX2_isAbove_11 : decode cX2_isAbove 11 = .ok (.aload_n 0, 1) := dk_42 (dk_at dksX2_isAbove_0 11 rfl rfl)
theorem dX2_isAbove_12 : decode cX2_isAbove 12 = .ok (.getfield 12, 3) := dk_180 0 12 (dk_at dksX2_isAbove_0 12 rfl rfl)
theorem dX2_isAbove_15 : decode cX2_isAbove 15 = .ok (.aload_n 1, 1) := dk_43 (dk_at dksX2_isAbove_0 15 rfl rfl)
theorem dX2_isAbove_16 : decode cX2_isAbove 16 = .ok (.invokevirtual 120, 3) := dk_182 0 120 (dk_at dksX2_isAbove_0 16 rfl rfl)
theorem dX2_isAbove_19 : decode cX2_isAbove 19 = .ok (.aload_n 3, 1) := dk_45 (dk_at dksX2_isAbove_0 19 rfl rfl)
theorem dX2_isAbove_20 : decode cX2_isAbove 20 = .ok (.invokevirtual 171, 3) := dk_182 0 171 (dk_at dksX2_isAbove_0 20 rfl rfl)
theorem dX2_isAbove_23 : decode cX2_isAbove 23 = .ok (.aload_n 3, 1) := dk_45 (dk_at dksX2_isAbove_0 23 rfl rfl)
theorem dX2_isAbove_24 : decode cX2_isAbove 24 = .ok (.aload_n 0, 1) := dk_42 (dk_at dksX2_isAbove_1 0 rfl rfl)
theorem dX2_isAbove_25 : decode cX2_isAbove 25 = .ok (.getfield 12, 3) := dk_180 0 12 (dk_at dksX2_isAbove_1 1 rfl rfl)
theorem dX2_isAbove_28 : decode cX2_isAbove 28 = .ok (.aload_n 2, 1) := dk_44 (dk_at dksX2_isAbove_1 4 rfl rfl)
theorem dX2_isAbove_29 : decode cX2_isAbove 29 = .ok (.invokevirtual 120, 3) := dk_182 0 120 (dk_at dksX2_isAbove_1 5 rfl rfl)
theorem dX2_isAbove_32 : decode cX2_isAbove 32 = .ok (.baload, 1) := dk_51 (dk_at dksX2_isAbove_1 8 rfl rfl)
theorem dX2_isAbove_33 : decode cX2_isAbove 33 = .ok (.ireturn, 1) := dk_172 (dk_at dksX2_isAbove_1 9 rfl rfl)
abbrev cX2_markBelow : ByteArray := prog_10_method_24_code
def yX2_markBelow : MethodName := ⟨RX2, "markBelow", "(I[Z)V"⟩
def dkwX2_markBelow_2 : List UInt8 := [42, 29, 44, 182, 0, 171, 132, 3, 1, 167, 255, 203, 177]
abbrev dktX2_markBelow_2 : List UInt8 := dkwX2_markBelow_2 ++ []
def dkwX2_markBelow_1 : List UInt8 := [192, 0, 47, 42, 180, 0, 12, 27, 182, 0, 95, 192, 0, 47, 182, 0, 86, 153, 0, 13, 44, 29, 4, 84]
abbrev dktX2_markBelow_1 : List UInt8 := dkwX2_markBelow_1 ++ dktX2_markBelow_2
def dkwX2_markBelow_0 : List UInt8 := [3, 62, 29, 44, 190, 162, 0, 53, 44, 29, 51, 154, 0, 41, 42, 180, 0, 12, 29, 182, 0, 95]
abbrev dktX2_markBelow_0 : List UInt8 := dkwX2_markBelow_0 ++ dktX2_markBelow_1
theorem dksX2_markBelow_0 : cX2_markBelow.data.toList.drop 0 = dktX2_markBelow_0 := by decide +kernel
theorem dksX2_markBelow_1 : cX2_markBelow.data.toList.drop 22 = dktX2_markBelow_1 := dk_seg dksX2_markBelow_0 22 rfl rfl
theorem dksX2_markBelow_2 : cX2_markBelow.data.toList.drop 46 = dktX2_markBelow_2 := dk_seg dksX2_markBelow_1 24 rfl rfl
theorem dX2_markBelow_0 : decode cX2_markBelow 0 = .ok (.iconst 0, 1) := dk_3 (dk_at dksX2_markBelow_0 0 rfl rfl)
theorem dX2_markBelow_1 : decode cX2_markBelow 1 = .ok (.istore_n 3, 1) := dk_62 (dk_at dksX2_markBelow_0 1 rfl rfl)
theorem dX2_markBelow_2 : decode cX2_markBelow 2 = .ok (.iload_n 3, 1) := dk_29 (dk_at dksX2_markBelow_0 2 rfl rfl)
theorem dX2_markBelow_3 : decode cX2_markBelow 3 = .ok (.aload_n 2, 1) := dk_44 (dk_at dksX2_markBelow_0 3 rfl rfl)
theorem dX2_markBelow_4 : decode cX2_markBelow 4 = .ok (.arraylength, 1) := dk_190 (dk_at dksX2_markBelow_0 4 rfl rfl)
theorem dX2_markBelow_5 : decode cX2_markBelow 5 = .ok (.if_icmp .ge 53, 3) := dk_162 0 53 (dk_at dksX2_markBelow_0 5 rfl rfl)
theorem dX2_markBelow_8 : decode cX2_markBelow 8 = .ok (.aload_n 2, 1) := dk_44 (dk_at dksX2_markBelow_0 8 rfl rfl)
theorem dX2_markBelow_9 : decode cX2_markBelow 9 = .ok (.iload_n 3, 1) := dk_29 (dk_at dksX2_markBelow_0 9 rfl rfl)
theorem dX2_markBelow_10 : decode cX2_markBelow 10 = .ok (.baload, 1) := dk_51 (dk_at dksX2_markBelow_0 10 rfl rfl)
theorem dX2_markBelow_11 : decode cX2_markBelow 11 = .ok (.ifCond .ne 41, 3) := dk_154 0 41 (dk_at dksX2_markBelow_0 11 rfl rfl)
theorem dX2_markBelow_14 : decode cX2_markBelow 14 = .ok (.aload_n 0, 1) := dk_42 (dk_at dksX2_markBelow_0 14 rfl rfl)
theorem dX2_markBelow_15 : decode cX2_markBelow 15 = .ok (.getfield 12, 3) := dk_180 0 12 (dk_at dksX2_markBelow_0 15 rfl rfl)
theorem dX2_markBelow_18 : decode cX2_markBelow 18 = .ok (.iload_n 3, 1) := dk_29 (dk_at dksX2_markBelow_0 18 rfl rfl)
theorem dX2_markBelow_19 : decode cX2_markBelow 19 = .ok (.invokevirtual 95, 3) := dk_182 0 95 (dk_at dksX2_markBelow_0 19 rfl rfl)
theorem dX2_markBelow_22 : decode cX2_markBelow 22 = .ok (.checkcast 47, 3) := dk_192 0 47 (dk_at dksX2_markBelow_1 0 rfl rfl)
theorem dX2_markBelow_25 : decode cX2_markBelow 25 = .ok (.aload_n 0, 1) := dk_42 (dk_at dksX2_markBelow_1 3 rfl rfl)
theorem dX2_markBelow_26 : decode cX2_markBelow 26 = .ok (.getfield 12, 3) := dk_180 0 12 (dk_at dksX2_markBelow_1 4 rfl rfl)
theorem dX2_markBelow_29 : decode cX2_markBelow 29 = .ok (.iload_n 1, 1) := dk_27 (dk_at dksX2_markBelow_1 7 rfl rfl)
theorem dX2_markBelow_30 : decode cX2_markBelow 30 = .ok (.invokevirtual 95, 3) := dk_182 0 95 (dk_at dksX2_markBelow_1 8 rfl rfl)
theorem dX2_markBelow_33 : decode cX2_markBelow 33 = .ok (.checkcast 47, 3) := dk_192 0 47 (dk_at dksX2_markBelow_1 11 rfl rfl)
theorem dX2_markBelow_36 : decode cX2_markBelow 36 = .ok (.invokevirtual 86, 3) := dk_182 0 86 (dk_at dksX2_markBelow_1 14 rfl rfl)
theorem dX2_markBelow_39 : decode cX2_markBelow 39 = .ok (.ifCond .eq 13, 3) := dk_153 0 13 (dk_at dksX2_markBelow_1 17 rfl rfl)
theorem dX2_markBelow_42 : decode cX2_markBelow 42 = .ok (.aload_n 2, 1) := dk_44 (dk_at dksX2_markBelow_1 20 rfl rfl)
theorem dX2_markBelow_43 : decode cX2_markBelow 43 = .ok (.iload_n 3, 1) := dk_29 (dk_at dksX2_markBelow_1 21 rfl rfl)
theorem dX2_markBelow_44 : decode cX2_markBelow 44 = .ok (.iconst 1, 1) := dk_4 (dk_at dksX2_markBelow_1 22 rfl rfl)
theorem dX2_markBelow_45 : decode cX2_markBelow 45 = .ok (.bastore, 1) := dk_84 (dk_at dksX2_markBelow_1 23 rfl rfl)
theorem dX2_markBelow_46 : decode cX2_markBelow 46 = .ok (.aload_n 0, 1) := dk_42 (dk_at dksX2_markBelow_2 0 rfl rfl)
theorem dX2_markBelow_47 : decode cX2_markBelow 47 = .ok (.iload_n 3, 1) := dk_29 (dk_at dksX2_markBelow_2 1 rfl rfl)
theorem dX2_markBelow_48 : decode cX2_markBelow 48 = .ok (.aload_n 2, 1) := dk_44 (dk_at dksX2_markBelow_2 2 rfl rfl)
theorem dX2_markBelow_49 : decode cX2_markBelow 49 = .ok (.invokevirtual 171, 3) := dk_182 0 171 (dk_at dksX2_markBelow_2 3 rfl rfl)
theorem dX2_markBelow_52 : decode cX2_markBelow 52 = .ok (.iinc 3 1, 3) := dk_132 3 1 (dk_at dksX2_markBelow_2 6 rfl rfl)
theorem dX2_markBelow_55 : decode cX2_markBelow 55 = .ok (.goto (-53), 3) := dk_167 255 203 (dk_at dksX2_markBelow_2 9 rfl rfl)
theorem dX2_markBelow_58 : decode cX2_markBelow 58 = .ok (.return_, 1) := dk_177 (dk_at dksX2_markBelow_2 12 rfl rfl)
theorem q89 : (Jvm.Cond.initialized "FortPlanner$State") ∈ lw_all := lw_g (lw_at lw_m1 2 rfl) rfl
theorem q135 : (Jvm.Cond.instantiable "FortPlanner$State" (4 : Nat)) ∈ lw_all := lw_g (lw_at lw_m1 48 rfl) rfl
theorem q137 : (Jvm.Cond.instanceMethod ({ cls := "FortPlanner$State", name := "<init>", desc := "()V" } : Jvm.MethodName)) ∈ lw_all := lw_g (lw_at lw_m1 50 rfl) rfl
theorem q138 : (Jvm.Cond.code ({ cls := "FortPlanner$State", name := "<init>", desc := "()V" } : Jvm.MethodName) prog_10_method_1_code (2 : Nat) (Option.none : Option Jvm.ClassFile.FieldType)) ∈ lw_all := lw_g (lw_at lw_m1 51 rfl) rfl
theorem q139 : (Jvm.Cond.methodLink "FortPlanner$State" (3 : Nat) ({ cls := "java/lang/Object", name := "<init>", desc := "()V" } : Jvm.MethodName)) ∈ lw_all := lw_g (lw_at lw_m1 52 rfl) rfl
theorem q140 : (Jvm.Cond.classLink "FortPlanner$State" (9 : Nat) "java/util/ArrayList") ∈ lw_all := lw_g (lw_at lw_m1 53 rfl) rfl
theorem q142 : (Jvm.Cond.methodLink "FortPlanner$State" (11 : Nat) ({ cls := "java/util/ArrayList", name := "<init>", desc := "()V" } : Jvm.MethodName)) ∈ lw_all := lw_g (lw_at lw_m1 55 rfl) rfl
theorem q169 : (Jvm.Cond.classLink "FortPlanner$State" (18 : Nat) "FortPlanner$Zone") ∈ lw_all := lw_g (lw_at lw_m1 82 rfl) rfl
theorem q171 : (Jvm.Cond.fieldLink "FortPlanner$State" (28 : Nat) "FortPlanner$Zone" "OPEN" "LFortPlanner$Zone;") ∈ lw_all := lw_g (lw_at lw_m1 84 rfl) rfl
theorem q173 : (Jvm.Cond.fieldLink "FortPlanner$State" (12 : Nat) "FortPlanner$State" "blocks" "Ljava/util/ArrayList;") ∈ lw_all := lw_g (lw_at lw_m1 86 rfl) rfl
theorem q175 : (Jvm.Cond.fieldLink "FortPlanner$State" (20 : Nat) "FortPlanner$State" "zones" "[LFortPlanner$Zone;") ∈ lw_all := lw_g (lw_at lw_m1 88 rfl) rfl
theorem q177 : (Jvm.Cond.fieldLink "FortPlanner$State" (24 : Nat) "FortPlanner$State" "hasTorch" "[Z") ∈ lw_all := lw_g (lw_at lw_m1 90 rfl) rfl
theorem q179 : (Jvm.Cond.fieldLink "FortPlanner$State" (53 : Nat) "FortPlanner$State" "placed" "I") ∈ lw_all := lw_g (lw_at lw_m1 92 rfl) rfl
theorem q181 : (Jvm.Cond.laysFinal "FortPlanner$State" "FortPlanner$State" "blocks" "Ljava/util/ArrayList;") ∈ lw_all := lw_g (lw_at lw_m1 94 rfl) rfl
theorem q182 : (Jvm.Cond.soleField "FortPlanner$State" "blocks") ∈ lw_all := lw_g (lw_at lw_m1 95 rfl) rfl
theorem q183 : (Jvm.Cond.laysFinal "FortPlanner$State" "FortPlanner$State" "zones" "[LFortPlanner$Zone;") ∈ lw_all := lw_g (lw_at lw_m1 96 rfl) rfl
theorem q184 : (Jvm.Cond.soleField "FortPlanner$State" "zones") ∈ lw_all := lw_g (lw_at lw_m1 97 rfl) rfl
theorem q185 : (Jvm.Cond.laysFinal "FortPlanner$State" "FortPlanner$State" "hasTorch" "[Z") ∈ lw_all := lw_g (lw_at lw_m1 98 rfl) rfl
theorem q186 : (Jvm.Cond.soleField "FortPlanner$State" "hasTorch") ∈ lw_all := lw_g (lw_at lw_m1 99 rfl) rfl
theorem q187 : (Jvm.Cond.lays "FortPlanner$State" "FortPlanner$State" "placed" "I") ∈ lw_all := lw_g (lw_at lw_m1 100 rfl) rfl
theorem q188 : (Jvm.Cond.soleField "FortPlanner$State" "placed") ∈ lw_all := lw_g (lw_at lw_m1 101 rfl) rfl
theorem q189 : (Jvm.Cond.superclass "FortPlanner$State" "java/lang/Object") ∈ lw_all := lw_g (lw_at lw_m1 102 rfl) rfl
theorem q272 : (Jvm.Cond.instanceMethod ({ cls := "FortPlanner$State", name := "height", desc := "(I)I" } : Jvm.MethodName)) ∈ lw_all := lw_g (lw_at lw_m1 185 rfl) rfl
theorem q273 : (Jvm.Cond.selects "FortPlanner$State" ({ cls := "FortPlanner$State", name := "height", desc := "(I)I" } : Jvm.MethodName) ({ cls := "FortPlanner$State", name := "height", desc := "(I)I" } : Jvm.MethodName)) ∈ lw_all := lw_g (lw_at lw_m1 186 rfl) rfl
theorem q274 : (Jvm.Cond.code ({ cls := "FortPlanner$State", name := "height", desc := "(I)I" } : Jvm.MethodName) prog_10_method_6_code (5 : Nat) (Option.some Jvm.ClassFile.FieldType.int)) ∈ lw_all := lw_g (lw_at lw_m1 187 rfl) rfl
theorem q275 : (Jvm.Cond.methodLink "FortPlanner$State" (33 : Nat) ({ cls := "java/util/ArrayList", name := "iterator", desc := "()Ljava/util/Iterator;" } : Jvm.MethodName)) ∈ lw_all := lw_g (lw_at lw_m1 188 rfl) rfl
theorem q298 : (Jvm.Cond.interfaceEntry "FortPlanner$State" (37 : Nat)) ∈ lw_tbl := lw_at lw_m1 211 rfl
theorem q299 : (Jvm.Cond.methodLink "FortPlanner$State" (37 : Nat) ({ cls := "java/util/Iterator", name := "hasNext", desc := "()Z" } : Jvm.MethodName)) ∈ lw_all := lw_g (lw_at lw_m1 212 rfl) rfl
theorem q308 : (Jvm.Cond.interfaceEntry "FortPlanner$State" (43 : Nat)) ∈ lw_tbl := lw_at lw_m1 221 rfl
theorem q309 : (Jvm.Cond.methodLink "FortPlanner$State" (43 : Nat) ({ cls := "java/util/Iterator", name := "next", desc := "()Ljava/lang/Object;" } : Jvm.MethodName)) ∈ lw_all := lw_g (lw_at lw_m1 222 rfl) rfl
theorem q388 : (Jvm.Cond.classLink "FortPlanner$State" (47 : Nat) "FortPlanner$Block") ∈ lw_all := lw_g (lw_at lw_m2 61 rfl) rfl
theorem q389 : (Jvm.Cond.methodLink "FortPlanner$State" (72 : Nat) ({ cls := "FortPlanner$Block", name := "covers", desc := "(I)Z" } : Jvm.MethodName)) ∈ lw_all := lw_g (lw_at lw_m2 62 rfl) rfl
theorem q406 : (Jvm.Cond.methodLink "FortPlanner$State" (76 : Nat) ({ cls := "FortPlanner$Block", name := "top", desc := "()I" } : Jvm.MethodName)) ∈ lw_all := lw_g (lw_at lw_m2 79 rfl) rfl
theorem q424 : (Jvm.Cond.methodLink "FortPlanner$State" (80 : Nat) ({ cls := "java/lang/Math", name := "max", desc := "(II)I" } : Jvm.MethodName)) ∈ lw_all := lw_g (lw_at lw_m2 97 rfl) rfl
theorem q440 : (Jvm.Cond.instanceMethod ({ cls := "FortPlanner$State", name := "light", desc := "()[Z" } : Jvm.MethodName)) ∈ lw_all := lw_g (lw_at lw_m2 113 rfl) rfl
theorem q441 : (Jvm.Cond.selects "FortPlanner$State" ({ cls := "FortPlanner$State", name := "light", desc := "()[Z" } : Jvm.MethodName) ({ cls := "FortPlanner$State", name := "light", desc := "()[Z" } : Jvm.MethodName)) ∈ lw_all := lw_g (lw_at lw_m2 114 rfl) rfl
theorem q442 : (Jvm.Cond.code ({ cls := "FortPlanner$State", name := "light", desc := "()[Z" } : Jvm.MethodName) prog_10_method_30_code (3 : Nat) (Option.some (Jvm.ClassFile.FieldType.array Jvm.ClassFile.FieldType.boolean))) ∈ lw_all := lw_g (lw_at lw_m2 115 rfl) rfl
theorem q443 : (Jvm.Cond.methodLink "FortPlanner$State" (188 : Nat) ({ cls := "FortPlanner$State", name := "lightSide", desc := "(II[Z)V" } : Jvm.MethodName)) ∈ lw_all := lw_g (lw_at lw_m2 116 rfl) rfl
theorem q444 : (Jvm.Cond.privateMethod ({ cls := "FortPlanner$State", name := "lightSide", desc := "(II[Z)V" } : Jvm.MethodName)) ∈ lw_tbl := lw_at lw_m2 117 rfl
theorem q445 : (Jvm.Cond.instanceMethod ({ cls := "FortPlanner$State", name := "lightSide", desc := "(II[Z)V" } : Jvm.MethodName)) ∈ lw_all := lw_g (lw_at lw_m2 118 rfl) rfl
theorem q446 : (Jvm.Cond.code ({ cls := "FortPlanner$State", name := "lightSide", desc := "(II[Z)V" } : Jvm.MethodName) prog_10_method_29_code (7 : Nat) (Option.none : Option Jvm.ClassFile.FieldType)) ∈ lw_all := lw_g (lw_at lw_m2 119 rfl) rfl
theorem q447 : (Jvm.Cond.methodLinkNest "FortPlanner$State" (185 : Nat) ({ cls := "FortPlanner", name := "isColumn", desc := "(I)Z" } : Jvm.MethodName) "FortPlanner") ∈ lw_tbl := lw_at lw_m2 120 rfl
theorem q451 : (Jvm.Cond.methodLink "FortPlanner$State" (178 : Nat) ({ cls := "FortPlanner$State", name := "flame", desc := "(I)I" } : Jvm.MethodName)) ∈ lw_all := lw_g (lw_at lw_m2 124 rfl) rfl
theorem q452 : (Jvm.Cond.privateMethod ({ cls := "FortPlanner$State", name := "flame", desc := "(I)I" } : Jvm.MethodName)) ∈ lw_tbl := lw_at lw_m2 125 rfl
theorem q453 : (Jvm.Cond.instanceMethod ({ cls := "FortPlanner$State", name := "flame", desc := "(I)I" } : Jvm.MethodName)) ∈ lw_all := lw_g (lw_at lw_m2 126 rfl) rfl
theorem q454 : (Jvm.Cond.code ({ cls := "FortPlanner$State", name := "flame", desc := "(I)I" } : Jvm.MethodName) prog_10_method_26_code (2 : Nat) (Option.some Jvm.ClassFile.FieldType.int)) ∈ lw_all := lw_g (lw_at lw_m2 127 rfl) rfl
theorem q455 : (Jvm.Cond.methodLink "FortPlanner$State" (145 : Nat) ({ cls := "FortPlanner$State", name := "height", desc := "(I)I" } : Jvm.MethodName)) ∈ lw_all := lw_g (lw_at lw_m2 128 rfl) rfl
theorem q473 : (Jvm.Cond.instanceMethod ({ cls := "FortPlanner$State", name := "find", desc := "(I)LFortPlanner$Block;" } : Jvm.MethodName)) ∈ lw_all := lw_g (lw_at lw_m2 146 rfl) rfl
theorem q474 : (Jvm.Cond.selects "FortPlanner$State" ({ cls := "FortPlanner$State", name := "find", desc := "(I)LFortPlanner$Block;" } : Jvm.MethodName) ({ cls := "FortPlanner$State", name := "find", desc := "(I)LFortPlanner$Block;" } : Jvm.MethodName)) ∈ lw_all := lw_g (lw_at lw_m2 147 rfl) rfl
theorem q475 : (Jvm.Cond.code ({ cls := "FortPlanner$State", name := "find", desc := "(I)LFortPlanner$Block;" } : Jvm.MethodName) prog_10_method_3_code (4 : Nat) (Option.some (Jvm.ClassFile.FieldType.object "FortPlanner$Block"))) ∈ lw_all := lw_g (lw_at lw_m2 148 rfl) rfl
theorem q481 : (Jvm.Cond.instanceMethod ({ cls := "FortPlanner$State", name := "unknownNumbers", desc := "()[I" } : Jvm.MethodName)) ∈ lw_all := lw_g (lw_at lw_m2 154 rfl) rfl
theorem q482 : (Jvm.Cond.selects "FortPlanner$State" ({ cls := "FortPlanner$State", name := "unknownNumbers", desc := "()[I" } : Jvm.MethodName) ({ cls := "FortPlanner$State", name := "unknownNumbers", desc := "()[I" } : Jvm.MethodName)) ∈ lw_all := lw_g (lw_at lw_m2 155 rfl) rfl
theorem q483 : (Jvm.Cond.code ({ cls := "FortPlanner$State", name := "unknownNumbers", desc := "()[I" } : Jvm.MethodName) prog_10_method_14_code (3 : Nat) (Option.some (Jvm.ClassFile.FieldType.array Jvm.ClassFile.FieldType.int))) ∈ lw_all := lw_g (lw_at lw_m2 156 rfl) rfl
theorem q484 : (Jvm.Cond.methodLink "FortPlanner$State" (89 : Nat) ({ cls := "java/util/ArrayList", name := "size", desc := "()I" } : Jvm.MethodName)) ∈ lw_all := lw_g (lw_at lw_m2 157 rfl) rfl
theorem q486 : (Jvm.Cond.instanceMethod ({ cls := "FortPlanner$State", name := "recursiveLevel", desc := "(I[I)I" } : Jvm.MethodName)) ∈ lw_all := lw_g (lw_at lw_m2 159 rfl) rfl
theorem q487 : (Jvm.Cond.selects "FortPlanner$State" ({ cls := "FortPlanner$State", name := "recursiveLevel", desc := "(I[I)I" } : Jvm.MethodName) ({ cls := "FortPlanner$State", name := "recursiveLevel", desc := "(I[I)I" } : Jvm.MethodName)) ∈ lw_all := lw_g (lw_at lw_m2 160 rfl) rfl
theorem q488 : (Jvm.Cond.code ({ cls := "FortPlanner$State", name := "recursiveLevel", desc := "(I[I)I" } : Jvm.MethodName) prog_10_method_22_code (5 : Nat) (Option.some Jvm.ClassFile.FieldType.int)) ∈ lw_all := lw_g (lw_at lw_m2 161 rfl) rfl
theorem q489 : (Jvm.Cond.methodLink "FortPlanner$State" (95 : Nat) ({ cls := "java/util/ArrayList", name := "get", desc := "(I)Ljava/lang/Object;" } : Jvm.MethodName)) ∈ lw_all := lw_g (lw_at lw_m2 162 rfl) rfl
theorem q503 : (Jvm.Cond.methodLink "FortPlanner$State" (86 : Nat) ({ cls := "FortPlanner$Block", name := "supports", desc := "(LFortPlanner$Block;)Z" } : Jvm.MethodName)) ∈ lw_all := lw_g (lw_at lw_m2 176 rfl) rfl
theorem q511 : (Jvm.Cond.methodLink "FortPlanner$State" (168 : Nat) ({ cls := "FortPlanner$State", name := "recursiveLevel", desc := "(I[I)I" } : Jvm.MethodName)) ∈ lw_all := lw_g (lw_at lw_m2 184 rfl) rfl
theorem q527 : (Jvm.Cond.instanceMethod ({ cls := "FortPlanner$State", name := "sum", desc := "(LFortPlanner$BlockTest;LFortPlanner$BlockValue;)I" } : Jvm.MethodName)) ∈ lw_all := lw_g (lw_at lw_m2 200 rfl) rfl
theorem q528 : (Jvm.Cond.selects "FortPlanner$State" ({ cls := "FortPlanner$State", name := "sum", desc := "(LFortPlanner$BlockTest;LFortPlanner$BlockValue;)I" } : Jvm.MethodName) ({ cls := "FortPlanner$State", name := "sum", desc := "(LFortPlanner$BlockTest;LFortPlanner$BlockValue;)I" } : Jvm.MethodName)) ∈ lw_all := lw_g (lw_at lw_m2 201 rfl) rfl
theorem q529 : (Jvm.Cond.code ({ cls := "FortPlanner$State", name := "sum", desc := "(LFortPlanner$BlockTest;LFortPlanner$BlockValue;)I" } : Jvm.MethodName) prog_10_method_5_code (6 : Nat) (Option.some Jvm.ClassFile.FieldType.int)) ∈ lw_all := lw_g (lw_at lw_m2 202 rfl) rfl
theorem q530 : (Jvm.Cond.interfaceEntry "FortPlanner$State" (60 : Nat)) ∈ lw_tbl := lw_at lw_m2 203 rfl
theorem q531 : (Jvm.Cond.methodLink "FortPlanner$State" (60 : Nat) ({ cls := "FortPlanner$BlockTest", name := "matches", desc := "(LFortPlanner$Block;)Z" } : Jvm.MethodName)) ∈ lw_all := lw_g (lw_at lw_m2 204 rfl) rfl
theorem q534 : (Jvm.Cond.interfaceEntry "FortPlanner$State" (66 : Nat)) ∈ lw_tbl := lw_at lw_m2 207 rfl
theorem q535 : (Jvm.Cond.methodLink "FortPlanner$State" (66 : Nat) ({ cls := "FortPlanner$BlockValue", name := "of", desc := "(LFortPlanner$Block;)I" } : Jvm.MethodName)) ∈ lw_all := lw_g (lw_at lw_m2 208 rfl) rfl
theorem q547 : (Jvm.Cond.instanceMethod ({ cls := "FortPlanner$State", name := "loads", desc := "()[I" } : Jvm.MethodName)) ∈ lw_all := lw_g (lw_at lw_m2 220 rfl) rfl
theorem q548 : (Jvm.Cond.selects "FortPlanner$State" ({ cls := "FortPlanner$State", name := "loads", desc := "()[I" } : Jvm.MethodName) ({ cls := "FortPlanner$State", name := "loads", desc := "()[I" } : Jvm.MethodName)) ∈ lw_all := lw_g (lw_at lw_m2 221 rfl) rfl
theorem q549 : (Jvm.Cond.code ({ cls := "FortPlanner$State", name := "loads", desc := "()[I" } : Jvm.MethodName) prog_10_method_11_code (4 : Nat) (Option.some (Jvm.ClassFile.FieldType.array Jvm.ClassFile.FieldType.int))) ∈ lw_all := lw_g (lw_at lw_m2 222 rfl) rfl
theorem q550 : (Jvm.Cond.methodLink "FortPlanner$State" (112 : Nat) ({ cls := "FortPlanner$State", name := "passOn", desc := "(LFortPlanner$Block;I[I)V" } : Jvm.MethodName)) ∈ lw_all := lw_g (lw_at lw_m2 223 rfl) rfl
theorem q551 : (Jvm.Cond.privateMethod ({ cls := "FortPlanner$State", name := "passOn", desc := "(LFortPlanner$Block;I[I)V" } : Jvm.MethodName)) ∈ lw_tbl := lw_at lw_m2 224 rfl
theorem q552 : (Jvm.Cond.instanceMethod ({ cls := "FortPlanner$State", name := "passOn", desc := "(LFortPlanner$Block;I[I)V" } : Jvm.MethodName)) ∈ lw_all := lw_g (lw_at lw_m2 225 rfl) rfl
theorem q553 : (Jvm.Cond.code ({ cls := "FortPlanner$State", name := "passOn", desc := "(LFortPlanner$Block;I[I)V" } : Jvm.MethodName) prog_10_method_12_code (7 : Nat) (Option.none : Option Jvm.ClassFile.FieldType)) ∈ lw_all := lw_g (lw_at lw_m2 226 rfl) rfl
theorem q554 : (Jvm.Cond.methodLink "FortPlanner$State" (116 : Nat) ({ cls := "FortPlanner$State", name := "supporters", desc := "(LFortPlanner$Block;)Ljava/util/ArrayList;" } : Jvm.MethodName)) ∈ lw_all := lw_g (lw_at lw_m2 227 rfl) rfl
theorem q555 : (Jvm.Cond.instanceMethod ({ cls := "FortPlanner$State", name := "supporters", desc := "(LFortPlanner$Block;)Ljava/util/ArrayList;" } : Jvm.MethodName)) ∈ lw_all := lw_g (lw_at lw_m2 228 rfl) rfl
theorem q556 : (Jvm.Cond.selects "FortPlanner$State" ({ cls := "FortPlanner$State", name := "supporters", desc := "(LFortPlanner$Block;)Ljava/util/ArrayList;" } : Jvm.MethodName) ({ cls := "FortPlanner$State", name := "supporters", desc := "(LFortPlanner$Block;)Ljava/util/ArrayList;" } : Jvm.MethodName)) ∈ lw_all := lw_g (lw_at lw_m2 229 rfl) rfl
theorem q557 : (Jvm.Cond.code ({ cls := "FortPlanner$State", name := "supporters", desc := "(LFortPlanner$Block;)Ljava/util/ArrayList;" } : Jvm.MethodName) prog_10_method_8_code (6 : Nat) (Option.some (Jvm.ClassFile.FieldType.object "java/util/ArrayList"))) ∈ lw_all := lw_g (lw_at lw_m2 230 rfl) rfl
theorem q558 : (Jvm.Cond.methodLink "FortPlanner$State" (99 : Nat) ({ cls := "java/util/ArrayList", name := "add", desc := "(ILjava/lang/Object;)V" } : Jvm.MethodName)) ∈ lw_all := lw_g (lw_at lw_m2 231 rfl) rfl
theorem q844 : (Jvm.Cond.selects "FortPlanner$State" ({ cls := "java/lang/Object", name := "getClass", desc := "()Ljava/lang/Class;" } : Jvm.MethodName) ({ cls := "java/lang/Object", name := "getClass", desc := "()Ljava/lang/Class;" } : Jvm.MethodName)) ∈ lw_all := lw_g (lw_at lw_m4 37 rfl) rfl
theorem q870 : (Jvm.Cond.methodLink "FortPlanner$State" (120 : Nat) ({ cls := "java/util/ArrayList", name := "indexOf", desc := "(Ljava/lang/Object;)I" } : Jvm.MethodName)) ∈ lw_all := lw_g (lw_at lw_m4 63 rfl) rfl
theorem q888 : (Jvm.Cond.selects "FortPlanner$State" ({ cls := "java/lang/Object", name := "equals", desc := "(Ljava/lang/Object;)Z" } : Jvm.MethodName) ({ cls := "java/lang/Object", name := "equals", desc := "(Ljava/lang/Object;)Z" } : Jvm.MethodName)) ∈ lw_all := lw_g (lw_at lw_m4 81 rfl) rfl
theorem q910 : (Jvm.Cond.methodLink "FortPlanner$State" (127 : Nat) ({ cls := "FortPlanner$State", name := "share", desc := "(III)I" } : Jvm.MethodName)) ∈ lw_all := lw_g (lw_at lw_m4 103 rfl) rfl
theorem q911 : (Jvm.Cond.static ({ cls := "FortPlanner$State", name := "share", desc := "(III)I" } : Jvm.MethodName)) ∈ lw_all := lw_g (lw_at lw_m4 104 rfl) rfl
theorem q912 : (Jvm.Cond.code ({ cls := "FortPlanner$State", name := "share", desc := "(III)I" } : Jvm.MethodName) prog_10_method_10_code (3 : Nat) (Option.some Jvm.ClassFile.FieldType.int)) ∈ lw_all := lw_g (lw_at lw_m4 105 rfl) rfl
theorem q938 : (Jvm.Cond.instanceMethod ({ cls := "FortPlanner$State", name := "recursiveLoad", desc := "(I[I)I" } : Jvm.MethodName)) ∈ lw_all := lw_g (lw_at lw_m4 131 rfl) rfl
theorem q939 : (Jvm.Cond.selects "FortPlanner$State" ({ cls := "FortPlanner$State", name := "recursiveLoad", desc := "(I[I)I" } : Jvm.MethodName) ({ cls := "FortPlanner$State", name := "recursiveLoad", desc := "(I[I)I" } : Jvm.MethodName)) ∈ lw_all := lw_g (lw_at lw_m4 132 rfl) rfl
theorem q940 : (Jvm.Cond.code ({ cls := "FortPlanner$State", name := "recursiveLoad", desc := "(I[I)I" } : Jvm.MethodName) prog_10_method_15_code (8 : Nat) (Option.some Jvm.ClassFile.FieldType.int)) ∈ lw_all := lw_g (lw_at lw_m4 133 rfl) rfl
theorem q941 : (Jvm.Cond.methodLink "FortPlanner$State" (135 : Nat) ({ cls := "FortPlanner$State", name := "recursiveLoad", desc := "(I[I)I" } : Jvm.MethodName)) ∈ lw_all := lw_g (lw_at lw_m4 134 rfl) rfl
theorem q947 : (Jvm.Cond.instanceMethod ({ cls := "FortPlanner$State", name := "isLit", desc := "(I)Z" } : Jvm.MethodName)) ∈ lw_all := lw_g (lw_at lw_m4 140 rfl) rfl
theorem q948 : (Jvm.Cond.selects "FortPlanner$State" ({ cls := "FortPlanner$State", name := "isLit", desc := "(I)Z" } : Jvm.MethodName) ({ cls := "FortPlanner$State", name := "isLit", desc := "(I)Z" } : Jvm.MethodName)) ∈ lw_all := lw_g (lw_at lw_m4 141 rfl) rfl
theorem q949 : (Jvm.Cond.code ({ cls := "FortPlanner$State", name := "isLit", desc := "(I)Z" } : Jvm.MethodName) prog_10_method_28_code (3 : Nat) (Option.some Jvm.ClassFile.FieldType.boolean)) ∈ lw_all := lw_g (lw_at lw_m4 142 rfl) rfl
theorem q950 : (Jvm.Cond.methodLink "FortPlanner$State" (175 : Nat) ({ cls := "java/lang/Math", name := "min", desc := "(II)I" } : Jvm.MethodName)) ∈ lw_all := lw_g (lw_at lw_m4 143 rfl) rfl
theorem q951 : (Jvm.Cond.methodLink "FortPlanner$State" (181 : Nat) ({ cls := "FortPlanner$State", name := "isClear", desc := "(II)Z" } : Jvm.MethodName)) ∈ lw_all := lw_g (lw_at lw_m4 144 rfl) rfl
theorem q952 : (Jvm.Cond.privateMethod ({ cls := "FortPlanner$State", name := "isClear", desc := "(II)Z" } : Jvm.MethodName)) ∈ lw_tbl := lw_at lw_m4 145 rfl
theorem q953 : (Jvm.Cond.instanceMethod ({ cls := "FortPlanner$State", name := "isClear", desc := "(II)Z" } : Jvm.MethodName)) ∈ lw_all := lw_g (lw_at lw_m4 146 rfl) rfl
theorem q954 : (Jvm.Cond.code ({ cls := "FortPlanner$State", name := "isClear", desc := "(II)Z" } : Jvm.MethodName) prog_10_method_27_code (4 : Nat) (Option.some Jvm.ClassFile.FieldType.boolean)) ∈ lw_all := lw_g (lw_at lw_m4 147 rfl) rfl
theorem q972 : (Jvm.Cond.instanceMethod ({ cls := "FortPlanner$State", name := "count", desc := "(LFortPlanner$BlockTest;)I" } : Jvm.MethodName)) ∈ lw_all := lw_g (lw_at lw_m4 165 rfl) rfl
theorem q973 : (Jvm.Cond.selects "FortPlanner$State" ({ cls := "FortPlanner$State", name := "count", desc := "(LFortPlanner$BlockTest;)I" } : Jvm.MethodName) ({ cls := "FortPlanner$State", name := "count", desc := "(LFortPlanner$BlockTest;)I" } : Jvm.MethodName)) ∈ lw_all := lw_g (lw_at lw_m4 166 rfl) rfl
theorem q974 : (Jvm.Cond.code ({ cls := "FortPlanner$State", name := "count", desc := "(LFortPlanner$BlockTest;)I" } : Jvm.MethodName) prog_10_method_4_code (5 : Nat) (Option.some Jvm.ClassFile.FieldType.int)) ∈ lw_all := lw_g (lw_at lw_m4 167 rfl) rfl
theorem q985 : (Jvm.Cond.instanceMethod ({ cls := "FortPlanner$State", name := "isOverloaded", desc := "()Z" } : Jvm.MethodName)) ∈ lw_all := lw_g (lw_at lw_m4 178 rfl) rfl
theorem q986 : (Jvm.Cond.selects "FortPlanner$State" ({ cls := "FortPlanner$State", name := "isOverloaded", desc := "()Z" } : Jvm.MethodName) ({ cls := "FortPlanner$State", name := "isOverloaded", desc := "()Z" } : Jvm.MethodName)) ∈ lw_all := lw_g (lw_at lw_m4 179 rfl) rfl
theorem q987 : (Jvm.Cond.code ({ cls := "FortPlanner$State", name := "isOverloaded", desc := "()Z" } : Jvm.MethodName) prog_10_method_17_code (3 : Nat) (Option.some Jvm.ClassFile.FieldType.boolean)) ∈ lw_all := lw_g (lw_at lw_m4 180 rfl) rfl
theorem q988 : (Jvm.Cond.methodLink "FortPlanner$State" (131 : Nat) ({ cls := "FortPlanner$State", name := "loads", desc := "()[I" } : Jvm.MethodName)) ∈ lw_all := lw_g (lw_at lw_m4 181 rfl) rfl
theorem q989 : (Jvm.Cond.methodLink "FortPlanner$State" (142 : Nat) ({ cls := "FortPlanner$Block", name := "strength", desc := "()I" } : Jvm.MethodName)) ∈ lw_all := lw_g (lw_at lw_m4 182 rfl) rfl
theorem q1096 : (Jvm.Cond.instanceMethod ({ cls := "FortPlanner$State", name := "copy", desc := "()LFortPlanner$State;" } : Jvm.MethodName)) ∈ lw_all := lw_g (lw_at lw_m5 49 rfl) rfl
theorem q1097 : (Jvm.Cond.selects "FortPlanner$State" ({ cls := "FortPlanner$State", name := "copy", desc := "()LFortPlanner$State;" } : Jvm.MethodName) ({ cls := "FortPlanner$State", name := "copy", desc := "()LFortPlanner$State;" } : Jvm.MethodName)) ∈ lw_all := lw_g (lw_at lw_m5 50 rfl) rfl
theorem q1098 : (Jvm.Cond.code ({ cls := "FortPlanner$State", name := "copy", desc := "()LFortPlanner$State;" } : Jvm.MethodName) prog_10_method_2_code (4 : Nat) (Option.some (Jvm.ClassFile.FieldType.object "FortPlanner$State"))) ∈ lw_all := lw_g (lw_at lw_m5 51 rfl) rfl
theorem q1099 : (Jvm.Cond.classLink "FortPlanner$State" (13 : Nat) "FortPlanner$State") ∈ lw_all := lw_g (lw_at lw_m5 52 rfl) rfl
theorem q1100 : (Jvm.Cond.methodLink "FortPlanner$State" (32 : Nat) ({ cls := "FortPlanner$State", name := "<init>", desc := "()V" } : Jvm.MethodName)) ∈ lw_all := lw_g (lw_at lw_m5 53 rfl) rfl
theorem q1101 : (Jvm.Cond.methodLink "FortPlanner$State" (49 : Nat) ({ cls := "java/util/ArrayList", name := "add", desc := "(Ljava/lang/Object;)Z" } : Jvm.MethodName)) ∈ lw_all := lw_g (lw_at lw_m5 54 rfl) rfl
theorem q1138 : (Jvm.Cond.instanceMethod ({ cls := "FortPlanner$State", name := "prepare", desc := "(CIII)LFortPlanner$Block;" } : Jvm.MethodName)) ∈ lw_all := lw_g (lw_at lw_m5 91 rfl) rfl
theorem q1139 : (Jvm.Cond.selects "FortPlanner$State" ({ cls := "FortPlanner$State", name := "prepare", desc := "(CIII)LFortPlanner$Block;" } : Jvm.MethodName) ({ cls := "FortPlanner$State", name := "prepare", desc := "(CIII)LFortPlanner$Block;" } : Jvm.MethodName)) ∈ lw_all := lw_g (lw_at lw_m5 92 rfl) rfl
theorem q1140 : (Jvm.Cond.code ({ cls := "FortPlanner$State", name := "prepare", desc := "(CIII)LFortPlanner$Block;" } : Jvm.MethodName) prog_10_method_18_code (7 : Nat) (Option.some (Jvm.ClassFile.FieldType.object "FortPlanner$Block"))) ∈ lw_all := lw_g (lw_at lw_m5 93 rfl) rfl
theorem q1141 : (Jvm.Cond.methodLinkNest "FortPlanner$State" (149 : Nat) ({ cls := "FortPlanner", name := "create", desc := "(CIIIII)LFortPlanner$Block;" } : Jvm.MethodName) "FortPlanner") ∈ lw_tbl := lw_at lw_m5 94 rfl
theorem q1154 : (Jvm.Cond.fieldLinkNest "FortPlanner$State" (57 : Nat) "FortPlanner$Block" "number" "I" "FortPlanner") ∈ lw_tbl := lw_at lw_m5 107 rfl
theorem q1157 : (Jvm.Cond.fieldLinkNest "FortPlanner$State" (92 : Nat) "FortPlanner$Block" "left" "I" "FortPlanner") ∈ lw_tbl := lw_at lw_m5 110 rfl
theorem q1162 : (Jvm.Cond.fieldLinkNest "FortPlanner$State" (124 : Nat) "FortPlanner$Block" "weight" "I" "FortPlanner") ∈ lw_tbl := lw_at lw_m5 115 rfl
theorem q1165 : (Jvm.Cond.fieldLinkNest "FortPlanner$State" (109 : Nat) "FortPlanner$Block" "bottom" "I" "FortPlanner") ∈ lw_tbl := lw_at lw_m5 118 rfl
theorem q1204 : (Jvm.Cond.instanceMethod ({ cls := "FortPlanner$State", name := "canPlace", desc := "(LFortPlanner$Block;)Z" } : Jvm.MethodName)) ∈ lw_all := lw_g (lw_at lw_m5 157 rfl) rfl
theorem q1205 : (Jvm.Cond.selects "FortPlanner$State" ({ cls := "FortPlanner$State", name := "canPlace", desc := "(LFortPlanner$Block;)Z" } : Jvm.MethodName) ({ cls := "FortPlanner$State", name := "canPlace", desc := "(LFortPlanner$Block;)Z" } : Jvm.MethodName)) ∈ lw_all := lw_g (lw_at lw_m5 158 rfl) rfl
theorem q1206 : (Jvm.Cond.code ({ cls := "FortPlanner$State", name := "canPlace", desc := "(LFortPlanner$Block;)Z" } : Jvm.MethodName) prog_10_method_20_code (3 : Nat) (Option.some Jvm.ClassFile.FieldType.boolean)) ∈ lw_all := lw_g (lw_at lw_m5 159 rfl) rfl
theorem q1207 : (Jvm.Cond.methodLink "FortPlanner$State" (159 : Nat) ({ cls := "FortPlanner$State", name := "isInAllowedZones", desc := "(LFortPlanner$Block;)Z" } : Jvm.MethodName)) ∈ lw_all := lw_g (lw_at lw_m5 160 rfl) rfl
theorem q1208 : (Jvm.Cond.privateMethod ({ cls := "FortPlanner$State", name := "isInAllowedZones", desc := "(LFortPlanner$Block;)Z" } : Jvm.MethodName)) ∈ lw_tbl := lw_at lw_m5 161 rfl
theorem q1209 : (Jvm.Cond.instanceMethod ({ cls := "FortPlanner$State", name := "isInAllowedZones", desc := "(LFortPlanner$Block;)Z" } : Jvm.MethodName)) ∈ lw_all := lw_g (lw_at lw_m5 162 rfl) rfl
theorem q1210 : (Jvm.Cond.code ({ cls := "FortPlanner$State", name := "isInAllowedZones", desc := "(LFortPlanner$Block;)Z" } : Jvm.MethodName) prog_10_method_19_code (3 : Nat) (Option.some Jvm.ClassFile.FieldType.boolean)) ∈ lw_all := lw_g (lw_at lw_m5 163 rfl) rfl
theorem q1211 : (Jvm.Cond.methodLink "FortPlanner$State" (153 : Nat) ({ cls := "FortPlanner$Block", name := "right", desc := "()I" } : Jvm.MethodName)) ∈ lw_all := lw_g (lw_at lw_m5 164 rfl) rfl
theorem q1212 : (Jvm.Cond.methodLink "FortPlanner$State" (156 : Nat) ({ cls := "FortPlanner$Zone", name := "allows", desc := "(LFortPlanner$Block;)Z" } : Jvm.MethodName)) ∈ lw_all := lw_g (lw_at lw_m5 165 rfl) rfl
theorem q1225 : (Jvm.Cond.methodLink "FortPlanner$State" (162 : Nat) ({ cls := "FortPlanner$State", name := "isOverloaded", desc := "()Z" } : Jvm.MethodName)) ∈ lw_all := lw_g (lw_at lw_m5 178 rfl) rfl
theorem q1226 : (Jvm.Cond.methodLink "FortPlanner$State" (165 : Nat) ({ cls := "java/util/ArrayList", name := "remove", desc := "(Ljava/lang/Object;)Z" } : Jvm.MethodName)) ∈ lw_all := lw_g (lw_at lw_m5 179 rfl) rfl
theorem q1295 : (Jvm.Cond.instanceMethod ({ cls := "FortPlanner$State", name := "place", desc := "(LFortPlanner$Block;)V" } : Jvm.MethodName)) ∈ lw_all := lw_g (lw_at lw_m6 8 rfl) rfl
theorem q1296 : (Jvm.Cond.selects "FortPlanner$State" ({ cls := "FortPlanner$State", name := "place", desc := "(LFortPlanner$Block;)V" } : Jvm.MethodName) ({ cls := "FortPlanner$State", name := "place", desc := "(LFortPlanner$Block;)V" } : Jvm.MethodName)) ∈ lw_all := lw_g (lw_at lw_m6 9 rfl) rfl
theorem q1297 : (Jvm.Cond.code ({ cls := "FortPlanner$State", name := "place", desc := "(LFortPlanner$Block;)V" } : Jvm.MethodName) prog_10_method_21_code (2 : Nat) (Option.none : Option Jvm.ClassFile.FieldType)) ∈ lw_all := lw_g (lw_at lw_m6 10 rfl) rfl
theorem q1330 : (Jvm.Cond.instanceMethod ({ cls := "FortPlanner$State", name := "isSupporting", desc := "(LFortPlanner$Block;)Z" } : Jvm.MethodName)) ∈ lw_all := lw_g (lw_at lw_m6 43 rfl) rfl
theorem q1331 : (Jvm.Cond.selects "FortPlanner$State" ({ cls := "FortPlanner$State", name := "isSupporting", desc := "(LFortPlanner$Block;)Z" } : Jvm.MethodName) ({ cls := "FortPlanner$State", name := "isSupporting", desc := "(LFortPlanner$Block;)Z" } : Jvm.MethodName)) ∈ lw_all := lw_g (lw_at lw_m6 44 rfl) rfl
theorem q1332 : (Jvm.Cond.code ({ cls := "FortPlanner$State", name := "isSupporting", desc := "(LFortPlanner$Block;)Z" } : Jvm.MethodName) prog_10_method_9_code (2 : Nat) (Option.some Jvm.ClassFile.FieldType.boolean)) ∈ lw_all := lw_g (lw_at lw_m6 45 rfl) rfl
theorem q1333 : (Jvm.Cond.static ({ cls := "FortPlanner$State", name := "lambda$isSupporting$0", desc := "(LFortPlanner$Block;LFortPlanner$Block;)Z" } : Jvm.MethodName)) ∈ lw_all := lw_g (lw_at lw_m6 46 rfl) rfl
theorem q1334 : (Jvm.Cond.code ({ cls := "FortPlanner$State", name := "lambda$isSupporting$0", desc := "(LFortPlanner$Block;LFortPlanner$Block;)Z" } : Jvm.MethodName) prog_10_method_31_code (2 : Nat) (Option.some Jvm.ClassFile.FieldType.boolean)) ∈ lw_all := lw_g (lw_at lw_m6 47 rfl) rfl
theorem q1335 : (Jvm.Cond.methodLink "FortPlanner$State" (105 : Nat) ({ cls := "FortPlanner$State", name := "count", desc := "(LFortPlanner$BlockTest;)I" } : Jvm.MethodName)) ∈ lw_all := lw_g (lw_at lw_m6 48 rfl) rfl
theorem q1383 : (Jvm.Cond.instanceMethod ({ cls := "FortPlanner$State", name := "torches", desc := "()I" } : Jvm.MethodName)) ∈ lw_all := lw_g (lw_at lw_m6 96 rfl) rfl
theorem q1384 : (Jvm.Cond.selects "FortPlanner$State" ({ cls := "FortPlanner$State", name := "torches", desc := "()I" } : Jvm.MethodName) ({ cls := "FortPlanner$State", name := "torches", desc := "()I" } : Jvm.MethodName)) ∈ lw_all := lw_g (lw_at lw_m6 97 rfl) rfl
theorem q1385 : (Jvm.Cond.code ({ cls := "FortPlanner$State", name := "torches", desc := "()I" } : Jvm.MethodName) prog_10_method_7_code (6 : Nat) (Option.some Jvm.ClassFile.FieldType.int)) ∈ lw_all := lw_g (lw_at lw_m6 98 rfl) rfl
theorem q1521 : (Jvm.Cond.instanceMethod ({ cls := "FortPlanner$State", name := "load", desc := "(LFortPlanner$Block;)I" } : Jvm.MethodName)) ∈ lw_all := lw_g (lw_at lw_m6 234 rfl) rfl
theorem q1522 : (Jvm.Cond.selects "FortPlanner$State" ({ cls := "FortPlanner$State", name := "load", desc := "(LFortPlanner$Block;)I" } : Jvm.MethodName) ({ cls := "FortPlanner$State", name := "load", desc := "(LFortPlanner$Block;)I" } : Jvm.MethodName)) ∈ lw_all := lw_g (lw_at lw_m6 235 rfl) rfl
theorem q1523 : (Jvm.Cond.code ({ cls := "FortPlanner$State", name := "load", desc := "(LFortPlanner$Block;)I" } : Jvm.MethodName) prog_10_method_13_code (2 : Nat) (Option.some Jvm.ClassFile.FieldType.int)) ∈ lw_all := lw_g (lw_at lw_m6 236 rfl) rfl
theorem q1532 : (Jvm.Cond.instanceMethod ({ cls := "FortPlanner$State", name := "loadByRecursion", desc := "(LFortPlanner$Block;)I" } : Jvm.MethodName)) ∈ lw_all := lw_g (lw_at lw_m7 5 rfl) rfl
theorem q1533 : (Jvm.Cond.selects "FortPlanner$State" ({ cls := "FortPlanner$State", name := "loadByRecursion", desc := "(LFortPlanner$Block;)I" } : Jvm.MethodName) ({ cls := "FortPlanner$State", name := "loadByRecursion", desc := "(LFortPlanner$Block;)I" } : Jvm.MethodName)) ∈ lw_all := lw_g (lw_at lw_m7 6 rfl) rfl
theorem q1534 : (Jvm.Cond.code ({ cls := "FortPlanner$State", name := "loadByRecursion", desc := "(LFortPlanner$Block;)I" } : Jvm.MethodName) prog_10_method_16_code (2 : Nat) (Option.some Jvm.ClassFile.FieldType.int)) ∈ lw_all := lw_g (lw_at lw_m7 7 rfl) rfl
theorem q1535 : (Jvm.Cond.methodLink "FortPlanner$State" (139 : Nat) ({ cls := "FortPlanner$State", name := "unknownNumbers", desc := "()[I" } : Jvm.MethodName)) ∈ lw_all := lw_g (lw_at lw_m7 8 rfl) rfl
theorem q1573 : (Jvm.Cond.instanceMethod ({ cls := "FortPlanner$State", name := "level", desc := "(LFortPlanner$Block;)I" } : Jvm.MethodName)) ∈ lw_all := lw_g (lw_at lw_m7 46 rfl) rfl
theorem q1574 : (Jvm.Cond.selects "FortPlanner$State" ({ cls := "FortPlanner$State", name := "level", desc := "(LFortPlanner$Block;)I" } : Jvm.MethodName) ({ cls := "FortPlanner$State", name := "level", desc := "(LFortPlanner$Block;)I" } : Jvm.MethodName)) ∈ lw_all := lw_g (lw_at lw_m7 47 rfl) rfl
theorem q1575 : (Jvm.Cond.code ({ cls := "FortPlanner$State", name := "level", desc := "(LFortPlanner$Block;)I" } : Jvm.MethodName) prog_10_method_23_code (2 : Nat) (Option.some Jvm.ClassFile.FieldType.int)) ∈ lw_all := lw_g (lw_at lw_m7 48 rfl) rfl
theorem q1584 : (Jvm.Cond.instanceMethod ({ cls := "FortPlanner$State", name := "isAbove", desc := "(LFortPlanner$Block;LFortPlanner$Block;)Z" } : Jvm.MethodName)) ∈ lw_all := lw_g (lw_at lw_m7 57 rfl) rfl
theorem q1585 : (Jvm.Cond.selects "FortPlanner$State" ({ cls := "FortPlanner$State", name := "isAbove", desc := "(LFortPlanner$Block;LFortPlanner$Block;)Z" } : Jvm.MethodName) ({ cls := "FortPlanner$State", name := "isAbove", desc := "(LFortPlanner$Block;LFortPlanner$Block;)Z" } : Jvm.MethodName)) ∈ lw_all := lw_g (lw_at lw_m7 58 rfl) rfl
theorem q1586 : (Jvm.Cond.code ({ cls := "FortPlanner$State", name := "isAbove", desc := "(LFortPlanner$Block;LFortPlanner$Block;)Z" } : Jvm.MethodName) prog_10_method_25_code (4 : Nat) (Option.some Jvm.ClassFile.FieldType.boolean)) ∈ lw_all := lw_g (lw_at lw_m7 59 rfl) rfl
theorem q1587 : (Jvm.Cond.methodLink "FortPlanner$State" (171 : Nat) ({ cls := "FortPlanner$State", name := "markBelow", desc := "(I[Z)V" } : Jvm.MethodName)) ∈ lw_all := lw_g (lw_at lw_m7 60 rfl) rfl
theorem q1588 : (Jvm.Cond.privateMethod ({ cls := "FortPlanner$State", name := "markBelow", desc := "(I[Z)V" } : Jvm.MethodName)) ∈ lw_tbl := lw_at lw_m7 61 rfl
theorem q1589 : (Jvm.Cond.instanceMethod ({ cls := "FortPlanner$State", name := "markBelow", desc := "(I[Z)V" } : Jvm.MethodName)) ∈ lw_all := lw_g (lw_at lw_m7 62 rfl) rfl
theorem q1590 : (Jvm.Cond.code ({ cls := "FortPlanner$State", name := "markBelow", desc := "(I[Z)V" } : Jvm.MethodName) prog_10_method_24_code (4 : Nat) (Option.none : Option Jvm.ClassFile.FieldType)) ∈ lw_all := lw_g (lw_at lw_m7 63 rfl) rfl
theorem q2542 : (Jvm.Cond.castable "FortPlanner$State" "java/lang/Object") ∈ lw_tbl := lw_at lw_m11 55 rfl
theorem in_X2 : ∀ w ∈ wsX20, w ∈ lw_all := lw_in wsX20 [181, 183, 185, 187] (by decide +kernel) (by decide +kernel)
