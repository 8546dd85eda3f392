/-! FortPlannerLaw -/
set_option maxRecDepth 100000
def RX0 : String := "FortPlannerLaw"
abbrev cX0_placeFoam : ByteArray := method_3_code
def yX0_placeFoam : MethodName := ⟨RX0, "placeFoam", "(LFortPlanner;III[J)I"⟩
def dkwX0_placeFoam_1 : List UInt8 := [172]
abbrev dktX0_placeFoam_1 : List UInt8 := dkwX0_placeFoam_1 ++ []
def dkwX0_placeFoam_0 : List UInt8 := [25, 4, 3, 42, 27, 28, 29, 182, 0, 7, 133, 80, 167, 0, 11, 58, 5, 4, 172, 58, 5, 5, 172, 3]
abbrev dktX0_placeFoam_0 : List UInt8 := dkwX0_placeFoam_0 ++ dktX0_placeFoam_1
theorem dksX0_placeFoam_0 : cX0_placeFoam.data.toList.drop 0 = dktX0_placeFoam_0 := by decide +kernel
theorem dksX0_placeFoam_1 : cX0_placeFoam.data.toList.drop 24 = dktX0_placeFoam_1 := dk_seg dksX0_placeFoam_0 24 rfl rfl
theorem dX0_placeFoam_0 : decode cX0_placeFoam 0 = .ok (.aload 4, 2) := dk_25 4 (dk_at dksX0_placeFoam_0 0 rfl rfl)
theorem dX0_placeFoam_2 : decode cX0_placeFoam 2 = .ok (.iconst 0, 1) := dk_3 (dk_at dksX0_placeFoam_0 2 rfl rfl)
theorem dX0_placeFoam_3 : decode cX0_placeFoam 3 = .ok (.aload_n 0, 1) := dk_42 (dk_at dksX0_placeFoam_0 3 rfl rfl)
theorem dX0_placeFoam_4 : decode cX0_placeFoam 4 = .ok (.iload_n 1, 1) := dk_27 (dk_at dksX0_placeFoam_0 4 rfl rfl)
theorem dX0_placeFoam_5 : decode cX0_placeFoam 5 = .ok (.iload_n 2, 1) := dk_28 (dk_at dksX0_placeFoam_0 5 rfl rfl)
theorem dX0_placeFoam_6 : decode cX0_placeFoam 6 = .ok (.iload_n 3, 1) := dk_29 (dk_at dksX0_placeFoam_0 6 rfl rfl)
theorem dX0_placeFoam_7 : decode cX0_placeFoam 7 = .ok (.invokevirtual 7, 3) := dk_182 0 7 (dk_at dksX0_placeFoam_0 7 rfl rfl)
theorem dX0_placeFoam_10 : decode cX0_placeFoam 10 = .ok (.i2l, 1) := dk_133 (dk_at dksX0_placeFoam_0 10 rfl rfl)
theorem dX0_placeFoam_11 : decode cX0_placeFoam 11 = .ok (.lastore, 1) := dk_80 (dk_at dksX0_placeFoam_0 11 rfl rfl)
theorem dX0_placeFoam_12 : decode cX0_placeFoam 12 = .ok (.goto 11, 3) := dk_167 0 11 (dk_at dksX0_placeFoam_0 12 rfl rfl)
theorem dX0_placeFoam_15 : decode cX0_placeFoam 15 = .ok (.astore 5, 2) := dk_58 5 (dk_at dksX0_placeFoam_0 15 rfl rfl)
theorem dX0_placeFoam_17 : decode cX0_placeFoam 17 = .ok (.iconst 1, 1) := dk_4 (dk_at dksX0_placeFoam_0 17 rfl rfl)
theorem dX0_placeFoam_18 : decode cX0_placeFoam 18 = .ok (.ireturn, 1) := dk_172 (dk_at dksX0_placeFoam_0 18 rfl rfl)
theorem dX0_placeFoam_19 : decode cX0_placeFoam 19 = .ok (.astore 5, 2) := dk_58 5 (dk_at dksX0_placeFoam_0 19 rfl rfl)
theorem dX0_placeFoam_21 : decode cX0_placeFoam 21 = .ok (.iconst 2, 1) := dk_5 (dk_at dksX0_placeFoam_0 21 rfl rfl)
theorem dX0_placeFoam_22 : decode cX0_placeFoam 22 = .ok (.ireturn, 1) := dk_172 (dk_at dksX0_placeFoam_0 22 rfl rfl)
theorem dX0_placeFoam_23 : decode cX0_placeFoam 23 = .ok (.iconst 0, 1) := dk_3 (dk_at dksX0_placeFoam_0 23 rfl rfl)
theorem dX0_placeFoam_24 : decode cX0_placeFoam 24 = .ok (.ireturn, 1) := dk_172 (dk_at dksX0_placeFoam_1 0 rfl rfl)
abbrev cX0_placeBoard : ByteArray := method_4_code
def yX0_placeBoard : MethodName := ⟨RX0, "placeBoard", "(LFortPlanner;III[J)I"⟩
def dkwX0_placeBoard_1 : List UInt8 := [172]
abbrev dktX0_placeBoard_1 : List UInt8 := dkwX0_placeBoard_1 ++ []
def dkwX0_placeBoard_0 : List UInt8 := [25, 4, 3, 42, 27, 28, 29, 182, 0, 17, 133, 80, 167, 0, 11, 58, 5, 4, 172, 58, 5, 5, 172, 3]
abbrev dktX0_placeBoard_0 : List UInt8 := dkwX0_placeBoard_0 ++ dktX0_placeBoard_1
theorem dksX0_placeBoard_0 : cX0_placeBoard.data.toList.drop 0 = dktX0_placeBoard_0 := by decide +kernel
theorem dksX0_placeBoard_1 : cX0_placeBoard.data.toList.drop 24 = dktX0_placeBoard_1 := dk_seg dksX0_placeBoard_0 24 rfl rfl
theorem dX0_placeBoard_0 : decode cX0_placeBoard 0 = .ok (.aload 4, 2) := dk_25 4 (dk_at dksX0_placeBoard_0 0 rfl rfl)
theorem dX0_placeBoard_2 : decode cX0_placeBoard 2 = .ok (.iconst 0, 1) := dk_3 (dk_at dksX0_placeBoard_0 2 rfl rfl)
theorem dX0_placeBoard_3 : decode cX0_placeBoard 3 = .ok (.aload_n 0, 1) := dk_42 (dk_at dksX0_placeBoard_0 3 rfl rfl)
theorem dX0_placeBoard_4 : decode cX0_placeBoard 4 = .ok (.iload_n 1, 1) := dk_27 (dk_at dksX0_placeBoard_0 4 rfl rfl)
theorem dX0_placeBoard_5 : decode cX0_placeBoard 5 = .ok (.iload_n 2, 1) := dk_28 (dk_at dksX0_placeBoard_0 5 rfl rfl)
theorem dX0_placeBoard_6 : decode cX0_placeBoard 6 = .ok (.iload_n 3, 1) := dk_29 (dk_at dksX0_placeBoard_0 6 rfl rfl)
theorem dX0_placeBoard_7 : decode cX0_placeBoard 7 = .ok (.invokevirtual 17, 3) := dk_182 0 17 (dk_at dksX0_placeBoard_0 7 rfl rfl)
theorem dX0_placeBoard_10 : decode cX0_placeBoard 10 = .ok (.i2l, 1) := dk_133 (dk_at dksX0_placeBoard_0 10 rfl rfl)
theorem dX0_placeBoard_11 : decode cX0_placeBoard 11 = .ok (.lastore, 1) := dk_80 (dk_at dksX0_placeBoard_0 11 rfl rfl)
theorem dX0_placeBoard_12 : decode cX0_placeBoard 12 = .ok (.goto 11, 3) := dk_167 0 11 (dk_at dksX0_placeBoard_0 12 rfl rfl)
theorem dX0_placeBoard_15 : decode cX0_placeBoard 15 = .ok (.astore 5, 2) := dk_58 5 (dk_at dksX0_placeBoard_0 15 rfl rfl)
theorem dX0_placeBoard_17 : decode cX0_placeBoard 17 = .ok (.iconst 1, 1) := dk_4 (dk_at dksX0_placeBoard_0 17 rfl rfl)
theorem dX0_placeBoard_18 : decode cX0_placeBoard 18 = .ok (.ireturn, 1) := dk_172 (dk_at dksX0_placeBoard_0 18 rfl rfl)
theorem dX0_placeBoard_19 : decode cX0_placeBoard 19 = .ok (.astore 5, 2) := dk_58 5 (dk_at dksX0_placeBoard_0 19 rfl rfl)
theorem dX0_placeBoard_21 : decode cX0_placeBoard 21 = .ok (.iconst 2, 1) := dk_5 (dk_at dksX0_placeBoard_0 21 rfl rfl)
theorem dX0_placeBoard_22 : decode cX0_placeBoard 22 = .ok (.ireturn, 1) := dk_172 (dk_at dksX0_placeBoard_0 22 rfl rfl)
theorem dX0_placeBoard_23 : decode cX0_placeBoard 23 = .ok (.iconst 0, 1) := dk_3 (dk_at dksX0_placeBoard_0 23 rfl rfl)
theorem dX0_placeBoard_24 : decode cX0_placeBoard 24 = .ok (.ireturn, 1) := dk_172 (dk_at dksX0_placeBoard_1 0 rfl rfl)
abbrev cX0_placeBag : ByteArray := method_5_code
def yX0_placeBag : MethodName := ⟨RX0, "placeBag", "(LFortPlanner;III[J)I"⟩
def dkwX0_placeBag_1 : List UInt8 := [172]
abbrev dktX0_placeBag_1 : List UInt8 := dkwX0_placeBag_1 ++ []
def dkwX0_placeBag_0 : List UInt8 := [25, 4, 3, 42, 27, 28, 29, 182, 0, 20, 133, 80, 167, 0, 11, 58, 5, 4, 172, 58, 5, 5, 172, 3]
abbrev dktX0_placeBag_0 : List UInt8 := dkwX0_placeBag_0 ++ dktX0_placeBag_1
theorem dksX0_placeBag_0 : cX0_placeBag.data.toList.drop 0 = dktX0_placeBag_0 := by decide +kernel
theorem dksX0_placeBag_1 : cX0_placeBag.data.toList.drop 24 = dktX0_placeBag_1 := dk_seg dksX0_placeBag_0 24 rfl rfl
theorem dX0_placeBag_0 : decode cX0_placeBag 0 = .ok (.aload 4, 2) := dk_25 4 (dk_at dksX0_placeBag_0 0 rfl rfl)
theorem dX0_placeBag_2 : decode cX0_placeBag 2 = .ok (.iconst 0, 1) := dk_3 (dk_at dksX0_placeBag_0 2 rfl rfl)
theorem dX0_placeBag_3 : decode cX0_placeBag 3 = .ok (.aload_n 0, 1) := dk_42 (dk_at dksX0_placeBag_0 3 rfl rfl)
theorem dX0_placeBag_4 : decode cX0_placeBag 4 = .ok (.iload_n 1, 1) := dk_27 (dk_at dksX0_placeBag_0 4 rfl rfl)
theorem dX0_placeBag_5 : decode cX0_placeBag 5 = .ok (.iload_n 2, 1) := dk_28 (dk_at dksX0_placeBag_0 5 rfl rfl)
theorem dX0_placeBag_6 : decode cX0_placeBag 6 = .ok (.iload_n 3, 1) := dk_29 (dk_at dksX0_placeBag_0 6 rfl rfl)
theorem dX0_placeBag_7 : decode cX0_placeBag 7 = .ok (.invokevirtual 20, 3) := dk_182 0 20 (dk_at dksX0_placeBag_0 7 rfl rfl)
theorem dX0_placeBag_10 : decode cX0_placeBag 10 = .ok (.i2l, 1) := dk_133 (dk_at dksX0_placeBag_0 10 rfl rfl)
theorem dX0_placeBag_11 : decode cX0_placeBag 11 = .ok (.lastore, 1) := dk_80 (dk_at dksX0_placeBag_0 11 rfl rfl)
theorem dX0_placeBag_12 : decode cX0_placeBag 12 = .ok (.goto 11, 3) := dk_167 0 11 (dk_at dksX0_placeBag_0 12 rfl rfl)
theorem dX0_placeBag_15 : decode cX0_placeBag 15 = .ok (.astore 5, 2) := dk_58 5 (dk_at dksX0_placeBag_0 15 rfl rfl)
theorem dX0_placeBag_17 : decode cX0_placeBag 17 = .ok (.iconst 1, 1) := dk_4 (dk_at dksX0_placeBag_0 17 rfl rfl)
theorem dX0_placeBag_18 : decode cX0_placeBag 18 = .ok (.ireturn, 1) := dk_172 (dk_at dksX0_placeBag_0 18 rfl rfl)
theorem dX0_placeBag_19 : decode cX0_placeBag 19 = .ok (.astore 5, 2) := dk_58 5 (dk_at dksX0_placeBag_0 19 rfl rfl)
theorem dX0_placeBag_21 : decode cX0_placeBag 21 = .ok (.iconst 2, 1) := dk_5 (dk_at dksX0_placeBag_0 21 rfl rfl)
theorem dX0_placeBag_22 : decode cX0_placeBag 22 = .ok (.ireturn, 1) := dk_172 (dk_at dksX0_placeBag_0 22 rfl rfl)
theorem dX0_placeBag_23 : decode cX0_placeBag 23 = .ok (.iconst 0, 1) := dk_3 (dk_at dksX0_placeBag_0 23 rfl rfl)
theorem dX0_placeBag_24 : decode cX0_placeBag 24 = .ok (.ireturn, 1) := dk_172 (dk_at dksX0_placeBag_1 0 rfl rfl)
abbrev cX0_remove : ByteArray := method_6_code
def yX0_remove : MethodName := ⟨RX0, "remove", "(LFortPlanner;I[J)I"⟩
def dkwX0_remove_0 : List UInt8 := [44, 3, 42, 27, 182, 0, 23, 133, 80, 167, 0, 9, 78, 4, 172, 78, 5, 172, 3, 172]
abbrev dktX0_remove_0 : List UInt8 := dkwX0_remove_0 ++ []
theorem dksX0_remove_0 : cX0_remove.data.toList.drop 0 = dktX0_remove_0 := by decide +kernel
theorem dX0_remove_0 : decode cX0_remove 0 = .ok (.aload_n 2, 1) := dk_44 (dk_at dksX0_remove_0 0 rfl rfl)
theorem dX0_remove_1 : decode cX0_remove 1 = .ok (.iconst 0, 1) := dk_3 (dk_at dksX0_remove_0 1 rfl rfl)
theorem dX0_remove_2 : decode cX0_remove 2 = .ok (.aload_n 0, 1) := dk_42 (dk_at dksX0_remove_0 2 rfl rfl)
theorem dX0_remove_3 : decode cX0_remove 3 = .ok (.iload_n 1, 1) := dk_27 (dk_at dksX0_remove_0 3 rfl rfl)
theorem dX0_remove_4 : decode cX0_remove 4 = .ok (.invokevirtual 23, 3) := dk_182 0 23 (dk_at dksX0_remove_0 4 rfl rfl)
theorem dX0_remove_7 : decode cX0_remove 7 = .ok (.i2l, 1) := dk_133 (dk_at dksX0_remove_0 7 rfl rfl)
theorem dX0_remove_8 : decode cX0_remove 8 = .ok (.lastore, 1) := dk_80 (dk_at dksX0_remove_0 8 rfl rfl)
theorem dX0_remove_9 : decode cX0_remove 9 = .ok (.goto 9, 3) := dk_167 0 9 (dk_at dksX0_remove_0 9 rfl rfl)
theorem dX0_remove_12 : decode cX0_remove 12 = .ok (.astore_n 3, 1) := dk_78 (dk_at dksX0_remove_0 12 rfl rfl)
theorem dX0_remove_13 : decode cX0_remove 13 = .ok (.iconst 1, 1) := dk_4 (dk_at dksX0_remove_0 13 rfl rfl)
theorem dX0_remove_14 : decode cX0_remove 14 = .ok (.ireturn, 1) := dk_172 (dk_at dksX0_remove_0 14 rfl rfl)
theorem dX0_remove_15 : decode cX0_remove 15 = .ok (.astore_n 3, 1) := dk_78 (dk_at dksX0_remove_0 15 rfl rfl)
theorem dX0_remove_16 : decode cX0_remove 16 = .ok (.iconst 2, 1) := dk_5 (dk_at dksX0_remove_0 16 rfl rfl)
theorem dX0_remove_17 : decode cX0_remove 17 = .ok (.ireturn, 1) := dk_172 (dk_at dksX0_remove_0 17 rfl rfl)
theorem dX0_remove_18 : decode cX0_remove 18 = .ok (.iconst 0, 1) := dk_3 (dk_at dksX0_remove_0 18 rfl rfl)
theorem dX0_remove_19 : decode cX0_remove 19 = .ok (.ireturn, 1) := dk_172 (dk_at dksX0_remove_0 19 rfl rfl)
abbrev cX0_setZone : ByteArray := method_7_code
def yX0_setZone : MethodName := ⟨RX0, "setZone", "(LFortPlanner;IC[J)I"⟩
def dkwX0_setZone_0 : List UInt8 := [45, 3, 42, 27, 28, 182, 0, 29, 133, 80, 167, 0, 11, 58, 4, 4, 172, 58, 4, 5, 172, 3, 172]
abbrev dktX0_setZone_0 : List UInt8 := dkwX0_setZone_0 ++ []
theorem dksX0_setZone_0 : cX0_setZone.data.toList.drop 0 = dktX0_setZone_0 := by decide +kernel
theorem dX0_setZone_0 : decode cX0_setZone 0 = .ok (.aload_n 3, 1) := dk_45 (dk_at dksX0_setZone_0 0 rfl rfl)
theorem dX0_setZone_1 : decode cX0_setZone 1 = .ok (.iconst 0, 1) := dk_3 (dk_at dksX0_setZone_0 1 rfl rfl)
theorem dX0_setZone_2 : decode cX0_setZone 2 = .ok (.aload_n 0, 1) := dk_42 (dk_at dksX0_setZone_0 2 rfl rfl)
theorem dX0_setZone_3 : decode cX0_setZone 3 = .ok (.iload_n 1, 1) := dk_27 (dk_at dksX0_setZone_0 3 rfl rfl)
theorem dX0_setZone_4 : decode cX0_setZone 4 = .ok (.iload_n 2, 1) := dk_28 (dk_at dksX0_setZone_0 4 rfl rfl)
theorem dX0_setZone_5 : decode cX0_setZone 5 = .ok (.invokevirtual 29, 3) := dk_182 0 29 (dk_at dksX0_setZone_0 5 rfl rfl)
theorem dX0_setZone_8 : decode cX0_setZone 8 = .ok (.i2l, 1) := dk_133 (dk_at dksX0_setZone_0 8 rfl rfl)
theorem dX0_setZone_9 : decode cX0_setZone 9 = .ok (.lastore, 1) := dk_80 (dk_at dksX0_setZone_0 9 rfl rfl)
theorem dX0_setZone_10 : decode cX0_setZone 10 = .ok (.goto 11, 3) := dk_167 0 11 (dk_at dksX0_setZone_0 10 rfl rfl)
theorem dX0_setZone_13 : decode cX0_setZone 13 = .ok (.astore 4, 2) := dk_58 4 (dk_at dksX0_setZone_0 13 rfl rfl)
theorem dX0_setZone_15 : decode cX0_setZone 15 = .ok (.iconst 1, 1) := dk_4 (dk_at dksX0_setZone_0 15 rfl rfl)
theorem dX0_setZone_16 : decode cX0_setZone 16 = .ok (.ireturn, 1) := dk_172 (dk_at dksX0_setZone_0 16 rfl rfl)
theorem dX0_setZone_17 : decode cX0_setZone 17 = .ok (.astore 4, 2) := dk_58 4 (dk_at dksX0_setZone_0 17 rfl rfl)
theorem dX0_setZone_19 : decode cX0_setZone 19 = .ok (.iconst 2, 1) := dk_5 (dk_at dksX0_setZone_0 19 rfl rfl)
theorem dX0_setZone_20 : decode cX0_setZone 20 = .ok (.ireturn, 1) := dk_172 (dk_at dksX0_setZone_0 20 rfl rfl)
theorem dX0_setZone_21 : decode cX0_setZone 21 = .ok (.iconst 0, 1) := dk_3 (dk_at dksX0_setZone_0 21 rfl rfl)
theorem dX0_setZone_22 : decode cX0_setZone 22 = .ok (.ireturn, 1) := dk_172 (dk_at dksX0_setZone_0 22 rfl rfl)
abbrev cX0_addTorch : ByteArray := method_8_code
def yX0_addTorch : MethodName := ⟨RX0, "addTorch", "(LFortPlanner;I[J)I"⟩
def dkwX0_addTorch_0 : List UInt8 := [44, 3, 42, 27, 182, 0, 35, 133, 80, 167, 0, 9, 78, 4, 172, 78, 5, 172, 3, 172]
abbrev dktX0_addTorch_0 : List UInt8 := dkwX0_addTorch_0 ++ []
theorem dksX0_addTorch_0 : cX0_addTorch.data.toList.drop 0 = dktX0_addTorch_0 := by decide +kernel
theorem dX0_addTorch_0 : decode cX0_addTorch 0 = .ok (.aload_n 2, 1) := dk_44 (dk_at dksX0_addTorch_0 0 rfl rfl)
theorem dX0_addTorch_1 : decode cX0_addTorch 1 = .ok (.iconst 0, 1) := dk_3 (dk_at dksX0_addTorch_0 1 rfl rfl)
theorem dX0_addTorch_2 : decode cX0_addTorch 2 = .ok (.aload_n 0, 1) := dk_42 (dk_at dksX0_addTorch_0 2 rfl rfl)
theorem dX0_addTorch_3 : decode cX0_addTorch 3 = .ok (.iload_n 1, 1) := dk_27 (dk_at dksX0_addTorch_0 3 rfl rfl)
theorem dX0_addTorch_4 : decode cX0_addTorch 4 = .ok (.invokevirtual 35, 3) := dk_182 0 35 (dk_at dksX0_addTorch_0 4 rfl rfl)
theorem dX0_addTorch_7 : decode cX0_addTorch 7 = .ok (.i2l, 1) := dk_133 (dk_at dksX0_addTorch_0 7 rfl rfl)
theorem dX0_addTorch_8 : decode cX0_addTorch 8 = .ok (.lastore, 1) := dk_80 (dk_at dksX0_addTorch_0 8 rfl rfl)
theorem dX0_addTorch_9 : decode cX0_addTorch 9 = .ok (.goto 9, 3) := dk_167 0 9 (dk_at dksX0_addTorch_0 9 rfl rfl)
theorem dX0_addTorch_12 : decode cX0_addTorch 12 = .ok (.astore_n 3, 1) := dk_78 (dk_at dksX0_addTorch_0 12 rfl rfl)
theorem dX0_addTorch_13 : decode cX0_addTorch 13 = .ok (.iconst 1, 1) := dk_4 (dk_at dksX0_addTorch_0 13 rfl rfl)
theorem dX0_addTorch_14 : decode cX0_addTorch 14 = .ok (.ireturn, 1) := dk_172 (dk_at dksX0_addTorch_0 14 rfl rfl)
theorem dX0_addTorch_15 : decode cX0_addTorch 15 = .ok (.astore_n 3, 1) := dk_78 (dk_at dksX0_addTorch_0 15 rfl rfl)
theorem dX0_addTorch_16 : decode cX0_addTorch 16 = .ok (.iconst 2, 1) := dk_5 (dk_at dksX0_addTorch_0 16 rfl rfl)
theorem dX0_addTorch_17 : decode cX0_addTorch 17 = .ok (.ireturn, 1) := dk_172 (dk_at dksX0_addTorch_0 17 rfl rfl)
theorem dX0_addTorch_18 : decode cX0_addTorch 18 = .ok (.iconst 0, 1) := dk_3 (dk_at dksX0_addTorch_0 18 rfl rfl)
theorem dX0_addTorch_19 : decode cX0_addTorch 19 = .ok (.ireturn, 1) := dk_172 (dk_at dksX0_addTorch_0 19 rfl rfl)
abbrev cX0_removeTorch : ByteArray := method_9_code
def yX0_removeTorch : MethodName := ⟨RX0, "removeTorch", "(LFortPlanner;I[J)I"⟩
def dkwX0_removeTorch_0 : List UInt8 := [44, 3, 42, 27, 182, 0, 38, 133, 80, 167, 0, 9, 78, 4, 172, 78, 5, 172, 3, 172]
abbrev dktX0_removeTorch_0 : List UInt8 := dkwX0_removeTorch_0 ++ []
theorem dksX0_removeTorch_0 : cX0_removeTorch.data.toList.drop 0 = dktX0_removeTorch_0 := by decide +kernel
theorem dX0_removeTorch_0 : decode cX0_removeTorch 0 = .ok (.aload_n 2, 1) := dk_44 (dk_at dksX0_removeTorch_0 0 rfl rfl)
theorem dX0_removeTorch_1 : decode cX0_removeTorch 1 = .ok (.iconst 0, 1) := dk_3 (dk_at dksX0_removeTorch_0 1 rfl rfl)
theorem dX0_removeTorch_2 : decode cX0_removeTorch 2 = .ok (.aload_n 0, 1) := dk_42 (dk_at dksX0_removeTorch_0 2 rfl rfl)
theorem dX0_removeTorch_3 : decode cX0_removeTorch 3 = .ok (.iload_n 1, 1) := dk_27 (dk_at dksX0_removeTorch_0 3 rfl rfl)
theorem dX0_removeTorch_4 : decode cX0_removeTorch 4 = .ok (.invokevirtual 38, 3) := dk_182 0 38 (dk_at dksX0_removeTorch_0 4 rfl rfl)
theorem dX0_removeTorch_7 : decode cX0_removeTorch 7 = .ok (.i2l, 1) := dk_133 (dk_at dksX0_removeTorch_0 7 rfl rfl)
theorem dX0_removeTorch_8 : decode cX0_removeTorch 8 = .ok (.lastore, 1) := dk_80 (dk_at dksX0_removeTorch_0 8 rfl rfl)
theorem dX0_removeTorch_9 : decode cX0_removeTorch 9 = .ok (.goto 9, 3) := dk_167 0 9 (dk_at dksX0_removeTorch_0 9 rfl rfl)
theorem dX0_removeTorch_12 : decode cX0_removeTorch 12 = .ok (.astore_n 3, 1) := dk_78 (dk_at dksX0_removeTorch_0 12 rfl rfl)
theorem dX0_removeTorch_13 : decode cX0_removeTorch 13 = .ok (.iconst 1, 1) := dk_4 (dk_at dksX0_removeTorch_0 13 rfl rfl)
theorem dX0_removeTorch_14 : decode cX0_removeTorch 14 = .ok (.ireturn, 1) := dk_172 (dk_at dksX0_removeTorch_0 14 rfl rfl)
theorem dX0_removeTorch_15 : decode cX0_removeTorch 15 = .ok (.astore_n 3, 1) := dk_78 (dk_at dksX0_removeTorch_0 15 rfl rfl)
theorem dX0_removeTorch_16 : decode cX0_removeTorch 16 = .ok (.iconst 2, 1) := dk_5 (dk_at dksX0_removeTorch_0 16 rfl rfl)
theorem dX0_removeTorch_17 : decode cX0_removeTorch 17 = .ok (.ireturn, 1) := dk_172 (dk_at dksX0_removeTorch_0 17 rfl rfl)
theorem dX0_removeTorch_18 : decode cX0_removeTorch 18 = .ok (.iconst 0, 1) := dk_3 (dk_at dksX0_removeTorch_0 18 rfl rfl)
theorem dX0_removeTorch_19 : decode cX0_removeTorch 19 = .ok (.ireturn, 1) := dk_172 (dk_at dksX0_removeTorch_0 19 rfl rfl)
abbrev cX0_canPlaceFoam : ByteArray := method_10_code
def yX0_canPlaceFoam : MethodName := ⟨RX0, "canPlaceFoam", "(LFortPlanner;III[J)I"⟩
def dkwX0_canPlaceFoam_1 : List UInt8 := [4, 172, 3, 172]
abbrev dktX0_canPlaceFoam_1 : List UInt8 := dkwX0_canPlaceFoam_1 ++ []
def dkwX0_canPlaceFoam_0 : List UInt8 := [25, 4, 3, 42, 27, 28, 29, 182, 0, 41, 153, 0, 7, 10, 167, 0, 4, 9, 80, 167, 0, 7, 58, 5]
abbrev dktX0_canPlaceFoam_0 : List UInt8 := dkwX0_canPlaceFoam_0 ++ dktX0_canPlaceFoam_1
theorem dksX0_canPlaceFoam_0 : cX0_canPlaceFoam.data.toList.drop 0 = dktX0_canPlaceFoam_0 := by decide +kernel
theorem dksX0_canPlaceFoam_1 : cX0_canPlaceFoam.data.toList.drop 24 = dktX0_canPlaceFoam_1 := dk_seg dksX0_canPlaceFoam_0 24 rfl rfl
theorem dX0_canPlaceFoam_0 : decode cX0_canPlaceFoam 0 = .ok (.aload 4, 2) := dk_25 4 (dk_at dksX0_canPlaceFoam_0 0 rfl rfl)
theorem dX0_canPlaceFoam_2 : decode cX0_canPlaceFoam 2 = .ok (.iconst 0, 1) := dk_3 (dk_at dksX0_canPlaceFoam_0 2 rfl rfl)
theorem dX0_canPlaceFoam_3 : decode cX0_canPlaceFoam 3 = .ok (.aload_n 0, 1) := dk_42 (dk_at dksX0_canPlaceFoam_0 3 rfl rfl)
theorem dX0_canPlaceFoam_4 : decode cX0_canPlaceFoam 4 = .ok (.iload_n 1, 1) := dk_27 (dk_at dksX0_canPlaceFoam_0 4 rfl rfl)
theorem dX0_canPlaceFoam_5 : decode cX0_canPlaceFoam 5 = .ok (.iload_n 2, 1) := dk_28 (dk_at dksX0_canPlaceFoam_0 5 rfl rfl)
theorem dX0_canPlaceFoam_6 : decode cX0_canPlaceFoam 6 = .ok (.iload_n 3, 1) := dk_29 (dk_at dksX0_canPlaceFoam_0 6 rfl rfl)
theorem dX0_canPlaceFoam_7 : decode cX0_canPlaceFoam 7 = .ok (.invokevirtual 41, 3) := dk_182 0 41 (dk_at dksX0_canPlaceFoam_0 7 rfl rfl)
theorem dX0_canPlaceFoam_10 : decode cX0_canPlaceFoam 10 = .ok (.ifCond .eq 7, 3) := dk_153 0 7 (dk_at dksX0_canPlaceFoam_0 10 rfl rfl)
theorem dX0_canPlaceFoam_13 : decode cX0_canPlaceFoam 13 = .ok (.lconst 1, 1) := dk_10 (dk_at dksX0_canPlaceFoam_0 13 rfl rfl)
theorem dX0_canPlaceFoam_14 : decode cX0_canPlaceFoam 14 = .ok (.goto 4, 3) := dk_167 0 4 (dk_at dksX0_canPlaceFoam_0 14 rfl rfl)
theorem dX0_canPlaceFoam_17 : decode cX0_canPlaceFoam 17 = .ok (.lconst 0, 1) := dk_9 (dk_at dksX0_canPlaceFoam_0 17 rfl rfl)
theorem dX0_canPlaceFoam_18 : decode cX0_canPlaceFoam 18 = .ok (.lastore, 1) := dk_80 (dk_at dksX0_canPlaceFoam_0 18 rfl rfl)
theorem dX0_canPlaceFoam_19 : decode cX0_canPlaceFoam 19 = .ok (.goto 7, 3) := dk_167 0 7 (dk_at dksX0_canPlaceFoam_0 19 rfl rfl)
theorem dX0_canPlaceFoam_22 : decode cX0_canPlaceFoam 22 = .ok (.astore 5, 2) := dk_58 5 (dk_at dksX0_canPlaceFoam_0 22 rfl rfl)
theorem dX0_canPlaceFoam_24 : decode cX0_canPlaceFoam 24 = .ok (.iconst 1, 1) := dk_4 (dk_at dksX0_canPlaceFoam_1 0 rfl rfl)
theorem dX0_canPlaceFoam_25 : decode cX0_canPlaceFoam 25 = .ok (.ireturn, 1) := dk_172 (dk_at dksX0_canPlaceFoam_1 1 rfl rfl)
theorem dX0_canPlaceFoam_26 : decode cX0_canPlaceFoam 26 = .ok (.iconst 0, 1) := dk_3 (dk_at dksX0_canPlaceFoam_1 2 rfl rfl)
theorem dX0_canPlaceFoam_27 : decode cX0_canPlaceFoam 27 = .ok (.ireturn, 1) := dk_172 (dk_at dksX0_canPlaceFoam_1 3 rfl rfl)
abbrev cX0_canPlaceBoard : ByteArray := method_11_code
def yX0_canPlaceBoard : MethodName := ⟨RX0, "canPlaceBoard", "(LFortPlanner;III[J)I"⟩
def dkwX0_canPlaceBoard_1 : List UInt8 := [4, 172, 3, 172]
abbrev dktX0_canPlaceBoard_1 : List UInt8 := dkwX0_canPlaceBoard_1 ++ []
def dkwX0_canPlaceBoard_0 : List UInt8 := [25, 4, 3, 42, 27, 28, 29, 182, 0, 45, 153, 0, 7, 10, 167, 0, 4, 9, 80, 167, 0, 7, 58, 5]
abbrev dktX0_canPlaceBoard_0 : List UInt8 := dkwX0_canPlaceBoard_0 ++ dktX0_canPlaceBoard_1
theorem dksX0_canPlaceBoard_0 : cX0_canPlaceBoard.data.toList.drop 0 = dktX0_canPlaceBoard_0 := by decide +kernel
theorem dksX0_canPlaceBoard_1 : cX0_canPlaceBoard.data.toList.drop 24 = dktX0_canPlaceBoard_1 := dk_seg dksX0_canPlaceBoard_0 24 rfl rfl
theorem dX0_canPlaceBoard_0 : decode cX0_canPlaceBoard 0 = .ok (.aload 4, 2) := dk_25 4 (dk_at dksX0_canPlaceBoard_0 0 rfl rfl)
theorem dX0_canPlaceBoard_2 : decode cX0_canPlaceBoard 2 = .ok (.iconst 0, 1) := dk_3 (dk_at dksX0_canPlaceBoard_0 2 rfl rfl)
theorem dX0_canPlaceBoard_3 : decode cX0_canPlaceBoard 3 = .ok (.aload_n 0, 1) := dk_42 (dk_at dksX0_canPlaceBoard_0 3 rfl rfl)
theorem dX0_canPlaceBoard_4 : decode cX0_canPlaceBoard 4 = .ok (.iload_n 1, 1) := dk_27 (dk_at dksX0_canPlaceBoard_0 4 rfl rfl)
theorem dX0_canPlaceBoard_5 : decode cX0_canPlaceBoard 5 = .ok (.iload_n 2, 1) := dk_28 (dk_at dksX0_canPlaceBoard_0 5 rfl rfl)
theorem dX0_canPlaceBoard_6 : decode cX0_canPlaceBoard 6 = .ok (.iload_n 3, 1) := dk_29 (dk_at dksX0_canPlaceBoard_0 6 rfl rfl)
theorem dX0_canPlaceBoard_7 : decode cX0_canPlaceBoard 7 = .ok (.invokevirtual 45, 3) := dk_182 0 45 (dk_at dksX0_canPlaceBoard_0 7 rfl rfl)
theorem dX0_canPlaceBoard_10 : decode cX0_canPlaceBoard 10 = .ok (.ifCond .eq 7, 3) := dk_153 0 7 (dk_at dksX0_canPlaceBoard_0 10 rfl rfl)
theorem dX0_canPlaceBoard_13 : decode cX0_canPlaceBoard 13 = .ok (.lconst 1, 1) := dk_10 (dk_at dksX0_canPlaceBoard_0 13 rfl rfl)
theorem dX0_canPlaceBoard_14 : decode cX0_canPlaceBoard 14 = .ok (.goto 4, 3) := dk_167 0 4 (dk_at dksX0_canPlaceBoard_0 14 rfl rfl)
theorem dX0_canPlaceBoard_17 : decode cX0_canPlaceBoard 17 = .ok (.lconst 0, 1) := dk_9 (dk_at dksX0_canPlaceBoard_0 17 rfl rfl)
theorem dX0_canPlaceBoard_18 : decode cX0_canPlaceBoard 18 = .ok (.lastore, 1) := dk_80 (dk_at dksX0_canPlaceBoard_0 18 rfl rfl)
theorem dX0_canPlaceBoard_19 : decode cX0_canPlaceBoard 19 = .ok (.goto 7, 3) := dk_167 0 7 (dk_at dksX0_canPlaceBoard_0 19 rfl rfl)
theorem dX0_canPlaceBoard_22 : decode cX0_canPlaceBoard 22 = .ok (.astore 5, 2) := dk_58 5 (dk_at dksX0_canPlaceBoard_0 22 rfl rfl)
theorem dX0_canPlaceBoard_24 : decode cX0_canPlaceBoard 24 = .ok (.iconst 1, 1) := dk_4 (dk_at dksX0_canPlaceBoard_1 0 rfl rfl)
theorem dX0_canPlaceBoard_25 : decode cX0_canPlaceBoard 25 = .ok (.ireturn, 1) := dk_172 (dk_at dksX0_canPlaceBoard_1 1 rfl rfl)
theorem dX0_canPlaceBoard_26 : decode cX0_canPlaceBoard 26 = .ok (.iconst 0, 1) := dk_3 (dk_at dksX0_canPlaceBoard_1 2 rfl rfl)
theorem dX0_canPlaceBoard_27 : decode cX0_canPlaceBoard 27 = .ok (.ireturn, 1) := dk_172 (dk_at dksX0_canPlaceBoard_1 3 rfl rfl)
abbrev cX0_canPlaceBag : ByteArray := method_12_code
def yX0_canPlaceBag : MethodName := ⟨RX0, "canPlaceBag", "(LFortPlanner;III[J)I"⟩
def dkwX0_canPlaceBag_1 : List UInt8 := [4, 172, 3, 172]
abbrev dktX0_canPlaceBag_1 : List UInt8 := dkwX0_canPlaceBag_1 ++ []
def dkwX0_canPlaceBag_0 : List UInt8 := [25, 4, 3, 42, 27, 28, 29, 182, 0, 48, 153, 0, 7, 10, 167, 0, 4, 9, 80, 167, 0, 7, 58, 5]
abbrev dktX0_canPlaceBag_0 : List UInt8 := dkwX0_canPlaceBag_0 ++ dktX0_canPlaceBag_1
theorem dksX0_canPlaceBag_0 : cX0_canPlaceBag.data.toList.drop 0 = dktX0_canPlaceBag_0 := by decide +kernel
theorem dksX0_canPlaceBag_1 : cX0_canPlaceBag.data.toList.drop 24 = dktX0_canPlaceBag_1 := dk_seg dksX0_canPlaceBag_0 24 rfl rfl
theorem dX0_canPlaceBag_0 : decode cX0_canPlaceBag 0 = .ok (.aload 4, 2) := dk_25 4 (dk_at dksX0_canPlaceBag_0 0 rfl rfl)
theorem dX0_canPlaceBag_2 : decode cX0_canPlaceBag 2 = .ok (.iconst 0, 1) := dk_3 (dk_at dksX0_canPlaceBag_0 2 rfl rfl)
theorem dX0_canPlaceBag_3 : decode cX0_canPlaceBag 3 = .ok (.aload_n 0, 1) := dk_42 (dk_at dksX0_canPlaceBag_0 3 rfl rfl)
theorem dX0_canPlaceBag_4 : decode cX0_canPlaceBag 4 = .ok (.iload_n 1, 1) := dk_27 (dk_at dksX0_canPlaceBag_0 4 rfl rfl)
theorem dX0_canPlaceBag_5 : decode cX0_canPlaceBag 5 = .ok (.iload_n 2, 1) := dk_28 (dk_at dksX0_canPlaceBag_0 5 rfl rfl)
theorem dX0_canPlaceBag_6 : decode cX0_canPlaceBag 6 = .ok (.iload_n 3, 1) := dk_29 (dk_at dksX0_canPlaceBag_0 6 rfl rfl)
theorem dX0_canPlaceBag_7 : decode cX0_canPlaceBag 7 = .ok (.invokevirtual 48, 3) := dk_182 0 48 (dk_at dksX0_canPlaceBag_0 7 rfl rfl)
theorem dX0_canPlaceBag_10 : decode cX0_canPlaceBag 10 = .ok (.ifCond .eq 7, 3) := dk_153 0 7 (dk_at dksX0_canPlaceBag_0 10 rfl rfl)
theorem dX0_canPlaceBag_13 : decode cX0_canPlaceBag 13 = .ok (.lconst 1, 1) := dk_10 (dk_at dksX0_canPlaceBag_0 13 rfl rfl)
theorem dX0_canPlaceBag_14 : decode cX0_canPlaceBag 14 = .ok (.goto 4, 3) := dk_167 0 4 (dk_at dksX0_canPlaceBag_0 14 rfl rfl)
theorem dX0_canPlaceBag_17 : decode cX0_canPlaceBag 17 = .ok (.lconst 0, 1) := dk_9 (dk_at dksX0_canPlaceBag_0 17 rfl rfl)
theorem dX0_canPlaceBag_18 : decode cX0_canPlaceBag 18 = .ok (.lastore, 1) := dk_80 (dk_at dksX0_canPlaceBag_0 18 rfl rfl)
theorem dX0_canPlaceBag_19 : decode cX0_canPlaceBag 19 = .ok (.goto 7, 3) := dk_167 0 7 (dk_at dksX0_canPlaceBag_0 19 rfl rfl)
theorem dX0_canPlaceBag_22 : decode cX0_canPlaceBag 22 = .ok (.astore 5, 2) := dk_58 5 (dk_at dksX0_canPlaceBag_0 22 rfl rfl)
theorem dX0_canPlaceBag_24 : decode cX0_canPlaceBag 24 = .ok (.iconst 1, 1) := dk_4 (dk_at dksX0_canPlaceBag_1 0 rfl rfl)
theorem dX0_canPlaceBag_25 : decode cX0_canPlaceBag 25 = .ok (.ireturn, 1) := dk_172 (dk_at dksX0_canPlaceBag_1 1 rfl rfl)
theorem dX0_canPlaceBag_26 : decode cX0_canPlaceBag 26 = .ok (.iconst 0, 1) := dk_3 (dk_at dksX0_canPlaceBag_1 2 rfl rfl)
theorem dX0_canPlaceBag_27 : decode cX0_canPlaceBag 27 = .ok (.ireturn, 1) := dk_172 (dk_at dksX0_canPlaceBag_1 3 rfl rfl)
abbrev cX0_heaviestFoam : ByteArray := method_13_code
def yX0_heaviestFoam : MethodName := ⟨RX0, "heaviestFoam", "(LFortPlanner;II[J)I"⟩
def dkwX0_heaviestFoam_0 : List UInt8 := [45, 3, 42, 27, 28, 182, 0, 51, 133, 80, 167, 0, 11, 58, 4, 4, 172, 58, 4, 5, 172, 3, 172]
abbrev dktX0_heaviestFoam_0 : List UInt8 := dkwX0_heaviestFoam_0 ++ []
theorem dksX0_heaviestFoam_0 : cX0_heaviestFoam.data.toList.drop 0 = dktX0_heaviestFoam_0 := by decide +kernel
theorem dX0_heaviestFoam_0 : decode cX0_heaviestFoam 0 = .ok (.aload_n 3, 1) := dk_45 (dk_at dksX0_heaviestFoam_0 0 rfl rfl)
theorem dX0_heaviestFoam_1 : decode cX0_heaviestFoam 1 = .ok (.iconst 0, 1) := dk_3 (dk_at dksX0_heaviestFoam_0 1 rfl rfl)
theorem dX0_heaviestFoam_2 : decode cX0_heaviestFoam 2 = .ok (.aload_n 0, 1) := dk_42 (dk_at dksX0_heaviestFoam_0 2 rfl rfl)
theorem dX0_heaviestFoam_3 : decode cX0_heaviestFoam 3 = .ok (.iload_n 1, 1) := dk_27 (dk_at dksX0_heaviestFoam_0 3 rfl rfl)
theorem dX0_heaviestFoam_4 : decode cX0_heaviestFoam 4 = .ok (.iload_n 2, 1) := dk_28 (dk_at dksX0_heaviestFoam_0 4 rfl rfl)
theorem dX0_heaviestFoam_5 : decode cX0_heaviestFoam 5 = .ok (.invokevirtual 51, 3) := dk_182 0 51 (dk_at dksX0_heaviestFoam_0 5 rfl rfl)
theorem dX0_heaviestFoam_8 : decode cX0_heaviestFoam 8 = .ok (.i2l, 1) := dk_133 (dk_at dksX0_heaviestFoam_0 8 rfl rfl)
theorem dX0_heaviestFoam_9 : decode cX0_heaviestFoam 9 = .ok (.lastore, 1) := dk_80 (dk_at dksX0_heaviestFoam_0 9 rfl rfl)
theorem dX0_heaviestFoam_10 : decode cX0_heaviestFoam 10 = .ok (.goto 11, 3) := dk_167 0 11 (dk_at dksX0_heaviestFoam_0 10 rfl rfl)
theorem dX0_heaviestFoam_13 : decode cX0_heaviestFoam 13 = .ok (.astore 4, 2) := dk_58 4 (dk_at dksX0_heaviestFoam_0 13 rfl rfl)
theorem dX0_heaviestFoam_15 : decode cX0_heaviestFoam 15 = .ok (.iconst 1, 1) := dk_4 (dk_at dksX0_heaviestFoam_0 15 rfl rfl)
theorem dX0_heaviestFoam_16 : decode cX0_heaviestFoam 16 = .ok (.ireturn, 1) := dk_172 (dk_at dksX0_heaviestFoam_0 16 rfl rfl)
theorem dX0_heaviestFoam_17 : decode cX0_heaviestFoam 17 = .ok (.astore 4, 2) := dk_58 4 (dk_at dksX0_heaviestFoam_0 17 rfl rfl)
theorem dX0_heaviestFoam_19 : decode cX0_heaviestFoam 19 = .ok (.iconst 2, 1) := dk_5 (dk_at dksX0_heaviestFoam_0 19 rfl rfl)
theorem dX0_heaviestFoam_20 : decode cX0_heaviestFoam 20 = .ok (.ireturn, 1) := dk_172 (dk_at dksX0_heaviestFoam_0 20 rfl rfl)
theorem dX0_heaviestFoam_21 : decode cX0_heaviestFoam 21 = .ok (.iconst 0, 1) := dk_3 (dk_at dksX0_heaviestFoam_0 21 rfl rfl)
theorem dX0_heaviestFoam_22 : decode cX0_heaviestFoam 22 = .ok (.ireturn, 1) := dk_172 (dk_at dksX0_heaviestFoam_0 22 rfl rfl)
abbrev cX0_blockAt : ByteArray := method_14_code
def yX0_blockAt : MethodName := ⟨RX0, "blockAt", "(LFortPlanner;I[J)I"⟩
def dkwX0_blockAt_0 : List UInt8 := [44, 3, 42, 27, 182, 0, 55, 133, 80, 167, 0, 6, 78, 4, 172, 3, 172]
abbrev dktX0_blockAt_0 : List UInt8 := dkwX0_blockAt_0 ++ []
theorem dksX0_blockAt_0 : cX0_blockAt.data.toList.drop 0 = dktX0_blockAt_0 := by decide +kernel
theorem dX0_blockAt_0 : decode cX0_blockAt 0 = .ok (.aload_n 2, 1) := dk_44 (dk_at dksX0_blockAt_0 0 rfl rfl)
theorem dX0_blockAt_1 : decode cX0_blockAt 1 = .ok (.iconst 0, 1) := dk_3 (dk_at dksX0_blockAt_0 1 rfl rfl)
theorem dX0_blockAt_2 : decode cX0_blockAt 2 = .ok (.aload_n 0, 1) := dk_42 (dk_at dksX0_blockAt_0 2 rfl rfl)
theorem dX0_blockAt_3 : decode cX0_blockAt 3 = .ok (.iload_n 1, 1) := dk_27 (dk_at dksX0_blockAt_0 3 rfl rfl)
theorem dX0_blockAt_4 : decode cX0_blockAt 4 = .ok (.invokevirtual 55, 3) := dk_182 0 55 (dk_at dksX0_blockAt_0 4 rfl rfl)
theorem dX0_blockAt_7 : decode cX0_blockAt 7 = .ok (.i2l, 1) := dk_133 (dk_at dksX0_blockAt_0 7 rfl rfl)
theorem dX0_blockAt_8 : decode cX0_blockAt 8 = .ok (.lastore, 1) := dk_80 (dk_at dksX0_blockAt_0 8 rfl rfl)
theorem dX0_blockAt_9 : decode cX0_blockAt 9 = .ok (.goto 6, 3) := dk_167 0 6 (dk_at dksX0_blockAt_0 9 rfl rfl)
theorem dX0_blockAt_12 : decode cX0_blockAt 12 = .ok (.astore_n 3, 1) := dk_78 (dk_at dksX0_blockAt_0 12 rfl rfl)
theorem dX0_blockAt_13 : decode cX0_blockAt 13 = .ok (.iconst 1, 1) := dk_4 (dk_at dksX0_blockAt_0 13 rfl rfl)
theorem dX0_blockAt_14 : decode cX0_blockAt 14 = .ok (.ireturn, 1) := dk_172 (dk_at dksX0_blockAt_0 14 rfl rfl)
theorem dX0_blockAt_15 : decode cX0_blockAt 15 = .ok (.iconst 0, 1) := dk_3 (dk_at dksX0_blockAt_0 15 rfl rfl)
theorem dX0_blockAt_16 : decode cX0_blockAt 16 = .ok (.ireturn, 1) := dk_172 (dk_at dksX0_blockAt_0 16 rfl rfl)
abbrev cX0_isFoam : ByteArray := method_15_code
def yX0_isFoam : MethodName := ⟨RX0, "isFoam", "(LFortPlanner;I[J)I"⟩
def dkwX0_isFoam_0 : List UInt8 := [44, 3, 42, 27, 182, 0, 58, 153, 0, 7, 10, 167, 0, 4, 9, 80, 167, 0, 6, 78, 4, 172, 3, 172]
abbrev dktX0_isFoam_0 : List UInt8 := dkwX0_isFoam_0 ++ []
theorem dksX0_isFoam_0 : cX0_isFoam.data.toList.drop 0 = dktX0_isFoam_0 := by decide +kernel
theorem dX0_isFoam_0 : decode cX0_isFoam 0 = .ok (.aload_n 2, 1) := dk_44 (dk_at dksX0_isFoam_0 0 rfl rfl)
theorem dX0_isFoam_1 : decode cX0_isFoam 1 = .ok (.iconst 0, 1) := dk_3 (dk_at dksX0_isFoam_0 1 rfl rfl)
theorem dX0_isFoam_2 : decode cX0_isFoam 2 = .ok (.aload_n 0, 1) := dk_42 (dk_at dksX0_isFoam_0 2 rfl rfl)
theorem dX0_isFoam_3 : decode cX0_isFoam 3 = .ok (.iload_n 1, 1) := dk_27 (dk_at dksX0_isFoam_0 3 rfl rfl)
theorem dX0_isFoam_4 : decode cX0_isFoam 4 = .ok (.invokevirtual 58, 3) := dk_182 0 58 (dk_at dksX0_isFoam_0 4 rfl rfl)
theorem dX0_isFoam_7 : decode cX0_isFoam 7 = .ok (.ifCond .eq 7, 3) := dk_153 0 7 (dk_at dksX0_isFoam_0 7 rfl rfl)
theorem dX0_isFoam_10 : decode cX0_isFoam 10 = .ok (.lconst 1, 1) := dk_10 (dk_at dksX0_isFoam_0 10 rfl rfl)
theorem dX0_isFoam_11 : decode cX0_isFoam 11 = .ok (.goto 4, 3) := dk_167 0 4 (dk_at dksX0_isFoam_0 11 rfl rfl)
theorem dX0_isFoam_14 : decode cX0_isFoam 14 = .ok (.lconst 0, 1) := dk_9 (dk_at dksX0_isFoam_0 14 rfl rfl)
theorem dX0_isFoam_15 : decode cX0_isFoam 15 = .ok (.lastore, 1) := dk_80 (dk_at dksX0_isFoam_0 15 rfl rfl)
theorem dX0_isFoam_16 : decode cX0_isFoam 16 = .ok (.goto 6, 3) := dk_167 0 6 (dk_at dksX0_isFoam_0 16 rfl rfl)
theorem dX0_isFoam_19 : decode cX0_isFoam 19 = .ok (.astore_n 3, 1) := dk_78 (dk_at dksX0_isFoam_0 19 rfl rfl)
theorem dX0_isFoam_20 : decode cX0_isFoam 20 = .ok (.iconst 1, 1) := dk_4 (dk_at dksX0_isFoam_0 20 rfl rfl)
theorem dX0_isFoam_21 : decode cX0_isFoam 21 = .ok (.ireturn, 1) := dk_172 (dk_at dksX0_isFoam_0 21 rfl rfl)
theorem dX0_isFoam_22 : decode cX0_isFoam 22 = .ok (.iconst 0, 1) := dk_3 (dk_at dksX0_isFoam_0 22 rfl rfl)
theorem dX0_isFoam_23 : decode cX0_isFoam 23 = .ok (.ireturn, 1) := dk_172 (dk_at dksX0_isFoam_0 23 rfl rfl)
abbrev cX0_isBoard : ByteArray := method_16_code
def yX0_isBoard : MethodName := ⟨RX0, "isBoard", "(LFortPlanner;I[J)I"⟩
def dkwX0_isBoard_0 : List UInt8 := [44, 3, 42, 27, 182, 0, 62, 153, 0, 7, 10, 167, 0, 4, 9, 80, 167, 0, 6, 78, 4, 172, 3, 172]
abbrev dktX0_isBoard_0 : List UInt8 := dkwX0_isBoard_0 ++ []
theorem dksX0_isBoard_0 : cX0_isBoard.data.toList.drop 0 = dktX0_isBoard_0 := by decide +kernel
theorem dX0_isBoard_0 : decode cX0_isBoard 0 = .ok (.aload_n 2, 1) := dk_44 (dk_at dksX0_isBoard_0 0 rfl rfl)
theorem dX0_isBoard_1 : decode cX0_isBoard 1 = .ok (.iconst 0, 1) := dk_3 (dk_at dksX0_isBoard_0 1 rfl rfl)
theorem dX0_isBoard_2 : decode cX0_isBoard 2 = .ok (.aload_n 0, 1) := dk_42 (dk_at dksX0_isBoard_0 2 rfl rfl)
theorem dX0_isBoard_3 : decode cX0_isBoard 3 = .ok (.iload_n 1, 1) := dk_27 (dk_at dksX0_isBoard_0 3 rfl rfl)
theorem dX0_isBoard_4 : decode cX0_isBoard 4 = .ok (.invokevirtual 62, 3) := dk_182 0 62 (dk_at dksX0_isBoard_0 4 rfl rfl)
theorem dX0_isBoard_7 : decode cX0_isBoard 7 = .ok (.ifCond .eq 7, 3) := dk_153 0 7 (dk_at dksX0_isBoard_0 7 rfl rfl)
theorem dX0_isBoard_10 : decode cX0_isBoard 10 = .ok (.lconst 1, 1) := dk_10 (dk_at dksX0_isBoard_0 10 rfl rfl)
theorem dX0_isBoard_11 : decode cX0_isBoard 11 = .ok (.goto 4, 3) := dk_167 0 4 (dk_at dksX0_isBoard_0 11 rfl rfl)
theorem dX0_isBoard_14 : decode cX0_isBoard 14 = .ok (.lconst 0, 1) := dk_9 (dk_at dksX0_isBoard_0 14 rfl rfl)
theorem dX0_isBoard_15 : decode cX0_isBoard 15 = .ok (.lastore, 1) := dk_80 (dk_at dksX0_isBoard_0 15 rfl rfl)
theorem dX0_isBoard_16 : decode cX0_isBoard 16 = .ok (.goto 6, 3) := dk_167 0 6 (dk_at dksX0_isBoard_0 16 rfl rfl)
theorem dX0_isBoard_19 : decode cX0_isBoard 19 = .ok (.astore_n 3, 1) := dk_78 (dk_at dksX0_isBoard_0 19 rfl rfl)
theorem dX0_isBoard_20 : decode cX0_isBoard 20 = .ok (.iconst 1, 1) := dk_4 (dk_at dksX0_isBoard_0 20 rfl rfl)
theorem dX0_isBoard_21 : decode cX0_isBoard 21 = .ok (.ireturn, 1) := dk_172 (dk_at dksX0_isBoard_0 21 rfl rfl)
theorem dX0_isBoard_22 : decode cX0_isBoard 22 = .ok (.iconst 0, 1) := dk_3 (dk_at dksX0_isBoard_0 22 rfl rfl)
theorem dX0_isBoard_23 : decode cX0_isBoard 23 = .ok (.ireturn, 1) := dk_172 (dk_at dksX0_isBoard_0 23 rfl rfl)
abbrev cX0_left : ByteArray := method_17_code
def yX0_left : MethodName := ⟨RX0, "left", "(LFortPlanner;I[J)I"⟩
def dkwX0_left_0 : List UInt8 := [44, 3, 42, 27, 182, 0, 65, 133, 80, 167, 0, 6, 78, 4, 172, 3, 172]
abbrev dktX0_left_0 : List UInt8 := dkwX0_left_0 ++ []
theorem dksX0_left_0 : cX0_left.data.toList.drop 0 = dktX0_left_0 := by decide +kernel
theorem dX0_left_0 : decode cX0_left 0 = .ok (.aload_n 2, 1) := dk_44 (dk_at dksX0_left_0 0 rfl rfl)
theorem dX0_left_1 : decode cX0_left 1 = .ok (.iconst 0, 1) := dk_3 (dk_at dksX0_left_0 1 rfl rfl)
theorem dX0_left_2 : decode cX0_left 2 = .ok (.aload_n 0, 1) := dk_42 (dk_at dksX0_left_0 2 rfl rfl)
theorem dX0_left_3 : decode cX0_left 3 = .ok (.iload_n 1, 1) := dk_27 (dk_at dksX0_left_0 3 rfl rfl)
theorem dX0_left_4 : decode cX0_left 4 = .ok (.invokevirtual 65, 3) := dk_182 0 65 (dk_at dksX0_left_0 4 rfl rfl)
theorem dX0_left_7 : decode cX0_left 7 = .ok (.i2l, 1) := dk_133 (dk_at dksX0_left_0 7 rfl rfl)
theorem dX0_left_8 : decode cX0_left 8 = .ok (.lastore, 1) := dk_80 (dk_at dksX0_left_0 8 rfl rfl)
theorem dX0_left_9 : decode cX0_left 9 = .ok (.goto 6, 3) := dk_167 0 6 (dk_at dksX0_left_0 9 rfl rfl)
theorem dX0_left_12 : decode cX0_left 12 = .ok (.astore_n 3, 1) := dk_78 (dk_at dksX0_left_0 12 rfl rfl)
theorem dX0_left_13 : decode cX0_left 13 = .ok (.iconst 1, 1) := dk_4 (dk_at dksX0_left_0 13 rfl rfl)
theorem dX0_left_14 : decode cX0_left 14 = .ok (.ireturn, 1) := dk_172 (dk_at dksX0_left_0 14 rfl rfl)
theorem dX0_left_15 : decode cX0_left 15 = .ok (.iconst 0, 1) := dk_3 (dk_at dksX0_left_0 15 rfl rfl)
theorem dX0_left_16 : decode cX0_left 16 = .ok (.ireturn, 1) := dk_172 (dk_at dksX0_left_0 16 rfl rfl)
abbrev cX0_width : ByteArray := method_18_code
def yX0_width : MethodName := ⟨RX0, "width", "(LFortPlanner;I[J)I"⟩
def dkwX0_width_0 : List UInt8 := [44, 3, 42, 27, 182, 0, 68, 133, 80, 167, 0, 6, 78, 4, 172, 3, 172]
abbrev dktX0_width_0 : List UInt8 := dkwX0_width_0 ++ []
theorem dksX0_width_0 : cX0_width.data.toList.drop 0 = dktX0_width_0 := by decide +kernel
theorem dX0_width_0 : decode cX0_width 0 = .ok (.aload_n 2, 1) := dk_44 (dk_at dksX0_width_0 0 rfl rfl)
theorem dX0_width_1 : decode cX0_width 1 = .ok (.iconst 0, 1) := dk_3 (dk_at dksX0_width_0 1 rfl rfl)
theorem dX0_width_2 : decode cX0_width 2 = .ok (.aload_n 0, 1) := dk_42 (dk_at dksX0_width_0 2 rfl rfl)
theorem dX0_width_3 : decode cX0_width 3 = .ok (.iload_n 1, 1) := dk_27 (dk_at dksX0_width_0 3 rfl rfl)
theorem dX0_width_4 : decode cX0_width 4 = .ok (.invokevirtual 68, 3) := dk_182 0 68 (dk_at dksX0_width_0 4 rfl rfl)
theorem dX0_width_7 : decode cX0_width 7 = .ok (.i2l, 1) := dk_133 (dk_at dksX0_width_0 7 rfl rfl)
theorem dX0_width_8 : decode cX0_width 8 = .ok (.lastore, 1) := dk_80 (dk_at dksX0_width_0 8 rfl rfl)
theorem dX0_width_9 : decode cX0_width 9 = .ok (.goto 6, 3) := dk_167 0 6 (dk_at dksX0_width_0 9 rfl rfl)
theorem dX0_width_12 : decode cX0_width 12 = .ok (.astore_n 3, 1) := dk_78 (dk_at dksX0_width_0 12 rfl rfl)
theorem dX0_width_13 : decode cX0_width 13 = .ok (.iconst 1, 1) := dk_4 (dk_at dksX0_width_0 13 rfl rfl)
theorem dX0_width_14 : decode cX0_width 14 = .ok (.ireturn, 1) := dk_172 (dk_at dksX0_width_0 14 rfl rfl)
theorem dX0_width_15 : decode cX0_width 15 = .ok (.iconst 0, 1) := dk_3 (dk_at dksX0_width_0 15 rfl rfl)
theorem dX0_width_16 : decode cX0_width 16 = .ok (.ireturn, 1) := dk_172 (dk_at dksX0_width_0 16 rfl rfl)
abbrev cX0_weight : ByteArray := method_19_code
def yX0_weight : MethodName := ⟨RX0, "weight", "(LFortPlanner;I[J)I"⟩
def dkwX0_weight_0 : List UInt8 := [44, 3, 42, 27, 182, 0, 71, 133, 80, 167, 0, 6, 78, 4, 172, 3, 172]
abbrev dktX0_weight_0 : List UInt8 := dkwX0_weight_0 ++ []
theorem dksX0_weight_0 : cX0_weight.data.toList.drop 0 = dktX0_weight_0 := by decide +kernel
theorem dX0_weight_0 : decode cX0_weight 0 = .ok (.aload_n 2, 1) := dk_44 (dk_at dksX0_weight_0 0 rfl rfl)
theorem dX0_weight_1 : decode cX0_weight 1 = .ok (.iconst 0, 1) := dk_3 (dk_at dksX0_weight_0 1 rfl rfl)
theorem dX0_weight_2 : decode cX0_weight 2 = .ok (.aload_n 0, 1) := dk_42 (dk_at dksX0_weight_0 2 rfl rfl)
theorem dX0_weight_3 : decode cX0_weight 3 = .ok (.iload_n 1, 1) := dk_27 (dk_at dksX0_weight_0 3 rfl rfl)
theorem dX0_weight_4 : decode cX0_weight 4 = .ok (.invokevirtual 71, 3) := dk_182 0 71 (dk_at dksX0_weight_0 4 rfl rfl)
theorem dX0_weight_7 : decode cX0_weight 7 = .ok (.i2l, 1) := dk_133 (dk_at dksX0_weight_0 7 rfl rfl)
theorem dX0_weight_8 : decode cX0_weight 8 = .ok (.lastore, 1) := dk_80 (dk_at dksX0_weight_0 8 rfl rfl)
theorem dX0_weight_9 : decode cX0_weight 9 = .ok (.goto 6, 3) := dk_167 0 6 (dk_at dksX0_weight_0 9 rfl rfl)
theorem dX0_weight_12 : decode cX0_weight 12 = .ok (.astore_n 3, 1) := dk_78 (dk_at dksX0_weight_0 12 rfl rfl)
theorem dX0_weight_13 : decode cX0_weight 13 = .ok (.iconst 1, 1) := dk_4 (dk_at dksX0_weight_0 13 rfl rfl)
theorem dX0_weight_14 : decode cX0_weight 14 = .ok (.ireturn, 1) := dk_172 (dk_at dksX0_weight_0 14 rfl rfl)
theorem dX0_weight_15 : decode cX0_weight 15 = .ok (.iconst 0, 1) := dk_3 (dk_at dksX0_weight_0 15 rfl rfl)
theorem dX0_weight_16 : decode cX0_weight 16 = .ok (.ireturn, 1) := dk_172 (dk_at dksX0_weight_0 16 rfl rfl)
abbrev cX0_strength : ByteArray := method_20_code
def yX0_strength : MethodName := ⟨RX0, "strength", "(LFortPlanner;I[J)I"⟩
def dkwX0_strength_0 : List UInt8 := [44, 3, 42, 27, 182, 0, 74, 133, 80, 167, 0, 6, 78, 4, 172, 3, 172]
abbrev dktX0_strength_0 : List UInt8 := dkwX0_strength_0 ++ []
theorem dksX0_strength_0 : cX0_strength.data.toList.drop 0 = dktX0_strength_0 := by decide +kernel
theorem dX0_strength_0 : decode cX0_strength 0 = .ok (.aload_n 2, 1) := dk_44 (dk_at dksX0_strength_0 0 rfl rfl)
theorem dX0_strength_1 : decode cX0_strength 1 = .ok (.iconst 0, 1) := dk_3 (dk_at dksX0_strength_0 1 rfl rfl)
theorem dX0_strength_2 : decode cX0_strength 2 = .ok (.aload_n 0, 1) := dk_42 (dk_at dksX0_strength_0 2 rfl rfl)
theorem dX0_strength_3 : decode cX0_strength 3 = .ok (.iload_n 1, 1) := dk_27 (dk_at dksX0_strength_0 3 rfl rfl)
theorem dX0_strength_4 : decode cX0_strength 4 = .ok (.invokevirtual 74, 3) := dk_182 0 74 (dk_at dksX0_strength_0 4 rfl rfl)
theorem dX0_strength_7 : decode cX0_strength 7 = .ok (.i2l, 1) := dk_133 (dk_at dksX0_strength_0 7 rfl rfl)
theorem dX0_strength_8 : decode cX0_strength 8 = .ok (.lastore, 1) := dk_80 (dk_at dksX0_strength_0 8 rfl rfl)
theorem dX0_strength_9 : decode cX0_strength 9 = .ok (.goto 6, 3) := dk_167 0 6 (dk_at dksX0_strength_0 9 rfl rfl)
theorem dX0_strength_12 : decode cX0_strength 12 = .ok (.astore_n 3, 1) := dk_78 (dk_at dksX0_strength_0 12 rfl rfl)
theorem dX0_strength_13 : decode cX0_strength 13 = .ok (.iconst 1, 1) := dk_4 (dk_at dksX0_strength_0 13 rfl rfl)
theorem dX0_strength_14 : decode cX0_strength 14 = .ok (.ireturn, 1) := dk_172 (dk_at dksX0_strength_0 14 rfl rfl)
theorem dX0_strength_15 : decode cX0_strength 15 = .ok (.iconst 0, 1) := dk_3 (dk_at dksX0_strength_0 15 rfl rfl)
theorem dX0_strength_16 : decode cX0_strength 16 = .ok (.ireturn, 1) := dk_172 (dk_at dksX0_strength_0 16 rfl rfl)
abbrev cX0_bottom : ByteArray := method_21_code
def yX0_bottom : MethodName := ⟨RX0, "bottom", "(LFortPlanner;I[J)I"⟩
def dkwX0_bottom_0 : List UInt8 := [44, 3, 42, 27, 182, 0, 77, 133, 80, 167, 0, 6, 78, 4, 172, 3, 172]
abbrev dktX0_bottom_0 : List UInt8 := dkwX0_bottom_0 ++ []
theorem dksX0_bottom_0 : cX0_bottom.data.toList.drop 0 = dktX0_bottom_0 := by decide +kernel
theorem dX0_bottom_0 : decode cX0_bottom 0 = .ok (.aload_n 2, 1) := dk_44 (dk_at dksX0_bottom_0 0 rfl rfl)
theorem dX0_bottom_1 : decode cX0_bottom 1 = .ok (.iconst 0, 1) := dk_3 (dk_at dksX0_bottom_0 1 rfl rfl)
theorem dX0_bottom_2 : decode cX0_bottom 2 = .ok (.aload_n 0, 1) := dk_42 (dk_at dksX0_bottom_0 2 rfl rfl)
theorem dX0_bottom_3 : decode cX0_bottom 3 = .ok (.iload_n 1, 1) := dk_27 (dk_at dksX0_bottom_0 3 rfl rfl)
theorem dX0_bottom_4 : decode cX0_bottom 4 = .ok (.invokevirtual 77, 3) := dk_182 0 77 (dk_at dksX0_bottom_0 4 rfl rfl)
theorem dX0_bottom_7 : decode cX0_bottom 7 = .ok (.i2l, 1) := dk_133 (dk_at dksX0_bottom_0 7 rfl rfl)
theorem dX0_bottom_8 : decode cX0_bottom 8 = .ok (.lastore, 1) := dk_80 (dk_at dksX0_bottom_0 8 rfl rfl)
theorem dX0_bottom_9 : decode cX0_bottom 9 = .ok (.goto 6, 3) := dk_167 0 6 (dk_at dksX0_bottom_0 9 rfl rfl)
theorem dX0_bottom_12 : decode cX0_bottom 12 = .ok (.astore_n 3, 1) := dk_78 (dk_at dksX0_bottom_0 12 rfl rfl)
theorem dX0_bottom_13 : decode cX0_bottom 13 = .ok (.iconst 1, 1) := dk_4 (dk_at dksX0_bottom_0 13 rfl rfl)
theorem dX0_bottom_14 : decode cX0_bottom 14 = .ok (.ireturn, 1) := dk_172 (dk_at dksX0_bottom_0 14 rfl rfl)
theorem dX0_bottom_15 : decode cX0_bottom 15 = .ok (.iconst 0, 1) := dk_3 (dk_at dksX0_bottom_0 15 rfl rfl)
theorem dX0_bottom_16 : decode cX0_bottom 16 = .ok (.ireturn, 1) := dk_172 (dk_at dksX0_bottom_0 16 rfl rfl)
abbrev cX0_top : ByteArray := method_22_code
def yX0_top : MethodName := ⟨RX0, "top", "(LFortPlanner;I[J)I"⟩
def dkwX0_top_0 : List UInt8 := [44, 3, 42, 27, 182, 0, 80, 133, 80, 167, 0, 6, 78, 4, 172, 3, 172]
abbrev dktX0_top_0 : List UInt8 := dkwX0_top_0 ++ []
theorem dksX0_top_0 : cX0_top.data.toList.drop 0 = dktX0_top_0 := by decide +kernel
theorem dX0_top_0 : decode cX0_top 0 = .ok (.aload_n 2, 1) := dk_44 (dk_at dksX0_top_0 0 rfl rfl)
theorem dX0_top_1 : decode cX0_top 1 = .ok (.iconst 0, 1) := dk_3 (dk_at dksX0_top_0 1 rfl rfl)
theorem dX0_top_2 : decode cX0_top 2 = .ok (.aload_n 0, 1) := dk_42 (dk_at dksX0_top_0 2 rfl rfl)
theorem dX0_top_3 : decode cX0_top 3 = .ok (.iload_n 1, 1) := dk_27 (dk_at dksX0_top_0 3 rfl rfl)
theorem dX0_top_4 : decode cX0_top 4 = .ok (.invokevirtual 80, 3) := dk_182 0 80 (dk_at dksX0_top_0 4 rfl rfl)
theorem dX0_top_7 : decode cX0_top 7 = .ok (.i2l, 1) := dk_133 (dk_at dksX0_top_0 7 rfl rfl)
theorem dX0_top_8 : decode cX0_top 8 = .ok (.lastore, 1) := dk_80 (dk_at dksX0_top_0 8 rfl rfl)
theorem dX0_top_9 : decode cX0_top 9 = .ok (.goto 6, 3) := dk_167 0 6 (dk_at dksX0_top_0 9 rfl rfl)
theorem dX0_top_12 : decode cX0_top 12 = .ok (.astore_n 3, 1) := dk_78 (dk_at dksX0_top_0 12 rfl rfl)
theorem dX0_top_13 : decode cX0_top 13 = .ok (.iconst 1, 1) := dk_4 (dk_at dksX0_top_0 13 rfl rfl)
theorem dX0_top_14 : decode cX0_top 14 = .ok (.ireturn, 1) := dk_172 (dk_at dksX0_top_0 14 rfl rfl)
theorem dX0_top_15 : decode cX0_top 15 = .ok (.iconst 0, 1) := dk_3 (dk_at dksX0_top_0 15 rfl rfl)
theorem dX0_top_16 : decode cX0_top 16 = .ok (.ireturn, 1) := dk_172 (dk_at dksX0_top_0 16 rfl rfl)
abbrev cX0_supporterCount : ByteArray := method_23_code
def yX0_supporterCount : MethodName := ⟨RX0, "supporterCount", "(LFortPlanner;I[J)I"⟩
def dkwX0_supporterCount_0 : List UInt8 := [44, 3, 42, 27, 182, 0, 83, 133, 80, 167, 0, 6, 78, 4, 172, 3, 172]
abbrev dktX0_supporterCount_0 : List UInt8 := dkwX0_supporterCount_0 ++ []
theorem dksX0_supporterCount_0 : cX0_supporterCount.data.toList.drop 0 = dktX0_supporterCount_0 := by decide +kernel
theorem dX0_supporterCount_0 : decode cX0_supporterCount 0 = .ok (.aload_n 2, 1) := dk_44 (dk_at dksX0_supporterCount_0 0 rfl rfl)
theorem dX0_supporterCount_1 : decode cX0_supporterCount 1 = .ok (.iconst 0, 1) := dk_3 (dk_at dksX0_supporterCount_0 1 rfl rfl)
theorem dX0_supporterCount_2 : decode cX0_supporterCount 2 = .ok (.aload_n 0, 1) := dk_42 (dk_at dksX0_supporterCount_0 2 rfl rfl)
theorem dX0_supporterCount_3 : decode cX0_supporterCount 3 = .ok (.iload_n 1, 1) := dk_27 (dk_at dksX0_supporterCount_0 3 rfl rfl)
theorem dX0_supporterCount_4 : decode cX0_supporterCount 4 = .ok (.invokevirtual 83, 3) := dk_182 0 83 (dk_at dksX0_supporterCount_0 4 rfl rfl)
theorem dX0_supporterCount_7 : decode cX0_supporterCount 7 = .ok (.i2l, 1) := dk_133 (dk_at dksX0_supporterCount_0 7 rfl rfl)
theorem dX0_supporterCount_8 : decode cX0_supporterCount 8 = .ok (.lastore, 1) := dk_80 (dk_at dksX0_supporterCount_0 8 rfl rfl)
theorem dX0_supporterCount_9 : decode cX0_supporterCount 9 = .ok (.goto 6, 3) := dk_167 0 6 (dk_at dksX0_supporterCount_0 9 rfl rfl)
theorem dX0_supporterCount_12 : decode cX0_supporterCount 12 = .ok (.astore_n 3, 1) := dk_78 (dk_at dksX0_supporterCount_0 12 rfl rfl)
theorem dX0_supporterCount_13 : decode cX0_supporterCount 13 = .ok (.iconst 1, 1) := dk_4 (dk_at dksX0_supporterCount_0 13 rfl rfl)
theorem dX0_supporterCount_14 : decode cX0_supporterCount 14 = .ok (.ireturn, 1) := dk_172 (dk_at dksX0_supporterCount_0 14 rfl rfl)
theorem dX0_supporterCount_15 : decode cX0_supporterCount 15 = .ok (.iconst 0, 1) := dk_3 (dk_at dksX0_supporterCount_0 15 rfl rfl)
theorem dX0_supporterCount_16 : decode cX0_supporterCount 16 = .ok (.ireturn, 1) := dk_172 (dk_at dksX0_supporterCount_0 16 rfl rfl)
abbrev cX0_supporterAt : ByteArray := method_24_code
def yX0_supporterAt : MethodName := ⟨RX0, "supporterAt", "(LFortPlanner;II[J)I"⟩
def dkwX0_supporterAt_0 : List UInt8 := [45, 3, 42, 27, 28, 182, 0, 86, 133, 80, 167, 0, 7, 58, 4, 4, 172, 3, 172]
abbrev dktX0_supporterAt_0 : List UInt8 := dkwX0_supporterAt_0 ++ []
theorem dksX0_supporterAt_0 : cX0_supporterAt.data.toList.drop 0 = dktX0_supporterAt_0 := by decide +kernel
theorem dX0_supporterAt_0 : decode cX0_supporterAt 0 = .ok (.aload_n 3, 1) := dk_45 (dk_at dksX0_supporterAt_0 0 rfl rfl)
theorem dX0_supporterAt_1 : decode cX0_supporterAt 1 = .ok (.iconst 0, 1) := dk_3 (dk_at dksX0_supporterAt_0 1 rfl rfl)
theorem dX0_supporterAt_2 : decode cX0_supporterAt 2 = .ok (.aload_n 0, 1) := dk_42 (dk_at dksX0_supporterAt_0 2 rfl rfl)
theorem dX0_supporterAt_3 : decode cX0_supporterAt 3 = .ok (.iload_n 1, 1) := dk_27 (dk_at dksX0_supporterAt_0 3 rfl rfl)
theorem dX0_supporterAt_4 : decode cX0_supporterAt 4 = .ok (.iload_n 2, 1) := dk_28 (dk_at dksX0_supporterAt_0 4 rfl rfl)
theorem dX0_supporterAt_5 : decode cX0_supporterAt 5 = .ok (.invokevirtual 86, 3) := dk_182 0 86 (dk_at dksX0_supporterAt_0 5 rfl rfl)
theorem dX0_supporterAt_8 : decode cX0_supporterAt 8 = .ok (.i2l, 1) := dk_133 (dk_at dksX0_supporterAt_0 8 rfl rfl)
theorem dX0_supporterAt_9 : decode cX0_supporterAt 9 = .ok (.lastore, 1) := dk_80 (dk_at dksX0_supporterAt_0 9 rfl rfl)
theorem dX0_supporterAt_10 : decode cX0_supporterAt 10 = .ok (.goto 7, 3) := dk_167 0 7 (dk_at dksX0_supporterAt_0 10 rfl rfl)
theorem dX0_supporterAt_13 : decode cX0_supporterAt 13 = .ok (.astore 4, 2) := dk_58 4 (dk_at dksX0_supporterAt_0 13 rfl rfl)
theorem dX0_supporterAt_15 : decode cX0_supporterAt 15 = .ok (.iconst 1, 1) := dk_4 (dk_at dksX0_supporterAt_0 15 rfl rfl)
theorem dX0_supporterAt_16 : decode cX0_supporterAt 16 = .ok (.ireturn, 1) := dk_172 (dk_at dksX0_supporterAt_0 16 rfl rfl)
theorem dX0_supporterAt_17 : decode cX0_supporterAt 17 = .ok (.iconst 0, 1) := dk_3 (dk_at dksX0_supporterAt_0 17 rfl rfl)
theorem dX0_supporterAt_18 : decode cX0_supporterAt 18 = .ok (.ireturn, 1) := dk_172 (dk_at dksX0_supporterAt_0 18 rfl rfl)
abbrev cX0_isSupporting : ByteArray := method_25_code
def yX0_isSupporting : MethodName := ⟨RX0, "isSupporting", "(LFortPlanner;I[J)I"⟩
def dkwX0_isSupporting_0 : List UInt8 := [44, 3, 42, 27, 182, 0, 89, 153, 0, 7, 10, 167, 0, 4, 9, 80, 167, 0, 6, 78, 4, 172, 3, 172]
abbrev dktX0_isSupporting_0 : List UInt8 := dkwX0_isSupporting_0 ++ []
theorem dksX0_isSupporting_0 : cX0_isSupporting.data.toList.drop 0 = dktX0_isSupporting_0 := by decide +kernel
theorem dX0_isSupporting_0 : decode cX0_isSupporting 0 = .ok (.aload_n 2, 1) := dk_44 (dk_at dksX0_isSupporting_0 0 rfl rfl)
theorem dX0_isSupporting_1 : decode cX0_isSupporting 1 = .ok (.iconst 0, 1) := dk_3 (dk_at dksX0_isSupporting_0 1 rfl rfl)
theorem dX0_isSupporting_2 : decode cX0_isSupporting 2 = .ok (.aload_n 0, 1) := dk_42 (dk_at dksX0_isSupporting_0 2 rfl rfl)
theorem dX0_isSupporting_3 : decode cX0_isSupporting 3 = .ok (.iload_n 1, 1) := dk_27 (dk_at dksX0_isSupporting_0 3 rfl rfl)
theorem dX0_isSupporting_4 : decode cX0_isSupporting 4 = .ok (.invokevirtual 89, 3) := dk_182 0 89 (dk_at dksX0_isSupporting_0 4 rfl rfl)
theorem dX0_isSupporting_7 : decode cX0_isSupporting 7 = .ok (.ifCond .eq 7, 3) := dk_153 0 7 (dk_at dksX0_isSupporting_0 7 rfl rfl)
theorem dX0_isSupporting_10 : decode cX0_isSupporting 10 = .ok (.lconst 1, 1) := dk_10 (dk_at dksX0_isSupporting_0 10 rfl rfl)
theorem dX0_isSupporting_11 : decode cX0_isSupporting 11 = .ok (.goto 4, 3) := dk_167 0 4 (dk_at dksX0_isSupporting_0 11 rfl rfl)
theorem dX0_isSupporting_14 : decode cX0_isSupporting 14 = .ok (.lconst 0, 1) := dk_9 (dk_at dksX0_isSupporting_0 14 rfl rfl)
theorem dX0_isSupporting_15 : decode cX0_isSupporting 15 = .ok (.lastore, 1) := dk_80 (dk_at dksX0_isSupporting_0 15 rfl rfl)
theorem dX0_isSupporting_16 : decode cX0_isSupporting 16 = .ok (.goto 6, 3) := dk_167 0 6 (dk_at dksX0_isSupporting_0 16 rfl rfl)
theorem dX0_isSupporting_19 : decode cX0_isSupporting 19 = .ok (.astore_n 3, 1) := dk_78 (dk_at dksX0_isSupporting_0 19 rfl rfl)
theorem dX0_isSupporting_20 : decode cX0_isSupporting 20 = .ok (.iconst 1, 1) := dk_4 (dk_at dksX0_isSupporting_0 20 rfl rfl)
theorem dX0_isSupporting_21 : decode cX0_isSupporting 21 = .ok (.ireturn, 1) := dk_172 (dk_at dksX0_isSupporting_0 21 rfl rfl)
theorem dX0_isSupporting_22 : decode cX0_isSupporting 22 = .ok (.iconst 0, 1) := dk_3 (dk_at dksX0_isSupporting_0 22 rfl rfl)
theorem dX0_isSupporting_23 : decode cX0_isSupporting 23 = .ok (.ireturn, 1) := dk_172 (dk_at dksX0_isSupporting_0 23 rfl rfl)
abbrev cX0_load : ByteArray := method_26_code
def yX0_load : MethodName := ⟨RX0, "load", "(LFortPlanner;I[J)I"⟩
def dkwX0_load_0 : List UInt8 := [44, 3, 42, 27, 182, 0, 92, 133, 80, 167, 0, 6, 78, 4, 172, 3, 172]
abbrev dktX0_load_0 : List UInt8 := dkwX0_load_0 ++ []
theorem dksX0_load_0 : cX0_load.data.toList.drop 0 = dktX0_load_0 := by decide +kernel
theorem dX0_load_0 : decode cX0_load 0 = .ok (.aload_n 2, 1) := dk_44 (dk_at dksX0_load_0 0 rfl rfl)
theorem dX0_load_1 : decode cX0_load 1 = .ok (.iconst 0, 1) := dk_3 (dk_at dksX0_load_0 1 rfl rfl)
theorem dX0_load_2 : decode cX0_load 2 = .ok (.aload_n 0, 1) := dk_42 (dk_at dksX0_load_0 2 rfl rfl)
theorem dX0_load_3 : decode cX0_load 3 = .ok (.iload_n 1, 1) := dk_27 (dk_at dksX0_load_0 3 rfl rfl)
theorem dX0_load_4 : decode cX0_load 4 = .ok (.invokevirtual 92, 3) := dk_182 0 92 (dk_at dksX0_load_0 4 rfl rfl)
theorem dX0_load_7 : decode cX0_load 7 = .ok (.i2l, 1) := dk_133 (dk_at dksX0_load_0 7 rfl rfl)
theorem dX0_load_8 : decode cX0_load 8 = .ok (.lastore, 1) := dk_80 (dk_at dksX0_load_0 8 rfl rfl)
theorem dX0_load_9 : decode cX0_load 9 = .ok (.goto 6, 3) := dk_167 0 6 (dk_at dksX0_load_0 9 rfl rfl)
theorem dX0_load_12 : decode cX0_load 12 = .ok (.astore_n 3, 1) := dk_78 (dk_at dksX0_load_0 12 rfl rfl)
theorem dX0_load_13 : decode cX0_load 13 = .ok (.iconst 1, 1) := dk_4 (dk_at dksX0_load_0 13 rfl rfl)
theorem dX0_load_14 : decode cX0_load 14 = .ok (.ireturn, 1) := dk_172 (dk_at dksX0_load_0 14 rfl rfl)
theorem dX0_load_15 : decode cX0_load 15 = .ok (.iconst 0, 1) := dk_3 (dk_at dksX0_load_0 15 rfl rfl)
theorem dX0_load_16 : decode cX0_load 16 = .ok (.ireturn, 1) := dk_172 (dk_at dksX0_load_0 16 rfl rfl)
abbrev cX0_loadByRecursion : ByteArray := method_27_code
def yX0_loadByRecursion : MethodName := ⟨RX0, "loadByRecursion", "(LFortPlanner;I[J)I"⟩
def dkwX0_loadByRecursion_0 : List UInt8 := [44, 3, 42, 27, 182, 0, 95, 133, 80, 167, 0, 6, 78, 4, 172, 3, 172]
abbrev dktX0_loadByRecursion_0 : List UInt8 := dkwX0_loadByRecursion_0 ++ []
theorem dksX0_loadByRecursion_0 : cX0_loadByRecursion.data.toList.drop 0 = dktX0_loadByRecursion_0 := by decide +kernel
theorem dX0_loadByRecursion_0 : decode cX0_loadByRecursion 0 = .ok (.aload_n 2, 1) := dk_44 (dk_at dksX0_loadByRecursion_0 0 rfl rfl)
theorem dX0_loadByRecursion_1 : decode cX0_loadByRecursion 1 = .ok (.iconst 0, 1) := dk_3 (dk_at dksX0_loadByRecursion_0 1 rfl rfl)
theorem dX0_loadByRecursion_2 : decode cX0_loadByRecursion 2 = .ok (.aload_n 0, 1) := dk_42 (dk_at dksX0_loadByRecursion_0 2 rfl rfl)
theorem dX0_loadByRecursion_3 : decode cX0_loadByRecursion 3 = .ok (.iload_n 1, 1) := dk_27 (dk_at dksX0_loadByRecursion_0 3 rfl rfl)
theorem dX0_loadByRecursion_4 : decode cX0_loadByRecursion 4 = .ok (.invokevirtual 95, 3) := dk_182 0 95 (dk_at dksX0_loadByRecursion_0 4 rfl rfl)
theorem dX0_loadByRecursion_7 : decode cX0_loadByRecursion 7 = .ok (.i2l, 1) := dk_133 (dk_at dksX0_loadByRecursion_0 7 rfl rfl)
theorem dX0_loadByRecursion_8 : decode cX0_loadByRecursion 8 = .ok (.lastore, 1) := dk_80 (dk_at dksX0_loadByRecursion_0 8 rfl rfl)
theorem dX0_loadByRecursion_9 : decode cX0_loadByRecursion 9 = .ok (.goto 6, 3) := dk_167 0 6 (dk_at dksX0_loadByRecursion_0 9 rfl rfl)
theorem dX0_loadByRecursion_12 : decode cX0_loadByRecursion 12 = .ok (.astore_n 3, 1) := dk_78 (dk_at dksX0_loadByRecursion_0 12 rfl rfl)
theorem dX0_loadByRecursion_13 : decode cX0_loadByRecursion 13 = .ok (.iconst 1, 1) := dk_4 (dk_at dksX0_loadByRecursion_0 13 rfl rfl)
theorem dX0_loadByRecursion_14 : decode cX0_loadByRecursion 14 = .ok (.ireturn, 1) := dk_172 (dk_at dksX0_loadByRecursion_0 14 rfl rfl)
theorem dX0_loadByRecursion_15 : decode cX0_loadByRecursion 15 = .ok (.iconst 0, 1) := dk_3 (dk_at dksX0_loadByRecursion_0 15 rfl rfl)
theorem dX0_loadByRecursion_16 : decode cX0_loadByRecursion 16 = .ok (.ireturn, 1) := dk_172 (dk_at dksX0_loadByRecursion_0 16 rfl rfl)
abbrev cX0_slack : ByteArray := method_28_code
def yX0_slack : MethodName := ⟨RX0, "slack", "(LFortPlanner;I[J)I"⟩
def dkwX0_slack_0 : List UInt8 := [44, 3, 42, 27, 182, 0, 98, 133, 80, 167, 0, 6, 78, 4, 172, 3, 172]
abbrev dktX0_slack_0 : List UInt8 := dkwX0_slack_0 ++ []
theorem dksX0_slack_0 : cX0_slack.data.toList.drop 0 = dktX0_slack_0 := by decide +kernel
theorem dX0_slack_0 : decode cX0_slack 0 = .ok (.aload_n 2, 1) := dk_44 (dk_at dksX0_slack_0 0 rfl rfl)
theorem dX0_slack_1 : decode cX0_slack 1 = .ok (.iconst 0, 1) := dk_3 (dk_at dksX0_slack_0 1 rfl rfl)
theorem dX0_slack_2 : decode cX0_slack 2 = .ok (.aload_n 0, 1) := dk_42 (dk_at dksX0_slack_0 2 rfl rfl)
theorem dX0_slack_3 : decode cX0_slack 3 = .ok (.iload_n 1, 1) := dk_27 (dk_at dksX0_slack_0 3 rfl rfl)
theorem dX0_slack_4 : decode cX0_slack 4 = .ok (.invokevirtual 98, 3) := dk_182 0 98 (dk_at dksX0_slack_0 4 rfl rfl)
theorem dX0_slack_7 : decode cX0_slack 7 = .ok (.i2l, 1) := dk_133 (dk_at dksX0_slack_0 7 rfl rfl)
theorem dX0_slack_8 : decode cX0_slack 8 = .ok (.lastore, 1) := dk_80 (dk_at dksX0_slack_0 8 rfl rfl)
theorem dX0_slack_9 : decode cX0_slack 9 = .ok (.goto 6, 3) := dk_167 0 6 (dk_at dksX0_slack_0 9 rfl rfl)
theorem dX0_slack_12 : decode cX0_slack 12 = .ok (.astore_n 3, 1) := dk_78 (dk_at dksX0_slack_0 12 rfl rfl)
theorem dX0_slack_13 : decode cX0_slack 13 = .ok (.iconst 1, 1) := dk_4 (dk_at dksX0_slack_0 13 rfl rfl)
theorem dX0_slack_14 : decode cX0_slack 14 = .ok (.ireturn, 1) := dk_172 (dk_at dksX0_slack_0 14 rfl rfl)
theorem dX0_slack_15 : decode cX0_slack 15 = .ok (.iconst 0, 1) := dk_3 (dk_at dksX0_slack_0 15 rfl rfl)
theorem dX0_slack_16 : decode cX0_slack 16 = .ok (.ireturn, 1) := dk_172 (dk_at dksX0_slack_0 16 rfl rfl)
abbrev cX0_weakest : ByteArray := method_29_code
def yX0_weakest : MethodName := ⟨RX0, "weakest", "(LFortPlanner;[J)I"⟩
def dkwX0_weakest_0 : List UInt8 := [43, 3, 42, 182, 0, 101, 133, 80, 167, 0, 6, 77, 4, 172, 3, 172]
abbrev dktX0_weakest_0 : List UInt8 := dkwX0_weakest_0 ++ []
theorem dksX0_weakest_0 : cX0_weakest.data.toList.drop 0 = dktX0_weakest_0 := by decide +kernel
theorem dX0_weakest_0 : decode cX0_weakest 0 = .ok (.aload_n 1, 1) := dk_43 (dk_at dksX0_weakest_0 0 rfl rfl)
theorem dX0_weakest_1 : decode cX0_weakest 1 = .ok (.iconst 0, 1) := dk_3 (dk_at dksX0_weakest_0 1 rfl rfl)
theorem dX0_weakest_2 : decode cX0_weakest 2 = .ok (.aload_n 0, 1) := dk_42 (dk_at dksX0_weakest_0 2 rfl rfl)
theorem dX0_weakest_3 : decode cX0_weakest 3 = .ok (.invokevirtual 101, 3) := dk_182 0 101 (dk_at dksX0_weakest_0 3 rfl rfl)
theorem dX0_weakest_6 : decode cX0_weakest 6 = .ok (.i2l, 1) := dk_133 (dk_at dksX0_weakest_0 6 rfl rfl)
theorem dX0_weakest_7 : decode cX0_weakest 7 = .ok (.lastore, 1) := dk_80 (dk_at dksX0_weakest_0 7 rfl rfl)
theorem dX0_weakest_8 : decode cX0_weakest 8 = .ok (.goto 6, 3) := dk_167 0 6 (dk_at dksX0_weakest_0 8 rfl rfl)
theorem dX0_weakest_11 : decode cX0_weakest 11 = .ok (.astore_n 2, 1) := dk_77 (dk_at dksX0_weakest_0 11 rfl rfl)
theorem dX0_weakest_12 : decode cX0_weakest 12 = .ok (.iconst 1, 1) := dk_4 (dk_at dksX0_weakest_0 12 rfl rfl)
theorem dX0_weakest_13 : decode cX0_weakest 13 = .ok (.ireturn, 1) := dk_172 (dk_at dksX0_weakest_0 13 rfl rfl)
theorem dX0_weakest_14 : decode cX0_weakest 14 = .ok (.iconst 0, 1) := dk_3 (dk_at dksX0_weakest_0 14 rfl rfl)
theorem dX0_weakest_15 : decode cX0_weakest 15 = .ok (.ireturn, 1) := dk_172 (dk_at dksX0_weakest_0 15 rfl rfl)
abbrev cX0_blockBySlack : ByteArray := method_30_code
def yX0_blockBySlack : MethodName := ⟨RX0, "blockBySlack", "(LFortPlanner;I[J)I"⟩
def dkwX0_blockBySlack_0 : List UInt8 := [44, 3, 42, 27, 182, 0, 105, 133, 80, 167, 0, 6, 78, 4, 172, 3, 172]
abbrev dktX0_blockBySlack_0 : List UInt8 := dkwX0_blockBySlack_0 ++ []
theorem dksX0_blockBySlack_0 : cX0_blockBySlack.data.toList.drop 0 = dktX0_blockBySlack_0 := by decide +kernel
theorem dX0_blockBySlack_0 : decode cX0_blockBySlack 0 = .ok (.aload_n 2, 1) := dk_44 (dk_at dksX0_blockBySlack_0 0 rfl rfl)
theorem dX0_blockBySlack_1 : decode cX0_blockBySlack 1 = .ok (.iconst 0, 1) := dk_3 (dk_at dksX0_blockBySlack_0 1 rfl rfl)
theorem dX0_blockBySlack_2 : decode cX0_blockBySlack 2 = .ok (.aload_n 0, 1) := dk_42 (dk_at dksX0_blockBySlack_0 2 rfl rfl)
theorem dX0_blockBySlack_3 : decode cX0_blockBySlack 3 = .ok (.iload_n 1, 1) := dk_27 (dk_at dksX0_blockBySlack_0 3 rfl rfl)
theorem dX0_blockBySlack_4 : decode cX0_blockBySlack 4 = .ok (.invokevirtual 105, 3) := dk_182 0 105 (dk_at dksX0_blockBySlack_0 4 rfl rfl)
theorem dX0_blockBySlack_7 : decode cX0_blockBySlack 7 = .ok (.i2l, 1) := dk_133 (dk_at dksX0_blockBySlack_0 7 rfl rfl)
theorem dX0_blockBySlack_8 : decode cX0_blockBySlack 8 = .ok (.lastore, 1) := dk_80 (dk_at dksX0_blockBySlack_0 8 rfl rfl)
theorem dX0_blockBySlack_9 : decode cX0_blockBySlack 9 = .ok (.goto 6, 3) := dk_167 0 6 (dk_at dksX0_blockBySlack_0 9 rfl rfl)
theorem dX0_blockBySlack_12 : decode cX0_blockBySlack 12 = .ok (.astore_n 3, 1) := dk_78 (dk_at dksX0_blockBySlack_0 12 rfl rfl)
theorem dX0_blockBySlack_13 : decode cX0_blockBySlack 13 = .ok (.iconst 1, 1) := dk_4 (dk_at dksX0_blockBySlack_0 13 rfl rfl)
theorem dX0_blockBySlack_14 : decode cX0_blockBySlack 14 = .ok (.ireturn, 1) := dk_172 (dk_at dksX0_blockBySlack_0 14 rfl rfl)
theorem dX0_blockBySlack_15 : decode cX0_blockBySlack 15 = .ok (.iconst 0, 1) := dk_3 (dk_at dksX0_blockBySlack_0 15 rfl rfl)
theorem dX0_blockBySlack_16 : decode cX0_blockBySlack 16 = .ok (.ireturn, 1) := dk_172 (dk_at dksX0_blockBySlack_0 16 rfl rfl)
abbrev cX0_level : ByteArray := method_31_code
def yX0_level : MethodName := ⟨RX0, "level", "(LFortPlanner;I[J)I"⟩
def dkwX0_level_0 : List UInt8 := [44, 3, 42, 27, 182, 0, 108, 133, 80, 167, 0, 6, 78, 4, 172, 3, 172]
abbrev dktX0_level_0 : List UInt8 := dkwX0_level_0 ++ []
theorem dksX0_level_0 : cX0_level.data.toList.drop 0 = dktX0_level_0 := by decide +kernel
theorem dX0_level_0 : decode cX0_level 0 = .ok (.aload_n 2, 1) := dk_44 (dk_at dksX0_level_0 0 rfl rfl)
theorem dX0_level_1 : decode cX0_level 1 = .ok (.iconst 0, 1) := dk_3 (dk_at dksX0_level_0 1 rfl rfl)
theorem dX0_level_2 : decode cX0_level 2 = .ok (.aload_n 0, 1) := dk_42 (dk_at dksX0_level_0 2 rfl rfl)
theorem dX0_level_3 : decode cX0_level 3 = .ok (.iload_n 1, 1) := dk_27 (dk_at dksX0_level_0 3 rfl rfl)
theorem dX0_level_4 : decode cX0_level 4 = .ok (.invokevirtual 108, 3) := dk_182 0 108 (dk_at dksX0_level_0 4 rfl rfl)
theorem dX0_level_7 : decode cX0_level 7 = .ok (.i2l, 1) := dk_133 (dk_at dksX0_level_0 7 rfl rfl)
theorem dX0_level_8 : decode cX0_level 8 = .ok (.lastore, 1) := dk_80 (dk_at dksX0_level_0 8 rfl rfl)
theorem dX0_level_9 : decode cX0_level 9 = .ok (.goto 6, 3) := dk_167 0 6 (dk_at dksX0_level_0 9 rfl rfl)
theorem dX0_level_12 : decode cX0_level 12 = .ok (.astore_n 3, 1) := dk_78 (dk_at dksX0_level_0 12 rfl rfl)
theorem dX0_level_13 : decode cX0_level 13 = .ok (.iconst 1, 1) := dk_4 (dk_at dksX0_level_0 13 rfl rfl)
theorem dX0_level_14 : decode cX0_level 14 = .ok (.ireturn, 1) := dk_172 (dk_at dksX0_level_0 14 rfl rfl)
theorem dX0_level_15 : decode cX0_level 15 = .ok (.iconst 0, 1) := dk_3 (dk_at dksX0_level_0 15 rfl rfl)
theorem dX0_level_16 : decode cX0_level 16 = .ok (.ireturn, 1) := dk_172 (dk_at dksX0_level_0 16 rfl rfl)
abbrev cX0_isAbove : ByteArray := method_32_code
def yX0_isAbove : MethodName := ⟨RX0, "isAbove", "(LFortPlanner;II[J)I"⟩
def dkwX0_isAbove_1 : List UInt8 := [3, 172]
abbrev dktX0_isAbove_1 : List UInt8 := dkwX0_isAbove_1 ++ []
def dkwX0_isAbove_0 : List UInt8 := [45, 3, 42, 27, 28, 182, 0, 111, 153, 0, 7, 10, 167, 0, 4, 9, 80, 167, 0, 7, 58, 4, 4, 172]
abbrev dktX0_isAbove_0 : List UInt8 := dkwX0_isAbove_0 ++ dktX0_isAbove_1
theorem dksX0_isAbove_0 : cX0_isAbove.data.toList.drop 0 = dktX0_isAbove_0 := by decide +kernel
theorem dksX0_isAbove_1 : cX0_isAbove.data.toList.drop 24 = dktX0_isAbove_1 := dk_seg dksX0_isAbove_0 24 rfl rfl
theorem dX0_isAbove_0 : decode cX0_isAbove 0 = .ok (.aload_n 3, 1) := dk_45 (dk_at dksX0_isAbove_0 0 rfl rfl)
theorem dX0_isAbove_1 : decode cX0_isAbove 1 = .ok (.iconst 0, 1) := dk_3 (dk_at dksX0_isAbove_0 1 rfl rfl)
theorem dX0_isAbove_2 : decode cX0_isAbove 2 = .ok (.aload_n 0, 1) := dk_42 (dk_at dksX0_isAbove_0 2 rfl rfl)
theorem dX0_isAbove_3 : decode cX0_isAbove 3 = .ok (.iload_n 1, 1) := dk_27 (dk_at dksX0_isAbove_0 3 rfl rfl)
theorem dX0_isAbove_4 : decode cX0_isAbove 4 = .ok (.iload_n 2, 1) := dk_28 (dk_at dksX0_isAbove_0 4 rfl rfl)
theorem dX0_isAbove_5 : decode cX0_isAbove 5 = .ok (.invokevirtual 111, 3) := dk_182 0 111 (dk_at dksX0_isAbove_0 5 rfl rfl)
theorem dX0_isAbove_8 : decode cX0_isAbove 8 = .ok (.ifCond .eq 7, 3) := dk_153 0 7 (dk_at dksX0_isAbove_0 8 rfl rfl)
theorem dX0_isAbove_11 : decode cX0_isAbove 11 = .ok (.lconst 1, 1) := dk_10 (dk_at dksX0_isAbove_0 11 rfl rfl)
theorem dX0_isAbove_12 : decode cX0_isAbove 12 = .ok (.goto 4, 3) := dk_167 0 4 (dk_at dksX0_isAbove_0 12 rfl rfl)
theorem dX0_isAbove_15 : decode cX0_isAbove 15 = .ok (.lconst 0, 1) := dk_9 (dk_at dksX0_isAbove_0 15 rfl rfl)
theorem dX0_isAbove_16 : decode cX0_isAbove 16 = .ok (.lastore, 1) := dk_80 (dk_at dksX0_isAbove_0 16 rfl rfl)
theorem dX0_isAbove_17 : decode cX0_isAbove 17 = .ok (.goto 7, 3) := dk_167 0 7 (dk_at dksX0_isAbove_0 17 rfl rfl)
theorem dX0_isAbove_20 : decode cX0_isAbove 20 = .ok (.astore 4, 2) := dk_58 4 (dk_at dksX0_isAbove_0 20 rfl rfl)
theorem dX0_isAbove_22 : decode cX0_isAbove 22 = .ok (.iconst 1, 1) := dk_4 (dk_at dksX0_isAbove_0 22 rfl rfl)
theorem dX0_isAbove_23 : decode cX0_isAbove 23 = .ok (.ireturn, 1) := dk_172 (dk_at dksX0_isAbove_0 23 rfl rfl)
theorem dX0_isAbove_24 : decode cX0_isAbove 24 = .ok (.iconst 0, 1) := dk_3 (dk_at dksX0_isAbove_1 0 rfl rfl)
theorem dX0_isAbove_25 : decode cX0_isAbove 25 = .ok (.ireturn, 1) := dk_172 (dk_at dksX0_isAbove_1 1 rfl rfl)
abbrev cX0_countAbove : ByteArray := method_33_code
def yX0_countAbove : MethodName := ⟨RX0, "countAbove", "(LFortPlanner;I[J)I"⟩
def dkwX0_countAbove_0 : List UInt8 := [44, 3, 42, 27, 182, 0, 115, 133, 80, 167, 0, 6, 78, 4, 172, 3, 172]
abbrev dktX0_countAbove_0 : List UInt8 := dkwX0_countAbove_0 ++ []
theorem dksX0_countAbove_0 : cX0_countAbove.data.toList.drop 0 = dktX0_countAbove_0 := by decide +kernel
theorem dX0_countAbove_0 : decode cX0_countAbove 0 = .ok (.aload_n 2, 1) := dk_44 (dk_at dksX0_countAbove_0 0 rfl rfl)
theorem dX0_countAbove_1 : decode cX0_countAbove 1 = .ok (.iconst 0, 1) := dk_3 (dk_at dksX0_countAbove_0 1 rfl rfl)
theorem dX0_countAbove_2 : decode cX0_countAbove 2 = .ok (.aload_n 0, 1) := dk_42 (dk_at dksX0_countAbove_0 2 rfl rfl)
theorem dX0_countAbove_3 : decode cX0_countAbove 3 = .ok (.iload_n 1, 1) := dk_27 (dk_at dksX0_countAbove_0 3 rfl rfl)
theorem dX0_countAbove_4 : decode cX0_countAbove 4 = .ok (.invokevirtual 115, 3) := dk_182 0 115 (dk_at dksX0_countAbove_0 4 rfl rfl)
theorem dX0_countAbove_7 : decode cX0_countAbove 7 = .ok (.i2l, 1) := dk_133 (dk_at dksX0_countAbove_0 7 rfl rfl)
theorem dX0_countAbove_8 : decode cX0_countAbove 8 = .ok (.lastore, 1) := dk_80 (dk_at dksX0_countAbove_0 8 rfl rfl)
theorem dX0_countAbove_9 : decode cX0_countAbove 9 = .ok (.goto 6, 3) := dk_167 0 6 (dk_at dksX0_countAbove_0 9 rfl rfl)
theorem dX0_countAbove_12 : decode cX0_countAbove 12 = .ok (.astore_n 3, 1) := dk_78 (dk_at dksX0_countAbove_0 12 rfl rfl)
theorem dX0_countAbove_13 : decode cX0_countAbove 13 = .ok (.iconst 1, 1) := dk_4 (dk_at dksX0_countAbove_0 13 rfl rfl)
theorem dX0_countAbove_14 : decode cX0_countAbove 14 = .ok (.ireturn, 1) := dk_172 (dk_at dksX0_countAbove_0 14 rfl rfl)
theorem dX0_countAbove_15 : decode cX0_countAbove 15 = .ok (.iconst 0, 1) := dk_3 (dk_at dksX0_countAbove_0 15 rfl rfl)
theorem dX0_countAbove_16 : decode cX0_countAbove 16 = .ok (.ireturn, 1) := dk_172 (dk_at dksX0_countAbove_0 16 rfl rfl)
abbrev cX0_height : ByteArray := method_34_code
def yX0_height : MethodName := ⟨RX0, "height", "(LFortPlanner;I[J)I"⟩
def dkwX0_height_0 : List UInt8 := [44, 3, 42, 27, 182, 0, 118, 133, 80, 167, 0, 6, 78, 4, 172, 3, 172]
abbrev dktX0_height_0 : List UInt8 := dkwX0_height_0 ++ []
theorem dksX0_height_0 : cX0_height.data.toList.drop 0 = dktX0_height_0 := by decide +kernel
theorem dX0_height_0 : decode cX0_height 0 = .ok (.aload_n 2, 1) := dk_44 (dk_at dksX0_height_0 0 rfl rfl)
theorem dX0_height_1 : decode cX0_height 1 = .ok (.iconst 0, 1) := dk_3 (dk_at dksX0_height_0 1 rfl rfl)
theorem dX0_height_2 : decode cX0_height 2 = .ok (.aload_n 0, 1) := dk_42 (dk_at dksX0_height_0 2 rfl rfl)
theorem dX0_height_3 : decode cX0_height 3 = .ok (.iload_n 1, 1) := dk_27 (dk_at dksX0_height_0 3 rfl rfl)
theorem dX0_height_4 : decode cX0_height 4 = .ok (.invokevirtual 118, 3) := dk_182 0 118 (dk_at dksX0_height_0 4 rfl rfl)
theorem dX0_height_7 : decode cX0_height 7 = .ok (.i2l, 1) := dk_133 (dk_at dksX0_height_0 7 rfl rfl)
theorem dX0_height_8 : decode cX0_height 8 = .ok (.lastore, 1) := dk_80 (dk_at dksX0_height_0 8 rfl rfl)
theorem dX0_height_9 : decode cX0_height 9 = .ok (.goto 6, 3) := dk_167 0 6 (dk_at dksX0_height_0 9 rfl rfl)
theorem dX0_height_12 : decode cX0_height 12 = .ok (.astore_n 3, 1) := dk_78 (dk_at dksX0_height_0 12 rfl rfl)
theorem dX0_height_13 : decode cX0_height 13 = .ok (.iconst 1, 1) := dk_4 (dk_at dksX0_height_0 13 rfl rfl)
theorem dX0_height_14 : decode cX0_height 14 = .ok (.ireturn, 1) := dk_172 (dk_at dksX0_height_0 14 rfl rfl)
theorem dX0_height_15 : decode cX0_height 15 = .ok (.iconst 0, 1) := dk_3 (dk_at dksX0_height_0 15 rfl rfl)
theorem dX0_height_16 : decode cX0_height 16 = .ok (.ireturn, 1) := dk_172 (dk_at dksX0_height_0 16 rfl rfl)
abbrev cX0_holes : ByteArray := method_35_code
def yX0_holes : MethodName := ⟨RX0, "holes", "(LFortPlanner;I[J)I"⟩
def dkwX0_holes_0 : List UInt8 := [44, 3, 42, 27, 182, 0, 121, 133, 80, 167, 0, 6, 78, 4, 172, 3, 172]
abbrev dktX0_holes_0 : List UInt8 := dkwX0_holes_0 ++ []
theorem dksX0_holes_0 : cX0_holes.data.toList.drop 0 = dktX0_holes_0 := by decide +kernel
theorem dX0_holes_0 : decode cX0_holes 0 = .ok (.aload_n 2, 1) := dk_44 (dk_at dksX0_holes_0 0 rfl rfl)
theorem dX0_holes_1 : decode cX0_holes 1 = .ok (.iconst 0, 1) := dk_3 (dk_at dksX0_holes_0 1 rfl rfl)
theorem dX0_holes_2 : decode cX0_holes 2 = .ok (.aload_n 0, 1) := dk_42 (dk_at dksX0_holes_0 2 rfl rfl)
theorem dX0_holes_3 : decode cX0_holes 3 = .ok (.iload_n 1, 1) := dk_27 (dk_at dksX0_holes_0 3 rfl rfl)
theorem dX0_holes_4 : decode cX0_holes 4 = .ok (.invokevirtual 121, 3) := dk_182 0 121 (dk_at dksX0_holes_0 4 rfl rfl)
theorem dX0_holes_7 : decode cX0_holes 7 = .ok (.i2l, 1) := dk_133 (dk_at dksX0_holes_0 7 rfl rfl)
theorem dX0_holes_8 : decode cX0_holes 8 = .ok (.lastore, 1) := dk_80 (dk_at dksX0_holes_0 8 rfl rfl)
theorem dX0_holes_9 : decode cX0_holes 9 = .ok (.goto 6, 3) := dk_167 0 6 (dk_at dksX0_holes_0 9 rfl rfl)
theorem dX0_holes_12 : decode cX0_holes 12 = .ok (.astore_n 3, 1) := dk_78 (dk_at dksX0_holes_0 12 rfl rfl)
theorem dX0_holes_13 : decode cX0_holes 13 = .ok (.iconst 1, 1) := dk_4 (dk_at dksX0_holes_0 13 rfl rfl)
theorem dX0_holes_14 : decode cX0_holes 14 = .ok (.ireturn, 1) := dk_172 (dk_at dksX0_holes_0 14 rfl rfl)
theorem dX0_holes_15 : decode cX0_holes 15 = .ok (.iconst 0, 1) := dk_3 (dk_at dksX0_holes_0 15 rfl rfl)
theorem dX0_holes_16 : decode cX0_holes 16 = .ok (.ireturn, 1) := dk_172 (dk_at dksX0_holes_0 16 rfl rfl)
abbrev cX0_holesByHeights : ByteArray := method_36_code
def yX0_holesByHeights : MethodName := ⟨RX0, "holesByHeights", "(LFortPlanner;I[J)I"⟩
def dkwX0_holesByHeights_0 : List UInt8 := [44, 3, 42, 27, 182, 0, 124, 133, 80, 167, 0, 6, 78, 4, 172, 3, 172]
abbrev dktX0_holesByHeights_0 : List UInt8 := dkwX0_holesByHeights_0 ++ []
theorem dksX0_holesByHeights_0 : cX0_holesByHeights.data.toList.drop 0 = dktX0_holesByHeights_0 := by decide +kernel
theorem dX0_holesByHeights_0 : decode cX0_holesByHeights 0 = .ok (.aload_n 2, 1) := dk_44 (dk_at dksX0_holesByHeights_0 0 rfl rfl)
theorem dX0_holesByHeights_1 : decode cX0_holesByHeights 1 = .ok (.iconst 0, 1) := dk_3 (dk_at dksX0_holesByHeights_0 1 rfl rfl)
theorem dX0_holesByHeights_2 : decode cX0_holesByHeights 2 = .ok (.aload_n 0, 1) := dk_42 (dk_at dksX0_holesByHeights_0 2 rfl rfl)
theorem dX0_holesByHeights_3 : decode cX0_holesByHeights 3 = .ok (.iload_n 1, 1) := dk_27 (dk_at dksX0_holesByHeights_0 3 rfl rfl)
theorem dX0_holesByHeights_4 : decode cX0_holesByHeights 4 = .ok (.invokevirtual 124, 3) := dk_182 0 124 (dk_at dksX0_holesByHeights_0 4 rfl rfl)
theorem dX0_holesByHeights_7 : decode cX0_holesByHeights 7 = .ok (.i2l, 1) := dk_133 (dk_at dksX0_holesByHeights_0 7 rfl rfl)
theorem dX0_holesByHeights_8 : decode cX0_holesByHeights 8 = .ok (.lastore, 1) := dk_80 (dk_at dksX0_holesByHeights_0 8 rfl rfl)
theorem dX0_holesByHeights_9 : decode cX0_holesByHeights 9 = .ok (.goto 6, 3) := dk_167 0 6 (dk_at dksX0_holesByHeights_0 9 rfl rfl)
theorem dX0_holesByHeights_12 : decode cX0_holesByHeights 12 = .ok (.astore_n 3, 1) := dk_78 (dk_at dksX0_holesByHeights_0 12 rfl rfl)
theorem dX0_holesByHeights_13 : decode cX0_holesByHeights 13 = .ok (.iconst 1, 1) := dk_4 (dk_at dksX0_holesByHeights_0 13 rfl rfl)
theorem dX0_holesByHeights_14 : decode cX0_holesByHeights 14 = .ok (.ireturn, 1) := dk_172 (dk_at dksX0_holesByHeights_0 14 rfl rfl)
theorem dX0_holesByHeights_15 : decode cX0_holesByHeights 15 = .ok (.iconst 0, 1) := dk_3 (dk_at dksX0_holesByHeights_0 15 rfl rfl)
theorem dX0_holesByHeights_16 : decode cX0_holesByHeights 16 = .ok (.ireturn, 1) := dk_172 (dk_at dksX0_holesByHeights_0 16 rfl rfl)
abbrev cX0_zone : ByteArray := method_37_code
def yX0_zone : MethodName := ⟨RX0, "zone", "(LFortPlanner;I[J)I"⟩
def dkwX0_zone_0 : List UInt8 := [44, 3, 42, 27, 182, 0, 127, 133, 80, 167, 0, 6, 78, 4, 172, 3, 172]
abbrev dktX0_zone_0 : List UInt8 := dkwX0_zone_0 ++ []
theorem dksX0_zone_0 : cX0_zone.data.toList.drop 0 = dktX0_zone_0 := by decide +kernel
theorem dX0_zone_0 : decode cX0_zone 0 = .ok (.aload_n 2, 1) := dk_44 (dk_at dksX0_zone_0 0 rfl rfl)
theorem dX0_zone_1 : decode cX0_zone 1 = .ok (.iconst 0, 1) := dk_3 (dk_at dksX0_zone_0 1 rfl rfl)
theorem dX0_zone_2 : decode cX0_zone 2 = .ok (.aload_n 0, 1) := dk_42 (dk_at dksX0_zone_0 2 rfl rfl)
theorem dX0_zone_3 : decode cX0_zone 3 = .ok (.iload_n 1, 1) := dk_27 (dk_at dksX0_zone_0 3 rfl rfl)
theorem dX0_zone_4 : decode cX0_zone 4 = .ok (.invokevirtual 127, 3) := dk_182 0 127 (dk_at dksX0_zone_0 4 rfl rfl)
theorem dX0_zone_7 : decode cX0_zone 7 = .ok (.i2l, 1) := dk_133 (dk_at dksX0_zone_0 7 rfl rfl)
theorem dX0_zone_8 : decode cX0_zone 8 = .ok (.lastore, 1) := dk_80 (dk_at dksX0_zone_0 8 rfl rfl)
theorem dX0_zone_9 : decode cX0_zone 9 = .ok (.goto 6, 3) := dk_167 0 6 (dk_at dksX0_zone_0 9 rfl rfl)
theorem dX0_zone_12 : decode cX0_zone 12 = .ok (.astore_n 3, 1) := dk_78 (dk_at dksX0_zone_0 12 rfl rfl)
theorem dX0_zone_13 : decode cX0_zone 13 = .ok (.iconst 1, 1) := dk_4 (dk_at dksX0_zone_0 13 rfl rfl)
theorem dX0_zone_14 : decode cX0_zone 14 = .ok (.ireturn, 1) := dk_172 (dk_at dksX0_zone_0 14 rfl rfl)
theorem dX0_zone_15 : decode cX0_zone 15 = .ok (.iconst 0, 1) := dk_3 (dk_at dksX0_zone_0 15 rfl rfl)
theorem dX0_zone_16 : decode cX0_zone 16 = .ok (.ireturn, 1) := dk_172 (dk_at dksX0_zone_0 16 rfl rfl)
abbrev cX0_hasTorch : ByteArray := method_38_code
def yX0_hasTorch : MethodName := ⟨RX0, "hasTorch", "(LFortPlanner;I[J)I"⟩
def dkwX0_hasTorch_0 : List UInt8 := [44, 3, 42, 27, 182, 0, 131, 153, 0, 7, 10, 167, 0, 4, 9, 80, 167, 0, 6, 78, 4, 172, 3, 172]
abbrev dktX0_hasTorch_0 : List UInt8 := dkwX0_hasTorch_0 ++ []
theorem dksX0_hasTorch_0 : cX0_hasTorch.data.toList.drop 0 = dktX0_hasTorch_0 := by decide +kernel
theorem dX0_hasTorch_0 : decode cX0_hasTorch 0 = .ok (.aload_n 2, 1) := dk_44 (dk_at dksX0_hasTorch_0 0 rfl rfl)
theorem dX0_hasTorch_1 : decode cX0_hasTorch 1 = .ok (.iconst 0, 1) := dk_3 (dk_at dksX0_hasTorch_0 1 rfl rfl)
theorem dX0_hasTorch_2 : decode cX0_hasTorch 2 = .ok (.aload_n 0, 1) := dk_42 (dk_at dksX0_hasTorch_0 2 rfl rfl)
theorem dX0_hasTorch_3 : decode cX0_hasTorch 3 = .ok (.iload_n 1, 1) := dk_27 (dk_at dksX0_hasTorch_0 3 rfl rfl)
theorem dX0_hasTorch_4 : decode cX0_hasTorch 4 = .ok (.invokevirtual 131, 3) := dk_182 0 131 (dk_at dksX0_hasTorch_0 4 rfl rfl)
theorem dX0_hasTorch_7 : decode cX0_hasTorch 7 = .ok (.ifCond .eq 7, 3) := dk_153 0 7 (dk_at dksX0_hasTorch_0 7 rfl rfl)
theorem dX0_hasTorch_10 : decode cX0_hasTorch 10 = .ok (.lconst 1, 1) := dk_10 (dk_at dksX0_hasTorch_0 10 rfl rfl)
theorem dX0_hasTorch_11 : decode cX0_hasTorch 11 = .ok (.goto 4, 3) := dk_167 0 4 (dk_at dksX0_hasTorch_0 11 rfl rfl)
theorem dX0_hasTorch_14 : decode cX0_hasTorch 14 = .ok (.lconst 0, 1) := dk_9 (dk_at dksX0_hasTorch_0 14 rfl rfl)
theorem dX0_hasTorch_15 : decode cX0_hasTorch 15 = .ok (.lastore, 1) := dk_80 (dk_at dksX0_hasTorch_0 15 rfl rfl)
theorem dX0_hasTorch_16 : decode cX0_hasTorch 16 = .ok (.goto 6, 3) := dk_167 0 6 (dk_at dksX0_hasTorch_0 16 rfl rfl)
theorem dX0_hasTorch_19 : decode cX0_hasTorch 19 = .ok (.astore_n 3, 1) := dk_78 (dk_at dksX0_hasTorch_0 19 rfl rfl)
theorem dX0_hasTorch_20 : decode cX0_hasTorch 20 = .ok (.iconst 1, 1) := dk_4 (dk_at dksX0_hasTorch_0 20 rfl rfl)
theorem dX0_hasTorch_21 : decode cX0_hasTorch 21 = .ok (.ireturn, 1) := dk_172 (dk_at dksX0_hasTorch_0 21 rfl rfl)
theorem dX0_hasTorch_22 : decode cX0_hasTorch 22 = .ok (.iconst 0, 1) := dk_3 (dk_at dksX0_hasTorch_0 22 rfl rfl)
theorem dX0_hasTorch_23 : decode cX0_hasTorch 23 = .ok (.ireturn, 1) := dk_172 (dk_at dksX0_hasTorch_0 23 rfl rfl)
abbrev cX0_isLit : ByteArray := method_39_code
def yX0_isLit : MethodName := ⟨RX0, "isLit", "(LFortPlanner;I[J)I"⟩
def dkwX0_isLit_0 : List UInt8 := [44, 3, 42, 27, 182, 0, 134, 153, 0, 7, 10, 167, 0, 4, 9, 80, 167, 0, 6, 78, 4, 172, 3, 172]
abbrev dktX0_isLit_0 : List UInt8 := dkwX0_isLit_0 ++ []
theorem dksX0_isLit_0 : cX0_isLit.data.toList.drop 0 = dktX0_isLit_0 := by decide +kernel
theorem dX0_isLit_0 : decode cX0_isLit 0 = .ok (.aload_n 2, 1) := dk_44 (dk_at dksX0_isLit_0 0 rfl rfl)
theorem dX0_isLit_1 : decode cX0_isLit 1 = .ok (.iconst 0, 1) := dk_3 (dk_at dksX0_isLit_0 1 rfl rfl)
theorem dX0_isLit_2 : decode cX0_isLit 2 = .ok (.aload_n 0, 1) := dk_42 (dk_at dksX0_isLit_0 2 rfl rfl)
theorem dX0_isLit_3 : decode cX0_isLit 3 = .ok (.iload_n 1, 1) := dk_27 (dk_at dksX0_isLit_0 3 rfl rfl)
theorem dX0_isLit_4 : decode cX0_isLit 4 = .ok (.invokevirtual 134, 3) := dk_182 0 134 (dk_at dksX0_isLit_0 4 rfl rfl)
theorem dX0_isLit_7 : decode cX0_isLit 7 = .ok (.ifCond .eq 7, 3) := dk_153 0 7 (dk_at dksX0_isLit_0 7 rfl rfl)
theorem dX0_isLit_10 : decode cX0_isLit 10 = .ok (.lconst 1, 1) := dk_10 (dk_at dksX0_isLit_0 10 rfl rfl)
theorem dX0_isLit_11 : decode cX0_isLit 11 = .ok (.goto 4, 3) := dk_167 0 4 (dk_at dksX0_isLit_0 11 rfl rfl)
theorem dX0_isLit_14 : decode cX0_isLit 14 = .ok (.lconst 0, 1) := dk_9 (dk_at dksX0_isLit_0 14 rfl rfl)
theorem dX0_isLit_15 : decode cX0_isLit 15 = .ok (.lastore, 1) := dk_80 (dk_at dksX0_isLit_0 15 rfl rfl)
theorem dX0_isLit_16 : decode cX0_isLit 16 = .ok (.goto 6, 3) := dk_167 0 6 (dk_at dksX0_isLit_0 16 rfl rfl)
theorem dX0_isLit_19 : decode cX0_isLit 19 = .ok (.astore_n 3, 1) := dk_78 (dk_at dksX0_isLit_0 19 rfl rfl)
theorem dX0_isLit_20 : decode cX0_isLit 20 = .ok (.iconst 1, 1) := dk_4 (dk_at dksX0_isLit_0 20 rfl rfl)
theorem dX0_isLit_21 : decode cX0_isLit 21 = .ok (.ireturn, 1) := dk_172 (dk_at dksX0_isLit_0 21 rfl rfl)
theorem dX0_isLit_22 : decode cX0_isLit 22 = .ok (.iconst 0, 1) := dk_3 (dk_at dksX0_isLit_0 22 rfl rfl)
theorem dX0_isLit_23 : decode cX0_isLit 23 = .ok (.ireturn, 1) := dk_172 (dk_at dksX0_isLit_0 23 rfl rfl)
abbrev cX0_isLitByMaxima : ByteArray := method_40_code
def yX0_isLitByMaxima : MethodName := ⟨RX0, "isLitByMaxima", "(LFortPlanner;I[J)I"⟩
def dkwX0_isLitByMaxima_0 : List UInt8 := [44, 3, 42, 27, 182, 0, 137, 153, 0, 7, 10, 167, 0, 4, 9, 80, 167, 0, 6, 78, 4, 172, 3, 172]
abbrev dktX0_isLitByMaxima_0 : List UInt8 := dkwX0_isLitByMaxima_0 ++ []
theorem dksX0_isLitByMaxima_0 : cX0_isLitByMaxima.data.toList.drop 0 = dktX0_isLitByMaxima_0 := by decide +kernel
theorem dX0_isLitByMaxima_0 : decode cX0_isLitByMaxima 0 = .ok (.aload_n 2, 1) := dk_44 (dk_at dksX0_isLitByMaxima_0 0 rfl rfl)
theorem dX0_isLitByMaxima_1 : decode cX0_isLitByMaxima 1 = .ok (.iconst 0, 1) := dk_3 (dk_at dksX0_isLitByMaxima_0 1 rfl rfl)
theorem dX0_isLitByMaxima_2 : decode cX0_isLitByMaxima 2 = .ok (.aload_n 0, 1) := dk_42 (dk_at dksX0_isLitByMaxima_0 2 rfl rfl)
theorem dX0_isLitByMaxima_3 : decode cX0_isLitByMaxima 3 = .ok (.iload_n 1, 1) := dk_27 (dk_at dksX0_isLitByMaxima_0 3 rfl rfl)
theorem dX0_isLitByMaxima_4 : decode cX0_isLitByMaxima 4 = .ok (.invokevirtual 137, 3) := dk_182 0 137 (dk_at dksX0_isLitByMaxima_0 4 rfl rfl)
theorem dX0_isLitByMaxima_7 : decode cX0_isLitByMaxima 7 = .ok (.ifCond .eq 7, 3) := dk_153 0 7 (dk_at dksX0_isLitByMaxima_0 7 rfl rfl)
theorem dX0_isLitByMaxima_10 : decode cX0_isLitByMaxima 10 = .ok (.lconst 1, 1) := dk_10 (dk_at dksX0_isLitByMaxima_0 10 rfl rfl)
theorem dX0_isLitByMaxima_11 : decode cX0_isLitByMaxima 11 = .ok (.goto 4, 3) := dk_167 0 4 (dk_at dksX0_isLitByMaxima_0 11 rfl rfl)
theorem dX0_isLitByMaxima_14 : decode cX0_isLitByMaxima 14 = .ok (.lconst 0, 1) := dk_9 (dk_at dksX0_isLitByMaxima_0 14 rfl rfl)
theorem dX0_isLitByMaxima_15 : decode cX0_isLitByMaxima 15 = .ok (.lastore, 1) := dk_80 (dk_at dksX0_isLitByMaxima_0 15 rfl rfl)
theorem dX0_isLitByMaxima_16 : decode cX0_isLitByMaxima 16 = .ok (.goto 6, 3) := dk_167 0 6 (dk_at dksX0_isLitByMaxima_0 16 rfl rfl)
theorem dX0_isLitByMaxima_19 : decode cX0_isLitByMaxima 19 = .ok (.astore_n 3, 1) := dk_78 (dk_at dksX0_isLitByMaxima_0 19 rfl rfl)
theorem dX0_isLitByMaxima_20 : decode cX0_isLitByMaxima 20 = .ok (.iconst 1, 1) := dk_4 (dk_at dksX0_isLitByMaxima_0 20 rfl rfl)
theorem dX0_isLitByMaxima_21 : decode cX0_isLitByMaxima 21 = .ok (.ireturn, 1) := dk_172 (dk_at dksX0_isLitByMaxima_0 21 rfl rfl)
theorem dX0_isLitByMaxima_22 : decode cX0_isLitByMaxima 22 = .ok (.iconst 0, 1) := dk_3 (dk_at dksX0_isLitByMaxima_0 22 rfl rfl)
theorem dX0_isLitByMaxima_23 : decode cX0_isLitByMaxima 23 = .ok (.ireturn, 1) := dk_172 (dk_at dksX0_isLitByMaxima_0 23 rfl rfl)
abbrev cX0_formatBlock : ByteArray := method_41_code
def yX0_formatBlock : MethodName := ⟨RX0, "formatBlock", "(LFortPlanner;I[J)I"⟩
def dkwX0_formatBlock_0 : List UInt8 := [44, 3, 42, 27, 182, 0, 140, 133, 80, 167, 0, 6, 78, 4, 172, 3, 172]
abbrev dktX0_formatBlock_0 : List UInt8 := dkwX0_formatBlock_0 ++ []
theorem dksX0_formatBlock_0 : cX0_formatBlock.data.toList.drop 0 = dktX0_formatBlock_0 := by decide +kernel
theorem dX0_formatBlock_0 : decode cX0_formatBlock 0 = .ok (.aload_n 2, 1) := dk_44 (dk_at dksX0_formatBlock_0 0 rfl rfl)
theorem dX0_formatBlock_1 : decode cX0_formatBlock 1 = .ok (.iconst 0, 1) := dk_3 (dk_at dksX0_formatBlock_0 1 rfl rfl)
theorem dX0_formatBlock_2 : decode cX0_formatBlock 2 = .ok (.aload_n 0, 1) := dk_42 (dk_at dksX0_formatBlock_0 2 rfl rfl)
theorem dX0_formatBlock_3 : decode cX0_formatBlock 3 = .ok (.iload_n 1, 1) := dk_27 (dk_at dksX0_formatBlock_0 3 rfl rfl)
theorem dX0_formatBlock_4 : decode cX0_formatBlock 4 = .ok (.invokevirtual 140, 3) := dk_182 0 140 (dk_at dksX0_formatBlock_0 4 rfl rfl)
theorem dX0_formatBlock_7 : decode cX0_formatBlock 7 = .ok (.i2l, 1) := dk_133 (dk_at dksX0_formatBlock_0 7 rfl rfl)
theorem dX0_formatBlock_8 : decode cX0_formatBlock 8 = .ok (.lastore, 1) := dk_80 (dk_at dksX0_formatBlock_0 8 rfl rfl)
theorem dX0_formatBlock_9 : decode cX0_formatBlock 9 = .ok (.goto 6, 3) := dk_167 0 6 (dk_at dksX0_formatBlock_0 9 rfl rfl)
theorem dX0_formatBlock_12 : decode cX0_formatBlock 12 = .ok (.astore_n 3, 1) := dk_78 (dk_at dksX0_formatBlock_0 12 rfl rfl)
theorem dX0_formatBlock_13 : decode cX0_formatBlock 13 = .ok (.iconst 1, 1) := dk_4 (dk_at dksX0_formatBlock_0 13 rfl rfl)
theorem dX0_formatBlock_14 : decode cX0_formatBlock 14 = .ok (.ireturn, 1) := dk_172 (dk_at dksX0_formatBlock_0 14 rfl rfl)
theorem dX0_formatBlock_15 : decode cX0_formatBlock 15 = .ok (.iconst 0, 1) := dk_3 (dk_at dksX0_formatBlock_0 15 rfl rfl)
theorem dX0_formatBlock_16 : decode cX0_formatBlock 16 = .ok (.ireturn, 1) := dk_172 (dk_at dksX0_formatBlock_0 16 rfl rfl)
abbrev cX0_lineChar : ByteArray := method_42_code
def yX0_lineChar : MethodName := ⟨RX0, "lineChar", "(LFortPlanner;I[J)I"⟩
def dkwX0_lineChar_0 : List UInt8 := [44, 3, 42, 27, 182, 0, 143, 133, 80, 167, 0, 6, 78, 4, 172, 3, 172]
abbrev dktX0_lineChar_0 : List UInt8 := dkwX0_lineChar_0 ++ []
theorem dksX0_lineChar_0 : cX0_lineChar.data.toList.drop 0 = dktX0_lineChar_0 := by decide +kernel
theorem dX0_lineChar_0 : decode cX0_lineChar 0 = .ok (.aload_n 2, 1) := dk_44 (dk_at dksX0_lineChar_0 0 rfl rfl)
theorem dX0_lineChar_1 : decode cX0_lineChar 1 = .ok (.iconst 0, 1) := dk_3 (dk_at dksX0_lineChar_0 1 rfl rfl)
theorem dX0_lineChar_2 : decode cX0_lineChar 2 = .ok (.aload_n 0, 1) := dk_42 (dk_at dksX0_lineChar_0 2 rfl rfl)
theorem dX0_lineChar_3 : decode cX0_lineChar 3 = .ok (.iload_n 1, 1) := dk_27 (dk_at dksX0_lineChar_0 3 rfl rfl)
theorem dX0_lineChar_4 : decode cX0_lineChar 4 = .ok (.invokevirtual 143, 3) := dk_182 0 143 (dk_at dksX0_lineChar_0 4 rfl rfl)
theorem dX0_lineChar_7 : decode cX0_lineChar 7 = .ok (.i2l, 1) := dk_133 (dk_at dksX0_lineChar_0 7 rfl rfl)
theorem dX0_lineChar_8 : decode cX0_lineChar 8 = .ok (.lastore, 1) := dk_80 (dk_at dksX0_lineChar_0 8 rfl rfl)
theorem dX0_lineChar_9 : decode cX0_lineChar 9 = .ok (.goto 6, 3) := dk_167 0 6 (dk_at dksX0_lineChar_0 9 rfl rfl)
theorem dX0_lineChar_12 : decode cX0_lineChar 12 = .ok (.astore_n 3, 1) := dk_78 (dk_at dksX0_lineChar_0 12 rfl rfl)
theorem dX0_lineChar_13 : decode cX0_lineChar 13 = .ok (.iconst 1, 1) := dk_4 (dk_at dksX0_lineChar_0 13 rfl rfl)
theorem dX0_lineChar_14 : decode cX0_lineChar 14 = .ok (.ireturn, 1) := dk_172 (dk_at dksX0_lineChar_0 14 rfl rfl)
theorem dX0_lineChar_15 : decode cX0_lineChar 15 = .ok (.iconst 0, 1) := dk_3 (dk_at dksX0_lineChar_0 15 rfl rfl)
theorem dX0_lineChar_16 : decode cX0_lineChar 16 = .ok (.ireturn, 1) := dk_172 (dk_at dksX0_lineChar_0 16 rfl rfl)
abbrev cX0_append : ByteArray := method_43_code
def yX0_append : MethodName := ⟨RX0, "append", "(LFortPlanner;C[J)I"⟩
def dkwX0_append_0 : List UInt8 := [44, 3, 42, 27, 182, 0, 146, 133, 80, 167, 0, 9, 78, 4, 172, 78, 5, 172, 3, 172]
abbrev dktX0_append_0 : List UInt8 := dkwX0_append_0 ++ []
theorem dksX0_append_0 : cX0_append.data.toList.drop 0 = dktX0_append_0 := by decide +kernel
theorem dX0_append_0 : decode cX0_append 0 = .ok (.aload_n 2, 1) := dk_44 (dk_at dksX0_append_0 0 rfl rfl)
theorem dX0_append_1 : decode cX0_append 1 = .ok (.iconst 0, 1) := dk_3 (dk_at dksX0_append_0 1 rfl rfl)
theorem dX0_append_2 : decode cX0_append 2 = .ok (.aload_n 0, 1) := dk_42 (dk_at dksX0_append_0 2 rfl rfl)
theorem dX0_append_3 : decode cX0_append 3 = .ok (.iload_n 1, 1) := dk_27 (dk_at dksX0_append_0 3 rfl rfl)
theorem dX0_append_4 : decode cX0_append 4 = .ok (.invokevirtual 146, 3) := dk_182 0 146 (dk_at dksX0_append_0 4 rfl rfl)
theorem dX0_append_7 : decode cX0_append 7 = .ok (.i2l, 1) := dk_133 (dk_at dksX0_append_0 7 rfl rfl)
theorem dX0_append_8 : decode cX0_append 8 = .ok (.lastore, 1) := dk_80 (dk_at dksX0_append_0 8 rfl rfl)
theorem dX0_append_9 : decode cX0_append 9 = .ok (.goto 9, 3) := dk_167 0 9 (dk_at dksX0_append_0 9 rfl rfl)
theorem dX0_append_12 : decode cX0_append 12 = .ok (.astore_n 3, 1) := dk_78 (dk_at dksX0_append_0 12 rfl rfl)
theorem dX0_append_13 : decode cX0_append 13 = .ok (.iconst 1, 1) := dk_4 (dk_at dksX0_append_0 13 rfl rfl)
theorem dX0_append_14 : decode cX0_append 14 = .ok (.ireturn, 1) := dk_172 (dk_at dksX0_append_0 14 rfl rfl)
theorem dX0_append_15 : decode cX0_append 15 = .ok (.astore_n 3, 1) := dk_78 (dk_at dksX0_append_0 15 rfl rfl)
theorem dX0_append_16 : decode cX0_append 16 = .ok (.iconst 2, 1) := dk_5 (dk_at dksX0_append_0 16 rfl rfl)
theorem dX0_append_17 : decode cX0_append 17 = .ok (.ireturn, 1) := dk_172 (dk_at dksX0_append_0 17 rfl rfl)
theorem dX0_append_18 : decode cX0_append 18 = .ok (.iconst 0, 1) := dk_3 (dk_at dksX0_append_0 18 rfl rfl)
theorem dX0_append_19 : decode cX0_append 19 = .ok (.ireturn, 1) := dk_172 (dk_at dksX0_append_0 19 rfl rfl)
abbrev cX0_run : ByteArray := method_44_code
def yX0_run : MethodName := ⟨RX0, "run", "(LFortPlanner;[J)I"⟩
def dkwX0_run_0 : List UInt8 := [43, 3, 42, 182, 0, 150, 133, 80, 167, 0, 9, 77, 4, 172, 77, 5, 172, 3, 172]
abbrev dktX0_run_0 : List UInt8 := dkwX0_run_0 ++ []
theorem dksX0_run_0 : cX0_run.data.toList.drop 0 = dktX0_run_0 := by decide +kernel
theorem dX0_run_0 : decode cX0_run 0 = .ok (.aload_n 1, 1) := dk_43 (dk_at dksX0_run_0 0 rfl rfl)
theorem dX0_run_1 : decode cX0_run 1 = .ok (.iconst 0, 1) := dk_3 (dk_at dksX0_run_0 1 rfl rfl)
theorem dX0_run_2 : decode cX0_run 2 = .ok (.aload_n 0, 1) := dk_42 (dk_at dksX0_run_0 2 rfl rfl)
theorem dX0_run_3 : decode cX0_run 3 = .ok (.invokevirtual 150, 3) := dk_182 0 150 (dk_at dksX0_run_0 3 rfl rfl)
theorem dX0_run_6 : decode cX0_run 6 = .ok (.i2l, 1) := dk_133 (dk_at dksX0_run_0 6 rfl rfl)
theorem dX0_run_7 : decode cX0_run 7 = .ok (.lastore, 1) := dk_80 (dk_at dksX0_run_0 7 rfl rfl)
theorem dX0_run_8 : decode cX0_run 8 = .ok (.goto 9, 3) := dk_167 0 9 (dk_at dksX0_run_0 8 rfl rfl)
theorem dX0_run_11 : decode cX0_run 11 = .ok (.astore_n 2, 1) := dk_77 (dk_at dksX0_run_0 11 rfl rfl)
theorem dX0_run_12 : decode cX0_run 12 = .ok (.iconst 1, 1) := dk_4 (dk_at dksX0_run_0 12 rfl rfl)
theorem dX0_run_13 : decode cX0_run 13 = .ok (.ireturn, 1) := dk_172 (dk_at dksX0_run_0 13 rfl rfl)
theorem dX0_run_14 : decode cX0_run 14 = .ok (.astore_n 2, 1) := dk_77 (dk_at dksX0_run_0 14 rfl rfl)
theorem dX0_run_15 : decode cX0_run 15 = .ok (.iconst 2, 1) := dk_5 (dk_at dksX0_run_0 15 rfl rfl)
theorem dX0_run_16 : decode cX0_run 16 = .ok (.ireturn, 1) := dk_172 (dk_at dksX0_run_0 16 rfl rfl)
theorem dX0_run_17 : decode cX0_run 17 = .ok (.iconst 0, 1) := dk_3 (dk_at dksX0_run_0 17 rfl rfl)
theorem dX0_run_18 : decode cX0_run 18 = .ok (.ireturn, 1) := dk_172 (dk_at dksX0_run_0 18 rfl rfl)
abbrev cX0_errorPosition : ByteArray := method_45_code
def yX0_errorPosition : MethodName := ⟨RX0, "errorPosition", "(LFortPlanner;[J)I"⟩
def dkwX0_errorPosition_0 : List UInt8 := [43, 3, 42, 182, 0, 153, 133, 80, 167, 0, 6, 77, 4, 172, 3, 172]
abbrev dktX0_errorPosition_0 : List UInt8 := dkwX0_errorPosition_0 ++ []
theorem dksX0_errorPosition_0 : cX0_errorPosition.data.toList.drop 0 = dktX0_errorPosition_0 := by decide +kernel
theorem dX0_errorPosition_0 : decode cX0_errorPosition 0 = .ok (.aload_n 1, 1) := dk_43 (dk_at dksX0_errorPosition_0 0 rfl rfl)
theorem dX0_errorPosition_1 : decode cX0_errorPosition 1 = .ok (.iconst 0, 1) := dk_3 (dk_at dksX0_errorPosition_0 1 rfl rfl)
theorem dX0_errorPosition_2 : decode cX0_errorPosition 2 = .ok (.aload_n 0, 1) := dk_42 (dk_at dksX0_errorPosition_0 2 rfl rfl)
theorem dX0_errorPosition_3 : decode cX0_errorPosition 3 = .ok (.invokevirtual 153, 3) := dk_182 0 153 (dk_at dksX0_errorPosition_0 3 rfl rfl)
theorem dX0_errorPosition_6 : decode cX0_errorPosition 6 = .ok (.i2l, 1) := dk_133 (dk_at dksX0_errorPosition_0 6 rfl rfl)
theorem dX0_errorPosition_7 : decode cX0_errorPosition 7 = .ok (.lastore, 1) := dk_80 (dk_at dksX0_errorPosition_0 7 rfl rfl)
theorem dX0_errorPosition_8 : decode cX0_errorPosition 8 = .ok (.goto 6, 3) := dk_167 0 6 (dk_at dksX0_errorPosition_0 8 rfl rfl)
theorem dX0_errorPosition_11 : decode cX0_errorPosition 11 = .ok (.astore_n 2, 1) := dk_77 (dk_at dksX0_errorPosition_0 11 rfl rfl)
theorem dX0_errorPosition_12 : decode cX0_errorPosition 12 = .ok (.iconst 1, 1) := dk_4 (dk_at dksX0_errorPosition_0 12 rfl rfl)
theorem dX0_errorPosition_13 : decode cX0_errorPosition 13 = .ok (.ireturn, 1) := dk_172 (dk_at dksX0_errorPosition_0 13 rfl rfl)
theorem dX0_errorPosition_14 : decode cX0_errorPosition 14 = .ok (.iconst 0, 1) := dk_3 (dk_at dksX0_errorPosition_0 14 rfl rfl)
theorem dX0_errorPosition_15 : decode cX0_errorPosition 15 = .ok (.ireturn, 1) := dk_172 (dk_at dksX0_errorPosition_0 15 rfl rfl)
abbrev cX0_failedCommand : ByteArray := method_46_code
def yX0_failedCommand : MethodName := ⟨RX0, "failedCommand", "(LFortPlanner;[J)I"⟩
def dkwX0_failedCommand_0 : List UInt8 := [43, 3, 42, 182, 0, 156, 133, 80, 167, 0, 6, 77, 4, 172, 3, 172]
abbrev dktX0_failedCommand_0 : List UInt8 := dkwX0_failedCommand_0 ++ []
theorem dksX0_failedCommand_0 : cX0_failedCommand.data.toList.drop 0 = dktX0_failedCommand_0 := by decide +kernel
theorem dX0_failedCommand_0 : decode cX0_failedCommand 0 = .ok (.aload_n 1, 1) := dk_43 (dk_at dksX0_failedCommand_0 0 rfl rfl)
theorem dX0_failedCommand_1 : decode cX0_failedCommand 1 = .ok (.iconst 0, 1) := dk_3 (dk_at dksX0_failedCommand_0 1 rfl rfl)
theorem dX0_failedCommand_2 : decode cX0_failedCommand 2 = .ok (.aload_n 0, 1) := dk_42 (dk_at dksX0_failedCommand_0 2 rfl rfl)
theorem dX0_failedCommand_3 : decode cX0_failedCommand 3 = .ok (.invokevirtual 156, 3) := dk_182 0 156 (dk_at dksX0_failedCommand_0 3 rfl rfl)
theorem dX0_failedCommand_6 : decode cX0_failedCommand 6 = .ok (.i2l, 1) := dk_133 (dk_at dksX0_failedCommand_0 6 rfl rfl)
theorem dX0_failedCommand_7 : decode cX0_failedCommand 7 = .ok (.lastore, 1) := dk_80 (dk_at dksX0_failedCommand_0 7 rfl rfl)
theorem dX0_failedCommand_8 : decode cX0_failedCommand 8 = .ok (.goto 6, 3) := dk_167 0 6 (dk_at dksX0_failedCommand_0 8 rfl rfl)
theorem dX0_failedCommand_11 : decode cX0_failedCommand 11 = .ok (.astore_n 2, 1) := dk_77 (dk_at dksX0_failedCommand_0 11 rfl rfl)
theorem dX0_failedCommand_12 : decode cX0_failedCommand 12 = .ok (.iconst 1, 1) := dk_4 (dk_at dksX0_failedCommand_0 12 rfl rfl)
theorem dX0_failedCommand_13 : decode cX0_failedCommand 13 = .ok (.ireturn, 1) := dk_172 (dk_at dksX0_failedCommand_0 13 rfl rfl)
theorem dX0_failedCommand_14 : decode cX0_failedCommand 14 = .ok (.iconst 0, 1) := dk_3 (dk_at dksX0_failedCommand_0 14 rfl rfl)
theorem dX0_failedCommand_15 : decode cX0_failedCommand 15 = .ok (.ireturn, 1) := dk_172 (dk_at dksX0_failedCommand_0 15 rfl rfl)
abbrev cX0_undo : ByteArray := method_47_code
def yX0_undo : MethodName := ⟨RX0, "undo", "(LFortPlanner;[J)I"⟩
def dkwX0_undo_0 : List UInt8 := [43, 3, 42, 182, 0, 159, 133, 80, 167, 0, 6, 77, 4, 172, 3, 172]
abbrev dktX0_undo_0 : List UInt8 := dkwX0_undo_0 ++ []
theorem dksX0_undo_0 : cX0_undo.data.toList.drop 0 = dktX0_undo_0 := by decide +kernel
theorem dX0_undo_0 : decode cX0_undo 0 = .ok (.aload_n 1, 1) := dk_43 (dk_at dksX0_undo_0 0 rfl rfl)
theorem dX0_undo_1 : decode cX0_undo 1 = .ok (.iconst 0, 1) := dk_3 (dk_at dksX0_undo_0 1 rfl rfl)
theorem dX0_undo_2 : decode cX0_undo 2 = .ok (.aload_n 0, 1) := dk_42 (dk_at dksX0_undo_0 2 rfl rfl)
theorem dX0_undo_3 : decode cX0_undo 3 = .ok (.invokevirtual 159, 3) := dk_182 0 159 (dk_at dksX0_undo_0 3 rfl rfl)
theorem dX0_undo_6 : decode cX0_undo 6 = .ok (.i2l, 1) := dk_133 (dk_at dksX0_undo_0 6 rfl rfl)
theorem dX0_undo_7 : decode cX0_undo 7 = .ok (.lastore, 1) := dk_80 (dk_at dksX0_undo_0 7 rfl rfl)
theorem dX0_undo_8 : decode cX0_undo 8 = .ok (.goto 6, 3) := dk_167 0 6 (dk_at dksX0_undo_0 8 rfl rfl)
theorem dX0_undo_11 : decode cX0_undo 11 = .ok (.astore_n 2, 1) := dk_77 (dk_at dksX0_undo_0 11 rfl rfl)
theorem dX0_undo_12 : decode cX0_undo 12 = .ok (.iconst 1, 1) := dk_4 (dk_at dksX0_undo_0 12 rfl rfl)
theorem dX0_undo_13 : decode cX0_undo 13 = .ok (.ireturn, 1) := dk_172 (dk_at dksX0_undo_0 13 rfl rfl)
theorem dX0_undo_14 : decode cX0_undo 14 = .ok (.iconst 0, 1) := dk_3 (dk_at dksX0_undo_0 14 rfl rfl)
theorem dX0_undo_15 : decode cX0_undo 15 = .ok (.ireturn, 1) := dk_172 (dk_at dksX0_undo_0 15 rfl rfl)
abbrev cX0_restore : ByteArray := method_48_code
def yX0_restore : MethodName := ⟨RX0, "restore", "(LFortPlanner;[J)I"⟩
def dkwX0_restore_0 : List UInt8 := [43, 3, 42, 182, 0, 162, 133, 80, 167, 0, 6, 77, 4, 172, 3, 172]
abbrev dktX0_restore_0 : List UInt8 := dkwX0_restore_0 ++ []
theorem dksX0_restore_0 : cX0_restore.data.toList.drop 0 = dktX0_restore_0 := by decide +kernel
theorem dX0_restore_0 : decode cX0_restore 0 = .ok (.aload_n 1, 1) := dk_43 (dk_at dksX0_restore_0 0 rfl rfl)
theorem dX0_restore_1 : decode cX0_restore 1 = .ok (.iconst 0, 1) := dk_3 (dk_at dksX0_restore_0 1 rfl rfl)
theorem dX0_restore_2 : decode cX0_restore 2 = .ok (.aload_n 0, 1) := dk_42 (dk_at dksX0_restore_0 2 rfl rfl)
theorem dX0_restore_3 : decode cX0_restore 3 = .ok (.invokevirtual 162, 3) := dk_182 0 162 (dk_at dksX0_restore_0 3 rfl rfl)
theorem dX0_restore_6 : decode cX0_restore 6 = .ok (.i2l, 1) := dk_133 (dk_at dksX0_restore_0 6 rfl rfl)
theorem dX0_restore_7 : decode cX0_restore 7 = .ok (.lastore, 1) := dk_80 (dk_at dksX0_restore_0 7 rfl rfl)
theorem dX0_restore_8 : decode cX0_restore 8 = .ok (.goto 6, 3) := dk_167 0 6 (dk_at dksX0_restore_0 8 rfl rfl)
theorem dX0_restore_11 : decode cX0_restore 11 = .ok (.astore_n 2, 1) := dk_77 (dk_at dksX0_restore_0 11 rfl rfl)
theorem dX0_restore_12 : decode cX0_restore 12 = .ok (.iconst 1, 1) := dk_4 (dk_at dksX0_restore_0 12 rfl rfl)
theorem dX0_restore_13 : decode cX0_restore 13 = .ok (.ireturn, 1) := dk_172 (dk_at dksX0_restore_0 13 rfl rfl)
theorem dX0_restore_14 : decode cX0_restore 14 = .ok (.iconst 0, 1) := dk_3 (dk_at dksX0_restore_0 14 rfl rfl)
theorem dX0_restore_15 : decode cX0_restore 15 = .ok (.ireturn, 1) := dk_172 (dk_at dksX0_restore_0 15 rfl rfl)
theorem q87 : (Jvm.Cond.initialized "FortPlannerLaw") ∈ lw_all := lw_g (lw_at lw_m1 0 rfl) rfl
theorem q126 : (Jvm.Cond.classLink "FortPlannerLaw" (8 : Nat) "FortPlanner") ∈ lw_all := lw_g (lw_at lw_m1 39 rfl) rfl
theorem q128 : (Jvm.Cond.methodLink "FortPlannerLaw" (165 : Nat) ({ cls := "FortPlanner", name := "<init>", desc := "()V" } : Jvm.MethodName)) ∈ lw_all := lw_g (lw_at lw_m1 41 rfl) rfl
theorem q267 : (Jvm.Cond.methodLink "FortPlannerLaw" (297 : Nat) ({ cls := "FortPlanner", name := "steps", desc := "()I" } : Jvm.MethodName)) ∈ lw_all := lw_g (lw_at lw_m1 180 rfl) rfl
theorem q427 : (Jvm.Cond.methodLink "FortPlannerLaw" (301 : Nat) ({ cls := "FortPlanner", name := "highestColumn", desc := "()I" } : Jvm.MethodName)) ∈ lw_all := lw_g (lw_at lw_m2 100 rfl) rfl
theorem q431 : (Jvm.Cond.methodLink "FortPlannerLaw" (317 : Nat) ({ cls := "FortPlanner", name := "litCount", desc := "()I" } : Jvm.MethodName)) ∈ lw_all := lw_g (lw_at lw_m2 104 rfl) rfl
theorem q456 : (Jvm.Cond.methodLink "FortPlannerLaw" (211 : Nat) ({ cls := "FortPlanner", name := "blockCount", desc := "()I" } : Jvm.MethodName)) ∈ lw_all := lw_g (lw_at lw_m2 129 rfl) rfl
theorem q464 : (Jvm.Cond.methodLink "FortPlannerLaw" (215 : Nat) ({ cls := "FortPlanner", name := "placedCount", desc := "()I" } : Jvm.MethodName)) ∈ lw_all := lw_g (lw_at lw_m2 137 rfl) rfl
theorem q468 : (Jvm.Cond.methodLink "FortPlannerLaw" (219 : Nat) ({ cls := "FortPlanner", name := "isPresent", desc := "(I)Z" } : Jvm.MethodName)) ∈ lw_all := lw_g (lw_at lw_m2 141 rfl) rfl
theorem q476 : (Jvm.Cond.methodLink "FortPlannerLaw" (278 : Nat) ({ cls := "FortPlanner", name := "levelCount", desc := "()I" } : Jvm.MethodName)) ∈ lw_all := lw_g (lw_at lw_m2 149 rfl) rfl
theorem q514 : (Jvm.Cond.methodLink "FortPlannerLaw" (321 : Nat) ({ cls := "FortPlanner", name := "totalWeight", desc := "()I" } : Jvm.MethodName)) ∈ lw_all := lw_g (lw_at lw_m2 187 rfl) rfl
theorem q538 : (Jvm.Cond.methodLink "FortPlannerLaw" (325 : Nat) ({ cls := "FortPlanner", name := "floorPressure", desc := "()I" } : Jvm.MethodName)) ∈ lw_all := lw_g (lw_at lw_m2 211 rfl) rfl
theorem q919 : (Jvm.Cond.methodLink "FortPlannerLaw" (329 : Nat) ({ cls := "FortPlanner", name := "meanHeight", desc := "()D" } : Jvm.MethodName)) ∈ lw_all := lw_g (lw_at lw_m4 112 rfl) rfl
theorem q924 : (Jvm.Cond.methodLink "FortPlannerLaw" (334 : Nat) ({ cls := "FortPlanner", name := "litShare", desc := "()F" } : Jvm.MethodName)) ∈ lw_all := lw_g (lw_at lw_m4 117 rfl) rfl
theorem q929 : (Jvm.Cond.methodLink "FortPlannerLaw" (339 : Nat) ({ cls := "FortPlanner", name := "isConsistent", desc := "()Z" } : Jvm.MethodName)) ∈ lw_all := lw_g (lw_at lw_m4 122 rfl) rfl
theorem q1005 : (Jvm.Cond.methodLink "FortPlannerLaw" (347 : Nat) ({ cls := "FortPlanner", name := "formatHeights", desc := "()I" } : Jvm.MethodName)) ∈ lw_all := lw_g (lw_at lw_m4 198 rfl) rfl
theorem q1080 : (Jvm.Cond.methodLink "FortPlannerLaw" (367 : Nat) ({ cls := "FortPlanner", name := "undoableCount", desc := "()I" } : Jvm.MethodName)) ∈ lw_all := lw_g (lw_at lw_m5 33 rfl) rfl
theorem q1091 : (Jvm.Cond.methodLink "FortPlannerLaw" (374 : Nat) ({ cls := "FortPlanner", name := "save", desc := "()I" } : Jvm.MethodName)) ∈ lw_all := lw_g (lw_at lw_m5 44 rfl) rfl
theorem q1109 : (Jvm.Cond.methodLink "FortPlannerLaw" (169 : Nat) ({ cls := "FortPlannerLaw", name := "placeFoam", desc := "(LFortPlanner;III[J)I" } : Jvm.MethodName)) ∈ lw_all := lw_g (lw_at lw_m5 62 rfl) rfl
theorem q1110 : (Jvm.Cond.static ({ cls := "FortPlannerLaw", name := "placeFoam", desc := "(LFortPlanner;III[J)I" } : Jvm.MethodName)) ∈ lw_all := lw_g (lw_at lw_m5 63 rfl) rfl
theorem q1111 : (Jvm.Cond.codeWith ({ cls := "FortPlannerLaw", name := "placeFoam", desc := "(LFortPlanner;III[J)I" } : Jvm.MethodName) method_3_code (6 : Nat) (Option.some Jvm.ClassFile.FieldType.int) [((0 : Nat), (12 : Nat), (15 : Nat), (13 : Nat)), ((0 : Nat), (12 : Nat), (19 : Nat), (15 : Nat))]) ∈ lw_all := lw_g (lw_at lw_m5 64 rfl) rfl
theorem q1112 : (Jvm.Cond.classLink "FortPlannerLaw" (13 : Nat) "java/lang/IllegalArgumentException") ∈ lw_all := lw_g (lw_at lw_m5 65 rfl) rfl
theorem q1113 : (Jvm.Cond.classLink "FortPlannerLaw" (15 : Nat) "java/lang/IllegalStateException") ∈ lw_all := lw_g (lw_at lw_m5 66 rfl) rfl
theorem q1114 : (Jvm.Cond.methodLink "FortPlannerLaw" (7 : Nat) ({ cls := "FortPlanner", name := "placeFoam", desc := "(III)I" } : Jvm.MethodName)) ∈ lw_all := lw_g (lw_at lw_m5 67 rfl) rfl
theorem q1298 : (Jvm.Cond.methodLink "FortPlannerLaw" (178 : Nat) ({ cls := "FortPlannerLaw", name := "placeBoard", desc := "(LFortPlanner;III[J)I" } : Jvm.MethodName)) ∈ lw_all := lw_g (lw_at lw_m6 11 rfl) rfl
theorem q1299 : (Jvm.Cond.static ({ cls := "FortPlannerLaw", name := "placeBoard", desc := "(LFortPlanner;III[J)I" } : Jvm.MethodName)) ∈ lw_all := lw_g (lw_at lw_m6 12 rfl) rfl
theorem q1300 : (Jvm.Cond.codeWith ({ cls := "FortPlannerLaw", name := "placeBoard", desc := "(LFortPlanner;III[J)I" } : Jvm.MethodName) method_4_code (6 : Nat) (Option.some Jvm.ClassFile.FieldType.int) [((0 : Nat), (12 : Nat), (15 : Nat), (13 : Nat)), ((0 : Nat), (12 : Nat), (19 : Nat), (15 : Nat))]) ∈ lw_all := lw_g (lw_at lw_m6 13 rfl) rfl
theorem q1301 : (Jvm.Cond.methodLink "FortPlannerLaw" (17 : Nat) ({ cls := "FortPlanner", name := "placeBoard", desc := "(III)I" } : Jvm.MethodName)) ∈ lw_all := lw_g (lw_at lw_m6 14 rfl) rfl
theorem q1305 : (Jvm.Cond.methodLink "FortPlannerLaw" (181 : Nat) ({ cls := "FortPlannerLaw", name := "placeBag", desc := "(LFortPlanner;III[J)I" } : Jvm.MethodName)) ∈ lw_all := lw_g (lw_at lw_m6 18 rfl) rfl
theorem q1306 : (Jvm.Cond.static ({ cls := "FortPlannerLaw", name := "placeBag", desc := "(LFortPlanner;III[J)I" } : Jvm.MethodName)) ∈ lw_all := lw_g (lw_at lw_m6 19 rfl) rfl
theorem q1307 : (Jvm.Cond.codeWith ({ cls := "FortPlannerLaw", name := "placeBag", desc := "(LFortPlanner;III[J)I" } : Jvm.MethodName) method_5_code (6 : Nat) (Option.some Jvm.ClassFile.FieldType.int) [((0 : Nat), (12 : Nat), (15 : Nat), (13 : Nat)), ((0 : Nat), (12 : Nat), (19 : Nat), (15 : Nat))]) ∈ lw_all := lw_g (lw_at lw_m6 20 rfl) rfl
theorem q1308 : (Jvm.Cond.methodLink "FortPlannerLaw" (20 : Nat) ({ cls := "FortPlanner", name := "placeBag", desc := "(III)I" } : Jvm.MethodName)) ∈ lw_all := lw_g (lw_at lw_m6 21 rfl) rfl
theorem q1312 : (Jvm.Cond.methodLink "FortPlannerLaw" (184 : Nat) ({ cls := "FortPlannerLaw", name := "remove", desc := "(LFortPlanner;I[J)I" } : Jvm.MethodName)) ∈ lw_all := lw_g (lw_at lw_m6 25 rfl) rfl
theorem q1313 : (Jvm.Cond.static ({ cls := "FortPlannerLaw", name := "remove", desc := "(LFortPlanner;I[J)I" } : Jvm.MethodName)) ∈ lw_all := lw_g (lw_at lw_m6 26 rfl) rfl
theorem q1314 : (Jvm.Cond.codeWith ({ cls := "FortPlannerLaw", name := "remove", desc := "(LFortPlanner;I[J)I" } : Jvm.MethodName) method_6_code (4 : Nat) (Option.some Jvm.ClassFile.FieldType.int) [((0 : Nat), (9 : Nat), (12 : Nat), (27 : Nat)), ((0 : Nat), (9 : Nat), (15 : Nat), (15 : Nat))]) ∈ lw_all := lw_g (lw_at lw_m6 27 rfl) rfl
theorem q1315 : (Jvm.Cond.classLink "FortPlannerLaw" (27 : Nat) "java/util/NoSuchElementException") ∈ lw_all := lw_g (lw_at lw_m6 28 rfl) rfl
theorem q1316 : (Jvm.Cond.methodLink "FortPlannerLaw" (23 : Nat) ({ cls := "FortPlanner", name := "remove", desc := "(I)I" } : Jvm.MethodName)) ∈ lw_all := lw_g (lw_at lw_m6 29 rfl) rfl
theorem q1337 : (Jvm.Cond.methodLink "FortPlannerLaw" (188 : Nat) ({ cls := "FortPlannerLaw", name := "setZone", desc := "(LFortPlanner;IC[J)I" } : Jvm.MethodName)) ∈ lw_all := lw_g (lw_at lw_m6 50 rfl) rfl
theorem q1338 : (Jvm.Cond.static ({ cls := "FortPlannerLaw", name := "setZone", desc := "(LFortPlanner;IC[J)I" } : Jvm.MethodName)) ∈ lw_all := lw_g (lw_at lw_m6 51 rfl) rfl
theorem q1339 : (Jvm.Cond.codeWith ({ cls := "FortPlannerLaw", name := "setZone", desc := "(LFortPlanner;IC[J)I" } : Jvm.MethodName) method_7_code (5 : Nat) (Option.some Jvm.ClassFile.FieldType.int) [((0 : Nat), (10 : Nat), (13 : Nat), (33 : Nat)), ((0 : Nat), (10 : Nat), (17 : Nat), (13 : Nat))]) ∈ lw_all := lw_g (lw_at lw_m6 52 rfl) rfl
theorem q1340 : (Jvm.Cond.classLink "FortPlannerLaw" (33 : Nat) "java/lang/IndexOutOfBoundsException") ∈ lw_all := lw_g (lw_at lw_m6 53 rfl) rfl
theorem q1343 : (Jvm.Cond.methodLink "FortPlannerLaw" (29 : Nat) ({ cls := "FortPlanner", name := "setZone", desc := "(IC)C" } : Jvm.MethodName)) ∈ lw_all := lw_g (lw_at lw_m6 56 rfl) rfl
theorem q1371 : (Jvm.Cond.methodLink "FortPlannerLaw" (192 : Nat) ({ cls := "FortPlannerLaw", name := "addTorch", desc := "(LFortPlanner;I[J)I" } : Jvm.MethodName)) ∈ lw_all := lw_g (lw_at lw_m6 84 rfl) rfl
theorem q1372 : (Jvm.Cond.static ({ cls := "FortPlannerLaw", name := "addTorch", desc := "(LFortPlanner;I[J)I" } : Jvm.MethodName)) ∈ lw_all := lw_g (lw_at lw_m6 85 rfl) rfl
theorem q1373 : (Jvm.Cond.codeWith ({ cls := "FortPlannerLaw", name := "addTorch", desc := "(LFortPlanner;I[J)I" } : Jvm.MethodName) method_8_code (4 : Nat) (Option.some Jvm.ClassFile.FieldType.int) [((0 : Nat), (9 : Nat), (12 : Nat), (33 : Nat)), ((0 : Nat), (9 : Nat), (15 : Nat), (15 : Nat))]) ∈ lw_all := lw_g (lw_at lw_m6 86 rfl) rfl
theorem q1374 : (Jvm.Cond.methodLink "FortPlannerLaw" (35 : Nat) ({ cls := "FortPlanner", name := "addTorch", desc := "(I)I" } : Jvm.MethodName)) ∈ lw_all := lw_g (lw_at lw_m6 87 rfl) rfl
theorem q1386 : (Jvm.Cond.methodLink "FortPlannerLaw" (195 : Nat) ({ cls := "FortPlannerLaw", name := "removeTorch", desc := "(LFortPlanner;I[J)I" } : Jvm.MethodName)) ∈ lw_all := lw_g (lw_at lw_m6 99 rfl) rfl
theorem q1387 : (Jvm.Cond.static ({ cls := "FortPlannerLaw", name := "removeTorch", desc := "(LFortPlanner;I[J)I" } : Jvm.MethodName)) ∈ lw_all := lw_g (lw_at lw_m6 100 rfl) rfl
theorem q1388 : (Jvm.Cond.codeWith ({ cls := "FortPlannerLaw", name := "removeTorch", desc := "(LFortPlanner;I[J)I" } : Jvm.MethodName) method_9_code (4 : Nat) (Option.some Jvm.ClassFile.FieldType.int) [((0 : Nat), (9 : Nat), (12 : Nat), (33 : Nat)), ((0 : Nat), (9 : Nat), (15 : Nat), (15 : Nat))]) ∈ lw_all := lw_g (lw_at lw_m6 101 rfl) rfl
theorem q1389 : (Jvm.Cond.methodLink "FortPlannerLaw" (38 : Nat) ({ cls := "FortPlanner", name := "removeTorch", desc := "(I)I" } : Jvm.MethodName)) ∈ lw_all := lw_g (lw_at lw_m6 102 rfl) rfl
theorem q1393 : (Jvm.Cond.methodLink "FortPlannerLaw" (198 : Nat) ({ cls := "FortPlannerLaw", name := "canPlaceFoam", desc := "(LFortPlanner;III[J)I" } : Jvm.MethodName)) ∈ lw_all := lw_g (lw_at lw_m6 106 rfl) rfl
theorem q1394 : (Jvm.Cond.static ({ cls := "FortPlannerLaw", name := "canPlaceFoam", desc := "(LFortPlanner;III[J)I" } : Jvm.MethodName)) ∈ lw_all := lw_g (lw_at lw_m6 107 rfl) rfl
theorem q1395 : (Jvm.Cond.codeWith ({ cls := "FortPlannerLaw", name := "canPlaceFoam", desc := "(LFortPlanner;III[J)I" } : Jvm.MethodName) method_10_code (6 : Nat) (Option.some Jvm.ClassFile.FieldType.int) [((0 : Nat), (19 : Nat), (22 : Nat), (13 : Nat))]) ∈ lw_all := lw_g (lw_at lw_m6 108 rfl) rfl
theorem q1396 : (Jvm.Cond.methodLink "FortPlannerLaw" (41 : Nat) ({ cls := "FortPlanner", name := "canPlaceFoam", desc := "(III)Z" } : Jvm.MethodName)) ∈ lw_all := lw_g (lw_at lw_m6 109 rfl) rfl
theorem q1404 : (Jvm.Cond.methodLink "FortPlannerLaw" (201 : Nat) ({ cls := "FortPlannerLaw", name := "canPlaceBoard", desc := "(LFortPlanner;III[J)I" } : Jvm.MethodName)) ∈ lw_all := lw_g (lw_at lw_m6 117 rfl) rfl
theorem q1405 : (Jvm.Cond.static ({ cls := "FortPlannerLaw", name := "canPlaceBoard", desc := "(LFortPlanner;III[J)I" } : Jvm.MethodName)) ∈ lw_all := lw_g (lw_at lw_m6 118 rfl) rfl
theorem q1406 : (Jvm.Cond.codeWith ({ cls := "FortPlannerLaw", name := "canPlaceBoard", desc := "(LFortPlanner;III[J)I" } : Jvm.MethodName) method_11_code (6 : Nat) (Option.some Jvm.ClassFile.FieldType.int) [((0 : Nat), (19 : Nat), (22 : Nat), (13 : Nat))]) ∈ lw_all := lw_g (lw_at lw_m6 119 rfl) rfl
theorem q1407 : (Jvm.Cond.methodLink "FortPlannerLaw" (45 : Nat) ({ cls := "FortPlanner", name := "canPlaceBoard", desc := "(III)Z" } : Jvm.MethodName)) ∈ lw_all := lw_g (lw_at lw_m6 120 rfl) rfl
theorem q1411 : (Jvm.Cond.methodLink "FortPlannerLaw" (204 : Nat) ({ cls := "FortPlannerLaw", name := "canPlaceBag", desc := "(LFortPlanner;III[J)I" } : Jvm.MethodName)) ∈ lw_all := lw_g (lw_at lw_m6 124 rfl) rfl
theorem q1412 : (Jvm.Cond.static ({ cls := "FortPlannerLaw", name := "canPlaceBag", desc := "(LFortPlanner;III[J)I" } : Jvm.MethodName)) ∈ lw_all := lw_g (lw_at lw_m6 125 rfl) rfl
theorem q1413 : (Jvm.Cond.codeWith ({ cls := "FortPlannerLaw", name := "canPlaceBag", desc := "(LFortPlanner;III[J)I" } : Jvm.MethodName) method_12_code (6 : Nat) (Option.some Jvm.ClassFile.FieldType.int) [((0 : Nat), (19 : Nat), (22 : Nat), (13 : Nat))]) ∈ lw_all := lw_g (lw_at lw_m6 126 rfl) rfl
theorem q1414 : (Jvm.Cond.methodLink "FortPlannerLaw" (48 : Nat) ({ cls := "FortPlanner", name := "canPlaceBag", desc := "(III)Z" } : Jvm.MethodName)) ∈ lw_all := lw_g (lw_at lw_m6 127 rfl) rfl
theorem q1418 : (Jvm.Cond.methodLink "FortPlannerLaw" (207 : Nat) ({ cls := "FortPlannerLaw", name := "heaviestFoam", desc := "(LFortPlanner;II[J)I" } : Jvm.MethodName)) ∈ lw_all := lw_g (lw_at lw_m6 131 rfl) rfl
theorem q1419 : (Jvm.Cond.static ({ cls := "FortPlannerLaw", name := "heaviestFoam", desc := "(LFortPlanner;II[J)I" } : Jvm.MethodName)) ∈ lw_all := lw_g (lw_at lw_m6 132 rfl) rfl
theorem q1420 : (Jvm.Cond.codeWith ({ cls := "FortPlannerLaw", name := "heaviestFoam", desc := "(LFortPlanner;II[J)I" } : Jvm.MethodName) method_13_code (5 : Nat) (Option.some Jvm.ClassFile.FieldType.int) [((0 : Nat), (10 : Nat), (13 : Nat), (13 : Nat)), ((0 : Nat), (10 : Nat), (17 : Nat), (27 : Nat))]) ∈ lw_all := lw_g (lw_at lw_m6 133 rfl) rfl
theorem q1421 : (Jvm.Cond.methodLink "FortPlannerLaw" (51 : Nat) ({ cls := "FortPlanner", name := "heaviestFoam", desc := "(II)I" } : Jvm.MethodName)) ∈ lw_all := lw_g (lw_at lw_m6 134 rfl) rfl
theorem q1425 : (Jvm.Cond.methodLink "FortPlannerLaw" (223 : Nat) ({ cls := "FortPlannerLaw", name := "blockAt", desc := "(LFortPlanner;I[J)I" } : Jvm.MethodName)) ∈ lw_all := lw_g (lw_at lw_m6 138 rfl) rfl
theorem q1426 : (Jvm.Cond.static ({ cls := "FortPlannerLaw", name := "blockAt", desc := "(LFortPlanner;I[J)I" } : Jvm.MethodName)) ∈ lw_all := lw_g (lw_at lw_m6 139 rfl) rfl
theorem q1427 : (Jvm.Cond.codeWith ({ cls := "FortPlannerLaw", name := "blockAt", desc := "(LFortPlanner;I[J)I" } : Jvm.MethodName) method_14_code (4 : Nat) (Option.some Jvm.ClassFile.FieldType.int) [((0 : Nat), (9 : Nat), (12 : Nat), (33 : Nat))]) ∈ lw_all := lw_g (lw_at lw_m6 140 rfl) rfl
theorem q1428 : (Jvm.Cond.methodLink "FortPlannerLaw" (55 : Nat) ({ cls := "FortPlanner", name := "blockAt", desc := "(I)I" } : Jvm.MethodName)) ∈ lw_all := lw_g (lw_at lw_m6 141 rfl) rfl
theorem q1434 : (Jvm.Cond.methodLink "FortPlannerLaw" (226 : Nat) ({ cls := "FortPlannerLaw", name := "isFoam", desc := "(LFortPlanner;I[J)I" } : Jvm.MethodName)) ∈ lw_all := lw_g (lw_at lw_m6 147 rfl) rfl
theorem q1435 : (Jvm.Cond.static ({ cls := "FortPlannerLaw", name := "isFoam", desc := "(LFortPlanner;I[J)I" } : Jvm.MethodName)) ∈ lw_all := lw_g (lw_at lw_m6 148 rfl) rfl
theorem q1436 : (Jvm.Cond.codeWith ({ cls := "FortPlannerLaw", name := "isFoam", desc := "(LFortPlanner;I[J)I" } : Jvm.MethodName) method_15_code (4 : Nat) (Option.some Jvm.ClassFile.FieldType.int) [((0 : Nat), (16 : Nat), (19 : Nat), (27 : Nat))]) ∈ lw_all := lw_g (lw_at lw_m6 149 rfl) rfl
theorem q1437 : (Jvm.Cond.methodLink "FortPlannerLaw" (58 : Nat) ({ cls := "FortPlanner", name := "isFoam", desc := "(I)Z" } : Jvm.MethodName)) ∈ lw_all := lw_g (lw_at lw_m6 150 rfl) rfl
theorem q1441 : (Jvm.Cond.methodLink "FortPlannerLaw" (229 : Nat) ({ cls := "FortPlannerLaw", name := "isBoard", desc := "(LFortPlanner;I[J)I" } : Jvm.MethodName)) ∈ lw_all := lw_g (lw_at lw_m6 154 rfl) rfl
theorem q1442 : (Jvm.Cond.static ({ cls := "FortPlannerLaw", name := "isBoard", desc := "(LFortPlanner;I[J)I" } : Jvm.MethodName)) ∈ lw_all := lw_g (lw_at lw_m6 155 rfl) rfl
theorem q1443 : (Jvm.Cond.codeWith ({ cls := "FortPlannerLaw", name := "isBoard", desc := "(LFortPlanner;I[J)I" } : Jvm.MethodName) method_16_code (4 : Nat) (Option.some Jvm.ClassFile.FieldType.int) [((0 : Nat), (16 : Nat), (19 : Nat), (27 : Nat))]) ∈ lw_all := lw_g (lw_at lw_m6 156 rfl) rfl
theorem q1444 : (Jvm.Cond.methodLink "FortPlannerLaw" (62 : Nat) ({ cls := "FortPlanner", name := "isBoard", desc := "(I)Z" } : Jvm.MethodName)) ∈ lw_all := lw_g (lw_at lw_m6 157 rfl) rfl
theorem q1448 : (Jvm.Cond.methodLink "FortPlannerLaw" (232 : Nat) ({ cls := "FortPlannerLaw", name := "left", desc := "(LFortPlanner;I[J)I" } : Jvm.MethodName)) ∈ lw_all := lw_g (lw_at lw_m6 161 rfl) rfl
theorem q1449 : (Jvm.Cond.static ({ cls := "FortPlannerLaw", name := "left", desc := "(LFortPlanner;I[J)I" } : Jvm.MethodName)) ∈ lw_all := lw_g (lw_at lw_m6 162 rfl) rfl
theorem q1450 : (Jvm.Cond.codeWith ({ cls := "FortPlannerLaw", name := "left", desc := "(LFortPlanner;I[J)I" } : Jvm.MethodName) method_17_code (4 : Nat) (Option.some Jvm.ClassFile.FieldType.int) [((0 : Nat), (9 : Nat), (12 : Nat), (27 : Nat))]) ∈ lw_all := lw_g (lw_at lw_m6 163 rfl) rfl
theorem q1451 : (Jvm.Cond.methodLink "FortPlannerLaw" (65 : Nat) ({ cls := "FortPlanner", name := "left", desc := "(I)I" } : Jvm.MethodName)) ∈ lw_all := lw_g (lw_at lw_m6 164 rfl) rfl
theorem q1455 : (Jvm.Cond.methodLink "FortPlannerLaw" (235 : Nat) ({ cls := "FortPlannerLaw", name := "width", desc := "(LFortPlanner;I[J)I" } : Jvm.MethodName)) ∈ lw_all := lw_g (lw_at lw_m6 168 rfl) rfl
theorem q1456 : (Jvm.Cond.static ({ cls := "FortPlannerLaw", name := "width", desc := "(LFortPlanner;I[J)I" } : Jvm.MethodName)) ∈ lw_all := lw_g (lw_at lw_m6 169 rfl) rfl
theorem q1457 : (Jvm.Cond.codeWith ({ cls := "FortPlannerLaw", name := "width", desc := "(LFortPlanner;I[J)I" } : Jvm.MethodName) method_18_code (4 : Nat) (Option.some Jvm.ClassFile.FieldType.int) [((0 : Nat), (9 : Nat), (12 : Nat), (27 : Nat))]) ∈ lw_all := lw_g (lw_at lw_m6 170 rfl) rfl
theorem q1458 : (Jvm.Cond.methodLink "FortPlannerLaw" (68 : Nat) ({ cls := "FortPlanner", name := "width", desc := "(I)I" } : Jvm.MethodName)) ∈ lw_all := lw_g (lw_at lw_m6 171 rfl) rfl
theorem q1462 : (Jvm.Cond.methodLink "FortPlannerLaw" (238 : Nat) ({ cls := "FortPlannerLaw", name := "weight", desc := "(LFortPlanner;I[J)I" } : Jvm.MethodName)) ∈ lw_all := lw_g (lw_at lw_m6 175 rfl) rfl
theorem q1463 : (Jvm.Cond.static ({ cls := "FortPlannerLaw", name := "weight", desc := "(LFortPlanner;I[J)I" } : Jvm.MethodName)) ∈ lw_all := lw_g (lw_at lw_m6 176 rfl) rfl
theorem q1464 : (Jvm.Cond.codeWith ({ cls := "FortPlannerLaw", name := "weight", desc := "(LFortPlanner;I[J)I" } : Jvm.MethodName) method_19_code (4 : Nat) (Option.some Jvm.ClassFile.FieldType.int) [((0 : Nat), (9 : Nat), (12 : Nat), (27 : Nat))]) ∈ lw_all := lw_g (lw_at lw_m6 177 rfl) rfl
theorem q1465 : (Jvm.Cond.methodLink "FortPlannerLaw" (71 : Nat) ({ cls := "FortPlanner", name := "weight", desc := "(I)I" } : Jvm.MethodName)) ∈ lw_all := lw_g (lw_at lw_m6 178 rfl) rfl
theorem q1469 : (Jvm.Cond.methodLink "FortPlannerLaw" (241 : Nat) ({ cls := "FortPlannerLaw", name := "strength", desc := "(LFortPlanner;I[J)I" } : Jvm.MethodName)) ∈ lw_all := lw_g (lw_at lw_m6 182 rfl) rfl
theorem q1470 : (Jvm.Cond.static ({ cls := "FortPlannerLaw", name := "strength", desc := "(LFortPlanner;I[J)I" } : Jvm.MethodName)) ∈ lw_all := lw_g (lw_at lw_m6 183 rfl) rfl
theorem q1471 : (Jvm.Cond.codeWith ({ cls := "FortPlannerLaw", name := "strength", desc := "(LFortPlanner;I[J)I" } : Jvm.MethodName) method_20_code (4 : Nat) (Option.some Jvm.ClassFile.FieldType.int) [((0 : Nat), (9 : Nat), (12 : Nat), (27 : Nat))]) ∈ lw_all := lw_g (lw_at lw_m6 184 rfl) rfl
theorem q1472 : (Jvm.Cond.methodLink "FortPlannerLaw" (74 : Nat) ({ cls := "FortPlanner", name := "strength", desc := "(I)I" } : Jvm.MethodName)) ∈ lw_all := lw_g (lw_at lw_m6 185 rfl) rfl
theorem q1477 : (Jvm.Cond.methodLink "FortPlannerLaw" (244 : Nat) ({ cls := "FortPlannerLaw", name := "bottom", desc := "(LFortPlanner;I[J)I" } : Jvm.MethodName)) ∈ lw_all := lw_g (lw_at lw_m6 190 rfl) rfl
theorem q1478 : (Jvm.Cond.static ({ cls := "FortPlannerLaw", name := "bottom", desc := "(LFortPlanner;I[J)I" } : Jvm.MethodName)) ∈ lw_all := lw_g (lw_at lw_m6 191 rfl) rfl
theorem q1479 : (Jvm.Cond.codeWith ({ cls := "FortPlannerLaw", name := "bottom", desc := "(LFortPlanner;I[J)I" } : Jvm.MethodName) method_21_code (4 : Nat) (Option.some Jvm.ClassFile.FieldType.int) [((0 : Nat), (9 : Nat), (12 : Nat), (27 : Nat))]) ∈ lw_all := lw_g (lw_at lw_m6 192 rfl) rfl
theorem q1480 : (Jvm.Cond.methodLink "FortPlannerLaw" (77 : Nat) ({ cls := "FortPlanner", name := "bottom", desc := "(I)I" } : Jvm.MethodName)) ∈ lw_all := lw_g (lw_at lw_m6 193 rfl) rfl
theorem q1484 : (Jvm.Cond.methodLink "FortPlannerLaw" (247 : Nat) ({ cls := "FortPlannerLaw", name := "top", desc := "(LFortPlanner;I[J)I" } : Jvm.MethodName)) ∈ lw_all := lw_g (lw_at lw_m6 197 rfl) rfl
theorem q1485 : (Jvm.Cond.static ({ cls := "FortPlannerLaw", name := "top", desc := "(LFortPlanner;I[J)I" } : Jvm.MethodName)) ∈ lw_all := lw_g (lw_at lw_m6 198 rfl) rfl
theorem q1486 : (Jvm.Cond.codeWith ({ cls := "FortPlannerLaw", name := "top", desc := "(LFortPlanner;I[J)I" } : Jvm.MethodName) method_22_code (4 : Nat) (Option.some Jvm.ClassFile.FieldType.int) [((0 : Nat), (9 : Nat), (12 : Nat), (27 : Nat))]) ∈ lw_all := lw_g (lw_at lw_m6 199 rfl) rfl
theorem q1487 : (Jvm.Cond.methodLink "FortPlannerLaw" (80 : Nat) ({ cls := "FortPlanner", name := "top", desc := "(I)I" } : Jvm.MethodName)) ∈ lw_all := lw_g (lw_at lw_m6 200 rfl) rfl
theorem q1491 : (Jvm.Cond.methodLink "FortPlannerLaw" (250 : Nat) ({ cls := "FortPlannerLaw", name := "supporterCount", desc := "(LFortPlanner;I[J)I" } : Jvm.MethodName)) ∈ lw_all := lw_g (lw_at lw_m6 204 rfl) rfl
theorem q1492 : (Jvm.Cond.static ({ cls := "FortPlannerLaw", name := "supporterCount", desc := "(LFortPlanner;I[J)I" } : Jvm.MethodName)) ∈ lw_all := lw_g (lw_at lw_m6 205 rfl) rfl
theorem q1493 : (Jvm.Cond.codeWith ({ cls := "FortPlannerLaw", name := "supporterCount", desc := "(LFortPlanner;I[J)I" } : Jvm.MethodName) method_23_code (4 : Nat) (Option.some Jvm.ClassFile.FieldType.int) [((0 : Nat), (9 : Nat), (12 : Nat), (27 : Nat))]) ∈ lw_all := lw_g (lw_at lw_m6 206 rfl) rfl
theorem q1494 : (Jvm.Cond.methodLink "FortPlannerLaw" (83 : Nat) ({ cls := "FortPlanner", name := "supporterCount", desc := "(I)I" } : Jvm.MethodName)) ∈ lw_all := lw_g (lw_at lw_m6 207 rfl) rfl
theorem q1499 : (Jvm.Cond.methodLink "FortPlannerLaw" (253 : Nat) ({ cls := "FortPlannerLaw", name := "supporterAt", desc := "(LFortPlanner;II[J)I" } : Jvm.MethodName)) ∈ lw_all := lw_g (lw_at lw_m6 212 rfl) rfl
theorem q1500 : (Jvm.Cond.static ({ cls := "FortPlannerLaw", name := "supporterAt", desc := "(LFortPlanner;II[J)I" } : Jvm.MethodName)) ∈ lw_all := lw_g (lw_at lw_m6 213 rfl) rfl
theorem q1501 : (Jvm.Cond.codeWith ({ cls := "FortPlannerLaw", name := "supporterAt", desc := "(LFortPlanner;II[J)I" } : Jvm.MethodName) method_24_code (5 : Nat) (Option.some Jvm.ClassFile.FieldType.int) [((0 : Nat), (10 : Nat), (13 : Nat), (27 : Nat))]) ∈ lw_all := lw_g (lw_at lw_m6 214 rfl) rfl
theorem q1502 : (Jvm.Cond.methodLink "FortPlannerLaw" (86 : Nat) ({ cls := "FortPlanner", name := "supporterAt", desc := "(II)I" } : Jvm.MethodName)) ∈ lw_all := lw_g (lw_at lw_m6 215 rfl) rfl
theorem q1506 : (Jvm.Cond.methodLink "FortPlannerLaw" (256 : Nat) ({ cls := "FortPlannerLaw", name := "isSupporting", desc := "(LFortPlanner;I[J)I" } : Jvm.MethodName)) ∈ lw_all := lw_g (lw_at lw_m6 219 rfl) rfl
theorem q1507 : (Jvm.Cond.static ({ cls := "FortPlannerLaw", name := "isSupporting", desc := "(LFortPlanner;I[J)I" } : Jvm.MethodName)) ∈ lw_all := lw_g (lw_at lw_m6 220 rfl) rfl
theorem q1508 : (Jvm.Cond.codeWith ({ cls := "FortPlannerLaw", name := "isSupporting", desc := "(LFortPlanner;I[J)I" } : Jvm.MethodName) method_25_code (4 : Nat) (Option.some Jvm.ClassFile.FieldType.int) [((0 : Nat), (16 : Nat), (19 : Nat), (27 : Nat))]) ∈ lw_all := lw_g (lw_at lw_m6 221 rfl) rfl
theorem q1509 : (Jvm.Cond.methodLink "FortPlannerLaw" (89 : Nat) ({ cls := "FortPlanner", name := "isSupporting", desc := "(I)Z" } : Jvm.MethodName)) ∈ lw_all := lw_g (lw_at lw_m6 222 rfl) rfl
theorem q1513 : (Jvm.Cond.methodLink "FortPlannerLaw" (259 : Nat) ({ cls := "FortPlannerLaw", name := "load", desc := "(LFortPlanner;I[J)I" } : Jvm.MethodName)) ∈ lw_all := lw_g (lw_at lw_m6 226 rfl) rfl
theorem q1514 : (Jvm.Cond.static ({ cls := "FortPlannerLaw", name := "load", desc := "(LFortPlanner;I[J)I" } : Jvm.MethodName)) ∈ lw_all := lw_g (lw_at lw_m6 227 rfl) rfl
theorem q1515 : (Jvm.Cond.codeWith ({ cls := "FortPlannerLaw", name := "load", desc := "(LFortPlanner;I[J)I" } : Jvm.MethodName) method_26_code (4 : Nat) (Option.some Jvm.ClassFile.FieldType.int) [((0 : Nat), (9 : Nat), (12 : Nat), (27 : Nat))]) ∈ lw_all := lw_g (lw_at lw_m6 228 rfl) rfl
theorem q1516 : (Jvm.Cond.methodLink "FortPlannerLaw" (92 : Nat) ({ cls := "FortPlanner", name := "load", desc := "(I)I" } : Jvm.MethodName)) ∈ lw_all := lw_g (lw_at lw_m6 229 rfl) rfl
theorem q1524 : (Jvm.Cond.methodLink "FortPlannerLaw" (262 : Nat) ({ cls := "FortPlannerLaw", name := "loadByRecursion", desc := "(LFortPlanner;I[J)I" } : Jvm.MethodName)) ∈ lw_all := lw_g (lw_at lw_m6 237 rfl) rfl
theorem q1525 : (Jvm.Cond.static ({ cls := "FortPlannerLaw", name := "loadByRecursion", desc := "(LFortPlanner;I[J)I" } : Jvm.MethodName)) ∈ lw_all := lw_g (lw_at lw_m6 238 rfl) rfl
theorem q1526 : (Jvm.Cond.codeWith ({ cls := "FortPlannerLaw", name := "loadByRecursion", desc := "(LFortPlanner;I[J)I" } : Jvm.MethodName) method_27_code (4 : Nat) (Option.some Jvm.ClassFile.FieldType.int) [((0 : Nat), (9 : Nat), (12 : Nat), (27 : Nat))]) ∈ lw_all := lw_g (lw_at lw_m6 239 rfl) rfl
theorem q1527 : (Jvm.Cond.methodLink "FortPlannerLaw" (95 : Nat) ({ cls := "FortPlanner", name := "loadByRecursion", desc := "(I)I" } : Jvm.MethodName)) ∈ lw_all := lw_g (lw_at lw_m7 0 rfl) rfl
theorem q1536 : (Jvm.Cond.methodLink "FortPlannerLaw" (265 : Nat) ({ cls := "FortPlannerLaw", name := "slack", desc := "(LFortPlanner;I[J)I" } : Jvm.MethodName)) ∈ lw_all := lw_g (lw_at lw_m7 9 rfl) rfl
theorem q1537 : (Jvm.Cond.static ({ cls := "FortPlannerLaw", name := "slack", desc := "(LFortPlanner;I[J)I" } : Jvm.MethodName)) ∈ lw_all := lw_g (lw_at lw_m7 10 rfl) rfl
theorem q1538 : (Jvm.Cond.codeWith ({ cls := "FortPlannerLaw", name := "slack", desc := "(LFortPlanner;I[J)I" } : Jvm.MethodName) method_28_code (4 : Nat) (Option.some Jvm.ClassFile.FieldType.int) [((0 : Nat), (9 : Nat), (12 : Nat), (27 : Nat))]) ∈ lw_all := lw_g (lw_at lw_m7 11 rfl) rfl
theorem q1539 : (Jvm.Cond.methodLink "FortPlannerLaw" (98 : Nat) ({ cls := "FortPlanner", name := "slack", desc := "(I)I" } : Jvm.MethodName)) ∈ lw_all := lw_g (lw_at lw_m7 12 rfl) rfl
theorem q1543 : (Jvm.Cond.methodLink "FortPlannerLaw" (268 : Nat) ({ cls := "FortPlannerLaw", name := "weakest", desc := "(LFortPlanner;[J)I" } : Jvm.MethodName)) ∈ lw_all := lw_g (lw_at lw_m7 16 rfl) rfl
theorem q1544 : (Jvm.Cond.static ({ cls := "FortPlannerLaw", name := "weakest", desc := "(LFortPlanner;[J)I" } : Jvm.MethodName)) ∈ lw_all := lw_g (lw_at lw_m7 17 rfl) rfl
theorem q1545 : (Jvm.Cond.codeWith ({ cls := "FortPlannerLaw", name := "weakest", desc := "(LFortPlanner;[J)I" } : Jvm.MethodName) method_29_code (3 : Nat) (Option.some Jvm.ClassFile.FieldType.int) [((0 : Nat), (8 : Nat), (11 : Nat), (27 : Nat))]) ∈ lw_all := lw_g (lw_at lw_m7 18 rfl) rfl
theorem q1546 : (Jvm.Cond.methodLink "FortPlannerLaw" (101 : Nat) ({ cls := "FortPlanner", name := "weakest", desc := "()I" } : Jvm.MethodName)) ∈ lw_all := lw_g (lw_at lw_m7 19 rfl) rfl
theorem q1558 : (Jvm.Cond.methodLink "FortPlannerLaw" (272 : Nat) ({ cls := "FortPlannerLaw", name := "blockBySlack", desc := "(LFortPlanner;I[J)I" } : Jvm.MethodName)) ∈ lw_all := lw_g (lw_at lw_m7 31 rfl) rfl
theorem q1559 : (Jvm.Cond.static ({ cls := "FortPlannerLaw", name := "blockBySlack", desc := "(LFortPlanner;I[J)I" } : Jvm.MethodName)) ∈ lw_all := lw_g (lw_at lw_m7 32 rfl) rfl
theorem q1560 : (Jvm.Cond.codeWith ({ cls := "FortPlannerLaw", name := "blockBySlack", desc := "(LFortPlanner;I[J)I" } : Jvm.MethodName) method_30_code (4 : Nat) (Option.some Jvm.ClassFile.FieldType.int) [((0 : Nat), (9 : Nat), (12 : Nat), (27 : Nat))]) ∈ lw_all := lw_g (lw_at lw_m7 33 rfl) rfl
theorem q1561 : (Jvm.Cond.methodLink "FortPlannerLaw" (105 : Nat) ({ cls := "FortPlanner", name := "blockBySlack", desc := "(I)I" } : Jvm.MethodName)) ∈ lw_all := lw_g (lw_at lw_m7 34 rfl) rfl
theorem q1565 : (Jvm.Cond.methodLink "FortPlannerLaw" (275 : Nat) ({ cls := "FortPlannerLaw", name := "level", desc := "(LFortPlanner;I[J)I" } : Jvm.MethodName)) ∈ lw_all := lw_g (lw_at lw_m7 38 rfl) rfl
theorem q1566 : (Jvm.Cond.static ({ cls := "FortPlannerLaw", name := "level", desc := "(LFortPlanner;I[J)I" } : Jvm.MethodName)) ∈ lw_all := lw_g (lw_at lw_m7 39 rfl) rfl
theorem q1567 : (Jvm.Cond.codeWith ({ cls := "FortPlannerLaw", name := "level", desc := "(LFortPlanner;I[J)I" } : Jvm.MethodName) method_31_code (4 : Nat) (Option.some Jvm.ClassFile.FieldType.int) [((0 : Nat), (9 : Nat), (12 : Nat), (27 : Nat))]) ∈ lw_all := lw_g (lw_at lw_m7 40 rfl) rfl
theorem q1568 : (Jvm.Cond.methodLink "FortPlannerLaw" (108 : Nat) ({ cls := "FortPlanner", name := "level", desc := "(I)I" } : Jvm.MethodName)) ∈ lw_all := lw_g (lw_at lw_m7 41 rfl) rfl
theorem q1576 : (Jvm.Cond.methodLink "FortPlannerLaw" (282 : Nat) ({ cls := "FortPlannerLaw", name := "isAbove", desc := "(LFortPlanner;II[J)I" } : Jvm.MethodName)) ∈ lw_all := lw_g (lw_at lw_m7 49 rfl) rfl
theorem q1577 : (Jvm.Cond.static ({ cls := "FortPlannerLaw", name := "isAbove", desc := "(LFortPlanner;II[J)I" } : Jvm.MethodName)) ∈ lw_all := lw_g (lw_at lw_m7 50 rfl) rfl
theorem q1578 : (Jvm.Cond.codeWith ({ cls := "FortPlannerLaw", name := "isAbove", desc := "(LFortPlanner;II[J)I" } : Jvm.MethodName) method_32_code (5 : Nat) (Option.some Jvm.ClassFile.FieldType.int) [((0 : Nat), (17 : Nat), (20 : Nat), (27 : Nat))]) ∈ lw_all := lw_g (lw_at lw_m7 51 rfl) rfl
theorem q1579 : (Jvm.Cond.methodLink "FortPlannerLaw" (111 : Nat) ({ cls := "FortPlanner", name := "isAbove", desc := "(II)Z" } : Jvm.MethodName)) ∈ lw_all := lw_g (lw_at lw_m7 52 rfl) rfl
theorem q1591 : (Jvm.Cond.methodLink "FortPlannerLaw" (285 : Nat) ({ cls := "FortPlannerLaw", name := "countAbove", desc := "(LFortPlanner;I[J)I" } : Jvm.MethodName)) ∈ lw_all := lw_g (lw_at lw_m7 64 rfl) rfl
theorem q1592 : (Jvm.Cond.static ({ cls := "FortPlannerLaw", name := "countAbove", desc := "(LFortPlanner;I[J)I" } : Jvm.MethodName)) ∈ lw_all := lw_g (lw_at lw_m7 65 rfl) rfl
theorem q1593 : (Jvm.Cond.codeWith ({ cls := "FortPlannerLaw", name := "countAbove", desc := "(LFortPlanner;I[J)I" } : Jvm.MethodName) method_33_code (4 : Nat) (Option.some Jvm.ClassFile.FieldType.int) [((0 : Nat), (9 : Nat), (12 : Nat), (27 : Nat))]) ∈ lw_all := lw_g (lw_at lw_m7 66 rfl) rfl
theorem q1594 : (Jvm.Cond.methodLink "FortPlannerLaw" (115 : Nat) ({ cls := "FortPlanner", name := "countAbove", desc := "(I)I" } : Jvm.MethodName)) ∈ lw_all := lw_g (lw_at lw_m7 67 rfl) rfl
theorem q1601 : (Jvm.Cond.methodLink "FortPlannerLaw" (288 : Nat) ({ cls := "FortPlannerLaw", name := "height", desc := "(LFortPlanner;I[J)I" } : Jvm.MethodName)) ∈ lw_all := lw_g (lw_at lw_m7 74 rfl) rfl
theorem q1602 : (Jvm.Cond.static ({ cls := "FortPlannerLaw", name := "height", desc := "(LFortPlanner;I[J)I" } : Jvm.MethodName)) ∈ lw_all := lw_g (lw_at lw_m7 75 rfl) rfl
theorem q1603 : (Jvm.Cond.codeWith ({ cls := "FortPlannerLaw", name := "height", desc := "(LFortPlanner;I[J)I" } : Jvm.MethodName) method_34_code (4 : Nat) (Option.some Jvm.ClassFile.FieldType.int) [((0 : Nat), (9 : Nat), (12 : Nat), (33 : Nat))]) ∈ lw_all := lw_g (lw_at lw_m7 76 rfl) rfl
theorem q1604 : (Jvm.Cond.methodLink "FortPlannerLaw" (118 : Nat) ({ cls := "FortPlanner", name := "height", desc := "(I)I" } : Jvm.MethodName)) ∈ lw_all := lw_g (lw_at lw_m7 77 rfl) rfl
theorem q1608 : (Jvm.Cond.methodLink "FortPlannerLaw" (291 : Nat) ({ cls := "FortPlannerLaw", name := "holes", desc := "(LFortPlanner;I[J)I" } : Jvm.MethodName)) ∈ lw_all := lw_g (lw_at lw_m7 81 rfl) rfl
theorem q1609 : (Jvm.Cond.static ({ cls := "FortPlannerLaw", name := "holes", desc := "(LFortPlanner;I[J)I" } : Jvm.MethodName)) ∈ lw_all := lw_g (lw_at lw_m7 82 rfl) rfl
theorem q1610 : (Jvm.Cond.codeWith ({ cls := "FortPlannerLaw", name := "holes", desc := "(LFortPlanner;I[J)I" } : Jvm.MethodName) method_35_code (4 : Nat) (Option.some Jvm.ClassFile.FieldType.int) [((0 : Nat), (9 : Nat), (12 : Nat), (33 : Nat))]) ∈ lw_all := lw_g (lw_at lw_m7 83 rfl) rfl
theorem q1611 : (Jvm.Cond.methodLink "FortPlannerLaw" (121 : Nat) ({ cls := "FortPlanner", name := "holes", desc := "(I)I" } : Jvm.MethodName)) ∈ lw_all := lw_g (lw_at lw_m7 84 rfl) rfl
theorem q1615 : (Jvm.Cond.methodLink "FortPlannerLaw" (294 : Nat) ({ cls := "FortPlannerLaw", name := "holesByHeights", desc := "(LFortPlanner;I[J)I" } : Jvm.MethodName)) ∈ lw_all := lw_g (lw_at lw_m7 88 rfl) rfl
theorem q1616 : (Jvm.Cond.static ({ cls := "FortPlannerLaw", name := "holesByHeights", desc := "(LFortPlanner;I[J)I" } : Jvm.MethodName)) ∈ lw_all := lw_g (lw_at lw_m7 89 rfl) rfl
theorem q1617 : (Jvm.Cond.codeWith ({ cls := "FortPlannerLaw", name := "holesByHeights", desc := "(LFortPlanner;I[J)I" } : Jvm.MethodName) method_36_code (4 : Nat) (Option.some Jvm.ClassFile.FieldType.int) [((0 : Nat), (9 : Nat), (12 : Nat), (33 : Nat))]) ∈ lw_all := lw_g (lw_at lw_m7 90 rfl) rfl
theorem q1618 : (Jvm.Cond.methodLink "FortPlannerLaw" (124 : Nat) ({ cls := "FortPlanner", name := "holesByHeights", desc := "(I)I" } : Jvm.MethodName)) ∈ lw_all := lw_g (lw_at lw_m7 91 rfl) rfl
theorem q1622 : (Jvm.Cond.methodLink "FortPlannerLaw" (305 : Nat) ({ cls := "FortPlannerLaw", name := "zone", desc := "(LFortPlanner;I[J)I" } : Jvm.MethodName)) ∈ lw_all := lw_g (lw_at lw_m7 95 rfl) rfl
theorem q1623 : (Jvm.Cond.static ({ cls := "FortPlannerLaw", name := "zone", desc := "(LFortPlanner;I[J)I" } : Jvm.MethodName)) ∈ lw_all := lw_g (lw_at lw_m7 96 rfl) rfl
theorem q1624 : (Jvm.Cond.codeWith ({ cls := "FortPlannerLaw", name := "zone", desc := "(LFortPlanner;I[J)I" } : Jvm.MethodName) method_37_code (4 : Nat) (Option.some Jvm.ClassFile.FieldType.int) [((0 : Nat), (9 : Nat), (12 : Nat), (33 : Nat))]) ∈ lw_all := lw_g (lw_at lw_m7 97 rfl) rfl
theorem q1625 : (Jvm.Cond.methodLink "FortPlannerLaw" (127 : Nat) ({ cls := "FortPlanner", name := "zone", desc := "(I)C" } : Jvm.MethodName)) ∈ lw_all := lw_g (lw_at lw_m7 98 rfl) rfl
theorem q1629 : (Jvm.Cond.methodLink "FortPlannerLaw" (308 : Nat) ({ cls := "FortPlannerLaw", name := "hasTorch", desc := "(LFortPlanner;I[J)I" } : Jvm.MethodName)) ∈ lw_all := lw_g (lw_at lw_m7 102 rfl) rfl
theorem q1630 : (Jvm.Cond.static ({ cls := "FortPlannerLaw", name := "hasTorch", desc := "(LFortPlanner;I[J)I" } : Jvm.MethodName)) ∈ lw_all := lw_g (lw_at lw_m7 103 rfl) rfl
theorem q1631 : (Jvm.Cond.codeWith ({ cls := "FortPlannerLaw", name := "hasTorch", desc := "(LFortPlanner;I[J)I" } : Jvm.MethodName) method_38_code (4 : Nat) (Option.some Jvm.ClassFile.FieldType.int) [((0 : Nat), (16 : Nat), (19 : Nat), (33 : Nat))]) ∈ lw_all := lw_g (lw_at lw_m7 104 rfl) rfl
theorem q1632 : (Jvm.Cond.methodLink "FortPlannerLaw" (131 : Nat) ({ cls := "FortPlanner", name := "hasTorch", desc := "(I)Z" } : Jvm.MethodName)) ∈ lw_all := lw_g (lw_at lw_m7 105 rfl) rfl
theorem q1636 : (Jvm.Cond.methodLink "FortPlannerLaw" (311 : Nat) ({ cls := "FortPlannerLaw", name := "isLit", desc := "(LFortPlanner;I[J)I" } : Jvm.MethodName)) ∈ lw_all := lw_g (lw_at lw_m7 109 rfl) rfl
theorem q1637 : (Jvm.Cond.static ({ cls := "FortPlannerLaw", name := "isLit", desc := "(LFortPlanner;I[J)I" } : Jvm.MethodName)) ∈ lw_all := lw_g (lw_at lw_m7 110 rfl) rfl
theorem q1638 : (Jvm.Cond.codeWith ({ cls := "FortPlannerLaw", name := "isLit", desc := "(LFortPlanner;I[J)I" } : Jvm.MethodName) method_39_code (4 : Nat) (Option.some Jvm.ClassFile.FieldType.int) [((0 : Nat), (16 : Nat), (19 : Nat), (33 : Nat))]) ∈ lw_all := lw_g (lw_at lw_m7 111 rfl) rfl
theorem q1639 : (Jvm.Cond.methodLink "FortPlannerLaw" (134 : Nat) ({ cls := "FortPlanner", name := "isLit", desc := "(I)Z" } : Jvm.MethodName)) ∈ lw_all := lw_g (lw_at lw_m7 112 rfl) rfl
theorem q1643 : (Jvm.Cond.methodLink "FortPlannerLaw" (314 : Nat) ({ cls := "FortPlannerLaw", name := "isLitByMaxima", desc := "(LFortPlanner;I[J)I" } : Jvm.MethodName)) ∈ lw_all := lw_g (lw_at lw_m7 116 rfl) rfl
theorem q1644 : (Jvm.Cond.static ({ cls := "FortPlannerLaw", name := "isLitByMaxima", desc := "(LFortPlanner;I[J)I" } : Jvm.MethodName)) ∈ lw_all := lw_g (lw_at lw_m7 117 rfl) rfl
theorem q1645 : (Jvm.Cond.codeWith ({ cls := "FortPlannerLaw", name := "isLitByMaxima", desc := "(LFortPlanner;I[J)I" } : Jvm.MethodName) method_40_code (4 : Nat) (Option.some Jvm.ClassFile.FieldType.int) [((0 : Nat), (16 : Nat), (19 : Nat), (33 : Nat))]) ∈ lw_all := lw_g (lw_at lw_m7 118 rfl) rfl
theorem q1646 : (Jvm.Cond.methodLink "FortPlannerLaw" (137 : Nat) ({ cls := "FortPlanner", name := "isLitByMaxima", desc := "(I)Z" } : Jvm.MethodName)) ∈ lw_all := lw_g (lw_at lw_m7 119 rfl) rfl
theorem q1650 : (Jvm.Cond.methodLink "FortPlannerLaw" (344 : Nat) ({ cls := "FortPlannerLaw", name := "formatBlock", desc := "(LFortPlanner;I[J)I" } : Jvm.MethodName)) ∈ lw_all := lw_g (lw_at lw_m7 123 rfl) rfl
theorem q1651 : (Jvm.Cond.static ({ cls := "FortPlannerLaw", name := "formatBlock", desc := "(LFortPlanner;I[J)I" } : Jvm.MethodName)) ∈ lw_all := lw_g (lw_at lw_m7 124 rfl) rfl
theorem q1652 : (Jvm.Cond.codeWith ({ cls := "FortPlannerLaw", name := "formatBlock", desc := "(LFortPlanner;I[J)I" } : Jvm.MethodName) method_41_code (4 : Nat) (Option.some Jvm.ClassFile.FieldType.int) [((0 : Nat), (9 : Nat), (12 : Nat), (27 : Nat))]) ∈ lw_all := lw_g (lw_at lw_m7 125 rfl) rfl
theorem q1653 : (Jvm.Cond.methodLink "FortPlannerLaw" (140 : Nat) ({ cls := "FortPlanner", name := "formatBlock", desc := "(I)I" } : Jvm.MethodName)) ∈ lw_all := lw_g (lw_at lw_m7 126 rfl) rfl
theorem q1690 : (Jvm.Cond.methodLink "FortPlannerLaw" (351 : Nat) ({ cls := "FortPlannerLaw", name := "lineChar", desc := "(LFortPlanner;I[J)I" } : Jvm.MethodName)) ∈ lw_all := lw_g (lw_at lw_m7 163 rfl) rfl
theorem q1691 : (Jvm.Cond.static ({ cls := "FortPlannerLaw", name := "lineChar", desc := "(LFortPlanner;I[J)I" } : Jvm.MethodName)) ∈ lw_all := lw_g (lw_at lw_m7 164 rfl) rfl
theorem q1692 : (Jvm.Cond.codeWith ({ cls := "FortPlannerLaw", name := "lineChar", desc := "(LFortPlanner;I[J)I" } : Jvm.MethodName) method_42_code (4 : Nat) (Option.some Jvm.ClassFile.FieldType.int) [((0 : Nat), (9 : Nat), (12 : Nat), (33 : Nat))]) ∈ lw_all := lw_g (lw_at lw_m7 165 rfl) rfl
theorem q1693 : (Jvm.Cond.methodLink "FortPlannerLaw" (143 : Nat) ({ cls := "FortPlanner", name := "lineChar", desc := "(I)C" } : Jvm.MethodName)) ∈ lw_all := lw_g (lw_at lw_m7 166 rfl) rfl
theorem q1707 : (Jvm.Cond.methodLink "FortPlannerLaw" (354 : Nat) ({ cls := "FortPlannerLaw", name := "append", desc := "(LFortPlanner;C[J)I" } : Jvm.MethodName)) ∈ lw_all := lw_g (lw_at lw_m7 180 rfl) rfl
theorem q1708 : (Jvm.Cond.static ({ cls := "FortPlannerLaw", name := "append", desc := "(LFortPlanner;C[J)I" } : Jvm.MethodName)) ∈ lw_all := lw_g (lw_at lw_m7 181 rfl) rfl
theorem q1709 : (Jvm.Cond.codeWith ({ cls := "FortPlannerLaw", name := "append", desc := "(LFortPlanner;C[J)I" } : Jvm.MethodName) method_43_code (4 : Nat) (Option.some Jvm.ClassFile.FieldType.int) [((0 : Nat), (9 : Nat), (12 : Nat), (13 : Nat)), ((0 : Nat), (9 : Nat), (15 : Nat), (15 : Nat))]) ∈ lw_all := lw_g (lw_at lw_m7 182 rfl) rfl
theorem q1710 : (Jvm.Cond.methodLink "FortPlannerLaw" (146 : Nat) ({ cls := "FortPlanner", name := "append", desc := "(C)I" } : Jvm.MethodName)) ∈ lw_all := lw_g (lw_at lw_m7 183 rfl) rfl
theorem q1714 : (Jvm.Cond.methodLink "FortPlannerLaw" (358 : Nat) ({ cls := "FortPlannerLaw", name := "run", desc := "(LFortPlanner;[J)I" } : Jvm.MethodName)) ∈ lw_all := lw_g (lw_at lw_m7 187 rfl) rfl
theorem q1715 : (Jvm.Cond.static ({ cls := "FortPlannerLaw", name := "run", desc := "(LFortPlanner;[J)I" } : Jvm.MethodName)) ∈ lw_all := lw_g (lw_at lw_m7 188 rfl) rfl
theorem q1716 : (Jvm.Cond.codeWith ({ cls := "FortPlannerLaw", name := "run", desc := "(LFortPlanner;[J)I" } : Jvm.MethodName) method_44_code (3 : Nat) (Option.some Jvm.ClassFile.FieldType.int) [((0 : Nat), (8 : Nat), (11 : Nat), (13 : Nat)), ((0 : Nat), (8 : Nat), (14 : Nat), (15 : Nat))]) ∈ lw_all := lw_g (lw_at lw_m7 189 rfl) rfl
theorem q1717 : (Jvm.Cond.methodLink "FortPlannerLaw" (150 : Nat) ({ cls := "FortPlanner", name := "run", desc := "()I" } : Jvm.MethodName)) ∈ lw_all := lw_g (lw_at lw_m7 190 rfl) rfl
theorem q1953 : (Jvm.Cond.methodLink "FortPlannerLaw" (361 : Nat) ({ cls := "FortPlannerLaw", name := "errorPosition", desc := "(LFortPlanner;[J)I" } : Jvm.MethodName)) ∈ lw_all := lw_g (lw_at lw_m8 186 rfl) rfl
theorem q1954 : (Jvm.Cond.static ({ cls := "FortPlannerLaw", name := "errorPosition", desc := "(LFortPlanner;[J)I" } : Jvm.MethodName)) ∈ lw_all := lw_g (lw_at lw_m8 187 rfl) rfl
theorem q1955 : (Jvm.Cond.codeWith ({ cls := "FortPlannerLaw", name := "errorPosition", desc := "(LFortPlanner;[J)I" } : Jvm.MethodName) method_45_code (3 : Nat) (Option.some Jvm.ClassFile.FieldType.int) [((0 : Nat), (8 : Nat), (11 : Nat), (27 : Nat))]) ∈ lw_all := lw_g (lw_at lw_m8 188 rfl) rfl
theorem q1956 : (Jvm.Cond.methodLink "FortPlannerLaw" (153 : Nat) ({ cls := "FortPlanner", name := "errorPosition", desc := "()I" } : Jvm.MethodName)) ∈ lw_all := lw_g (lw_at lw_m8 189 rfl) rfl
theorem q1960 : (Jvm.Cond.methodLink "FortPlannerLaw" (364 : Nat) ({ cls := "FortPlannerLaw", name := "failedCommand", desc := "(LFortPlanner;[J)I" } : Jvm.MethodName)) ∈ lw_all := lw_g (lw_at lw_m8 193 rfl) rfl
theorem q1961 : (Jvm.Cond.static ({ cls := "FortPlannerLaw", name := "failedCommand", desc := "(LFortPlanner;[J)I" } : Jvm.MethodName)) ∈ lw_all := lw_g (lw_at lw_m8 194 rfl) rfl
theorem q1962 : (Jvm.Cond.codeWith ({ cls := "FortPlannerLaw", name := "failedCommand", desc := "(LFortPlanner;[J)I" } : Jvm.MethodName) method_46_code (3 : Nat) (Option.some Jvm.ClassFile.FieldType.int) [((0 : Nat), (8 : Nat), (11 : Nat), (27 : Nat))]) ∈ lw_all := lw_g (lw_at lw_m8 195 rfl) rfl
theorem q1963 : (Jvm.Cond.methodLink "FortPlannerLaw" (156 : Nat) ({ cls := "FortPlanner", name := "failedCommand", desc := "()I" } : Jvm.MethodName)) ∈ lw_all := lw_g (lw_at lw_m8 196 rfl) rfl
theorem q1967 : (Jvm.Cond.methodLink "FortPlannerLaw" (371 : Nat) ({ cls := "FortPlannerLaw", name := "undo", desc := "(LFortPlanner;[J)I" } : Jvm.MethodName)) ∈ lw_all := lw_g (lw_at lw_m8 200 rfl) rfl
theorem q1968 : (Jvm.Cond.static ({ cls := "FortPlannerLaw", name := "undo", desc := "(LFortPlanner;[J)I" } : Jvm.MethodName)) ∈ lw_all := lw_g (lw_at lw_m8 201 rfl) rfl
theorem q1969 : (Jvm.Cond.codeWith ({ cls := "FortPlannerLaw", name := "undo", desc := "(LFortPlanner;[J)I" } : Jvm.MethodName) method_47_code (3 : Nat) (Option.some Jvm.ClassFile.FieldType.int) [((0 : Nat), (8 : Nat), (11 : Nat), (15 : Nat))]) ∈ lw_all := lw_g (lw_at lw_m8 202 rfl) rfl
theorem q1970 : (Jvm.Cond.methodLink "FortPlannerLaw" (159 : Nat) ({ cls := "FortPlanner", name := "undo", desc := "()I" } : Jvm.MethodName)) ∈ lw_all := lw_g (lw_at lw_m8 203 rfl) rfl
theorem q1989 : (Jvm.Cond.methodLink "FortPlannerLaw" (378 : Nat) ({ cls := "FortPlannerLaw", name := "restore", desc := "(LFortPlanner;[J)I" } : Jvm.MethodName)) ∈ lw_all := lw_g (lw_at lw_m8 222 rfl) rfl
theorem q1990 : (Jvm.Cond.static ({ cls := "FortPlannerLaw", name := "restore", desc := "(LFortPlanner;[J)I" } : Jvm.MethodName)) ∈ lw_all := lw_g (lw_at lw_m8 223 rfl) rfl
theorem q1991 : (Jvm.Cond.codeWith ({ cls := "FortPlannerLaw", name := "restore", desc := "(LFortPlanner;[J)I" } : Jvm.MethodName) method_48_code (3 : Nat) (Option.some Jvm.ClassFile.FieldType.int) [((0 : Nat), (8 : Nat), (11 : Nat), (15 : Nat))]) ∈ lw_all := lw_g (lw_at lw_m8 224 rfl) rfl
theorem q1992 : (Jvm.Cond.methodLink "FortPlannerLaw" (162 : Nat) ({ cls := "FortPlanner", name := "restore", desc := "()I" } : Jvm.MethodName)) ∈ lw_all := lw_g (lw_at lw_m8 225 rfl) rfl
theorem q2003 : (Jvm.Cond.classLink "FortPlannerLaw" (166 : Nat) "FortPlannerModel") ∈ lw_all := lw_g (lw_at lw_m8 236 rfl) rfl
theorem q2005 : (Jvm.Cond.methodLink "FortPlannerLaw" (168 : Nat) ({ cls := "FortPlannerModel", name := "<init>", desc := "()V" } : Jvm.MethodName)) ∈ lw_all := lw_g (lw_at lw_m8 238 rfl) rfl
theorem q2079 : (Jvm.Cond.methodLink "FortPlannerLaw" (175 : Nat) ({ cls := "FortPlannerModel", name := "thrown", desc := "()I" } : Jvm.MethodName)) ∈ lw_all := lw_g (lw_at lw_m9 72 rfl) rfl
theorem q2083 : (Jvm.Cond.methodLink "FortPlannerLaw" (174 : Nat) ({ cls := "FortPlannerModel", name := "placeFoam", desc := "(III)I" } : Jvm.MethodName)) ∈ lw_all := lw_g (lw_at lw_m9 76 rfl) rfl
theorem q2163 : (Jvm.Cond.methodLink "FortPlannerLaw" (180 : Nat) ({ cls := "FortPlannerModel", name := "placeBoard", desc := "(III)I" } : Jvm.MethodName)) ∈ lw_all := lw_g (lw_at lw_m9 156 rfl) rfl
theorem q2167 : (Jvm.Cond.methodLink "FortPlannerLaw" (183 : Nat) ({ cls := "FortPlannerModel", name := "placeBag", desc := "(III)I" } : Jvm.MethodName)) ∈ lw_all := lw_g (lw_at lw_m9 160 rfl) rfl
theorem q2171 : (Jvm.Cond.methodLink "FortPlannerLaw" (187 : Nat) ({ cls := "FortPlannerModel", name := "remove", desc := "(I)I" } : Jvm.MethodName)) ∈ lw_all := lw_g (lw_at lw_m9 164 rfl) rfl
theorem q2187 : (Jvm.Cond.methodLink "FortPlannerLaw" (191 : Nat) ({ cls := "FortPlannerModel", name := "setZone", desc := "(IC)C" } : Jvm.MethodName)) ∈ lw_all := lw_g (lw_at lw_m9 180 rfl) rfl
theorem q2201 : (Jvm.Cond.methodLink "FortPlannerLaw" (194 : Nat) ({ cls := "FortPlannerModel", name := "addTorch", desc := "(I)I" } : Jvm.MethodName)) ∈ lw_all := lw_g (lw_at lw_m9 194 rfl) rfl
theorem q2213 : (Jvm.Cond.methodLink "FortPlannerLaw" (197 : Nat) ({ cls := "FortPlannerModel", name := "removeTorch", desc := "(I)I" } : Jvm.MethodName)) ∈ lw_all := lw_g (lw_at lw_m9 206 rfl) rfl
theorem q2217 : (Jvm.Cond.methodLink "FortPlannerLaw" (200 : Nat) ({ cls := "FortPlannerModel", name := "canPlaceFoam", desc := "(III)Z" } : Jvm.MethodName)) ∈ lw_all := lw_g (lw_at lw_m9 210 rfl) rfl
theorem q2225 : (Jvm.Cond.methodLink "FortPlannerLaw" (203 : Nat) ({ cls := "FortPlannerModel", name := "canPlaceBoard", desc := "(III)Z" } : Jvm.MethodName)) ∈ lw_all := lw_g (lw_at lw_m9 218 rfl) rfl
theorem q2229 : (Jvm.Cond.methodLink "FortPlannerLaw" (206 : Nat) ({ cls := "FortPlannerModel", name := "canPlaceBag", desc := "(III)Z" } : Jvm.MethodName)) ∈ lw_all := lw_g (lw_at lw_m9 222 rfl) rfl
theorem q2233 : (Jvm.Cond.methodLink "FortPlannerLaw" (210 : Nat) ({ cls := "FortPlannerModel", name := "heaviestFoam", desc := "(II)I" } : Jvm.MethodName)) ∈ lw_all := lw_g (lw_at lw_m9 226 rfl) rfl
theorem q2237 : (Jvm.Cond.methodLink "FortPlannerLaw" (214 : Nat) ({ cls := "FortPlannerModel", name := "blockCount", desc := "()I" } : Jvm.MethodName)) ∈ lw_all := lw_g (lw_at lw_m9 230 rfl) rfl
theorem q2241 : (Jvm.Cond.methodLink "FortPlannerLaw" (218 : Nat) ({ cls := "FortPlannerModel", name := "placedCount", desc := "()I" } : Jvm.MethodName)) ∈ lw_all := lw_g (lw_at lw_m9 234 rfl) rfl
theorem q2245 : (Jvm.Cond.methodLink "FortPlannerLaw" (222 : Nat) ({ cls := "FortPlannerModel", name := "isPresent", desc := "(I)Z" } : Jvm.MethodName)) ∈ lw_all := lw_g (lw_at lw_m9 238 rfl) rfl
theorem q2249 : (Jvm.Cond.methodLink "FortPlannerLaw" (225 : Nat) ({ cls := "FortPlannerModel", name := "blockAt", desc := "(I)I" } : Jvm.MethodName)) ∈ lw_all := lw_g (lw_at lw_m10 2 rfl) rfl
theorem q2253 : (Jvm.Cond.methodLink "FortPlannerLaw" (228 : Nat) ({ cls := "FortPlannerModel", name := "isFoam", desc := "(I)Z" } : Jvm.MethodName)) ∈ lw_all := lw_g (lw_at lw_m10 6 rfl) rfl
theorem q2261 : (Jvm.Cond.methodLink "FortPlannerLaw" (231 : Nat) ({ cls := "FortPlannerModel", name := "isBoard", desc := "(I)Z" } : Jvm.MethodName)) ∈ lw_all := lw_g (lw_at lw_m10 14 rfl) rfl
theorem q2265 : (Jvm.Cond.methodLink "FortPlannerLaw" (234 : Nat) ({ cls := "FortPlannerModel", name := "left", desc := "(I)I" } : Jvm.MethodName)) ∈ lw_all := lw_g (lw_at lw_m10 18 rfl) rfl
theorem q2273 : (Jvm.Cond.methodLink "FortPlannerLaw" (237 : Nat) ({ cls := "FortPlannerModel", name := "width", desc := "(I)I" } : Jvm.MethodName)) ∈ lw_all := lw_g (lw_at lw_m10 26 rfl) rfl
theorem q2277 : (Jvm.Cond.methodLink "FortPlannerLaw" (240 : Nat) ({ cls := "FortPlannerModel", name := "weight", desc := "(I)I" } : Jvm.MethodName)) ∈ lw_all := lw_g (lw_at lw_m10 30 rfl) rfl
theorem q2281 : (Jvm.Cond.methodLink "FortPlannerLaw" (243 : Nat) ({ cls := "FortPlannerModel", name := "strength", desc := "(I)I" } : Jvm.MethodName)) ∈ lw_all := lw_g (lw_at lw_m10 34 rfl) rfl
theorem q2285 : (Jvm.Cond.methodLink "FortPlannerLaw" (246 : Nat) ({ cls := "FortPlannerModel", name := "bottom", desc := "(I)I" } : Jvm.MethodName)) ∈ lw_all := lw_g (lw_at lw_m10 38 rfl) rfl
theorem q2289 : (Jvm.Cond.methodLink "FortPlannerLaw" (249 : Nat) ({ cls := "FortPlannerModel", name := "top", desc := "(I)I" } : Jvm.MethodName)) ∈ lw_all := lw_g (lw_at lw_m10 42 rfl) rfl
theorem q2293 : (Jvm.Cond.methodLink "FortPlannerLaw" (252 : Nat) ({ cls := "FortPlannerModel", name := "supporterCount", desc := "(I)I" } : Jvm.MethodName)) ∈ lw_all := lw_g (lw_at lw_m10 46 rfl) rfl
theorem q2297 : (Jvm.Cond.methodLink "FortPlannerLaw" (255 : Nat) ({ cls := "FortPlannerModel", name := "supporterAt", desc := "(II)I" } : Jvm.MethodName)) ∈ lw_all := lw_g (lw_at lw_m10 50 rfl) rfl
theorem q2301 : (Jvm.Cond.methodLink "FortPlannerLaw" (258 : Nat) ({ cls := "FortPlannerModel", name := "isSupporting", desc := "(I)Z" } : Jvm.MethodName)) ∈ lw_all := lw_g (lw_at lw_m10 54 rfl) rfl
theorem q2305 : (Jvm.Cond.methodLink "FortPlannerLaw" (261 : Nat) ({ cls := "FortPlannerModel", name := "load", desc := "(I)I" } : Jvm.MethodName)) ∈ lw_all := lw_g (lw_at lw_m10 58 rfl) rfl
theorem q2309 : (Jvm.Cond.methodLink "FortPlannerLaw" (264 : Nat) ({ cls := "FortPlannerModel", name := "loadByRecursion", desc := "(I)I" } : Jvm.MethodName)) ∈ lw_all := lw_g (lw_at lw_m10 62 rfl) rfl
theorem q2314 : (Jvm.Cond.methodLink "FortPlannerLaw" (267 : Nat) ({ cls := "FortPlannerModel", name := "slack", desc := "(I)I" } : Jvm.MethodName)) ∈ lw_all := lw_g (lw_at lw_m10 67 rfl) rfl
theorem q2318 : (Jvm.Cond.methodLink "FortPlannerLaw" (271 : Nat) ({ cls := "FortPlannerModel", name := "weakest", desc := "()I" } : Jvm.MethodName)) ∈ lw_all := lw_g (lw_at lw_m10 71 rfl) rfl
theorem q2322 : (Jvm.Cond.methodLink "FortPlannerLaw" (274 : Nat) ({ cls := "FortPlannerModel", name := "blockBySlack", desc := "(I)I" } : Jvm.MethodName)) ∈ lw_all := lw_g (lw_at lw_m10 75 rfl) rfl
theorem q2326 : (Jvm.Cond.methodLink "FortPlannerLaw" (277 : Nat) ({ cls := "FortPlannerModel", name := "level", desc := "(I)I" } : Jvm.MethodName)) ∈ lw_all := lw_g (lw_at lw_m10 79 rfl) rfl
theorem q2334 : (Jvm.Cond.methodLink "FortPlannerLaw" (281 : Nat) ({ cls := "FortPlannerModel", name := "levelCount", desc := "()I" } : Jvm.MethodName)) ∈ lw_all := lw_g (lw_at lw_m10 87 rfl) rfl
theorem q2338 : (Jvm.Cond.methodLink "FortPlannerLaw" (284 : Nat) ({ cls := "FortPlannerModel", name := "isAbove", desc := "(II)Z" } : Jvm.MethodName)) ∈ lw_all := lw_g (lw_at lw_m10 91 rfl) rfl
theorem q2346 : (Jvm.Cond.methodLink "FortPlannerLaw" (287 : Nat) ({ cls := "FortPlannerModel", name := "countAbove", desc := "(I)I" } : Jvm.MethodName)) ∈ lw_all := lw_g (lw_at lw_m10 99 rfl) rfl
theorem q2350 : (Jvm.Cond.methodLink "FortPlannerLaw" (290 : Nat) ({ cls := "FortPlannerModel", name := "height", desc := "(I)I" } : Jvm.MethodName)) ∈ lw_all := lw_g (lw_at lw_m10 103 rfl) rfl
theorem q2354 : (Jvm.Cond.methodLink "FortPlannerLaw" (293 : Nat) ({ cls := "FortPlannerModel", name := "holes", desc := "(I)I" } : Jvm.MethodName)) ∈ lw_all := lw_g (lw_at lw_m10 107 rfl) rfl
theorem q2358 : (Jvm.Cond.methodLink "FortPlannerLaw" (296 : Nat) ({ cls := "FortPlannerModel", name := "holesByHeights", desc := "(I)I" } : Jvm.MethodName)) ∈ lw_all := lw_g (lw_at lw_m10 111 rfl) rfl
theorem q2363 : (Jvm.Cond.methodLink "FortPlannerLaw" (300 : Nat) ({ cls := "FortPlannerModel", name := "steps", desc := "()I" } : Jvm.MethodName)) ∈ lw_all := lw_g (lw_at lw_m10 116 rfl) rfl
theorem q2367 : (Jvm.Cond.methodLink "FortPlannerLaw" (304 : Nat) ({ cls := "FortPlannerModel", name := "highestColumn", desc := "()I" } : Jvm.MethodName)) ∈ lw_all := lw_g (lw_at lw_m10 120 rfl) rfl
theorem q2371 : (Jvm.Cond.methodLink "FortPlannerLaw" (307 : Nat) ({ cls := "FortPlannerModel", name := "zone", desc := "(I)C" } : Jvm.MethodName)) ∈ lw_all := lw_g (lw_at lw_m10 124 rfl) rfl
theorem q2375 : (Jvm.Cond.methodLink "FortPlannerLaw" (310 : Nat) ({ cls := "FortPlannerModel", name := "hasTorch", desc := "(I)Z" } : Jvm.MethodName)) ∈ lw_all := lw_g (lw_at lw_m10 128 rfl) rfl
theorem q2379 : (Jvm.Cond.methodLink "FortPlannerLaw" (313 : Nat) ({ cls := "FortPlannerModel", name := "isLit", desc := "(I)Z" } : Jvm.MethodName)) ∈ lw_all := lw_g (lw_at lw_m10 132 rfl) rfl
theorem q2391 : (Jvm.Cond.methodLink "FortPlannerLaw" (316 : Nat) ({ cls := "FortPlannerModel", name := "isLitByMaxima", desc := "(I)Z" } : Jvm.MethodName)) ∈ lw_all := lw_g (lw_at lw_m10 144 rfl) rfl
theorem q2396 : (Jvm.Cond.methodLink "FortPlannerLaw" (320 : Nat) ({ cls := "FortPlannerModel", name := "litCount", desc := "()I" } : Jvm.MethodName)) ∈ lw_all := lw_g (lw_at lw_m10 149 rfl) rfl
theorem q2404 : (Jvm.Cond.methodLink "FortPlannerLaw" (324 : Nat) ({ cls := "FortPlannerModel", name := "totalWeight", desc := "()I" } : Jvm.MethodName)) ∈ lw_all := lw_g (lw_at lw_m10 157 rfl) rfl
theorem q2408 : (Jvm.Cond.methodLink "FortPlannerLaw" (328 : Nat) ({ cls := "FortPlannerModel", name := "floorPressure", desc := "()I" } : Jvm.MethodName)) ∈ lw_all := lw_g (lw_at lw_m10 161 rfl) rfl
theorem q2412 : (Jvm.Cond.methodLink "FortPlannerLaw" (333 : Nat) ({ cls := "FortPlannerModel", name := "meanHeight", desc := "()D" } : Jvm.MethodName)) ∈ lw_all := lw_g (lw_at lw_m10 165 rfl) rfl
theorem q2417 : (Jvm.Cond.methodLink "FortPlannerLaw" (338 : Nat) ({ cls := "FortPlannerModel", name := "litShare", desc := "()F" } : Jvm.MethodName)) ∈ lw_all := lw_g (lw_at lw_m10 170 rfl) rfl
theorem q2422 : (Jvm.Cond.methodLink "FortPlannerLaw" (343 : Nat) ({ cls := "FortPlannerModel", name := "isConsistent", desc := "()Z" } : Jvm.MethodName)) ∈ lw_all := lw_g (lw_at lw_m10 175 rfl) rfl
theorem q2426 : (Jvm.Cond.methodLink "FortPlannerLaw" (346 : Nat) ({ cls := "FortPlannerModel", name := "formatBlock", desc := "(I)I" } : Jvm.MethodName)) ∈ lw_all := lw_g (lw_at lw_m10 179 rfl) rfl
theorem q2442 : (Jvm.Cond.methodLink "FortPlannerLaw" (350 : Nat) ({ cls := "FortPlannerModel", name := "formatHeights", desc := "()I" } : Jvm.MethodName)) ∈ lw_all := lw_g (lw_at lw_m10 195 rfl) rfl
theorem q2446 : (Jvm.Cond.methodLink "FortPlannerLaw" (353 : Nat) ({ cls := "FortPlannerModel", name := "lineChar", desc := "(I)C" } : Jvm.MethodName)) ∈ lw_all := lw_g (lw_at lw_m10 199 rfl) rfl
theorem q2450 : (Jvm.Cond.methodLink "FortPlannerLaw" (357 : Nat) ({ cls := "FortPlannerModel", name := "append", desc := "(C)I" } : Jvm.MethodName)) ∈ lw_all := lw_g (lw_at lw_m10 203 rfl) rfl
theorem q2454 : (Jvm.Cond.methodLink "FortPlannerLaw" (360 : Nat) ({ cls := "FortPlannerModel", name := "run", desc := "()I" } : Jvm.MethodName)) ∈ lw_all := lw_g (lw_at lw_m10 207 rfl) rfl
theorem q2494 : (Jvm.Cond.methodLink "FortPlannerLaw" (363 : Nat) ({ cls := "FortPlannerModel", name := "errorPosition", desc := "()I" } : Jvm.MethodName)) ∈ lw_all := lw_g (lw_at lw_m11 7 rfl) rfl
theorem q2498 : (Jvm.Cond.methodLink "FortPlannerLaw" (366 : Nat) ({ cls := "FortPlannerModel", name := "failedCommand", desc := "()I" } : Jvm.MethodName)) ∈ lw_all := lw_g (lw_at lw_m11 11 rfl) rfl
theorem q2502 : (Jvm.Cond.methodLink "FortPlannerLaw" (370 : Nat) ({ cls := "FortPlannerModel", name := "undoableCount", desc := "()I" } : Jvm.MethodName)) ∈ lw_all := lw_g (lw_at lw_m11 15 rfl) rfl
theorem q2506 : (Jvm.Cond.methodLink "FortPlannerLaw" (373 : Nat) ({ cls := "FortPlannerModel", name := "undo", desc := "()I" } : Jvm.MethodName)) ∈ lw_all := lw_g (lw_at lw_m11 19 rfl) rfl
theorem q2510 : (Jvm.Cond.methodLink "FortPlannerLaw" (377 : Nat) ({ cls := "FortPlannerModel", name := "save", desc := "()I" } : Jvm.MethodName)) ∈ lw_all := lw_g (lw_at lw_m11 23 rfl) rfl
theorem q2514 : (Jvm.Cond.methodLink "FortPlannerLaw" (380 : Nat) ({ cls := "FortPlannerModel", name := "restore", desc := "()I" } : Jvm.MethodName)) ∈ lw_all := lw_g (lw_at lw_m11 27 rfl) rfl
/-! FortPlanner$Zone -/
set_option maxRecDepth 100000
def RX3 : String := "FortPlanner$Zone"
abbrev cX3_of : ByteArray := prog_11_method_5_code
def yX3_of : MethodName := ⟨RX3, "of", "(C)LFortPlanner$Zone;"⟩
def dkwX3_of_1 : List UInt8 := [26, 160, 0, 6, 25, 4, 176, 132, 3, 1, 167, 255, 231, 1, 176]
abbrev dktX3_of_1 : List UInt8 := dkwX3_of_1 ++ []
def dkwX3_of_0 : List UInt8 := [184, 0, 36, 76, 43, 190, 61, 3, 62, 29, 28, 162, 0, 26, 43, 29, 50, 58, 4, 25, 4, 180, 0, 32]
abbrev dktX3_of_0 : List UInt8 := dkwX3_of_0 ++ dktX3_of_1
theorem dksX3_of_0 : cX3_of.data.toList.drop 0 = dktX3_of_0 := by decide +kernel
theorem dksX3_of_1 : cX3_of.data.toList.drop 24 = dktX3_of_1 := dk_seg dksX3_of_0 24 rfl rfl
theorem dX3_of_0 : decode cX3_of 0 = .ok (.invokestatic 36, 3) := dk_184 0 36 (dk_at dksX3_of_0 0 rfl rfl)
theorem dX3_of_3 : decode cX3_of 3 = .ok (.astore_n 1, 1) := dk_76 (dk_at dksX3_of_0 3 rfl rfl)
theorem dX3_of_4 : decode cX3_of 4 = .ok (.aload_n 1, 1) := dk_43 (dk_at dksX3_of_0 4 rfl rfl)
theorem dX3_of_5 : decode cX3_of 5 = .ok (.arraylength, 1) := dk_190 (dk_at dksX3_of_0 5 rfl rfl)
theorem dX3_of_6 : decode cX3_of 6 = .ok (.istore_n 2, 1) := dk_61 (dk_at dksX3_of_0 6 rfl rfl)
theorem dX3_of_7 : decode cX3_of 7 = .ok (.iconst 0, 1) := dk_3 (dk_at dksX3_of_0 7 rfl rfl)
theorem dX3_of_8 : decode cX3_of 8 = .ok (.istore_n 3, 1) := dk_62 (dk_at dksX3_of_0 8 rfl rfl)
theorem dX3_of_9 : decode cX3_of 9 = .ok (.iload_n 3, 1) := dk_29 (dk_at dksX3_of_0 9 rfl rfl)
theorem dX3_of_10 : decode cX3_of 10 = .ok (.iload_n 2, 1) := dk_28 (dk_at dksX3_of_0 10 rfl rfl)
theorem dX3_of_11 : decode cX3_of 11 = .ok (.if_icmp .ge 26, 3) := dk_162 0 26 (dk_at dksX3_of_0 11 rfl rfl)
theorem dX3_of_14 : decode cX3_of 14 = .ok (.aload_n 1, 1) := dk_43 (dk_at dksX3_of_0 14 rfl rfl)
theorem dX3_of_15 : decode cX3_of 15 = .ok (.iload_n 3, 1) := dk_29 (dk_at dksX3_of_0 15 rfl rfl)
theorem dX3_of_16 : decode cX3_of 16 = .ok (.aaload, 1) := dk_50 (dk_at dksX3_of_0 16 rfl rfl)
theorem dX3_of_17 : decode cX3_of 17 = .ok (.astore 4, 2) := dk_58 4 (dk_at dksX3_of_0 17 rfl rfl)
theorem dX3_of_19 : decode cX3_of 19 = .ok (.aload 4, 2) := dk_25 4 (dk_at dksX3_of_0 19 rfl rfl)
theorem dX3_of_21 : decode cX3_of 21 = .ok (.getfield 32, 3) := dk_180 0 32 (dk_at dksX3_of_0 21 rfl rfl)
theorem dX3_of_24 : decode cX3_of 24 = .ok (.iload_n 0, 1) := dk_26 (dk_at dksX3_of_1 0 rfl rfl)
theorem dX3_of_25 : decode cX3_of 25 = .ok (.if_icmp .ne 6, 3) := dk_160 0 6 (dk_at dksX3_of_1 1 rfl rfl)
theorem dX3_of_28 : decode cX3_of 28 = .ok (.aload 4, 2) := dk_25 4 (dk_at dksX3_of_1 4 rfl rfl)
theorem dX3_of_30 : decode cX3_of 30 = .ok (.areturn, 1) := dk_176 (dk_at dksX3_of_1 6 rfl rfl)
theorem dX3_of_31 : decode cX3_of 31 = .ok (.iinc 3 1, 3) := dk_132 3 1 (dk_at dksX3_of_1 7 rfl rfl)
theorem dX3_of_34 : decode cX3_of 34 = .ok (.goto (-25), 3) := dk_167 255 231 (dk_at dksX3_of_1 10 rfl rfl)
theorem dX3_of_37 : decode cX3_of 37 = .ok (.aconst_null, 1) := dk_1 (dk_at dksX3_of_1 13 rfl rfl)
theorem dX3_of_38 : decode cX3_of 38 = .ok (.areturn, 1) := dk_176 (dk_at dksX3_of_1 14 rfl rfl)
abbrev cX3_values : ByteArray := prog_11_method_1_code
def yX3_values : MethodName := ⟨RX3, "values", "()[LFortPlanner$Zone;"⟩
def dkwX3_values_0 : List UInt8 := [178, 0, 13, 182, 0, 17, 192, 0, 18, 176]
abbrev dktX3_values_0 : List UInt8 := dkwX3_values_0 ++ []
theorem dksX3_values_0 : cX3_values.data.toList.drop 0 = dktX3_values_0 := by decide +kernel
theorem dX3_values_0 : decode cX3_values 0 = .ok (.getstatic 13, 3) := dk_178 0 13 (dk_at dksX3_values_0 0 rfl rfl)
theorem dX3_values_3 : decode cX3_values 3 = .ok (.invokevirtual 17, 3) := dk_182 0 17 (dk_at dksX3_values_0 3 rfl rfl)
theorem dX3_values_6 : decode cX3_values 6 = .ok (.checkcast 18, 3) := dk_192 0 18 (dk_at dksX3_values_0 6 rfl rfl)
theorem dX3_values_9 : decode cX3_values 9 = .ok (.areturn, 1) := dk_176 (dk_at dksX3_values_0 9 rfl rfl)
theorem q94 : (Jvm.Cond.initialized "FortPlanner$Zone") ∈ lw_all := lw_g (lw_at lw_m1 7 rfl) rfl
theorem q172 : (Jvm.Cond.laysStatic "FortPlanner$Zone" "OPEN" "LFortPlanner$Zone;") ∈ lw_tbl := lw_at lw_m1 85 rfl
theorem q1213 : (Jvm.Cond.declares ({ cls := "FortPlanner$Zone", name := "allows", desc := "(LFortPlanner$Block;)Z" } : Jvm.MethodName)) ∈ lw_tbl := lw_at lw_m5 166 rfl
theorem q1214 : (Jvm.Cond.sameMethod "FortPlanner$Zone" "FortPlanner$Zone" "allows" "(LFortPlanner$Block;)Z") ∈ lw_all := lw_g (lw_at lw_m5 167 rfl) rfl
theorem q1359 : (Jvm.Cond.static ({ cls := "FortPlanner$Zone", name := "of", desc := "(C)LFortPlanner$Zone;" } : Jvm.MethodName)) ∈ lw_all := lw_g (lw_at lw_m6 72 rfl) rfl
theorem q1360 : (Jvm.Cond.code ({ cls := "FortPlanner$Zone", name := "of", desc := "(C)LFortPlanner$Zone;" } : Jvm.MethodName) prog_11_method_5_code (5 : Nat) (Option.some (Jvm.ClassFile.FieldType.object "FortPlanner$Zone"))) ∈ lw_all := lw_g (lw_at lw_m6 73 rfl) rfl
theorem q1361 : (Jvm.Cond.methodLink "FortPlanner$Zone" (36 : Nat) ({ cls := "FortPlanner$Zone", name := "values", desc := "()[LFortPlanner$Zone;" } : Jvm.MethodName)) ∈ lw_all := lw_g (lw_at lw_m6 74 rfl) rfl
theorem q1362 : (Jvm.Cond.static ({ cls := "FortPlanner$Zone", name := "values", desc := "()[LFortPlanner$Zone;" } : Jvm.MethodName)) ∈ lw_all := lw_g (lw_at lw_m6 75 rfl) rfl
theorem q1363 : (Jvm.Cond.code ({ cls := "FortPlanner$Zone", name := "values", desc := "()[LFortPlanner$Zone;" } : Jvm.MethodName) prog_11_method_1_code (0 : Nat) (Option.some (Jvm.ClassFile.FieldType.array (Jvm.ClassFile.FieldType.object "FortPlanner$Zone")))) ∈ lw_all := lw_g (lw_at lw_m6 76 rfl) rfl
theorem q1364 : (Jvm.Cond.fieldLink "FortPlanner$Zone" (13 : Nat) "FortPlanner$Zone" "$VALUES" "[LFortPlanner$Zone;") ∈ lw_all := lw_g (lw_at lw_m6 77 rfl) rfl
theorem q1365 : (Jvm.Cond.laysStatic "FortPlanner$Zone" "$VALUES" "[LFortPlanner$Zone;") ∈ lw_tbl := lw_at lw_m6 78 rfl
theorem q1366 : (Jvm.Cond.methodLink "FortPlanner$Zone" (17 : Nat) ({ cls := "[LFortPlanner$Zone;", name := "clone", desc := "()Ljava/lang/Object;" } : Jvm.MethodName)) ∈ lw_all := lw_g (lw_at lw_m6 79 rfl) rfl
theorem q1370 : (Jvm.Cond.classLink "FortPlanner$Zone" (18 : Nat) "[LFortPlanner$Zone;") ∈ lw_all := lw_g (lw_at lw_m6 83 rfl) rfl
theorem q2539 : (Jvm.Cond.castable "FortPlanner$Zone" "java/lang/Object") ∈ lw_tbl := lw_at lw_m11 52 rfl
theorem q2579 : (Jvm.Cond.fieldLink "FortPlanner$Zone" (32 : Nat) "FortPlanner$Zone" "letter" "C") ∈ lw_all := lw_g (lw_at lw_m11 92 rfl) rfl
theorem q2581 : (Jvm.Cond.laysStatic "FortPlanner$Zone" "QUIET" "LFortPlanner$Zone;") ∈ lw_tbl := lw_at lw_m11 94 rfl
theorem q2582 : (Jvm.Cond.laysStatic "FortPlanner$Zone" "CLOSED" "LFortPlanner$Zone;") ∈ lw_tbl := lw_at lw_m11 95 rfl
/-! FortPlanner$Block -/
set_option maxRecDepth 100000
def RX5 : String := "FortPlanner$Block"
abbrev cX5_covers : ByteArray := prog_3_method_7_code
def yX5_covers : MethodName := ⟨RX5, "covers", "(I)Z"⟩
def dkwX5_covers_0 : List UInt8 := [27, 42, 180, 0, 13, 42, 182, 0, 29, 184, 0, 32, 172]
abbrev dktX5_covers_0 : List UInt8 := dkwX5_covers_0 ++ []
theorem dksX5_covers_0 : cX5_covers.data.toList.drop 0 = dktX5_covers_0 := by decide +kernel
theorem dX5_covers_0 : decode cX5_covers 0 = .ok (.iload_n 1, 1) := dk_27 (dk_at dksX5_covers_0 0 rfl rfl)
theorem dX5_covers_1 : decode cX5_covers 1 = .ok (.aload_n 0, 1) := dk_42 (dk_at dksX5_covers_0 1 rfl rfl)
theorem dX5_covers_2 : decode cX5_covers 2 = .ok (.getfield 13, 3) := dk_180 0 13 (dk_at dksX5_covers_0 2 rfl rfl)
theorem dX5_covers_5 : decode cX5_covers 5 = .ok (.aload_n 0, 1) := dk_42 (dk_at dksX5_covers_0 5 rfl rfl)
theorem dX5_covers_6 : decode cX5_covers 6 = .ok (.invokevirtual 29, 3) := dk_182 0 29 (dk_at dksX5_covers_0 6 rfl rfl)
theorem dX5_covers_9 : decode cX5_covers 9 = .ok (.invokestatic 32, 3) := dk_184 0 32 (dk_at dksX5_covers_0 9 rfl rfl)
theorem dX5_covers_12 : decode cX5_covers 12 = .ok (.ireturn, 1) := dk_172 (dk_at dksX5_covers_0 12 rfl rfl)
abbrev cX5_right : ByteArray := prog_3_method_6_code
def yX5_right : MethodName := ⟨RX5, "right", "()I"⟩
def dkwX5_right_0 : List UInt8 := [42, 180, 0, 13, 42, 180, 0, 16, 96, 4, 100, 172]
abbrev dktX5_right_0 : List UInt8 := dkwX5_right_0 ++ []
theorem dksX5_right_0 : cX5_right.data.toList.drop 0 = dktX5_right_0 := by decide +kernel
theorem dX5_right_0 : decode cX5_right 0 = .ok (.aload_n 0, 1) := dk_42 (dk_at dksX5_right_0 0 rfl rfl)
theorem dX5_right_1 : decode cX5_right 1 = .ok (.getfield 13, 3) := dk_180 0 13 (dk_at dksX5_right_0 1 rfl rfl)
theorem dX5_right_4 : decode cX5_right 4 = .ok (.aload_n 0, 1) := dk_42 (dk_at dksX5_right_0 4 rfl rfl)
theorem dX5_right_5 : decode cX5_right 5 = .ok (.getfield 16, 3) := dk_180 0 16 (dk_at dksX5_right_0 5 rfl rfl)
theorem dX5_right_8 : decode cX5_right 8 = .ok (.iadd, 1) := dk_96 (dk_at dksX5_right_0 8 rfl rfl)
theorem dX5_right_9 : decode cX5_right 9 = .ok (.iconst 1, 1) := dk_4 (dk_at dksX5_right_0 9 rfl rfl)
theorem dX5_right_10 : decode cX5_right 10 = .ok (.isub, 1) := dk_100 (dk_at dksX5_right_0 10 rfl rfl)
theorem dX5_right_11 : decode cX5_right 11 = .ok (.ireturn, 1) := dk_172 (dk_at dksX5_right_0 11 rfl rfl)
abbrev cX5_top : ByteArray := prog_3_method_5_code
def yX5_top : MethodName := ⟨RX5, "top", "()I"⟩
def dkwX5_top_0 : List UInt8 := [42, 180, 0, 22, 42, 182, 0, 25, 96, 172]
abbrev dktX5_top_0 : List UInt8 := dkwX5_top_0 ++ []
theorem dksX5_top_0 : cX5_top.data.toList.drop 0 = dktX5_top_0 := by decide +kernel
theorem dX5_top_0 : decode cX5_top 0 = .ok (.aload_n 0, 1) := dk_42 (dk_at dksX5_top_0 0 rfl rfl)
theorem dX5_top_1 : decode cX5_top 1 = .ok (.getfield 22, 3) := dk_180 0 22 (dk_at dksX5_top_0 1 rfl rfl)
theorem dX5_top_4 : decode cX5_top 4 = .ok (.aload_n 0, 1) := dk_42 (dk_at dksX5_top_0 4 rfl rfl)
theorem dX5_top_5 : decode cX5_top 5 = .ok (.invokevirtual 25, 3) := dk_182 0 25 (dk_at dksX5_top_0 5 rfl rfl)
theorem dX5_top_8 : decode cX5_top 8 = .ok (.iadd, 1) := dk_96 (dk_at dksX5_top_0 8 rfl rfl)
theorem dX5_top_9 : decode cX5_top 9 = .ok (.ireturn, 1) := dk_172 (dk_at dksX5_top_0 9 rfl rfl)
abbrev cX5_thickness : ByteArray := prog_3_method_3_code
def yX5_thickness : MethodName := ⟨RX5, "thickness", "()I"⟩
theorem dX5_thickness_0 : decode cX5_thickness 0 = .ok (.iconst 1, 1) := by decide +kernel
theorem dX5_thickness_1 : decode cX5_thickness 1 = .ok (.ireturn, 1) := by decide +kernel
abbrev cX5_supports : ByteArray := prog_3_method_8_code
def yX5_supports : MethodName := ⟨RX5, "supports", "(LFortPlanner$Block;)Z"⟩
def dkwX5_supports_1 : List UInt8 := [180, 0, 13, 42, 182, 0, 29, 163, 0, 7, 4, 167, 0, 4, 3, 172]
abbrev dktX5_supports_1 : List UInt8 := dkwX5_supports_1 ++ []
def dkwX5_supports_0 : List UInt8 := [42, 182, 0, 38, 43, 180, 0, 22, 160, 0, 29, 42, 180, 0, 13, 43, 182, 0, 29, 163, 0, 18, 43]
abbrev dktX5_supports_0 : List UInt8 := dkwX5_supports_0 ++ dktX5_supports_1
theorem dksX5_supports_0 : cX5_supports.data.toList.drop 0 = dktX5_supports_0 := by decide +kernel
theorem dksX5_supports_1 : cX5_supports.data.toList.drop 23 = dktX5_supports_1 := dk_seg dksX5_supports_0 23 rfl rfl
theorem dX5_supports_0 : decode cX5_supports 0 = .ok (.aload_n 0, 1) := dk_42 (dk_at dksX5_supports_0 0 rfl rfl)
theorem dX5_supports_1 : decode cX5_supports 1 = .ok (.invokevirtual 38, 3) := dk_182 0 38 (dk_at dksX5_supports_0 1 rfl rfl)
theorem dX5_supports_4 : decode cX5_supports 4 = .ok (.aload_n 1, 1) := dk_43 (dk_at dksX5_supports_0 4 rfl rfl)
theorem dX5_supports_5 : decode cX5_supports 5 = .ok (.getfield 22, 3) := dk_180 0 22 (dk_at dksX5_supports_0 5 rfl rfl)
theorem dX5_supports_8 : decode cX5_supports 8 = .ok (.if_icmp .ne 29, 3) := dk_160 0 29 (dk_at dksX5_supports_0 8 rfl rfl)
theorem dX5_supports_11 : decode cX5_supports 11 = .ok (.aload_n 0, 1) := dk_42 (dk_at dksX5_supports_0 11 rfl rfl)
theorem dX5_supports_12 : decode cX5_supports 12 = .ok (.getfield 13, 3) := dk_180 0 13 (dk_at dksX5_supports_0 12 rfl rfl)
theorem dX5_supports_15 : decode cX5_supports 15 = .ok (.aload_n 1, 1) := dk_43 (dk_at dksX5_supports_0 15 rfl rfl)
theorem dX5_supports_16 : decode cX5_supports 16 = .ok (.invokevirtual 29, 3) := dk_182 0 29 (dk_at dksX5_supports_0 16 rfl rfl)
theorem dX5_supports_19 : decode cX5_supports 19 = .ok (.if_icmp .gt 18, 3) := dk_163 0 18 (dk_at dksX5_supports_0 19 rfl rfl)
theorem dX5_supports_22 : decode cX5_supports 22 = .ok (.aload_n 1, 1) := dk_43 (dk_at dksX5_supports_0 22 rfl rfl)
theorem dX5_supports_23 : decode cX5_supports 23 = .ok (.getfield 13, 3) := dk_180 0 13 (dk_at dksX5_supports_1 0 rfl rfl)
theorem dX5_supports_26 : decode cX5_supports 26 = .ok (.aload_n 0, 1) := dk_42 (dk_at dksX5_supports_1 3 rfl rfl)
theorem dX5_supports_27 : decode cX5_supports 27 = .ok (.invokevirtual 29, 3) := dk_182 0 29 (dk_at dksX5_supports_1 4 rfl rfl)
theorem dX5_supports_30 : decode cX5_supports 30 = .ok (.if_icmp .gt 7, 3) := dk_163 0 7 (dk_at dksX5_supports_1 7 rfl rfl)
theorem dX5_supports_33 : decode cX5_supports 33 = .ok (.iconst 1, 1) := dk_4 (dk_at dksX5_supports_1 10 rfl rfl)
theorem dX5_supports_34 : decode cX5_supports 34 = .ok (.goto 4, 3) := dk_167 0 4 (dk_at dksX5_supports_1 11 rfl rfl)
theorem dX5_supports_37 : decode cX5_supports 37 = .ok (.iconst 0, 1) := dk_3 (dk_at dksX5_supports_1 14 rfl rfl)
theorem dX5_supports_38 : decode cX5_supports 38 = .ok (.ireturn, 1) := dk_172 (dk_at dksX5_supports_1 15 rfl rfl)
abbrev cX5_strength : ByteArray := prog_3_method_4_code
def yX5_strength : MethodName := ⟨RX5, "strength", "()I"⟩
theorem dX5_strength_0 : decode cX5_strength 0 = .ok (.aload_n 0, 1) := by decide +kernel
theorem dX5_strength_1 : decode cX5_strength 1 = .ok (.getfield 16, 3) := by decide +kernel
theorem dX5_strength_4 : decode cX5_strength 4 = .ok (.ireturn, 1) := by decide +kernel
abbrev cX5_init : ByteArray := prog_3_method_1_code
def yX5_init : MethodName := ⟨RX5, "<init>", "(IIIII)V"⟩
def dkwX5_init_1 : List UInt8 := [181, 0, 19, 42, 21, 5, 181, 0, 22, 177]
abbrev dktX5_init_1 : List UInt8 := dkwX5_init_1 ++ []
def dkwX5_init_0 : List UInt8 := [42, 183, 0, 1, 42, 27, 181, 0, 7, 42, 28, 181, 0, 13, 42, 29, 181, 0, 16, 42, 21, 4]
abbrev dktX5_init_0 : List UInt8 := dkwX5_init_0 ++ dktX5_init_1
theorem dksX5_init_0 : cX5_init.data.toList.drop 0 = dktX5_init_0 := by decide +kernel
theorem dksX5_init_1 : cX5_init.data.toList.drop 22 = dktX5_init_1 := dk_seg dksX5_init_0 22 rfl rfl
theorem dX5_init_0 : decode cX5_init 0 = .ok (.aload_n 0, 1) := dk_42 (dk_at dksX5_init_0 0 rfl rfl)
theorem dX5_init_1 : decode cX5_init 1 = .ok (.invokespecial 1, 3) := dk_183 0 1 (dk_at dksX5_init_0 1 rfl rfl)
theorem dX5_init_4 : decode cX5_init 4 = .ok (.aload_n 0, 1) := dk_42 (dk_at dksX5_init_0 4 rfl rfl)
theorem dX5_init_5 : decode cX5_init 5 = .ok (.iload_n 1, 1) := dk_27 (dk_at dksX5_init_0 5 rfl rfl)
theorem dX5_init_6 : decode cX5_init 6 = .ok (.putfield 7, 3) := dk_181 0 7 (dk_at dksX5_init_0 6 rfl rfl)
theorem dX5_init_9 : decode cX5_init 9 = .ok (.aload_n 0, 1) := dk_42 (dk_at dksX5_init_0 9 rfl rfl)
theorem dX5_init_10 : decode cX5_init 10 = .ok (.iload_n 2, 1) := dk_28 (dk_at dksX5_init_0 10 rfl rfl)
theorem dX5_init_11 : decode cX5_init 11 = .ok (.putfield 13, 3) := dk_181 0 13 (dk_at dksX5_init_0 11 rfl rfl)
theorem dX5_init_14 : decode cX5_init 14 = .ok (.aload_n 0, 1) := dk_42 (dk_at dksX5_init_0 14 rfl rfl)
theorem dX5_init_15 : decode cX5_init 15 = .ok (.iload_n 3, 1) := dk_29 (dk_at dksX5_init_0 15 rfl rfl)
theorem dX5_init_16 : decode cX5_init 16 = .ok (.putfield 16, 3) := dk_181 0 16 (dk_at dksX5_init_0 16 rfl rfl)
theorem dX5_init_19 : decode cX5_init 19 = .ok (.aload_n 0, 1) := dk_42 (dk_at dksX5_init_0 19 rfl rfl)
theorem dX5_init_20 : decode cX5_init 20 = .ok (.iload 4, 2) := dk_21 4 (dk_at dksX5_init_0 20 rfl rfl)
theorem dX5_init_22 : decode cX5_init 22 = .ok (.putfield 19, 3) := dk_181 0 19 (dk_at dksX5_init_1 0 rfl rfl)
theorem dX5_init_25 : decode cX5_init 25 = .ok (.aload_n 0, 1) := dk_42 (dk_at dksX5_init_1 3 rfl rfl)
theorem dX5_init_26 : decode cX5_init 26 = .ok (.iload 5, 2) := dk_21 5 (dk_at dksX5_init_1 4 rfl rfl)
theorem dX5_init_28 : decode cX5_init 28 = .ok (.putfield 22, 3) := dk_181 0 22 (dk_at dksX5_init_1 6 rfl rfl)
theorem dX5_init_31 : decode cX5_init 31 = .ok (.return_, 1) := dk_177 (dk_at dksX5_init_1 9 rfl rfl)
theorem q108 : (Jvm.Cond.initialized "FortPlanner$Block") ∈ lw_all := lw_g (lw_at lw_m1 21 rfl) rfl
theorem q390 : (Jvm.Cond.instanceMethod ({ cls := "FortPlanner$Block", name := "covers", desc := "(I)Z" } : Jvm.MethodName)) ∈ lw_all := lw_g (lw_at lw_m2 63 rfl) rfl
theorem q391 : (Jvm.Cond.sameMethod "FortPlanner$Block" "FortPlanner$Block" "covers" "(I)Z") ∈ lw_all := lw_g (lw_at lw_m2 64 rfl) rfl
theorem q395 : (Jvm.Cond.code ({ cls := "FortPlanner$Block", name := "covers", desc := "(I)Z" } : Jvm.MethodName) prog_3_method_7_code (2 : Nat) (Option.some Jvm.ClassFile.FieldType.boolean)) ∈ lw_all := lw_g (lw_at lw_m2 68 rfl) rfl
theorem q396 : (Jvm.Cond.methodLink "FortPlanner$Block" (29 : Nat) ({ cls := "FortPlanner$Block", name := "right", desc := "()I" } : Jvm.MethodName)) ∈ lw_all := lw_g (lw_at lw_m2 69 rfl) rfl
theorem q397 : (Jvm.Cond.instanceMethod ({ cls := "FortPlanner$Block", name := "right", desc := "()I" } : Jvm.MethodName)) ∈ lw_all := lw_g (lw_at lw_m2 70 rfl) rfl
theorem q398 : (Jvm.Cond.sameMethod "FortPlanner$Block" "FortPlanner$Block" "right" "()I") ∈ lw_all := lw_g (lw_at lw_m2 71 rfl) rfl
theorem q402 : (Jvm.Cond.code ({ cls := "FortPlanner$Block", name := "right", desc := "()I" } : Jvm.MethodName) prog_3_method_6_code (1 : Nat) (Option.some Jvm.ClassFile.FieldType.int)) ∈ lw_all := lw_g (lw_at lw_m2 75 rfl) rfl
theorem q403 : (Jvm.Cond.methodLinkNest "FortPlanner$Block" (32 : Nat) ({ cls := "FortPlanner", name := "isBetween", desc := "(III)Z" } : Jvm.MethodName) "FortPlanner") ∈ lw_tbl := lw_at lw_m2 76 rfl
theorem q407 : (Jvm.Cond.instanceMethod ({ cls := "FortPlanner$Block", name := "top", desc := "()I" } : Jvm.MethodName)) ∈ lw_all := lw_g (lw_at lw_m2 80 rfl) rfl
theorem q408 : (Jvm.Cond.sameMethod "FortPlanner$Block" "FortPlanner$Block" "top" "()I") ∈ lw_all := lw_g (lw_at lw_m2 81 rfl) rfl
theorem q412 : (Jvm.Cond.code ({ cls := "FortPlanner$Block", name := "top", desc := "()I" } : Jvm.MethodName) prog_3_method_5_code (1 : Nat) (Option.some Jvm.ClassFile.FieldType.int)) ∈ lw_all := lw_g (lw_at lw_m2 85 rfl) rfl
theorem q413 : (Jvm.Cond.methodLink "FortPlanner$Block" (25 : Nat) ({ cls := "FortPlanner$Block", name := "thickness", desc := "()I" } : Jvm.MethodName)) ∈ lw_all := lw_g (lw_at lw_m2 86 rfl) rfl
theorem q414 : (Jvm.Cond.instanceMethod ({ cls := "FortPlanner$Block", name := "thickness", desc := "()I" } : Jvm.MethodName)) ∈ lw_all := lw_g (lw_at lw_m2 87 rfl) rfl
theorem q415 : (Jvm.Cond.sameMethod "FortPlanner$Block" "FortPlanner$Block" "thickness" "()I") ∈ lw_all := lw_g (lw_at lw_m2 88 rfl) rfl
theorem q423 : (Jvm.Cond.code ({ cls := "FortPlanner$Block", name := "thickness", desc := "()I" } : Jvm.MethodName) prog_3_method_3_code (1 : Nat) (Option.some Jvm.ClassFile.FieldType.int)) ∈ lw_all := lw_g (lw_at lw_m2 96 rfl) rfl
theorem q504 : (Jvm.Cond.instanceMethod ({ cls := "FortPlanner$Block", name := "supports", desc := "(LFortPlanner$Block;)Z" } : Jvm.MethodName)) ∈ lw_all := lw_g (lw_at lw_m2 177 rfl) rfl
theorem q505 : (Jvm.Cond.sameMethod "FortPlanner$Block" "FortPlanner$Block" "supports" "(LFortPlanner$Block;)Z") ∈ lw_all := lw_g (lw_at lw_m2 178 rfl) rfl
theorem q509 : (Jvm.Cond.code ({ cls := "FortPlanner$Block", name := "supports", desc := "(LFortPlanner$Block;)Z" } : Jvm.MethodName) prog_3_method_8_code (2 : Nat) (Option.some Jvm.ClassFile.FieldType.boolean)) ∈ lw_all := lw_g (lw_at lw_m2 182 rfl) rfl
theorem q510 : (Jvm.Cond.methodLink "FortPlanner$Block" (38 : Nat) ({ cls := "FortPlanner$Block", name := "top", desc := "()I" } : Jvm.MethodName)) ∈ lw_all := lw_g (lw_at lw_m2 183 rfl) rfl
theorem q990 : (Jvm.Cond.instanceMethod ({ cls := "FortPlanner$Block", name := "strength", desc := "()I" } : Jvm.MethodName)) ∈ lw_all := lw_g (lw_at lw_m4 183 rfl) rfl
theorem q991 : (Jvm.Cond.sameMethod "FortPlanner$Block" "FortPlanner$Block" "strength" "()I") ∈ lw_all := lw_g (lw_at lw_m4 184 rfl) rfl
theorem q1000 : (Jvm.Cond.code ({ cls := "FortPlanner$Block", name := "strength", desc := "()I" } : Jvm.MethodName) prog_3_method_4_code (1 : Nat) (Option.some Jvm.ClassFile.FieldType.int)) ∈ lw_all := lw_g (lw_at lw_m4 193 rfl) rfl
theorem q1150 : (Jvm.Cond.instanceMethod ({ cls := "FortPlanner$Block", name := "<init>", desc := "(IIIII)V" } : Jvm.MethodName)) ∈ lw_all := lw_g (lw_at lw_m5 103 rfl) rfl
theorem q1151 : (Jvm.Cond.code ({ cls := "FortPlanner$Block", name := "<init>", desc := "(IIIII)V" } : Jvm.MethodName) prog_3_method_1_code (6 : Nat) (Option.none : Option Jvm.ClassFile.FieldType)) ∈ lw_all := lw_g (lw_at lw_m5 104 rfl) rfl
theorem q1152 : (Jvm.Cond.methodLink "FortPlanner$Block" (1 : Nat) ({ cls := "java/lang/Object", name := "<init>", desc := "()V" } : Jvm.MethodName)) ∈ lw_all := lw_g (lw_at lw_m5 105 rfl) rfl
theorem q1153 : (Jvm.Cond.fieldLink "FortPlanner$Block" (7 : Nat) "FortPlanner$Block" "number" "I") ∈ lw_all := lw_g (lw_at lw_m5 106 rfl) rfl
theorem q1156 : (Jvm.Cond.fieldLink "FortPlanner$Block" (13 : Nat) "FortPlanner$Block" "left" "I") ∈ lw_all := lw_g (lw_at lw_m5 109 rfl) rfl
theorem q1159 : (Jvm.Cond.fieldLink "FortPlanner$Block" (16 : Nat) "FortPlanner$Block" "width" "I") ∈ lw_all := lw_g (lw_at lw_m5 112 rfl) rfl
theorem q1161 : (Jvm.Cond.fieldLink "FortPlanner$Block" (19 : Nat) "FortPlanner$Block" "weight" "I") ∈ lw_all := lw_g (lw_at lw_m5 114 rfl) rfl
theorem q1164 : (Jvm.Cond.fieldLink "FortPlanner$Block" (22 : Nat) "FortPlanner$Block" "bottom" "I") ∈ lw_all := lw_g (lw_at lw_m5 117 rfl) rfl
theorem q1168 : (Jvm.Cond.soleField "FortPlanner$Block" "number") ∈ lw_all := lw_g (lw_at lw_m5 121 rfl) rfl
theorem q1170 : (Jvm.Cond.soleField "FortPlanner$Block" "left") ∈ lw_all := lw_g (lw_at lw_m5 123 rfl) rfl
theorem q1172 : (Jvm.Cond.soleField "FortPlanner$Block" "width") ∈ lw_all := lw_g (lw_at lw_m5 125 rfl) rfl
theorem q1174 : (Jvm.Cond.soleField "FortPlanner$Block" "weight") ∈ lw_all := lw_g (lw_at lw_m5 127 rfl) rfl
theorem q1176 : (Jvm.Cond.soleField "FortPlanner$Block" "bottom") ∈ lw_all := lw_g (lw_at lw_m5 129 rfl) rfl
theorem q1658 : (Jvm.Cond.declares ({ cls := "FortPlanner$Block", name := "letter", desc := "()C" } : Jvm.MethodName)) ∈ lw_tbl := lw_at lw_m7 131 rfl
theorem q1659 : (Jvm.Cond.sameMethod "FortPlanner$Block" "FortPlanner$Block" "letter" "()C") ∈ lw_all := lw_g (lw_at lw_m7 132 rfl) rfl
/-! FortPlanner$Foam -/
set_option maxRecDepth 100000
def RX6 : String := "FortPlanner$Foam"
def TX6 : u_T := fun k => match k with
  | 0 => ("FortPlanner$Block", "number", "I", true)
  | 1 => ("FortPlanner$Block", "left", "I", true)
  | 2 => ("FortPlanner$Block", "width", "I", true)
  | 3 => ("FortPlanner$Block", "weight", "I", true)
  | _ => ("FortPlanner$Block", "bottom", "I", true)
def tyX6 : Nat → FieldType := fun k => match k with
  | 0 => .int
  | 1 => .int
  | 2 => .int
  | 3 => .int
  | _ => .int
abbrev wsX60 : List Cond := u_ws RX6 TX6 5
theorem nmX6 : ∀ a, a < 5 → ∀ b, b < 5 → a ≠ b → (TX6 a).2.1 ≠ (TX6 b).2.1 := by decide +kernel
theorem tyX6_ok : ∀ k, k < 5 → parseFieldDescriptor (TX6 k).2.2.1 = some (tyX6 k) := by decide +kernel
abbrev cX6_thickness : ByteArray := prog_8_method_3_code
def yX6_thickness : MethodName := ⟨RX6, "thickness", "()I"⟩
def dkwX6_thickness_0 : List UInt8 := [4, 42, 183, 0, 7, 96, 172]
abbrev dktX6_thickness_0 : List UInt8 := dkwX6_thickness_0 ++ []
theorem dksX6_thickness_0 : cX6_thickness.data.toList.drop 0 = dktX6_thickness_0 := by decide +kernel
theorem dX6_thickness_0 : decode cX6_thickness 0 = .ok (.iconst 1, 1) := dk_4 (dk_at dksX6_thickness_0 0 rfl rfl)
theorem dX6_thickness_1 : decode cX6_thickness 1 = .ok (.aload_n 0, 1) := dk_42 (dk_at dksX6_thickness_0 1 rfl rfl)
theorem dX6_thickness_2 : decode cX6_thickness 2 = .ok (.invokespecial 7, 3) := dk_183 0 7 (dk_at dksX6_thickness_0 2 rfl rfl)
theorem dX6_thickness_5 : decode cX6_thickness 5 = .ok (.iadd, 1) := dk_96 (dk_at dksX6_thickness_0 5 rfl rfl)
theorem dX6_thickness_6 : decode cX6_thickness 6 = .ok (.ireturn, 1) := dk_172 (dk_at dksX6_thickness_0 6 rfl rfl)
abbrev cX6_strength : ByteArray := prog_8_method_4_code
def yX6_strength : MethodName := ⟨RX6, "strength", "()I"⟩
def dkwX6_strength_0 : List UInt8 := [16, 6, 42, 183, 0, 11, 104, 172]
abbrev dktX6_strength_0 : List UInt8 := dkwX6_strength_0 ++ []
theorem dksX6_strength_0 : cX6_strength.data.toList.drop 0 = dktX6_strength_0 := by decide +kernel
theorem dX6_strength_0 : decode cX6_strength 0 = .ok (.bipush 6, 2) := dk_16 6 (dk_at dksX6_strength_0 0 rfl rfl)
theorem dX6_strength_2 : decode cX6_strength 2 = .ok (.aload_n 0, 1) := dk_42 (dk_at dksX6_strength_0 2 rfl rfl)
theorem dX6_strength_3 : decode cX6_strength 3 = .ok (.invokespecial 11, 3) := dk_183 0 11 (dk_at dksX6_strength_0 3 rfl rfl)
theorem dX6_strength_6 : decode cX6_strength 6 = .ok (.imul, 1) := dk_104 (dk_at dksX6_strength_0 6 rfl rfl)
theorem dX6_strength_7 : decode cX6_strength 7 = .ok (.ireturn, 1) := dk_172 (dk_at dksX6_strength_0 7 rfl rfl)
abbrev cX6_init : ByteArray := prog_8_method_1_code
def yX6_init : MethodName := ⟨RX6, "<init>", "(IIIII)V"⟩
def dkwX6_init_0 : List UInt8 := [42, 27, 28, 29, 21, 4, 21, 5, 183, 0, 1, 177]
abbrev dktX6_init_0 : List UInt8 := dkwX6_init_0 ++ []
theorem dksX6_init_0 : cX6_init.data.toList.drop 0 = dktX6_init_0 := by decide +kernel
theorem dX6_init_0 : decode cX6_init 0 = .ok (.aload_n 0, 1) := dk_42 (dk_at dksX6_init_0 0 rfl rfl)
theorem dX6_init_1 : decode cX6_init 1 = .ok (.iload_n 1, 1) := dk_27 (dk_at dksX6_init_0 1 rfl rfl)
theorem dX6_init_2 : decode cX6_init 2 = .ok (.iload_n 2, 1) := dk_28 (dk_at dksX6_init_0 2 rfl rfl)
theorem dX6_init_3 : decode cX6_init 3 = .ok (.iload_n 3, 1) := dk_29 (dk_at dksX6_init_0 3 rfl rfl)
theorem dX6_init_4 : decode cX6_init 4 = .ok (.iload 4, 2) := dk_21 4 (dk_at dksX6_init_0 4 rfl rfl)
theorem dX6_init_6 : decode cX6_init 6 = .ok (.iload 5, 2) := dk_21 5 (dk_at dksX6_init_0 6 rfl rfl)
theorem dX6_init_8 : decode cX6_init 8 = .ok (.invokespecial 1, 3) := dk_183 0 1 (dk_at dksX6_init_0 8 rfl rfl)
theorem dX6_init_11 : decode cX6_init 11 = .ok (.return_, 1) := dk_177 (dk_at dksX6_init_0 11 rfl rfl)
abbrev cX6_letter : ByteArray := prog_8_method_2_code
def yX6_letter : MethodName := ⟨RX6, "letter", "()C"⟩
theorem dX6_letter_0 : decode cX6_letter 0 = .ok (.bipush 102, 2) := by decide +kernel
theorem dX6_letter_2 : decode cX6_letter 2 = .ok (.ireturn, 1) := by decide +kernel
theorem q109 : (Jvm.Cond.initialized "FortPlanner$Foam") ∈ lw_all := lw_g (lw_at lw_m1 22 rfl) rfl
theorem q394 : (Jvm.Cond.selects "FortPlanner$Foam" ({ cls := "FortPlanner$Block", name := "covers", desc := "(I)Z" } : Jvm.MethodName) ({ cls := "FortPlanner$Block", name := "covers", desc := "(I)Z" } : Jvm.MethodName)) ∈ lw_all := lw_g (lw_at lw_m2 67 rfl) rfl
theorem q401 : (Jvm.Cond.selects "FortPlanner$Foam" ({ cls := "FortPlanner$Block", name := "right", desc := "()I" } : Jvm.MethodName) ({ cls := "FortPlanner$Block", name := "right", desc := "()I" } : Jvm.MethodName)) ∈ lw_all := lw_g (lw_at lw_m2 74 rfl) rfl
theorem q411 : (Jvm.Cond.selects "FortPlanner$Foam" ({ cls := "FortPlanner$Block", name := "top", desc := "()I" } : Jvm.MethodName) ({ cls := "FortPlanner$Block", name := "top", desc := "()I" } : Jvm.MethodName)) ∈ lw_all := lw_g (lw_at lw_m2 84 rfl) rfl
theorem q418 : (Jvm.Cond.selects "FortPlanner$Foam" ({ cls := "FortPlanner$Block", name := "thickness", desc := "()I" } : Jvm.MethodName) ({ cls := "FortPlanner$Foam", name := "thickness", desc := "()I" } : Jvm.MethodName)) ∈ lw_all := lw_g (lw_at lw_m2 91 rfl) rfl
theorem q419 : (Jvm.Cond.instanceMethod ({ cls := "FortPlanner$Foam", name := "thickness", desc := "()I" } : Jvm.MethodName)) ∈ lw_all := lw_g (lw_at lw_m2 92 rfl) rfl
theorem q420 : (Jvm.Cond.code ({ cls := "FortPlanner$Foam", name := "thickness", desc := "()I" } : Jvm.MethodName) prog_8_method_3_code (1 : Nat) (Option.some Jvm.ClassFile.FieldType.int)) ∈ lw_all := lw_g (lw_at lw_m2 93 rfl) rfl
theorem q421 : (Jvm.Cond.methodLink "FortPlanner$Foam" (7 : Nat) ({ cls := "FortPlanner$Block", name := "thickness", desc := "()I" } : Jvm.MethodName)) ∈ lw_all := lw_g (lw_at lw_m2 94 rfl) rfl
theorem q422 : (Jvm.Cond.superclass "FortPlanner$Foam" "FortPlanner$Block") ∈ lw_all := lw_g (lw_at lw_m2 95 rfl) rfl
theorem q508 : (Jvm.Cond.selects "FortPlanner$Foam" ({ cls := "FortPlanner$Block", name := "supports", desc := "(LFortPlanner$Block;)Z" } : Jvm.MethodName) ({ cls := "FortPlanner$Block", name := "supports", desc := "(LFortPlanner$Block;)Z" } : Jvm.MethodName)) ∈ lw_all := lw_g (lw_at lw_m2 181 rfl) rfl
theorem q842 : (Jvm.Cond.selects "FortPlanner$Foam" ({ cls := "java/lang/Object", name := "getClass", desc := "()Ljava/lang/Class;" } : Jvm.MethodName) ({ cls := "java/lang/Object", name := "getClass", desc := "()Ljava/lang/Class;" } : Jvm.MethodName)) ∈ lw_all := lw_g (lw_at lw_m4 35 rfl) rfl
theorem q886 : (Jvm.Cond.selects "FortPlanner$Foam" ({ cls := "java/lang/Object", name := "equals", desc := "(Ljava/lang/Object;)Z" } : Jvm.MethodName) ({ cls := "java/lang/Object", name := "equals", desc := "(Ljava/lang/Object;)Z" } : Jvm.MethodName)) ∈ lw_all := lw_g (lw_at lw_m4 79 rfl) rfl
theorem q1001 : (Jvm.Cond.selects "FortPlanner$Foam" ({ cls := "FortPlanner$Block", name := "strength", desc := "()I" } : Jvm.MethodName) ({ cls := "FortPlanner$Foam", name := "strength", desc := "()I" } : Jvm.MethodName)) ∈ lw_all := lw_g (lw_at lw_m4 194 rfl) rfl
theorem q1002 : (Jvm.Cond.instanceMethod ({ cls := "FortPlanner$Foam", name := "strength", desc := "()I" } : Jvm.MethodName)) ∈ lw_all := lw_g (lw_at lw_m4 195 rfl) rfl
theorem q1003 : (Jvm.Cond.code ({ cls := "FortPlanner$Foam", name := "strength", desc := "()I" } : Jvm.MethodName) prog_8_method_4_code (1 : Nat) (Option.some Jvm.ClassFile.FieldType.int)) ∈ lw_all := lw_g (lw_at lw_m4 196 rfl) rfl
theorem q1004 : (Jvm.Cond.methodLink "FortPlanner$Foam" (11 : Nat) ({ cls := "FortPlanner$Block", name := "strength", desc := "()I" } : Jvm.MethodName)) ∈ lw_all := lw_g (lw_at lw_m4 197 rfl) rfl
theorem q1145 : (Jvm.Cond.instantiable "FortPlanner$Foam" (5 : Nat)) ∈ lw_all := lw_g (lw_at lw_m5 98 rfl) rfl
theorem q1147 : (Jvm.Cond.instanceMethod ({ cls := "FortPlanner$Foam", name := "<init>", desc := "(IIIII)V" } : Jvm.MethodName)) ∈ lw_all := lw_g (lw_at lw_m5 100 rfl) rfl
theorem q1148 : (Jvm.Cond.code ({ cls := "FortPlanner$Foam", name := "<init>", desc := "(IIIII)V" } : Jvm.MethodName) prog_8_method_1_code (6 : Nat) (Option.none : Option Jvm.ClassFile.FieldType)) ∈ lw_all := lw_g (lw_at lw_m5 101 rfl) rfl
theorem q1149 : (Jvm.Cond.methodLink "FortPlanner$Foam" (1 : Nat) ({ cls := "FortPlanner$Block", name := "<init>", desc := "(IIIII)V" } : Jvm.MethodName)) ∈ lw_all := lw_g (lw_at lw_m5 102 rfl) rfl
theorem q1167 : (Jvm.Cond.laysFinal "FortPlanner$Foam" "FortPlanner$Block" "number" "I") ∈ lw_all := lw_g (lw_at lw_m5 120 rfl) rfl
theorem q1169 : (Jvm.Cond.laysFinal "FortPlanner$Foam" "FortPlanner$Block" "left" "I") ∈ lw_all := lw_g (lw_at lw_m5 122 rfl) rfl
theorem q1171 : (Jvm.Cond.laysFinal "FortPlanner$Foam" "FortPlanner$Block" "width" "I") ∈ lw_all := lw_g (lw_at lw_m5 124 rfl) rfl
theorem q1173 : (Jvm.Cond.laysFinal "FortPlanner$Foam" "FortPlanner$Block" "weight" "I") ∈ lw_all := lw_g (lw_at lw_m5 126 rfl) rfl
theorem q1175 : (Jvm.Cond.laysFinal "FortPlanner$Foam" "FortPlanner$Block" "bottom" "I") ∈ lw_all := lw_g (lw_at lw_m5 128 rfl) rfl
theorem q1666 : (Jvm.Cond.selects "FortPlanner$Foam" ({ cls := "FortPlanner$Block", name := "letter", desc := "()C" } : Jvm.MethodName) ({ cls := "FortPlanner$Foam", name := "letter", desc := "()C" } : Jvm.MethodName)) ∈ lw_all := lw_g (lw_at lw_m7 139 rfl) rfl
theorem q1667 : (Jvm.Cond.instanceMethod ({ cls := "FortPlanner$Foam", name := "letter", desc := "()C" } : Jvm.MethodName)) ∈ lw_all := lw_g (lw_at lw_m7 140 rfl) rfl
theorem q1668 : (Jvm.Cond.code ({ cls := "FortPlanner$Foam", name := "letter", desc := "()C" } : Jvm.MethodName) prog_8_method_2_code (1 : Nat) (Option.some Jvm.ClassFile.FieldType.char)) ∈ lw_all := lw_g (lw_at lw_m7 141 rfl) rfl
theorem q2538 : (Jvm.Cond.castable "FortPlanner$Foam" "FortPlanner$Block") ∈ lw_tbl := lw_at lw_m11 51 rfl
theorem q2551 : (Jvm.Cond.castable "FortPlanner$Foam" "java/lang/Object") ∈ lw_tbl := lw_at lw_m11 64 rfl
theorem in_X6 : ∀ w ∈ wsX60, w ∈ lw_all := lw_in wsX60 [1167, 1169, 1171, 1173, 1175] (by decide +kernel) (by decide +kernel)
/-! FortPlanner$Board -/
set_option maxRecDepth 100000
def RX7 : String := "FortPlanner$Board"
def TX7 : u_T := fun k => match k with
  | 0 => ("FortPlanner$Block", "number", "I", true)
  | 1 => ("FortPlanner$Block", "left", "I", true)
  | 2 => ("FortPlanner$Block", "width", "I", true)
  | 3 => ("FortPlanner$Block", "weight", "I", true)
  | _ => ("FortPlanner$Block", "bottom", "I", true)
def tyX7 : Nat → FieldType := fun k => match k with
  | 0 => .int
  | 1 => .int
  | 2 => .int
  | 3 => .int
  | _ => .int
abbrev wsX70 : List Cond := u_ws RX7 TX7 5
theorem nmX7 : ∀ a, a < 5 → ∀ b, b < 5 → a ≠ b → (TX7 a).2.1 ≠ (TX7 b).2.1 := by decide +kernel
theorem tyX7_ok : ∀ k, k < 5 → parseFieldDescriptor (TX7 k).2.2.1 = some (tyX7 k) := by decide +kernel
abbrev cX7_strength : ByteArray := prog_6_method_3_code
def yX7_strength : MethodName := ⟨RX7, "strength", "()I"⟩
def dkwX7_strength_0 : List UInt8 := [16, 12, 42, 183, 0, 7, 104, 172]
abbrev dktX7_strength_0 : List UInt8 := dkwX7_strength_0 ++ []
theorem dksX7_strength_0 : cX7_strength.data.toList.drop 0 = dktX7_strength_0 := by decide +kernel
theorem dX7_strength_0 : decode cX7_strength 0 = .ok (.bipush 12, 2) := dk_16 12 (dk_at dksX7_strength_0 0 rfl rfl)
theorem dX7_strength_2 : decode cX7_strength 2 = .ok (.aload_n 0, 1) := dk_42 (dk_at dksX7_strength_0 2 rfl rfl)
theorem dX7_strength_3 : decode cX7_strength 3 = .ok (.invokespecial 7, 3) := dk_183 0 7 (dk_at dksX7_strength_0 3 rfl rfl)
theorem dX7_strength_6 : decode cX7_strength 6 = .ok (.imul, 1) := dk_104 (dk_at dksX7_strength_0 6 rfl rfl)
theorem dX7_strength_7 : decode cX7_strength 7 = .ok (.ireturn, 1) := dk_172 (dk_at dksX7_strength_0 7 rfl rfl)
abbrev cX7_init : ByteArray := prog_6_method_1_code
def yX7_init : MethodName := ⟨RX7, "<init>", "(IIIII)V"⟩
def dkwX7_init_0 : List UInt8 := [42, 27, 28, 29, 21, 4, 21, 5, 183, 0, 1, 177]
abbrev dktX7_init_0 : List UInt8 := dkwX7_init_0 ++ []
theorem dksX7_init_0 : cX7_init.data.toList.drop 0 = dktX7_init_0 := by decide +kernel
theorem dX7_init_0 : decode cX7_init 0 = .ok (.aload_n 0, 1) := dk_42 (dk_at dksX7_init_0 0 rfl rfl)
theorem dX7_init_1 : decode cX7_init 1 = .ok (.iload_n 1, 1) := dk_27 (dk_at dksX7_init_0 1 rfl rfl)
theorem dX7_init_2 : decode cX7_init 2 = .ok (.iload_n 2, 1) := dk_28 (dk_at dksX7_init_0 2 rfl rfl)
theorem dX7_init_3 : decode cX7_init 3 = .ok (.iload_n 3, 1) := dk_29 (dk_at dksX7_init_0 3 rfl rfl)
theorem dX7_init_4 : decode cX7_init 4 = .ok (.iload 4, 2) := dk_21 4 (dk_at dksX7_init_0 4 rfl rfl)
theorem dX7_init_6 : decode cX7_init 6 = .ok (.iload 5, 2) := dk_21 5 (dk_at dksX7_init_0 6 rfl rfl)
theorem dX7_init_8 : decode cX7_init 8 = .ok (.invokespecial 1, 3) := dk_183 0 1 (dk_at dksX7_init_0 8 rfl rfl)
theorem dX7_init_11 : decode cX7_init 11 = .ok (.return_, 1) := dk_177 (dk_at dksX7_init_0 11 rfl rfl)
abbrev cX7_letter : ByteArray := prog_6_method_2_code
def yX7_letter : MethodName := ⟨RX7, "letter", "()C"⟩
theorem dX7_letter_0 : decode cX7_letter 0 = .ok (.bipush 98, 2) := by decide +kernel
theorem dX7_letter_2 : decode cX7_letter 2 = .ok (.ireturn, 1) := by decide +kernel
theorem q110 : (Jvm.Cond.initialized "FortPlanner$Board") ∈ lw_all := lw_g (lw_at lw_m1 23 rfl) rfl
theorem q393 : (Jvm.Cond.selects "FortPlanner$Board" ({ cls := "FortPlanner$Block", name := "covers", desc := "(I)Z" } : Jvm.MethodName) ({ cls := "FortPlanner$Block", name := "covers", desc := "(I)Z" } : Jvm.MethodName)) ∈ lw_all := lw_g (lw_at lw_m2 66 rfl) rfl
theorem q400 : (Jvm.Cond.selects "FortPlanner$Board" ({ cls := "FortPlanner$Block", name := "right", desc := "()I" } : Jvm.MethodName) ({ cls := "FortPlanner$Block", name := "right", desc := "()I" } : Jvm.MethodName)) ∈ lw_all := lw_g (lw_at lw_m2 73 rfl) rfl
theorem q410 : (Jvm.Cond.selects "FortPlanner$Board" ({ cls := "FortPlanner$Block", name := "top", desc := "()I" } : Jvm.MethodName) ({ cls := "FortPlanner$Block", name := "top", desc := "()I" } : Jvm.MethodName)) ∈ lw_all := lw_g (lw_at lw_m2 83 rfl) rfl
theorem q417 : (Jvm.Cond.selects "FortPlanner$Board" ({ cls := "FortPlanner$Block", name := "thickness", desc := "()I" } : Jvm.MethodName) ({ cls := "FortPlanner$Block", name := "thickness", desc := "()I" } : Jvm.MethodName)) ∈ lw_all := lw_g (lw_at lw_m2 90 rfl) rfl
theorem q507 : (Jvm.Cond.selects "FortPlanner$Board" ({ cls := "FortPlanner$Block", name := "supports", desc := "(LFortPlanner$Block;)Z" } : Jvm.MethodName) ({ cls := "FortPlanner$Block", name := "supports", desc := "(LFortPlanner$Block;)Z" } : Jvm.MethodName)) ∈ lw_all := lw_g (lw_at lw_m2 180 rfl) rfl
theorem q840 : (Jvm.Cond.selects "FortPlanner$Board" ({ cls := "java/lang/Object", name := "getClass", desc := "()Ljava/lang/Class;" } : Jvm.MethodName) ({ cls := "java/lang/Object", name := "getClass", desc := "()Ljava/lang/Class;" } : Jvm.MethodName)) ∈ lw_all := lw_g (lw_at lw_m4 33 rfl) rfl
theorem q884 : (Jvm.Cond.selects "FortPlanner$Board" ({ cls := "java/lang/Object", name := "equals", desc := "(Ljava/lang/Object;)Z" } : Jvm.MethodName) ({ cls := "java/lang/Object", name := "equals", desc := "(Ljava/lang/Object;)Z" } : Jvm.MethodName)) ∈ lw_all := lw_g (lw_at lw_m4 77 rfl) rfl
theorem q995 : (Jvm.Cond.selects "FortPlanner$Board" ({ cls := "FortPlanner$Block", name := "strength", desc := "()I" } : Jvm.MethodName) ({ cls := "FortPlanner$Board", name := "strength", desc := "()I" } : Jvm.MethodName)) ∈ lw_all := lw_g (lw_at lw_m4 188 rfl) rfl
theorem q996 : (Jvm.Cond.instanceMethod ({ cls := "FortPlanner$Board", name := "strength", desc := "()I" } : Jvm.MethodName)) ∈ lw_all := lw_g (lw_at lw_m4 189 rfl) rfl
theorem q997 : (Jvm.Cond.code ({ cls := "FortPlanner$Board", name := "strength", desc := "()I" } : Jvm.MethodName) prog_6_method_3_code (1 : Nat) (Option.some Jvm.ClassFile.FieldType.int)) ∈ lw_all := lw_g (lw_at lw_m4 190 rfl) rfl
theorem q998 : (Jvm.Cond.methodLink "FortPlanner$Board" (7 : Nat) ({ cls := "FortPlanner$Block", name := "strength", desc := "()I" } : Jvm.MethodName)) ∈ lw_all := lw_g (lw_at lw_m4 191 rfl) rfl
theorem q999 : (Jvm.Cond.superclass "FortPlanner$Board" "FortPlanner$Block") ∈ lw_all := lw_g (lw_at lw_m4 192 rfl) rfl
theorem q1178 : (Jvm.Cond.instantiable "FortPlanner$Board" (5 : Nat)) ∈ lw_all := lw_g (lw_at lw_m5 131 rfl) rfl
theorem q1180 : (Jvm.Cond.instanceMethod ({ cls := "FortPlanner$Board", name := "<init>", desc := "(IIIII)V" } : Jvm.MethodName)) ∈ lw_all := lw_g (lw_at lw_m5 133 rfl) rfl
theorem q1181 : (Jvm.Cond.code ({ cls := "FortPlanner$Board", name := "<init>", desc := "(IIIII)V" } : Jvm.MethodName) prog_6_method_1_code (6 : Nat) (Option.none : Option Jvm.ClassFile.FieldType)) ∈ lw_all := lw_g (lw_at lw_m5 134 rfl) rfl
theorem q1182 : (Jvm.Cond.methodLink "FortPlanner$Board" (1 : Nat) ({ cls := "FortPlanner$Block", name := "<init>", desc := "(IIIII)V" } : Jvm.MethodName)) ∈ lw_all := lw_g (lw_at lw_m5 135 rfl) rfl
theorem q1183 : (Jvm.Cond.laysFinal "FortPlanner$Board" "FortPlanner$Block" "number" "I") ∈ lw_all := lw_g (lw_at lw_m5 136 rfl) rfl
theorem q1184 : (Jvm.Cond.laysFinal "FortPlanner$Board" "FortPlanner$Block" "left" "I") ∈ lw_all := lw_g (lw_at lw_m5 137 rfl) rfl
theorem q1185 : (Jvm.Cond.laysFinal "FortPlanner$Board" "FortPlanner$Block" "width" "I") ∈ lw_all := lw_g (lw_at lw_m5 138 rfl) rfl
theorem q1186 : (Jvm.Cond.laysFinal "FortPlanner$Board" "FortPlanner$Block" "weight" "I") ∈ lw_all := lw_g (lw_at lw_m5 139 rfl) rfl
theorem q1187 : (Jvm.Cond.laysFinal "FortPlanner$Board" "FortPlanner$Block" "bottom" "I") ∈ lw_all := lw_g (lw_at lw_m5 140 rfl) rfl
theorem q1663 : (Jvm.Cond.selects "FortPlanner$Board" ({ cls := "FortPlanner$Block", name := "letter", desc := "()C" } : Jvm.MethodName) ({ cls := "FortPlanner$Board", name := "letter", desc := "()C" } : Jvm.MethodName)) ∈ lw_all := lw_g (lw_at lw_m7 136 rfl) rfl
theorem q1664 : (Jvm.Cond.instanceMethod ({ cls := "FortPlanner$Board", name := "letter", desc := "()C" } : Jvm.MethodName)) ∈ lw_all := lw_g (lw_at lw_m7 137 rfl) rfl
theorem q1665 : (Jvm.Cond.code ({ cls := "FortPlanner$Board", name := "letter", desc := "()C" } : Jvm.MethodName) prog_6_method_2_code (1 : Nat) (Option.some Jvm.ClassFile.FieldType.char)) ∈ lw_all := lw_g (lw_at lw_m7 138 rfl) rfl
theorem q2537 : (Jvm.Cond.castable "FortPlanner$Board" "FortPlanner$Block") ∈ lw_tbl := lw_at lw_m11 50 rfl
theorem q2552 : (Jvm.Cond.castable "FortPlanner$Board" "java/lang/Object") ∈ lw_tbl := lw_at lw_m11 65 rfl
theorem in_X7 : ∀ w ∈ wsX70, w ∈ lw_all := lw_in wsX70 [1183, 1184, 1185, 1186, 1187] (by decide +kernel) (by decide +kernel)
/-! FortPlanner$Bag -/
set_option maxRecDepth 100000
def RX8 : String := "FortPlanner$Bag"
def TX8 : u_T := fun k => match k with
  | 0 => ("FortPlanner$Block", "number", "I", true)
  | 1 => ("FortPlanner$Block", "left", "I", true)
  | 2 => ("FortPlanner$Block", "width", "I", true)
  | 3 => ("FortPlanner$Block", "weight", "I", true)
  | 4 => ("FortPlanner$Block", "bottom", "I", true)
  | _ => ("FortPlanner$Bag", "ownWeight", "I", true)
def tyX8 : Nat → FieldType := fun k => match k with
  | 0 => .int
  | 1 => .int
  | 2 => .int
  | 3 => .int
  | 4 => .int
  | _ => .int
abbrev wsX80 : List Cond := u_ws RX8 TX8 6
theorem nmX8 : ∀ a, a < 6 → ∀ b, b < 6 → a ≠ b → (TX8 a).2.1 ≠ (TX8 b).2.1 := by decide +kernel
theorem tyX8_ok : ∀ k, k < 6 → parseFieldDescriptor (TX8 k).2.2.1 = some (tyX8 k) := by decide +kernel
abbrev cX8_strength : ByteArray := prog_2_method_3_code
def yX8_strength : MethodName := ⟨RX8, "strength", "()I"⟩
def dkwX8_strength_0 : List UInt8 := [42, 180, 0, 7, 16, 8, 96, 172]
abbrev dktX8_strength_0 : List UInt8 := dkwX8_strength_0 ++ []
theorem dksX8_strength_0 : cX8_strength.data.toList.drop 0 = dktX8_strength_0 := by decide +kernel
theorem dX8_strength_0 : decode cX8_strength 0 = .ok (.aload_n 0, 1) := dk_42 (dk_at dksX8_strength_0 0 rfl rfl)
theorem dX8_strength_1 : decode cX8_strength 1 = .ok (.getfield 7, 3) := dk_180 0 7 (dk_at dksX8_strength_0 1 rfl rfl)
theorem dX8_strength_4 : decode cX8_strength 4 = .ok (.bipush 8, 2) := dk_16 8 (dk_at dksX8_strength_0 4 rfl rfl)
theorem dX8_strength_6 : decode cX8_strength 6 = .ok (.iadd, 1) := dk_96 (dk_at dksX8_strength_0 6 rfl rfl)
theorem dX8_strength_7 : decode cX8_strength 7 = .ok (.ireturn, 1) := dk_172 (dk_at dksX8_strength_0 7 rfl rfl)
abbrev cX8_init : ByteArray := prog_2_method_1_code
def yX8_init : MethodName := ⟨RX8, "<init>", "(IIIII)V"⟩
def dkwX8_init_0 : List UInt8 := [42, 27, 28, 29, 21, 4, 21, 5, 183, 0, 1, 42, 21, 4, 181, 0, 7, 177]
abbrev dktX8_init_0 : List UInt8 := dkwX8_init_0 ++ []
theorem dksX8_init_0 : cX8_init.data.toList.drop 0 = dktX8_init_0 := by decide +kernel
theorem dX8_init_0 : decode cX8_init 0 = .ok (.aload_n 0, 1) := dk_42 (dk_at dksX8_init_0 0 rfl rfl)
theorem dX8_init_1 : decode cX8_init 1 = .ok (.iload_n 1, 1) := dk_27 (dk_at dksX8_init_0 1 rfl rfl)
theorem dX8_init_2 : decode cX8_init 2 = .ok (.iload_n 2, 1) := dk_28 (dk_at dksX8_init_0 2 rfl rfl)
theorem dX8_init_3 : decode cX8_init 3 = .ok (.iload_n 3, 1) := dk_29 (dk_at dksX8_init_0 3 rfl rfl)
theorem dX8_init_4 : decode cX8_init 4 = .ok (.iload 4, 2) := dk_21 4 (dk_at dksX8_init_0 4 rfl rfl)
theorem dX8_init_6 : decode cX8_init 6 = .ok (.iload 5, 2) := dk_21 5 (dk_at dksX8_init_0 6 rfl rfl)
theorem dX8_init_8 : decode cX8_init 8 = .ok (.invokespecial 1, 3) := dk_183 0 1 (dk_at dksX8_init_0 8 rfl rfl)
theorem dX8_init_11 : decode cX8_init 11 = .ok (.aload_n 0, 1) := dk_42 (dk_at dksX8_init_0 11 rfl rfl)
theorem dX8_init_12 : decode cX8_init 12 = .ok (.iload 4, 2) := dk_21 4 (dk_at dksX8_init_0 12 rfl rfl)
theorem dX8_init_14 : decode cX8_init 14 = .ok (.putfield 7, 3) := dk_181 0 7 (dk_at dksX8_init_0 14 rfl rfl)
theorem dX8_init_17 : decode cX8_init 17 = .ok (.return_, 1) := dk_177 (dk_at dksX8_init_0 17 rfl rfl)
abbrev cX8_letter : ByteArray := prog_2_method_2_code
def yX8_letter : MethodName := ⟨RX8, "letter", "()C"⟩
theorem dX8_letter_0 : decode cX8_letter 0 = .ok (.bipush 103, 2) := by decide +kernel
theorem dX8_letter_2 : decode cX8_letter 2 = .ok (.ireturn, 1) := by decide +kernel
theorem q111 : (Jvm.Cond.initialized "FortPlanner$Bag") ∈ lw_all := lw_g (lw_at lw_m1 24 rfl) rfl
theorem q392 : (Jvm.Cond.selects "FortPlanner$Bag" ({ cls := "FortPlanner$Block", name := "covers", desc := "(I)Z" } : Jvm.MethodName) ({ cls := "FortPlanner$Block", name := "covers", desc := "(I)Z" } : Jvm.MethodName)) ∈ lw_all := lw_g (lw_at lw_m2 65 rfl) rfl
theorem q399 : (Jvm.Cond.selects "FortPlanner$Bag" ({ cls := "FortPlanner$Block", name := "right", desc := "()I" } : Jvm.MethodName) ({ cls := "FortPlanner$Block", name := "right", desc := "()I" } : Jvm.MethodName)) ∈ lw_all := lw_g (lw_at lw_m2 72 rfl) rfl
theorem q409 : (Jvm.Cond.selects "FortPlanner$Bag" ({ cls := "FortPlanner$Block", name := "top", desc := "()I" } : Jvm.MethodName) ({ cls := "FortPlanner$Block", name := "top", desc := "()I" } : Jvm.MethodName)) ∈ lw_all := lw_g (lw_at lw_m2 82 rfl) rfl
theorem q416 : (Jvm.Cond.selects "FortPlanner$Bag" ({ cls := "FortPlanner$Block", name := "thickness", desc := "()I" } : Jvm.MethodName) ({ cls := "FortPlanner$Block", name := "thickness", desc := "()I" } : Jvm.MethodName)) ∈ lw_all := lw_g (lw_at lw_m2 89 rfl) rfl
theorem q506 : (Jvm.Cond.selects "FortPlanner$Bag" ({ cls := "FortPlanner$Block", name := "supports", desc := "(LFortPlanner$Block;)Z" } : Jvm.MethodName) ({ cls := "FortPlanner$Block", name := "supports", desc := "(LFortPlanner$Block;)Z" } : Jvm.MethodName)) ∈ lw_all := lw_g (lw_at lw_m2 179 rfl) rfl
theorem q839 : (Jvm.Cond.selects "FortPlanner$Bag" ({ cls := "java/lang/Object", name := "getClass", desc := "()Ljava/lang/Class;" } : Jvm.MethodName) ({ cls := "java/lang/Object", name := "getClass", desc := "()Ljava/lang/Class;" } : Jvm.MethodName)) ∈ lw_all := lw_g (lw_at lw_m4 32 rfl) rfl
theorem q883 : (Jvm.Cond.selects "FortPlanner$Bag" ({ cls := "java/lang/Object", name := "equals", desc := "(Ljava/lang/Object;)Z" } : Jvm.MethodName) ({ cls := "java/lang/Object", name := "equals", desc := "(Ljava/lang/Object;)Z" } : Jvm.MethodName)) ∈ lw_all := lw_g (lw_at lw_m4 76 rfl) rfl
theorem q992 : (Jvm.Cond.selects "FortPlanner$Bag" ({ cls := "FortPlanner$Block", name := "strength", desc := "()I" } : Jvm.MethodName) ({ cls := "FortPlanner$Bag", name := "strength", desc := "()I" } : Jvm.MethodName)) ∈ lw_all := lw_g (lw_at lw_m4 185 rfl) rfl
theorem q993 : (Jvm.Cond.instanceMethod ({ cls := "FortPlanner$Bag", name := "strength", desc := "()I" } : Jvm.MethodName)) ∈ lw_all := lw_g (lw_at lw_m4 186 rfl) rfl
theorem q994 : (Jvm.Cond.code ({ cls := "FortPlanner$Bag", name := "strength", desc := "()I" } : Jvm.MethodName) prog_2_method_3_code (1 : Nat) (Option.some Jvm.ClassFile.FieldType.int)) ∈ lw_all := lw_g (lw_at lw_m4 187 rfl) rfl
theorem q1189 : (Jvm.Cond.instantiable "FortPlanner$Bag" (6 : Nat)) ∈ lw_all := lw_g (lw_at lw_m5 142 rfl) rfl
theorem q1191 : (Jvm.Cond.instanceMethod ({ cls := "FortPlanner$Bag", name := "<init>", desc := "(IIIII)V" } : Jvm.MethodName)) ∈ lw_all := lw_g (lw_at lw_m5 144 rfl) rfl
theorem q1192 : (Jvm.Cond.code ({ cls := "FortPlanner$Bag", name := "<init>", desc := "(IIIII)V" } : Jvm.MethodName) prog_2_method_1_code (6 : Nat) (Option.none : Option Jvm.ClassFile.FieldType)) ∈ lw_all := lw_g (lw_at lw_m5 145 rfl) rfl
theorem q1193 : (Jvm.Cond.methodLink "FortPlanner$Bag" (1 : Nat) ({ cls := "FortPlanner$Block", name := "<init>", desc := "(IIIII)V" } : Jvm.MethodName)) ∈ lw_all := lw_g (lw_at lw_m5 146 rfl) rfl
theorem q1194 : (Jvm.Cond.fieldLink "FortPlanner$Bag" (7 : Nat) "FortPlanner$Bag" "ownWeight" "I") ∈ lw_all := lw_g (lw_at lw_m5 147 rfl) rfl
theorem q1195 : (Jvm.Cond.laysFinal "FortPlanner$Bag" "FortPlanner$Bag" "ownWeight" "I") ∈ lw_all := lw_g (lw_at lw_m5 148 rfl) rfl
theorem q1196 : (Jvm.Cond.soleField "FortPlanner$Bag" "ownWeight") ∈ lw_all := lw_g (lw_at lw_m5 149 rfl) rfl
theorem q1197 : (Jvm.Cond.laysFinal "FortPlanner$Bag" "FortPlanner$Block" "number" "I") ∈ lw_all := lw_g (lw_at lw_m5 150 rfl) rfl
theorem q1198 : (Jvm.Cond.laysFinal "FortPlanner$Bag" "FortPlanner$Block" "left" "I") ∈ lw_all := lw_g (lw_at lw_m5 151 rfl) rfl
theorem q1199 : (Jvm.Cond.laysFinal "FortPlanner$Bag" "FortPlanner$Block" "width" "I") ∈ lw_all := lw_g (lw_at lw_m5 152 rfl) rfl
theorem q1200 : (Jvm.Cond.laysFinal "FortPlanner$Bag" "FortPlanner$Block" "weight" "I") ∈ lw_all := lw_g (lw_at lw_m5 153 rfl) rfl
theorem q1201 : (Jvm.Cond.laysFinal "FortPlanner$Bag" "FortPlanner$Block" "bottom" "I") ∈ lw_all := lw_g (lw_at lw_m5 154 rfl) rfl
theorem q1202 : (Jvm.Cond.superclass "FortPlanner$Bag" "FortPlanner$Block") ∈ lw_all := lw_g (lw_at lw_m5 155 rfl) rfl
theorem q1660 : (Jvm.Cond.selects "FortPlanner$Bag" ({ cls := "FortPlanner$Block", name := "letter", desc := "()C" } : Jvm.MethodName) ({ cls := "FortPlanner$Bag", name := "letter", desc := "()C" } : Jvm.MethodName)) ∈ lw_all := lw_g (lw_at lw_m7 133 rfl) rfl
theorem q1661 : (Jvm.Cond.instanceMethod ({ cls := "FortPlanner$Bag", name := "letter", desc := "()C" } : Jvm.MethodName)) ∈ lw_all := lw_g (lw_at lw_m7 134 rfl) rfl
theorem q1662 : (Jvm.Cond.code ({ cls := "FortPlanner$Bag", name := "letter", desc := "()C" } : Jvm.MethodName) prog_2_method_2_code (1 : Nat) (Option.some Jvm.ClassFile.FieldType.char)) ∈ lw_all := lw_g (lw_at lw_m7 135 rfl) rfl
theorem q2536 : (Jvm.Cond.castable "FortPlanner$Bag" "FortPlanner$Block") ∈ lw_tbl := lw_at lw_m11 49 rfl
theorem q2553 : (Jvm.Cond.castable "FortPlanner$Bag" "java/lang/Object") ∈ lw_tbl := lw_at lw_m11 66 rfl
theorem in_X8 : ∀ w ∈ wsX80, w ∈ lw_all := lw_in wsX80 [1197, 1198, 1199, 1200, 1201, 1195] (by decide +kernel) (by decide +kernel)
/-! FortPlanner$Parser -/
set_option maxRecDepth 100000
def RX9 : String := "FortPlanner$Parser"
def TX9 : u_T := fun k => match k with
  | 0 => ("FortPlanner$Parser", "keywords", "[Ljava/lang/String;", true)
  | 1 => ("FortPlanner$Parser", "program", "Ljava/lang/String;", true)
  | 2 => ("FortPlanner$Parser", "commands", "Ljava/util/ArrayList;", true)
  | 3 => ("FortPlanner$Parser", "position", "I", false)
  | _ => ("FortPlanner$Parser", "hasFailed", "Z", false)
def tyX9 : Nat → FieldType := fun k => match k with
  | 0 => .array (.object "java/lang/String")
  | 1 => .object "java/lang/String"
  | 2 => .object "java/util/ArrayList"
  | 3 => .int
  | _ => .boolean
abbrev wsX90 : List Cond := u_ws RX9 TX9 5
theorem nmX9 : ∀ a, a < 5 → ∀ b, b < 5 → a ≠ b → (TX9 a).2.1 ≠ (TX9 b).2.1 := by decide +kernel
theorem tyX9_ok : ∀ k, k < 5 → parseFieldDescriptor (TX9 k).2.2.1 = some (tyX9 k) := by decide +kernel
abbrev cX9_init : ByteArray := prog_9_method_1_code
def yX9_init : MethodName := ⟨RX9, "<init>", "(Ljava/lang/String;)V"⟩
def dkwX9_init_2 : List UInt8 := [181, 0, 23, 42, 187, 0, 29, 89, 183, 0, 31, 181, 0, 32, 42, 43, 181, 0, 36, 177]
abbrev dktX9_init_2 : List UInt8 := dkwX9_init_2 ++ []
def dkwX9_init_1 : List UInt8 := [83, 89, 6, 18, 15, 83, 89, 7, 18, 17, 83, 89, 8, 18, 19, 83, 89, 16, 6, 18, 21, 83]
abbrev dktX9_init_1 : List UInt8 := dkwX9_init_1 ++ dktX9_init_2
def dkwX9_init_0 : List UInt8 := [42, 183, 0, 1, 42, 16, 7, 189, 0, 7, 89, 3, 18, 9, 83, 89, 4, 18, 11, 83, 89, 5, 18, 13]
abbrev dktX9_init_0 : List UInt8 := dkwX9_init_0 ++ dktX9_init_1
theorem dksX9_init_0 : cX9_init.data.toList.drop 0 = dktX9_init_0 := by decide +kernel
theorem dksX9_init_1 : cX9_init.data.toList.drop 24 = dktX9_init_1 := dk_seg dksX9_init_0 24 rfl rfl
theorem dksX9_init_2 : cX9_init.data.toList.drop 46 = dktX9_init_2 := dk_seg dksX9_init_1 22 rfl rfl
theorem dX9_init_0 : decode cX9_init 0 = .ok (.aload_n 0, 1) := dk_42 (dk_at dksX9_init_0 0 rfl rfl)
theorem dX9_init_1 : decode cX9_init 1 = .ok (.invokespecial 1, 3) := dk_183 0 1 (dk_at dksX9_init_0 1 rfl rfl)
theorem dX9_init_4 : decode cX9_init 4 = .ok (.aload_n 0, 1) := dk_42 (dk_at dksX9_init_0 4 rfl rfl)
theorem dX9_init_5 : decode cX9_init 5 = .ok (.bipush 7, 2) := dk_16 7 (dk_at dksX9_init_0 5 rfl rfl)
theorem dX9_init_7 : decode cX9_init 7 = .ok (.anewarray 7, 3) := dk_189 0 7 (dk_at dksX9_init_0 7 rfl rfl)
theorem dX9_init_10 : decode cX9_init 10 = .ok (.dup, 1) := dk_89 (dk_at dksX9_init_0 10 rfl rfl)
theorem dX9_init_11 : decode cX9_init 11 = .ok (.iconst 0, 1) := dk_3 (dk_at dksX9_init_0 11 rfl rfl)
theorem dX9_init_12 : decode cX9_init 12 = .ok (.ldc 9, 2) := dk_18 9 (dk_at dksX9_init_0 12 rfl rfl)
theorem dX9_init_14 : decode cX9_init 14 = .ok (.aastore, 1) := dk_83 (dk_at dksX9_init_0 14 rfl rfl)
theorem dX9_init_15 : decode cX9_init 15 = .ok (.dup, 1) := dk_89 (dk_at dksX9_init_0 15 rfl rfl)
theorem dX9_init_16 : decode cX9_init 16 = .ok (.iconst 1, 1) := dk_4 (dk_at dksX9_init_0 16 rfl rfl)
theorem dX9_init_17 : decode cX9_init 17 = .ok (.ldc 11, 2) := dk_18 11 (dk_at dksX9_init_0 17 rfl rfl)
theorem dX9_init_19 : decode cX9_init 19 = .ok (.aastore, 1) := dk_83 (dk_at dksX9_init_0 19 rfl rfl)
theorem dX9_init_20 : decode cX9_init 20 = .ok (.dup, 1) := dk_89 (dk_at dksX9_init_0 20 rfl rfl)
theorem dX9_init_21 : decode cX9_init 21 = .ok (.iconst 2, 1) := dk_5 (dk_at dksX9_init_0 21 rfl rfl)
theorem dX9_init_22 : decode cX9_init 22 = .ok (.ldc 13, 2) := dk_18 13 (dk_at dksX9_init_0 22 rfl rfl)
theorem dX9_init_24 : decode cX9_init 24 = .ok (.aastore, 1) := dk_83 (dk_at dksX9_init_1 0 rfl rfl)
theorem dX9_init_25 : decode cX9_init 25 = .ok (.dup, 1) := dk_89 (dk_at dksX9_init_1 1 rfl rfl)
theorem dX9_init_26 : decode cX9_init 26 = .ok (.iconst 3, 1) := dk_6 (dk_at dksX9_init_1 2 rfl rfl)
theorem dX9_init_27 : decode cX9_init 27 = .ok (.ldc 15, 2) := dk_18 15 (dk_at dksX9_init_1 3 rfl rfl)
theorem dX9_init_29 : decode cX9_init 29 = .ok (.aastore, 1) := dk_83 (dk_at dksX9_init_1 5 rfl rfl)
theorem dX9_init_30 : decode cX9_init 30 = .ok (.dup, 1) := dk_89 (dk_at dksX9_init_1 6 rfl rfl)
theorem dX9_init_31 : decode cX9_init 31 = .ok (.iconst 4, 1) := dk_7 (dk_at dksX9_init_1 7 rfl rfl)
theorem dX9_init_32 : decode cX9_init 32 = .ok (.ldc 17, 2) := dk_18 17 (dk_at dksX9_init_1 8 rfl rfl)
theorem dX9_init_34 : decode cX9_init 34 = .ok (.aastore, 1) := dk_83 (dk_at dksX9_init_1 10 rfl rfl)
theorem dX9_init_35 : decode cX9_init 35 = .ok (.dup, 1) := dk_89 (dk_at dksX9_init_1 11 rfl rfl)
theorem dX9_init_36 : decode cX9_init 36 = .ok (.iconst 5, 1) := dk_8 (dk_at dksX9_init_1 12 rfl rfl)
theorem dX9_init_37 : decode cX9_init 37 = .ok (.ldc 19, 2) := dk_18 19 (dk_at dksX9_init_1 13 rfl rfl)
theorem dX9_init_39 : decode cX9_init 39 = .ok (.aastore, 1) := dk_83 (dk_at dksX9_init_1 15 rfl rfl)
theorem dX9_init_40 : decode cX9_init 40 = .ok (.dup, 1) := dk_89 (dk_at dksX9_init_1 16 rfl rfl)
theorem dX9_init_41 : decode cX9_init 41 = .ok (.bipush 6, 2) := dk_16 6 (dk_at dksX9_init_1 17 rfl rfl)
theorem dX9_init_43 : decode cX9_init 43 = .ok (.ldc 21, 2) := dk_18 21 (dk_at dksX9_init_1 19 rfl rfl)
theorem dX9_init_45 : decode cX9_init 45 = .ok (.aastore, 1) := dk_83 (dk_at dksX9_init_1 21 rfl rfl)
theorem dX9_init_46 : decode cX9_init 46 = .ok (.putfield 23, 3) := dk_181 0 23 (dk_at dksX9_init_2 0 rfl rfl)
theorem dX9_init_49 : decode cX9_init 49 = .ok (.aload_n 0, 1) := dk_42 (dk_at dksX9_init_2 3 rfl rfl)
theorem dX9_init_50 : decode cX9_init 50 = .ok (.new 29, 3) := dk_187 0 29 (dk_at dksX9_init_2 4 rfl rfl)
theorem dX9_init_53 : decode cX9_init 53 = .ok (.dup, 1) := dk_89 (dk_at dksX9_init_2 7 rfl rfl)
theorem dX9_init_54 : decode cX9_init 54 = .ok (.invokespecial 31, 3) := dk_183 0 31 (dk_at dksX9_init_2 8 rfl rfl)
theorem dX9_init_57 : decode cX9_init 57 = .ok (.putfield 32, 3) := dk_181 0 32 (dk_at dksX9_init_2 11 rfl rfl)
theorem dX9_init_60 : decode cX9_init 60 = .ok (.aload_n 0, 1) := dk_42 (dk_at dksX9_init_2 14 rfl rfl)
theorem dX9_init_61 : decode cX9_init 61 = .ok (.aload_n 1, 1) := dk_43 (dk_at dksX9_init_2 15 rfl rfl)
theorem dX9_init_62 : decode cX9_init 62 = .ok (.putfield 36, 3) := dk_181 0 36 (dk_at dksX9_init_2 16 rfl rfl)
theorem dX9_init_65 : decode cX9_init 65 = .ok (.return_, 1) := dk_177 (dk_at dksX9_init_2 19 rfl rfl)
abbrev cX9_parse : ByteArray := prog_9_method_13_code
def yX9_parse : MethodName := ⟨RX9, "parse", "()Z"⟩
def dkwX9_parse_3 : List UInt8 := [172]
abbrev dktX9_parse_3 : List UInt8 := dkwX9_parse_3 ++ []
def dkwX9_parse_2 : List UInt8 := [154, 0, 7, 4, 167, 0, 4, 3, 128, 181, 0, 60, 42, 180, 0, 60, 154, 0, 7, 4, 167, 0, 4, 3]
abbrev dktX9_parse_2 : List UInt8 := dkwX9_parse_2 ++ dktX9_parse_3
def dkwX9_parse_1 : List UInt8 := [180, 0, 40, 4, 96, 181, 0, 40, 42, 182, 0, 125, 167, 255, 226, 42, 89, 180, 0, 60, 42, 182, 0, 48]
abbrev dktX9_parse_1 : List UInt8 := dkwX9_parse_1 ++ dktX9_parse_2
def dkwX9_parse_0 : List UInt8 := [42, 182, 0, 125, 42, 180, 0, 60, 154, 0, 29, 42, 16, 59, 182, 0, 64, 153, 0, 20, 42, 89]
abbrev dktX9_parse_0 : List UInt8 := dkwX9_parse_0 ++ dktX9_parse_1
theorem dksX9_parse_0 : cX9_parse.data.toList.drop 0 = dktX9_parse_0 := by decide +kernel
theorem dksX9_parse_1 : cX9_parse.data.toList.drop 22 = dktX9_parse_1 := dk_seg dksX9_parse_0 22 rfl rfl
theorem dksX9_parse_2 : cX9_parse.data.toList.drop 46 = dktX9_parse_2 := dk_seg dksX9_parse_1 24 rfl rfl
theorem dksX9_parse_3 : cX9_parse.data.toList.drop 70 = dktX9_parse_3 := dk_seg dksX9_parse_2 24 rfl rfl
theorem dX9_parse_0 : decode cX9_parse 0 = .ok (.aload_n 0, 1) := dk_42 (dk_at dksX9_parse_0 0 rfl rfl)
theorem dX9_parse_1 : decode cX9_parse 1 = .ok (.invokevirtual 125, 3) := dk_182 0 125 (dk_at dksX9_parse_0 1 rfl rfl)
theorem dX9_parse_4 : decode cX9_parse 4 = .ok (.aload_n 0, 1) := dk_42 (dk_at dksX9_parse_0 4 rfl rfl)
theorem dX9_parse_5 : decode cX9_parse 5 = .ok (.getfield 60, 3) := dk_180 0 60 (dk_at dksX9_parse_0 5 rfl rfl)
theorem dX9_parse_8 : decode cX9_parse 8 = .ok (.ifCond .ne 29, 3) := dk_154 0 29 (dk_at dksX9_parse_0 8 rfl rfl)
theorem dX9_parse_11 : decode cX9_parse 11 = .ok (.aload_n 0, 1) := dk_42 (dk_at dksX9_parse_0 11 rfl rfl)
theorem dX9_parse_12 : decode cX9_parse 12 = .ok (.bipush 59, 2) := dk_16 59 (dk_at dksX9_parse_0 12 rfl rfl)
theorem dX9_parse_14 : decode cX9_parse 14 = .ok (.invokevirtual 64, 3) := dk_182 0 64 (dk_at dksX9_parse_0 14 rfl rfl)
theorem dX9_parse_17 : decode cX9_parse 17 = .ok (.ifCond .eq 20, 3) := dk_153 0 20 (dk_at dksX9_parse_0 17 rfl rfl)
theorem dX9_parse_20 : decode cX9_parse 20 = .ok (.aload_n 0, 1) := dk_42 (dk_at dksX9_parse_0 20 rfl rfl)
theorem dX9_parse_21 : decode cX9_parse 21 = .ok (.dup, 1) := dk_89 (dk_at dksX9_parse_0 21 rfl rfl)
theorem dX9_parse_22 : decode cX9_parse 22 = .ok (.getfield 40, 3) := dk_180 0 40 (dk_at dksX9_parse_1 0 rfl rfl)
theorem dX9_parse_25 : decode cX9_parse 25 = .ok (.iconst 1, 1) := dk_4 (dk_at dksX9_parse_1 3 rfl rfl)
theorem dX9_parse_26 : decode cX9_parse 26 = .ok (.iadd, 1) := dk_96 (dk_at dksX9_parse_1 4 rfl rfl)
theorem dX9_parse_27 : decode cX9_parse 27 = .ok (.putfield 40, 3) := dk_181 0 40 (dk_at dksX9_parse_1 5 rfl rfl)
theorem dX9_parse_30 : decode cX9_parse 30 = .ok (.aload_n 0, 1) := dk_42 (dk_at dksX9_parse_1 8 rfl rfl)
theorem dX9_parse_31 : decode cX9_parse 31 = .ok (.invokevirtual 125, 3) := dk_182 0 125 (dk_at dksX9_parse_1 9 rfl rfl)
theorem dX9_parse_34 : decode cX9_parse 34 = .ok (.goto (-30), 3) := dk_167 255 226 (dk_at dksX9_parse_1 12 rfl rfl)
theorem dX9_parse_37 : decode cX9_parse 37 = .ok (.aload_n 0, 1) := dk_42 (dk_at dksX9_parse_1 15 rfl rfl)
theorem dX9_parse_38 : decode cX9_parse 38 = .ok (.dup, 1) := dk_89 (dk_at dksX9_parse_1 16 rfl rfl)
theorem dX9_parse_39 : decode cX9_parse 39 = .ok (.getfield 60, 3) := dk_180 0 60 (dk_at dksX9_parse_1 17 rfl rfl)
theorem dX9_parse_42 : decode cX9_parse 42 = .ok (.aload_n 0, 1) := dk_42 (dk_at dksX9_parse_1 20 rfl rfl)
theorem dX9_parse_43 : decode cX9_parse 43 = .ok (.invokevirtual 48, 3) := dk_182 0 48 (dk_at dksX9_parse_1 21 rfl rfl)
theorem dX9_parse_46 : decode cX9_parse 46 = .ok (.ifCond .ne 7, 3) := dk_154 0 7 (dk_at dksX9_parse_2 0 rfl rfl)
theorem dX9_parse_49 : decode cX9_parse 49 = .ok (.iconst 1, 1) := dk_4 (dk_at dksX9_parse_2 3 rfl rfl)
theorem dX9_parse_50 : decode cX9_parse 50 = .ok (.goto 4, 3) := dk_167 0 4 (dk_at dksX9_parse_2 4 rfl rfl)
theorem dX9_parse_53 : decode cX9_parse 53 = .ok (.iconst 0, 1) := dk_3 (dk_at dksX9_parse_2 7 rfl rfl)
theorem dX9_parse_54 : decode cX9_parse 54 = .ok (.ior, 1) := dk_128 (dk_at dksX9_parse_2 8 rfl rfl)
theorem dX9_parse_55 : decode cX9_parse 55 = .ok (.putfield 60, 3) := dk_181 0 60 (dk_at dksX9_parse_2 9 rfl rfl)
theorem dX9_parse_58 : decode cX9_parse 58 = .ok (.aload_n 0, 1) := dk_42 (dk_at dksX9_parse_2 12 rfl rfl)
theorem dX9_parse_59 : decode cX9_parse 59 = .ok (.getfield 60, 3) := dk_180 0 60 (dk_at dksX9_parse_2 13 rfl rfl)
theorem dX9_parse_62 : decode cX9_parse 62 = .ok (.ifCond .ne 7, 3) := dk_154 0 7 (dk_at dksX9_parse_2 16 rfl rfl)
theorem dX9_parse_65 : decode cX9_parse 65 = .ok (.iconst 1, 1) := dk_4 (dk_at dksX9_parse_2 19 rfl rfl)
theorem dX9_parse_66 : decode cX9_parse 66 = .ok (.goto 4, 3) := dk_167 0 4 (dk_at dksX9_parse_2 20 rfl rfl)
theorem dX9_parse_69 : decode cX9_parse 69 = .ok (.iconst 0, 1) := dk_3 (dk_at dksX9_parse_2 23 rfl rfl)
theorem dX9_parse_70 : decode cX9_parse 70 = .ok (.ireturn, 1) := dk_172 (dk_at dksX9_parse_3 0 rfl rfl)
abbrev cX9_parseCommand : ByteArray := prog_9_method_12_code
def yX9_parseCommand : MethodName := ⟨RX9, "parseCommand", "()V"⟩
def dkwX9_parseCommand_1 : List UInt8 := [180, 0, 60, 154, 0, 8, 42, 43, 182, 0, 121, 177]
abbrev dktX9_parseCommand_1 : List UInt8 := dkwX9_parseCommand_1 ++ []
def dkwX9_parseCommand_0 : List UInt8 := [187, 0, 88, 89, 42, 182, 0, 111, 183, 0, 115, 76, 42, 180, 0, 32, 43, 182, 0, 118, 87, 42]
abbrev dktX9_parseCommand_0 : List UInt8 := dkwX9_parseCommand_0 ++ dktX9_parseCommand_1
theorem dksX9_parseCommand_0 : cX9_parseCommand.data.toList.drop 0 = dktX9_parseCommand_0 := by decide +kernel
theorem dksX9_parseCommand_1 : cX9_parseCommand.data.toList.drop 22 = dktX9_parseCommand_1 := dk_seg dksX9_parseCommand_0 22 rfl rfl
theorem dX9_parseCommand_0 : decode cX9_parseCommand 0 = .ok (.new 88, 3) := dk_187 0 88 (dk_at dksX9_parseCommand_0 0 rfl rfl)
theorem dX9_parseCommand_3 : decode cX9_parseCommand 3 = .ok (.dup, 1) := dk_89 (dk_at dksX9_parseCommand_0 3 rfl rfl)
theorem dX9_parseCommand_4 : decode cX9_parseCommand 4 = .ok (.aload_n 0, 1) := dk_42 (dk_at dksX9_parseCommand_0 4 rfl rfl)
theorem dX9_parseCommand_5 : decode cX9_parseCommand 5 = .ok (.invokevirtual 111, 3) := dk_182 0 111 (dk_at dksX9_parseCommand_0 5 rfl rfl)
theorem dX9_parseCommand_8 : decode cX9_parseCommand 8 = .ok (.invokespecial 115, 3) := dk_183 0 115 (dk_at dksX9_parseCommand_0 8 rfl rfl)
theorem dX9_parseCommand_11 : decode cX9_parseCommand 11 = .ok (.astore_n 1, 1) := dk_76 (dk_at dksX9_parseCommand_0 11 rfl rfl)
theorem dX9_parseCommand_12 : decode cX9_parseCommand 12 = .ok (.aload_n 0, 1) := dk_42 (dk_at dksX9_parseCommand_0 12 rfl rfl)
theorem dX9_parseCommand_13 : decode cX9_parseCommand 13 = .ok (.getfield 32, 3) := dk_180 0 32 (dk_at dksX9_parseCommand_0 13 rfl rfl)
theorem dX9_parseCommand_16 : decode cX9_parseCommand 16 = .ok (.aload_n 1, 1) := dk_43 (dk_at dksX9_parseCommand_0 16 rfl rfl)
theorem dX9_parseCommand_17 : decode cX9_parseCommand 17 = .ok (.invokevirtual 118, 3) := dk_182 0 118 (dk_at dksX9_parseCommand_0 17 rfl rfl)
theorem dX9_parseCommand_20 : decode cX9_parseCommand 20 = .ok (.pop, 1) := dk_87 (dk_at dksX9_parseCommand_0 20 rfl rfl)
theorem dX9_parseCommand_21 : decode cX9_parseCommand 21 = .ok (.aload_n 0, 1) := dk_42 (dk_at dksX9_parseCommand_0 21 rfl rfl)
theorem dX9_parseCommand_22 : decode cX9_parseCommand 22 = .ok (.getfield 60, 3) := dk_180 0 60 (dk_at dksX9_parseCommand_1 0 rfl rfl)
theorem dX9_parseCommand_25 : decode cX9_parseCommand 25 = .ok (.ifCond .ne 8, 3) := dk_154 0 8 (dk_at dksX9_parseCommand_1 3 rfl rfl)
theorem dX9_parseCommand_28 : decode cX9_parseCommand 28 = .ok (.aload_n 0, 1) := dk_42 (dk_at dksX9_parseCommand_1 6 rfl rfl)
theorem dX9_parseCommand_29 : decode cX9_parseCommand 29 = .ok (.aload_n 1, 1) := dk_43 (dk_at dksX9_parseCommand_1 7 rfl rfl)
theorem dX9_parseCommand_30 : decode cX9_parseCommand 30 = .ok (.invokevirtual 121, 3) := dk_182 0 121 (dk_at dksX9_parseCommand_1 8 rfl rfl)
theorem dX9_parseCommand_33 : decode cX9_parseCommand 33 = .ok (.return_, 1) := dk_177 (dk_at dksX9_parseCommand_1 11 rfl rfl)
abbrev cX9_parseKeyword : ByteArray := prog_9_method_8_code
def yX9_parseKeyword : MethodName := ⟨RX9, "parseKeyword", "()Ljava/lang/String;"⟩
def dkwX9_parseKeyword_3 : List UInt8 := [167, 0, 4, 3, 181, 0, 60, 44, 176]
abbrev dktX9_parseKeyword_3 : List UInt8 := dkwX9_parseKeyword_3 ++ []
def dkwX9_parseKeyword_2 : List UInt8 := [180, 0, 36, 27, 42, 180, 0, 40, 182, 0, 76, 77, 42, 42, 44, 4, 182, 0, 80, 154, 0, 7, 4]
abbrev dktX9_parseKeyword_2 : List UInt8 := dkwX9_parseKeyword_2 ++ dktX9_parseKeyword_3
def dkwX9_parseKeyword_1 : List UInt8 := [182, 0, 76, 3, 182, 0, 80, 153, 0, 16, 42, 89, 180, 0, 40, 4, 96, 181, 0, 40, 167, 255, 217, 42]
abbrev dktX9_parseKeyword_1 : List UInt8 := dkwX9_parseKeyword_1 ++ dktX9_parseKeyword_2
def dkwX9_parseKeyword_0 : List UInt8 := [42, 180, 0, 40, 60, 42, 182, 0, 48, 154, 0, 38, 42, 42, 180, 0, 36, 27, 42, 180, 0, 40, 4, 96]
abbrev dktX9_parseKeyword_0 : List UInt8 := dkwX9_parseKeyword_0 ++ dktX9_parseKeyword_1
theorem dksX9_parseKeyword_0 : cX9_parseKeyword.data.toList.drop 0 = dktX9_parseKeyword_0 := by decide +kernel
theorem dksX9_parseKeyword_1 : cX9_parseKeyword.data.toList.drop 24 = dktX9_parseKeyword_1 := dk_seg dksX9_parseKeyword_0 24 rfl rfl
theorem dksX9_parseKeyword_2 : cX9_parseKeyword.data.toList.drop 48 = dktX9_parseKeyword_2 := dk_seg dksX9_parseKeyword_1 24 rfl rfl
theorem dksX9_parseKeyword_3 : cX9_parseKeyword.data.toList.drop 71 = dktX9_parseKeyword_3 := dk_seg dksX9_parseKeyword_2 23 rfl rfl
theorem dX9_parseKeyword_0 : decode cX9_parseKeyword 0 = .ok (.aload_n 0, 1) := dk_42 (dk_at dksX9_parseKeyword_0 0 rfl rfl)
theorem dX9_parseKeyword_1 : decode cX9_parseKeyword 1 = .ok (.getfield 40, 3) := dk_180 0 40 (dk_at dksX9_parseKeyword_0 1 rfl rfl)
theorem dX9_parseKeyword_4 : decode cX9_parseKeyword 4 = .ok (.istore_n 1, 1) := dk_60 (dk_at dksX9_parseKeyword_0 4 rfl rfl)
theorem dX9_parseKeyword_5 : decode cX9_parseKeyword 5 = .ok (.aload_n 0, 1) := dk_42 (dk_at dksX9_parseKeyword_0 5 rfl rfl)
theorem dX9_parseKeyword_6 : decode cX9_parseKeyword 6 = .ok (.invokevirtual 48, 3) := dk_182 0 48 (dk_at dksX9_parseKeyword_0 6 rfl rfl)
theorem dX9_parseKeyword_9 : decode cX9_parseKeyword 9 = .ok (.ifCond .ne 38, 3) := dk_154 0 38 (dk_at dksX9_parseKeyword_0 9 rfl rfl)
theorem dX9_parseKeyword_12 : decode cX9_parseKeyword 12 = .ok (.aload_n 0, 1) := dk_42 (dk_at dksX9_parseKeyword_0 12 rfl rfl)
theorem dX9_parseKeyword_13 : decode cX9_parseKeyword 13 = .ok (.aload_n 0, 1) := dk_42 (dk_at dksX9_parseKeyword_0 13 rfl rfl)
theorem dX9_parseKeyword_14 : decode cX9_parseKeyword 14 = .ok (.getfield 36, 3) := dk_180 0 36 (dk_at dksX9_parseKeyword_0 14 rfl rfl)
theorem dX9_parseKeyword_17 : decode cX9_parseKeyword 17 = .ok (.iload_n 1, 1) := dk_27 (dk_at dksX9_parseKeyword_0 17 rfl rfl)
theorem dX9_parseKeyword_18 : decode cX9_parseKeyword 18 = .ok (.aload_n 0, 1) := dk_42 (dk_at dksX9_parseKeyword_0 18 rfl rfl)
theorem dX9_parseKeyword_19 : decode cX9_parseKeyword 19 = .ok (.getfield 40, 3) := dk_180 0 40 (dk_at dksX9_parseKeyword_0 19 rfl rfl)
theorem dX9_parseKeyword_22 : decode cX9_parseKeyword 22 = .ok (.iconst 1, 1) := dk_4 (dk_at dksX9_parseKeyword_0 22 rfl rfl)
theorem dX9_parseKeyword_23 : decode cX9_parseKeyword 23 = .ok (.iadd, 1) := dk_96 (dk_at dksX9_parseKeyword_0 23 rfl rfl)
theorem dX9_parseKeyword_24 : decode cX9_parseKeyword 24 = .ok (.invokevirtual 76, 3) := dk_182 0 76 (dk_at dksX9_parseKeyword_1 0 rfl rfl)
theorem dX9_parseKeyword_27 : decode cX9_parseKeyword 27 = .ok (.iconst 0, 1) := dk_3 (dk_at dksX9_parseKeyword_1 3 rfl rfl)
theorem dX9_parseKeyword_28 : decode cX9_parseKeyword 28 = .ok (.invokevirtual 80, 3) := dk_182 0 80 (dk_at dksX9_parseKeyword_1 4 rfl rfl)
theorem dX9_parseKeyword_31 : decode cX9_parseKeyword 31 = .ok (.ifCond .eq 16, 3) := dk_153 0 16 (dk_at dksX9_parseKeyword_1 7 rfl rfl)
theorem dX9_parseKeyword_34 : decode cX9_parseKeyword 34 = .ok (.aload_n 0, 1) := dk_42 (dk_at dksX9_parseKeyword_1 10 rfl rfl)
theorem dX9_parseKeyword_35 : decode cX9_parseKeyword 35 = .ok (.dup, 1) := dk_89 (dk_at dksX9_parseKeyword_1 11 rfl rfl)
theorem dX9_parseKeyword_36 : decode cX9_parseKeyword 36 = .ok (.getfield 40, 3) := dk_180 0 40 (dk_at dksX9_parseKeyword_1 12 rfl rfl)
theorem dX9_parseKeyword_39 : decode cX9_parseKeyword 39 = .ok (.iconst 1, 1) := dk_4 (dk_at dksX9_parseKeyword_1 15 rfl rfl)
theorem dX9_parseKeyword_40 : decode cX9_parseKeyword 40 = .ok (.iadd, 1) := dk_96 (dk_at dksX9_parseKeyword_1 16 rfl rfl)
theorem dX9_parseKeyword_41 : decode cX9_parseKeyword 41 = .ok (.putfield 40, 3) := dk_181 0 40 (dk_at dksX9_parseKeyword_1 17 rfl rfl)
theorem dX9_parseKeyword_44 : decode cX9_parseKeyword 44 = .ok (.goto (-39), 3) := dk_167 255 217 (dk_at dksX9_parseKeyword_1 20 rfl rfl)
theorem dX9_parseKeyword_47 : decode cX9_parseKeyword 47 = .ok (.aload_n 0, 1) := dk_42 (dk_at dksX9_parseKeyword_1 23 rfl rfl)
theorem dX9_parseKeyword_48 : decode cX9_parseKeyword 48 = .ok (.getfield 36, 3) := dk_180 0 36 (dk_at dksX9_parseKeyword_2 0 rfl rfl)
theorem dX9_parseKeyword_51 : decode cX9_parseKeyword 51 = .ok (.iload_n 1, 1) := dk_27 (dk_at dksX9_parseKeyword_2 3 rfl rfl)
theorem dX9_parseKeyword_52 : decode cX9_parseKeyword 52 = .ok (.aload_n 0, 1) := dk_42 (dk_at dksX9_parseKeyword_2 4 rfl rfl)
theorem dX9_parseKeyword_53 : decode cX9_parseKeyword 53 = .ok (.getfield 40, 3) := dk_180 0 40 (dk_at dksX9_parseKeyword_2 5 rfl rfl)
theorem dX9_parseKeyword_56 : decode cX9_parseKeyword 56 = .ok (.invokevirtual 76, 3) := dk_182 0 76 (dk_at dksX9_parseKeyword_2 8 rfl rfl)
theorem dX9_parseKeyword_59 : decode cX9_parseKeyword 59 = .ok (.astore_n 2, 1) := dk_77 (dk_at dksX9_parseKeyword_2 11 rfl rfl)
theorem dX9_parseKeyword_60 : decode cX9_parseKeyword 60 = .ok (.aload_n 0, 1) := dk_42 (dk_at dksX9_parseKeyword_2 12 rfl rfl)
theorem dX9_parseKeyword_61 : decode cX9_parseKeyword 61 = .ok (.aload_n 0, 1) := dk_42 (dk_at dksX9_parseKeyword_2 13 rfl rfl)
theorem dX9_parseKeyword_62 : decode cX9_parseKeyword 62 = .ok (.aload_n 2, 1) := dk_44 (dk_at dksX9_parseKeyword_2 14 rfl rfl)
theorem dX9_parseKeyword_63 : decode cX9_parseKeyword 63 = .ok (.iconst 1, 1) := dk_4 (dk_at dksX9_parseKeyword_2 15 rfl rfl)
theorem dX9_parseKeyword_64 : decode cX9_parseKeyword 64 = .ok (.invokevirtual 80, 3) := dk_182 0 80 (dk_at dksX9_parseKeyword_2 16 rfl rfl)
theorem dX9_parseKeyword_67 : decode cX9_parseKeyword 67 = .ok (.ifCond .ne 7, 3) := dk_154 0 7 (dk_at dksX9_parseKeyword_2 19 rfl rfl)
theorem dX9_parseKeyword_70 : decode cX9_parseKeyword 70 = .ok (.iconst 1, 1) := dk_4 (dk_at dksX9_parseKeyword_2 22 rfl rfl)
theorem dX9_parseKeyword_71 : decode cX9_parseKeyword 71 = .ok (.goto 4, 3) := dk_167 0 4 (dk_at dksX9_parseKeyword_3 0 rfl rfl)
theorem dX9_parseKeyword_74 : decode cX9_parseKeyword 74 = .ok (.iconst 0, 1) := dk_3 (dk_at dksX9_parseKeyword_3 3 rfl rfl)
theorem dX9_parseKeyword_75 : decode cX9_parseKeyword 75 = .ok (.putfield 60, 3) := dk_181 0 60 (dk_at dksX9_parseKeyword_3 4 rfl rfl)
theorem dX9_parseKeyword_78 : decode cX9_parseKeyword 78 = .ok (.aload_n 2, 1) := dk_44 (dk_at dksX9_parseKeyword_3 7 rfl rfl)
theorem dX9_parseKeyword_79 : decode cX9_parseKeyword 79 = .ok (.areturn, 1) := dk_176 (dk_at dksX9_parseKeyword_3 8 rfl rfl)
abbrev cX9_isAtEnd : ByteArray := prog_9_method_2_code
def yX9_isAtEnd : MethodName := ⟨RX9, "isAtEnd", "()Z"⟩
def dkwX9_isAtEnd_0 : List UInt8 := [42, 180, 0, 40, 42, 180, 0, 36, 182, 0, 44, 160, 0, 7, 4, 167, 0, 4, 3, 172]
abbrev dktX9_isAtEnd_0 : List UInt8 := dkwX9_isAtEnd_0 ++ []
theorem dksX9_isAtEnd_0 : cX9_isAtEnd.data.toList.drop 0 = dktX9_isAtEnd_0 := by decide +kernel
theorem dX9_isAtEnd_0 : decode cX9_isAtEnd 0 = .ok (.aload_n 0, 1) := dk_42 (dk_at dksX9_isAtEnd_0 0 rfl rfl)
theorem dX9_isAtEnd_1 : decode cX9_isAtEnd 1 = .ok (.getfield 40, 3) := dk_180 0 40 (dk_at dksX9_isAtEnd_0 1 rfl rfl)
theorem dX9_isAtEnd_4 : decode cX9_isAtEnd 4 = .ok (.aload_n 0, 1) := dk_42 (dk_at dksX9_isAtEnd_0 4 rfl rfl)
theorem dX9_isAtEnd_5 : decode cX9_isAtEnd 5 = .ok (.getfield 36, 3) := dk_180 0 36 (dk_at dksX9_isAtEnd_0 5 rfl rfl)
theorem dX9_isAtEnd_8 : decode cX9_isAtEnd 8 = .ok (.invokevirtual 44, 3) := dk_182 0 44 (dk_at dksX9_isAtEnd_0 8 rfl rfl)
theorem dX9_isAtEnd_11 : decode cX9_isAtEnd 11 = .ok (.if_icmp .ne 7, 3) := dk_160 0 7 (dk_at dksX9_isAtEnd_0 11 rfl rfl)
theorem dX9_isAtEnd_14 : decode cX9_isAtEnd 14 = .ok (.iconst 1, 1) := dk_4 (dk_at dksX9_isAtEnd_0 14 rfl rfl)
theorem dX9_isAtEnd_15 : decode cX9_isAtEnd 15 = .ok (.goto 4, 3) := dk_167 0 4 (dk_at dksX9_isAtEnd_0 15 rfl rfl)
theorem dX9_isAtEnd_18 : decode cX9_isAtEnd 18 = .ok (.iconst 0, 1) := dk_3 (dk_at dksX9_isAtEnd_0 18 rfl rfl)
theorem dX9_isAtEnd_19 : decode cX9_isAtEnd 19 = .ok (.ireturn, 1) := dk_172 (dk_at dksX9_isAtEnd_0 19 rfl rfl)
abbrev cX9_isKeyword : ByteArray := prog_9_method_7_code
def yX9_isKeyword : MethodName := ⟨RX9, "isKeyword", "(Ljava/lang/String;Z)Z"⟩
def dkwX9_isKeyword_2 : List UInt8 := [153, 0, 5, 4, 172, 132, 5, 1, 167, 255, 213, 3, 172]
abbrev dktX9_isKeyword_2 : List UInt8 := dkwX9_isKeyword_2 ++ []
def dkwX9_isKeyword_1 : List UInt8 := [58, 6, 28, 153, 0, 15, 25, 6, 43, 182, 0, 68, 153, 0, 17, 167, 0, 12, 25, 6, 43, 184, 0, 72]
abbrev dktX9_isKeyword_1 : List UInt8 := dkwX9_isKeyword_1 ++ dktX9_isKeyword_2
def dkwX9_isKeyword_0 : List UInt8 := [42, 180, 0, 23, 78, 45, 190, 54, 4, 3, 54, 5, 21, 5, 21, 4, 162, 0, 42, 45, 21, 5, 50]
abbrev dktX9_isKeyword_0 : List UInt8 := dkwX9_isKeyword_0 ++ dktX9_isKeyword_1
theorem dksX9_isKeyword_0 : cX9_isKeyword.data.toList.drop 0 = dktX9_isKeyword_0 := by decide +kernel
theorem dksX9_isKeyword_1 : cX9_isKeyword.data.toList.drop 23 = dktX9_isKeyword_1 := dk_seg dksX9_isKeyword_0 23 rfl rfl
theorem dksX9_isKeyword_2 : cX9_isKeyword.data.toList.drop 47 = dktX9_isKeyword_2 := dk_seg dksX9_isKeyword_1 24 rfl rfl
theorem dX9_isKeyword_0 : decode cX9_isKeyword 0 = .ok (.aload_n 0, 1) := dk_42 (dk_at dksX9_isKeyword_0 0 rfl rfl)
theorem dX9_isKeyword_1 : decode cX9_isKeyword 1 = .ok (.getfield 23, 3) := dk_180 0 23 (dk_at dksX9_isKeyword_0 1 rfl rfl)
theorem dX9_isKeyword_4 : decode cX9_isKeyword 4 = .ok (.astore_n 3, 1) := dk_78 (dk_at dksX9_isKeyword_0 4 rfl rfl)
theorem dX9_isKeyword_5 : decode cX9_isKeyword 5 = .ok (.aload_n 3, 1) := dk_45 (dk_at dksX9_isKeyword_0 5 rfl rfl)
theorem dX9_isKeyword_6 : decode cX9_isKeyword 6 = .ok (.arraylength, 1) := dk_190 (dk_at dksX9_isKeyword_0 6 rfl rfl)
theorem dX9_isKeyword_7 : decode cX9_isKeyword 7 = .ok (.istore 4, 2) := dk_54 4 (dk_at dksX9_isKeyword_0 7 rfl rfl)
theorem dX9_isKeyword_9 : decode cX9_isKeyword 9 = .ok (.iconst 0, 1) := dk_3 (dk_at dksX9_isKeyword_0 9 rfl rfl)
theorem dX9_isKeyword_10 : decode cX9_isKeyword 10 = .ok (.istore 5, 2) := dk_54 5 (dk_at dksX9_isKeyword_0 10 rfl rfl)
theorem dX9_isKeyword_12 : decode cX9_isKeyword 12 = .ok (.iload 5, 2) := dk_21 5 (dk_at dksX9_isKeyword_0 12 rfl rfl)
theorem dX9_isKeyword_14 : decode cX9_isKeyword 14 = .ok (.iload 4, 2) := dk_21 4 (dk_at dksX9_isKeyword_0 14 rfl rfl)
theorem dX9_isKeyword_16 : decode cX9_isKeyword 16 = .ok (.if_icmp .ge 42, 3) := dk_162 0 42 (dk_at dksX9_isKeyword_0 16 rfl rfl)
theorem dX9_isKeyword_19 : decode cX9_isKeyword 19 = .ok (.aload_n 3, 1) := dk_45 (dk_at dksX9_isKeyword_0 19 rfl rfl)
theorem dX9_isKeyword_20 : decode cX9_isKeyword 20 = .ok (.iload 5, 2) := dk_21 5 (dk_at dksX9_isKeyword_0 20 rfl rfl)
theorem dX9_isKeyword_22 : decode cX9_isKeyword 22 = .ok (.aaload, 1) := dk_50 (dk_at dksX9_isKeyword_0 22 rfl rfl)
theorem dX9_isKeyword_23 : decode cX9_isKeyword 23 = .ok (.astore 6, 2) := dk_58 6 (dk_at dksX9_isKeyword_1 0 rfl rfl)
theorem dX9_isKeyword_25 : decode cX9_isKeyword 25 = .ok (.iload_n 2, 1) := dk_28 (dk_at dksX9_isKeyword_1 2 rfl rfl)
theorem dX9_isKeyword_26 : decode cX9_isKeyword 26 = .ok (.ifCond .eq 15, 3) := dk_153 0 15 (dk_at dksX9_isKeyword_1 3 rfl rfl)
theorem dX9_isKeyword_29 : decode cX9_isKeyword 29 = .ok (.aload 6, 2) := dk_25 6 (dk_at dksX9_isKeyword_1 6 rfl rfl)
theorem dX9_isKeyword_31 : decode cX9_isKeyword 31 = .ok (.aload_n 1, 1) := dk_43 (dk_at dksX9_isKeyword_1 8 rfl rfl)
theorem dX9_isKeyword_32 : decode cX9_isKeyword 32 = .ok (.invokevirtual 68, 3) := dk_182 0 68 (dk_at dksX9_isKeyword_1 9 rfl rfl)
theorem dX9_isKeyword_35 : decode cX9_isKeyword 35 = .ok (.ifCond .eq 17, 3) := dk_153 0 17 (dk_at dksX9_isKeyword_1 12 rfl rfl)
theorem dX9_isKeyword_38 : decode cX9_isKeyword 38 = .ok (.goto 12, 3) := dk_167 0 12 (dk_at dksX9_isKeyword_1 15 rfl rfl)
theorem dX9_isKeyword_41 : decode cX9_isKeyword 41 = .ok (.aload 6, 2) := dk_25 6 (dk_at dksX9_isKeyword_1 18 rfl rfl)
theorem dX9_isKeyword_43 : decode cX9_isKeyword 43 = .ok (.aload_n 1, 1) := dk_43 (dk_at dksX9_isKeyword_1 20 rfl rfl)
theorem dX9_isKeyword_44 : decode cX9_isKeyword 44 = .ok (.invokestatic 72, 3) := dk_184 0 72 (dk_at dksX9_isKeyword_1 21 rfl rfl)
theorem dX9_isKeyword_47 : decode cX9_isKeyword 47 = .ok (.ifCond .eq 5, 3) := dk_153 0 5 (dk_at dksX9_isKeyword_2 0 rfl rfl)
theorem dX9_isKeyword_50 : decode cX9_isKeyword 50 = .ok (.iconst 1, 1) := dk_4 (dk_at dksX9_isKeyword_2 3 rfl rfl)
theorem dX9_isKeyword_51 : decode cX9_isKeyword 51 = .ok (.ireturn, 1) := dk_172 (dk_at dksX9_isKeyword_2 4 rfl rfl)
theorem dX9_isKeyword_52 : decode cX9_isKeyword 52 = .ok (.iinc 5 1, 3) := dk_132 5 1 (dk_at dksX9_isKeyword_2 5 rfl rfl)
theorem dX9_isKeyword_55 : decode cX9_isKeyword 55 = .ok (.goto (-43), 3) := dk_167 255 213 (dk_at dksX9_isKeyword_2 8 rfl rfl)
theorem dX9_isKeyword_58 : decode cX9_isKeyword 58 = .ok (.iconst 0, 1) := dk_3 (dk_at dksX9_isKeyword_2 11 rfl rfl)
theorem dX9_isKeyword_59 : decode cX9_isKeyword 59 = .ok (.ireturn, 1) := dk_172 (dk_at dksX9_isKeyword_2 12 rfl rfl)
abbrev cX9_hasPrefix : ByteArray := prog_9_method_6_code
def yX9_hasPrefix : MethodName := ⟨RX9, "hasPrefix", "(Ljava/lang/String;Ljava/lang/String;)Z"⟩
def dkwX9_hasPrefix_2 : List UInt8 := [3, 61, 132, 3, 1, 167, 255, 222, 28, 172]
abbrev dktX9_hasPrefix_2 : List UInt8 := dkwX9_hasPrefix_2 ++ []
def dkwX9_hasPrefix_1 : List UInt8 := [43, 182, 0, 44, 162, 0, 28, 42, 29, 182, 0, 52, 43, 29, 182, 0, 52, 160, 0, 7, 4, 167, 0, 4]
abbrev dktX9_hasPrefix_1 : List UInt8 := dkwX9_hasPrefix_1 ++ dktX9_hasPrefix_2
def dkwX9_hasPrefix_0 : List UInt8 := [43, 182, 0, 44, 42, 182, 0, 44, 163, 0, 7, 4, 167, 0, 4, 3, 61, 3, 62, 28, 153, 0, 36, 29]
abbrev dktX9_hasPrefix_0 : List UInt8 := dkwX9_hasPrefix_0 ++ dktX9_hasPrefix_1
theorem dksX9_hasPrefix_0 : cX9_hasPrefix.data.toList.drop 0 = dktX9_hasPrefix_0 := by decide +kernel
theorem dksX9_hasPrefix_1 : cX9_hasPrefix.data.toList.drop 24 = dktX9_hasPrefix_1 := dk_seg dksX9_hasPrefix_0 24 rfl rfl
theorem dksX9_hasPrefix_2 : cX9_hasPrefix.data.toList.drop 48 = dktX9_hasPrefix_2 := dk_seg dksX9_hasPrefix_1 24 rfl rfl
theorem dX9_hasPrefix_0 : decode cX9_hasPrefix 0 = .ok (.aload_n 1, 1) := dk_43 (dk_at dksX9_hasPrefix_0 0 rfl rfl)
theorem dX9_hasPrefix_1 : decode cX9_hasPrefix 1 = .ok (.invokevirtual 44, 3) := dk_182 0 44 (dk_at dksX9_hasPrefix_0 1 rfl rfl)
theorem dX9_hasPrefix_4 : decode cX9_hasPrefix 4 = .ok (.aload_n 0, 1) := dk_42 (dk_at dksX9_hasPrefix_0 4 rfl rfl)
theorem dX9_hasPrefix_5 : decode cX9_hasPrefix 5 = .ok (.invokevirtual 44, 3) := dk_182 0 44 (dk_at dksX9_hasPrefix_0 5 rfl rfl)
theorem dX9_hasPrefix_8 : decode cX9_hasPrefix 8 = .ok (.if_icmp .gt 7, 3) := dk_163 0 7 (dk_at dksX9_hasPrefix_0 8 rfl rfl)
theorem dX9_hasPrefix_11 : decode cX9_hasPrefix 11 = .ok (.iconst 1, 1) := dk_4 (dk_at dksX9_hasPrefix_0 11 rfl rfl)
theorem dX9_hasPrefix_12 : decode cX9_hasPrefix 12 = .ok (.goto 4, 3) := dk_167 0 4 (dk_at dksX9_hasPrefix_0 12 rfl rfl)
theorem dX9_hasPrefix_15 : decode cX9_hasPrefix 15 = .ok (.iconst 0, 1) := dk_3 (dk_at dksX9_hasPrefix_0 15 rfl rfl)
theorem dX9_hasPrefix_16 : decode cX9_hasPrefix 16 = .ok (.istore_n 2, 1) := dk_61 (dk_at dksX9_hasPrefix_0 16 rfl rfl)
theorem dX9_hasPrefix_17 : decode cX9_hasPrefix 17 = .ok (.iconst 0, 1) := dk_3 (dk_at dksX9_hasPrefix_0 17 rfl rfl)
theorem dX9_hasPrefix_18 : decode cX9_hasPrefix 18 = .ok (.istore_n 3, 1) := dk_62 (dk_at dksX9_hasPrefix_0 18 rfl rfl)
theorem dX9_hasPrefix_19 : decode cX9_hasPrefix 19 = .ok (.iload_n 2, 1) := dk_28 (dk_at dksX9_hasPrefix_0 19 rfl rfl)
theorem dX9_hasPrefix_20 : decode cX9_hasPrefix 20 = .ok (.ifCond .eq 36, 3) := dk_153 0 36 (dk_at dksX9_hasPrefix_0 20 rfl rfl)
theorem dX9_hasPrefix_23 : decode cX9_hasPrefix 23 = .ok (.iload_n 3, 1) := dk_29 (dk_at dksX9_hasPrefix_0 23 rfl rfl)
theorem dX9_hasPrefix_24 : decode cX9_hasPrefix 24 = .ok (.aload_n 1, 1) := dk_43 (dk_at dksX9_hasPrefix_1 0 rfl rfl)
theorem dX9_hasPrefix_25 : decode cX9_hasPrefix 25 = .ok (.invokevirtual 44, 3) := dk_182 0 44 (dk_at dksX9_hasPrefix_1 1 rfl rfl)
theorem dX9_hasPrefix_28 : decode cX9_hasPrefix 28 = .ok (.if_icmp .ge 28, 3) := dk_162 0 28 (dk_at dksX9_hasPrefix_1 4 rfl rfl)
theorem dX9_hasPrefix_31 : decode cX9_hasPrefix 31 = .ok (.aload_n 0, 1) := dk_42 (dk_at dksX9_hasPrefix_1 7 rfl rfl)
theorem dX9_hasPrefix_32 : decode cX9_hasPrefix 32 = .ok (.iload_n 3, 1) := dk_29 (dk_at dksX9_hasPrefix_1 8 rfl rfl)
theorem dX9_hasPrefix_33 : decode cX9_hasPrefix 33 = .ok (.invokevirtual 52, 3) := dk_182 0 52 (dk_at dksX9_hasPrefix_1 9 rfl rfl)
theorem dX9_hasPrefix_36 : decode cX9_hasPrefix 36 = .ok (.aload_n 1, 1) := dk_43 (dk_at dksX9_hasPrefix_1 12 rfl rfl)
theorem dX9_hasPrefix_37 : decode cX9_hasPrefix 37 = .ok (.iload_n 3, 1) := dk_29 (dk_at dksX9_hasPrefix_1 13 rfl rfl)
theorem dX9_hasPrefix_38 : decode cX9_hasPrefix 38 = .ok (.invokevirtual 52, 3) := dk_182 0 52 (dk_at dksX9_hasPrefix_1 14 rfl rfl)
theorem dX9_hasPrefix_41 : decode cX9_hasPrefix 41 = .ok (.if_icmp .ne 7, 3) := dk_160 0 7 (dk_at dksX9_hasPrefix_1 17 rfl rfl)
theorem dX9_hasPrefix_44 : decode cX9_hasPrefix 44 = .ok (.iconst 1, 1) := dk_4 (dk_at dksX9_hasPrefix_1 20 rfl rfl)
theorem dX9_hasPrefix_45 : decode cX9_hasPrefix 45 = .ok (.goto 4, 3) := dk_167 0 4 (dk_at dksX9_hasPrefix_1 21 rfl rfl)
theorem dX9_hasPrefix_48 : decode cX9_hasPrefix 48 = .ok (.iconst 0, 1) := dk_3 (dk_at dksX9_hasPrefix_2 0 rfl rfl)
theorem dX9_hasPrefix_49 : decode cX9_hasPrefix 49 = .ok (.istore_n 2, 1) := dk_61 (dk_at dksX9_hasPrefix_2 1 rfl rfl)
theorem dX9_hasPrefix_50 : decode cX9_hasPrefix 50 = .ok (.iinc 3 1, 3) := dk_132 3 1 (dk_at dksX9_hasPrefix_2 2 rfl rfl)
theorem dX9_hasPrefix_53 : decode cX9_hasPrefix 53 = .ok (.goto (-34), 3) := dk_167 255 222 (dk_at dksX9_hasPrefix_2 5 rfl rfl)
theorem dX9_hasPrefix_56 : decode cX9_hasPrefix 56 = .ok (.iload_n 2, 1) := dk_28 (dk_at dksX9_hasPrefix_2 8 rfl rfl)
theorem dX9_hasPrefix_57 : decode cX9_hasPrefix 57 = .ok (.ireturn, 1) := dk_172 (dk_at dksX9_hasPrefix_2 9 rfl rfl)
abbrev cX9_parseArguments : ByteArray := prog_9_method_11_code
def yX9_parseArguments : MethodName := ⟨RX9, "parseArguments", "(LFortPlanner$Command;)V"⟩
def dkwX9_parseArguments_7 : List UInt8 := [167, 0, 14, 43, 42, 182, 0, 103, 181, 0, 107, 167, 0, 3, 177]
abbrev dktX9_parseArguments_7 : List UInt8 := dkwX9_parseArguments_7 ++ []
def dkwX9_parseArguments_6 : List UInt8 := [43, 180, 0, 87, 4, 42, 4, 182, 0, 93, 79, 43, 180, 0, 87, 5, 42, 4, 182, 0, 93, 79]
abbrev dktX9_parseArguments_6 : List UInt8 := dkwX9_parseArguments_6 ++ dktX9_parseArguments_7
def dkwX9_parseArguments_5 : List UInt8 := [170, 0, 0, 0, 0, 66, 0, 0, 0, 0, 0, 0, 0, 3, 0, 0, 0, 30, 0, 0, 0, 30, 0, 0, 0, 30, 0, 0, 0, 55]
abbrev dktX9_parseArguments_5 : List UInt8 := dkwX9_parseArguments_5 ++ dktX9_parseArguments_6
def dkwX9_parseArguments_4 : List UInt8 := [153, 0, 5, 6, 62, 29]
abbrev dktX9_parseArguments_4 : List UInt8 := dkwX9_parseArguments_4 ++ dktX9_parseArguments_5
def dkwX9_parseArguments_3 : List UInt8 := [62, 167, 0, 28, 44, 18, 13, 182, 0, 68, 153, 0, 19, 5, 62, 167, 0, 14, 44, 18, 17, 182, 0, 68]
abbrev dktX9_parseArguments_3 : List UInt8 := dkwX9_parseArguments_3 ++ dktX9_parseArguments_4
def dkwX9_parseArguments_2 : List UInt8 := [44, 18, 9, 182, 0, 68, 153, 0, 47, 3, 62, 167, 0, 42, 44, 18, 11, 182, 0, 68, 153, 0, 33, 4]
abbrev dktX9_parseArguments_2 : List UInt8 := dkwX9_parseArguments_2 ++ dktX9_parseArguments_3
def dkwX9_parseArguments_1 : List UInt8 := [171, 0, 0, 0, 0, 95, 0, 0, 0, 4, 0, 1, 124, 8, 0, 0, 0, 70, 0, 48, 10, 181, 0, 0, 0, 42, 0, 57, 35, 172, 0, 0, 0, 84, 5, 152, 238, 230, 0, 0, 0, 56]
abbrev dktX9_parseArguments_1 : List UInt8 := dkwX9_parseArguments_1 ++ dktX9_parseArguments_2
def dkwX9_parseArguments_0 : List UInt8 := [43, 180, 0, 87, 3, 42, 5, 182, 0, 93, 79, 43, 180, 0, 97, 77, 2, 62, 44, 182, 0, 100]
abbrev dktX9_parseArguments_0 : List UInt8 := dkwX9_parseArguments_0 ++ dktX9_parseArguments_1
theorem dksX9_parseArguments_0 : cX9_parseArguments.data.toList.drop 0 = dktX9_parseArguments_0 := by decide +kernel
theorem dksX9_parseArguments_1 : cX9_parseArguments.data.toList.drop 22 = dktX9_parseArguments_1 := dk_seg dksX9_parseArguments_0 22 rfl rfl
theorem dksX9_parseArguments_2 : cX9_parseArguments.data.toList.drop 64 = dktX9_parseArguments_2 := dk_seg dksX9_parseArguments_1 42 rfl rfl
theorem dksX9_parseArguments_3 : cX9_parseArguments.data.toList.drop 88 = dktX9_parseArguments_3 := dk_seg dksX9_parseArguments_2 24 rfl rfl
theorem dksX9_parseArguments_4 : cX9_parseArguments.data.toList.drop 112 = dktX9_parseArguments_4 := dk_seg dksX9_parseArguments_3 24 rfl rfl
theorem dksX9_parseArguments_5 : cX9_parseArguments.data.toList.drop 118 = dktX9_parseArguments_5 := dk_seg dksX9_parseArguments_4 6 rfl rfl
theorem dksX9_parseArguments_6 : cX9_parseArguments.data.toList.drop 148 = dktX9_parseArguments_6 := dk_seg dksX9_parseArguments_5 30 rfl rfl
theorem dksX9_parseArguments_7 : cX9_parseArguments.data.toList.drop 170 = dktX9_parseArguments_7 := dk_seg dksX9_parseArguments_6 22 rfl rfl
theorem dX9_parseArguments_0 : decode cX9_parseArguments 0 = .ok (.aload_n 1, 1) := dk_43 (dk_at dksX9_parseArguments_0 0 rfl rfl)
theorem dX9_parseArguments_1 : decode cX9_parseArguments 1 = .ok (.getfield 87, 3) := dk_180 0 87 (dk_at dksX9_parseArguments_0 1 rfl rfl)
theorem dX9_parseArguments_4 : decode cX9_parseArguments 4 = .ok (.iconst 0, 1) := dk_3 (dk_at dksX9_parseArguments_0 4 rfl rfl)
theorem dX9_parseArguments_5 : decode cX9_parseArguments 5 = .ok (.aload_n 0, 1) := dk_42 (dk_at dksX9_parseArguments_0 5 rfl rfl)
theorem dX9_parseArguments_6 : decode cX9_parseArguments 6 = .ok (.iconst 2, 1) := dk_5 (dk_at dksX9_parseArguments_0 6 rfl rfl)
theorem dX9_parseArguments_7 : decode cX9_parseArguments 7 = .ok (.invokevirtual 93, 3) := dk_182 0 93 (dk_at dksX9_parseArguments_0 7 rfl rfl)
theorem dX9_parseArguments_10 : decode cX9_parseArguments 10 = .ok (.iastore, 1) := dk_79 (dk_at dksX9_parseArguments_0 10 rfl rfl)
theorem dX9_parseArguments_11 : decode cX9_parseArguments 11 = .ok (.aload_n 1, 1) := dk_43 (dk_at dksX9_parseArguments_0 11 rfl rfl)
theorem dX9_parseArguments_12 : decode cX9_parseArguments 12 = .ok (.getfield 97, 3) := dk_180 0 97 (dk_at dksX9_parseArguments_0 12 rfl rfl)
theorem dX9_parseArguments_15 : decode cX9_parseArguments 15 = .ok (.astore_n 2, 1) := dk_77 (dk_at dksX9_parseArguments_0 15 rfl rfl)
theorem dX9_parseArguments_16 : decode cX9_parseArguments 16 = .ok (.iconst (-1), 1) := dk_2 (dk_at dksX9_parseArguments_0 16 rfl rfl)
theorem dX9_parseArguments_17 : decode cX9_parseArguments 17 = .ok (.istore_n 3, 1) := dk_62 (dk_at dksX9_parseArguments_0 17 rfl rfl)
theorem dX9_parseArguments_18 : decode cX9_parseArguments 18 = .ok (.aload_n 2, 1) := dk_44 (dk_at dksX9_parseArguments_0 18 rfl rfl)
theorem dX9_parseArguments_19 : decode cX9_parseArguments 19 = .ok (.invokevirtual 100, 3) := dk_182 0 100 (dk_at dksX9_parseArguments_0 19 rfl rfl)
theorem dX9_parseArguments_22 : decode cX9_parseArguments 22 = .ok (.lookupswitch 95 #[(97288, 70), (3148469, 42), (3744684, 84), (93908710, 56)], 42) := by decide +kernel
theorem dX9_parseArguments_64 : decode cX9_parseArguments 64 = .ok (.aload_n 2, 1) := dk_44 (dk_at dksX9_parseArguments_2 0 rfl rfl)
theorem dX9_parseArguments_65 : decode cX9_parseArguments 65 = .ok (.ldc 9, 2) := dk_18 9 (dk_at dksX9_parseArguments_2 1 rfl rfl)
theorem dX9_parseArguments_67 : decode cX9_parseArguments 67 = .ok (.invokevirtual 68, 3) := dk_182 0 68 (dk_at dksX9_parseArguments_2 3 rfl rfl)
theorem dX9_parseArguments_70 : decode cX9_parseArguments 70 = .ok (.ifCond .eq 47, 3) := dk_153 0 47 (dk_at dksX9_parseArguments_2 6 rfl rfl)
theorem dX9_parseArguments_73 : decode cX9_parseArguments 73 = .ok (.iconst 0, 1) := dk_3 (dk_at dksX9_parseArguments_2 9 rfl rfl)
theorem dX9_parseArguments_74 : decode cX9_parseArguments 74 = .ok (.istore_n 3, 1) := dk_62 (dk_at dksX9_parseArguments_2 10 rfl rfl)
theorem dX9_parseArguments_75 : decode cX9_parseArguments 75 = .ok (.goto 42, 3) := dk_167 0 42 (dk_at dksX9_parseArguments_2 11 rfl rfl)
theorem dX9_parseArguments_78 : decode cX9_parseArguments 78 = .ok (.aload_n 2, 1) := dk_44 (dk_at dksX9_parseArguments_2 14 rfl rfl)
theorem dX9_parseArguments_79 : decode cX9_parseArguments 79 = .ok (.ldc 11, 2) := dk_18 11 (dk_at dksX9_parseArguments_2 15 rfl rfl)
theorem dX9_parseArguments_81 : decode cX9_parseArguments 81 = .ok (.invokevirtual 68, 3) := dk_182 0 68 (dk_at dksX9_parseArguments_2 17 rfl rfl)
theorem dX9_parseArguments_84 : decode cX9_parseArguments 84 = .ok (.ifCond .eq 33, 3) := dk_153 0 33 (dk_at dksX9_parseArguments_2 20 rfl rfl)
theorem dX9_parseArguments_87 : decode cX9_parseArguments 87 = .ok (.iconst 1, 1) := dk_4 (dk_at dksX9_parseArguments_2 23 rfl rfl)
theorem dX9_parseArguments_88 : decode cX9_parseArguments 88 = .ok (.istore_n 3, 1) := dk_62 (dk_at dksX9_parseArguments_3 0 rfl rfl)
theorem dX9_parseArguments_89 : decode cX9_parseArguments 89 = .ok (.goto 28, 3) := dk_167 0 28 (dk_at dksX9_parseArguments_3 1 rfl rfl)
theorem dX9_parseArguments_92 : decode cX9_parseArguments 92 = .ok (.aload_n 2, 1) := dk_44 (dk_at dksX9_parseArguments_3 4 rfl rfl)
theorem dX9_parseArguments_93 : decode cX9_parseArguments 93 = .ok (.ldc 13, 2) := dk_18 13 (dk_at dksX9_parseArguments_3 5 rfl rfl)
theorem dX9_parseArguments_95 : decode cX9_parseArguments 95 = .ok (.invokevirtual 68, 3) := dk_182 0 68 (dk_at dksX9_parseArguments_3 7 rfl rfl)
theorem dX9_parseArguments_98 : decode cX9_parseArguments 98 = .ok (.ifCond .eq 19, 3) := dk_153 0 19 (dk_at dksX9_parseArguments_3 10 rfl rfl)
theorem dX9_parseArguments_101 : decode cX9_parseArguments 101 = .ok (.iconst 2, 1) := dk_5 (dk_at dksX9_parseArguments_3 13 rfl rfl)
theorem dX9_parseArguments_102 : decode cX9_parseArguments 102 = .ok (.istore_n 3, 1) := dk_62 (dk_at dksX9_parseArguments_3 14 rfl rfl)
theorem dX9_parseArguments_103 : decode cX9_parseArguments 103 = .ok (.goto 14, 3) := dk_167 0 14 (dk_at dksX9_parseArguments_3 15 rfl rfl)
theorem dX9_parseArguments_106 : decode cX9_parseArguments 106 = .ok (.aload_n 2, 1) := dk_44 (dk_at dksX9_parseArguments_3 18 rfl rfl)
theorem dX9_parseArguments_107 : decode cX9_parseArguments 107 = .ok (.ldc 17, 2) := dk_18 17 (dk_at dksX9_parseArguments_3 19 rfl rfl)
theorem dX9_parseArguments_109 : decode cX9_parseArguments 109 = .ok (.invokevirtual 68, 3) := dk_182 0 68 (dk_at dksX9_parseArguments_3 21 rfl rfl)
theorem dX9_parseArguments_112 : decode cX9_parseArguments 112 = .ok (.ifCond .eq 5, 3) := dk_153 0 5 (dk_at dksX9_parseArguments_4 0 rfl rfl)
theorem dX9_parseArguments_115 : decode cX9_parseArguments 115 = .ok (.iconst 3, 1) := dk_6 (dk_at dksX9_parseArguments_4 3 rfl rfl)
theorem dX9_parseArguments_116 : decode cX9_parseArguments 116 = .ok (.istore_n 3, 1) := dk_62 (dk_at dksX9_parseArguments_4 4 rfl rfl)
theorem dX9_parseArguments_117 : decode cX9_parseArguments 117 = .ok (.iload_n 3, 1) := dk_29 (dk_at dksX9_parseArguments_4 5 rfl rfl)
theorem dX9_parseArguments_118 : decode cX9_parseArguments 118 = .ok (.tableswitch 66 0 3 #[30, 30, 30, 55], 30) := by decide +kernel
theorem dX9_parseArguments_148 : decode cX9_parseArguments 148 = .ok (.aload_n 1, 1) := dk_43 (dk_at dksX9_parseArguments_6 0 rfl rfl)
theorem dX9_parseArguments_149 : decode cX9_parseArguments 149 = .ok (.getfield 87, 3) := dk_180 0 87 (dk_at dksX9_parseArguments_6 1 rfl rfl)
theorem dX9_parseArguments_152 : decode cX9_parseArguments 152 = .ok (.iconst 1, 1) := dk_4 (dk_at dksX9_parseArguments_6 4 rfl rfl)
theorem dX9_parseArguments_153 : decode cX9_parseArguments 153 = .ok (.aload_n 0, 1) := dk_42 (dk_at dksX9_parseArguments_6 5 rfl rfl)
theorem dX9_parseArguments_154 : decode cX9_parseArguments 154 = .ok (.iconst 1, 1) := dk_4 (dk_at dksX9_parseArguments_6 6 rfl rfl)
theorem dX9_parseArguments_155 : decode cX9_parseArguments 155 = .ok (.invokevirtual 93, 3) := dk_182 0 93 (dk_at dksX9_parseArguments_6 7 rfl rfl)
theorem dX9_parseArguments_158 : decode cX9_parseArguments 158 = .ok (.iastore, 1) := dk_79 (dk_at dksX9_parseArguments_6 10 rfl rfl)
theorem dX9_parseArguments_159 : decode cX9_parseArguments 159 = .ok (.aload_n 1, 1) := dk_43 (dk_at dksX9_parseArguments_6 11 rfl rfl)
theorem dX9_parseArguments_160 : decode cX9_parseArguments 160 = .ok (.getfield 87, 3) := dk_180 0 87 (dk_at dksX9_parseArguments_6 12 rfl rfl)
theorem dX9_parseArguments_163 : decode cX9_parseArguments 163 = .ok (.iconst 2, 1) := dk_5 (dk_at dksX9_parseArguments_6 15 rfl rfl)
theorem dX9_parseArguments_164 : decode cX9_parseArguments 164 = .ok (.aload_n 0, 1) := dk_42 (dk_at dksX9_parseArguments_6 16 rfl rfl)
theorem dX9_parseArguments_165 : decode cX9_parseArguments 165 = .ok (.iconst 1, 1) := dk_4 (dk_at dksX9_parseArguments_6 17 rfl rfl)
theorem dX9_parseArguments_166 : decode cX9_parseArguments 166 = .ok (.invokevirtual 93, 3) := dk_182 0 93 (dk_at dksX9_parseArguments_6 18 rfl rfl)
theorem dX9_parseArguments_169 : decode cX9_parseArguments 169 = .ok (.iastore, 1) := dk_79 (dk_at dksX9_parseArguments_6 21 rfl rfl)
theorem dX9_parseArguments_170 : decode cX9_parseArguments 170 = .ok (.goto 14, 3) := dk_167 0 14 (dk_at dksX9_parseArguments_7 0 rfl rfl)
theorem dX9_parseArguments_173 : decode cX9_parseArguments 173 = .ok (.aload_n 1, 1) := dk_43 (dk_at dksX9_parseArguments_7 3 rfl rfl)
theorem dX9_parseArguments_174 : decode cX9_parseArguments 174 = .ok (.aload_n 0, 1) := dk_42 (dk_at dksX9_parseArguments_7 4 rfl rfl)
theorem dX9_parseArguments_175 : decode cX9_parseArguments 175 = .ok (.invokevirtual 103, 3) := dk_182 0 103 (dk_at dksX9_parseArguments_7 5 rfl rfl)
theorem dX9_parseArguments_178 : decode cX9_parseArguments 178 = .ok (.putfield 107, 3) := dk_181 0 107 (dk_at dksX9_parseArguments_7 8 rfl rfl)
theorem dX9_parseArguments_181 : decode cX9_parseArguments 181 = .ok (.goto 3, 3) := dk_167 0 3 (dk_at dksX9_parseArguments_7 11 rfl rfl)
theorem dX9_parseArguments_184 : decode cX9_parseArguments 184 = .ok (.return_, 1) := dk_177 (dk_at dksX9_parseArguments_7 14 rfl rfl)
abbrev cX9_parseNumber : ByteArray := prog_9_method_9_code
def yX9_parseNumber : MethodName := ⟨RX9, "parseNumber", "(I)I"⟩
def dkwX9_parseNumber_3 : List UInt8 := [180, 0, 60, 29, 154, 0, 7, 4, 167, 0, 4, 3, 128, 181, 0, 60, 28, 172]
abbrev dktX9_parseNumber_3 : List UInt8 := dkwX9_parseNumber_3 ++ []
def dkwX9_parseNumber_2 : List UInt8 := [16, 48, 100, 61, 42, 89, 180, 0, 40, 4, 96, 181, 0, 40, 132, 3, 1, 167, 255, 200, 42, 89]
abbrev dktX9_parseNumber_2 : List UInt8 := dkwX9_parseNumber_2 ++ dktX9_parseNumber_3
def dkwX9_parseNumber_1 : List UInt8 := [16, 57, 182, 0, 56, 153, 0, 39, 16, 10, 28, 104, 42, 180, 0, 36, 42, 180, 0, 40, 182, 0, 52, 96]
abbrev dktX9_parseNumber_1 : List UInt8 := dkwX9_parseNumber_1 ++ dktX9_parseNumber_2
def dkwX9_parseNumber_0 : List UInt8 := [42, 182, 0, 84, 3, 61, 3, 62, 42, 180, 0, 60, 154, 0, 55, 29, 27, 162, 0, 50, 42, 16, 48]
abbrev dktX9_parseNumber_0 : List UInt8 := dkwX9_parseNumber_0 ++ dktX9_parseNumber_1
theorem dksX9_parseNumber_0 : cX9_parseNumber.data.toList.drop 0 = dktX9_parseNumber_0 := by decide +kernel
theorem dksX9_parseNumber_1 : cX9_parseNumber.data.toList.drop 23 = dktX9_parseNumber_1 := dk_seg dksX9_parseNumber_0 23 rfl rfl
theorem dksX9_parseNumber_2 : cX9_parseNumber.data.toList.drop 47 = dktX9_parseNumber_2 := dk_seg dksX9_parseNumber_1 24 rfl rfl
theorem dksX9_parseNumber_3 : cX9_parseNumber.data.toList.drop 69 = dktX9_parseNumber_3 := dk_seg dksX9_parseNumber_2 22 rfl rfl
theorem dX9_parseNumber_0 : decode cX9_parseNumber 0 = .ok (.aload_n 0, 1) := dk_42 (dk_at dksX9_parseNumber_0 0 rfl rfl)
theorem dX9_parseNumber_1 : decode cX9_parseNumber 1 = .ok (.invokevirtual 84, 3) := dk_182 0 84 (dk_at dksX9_parseNumber_0 1 rfl rfl)
theorem dX9_parseNumber_4 : decode cX9_parseNumber 4 = .ok (.iconst 0, 1) := dk_3 (dk_at dksX9_parseNumber_0 4 rfl rfl)
theorem dX9_parseNumber_5 : decode cX9_parseNumber 5 = .ok (.istore_n 2, 1) := dk_61 (dk_at dksX9_parseNumber_0 5 rfl rfl)
theorem dX9_parseNumber_6 : decode cX9_parseNumber 6 = .ok (.iconst 0, 1) := dk_3 (dk_at dksX9_parseNumber_0 6 rfl rfl)
theorem dX9_parseNumber_7 : decode cX9_parseNumber 7 = .ok (.istore_n 3, 1) := dk_62 (dk_at dksX9_parseNumber_0 7 rfl rfl)
theorem dX9_parseNumber_8 : decode cX9_parseNumber 8 = .ok (.aload_n 0, 1) := dk_42 (dk_at dksX9_parseNumber_0 8 rfl rfl)
theorem dX9_parseNumber_9 : decode cX9_parseNumber 9 = .ok (.getfield 60, 3) := dk_180 0 60 (dk_at dksX9_parseNumber_0 9 rfl rfl)
theorem dX9_parseNumber_12 : decode cX9_parseNumber 12 = .ok (.ifCond .ne 55, 3) := dk_154 0 55 (dk_at dksX9_parseNumber_0 12 rfl rfl)
theorem dX9_parseNumber_15 : decode cX9_parseNumber 15 = .ok (.iload_n 3, 1) := dk_29 (dk_at dksX9_parseNumber_0 15 rfl rfl)
theorem dX9_parseNumber_16 : decode cX9_parseNumber 16 = .ok (.iload_n 1, 1) := dk_27 (dk_at dksX9_parseNumber_0 16 rfl rfl)
theorem dX9_parseNumber_17 : decode cX9_parseNumber 17 = .ok (.if_icmp .ge 50, 3) := dk_162 0 50 (dk_at dksX9_parseNumber_0 17 rfl rfl)
theorem dX9_parseNumber_20 : decode cX9_parseNumber 20 = .ok (.aload_n 0, 1) := dk_42 (dk_at dksX9_parseNumber_0 20 rfl rfl)
theorem dX9_parseNumber_21 : decode cX9_parseNumber 21 = .ok (.bipush 48, 2) := dk_16 48 (dk_at dksX9_parseNumber_0 21 rfl rfl)
theorem dX9_parseNumber_23 : decode cX9_parseNumber 23 = .ok (.bipush 57, 2) := dk_16 57 (dk_at dksX9_parseNumber_1 0 rfl rfl)
theorem dX9_parseNumber_25 : decode cX9_parseNumber 25 = .ok (.invokevirtual 56, 3) := dk_182 0 56 (dk_at dksX9_parseNumber_1 2 rfl rfl)
theorem dX9_parseNumber_28 : decode cX9_parseNumber 28 = .ok (.ifCond .eq 39, 3) := dk_153 0 39 (dk_at dksX9_parseNumber_1 5 rfl rfl)
theorem dX9_parseNumber_31 : decode cX9_parseNumber 31 = .ok (.bipush 10, 2) := dk_16 10 (dk_at dksX9_parseNumber_1 8 rfl rfl)
theorem dX9_parseNumber_33 : decode cX9_parseNumber 33 = .ok (.iload_n 2, 1) := dk_28 (dk_at dksX9_parseNumber_1 10 rfl rfl)
theorem dX9_parseNumber_34 : decode cX9_parseNumber 34 = .ok (.imul, 1) := dk_104 (dk_at dksX9_parseNumber_1 11 rfl rfl)
theorem dX9_parseNumber_35 : decode cX9_parseNumber 35 = .ok (.aload_n 0, 1) := dk_42 (dk_at dksX9_parseNumber_1 12 rfl rfl)
theorem dX9_parseNumber_36 : decode cX9_parseNumber 36 = .ok (.getfield 36, 3) := dk_180 0 36 (dk_at dksX9_parseNumber_1 13 rfl rfl)
theorem dX9_parseNumber_39 : decode cX9_parseNumber 39 = .ok (.aload_n 0, 1) := dk_42 (dk_at dksX9_parseNumber_1 16 rfl rfl)
theorem dX9_parseNumber_40 : decode cX9_parseNumber 40 = .ok (.getfield 40, 3) := dk_180 0 40 (dk_at dksX9_parseNumber_1 17 rfl rfl)
theorem dX9_parseNumber_43 : decode cX9_parseNumber 43 = .ok (.invokevirtual 52, 3) := dk_182 0 52 (dk_at dksX9_parseNumber_1 20 rfl rfl)
theorem dX9_parseNumber_46 : decode cX9_parseNumber 46 = .ok (.iadd, 1) := dk_96 (dk_at dksX9_parseNumber_1 23 rfl rfl)
theorem dX9_parseNumber_47 : decode cX9_parseNumber 47 = .ok (.bipush 48, 2) := dk_16 48 (dk_at dksX9_parseNumber_2 0 rfl rfl)
theorem dX9_parseNumber_49 : decode cX9_parseNumber 49 = .ok (.isub, 1) := dk_100 (dk_at dksX9_parseNumber_2 2 rfl rfl)
theorem dX9_parseNumber_50 : decode cX9_parseNumber 50 = .ok (.istore_n 2, 1) := dk_61 (dk_at dksX9_parseNumber_2 3 rfl rfl)
theorem dX9_parseNumber_51 : decode cX9_parseNumber 51 = .ok (.aload_n 0, 1) := dk_42 (dk_at dksX9_parseNumber_2 4 rfl rfl)
theorem dX9_parseNumber_52 : decode cX9_parseNumber 52 = .ok (.dup, 1) := dk_89 (dk_at dksX9_parseNumber_2 5 rfl rfl)
theorem dX9_parseNumber_53 : decode cX9_parseNumber 53 = .ok (.getfield 40, 3) := dk_180 0 40 (dk_at dksX9_parseNumber_2 6 rfl rfl)
theorem dX9_parseNumber_56 : decode cX9_parseNumber 56 = .ok (.iconst 1, 1) := dk_4 (dk_at dksX9_parseNumber_2 9 rfl rfl)
theorem dX9_parseNumber_57 : decode cX9_parseNumber 57 = .ok (.iadd, 1) := dk_96 (dk_at dksX9_parseNumber_2 10 rfl rfl)
theorem dX9_parseNumber_58 : decode cX9_parseNumber 58 = .ok (.putfield 40, 3) := dk_181 0 40 (dk_at dksX9_parseNumber_2 11 rfl rfl)
theorem dX9_parseNumber_61 : decode cX9_parseNumber 61 = .ok (.iinc 3 1, 3) := dk_132 3 1 (dk_at dksX9_parseNumber_2 14 rfl rfl)
theorem dX9_parseNumber_64 : decode cX9_parseNumber 64 = .ok (.goto (-56), 3) := dk_167 255 200 (dk_at dksX9_parseNumber_2 17 rfl rfl)
theorem dX9_parseNumber_67 : decode cX9_parseNumber 67 = .ok (.aload_n 0, 1) := dk_42 (dk_at dksX9_parseNumber_2 20 rfl rfl)
theorem dX9_parseNumber_68 : decode cX9_parseNumber 68 = .ok (.dup, 1) := dk_89 (dk_at dksX9_parseNumber_2 21 rfl rfl)
theorem dX9_parseNumber_69 : decode cX9_parseNumber 69 = .ok (.getfield 60, 3) := dk_180 0 60 (dk_at dksX9_parseNumber_3 0 rfl rfl)
theorem dX9_parseNumber_72 : decode cX9_parseNumber 72 = .ok (.iload_n 3, 1) := dk_29 (dk_at dksX9_parseNumber_3 3 rfl rfl)
theorem dX9_parseNumber_73 : decode cX9_parseNumber 73 = .ok (.ifCond .ne 7, 3) := dk_154 0 7 (dk_at dksX9_parseNumber_3 4 rfl rfl)
theorem dX9_parseNumber_76 : decode cX9_parseNumber 76 = .ok (.iconst 1, 1) := dk_4 (dk_at dksX9_parseNumber_3 7 rfl rfl)
theorem dX9_parseNumber_77 : decode cX9_parseNumber 77 = .ok (.goto 4, 3) := dk_167 0 4 (dk_at dksX9_parseNumber_3 8 rfl rfl)
theorem dX9_parseNumber_80 : decode cX9_parseNumber 80 = .ok (.iconst 0, 1) := dk_3 (dk_at dksX9_parseNumber_3 11 rfl rfl)
theorem dX9_parseNumber_81 : decode cX9_parseNumber 81 = .ok (.ior, 1) := dk_128 (dk_at dksX9_parseNumber_3 12 rfl rfl)
theorem dX9_parseNumber_82 : decode cX9_parseNumber 82 = .ok (.putfield 60, 3) := dk_181 0 60 (dk_at dksX9_parseNumber_3 13 rfl rfl)
theorem dX9_parseNumber_85 : decode cX9_parseNumber 85 = .ok (.iload_n 2, 1) := dk_28 (dk_at dksX9_parseNumber_3 16 rfl rfl)
theorem dX9_parseNumber_86 : decode cX9_parseNumber 86 = .ok (.ireturn, 1) := dk_172 (dk_at dksX9_parseNumber_3 17 rfl rfl)
abbrev cX9_expectBlank : ByteArray := prog_9_method_5_code
def yX9_expectBlank : MethodName := ⟨RX9, "expectBlank", "()V"⟩
def dkwX9_expectBlank_1 : List UInt8 := [89, 180, 0, 40, 42, 180, 0, 60, 153, 0, 7, 3, 167, 0, 4, 4, 96, 181, 0, 40, 177]
abbrev dktX9_expectBlank_1 : List UInt8 := dkwX9_expectBlank_1 ++ []
def dkwX9_expectBlank_0 : List UInt8 := [42, 89, 180, 0, 60, 42, 16, 32, 182, 0, 64, 154, 0, 7, 4, 167, 0, 4, 3, 128, 181, 0, 60, 42]
abbrev dktX9_expectBlank_0 : List UInt8 := dkwX9_expectBlank_0 ++ dktX9_expectBlank_1
theorem dksX9_expectBlank_0 : cX9_expectBlank.data.toList.drop 0 = dktX9_expectBlank_0 := by decide +kernel
theorem dksX9_expectBlank_1 : cX9_expectBlank.data.toList.drop 24 = dktX9_expectBlank_1 := dk_seg dksX9_expectBlank_0 24 rfl rfl
theorem dX9_expectBlank_0 : decode cX9_expectBlank 0 = .ok (.aload_n 0, 1) := dk_42 (dk_at dksX9_expectBlank_0 0 rfl rfl)
theorem dX9_expectBlank_1 : decode cX9_expectBlank 1 = .ok (.dup, 1) := dk_89 (dk_at dksX9_expectBlank_0 1 rfl rfl)
theorem dX9_expectBlank_2 : decode cX9_expectBlank 2 = .ok (.getfield 60, 3) := dk_180 0 60 (dk_at dksX9_expectBlank_0 2 rfl rfl)
theorem dX9_expectBlank_5 : decode cX9_expectBlank 5 = .ok (.aload_n 0, 1) := dk_42 (dk_at dksX9_expectBlank_0 5 rfl rfl)
theorem dX9_expectBlank_6 : decode cX9_expectBlank 6 = .ok (.bipush 32, 2) := dk_16 32 (dk_at dksX9_expectBlank_0 6 rfl rfl)
theorem dX9_expectBlank_8 : decode cX9_expectBlank 8 = .ok (.invokevirtual 64, 3) := dk_182 0 64 (dk_at dksX9_expectBlank_0 8 rfl rfl)
theorem dX9_expectBlank_11 : decode cX9_expectBlank 11 = .ok (.ifCond .ne 7, 3) := dk_154 0 7 (dk_at dksX9_expectBlank_0 11 rfl rfl)
theorem dX9_expectBlank_14 : decode cX9_expectBlank 14 = .ok (.iconst 1, 1) := dk_4 (dk_at dksX9_expectBlank_0 14 rfl rfl)
theorem dX9_expectBlank_15 : decode cX9_expectBlank 15 = .ok (.goto 4, 3) := dk_167 0 4 (dk_at dksX9_expectBlank_0 15 rfl rfl)
theorem dX9_expectBlank_18 : decode cX9_expectBlank 18 = .ok (.iconst 0, 1) := dk_3 (dk_at dksX9_expectBlank_0 18 rfl rfl)
theorem dX9_expectBlank_19 : decode cX9_expectBlank 19 = .ok (.ior, 1) := dk_128 (dk_at dksX9_expectBlank_0 19 rfl rfl)
theorem dX9_expectBlank_20 : decode cX9_expectBlank 20 = .ok (.putfield 60, 3) := dk_181 0 60 (dk_at dksX9_expectBlank_0 20 rfl rfl)
theorem dX9_expectBlank_23 : decode cX9_expectBlank 23 = .ok (.aload_n 0, 1) := dk_42 (dk_at dksX9_expectBlank_0 23 rfl rfl)
theorem dX9_expectBlank_24 : decode cX9_expectBlank 24 = .ok (.dup, 1) := dk_89 (dk_at dksX9_expectBlank_1 0 rfl rfl)
theorem dX9_expectBlank_25 : decode cX9_expectBlank 25 = .ok (.getfield 40, 3) := dk_180 0 40 (dk_at dksX9_expectBlank_1 1 rfl rfl)
theorem dX9_expectBlank_28 : decode cX9_expectBlank 28 = .ok (.aload_n 0, 1) := dk_42 (dk_at dksX9_expectBlank_1 4 rfl rfl)
theorem dX9_expectBlank_29 : decode cX9_expectBlank 29 = .ok (.getfield 60, 3) := dk_180 0 60 (dk_at dksX9_expectBlank_1 5 rfl rfl)
theorem dX9_expectBlank_32 : decode cX9_expectBlank 32 = .ok (.ifCond .eq 7, 3) := dk_153 0 7 (dk_at dksX9_expectBlank_1 8 rfl rfl)
theorem dX9_expectBlank_35 : decode cX9_expectBlank 35 = .ok (.iconst 0, 1) := dk_3 (dk_at dksX9_expectBlank_1 11 rfl rfl)
theorem dX9_expectBlank_36 : decode cX9_expectBlank 36 = .ok (.goto 4, 3) := dk_167 0 4 (dk_at dksX9_expectBlank_1 12 rfl rfl)
theorem dX9_expectBlank_39 : decode cX9_expectBlank 39 = .ok (.iconst 1, 1) := dk_4 (dk_at dksX9_expectBlank_1 15 rfl rfl)
theorem dX9_expectBlank_40 : decode cX9_expectBlank 40 = .ok (.iadd, 1) := dk_96 (dk_at dksX9_expectBlank_1 16 rfl rfl)
theorem dX9_expectBlank_41 : decode cX9_expectBlank 41 = .ok (.putfield 40, 3) := dk_181 0 40 (dk_at dksX9_expectBlank_1 17 rfl rfl)
theorem dX9_expectBlank_44 : decode cX9_expectBlank 44 = .ok (.return_, 1) := dk_177 (dk_at dksX9_expectBlank_1 20 rfl rfl)
abbrev cX9_isNext : ByteArray := prog_9_method_4_code
def yX9_isNext : MethodName := ⟨RX9, "isNext", "(C)Z"⟩
def dkwX9_isNext_0 : List UInt8 := [42, 27, 27, 182, 0, 56, 172]
abbrev dktX9_isNext_0 : List UInt8 := dkwX9_isNext_0 ++ []
theorem dksX9_isNext_0 : cX9_isNext.data.toList.drop 0 = dktX9_isNext_0 := by decide +kernel
theorem dX9_isNext_0 : decode cX9_isNext 0 = .ok (.aload_n 0, 1) := dk_42 (dk_at dksX9_isNext_0 0 rfl rfl)
theorem dX9_isNext_1 : decode cX9_isNext 1 = .ok (.iload_n 1, 1) := dk_27 (dk_at dksX9_isNext_0 1 rfl rfl)
theorem dX9_isNext_2 : decode cX9_isNext 2 = .ok (.iload_n 1, 1) := dk_27 (dk_at dksX9_isNext_0 2 rfl rfl)
theorem dX9_isNext_3 : decode cX9_isNext 3 = .ok (.invokevirtual 56, 3) := dk_182 0 56 (dk_at dksX9_isNext_0 3 rfl rfl)
theorem dX9_isNext_6 : decode cX9_isNext 6 = .ok (.ireturn, 1) := dk_172 (dk_at dksX9_isNext_0 6 rfl rfl)
abbrev cX9_isNextBetween : ByteArray := prog_9_method_3_code
def yX9_isNextBetween : MethodName := ⟨RX9, "isNextBetween", "(CC)Z"⟩
def dkwX9_isNextBetween_1 : List UInt8 := [180, 0, 36, 42, 180, 0, 40, 182, 0, 52, 28, 163, 0, 7, 4, 167, 0, 4, 3, 172]
abbrev dktX9_isNextBetween_1 : List UInt8 := dkwX9_isNextBetween_1 ++ []
def dkwX9_isNextBetween_0 : List UInt8 := [42, 182, 0, 48, 154, 0, 37, 42, 180, 0, 36, 42, 180, 0, 40, 182, 0, 52, 27, 161, 0, 22, 42]
abbrev dktX9_isNextBetween_0 : List UInt8 := dkwX9_isNextBetween_0 ++ dktX9_isNextBetween_1
theorem dksX9_isNextBetween_0 : cX9_isNextBetween.data.toList.drop 0 = dktX9_isNextBetween_0 := by decide +kernel
theorem dksX9_isNextBetween_1 : cX9_isNextBetween.data.toList.drop 23 = dktX9_isNextBetween_1 := dk_seg dksX9_isNextBetween_0 23 rfl rfl
theorem dX9_isNextBetween_0 : decode cX9_isNextBetween 0 = .ok (.aload_n 0, 1) := dk_42 (dk_at dksX9_isNextBetween_0 0 rfl rfl)
theorem dX9_isNextBetween_1 : decode cX9_isNextBetween 1 = .ok (.invokevirtual 48, 3) := dk_182 0 48 (dk_at dksX9_isNextBetween_0 1 rfl rfl)
theorem dX9_isNextBetween_4 : decode cX9_isNextBetween 4 = .ok (.ifCond .ne 37, 3) := dk_154 0 37 (dk_at dksX9_isNextBetween_0 4 rfl rfl)
theorem dX9_isNextBetween_7 : decode cX9_isNextBetween 7 = .ok (.aload_n 0, 1) := dk_42 (dk_at dksX9_isNextBetween_0 7 rfl rfl)
theorem dX9_isNextBetween_8 : decode cX9_isNextBetween 8 = .ok (.getfield 36, 3) := dk_180 0 36 (dk_at dksX9_isNextBetween_0 8 rfl rfl)
theorem dX9_isNextBetween_11 : decode cX9_isNextBetween 11 = .ok (.aload_n 0, 1) := dk_42 (dk_at dksX9_isNextBetween_0 11 rfl rfl)
theorem dX9_isNextBetween_12 : decode cX9_isNextBetween 12 = .ok (.getfield 40, 3) := dk_180 0 40 (dk_at dksX9_isNextBetween_0 12 rfl rfl)
theorem dX9_isNextBetween_15 : decode cX9_isNextBetween 15 = .ok (.invokevirtual 52, 3) := dk_182 0 52 (dk_at dksX9_isNextBetween_0 15 rfl rfl)
theorem dX9_isNextBetween_18 : decode cX9_isNextBetween 18 = .ok (.iload_n 1, 1) := dk_27 (dk_at dksX9_isNextBetween_0 18 rfl rfl)
theorem dX9_isNextBetween_19 : decode cX9_isNextBetween 19 = .ok (.if_icmp .lt 22, 3) := dk_161 0 22 (dk_at dksX9_isNextBetween_0 19 rfl rfl)
theorem dX9_isNextBetween_22 : decode cX9_isNextBetween 22 = .ok (.aload_n 0, 1) := dk_42 (dk_at dksX9_isNextBetween_0 22 rfl rfl)
theorem dX9_isNextBetween_23 : decode cX9_isNextBetween 23 = .ok (.getfield 36, 3) := dk_180 0 36 (dk_at dksX9_isNextBetween_1 0 rfl rfl)
theorem dX9_isNextBetween_26 : decode cX9_isNextBetween 26 = .ok (.aload_n 0, 1) := dk_42 (dk_at dksX9_isNextBetween_1 3 rfl rfl)
theorem dX9_isNextBetween_27 : decode cX9_isNextBetween 27 = .ok (.getfield 40, 3) := dk_180 0 40 (dk_at dksX9_isNextBetween_1 4 rfl rfl)
theorem dX9_isNextBetween_30 : decode cX9_isNextBetween 30 = .ok (.invokevirtual 52, 3) := dk_182 0 52 (dk_at dksX9_isNextBetween_1 7 rfl rfl)
theorem dX9_isNextBetween_33 : decode cX9_isNextBetween 33 = .ok (.iload_n 2, 1) := dk_28 (dk_at dksX9_isNextBetween_1 10 rfl rfl)
theorem dX9_isNextBetween_34 : decode cX9_isNextBetween 34 = .ok (.if_icmp .gt 7, 3) := dk_163 0 7 (dk_at dksX9_isNextBetween_1 11 rfl rfl)
theorem dX9_isNextBetween_37 : decode cX9_isNextBetween 37 = .ok (.iconst 1, 1) := dk_4 (dk_at dksX9_isNextBetween_1 14 rfl rfl)
theorem dX9_isNextBetween_38 : decode cX9_isNextBetween 38 = .ok (.goto 4, 3) := dk_167 0 4 (dk_at dksX9_isNextBetween_1 15 rfl rfl)
theorem dX9_isNextBetween_41 : decode cX9_isNextBetween 41 = .ok (.iconst 0, 1) := dk_3 (dk_at dksX9_isNextBetween_1 18 rfl rfl)
theorem dX9_isNextBetween_42 : decode cX9_isNextBetween 42 = .ok (.ireturn, 1) := dk_172 (dk_at dksX9_isNextBetween_1 19 rfl rfl)
abbrev cX9_parseZone : ByteArray := prog_9_method_10_code
def yX9_parseZone : MethodName := ⟨RX9, "parseZone", "()C"⟩
def dkwX9_parseZone_3 : List UInt8 := [180, 0, 40, 4, 100, 182, 0, 52, 172]
abbrev dktX9_parseZone_3 : List UInt8 := dkwX9_parseZone_3 ++ []
def dkwX9_parseZone_2 : List UInt8 := [180, 0, 60, 153, 0, 6, 16, 32, 172, 42, 89, 180, 0, 40, 4, 96, 181, 0, 40, 42, 180, 0, 36, 42]
abbrev dktX9_parseZone_2 : List UInt8 := dkwX9_parseZone_2 ++ dktX9_parseZone_3
def dkwX9_parseZone_1 : List UInt8 := [154, 0, 16, 42, 16, 99, 182, 0, 64, 154, 0, 7, 4, 167, 0, 4, 3, 128, 181, 0, 60, 42]
abbrev dktX9_parseZone_1 : List UInt8 := dkwX9_parseZone_1 ++ dktX9_parseZone_2
def dkwX9_parseZone_0 : List UInt8 := [42, 182, 0, 84, 42, 89, 180, 0, 60, 42, 16, 111, 182, 0, 64, 154, 0, 25, 42, 16, 113, 182, 0, 64]
abbrev dktX9_parseZone_0 : List UInt8 := dkwX9_parseZone_0 ++ dktX9_parseZone_1
theorem dksX9_parseZone_0 : cX9_parseZone.data.toList.drop 0 = dktX9_parseZone_0 := by decide +kernel
theorem dksX9_parseZone_1 : cX9_parseZone.data.toList.drop 24 = dktX9_parseZone_1 := dk_seg dksX9_parseZone_0 24 rfl rfl
theorem dksX9_parseZone_2 : cX9_parseZone.data.toList.drop 46 = dktX9_parseZone_2 := dk_seg dksX9_parseZone_1 22 rfl rfl
theorem dksX9_parseZone_3 : cX9_parseZone.data.toList.drop 70 = dktX9_parseZone_3 := dk_seg dksX9_parseZone_2 24 rfl rfl
theorem dX9_parseZone_0 : decode cX9_parseZone 0 = .ok (.aload_n 0, 1) := dk_42 (dk_at dksX9_parseZone_0 0 rfl rfl)
theorem dX9_parseZone_1 : decode cX9_parseZone 1 = .ok (.invokevirtual 84, 3) := dk_182 0 84 (dk_at dksX9_parseZone_0 1 rfl rfl)
theorem dX9_parseZone_4 : decode cX9_parseZone 4 = .ok (.aload_n 0, 1) := dk_42 (dk_at dksX9_parseZone_0 4 rfl rfl)
theorem dX9_parseZone_5 : decode cX9_parseZone 5 = .ok (.dup, 1) := dk_89 (dk_at dksX9_parseZone_0 5 rfl rfl)
theorem dX9_parseZone_6 : decode cX9_parseZone 6 = .ok (.getfield 60, 3) := dk_180 0 60 (dk_at dksX9_parseZone_0 6 rfl rfl)
theorem dX9_parseZone_9 : decode cX9_parseZone 9 = .ok (.aload_n 0, 1) := dk_42 (dk_at dksX9_parseZone_0 9 rfl rfl)
theorem dX9_parseZone_10 : decode cX9_parseZone 10 = .ok (.bipush 111, 2) := dk_16 111 (dk_at dksX9_parseZone_0 10 rfl rfl)
theorem dX9_parseZone_12 : decode cX9_parseZone 12 = .ok (.invokevirtual 64, 3) := dk_182 0 64 (dk_at dksX9_parseZone_0 12 rfl rfl)
theorem dX9_parseZone_15 : decode cX9_parseZone 15 = .ok (.ifCond .ne 25, 3) := dk_154 0 25 (dk_at dksX9_parseZone_0 15 rfl rfl)
theorem dX9_parseZone_18 : decode cX9_parseZone 18 = .ok (.aload_n 0, 1) := dk_42 (dk_at dksX9_parseZone_0 18 rfl rfl)
theorem dX9_parseZone_19 : decode cX9_parseZone 19 = .ok (.bipush 113, 2) := dk_16 113 (dk_at dksX9_parseZone_0 19 rfl rfl)
theorem dX9_parseZone_21 : decode cX9_parseZone 21 = .ok (.invokevirtual 64, 3) := dk_182 0 64 (dk_at dksX9_parseZone_0 21 rfl rfl)
theorem dX9_parseZone_24 : decode cX9_parseZone 24 = .ok (.ifCond .ne 16, 3) := dk_154 0 16 (dk_at dksX9_parseZone_1 0 rfl rfl)
theorem dX9_parseZone_27 : decode cX9_parseZone 27 = .ok (.aload_n 0, 1) := dk_42 (dk_at dksX9_parseZone_1 3 rfl rfl)
theorem dX9_parseZone_28 : decode cX9_parseZone 28 = .ok (.bipush 99, 2) := dk_16 99 (dk_at dksX9_parseZone_1 4 rfl rfl)
theorem dX9_parseZone_30 : decode cX9_parseZone 30 = .ok (.invokevirtual 64, 3) := dk_182 0 64 (dk_at dksX9_parseZone_1 6 rfl rfl)
theorem dX9_parseZone_33 : decode cX9_parseZone 33 = .ok (.ifCond .ne 7, 3) := dk_154 0 7 (dk_at dksX9_parseZone_1 9 rfl rfl)
theorem dX9_parseZone_36 : decode cX9_parseZone 36 = .ok (.iconst 1, 1) := dk_4 (dk_at dksX9_parseZone_1 12 rfl rfl)
theorem dX9_parseZone_37 : decode cX9_parseZone 37 = .ok (.goto 4, 3) := dk_167 0 4 (dk_at dksX9_parseZone_1 13 rfl rfl)
theorem dX9_parseZone_40 : decode cX9_parseZone 40 = .ok (.iconst 0, 1) := dk_3 (dk_at dksX9_parseZone_1 16 rfl rfl)
theorem dX9_parseZone_41 : decode cX9_parseZone 41 = .ok (.ior, 1) := dk_128 (dk_at dksX9_parseZone_1 17 rfl rfl)
theorem dX9_parseZone_42 : decode cX9_parseZone 42 = .ok (.putfield 60, 3) := dk_181 0 60 (dk_at dksX9_parseZone_1 18 rfl rfl)
theorem dX9_parseZone_45 : decode cX9_parseZone 45 = .ok (.aload_n 0, 1) := dk_42 (dk_at dksX9_parseZone_1 21 rfl rfl)
theorem dX9_parseZone_46 : decode cX9_parseZone 46 = .ok (.getfield 60, 3) := dk_180 0 60 (dk_at dksX9_parseZone_2 0 rfl rfl)
theorem dX9_parseZone_49 : decode cX9_parseZone 49 = .ok (.ifCond .eq 6, 3) := dk_153 0 6 (dk_at dksX9_parseZone_2 3 rfl rfl)
theorem dX9_parseZone_52 : decode cX9_parseZone 52 = .ok (.bipush 32, 2) := dk_16 32 (dk_at dksX9_parseZone_2 6 rfl rfl)
theorem dX9_parseZone_54 : decode cX9_parseZone 54 = .ok (.ireturn, 1) := dk_172 (dk_at dksX9_parseZone_2 8 rfl rfl)
theorem dX9_parseZone_55 : decode cX9_parseZone 55 = .ok (.aload_n 0, 1) := dk_42 (dk_at dksX9_parseZone_2 9 rfl rfl)
theorem dX9_parseZone_56 : decode cX9_parseZone 56 = .ok (.dup, 1) := dk_89 (dk_at dksX9_parseZone_2 10 rfl rfl)
theorem dX9_parseZone_57 : decode cX9_parseZone 57 = .ok (.getfield 40, 3) := dk_180 0 40 (dk_at dksX9_parseZone_2 11 rfl rfl)
theorem dX9_parseZone_60 : decode cX9_parseZone 60 = .ok (.iconst 1, 1) := dk_4 (dk_at dksX9_parseZone_2 14 rfl rfl)
theorem dX9_parseZone_61 : decode cX9_parseZone 61 = .ok (.iadd, 1) := dk_96 (dk_at dksX9_parseZone_2 15 rfl rfl)
theorem dX9_parseZone_62 : decode cX9_parseZone 62 = .ok (.putfield 40, 3) := dk_181 0 40 (dk_at dksX9_parseZone_2 16 rfl rfl)
theorem dX9_parseZone_65 : decode cX9_parseZone 65 = .ok (.aload_n 0, 1) := dk_42 (dk_at dksX9_parseZone_2 19 rfl rfl)
theorem dX9_parseZone_66 : decode cX9_parseZone 66 = .ok (.getfield 36, 3) := dk_180 0 36 (dk_at dksX9_parseZone_2 20 rfl rfl)
theorem dX9_parseZone_69 : decode cX9_parseZone 69 = .ok (.aload_n 0, 1) := dk_42 (dk_at dksX9_parseZone_2 23 rfl rfl)
theorem dX9_parseZone_70 : decode cX9_parseZone 70 = .ok (.getfield 40, 3) := dk_180 0 40 (dk_at dksX9_parseZone_3 0 rfl rfl)
theorem dX9_parseZone_73 : decode cX9_parseZone 73 = .ok (.iconst 1, 1) := dk_4 (dk_at dksX9_parseZone_3 3 rfl rfl)
theorem dX9_parseZone_74 : decode cX9_parseZone 74 = .ok (.isub, 1) := dk_100 (dk_at dksX9_parseZone_3 4 rfl rfl)
theorem dX9_parseZone_75 : decode cX9_parseZone 75 = .ok (.invokevirtual 52, 3) := dk_182 0 52 (dk_at dksX9_parseZone_3 5 rfl rfl)
theorem dX9_parseZone_78 : decode cX9_parseZone 78 = .ok (.ireturn, 1) := dk_172 (dk_at dksX9_parseZone_3 8 rfl rfl)
theorem q124 : (Jvm.Cond.initialized "FortPlanner$Parser") ∈ lw_all := lw_g (lw_at lw_m1 37 rfl) rfl
theorem q843 : (Jvm.Cond.selects "FortPlanner$Parser" ({ cls := "java/lang/Object", name := "getClass", desc := "()Ljava/lang/Class;" } : Jvm.MethodName) ({ cls := "java/lang/Object", name := "getClass", desc := "()Ljava/lang/Class;" } : Jvm.MethodName)) ∈ lw_all := lw_g (lw_at lw_m4 36 rfl) rfl
theorem q887 : (Jvm.Cond.selects "FortPlanner$Parser" ({ cls := "java/lang/Object", name := "equals", desc := "(Ljava/lang/Object;)Z" } : Jvm.MethodName) ({ cls := "java/lang/Object", name := "equals", desc := "(Ljava/lang/Object;)Z" } : Jvm.MethodName)) ∈ lw_all := lw_g (lw_at lw_m4 80 rfl) rfl
theorem q1722 : (Jvm.Cond.instantiable "FortPlanner$Parser" (5 : Nat)) ∈ lw_all := lw_g (lw_at lw_m7 195 rfl) rfl
theorem q1725 : (Jvm.Cond.instanceMethod ({ cls := "FortPlanner$Parser", name := "<init>", desc := "(Ljava/lang/String;)V" } : Jvm.MethodName)) ∈ lw_all := lw_g (lw_at lw_m7 198 rfl) rfl
theorem q1726 : (Jvm.Cond.code ({ cls := "FortPlanner$Parser", name := "<init>", desc := "(Ljava/lang/String;)V" } : Jvm.MethodName) prog_9_method_1_code (2 : Nat) (Option.none : Option Jvm.ClassFile.FieldType)) ∈ lw_all := lw_g (lw_at lw_m7 199 rfl) rfl
theorem q1727 : (Jvm.Cond.methodLink "FortPlanner$Parser" (1 : Nat) ({ cls := "java/lang/Object", name := "<init>", desc := "()V" } : Jvm.MethodName)) ∈ lw_all := lw_g (lw_at lw_m7 200 rfl) rfl
theorem q1728 : (Jvm.Cond.classLink "FortPlanner$Parser" (7 : Nat) "java/lang/String") ∈ lw_all := lw_g (lw_at lw_m7 201 rfl) rfl
theorem q1730 : (Jvm.Cond.stringRef "FortPlanner$Parser" (9 : Nat) "foam") ∈ lw_tbl := lw_at lw_m7 203 rfl
theorem q1731 : (Jvm.Cond.stringRef "FortPlanner$Parser" (11 : Nat) "board") ∈ lw_tbl := lw_at lw_m7 204 rfl
theorem q1732 : (Jvm.Cond.stringRef "FortPlanner$Parser" (13 : Nat) "bag") ∈ lw_tbl := lw_at lw_m7 205 rfl
theorem q1733 : (Jvm.Cond.stringRef "FortPlanner$Parser" (15 : Nat) "remove") ∈ lw_tbl := lw_at lw_m7 206 rfl
theorem q1734 : (Jvm.Cond.stringRef "FortPlanner$Parser" (17 : Nat) "zone") ∈ lw_tbl := lw_at lw_m7 207 rfl
theorem q1735 : (Jvm.Cond.stringRef "FortPlanner$Parser" (19 : Nat) "torch") ∈ lw_tbl := lw_at lw_m7 208 rfl
theorem q1736 : (Jvm.Cond.stringRef "FortPlanner$Parser" (21 : Nat) "snuff") ∈ lw_tbl := lw_at lw_m7 209 rfl
theorem q1737 : (Jvm.Cond.classLink "FortPlanner$Parser" (29 : Nat) "java/util/ArrayList") ∈ lw_all := lw_g (lw_at lw_m7 210 rfl) rfl
theorem q1738 : (Jvm.Cond.methodLink "FortPlanner$Parser" (31 : Nat) ({ cls := "java/util/ArrayList", name := "<init>", desc := "()V" } : Jvm.MethodName)) ∈ lw_all := lw_g (lw_at lw_m7 211 rfl) rfl
theorem q1739 : (Jvm.Cond.fieldLink "FortPlanner$Parser" (23 : Nat) "FortPlanner$Parser" "keywords" "[Ljava/lang/String;") ∈ lw_all := lw_g (lw_at lw_m7 212 rfl) rfl
theorem q1740 : (Jvm.Cond.fieldLink "FortPlanner$Parser" (36 : Nat) "FortPlanner$Parser" "program" "Ljava/lang/String;") ∈ lw_all := lw_g (lw_at lw_m7 213 rfl) rfl
theorem q1741 : (Jvm.Cond.fieldLink "FortPlanner$Parser" (32 : Nat) "FortPlanner$Parser" "commands" "Ljava/util/ArrayList;") ∈ lw_all := lw_g (lw_at lw_m7 214 rfl) rfl
theorem q1743 : (Jvm.Cond.fieldLink "FortPlanner$Parser" (40 : Nat) "FortPlanner$Parser" "position" "I") ∈ lw_all := lw_g (lw_at lw_m7 216 rfl) rfl
theorem q1745 : (Jvm.Cond.fieldLink "FortPlanner$Parser" (60 : Nat) "FortPlanner$Parser" "hasFailed" "Z") ∈ lw_all := lw_g (lw_at lw_m7 218 rfl) rfl
theorem q1746 : (Jvm.Cond.laysFinal "FortPlanner$Parser" "FortPlanner$Parser" "keywords" "[Ljava/lang/String;") ∈ lw_all := lw_g (lw_at lw_m7 219 rfl) rfl
theorem q1747 : (Jvm.Cond.soleField "FortPlanner$Parser" "keywords") ∈ lw_all := lw_g (lw_at lw_m7 220 rfl) rfl
theorem q1748 : (Jvm.Cond.laysFinal "FortPlanner$Parser" "FortPlanner$Parser" "program" "Ljava/lang/String;") ∈ lw_all := lw_g (lw_at lw_m7 221 rfl) rfl
theorem q1749 : (Jvm.Cond.soleField "FortPlanner$Parser" "program") ∈ lw_all := lw_g (lw_at lw_m7 222 rfl) rfl
theorem q1750 : (Jvm.Cond.laysFinal "FortPlanner$Parser" "FortPlanner$Parser" "commands" "Ljava/util/ArrayList;") ∈ lw_all := lw_g (lw_at lw_m7 223 rfl) rfl
theorem q1751 : (Jvm.Cond.soleField "FortPlanner$Parser" "commands") ∈ lw_all := lw_g (lw_at lw_m7 224 rfl) rfl
theorem q1752 : (Jvm.Cond.lays "FortPlanner$Parser" "FortPlanner$Parser" "position" "I") ∈ lw_all := lw_g (lw_at lw_m7 225 rfl) rfl
theorem q1753 : (Jvm.Cond.soleField "FortPlanner$Parser" "position") ∈ lw_all := lw_g (lw_at lw_m7 226 rfl) rfl
theorem q1754 : (Jvm.Cond.lays "FortPlanner$Parser" "FortPlanner$Parser" "hasFailed" "Z") ∈ lw_all := lw_g (lw_at lw_m7 227 rfl) rfl
theorem q1755 : (Jvm.Cond.soleField "FortPlanner$Parser" "hasFailed") ∈ lw_all := lw_g (lw_at lw_m7 228 rfl) rfl
theorem q1756 : (Jvm.Cond.superclass "FortPlanner$Parser" "java/lang/Object") ∈ lw_all := lw_g (lw_at lw_m7 229 rfl) rfl
theorem q1758 : (Jvm.Cond.instanceMethod ({ cls := "FortPlanner$Parser", name := "parse", desc := "()Z" } : Jvm.MethodName)) ∈ lw_all := lw_g (lw_at lw_m7 231 rfl) rfl
theorem q1759 : (Jvm.Cond.selects "FortPlanner$Parser" ({ cls := "FortPlanner$Parser", name := "parse", desc := "()Z" } : Jvm.MethodName) ({ cls := "FortPlanner$Parser", name := "parse", desc := "()Z" } : Jvm.MethodName)) ∈ lw_all := lw_g (lw_at lw_m7 232 rfl) rfl
theorem q1760 : (Jvm.Cond.code ({ cls := "FortPlanner$Parser", name := "parse", desc := "()Z" } : Jvm.MethodName) prog_9_method_13_code (1 : Nat) (Option.some Jvm.ClassFile.FieldType.boolean)) ∈ lw_all := lw_g (lw_at lw_m7 233 rfl) rfl
theorem q1761 : (Jvm.Cond.methodLink "FortPlanner$Parser" (125 : Nat) ({ cls := "FortPlanner$Parser", name := "parseCommand", desc := "()V" } : Jvm.MethodName)) ∈ lw_all := lw_g (lw_at lw_m7 234 rfl) rfl
theorem q1762 : (Jvm.Cond.privateMethod ({ cls := "FortPlanner$Parser", name := "parseCommand", desc := "()V" } : Jvm.MethodName)) ∈ lw_tbl := lw_at lw_m7 235 rfl
theorem q1763 : (Jvm.Cond.instanceMethod ({ cls := "FortPlanner$Parser", name := "parseCommand", desc := "()V" } : Jvm.MethodName)) ∈ lw_all := lw_g (lw_at lw_m7 236 rfl) rfl
theorem q1764 : (Jvm.Cond.code ({ cls := "FortPlanner$Parser", name := "parseCommand", desc := "()V" } : Jvm.MethodName) prog_9_method_12_code (2 : Nat) (Option.none : Option Jvm.ClassFile.FieldType)) ∈ lw_all := lw_g (lw_at lw_m7 237 rfl) rfl
theorem q1765 : (Jvm.Cond.classLink "FortPlanner$Parser" (88 : Nat) "FortPlanner$Command") ∈ lw_all := lw_g (lw_at lw_m7 238 rfl) rfl
theorem q1767 : (Jvm.Cond.methodLink "FortPlanner$Parser" (111 : Nat) ({ cls := "FortPlanner$Parser", name := "parseKeyword", desc := "()Ljava/lang/String;" } : Jvm.MethodName)) ∈ lw_all := lw_g (lw_at lw_m8 0 rfl) rfl
theorem q1768 : (Jvm.Cond.privateMethod ({ cls := "FortPlanner$Parser", name := "parseKeyword", desc := "()Ljava/lang/String;" } : Jvm.MethodName)) ∈ lw_tbl := lw_at lw_m8 1 rfl
theorem q1769 : (Jvm.Cond.instanceMethod ({ cls := "FortPlanner$Parser", name := "parseKeyword", desc := "()Ljava/lang/String;" } : Jvm.MethodName)) ∈ lw_all := lw_g (lw_at lw_m8 2 rfl) rfl
theorem q1770 : (Jvm.Cond.code ({ cls := "FortPlanner$Parser", name := "parseKeyword", desc := "()Ljava/lang/String;" } : Jvm.MethodName) prog_9_method_8_code (3 : Nat) (Option.some (Jvm.ClassFile.FieldType.object "java/lang/String"))) ∈ lw_all := lw_g (lw_at lw_m8 3 rfl) rfl
theorem q1771 : (Jvm.Cond.methodLink "FortPlanner$Parser" (48 : Nat) ({ cls := "FortPlanner$Parser", name := "isAtEnd", desc := "()Z" } : Jvm.MethodName)) ∈ lw_all := lw_g (lw_at lw_m8 4 rfl) rfl
theorem q1772 : (Jvm.Cond.privateMethod ({ cls := "FortPlanner$Parser", name := "isAtEnd", desc := "()Z" } : Jvm.MethodName)) ∈ lw_tbl := lw_at lw_m8 5 rfl
theorem q1773 : (Jvm.Cond.instanceMethod ({ cls := "FortPlanner$Parser", name := "isAtEnd", desc := "()Z" } : Jvm.MethodName)) ∈ lw_all := lw_g (lw_at lw_m8 6 rfl) rfl
theorem q1774 : (Jvm.Cond.code ({ cls := "FortPlanner$Parser", name := "isAtEnd", desc := "()Z" } : Jvm.MethodName) prog_9_method_2_code (1 : Nat) (Option.some Jvm.ClassFile.FieldType.boolean)) ∈ lw_all := lw_g (lw_at lw_m8 7 rfl) rfl
theorem q1775 : (Jvm.Cond.methodLink "FortPlanner$Parser" (44 : Nat) ({ cls := "java/lang/String", name := "length", desc := "()I" } : Jvm.MethodName)) ∈ lw_all := lw_g (lw_at lw_m8 8 rfl) rfl
theorem q1776 : (Jvm.Cond.methodLink "FortPlanner$Parser" (76 : Nat) ({ cls := "java/lang/String", name := "substring", desc := "(II)Ljava/lang/String;" } : Jvm.MethodName)) ∈ lw_all := lw_g (lw_at lw_m8 9 rfl) rfl
theorem q1804 : (Jvm.Cond.methodLink "FortPlanner$Parser" (80 : Nat) ({ cls := "FortPlanner$Parser", name := "isKeyword", desc := "(Ljava/lang/String;Z)Z" } : Jvm.MethodName)) ∈ lw_all := lw_g (lw_at lw_m8 37 rfl) rfl
theorem q1805 : (Jvm.Cond.privateMethod ({ cls := "FortPlanner$Parser", name := "isKeyword", desc := "(Ljava/lang/String;Z)Z" } : Jvm.MethodName)) ∈ lw_tbl := lw_at lw_m8 38 rfl
theorem q1806 : (Jvm.Cond.instanceMethod ({ cls := "FortPlanner$Parser", name := "isKeyword", desc := "(Ljava/lang/String;Z)Z" } : Jvm.MethodName)) ∈ lw_all := lw_g (lw_at lw_m8 39 rfl) rfl
theorem q1807 : (Jvm.Cond.code ({ cls := "FortPlanner$Parser", name := "isKeyword", desc := "(Ljava/lang/String;Z)Z" } : Jvm.MethodName) prog_9_method_7_code (7 : Nat) (Option.some Jvm.ClassFile.FieldType.boolean)) ∈ lw_all := lw_g (lw_at lw_m8 40 rfl) rfl
theorem q1808 : (Jvm.Cond.methodLink "FortPlanner$Parser" (68 : Nat) ({ cls := "java/lang/String", name := "equals", desc := "(Ljava/lang/Object;)Z" } : Jvm.MethodName)) ∈ lw_all := lw_g (lw_at lw_m8 41 rfl) rfl
theorem q1809 : (Jvm.Cond.methodLink "FortPlanner$Parser" (72 : Nat) ({ cls := "FortPlanner$Parser", name := "hasPrefix", desc := "(Ljava/lang/String;Ljava/lang/String;)Z" } : Jvm.MethodName)) ∈ lw_all := lw_g (lw_at lw_m8 42 rfl) rfl
theorem q1810 : (Jvm.Cond.static ({ cls := "FortPlanner$Parser", name := "hasPrefix", desc := "(Ljava/lang/String;Ljava/lang/String;)Z" } : Jvm.MethodName)) ∈ lw_all := lw_g (lw_at lw_m8 43 rfl) rfl
theorem q1811 : (Jvm.Cond.code ({ cls := "FortPlanner$Parser", name := "hasPrefix", desc := "(Ljava/lang/String;Ljava/lang/String;)Z" } : Jvm.MethodName) prog_9_method_6_code (4 : Nat) (Option.some Jvm.ClassFile.FieldType.boolean)) ∈ lw_all := lw_g (lw_at lw_m8 44 rfl) rfl
theorem q1812 : (Jvm.Cond.methodLink "FortPlanner$Parser" (52 : Nat) ({ cls := "java/lang/String", name := "charAt", desc := "(I)C" } : Jvm.MethodName)) ∈ lw_all := lw_g (lw_at lw_m8 45 rfl) rfl
theorem q1823 : (Jvm.Cond.methodLink "FortPlanner$Parser" (115 : Nat) ({ cls := "FortPlanner$Command", name := "<init>", desc := "(Ljava/lang/String;)V" } : Jvm.MethodName)) ∈ lw_all := lw_g (lw_at lw_m8 56 rfl) rfl
theorem q1828 : (Jvm.Cond.fieldLinkNest "FortPlanner$Parser" (97 : Nat) "FortPlanner$Command" "keyword" "Ljava/lang/String;" "FortPlanner") ∈ lw_tbl := lw_at lw_m8 61 rfl
theorem q1831 : (Jvm.Cond.fieldLinkNest "FortPlanner$Parser" (87 : Nat) "FortPlanner$Command" "numbers" "[I" "FortPlanner") ∈ lw_tbl := lw_at lw_m8 64 rfl
theorem q1833 : (Jvm.Cond.fieldLinkNest "FortPlanner$Parser" (107 : Nat) "FortPlanner$Command" "letter" "C" "FortPlanner") ∈ lw_tbl := lw_at lw_m8 66 rfl
theorem q1842 : (Jvm.Cond.methodLink "FortPlanner$Parser" (118 : Nat) ({ cls := "java/util/ArrayList", name := "add", desc := "(Ljava/lang/Object;)Z" } : Jvm.MethodName)) ∈ lw_all := lw_g (lw_at lw_m8 75 rfl) rfl
theorem q1843 : (Jvm.Cond.methodLink "FortPlanner$Parser" (121 : Nat) ({ cls := "FortPlanner$Parser", name := "parseArguments", desc := "(LFortPlanner$Command;)V" } : Jvm.MethodName)) ∈ lw_all := lw_g (lw_at lw_m8 76 rfl) rfl
theorem q1844 : (Jvm.Cond.privateMethod ({ cls := "FortPlanner$Parser", name := "parseArguments", desc := "(LFortPlanner$Command;)V" } : Jvm.MethodName)) ∈ lw_tbl := lw_at lw_m8 77 rfl
theorem q1845 : (Jvm.Cond.instanceMethod ({ cls := "FortPlanner$Parser", name := "parseArguments", desc := "(LFortPlanner$Command;)V" } : Jvm.MethodName)) ∈ lw_all := lw_g (lw_at lw_m8 78 rfl) rfl
theorem q1846 : (Jvm.Cond.code ({ cls := "FortPlanner$Parser", name := "parseArguments", desc := "(LFortPlanner$Command;)V" } : Jvm.MethodName) prog_9_method_11_code (4 : Nat) (Option.none : Option Jvm.ClassFile.FieldType)) ∈ lw_all := lw_g (lw_at lw_m8 79 rfl) rfl
theorem q1847 : (Jvm.Cond.methodLink "FortPlanner$Parser" (93 : Nat) ({ cls := "FortPlanner$Parser", name := "parseNumber", desc := "(I)I" } : Jvm.MethodName)) ∈ lw_all := lw_g (lw_at lw_m8 80 rfl) rfl
theorem q1848 : (Jvm.Cond.privateMethod ({ cls := "FortPlanner$Parser", name := "parseNumber", desc := "(I)I" } : Jvm.MethodName)) ∈ lw_tbl := lw_at lw_m8 81 rfl
theorem q1849 : (Jvm.Cond.instanceMethod ({ cls := "FortPlanner$Parser", name := "parseNumber", desc := "(I)I" } : Jvm.MethodName)) ∈ lw_all := lw_g (lw_at lw_m8 82 rfl) rfl
theorem q1850 : (Jvm.Cond.code ({ cls := "FortPlanner$Parser", name := "parseNumber", desc := "(I)I" } : Jvm.MethodName) prog_9_method_9_code (4 : Nat) (Option.some Jvm.ClassFile.FieldType.int)) ∈ lw_all := lw_g (lw_at lw_m8 83 rfl) rfl
theorem q1851 : (Jvm.Cond.methodLink "FortPlanner$Parser" (84 : Nat) ({ cls := "FortPlanner$Parser", name := "expectBlank", desc := "()V" } : Jvm.MethodName)) ∈ lw_all := lw_g (lw_at lw_m8 84 rfl) rfl
theorem q1852 : (Jvm.Cond.privateMethod ({ cls := "FortPlanner$Parser", name := "expectBlank", desc := "()V" } : Jvm.MethodName)) ∈ lw_tbl := lw_at lw_m8 85 rfl
theorem q1853 : (Jvm.Cond.instanceMethod ({ cls := "FortPlanner$Parser", name := "expectBlank", desc := "()V" } : Jvm.MethodName)) ∈ lw_all := lw_g (lw_at lw_m8 86 rfl) rfl
theorem q1854 : (Jvm.Cond.code ({ cls := "FortPlanner$Parser", name := "expectBlank", desc := "()V" } : Jvm.MethodName) prog_9_method_5_code (1 : Nat) (Option.none : Option Jvm.ClassFile.FieldType)) ∈ lw_all := lw_g (lw_at lw_m8 87 rfl) rfl
theorem q1855 : (Jvm.Cond.methodLink "FortPlanner$Parser" (64 : Nat) ({ cls := "FortPlanner$Parser", name := "isNext", desc := "(C)Z" } : Jvm.MethodName)) ∈ lw_all := lw_g (lw_at lw_m8 88 rfl) rfl
theorem q1856 : (Jvm.Cond.privateMethod ({ cls := "FortPlanner$Parser", name := "isNext", desc := "(C)Z" } : Jvm.MethodName)) ∈ lw_tbl := lw_at lw_m8 89 rfl
theorem q1857 : (Jvm.Cond.instanceMethod ({ cls := "FortPlanner$Parser", name := "isNext", desc := "(C)Z" } : Jvm.MethodName)) ∈ lw_all := lw_g (lw_at lw_m8 90 rfl) rfl
theorem q1858 : (Jvm.Cond.code ({ cls := "FortPlanner$Parser", name := "isNext", desc := "(C)Z" } : Jvm.MethodName) prog_9_method_4_code (2 : Nat) (Option.some Jvm.ClassFile.FieldType.boolean)) ∈ lw_all := lw_g (lw_at lw_m8 91 rfl) rfl
theorem q1859 : (Jvm.Cond.methodLink "FortPlanner$Parser" (56 : Nat) ({ cls := "FortPlanner$Parser", name := "isNextBetween", desc := "(CC)Z" } : Jvm.MethodName)) ∈ lw_all := lw_g (lw_at lw_m8 92 rfl) rfl
theorem q1860 : (Jvm.Cond.privateMethod ({ cls := "FortPlanner$Parser", name := "isNextBetween", desc := "(CC)Z" } : Jvm.MethodName)) ∈ lw_tbl := lw_at lw_m8 93 rfl
theorem q1861 : (Jvm.Cond.instanceMethod ({ cls := "FortPlanner$Parser", name := "isNextBetween", desc := "(CC)Z" } : Jvm.MethodName)) ∈ lw_all := lw_g (lw_at lw_m8 94 rfl) rfl
theorem q1862 : (Jvm.Cond.code ({ cls := "FortPlanner$Parser", name := "isNextBetween", desc := "(CC)Z" } : Jvm.MethodName) prog_9_method_3_code (3 : Nat) (Option.some Jvm.ClassFile.FieldType.boolean)) ∈ lw_all := lw_g (lw_at lw_m8 95 rfl) rfl
theorem q1863 : (Jvm.Cond.methodLink "FortPlanner$Parser" (100 : Nat) ({ cls := "java/lang/String", name := "hashCode", desc := "()I" } : Jvm.MethodName)) ∈ lw_all := lw_g (lw_at lw_m8 96 rfl) rfl
theorem q1920 : (Jvm.Cond.methodLink "FortPlanner$Parser" (103 : Nat) ({ cls := "FortPlanner$Parser", name := "parseZone", desc := "()C" } : Jvm.MethodName)) ∈ lw_all := lw_g (lw_at lw_m8 153 rfl) rfl
theorem q1921 : (Jvm.Cond.privateMethod ({ cls := "FortPlanner$Parser", name := "parseZone", desc := "()C" } : Jvm.MethodName)) ∈ lw_tbl := lw_at lw_m8 154 rfl
theorem q1922 : (Jvm.Cond.instanceMethod ({ cls := "FortPlanner$Parser", name := "parseZone", desc := "()C" } : Jvm.MethodName)) ∈ lw_all := lw_g (lw_at lw_m8 155 rfl) rfl
theorem q1923 : (Jvm.Cond.code ({ cls := "FortPlanner$Parser", name := "parseZone", desc := "()C" } : Jvm.MethodName) prog_9_method_10_code (1 : Nat) (Option.some Jvm.ClassFile.FieldType.char)) ∈ lw_all := lw_g (lw_at lw_m8 156 rfl) rfl
theorem q2560 : (Jvm.Cond.castable "FortPlanner$Parser" "java/lang/Object") ∈ lw_tbl := lw_at lw_m11 73 rfl
theorem in_X9 : ∀ w ∈ wsX90, w ∈ lw_all := lw_in wsX90 [1746, 1748, 1750, 1752, 1754] (by decide +kernel) (by decide +kernel)
/-! FortPlanner$Command -/
set_option maxRecDepth 100000
def RX10 : String := "FortPlanner$Command"
def TX10 : u_T := fun k => match k with
  | 0 => ("FortPlanner$Command", "keyword", "Ljava/lang/String;", true)
  | 1 => ("FortPlanner$Command", "numbers", "[I", true)
  | _ => ("FortPlanner$Command", "letter", "C", false)
def tyX10 : Nat → FieldType := fun k => match k with
  | 0 => .object "java/lang/String"
  | 1 => .array .int
  | _ => .char
abbrev wsX100 : List Cond := u_ws RX10 TX10 3
theorem nmX10 : ∀ a, a < 3 → ∀ b, b < 3 → a ≠ b → (TX10 a).2.1 ≠ (TX10 b).2.1 := by decide +kernel
theorem tyX10_ok : ∀ k, k < 3 → parseFieldDescriptor (TX10 k).2.2.1 = some (tyX10 k) := by decide +kernel
abbrev cX10_init : ByteArray := prog_7_method_1_code
def yX10_init : MethodName := ⟨RX10, "<init>", "(Ljava/lang/String;)V"⟩
def dkwX10_init_0 : List UInt8 := [42, 183, 0, 1, 42, 6, 188, 10, 181, 0, 7, 42, 43, 181, 0, 13, 177]
abbrev dktX10_init_0 : List UInt8 := dkwX10_init_0 ++ []
theorem dksX10_init_0 : cX10_init.data.toList.drop 0 = dktX10_init_0 := by decide +kernel
theorem dX10_init_0 : decode cX10_init 0 = .ok (.aload_n 0, 1) := dk_42 (dk_at dksX10_init_0 0 rfl rfl)
theorem dX10_init_1 : decode cX10_init 1 = .ok (.invokespecial 1, 3) := dk_183 0 1 (dk_at dksX10_init_0 1 rfl rfl)
theorem dX10_init_4 : decode cX10_init 4 = .ok (.aload_n 0, 1) := dk_42 (dk_at dksX10_init_0 4 rfl rfl)
theorem dX10_init_5 : decode cX10_init 5 = .ok (.iconst 3, 1) := dk_6 (dk_at dksX10_init_0 5 rfl rfl)
theorem dX10_init_6 : decode cX10_init 6 = .ok (.newarray .int, 2) := dk_188_10 (dk_at dksX10_init_0 6 rfl rfl)
theorem dX10_init_8 : decode cX10_init 8 = .ok (.putfield 7, 3) := dk_181 0 7 (dk_at dksX10_init_0 8 rfl rfl)
theorem dX10_init_11 : decode cX10_init 11 = .ok (.aload_n 0, 1) := dk_42 (dk_at dksX10_init_0 11 rfl rfl)
theorem dX10_init_12 : decode cX10_init 12 = .ok (.aload_n 1, 1) := dk_43 (dk_at dksX10_init_0 12 rfl rfl)
theorem dX10_init_13 : decode cX10_init 13 = .ok (.putfield 13, 3) := dk_181 0 13 (dk_at dksX10_init_0 13 rfl rfl)
theorem dX10_init_16 : decode cX10_init 16 = .ok (.return_, 1) := dk_177 (dk_at dksX10_init_0 16 rfl rfl)
theorem q125 : (Jvm.Cond.initialized "FortPlanner$Command") ∈ lw_all := lw_g (lw_at lw_m1 38 rfl) rfl
theorem q841 : (Jvm.Cond.selects "FortPlanner$Command" ({ cls := "java/lang/Object", name := "getClass", desc := "()Ljava/lang/Class;" } : Jvm.MethodName) ({ cls := "java/lang/Object", name := "getClass", desc := "()Ljava/lang/Class;" } : Jvm.MethodName)) ∈ lw_all := lw_g (lw_at lw_m4 34 rfl) rfl
theorem q885 : (Jvm.Cond.selects "FortPlanner$Command" ({ cls := "java/lang/Object", name := "equals", desc := "(Ljava/lang/Object;)Z" } : Jvm.MethodName) ({ cls := "java/lang/Object", name := "equals", desc := "(Ljava/lang/Object;)Z" } : Jvm.MethodName)) ∈ lw_all := lw_g (lw_at lw_m4 78 rfl) rfl
theorem q1766 : (Jvm.Cond.instantiable "FortPlanner$Command" (3 : Nat)) ∈ lw_all := lw_g (lw_at lw_m7 239 rfl) rfl
theorem q1824 : (Jvm.Cond.instanceMethod ({ cls := "FortPlanner$Command", name := "<init>", desc := "(Ljava/lang/String;)V" } : Jvm.MethodName)) ∈ lw_all := lw_g (lw_at lw_m8 57 rfl) rfl
theorem q1825 : (Jvm.Cond.code ({ cls := "FortPlanner$Command", name := "<init>", desc := "(Ljava/lang/String;)V" } : Jvm.MethodName) prog_7_method_1_code (2 : Nat) (Option.none : Option Jvm.ClassFile.FieldType)) ∈ lw_all := lw_g (lw_at lw_m8 58 rfl) rfl
theorem q1826 : (Jvm.Cond.methodLink "FortPlanner$Command" (1 : Nat) ({ cls := "java/lang/Object", name := "<init>", desc := "()V" } : Jvm.MethodName)) ∈ lw_all := lw_g (lw_at lw_m8 59 rfl) rfl
theorem q1827 : (Jvm.Cond.fieldLink "FortPlanner$Command" (13 : Nat) "FortPlanner$Command" "keyword" "Ljava/lang/String;") ∈ lw_all := lw_g (lw_at lw_m8 60 rfl) rfl
theorem q1830 : (Jvm.Cond.fieldLink "FortPlanner$Command" (7 : Nat) "FortPlanner$Command" "numbers" "[I") ∈ lw_all := lw_g (lw_at lw_m8 63 rfl) rfl
theorem q1835 : (Jvm.Cond.laysFinal "FortPlanner$Command" "FortPlanner$Command" "keyword" "Ljava/lang/String;") ∈ lw_all := lw_g (lw_at lw_m8 68 rfl) rfl
theorem q1836 : (Jvm.Cond.soleField "FortPlanner$Command" "keyword") ∈ lw_all := lw_g (lw_at lw_m8 69 rfl) rfl
theorem q1837 : (Jvm.Cond.laysFinal "FortPlanner$Command" "FortPlanner$Command" "numbers" "[I") ∈ lw_all := lw_g (lw_at lw_m8 70 rfl) rfl
theorem q1838 : (Jvm.Cond.soleField "FortPlanner$Command" "numbers") ∈ lw_all := lw_g (lw_at lw_m8 71 rfl) rfl
theorem q1839 : (Jvm.Cond.lays "FortPlanner$Command" "FortPlanner$Command" "letter" "C") ∈ lw_all := lw_g (lw_at lw_m8 72 rfl) rfl
theorem q1840 : (Jvm.Cond.soleField "FortPlanner$Command" "letter") ∈ lw_all := lw_g (lw_at lw_m8 73 rfl) rfl
theorem q1841 : (Jvm.Cond.superclass "FortPlanner$Command" "java/lang/Object") ∈ lw_all := lw_g (lw_at lw_m8 74 rfl) rfl
theorem q2561 : (Jvm.Cond.castable "FortPlanner$Command" "java/lang/Object") ∈ lw_tbl := lw_at lw_m11 74 rfl
theorem in_X10 : ∀ w ∈ wsX100, w ∈ lw_all := lw_in wsX100 [1835, 1837, 1839] (by decide +kernel) (by decide +kernel)
/-! FortPlanner$Zone$1 -/
set_option maxRecDepth 100000
def RX11 : String := "FortPlanner$Zone$1"
abbrev cX11_allows : ByteArray := prog_12_method_2_code
def yX11_allows : MethodName := ⟨RX11, "allows", "(LFortPlanner$Block;)Z"⟩
theorem dX11_allows_0 : decode cX11_allows 0 = .ok (.iconst 1, 1) := by decide +kernel
theorem dX11_allows_1 : decode cX11_allows 1 = .ok (.ireturn, 1) := by decide +kernel
theorem q845 : (Jvm.Cond.selects "FortPlanner$Zone$1" ({ cls := "java/lang/Object", name := "getClass", desc := "()Ljava/lang/Class;" } : Jvm.MethodName) ({ cls := "java/lang/Object", name := "getClass", desc := "()Ljava/lang/Class;" } : Jvm.MethodName)) ∈ lw_all := lw_g (lw_at lw_m4 38 rfl) rfl
theorem q889 : (Jvm.Cond.selects "FortPlanner$Zone$1" ({ cls := "java/lang/Object", name := "equals", desc := "(Ljava/lang/Object;)Z" } : Jvm.MethodName) ({ cls := "java/lang/Enum", name := "equals", desc := "(Ljava/lang/Object;)Z" } : Jvm.MethodName)) ∈ lw_all := lw_g (lw_at lw_m4 82 rfl) rfl
theorem q1215 : (Jvm.Cond.selects "FortPlanner$Zone$1" ({ cls := "FortPlanner$Zone", name := "allows", desc := "(LFortPlanner$Block;)Z" } : Jvm.MethodName) ({ cls := "FortPlanner$Zone$1", name := "allows", desc := "(LFortPlanner$Block;)Z" } : Jvm.MethodName)) ∈ lw_all := lw_g (lw_at lw_m5 168 rfl) rfl
theorem q1216 : (Jvm.Cond.instanceMethod ({ cls := "FortPlanner$Zone$1", name := "allows", desc := "(LFortPlanner$Block;)Z" } : Jvm.MethodName)) ∈ lw_all := lw_g (lw_at lw_m5 169 rfl) rfl
theorem q1217 : (Jvm.Cond.code ({ cls := "FortPlanner$Zone$1", name := "allows", desc := "(LFortPlanner$Block;)Z" } : Jvm.MethodName) prog_12_method_2_code (2 : Nat) (Option.some Jvm.ClassFile.FieldType.boolean)) ∈ lw_all := lw_g (lw_at lw_m5 170 rfl) rfl
theorem q2544 : (Jvm.Cond.castable "FortPlanner$Zone$1" "java/lang/Object") ∈ lw_tbl := lw_at lw_m11 57 rfl
theorem q2564 : (Jvm.Cond.castable "FortPlanner$Zone$1" "FortPlanner$Zone") ∈ lw_tbl := lw_at lw_m11 77 rfl
/-! FortPlanner$Zone$2 -/
set_option maxRecDepth 100000
def RX12 : String := "FortPlanner$Zone$2"
abbrev cX12_allows : ByteArray := prog_13_method_2_code
def yX12_allows : MethodName := ⟨RX12, "allows", "(LFortPlanner$Block;)Z"⟩
def dkwX12_allows_0 : List UInt8 := [43, 193, 0, 7, 154, 0, 7, 4, 167, 0, 4, 3, 172]
abbrev dktX12_allows_0 : List UInt8 := dkwX12_allows_0 ++ []
theorem dksX12_allows_0 : cX12_allows.data.toList.drop 0 = dktX12_allows_0 := by decide +kernel
theorem dX12_allows_0 : decode cX12_allows 0 = .ok (.aload_n 1, 1) := dk_43 (dk_at dksX12_allows_0 0 rfl rfl)
theorem dX12_allows_1 : decode cX12_allows 1 = .ok (.instanceof 7, 3) := dk_193 0 7 (dk_at dksX12_allows_0 1 rfl rfl)
theorem dX12_allows_4 : decode cX12_allows 4 = .ok (.ifCond .ne 7, 3) := dk_154 0 7 (dk_at dksX12_allows_0 4 rfl rfl)
theorem dX12_allows_7 : decode cX12_allows 7 = .ok (.iconst 1, 1) := dk_4 (dk_at dksX12_allows_0 7 rfl rfl)
theorem dX12_allows_8 : decode cX12_allows 8 = .ok (.goto 4, 3) := dk_167 0 4 (dk_at dksX12_allows_0 8 rfl rfl)
theorem dX12_allows_11 : decode cX12_allows 11 = .ok (.iconst 0, 1) := dk_3 (dk_at dksX12_allows_0 11 rfl rfl)
theorem dX12_allows_12 : decode cX12_allows 12 = .ok (.ireturn, 1) := dk_172 (dk_at dksX12_allows_0 12 rfl rfl)
theorem q846 : (Jvm.Cond.selects "FortPlanner$Zone$2" ({ cls := "java/lang/Object", name := "getClass", desc := "()Ljava/lang/Class;" } : Jvm.MethodName) ({ cls := "java/lang/Object", name := "getClass", desc := "()Ljava/lang/Class;" } : Jvm.MethodName)) ∈ lw_all := lw_g (lw_at lw_m4 39 rfl) rfl
theorem q892 : (Jvm.Cond.selects "FortPlanner$Zone$2" ({ cls := "java/lang/Object", name := "equals", desc := "(Ljava/lang/Object;)Z" } : Jvm.MethodName) ({ cls := "java/lang/Enum", name := "equals", desc := "(Ljava/lang/Object;)Z" } : Jvm.MethodName)) ∈ lw_all := lw_g (lw_at lw_m4 85 rfl) rfl
theorem q1218 : (Jvm.Cond.selects "FortPlanner$Zone$2" ({ cls := "FortPlanner$Zone", name := "allows", desc := "(LFortPlanner$Block;)Z" } : Jvm.MethodName) ({ cls := "FortPlanner$Zone$2", name := "allows", desc := "(LFortPlanner$Block;)Z" } : Jvm.MethodName)) ∈ lw_all := lw_g (lw_at lw_m5 171 rfl) rfl
theorem q1219 : (Jvm.Cond.instanceMethod ({ cls := "FortPlanner$Zone$2", name := "allows", desc := "(LFortPlanner$Block;)Z" } : Jvm.MethodName)) ∈ lw_all := lw_g (lw_at lw_m5 172 rfl) rfl
theorem q1220 : (Jvm.Cond.code ({ cls := "FortPlanner$Zone$2", name := "allows", desc := "(LFortPlanner$Block;)Z" } : Jvm.MethodName) prog_13_method_2_code (2 : Nat) (Option.some Jvm.ClassFile.FieldType.boolean)) ∈ lw_all := lw_g (lw_at lw_m5 173 rfl) rfl
theorem q1221 : (Jvm.Cond.classLink "FortPlanner$Zone$2" (7 : Nat) "FortPlanner$Board") ∈ lw_all := lw_g (lw_at lw_m5 174 rfl) rfl
theorem q2557 : (Jvm.Cond.castable "FortPlanner$Zone$2" "java/lang/Object") ∈ lw_tbl := lw_at lw_m11 70 rfl
theorem q2565 : (Jvm.Cond.castable "FortPlanner$Zone$2" "FortPlanner$Zone") ∈ lw_tbl := lw_at lw_m11 78 rfl
/-! FortPlanner$Zone$3 -/
set_option maxRecDepth 100000
def RX13 : String := "FortPlanner$Zone$3"
abbrev cX13_allows : ByteArray := prog_14_method_2_code
def yX13_allows : MethodName := ⟨RX13, "allows", "(LFortPlanner$Block;)Z"⟩
theorem dX13_allows_0 : decode cX13_allows 0 = .ok (.iconst 0, 1) := by decide +kernel
theorem dX13_allows_1 : decode cX13_allows 1 = .ok (.ireturn, 1) := by decide +kernel
theorem q847 : (Jvm.Cond.selects "FortPlanner$Zone$3" ({ cls := "java/lang/Object", name := "getClass", desc := "()Ljava/lang/Class;" } : Jvm.MethodName) ({ cls := "java/lang/Object", name := "getClass", desc := "()Ljava/lang/Class;" } : Jvm.MethodName)) ∈ lw_all := lw_g (lw_at lw_m4 40 rfl) rfl
theorem q893 : (Jvm.Cond.selects "FortPlanner$Zone$3" ({ cls := "java/lang/Object", name := "equals", desc := "(Ljava/lang/Object;)Z" } : Jvm.MethodName) ({ cls := "java/lang/Enum", name := "equals", desc := "(Ljava/lang/Object;)Z" } : Jvm.MethodName)) ∈ lw_all := lw_g (lw_at lw_m4 86 rfl) rfl
theorem q1222 : (Jvm.Cond.selects "FortPlanner$Zone$3" ({ cls := "FortPlanner$Zone", name := "allows", desc := "(LFortPlanner$Block;)Z" } : Jvm.MethodName) ({ cls := "FortPlanner$Zone$3", name := "allows", desc := "(LFortPlanner$Block;)Z" } : Jvm.MethodName)) ∈ lw_all := lw_g (lw_at lw_m5 175 rfl) rfl
theorem q1223 : (Jvm.Cond.instanceMethod ({ cls := "FortPlanner$Zone$3", name := "allows", desc := "(LFortPlanner$Block;)Z" } : Jvm.MethodName)) ∈ lw_all := lw_g (lw_at lw_m5 176 rfl) rfl
theorem q1224 : (Jvm.Cond.code ({ cls := "FortPlanner$Zone$3", name := "allows", desc := "(LFortPlanner$Block;)Z" } : Jvm.MethodName) prog_14_method_2_code (2 : Nat) (Option.some Jvm.ClassFile.FieldType.boolean)) ∈ lw_all := lw_g (lw_at lw_m5 177 rfl) rfl
theorem q2558 : (Jvm.Cond.castable "FortPlanner$Zone$3" "java/lang/Object") ∈ lw_tbl := lw_at lw_m11 71 rfl
theorem q2566 : (Jvm.Cond.castable "FortPlanner$Zone$3" "FortPlanner$Zone") ∈ lw_tbl := lw_at lw_m11 79 rfl
/-! the law's own entry -/
set_option maxRecDepth 100000
abbrev cL_law : ByteArray := code
def dkwL_law_132 : List UInt8 := [153, 0, 5, 3, 172, 167, 0, 3, 132, 4, 4, 167, 243, 17, 4, 172]
abbrev dktL_law_132 : List UInt8 := dkwL_law_132 ++ []
def dkwL_law_131 : List UInt8 := [182, 0, 175, 21, 5, 159, 0, 5, 3, 172, 21, 5, 154, 0, 15, 45, 3, 47, 21, 6, 133, 148]
abbrev dktL_law_131 : List UInt8 := dkwL_law_131 ++ dktL_law_132
def dkwL_law_130 : List UInt8 := [182, 1, 121, 159, 0, 49, 3, 172, 43, 45, 184, 1, 122, 54, 5, 44, 182, 1, 124, 54, 6, 44]
abbrev dktL_law_130 : List UInt8 := dkwL_law_130 ++ dktL_law_131
def dkwL_law_129 : List UInt8 := [154, 0, 15, 45, 3, 47, 21, 6, 133, 148, 153, 0, 5, 3, 172, 167, 0, 60, 43, 182, 1, 118, 44]
abbrev dktL_law_129 : List UInt8 := dkwL_law_129 ++ dktL_law_130
def dkwL_law_128 : List UInt8 := [184, 1, 115, 54, 5, 44, 182, 1, 117, 54, 6, 44, 182, 0, 175, 21, 5, 159, 0, 5, 3, 172, 21, 5]
abbrev dktL_law_128 : List UInt8 := dkwL_law_128 ++ dktL_law_129
def dkwL_law_127 : List UInt8 := [153, 0, 5, 3, 172, 167, 0, 117, 43, 182, 1, 111, 44, 182, 1, 114, 159, 0, 106, 3, 172, 43, 45]
abbrev dktL_law_127 : List UInt8 := dkwL_law_127 ++ dktL_law_128
def dkwL_law_126 : List UInt8 := [182, 0, 175, 21, 5, 159, 0, 5, 3, 172, 21, 5, 154, 0, 15, 45, 3, 47, 21, 6, 133, 148]
abbrev dktL_law_126 : List UInt8 := dkwL_law_126 ++ dktL_law_127
def dkwL_law_125 : List UInt8 := [153, 0, 5, 3, 172, 167, 0, 161, 43, 45, 184, 1, 108, 54, 5, 44, 182, 1, 110, 54, 6, 44]
abbrev dktL_law_125 : List UInt8 := dkwL_law_125 ++ dktL_law_126
def dkwL_law_124 : List UInt8 := [182, 0, 175, 21, 5, 159, 0, 5, 3, 172, 21, 5, 154, 0, 15, 45, 3, 47, 21, 6, 133, 148]
abbrev dktL_law_124 : List UInt8 := dkwL_law_124 ++ dktL_law_125
def dkwL_law_123 : List UInt8 := [153, 0, 5, 3, 172, 167, 0, 205, 43, 45, 184, 1, 105, 54, 5, 44, 182, 1, 107, 54, 6, 44]
abbrev dktL_law_123 : List UInt8 := dkwL_law_123 ++ dktL_law_124
def dkwL_law_122 : List UInt8 := [182, 0, 175, 21, 5, 159, 0, 5, 3, 172, 21, 5, 154, 0, 15, 45, 3, 47, 21, 6, 133, 148]
abbrev dktL_law_122 : List UInt8 := dkwL_law_122 ++ dktL_law_123
def dkwL_law_121 : List UInt8 := [148, 153, 0, 5, 3, 172, 167, 0, 249, 43, 45, 184, 1, 102, 54, 5, 44, 182, 1, 104, 54, 6, 44]
abbrev dktL_law_121 : List UInt8 := dkwL_law_121 ++ dktL_law_122
def dkwL_law_120 : List UInt8 := [54, 6, 44, 182, 0, 175, 21, 5, 159, 0, 5, 3, 172, 21, 5, 154, 0, 15, 45, 3, 47, 21, 6, 133]
abbrev dktL_law_120 : List UInt8 := dkwL_law_120 ++ dktL_law_121
def dkwL_law_119 : List UInt8 := [21, 4, 4, 96, 46, 146, 45, 184, 1, 98, 54, 5, 44, 42, 21, 4, 4, 96, 46, 146, 182, 1, 101]
abbrev dktL_law_119 : List UInt8 := dkwL_law_119 ++ dktL_law_120
def dkwL_law_118 : List UInt8 := [172, 21, 5, 154, 0, 15, 45, 3, 47, 21, 6, 133, 148, 153, 0, 5, 3, 172, 167, 1, 51, 43, 42]
abbrev dktL_law_118 : List UInt8 := dkwL_law_118 ++ dktL_law_119
def dkwL_law_117 : List UInt8 := [54, 5, 44, 42, 21, 4, 4, 96, 46, 182, 1, 97, 54, 6, 44, 182, 0, 175, 21, 5, 159, 0, 5, 3]
abbrev dktL_law_117 : List UInt8 := dkwL_law_117 ++ dktL_law_118
def dkwL_law_116 : List UInt8 := [182, 1, 91, 44, 182, 1, 94, 159, 1, 109, 3, 172, 43, 42, 21, 4, 4, 96, 46, 45, 184, 1, 95]
abbrev dktL_law_116 : List UInt8 := dkwL_law_116 ++ dktL_law_117
def dkwL_law_115 : List UInt8 := [172, 21, 5, 154, 0, 15, 45, 3, 47, 21, 6, 133, 148, 153, 0, 5, 3, 172, 167, 1, 120, 43]
abbrev dktL_law_115 : List UInt8 := dkwL_law_115 ++ dktL_law_116
def dkwL_law_114 : List UInt8 := [54, 5, 44, 42, 21, 4, 4, 96, 46, 182, 1, 90, 54, 6, 44, 182, 0, 175, 21, 5, 159, 0, 5, 3]
abbrev dktL_law_114 : List UInt8 := dkwL_law_114 ++ dktL_law_115
def dkwL_law_113 : List UInt8 := [43, 182, 1, 83, 44, 182, 1, 87, 159, 1, 178, 3, 172, 43, 42, 21, 4, 4, 96, 46, 45, 184, 1, 88]
abbrev dktL_law_113 : List UInt8 := dkwL_law_113 ++ dktL_law_114
def dkwL_law_112 : List UInt8 := [153, 0, 21, 24, 5, 24, 5, 151, 153, 0, 11, 24, 7, 24, 7, 151, 154, 0, 5, 3, 172, 167, 1, 189]
abbrev dktL_law_112 : List UInt8 := dkwL_law_112 ++ dktL_law_113
def dkwL_law_111 : List UInt8 := [3, 172, 167, 1, 232, 43, 182, 1, 78, 141, 57, 5, 44, 182, 1, 82, 141, 57, 7, 24, 5, 24, 7, 151]
abbrev dktL_law_111 : List UInt8 := dkwL_law_111 ++ dktL_law_112
def dkwL_law_110 : List UInt8 := [24, 5, 24, 7, 151, 153, 0, 21, 24, 5, 24, 5, 151, 153, 0, 11, 24, 7, 24, 7, 151, 154, 0, 5]
abbrev dktL_law_110 : List UInt8 := dkwL_law_110 ++ dktL_law_111
def dkwL_law_109 : List UInt8 := [182, 1, 69, 44, 182, 1, 72, 159, 2, 19, 3, 172, 43, 182, 1, 73, 57, 5, 44, 182, 1, 77, 57, 7]
abbrev dktL_law_109 : List UInt8 := dkwL_law_109 ++ dktL_law_110
def dkwL_law_108 : List UInt8 := [182, 1, 64, 159, 2, 45, 3, 172, 43, 182, 1, 65, 44, 182, 1, 68, 159, 2, 32, 3, 172, 43]
abbrev dktL_law_108 : List UInt8 := dkwL_law_108 ++ dktL_law_109
def dkwL_law_107 : List UInt8 := [21, 6, 153, 0, 7, 10, 167, 0, 4, 9, 148, 153, 0, 5, 3, 172, 167, 2, 56, 43, 182, 1, 61, 44]
abbrev dktL_law_107 : List UInt8 := dkwL_law_107 ++ dktL_law_108
def dkwL_law_106 : List UInt8 := [182, 1, 60, 54, 6, 44, 182, 0, 175, 21, 5, 159, 0, 5, 3, 172, 21, 5, 154, 0, 22, 45, 3, 47]
abbrev dktL_law_106 : List UInt8 := dkwL_law_106 ++ dktL_law_107
def dkwL_law_105 : List UInt8 := [172, 167, 2, 119, 43, 42, 21, 4, 4, 96, 46, 45, 184, 1, 58, 54, 5, 44, 42, 21, 4, 4, 96, 46]
abbrev dktL_law_105 : List UInt8 := dkwL_law_105 ++ dktL_law_106
def dkwL_law_104 : List UInt8 := [172, 21, 5, 154, 0, 22, 45, 3, 47, 21, 6, 153, 0, 7, 10, 167, 0, 4, 9, 148, 153, 0, 5, 3]
abbrev dktL_law_104 : List UInt8 := dkwL_law_104 ++ dktL_law_105
def dkwL_law_103 : List UInt8 := [54, 5, 44, 42, 21, 4, 4, 96, 46, 182, 1, 57, 54, 6, 44, 182, 0, 175, 21, 5, 159, 0, 5, 3]
abbrev dktL_law_103 : List UInt8 := dkwL_law_103 ++ dktL_law_104
def dkwL_law_102 : List UInt8 := [167, 0, 4, 9, 148, 153, 0, 5, 3, 172, 167, 2, 182, 43, 42, 21, 4, 4, 96, 46, 45, 184, 1, 55]
abbrev dktL_law_102 : List UInt8 := dkwL_law_102 ++ dktL_law_103
def dkwL_law_101 : List UInt8 := [182, 0, 175, 21, 5, 159, 0, 5, 3, 172, 21, 5, 154, 0, 22, 45, 3, 47, 21, 6, 153, 0, 7, 10]
abbrev dktL_law_101 : List UInt8 := dkwL_law_101 ++ dktL_law_102
def dkwL_law_100 : List UInt8 := [21, 4, 4, 96, 46, 45, 184, 1, 52, 54, 5, 44, 42, 21, 4, 4, 96, 46, 182, 1, 54, 54, 6, 44]
abbrev dktL_law_100 : List UInt8 := dkwL_law_100 ++ dktL_law_101
def dkwL_law_99 : List UInt8 := [172, 21, 5, 154, 0, 15, 45, 3, 47, 21, 6, 133, 148, 153, 0, 5, 3, 172, 167, 2, 245, 43, 42]
abbrev dktL_law_99 : List UInt8 := dkwL_law_99 ++ dktL_law_100
def dkwL_law_98 : List UInt8 := [54, 5, 44, 42, 21, 4, 4, 96, 46, 182, 1, 51, 54, 6, 44, 182, 0, 175, 21, 5, 159, 0, 5, 3]
abbrev dktL_law_98 : List UInt8 := dkwL_law_98 ++ dktL_law_99
def dkwL_law_97 : List UInt8 := [182, 1, 45, 44, 182, 1, 48, 159, 3, 47, 3, 172, 43, 42, 21, 4, 4, 96, 46, 45, 184, 1, 49]
abbrev dktL_law_97 : List UInt8 := dkwL_law_97 ++ dktL_law_98
def dkwL_law_96 : List UInt8 := [153, 0, 5, 3, 172, 167, 3, 71, 43, 182, 1, 41, 44, 182, 1, 44, 159, 3, 60, 3, 172, 43]
abbrev dktL_law_96 : List UInt8 := dkwL_law_96 ++ dktL_law_97
def dkwL_law_95 : List UInt8 := [182, 0, 175, 21, 5, 159, 0, 5, 3, 172, 21, 5, 154, 0, 15, 45, 3, 47, 21, 6, 133, 148]
abbrev dktL_law_95 : List UInt8 := dkwL_law_95 ++ dktL_law_96
def dkwL_law_94 : List UInt8 := [21, 4, 4, 96, 46, 45, 184, 1, 38, 54, 5, 44, 42, 21, 4, 4, 96, 46, 182, 1, 40, 54, 6, 44]
abbrev dktL_law_94 : List UInt8 := dkwL_law_94 ++ dktL_law_95
def dkwL_law_93 : List UInt8 := [172, 21, 5, 154, 0, 15, 45, 3, 47, 21, 6, 133, 148, 153, 0, 5, 3, 172, 167, 3, 127, 43, 42]
abbrev dktL_law_93 : List UInt8 := dkwL_law_93 ++ dktL_law_94
def dkwL_law_92 : List UInt8 := [54, 5, 44, 42, 21, 4, 4, 96, 46, 182, 1, 37, 54, 6, 44, 182, 0, 175, 21, 5, 159, 0, 5, 3]
abbrev dktL_law_92 : List UInt8 := dkwL_law_92 ++ dktL_law_93
def dkwL_law_91 : List UInt8 := [21, 6, 133, 148, 153, 0, 5, 3, 172, 167, 3, 183, 43, 42, 21, 4, 4, 96, 46, 45, 184, 1, 35]
abbrev dktL_law_91 : List UInt8 := dkwL_law_91 ++ dktL_law_92
def dkwL_law_90 : List UInt8 := [182, 1, 34, 54, 6, 44, 182, 0, 175, 21, 5, 159, 0, 5, 3, 172, 21, 5, 154, 0, 15, 45, 3, 47]
abbrev dktL_law_90 : List UInt8 := dkwL_law_90 ++ dktL_law_91
def dkwL_law_89 : List UInt8 := [167, 3, 239, 43, 42, 21, 4, 4, 96, 46, 45, 184, 1, 32, 54, 5, 44, 42, 21, 4, 4, 96, 46]
abbrev dktL_law_89 : List UInt8 := dkwL_law_89 ++ dktL_law_90
def dkwL_law_88 : List UInt8 := [21, 5, 159, 0, 5, 3, 172, 21, 5, 154, 0, 15, 45, 3, 47, 21, 6, 133, 148, 153, 0, 5, 3, 172]
abbrev dktL_law_88 : List UInt8 := dkwL_law_88 ++ dktL_law_89
def dkwL_law_87 : List UInt8 := [96, 46, 45, 184, 1, 29, 54, 5, 44, 42, 21, 4, 4, 96, 46, 182, 1, 31, 54, 6, 44, 182, 0, 175]
abbrev dktL_law_87 : List UInt8 := dkwL_law_87 ++ dktL_law_88
def dkwL_law_86 : List UInt8 := [21, 6, 153, 0, 7, 10, 167, 0, 4, 9, 148, 153, 0, 5, 3, 172, 167, 4, 39, 43, 42, 21, 4, 4]
abbrev dktL_law_86 : List UInt8 := dkwL_law_86 ++ dktL_law_87
def dkwL_law_85 : List UInt8 := [182, 1, 28, 54, 6, 44, 182, 0, 175, 21, 5, 159, 0, 5, 3, 172, 21, 5, 154, 0, 22, 45, 3, 47]
abbrev dktL_law_85 : List UInt8 := dkwL_law_85 ++ dktL_law_86
def dkwL_law_84 : List UInt8 := [21, 4, 5, 96, 46, 45, 184, 1, 26, 54, 5, 44, 42, 21, 4, 4, 96, 46, 42, 21, 4, 5, 96, 46]
abbrev dktL_law_84 : List UInt8 := dkwL_law_84 ++ dktL_law_85
def dkwL_law_83 : List UInt8 := [167, 4, 127, 43, 182, 1, 22, 44, 182, 1, 25, 159, 4, 116, 3, 172, 43, 42, 21, 4, 4, 96, 46, 42]
abbrev dktL_law_83 : List UInt8 := dkwL_law_83 ++ dktL_law_84
def dkwL_law_82 : List UInt8 := [21, 5, 159, 0, 5, 3, 172, 21, 5, 154, 0, 15, 45, 3, 47, 21, 6, 133, 148, 153, 0, 5, 3, 172]
abbrev dktL_law_82 : List UInt8 := dkwL_law_82 ++ dktL_law_83
def dkwL_law_81 : List UInt8 := [46, 45, 184, 1, 19, 54, 5, 44, 42, 21, 4, 4, 96, 46, 182, 1, 21, 54, 6, 44, 182, 0, 175]
abbrev dktL_law_81 : List UInt8 := dkwL_law_81 ++ dktL_law_82
def dkwL_law_80 : List UInt8 := [154, 0, 15, 45, 3, 47, 21, 6, 133, 148, 153, 0, 5, 3, 172, 167, 4, 183, 43, 42, 21, 4, 4, 96]
abbrev dktL_law_80 : List UInt8 := dkwL_law_80 ++ dktL_law_81
def dkwL_law_79 : List UInt8 := [21, 4, 4, 96, 46, 182, 1, 18, 54, 6, 44, 182, 0, 175, 21, 5, 159, 0, 5, 3, 172, 21, 5]
abbrev dktL_law_79 : List UInt8 := dkwL_law_79 ++ dktL_law_80
def dkwL_law_78 : List UInt8 := [148, 153, 0, 5, 3, 172, 167, 4, 239, 43, 42, 21, 4, 4, 96, 46, 45, 184, 1, 16, 54, 5, 44, 42]
abbrev dktL_law_78 : List UInt8 := dkwL_law_78 ++ dktL_law_79
def dkwL_law_77 : List UInt8 := [54, 6, 44, 182, 0, 175, 21, 5, 159, 0, 5, 3, 172, 21, 5, 154, 0, 15, 45, 3, 47, 21, 6, 133]
abbrev dktL_law_77 : List UInt8 := dkwL_law_77 ++ dktL_law_78
def dkwL_law_76 : List UInt8 := [21, 6, 133, 148, 153, 0, 5, 3, 172, 167, 5, 27, 43, 45, 184, 1, 12, 54, 5, 44, 182, 1, 15]
abbrev dktL_law_76 : List UInt8 := dkwL_law_76 ++ dktL_law_77
def dkwL_law_75 : List UInt8 := [182, 1, 11, 54, 6, 44, 182, 0, 175, 21, 5, 159, 0, 5, 3, 172, 21, 5, 154, 0, 15, 45, 3, 47]
abbrev dktL_law_75 : List UInt8 := dkwL_law_75 ++ dktL_law_76
def dkwL_law_74 : List UInt8 := [167, 5, 83, 43, 42, 21, 4, 4, 96, 46, 45, 184, 1, 9, 54, 5, 44, 42, 21, 4, 4, 96, 46]
abbrev dktL_law_74 : List UInt8 := dkwL_law_74 ++ dktL_law_75
def dkwL_law_73 : List UInt8 := [21, 5, 159, 0, 5, 3, 172, 21, 5, 154, 0, 15, 45, 3, 47, 21, 6, 133, 148, 153, 0, 5, 3, 172]
abbrev dktL_law_73 : List UInt8 := dkwL_law_73 ++ dktL_law_74
def dkwL_law_72 : List UInt8 := [46, 45, 184, 1, 6, 54, 5, 44, 42, 21, 4, 4, 96, 46, 182, 1, 8, 54, 6, 44, 182, 0, 175]
abbrev dktL_law_72 : List UInt8 := dkwL_law_72 ++ dktL_law_73
def dkwL_law_71 : List UInt8 := [154, 0, 15, 45, 3, 47, 21, 6, 133, 148, 153, 0, 5, 3, 172, 167, 5, 139, 43, 42, 21, 4, 4, 96]
abbrev dktL_law_71 : List UInt8 := dkwL_law_71 ++ dktL_law_72
def dkwL_law_70 : List UInt8 := [42, 21, 4, 4, 96, 46, 182, 1, 5, 54, 6, 44, 182, 0, 175, 21, 5, 159, 0, 5, 3, 172, 21, 5]
abbrev dktL_law_70 : List UInt8 := dkwL_law_70 ++ dktL_law_71
def dkwL_law_69 : List UInt8 := [9, 148, 153, 0, 5, 3, 172, 167, 5, 195, 43, 42, 21, 4, 4, 96, 46, 45, 184, 1, 3, 54, 5, 44]
abbrev dktL_law_69 : List UInt8 := dkwL_law_69 ++ dktL_law_70
def dkwL_law_68 : List UInt8 := [21, 5, 159, 0, 5, 3, 172, 21, 5, 154, 0, 22, 45, 3, 47, 21, 6, 153, 0, 7, 10, 167, 0, 4]
abbrev dktL_law_68 : List UInt8 := dkwL_law_68 ++ dktL_law_69
def dkwL_law_67 : List UInt8 := [46, 45, 184, 1, 0, 54, 5, 44, 42, 21, 4, 4, 96, 46, 182, 1, 2, 54, 6, 44, 182, 0, 175]
abbrev dktL_law_67 : List UInt8 := dkwL_law_67 ++ dktL_law_68
def dkwL_law_66 : List UInt8 := [154, 0, 15, 45, 3, 47, 21, 6, 133, 148, 153, 0, 5, 3, 172, 167, 6, 2, 43, 42, 21, 4, 4, 96]
abbrev dktL_law_66 : List UInt8 := dkwL_law_66 ++ dktL_law_67
def dkwL_law_65 : List UInt8 := [42, 21, 4, 5, 96, 46, 182, 0, 255, 54, 6, 44, 182, 0, 175, 21, 5, 159, 0, 5, 3, 172, 21, 5]
abbrev dktL_law_65 : List UInt8 := dkwL_law_65 ++ dktL_law_66
def dkwL_law_64 : List UInt8 := [21, 4, 4, 96, 46, 42, 21, 4, 5, 96, 46, 45, 184, 0, 253, 54, 5, 44, 42, 21, 4, 4, 96, 46]
abbrev dktL_law_64 : List UInt8 := dkwL_law_64 ++ dktL_law_65
def dkwL_law_63 : List UInt8 := [172, 21, 5, 154, 0, 15, 45, 3, 47, 21, 6, 133, 148, 153, 0, 5, 3, 172, 167, 6, 70, 43, 42]
abbrev dktL_law_63 : List UInt8 := dkwL_law_63 ++ dktL_law_64
def dkwL_law_62 : List UInt8 := [54, 5, 44, 42, 21, 4, 4, 96, 46, 182, 0, 252, 54, 6, 44, 182, 0, 175, 21, 5, 159, 0, 5, 3]
abbrev dktL_law_62 : List UInt8 := dkwL_law_62 ++ dktL_law_63
def dkwL_law_61 : List UInt8 := [21, 6, 133, 148, 153, 0, 5, 3, 172, 167, 6, 126, 43, 42, 21, 4, 4, 96, 46, 45, 184, 0, 250]
abbrev dktL_law_61 : List UInt8 := dkwL_law_61 ++ dktL_law_62
def dkwL_law_60 : List UInt8 := [182, 0, 249, 54, 6, 44, 182, 0, 175, 21, 5, 159, 0, 5, 3, 172, 21, 5, 154, 0, 15, 45, 3, 47]
abbrev dktL_law_60 : List UInt8 := dkwL_law_60 ++ dktL_law_61
def dkwL_law_59 : List UInt8 := [167, 6, 182, 43, 42, 21, 4, 4, 96, 46, 45, 184, 0, 247, 54, 5, 44, 42, 21, 4, 4, 96, 46]
abbrev dktL_law_59 : List UInt8 := dkwL_law_59 ++ dktL_law_60
def dkwL_law_58 : List UInt8 := [21, 5, 159, 0, 5, 3, 172, 21, 5, 154, 0, 15, 45, 3, 47, 21, 6, 133, 148, 153, 0, 5, 3, 172]
abbrev dktL_law_58 : List UInt8 := dkwL_law_58 ++ dktL_law_59
def dkwL_law_57 : List UInt8 := [46, 45, 184, 0, 244, 54, 5, 44, 42, 21, 4, 4, 96, 46, 182, 0, 246, 54, 6, 44, 182, 0, 175]
abbrev dktL_law_57 : List UInt8 := dkwL_law_57 ++ dktL_law_58
def dkwL_law_56 : List UInt8 := [154, 0, 15, 45, 3, 47, 21, 6, 133, 148, 153, 0, 5, 3, 172, 167, 6, 238, 43, 42, 21, 4, 4, 96]
abbrev dktL_law_56 : List UInt8 := dkwL_law_56 ++ dktL_law_57
def dkwL_law_55 : List UInt8 := [21, 4, 4, 96, 46, 182, 0, 243, 54, 6, 44, 182, 0, 175, 21, 5, 159, 0, 5, 3, 172, 21, 5]
abbrev dktL_law_55 : List UInt8 := dkwL_law_55 ++ dktL_law_56
def dkwL_law_54 : List UInt8 := [153, 0, 5, 3, 172, 167, 7, 38, 43, 42, 21, 4, 4, 96, 46, 45, 184, 0, 241, 54, 5, 44, 42]
abbrev dktL_law_54 : List UInt8 := dkwL_law_54 ++ dktL_law_55
def dkwL_law_53 : List UInt8 := [182, 0, 175, 21, 5, 159, 0, 5, 3, 172, 21, 5, 154, 0, 15, 45, 3, 47, 21, 6, 133, 148]
abbrev dktL_law_53 : List UInt8 := dkwL_law_53 ++ dktL_law_54
def dkwL_law_52 : List UInt8 := [21, 4, 4, 96, 46, 45, 184, 0, 238, 54, 5, 44, 42, 21, 4, 4, 96, 46, 182, 0, 240, 54, 6, 44]
abbrev dktL_law_52 : List UInt8 := dkwL_law_52 ++ dktL_law_53
def dkwL_law_51 : List UInt8 := [172, 21, 5, 154, 0, 15, 45, 3, 47, 21, 6, 133, 148, 153, 0, 5, 3, 172, 167, 7, 94, 43, 42]
abbrev dktL_law_51 : List UInt8 := dkwL_law_51 ++ dktL_law_52
def dkwL_law_50 : List UInt8 := [54, 5, 44, 42, 21, 4, 4, 96, 46, 182, 0, 237, 54, 6, 44, 182, 0, 175, 21, 5, 159, 0, 5, 3]
abbrev dktL_law_50 : List UInt8 := dkwL_law_50 ++ dktL_law_51
def dkwL_law_49 : List UInt8 := [21, 6, 133, 148, 153, 0, 5, 3, 172, 167, 7, 150, 43, 42, 21, 4, 4, 96, 46, 45, 184, 0, 235]
abbrev dktL_law_49 : List UInt8 := dkwL_law_49 ++ dktL_law_50
def dkwL_law_48 : List UInt8 := [182, 0, 234, 54, 6, 44, 182, 0, 175, 21, 5, 159, 0, 5, 3, 172, 21, 5, 154, 0, 15, 45, 3, 47]
abbrev dktL_law_48 : List UInt8 := dkwL_law_48 ++ dktL_law_49
def dkwL_law_47 : List UInt8 := [172, 167, 7, 206, 43, 42, 21, 4, 4, 96, 46, 45, 184, 0, 232, 54, 5, 44, 42, 21, 4, 4, 96, 46]
abbrev dktL_law_47 : List UInt8 := dkwL_law_47 ++ dktL_law_48
def dkwL_law_46 : List UInt8 := [172, 21, 5, 154, 0, 22, 45, 3, 47, 21, 6, 153, 0, 7, 10, 167, 0, 4, 9, 148, 153, 0, 5, 3]
abbrev dktL_law_46 : List UInt8 := dkwL_law_46 ++ dktL_law_47
def dkwL_law_45 : List UInt8 := [54, 5, 44, 42, 21, 4, 4, 96, 46, 182, 0, 231, 54, 6, 44, 182, 0, 175, 21, 5, 159, 0, 5, 3]
abbrev dktL_law_45 : List UInt8 := dkwL_law_45 ++ dktL_law_46
def dkwL_law_44 : List UInt8 := [167, 0, 4, 9, 148, 153, 0, 5, 3, 172, 167, 8, 13, 43, 42, 21, 4, 4, 96, 46, 45, 184, 0, 229]
abbrev dktL_law_44 : List UInt8 := dkwL_law_44 ++ dktL_law_45
def dkwL_law_43 : List UInt8 := [182, 0, 175, 21, 5, 159, 0, 5, 3, 172, 21, 5, 154, 0, 22, 45, 3, 47, 21, 6, 153, 0, 7, 10]
abbrev dktL_law_43 : List UInt8 := dkwL_law_43 ++ dktL_law_44
def dkwL_law_42 : List UInt8 := [21, 4, 4, 96, 46, 45, 184, 0, 226, 54, 5, 44, 42, 21, 4, 4, 96, 46, 182, 0, 228, 54, 6, 44]
abbrev dktL_law_42 : List UInt8 := dkwL_law_42 ++ dktL_law_43
def dkwL_law_41 : List UInt8 := [172, 21, 5, 154, 0, 15, 45, 3, 47, 21, 6, 133, 148, 153, 0, 5, 3, 172, 167, 8, 76, 43, 42]
abbrev dktL_law_41 : List UInt8 := dkwL_law_41 ++ dktL_law_42
def dkwL_law_40 : List UInt8 := [54, 5, 44, 42, 21, 4, 4, 96, 46, 182, 0, 225, 54, 6, 44, 182, 0, 175, 21, 5, 159, 0, 5, 3]
abbrev dktL_law_40 : List UInt8 := dkwL_law_40 ++ dktL_law_41
def dkwL_law_39 : List UInt8 := [21, 4, 4, 96, 46, 182, 0, 222, 159, 8, 134, 3, 172, 43, 42, 21, 4, 4, 96, 46, 45, 184, 0, 223]
abbrev dktL_law_39 : List UInt8 := dkwL_law_39 ++ dktL_law_40
def dkwL_law_38 : List UInt8 := [182, 0, 215, 44, 182, 0, 218, 159, 8, 159, 3, 172, 43, 42, 21, 4, 4, 96, 46, 182, 0, 219, 44, 42]
abbrev dktL_law_38 : List UInt8 := dkwL_law_38 ++ dktL_law_39
def dkwL_law_37 : List UInt8 := [153, 0, 5, 3, 172, 167, 8, 183, 43, 182, 0, 211, 44, 182, 0, 214, 159, 8, 172, 3, 172, 43]
abbrev dktL_law_37 : List UInt8 := dkwL_law_37 ++ dktL_law_38
def dkwL_law_36 : List UInt8 := [182, 0, 175, 21, 5, 159, 0, 5, 3, 172, 21, 5, 154, 0, 15, 45, 3, 47, 21, 6, 133, 148]
abbrev dktL_law_36 : List UInt8 := dkwL_law_36 ++ dktL_law_37
def dkwL_law_35 : List UInt8 := [184, 0, 207, 54, 5, 44, 42, 21, 4, 4, 96, 46, 42, 21, 4, 5, 96, 46, 182, 0, 210, 54, 6, 44]
abbrev dktL_law_35 : List UInt8 := dkwL_law_35 ++ dktL_law_36
def dkwL_law_34 : List UInt8 := [9, 148, 153, 0, 5, 3, 172, 167, 8, 251, 43, 42, 21, 4, 4, 96, 46, 42, 21, 4, 5, 96, 46, 45]
abbrev dktL_law_34 : List UInt8 := dkwL_law_34 ++ dktL_law_35
def dkwL_law_33 : List UInt8 := [21, 5, 159, 0, 5, 3, 172, 21, 5, 154, 0, 22, 45, 3, 47, 21, 6, 153, 0, 7, 10, 167, 0, 4]
abbrev dktL_law_33 : List UInt8 := dkwL_law_33 ++ dktL_law_34
def dkwL_law_32 : List UInt8 := [4, 96, 46, 42, 21, 4, 5, 96, 46, 42, 21, 4, 6, 96, 46, 182, 0, 206, 54, 6, 44, 182, 0, 175]
abbrev dktL_law_32 : List UInt8 := dkwL_law_32 ++ dktL_law_33
def dkwL_law_31 : List UInt8 := [96, 46, 42, 21, 4, 5, 96, 46, 42, 21, 4, 6, 96, 46, 45, 184, 0, 204, 54, 5, 44, 42, 21, 4]
abbrev dktL_law_31 : List UInt8 := dkwL_law_31 ++ dktL_law_32
def dkwL_law_30 : List UInt8 := [21, 6, 153, 0, 7, 10, 167, 0, 4, 9, 148, 153, 0, 5, 3, 172, 167, 9, 82, 43, 42, 21, 4, 4]
abbrev dktL_law_30 : List UInt8 := dkwL_law_30 ++ dktL_law_31
def dkwL_law_29 : List UInt8 := [182, 0, 203, 54, 6, 44, 182, 0, 175, 21, 5, 159, 0, 5, 3, 172, 21, 5, 154, 0, 22, 45, 3, 47]
abbrev dktL_law_29 : List UInt8 := dkwL_law_29 ++ dktL_law_30
def dkwL_law_28 : List UInt8 := [184, 0, 201, 54, 5, 44, 42, 21, 4, 4, 96, 46, 42, 21, 4, 5, 96, 46, 42, 21, 4, 6, 96, 46]
abbrev dktL_law_28 : List UInt8 := dkwL_law_28 ++ dktL_law_29
def dkwL_law_27 : List UInt8 := [167, 9, 169, 43, 42, 21, 4, 4, 96, 46, 42, 21, 4, 5, 96, 46, 42, 21, 4, 6, 96, 46, 45]
abbrev dktL_law_27 : List UInt8 := dkwL_law_27 ++ dktL_law_28
def dkwL_law_26 : List UInt8 := [154, 0, 22, 45, 3, 47, 21, 6, 153, 0, 7, 10, 167, 0, 4, 9, 148, 153, 0, 5, 3, 172]
abbrev dktL_law_26 : List UInt8 := dkwL_law_26 ++ dktL_law_27
def dkwL_law_25 : List UInt8 := [21, 4, 6, 96, 46, 182, 0, 200, 54, 6, 44, 182, 0, 175, 21, 5, 159, 0, 5, 3, 172, 21, 5]
abbrev dktL_law_25 : List UInt8 := dkwL_law_25 ++ dktL_law_26
def dkwL_law_24 : List UInt8 := [6, 96, 46, 45, 184, 0, 198, 54, 5, 44, 42, 21, 4, 4, 96, 46, 42, 21, 4, 5, 96, 46, 42]
abbrev dktL_law_24 : List UInt8 := dkwL_law_24 ++ dktL_law_25
def dkwL_law_23 : List UInt8 := [153, 0, 5, 3, 172, 167, 10, 0, 43, 42, 21, 4, 4, 96, 46, 42, 21, 4, 5, 96, 46, 42, 21, 4]
abbrev dktL_law_23 : List UInt8 := dkwL_law_23 ++ dktL_law_24
def dkwL_law_22 : List UInt8 := [182, 0, 175, 21, 5, 159, 0, 5, 3, 172, 21, 5, 154, 0, 15, 45, 3, 47, 21, 6, 133, 148]
abbrev dktL_law_22 : List UInt8 := dkwL_law_22 ++ dktL_law_23
def dkwL_law_21 : List UInt8 := [21, 4, 4, 96, 46, 45, 184, 0, 195, 54, 5, 44, 42, 21, 4, 4, 96, 46, 182, 0, 197, 54, 6, 44]
abbrev dktL_law_21 : List UInt8 := dkwL_law_21 ++ dktL_law_22
def dkwL_law_20 : List UInt8 := [172, 21, 5, 154, 0, 15, 45, 3, 47, 21, 6, 133, 148, 153, 0, 5, 3, 172, 167, 10, 56, 43, 42]
abbrev dktL_law_20 : List UInt8 := dkwL_law_20 ++ dktL_law_21
def dkwL_law_19 : List UInt8 := [54, 5, 44, 42, 21, 4, 4, 96, 46, 182, 0, 194, 54, 6, 44, 182, 0, 175, 21, 5, 159, 0, 5, 3]
abbrev dktL_law_19 : List UInt8 := dkwL_law_19 ++ dktL_law_20
def dkwL_law_18 : List UInt8 := [21, 6, 133, 148, 153, 0, 5, 3, 172, 167, 10, 112, 43, 42, 21, 4, 4, 96, 46, 45, 184, 0, 192]
abbrev dktL_law_18 : List UInt8 := dkwL_law_18 ++ dktL_law_19
def dkwL_law_17 : List UInt8 := [182, 0, 191, 54, 6, 44, 182, 0, 175, 21, 5, 159, 0, 5, 3, 172, 21, 5, 154, 0, 15, 45, 3, 47]
abbrev dktL_law_17 : List UInt8 := dkwL_law_17 ++ dktL_law_18
def dkwL_law_16 : List UInt8 := [46, 146, 45, 184, 0, 188, 54, 5, 44, 42, 21, 4, 4, 96, 46, 42, 21, 4, 5, 96, 46, 146]
abbrev dktL_law_16 : List UInt8 := dkwL_law_16 ++ dktL_law_17
def dkwL_law_15 : List UInt8 := [21, 6, 133, 148, 153, 0, 5, 3, 172, 167, 10, 182, 43, 42, 21, 4, 4, 96, 46, 42, 21, 4, 5, 96]
abbrev dktL_law_15 : List UInt8 := dkwL_law_15 ++ dktL_law_16
def dkwL_law_14 : List UInt8 := [182, 0, 187, 54, 6, 44, 182, 0, 175, 21, 5, 159, 0, 5, 3, 172, 21, 5, 154, 0, 15, 45, 3, 47]
abbrev dktL_law_14 : List UInt8 := dkwL_law_14 ++ dktL_law_15
def dkwL_law_13 : List UInt8 := [167, 10, 238, 43, 42, 21, 4, 4, 96, 46, 45, 184, 0, 184, 54, 5, 44, 42, 21, 4, 4, 96, 46]
abbrev dktL_law_13 : List UInt8 := dkwL_law_13 ++ dktL_law_14
def dkwL_law_12 : List UInt8 := [21, 5, 159, 0, 5, 3, 172, 21, 5, 154, 0, 15, 45, 3, 47, 21, 6, 133, 148, 153, 0, 5, 3, 172]
abbrev dktL_law_12 : List UInt8 := dkwL_law_12 ++ dktL_law_13
def dkwL_law_11 : List UInt8 := [96, 46, 42, 21, 4, 5, 96, 46, 42, 21, 4, 6, 96, 46, 182, 0, 183, 54, 6, 44, 182, 0, 175]
abbrev dktL_law_11 : List UInt8 := dkwL_law_11 ++ dktL_law_12
def dkwL_law_10 : List UInt8 := [46, 42, 21, 4, 5, 96, 46, 42, 21, 4, 6, 96, 46, 45, 184, 0, 181, 54, 5, 44, 42, 21, 4, 4]
abbrev dktL_law_10 : List UInt8 := dkwL_law_10 ++ dktL_law_11
def dkwL_law_9 : List UInt8 := [154, 0, 15, 45, 3, 47, 21, 6, 133, 148, 153, 0, 5, 3, 172, 167, 11, 62, 43, 42, 21, 4, 4, 96]
abbrev dktL_law_9 : List UInt8 := dkwL_law_9 ++ dktL_law_10
def dkwL_law_8 : List UInt8 := [42, 21, 4, 6, 96, 46, 182, 0, 180, 54, 6, 44, 182, 0, 175, 21, 5, 159, 0, 5, 3, 172, 21, 5]
abbrev dktL_law_8 : List UInt8 := dkwL_law_8 ++ dktL_law_9
def dkwL_law_7 : List UInt8 := [21, 4, 6, 96, 46, 45, 184, 0, 178, 54, 5, 44, 42, 21, 4, 4, 96, 46, 42, 21, 4, 5, 96, 46]
abbrev dktL_law_7 : List UInt8 := dkwL_law_7 ++ dktL_law_8
def dkwL_law_6 : List UInt8 := [148, 153, 0, 5, 3, 172, 167, 11, 142, 43, 42, 21, 4, 4, 96, 46, 42, 21, 4, 5, 96, 46, 42]
abbrev dktL_law_6 : List UInt8 := dkwL_law_6 ++ dktL_law_7
def dkwL_law_5 : List UInt8 := [54, 6, 44, 182, 0, 175, 21, 5, 159, 0, 5, 3, 172, 21, 5, 154, 0, 15, 45, 3, 47, 21, 6, 133]
abbrev dktL_law_5 : List UInt8 := dkwL_law_5 ++ dktL_law_6
def dkwL_law_4 : List UInt8 := [54, 5, 44, 42, 21, 4, 4, 96, 46, 42, 21, 4, 5, 96, 46, 42, 21, 4, 6, 96, 46, 182, 0, 174]
abbrev dktL_law_4 : List UInt8 := dkwL_law_4 ++ dktL_law_5
def dkwL_law_3 : List UInt8 := [43, 42, 21, 4, 4, 96, 46, 42, 21, 4, 5, 96, 46, 42, 21, 4, 6, 96, 46, 45, 184, 0, 169]
abbrev dktL_law_3 : List UInt8 := dkwL_law_3 ++ dktL_law_4
def dkwL_law_2 : List UInt8 := [170, 0, 0, 12, 220, 0, 0, 0, 0, 0, 0, 0, 60, 0, 0, 1, 1, 0, 0, 1, 81, 0, 0, 1, 161, 0, 0, 1, 241, 0, 0, 2, 41, 0, 0, 2, 111, 0, 0, 2, 167, 0, 0, 2, 223, 0, 0, 3, 54, 0, 0, 3, 141, 0, 0, 3, 228, 0, 0, 4, 40, 0, 0, 4, 53, 0, 0, 4, 66, 0, 0, 4, 91, 0, 0, 4, 147, 0, 0, 4, 210, 0, 0, 5, 17, 0, 0, 5, 73, 0, 0, 5, 129, 0, 0, 5, 185, 0, 0, 5, 241, 0, 0, 6, 41, 0, 0, 6, 97, 0, 0, 6, 153, 0, 0, 6, 221, 0, 0, 7, 28, 0, 0, 7, 84, 0, 0, 7, 140, 0, 0, 7, 196, 0, 0, 7, 240, 0, 0, 8, 40, 0, 0, 8, 96, 0, 0, 8, 109, 0, 0, 8, 184, 0, 0, 8, 240, 0, 0, 9, 40, 0, 0, 9, 96, 0, 0, 9, 152, 0, 0, 9, 165, 0, 0, 9, 178, 0, 0, 9, 234, 0, 0, 10, 41, 0, 0, 10, 104, 0, 0, 10, 167, 0, 0, 10, 180, 0, 0, 10, 193, 0, 0, 10, 206, 0, 0, 10, 247, 0, 0, 11, 34, 0, 0, 11, 47, 0, 0, 11, 103, 0, 0, 11, 116, 0, 0, 11, 172, 0, 0, 11, 230, 0, 0, 12, 18, 0, 0, 12, 62, 0, 0, 12, 106, 0, 0, 12, 119, 0, 0, 12, 163, 0, 0, 12, 176]
abbrev dktL_law_2 : List UInt8 := dkwL_law_2 ++ dktL_law_3
def dkwL_law_1 : List UInt8 := [21, 4, 42, 190, 7, 100, 163, 12, 236, 42, 21, 4, 46, 16, 63, 126]
abbrev dktL_law_1 : List UInt8 := dkwL_law_1 ++ dktL_law_2
def dkwL_law_0 : List UInt8 := [187, 0, 8, 89, 183, 0, 165, 76, 187, 0, 166, 89, 183, 0, 168, 77, 4, 188, 11, 78, 3, 54, 4]
abbrev dktL_law_0 : List UInt8 := dkwL_law_0 ++ dktL_law_1
theorem dksL_law_0 : cL_law.data.toList.drop 0 = dktL_law_0 := by decide +kernel
theorem dksL_law_1 : cL_law.data.toList.drop 23 = dktL_law_1 := dk_seg dksL_law_0 23 rfl rfl
theorem dksL_law_2 : cL_law.data.toList.drop 39 = dktL_law_2 := dk_seg dksL_law_1 16 rfl rfl
theorem dksL_law_3 : cL_law.data.toList.drop 296 = dktL_law_3 := dk_seg dksL_law_2 257 rfl rfl
theorem dksL_law_4 : cL_law.data.toList.drop 319 = dktL_law_4 := dk_seg dksL_law_3 23 rfl rfl
theorem dksL_law_5 : cL_law.data.toList.drop 343 = dktL_law_5 := dk_seg dksL_law_4 24 rfl rfl
theorem dksL_law_6 : cL_law.data.toList.drop 367 = dktL_law_6 := dk_seg dksL_law_5 24 rfl rfl
theorem dksL_law_7 : cL_law.data.toList.drop 390 = dktL_law_7 := dk_seg dksL_law_6 23 rfl rfl
theorem dksL_law_8 : cL_law.data.toList.drop 414 = dktL_law_8 := dk_seg dksL_law_7 24 rfl rfl
theorem dksL_law_9 : cL_law.data.toList.drop 438 = dktL_law_9 := dk_seg dksL_law_8 24 rfl rfl
theorem dksL_law_10 : cL_law.data.toList.drop 462 = dktL_law_10 := dk_seg dksL_law_9 24 rfl rfl
theorem dksL_law_11 : cL_law.data.toList.drop 486 = dktL_law_11 := dk_seg dksL_law_10 24 rfl rfl
theorem dksL_law_12 : cL_law.data.toList.drop 509 = dktL_law_12 := dk_seg dksL_law_11 23 rfl rfl
theorem dksL_law_13 : cL_law.data.toList.drop 533 = dktL_law_13 := dk_seg dksL_law_12 24 rfl rfl
theorem dksL_law_14 : cL_law.data.toList.drop 556 = dktL_law_14 := dk_seg dksL_law_13 23 rfl rfl
theorem dksL_law_15 : cL_law.data.toList.drop 580 = dktL_law_15 := dk_seg dksL_law_14 24 rfl rfl
theorem dksL_law_16 : cL_law.data.toList.drop 604 = dktL_law_16 := dk_seg dksL_law_15 24 rfl rfl
theorem dksL_law_17 : cL_law.data.toList.drop 626 = dktL_law_17 := dk_seg dksL_law_16 22 rfl rfl
theorem dksL_law_18 : cL_law.data.toList.drop 650 = dktL_law_18 := dk_seg dksL_law_17 24 rfl rfl
theorem dksL_law_19 : cL_law.data.toList.drop 673 = dktL_law_19 := dk_seg dksL_law_18 23 rfl rfl
theorem dksL_law_20 : cL_law.data.toList.drop 697 = dktL_law_20 := dk_seg dksL_law_19 24 rfl rfl
theorem dksL_law_21 : cL_law.data.toList.drop 720 = dktL_law_21 := dk_seg dksL_law_20 23 rfl rfl
theorem dksL_law_22 : cL_law.data.toList.drop 744 = dktL_law_22 := dk_seg dksL_law_21 24 rfl rfl
theorem dksL_law_23 : cL_law.data.toList.drop 766 = dktL_law_23 := dk_seg dksL_law_22 22 rfl rfl
theorem dksL_law_24 : cL_law.data.toList.drop 790 = dktL_law_24 := dk_seg dksL_law_23 24 rfl rfl
theorem dksL_law_25 : cL_law.data.toList.drop 813 = dktL_law_25 := dk_seg dksL_law_24 23 rfl rfl
theorem dksL_law_26 : cL_law.data.toList.drop 836 = dktL_law_26 := dk_seg dksL_law_25 23 rfl rfl
theorem dksL_law_27 : cL_law.data.toList.drop 858 = dktL_law_27 := dk_seg dksL_law_26 22 rfl rfl
theorem dksL_law_28 : cL_law.data.toList.drop 881 = dktL_law_28 := dk_seg dksL_law_27 23 rfl rfl
theorem dksL_law_29 : cL_law.data.toList.drop 905 = dktL_law_29 := dk_seg dksL_law_28 24 rfl rfl
theorem dksL_law_30 : cL_law.data.toList.drop 929 = dktL_law_30 := dk_seg dksL_law_29 24 rfl rfl
theorem dksL_law_31 : cL_law.data.toList.drop 953 = dktL_law_31 := dk_seg dksL_law_30 24 rfl rfl
theorem dksL_law_32 : cL_law.data.toList.drop 977 = dktL_law_32 := dk_seg dksL_law_31 24 rfl rfl
theorem dksL_law_33 : cL_law.data.toList.drop 1001 = dktL_law_33 := dk_seg dksL_law_32 24 rfl rfl
theorem dksL_law_34 : cL_law.data.toList.drop 1025 = dktL_law_34 := dk_seg dksL_law_33 24 rfl rfl
theorem dksL_law_35 : cL_law.data.toList.drop 1049 = dktL_law_35 := dk_seg dksL_law_34 24 rfl rfl
theorem dksL_law_36 : cL_law.data.toList.drop 1073 = dktL_law_36 := dk_seg dksL_law_35 24 rfl rfl
theorem dksL_law_37 : cL_law.data.toList.drop 1095 = dktL_law_37 := dk_seg dksL_law_36 22 rfl rfl
theorem dksL_law_38 : cL_law.data.toList.drop 1117 = dktL_law_38 := dk_seg dksL_law_37 22 rfl rfl
theorem dksL_law_39 : cL_law.data.toList.drop 1141 = dktL_law_39 := dk_seg dksL_law_38 24 rfl rfl
theorem dksL_law_40 : cL_law.data.toList.drop 1165 = dktL_law_40 := dk_seg dksL_law_39 24 rfl rfl
theorem dksL_law_41 : cL_law.data.toList.drop 1189 = dktL_law_41 := dk_seg dksL_law_40 24 rfl rfl
theorem dksL_law_42 : cL_law.data.toList.drop 1212 = dktL_law_42 := dk_seg dksL_law_41 23 rfl rfl
theorem dksL_law_43 : cL_law.data.toList.drop 1236 = dktL_law_43 := dk_seg dksL_law_42 24 rfl rfl
theorem dksL_law_44 : cL_law.data.toList.drop 1260 = dktL_law_44 := dk_seg dksL_law_43 24 rfl rfl
theorem dksL_law_45 : cL_law.data.toList.drop 1284 = dktL_law_45 := dk_seg dksL_law_44 24 rfl rfl
theorem dksL_law_46 : cL_law.data.toList.drop 1308 = dktL_law_46 := dk_seg dksL_law_45 24 rfl rfl
theorem dksL_law_47 : cL_law.data.toList.drop 1332 = dktL_law_47 := dk_seg dksL_law_46 24 rfl rfl
theorem dksL_law_48 : cL_law.data.toList.drop 1356 = dktL_law_48 := dk_seg dksL_law_47 24 rfl rfl
theorem dksL_law_49 : cL_law.data.toList.drop 1380 = dktL_law_49 := dk_seg dksL_law_48 24 rfl rfl
theorem dksL_law_50 : cL_law.data.toList.drop 1403 = dktL_law_50 := dk_seg dksL_law_49 23 rfl rfl
theorem dksL_law_51 : cL_law.data.toList.drop 1427 = dktL_law_51 := dk_seg dksL_law_50 24 rfl rfl
theorem dksL_law_52 : cL_law.data.toList.drop 1450 = dktL_law_52 := dk_seg dksL_law_51 23 rfl rfl
theorem dksL_law_53 : cL_law.data.toList.drop 1474 = dktL_law_53 := dk_seg dksL_law_52 24 rfl rfl
theorem dksL_law_54 : cL_law.data.toList.drop 1496 = dktL_law_54 := dk_seg dksL_law_53 22 rfl rfl
theorem dksL_law_55 : cL_law.data.toList.drop 1519 = dktL_law_55 := dk_seg dksL_law_54 23 rfl rfl
theorem dksL_law_56 : cL_law.data.toList.drop 1542 = dktL_law_56 := dk_seg dksL_law_55 23 rfl rfl
theorem dksL_law_57 : cL_law.data.toList.drop 1566 = dktL_law_57 := dk_seg dksL_law_56 24 rfl rfl
theorem dksL_law_58 : cL_law.data.toList.drop 1589 = dktL_law_58 := dk_seg dksL_law_57 23 rfl rfl
theorem dksL_law_59 : cL_law.data.toList.drop 1613 = dktL_law_59 := dk_seg dksL_law_58 24 rfl rfl
theorem dksL_law_60 : cL_law.data.toList.drop 1636 = dktL_law_60 := dk_seg dksL_law_59 23 rfl rfl
theorem dksL_law_61 : cL_law.data.toList.drop 1660 = dktL_law_61 := dk_seg dksL_law_60 24 rfl rfl
theorem dksL_law_62 : cL_law.data.toList.drop 1683 = dktL_law_62 := dk_seg dksL_law_61 23 rfl rfl
theorem dksL_law_63 : cL_law.data.toList.drop 1707 = dktL_law_63 := dk_seg dksL_law_62 24 rfl rfl
theorem dksL_law_64 : cL_law.data.toList.drop 1730 = dktL_law_64 := dk_seg dksL_law_63 23 rfl rfl
theorem dksL_law_65 : cL_law.data.toList.drop 1754 = dktL_law_65 := dk_seg dksL_law_64 24 rfl rfl
theorem dksL_law_66 : cL_law.data.toList.drop 1778 = dktL_law_66 := dk_seg dksL_law_65 24 rfl rfl
theorem dksL_law_67 : cL_law.data.toList.drop 1802 = dktL_law_67 := dk_seg dksL_law_66 24 rfl rfl
theorem dksL_law_68 : cL_law.data.toList.drop 1825 = dktL_law_68 := dk_seg dksL_law_67 23 rfl rfl
theorem dksL_law_69 : cL_law.data.toList.drop 1849 = dktL_law_69 := dk_seg dksL_law_68 24 rfl rfl
theorem dksL_law_70 : cL_law.data.toList.drop 1873 = dktL_law_70 := dk_seg dksL_law_69 24 rfl rfl
theorem dksL_law_71 : cL_law.data.toList.drop 1897 = dktL_law_71 := dk_seg dksL_law_70 24 rfl rfl
theorem dksL_law_72 : cL_law.data.toList.drop 1921 = dktL_law_72 := dk_seg dksL_law_71 24 rfl rfl
theorem dksL_law_73 : cL_law.data.toList.drop 1944 = dktL_law_73 := dk_seg dksL_law_72 23 rfl rfl
theorem dksL_law_74 : cL_law.data.toList.drop 1968 = dktL_law_74 := dk_seg dksL_law_73 24 rfl rfl
theorem dksL_law_75 : cL_law.data.toList.drop 1991 = dktL_law_75 := dk_seg dksL_law_74 23 rfl rfl
theorem dksL_law_76 : cL_law.data.toList.drop 2015 = dktL_law_76 := dk_seg dksL_law_75 24 rfl rfl
theorem dksL_law_77 : cL_law.data.toList.drop 2038 = dktL_law_77 := dk_seg dksL_law_76 23 rfl rfl
theorem dksL_law_78 : cL_law.data.toList.drop 2062 = dktL_law_78 := dk_seg dksL_law_77 24 rfl rfl
theorem dksL_law_79 : cL_law.data.toList.drop 2086 = dktL_law_79 := dk_seg dksL_law_78 24 rfl rfl
theorem dksL_law_80 : cL_law.data.toList.drop 2109 = dktL_law_80 := dk_seg dksL_law_79 23 rfl rfl
theorem dksL_law_81 : cL_law.data.toList.drop 2133 = dktL_law_81 := dk_seg dksL_law_80 24 rfl rfl
theorem dksL_law_82 : cL_law.data.toList.drop 2156 = dktL_law_82 := dk_seg dksL_law_81 23 rfl rfl
theorem dksL_law_83 : cL_law.data.toList.drop 2180 = dktL_law_83 := dk_seg dksL_law_82 24 rfl rfl
theorem dksL_law_84 : cL_law.data.toList.drop 2204 = dktL_law_84 := dk_seg dksL_law_83 24 rfl rfl
theorem dksL_law_85 : cL_law.data.toList.drop 2228 = dktL_law_85 := dk_seg dksL_law_84 24 rfl rfl
theorem dksL_law_86 : cL_law.data.toList.drop 2252 = dktL_law_86 := dk_seg dksL_law_85 24 rfl rfl
theorem dksL_law_87 : cL_law.data.toList.drop 2276 = dktL_law_87 := dk_seg dksL_law_86 24 rfl rfl
theorem dksL_law_88 : cL_law.data.toList.drop 2300 = dktL_law_88 := dk_seg dksL_law_87 24 rfl rfl
theorem dksL_law_89 : cL_law.data.toList.drop 2324 = dktL_law_89 := dk_seg dksL_law_88 24 rfl rfl
theorem dksL_law_90 : cL_law.data.toList.drop 2347 = dktL_law_90 := dk_seg dksL_law_89 23 rfl rfl
theorem dksL_law_91 : cL_law.data.toList.drop 2371 = dktL_law_91 := dk_seg dksL_law_90 24 rfl rfl
theorem dksL_law_92 : cL_law.data.toList.drop 2394 = dktL_law_92 := dk_seg dksL_law_91 23 rfl rfl
theorem dksL_law_93 : cL_law.data.toList.drop 2418 = dktL_law_93 := dk_seg dksL_law_92 24 rfl rfl
theorem dksL_law_94 : cL_law.data.toList.drop 2441 = dktL_law_94 := dk_seg dksL_law_93 23 rfl rfl
theorem dksL_law_95 : cL_law.data.toList.drop 2465 = dktL_law_95 := dk_seg dksL_law_94 24 rfl rfl
theorem dksL_law_96 : cL_law.data.toList.drop 2487 = dktL_law_96 := dk_seg dksL_law_95 22 rfl rfl
theorem dksL_law_97 : cL_law.data.toList.drop 2509 = dktL_law_97 := dk_seg dksL_law_96 22 rfl rfl
theorem dksL_law_98 : cL_law.data.toList.drop 2532 = dktL_law_98 := dk_seg dksL_law_97 23 rfl rfl
theorem dksL_law_99 : cL_law.data.toList.drop 2556 = dktL_law_99 := dk_seg dksL_law_98 24 rfl rfl
theorem dksL_law_100 : cL_law.data.toList.drop 2579 = dktL_law_100 := dk_seg dksL_law_99 23 rfl rfl
theorem dksL_law_101 : cL_law.data.toList.drop 2603 = dktL_law_101 := dk_seg dksL_law_100 24 rfl rfl
theorem dksL_law_102 : cL_law.data.toList.drop 2627 = dktL_law_102 := dk_seg dksL_law_101 24 rfl rfl
theorem dksL_law_103 : cL_law.data.toList.drop 2651 = dktL_law_103 := dk_seg dksL_law_102 24 rfl rfl
theorem dksL_law_104 : cL_law.data.toList.drop 2675 = dktL_law_104 := dk_seg dksL_law_103 24 rfl rfl
theorem dksL_law_105 : cL_law.data.toList.drop 2699 = dktL_law_105 := dk_seg dksL_law_104 24 rfl rfl
theorem dksL_law_106 : cL_law.data.toList.drop 2723 = dktL_law_106 := dk_seg dksL_law_105 24 rfl rfl
theorem dksL_law_107 : cL_law.data.toList.drop 2747 = dktL_law_107 := dk_seg dksL_law_106 24 rfl rfl
theorem dksL_law_108 : cL_law.data.toList.drop 2771 = dktL_law_108 := dk_seg dksL_law_107 24 rfl rfl
theorem dksL_law_109 : cL_law.data.toList.drop 2793 = dktL_law_109 := dk_seg dksL_law_108 22 rfl rfl
theorem dksL_law_110 : cL_law.data.toList.drop 2817 = dktL_law_110 := dk_seg dksL_law_109 24 rfl rfl
theorem dksL_law_111 : cL_law.data.toList.drop 2841 = dktL_law_111 := dk_seg dksL_law_110 24 rfl rfl
theorem dksL_law_112 : cL_law.data.toList.drop 2865 = dktL_law_112 := dk_seg dksL_law_111 24 rfl rfl
theorem dksL_law_113 : cL_law.data.toList.drop 2889 = dktL_law_113 := dk_seg dksL_law_112 24 rfl rfl
theorem dksL_law_114 : cL_law.data.toList.drop 2913 = dktL_law_114 := dk_seg dksL_law_113 24 rfl rfl
theorem dksL_law_115 : cL_law.data.toList.drop 2937 = dktL_law_115 := dk_seg dksL_law_114 24 rfl rfl
theorem dksL_law_116 : cL_law.data.toList.drop 2959 = dktL_law_116 := dk_seg dksL_law_115 22 rfl rfl
theorem dksL_law_117 : cL_law.data.toList.drop 2982 = dktL_law_117 := dk_seg dksL_law_116 23 rfl rfl
theorem dksL_law_118 : cL_law.data.toList.drop 3006 = dktL_law_118 := dk_seg dksL_law_117 24 rfl rfl
theorem dksL_law_119 : cL_law.data.toList.drop 3029 = dktL_law_119 := dk_seg dksL_law_118 23 rfl rfl
theorem dksL_law_120 : cL_law.data.toList.drop 3052 = dktL_law_120 := dk_seg dksL_law_119 23 rfl rfl
theorem dksL_law_121 : cL_law.data.toList.drop 3076 = dktL_law_121 := dk_seg dksL_law_120 24 rfl rfl
theorem dksL_law_122 : cL_law.data.toList.drop 3099 = dktL_law_122 := dk_seg dksL_law_121 23 rfl rfl
theorem dksL_law_123 : cL_law.data.toList.drop 3121 = dktL_law_123 := dk_seg dksL_law_122 22 rfl rfl
theorem dksL_law_124 : cL_law.data.toList.drop 3143 = dktL_law_124 := dk_seg dksL_law_123 22 rfl rfl
theorem dksL_law_125 : cL_law.data.toList.drop 3165 = dktL_law_125 := dk_seg dksL_law_124 22 rfl rfl
theorem dksL_law_126 : cL_law.data.toList.drop 3187 = dktL_law_126 := dk_seg dksL_law_125 22 rfl rfl
theorem dksL_law_127 : cL_law.data.toList.drop 3209 = dktL_law_127 := dk_seg dksL_law_126 22 rfl rfl
theorem dksL_law_128 : cL_law.data.toList.drop 3232 = dktL_law_128 := dk_seg dksL_law_127 23 rfl rfl
theorem dksL_law_129 : cL_law.data.toList.drop 3256 = dktL_law_129 := dk_seg dksL_law_128 24 rfl rfl
theorem dksL_law_130 : cL_law.data.toList.drop 3279 = dktL_law_130 := dk_seg dksL_law_129 23 rfl rfl
theorem dksL_law_131 : cL_law.data.toList.drop 3301 = dktL_law_131 := dk_seg dksL_law_130 22 rfl rfl
theorem dksL_law_132 : cL_law.data.toList.drop 3323 = dktL_law_132 := dk_seg dksL_law_131 22 rfl rfl
theorem dL_law_0 : decode cL_law 0 = .ok (.new 8, 3) := dk_187 0 8 (dk_at dksL_law_0 0 rfl rfl)
theorem dL_law_3 : decode cL_law 3 = .ok (.dup, 1) := dk_89 (dk_at dksL_law_0 3 rfl rfl)
theorem dL_law_4 : decode cL_law 4 = .ok (.invokespecial 165, 3) := dk_183 0 165 (dk_at dksL_law_0 4 rfl rfl)
theorem dL_law_7 : decode cL_law 7 = .ok (.astore_n 1, 1) := dk_76 (dk_at dksL_law_0 7 rfl rfl)
theorem dL_law_8 : decode cL_law 8 = .ok (.new 166, 3) := dk_187 0 166 (dk_at dksL_law_0 8 rfl rfl)
theorem dL_law_11 : decode cL_law 11 = .ok (.dup, 1) := dk_89 (dk_at dksL_law_0 11 rfl rfl)
theorem dL_law_12 : decode cL_law 12 = .ok (.invokespecial 168, 3) := dk_183 0 168 (dk_at dksL_law_0 12 rfl rfl)
theorem dL_law_15 : decode cL_law 15 = .ok (.astore_n 2, 1) := dk_77 (dk_at dksL_law_0 15 rfl rfl)
theorem dL_law_16 : decode cL_law 16 = .ok (.iconst 1, 1) := dk_4 (dk_at dksL_law_0 16 rfl rfl)
theorem dL_law_17 : decode cL_law 17 = .ok (.newarray .long, 2) := dk_188_11 (dk_at dksL_law_0 17 rfl rfl)
theorem dL_law_19 : decode cL_law 19 = .ok (.astore_n 3, 1) := dk_78 (dk_at dksL_law_0 19 rfl rfl)
theorem dL_law_20 : decode cL_law 20 = .ok (.iconst 0, 1) := dk_3 (dk_at dksL_law_0 20 rfl rfl)
theorem dL_law_21 : decode cL_law 21 = .ok (.istore 4, 2) := dk_54 4 (dk_at dksL_law_0 21 rfl rfl)
theorem dL_law_23 : decode cL_law 23 = .ok (.iload 4, 2) := dk_21 4 (dk_at dksL_law_1 0 rfl rfl)
theorem dL_law_25 : decode cL_law 25 = .ok (.aload_n 0, 1) := dk_42 (dk_at dksL_law_1 2 rfl rfl)
theorem dL_law_26 : decode cL_law 26 = .ok (.arraylength, 1) := dk_190 (dk_at dksL_law_1 3 rfl rfl)
theorem dL_law_27 : decode cL_law 27 = .ok (.iconst 4, 1) := dk_7 (dk_at dksL_law_1 4 rfl rfl)
theorem dL_law_28 : decode cL_law 28 = .ok (.isub, 1) := dk_100 (dk_at dksL_law_1 5 rfl rfl)
theorem dL_law_29 : decode cL_law 29 = .ok (.if_icmp .gt 3308, 3) := dk_163 12 236 (dk_at dksL_law_1 6 rfl rfl)
theorem dL_law_32 : decode cL_law 32 = .ok (.aload_n 0, 1) := dk_42 (dk_at dksL_law_1 9 rfl rfl)
theorem dL_law_33 : decode cL_law 33 = .ok (.iload 4, 2) := dk_21 4 (dk_at dksL_law_1 10 rfl rfl)
theorem dL_law_35 : decode cL_law 35 = .ok (.iaload, 1) := dk_46 (dk_at dksL_law_1 12 rfl rfl)
theorem dL_law_36 : decode cL_law 36 = .ok (.bipush 63, 2) := dk_16 63 (dk_at dksL_law_1 13 rfl rfl)
theorem dL_law_38 : decode cL_law 38 = .ok (.iand, 1) := dk_126 (dk_at dksL_law_1 15 rfl rfl)
theorem dL_law_39 : decode cL_law 39 = .ok (.tableswitch 3292 0 60 #[257, 337, 417, 497, 553, 623, 679, 735, 822, 909, 996, 1064, 1077, 1090, 1115, 1171, 1234, 1297, 1353, 1409, 1465, 1521, 1577, 1633, 1689, 1757, 1820, 1876, 1932, 1988, 2032, 2088, 2144, 2157, 2232, 2288, 2344, 2400, 2456, 2469, 2482, 2538, 2601, 2664, 2727, 2740, 2753, 2766, 2807, 2850, 2863, 2919, 2932, 2988, 3046, 3090, 3134, 3178, 3191, 3235, 3248], 257) := by decide +kernel
theorem dL_law_296 : decode cL_law 296 = .ok (.aload_n 1, 1) := dk_43 (dk_at dksL_law_3 0 rfl rfl)
theorem dL_law_297 : decode cL_law 297 = .ok (.aload_n 0, 1) := dk_42 (dk_at dksL_law_3 1 rfl rfl)
theorem dL_law_298 : decode cL_law 298 = .ok (.iload 4, 2) := dk_21 4 (dk_at dksL_law_3 2 rfl rfl)
theorem dL_law_300 : decode cL_law 300 = .ok (.iconst 1, 1) := dk_4 (dk_at dksL_law_3 4 rfl rfl)
theorem dL_law_301 : decode cL_law 301 = .ok (.iadd, 1) := dk_96 (dk_at dksL_law_3 5 rfl rfl)
theorem dL_law_302 : decode cL_law 302 = .ok (.iaload, 1) := dk_46 (dk_at dksL_law_3 6 rfl rfl)
theorem dL_law_303 : decode cL_law 303 = .ok (.aload_n 0, 1) := dk_42 (dk_at dksL_law_3 7 rfl rfl)
theorem dL_law_304 : decode cL_law 304 = .ok (.iload 4, 2) := dk_21 4 (dk_at dksL_law_3 8 rfl rfl)
theorem dL_law_306 : decode cL_law 306 = .ok (.iconst 2, 1) := dk_5 (dk_at dksL_law_3 10 rfl rfl)
theorem dL_law_307 : decode cL_law 307 = .ok (.iadd, 1) := dk_96 (dk_at dksL_law_3 11 rfl rfl)
theorem dL_law_308 : decode cL_law 308 = .ok (.iaload, 1) := dk_46 (dk_at dksL_law_3 12 rfl rfl)
theorem dL_law_309 : decode cL_law 309 = .ok (.aload_n 0, 1) := dk_42 (dk_at dksL_law_3 13 rfl rfl)
theorem dL_law_310 : decode cL_law 310 = .ok (.iload 4, 2) := dk_21 4 (dk_at dksL_law_3 14 rfl rfl)
theorem dL_law_312 : decode cL_law 312 = .ok (.iconst 3, 1) := dk_6 (dk_at dksL_law_3 16 rfl rfl)
theorem dL_law_313 : decode cL_law 313 = .ok (.iadd, 1) := dk_96 (dk_at dksL_law_3 17 rfl rfl)
theorem dL_law_314 : decode cL_law 314 = .ok (.iaload, 1) := dk_46 (dk_at dksL_law_3 18 rfl rfl)
theorem dL_law_315 : decode cL_law 315 = .ok (.aload_n 3, 1) := dk_45 (dk_at dksL_law_3 19 rfl rfl)
theorem dL_law_316 : decode cL_law 316 = .ok (.invokestatic 169, 3) := dk_184 0 169 (dk_at dksL_law_3 20 rfl rfl)
theorem dL_law_319 : decode cL_law 319 = .ok (.istore 5, 2) := dk_54 5 (dk_at dksL_law_4 0 rfl rfl)
theorem dL_law_321 : decode cL_law 321 = .ok (.aload_n 2, 1) := dk_44 (dk_at dksL_law_4 2 rfl rfl)
theorem dL_law_322 : decode cL_law 322 = .ok (.aload_n 0, 1) := dk_42 (dk_at dksL_law_4 3 rfl rfl)
theorem dL_law_323 : decode cL_law 323 = .ok (.iload 4, 2) := dk_21 4 (dk_at dksL_law_4 4 rfl rfl)
theorem dL_law_325 : decode cL_law 325 = .ok (.iconst 1, 1) := dk_4 (dk_at dksL_law_4 6 rfl rfl)
theorem dL_law_326 : decode cL_law 326 = .ok (.iadd, 1) := dk_96 (dk_at dksL_law_4 7 rfl rfl)
theorem dL_law_327 : decode cL_law 327 = .ok (.iaload, 1) := dk_46 (dk_at dksL_law_4 8 rfl rfl)
theorem dL_law_328 : decode cL_law 328 = .ok (.aload_n 0, 1) := dk_42 (dk_at dksL_law_4 9 rfl rfl)
theorem dL_law_329 : decode cL_law 329 = .ok (.iload 4, 2) := dk_21 4 (dk_at dksL_law_4 10 rfl rfl)
theorem dL_law_331 : decode cL_law 331 = .ok (.iconst 2, 1) := dk_5 (dk_at dksL_law_4 12 rfl rfl)
theorem dL_law_332 : decode cL_law 332 = .ok (.iadd, 1) := dk_96 (dk_at dksL_law_4 13 rfl rfl)
theorem dL_law_333 : decode cL_law 333 = .ok (.iaload, 1) := dk_46 (dk_at dksL_law_4 14 rfl rfl)
theorem dL_law_334 : decode cL_law 334 = .ok (.aload_n 0, 1) := dk_42 (dk_at dksL_law_4 15 rfl rfl)
theorem dL_law_335 : decode cL_law 335 = .ok (.iload 4, 2) := dk_21 4 (dk_at dksL_law_4 16 rfl rfl)
theorem dL_law_337 : decode cL_law 337 = .ok (.iconst 3, 1) := dk_6 (dk_at dksL_law_4 18 rfl rfl)
theorem dL_law_338 : decode cL_law 338 = .ok (.iadd, 1) := dk_96 (dk_at dksL_law_4 19 rfl rfl)
theorem dL_law_339 : decode cL_law 339 = .ok (.iaload, 1) := dk_46 (dk_at dksL_law_4 20 rfl rfl)
theorem dL_law_340 : decode cL_law 340 = .ok (.invokevirtual 174, 3) := dk_182 0 174 (dk_at dksL_law_4 21 rfl rfl)
theorem dL_law_343 : decode cL_law 343 = .ok (.istore 6, 2) := dk_54 6 (dk_at dksL_law_5 0 rfl rfl)
theorem dL_law_345 : decode cL_law 345 = .ok (.aload_n 2, 1) := dk_44 (dk_at dksL_law_5 2 rfl rfl)
theorem dL_law_346 : decode cL_law 346 = .ok (.invokevirtual 175, 3) := dk_182 0 175 (dk_at dksL_law_5 3 rfl rfl)
theorem dL_law_349 : decode cL_law 349 = .ok (.iload 5, 2) := dk_21 5 (dk_at dksL_law_5 6 rfl rfl)
theorem dL_law_351 : decode cL_law 351 = .ok (.if_icmp .eq 5, 3) := dk_159 0 5 (dk_at dksL_law_5 8 rfl rfl)
theorem dL_law_354 : decode cL_law 354 = .ok (.iconst 0, 1) := dk_3 (dk_at dksL_law_5 11 rfl rfl)
theorem dL_law_355 : decode cL_law 355 = .ok (.ireturn, 1) := dk_172 (dk_at dksL_law_5 12 rfl rfl)
theorem dL_law_356 : decode cL_law 356 = .ok (.iload 5, 2) := dk_21 5 (dk_at dksL_law_5 13 rfl rfl)
theorem dL_law_358 : decode cL_law 358 = .ok (.ifCond .ne 15, 3) := dk_154 0 15 (dk_at dksL_law_5 15 rfl rfl)
theorem dL_law_361 : decode cL_law 361 = .ok (.aload_n 3, 1) := dk_45 (dk_at dksL_law_5 18 rfl rfl)
theorem dL_law_362 : decode cL_law 362 = .ok (.iconst 0, 1) := dk_3 (dk_at dksL_law_5 19 rfl rfl)
theorem dL_law_363 : decode cL_law 363 = .ok (.laload, 1) := dk_47 (dk_at dksL_law_5 20 rfl rfl)
theorem dL_law_364 : decode cL_law 364 = .ok (.iload 6, 2) := dk_21 6 (dk_at dksL_law_5 21 rfl rfl)
theorem dL_law_366 : decode cL_law 366 = .ok (.i2l, 1) := dk_133 (dk_at dksL_law_5 23 rfl rfl)
theorem dL_law_367 : decode cL_law 367 = .ok (.lcmp, 1) := dk_148 (dk_at dksL_law_6 0 rfl rfl)
theorem dL_law_368 : decode cL_law 368 = .ok (.ifCond .eq 5, 3) := dk_153 0 5 (dk_at dksL_law_6 1 rfl rfl)
theorem dL_law_371 : decode cL_law 371 = .ok (.iconst 0, 1) := dk_3 (dk_at dksL_law_6 4 rfl rfl)
theorem dL_law_372 : decode cL_law 372 = .ok (.ireturn, 1) := dk_172 (dk_at dksL_law_6 5 rfl rfl)
theorem dL_law_373 : decode cL_law 373 = .ok (.goto 2958, 3) := dk_167 11 142 (dk_at dksL_law_6 6 rfl rfl)
theorem dL_law_376 : decode cL_law 376 = .ok (.aload_n 1, 1) := dk_43 (dk_at dksL_law_6 9 rfl rfl)
theorem dL_law_377 : decode cL_law 377 = .ok (.aload_n 0, 1) := dk_42 (dk_at dksL_law_6 10 rfl rfl)
theorem dL_law_378 : decode cL_law 378 = .ok (.iload 4, 2) := dk_21 4 (dk_at dksL_law_6 11 rfl rfl)
theorem dL_law_380 : decode cL_law 380 = .ok (.iconst 1, 1) := dk_4 (dk_at dksL_law_6 13 rfl rfl)
theorem dL_law_381 : decode cL_law 381 = .ok (.iadd, 1) := dk_96 (dk_at dksL_law_6 14 rfl rfl)
theorem dL_law_382 : decode cL_law 382 = .ok (.iaload, 1) := dk_46 (dk_at dksL_law_6 15 rfl rfl)
theorem dL_law_383 : decode cL_law 383 = .ok (.aload_n 0, 1) := dk_42 (dk_at dksL_law_6 16 rfl rfl)
theorem dL_law_384 : decode cL_law 384 = .ok (.iload 4, 2) := dk_21 4 (dk_at dksL_law_6 17 rfl rfl)
theorem dL_law_386 : decode cL_law 386 = .ok (.iconst 2, 1) := dk_5 (dk_at dksL_law_6 19 rfl rfl)
theorem dL_law_387 : decode cL_law 387 = .ok (.iadd, 1) := dk_96 (dk_at dksL_law_6 20 rfl rfl)
theorem dL_law_388 : decode cL_law 388 = .ok (.iaload, 1) := dk_46 (dk_at dksL_law_6 21 rfl rfl)
theorem dL_law_389 : decode cL_law 389 = .ok (.aload_n 0, 1) := dk_42 (dk_at dksL_law_6 22 rfl rfl)
theorem dL_law_390 : decode cL_law 390 = .ok (.iload 4, 2) := dk_21 4 (dk_at dksL_law_7 0 rfl rfl)
theorem dL_law_392 : decode cL_law 392 = .ok (.iconst 3, 1) := dk_6 (dk_at dksL_law_7 2 rfl rfl)
theorem dL_law_393 : decode cL_law 393 = .ok (.iadd, 1) := dk_96 (dk_at dksL_law_7 3 rfl rfl)
theorem dL_law_394 : decode cL_law 394 = .ok (.iaload, 1) := dk_46 (dk_at dksL_law_7 4 rfl rfl)
theorem dL_law_395 : decode cL_law 395 = .ok (.aload_n 3, 1) := dk_45 (dk_at dksL_law_7 5 rfl rfl)
theorem dL_law_396 : decode cL_law 396 = .ok (.invokestatic 178, 3) := dk_184 0 178 (dk_at dksL_law_7 6 rfl rfl)
theorem dL_law_399 : decode cL_law 399 = .ok (.istore 5, 2) := dk_54 5 (dk_at dksL_law_7 9 rfl rfl)
theorem dL_law_401 : decode cL_law 401 = .ok (.aload_n 2, 1) := dk_44 (dk_at dksL_law_7 11 rfl rfl)
theorem dL_law_402 : decode cL_law 402 = .ok (.aload_n 0, 1) := dk_42 (dk_at dksL_law_7 12 rfl rfl)
theorem dL_law_403 : decode cL_law 403 = .ok (.iload 4, 2) := dk_21 4 (dk_at dksL_law_7 13 rfl rfl)
theorem dL_law_405 : decode cL_law 405 = .ok (.iconst 1, 1) := dk_4 (dk_at dksL_law_7 15 rfl rfl)
theorem dL_law_406 : decode cL_law 406 = .ok (.iadd, 1) := dk_96 (dk_at dksL_law_7 16 rfl rfl)
theorem dL_law_407 : decode cL_law 407 = .ok (.iaload, 1) := dk_46 (dk_at dksL_law_7 17 rfl rfl)
theorem dL_law_408 : decode cL_law 408 = .ok (.aload_n 0, 1) := dk_42 (dk_at dksL_law_7 18 rfl rfl)
theorem dL_law_409 : decode cL_law 409 = .ok (.iload 4, 2) := dk_21 4 (dk_at dksL_law_7 19 rfl rfl)
theorem dL_law_411 : decode cL_law 411 = .ok (.iconst 2, 1) := dk_5 (dk_at dksL_law_7 21 rfl rfl)
theorem dL_law_412 : decode cL_law 412 = .ok (.iadd, 1) := dk_96 (dk_at dksL_law_7 22 rfl rfl)
theorem dL_law_413 : decode cL_law 413 = .ok (.iaload, 1) := dk_46 (dk_at dksL_law_7 23 rfl rfl)
theorem dL_law_414 : decode cL_law 414 = .ok (.aload_n 0, 1) := dk_42 (dk_at dksL_law_8 0 rfl rfl)
theorem dL_law_415 : decode cL_law 415 = .ok (.iload 4, 2) := dk_21 4 (dk_at dksL_law_8 1 rfl rfl)
theorem dL_law_417 : decode cL_law 417 = .ok (.iconst 3, 1) := dk_6 (dk_at dksL_law_8 3 rfl rfl)
theorem dL_law_418 : decode cL_law 418 = .ok (.iadd, 1) := dk_96 (dk_at dksL_law_8 4 rfl rfl)
theorem dL_law_419 : decode cL_law 419 = .ok (.iaload, 1) := dk_46 (dk_at dksL_law_8 5 rfl rfl)
theorem dL_law_420 : decode cL_law 420 = .ok (.invokevirtual 180, 3) := dk_182 0 180 (dk_at dksL_law_8 6 rfl rfl)
theorem dL_law_423 : decode cL_law 423 = .ok (.istore 6, 2) := dk_54 6 (dk_at dksL_law_8 9 rfl rfl)
theorem dL_law_425 : decode cL_law 425 = .ok (.aload_n 2, 1) := dk_44 (dk_at dksL_law_8 11 rfl rfl)
theorem dL_law_426 : decode cL_law 426 = .ok (.invokevirtual 175, 3) := dk_182 0 175 (dk_at dksL_law_8 12 rfl rfl)
theorem dL_law_429 : decode cL_law 429 = .ok (.iload 5, 2) := dk_21 5 (dk_at dksL_law_8 15 rfl rfl)
theorem dL_law_431 : decode cL_law 431 = .ok (.if_icmp .eq 5, 3) := dk_159 0 5 (dk_at dksL_law_8 17 rfl rfl)
theorem dL_law_434 : decode cL_law 434 = .ok (.iconst 0, 1) := dk_3 (dk_at dksL_law_8 20 rfl rfl)
theorem dL_law_435 : decode cL_law 435 = .ok (.ireturn, 1) := dk_172 (dk_at dksL_law_8 21 rfl rfl)
theorem dL_law_436 : decode cL_law 436 = .ok (.iload 5, 2) := dk_21 5 (dk_at dksL_law_8 22 rfl rfl)
theorem dL_law_438 : decode cL_law 438 = .ok (.ifCond .ne 15, 3) := dk_154 0 15 (dk_at dksL_law_9 0 rfl rfl)
theorem dL_law_441 : decode cL_law 441 = .ok (.aload_n 3, 1) := dk_45 (dk_at dksL_law_9 3 rfl rfl)
theorem dL_law_442 : decode cL_law 442 = .ok (.iconst 0, 1) := dk_3 (dk_at dksL_law_9 4 rfl rfl)
theorem dL_law_443 : decode cL_law 443 = .ok (.laload, 1) := dk_47 (dk_at dksL_law_9 5 rfl rfl)
theorem dL_law_444 : decode cL_law 444 = .ok (.iload 6, 2) := dk_21 6 (dk_at dksL_law_9 6 rfl rfl)
theorem dL_law_446 : decode cL_law 446 = .ok (.i2l, 1) := dk_133 (dk_at dksL_law_9 8 rfl rfl)
theorem dL_law_447 : decode cL_law 447 = .ok (.lcmp, 1) := dk_148 (dk_at dksL_law_9 9 rfl rfl)
theorem dL_law_448 : decode cL_law 448 = .ok (.ifCond .eq 5, 3) := dk_153 0 5 (dk_at dksL_law_9 10 rfl rfl)
theorem dL_law_451 : decode cL_law 451 = .ok (.iconst 0, 1) := dk_3 (dk_at dksL_law_9 13 rfl rfl)
theorem dL_law_452 : decode cL_law 452 = .ok (.ireturn, 1) := dk_172 (dk_at dksL_law_9 14 rfl rfl)
theorem dL_law_453 : decode cL_law 453 = .ok (.goto 2878, 3) := dk_167 11 62 (dk_at dksL_law_9 15 rfl rfl)
theorem dL_law_456 : decode cL_law 456 = .ok (.aload_n 1, 1) := dk_43 (dk_at dksL_law_9 18 rfl rfl)
theorem dL_law_457 : decode cL_law 457 = .ok (.aload_n 0, 1) := dk_42 (dk_at dksL_law_9 19 rfl rfl)
theorem dL_law_458 : decode cL_law 458 = .ok (.iload 4, 2) := dk_21 4 (dk_at dksL_law_9 20 rfl rfl)
theorem dL_law_460 : decode cL_law 460 = .ok (.iconst 1, 1) := dk_4 (dk_at dksL_law_9 22 rfl rfl)
theorem dL_law_461 : decode cL_law 461 = .ok (.iadd, 1) := dk_96 (dk_at dksL_law_9 23 rfl rfl)
theorem dL_law_462 : decode cL_law 462 = .ok (.iaload, 1) := dk_46 (dk_at dksL_law_10 0 rfl rfl)
theorem dL_law_463 : decode cL_law 463 = .ok (.aload_n 0, 1) := dk_42 (dk_at dksL_law_10 1 rfl rfl)
theorem dL_law_464 : decode cL_law 464 = .ok (.iload 4, 2) := dk_21 4 (dk_at dksL_law_10 2 rfl rfl)
theorem dL_law_466 : decode cL_law 466 = .ok (.iconst 2, 1) := dk_5 (dk_at dksL_law_10 4 rfl rfl)
theorem dL_law_467 : decode cL_law 467 = .ok (.iadd, 1) := dk_96 (dk_at dksL_law_10 5 rfl rfl)
theorem dL_law_468 : decode cL_law 468 = .ok (.iaload, 1) := dk_46 (dk_at dksL_law_10 6 rfl rfl)
theorem dL_law_469 : decode cL_law 469 = .ok (.aload_n 0, 1) := dk_42 (dk_at dksL_law_10 7 rfl rfl)
theorem dL_law_470 : decode cL_law 470 = .ok (.iload 4, 2) := dk_21 4 (dk_at dksL_law_10 8 rfl rfl)
theorem dL_law_472 : decode cL_law 472 = .ok (.iconst 3, 1) := dk_6 (dk_at dksL_law_10 10 rfl rfl)
theorem dL_law_473 : decode cL_law 473 = .ok (.iadd, 1) := dk_96 (dk_at dksL_law_10 11 rfl rfl)
theorem dL_law_474 : decode cL_law 474 = .ok (.iaload, 1) := dk_46 (dk_at dksL_law_10 12 rfl rfl)
theorem dL_law_475 : decode cL_law 475 = .ok (.aload_n 3, 1) := dk_45 (dk_at dksL_law_10 13 rfl rfl)
theorem dL_law_476 : decode cL_law 476 = .ok (.invokestatic 181, 3) := dk_184 0 181 (dk_at dksL_law_10 14 rfl rfl)
theorem dL_law_479 : decode cL_law 479 = .ok (.istore 5, 2) := dk_54 5 (dk_at dksL_law_10 17 rfl rfl)
theorem dL_law_481 : decode cL_law 481 = .ok (.aload_n 2, 1) := dk_44 (dk_at dksL_law_10 19 rfl rfl)
theorem dL_law_482 : decode cL_law 482 = .ok (.aload_n 0, 1) := dk_42 (dk_at dksL_law_10 20 rfl rfl)
theorem dL_law_483 : decode cL_law 483 = .ok (.iload 4, 2) := dk_21 4 (dk_at dksL_law_10 21 rfl rfl)
theorem dL_law_485 : decode cL_law 485 = .ok (.iconst 1, 1) := dk_4 (dk_at dksL_law_10 23 rfl rfl)
theorem dL_law_486 : decode cL_law 486 = .ok (.iadd, 1) := dk_96 (dk_at dksL_law_11 0 rfl rfl)
theorem dL_law_487 : decode cL_law 487 = .ok (.iaload, 1) := dk_46 (dk_at dksL_law_11 1 rfl rfl)
theorem dL_law_488 : decode cL_law 488 = .ok (.aload_n 0, 1) := dk_42 (dk_at dksL_law_11 2 rfl rfl)
theorem dL_law_489 : decode cL_law 489 = .ok (.iload 4, 2) := dk_21 4 (dk_at dksL_law_11 3 rfl rfl)
theorem dL_law_491 : decode cL_law 491 = .ok (.iconst 2, 1) := dk_5 (dk_at dksL_law_11 5 rfl rfl)
theorem dL_law_492 : decode cL_law 492 = .ok (.iadd, 1) := dk_96 (dk_at dksL_law_11 6 rfl rfl)
theorem dL_law_493 : decode cL_law 493 = .ok (.iaload, 1) := dk_46 (dk_at dksL_law_11 7 rfl rfl)
theorem dL_law_494 : decode cL_law 494 = .ok (.aload_n 0, 1) := dk_42 (dk_at dksL_law_11 8 rfl rfl)
theorem dL_law_495 : decode cL_law 495 = .ok (.iload 4, 2) := dk_21 4 (dk_at dksL_law_11 9 rfl rfl)
theorem dL_law_497 : decode cL_law 497 = .ok (.iconst 3, 1) := dk_6 (dk_at dksL_law_11 11 rfl rfl)
theorem dL_law_498 : decode cL_law 498 = .ok (.iadd, 1) := dk_96 (dk_at dksL_law_11 12 rfl rfl)
theorem dL_law_499 : decode cL_law 499 = .ok (.iaload, 1) := dk_46 (dk_at dksL_law_11 13 rfl rfl)
theorem dL_law_500 : decode cL_law 500 = .ok (.invokevirtual 183, 3) := dk_182 0 183 (dk_at dksL_law_11 14 rfl rfl)
theorem dL_law_503 : decode cL_law 503 = .ok (.istore 6, 2) := dk_54 6 (dk_at dksL_law_11 17 rfl rfl)
theorem dL_law_505 : decode cL_law 505 = .ok (.aload_n 2, 1) := dk_44 (dk_at dksL_law_11 19 rfl rfl)
theorem dL_law_506 : decode cL_law 506 = .ok (.invokevirtual 175, 3) := dk_182 0 175 (dk_at dksL_law_11 20 rfl rfl)
theorem dL_law_509 : decode cL_law 509 = .ok (.iload 5, 2) := dk_21 5 (dk_at dksL_law_12 0 rfl rfl)
theorem dL_law_511 : decode cL_law 511 = .ok (.if_icmp .eq 5, 3) := dk_159 0 5 (dk_at dksL_law_12 2 rfl rfl)
theorem dL_law_514 : decode cL_law 514 = .ok (.iconst 0, 1) := dk_3 (dk_at dksL_law_12 5 rfl rfl)
theorem dL_law_515 : decode cL_law 515 = .ok (.ireturn, 1) := dk_172 (dk_at dksL_law_12 6 rfl rfl)
theorem dL_law_516 : decode cL_law 516 = .ok (.iload 5, 2) := dk_21 5 (dk_at dksL_law_12 7 rfl rfl)
theorem dL_law_518 : decode cL_law 518 = .ok (.ifCond .ne 15, 3) := dk_154 0 15 (dk_at dksL_law_12 9 rfl rfl)
theorem dL_law_521 : decode cL_law 521 = .ok (.aload_n 3, 1) := dk_45 (dk_at dksL_law_12 12 rfl rfl)
theorem dL_law_522 : decode cL_law 522 = .ok (.iconst 0, 1) := dk_3 (dk_at dksL_law_12 13 rfl rfl)
theorem dL_law_523 : decode cL_law 523 = .ok (.laload, 1) := dk_47 (dk_at dksL_law_12 14 rfl rfl)
theorem dL_law_524 : decode cL_law 524 = .ok (.iload 6, 2) := dk_21 6 (dk_at dksL_law_12 15 rfl rfl)
theorem dL_law_526 : decode cL_law 526 = .ok (.i2l, 1) := dk_133 (dk_at dksL_law_12 17 rfl rfl)
theorem dL_law_527 : decode cL_law 527 = .ok (.lcmp, 1) := dk_148 (dk_at dksL_law_12 18 rfl rfl)
theorem dL_law_528 : decode cL_law 528 = .ok (.ifCond .eq 5, 3) := dk_153 0 5 (dk_at dksL_law_12 19 rfl rfl)
theorem dL_law_531 : decode cL_law 531 = .ok (.iconst 0, 1) := dk_3 (dk_at dksL_law_12 22 rfl rfl)
theorem dL_law_532 : decode cL_law 532 = .ok (.ireturn, 1) := dk_172 (dk_at dksL_law_12 23 rfl rfl)
theorem dL_law_533 : decode cL_law 533 = .ok (.goto 2798, 3) := dk_167 10 238 (dk_at dksL_law_13 0 rfl rfl)
theorem dL_law_536 : decode cL_law 536 = .ok (.aload_n 1, 1) := dk_43 (dk_at dksL_law_13 3 rfl rfl)
theorem dL_law_537 : decode cL_law 537 = .ok (.aload_n 0, 1) := dk_42 (dk_at dksL_law_13 4 rfl rfl)
theorem dL_law_538 : decode cL_law 538 = .ok (.iload 4, 2) := dk_21 4 (dk_at dksL_law_13 5 rfl rfl)
theorem dL_law_540 : decode cL_law 540 = .ok (.iconst 1, 1) := dk_4 (dk_at dksL_law_13 7 rfl rfl)
theorem dL_law_541 : decode cL_law 541 = .ok (.iadd, 1) := dk_96 (dk_at dksL_law_13 8 rfl rfl)
theorem dL_law_542 : decode cL_law 542 = .ok (.iaload, 1) := dk_46 (dk_at dksL_law_13 9 rfl rfl)
theorem dL_law_543 : decode cL_law 543 = .ok (.aload_n 3, 1) := dk_45 (dk_at dksL_law_13 10 rfl rfl)
theorem dL_law_544 : decode cL_law 544 = .ok (.invokestatic 184, 3) := dk_184 0 184 (dk_at dksL_law_13 11 rfl rfl)
theorem dL_law_547 : decode cL_law 547 = .ok (.istore 5, 2) := dk_54 5 (dk_at dksL_law_13 14 rfl rfl)
theorem dL_law_549 : decode cL_law 549 = .ok (.aload_n 2, 1) := dk_44 (dk_at dksL_law_13 16 rfl rfl)
theorem dL_law_550 : decode cL_law 550 = .ok (.aload_n 0, 1) := dk_42 (dk_at dksL_law_13 17 rfl rfl)
theorem dL_law_551 : decode cL_law 551 = .ok (.iload 4, 2) := dk_21 4 (dk_at dksL_law_13 18 rfl rfl)
theorem dL_law_553 : decode cL_law 553 = .ok (.iconst 1, 1) := dk_4 (dk_at dksL_law_13 20 rfl rfl)
theorem dL_law_554 : decode cL_law 554 = .ok (.iadd, 1) := dk_96 (dk_at dksL_law_13 21 rfl rfl)
theorem dL_law_555 : decode cL_law 555 = .ok (.iaload, 1) := dk_46 (dk_at dksL_law_13 22 rfl rfl)
theorem dL_law_556 : decode cL_law 556 = .ok (.invokevirtual 187, 3) := dk_182 0 187 (dk_at dksL_law_14 0 rfl rfl)
theorem dL_law_559 : decode cL_law 559 = .ok (.istore 6, 2) := dk_54 6 (dk_at dksL_law_14 3 rfl rfl)
theorem dL_law_561 : decode cL_law 561 = .ok (.aload_n 2, 1) := dk_44 (dk_at dksL_law_14 5 rfl rfl)
theorem dL_law_562 : decode cL_law 562 = .ok (.invokevirtual 175, 3) := dk_182 0 175 (dk_at dksL_law_14 6 rfl rfl)
theorem dL_law_565 : decode cL_law 565 = .ok (.iload 5, 2) := dk_21 5 (dk_at dksL_law_14 9 rfl rfl)
theorem dL_law_567 : decode cL_law 567 = .ok (.if_icmp .eq 5, 3) := dk_159 0 5 (dk_at dksL_law_14 11 rfl rfl)
theorem dL_law_570 : decode cL_law 570 = .ok (.iconst 0, 1) := dk_3 (dk_at dksL_law_14 14 rfl rfl)
theorem dL_law_571 : decode cL_law 571 = .ok (.ireturn, 1) := dk_172 (dk_at dksL_law_14 15 rfl rfl)
theorem dL_law_572 : decode cL_law 572 = .ok (.iload 5, 2) := dk_21 5 (dk_at dksL_law_14 16 rfl rfl)
theorem dL_law_574 : decode cL_law 574 = .ok (.ifCond .ne 15, 3) := dk_154 0 15 (dk_at dksL_law_14 18 rfl rfl)
theorem dL_law_577 : decode cL_law 577 = .ok (.aload_n 3, 1) := dk_45 (dk_at dksL_law_14 21 rfl rfl)
theorem dL_law_578 : decode cL_law 578 = .ok (.iconst 0, 1) := dk_3 (dk_at dksL_law_14 22 rfl rfl)
theorem dL_law_579 : decode cL_law 579 = .ok (.laload, 1) := dk_47 (dk_at dksL_law_14 23 rfl rfl)
theorem dL_law_580 : decode cL_law 580 = .ok (.iload 6, 2) := dk_21 6 (dk_at dksL_law_15 0 rfl rfl)
theorem dL_law_582 : decode cL_law 582 = .ok (.i2l, 1) := dk_133 (dk_at dksL_law_15 2 rfl rfl)
theorem dL_law_583 : decode cL_law 583 = .ok (.lcmp, 1) := dk_148 (dk_at dksL_law_15 3 rfl rfl)
theorem dL_law_584 : decode cL_law 584 = .ok (.ifCond .eq 5, 3) := dk_153 0 5 (dk_at dksL_law_15 4 rfl rfl)
theorem dL_law_587 : decode cL_law 587 = .ok (.iconst 0, 1) := dk_3 (dk_at dksL_law_15 7 rfl rfl)
theorem dL_law_588 : decode cL_law 588 = .ok (.ireturn, 1) := dk_172 (dk_at dksL_law_15 8 rfl rfl)
theorem dL_law_589 : decode cL_law 589 = .ok (.goto 2742, 3) := dk_167 10 182 (dk_at dksL_law_15 9 rfl rfl)
theorem dL_law_592 : decode cL_law 592 = .ok (.aload_n 1, 1) := dk_43 (dk_at dksL_law_15 12 rfl rfl)
theorem dL_law_593 : decode cL_law 593 = .ok (.aload_n 0, 1) := dk_42 (dk_at dksL_law_15 13 rfl rfl)
theorem dL_law_594 : decode cL_law 594 = .ok (.iload 4, 2) := dk_21 4 (dk_at dksL_law_15 14 rfl rfl)
theorem dL_law_596 : decode cL_law 596 = .ok (.iconst 1, 1) := dk_4 (dk_at dksL_law_15 16 rfl rfl)
theorem dL_law_597 : decode cL_law 597 = .ok (.iadd, 1) := dk_96 (dk_at dksL_law_15 17 rfl rfl)
theorem dL_law_598 : decode cL_law 598 = .ok (.iaload, 1) := dk_46 (dk_at dksL_law_15 18 rfl rfl)
theorem dL_law_599 : decode cL_law 599 = .ok (.aload_n 0, 1) := dk_42 (dk_at dksL_law_15 19 rfl rfl)
theorem dL_law_600 : decode cL_law 600 = .ok (.iload 4, 2) := dk_21 4 (dk_at dksL_law_15 20 rfl rfl)
theorem dL_law_602 : decode cL_law 602 = .ok (.iconst 2, 1) := dk_5 (dk_at dksL_law_15 22 rfl rfl)
theorem dL_law_603 : decode cL_law 603 = .ok (.iadd, 1) := dk_96 (dk_at dksL_law_15 23 rfl rfl)
theorem dL_law_604 : decode cL_law 604 = .ok (.iaload, 1) := dk_46 (dk_at dksL_law_16 0 rfl rfl)
theorem dL_law_605 : decode cL_law 605 = .ok (.i2c, 1) := dk_146 (dk_at dksL_law_16 1 rfl rfl)
theorem dL_law_606 : decode cL_law 606 = .ok (.aload_n 3, 1) := dk_45 (dk_at dksL_law_16 2 rfl rfl)
theorem dL_law_607 : decode cL_law 607 = .ok (.invokestatic 188, 3) := dk_184 0 188 (dk_at dksL_law_16 3 rfl rfl)
theorem dL_law_610 : decode cL_law 610 = .ok (.istore 5, 2) := dk_54 5 (dk_at dksL_law_16 6 rfl rfl)
theorem dL_law_612 : decode cL_law 612 = .ok (.aload_n 2, 1) := dk_44 (dk_at dksL_law_16 8 rfl rfl)
theorem dL_law_613 : decode cL_law 613 = .ok (.aload_n 0, 1) := dk_42 (dk_at dksL_law_16 9 rfl rfl)
theorem dL_law_614 : decode cL_law 614 = .ok (.iload 4, 2) := dk_21 4 (dk_at dksL_law_16 10 rfl rfl)
theorem dL_law_616 : decode cL_law 616 = .ok (.iconst 1, 1) := dk_4 (dk_at dksL_law_16 12 rfl rfl)
theorem dL_law_617 : decode cL_law 617 = .ok (.iadd, 1) := dk_96 (dk_at dksL_law_16 13 rfl rfl)
theorem dL_law_618 : decode cL_law 618 = .ok (.iaload, 1) := dk_46 (dk_at dksL_law_16 14 rfl rfl)
theorem dL_law_619 : decode cL_law 619 = .ok (.aload_n 0, 1) := dk_42 (dk_at dksL_law_16 15 rfl rfl)
theorem dL_law_620 : decode cL_law 620 = .ok (.iload 4, 2) := dk_21 4 (dk_at dksL_law_16 16 rfl rfl)
theorem dL_law_622 : decode cL_law 622 = .ok (.iconst 2, 1) := dk_5 (dk_at dksL_law_16 18 rfl rfl)
theorem dL_law_623 : decode cL_law 623 = .ok (.iadd, 1) := dk_96 (dk_at dksL_law_16 19 rfl rfl)
theorem dL_law_624 : decode cL_law 624 = .ok (.iaload, 1) := dk_46 (dk_at dksL_law_16 20 rfl rfl)
theorem dL_law_625 : decode cL_law 625 = .ok (.i2c, 1) := dk_146 (dk_at dksL_law_16 21 rfl rfl)
theorem dL_law_626 : decode cL_law 626 = .ok (.invokevirtual 191, 3) := dk_182 0 191 (dk_at dksL_law_17 0 rfl rfl)
theorem dL_law_629 : decode cL_law 629 = .ok (.istore 6, 2) := dk_54 6 (dk_at dksL_law_17 3 rfl rfl)
theorem dL_law_631 : decode cL_law 631 = .ok (.aload_n 2, 1) := dk_44 (dk_at dksL_law_17 5 rfl rfl)
theorem dL_law_632 : decode cL_law 632 = .ok (.invokevirtual 175, 3) := dk_182 0 175 (dk_at dksL_law_17 6 rfl rfl)
theorem dL_law_635 : decode cL_law 635 = .ok (.iload 5, 2) := dk_21 5 (dk_at dksL_law_17 9 rfl rfl)
theorem dL_law_637 : decode cL_law 637 = .ok (.if_icmp .eq 5, 3) := dk_159 0 5 (dk_at dksL_law_17 11 rfl rfl)
theorem dL_law_640 : decode cL_law 640 = .ok (.iconst 0, 1) := dk_3 (dk_at dksL_law_17 14 rfl rfl)
theorem dL_law_641 : decode cL_law 641 = .ok (.ireturn, 1) := dk_172 (dk_at dksL_law_17 15 rfl rfl)
theorem dL_law_642 : decode cL_law 642 = .ok (.iload 5, 2) := dk_21 5 (dk_at dksL_law_17 16 rfl rfl)
theorem dL_law_644 : decode cL_law 644 = .ok (.ifCond .ne 15, 3) := dk_154 0 15 (dk_at dksL_law_17 18 rfl rfl)
theorem dL_law_647 : decode cL_law 647 = .ok (.aload_n 3, 1) := dk_45 (dk_at dksL_law_17 21 rfl rfl)
theorem dL_law_648 : decode cL_law 648 = .ok (.iconst 0, 1) := dk_3 (dk_at dksL_law_17 22 rfl rfl)
theorem dL_law_649 : decode cL_law 649 = .ok (.laload, 1) := dk_47 (dk_at dksL_law_17 23 rfl rfl)
theorem dL_law_650 : decode cL_law 650 = .ok (.iload 6, 2) := dk_21 6 (dk_at dksL_law_18 0 rfl rfl)
theorem dL_law_652 : decode cL_law 652 = .ok (.i2l, 1) := dk_133 (dk_at dksL_law_18 2 rfl rfl)
theorem dL_law_653 : decode cL_law 653 = .ok (.lcmp, 1) := dk_148 (dk_at dksL_law_18 3 rfl rfl)
theorem dL_law_654 : decode cL_law 654 = .ok (.ifCond .eq 5, 3) := dk_153 0 5 (dk_at dksL_law_18 4 rfl rfl)
theorem dL_law_657 : decode cL_law 657 = .ok (.iconst 0, 1) := dk_3 (dk_at dksL_law_18 7 rfl rfl)
theorem dL_law_658 : decode cL_law 658 = .ok (.ireturn, 1) := dk_172 (dk_at dksL_law_18 8 rfl rfl)
theorem dL_law_659 : decode cL_law 659 = .ok (.goto 2672, 3) := dk_167 10 112 (dk_at dksL_law_18 9 rfl rfl)
theorem dL_law_662 : decode cL_law 662 = .ok (.aload_n 1, 1) := dk_43 (dk_at dksL_law_18 12 rfl rfl)
theorem dL_law_663 : decode cL_law 663 = .ok (.aload_n 0, 1) := dk_42 (dk_at dksL_law_18 13 rfl rfl)
theorem dL_law_664 : decode cL_law 664 = .ok (.iload 4, 2) := dk_21 4 (dk_at dksL_law_18 14 rfl rfl)
theorem dL_law_666 : decode cL_law 666 = .ok (.iconst 1, 1) := dk_4 (dk_at dksL_law_18 16 rfl rfl)
theorem dL_law_667 : decode cL_law 667 = .ok (.iadd, 1) := dk_96 (dk_at dksL_law_18 17 rfl rfl)
theorem dL_law_668 : decode cL_law 668 = .ok (.iaload, 1) := dk_46 (dk_at dksL_law_18 18 rfl rfl)
theorem dL_law_669 : decode cL_law 669 = .ok (.aload_n 3, 1) := dk_45 (dk_at dksL_law_18 19 rfl rfl)
theorem dL_law_670 : decode cL_law 670 = .ok (.invokestatic 192, 3) := dk_184 0 192 (dk_at dksL_law_18 20 rfl rfl)
theorem dL_law_673 : decode cL_law 673 = .ok (.istore 5, 2) := dk_54 5 (dk_at dksL_law_19 0 rfl rfl)
theorem dL_law_675 : decode cL_law 675 = .ok (.aload_n 2, 1) := dk_44 (dk_at dksL_law_19 2 rfl rfl)
theorem dL_law_676 : decode cL_law 676 = .ok (.aload_n 0, 1) := dk_42 (dk_at dksL_law_19 3 rfl rfl)
theorem dL_law_677 : decode cL_law 677 = .ok (.iload 4, 2) := dk_21 4 (dk_at dksL_law_19 4 rfl rfl)
theorem dL_law_679 : decode cL_law 679 = .ok (.iconst 1, 1) := dk_4 (dk_at dksL_law_19 6 rfl rfl)
theorem dL_law_680 : decode cL_law 680 = .ok (.iadd, 1) := dk_96 (dk_at dksL_law_19 7 rfl rfl)
theorem dL_law_681 : decode cL_law 681 = .ok (.iaload, 1) := dk_46 (dk_at dksL_law_19 8 rfl rfl)
theorem dL_law_682 : decode cL_law 682 = .ok (.invokevirtual 194, 3) := dk_182 0 194 (dk_at dksL_law_19 9 rfl rfl)
theorem dL_law_685 : decode cL_law 685 = .ok (.istore 6, 2) := dk_54 6 (dk_at dksL_law_19 12 rfl rfl)
theorem dL_law_687 : decode cL_law 687 = .ok (.aload_n 2, 1) := dk_44 (dk_at dksL_law_19 14 rfl rfl)
theorem dL_law_688 : decode cL_law 688 = .ok (.invokevirtual 175, 3) := dk_182 0 175 (dk_at dksL_law_19 15 rfl rfl)
theorem dL_law_691 : decode cL_law 691 = .ok (.iload 5, 2) := dk_21 5 (dk_at dksL_law_19 18 rfl rfl)
theorem dL_law_693 : decode cL_law 693 = .ok (.if_icmp .eq 5, 3) := dk_159 0 5 (dk_at dksL_law_19 20 rfl rfl)
theorem dL_law_696 : decode cL_law 696 = .ok (.iconst 0, 1) := dk_3 (dk_at dksL_law_19 23 rfl rfl)
theorem dL_law_697 : decode cL_law 697 = .ok (.ireturn, 1) := dk_172 (dk_at dksL_law_20 0 rfl rfl)
theorem dL_law_698 : decode cL_law 698 = .ok (.iload 5, 2) := dk_21 5 (dk_at dksL_law_20 1 rfl rfl)
theorem dL_law_700 : decode cL_law 700 = .ok (.ifCond .ne 15, 3) := dk_154 0 15 (dk_at dksL_law_20 3 rfl rfl)
theorem dL_law_703 : decode cL_law 703 = .ok (.aload_n 3, 1) := dk_45 (dk_at dksL_law_20 6 rfl rfl)
theorem dL_law_704 : decode cL_law 704 = .ok (.iconst 0, 1) := dk_3 (dk_at dksL_law_20 7 rfl rfl)
theorem dL_law_705 : decode cL_law 705 = .ok (.laload, 1) := dk_47 (dk_at dksL_law_20 8 rfl rfl)
theorem dL_law_706 : decode cL_law 706 = .ok (.iload 6, 2) := dk_21 6 (dk_at dksL_law_20 9 rfl rfl)
theorem dL_law_708 : decode cL_law 708 = .ok (.i2l, 1) := dk_133 (dk_at dksL_law_20 11 rfl rfl)
theorem dL_law_709 : decode cL_law 709 = .ok (.lcmp, 1) := dk_148 (dk_at dksL_law_20 12 rfl rfl)
theorem dL_law_710 : decode cL_law 710 = .ok (.ifCond .eq 5, 3) := dk_153 0 5 (dk_at dksL_law_20 13 rfl rfl)
theorem dL_law_713 : decode cL_law 713 = .ok (.iconst 0, 1) := dk_3 (dk_at dksL_law_20 16 rfl rfl)
theorem dL_law_714 : decode cL_law 714 = .ok (.ireturn, 1) := dk_172 (dk_at dksL_law_20 17 rfl rfl)
theorem dL_law_715 : decode cL_law 715 = .ok (.goto 2616, 3) := dk_167 10 56 (dk_at dksL_law_20 18 rfl rfl)
theorem dL_law_718 : decode cL_law 718 = .ok (.aload_n 1, 1) := dk_43 (dk_at dksL_law_20 21 rfl rfl)
theorem dL_law_719 : decode cL_law 719 = .ok (.aload_n 0, 1) := dk_42 (dk_at dksL_law_20 22 rfl rfl)
theorem dL_law_720 : decode cL_law 720 = .ok (.iload 4, 2) := dk_21 4 (dk_at dksL_law_21 0 rfl rfl)
theorem dL_law_722 : decode cL_law 722 = .ok (.iconst 1, 1) := dk_4 (dk_at dksL_law_21 2 rfl rfl)
theorem dL_law_723 : decode cL_law 723 = .ok (.iadd, 1) := dk_96 (dk_at dksL_law_21 3 rfl rfl)
theorem dL_law_724 : decode cL_law 724 = .ok (.iaload, 1) := dk_46 (dk_at dksL_law_21 4 rfl rfl)
theorem dL_law_725 : decode cL_law 725 = .ok (.aload_n 3, 1) := dk_45 (dk_at dksL_law_21 5 rfl rfl)
theorem dL_law_726 : decode cL_law 726 = .ok (.invokestatic 195, 3) := dk_184 0 195 (dk_at dksL_law_21 6 rfl rfl)
theorem dL_law_729 : decode cL_law 729 = .ok (.istore 5, 2) := dk_54 5 (dk_at dksL_law_21 9 rfl rfl)
theorem dL_law_731 : decode cL_law 731 = .ok (.aload_n 2, 1) := dk_44 (dk_at dksL_law_21 11 rfl rfl)
theorem dL_law_732 : decode cL_law 732 = .ok (.aload_n 0, 1) := dk_42 (dk_at dksL_law_21 12 rfl rfl)
theorem dL_law_733 : decode cL_law 733 = .ok (.iload 4, 2) := dk_21 4 (dk_at dksL_law_21 13 rfl rfl)
theorem dL_law_735 : decode cL_law 735 = .ok (.iconst 1, 1) := dk_4 (dk_at dksL_law_21 15 rfl rfl)
theorem dL_law_736 : decode cL_law 736 = .ok (.iadd, 1) := dk_96 (dk_at dksL_law_21 16 rfl rfl)
theorem dL_law_737 : decode cL_law 737 = .ok (.iaload, 1) := dk_46 (dk_at dksL_law_21 17 rfl rfl)
theorem dL_law_738 : decode cL_law 738 = .ok (.invokevirtual 197, 3) := dk_182 0 197 (dk_at dksL_law_21 18 rfl rfl)
theorem dL_law_741 : decode cL_law 741 = .ok (.istore 6, 2) := dk_54 6 (dk_at dksL_law_21 21 rfl rfl)
theorem dL_law_743 : decode cL_law 743 = .ok (.aload_n 2, 1) := dk_44 (dk_at dksL_law_21 23 rfl rfl)
theorem dL_law_744 : decode cL_law 744 = .ok (.invokevirtual 175, 3) := dk_182 0 175 (dk_at dksL_law_22 0 rfl rfl)
theorem dL_law_747 : decode cL_law 747 = .ok (.iload 5, 2) := dk_21 5 (dk_at dksL_law_22 3 rfl rfl)
theorem dL_law_749 : decode cL_law 749 = .ok (.if_icmp .eq 5, 3) := dk_159 0 5 (dk_at dksL_law_22 5 rfl rfl)
theorem dL_law_752 : decode cL_law 752 = .ok (.iconst 0, 1) := dk_3 (dk_at dksL_law_22 8 rfl rfl)
theorem dL_law_753 : decode cL_law 753 = .ok (.ireturn, 1) := dk_172 (dk_at dksL_law_22 9 rfl rfl)
theorem dL_law_754 : decode cL_law 754 = .ok (.iload 5, 2) := dk_21 5 (dk_at dksL_law_22 10 rfl rfl)
theorem dL_law_756 : decode cL_law 756 = .ok (.ifCond .ne 15, 3) := dk_154 0 15 (dk_at dksL_law_22 12 rfl rfl)
theorem dL_law_759 : decode cL_law 759 = .ok (.aload_n 3, 1) := dk_45 (dk_at dksL_law_22 15 rfl rfl)
theorem dL_law_760 : decode cL_law 760 = .ok (.iconst 0, 1) := dk_3 (dk_at dksL_law_22 16 rfl rfl)
theorem dL_law_761 : decode cL_law 761 = .ok (.laload, 1) := dk_47 (dk_at dksL_law_22 17 rfl rfl)
theorem dL_law_762 : decode cL_law 762 = .ok (.iload 6, 2) := dk_21 6 (dk_at dksL_law_22 18 rfl rfl)
theorem dL_law_764 : decode cL_law 764 = .ok (.i2l, 1) := dk_133 (dk_at dksL_law_22 20 rfl rfl)
theorem dL_law_765 : decode cL_law 765 = .ok (.lcmp, 1) := dk_148 (dk_at dksL_law_22 21 rfl rfl)
theorem dL_law_766 : decode cL_law 766 = .ok (.ifCond .eq 5, 3) := dk_153 0 5 (dk_at dksL_law_23 0 rfl rfl)
theorem dL_law_769 : decode cL_law 769 = .ok (.iconst 0, 1) := dk_3 (dk_at dksL_law_23 3 rfl rfl)
theorem dL_law_770 : decode cL_law 770 = .ok (.ireturn, 1) := dk_172 (dk_at dksL_law_23 4 rfl rfl)
theorem dL_law_771 : decode cL_law 771 = .ok (.goto 2560, 3) := dk_167 10 0 (dk_at dksL_law_23 5 rfl rfl)
theorem dL_law_774 : decode cL_law 774 = .ok (.aload_n 1, 1) := dk_43 (dk_at dksL_law_23 8 rfl rfl)
theorem dL_law_775 : decode cL_law 775 = .ok (.aload_n 0, 1) := dk_42 (dk_at dksL_law_23 9 rfl rfl)
theorem dL_law_776 : decode cL_law 776 = .ok (.iload 4, 2) := dk_21 4 (dk_at dksL_law_23 10 rfl rfl)
theorem dL_law_778 : decode cL_law 778 = .ok (.iconst 1, 1) := dk_4 (dk_at dksL_law_23 12 rfl rfl)
theorem dL_law_779 : decode cL_law 779 = .ok (.iadd, 1) := dk_96 (dk_at dksL_law_23 13 rfl rfl)
theorem dL_law_780 : decode cL_law 780 = .ok (.iaload, 1) := dk_46 (dk_at dksL_law_23 14 rfl rfl)
theorem dL_law_781 : decode cL_law 781 = .ok (.aload_n 0, 1) := dk_42 (dk_at dksL_law_23 15 rfl rfl)
theorem dL_law_782 : decode cL_law 782 = .ok (.iload 4, 2) := dk_21 4 (dk_at dksL_law_23 16 rfl rfl)
theorem dL_law_784 : decode cL_law 784 = .ok (.iconst 2, 1) := dk_5 (dk_at dksL_law_23 18 rfl rfl)
theorem dL_law_785 : decode cL_law 785 = .ok (.iadd, 1) := dk_96 (dk_at dksL_law_23 19 rfl rfl)
theorem dL_law_786 : decode cL_law 786 = .ok (.iaload, 1) := dk_46 (dk_at dksL_law_23 20 rfl rfl)
theorem dL_law_787 : decode cL_law 787 = .ok (.aload_n 0, 1) := dk_42 (dk_at dksL_law_23 21 rfl rfl)
theorem dL_law_788 : decode cL_law 788 = .ok (.iload 4, 2) := dk_21 4 (dk_at dksL_law_23 22 rfl rfl)
theorem dL_law_790 : decode cL_law 790 = .ok (.iconst 3, 1) := dk_6 (dk_at dksL_law_24 0 rfl rfl)
theorem dL_law_791 : decode cL_law 791 = .ok (.iadd, 1) := dk_96 (dk_at dksL_law_24 1 rfl rfl)
theorem dL_law_792 : decode cL_law 792 = .ok (.iaload, 1) := dk_46 (dk_at dksL_law_24 2 rfl rfl)
theorem dL_law_793 : decode cL_law 793 = .ok (.aload_n 3, 1) := dk_45 (dk_at dksL_law_24 3 rfl rfl)
theorem dL_law_794 : decode cL_law 794 = .ok (.invokestatic 198, 3) := dk_184 0 198 (dk_at dksL_law_24 4 rfl rfl)
theorem dL_law_797 : decode cL_law 797 = .ok (.istore 5, 2) := dk_54 5 (dk_at dksL_law_24 7 rfl rfl)
theorem dL_law_799 : decode cL_law 799 = .ok (.aload_n 2, 1) := dk_44 (dk_at dksL_law_24 9 rfl rfl)
theorem dL_law_800 : decode cL_law 800 = .ok (.aload_n 0, 1) := dk_42 (dk_at dksL_law_24 10 rfl rfl)
theorem dL_law_801 : decode cL_law 801 = .ok (.iload 4, 2) := dk_21 4 (dk_at dksL_law_24 11 rfl rfl)
theorem dL_law_803 : decode cL_law 803 = .ok (.iconst 1, 1) := dk_4 (dk_at dksL_law_24 13 rfl rfl)
theorem dL_law_804 : decode cL_law 804 = .ok (.iadd, 1) := dk_96 (dk_at dksL_law_24 14 rfl rfl)
theorem dL_law_805 : decode cL_law 805 = .ok (.iaload, 1) := dk_46 (dk_at dksL_law_24 15 rfl rfl)
theorem dL_law_806 : decode cL_law 806 = .ok (.aload_n 0, 1) := dk_42 (dk_at dksL_law_24 16 rfl rfl)
theorem dL_law_807 : decode cL_law 807 = .ok (.iload 4, 2) := dk_21 4 (dk_at dksL_law_24 17 rfl rfl)
theorem dL_law_809 : decode cL_law 809 = .ok (.iconst 2, 1) := dk_5 (dk_at dksL_law_24 19 rfl rfl)
theorem dL_law_810 : decode cL_law 810 = .ok (.iadd, 1) := dk_96 (dk_at dksL_law_24 20 rfl rfl)
theorem dL_law_811 : decode cL_law 811 = .ok (.iaload, 1) := dk_46 (dk_at dksL_law_24 21 rfl rfl)
theorem dL_law_812 : decode cL_law 812 = .ok (.aload_n 0, 1) := dk_42 (dk_at dksL_law_24 22 rfl rfl)
theorem dL_law_813 : decode cL_law 813 = .ok (.iload 4, 2) := dk_21 4 (dk_at dksL_law_25 0 rfl rfl)
theorem dL_law_815 : decode cL_law 815 = .ok (.iconst 3, 1) := dk_6 (dk_at dksL_law_25 2 rfl rfl)
theorem dL_law_816 : decode cL_law 816 = .ok (.iadd, 1) := dk_96 (dk_at dksL_law_25 3 rfl rfl)
theorem dL_law_817 : decode cL_law 817 = .ok (.iaload, 1) := dk_46 (dk_at dksL_law_25 4 rfl rfl)
theorem dL_law_818 : decode cL_law 818 = .ok (.invokevirtual 200, 3) := dk_182 0 200 (dk_at dksL_law_25 5 rfl rfl)
theorem dL_law_821 : decode cL_law 821 = .ok (.istore 6, 2) := dk_54 6 (dk_at dksL_law_25 8 rfl rfl)
theorem dL_law_823 : decode cL_law 823 = .ok (.aload_n 2, 1) := dk_44 (dk_at dksL_law_25 10 rfl rfl)
theorem dL_law_824 : decode cL_law 824 = .ok (.invokevirtual 175, 3) := dk_182 0 175 (dk_at dksL_law_25 11 rfl rfl)
theorem dL_law_827 : decode cL_law 827 = .ok (.iload 5, 2) := dk_21 5 (dk_at dksL_law_25 14 rfl rfl)
theorem dL_law_829 : decode cL_law 829 = .ok (.if_icmp .eq 5, 3) := dk_159 0 5 (dk_at dksL_law_25 16 rfl rfl)
theorem dL_law_832 : decode cL_law 832 = .ok (.iconst 0, 1) := dk_3 (dk_at dksL_law_25 19 rfl rfl)
theorem dL_law_833 : decode cL_law 833 = .ok (.ireturn, 1) := dk_172 (dk_at dksL_law_25 20 rfl rfl)
theorem dL_law_834 : decode cL_law 834 = .ok (.iload 5, 2) := dk_21 5 (dk_at dksL_law_25 21 rfl rfl)
theorem dL_law_836 : decode cL_law 836 = .ok (.ifCond .ne 22, 3) := dk_154 0 22 (dk_at dksL_law_26 0 rfl rfl)
theorem dL_law_839 : decode cL_law 839 = .ok (.aload_n 3, 1) := dk_45 (dk_at dksL_law_26 3 rfl rfl)
theorem dL_law_840 : decode cL_law 840 = .ok (.iconst 0, 1) := dk_3 (dk_at dksL_law_26 4 rfl rfl)
theorem dL_law_841 : decode cL_law 841 = .ok (.laload, 1) := dk_47 (dk_at dksL_law_26 5 rfl rfl)
theorem dL_law_842 : decode cL_law 842 = .ok (.iload 6, 2) := dk_21 6 (dk_at dksL_law_26 6 rfl rfl)
theorem dL_law_844 : decode cL_law 844 = .ok (.ifCond .eq 7, 3) := dk_153 0 7 (dk_at dksL_law_26 8 rfl rfl)
theorem dL_law_847 : decode cL_law 847 = .ok (.lconst 1, 1) := dk_10 (dk_at dksL_law_26 11 rfl rfl)
theorem dL_law_848 : decode cL_law 848 = .ok (.goto 4, 3) := dk_167 0 4 (dk_at dksL_law_26 12 rfl rfl)
theorem dL_law_851 : decode cL_law 851 = .ok (.lconst 0, 1) := dk_9 (dk_at dksL_law_26 15 rfl rfl)
theorem dL_law_852 : decode cL_law 852 = .ok (.lcmp, 1) := dk_148 (dk_at dksL_law_26 16 rfl rfl)
theorem dL_law_853 : decode cL_law 853 = .ok (.ifCond .eq 5, 3) := dk_153 0 5 (dk_at dksL_law_26 17 rfl rfl)
theorem dL_law_856 : decode cL_law 856 = .ok (.iconst 0, 1) := dk_3 (dk_at dksL_law_26 20 rfl rfl)
theorem dL_law_857 : decode cL_law 857 = .ok (.ireturn, 1) := dk_172 (dk_at dksL_law_26 21 rfl rfl)
theorem dL_law_858 : decode cL_law 858 = .ok (.goto 2473, 3) := dk_167 9 169 (dk_at dksL_law_27 0 rfl rfl)
theorem dL_law_861 : decode cL_law 861 = .ok (.aload_n 1, 1) := dk_43 (dk_at dksL_law_27 3 rfl rfl)
theorem dL_law_862 : decode cL_law 862 = .ok (.aload_n 0, 1) := dk_42 (dk_at dksL_law_27 4 rfl rfl)
theorem dL_law_863 : decode cL_law 863 = .ok (.iload 4, 2) := dk_21 4 (dk_at dksL_law_27 5 rfl rfl)
theorem dL_law_865 : decode cL_law 865 = .ok (.iconst 1, 1) := dk_4 (dk_at dksL_law_27 7 rfl rfl)
theorem dL_law_866 : decode cL_law 866 = .ok (.iadd, 1) := dk_96 (dk_at dksL_law_27 8 rfl rfl)
theorem dL_law_867 : decode cL_law 867 = .ok (.iaload, 1) := dk_46 (dk_at dksL_law_27 9 rfl rfl)
theorem dL_law_868 : decode cL_law 868 = .ok (.aload_n 0, 1) := dk_42 (dk_at dksL_law_27 10 rfl rfl)
theorem dL_law_869 : decode cL_law 869 = .ok (.iload 4, 2) := dk_21 4 (dk_at dksL_law_27 11 rfl rfl)
theorem dL_law_871 : decode cL_law 871 = .ok (.iconst 2, 1) := dk_5 (dk_at dksL_law_27 13 rfl rfl)
theorem dL_law_872 : decode cL_law 872 = .ok (.iadd, 1) := dk_96 (dk_at dksL_law_27 14 rfl rfl)
theorem dL_law_873 : decode cL_law 873 = .ok (.iaload, 1) := dk_46 (dk_at dksL_law_27 15 rfl rfl)
theorem dL_law_874 : decode cL_law 874 = .ok (.aload_n 0, 1) := dk_42 (dk_at dksL_law_27 16 rfl rfl)
theorem dL_law_875 : decode cL_law 875 = .ok (.iload 4, 2) := dk_21 4 (dk_at dksL_law_27 17 rfl rfl)
theorem dL_law_877 : decode cL_law 877 = .ok (.iconst 3, 1) := dk_6 (dk_at dksL_law_27 19 rfl rfl)
theorem dL_law_878 : decode cL_law 878 = .ok (.iadd, 1) := dk_96 (dk_at dksL_law_27 20 rfl rfl)
theorem dL_law_879 : decode cL_law 879 = .ok (.iaload, 1) := dk_46 (dk_at dksL_law_27 21 rfl rfl)
theorem dL_law_880 : decode cL_law 880 = .ok (.aload_n 3, 1) := dk_45 (dk_at dksL_law_27 22 rfl rfl)
theorem dL_law_881 : decode cL_law 881 = .ok (.invokestatic 201, 3) := dk_184 0 201 (dk_at dksL_law_28 0 rfl rfl)
theorem dL_law_884 : decode cL_law 884 = .ok (.istore 5, 2) := dk_54 5 (dk_at dksL_law_28 3 rfl rfl)
theorem dL_law_886 : decode cL_law 886 = .ok (.aload_n 2, 1) := dk_44 (dk_at dksL_law_28 5 rfl rfl)
theorem dL_law_887 : decode cL_law 887 = .ok (.aload_n 0, 1) := dk_42 (dk_at dksL_law_28 6 rfl rfl)
theorem dL_law_888 : decode cL_law 888 = .ok (.iload 4, 2) := dk_21 4 (dk_at dksL_law_28 7 rfl rfl)
theorem dL_law_890 : decode cL_law 890 = .ok (.iconst 1, 1) := dk_4 (dk_at dksL_law_28 9 rfl rfl)
theorem dL_law_891 : decode cL_law 891 = .ok (.iadd, 1) := dk_96 (dk_at dksL_law_28 10 rfl rfl)
theorem dL_law_892 : decode cL_law 892 = .ok (.iaload, 1) := dk_46 (dk_at dksL_law_28 11 rfl rfl)
theorem dL_law_893 : decode cL_law 893 = .ok (.aload_n 0, 1) := dk_42 (dk_at dksL_law_28 12 rfl rfl)
theorem dL_law_894 : decode cL_law 894 = .ok (.iload 4, 2) := dk_21 4 (dk_at dksL_law_28 13 rfl rfl)
theorem dL_law_896 : decode cL_law 896 = .ok (.iconst 2, 1) := dk_5 (dk_at dksL_law_28 15 rfl rfl)
theorem dL_law_897 : decode cL_law 897 = .ok (.iadd, 1) := dk_96 (dk_at dksL_law_28 16 rfl rfl)
theorem dL_law_898 : decode cL_law 898 = .ok (.iaload, 1) := dk_46 (dk_at dksL_law_28 17 rfl rfl)
theorem dL_law_899 : decode cL_law 899 = .ok (.aload_n 0, 1) := dk_42 (dk_at dksL_law_28 18 rfl rfl)
theorem dL_law_900 : decode cL_law 900 = .ok (.iload 4, 2) := dk_21 4 (dk_at dksL_law_28 19 rfl rfl)
theorem dL_law_902 : decode cL_law 902 = .ok (.iconst 3, 1) := dk_6 (dk_at dksL_law_28 21 rfl rfl)
theorem dL_law_903 : decode cL_law 903 = .ok (.iadd, 1) := dk_96 (dk_at dksL_law_28 22 rfl rfl)
theorem dL_law_904 : decode cL_law 904 = .ok (.iaload, 1) := dk_46 (dk_at dksL_law_28 23 rfl rfl)
theorem dL_law_905 : decode cL_law 905 = .ok (.invokevirtual 203, 3) := dk_182 0 203 (dk_at dksL_law_29 0 rfl rfl)
theorem dL_law_908 : decode cL_law 908 = .ok (.istore 6, 2) := dk_54 6 (dk_at dksL_law_29 3 rfl rfl)
theorem dL_law_910 : decode cL_law 910 = .ok (.aload_n 2, 1) := dk_44 (dk_at dksL_law_29 5 rfl rfl)
theorem dL_law_911 : decode cL_law 911 = .ok (.invokevirtual 175, 3) := dk_182 0 175 (dk_at dksL_law_29 6 rfl rfl)
theorem dL_law_914 : decode cL_law 914 = .ok (.iload 5, 2) := dk_21 5 (dk_at dksL_law_29 9 rfl rfl)
theorem dL_law_916 : decode cL_law 916 = .ok (.if_icmp .eq 5, 3) := dk_159 0 5 (dk_at dksL_law_29 11 rfl rfl)
theorem dL_law_919 : decode cL_law 919 = .ok (.iconst 0, 1) := dk_3 (dk_at dksL_law_29 14 rfl rfl)
theorem dL_law_920 : decode cL_law 920 = .ok (.ireturn, 1) := dk_172 (dk_at dksL_law_29 15 rfl rfl)
theorem dL_law_921 : decode cL_law 921 = .ok (.iload 5, 2) := dk_21 5 (dk_at dksL_law_29 16 rfl rfl)
theorem dL_law_923 : decode cL_law 923 = .ok (.ifCond .ne 22, 3) := dk_154 0 22 (dk_at dksL_law_29 18 rfl rfl)
theorem dL_law_926 : decode cL_law 926 = .ok (.aload_n 3, 1) := dk_45 (dk_at dksL_law_29 21 rfl rfl)
theorem dL_law_927 : decode cL_law 927 = .ok (.iconst 0, 1) := dk_3 (dk_at dksL_law_29 22 rfl rfl)
theorem dL_law_928 : decode cL_law 928 = .ok (.laload, 1) := dk_47 (dk_at dksL_law_29 23 rfl rfl)
theorem dL_law_929 : decode cL_law 929 = .ok (.iload 6, 2) := dk_21 6 (dk_at dksL_law_30 0 rfl rfl)
theorem dL_law_931 : decode cL_law 931 = .ok (.ifCond .eq 7, 3) := dk_153 0 7 (dk_at dksL_law_30 2 rfl rfl)
theorem dL_law_934 : decode cL_law 934 = .ok (.lconst 1, 1) := dk_10 (dk_at dksL_law_30 5 rfl rfl)
theorem dL_law_935 : decode cL_law 935 = .ok (.goto 4, 3) := dk_167 0 4 (dk_at dksL_law_30 6 rfl rfl)
theorem dL_law_938 : decode cL_law 938 = .ok (.lconst 0, 1) := dk_9 (dk_at dksL_law_30 9 rfl rfl)
theorem dL_law_939 : decode cL_law 939 = .ok (.lcmp, 1) := dk_148 (dk_at dksL_law_30 10 rfl rfl)
theorem dL_law_940 : decode cL_law 940 = .ok (.ifCond .eq 5, 3) := dk_153 0 5 (dk_at dksL_law_30 11 rfl rfl)
theorem dL_law_943 : decode cL_law 943 = .ok (.iconst 0, 1) := dk_3 (dk_at dksL_law_30 14 rfl rfl)
theorem dL_law_944 : decode cL_law 944 = .ok (.ireturn, 1) := dk_172 (dk_at dksL_law_30 15 rfl rfl)
theorem dL_law_945 : decode cL_law 945 = .ok (.goto 2386, 3) := dk_167 9 82 (dk_at dksL_law_30 16 rfl rfl)
theorem dL_law_948 : decode cL_law 948 = .ok (.aload_n 1, 1) := dk_43 (dk_at dksL_law_30 19 rfl rfl)
theorem dL_law_949 : decode cL_law 949 = .ok (.aload_n 0, 1) := dk_42 (dk_at dksL_law_30 20 rfl rfl)
theorem dL_law_950 : decode cL_law 950 = .ok (.iload 4, 2) := dk_21 4 (dk_at dksL_law_30 21 rfl rfl)
theorem dL_law_952 : decode cL_law 952 = .ok (.iconst 1, 1) := dk_4 (dk_at dksL_law_30 23 rfl rfl)
theorem dL_law_953 : decode cL_law 953 = .ok (.iadd, 1) := dk_96 (dk_at dksL_law_31 0 rfl rfl)
theorem dL_law_954 : decode cL_law 954 = .ok (.iaload, 1) := dk_46 (dk_at dksL_law_31 1 rfl rfl)
theorem dL_law_955 : decode cL_law 955 = .ok (.aload_n 0, 1) := dk_42 (dk_at dksL_law_31 2 rfl rfl)
theorem dL_law_956 : decode cL_law 956 = .ok (.iload 4, 2) := dk_21 4 (dk_at dksL_law_31 3 rfl rfl)
theorem dL_law_958 : decode cL_law 958 = .ok (.iconst 2, 1) := dk_5 (dk_at dksL_law_31 5 rfl rfl)
theorem dL_law_959 : decode cL_law 959 = .ok (.iadd, 1) := dk_96 (dk_at dksL_law_31 6 rfl rfl)
theorem dL_law_960 : decode cL_law 960 = .ok (.iaload, 1) := dk_46 (dk_at dksL_law_31 7 rfl rfl)
theorem dL_law_961 : decode cL_law 961 = .ok (.aload_n 0, 1) := dk_42 (dk_at dksL_law_31 8 rfl rfl)
theorem dL_law_962 : decode cL_law 962 = .ok (.iload 4, 2) := dk_21 4 (dk_at dksL_law_31 9 rfl rfl)
theorem dL_law_964 : decode cL_law 964 = .ok (.iconst 3, 1) := dk_6 (dk_at dksL_law_31 11 rfl rfl)
theorem dL_law_965 : decode cL_law 965 = .ok (.iadd, 1) := dk_96 (dk_at dksL_law_31 12 rfl rfl)
theorem dL_law_966 : decode cL_law 966 = .ok (.iaload, 1) := dk_46 (dk_at dksL_law_31 13 rfl rfl)
theorem dL_law_967 : decode cL_law 967 = .ok (.aload_n 3, 1) := dk_45 (dk_at dksL_law_31 14 rfl rfl)
theorem dL_law_968 : decode cL_law 968 = .ok (.invokestatic 204, 3) := dk_184 0 204 (dk_at dksL_law_31 15 rfl rfl)
theorem dL_law_971 : decode cL_law 971 = .ok (.istore 5, 2) := dk_54 5 (dk_at dksL_law_31 18 rfl rfl)
theorem dL_law_973 : decode cL_law 973 = .ok (.aload_n 2, 1) := dk_44 (dk_at dksL_law_31 20 rfl rfl)
theorem dL_law_974 : decode cL_law 974 = .ok (.aload_n 0, 1) := dk_42 (dk_at dksL_law_31 21 rfl rfl)
theorem dL_law_975 : decode cL_law 975 = .ok (.iload 4, 2) := dk_21 4 (dk_at dksL_law_31 22 rfl rfl)
theorem dL_law_977 : decode cL_law 977 = .ok (.iconst 1, 1) := dk_4 (dk_at dksL_law_32 0 rfl rfl)
theorem dL_law_978 : decode cL_law 978 = .ok (.iadd, 1) := dk_96 (dk_at dksL_law_32 1 rfl rfl)
theorem dL_law_979 : decode cL_law 979 = .ok (.iaload, 1) := dk_46 (dk_at dksL_law_32 2 rfl rfl)
theorem dL_law_980 : decode cL_law 980 = .ok (.aload_n 0, 1) := dk_42 (dk_at dksL_law_32 3 rfl rfl)
theorem dL_law_981 : decode cL_law 981 = .ok (.iload 4, 2) := dk_21 4 (dk_at dksL_law_32 4 rfl rfl)
theorem dL_law_983 : decode cL_law 983 = .ok (.iconst 2, 1) := dk_5 (dk_at dksL_law_32 6 rfl rfl)
theorem dL_law_984 : decode cL_law 984 = .ok (.iadd, 1) := dk_96 (dk_at dksL_law_32 7 rfl rfl)
theorem dL_law_985 : decode cL_law 985 = .ok (.iaload, 1) := dk_46 (dk_at dksL_law_32 8 rfl rfl)
theorem dL_law_986 : decode cL_law 986 = .ok (.aload_n 0, 1) := dk_42 (dk_at dksL_law_32 9 rfl rfl)
theorem dL_law_987 : decode cL_law 987 = .ok (.iload 4, 2) := dk_21 4 (dk_at dksL_law_32 10 rfl rfl)
theorem dL_law_989 : decode cL_law 989 = .ok (.iconst 3, 1) := dk_6 (dk_at dksL_law_32 12 rfl rfl)
theorem dL_law_990 : decode cL_law 990 = .ok (.iadd, 1) := dk_96 (dk_at dksL_law_32 13 rfl rfl)
theorem dL_law_991 : decode cL_law 991 = .ok (.iaload, 1) := dk_46 (dk_at dksL_law_32 14 rfl rfl)
theorem dL_law_992 : decode cL_law 992 = .ok (.invokevirtual 206, 3) := dk_182 0 206 (dk_at dksL_law_32 15 rfl rfl)
theorem dL_law_995 : decode cL_law 995 = .ok (.istore 6, 2) := dk_54 6 (dk_at dksL_law_32 18 rfl rfl)
theorem dL_law_997 : decode cL_law 997 = .ok (.aload_n 2, 1) := dk_44 (dk_at dksL_law_32 20 rfl rfl)
theorem dL_law_998 : decode cL_law 998 = .ok (.invokevirtual 175, 3) := dk_182 0 175 (dk_at dksL_law_32 21 rfl rfl)
theorem dL_law_1001 : decode cL_law 1001 = .ok (.iload 5, 2) := dk_21 5 (dk_at dksL_law_33 0 rfl rfl)
theorem dL_law_1003 : decode cL_law 1003 = .ok (.if_icmp .eq 5, 3) := dk_159 0 5 (dk_at dksL_law_33 2 rfl rfl)
theorem dL_law_1006 : decode cL_law 1006 = .ok (.iconst 0, 1) := dk_3 (dk_at dksL_law_33 5 rfl rfl)
theorem dL_law_1007 : decode cL_law 1007 = .ok (.ireturn, 1) := dk_172 (dk_at dksL_law_33 6 rfl rfl)
theorem dL_law_1008 : decode cL_law 1008 = .ok (.iload 5, 2) := dk_21 5 (dk_at dksL_law_33 7 rfl rfl)
theorem dL_law_1010 : decode cL_law 1010 = .ok (.ifCond .ne 22, 3) := dk_154 0 22 (dk_at dksL_law_33 9 rfl rfl)
theorem dL_law_1013 : decode cL_law 1013 = .ok (.aload_n 3, 1) := dk_45 (dk_at dksL_law_33 12 rfl rfl)
theorem dL_law_1014 : decode cL_law 1014 = .ok (.iconst 0, 1) := dk_3 (dk_at dksL_law_33 13 rfl rfl)
theorem dL_law_1015 : decode cL_law 1015 = .ok (.laload, 1) := dk_47 (dk_at dksL_law_33 14 rfl rfl)
theorem dL_law_1016 : decode cL_law 1016 = .ok (.iload 6, 2) := dk_21 6 (dk_at dksL_law_33 15 rfl rfl)
theorem dL_law_1018 : decode cL_law 1018 = .ok (.ifCond .eq 7, 3) := dk_153 0 7 (dk_at dksL_law_33 17 rfl rfl)
theorem dL_law_1021 : decode cL_law 1021 = .ok (.lconst 1, 1) := dk_10 (dk_at dksL_law_33 20 rfl rfl)
theorem dL_law_1022 : decode cL_law 1022 = .ok (.goto 4, 3) := dk_167 0 4 (dk_at dksL_law_33 21 rfl rfl)
theorem dL_law_1025 : decode cL_law 1025 = .ok (.lconst 0, 1) := dk_9 (dk_at dksL_law_34 0 rfl rfl)
theorem dL_law_1026 : decode cL_law 1026 = .ok (.lcmp, 1) := dk_148 (dk_at dksL_law_34 1 rfl rfl)
theorem dL_law_1027 : decode cL_law 1027 = .ok (.ifCond .eq 5, 3) := dk_153 0 5 (dk_at dksL_law_34 2 rfl rfl)
theorem dL_law_1030 : decode cL_law 1030 = .ok (.iconst 0, 1) := dk_3 (dk_at dksL_law_34 5 rfl rfl)
theorem dL_law_1031 : decode cL_law 1031 = .ok (.ireturn, 1) := dk_172 (dk_at dksL_law_34 6 rfl rfl)
theorem dL_law_1032 : decode cL_law 1032 = .ok (.goto 2299, 3) := dk_167 8 251 (dk_at dksL_law_34 7 rfl rfl)
theorem dL_law_1035 : decode cL_law 1035 = .ok (.aload_n 1, 1) := dk_43 (dk_at dksL_law_34 10 rfl rfl)
theorem dL_law_1036 : decode cL_law 1036 = .ok (.aload_n 0, 1) := dk_42 (dk_at dksL_law_34 11 rfl rfl)
theorem dL_law_1037 : decode cL_law 1037 = .ok (.iload 4, 2) := dk_21 4 (dk_at dksL_law_34 12 rfl rfl)
theorem dL_law_1039 : decode cL_law 1039 = .ok (.iconst 1, 1) := dk_4 (dk_at dksL_law_34 14 rfl rfl)
theorem dL_law_1040 : decode cL_law 1040 = .ok (.iadd, 1) := dk_96 (dk_at dksL_law_34 15 rfl rfl)
theorem dL_law_1041 : decode cL_law 1041 = .ok (.iaload, 1) := dk_46 (dk_at dksL_law_34 16 rfl rfl)
theorem dL_law_1042 : decode cL_law 1042 = .ok (.aload_n 0, 1) := dk_42 (dk_at dksL_law_34 17 rfl rfl)
theorem dL_law_1043 : decode cL_law 1043 = .ok (.iload 4, 2) := dk_21 4 (dk_at dksL_law_34 18 rfl rfl)
theorem dL_law_1045 : decode cL_law 1045 = .ok (.iconst 2, 1) := dk_5 (dk_at dksL_law_34 20 rfl rfl)
theorem dL_law_1046 : decode cL_law 1046 = .ok (.iadd, 1) := dk_96 (dk_at dksL_law_34 21 rfl rfl)
theorem dL_law_1047 : decode cL_law 1047 = .ok (.iaload, 1) := dk_46 (dk_at dksL_law_34 22 rfl rfl)
theorem dL_law_1048 : decode cL_law 1048 = .ok (.aload_n 3, 1) := dk_45 (dk_at dksL_law_34 23 rfl rfl)
theorem dL_law_1049 : decode cL_law 1049 = .ok (.invokestatic 207, 3) := dk_184 0 207 (dk_at dksL_law_35 0 rfl rfl)
theorem dL_law_1052 : decode cL_law 1052 = .ok (.istore 5, 2) := dk_54 5 (dk_at dksL_law_35 3 rfl rfl)
theorem dL_law_1054 : decode cL_law 1054 = .ok (.aload_n 2, 1) := dk_44 (dk_at dksL_law_35 5 rfl rfl)
theorem dL_law_1055 : decode cL_law 1055 = .ok (.aload_n 0, 1) := dk_42 (dk_at dksL_law_35 6 rfl rfl)
theorem dL_law_1056 : decode cL_law 1056 = .ok (.iload 4, 2) := dk_21 4 (dk_at dksL_law_35 7 rfl rfl)
theorem dL_law_1058 : decode cL_law 1058 = .ok (.iconst 1, 1) := dk_4 (dk_at dksL_law_35 9 rfl rfl)
theorem dL_law_1059 : decode cL_law 1059 = .ok (.iadd, 1) := dk_96 (dk_at dksL_law_35 10 rfl rfl)
theorem dL_law_1060 : decode cL_law 1060 = .ok (.iaload, 1) := dk_46 (dk_at dksL_law_35 11 rfl rfl)
theorem dL_law_1061 : decode cL_law 1061 = .ok (.aload_n 0, 1) := dk_42 (dk_at dksL_law_35 12 rfl rfl)
theorem dL_law_1062 : decode cL_law 1062 = .ok (.iload 4, 2) := dk_21 4 (dk_at dksL_law_35 13 rfl rfl)
theorem dL_law_1064 : decode cL_law 1064 = .ok (.iconst 2, 1) := dk_5 (dk_at dksL_law_35 15 rfl rfl)
theorem dL_law_1065 : decode cL_law 1065 = .ok (.iadd, 1) := dk_96 (dk_at dksL_law_35 16 rfl rfl)
theorem dL_law_1066 : decode cL_law 1066 = .ok (.iaload, 1) := dk_46 (dk_at dksL_law_35 17 rfl rfl)
theorem dL_law_1067 : decode cL_law 1067 = .ok (.invokevirtual 210, 3) := dk_182 0 210 (dk_at dksL_law_35 18 rfl rfl)
theorem dL_law_1070 : decode cL_law 1070 = .ok (.istore 6, 2) := dk_54 6 (dk_at dksL_law_35 21 rfl rfl)
theorem dL_law_1072 : decode cL_law 1072 = .ok (.aload_n 2, 1) := dk_44 (dk_at dksL_law_35 23 rfl rfl)
theorem dL_law_1073 : decode cL_law 1073 = .ok (.invokevirtual 175, 3) := dk_182 0 175 (dk_at dksL_law_36 0 rfl rfl)
theorem dL_law_1076 : decode cL_law 1076 = .ok (.iload 5, 2) := dk_21 5 (dk_at dksL_law_36 3 rfl rfl)
theorem dL_law_1078 : decode cL_law 1078 = .ok (.if_icmp .eq 5, 3) := dk_159 0 5 (dk_at dksL_law_36 5 rfl rfl)
theorem dL_law_1081 : decode cL_law 1081 = .ok (.iconst 0, 1) := dk_3 (dk_at dksL_law_36 8 rfl rfl)
theorem dL_law_1082 : decode cL_law 1082 = .ok (.ireturn, 1) := dk_172 (dk_at dksL_law_36 9 rfl rfl)
theorem dL_law_1083 : decode cL_law 1083 = .ok (.iload 5, 2) := dk_21 5 (dk_at dksL_law_36 10 rfl rfl)
theorem dL_law_1085 : decode cL_law 1085 = .ok (.ifCond .ne 15, 3) := dk_154 0 15 (dk_at dksL_law_36 12 rfl rfl)
theorem dL_law_1088 : decode cL_law 1088 = .ok (.aload_n 3, 1) := dk_45 (dk_at dksL_law_36 15 rfl rfl)
theorem dL_law_1089 : decode cL_law 1089 = .ok (.iconst 0, 1) := dk_3 (dk_at dksL_law_36 16 rfl rfl)
theorem dL_law_1090 : decode cL_law 1090 = .ok (.laload, 1) := dk_47 (dk_at dksL_law_36 17 rfl rfl)
theorem dL_law_1091 : decode cL_law 1091 = .ok (.iload 6, 2) := dk_21 6 (dk_at dksL_law_36 18 rfl rfl)
theorem dL_law_1093 : decode cL_law 1093 = .ok (.i2l, 1) := dk_133 (dk_at dksL_law_36 20 rfl rfl)
theorem dL_law_1094 : decode cL_law 1094 = .ok (.lcmp, 1) := dk_148 (dk_at dksL_law_36 21 rfl rfl)
theorem dL_law_1095 : decode cL_law 1095 = .ok (.ifCond .eq 5, 3) := dk_153 0 5 (dk_at dksL_law_37 0 rfl rfl)
theorem dL_law_1098 : decode cL_law 1098 = .ok (.iconst 0, 1) := dk_3 (dk_at dksL_law_37 3 rfl rfl)
theorem dL_law_1099 : decode cL_law 1099 = .ok (.ireturn, 1) := dk_172 (dk_at dksL_law_37 4 rfl rfl)
theorem dL_law_1100 : decode cL_law 1100 = .ok (.goto 2231, 3) := dk_167 8 183 (dk_at dksL_law_37 5 rfl rfl)
theorem dL_law_1103 : decode cL_law 1103 = .ok (.aload_n 1, 1) := dk_43 (dk_at dksL_law_37 8 rfl rfl)
theorem dL_law_1104 : decode cL_law 1104 = .ok (.invokevirtual 211, 3) := dk_182 0 211 (dk_at dksL_law_37 9 rfl rfl)
theorem dL_law_1107 : decode cL_law 1107 = .ok (.aload_n 2, 1) := dk_44 (dk_at dksL_law_37 12 rfl rfl)
theorem dL_law_1108 : decode cL_law 1108 = .ok (.invokevirtual 214, 3) := dk_182 0 214 (dk_at dksL_law_37 13 rfl rfl)
theorem dL_law_1111 : decode cL_law 1111 = .ok (.if_icmp .eq 2220, 3) := dk_159 8 172 (dk_at dksL_law_37 16 rfl rfl)
theorem dL_law_1114 : decode cL_law 1114 = .ok (.iconst 0, 1) := dk_3 (dk_at dksL_law_37 19 rfl rfl)
theorem dL_law_1115 : decode cL_law 1115 = .ok (.ireturn, 1) := dk_172 (dk_at dksL_law_37 20 rfl rfl)
theorem dL_law_1116 : decode cL_law 1116 = .ok (.aload_n 1, 1) := dk_43 (dk_at dksL_law_37 21 rfl rfl)
theorem dL_law_1117 : decode cL_law 1117 = .ok (.invokevirtual 215, 3) := dk_182 0 215 (dk_at dksL_law_38 0 rfl rfl)
theorem dL_law_1120 : decode cL_law 1120 = .ok (.aload_n 2, 1) := dk_44 (dk_at dksL_law_38 3 rfl rfl)
theorem dL_law_1121 : decode cL_law 1121 = .ok (.invokevirtual 218, 3) := dk_182 0 218 (dk_at dksL_law_38 4 rfl rfl)
theorem dL_law_1124 : decode cL_law 1124 = .ok (.if_icmp .eq 2207, 3) := dk_159 8 159 (dk_at dksL_law_38 7 rfl rfl)
theorem dL_law_1127 : decode cL_law 1127 = .ok (.iconst 0, 1) := dk_3 (dk_at dksL_law_38 10 rfl rfl)
theorem dL_law_1128 : decode cL_law 1128 = .ok (.ireturn, 1) := dk_172 (dk_at dksL_law_38 11 rfl rfl)
theorem dL_law_1129 : decode cL_law 1129 = .ok (.aload_n 1, 1) := dk_43 (dk_at dksL_law_38 12 rfl rfl)
theorem dL_law_1130 : decode cL_law 1130 = .ok (.aload_n 0, 1) := dk_42 (dk_at dksL_law_38 13 rfl rfl)
theorem dL_law_1131 : decode cL_law 1131 = .ok (.iload 4, 2) := dk_21 4 (dk_at dksL_law_38 14 rfl rfl)
theorem dL_law_1133 : decode cL_law 1133 = .ok (.iconst 1, 1) := dk_4 (dk_at dksL_law_38 16 rfl rfl)
theorem dL_law_1134 : decode cL_law 1134 = .ok (.iadd, 1) := dk_96 (dk_at dksL_law_38 17 rfl rfl)
theorem dL_law_1135 : decode cL_law 1135 = .ok (.iaload, 1) := dk_46 (dk_at dksL_law_38 18 rfl rfl)
theorem dL_law_1136 : decode cL_law 1136 = .ok (.invokevirtual 219, 3) := dk_182 0 219 (dk_at dksL_law_38 19 rfl rfl)
theorem dL_law_1139 : decode cL_law 1139 = .ok (.aload_n 2, 1) := dk_44 (dk_at dksL_law_38 22 rfl rfl)
theorem dL_law_1140 : decode cL_law 1140 = .ok (.aload_n 0, 1) := dk_42 (dk_at dksL_law_38 23 rfl rfl)
theorem dL_law_1141 : decode cL_law 1141 = .ok (.iload 4, 2) := dk_21 4 (dk_at dksL_law_39 0 rfl rfl)
theorem dL_law_1143 : decode cL_law 1143 = .ok (.iconst 1, 1) := dk_4 (dk_at dksL_law_39 2 rfl rfl)
theorem dL_law_1144 : decode cL_law 1144 = .ok (.iadd, 1) := dk_96 (dk_at dksL_law_39 3 rfl rfl)
theorem dL_law_1145 : decode cL_law 1145 = .ok (.iaload, 1) := dk_46 (dk_at dksL_law_39 4 rfl rfl)
theorem dL_law_1146 : decode cL_law 1146 = .ok (.invokevirtual 222, 3) := dk_182 0 222 (dk_at dksL_law_39 5 rfl rfl)
theorem dL_law_1149 : decode cL_law 1149 = .ok (.if_icmp .eq 2182, 3) := dk_159 8 134 (dk_at dksL_law_39 8 rfl rfl)
theorem dL_law_1152 : decode cL_law 1152 = .ok (.iconst 0, 1) := dk_3 (dk_at dksL_law_39 11 rfl rfl)
theorem dL_law_1153 : decode cL_law 1153 = .ok (.ireturn, 1) := dk_172 (dk_at dksL_law_39 12 rfl rfl)
theorem dL_law_1154 : decode cL_law 1154 = .ok (.aload_n 1, 1) := dk_43 (dk_at dksL_law_39 13 rfl rfl)
theorem dL_law_1155 : decode cL_law 1155 = .ok (.aload_n 0, 1) := dk_42 (dk_at dksL_law_39 14 rfl rfl)
theorem dL_law_1156 : decode cL_law 1156 = .ok (.iload 4, 2) := dk_21 4 (dk_at dksL_law_39 15 rfl rfl)
theorem dL_law_1158 : decode cL_law 1158 = .ok (.iconst 1, 1) := dk_4 (dk_at dksL_law_39 17 rfl rfl)
theorem dL_law_1159 : decode cL_law 1159 = .ok (.iadd, 1) := dk_96 (dk_at dksL_law_39 18 rfl rfl)
theorem dL_law_1160 : decode cL_law 1160 = .ok (.iaload, 1) := dk_46 (dk_at dksL_law_39 19 rfl rfl)
theorem dL_law_1161 : decode cL_law 1161 = .ok (.aload_n 3, 1) := dk_45 (dk_at dksL_law_39 20 rfl rfl)
theorem dL_law_1162 : decode cL_law 1162 = .ok (.invokestatic 223, 3) := dk_184 0 223 (dk_at dksL_law_39 21 rfl rfl)
theorem dL_law_1165 : decode cL_law 1165 = .ok (.istore 5, 2) := dk_54 5 (dk_at dksL_law_40 0 rfl rfl)
theorem dL_law_1167 : decode cL_law 1167 = .ok (.aload_n 2, 1) := dk_44 (dk_at dksL_law_40 2 rfl rfl)
theorem dL_law_1168 : decode cL_law 1168 = .ok (.aload_n 0, 1) := dk_42 (dk_at dksL_law_40 3 rfl rfl)
theorem dL_law_1169 : decode cL_law 1169 = .ok (.iload 4, 2) := dk_21 4 (dk_at dksL_law_40 4 rfl rfl)
theorem dL_law_1171 : decode cL_law 1171 = .ok (.iconst 1, 1) := dk_4 (dk_at dksL_law_40 6 rfl rfl)
theorem dL_law_1172 : decode cL_law 1172 = .ok (.iadd, 1) := dk_96 (dk_at dksL_law_40 7 rfl rfl)
theorem dL_law_1173 : decode cL_law 1173 = .ok (.iaload, 1) := dk_46 (dk_at dksL_law_40 8 rfl rfl)
theorem dL_law_1174 : decode cL_law 1174 = .ok (.invokevirtual 225, 3) := dk_182 0 225 (dk_at dksL_law_40 9 rfl rfl)
theorem dL_law_1177 : decode cL_law 1177 = .ok (.istore 6, 2) := dk_54 6 (dk_at dksL_law_40 12 rfl rfl)
theorem dL_law_1179 : decode cL_law 1179 = .ok (.aload_n 2, 1) := dk_44 (dk_at dksL_law_40 14 rfl rfl)
theorem dL_law_1180 : decode cL_law 1180 = .ok (.invokevirtual 175, 3) := dk_182 0 175 (dk_at dksL_law_40 15 rfl rfl)
theorem dL_law_1183 : decode cL_law 1183 = .ok (.iload 5, 2) := dk_21 5 (dk_at dksL_law_40 18 rfl rfl)
theorem dL_law_1185 : decode cL_law 1185 = .ok (.if_icmp .eq 5, 3) := dk_159 0 5 (dk_at dksL_law_40 20 rfl rfl)
theorem dL_law_1188 : decode cL_law 1188 = .ok (.iconst 0, 1) := dk_3 (dk_at dksL_law_40 23 rfl rfl)
theorem dL_law_1189 : decode cL_law 1189 = .ok (.ireturn, 1) := dk_172 (dk_at dksL_law_41 0 rfl rfl)
theorem dL_law_1190 : decode cL_law 1190 = .ok (.iload 5, 2) := dk_21 5 (dk_at dksL_law_41 1 rfl rfl)
theorem dL_law_1192 : decode cL_law 1192 = .ok (.ifCond .ne 15, 3) := dk_154 0 15 (dk_at dksL_law_41 3 rfl rfl)
theorem dL_law_1195 : decode cL_law 1195 = .ok (.aload_n 3, 1) := dk_45 (dk_at dksL_law_41 6 rfl rfl)
theorem dL_law_1196 : decode cL_law 1196 = .ok (.iconst 0, 1) := dk_3 (dk_at dksL_law_41 7 rfl rfl)
theorem dL_law_1197 : decode cL_law 1197 = .ok (.laload, 1) := dk_47 (dk_at dksL_law_41 8 rfl rfl)
theorem dL_law_1198 : decode cL_law 1198 = .ok (.iload 6, 2) := dk_21 6 (dk_at dksL_law_41 9 rfl rfl)
theorem dL_law_1200 : decode cL_law 1200 = .ok (.i2l, 1) := dk_133 (dk_at dksL_law_41 11 rfl rfl)
theorem dL_law_1201 : decode cL_law 1201 = .ok (.lcmp, 1) := dk_148 (dk_at dksL_law_41 12 rfl rfl)
theorem dL_law_1202 : decode cL_law 1202 = .ok (.ifCond .eq 5, 3) := dk_153 0 5 (dk_at dksL_law_41 13 rfl rfl)
theorem dL_law_1205 : decode cL_law 1205 = .ok (.iconst 0, 1) := dk_3 (dk_at dksL_law_41 16 rfl rfl)
theorem dL_law_1206 : decode cL_law 1206 = .ok (.ireturn, 1) := dk_172 (dk_at dksL_law_41 17 rfl rfl)
theorem dL_law_1207 : decode cL_law 1207 = .ok (.goto 2124, 3) := dk_167 8 76 (dk_at dksL_law_41 18 rfl rfl)
theorem dL_law_1210 : decode cL_law 1210 = .ok (.aload_n 1, 1) := dk_43 (dk_at dksL_law_41 21 rfl rfl)
theorem dL_law_1211 : decode cL_law 1211 = .ok (.aload_n 0, 1) := dk_42 (dk_at dksL_law_41 22 rfl rfl)
theorem dL_law_1212 : decode cL_law 1212 = .ok (.iload 4, 2) := dk_21 4 (dk_at dksL_law_42 0 rfl rfl)
theorem dL_law_1214 : decode cL_law 1214 = .ok (.iconst 1, 1) := dk_4 (dk_at dksL_law_42 2 rfl rfl)
theorem dL_law_1215 : decode cL_law 1215 = .ok (.iadd, 1) := dk_96 (dk_at dksL_law_42 3 rfl rfl)
theorem dL_law_1216 : decode cL_law 1216 = .ok (.iaload, 1) := dk_46 (dk_at dksL_law_42 4 rfl rfl)
theorem dL_law_1217 : decode cL_law 1217 = .ok (.aload_n 3, 1) := dk_45 (dk_at dksL_law_42 5 rfl rfl)
theorem dL_law_1218 : decode cL_law 1218 = .ok (.invokestatic 226, 3) := dk_184 0 226 (dk_at dksL_law_42 6 rfl rfl)
theorem dL_law_1221 : decode cL_law 1221 = .ok (.istore 5, 2) := dk_54 5 (dk_at dksL_law_42 9 rfl rfl)
theorem dL_law_1223 : decode cL_law 1223 = .ok (.aload_n 2, 1) := dk_44 (dk_at dksL_law_42 11 rfl rfl)
theorem dL_law_1224 : decode cL_law 1224 = .ok (.aload_n 0, 1) := dk_42 (dk_at dksL_law_42 12 rfl rfl)
theorem dL_law_1225 : decode cL_law 1225 = .ok (.iload 4, 2) := dk_21 4 (dk_at dksL_law_42 13 rfl rfl)
theorem dL_law_1227 : decode cL_law 1227 = .ok (.iconst 1, 1) := dk_4 (dk_at dksL_law_42 15 rfl rfl)
theorem dL_law_1228 : decode cL_law 1228 = .ok (.iadd, 1) := dk_96 (dk_at dksL_law_42 16 rfl rfl)
theorem dL_law_1229 : decode cL_law 1229 = .ok (.iaload, 1) := dk_46 (dk_at dksL_law_42 17 rfl rfl)
theorem dL_law_1230 : decode cL_law 1230 = .ok (.invokevirtual 228, 3) := dk_182 0 228 (dk_at dksL_law_42 18 rfl rfl)
theorem dL_law_1233 : decode cL_law 1233 = .ok (.istore 6, 2) := dk_54 6 (dk_at dksL_law_42 21 rfl rfl)
theorem dL_law_1235 : decode cL_law 1235 = .ok (.aload_n 2, 1) := dk_44 (dk_at dksL_law_42 23 rfl rfl)
theorem dL_law_1236 : decode cL_law 1236 = .ok (.invokevirtual 175, 3) := dk_182 0 175 (dk_at dksL_law_43 0 rfl rfl)
theorem dL_law_1239 : decode cL_law 1239 = .ok (.iload 5, 2) := dk_21 5 (dk_at dksL_law_43 3 rfl rfl)
theorem dL_law_1241 : decode cL_law 1241 = .ok (.if_icmp .eq 5, 3) := dk_159 0 5 (dk_at dksL_law_43 5 rfl rfl)
theorem dL_law_1244 : decode cL_law 1244 = .ok (.iconst 0, 1) := dk_3 (dk_at dksL_law_43 8 rfl rfl)
theorem dL_law_1245 : decode cL_law 1245 = .ok (.ireturn, 1) := dk_172 (dk_at dksL_law_43 9 rfl rfl)
theorem dL_law_1246 : decode cL_law 1246 = .ok (.iload 5, 2) := dk_21 5 (dk_at dksL_law_43 10 rfl rfl)
theorem dL_law_1248 : decode cL_law 1248 = .ok (.ifCond .ne 22, 3) := dk_154 0 22 (dk_at dksL_law_43 12 rfl rfl)
theorem dL_law_1251 : decode cL_law 1251 = .ok (.aload_n 3, 1) := dk_45 (dk_at dksL_law_43 15 rfl rfl)
theorem dL_law_1252 : decode cL_law 1252 = .ok (.iconst 0, 1) := dk_3 (dk_at dksL_law_43 16 rfl rfl)
theorem dL_law_1253 : decode cL_law 1253 = .ok (.laload, 1) := dk_47 (dk_at dksL_law_43 17 rfl rfl)
theorem dL_law_1254 : decode cL_law 1254 = .ok (.iload 6, 2) := dk_21 6 (dk_at dksL_law_43 18 rfl rfl)
theorem dL_law_1256 : decode cL_law 1256 = .ok (.ifCond .eq 7, 3) := dk_153 0 7 (dk_at dksL_law_43 20 rfl rfl)
theorem dL_law_1259 : decode cL_law 1259 = .ok (.lconst 1, 1) := dk_10 (dk_at dksL_law_43 23 rfl rfl)
theorem dL_law_1260 : decode cL_law 1260 = .ok (.goto 4, 3) := dk_167 0 4 (dk_at dksL_law_44 0 rfl rfl)
theorem dL_law_1263 : decode cL_law 1263 = .ok (.lconst 0, 1) := dk_9 (dk_at dksL_law_44 3 rfl rfl)
theorem dL_law_1264 : decode cL_law 1264 = .ok (.lcmp, 1) := dk_148 (dk_at dksL_law_44 4 rfl rfl)
theorem dL_law_1265 : decode cL_law 1265 = .ok (.ifCond .eq 5, 3) := dk_153 0 5 (dk_at dksL_law_44 5 rfl rfl)
theorem dL_law_1268 : decode cL_law 1268 = .ok (.iconst 0, 1) := dk_3 (dk_at dksL_law_44 8 rfl rfl)
theorem dL_law_1269 : decode cL_law 1269 = .ok (.ireturn, 1) := dk_172 (dk_at dksL_law_44 9 rfl rfl)
theorem dL_law_1270 : decode cL_law 1270 = .ok (.goto 2061, 3) := dk_167 8 13 (dk_at dksL_law_44 10 rfl rfl)
theorem dL_law_1273 : decode cL_law 1273 = .ok (.aload_n 1, 1) := dk_43 (dk_at dksL_law_44 13 rfl rfl)
theorem dL_law_1274 : decode cL_law 1274 = .ok (.aload_n 0, 1) := dk_42 (dk_at dksL_law_44 14 rfl rfl)
theorem dL_law_1275 : decode cL_law 1275 = .ok (.iload 4, 2) := dk_21 4 (dk_at dksL_law_44 15 rfl rfl)
theorem dL_law_1277 : decode cL_law 1277 = .ok (.iconst 1, 1) := dk_4 (dk_at dksL_law_44 17 rfl rfl)
theorem dL_law_1278 : decode cL_law 1278 = .ok (.iadd, 1) := dk_96 (dk_at dksL_law_44 18 rfl rfl)
theorem dL_law_1279 : decode cL_law 1279 = .ok (.iaload, 1) := dk_46 (dk_at dksL_law_44 19 rfl rfl)
theorem dL_law_1280 : decode cL_law 1280 = .ok (.aload_n 3, 1) := dk_45 (dk_at dksL_law_44 20 rfl rfl)
theorem dL_law_1281 : decode cL_law 1281 = .ok (.invokestatic 229, 3) := dk_184 0 229 (dk_at dksL_law_44 21 rfl rfl)
theorem dL_law_1284 : decode cL_law 1284 = .ok (.istore 5, 2) := dk_54 5 (dk_at dksL_law_45 0 rfl rfl)
theorem dL_law_1286 : decode cL_law 1286 = .ok (.aload_n 2, 1) := dk_44 (dk_at dksL_law_45 2 rfl rfl)
theorem dL_law_1287 : decode cL_law 1287 = .ok (.aload_n 0, 1) := dk_42 (dk_at dksL_law_45 3 rfl rfl)
theorem dL_law_1288 : decode cL_law 1288 = .ok (.iload 4, 2) := dk_21 4 (dk_at dksL_law_45 4 rfl rfl)
theorem dL_law_1290 : decode cL_law 1290 = .ok (.iconst 1, 1) := dk_4 (dk_at dksL_law_45 6 rfl rfl)
theorem dL_law_1291 : decode cL_law 1291 = .ok (.iadd, 1) := dk_96 (dk_at dksL_law_45 7 rfl rfl)
theorem dL_law_1292 : decode cL_law 1292 = .ok (.iaload, 1) := dk_46 (dk_at dksL_law_45 8 rfl rfl)
theorem dL_law_1293 : decode cL_law 1293 = .ok (.invokevirtual 231, 3) := dk_182 0 231 (dk_at dksL_law_45 9 rfl rfl)
theorem dL_law_1296 : decode cL_law 1296 = .ok (.istore 6, 2) := dk_54 6 (dk_at dksL_law_45 12 rfl rfl)
theorem dL_law_1298 : decode cL_law 1298 = .ok (.aload_n 2, 1) := dk_44 (dk_at dksL_law_45 14 rfl rfl)
theorem dL_law_1299 : decode cL_law 1299 = .ok (.invokevirtual 175, 3) := dk_182 0 175 (dk_at dksL_law_45 15 rfl rfl)
theorem dL_law_1302 : decode cL_law 1302 = .ok (.iload 5, 2) := dk_21 5 (dk_at dksL_law_45 18 rfl rfl)
theorem dL_law_1304 : decode cL_law 1304 = .ok (.if_icmp .eq 5, 3) := dk_159 0 5 (dk_at dksL_law_45 20 rfl rfl)
theorem dL_law_1307 : decode cL_law 1307 = .ok (.iconst 0, 1) := dk_3 (dk_at dksL_law_45 23 rfl rfl)
theorem dL_law_1308 : decode cL_law 1308 = .ok (.ireturn, 1) := dk_172 (dk_at dksL_law_46 0 rfl rfl)
theorem dL_law_1309 : decode cL_law 1309 = .ok (.iload 5, 2) := dk_21 5 (dk_at dksL_law_46 1 rfl rfl)
theorem dL_law_1311 : decode cL_law 1311 = .ok (.ifCond .ne 22, 3) := dk_154 0 22 (dk_at dksL_law_46 3 rfl rfl)
theorem dL_law_1314 : decode cL_law 1314 = .ok (.aload_n 3, 1) := dk_45 (dk_at dksL_law_46 6 rfl rfl)
theorem dL_law_1315 : decode cL_law 1315 = .ok (.iconst 0, 1) := dk_3 (dk_at dksL_law_46 7 rfl rfl)
theorem dL_law_1316 : decode cL_law 1316 = .ok (.laload, 1) := dk_47 (dk_at dksL_law_46 8 rfl rfl)
theorem dL_law_1317 : decode cL_law 1317 = .ok (.iload 6, 2) := dk_21 6 (dk_at dksL_law_46 9 rfl rfl)
theorem dL_law_1319 : decode cL_law 1319 = .ok (.ifCond .eq 7, 3) := dk_153 0 7 (dk_at dksL_law_46 11 rfl rfl)
theorem dL_law_1322 : decode cL_law 1322 = .ok (.lconst 1, 1) := dk_10 (dk_at dksL_law_46 14 rfl rfl)
theorem dL_law_1323 : decode cL_law 1323 = .ok (.goto 4, 3) := dk_167 0 4 (dk_at dksL_law_46 15 rfl rfl)
theorem dL_law_1326 : decode cL_law 1326 = .ok (.lconst 0, 1) := dk_9 (dk_at dksL_law_46 18 rfl rfl)
theorem dL_law_1327 : decode cL_law 1327 = .ok (.lcmp, 1) := dk_148 (dk_at dksL_law_46 19 rfl rfl)
theorem dL_law_1328 : decode cL_law 1328 = .ok (.ifCond .eq 5, 3) := dk_153 0 5 (dk_at dksL_law_46 20 rfl rfl)
theorem dL_law_1331 : decode cL_law 1331 = .ok (.iconst 0, 1) := dk_3 (dk_at dksL_law_46 23 rfl rfl)
theorem dL_law_1332 : decode cL_law 1332 = .ok (.ireturn, 1) := dk_172 (dk_at dksL_law_47 0 rfl rfl)
theorem dL_law_1333 : decode cL_law 1333 = .ok (.goto 1998, 3) := dk_167 7 206 (dk_at dksL_law_47 1 rfl rfl)
theorem dL_law_1336 : decode cL_law 1336 = .ok (.aload_n 1, 1) := dk_43 (dk_at dksL_law_47 4 rfl rfl)
theorem dL_law_1337 : decode cL_law 1337 = .ok (.aload_n 0, 1) := dk_42 (dk_at dksL_law_47 5 rfl rfl)
theorem dL_law_1338 : decode cL_law 1338 = .ok (.iload 4, 2) := dk_21 4 (dk_at dksL_law_47 6 rfl rfl)
theorem dL_law_1340 : decode cL_law 1340 = .ok (.iconst 1, 1) := dk_4 (dk_at dksL_law_47 8 rfl rfl)
theorem dL_law_1341 : decode cL_law 1341 = .ok (.iadd, 1) := dk_96 (dk_at dksL_law_47 9 rfl rfl)
theorem dL_law_1342 : decode cL_law 1342 = .ok (.iaload, 1) := dk_46 (dk_at dksL_law_47 10 rfl rfl)
theorem dL_law_1343 : decode cL_law 1343 = .ok (.aload_n 3, 1) := dk_45 (dk_at dksL_law_47 11 rfl rfl)
theorem dL_law_1344 : decode cL_law 1344 = .ok (.invokestatic 232, 3) := dk_184 0 232 (dk_at dksL_law_47 12 rfl rfl)
theorem dL_law_1347 : decode cL_law 1347 = .ok (.istore 5, 2) := dk_54 5 (dk_at dksL_law_47 15 rfl rfl)
theorem dL_law_1349 : decode cL_law 1349 = .ok (.aload_n 2, 1) := dk_44 (dk_at dksL_law_47 17 rfl rfl)
theorem dL_law_1350 : decode cL_law 1350 = .ok (.aload_n 0, 1) := dk_42 (dk_at dksL_law_47 18 rfl rfl)
theorem dL_law_1351 : decode cL_law 1351 = .ok (.iload 4, 2) := dk_21 4 (dk_at dksL_law_47 19 rfl rfl)
theorem dL_law_1353 : decode cL_law 1353 = .ok (.iconst 1, 1) := dk_4 (dk_at dksL_law_47 21 rfl rfl)
theorem dL_law_1354 : decode cL_law 1354 = .ok (.iadd, 1) := dk_96 (dk_at dksL_law_47 22 rfl rfl)
theorem dL_law_1355 : decode cL_law 1355 = .ok (.iaload, 1) := dk_46 (dk_at dksL_law_47 23 rfl rfl)
theorem dL_law_1356 : decode cL_law 1356 = .ok (.invokevirtual 234, 3) := dk_182 0 234 (dk_at dksL_law_48 0 rfl rfl)
theorem dL_law_1359 : decode cL_law 1359 = .ok (.istore 6, 2) := dk_54 6 (dk_at dksL_law_48 3 rfl rfl)
theorem dL_law_1361 : decode cL_law 1361 = .ok (.aload_n 2, 1) := dk_44 (dk_at dksL_law_48 5 rfl rfl)
theorem dL_law_1362 : decode cL_law 1362 = .ok (.invokevirtual 175, 3) := dk_182 0 175 (dk_at dksL_law_48 6 rfl rfl)
theorem dL_law_1365 : decode cL_law 1365 = .ok (.iload 5, 2) := dk_21 5 (dk_at dksL_law_48 9 rfl rfl)
theorem dL_law_1367 : decode cL_law 1367 = .ok (.if_icmp .eq 5, 3) := dk_159 0 5 (dk_at dksL_law_48 11 rfl rfl)
theorem dL_law_1370 : decode cL_law 1370 = .ok (.iconst 0, 1) := dk_3 (dk_at dksL_law_48 14 rfl rfl)
theorem dL_law_1371 : decode cL_law 1371 = .ok (.ireturn, 1) := dk_172 (dk_at dksL_law_48 15 rfl rfl)
theorem dL_law_1372 : decode cL_law 1372 = .ok (.iload 5, 2) := dk_21 5 (dk_at dksL_law_48 16 rfl rfl)
theorem dL_law_1374 : decode cL_law 1374 = .ok (.ifCond .ne 15, 3) := dk_154 0 15 (dk_at dksL_law_48 18 rfl rfl)
theorem dL_law_1377 : decode cL_law 1377 = .ok (.aload_n 3, 1) := dk_45 (dk_at dksL_law_48 21 rfl rfl)
theorem dL_law_1378 : decode cL_law 1378 = .ok (.iconst 0, 1) := dk_3 (dk_at dksL_law_48 22 rfl rfl)
theorem dL_law_1379 : decode cL_law 1379 = .ok (.laload, 1) := dk_47 (dk_at dksL_law_48 23 rfl rfl)
theorem dL_law_1380 : decode cL_law 1380 = .ok (.iload 6, 2) := dk_21 6 (dk_at dksL_law_49 0 rfl rfl)
theorem dL_law_1382 : decode cL_law 1382 = .ok (.i2l, 1) := dk_133 (dk_at dksL_law_49 2 rfl rfl)
theorem dL_law_1383 : decode cL_law 1383 = .ok (.lcmp, 1) := dk_148 (dk_at dksL_law_49 3 rfl rfl)
theorem dL_law_1384 : decode cL_law 1384 = .ok (.ifCond .eq 5, 3) := dk_153 0 5 (dk_at dksL_law_49 4 rfl rfl)
theorem dL_law_1387 : decode cL_law 1387 = .ok (.iconst 0, 1) := dk_3 (dk_at dksL_law_49 7 rfl rfl)
theorem dL_law_1388 : decode cL_law 1388 = .ok (.ireturn, 1) := dk_172 (dk_at dksL_law_49 8 rfl rfl)
theorem dL_law_1389 : decode cL_law 1389 = .ok (.goto 1942, 3) := dk_167 7 150 (dk_at dksL_law_49 9 rfl rfl)
theorem dL_law_1392 : decode cL_law 1392 = .ok (.aload_n 1, 1) := dk_43 (dk_at dksL_law_49 12 rfl rfl)
theorem dL_law_1393 : decode cL_law 1393 = .ok (.aload_n 0, 1) := dk_42 (dk_at dksL_law_49 13 rfl rfl)
theorem dL_law_1394 : decode cL_law 1394 = .ok (.iload 4, 2) := dk_21 4 (dk_at dksL_law_49 14 rfl rfl)
theorem dL_law_1396 : decode cL_law 1396 = .ok (.iconst 1, 1) := dk_4 (dk_at dksL_law_49 16 rfl rfl)
theorem dL_law_1397 : decode cL_law 1397 = .ok (.iadd, 1) := dk_96 (dk_at dksL_law_49 17 rfl rfl)
theorem dL_law_1398 : decode cL_law 1398 = .ok (.iaload, 1) := dk_46 (dk_at dksL_law_49 18 rfl rfl)
theorem dL_law_1399 : decode cL_law 1399 = .ok (.aload_n 3, 1) := dk_45 (dk_at dksL_law_49 19 rfl rfl)
theorem dL_law_1400 : decode cL_law 1400 = .ok (.invokestatic 235, 3) := dk_184 0 235 (dk_at dksL_law_49 20 rfl rfl)
theorem dL_law_1403 : decode cL_law 1403 = .ok (.istore 5, 2) := dk_54 5 (dk_at dksL_law_50 0 rfl rfl)
theorem dL_law_1405 : decode cL_law 1405 = .ok (.aload_n 2, 1) := dk_44 (dk_at dksL_law_50 2 rfl rfl)
theorem dL_law_1406 : decode cL_law 1406 = .ok (.aload_n 0, 1) := dk_42 (dk_at dksL_law_50 3 rfl rfl)
theorem dL_law_1407 : decode cL_law 1407 = .ok (.iload 4, 2) := dk_21 4 (dk_at dksL_law_50 4 rfl rfl)
theorem dL_law_1409 : decode cL_law 1409 = .ok (.iconst 1, 1) := dk_4 (dk_at dksL_law_50 6 rfl rfl)
theorem dL_law_1410 : decode cL_law 1410 = .ok (.iadd, 1) := dk_96 (dk_at dksL_law_50 7 rfl rfl)
theorem dL_law_1411 : decode cL_law 1411 = .ok (.iaload, 1) := dk_46 (dk_at dksL_law_50 8 rfl rfl)
theorem dL_law_1412 : decode cL_law 1412 = .ok (.invokevirtual 237, 3) := dk_182 0 237 (dk_at dksL_law_50 9 rfl rfl)
theorem dL_law_1415 : decode cL_law 1415 = .ok (.istore 6, 2) := dk_54 6 (dk_at dksL_law_50 12 rfl rfl)
theorem dL_law_1417 : decode cL_law 1417 = .ok (.aload_n 2, 1) := dk_44 (dk_at dksL_law_50 14 rfl rfl)
theorem dL_law_1418 : decode cL_law 1418 = .ok (.invokevirtual 175, 3) := dk_182 0 175 (dk_at dksL_law_50 15 rfl rfl)
theorem dL_law_1421 : decode cL_law 1421 = .ok (.iload 5, 2) := dk_21 5 (dk_at dksL_law_50 18 rfl rfl)
theorem dL_law_1423 : decode cL_law 1423 = .ok (.if_icmp .eq 5, 3) := dk_159 0 5 (dk_at dksL_law_50 20 rfl rfl)
theorem dL_law_1426 : decode cL_law 1426 = .ok (.iconst 0, 1) := dk_3 (dk_at dksL_law_50 23 rfl rfl)
theorem dL_law_1427 : decode cL_law 1427 = .ok (.ireturn, 1) := dk_172 (dk_at dksL_law_51 0 rfl rfl)
theorem dL_law_1428 : decode cL_law 1428 = .ok (.iload 5, 2) := dk_21 5 (dk_at dksL_law_51 1 rfl rfl)
theorem dL_law_1430 : decode cL_law 1430 = .ok (.ifCond .ne 15, 3) := dk_154 0 15 (dk_at dksL_law_51 3 rfl rfl)
theorem dL_law_1433 : decode cL_law 1433 = .ok (.aload_n 3, 1) := dk_45 (dk_at dksL_law_51 6 rfl rfl)
theorem dL_law_1434 : decode cL_law 1434 = .ok (.iconst 0, 1) := dk_3 (dk_at dksL_law_51 7 rfl rfl)
theorem dL_law_1435 : decode cL_law 1435 = .ok (.laload, 1) := dk_47 (dk_at dksL_law_51 8 rfl rfl)
theorem dL_law_1436 : decode cL_law 1436 = .ok (.iload 6, 2) := dk_21 6 (dk_at dksL_law_51 9 rfl rfl)
theorem dL_law_1438 : decode cL_law 1438 = .ok (.i2l, 1) := dk_133 (dk_at dksL_law_51 11 rfl rfl)
theorem dL_law_1439 : decode cL_law 1439 = .ok (.lcmp, 1) := dk_148 (dk_at dksL_law_51 12 rfl rfl)
theorem dL_law_1440 : decode cL_law 1440 = .ok (.ifCond .eq 5, 3) := dk_153 0 5 (dk_at dksL_law_51 13 rfl rfl)
theorem dL_law_1443 : decode cL_law 1443 = .ok (.iconst 0, 1) := dk_3 (dk_at dksL_law_51 16 rfl rfl)
theorem dL_law_1444 : decode cL_law 1444 = .ok (.ireturn, 1) := dk_172 (dk_at dksL_law_51 17 rfl rfl)
theorem dL_law_1445 : decode cL_law 1445 = .ok (.goto 1886, 3) := dk_167 7 94 (dk_at dksL_law_51 18 rfl rfl)
theorem dL_law_1448 : decode cL_law 1448 = .ok (.aload_n 1, 1) := dk_43 (dk_at dksL_law_51 21 rfl rfl)
theorem dL_law_1449 : decode cL_law 1449 = .ok (.aload_n 0, 1) := dk_42 (dk_at dksL_law_51 22 rfl rfl)
theorem dL_law_1450 : decode cL_law 1450 = .ok (.iload 4, 2) := dk_21 4 (dk_at dksL_law_52 0 rfl rfl)
theorem dL_law_1452 : decode cL_law 1452 = .ok (.iconst 1, 1) := dk_4 (dk_at dksL_law_52 2 rfl rfl)
theorem dL_law_1453 : decode cL_law 1453 = .ok (.iadd, 1) := dk_96 (dk_at dksL_law_52 3 rfl rfl)
theorem dL_law_1454 : decode cL_law 1454 = .ok (.iaload, 1) := dk_46 (dk_at dksL_law_52 4 rfl rfl)
theorem dL_law_1455 : decode cL_law 1455 = .ok (.aload_n 3, 1) := dk_45 (dk_at dksL_law_52 5 rfl rfl)
theorem dL_law_1456 : decode cL_law 1456 = .ok (.invokestatic 238, 3) := dk_184 0 238 (dk_at dksL_law_52 6 rfl rfl)
theorem dL_law_1459 : decode cL_law 1459 = .ok (.istore 5, 2) := dk_54 5 (dk_at dksL_law_52 9 rfl rfl)
theorem dL_law_1461 : decode cL_law 1461 = .ok (.aload_n 2, 1) := dk_44 (dk_at dksL_law_52 11 rfl rfl)
theorem dL_law_1462 : decode cL_law 1462 = .ok (.aload_n 0, 1) := dk_42 (dk_at dksL_law_52 12 rfl rfl)
theorem dL_law_1463 : decode cL_law 1463 = .ok (.iload 4, 2) := dk_21 4 (dk_at dksL_law_52 13 rfl rfl)
theorem dL_law_1465 : decode cL_law 1465 = .ok (.iconst 1, 1) := dk_4 (dk_at dksL_law_52 15 rfl rfl)
theorem dL_law_1466 : decode cL_law 1466 = .ok (.iadd, 1) := dk_96 (dk_at dksL_law_52 16 rfl rfl)
theorem dL_law_1467 : decode cL_law 1467 = .ok (.iaload, 1) := dk_46 (dk_at dksL_law_52 17 rfl rfl)
theorem dL_law_1468 : decode cL_law 1468 = .ok (.invokevirtual 240, 3) := dk_182 0 240 (dk_at dksL_law_52 18 rfl rfl)
theorem dL_law_1471 : decode cL_law 1471 = .ok (.istore 6, 2) := dk_54 6 (dk_at dksL_law_52 21 rfl rfl)
theorem dL_law_1473 : decode cL_law 1473 = .ok (.aload_n 2, 1) := dk_44 (dk_at dksL_law_52 23 rfl rfl)
theorem dL_law_1474 : decode cL_law 1474 = .ok (.invokevirtual 175, 3) := dk_182 0 175 (dk_at dksL_law_53 0 rfl rfl)
theorem dL_law_1477 : decode cL_law 1477 = .ok (.iload 5, 2) := dk_21 5 (dk_at dksL_law_53 3 rfl rfl)
theorem dL_law_1479 : decode cL_law 1479 = .ok (.if_icmp .eq 5, 3) := dk_159 0 5 (dk_at dksL_law_53 5 rfl rfl)
theorem dL_law_1482 : decode cL_law 1482 = .ok (.iconst 0, 1) := dk_3 (dk_at dksL_law_53 8 rfl rfl)
theorem dL_law_1483 : decode cL_law 1483 = .ok (.ireturn, 1) := dk_172 (dk_at dksL_law_53 9 rfl rfl)
theorem dL_law_1484 : decode cL_law 1484 = .ok (.iload 5, 2) := dk_21 5 (dk_at dksL_law_53 10 rfl rfl)
theorem dL_law_1486 : decode cL_law 1486 = .ok (.ifCond .ne 15, 3) := dk_154 0 15 (dk_at dksL_law_53 12 rfl rfl)
theorem dL_law_1489 : decode cL_law 1489 = .ok (.aload_n 3, 1) := dk_45 (dk_at dksL_law_53 15 rfl rfl)
theorem dL_law_1490 : decode cL_law 1490 = .ok (.iconst 0, 1) := dk_3 (dk_at dksL_law_53 16 rfl rfl)
theorem dL_law_1491 : decode cL_law 1491 = .ok (.laload, 1) := dk_47 (dk_at dksL_law_53 17 rfl rfl)
theorem dL_law_1492 : decode cL_law 1492 = .ok (.iload 6, 2) := dk_21 6 (dk_at dksL_law_53 18 rfl rfl)
theorem dL_law_1494 : decode cL_law 1494 = .ok (.i2l, 1) := dk_133 (dk_at dksL_law_53 20 rfl rfl)
theorem dL_law_1495 : decode cL_law 1495 = .ok (.lcmp, 1) := dk_148 (dk_at dksL_law_53 21 rfl rfl)
theorem dL_law_1496 : decode cL_law 1496 = .ok (.ifCond .eq 5, 3) := dk_153 0 5 (dk_at dksL_law_54 0 rfl rfl)
theorem dL_law_1499 : decode cL_law 1499 = .ok (.iconst 0, 1) := dk_3 (dk_at dksL_law_54 3 rfl rfl)
theorem dL_law_1500 : decode cL_law 1500 = .ok (.ireturn, 1) := dk_172 (dk_at dksL_law_54 4 rfl rfl)
theorem dL_law_1501 : decode cL_law 1501 = .ok (.goto 1830, 3) := dk_167 7 38 (dk_at dksL_law_54 5 rfl rfl)
theorem dL_law_1504 : decode cL_law 1504 = .ok (.aload_n 1, 1) := dk_43 (dk_at dksL_law_54 8 rfl rfl)
theorem dL_law_1505 : decode cL_law 1505 = .ok (.aload_n 0, 1) := dk_42 (dk_at dksL_law_54 9 rfl rfl)
theorem dL_law_1506 : decode cL_law 1506 = .ok (.iload 4, 2) := dk_21 4 (dk_at dksL_law_54 10 rfl rfl)
theorem dL_law_1508 : decode cL_law 1508 = .ok (.iconst 1, 1) := dk_4 (dk_at dksL_law_54 12 rfl rfl)
theorem dL_law_1509 : decode cL_law 1509 = .ok (.iadd, 1) := dk_96 (dk_at dksL_law_54 13 rfl rfl)
theorem dL_law_1510 : decode cL_law 1510 = .ok (.iaload, 1) := dk_46 (dk_at dksL_law_54 14 rfl rfl)
theorem dL_law_1511 : decode cL_law 1511 = .ok (.aload_n 3, 1) := dk_45 (dk_at dksL_law_54 15 rfl rfl)
theorem dL_law_1512 : decode cL_law 1512 = .ok (.invokestatic 241, 3) := dk_184 0 241 (dk_at dksL_law_54 16 rfl rfl)
theorem dL_law_1515 : decode cL_law 1515 = .ok (.istore 5, 2) := dk_54 5 (dk_at dksL_law_54 19 rfl rfl)
theorem dL_law_1517 : decode cL_law 1517 = .ok (.aload_n 2, 1) := dk_44 (dk_at dksL_law_54 21 rfl rfl)
theorem dL_law_1518 : decode cL_law 1518 = .ok (.aload_n 0, 1) := dk_42 (dk_at dksL_law_54 22 rfl rfl)
theorem dL_law_1519 : decode cL_law 1519 = .ok (.iload 4, 2) := dk_21 4 (dk_at dksL_law_55 0 rfl rfl)
theorem dL_law_1521 : decode cL_law 1521 = .ok (.iconst 1, 1) := dk_4 (dk_at dksL_law_55 2 rfl rfl)
theorem dL_law_1522 : decode cL_law 1522 = .ok (.iadd, 1) := dk_96 (dk_at dksL_law_55 3 rfl rfl)
theorem dL_law_1523 : decode cL_law 1523 = .ok (.iaload, 1) := dk_46 (dk_at dksL_law_55 4 rfl rfl)
theorem dL_law_1524 : decode cL_law 1524 = .ok (.invokevirtual 243, 3) := dk_182 0 243 (dk_at dksL_law_55 5 rfl rfl)
theorem dL_law_1527 : decode cL_law 1527 = .ok (.istore 6, 2) := dk_54 6 (dk_at dksL_law_55 8 rfl rfl)
theorem dL_law_1529 : decode cL_law 1529 = .ok (.aload_n 2, 1) := dk_44 (dk_at dksL_law_55 10 rfl rfl)
theorem dL_law_1530 : decode cL_law 1530 = .ok (.invokevirtual 175, 3) := dk_182 0 175 (dk_at dksL_law_55 11 rfl rfl)
theorem dL_law_1533 : decode cL_law 1533 = .ok (.iload 5, 2) := dk_21 5 (dk_at dksL_law_55 14 rfl rfl)
theorem dL_law_1535 : decode cL_law 1535 = .ok (.if_icmp .eq 5, 3) := dk_159 0 5 (dk_at dksL_law_55 16 rfl rfl)
theorem dL_law_1538 : decode cL_law 1538 = .ok (.iconst 0, 1) := dk_3 (dk_at dksL_law_55 19 rfl rfl)
theorem dL_law_1539 : decode cL_law 1539 = .ok (.ireturn, 1) := dk_172 (dk_at dksL_law_55 20 rfl rfl)
theorem dL_law_1540 : decode cL_law 1540 = .ok (.iload 5, 2) := dk_21 5 (dk_at dksL_law_55 21 rfl rfl)
theorem dL_law_1542 : decode cL_law 1542 = .ok (.ifCond .ne 15, 3) := dk_154 0 15 (dk_at dksL_law_56 0 rfl rfl)
theorem dL_law_1545 : decode cL_law 1545 = .ok (.aload_n 3, 1) := dk_45 (dk_at dksL_law_56 3 rfl rfl)
theorem dL_law_1546 : decode cL_law 1546 = .ok (.iconst 0, 1) := dk_3 (dk_at dksL_law_56 4 rfl rfl)
theorem dL_law_1547 : decode cL_law 1547 = .ok (.laload, 1) := dk_47 (dk_at dksL_law_56 5 rfl rfl)
theorem dL_law_1548 : decode cL_law 1548 = .ok (.iload 6, 2) := dk_21 6 (dk_at dksL_law_56 6 rfl rfl)
theorem dL_law_1550 : decode cL_law 1550 = .ok (.i2l, 1) := dk_133 (dk_at dksL_law_56 8 rfl rfl)
theorem dL_law_1551 : decode cL_law 1551 = .ok (.lcmp, 1) := dk_148 (dk_at dksL_law_56 9 rfl rfl)
theorem dL_law_1552 : decode cL_law 1552 = .ok (.ifCond .eq 5, 3) := dk_153 0 5 (dk_at dksL_law_56 10 rfl rfl)
theorem dL_law_1555 : decode cL_law 1555 = .ok (.iconst 0, 1) := dk_3 (dk_at dksL_law_56 13 rfl rfl)
theorem dL_law_1556 : decode cL_law 1556 = .ok (.ireturn, 1) := dk_172 (dk_at dksL_law_56 14 rfl rfl)
theorem dL_law_1557 : decode cL_law 1557 = .ok (.goto 1774, 3) := dk_167 6 238 (dk_at dksL_law_56 15 rfl rfl)
theorem dL_law_1560 : decode cL_law 1560 = .ok (.aload_n 1, 1) := dk_43 (dk_at dksL_law_56 18 rfl rfl)
theorem dL_law_1561 : decode cL_law 1561 = .ok (.aload_n 0, 1) := dk_42 (dk_at dksL_law_56 19 rfl rfl)
theorem dL_law_1562 : decode cL_law 1562 = .ok (.iload 4, 2) := dk_21 4 (dk_at dksL_law_56 20 rfl rfl)
theorem dL_law_1564 : decode cL_law 1564 = .ok (.iconst 1, 1) := dk_4 (dk_at dksL_law_56 22 rfl rfl)
theorem dL_law_1565 : decode cL_law 1565 = .ok (.iadd, 1) := dk_96 (dk_at dksL_law_56 23 rfl rfl)
theorem dL_law_1566 : decode cL_law 1566 = .ok (.iaload, 1) := dk_46 (dk_at dksL_law_57 0 rfl rfl)
theorem dL_law_1567 : decode cL_law 1567 = .ok (.aload_n 3, 1) := dk_45 (dk_at dksL_law_57 1 rfl rfl)
theorem dL_law_1568 : decode cL_law 1568 = .ok (.invokestatic 244, 3) := dk_184 0 244 (dk_at dksL_law_57 2 rfl rfl)
theorem dL_law_1571 : decode cL_law 1571 = .ok (.istore 5, 2) := dk_54 5 (dk_at dksL_law_57 5 rfl rfl)
theorem dL_law_1573 : decode cL_law 1573 = .ok (.aload_n 2, 1) := dk_44 (dk_at dksL_law_57 7 rfl rfl)
theorem dL_law_1574 : decode cL_law 1574 = .ok (.aload_n 0, 1) := dk_42 (dk_at dksL_law_57 8 rfl rfl)
theorem dL_law_1575 : decode cL_law 1575 = .ok (.iload 4, 2) := dk_21 4 (dk_at dksL_law_57 9 rfl rfl)
theorem dL_law_1577 : decode cL_law 1577 = .ok (.iconst 1, 1) := dk_4 (dk_at dksL_law_57 11 rfl rfl)
theorem dL_law_1578 : decode cL_law 1578 = .ok (.iadd, 1) := dk_96 (dk_at dksL_law_57 12 rfl rfl)
theorem dL_law_1579 : decode cL_law 1579 = .ok (.iaload, 1) := dk_46 (dk_at dksL_law_57 13 rfl rfl)
theorem dL_law_1580 : decode cL_law 1580 = .ok (.invokevirtual 246, 3) := dk_182 0 246 (dk_at dksL_law_57 14 rfl rfl)
theorem dL_law_1583 : decode cL_law 1583 = .ok (.istore 6, 2) := dk_54 6 (dk_at dksL_law_57 17 rfl rfl)
theorem dL_law_1585 : decode cL_law 1585 = .ok (.aload_n 2, 1) := dk_44 (dk_at dksL_law_57 19 rfl rfl)
theorem dL_law_1586 : decode cL_law 1586 = .ok (.invokevirtual 175, 3) := dk_182 0 175 (dk_at dksL_law_57 20 rfl rfl)
theorem dL_law_1589 : decode cL_law 1589 = .ok (.iload 5, 2) := dk_21 5 (dk_at dksL_law_58 0 rfl rfl)
theorem dL_law_1591 : decode cL_law 1591 = .ok (.if_icmp .eq 5, 3) := dk_159 0 5 (dk_at dksL_law_58 2 rfl rfl)
theorem dL_law_1594 : decode cL_law 1594 = .ok (.iconst 0, 1) := dk_3 (dk_at dksL_law_58 5 rfl rfl)
theorem dL_law_1595 : decode cL_law 1595 = .ok (.ireturn, 1) := dk_172 (dk_at dksL_law_58 6 rfl rfl)
theorem dL_law_1596 : decode cL_law 1596 = .ok (.iload 5, 2) := dk_21 5 (dk_at dksL_law_58 7 rfl rfl)
theorem dL_law_1598 : decode cL_law 1598 = .ok (.ifCond .ne 15, 3) := dk_154 0 15 (dk_at dksL_law_58 9 rfl rfl)
theorem dL_law_1601 : decode cL_law 1601 = .ok (.aload_n 3, 1) := dk_45 (dk_at dksL_law_58 12 rfl rfl)
theorem dL_law_1602 : decode cL_law 1602 = .ok (.iconst 0, 1) := dk_3 (dk_at dksL_law_58 13 rfl rfl)
theorem dL_law_1603 : decode cL_law 1603 = .ok (.laload, 1) := dk_47 (dk_at dksL_law_58 14 rfl rfl)
theorem dL_law_1604 : decode cL_law 1604 = .ok (.iload 6, 2) := dk_21 6 (dk_at dksL_law_58 15 rfl rfl)
theorem dL_law_1606 : decode cL_law 1606 = .ok (.i2l, 1) := dk_133 (dk_at dksL_law_58 17 rfl rfl)
theorem dL_law_1607 : decode cL_law 1607 = .ok (.lcmp, 1) := dk_148 (dk_at dksL_law_58 18 rfl rfl)
theorem dL_law_1608 : decode cL_law 1608 = .ok (.ifCond .eq 5, 3) := dk_153 0 5 (dk_at dksL_law_58 19 rfl rfl)
theorem dL_law_1611 : decode cL_law 1611 = .ok (.iconst 0, 1) := dk_3 (dk_at dksL_law_58 22 rfl rfl)
theorem dL_law_1612 : decode cL_law 1612 = .ok (.ireturn, 1) := dk_172 (dk_at dksL_law_58 23 rfl rfl)
theorem dL_law_1613 : decode cL_law 1613 = .ok (.goto 1718, 3) := dk_167 6 182 (dk_at dksL_law_59 0 rfl rfl)
theorem dL_law_1616 : decode cL_law 1616 = .ok (.aload_n 1, 1) := dk_43 (dk_at dksL_law_59 3 rfl rfl)
theorem dL_law_1617 : decode cL_law 1617 = .ok (.aload_n 0, 1) := dk_42 (dk_at dksL_law_59 4 rfl rfl)
theorem dL_law_1618 : decode cL_law 1618 = .ok (.iload 4, 2) := dk_21 4 (dk_at dksL_law_59 5 rfl rfl)
theorem dL_law_1620 : decode cL_law 1620 = .ok (.iconst 1, 1) := dk_4 (dk_at dksL_law_59 7 rfl rfl)
theorem dL_law_1621 : decode cL_law 1621 = .ok (.iadd, 1) := dk_96 (dk_at dksL_law_59 8 rfl rfl)
theorem dL_law_1622 : decode cL_law 1622 = .ok (.iaload, 1) := dk_46 (dk_at dksL_law_59 9 rfl rfl)
theorem dL_law_1623 : decode cL_law 1623 = .ok (.aload_n 3, 1) := dk_45 (dk_at dksL_law_59 10 rfl rfl)
theorem dL_law_1624 : decode cL_law 1624 = .ok (.invokestatic 247, 3) := dk_184 0 247 (dk_at dksL_law_59 11 rfl rfl)
theorem dL_law_1627 : decode cL_law 1627 = .ok (.istore 5, 2) := dk_54 5 (dk_at dksL_law_59 14 rfl rfl)
theorem dL_law_1629 : decode cL_law 1629 = .ok (.aload_n 2, 1) := dk_44 (dk_at dksL_law_59 16 rfl rfl)
theorem dL_law_1630 : decode cL_law 1630 = .ok (.aload_n 0, 1) := dk_42 (dk_at dksL_law_59 17 rfl rfl)
theorem dL_law_1631 : decode cL_law 1631 = .ok (.iload 4, 2) := dk_21 4 (dk_at dksL_law_59 18 rfl rfl)
theorem dL_law_1633 : decode cL_law 1633 = .ok (.iconst 1, 1) := dk_4 (dk_at dksL_law_59 20 rfl rfl)
theorem dL_law_1634 : decode cL_law 1634 = .ok (.iadd, 1) := dk_96 (dk_at dksL_law_59 21 rfl rfl)
theorem dL_law_1635 : decode cL_law 1635 = .ok (.iaload, 1) := dk_46 (dk_at dksL_law_59 22 rfl rfl)
theorem dL_law_1636 : decode cL_law 1636 = .ok (.invokevirtual 249, 3) := dk_182 0 249 (dk_at dksL_law_60 0 rfl rfl)
theorem dL_law_1639 : decode cL_law 1639 = .ok (.istore 6, 2) := dk_54 6 (dk_at dksL_law_60 3 rfl rfl)
theorem dL_law_1641 : decode cL_law 1641 = .ok (.aload_n 2, 1) := dk_44 (dk_at dksL_law_60 5 rfl rfl)
theorem dL_law_1642 : decode cL_law 1642 = .ok (.invokevirtual 175, 3) := dk_182 0 175 (dk_at dksL_law_60 6 rfl rfl)
theorem dL_law_1645 : decode cL_law 1645 = .ok (.iload 5, 2) := dk_21 5 (dk_at dksL_law_60 9 rfl rfl)
theorem dL_law_1647 : decode cL_law 1647 = .ok (.if_icmp .eq 5, 3) := dk_159 0 5 (dk_at dksL_law_60 11 rfl rfl)
theorem dL_law_1650 : decode cL_law 1650 = .ok (.iconst 0, 1) := dk_3 (dk_at dksL_law_60 14 rfl rfl)
theorem dL_law_1651 : decode cL_law 1651 = .ok (.ireturn, 1) := dk_172 (dk_at dksL_law_60 15 rfl rfl)
theorem dL_law_1652 : decode cL_law 1652 = .ok (.iload 5, 2) := dk_21 5 (dk_at dksL_law_60 16 rfl rfl)
theorem dL_law_1654 : decode cL_law 1654 = .ok (.ifCond .ne 15, 3) := dk_154 0 15 (dk_at dksL_law_60 18 rfl rfl)
theorem dL_law_1657 : decode cL_law 1657 = .ok (.aload_n 3, 1) := dk_45 (dk_at dksL_law_60 21 rfl rfl)
theorem dL_law_1658 : decode cL_law 1658 = .ok (.iconst 0, 1) := dk_3 (dk_at dksL_law_60 22 rfl rfl)
theorem dL_law_1659 : decode cL_law 1659 = .ok (.laload, 1) := dk_47 (dk_at dksL_law_60 23 rfl rfl)
theorem dL_law_1660 : decode cL_law 1660 = .ok (.iload 6, 2) := dk_21 6 (dk_at dksL_law_61 0 rfl rfl)
theorem dL_law_1662 : decode cL_law 1662 = .ok (.i2l, 1) := dk_133 (dk_at dksL_law_61 2 rfl rfl)
theorem dL_law_1663 : decode cL_law 1663 = .ok (.lcmp, 1) := dk_148 (dk_at dksL_law_61 3 rfl rfl)
theorem dL_law_1664 : decode cL_law 1664 = .ok (.ifCond .eq 5, 3) := dk_153 0 5 (dk_at dksL_law_61 4 rfl rfl)
theorem dL_law_1667 : decode cL_law 1667 = .ok (.iconst 0, 1) := dk_3 (dk_at dksL_law_61 7 rfl rfl)
theorem dL_law_1668 : decode cL_law 1668 = .ok (.ireturn, 1) := dk_172 (dk_at dksL_law_61 8 rfl rfl)
theorem dL_law_1669 : decode cL_law 1669 = .ok (.goto 1662, 3) := dk_167 6 126 (dk_at dksL_law_61 9 rfl rfl)
theorem dL_law_1672 : decode cL_law 1672 = .ok (.aload_n 1, 1) := dk_43 (dk_at dksL_law_61 12 rfl rfl)
theorem dL_law_1673 : decode cL_law 1673 = .ok (.aload_n 0, 1) := dk_42 (dk_at dksL_law_61 13 rfl rfl)
theorem dL_law_1674 : decode cL_law 1674 = .ok (.iload 4, 2) := dk_21 4 (dk_at dksL_law_61 14 rfl rfl)
theorem dL_law_1676 : decode cL_law 1676 = .ok (.iconst 1, 1) := dk_4 (dk_at dksL_law_61 16 rfl rfl)
theorem dL_law_1677 : decode cL_law 1677 = .ok (.iadd, 1) := dk_96 (dk_at dksL_law_61 17 rfl rfl)
theorem dL_law_1678 : decode cL_law 1678 = .ok (.iaload, 1) := dk_46 (dk_at dksL_law_61 18 rfl rfl)
theorem dL_law_1679 : decode cL_law 1679 = .ok (.aload_n 3, 1) := dk_45 (dk_at dksL_law_61 19 rfl rfl)
theorem dL_law_1680 : decode cL_law 1680 = .ok (.invokestatic 250, 3) := dk_184 0 250 (dk_at dksL_law_61 20 rfl rfl)
theorem dL_law_1683 : decode cL_law 1683 = .ok (.istore 5, 2) := dk_54 5 (dk_at dksL_law_62 0 rfl rfl)
theorem dL_law_1685 : decode cL_law 1685 = .ok (.aload_n 2, 1) := dk_44 (dk_at dksL_law_62 2 rfl rfl)
theorem dL_law_1686 : decode cL_law 1686 = .ok (.aload_n 0, 1) := dk_42 (dk_at dksL_law_62 3 rfl rfl)
theorem dL_law_1687 : decode cL_law 1687 = .ok (.iload 4, 2) := dk_21 4 (dk_at dksL_law_62 4 rfl rfl)
theorem dL_law_1689 : decode cL_law 1689 = .ok (.iconst 1, 1) := dk_4 (dk_at dksL_law_62 6 rfl rfl)
theorem dL_law_1690 : decode cL_law 1690 = .ok (.iadd, 1) := dk_96 (dk_at dksL_law_62 7 rfl rfl)
theorem dL_law_1691 : decode cL_law 1691 = .ok (.iaload, 1) := dk_46 (dk_at dksL_law_62 8 rfl rfl)
theorem dL_law_1692 : decode cL_law 1692 = .ok (.invokevirtual 252, 3) := dk_182 0 252 (dk_at dksL_law_62 9 rfl rfl)
theorem dL_law_1695 : decode cL_law 1695 = .ok (.istore 6, 2) := dk_54 6 (dk_at dksL_law_62 12 rfl rfl)
theorem dL_law_1697 : decode cL_law 1697 = .ok (.aload_n 2, 1) := dk_44 (dk_at dksL_law_62 14 rfl rfl)
theorem dL_law_1698 : decode cL_law 1698 = .ok (.invokevirtual 175, 3) := dk_182 0 175 (dk_at dksL_law_62 15 rfl rfl)
theorem dL_law_1701 : decode cL_law 1701 = .ok (.iload 5, 2) := dk_21 5 (dk_at dksL_law_62 18 rfl rfl)
theorem dL_law_1703 : decode cL_law 1703 = .ok (.if_icmp .eq 5, 3) := dk_159 0 5 (dk_at dksL_law_62 20 rfl rfl)
theorem dL_law_1706 : decode cL_law 1706 = .ok (.iconst 0, 1) := dk_3 (dk_at dksL_law_62 23 rfl rfl)
theorem dL_law_1707 : decode cL_law 1707 = .ok (.ireturn, 1) := dk_172 (dk_at dksL_law_63 0 rfl rfl)
theorem dL_law_1708 : decode cL_law 1708 = .ok (.iload 5, 2) := dk_21 5 (dk_at dksL_law_63 1 rfl rfl)
theorem dL_law_1710 : decode cL_law 1710 = .ok (.ifCond .ne 15, 3) := dk_154 0 15 (dk_at dksL_law_63 3 rfl rfl)
theorem dL_law_1713 : decode cL_law 1713 = .ok (.aload_n 3, 1) := dk_45 (dk_at dksL_law_63 6 rfl rfl)
theorem dL_law_1714 : decode cL_law 1714 = .ok (.iconst 0, 1) := dk_3 (dk_at dksL_law_63 7 rfl rfl)
theorem dL_law_1715 : decode cL_law 1715 = .ok (.laload, 1) := dk_47 (dk_at dksL_law_63 8 rfl rfl)
theorem dL_law_1716 : decode cL_law 1716 = .ok (.iload 6, 2) := dk_21 6 (dk_at dksL_law_63 9 rfl rfl)
theorem dL_law_1718 : decode cL_law 1718 = .ok (.i2l, 1) := dk_133 (dk_at dksL_law_63 11 rfl rfl)
theorem dL_law_1719 : decode cL_law 1719 = .ok (.lcmp, 1) := dk_148 (dk_at dksL_law_63 12 rfl rfl)
theorem dL_law_1720 : decode cL_law 1720 = .ok (.ifCond .eq 5, 3) := dk_153 0 5 (dk_at dksL_law_63 13 rfl rfl)
theorem dL_law_1723 : decode cL_law 1723 = .ok (.iconst 0, 1) := dk_3 (dk_at dksL_law_63 16 rfl rfl)
theorem dL_law_1724 : decode cL_law 1724 = .ok (.ireturn, 1) := dk_172 (dk_at dksL_law_63 17 rfl rfl)
theorem dL_law_1725 : decode cL_law 1725 = .ok (.goto 1606, 3) := dk_167 6 70 (dk_at dksL_law_63 18 rfl rfl)
theorem dL_law_1728 : decode cL_law 1728 = .ok (.aload_n 1, 1) := dk_43 (dk_at dksL_law_63 21 rfl rfl)
theorem dL_law_1729 : decode cL_law 1729 = .ok (.aload_n 0, 1) := dk_42 (dk_at dksL_law_63 22 rfl rfl)
theorem dL_law_1730 : decode cL_law 1730 = .ok (.iload 4, 2) := dk_21 4 (dk_at dksL_law_64 0 rfl rfl)
theorem dL_law_1732 : decode cL_law 1732 = .ok (.iconst 1, 1) := dk_4 (dk_at dksL_law_64 2 rfl rfl)
theorem dL_law_1733 : decode cL_law 1733 = .ok (.iadd, 1) := dk_96 (dk_at dksL_law_64 3 rfl rfl)
theorem dL_law_1734 : decode cL_law 1734 = .ok (.iaload, 1) := dk_46 (dk_at dksL_law_64 4 rfl rfl)
theorem dL_law_1735 : decode cL_law 1735 = .ok (.aload_n 0, 1) := dk_42 (dk_at dksL_law_64 5 rfl rfl)
theorem dL_law_1736 : decode cL_law 1736 = .ok (.iload 4, 2) := dk_21 4 (dk_at dksL_law_64 6 rfl rfl)
theorem dL_law_1738 : decode cL_law 1738 = .ok (.iconst 2, 1) := dk_5 (dk_at dksL_law_64 8 rfl rfl)
theorem dL_law_1739 : decode cL_law 1739 = .ok (.iadd, 1) := dk_96 (dk_at dksL_law_64 9 rfl rfl)
theorem dL_law_1740 : decode cL_law 1740 = .ok (.iaload, 1) := dk_46 (dk_at dksL_law_64 10 rfl rfl)
theorem dL_law_1741 : decode cL_law 1741 = .ok (.aload_n 3, 1) := dk_45 (dk_at dksL_law_64 11 rfl rfl)
theorem dL_law_1742 : decode cL_law 1742 = .ok (.invokestatic 253, 3) := dk_184 0 253 (dk_at dksL_law_64 12 rfl rfl)
theorem dL_law_1745 : decode cL_law 1745 = .ok (.istore 5, 2) := dk_54 5 (dk_at dksL_law_64 15 rfl rfl)
theorem dL_law_1747 : decode cL_law 1747 = .ok (.aload_n 2, 1) := dk_44 (dk_at dksL_law_64 17 rfl rfl)
theorem dL_law_1748 : decode cL_law 1748 = .ok (.aload_n 0, 1) := dk_42 (dk_at dksL_law_64 18 rfl rfl)
theorem dL_law_1749 : decode cL_law 1749 = .ok (.iload 4, 2) := dk_21 4 (dk_at dksL_law_64 19 rfl rfl)
theorem dL_law_1751 : decode cL_law 1751 = .ok (.iconst 1, 1) := dk_4 (dk_at dksL_law_64 21 rfl rfl)
theorem dL_law_1752 : decode cL_law 1752 = .ok (.iadd, 1) := dk_96 (dk_at dksL_law_64 22 rfl rfl)
theorem dL_law_1753 : decode cL_law 1753 = .ok (.iaload, 1) := dk_46 (dk_at dksL_law_64 23 rfl rfl)
theorem dL_law_1754 : decode cL_law 1754 = .ok (.aload_n 0, 1) := dk_42 (dk_at dksL_law_65 0 rfl rfl)
theorem dL_law_1755 : decode cL_law 1755 = .ok (.iload 4, 2) := dk_21 4 (dk_at dksL_law_65 1 rfl rfl)
theorem dL_law_1757 : decode cL_law 1757 = .ok (.iconst 2, 1) := dk_5 (dk_at dksL_law_65 3 rfl rfl)
theorem dL_law_1758 : decode cL_law 1758 = .ok (.iadd, 1) := dk_96 (dk_at dksL_law_65 4 rfl rfl)
theorem dL_law_1759 : decode cL_law 1759 = .ok (.iaload, 1) := dk_46 (dk_at dksL_law_65 5 rfl rfl)
theorem dL_law_1760 : decode cL_law 1760 = .ok (.invokevirtual 255, 3) := dk_182 0 255 (dk_at dksL_law_65 6 rfl rfl)
theorem dL_law_1763 : decode cL_law 1763 = .ok (.istore 6, 2) := dk_54 6 (dk_at dksL_law_65 9 rfl rfl)
theorem dL_law_1765 : decode cL_law 1765 = .ok (.aload_n 2, 1) := dk_44 (dk_at dksL_law_65 11 rfl rfl)
theorem dL_law_1766 : decode cL_law 1766 = .ok (.invokevirtual 175, 3) := dk_182 0 175 (dk_at dksL_law_65 12 rfl rfl)
theorem dL_law_1769 : decode cL_law 1769 = .ok (.iload 5, 2) := dk_21 5 (dk_at dksL_law_65 15 rfl rfl)
theorem dL_law_1771 : decode cL_law 1771 = .ok (.if_icmp .eq 5, 3) := dk_159 0 5 (dk_at dksL_law_65 17 rfl rfl)
theorem dL_law_1774 : decode cL_law 1774 = .ok (.iconst 0, 1) := dk_3 (dk_at dksL_law_65 20 rfl rfl)
theorem dL_law_1775 : decode cL_law 1775 = .ok (.ireturn, 1) := dk_172 (dk_at dksL_law_65 21 rfl rfl)
theorem dL_law_1776 : decode cL_law 1776 = .ok (.iload 5, 2) := dk_21 5 (dk_at dksL_law_65 22 rfl rfl)
theorem dL_law_1778 : decode cL_law 1778 = .ok (.ifCond .ne 15, 3) := dk_154 0 15 (dk_at dksL_law_66 0 rfl rfl)
theorem dL_law_1781 : decode cL_law 1781 = .ok (.aload_n 3, 1) := dk_45 (dk_at dksL_law_66 3 rfl rfl)
theorem dL_law_1782 : decode cL_law 1782 = .ok (.iconst 0, 1) := dk_3 (dk_at dksL_law_66 4 rfl rfl)
theorem dL_law_1783 : decode cL_law 1783 = .ok (.laload, 1) := dk_47 (dk_at dksL_law_66 5 rfl rfl)
theorem dL_law_1784 : decode cL_law 1784 = .ok (.iload 6, 2) := dk_21 6 (dk_at dksL_law_66 6 rfl rfl)
theorem dL_law_1786 : decode cL_law 1786 = .ok (.i2l, 1) := dk_133 (dk_at dksL_law_66 8 rfl rfl)
theorem dL_law_1787 : decode cL_law 1787 = .ok (.lcmp, 1) := dk_148 (dk_at dksL_law_66 9 rfl rfl)
theorem dL_law_1788 : decode cL_law 1788 = .ok (.ifCond .eq 5, 3) := dk_153 0 5 (dk_at dksL_law_66 10 rfl rfl)
theorem dL_law_1791 : decode cL_law 1791 = .ok (.iconst 0, 1) := dk_3 (dk_at dksL_law_66 13 rfl rfl)
theorem dL_law_1792 : decode cL_law 1792 = .ok (.ireturn, 1) := dk_172 (dk_at dksL_law_66 14 rfl rfl)
theorem dL_law_1793 : decode cL_law 1793 = .ok (.goto 1538, 3) := dk_167 6 2 (dk_at dksL_law_66 15 rfl rfl)
theorem dL_law_1796 : decode cL_law 1796 = .ok (.aload_n 1, 1) := dk_43 (dk_at dksL_law_66 18 rfl rfl)
theorem dL_law_1797 : decode cL_law 1797 = .ok (.aload_n 0, 1) := dk_42 (dk_at dksL_law_66 19 rfl rfl)
theorem dL_law_1798 : decode cL_law 1798 = .ok (.iload 4, 2) := dk_21 4 (dk_at dksL_law_66 20 rfl rfl)
theorem dL_law_1800 : decode cL_law 1800 = .ok (.iconst 1, 1) := dk_4 (dk_at dksL_law_66 22 rfl rfl)
theorem dL_law_1801 : decode cL_law 1801 = .ok (.iadd, 1) := dk_96 (dk_at dksL_law_66 23 rfl rfl)
theorem dL_law_1802 : decode cL_law 1802 = .ok (.iaload, 1) := dk_46 (dk_at dksL_law_67 0 rfl rfl)
theorem dL_law_1803 : decode cL_law 1803 = .ok (.aload_n 3, 1) := dk_45 (dk_at dksL_law_67 1 rfl rfl)
theorem dL_law_1804 : decode cL_law 1804 = .ok (.invokestatic 256, 3) := dk_184 1 0 (dk_at dksL_law_67 2 rfl rfl)
theorem dL_law_1807 : decode cL_law 1807 = .ok (.istore 5, 2) := dk_54 5 (dk_at dksL_law_67 5 rfl rfl)
theorem dL_law_1809 : decode cL_law 1809 = .ok (.aload_n 2, 1) := dk_44 (dk_at dksL_law_67 7 rfl rfl)
theorem dL_law_1810 : decode cL_law 1810 = .ok (.aload_n 0, 1) := dk_42 (dk_at dksL_law_67 8 rfl rfl)
theorem dL_law_1811 : decode cL_law 1811 = .ok (.iload 4, 2) := dk_21 4 (dk_at dksL_law_67 9 rfl rfl)
theorem dL_law_1813 : decode cL_law 1813 = .ok (.iconst 1, 1) := dk_4 (dk_at dksL_law_67 11 rfl rfl)
theorem dL_law_1814 : decode cL_law 1814 = .ok (.iadd, 1) := dk_96 (dk_at dksL_law_67 12 rfl rfl)
theorem dL_law_1815 : decode cL_law 1815 = .ok (.iaload, 1) := dk_46 (dk_at dksL_law_67 13 rfl rfl)
theorem dL_law_1816 : decode cL_law 1816 = .ok (.invokevirtual 258, 3) := dk_182 1 2 (dk_at dksL_law_67 14 rfl rfl)
theorem dL_law_1819 : decode cL_law 1819 = .ok (.istore 6, 2) := dk_54 6 (dk_at dksL_law_67 17 rfl rfl)
theorem dL_law_1821 : decode cL_law 1821 = .ok (.aload_n 2, 1) := dk_44 (dk_at dksL_law_67 19 rfl rfl)
theorem dL_law_1822 : decode cL_law 1822 = .ok (.invokevirtual 175, 3) := dk_182 0 175 (dk_at dksL_law_67 20 rfl rfl)
theorem dL_law_1825 : decode cL_law 1825 = .ok (.iload 5, 2) := dk_21 5 (dk_at dksL_law_68 0 rfl rfl)
theorem dL_law_1827 : decode cL_law 1827 = .ok (.if_icmp .eq 5, 3) := dk_159 0 5 (dk_at dksL_law_68 2 rfl rfl)
theorem dL_law_1830 : decode cL_law 1830 = .ok (.iconst 0, 1) := dk_3 (dk_at dksL_law_68 5 rfl rfl)
theorem dL_law_1831 : decode cL_law 1831 = .ok (.ireturn, 1) := dk_172 (dk_at dksL_law_68 6 rfl rfl)
theorem dL_law_1832 : decode cL_law 1832 = .ok (.iload 5, 2) := dk_21 5 (dk_at dksL_law_68 7 rfl rfl)
theorem dL_law_1834 : decode cL_law 1834 = .ok (.ifCond .ne 22, 3) := dk_154 0 22 (dk_at dksL_law_68 9 rfl rfl)
theorem dL_law_1837 : decode cL_law 1837 = .ok (.aload_n 3, 1) := dk_45 (dk_at dksL_law_68 12 rfl rfl)
theorem dL_law_1838 : decode cL_law 1838 = .ok (.iconst 0, 1) := dk_3 (dk_at dksL_law_68 13 rfl rfl)
theorem dL_law_1839 : decode cL_law 1839 = .ok (.laload, 1) := dk_47 (dk_at dksL_law_68 14 rfl rfl)
theorem dL_law_1840 : decode cL_law 1840 = .ok (.iload 6, 2) := dk_21 6 (dk_at dksL_law_68 15 rfl rfl)
theorem dL_law_1842 : decode cL_law 1842 = .ok (.ifCond .eq 7, 3) := dk_153 0 7 (dk_at dksL_law_68 17 rfl rfl)
theorem dL_law_1845 : decode cL_law 1845 = .ok (.lconst 1, 1) := dk_10 (dk_at dksL_law_68 20 rfl rfl)
theorem dL_law_1846 : decode cL_law 1846 = .ok (.goto 4, 3) := dk_167 0 4 (dk_at dksL_law_68 21 rfl rfl)
theorem dL_law_1849 : decode cL_law 1849 = .ok (.lconst 0, 1) := dk_9 (dk_at dksL_law_69 0 rfl rfl)
theorem dL_law_1850 : decode cL_law 1850 = .ok (.lcmp, 1) := dk_148 (dk_at dksL_law_69 1 rfl rfl)
theorem dL_law_1851 : decode cL_law 1851 = .ok (.ifCond .eq 5, 3) := dk_153 0 5 (dk_at dksL_law_69 2 rfl rfl)
theorem dL_law_1854 : decode cL_law 1854 = .ok (.iconst 0, 1) := dk_3 (dk_at dksL_law_69 5 rfl rfl)
theorem dL_law_1855 : decode cL_law 1855 = .ok (.ireturn, 1) := dk_172 (dk_at dksL_law_69 6 rfl rfl)
theorem dL_law_1856 : decode cL_law 1856 = .ok (.goto 1475, 3) := dk_167 5 195 (dk_at dksL_law_69 7 rfl rfl)
theorem dL_law_1859 : decode cL_law 1859 = .ok (.aload_n 1, 1) := dk_43 (dk_at dksL_law_69 10 rfl rfl)
theorem dL_law_1860 : decode cL_law 1860 = .ok (.aload_n 0, 1) := dk_42 (dk_at dksL_law_69 11 rfl rfl)
theorem dL_law_1861 : decode cL_law 1861 = .ok (.iload 4, 2) := dk_21 4 (dk_at dksL_law_69 12 rfl rfl)
theorem dL_law_1863 : decode cL_law 1863 = .ok (.iconst 1, 1) := dk_4 (dk_at dksL_law_69 14 rfl rfl)
theorem dL_law_1864 : decode cL_law 1864 = .ok (.iadd, 1) := dk_96 (dk_at dksL_law_69 15 rfl rfl)
theorem dL_law_1865 : decode cL_law 1865 = .ok (.iaload, 1) := dk_46 (dk_at dksL_law_69 16 rfl rfl)
theorem dL_law_1866 : decode cL_law 1866 = .ok (.aload_n 3, 1) := dk_45 (dk_at dksL_law_69 17 rfl rfl)
theorem dL_law_1867 : decode cL_law 1867 = .ok (.invokestatic 259, 3) := dk_184 1 3 (dk_at dksL_law_69 18 rfl rfl)
theorem dL_law_1870 : decode cL_law 1870 = .ok (.istore 5, 2) := dk_54 5 (dk_at dksL_law_69 21 rfl rfl)
theorem dL_law_1872 : decode cL_law 1872 = .ok (.aload_n 2, 1) := dk_44 (dk_at dksL_law_69 23 rfl rfl)
theorem dL_law_1873 : decode cL_law 1873 = .ok (.aload_n 0, 1) := dk_42 (dk_at dksL_law_70 0 rfl rfl)
theorem dL_law_1874 : decode cL_law 1874 = .ok (.iload 4, 2) := dk_21 4 (dk_at dksL_law_70 1 rfl rfl)
theorem dL_law_1876 : decode cL_law 1876 = .ok (.iconst 1, 1) := dk_4 (dk_at dksL_law_70 3 rfl rfl)
theorem dL_law_1877 : decode cL_law 1877 = .ok (.iadd, 1) := dk_96 (dk_at dksL_law_70 4 rfl rfl)
theorem dL_law_1878 : decode cL_law 1878 = .ok (.iaload, 1) := dk_46 (dk_at dksL_law_70 5 rfl rfl)
theorem dL_law_1879 : decode cL_law 1879 = .ok (.invokevirtual 261, 3) := dk_182 1 5 (dk_at dksL_law_70 6 rfl rfl)
theorem dL_law_1882 : decode cL_law 1882 = .ok (.istore 6, 2) := dk_54 6 (dk_at dksL_law_70 9 rfl rfl)
theorem dL_law_1884 : decode cL_law 1884 = .ok (.aload_n 2, 1) := dk_44 (dk_at dksL_law_70 11 rfl rfl)
theorem dL_law_1885 : decode cL_law 1885 = .ok (.invokevirtual 175, 3) := dk_182 0 175 (dk_at dksL_law_70 12 rfl rfl)
theorem dL_law_1888 : decode cL_law 1888 = .ok (.iload 5, 2) := dk_21 5 (dk_at dksL_law_70 15 rfl rfl)
theorem dL_law_1890 : decode cL_law 1890 = .ok (.if_icmp .eq 5, 3) := dk_159 0 5 (dk_at dksL_law_70 17 rfl rfl)
theorem dL_law_1893 : decode cL_law 1893 = .ok (.iconst 0, 1) := dk_3 (dk_at dksL_law_70 20 rfl rfl)
theorem dL_law_1894 : decode cL_law 1894 = .ok (.ireturn, 1) := dk_172 (dk_at dksL_law_70 21 rfl rfl)
theorem dL_law_1895 : decode cL_law 1895 = .ok (.iload 5, 2) := dk_21 5 (dk_at dksL_law_70 22 rfl rfl)
theorem dL_law_1897 : decode cL_law 1897 = .ok (.ifCond .ne 15, 3) := dk_154 0 15 (dk_at dksL_law_71 0 rfl rfl)
theorem dL_law_1900 : decode cL_law 1900 = .ok (.aload_n 3, 1) := dk_45 (dk_at dksL_law_71 3 rfl rfl)
theorem dL_law_1901 : decode cL_law 1901 = .ok (.iconst 0, 1) := dk_3 (dk_at dksL_law_71 4 rfl rfl)
theorem dL_law_1902 : decode cL_law 1902 = .ok (.laload, 1) := dk_47 (dk_at dksL_law_71 5 rfl rfl)
theorem dL_law_1903 : decode cL_law 1903 = .ok (.iload 6, 2) := dk_21 6 (dk_at dksL_law_71 6 rfl rfl)
theorem dL_law_1905 : decode cL_law 1905 = .ok (.i2l, 1) := dk_133 (dk_at dksL_law_71 8 rfl rfl)
theorem dL_law_1906 : decode cL_law 1906 = .ok (.lcmp, 1) := dk_148 (dk_at dksL_law_71 9 rfl rfl)
theorem dL_law_1907 : decode cL_law 1907 = .ok (.ifCond .eq 5, 3) := dk_153 0 5 (dk_at dksL_law_71 10 rfl rfl)
theorem dL_law_1910 : decode cL_law 1910 = .ok (.iconst 0, 1) := dk_3 (dk_at dksL_law_71 13 rfl rfl)
theorem dL_law_1911 : decode cL_law 1911 = .ok (.ireturn, 1) := dk_172 (dk_at dksL_law_71 14 rfl rfl)
theorem dL_law_1912 : decode cL_law 1912 = .ok (.goto 1419, 3) := dk_167 5 139 (dk_at dksL_law_71 15 rfl rfl)
theorem dL_law_1915 : decode cL_law 1915 = .ok (.aload_n 1, 1) := dk_43 (dk_at dksL_law_71 18 rfl rfl)
theorem dL_law_1916 : decode cL_law 1916 = .ok (.aload_n 0, 1) := dk_42 (dk_at dksL_law_71 19 rfl rfl)
theorem dL_law_1917 : decode cL_law 1917 = .ok (.iload 4, 2) := dk_21 4 (dk_at dksL_law_71 20 rfl rfl)
theorem dL_law_1919 : decode cL_law 1919 = .ok (.iconst 1, 1) := dk_4 (dk_at dksL_law_71 22 rfl rfl)
theorem dL_law_1920 : decode cL_law 1920 = .ok (.iadd, 1) := dk_96 (dk_at dksL_law_71 23 rfl rfl)
theorem dL_law_1921 : decode cL_law 1921 = .ok (.iaload, 1) := dk_46 (dk_at dksL_law_72 0 rfl rfl)
theorem dL_law_1922 : decode cL_law 1922 = .ok (.aload_n 3, 1) := dk_45 (dk_at dksL_law_72 1 rfl rfl)
theorem dL_law_1923 : decode cL_law 1923 = .ok (.invokestatic 262, 3) := dk_184 1 6 (dk_at dksL_law_72 2 rfl rfl)
theorem dL_law_1926 : decode cL_law 1926 = .ok (.istore 5, 2) := dk_54 5 (dk_at dksL_law_72 5 rfl rfl)
theorem dL_law_1928 : decode cL_law 1928 = .ok (.aload_n 2, 1) := dk_44 (dk_at dksL_law_72 7 rfl rfl)
theorem dL_law_1929 : decode cL_law 1929 = .ok (.aload_n 0, 1) := dk_42 (dk_at dksL_law_72 8 rfl rfl)
theorem dL_law_1930 : decode cL_law 1930 = .ok (.iload 4, 2) := dk_21 4 (dk_at dksL_law_72 9 rfl rfl)
theorem dL_law_1932 : decode cL_law 1932 = .ok (.iconst 1, 1) := dk_4 (dk_at dksL_law_72 11 rfl rfl)
theorem dL_law_1933 : decode cL_law 1933 = .ok (.iadd, 1) := dk_96 (dk_at dksL_law_72 12 rfl rfl)
theorem dL_law_1934 : decode cL_law 1934 = .ok (.iaload, 1) := dk_46 (dk_at dksL_law_72 13 rfl rfl)
theorem dL_law_1935 : decode cL_law 1935 = .ok (.invokevirtual 264, 3) := dk_182 1 8 (dk_at dksL_law_72 14 rfl rfl)
theorem dL_law_1938 : decode cL_law 1938 = .ok (.istore 6, 2) := dk_54 6 (dk_at dksL_law_72 17 rfl rfl)
theorem dL_law_1940 : decode cL_law 1940 = .ok (.aload_n 2, 1) := dk_44 (dk_at dksL_law_72 19 rfl rfl)
theorem dL_law_1941 : decode cL_law 1941 = .ok (.invokevirtual 175, 3) := dk_182 0 175 (dk_at dksL_law_72 20 rfl rfl)
theorem dL_law_1944 : decode cL_law 1944 = .ok (.iload 5, 2) := dk_21 5 (dk_at dksL_law_73 0 rfl rfl)
theorem dL_law_1946 : decode cL_law 1946 = .ok (.if_icmp .eq 5, 3) := dk_159 0 5 (dk_at dksL_law_73 2 rfl rfl)
theorem dL_law_1949 : decode cL_law 1949 = .ok (.iconst 0, 1) := dk_3 (dk_at dksL_law_73 5 rfl rfl)
theorem dL_law_1950 : decode cL_law 1950 = .ok (.ireturn, 1) := dk_172 (dk_at dksL_law_73 6 rfl rfl)
theorem dL_law_1951 : decode cL_law 1951 = .ok (.iload 5, 2) := dk_21 5 (dk_at dksL_law_73 7 rfl rfl)
theorem dL_law_1953 : decode cL_law 1953 = .ok (.ifCond .ne 15, 3) := dk_154 0 15 (dk_at dksL_law_73 9 rfl rfl)
theorem dL_law_1956 : decode cL_law 1956 = .ok (.aload_n 3, 1) := dk_45 (dk_at dksL_law_73 12 rfl rfl)
theorem dL_law_1957 : decode cL_law 1957 = .ok (.iconst 0, 1) := dk_3 (dk_at dksL_law_73 13 rfl rfl)
theorem dL_law_1958 : decode cL_law 1958 = .ok (.laload, 1) := dk_47 (dk_at dksL_law_73 14 rfl rfl)
theorem dL_law_1959 : decode cL_law 1959 = .ok (.iload 6, 2) := dk_21 6 (dk_at dksL_law_73 15 rfl rfl)
theorem dL_law_1961 : decode cL_law 1961 = .ok (.i2l, 1) := dk_133 (dk_at dksL_law_73 17 rfl rfl)
theorem dL_law_1962 : decode cL_law 1962 = .ok (.lcmp, 1) := dk_148 (dk_at dksL_law_73 18 rfl rfl)
theorem dL_law_1963 : decode cL_law 1963 = .ok (.ifCond .eq 5, 3) := dk_153 0 5 (dk_at dksL_law_73 19 rfl rfl)
theorem dL_law_1966 : decode cL_law 1966 = .ok (.iconst 0, 1) := dk_3 (dk_at dksL_law_73 22 rfl rfl)
theorem dL_law_1967 : decode cL_law 1967 = .ok (.ireturn, 1) := dk_172 (dk_at dksL_law_73 23 rfl rfl)
theorem dL_law_1968 : decode cL_law 1968 = .ok (.goto 1363, 3) := dk_167 5 83 (dk_at dksL_law_74 0 rfl rfl)
theorem dL_law_1971 : decode cL_law 1971 = .ok (.aload_n 1, 1) := dk_43 (dk_at dksL_law_74 3 rfl rfl)
theorem dL_law_1972 : decode cL_law 1972 = .ok (.aload_n 0, 1) := dk_42 (dk_at dksL_law_74 4 rfl rfl)
theorem dL_law_1973 : decode cL_law 1973 = .ok (.iload 4, 2) := dk_21 4 (dk_at dksL_law_74 5 rfl rfl)
theorem dL_law_1975 : decode cL_law 1975 = .ok (.iconst 1, 1) := dk_4 (dk_at dksL_law_74 7 rfl rfl)
theorem dL_law_1976 : decode cL_law 1976 = .ok (.iadd, 1) := dk_96 (dk_at dksL_law_74 8 rfl rfl)
theorem dL_law_1977 : decode cL_law 1977 = .ok (.iaload, 1) := dk_46 (dk_at dksL_law_74 9 rfl rfl)
theorem dL_law_1978 : decode cL_law 1978 = .ok (.aload_n 3, 1) := dk_45 (dk_at dksL_law_74 10 rfl rfl)
theorem dL_law_1979 : decode cL_law 1979 = .ok (.invokestatic 265, 3) := dk_184 1 9 (dk_at dksL_law_74 11 rfl rfl)
theorem dL_law_1982 : decode cL_law 1982 = .ok (.istore 5, 2) := dk_54 5 (dk_at dksL_law_74 14 rfl rfl)
theorem dL_law_1984 : decode cL_law 1984 = .ok (.aload_n 2, 1) := dk_44 (dk_at dksL_law_74 16 rfl rfl)
theorem dL_law_1985 : decode cL_law 1985 = .ok (.aload_n 0, 1) := dk_42 (dk_at dksL_law_74 17 rfl rfl)
theorem dL_law_1986 : decode cL_law 1986 = .ok (.iload 4, 2) := dk_21 4 (dk_at dksL_law_74 18 rfl rfl)
theorem dL_law_1988 : decode cL_law 1988 = .ok (.iconst 1, 1) := dk_4 (dk_at dksL_law_74 20 rfl rfl)
theorem dL_law_1989 : decode cL_law 1989 = .ok (.iadd, 1) := dk_96 (dk_at dksL_law_74 21 rfl rfl)
theorem dL_law_1990 : decode cL_law 1990 = .ok (.iaload, 1) := dk_46 (dk_at dksL_law_74 22 rfl rfl)
theorem dL_law_1991 : decode cL_law 1991 = .ok (.invokevirtual 267, 3) := dk_182 1 11 (dk_at dksL_law_75 0 rfl rfl)
theorem dL_law_1994 : decode cL_law 1994 = .ok (.istore 6, 2) := dk_54 6 (dk_at dksL_law_75 3 rfl rfl)
theorem dL_law_1996 : decode cL_law 1996 = .ok (.aload_n 2, 1) := dk_44 (dk_at dksL_law_75 5 rfl rfl)
theorem dL_law_1997 : decode cL_law 1997 = .ok (.invokevirtual 175, 3) := dk_182 0 175 (dk_at dksL_law_75 6 rfl rfl)
theorem dL_law_2000 : decode cL_law 2000 = .ok (.iload 5, 2) := dk_21 5 (dk_at dksL_law_75 9 rfl rfl)
theorem dL_law_2002 : decode cL_law 2002 = .ok (.if_icmp .eq 5, 3) := dk_159 0 5 (dk_at dksL_law_75 11 rfl rfl)
theorem dL_law_2005 : decode cL_law 2005 = .ok (.iconst 0, 1) := dk_3 (dk_at dksL_law_75 14 rfl rfl)
theorem dL_law_2006 : decode cL_law 2006 = .ok (.ireturn, 1) := dk_172 (dk_at dksL_law_75 15 rfl rfl)
theorem dL_law_2007 : decode cL_law 2007 = .ok (.iload 5, 2) := dk_21 5 (dk_at dksL_law_75 16 rfl rfl)
theorem dL_law_2009 : decode cL_law 2009 = .ok (.ifCond .ne 15, 3) := dk_154 0 15 (dk_at dksL_law_75 18 rfl rfl)
theorem dL_law_2012 : decode cL_law 2012 = .ok (.aload_n 3, 1) := dk_45 (dk_at dksL_law_75 21 rfl rfl)
theorem dL_law_2013 : decode cL_law 2013 = .ok (.iconst 0, 1) := dk_3 (dk_at dksL_law_75 22 rfl rfl)
theorem dL_law_2014 : decode cL_law 2014 = .ok (.laload, 1) := dk_47 (dk_at dksL_law_75 23 rfl rfl)
theorem dL_law_2015 : decode cL_law 2015 = .ok (.iload 6, 2) := dk_21 6 (dk_at dksL_law_76 0 rfl rfl)
theorem dL_law_2017 : decode cL_law 2017 = .ok (.i2l, 1) := dk_133 (dk_at dksL_law_76 2 rfl rfl)
theorem dL_law_2018 : decode cL_law 2018 = .ok (.lcmp, 1) := dk_148 (dk_at dksL_law_76 3 rfl rfl)
theorem dL_law_2019 : decode cL_law 2019 = .ok (.ifCond .eq 5, 3) := dk_153 0 5 (dk_at dksL_law_76 4 rfl rfl)
theorem dL_law_2022 : decode cL_law 2022 = .ok (.iconst 0, 1) := dk_3 (dk_at dksL_law_76 7 rfl rfl)
theorem dL_law_2023 : decode cL_law 2023 = .ok (.ireturn, 1) := dk_172 (dk_at dksL_law_76 8 rfl rfl)
theorem dL_law_2024 : decode cL_law 2024 = .ok (.goto 1307, 3) := dk_167 5 27 (dk_at dksL_law_76 9 rfl rfl)
theorem dL_law_2027 : decode cL_law 2027 = .ok (.aload_n 1, 1) := dk_43 (dk_at dksL_law_76 12 rfl rfl)
theorem dL_law_2028 : decode cL_law 2028 = .ok (.aload_n 3, 1) := dk_45 (dk_at dksL_law_76 13 rfl rfl)
theorem dL_law_2029 : decode cL_law 2029 = .ok (.invokestatic 268, 3) := dk_184 1 12 (dk_at dksL_law_76 14 rfl rfl)
theorem dL_law_2032 : decode cL_law 2032 = .ok (.istore 5, 2) := dk_54 5 (dk_at dksL_law_76 17 rfl rfl)
theorem dL_law_2034 : decode cL_law 2034 = .ok (.aload_n 2, 1) := dk_44 (dk_at dksL_law_76 19 rfl rfl)
theorem dL_law_2035 : decode cL_law 2035 = .ok (.invokevirtual 271, 3) := dk_182 1 15 (dk_at dksL_law_76 20 rfl rfl)
theorem dL_law_2038 : decode cL_law 2038 = .ok (.istore 6, 2) := dk_54 6 (dk_at dksL_law_77 0 rfl rfl)
theorem dL_law_2040 : decode cL_law 2040 = .ok (.aload_n 2, 1) := dk_44 (dk_at dksL_law_77 2 rfl rfl)
theorem dL_law_2041 : decode cL_law 2041 = .ok (.invokevirtual 175, 3) := dk_182 0 175 (dk_at dksL_law_77 3 rfl rfl)
theorem dL_law_2044 : decode cL_law 2044 = .ok (.iload 5, 2) := dk_21 5 (dk_at dksL_law_77 6 rfl rfl)
theorem dL_law_2046 : decode cL_law 2046 = .ok (.if_icmp .eq 5, 3) := dk_159 0 5 (dk_at dksL_law_77 8 rfl rfl)
theorem dL_law_2049 : decode cL_law 2049 = .ok (.iconst 0, 1) := dk_3 (dk_at dksL_law_77 11 rfl rfl)
theorem dL_law_2050 : decode cL_law 2050 = .ok (.ireturn, 1) := dk_172 (dk_at dksL_law_77 12 rfl rfl)
theorem dL_law_2051 : decode cL_law 2051 = .ok (.iload 5, 2) := dk_21 5 (dk_at dksL_law_77 13 rfl rfl)
theorem dL_law_2053 : decode cL_law 2053 = .ok (.ifCond .ne 15, 3) := dk_154 0 15 (dk_at dksL_law_77 15 rfl rfl)
theorem dL_law_2056 : decode cL_law 2056 = .ok (.aload_n 3, 1) := dk_45 (dk_at dksL_law_77 18 rfl rfl)
theorem dL_law_2057 : decode cL_law 2057 = .ok (.iconst 0, 1) := dk_3 (dk_at dksL_law_77 19 rfl rfl)
theorem dL_law_2058 : decode cL_law 2058 = .ok (.laload, 1) := dk_47 (dk_at dksL_law_77 20 rfl rfl)
theorem dL_law_2059 : decode cL_law 2059 = .ok (.iload 6, 2) := dk_21 6 (dk_at dksL_law_77 21 rfl rfl)
theorem dL_law_2061 : decode cL_law 2061 = .ok (.i2l, 1) := dk_133 (dk_at dksL_law_77 23 rfl rfl)
theorem dL_law_2062 : decode cL_law 2062 = .ok (.lcmp, 1) := dk_148 (dk_at dksL_law_78 0 rfl rfl)
theorem dL_law_2063 : decode cL_law 2063 = .ok (.ifCond .eq 5, 3) := dk_153 0 5 (dk_at dksL_law_78 1 rfl rfl)
theorem dL_law_2066 : decode cL_law 2066 = .ok (.iconst 0, 1) := dk_3 (dk_at dksL_law_78 4 rfl rfl)
theorem dL_law_2067 : decode cL_law 2067 = .ok (.ireturn, 1) := dk_172 (dk_at dksL_law_78 5 rfl rfl)
theorem dL_law_2068 : decode cL_law 2068 = .ok (.goto 1263, 3) := dk_167 4 239 (dk_at dksL_law_78 6 rfl rfl)
theorem dL_law_2071 : decode cL_law 2071 = .ok (.aload_n 1, 1) := dk_43 (dk_at dksL_law_78 9 rfl rfl)
theorem dL_law_2072 : decode cL_law 2072 = .ok (.aload_n 0, 1) := dk_42 (dk_at dksL_law_78 10 rfl rfl)
theorem dL_law_2073 : decode cL_law 2073 = .ok (.iload 4, 2) := dk_21 4 (dk_at dksL_law_78 11 rfl rfl)
theorem dL_law_2075 : decode cL_law 2075 = .ok (.iconst 1, 1) := dk_4 (dk_at dksL_law_78 13 rfl rfl)
theorem dL_law_2076 : decode cL_law 2076 = .ok (.iadd, 1) := dk_96 (dk_at dksL_law_78 14 rfl rfl)
theorem dL_law_2077 : decode cL_law 2077 = .ok (.iaload, 1) := dk_46 (dk_at dksL_law_78 15 rfl rfl)
theorem dL_law_2078 : decode cL_law 2078 = .ok (.aload_n 3, 1) := dk_45 (dk_at dksL_law_78 16 rfl rfl)
theorem dL_law_2079 : decode cL_law 2079 = .ok (.invokestatic 272, 3) := dk_184 1 16 (dk_at dksL_law_78 17 rfl rfl)
theorem dL_law_2082 : decode cL_law 2082 = .ok (.istore 5, 2) := dk_54 5 (dk_at dksL_law_78 20 rfl rfl)
theorem dL_law_2084 : decode cL_law 2084 = .ok (.aload_n 2, 1) := dk_44 (dk_at dksL_law_78 22 rfl rfl)
theorem dL_law_2085 : decode cL_law 2085 = .ok (.aload_n 0, 1) := dk_42 (dk_at dksL_law_78 23 rfl rfl)
theorem dL_law_2086 : decode cL_law 2086 = .ok (.iload 4, 2) := dk_21 4 (dk_at dksL_law_79 0 rfl rfl)
theorem dL_law_2088 : decode cL_law 2088 = .ok (.iconst 1, 1) := dk_4 (dk_at dksL_law_79 2 rfl rfl)
theorem dL_law_2089 : decode cL_law 2089 = .ok (.iadd, 1) := dk_96 (dk_at dksL_law_79 3 rfl rfl)
theorem dL_law_2090 : decode cL_law 2090 = .ok (.iaload, 1) := dk_46 (dk_at dksL_law_79 4 rfl rfl)
theorem dL_law_2091 : decode cL_law 2091 = .ok (.invokevirtual 274, 3) := dk_182 1 18 (dk_at dksL_law_79 5 rfl rfl)
theorem dL_law_2094 : decode cL_law 2094 = .ok (.istore 6, 2) := dk_54 6 (dk_at dksL_law_79 8 rfl rfl)
theorem dL_law_2096 : decode cL_law 2096 = .ok (.aload_n 2, 1) := dk_44 (dk_at dksL_law_79 10 rfl rfl)
theorem dL_law_2097 : decode cL_law 2097 = .ok (.invokevirtual 175, 3) := dk_182 0 175 (dk_at dksL_law_79 11 rfl rfl)
theorem dL_law_2100 : decode cL_law 2100 = .ok (.iload 5, 2) := dk_21 5 (dk_at dksL_law_79 14 rfl rfl)
theorem dL_law_2102 : decode cL_law 2102 = .ok (.if_icmp .eq 5, 3) := dk_159 0 5 (dk_at dksL_law_79 16 rfl rfl)
theorem dL_law_2105 : decode cL_law 2105 = .ok (.iconst 0, 1) := dk_3 (dk_at dksL_law_79 19 rfl rfl)
theorem dL_law_2106 : decode cL_law 2106 = .ok (.ireturn, 1) := dk_172 (dk_at dksL_law_79 20 rfl rfl)
theorem dL_law_2107 : decode cL_law 2107 = .ok (.iload 5, 2) := dk_21 5 (dk_at dksL_law_79 21 rfl rfl)
theorem dL_law_2109 : decode cL_law 2109 = .ok (.ifCond .ne 15, 3) := dk_154 0 15 (dk_at dksL_law_80 0 rfl rfl)
theorem dL_law_2112 : decode cL_law 2112 = .ok (.aload_n 3, 1) := dk_45 (dk_at dksL_law_80 3 rfl rfl)
theorem dL_law_2113 : decode cL_law 2113 = .ok (.iconst 0, 1) := dk_3 (dk_at dksL_law_80 4 rfl rfl)
theorem dL_law_2114 : decode cL_law 2114 = .ok (.laload, 1) := dk_47 (dk_at dksL_law_80 5 rfl rfl)
theorem dL_law_2115 : decode cL_law 2115 = .ok (.iload 6, 2) := dk_21 6 (dk_at dksL_law_80 6 rfl rfl)
theorem dL_law_2117 : decode cL_law 2117 = .ok (.i2l, 1) := dk_133 (dk_at dksL_law_80 8 rfl rfl)
theorem dL_law_2118 : decode cL_law 2118 = .ok (.lcmp, 1) := dk_148 (dk_at dksL_law_80 9 rfl rfl)
theorem dL_law_2119 : decode cL_law 2119 = .ok (.ifCond .eq 5, 3) := dk_153 0 5 (dk_at dksL_law_80 10 rfl rfl)
theorem dL_law_2122 : decode cL_law 2122 = .ok (.iconst 0, 1) := dk_3 (dk_at dksL_law_80 13 rfl rfl)
theorem dL_law_2123 : decode cL_law 2123 = .ok (.ireturn, 1) := dk_172 (dk_at dksL_law_80 14 rfl rfl)
theorem dL_law_2124 : decode cL_law 2124 = .ok (.goto 1207, 3) := dk_167 4 183 (dk_at dksL_law_80 15 rfl rfl)
theorem dL_law_2127 : decode cL_law 2127 = .ok (.aload_n 1, 1) := dk_43 (dk_at dksL_law_80 18 rfl rfl)
theorem dL_law_2128 : decode cL_law 2128 = .ok (.aload_n 0, 1) := dk_42 (dk_at dksL_law_80 19 rfl rfl)
theorem dL_law_2129 : decode cL_law 2129 = .ok (.iload 4, 2) := dk_21 4 (dk_at dksL_law_80 20 rfl rfl)
theorem dL_law_2131 : decode cL_law 2131 = .ok (.iconst 1, 1) := dk_4 (dk_at dksL_law_80 22 rfl rfl)
theorem dL_law_2132 : decode cL_law 2132 = .ok (.iadd, 1) := dk_96 (dk_at dksL_law_80 23 rfl rfl)
theorem dL_law_2133 : decode cL_law 2133 = .ok (.iaload, 1) := dk_46 (dk_at dksL_law_81 0 rfl rfl)
theorem dL_law_2134 : decode cL_law 2134 = .ok (.aload_n 3, 1) := dk_45 (dk_at dksL_law_81 1 rfl rfl)
theorem dL_law_2135 : decode cL_law 2135 = .ok (.invokestatic 275, 3) := dk_184 1 19 (dk_at dksL_law_81 2 rfl rfl)
theorem dL_law_2138 : decode cL_law 2138 = .ok (.istore 5, 2) := dk_54 5 (dk_at dksL_law_81 5 rfl rfl)
theorem dL_law_2140 : decode cL_law 2140 = .ok (.aload_n 2, 1) := dk_44 (dk_at dksL_law_81 7 rfl rfl)
theorem dL_law_2141 : decode cL_law 2141 = .ok (.aload_n 0, 1) := dk_42 (dk_at dksL_law_81 8 rfl rfl)
theorem dL_law_2142 : decode cL_law 2142 = .ok (.iload 4, 2) := dk_21 4 (dk_at dksL_law_81 9 rfl rfl)
theorem dL_law_2144 : decode cL_law 2144 = .ok (.iconst 1, 1) := dk_4 (dk_at dksL_law_81 11 rfl rfl)
theorem dL_law_2145 : decode cL_law 2145 = .ok (.iadd, 1) := dk_96 (dk_at dksL_law_81 12 rfl rfl)
theorem dL_law_2146 : decode cL_law 2146 = .ok (.iaload, 1) := dk_46 (dk_at dksL_law_81 13 rfl rfl)
theorem dL_law_2147 : decode cL_law 2147 = .ok (.invokevirtual 277, 3) := dk_182 1 21 (dk_at dksL_law_81 14 rfl rfl)
theorem dL_law_2150 : decode cL_law 2150 = .ok (.istore 6, 2) := dk_54 6 (dk_at dksL_law_81 17 rfl rfl)
theorem dL_law_2152 : decode cL_law 2152 = .ok (.aload_n 2, 1) := dk_44 (dk_at dksL_law_81 19 rfl rfl)
theorem dL_law_2153 : decode cL_law 2153 = .ok (.invokevirtual 175, 3) := dk_182 0 175 (dk_at dksL_law_81 20 rfl rfl)
theorem dL_law_2156 : decode cL_law 2156 = .ok (.iload 5, 2) := dk_21 5 (dk_at dksL_law_82 0 rfl rfl)
theorem dL_law_2158 : decode cL_law 2158 = .ok (.if_icmp .eq 5, 3) := dk_159 0 5 (dk_at dksL_law_82 2 rfl rfl)
theorem dL_law_2161 : decode cL_law 2161 = .ok (.iconst 0, 1) := dk_3 (dk_at dksL_law_82 5 rfl rfl)
theorem dL_law_2162 : decode cL_law 2162 = .ok (.ireturn, 1) := dk_172 (dk_at dksL_law_82 6 rfl rfl)
theorem dL_law_2163 : decode cL_law 2163 = .ok (.iload 5, 2) := dk_21 5 (dk_at dksL_law_82 7 rfl rfl)
theorem dL_law_2165 : decode cL_law 2165 = .ok (.ifCond .ne 15, 3) := dk_154 0 15 (dk_at dksL_law_82 9 rfl rfl)
theorem dL_law_2168 : decode cL_law 2168 = .ok (.aload_n 3, 1) := dk_45 (dk_at dksL_law_82 12 rfl rfl)
theorem dL_law_2169 : decode cL_law 2169 = .ok (.iconst 0, 1) := dk_3 (dk_at dksL_law_82 13 rfl rfl)
theorem dL_law_2170 : decode cL_law 2170 = .ok (.laload, 1) := dk_47 (dk_at dksL_law_82 14 rfl rfl)
theorem dL_law_2171 : decode cL_law 2171 = .ok (.iload 6, 2) := dk_21 6 (dk_at dksL_law_82 15 rfl rfl)
theorem dL_law_2173 : decode cL_law 2173 = .ok (.i2l, 1) := dk_133 (dk_at dksL_law_82 17 rfl rfl)
theorem dL_law_2174 : decode cL_law 2174 = .ok (.lcmp, 1) := dk_148 (dk_at dksL_law_82 18 rfl rfl)
theorem dL_law_2175 : decode cL_law 2175 = .ok (.ifCond .eq 5, 3) := dk_153 0 5 (dk_at dksL_law_82 19 rfl rfl)
theorem dL_law_2178 : decode cL_law 2178 = .ok (.iconst 0, 1) := dk_3 (dk_at dksL_law_82 22 rfl rfl)
theorem dL_law_2179 : decode cL_law 2179 = .ok (.ireturn, 1) := dk_172 (dk_at dksL_law_82 23 rfl rfl)
theorem dL_law_2180 : decode cL_law 2180 = .ok (.goto 1151, 3) := dk_167 4 127 (dk_at dksL_law_83 0 rfl rfl)
theorem dL_law_2183 : decode cL_law 2183 = .ok (.aload_n 1, 1) := dk_43 (dk_at dksL_law_83 3 rfl rfl)
theorem dL_law_2184 : decode cL_law 2184 = .ok (.invokevirtual 278, 3) := dk_182 1 22 (dk_at dksL_law_83 4 rfl rfl)
theorem dL_law_2187 : decode cL_law 2187 = .ok (.aload_n 2, 1) := dk_44 (dk_at dksL_law_83 7 rfl rfl)
theorem dL_law_2188 : decode cL_law 2188 = .ok (.invokevirtual 281, 3) := dk_182 1 25 (dk_at dksL_law_83 8 rfl rfl)
theorem dL_law_2191 : decode cL_law 2191 = .ok (.if_icmp .eq 1140, 3) := dk_159 4 116 (dk_at dksL_law_83 11 rfl rfl)
theorem dL_law_2194 : decode cL_law 2194 = .ok (.iconst 0, 1) := dk_3 (dk_at dksL_law_83 14 rfl rfl)
theorem dL_law_2195 : decode cL_law 2195 = .ok (.ireturn, 1) := dk_172 (dk_at dksL_law_83 15 rfl rfl)
theorem dL_law_2196 : decode cL_law 2196 = .ok (.aload_n 1, 1) := dk_43 (dk_at dksL_law_83 16 rfl rfl)
theorem dL_law_2197 : decode cL_law 2197 = .ok (.aload_n 0, 1) := dk_42 (dk_at dksL_law_83 17 rfl rfl)
theorem dL_law_2198 : decode cL_law 2198 = .ok (.iload 4, 2) := dk_21 4 (dk_at dksL_law_83 18 rfl rfl)
theorem dL_law_2200 : decode cL_law 2200 = .ok (.iconst 1, 1) := dk_4 (dk_at dksL_law_83 20 rfl rfl)
theorem dL_law_2201 : decode cL_law 2201 = .ok (.iadd, 1) := dk_96 (dk_at dksL_law_83 21 rfl rfl)
theorem dL_law_2202 : decode cL_law 2202 = .ok (.iaload, 1) := dk_46 (dk_at dksL_law_83 22 rfl rfl)
theorem dL_law_2203 : decode cL_law 2203 = .ok (.aload_n 0, 1) := dk_42 (dk_at dksL_law_83 23 rfl rfl)
theorem dL_law_2204 : decode cL_law 2204 = .ok (.iload 4, 2) := dk_21 4 (dk_at dksL_law_84 0 rfl rfl)
theorem dL_law_2206 : decode cL_law 2206 = .ok (.iconst 2, 1) := dk_5 (dk_at dksL_law_84 2 rfl rfl)
theorem dL_law_2207 : decode cL_law 2207 = .ok (.iadd, 1) := dk_96 (dk_at dksL_law_84 3 rfl rfl)
theorem dL_law_2208 : decode cL_law 2208 = .ok (.iaload, 1) := dk_46 (dk_at dksL_law_84 4 rfl rfl)
theorem dL_law_2209 : decode cL_law 2209 = .ok (.aload_n 3, 1) := dk_45 (dk_at dksL_law_84 5 rfl rfl)
theorem dL_law_2210 : decode cL_law 2210 = .ok (.invokestatic 282, 3) := dk_184 1 26 (dk_at dksL_law_84 6 rfl rfl)
theorem dL_law_2213 : decode cL_law 2213 = .ok (.istore 5, 2) := dk_54 5 (dk_at dksL_law_84 9 rfl rfl)
theorem dL_law_2215 : decode cL_law 2215 = .ok (.aload_n 2, 1) := dk_44 (dk_at dksL_law_84 11 rfl rfl)
theorem dL_law_2216 : decode cL_law 2216 = .ok (.aload_n 0, 1) := dk_42 (dk_at dksL_law_84 12 rfl rfl)
theorem dL_law_2217 : decode cL_law 2217 = .ok (.iload 4, 2) := dk_21 4 (dk_at dksL_law_84 13 rfl rfl)
theorem dL_law_2219 : decode cL_law 2219 = .ok (.iconst 1, 1) := dk_4 (dk_at dksL_law_84 15 rfl rfl)
theorem dL_law_2220 : decode cL_law 2220 = .ok (.iadd, 1) := dk_96 (dk_at dksL_law_84 16 rfl rfl)
theorem dL_law_2221 : decode cL_law 2221 = .ok (.iaload, 1) := dk_46 (dk_at dksL_law_84 17 rfl rfl)
theorem dL_law_2222 : decode cL_law 2222 = .ok (.aload_n 0, 1) := dk_42 (dk_at dksL_law_84 18 rfl rfl)
theorem dL_law_2223 : decode cL_law 2223 = .ok (.iload 4, 2) := dk_21 4 (dk_at dksL_law_84 19 rfl rfl)
theorem dL_law_2225 : decode cL_law 2225 = .ok (.iconst 2, 1) := dk_5 (dk_at dksL_law_84 21 rfl rfl)
theorem dL_law_2226 : decode cL_law 2226 = .ok (.iadd, 1) := dk_96 (dk_at dksL_law_84 22 rfl rfl)
theorem dL_law_2227 : decode cL_law 2227 = .ok (.iaload, 1) := dk_46 (dk_at dksL_law_84 23 rfl rfl)
theorem dL_law_2228 : decode cL_law 2228 = .ok (.invokevirtual 284, 3) := dk_182 1 28 (dk_at dksL_law_85 0 rfl rfl)
theorem dL_law_2231 : decode cL_law 2231 = .ok (.istore 6, 2) := dk_54 6 (dk_at dksL_law_85 3 rfl rfl)
theorem dL_law_2233 : decode cL_law 2233 = .ok (.aload_n 2, 1) := dk_44 (dk_at dksL_law_85 5 rfl rfl)
theorem dL_law_2234 : decode cL_law 2234 = .ok (.invokevirtual 175, 3) := dk_182 0 175 (dk_at dksL_law_85 6 rfl rfl)
theorem dL_law_2237 : decode cL_law 2237 = .ok (.iload 5, 2) := dk_21 5 (dk_at dksL_law_85 9 rfl rfl)
theorem dL_law_2239 : decode cL_law 2239 = .ok (.if_icmp .eq 5, 3) := dk_159 0 5 (dk_at dksL_law_85 11 rfl rfl)
theorem dL_law_2242 : decode cL_law 2242 = .ok (.iconst 0, 1) := dk_3 (dk_at dksL_law_85 14 rfl rfl)
theorem dL_law_2243 : decode cL_law 2243 = .ok (.ireturn, 1) := dk_172 (dk_at dksL_law_85 15 rfl rfl)
theorem dL_law_2244 : decode cL_law 2244 = .ok (.iload 5, 2) := dk_21 5 (dk_at dksL_law_85 16 rfl rfl)
theorem dL_law_2246 : decode cL_law 2246 = .ok (.ifCond .ne 22, 3) := dk_154 0 22 (dk_at dksL_law_85 18 rfl rfl)
theorem dL_law_2249 : decode cL_law 2249 = .ok (.aload_n 3, 1) := dk_45 (dk_at dksL_law_85 21 rfl rfl)
theorem dL_law_2250 : decode cL_law 2250 = .ok (.iconst 0, 1) := dk_3 (dk_at dksL_law_85 22 rfl rfl)
theorem dL_law_2251 : decode cL_law 2251 = .ok (.laload, 1) := dk_47 (dk_at dksL_law_85 23 rfl rfl)
theorem dL_law_2252 : decode cL_law 2252 = .ok (.iload 6, 2) := dk_21 6 (dk_at dksL_law_86 0 rfl rfl)
theorem dL_law_2254 : decode cL_law 2254 = .ok (.ifCond .eq 7, 3) := dk_153 0 7 (dk_at dksL_law_86 2 rfl rfl)
theorem dL_law_2257 : decode cL_law 2257 = .ok (.lconst 1, 1) := dk_10 (dk_at dksL_law_86 5 rfl rfl)
theorem dL_law_2258 : decode cL_law 2258 = .ok (.goto 4, 3) := dk_167 0 4 (dk_at dksL_law_86 6 rfl rfl)
theorem dL_law_2261 : decode cL_law 2261 = .ok (.lconst 0, 1) := dk_9 (dk_at dksL_law_86 9 rfl rfl)
theorem dL_law_2262 : decode cL_law 2262 = .ok (.lcmp, 1) := dk_148 (dk_at dksL_law_86 10 rfl rfl)
theorem dL_law_2263 : decode cL_law 2263 = .ok (.ifCond .eq 5, 3) := dk_153 0 5 (dk_at dksL_law_86 11 rfl rfl)
theorem dL_law_2266 : decode cL_law 2266 = .ok (.iconst 0, 1) := dk_3 (dk_at dksL_law_86 14 rfl rfl)
theorem dL_law_2267 : decode cL_law 2267 = .ok (.ireturn, 1) := dk_172 (dk_at dksL_law_86 15 rfl rfl)
theorem dL_law_2268 : decode cL_law 2268 = .ok (.goto 1063, 3) := dk_167 4 39 (dk_at dksL_law_86 16 rfl rfl)
theorem dL_law_2271 : decode cL_law 2271 = .ok (.aload_n 1, 1) := dk_43 (dk_at dksL_law_86 19 rfl rfl)
theorem dL_law_2272 : decode cL_law 2272 = .ok (.aload_n 0, 1) := dk_42 (dk_at dksL_law_86 20 rfl rfl)
theorem dL_law_2273 : decode cL_law 2273 = .ok (.iload 4, 2) := dk_21 4 (dk_at dksL_law_86 21 rfl rfl)
theorem dL_law_2275 : decode cL_law 2275 = .ok (.iconst 1, 1) := dk_4 (dk_at dksL_law_86 23 rfl rfl)
theorem dL_law_2276 : decode cL_law 2276 = .ok (.iadd, 1) := dk_96 (dk_at dksL_law_87 0 rfl rfl)
theorem dL_law_2277 : decode cL_law 2277 = .ok (.iaload, 1) := dk_46 (dk_at dksL_law_87 1 rfl rfl)
theorem dL_law_2278 : decode cL_law 2278 = .ok (.aload_n 3, 1) := dk_45 (dk_at dksL_law_87 2 rfl rfl)
theorem dL_law_2279 : decode cL_law 2279 = .ok (.invokestatic 285, 3) := dk_184 1 29 (dk_at dksL_law_87 3 rfl rfl)
theorem dL_law_2282 : decode cL_law 2282 = .ok (.istore 5, 2) := dk_54 5 (dk_at dksL_law_87 6 rfl rfl)
theorem dL_law_2284 : decode cL_law 2284 = .ok (.aload_n 2, 1) := dk_44 (dk_at dksL_law_87 8 rfl rfl)
theorem dL_law_2285 : decode cL_law 2285 = .ok (.aload_n 0, 1) := dk_42 (dk_at dksL_law_87 9 rfl rfl)
theorem dL_law_2286 : decode cL_law 2286 = .ok (.iload 4, 2) := dk_21 4 (dk_at dksL_law_87 10 rfl rfl)
theorem dL_law_2288 : decode cL_law 2288 = .ok (.iconst 1, 1) := dk_4 (dk_at dksL_law_87 12 rfl rfl)
theorem dL_law_2289 : decode cL_law 2289 = .ok (.iadd, 1) := dk_96 (dk_at dksL_law_87 13 rfl rfl)
theorem dL_law_2290 : decode cL_law 2290 = .ok (.iaload, 1) := dk_46 (dk_at dksL_law_87 14 rfl rfl)
theorem dL_law_2291 : decode cL_law 2291 = .ok (.invokevirtual 287, 3) := dk_182 1 31 (dk_at dksL_law_87 15 rfl rfl)
theorem dL_law_2294 : decode cL_law 2294 = .ok (.istore 6, 2) := dk_54 6 (dk_at dksL_law_87 18 rfl rfl)
theorem dL_law_2296 : decode cL_law 2296 = .ok (.aload_n 2, 1) := dk_44 (dk_at dksL_law_87 20 rfl rfl)
theorem dL_law_2297 : decode cL_law 2297 = .ok (.invokevirtual 175, 3) := dk_182 0 175 (dk_at dksL_law_87 21 rfl rfl)
theorem dL_law_2300 : decode cL_law 2300 = .ok (.iload 5, 2) := dk_21 5 (dk_at dksL_law_88 0 rfl rfl)
theorem dL_law_2302 : decode cL_law 2302 = .ok (.if_icmp .eq 5, 3) := dk_159 0 5 (dk_at dksL_law_88 2 rfl rfl)
theorem dL_law_2305 : decode cL_law 2305 = .ok (.iconst 0, 1) := dk_3 (dk_at dksL_law_88 5 rfl rfl)
theorem dL_law_2306 : decode cL_law 2306 = .ok (.ireturn, 1) := dk_172 (dk_at dksL_law_88 6 rfl rfl)
theorem dL_law_2307 : decode cL_law 2307 = .ok (.iload 5, 2) := dk_21 5 (dk_at dksL_law_88 7 rfl rfl)
theorem dL_law_2309 : decode cL_law 2309 = .ok (.ifCond .ne 15, 3) := dk_154 0 15 (dk_at dksL_law_88 9 rfl rfl)
theorem dL_law_2312 : decode cL_law 2312 = .ok (.aload_n 3, 1) := dk_45 (dk_at dksL_law_88 12 rfl rfl)
theorem dL_law_2313 : decode cL_law 2313 = .ok (.iconst 0, 1) := dk_3 (dk_at dksL_law_88 13 rfl rfl)
theorem dL_law_2314 : decode cL_law 2314 = .ok (.laload, 1) := dk_47 (dk_at dksL_law_88 14 rfl rfl)
theorem dL_law_2315 : decode cL_law 2315 = .ok (.iload 6, 2) := dk_21 6 (dk_at dksL_law_88 15 rfl rfl)
theorem dL_law_2317 : decode cL_law 2317 = .ok (.i2l, 1) := dk_133 (dk_at dksL_law_88 17 rfl rfl)
theorem dL_law_2318 : decode cL_law 2318 = .ok (.lcmp, 1) := dk_148 (dk_at dksL_law_88 18 rfl rfl)
theorem dL_law_2319 : decode cL_law 2319 = .ok (.ifCond .eq 5, 3) := dk_153 0 5 (dk_at dksL_law_88 19 rfl rfl)
theorem dL_law_2322 : decode cL_law 2322 = .ok (.iconst 0, 1) := dk_3 (dk_at dksL_law_88 22 rfl rfl)
theorem dL_law_2323 : decode cL_law 2323 = .ok (.ireturn, 1) := dk_172 (dk_at dksL_law_88 23 rfl rfl)
theorem dL_law_2324 : decode cL_law 2324 = .ok (.goto 1007, 3) := dk_167 3 239 (dk_at dksL_law_89 0 rfl rfl)
theorem dL_law_2327 : decode cL_law 2327 = .ok (.aload_n 1, 1) := dk_43 (dk_at dksL_law_89 3 rfl rfl)
theorem dL_law_2328 : decode cL_law 2328 = .ok (.aload_n 0, 1) := dk_42 (dk_at dksL_law_89 4 rfl rfl)
theorem dL_law_2329 : decode cL_law 2329 = .ok (.iload 4, 2) := dk_21 4 (dk_at dksL_law_89 5 rfl rfl)
theorem dL_law_2331 : decode cL_law 2331 = .ok (.iconst 1, 1) := dk_4 (dk_at dksL_law_89 7 rfl rfl)
theorem dL_law_2332 : decode cL_law 2332 = .ok (.iadd, 1) := dk_96 (dk_at dksL_law_89 8 rfl rfl)
theorem dL_law_2333 : decode cL_law 2333 = .ok (.iaload, 1) := dk_46 (dk_at dksL_law_89 9 rfl rfl)
theorem dL_law_2334 : decode cL_law 2334 = .ok (.aload_n 3, 1) := dk_45 (dk_at dksL_law_89 10 rfl rfl)
theorem dL_law_2335 : decode cL_law 2335 = .ok (.invokestatic 288, 3) := dk_184 1 32 (dk_at dksL_law_89 11 rfl rfl)
theorem dL_law_2338 : decode cL_law 2338 = .ok (.istore 5, 2) := dk_54 5 (dk_at dksL_law_89 14 rfl rfl)
theorem dL_law_2340 : decode cL_law 2340 = .ok (.aload_n 2, 1) := dk_44 (dk_at dksL_law_89 16 rfl rfl)
theorem dL_law_2341 : decode cL_law 2341 = .ok (.aload_n 0, 1) := dk_42 (dk_at dksL_law_89 17 rfl rfl)
theorem dL_law_2342 : decode cL_law 2342 = .ok (.iload 4, 2) := dk_21 4 (dk_at dksL_law_89 18 rfl rfl)
theorem dL_law_2344 : decode cL_law 2344 = .ok (.iconst 1, 1) := dk_4 (dk_at dksL_law_89 20 rfl rfl)
theorem dL_law_2345 : decode cL_law 2345 = .ok (.iadd, 1) := dk_96 (dk_at dksL_law_89 21 rfl rfl)
theorem dL_law_2346 : decode cL_law 2346 = .ok (.iaload, 1) := dk_46 (dk_at dksL_law_89 22 rfl rfl)
theorem dL_law_2347 : decode cL_law 2347 = .ok (.invokevirtual 290, 3) := dk_182 1 34 (dk_at dksL_law_90 0 rfl rfl)
theorem dL_law_2350 : decode cL_law 2350 = .ok (.istore 6, 2) := dk_54 6 (dk_at dksL_law_90 3 rfl rfl)
theorem dL_law_2352 : decode cL_law 2352 = .ok (.aload_n 2, 1) := dk_44 (dk_at dksL_law_90 5 rfl rfl)
theorem dL_law_2353 : decode cL_law 2353 = .ok (.invokevirtual 175, 3) := dk_182 0 175 (dk_at dksL_law_90 6 rfl rfl)
theorem dL_law_2356 : decode cL_law 2356 = .ok (.iload 5, 2) := dk_21 5 (dk_at dksL_law_90 9 rfl rfl)
theorem dL_law_2358 : decode cL_law 2358 = .ok (.if_icmp .eq 5, 3) := dk_159 0 5 (dk_at dksL_law_90 11 rfl rfl)
theorem dL_law_2361 : decode cL_law 2361 = .ok (.iconst 0, 1) := dk_3 (dk_at dksL_law_90 14 rfl rfl)
theorem dL_law_2362 : decode cL_law 2362 = .ok (.ireturn, 1) := dk_172 (dk_at dksL_law_90 15 rfl rfl)
theorem dL_law_2363 : decode cL_law 2363 = .ok (.iload 5, 2) := dk_21 5 (dk_at dksL_law_90 16 rfl rfl)
theorem dL_law_2365 : decode cL_law 2365 = .ok (.ifCond .ne 15, 3) := dk_154 0 15 (dk_at dksL_law_90 18 rfl rfl)
theorem dL_law_2368 : decode cL_law 2368 = .ok (.aload_n 3, 1) := dk_45 (dk_at dksL_law_90 21 rfl rfl)
theorem dL_law_2369 : decode cL_law 2369 = .ok (.iconst 0, 1) := dk_3 (dk_at dksL_law_90 22 rfl rfl)
theorem dL_law_2370 : decode cL_law 2370 = .ok (.laload, 1) := dk_47 (dk_at dksL_law_90 23 rfl rfl)
theorem dL_law_2371 : decode cL_law 2371 = .ok (.iload 6, 2) := dk_21 6 (dk_at dksL_law_91 0 rfl rfl)
theorem dL_law_2373 : decode cL_law 2373 = .ok (.i2l, 1) := dk_133 (dk_at dksL_law_91 2 rfl rfl)
theorem dL_law_2374 : decode cL_law 2374 = .ok (.lcmp, 1) := dk_148 (dk_at dksL_law_91 3 rfl rfl)
theorem dL_law_2375 : decode cL_law 2375 = .ok (.ifCond .eq 5, 3) := dk_153 0 5 (dk_at dksL_law_91 4 rfl rfl)
theorem dL_law_2378 : decode cL_law 2378 = .ok (.iconst 0, 1) := dk_3 (dk_at dksL_law_91 7 rfl rfl)
theorem dL_law_2379 : decode cL_law 2379 = .ok (.ireturn, 1) := dk_172 (dk_at dksL_law_91 8 rfl rfl)
theorem dL_law_2380 : decode cL_law 2380 = .ok (.goto 951, 3) := dk_167 3 183 (dk_at dksL_law_91 9 rfl rfl)
theorem dL_law_2383 : decode cL_law 2383 = .ok (.aload_n 1, 1) := dk_43 (dk_at dksL_law_91 12 rfl rfl)
theorem dL_law_2384 : decode cL_law 2384 = .ok (.aload_n 0, 1) := dk_42 (dk_at dksL_law_91 13 rfl rfl)
theorem dL_law_2385 : decode cL_law 2385 = .ok (.iload 4, 2) := dk_21 4 (dk_at dksL_law_91 14 rfl rfl)
theorem dL_law_2387 : decode cL_law 2387 = .ok (.iconst 1, 1) := dk_4 (dk_at dksL_law_91 16 rfl rfl)
theorem dL_law_2388 : decode cL_law 2388 = .ok (.iadd, 1) := dk_96 (dk_at dksL_law_91 17 rfl rfl)
theorem dL_law_2389 : decode cL_law 2389 = .ok (.iaload, 1) := dk_46 (dk_at dksL_law_91 18 rfl rfl)
theorem dL_law_2390 : decode cL_law 2390 = .ok (.aload_n 3, 1) := dk_45 (dk_at dksL_law_91 19 rfl rfl)
theorem dL_law_2391 : decode cL_law 2391 = .ok (.invokestatic 291, 3) := dk_184 1 35 (dk_at dksL_law_91 20 rfl rfl)
theorem dL_law_2394 : decode cL_law 2394 = .ok (.istore 5, 2) := dk_54 5 (dk_at dksL_law_92 0 rfl rfl)
theorem dL_law_2396 : decode cL_law 2396 = .ok (.aload_n 2, 1) := dk_44 (dk_at dksL_law_92 2 rfl rfl)
theorem dL_law_2397 : decode cL_law 2397 = .ok (.aload_n 0, 1) := dk_42 (dk_at dksL_law_92 3 rfl rfl)
theorem dL_law_2398 : decode cL_law 2398 = .ok (.iload 4, 2) := dk_21 4 (dk_at dksL_law_92 4 rfl rfl)
theorem dL_law_2400 : decode cL_law 2400 = .ok (.iconst 1, 1) := dk_4 (dk_at dksL_law_92 6 rfl rfl)
theorem dL_law_2401 : decode cL_law 2401 = .ok (.iadd, 1) := dk_96 (dk_at dksL_law_92 7 rfl rfl)
theorem dL_law_2402 : decode cL_law 2402 = .ok (.iaload, 1) := dk_46 (dk_at dksL_law_92 8 rfl rfl)
theorem dL_law_2403 : decode cL_law 2403 = .ok (.invokevirtual 293, 3) := dk_182 1 37 (dk_at dksL_law_92 9 rfl rfl)
theorem dL_law_2406 : decode cL_law 2406 = .ok (.istore 6, 2) := dk_54 6 (dk_at dksL_law_92 12 rfl rfl)
theorem dL_law_2408 : decode cL_law 2408 = .ok (.aload_n 2, 1) := dk_44 (dk_at dksL_law_92 14 rfl rfl)
theorem dL_law_2409 : decode cL_law 2409 = .ok (.invokevirtual 175, 3) := dk_182 0 175 (dk_at dksL_law_92 15 rfl rfl)
theorem dL_law_2412 : decode cL_law 2412 = .ok (.iload 5, 2) := dk_21 5 (dk_at dksL_law_92 18 rfl rfl)
theorem dL_law_2414 : decode cL_law 2414 = .ok (.if_icmp .eq 5, 3) := dk_159 0 5 (dk_at dksL_law_92 20 rfl rfl)
theorem dL_law_2417 : decode cL_law 2417 = .ok (.iconst 0, 1) := dk_3 (dk_at dksL_law_92 23 rfl rfl)
theorem dL_law_2418 : decode cL_law 2418 = .ok (.ireturn, 1) := dk_172 (dk_at dksL_law_93 0 rfl rfl)
theorem dL_law_2419 : decode cL_law 2419 = .ok (.iload 5, 2) := dk_21 5 (dk_at dksL_law_93 1 rfl rfl)
theorem dL_law_2421 : decode cL_law 2421 = .ok (.ifCond .ne 15, 3) := dk_154 0 15 (dk_at dksL_law_93 3 rfl rfl)
theorem dL_law_2424 : decode cL_law 2424 = .ok (.aload_n 3, 1) := dk_45 (dk_at dksL_law_93 6 rfl rfl)
theorem dL_law_2425 : decode cL_law 2425 = .ok (.iconst 0, 1) := dk_3 (dk_at dksL_law_93 7 rfl rfl)
theorem dL_law_2426 : decode cL_law 2426 = .ok (.laload, 1) := dk_47 (dk_at dksL_law_93 8 rfl rfl)
theorem dL_law_2427 : decode cL_law 2427 = .ok (.iload 6, 2) := dk_21 6 (dk_at dksL_law_93 9 rfl rfl)
theorem dL_law_2429 : decode cL_law 2429 = .ok (.i2l, 1) := dk_133 (dk_at dksL_law_93 11 rfl rfl)
theorem dL_law_2430 : decode cL_law 2430 = .ok (.lcmp, 1) := dk_148 (dk_at dksL_law_93 12 rfl rfl)
theorem dL_law_2431 : decode cL_law 2431 = .ok (.ifCond .eq 5, 3) := dk_153 0 5 (dk_at dksL_law_93 13 rfl rfl)
theorem dL_law_2434 : decode cL_law 2434 = .ok (.iconst 0, 1) := dk_3 (dk_at dksL_law_93 16 rfl rfl)
theorem dL_law_2435 : decode cL_law 2435 = .ok (.ireturn, 1) := dk_172 (dk_at dksL_law_93 17 rfl rfl)
theorem dL_law_2436 : decode cL_law 2436 = .ok (.goto 895, 3) := dk_167 3 127 (dk_at dksL_law_93 18 rfl rfl)
theorem dL_law_2439 : decode cL_law 2439 = .ok (.aload_n 1, 1) := dk_43 (dk_at dksL_law_93 21 rfl rfl)
theorem dL_law_2440 : decode cL_law 2440 = .ok (.aload_n 0, 1) := dk_42 (dk_at dksL_law_93 22 rfl rfl)
theorem dL_law_2441 : decode cL_law 2441 = .ok (.iload 4, 2) := dk_21 4 (dk_at dksL_law_94 0 rfl rfl)
theorem dL_law_2443 : decode cL_law 2443 = .ok (.iconst 1, 1) := dk_4 (dk_at dksL_law_94 2 rfl rfl)
theorem dL_law_2444 : decode cL_law 2444 = .ok (.iadd, 1) := dk_96 (dk_at dksL_law_94 3 rfl rfl)
theorem dL_law_2445 : decode cL_law 2445 = .ok (.iaload, 1) := dk_46 (dk_at dksL_law_94 4 rfl rfl)
theorem dL_law_2446 : decode cL_law 2446 = .ok (.aload_n 3, 1) := dk_45 (dk_at dksL_law_94 5 rfl rfl)
theorem dL_law_2447 : decode cL_law 2447 = .ok (.invokestatic 294, 3) := dk_184 1 38 (dk_at dksL_law_94 6 rfl rfl)
theorem dL_law_2450 : decode cL_law 2450 = .ok (.istore 5, 2) := dk_54 5 (dk_at dksL_law_94 9 rfl rfl)
theorem dL_law_2452 : decode cL_law 2452 = .ok (.aload_n 2, 1) := dk_44 (dk_at dksL_law_94 11 rfl rfl)
theorem dL_law_2453 : decode cL_law 2453 = .ok (.aload_n 0, 1) := dk_42 (dk_at dksL_law_94 12 rfl rfl)
theorem dL_law_2454 : decode cL_law 2454 = .ok (.iload 4, 2) := dk_21 4 (dk_at dksL_law_94 13 rfl rfl)
theorem dL_law_2456 : decode cL_law 2456 = .ok (.iconst 1, 1) := dk_4 (dk_at dksL_law_94 15 rfl rfl)
theorem dL_law_2457 : decode cL_law 2457 = .ok (.iadd, 1) := dk_96 (dk_at dksL_law_94 16 rfl rfl)
theorem dL_law_2458 : decode cL_law 2458 = .ok (.iaload, 1) := dk_46 (dk_at dksL_law_94 17 rfl rfl)
theorem dL_law_2459 : decode cL_law 2459 = .ok (.invokevirtual 296, 3) := dk_182 1 40 (dk_at dksL_law_94 18 rfl rfl)
theorem dL_law_2462 : decode cL_law 2462 = .ok (.istore 6, 2) := dk_54 6 (dk_at dksL_law_94 21 rfl rfl)
theorem dL_law_2464 : decode cL_law 2464 = .ok (.aload_n 2, 1) := dk_44 (dk_at dksL_law_94 23 rfl rfl)
theorem dL_law_2465 : decode cL_law 2465 = .ok (.invokevirtual 175, 3) := dk_182 0 175 (dk_at dksL_law_95 0 rfl rfl)
theorem dL_law_2468 : decode cL_law 2468 = .ok (.iload 5, 2) := dk_21 5 (dk_at dksL_law_95 3 rfl rfl)
theorem dL_law_2470 : decode cL_law 2470 = .ok (.if_icmp .eq 5, 3) := dk_159 0 5 (dk_at dksL_law_95 5 rfl rfl)
theorem dL_law_2473 : decode cL_law 2473 = .ok (.iconst 0, 1) := dk_3 (dk_at dksL_law_95 8 rfl rfl)
theorem dL_law_2474 : decode cL_law 2474 = .ok (.ireturn, 1) := dk_172 (dk_at dksL_law_95 9 rfl rfl)
theorem dL_law_2475 : decode cL_law 2475 = .ok (.iload 5, 2) := dk_21 5 (dk_at dksL_law_95 10 rfl rfl)
theorem dL_law_2477 : decode cL_law 2477 = .ok (.ifCond .ne 15, 3) := dk_154 0 15 (dk_at dksL_law_95 12 rfl rfl)
theorem dL_law_2480 : decode cL_law 2480 = .ok (.aload_n 3, 1) := dk_45 (dk_at dksL_law_95 15 rfl rfl)
theorem dL_law_2481 : decode cL_law 2481 = .ok (.iconst 0, 1) := dk_3 (dk_at dksL_law_95 16 rfl rfl)
theorem dL_law_2482 : decode cL_law 2482 = .ok (.laload, 1) := dk_47 (dk_at dksL_law_95 17 rfl rfl)
theorem dL_law_2483 : decode cL_law 2483 = .ok (.iload 6, 2) := dk_21 6 (dk_at dksL_law_95 18 rfl rfl)
theorem dL_law_2485 : decode cL_law 2485 = .ok (.i2l, 1) := dk_133 (dk_at dksL_law_95 20 rfl rfl)
theorem dL_law_2486 : decode cL_law 2486 = .ok (.lcmp, 1) := dk_148 (dk_at dksL_law_95 21 rfl rfl)
theorem dL_law_2487 : decode cL_law 2487 = .ok (.ifCond .eq 5, 3) := dk_153 0 5 (dk_at dksL_law_96 0 rfl rfl)
theorem dL_law_2490 : decode cL_law 2490 = .ok (.iconst 0, 1) := dk_3 (dk_at dksL_law_96 3 rfl rfl)
theorem dL_law_2491 : decode cL_law 2491 = .ok (.ireturn, 1) := dk_172 (dk_at dksL_law_96 4 rfl rfl)
theorem dL_law_2492 : decode cL_law 2492 = .ok (.goto 839, 3) := dk_167 3 71 (dk_at dksL_law_96 5 rfl rfl)
theorem dL_law_2495 : decode cL_law 2495 = .ok (.aload_n 1, 1) := dk_43 (dk_at dksL_law_96 8 rfl rfl)
theorem dL_law_2496 : decode cL_law 2496 = .ok (.invokevirtual 297, 3) := dk_182 1 41 (dk_at dksL_law_96 9 rfl rfl)
theorem dL_law_2499 : decode cL_law 2499 = .ok (.aload_n 2, 1) := dk_44 (dk_at dksL_law_96 12 rfl rfl)
theorem dL_law_2500 : decode cL_law 2500 = .ok (.invokevirtual 300, 3) := dk_182 1 44 (dk_at dksL_law_96 13 rfl rfl)
theorem dL_law_2503 : decode cL_law 2503 = .ok (.if_icmp .eq 828, 3) := dk_159 3 60 (dk_at dksL_law_96 16 rfl rfl)
theorem dL_law_2506 : decode cL_law 2506 = .ok (.iconst 0, 1) := dk_3 (dk_at dksL_law_96 19 rfl rfl)
theorem dL_law_2507 : decode cL_law 2507 = .ok (.ireturn, 1) := dk_172 (dk_at dksL_law_96 20 rfl rfl)
theorem dL_law_2508 : decode cL_law 2508 = .ok (.aload_n 1, 1) := dk_43 (dk_at dksL_law_96 21 rfl rfl)
theorem dL_law_2509 : decode cL_law 2509 = .ok (.invokevirtual 301, 3) := dk_182 1 45 (dk_at dksL_law_97 0 rfl rfl)
theorem dL_law_2512 : decode cL_law 2512 = .ok (.aload_n 2, 1) := dk_44 (dk_at dksL_law_97 3 rfl rfl)
theorem dL_law_2513 : decode cL_law 2513 = .ok (.invokevirtual 304, 3) := dk_182 1 48 (dk_at dksL_law_97 4 rfl rfl)
theorem dL_law_2516 : decode cL_law 2516 = .ok (.if_icmp .eq 815, 3) := dk_159 3 47 (dk_at dksL_law_97 7 rfl rfl)
theorem dL_law_2519 : decode cL_law 2519 = .ok (.iconst 0, 1) := dk_3 (dk_at dksL_law_97 10 rfl rfl)
theorem dL_law_2520 : decode cL_law 2520 = .ok (.ireturn, 1) := dk_172 (dk_at dksL_law_97 11 rfl rfl)
theorem dL_law_2521 : decode cL_law 2521 = .ok (.aload_n 1, 1) := dk_43 (dk_at dksL_law_97 12 rfl rfl)
theorem dL_law_2522 : decode cL_law 2522 = .ok (.aload_n 0, 1) := dk_42 (dk_at dksL_law_97 13 rfl rfl)
theorem dL_law_2523 : decode cL_law 2523 = .ok (.iload 4, 2) := dk_21 4 (dk_at dksL_law_97 14 rfl rfl)
theorem dL_law_2525 : decode cL_law 2525 = .ok (.iconst 1, 1) := dk_4 (dk_at dksL_law_97 16 rfl rfl)
theorem dL_law_2526 : decode cL_law 2526 = .ok (.iadd, 1) := dk_96 (dk_at dksL_law_97 17 rfl rfl)
theorem dL_law_2527 : decode cL_law 2527 = .ok (.iaload, 1) := dk_46 (dk_at dksL_law_97 18 rfl rfl)
theorem dL_law_2528 : decode cL_law 2528 = .ok (.aload_n 3, 1) := dk_45 (dk_at dksL_law_97 19 rfl rfl)
theorem dL_law_2529 : decode cL_law 2529 = .ok (.invokestatic 305, 3) := dk_184 1 49 (dk_at dksL_law_97 20 rfl rfl)
theorem dL_law_2532 : decode cL_law 2532 = .ok (.istore 5, 2) := dk_54 5 (dk_at dksL_law_98 0 rfl rfl)
theorem dL_law_2534 : decode cL_law 2534 = .ok (.aload_n 2, 1) := dk_44 (dk_at dksL_law_98 2 rfl rfl)
theorem dL_law_2535 : decode cL_law 2535 = .ok (.aload_n 0, 1) := dk_42 (dk_at dksL_law_98 3 rfl rfl)
theorem dL_law_2536 : decode cL_law 2536 = .ok (.iload 4, 2) := dk_21 4 (dk_at dksL_law_98 4 rfl rfl)
theorem dL_law_2538 : decode cL_law 2538 = .ok (.iconst 1, 1) := dk_4 (dk_at dksL_law_98 6 rfl rfl)
theorem dL_law_2539 : decode cL_law 2539 = .ok (.iadd, 1) := dk_96 (dk_at dksL_law_98 7 rfl rfl)
theorem dL_law_2540 : decode cL_law 2540 = .ok (.iaload, 1) := dk_46 (dk_at dksL_law_98 8 rfl rfl)
theorem dL_law_2541 : decode cL_law 2541 = .ok (.invokevirtual 307, 3) := dk_182 1 51 (dk_at dksL_law_98 9 rfl rfl)
theorem dL_law_2544 : decode cL_law 2544 = .ok (.istore 6, 2) := dk_54 6 (dk_at dksL_law_98 12 rfl rfl)
theorem dL_law_2546 : decode cL_law 2546 = .ok (.aload_n 2, 1) := dk_44 (dk_at dksL_law_98 14 rfl rfl)
theorem dL_law_2547 : decode cL_law 2547 = .ok (.invokevirtual 175, 3) := dk_182 0 175 (dk_at dksL_law_98 15 rfl rfl)
theorem dL_law_2550 : decode cL_law 2550 = .ok (.iload 5, 2) := dk_21 5 (dk_at dksL_law_98 18 rfl rfl)
theorem dL_law_2552 : decode cL_law 2552 = .ok (.if_icmp .eq 5, 3) := dk_159 0 5 (dk_at dksL_law_98 20 rfl rfl)
theorem dL_law_2555 : decode cL_law 2555 = .ok (.iconst 0, 1) := dk_3 (dk_at dksL_law_98 23 rfl rfl)
theorem dL_law_2556 : decode cL_law 2556 = .ok (.ireturn, 1) := dk_172 (dk_at dksL_law_99 0 rfl rfl)
theorem dL_law_2557 : decode cL_law 2557 = .ok (.iload 5, 2) := dk_21 5 (dk_at dksL_law_99 1 rfl rfl)
theorem dL_law_2559 : decode cL_law 2559 = .ok (.ifCond .ne 15, 3) := dk_154 0 15 (dk_at dksL_law_99 3 rfl rfl)
theorem dL_law_2562 : decode cL_law 2562 = .ok (.aload_n 3, 1) := dk_45 (dk_at dksL_law_99 6 rfl rfl)
theorem dL_law_2563 : decode cL_law 2563 = .ok (.iconst 0, 1) := dk_3 (dk_at dksL_law_99 7 rfl rfl)
theorem dL_law_2564 : decode cL_law 2564 = .ok (.laload, 1) := dk_47 (dk_at dksL_law_99 8 rfl rfl)
theorem dL_law_2565 : decode cL_law 2565 = .ok (.iload 6, 2) := dk_21 6 (dk_at dksL_law_99 9 rfl rfl)
theorem dL_law_2567 : decode cL_law 2567 = .ok (.i2l, 1) := dk_133 (dk_at dksL_law_99 11 rfl rfl)
theorem dL_law_2568 : decode cL_law 2568 = .ok (.lcmp, 1) := dk_148 (dk_at dksL_law_99 12 rfl rfl)
theorem dL_law_2569 : decode cL_law 2569 = .ok (.ifCond .eq 5, 3) := dk_153 0 5 (dk_at dksL_law_99 13 rfl rfl)
theorem dL_law_2572 : decode cL_law 2572 = .ok (.iconst 0, 1) := dk_3 (dk_at dksL_law_99 16 rfl rfl)
theorem dL_law_2573 : decode cL_law 2573 = .ok (.ireturn, 1) := dk_172 (dk_at dksL_law_99 17 rfl rfl)
theorem dL_law_2574 : decode cL_law 2574 = .ok (.goto 757, 3) := dk_167 2 245 (dk_at dksL_law_99 18 rfl rfl)
theorem dL_law_2577 : decode cL_law 2577 = .ok (.aload_n 1, 1) := dk_43 (dk_at dksL_law_99 21 rfl rfl)
theorem dL_law_2578 : decode cL_law 2578 = .ok (.aload_n 0, 1) := dk_42 (dk_at dksL_law_99 22 rfl rfl)
theorem dL_law_2579 : decode cL_law 2579 = .ok (.iload 4, 2) := dk_21 4 (dk_at dksL_law_100 0 rfl rfl)
theorem dL_law_2581 : decode cL_law 2581 = .ok (.iconst 1, 1) := dk_4 (dk_at dksL_law_100 2 rfl rfl)
theorem dL_law_2582 : decode cL_law 2582 = .ok (.iadd, 1) := dk_96 (dk_at dksL_law_100 3 rfl rfl)
theorem dL_law_2583 : decode cL_law 2583 = .ok (.iaload, 1) := dk_46 (dk_at dksL_law_100 4 rfl rfl)
theorem dL_law_2584 : decode cL_law 2584 = .ok (.aload_n 3, 1) := dk_45 (dk_at dksL_law_100 5 rfl rfl)
theorem dL_law_2585 : decode cL_law 2585 = .ok (.invokestatic 308, 3) := dk_184 1 52 (dk_at dksL_law_100 6 rfl rfl)
theorem dL_law_2588 : decode cL_law 2588 = .ok (.istore 5, 2) := dk_54 5 (dk_at dksL_law_100 9 rfl rfl)
theorem dL_law_2590 : decode cL_law 2590 = .ok (.aload_n 2, 1) := dk_44 (dk_at dksL_law_100 11 rfl rfl)
theorem dL_law_2591 : decode cL_law 2591 = .ok (.aload_n 0, 1) := dk_42 (dk_at dksL_law_100 12 rfl rfl)
theorem dL_law_2592 : decode cL_law 2592 = .ok (.iload 4, 2) := dk_21 4 (dk_at dksL_law_100 13 rfl rfl)
theorem dL_law_2594 : decode cL_law 2594 = .ok (.iconst 1, 1) := dk_4 (dk_at dksL_law_100 15 rfl rfl)
theorem dL_law_2595 : decode cL_law 2595 = .ok (.iadd, 1) := dk_96 (dk_at dksL_law_100 16 rfl rfl)
theorem dL_law_2596 : decode cL_law 2596 = .ok (.iaload, 1) := dk_46 (dk_at dksL_law_100 17 rfl rfl)
theorem dL_law_2597 : decode cL_law 2597 = .ok (.invokevirtual 310, 3) := dk_182 1 54 (dk_at dksL_law_100 18 rfl rfl)
theorem dL_law_2600 : decode cL_law 2600 = .ok (.istore 6, 2) := dk_54 6 (dk_at dksL_law_100 21 rfl rfl)
theorem dL_law_2602 : decode cL_law 2602 = .ok (.aload_n 2, 1) := dk_44 (dk_at dksL_law_100 23 rfl rfl)
theorem dL_law_2603 : decode cL_law 2603 = .ok (.invokevirtual 175, 3) := dk_182 0 175 (dk_at dksL_law_101 0 rfl rfl)
theorem dL_law_2606 : decode cL_law 2606 = .ok (.iload 5, 2) := dk_21 5 (dk_at dksL_law_101 3 rfl rfl)
theorem dL_law_2608 : decode cL_law 2608 = .ok (.if_icmp .eq 5, 3) := dk_159 0 5 (dk_at dksL_law_101 5 rfl rfl)
theorem dL_law_2611 : decode cL_law 2611 = .ok (.iconst 0, 1) := dk_3 (dk_at dksL_law_101 8 rfl rfl)
theorem dL_law_2612 : decode cL_law 2612 = .ok (.ireturn, 1) := dk_172 (dk_at dksL_law_101 9 rfl rfl)
theorem dL_law_2613 : decode cL_law 2613 = .ok (.iload 5, 2) := dk_21 5 (dk_at dksL_law_101 10 rfl rfl)
theorem dL_law_2615 : decode cL_law 2615 = .ok (.ifCond .ne 22, 3) := dk_154 0 22 (dk_at dksL_law_101 12 rfl rfl)
theorem dL_law_2618 : decode cL_law 2618 = .ok (.aload_n 3, 1) := dk_45 (dk_at dksL_law_101 15 rfl rfl)
theorem dL_law_2619 : decode cL_law 2619 = .ok (.iconst 0, 1) := dk_3 (dk_at dksL_law_101 16 rfl rfl)
theorem dL_law_2620 : decode cL_law 2620 = .ok (.laload, 1) := dk_47 (dk_at dksL_law_101 17 rfl rfl)
theorem dL_law_2621 : decode cL_law 2621 = .ok (.iload 6, 2) := dk_21 6 (dk_at dksL_law_101 18 rfl rfl)
theorem dL_law_2623 : decode cL_law 2623 = .ok (.ifCond .eq 7, 3) := dk_153 0 7 (dk_at dksL_law_101 20 rfl rfl)
theorem dL_law_2626 : decode cL_law 2626 = .ok (.lconst 1, 1) := dk_10 (dk_at dksL_law_101 23 rfl rfl)
theorem dL_law_2627 : decode cL_law 2627 = .ok (.goto 4, 3) := dk_167 0 4 (dk_at dksL_law_102 0 rfl rfl)
theorem dL_law_2630 : decode cL_law 2630 = .ok (.lconst 0, 1) := dk_9 (dk_at dksL_law_102 3 rfl rfl)
theorem dL_law_2631 : decode cL_law 2631 = .ok (.lcmp, 1) := dk_148 (dk_at dksL_law_102 4 rfl rfl)
theorem dL_law_2632 : decode cL_law 2632 = .ok (.ifCond .eq 5, 3) := dk_153 0 5 (dk_at dksL_law_102 5 rfl rfl)
theorem dL_law_2635 : decode cL_law 2635 = .ok (.iconst 0, 1) := dk_3 (dk_at dksL_law_102 8 rfl rfl)
theorem dL_law_2636 : decode cL_law 2636 = .ok (.ireturn, 1) := dk_172 (dk_at dksL_law_102 9 rfl rfl)
theorem dL_law_2637 : decode cL_law 2637 = .ok (.goto 694, 3) := dk_167 2 182 (dk_at dksL_law_102 10 rfl rfl)
theorem dL_law_2640 : decode cL_law 2640 = .ok (.aload_n 1, 1) := dk_43 (dk_at dksL_law_102 13 rfl rfl)
theorem dL_law_2641 : decode cL_law 2641 = .ok (.aload_n 0, 1) := dk_42 (dk_at dksL_law_102 14 rfl rfl)
theorem dL_law_2642 : decode cL_law 2642 = .ok (.iload 4, 2) := dk_21 4 (dk_at dksL_law_102 15 rfl rfl)
theorem dL_law_2644 : decode cL_law 2644 = .ok (.iconst 1, 1) := dk_4 (dk_at dksL_law_102 17 rfl rfl)
theorem dL_law_2645 : decode cL_law 2645 = .ok (.iadd, 1) := dk_96 (dk_at dksL_law_102 18 rfl rfl)
theorem dL_law_2646 : decode cL_law 2646 = .ok (.iaload, 1) := dk_46 (dk_at dksL_law_102 19 rfl rfl)
theorem dL_law_2647 : decode cL_law 2647 = .ok (.aload_n 3, 1) := dk_45 (dk_at dksL_law_102 20 rfl rfl)
theorem dL_law_2648 : decode cL_law 2648 = .ok (.invokestatic 311, 3) := dk_184 1 55 (dk_at dksL_law_102 21 rfl rfl)
theorem dL_law_2651 : decode cL_law 2651 = .ok (.istore 5, 2) := dk_54 5 (dk_at dksL_law_103 0 rfl rfl)
theorem dL_law_2653 : decode cL_law 2653 = .ok (.aload_n 2, 1) := dk_44 (dk_at dksL_law_103 2 rfl rfl)
theorem dL_law_2654 : decode cL_law 2654 = .ok (.aload_n 0, 1) := dk_42 (dk_at dksL_law_103 3 rfl rfl)
theorem dL_law_2655 : decode cL_law 2655 = .ok (.iload 4, 2) := dk_21 4 (dk_at dksL_law_103 4 rfl rfl)
theorem dL_law_2657 : decode cL_law 2657 = .ok (.iconst 1, 1) := dk_4 (dk_at dksL_law_103 6 rfl rfl)
theorem dL_law_2658 : decode cL_law 2658 = .ok (.iadd, 1) := dk_96 (dk_at dksL_law_103 7 rfl rfl)
theorem dL_law_2659 : decode cL_law 2659 = .ok (.iaload, 1) := dk_46 (dk_at dksL_law_103 8 rfl rfl)
theorem dL_law_2660 : decode cL_law 2660 = .ok (.invokevirtual 313, 3) := dk_182 1 57 (dk_at dksL_law_103 9 rfl rfl)
theorem dL_law_2663 : decode cL_law 2663 = .ok (.istore 6, 2) := dk_54 6 (dk_at dksL_law_103 12 rfl rfl)
theorem dL_law_2665 : decode cL_law 2665 = .ok (.aload_n 2, 1) := dk_44 (dk_at dksL_law_103 14 rfl rfl)
theorem dL_law_2666 : decode cL_law 2666 = .ok (.invokevirtual 175, 3) := dk_182 0 175 (dk_at dksL_law_103 15 rfl rfl)
theorem dL_law_2669 : decode cL_law 2669 = .ok (.iload 5, 2) := dk_21 5 (dk_at dksL_law_103 18 rfl rfl)
theorem dL_law_2671 : decode cL_law 2671 = .ok (.if_icmp .eq 5, 3) := dk_159 0 5 (dk_at dksL_law_103 20 rfl rfl)
theorem dL_law_2674 : decode cL_law 2674 = .ok (.iconst 0, 1) := dk_3 (dk_at dksL_law_103 23 rfl rfl)
theorem dL_law_2675 : decode cL_law 2675 = .ok (.ireturn, 1) := dk_172 (dk_at dksL_law_104 0 rfl rfl)
theorem dL_law_2676 : decode cL_law 2676 = .ok (.iload 5, 2) := dk_21 5 (dk_at dksL_law_104 1 rfl rfl)
theorem dL_law_2678 : decode cL_law 2678 = .ok (.ifCond .ne 22, 3) := dk_154 0 22 (dk_at dksL_law_104 3 rfl rfl)
theorem dL_law_2681 : decode cL_law 2681 = .ok (.aload_n 3, 1) := dk_45 (dk_at dksL_law_104 6 rfl rfl)
theorem dL_law_2682 : decode cL_law 2682 = .ok (.iconst 0, 1) := dk_3 (dk_at dksL_law_104 7 rfl rfl)
theorem dL_law_2683 : decode cL_law 2683 = .ok (.laload, 1) := dk_47 (dk_at dksL_law_104 8 rfl rfl)
theorem dL_law_2684 : decode cL_law 2684 = .ok (.iload 6, 2) := dk_21 6 (dk_at dksL_law_104 9 rfl rfl)
theorem dL_law_2686 : decode cL_law 2686 = .ok (.ifCond .eq 7, 3) := dk_153 0 7 (dk_at dksL_law_104 11 rfl rfl)
theorem dL_law_2689 : decode cL_law 2689 = .ok (.lconst 1, 1) := dk_10 (dk_at dksL_law_104 14 rfl rfl)
theorem dL_law_2690 : decode cL_law 2690 = .ok (.goto 4, 3) := dk_167 0 4 (dk_at dksL_law_104 15 rfl rfl)
theorem dL_law_2693 : decode cL_law 2693 = .ok (.lconst 0, 1) := dk_9 (dk_at dksL_law_104 18 rfl rfl)
theorem dL_law_2694 : decode cL_law 2694 = .ok (.lcmp, 1) := dk_148 (dk_at dksL_law_104 19 rfl rfl)
theorem dL_law_2695 : decode cL_law 2695 = .ok (.ifCond .eq 5, 3) := dk_153 0 5 (dk_at dksL_law_104 20 rfl rfl)
theorem dL_law_2698 : decode cL_law 2698 = .ok (.iconst 0, 1) := dk_3 (dk_at dksL_law_104 23 rfl rfl)
theorem dL_law_2699 : decode cL_law 2699 = .ok (.ireturn, 1) := dk_172 (dk_at dksL_law_105 0 rfl rfl)
theorem dL_law_2700 : decode cL_law 2700 = .ok (.goto 631, 3) := dk_167 2 119 (dk_at dksL_law_105 1 rfl rfl)
theorem dL_law_2703 : decode cL_law 2703 = .ok (.aload_n 1, 1) := dk_43 (dk_at dksL_law_105 4 rfl rfl)
theorem dL_law_2704 : decode cL_law 2704 = .ok (.aload_n 0, 1) := dk_42 (dk_at dksL_law_105 5 rfl rfl)
theorem dL_law_2705 : decode cL_law 2705 = .ok (.iload 4, 2) := dk_21 4 (dk_at dksL_law_105 6 rfl rfl)
theorem dL_law_2707 : decode cL_law 2707 = .ok (.iconst 1, 1) := dk_4 (dk_at dksL_law_105 8 rfl rfl)
theorem dL_law_2708 : decode cL_law 2708 = .ok (.iadd, 1) := dk_96 (dk_at dksL_law_105 9 rfl rfl)
theorem dL_law_2709 : decode cL_law 2709 = .ok (.iaload, 1) := dk_46 (dk_at dksL_law_105 10 rfl rfl)
theorem dL_law_2710 : decode cL_law 2710 = .ok (.aload_n 3, 1) := dk_45 (dk_at dksL_law_105 11 rfl rfl)
theorem dL_law_2711 : decode cL_law 2711 = .ok (.invokestatic 314, 3) := dk_184 1 58 (dk_at dksL_law_105 12 rfl rfl)
theorem dL_law_2714 : decode cL_law 2714 = .ok (.istore 5, 2) := dk_54 5 (dk_at dksL_law_105 15 rfl rfl)
theorem dL_law_2716 : decode cL_law 2716 = .ok (.aload_n 2, 1) := dk_44 (dk_at dksL_law_105 17 rfl rfl)
theorem dL_law_2717 : decode cL_law 2717 = .ok (.aload_n 0, 1) := dk_42 (dk_at dksL_law_105 18 rfl rfl)
theorem dL_law_2718 : decode cL_law 2718 = .ok (.iload 4, 2) := dk_21 4 (dk_at dksL_law_105 19 rfl rfl)
theorem dL_law_2720 : decode cL_law 2720 = .ok (.iconst 1, 1) := dk_4 (dk_at dksL_law_105 21 rfl rfl)
theorem dL_law_2721 : decode cL_law 2721 = .ok (.iadd, 1) := dk_96 (dk_at dksL_law_105 22 rfl rfl)
theorem dL_law_2722 : decode cL_law 2722 = .ok (.iaload, 1) := dk_46 (dk_at dksL_law_105 23 rfl rfl)
theorem dL_law_2723 : decode cL_law 2723 = .ok (.invokevirtual 316, 3) := dk_182 1 60 (dk_at dksL_law_106 0 rfl rfl)
theorem dL_law_2726 : decode cL_law 2726 = .ok (.istore 6, 2) := dk_54 6 (dk_at dksL_law_106 3 rfl rfl)
theorem dL_law_2728 : decode cL_law 2728 = .ok (.aload_n 2, 1) := dk_44 (dk_at dksL_law_106 5 rfl rfl)
theorem dL_law_2729 : decode cL_law 2729 = .ok (.invokevirtual 175, 3) := dk_182 0 175 (dk_at dksL_law_106 6 rfl rfl)
theorem dL_law_2732 : decode cL_law 2732 = .ok (.iload 5, 2) := dk_21 5 (dk_at dksL_law_106 9 rfl rfl)
theorem dL_law_2734 : decode cL_law 2734 = .ok (.if_icmp .eq 5, 3) := dk_159 0 5 (dk_at dksL_law_106 11 rfl rfl)
theorem dL_law_2737 : decode cL_law 2737 = .ok (.iconst 0, 1) := dk_3 (dk_at dksL_law_106 14 rfl rfl)
theorem dL_law_2738 : decode cL_law 2738 = .ok (.ireturn, 1) := dk_172 (dk_at dksL_law_106 15 rfl rfl)
theorem dL_law_2739 : decode cL_law 2739 = .ok (.iload 5, 2) := dk_21 5 (dk_at dksL_law_106 16 rfl rfl)
theorem dL_law_2741 : decode cL_law 2741 = .ok (.ifCond .ne 22, 3) := dk_154 0 22 (dk_at dksL_law_106 18 rfl rfl)
theorem dL_law_2744 : decode cL_law 2744 = .ok (.aload_n 3, 1) := dk_45 (dk_at dksL_law_106 21 rfl rfl)
theorem dL_law_2745 : decode cL_law 2745 = .ok (.iconst 0, 1) := dk_3 (dk_at dksL_law_106 22 rfl rfl)
theorem dL_law_2746 : decode cL_law 2746 = .ok (.laload, 1) := dk_47 (dk_at dksL_law_106 23 rfl rfl)
theorem dL_law_2747 : decode cL_law 2747 = .ok (.iload 6, 2) := dk_21 6 (dk_at dksL_law_107 0 rfl rfl)
theorem dL_law_2749 : decode cL_law 2749 = .ok (.ifCond .eq 7, 3) := dk_153 0 7 (dk_at dksL_law_107 2 rfl rfl)
theorem dL_law_2752 : decode cL_law 2752 = .ok (.lconst 1, 1) := dk_10 (dk_at dksL_law_107 5 rfl rfl)
theorem dL_law_2753 : decode cL_law 2753 = .ok (.goto 4, 3) := dk_167 0 4 (dk_at dksL_law_107 6 rfl rfl)
theorem dL_law_2756 : decode cL_law 2756 = .ok (.lconst 0, 1) := dk_9 (dk_at dksL_law_107 9 rfl rfl)
theorem dL_law_2757 : decode cL_law 2757 = .ok (.lcmp, 1) := dk_148 (dk_at dksL_law_107 10 rfl rfl)
theorem dL_law_2758 : decode cL_law 2758 = .ok (.ifCond .eq 5, 3) := dk_153 0 5 (dk_at dksL_law_107 11 rfl rfl)
theorem dL_law_2761 : decode cL_law 2761 = .ok (.iconst 0, 1) := dk_3 (dk_at dksL_law_107 14 rfl rfl)
theorem dL_law_2762 : decode cL_law 2762 = .ok (.ireturn, 1) := dk_172 (dk_at dksL_law_107 15 rfl rfl)
theorem dL_law_2763 : decode cL_law 2763 = .ok (.goto 568, 3) := dk_167 2 56 (dk_at dksL_law_107 16 rfl rfl)
theorem dL_law_2766 : decode cL_law 2766 = .ok (.aload_n 1, 1) := dk_43 (dk_at dksL_law_107 19 rfl rfl)
theorem dL_law_2767 : decode cL_law 2767 = .ok (.invokevirtual 317, 3) := dk_182 1 61 (dk_at dksL_law_107 20 rfl rfl)
theorem dL_law_2770 : decode cL_law 2770 = .ok (.aload_n 2, 1) := dk_44 (dk_at dksL_law_107 23 rfl rfl)
theorem dL_law_2771 : decode cL_law 2771 = .ok (.invokevirtual 320, 3) := dk_182 1 64 (dk_at dksL_law_108 0 rfl rfl)
theorem dL_law_2774 : decode cL_law 2774 = .ok (.if_icmp .eq 557, 3) := dk_159 2 45 (dk_at dksL_law_108 3 rfl rfl)
theorem dL_law_2777 : decode cL_law 2777 = .ok (.iconst 0, 1) := dk_3 (dk_at dksL_law_108 6 rfl rfl)
theorem dL_law_2778 : decode cL_law 2778 = .ok (.ireturn, 1) := dk_172 (dk_at dksL_law_108 7 rfl rfl)
theorem dL_law_2779 : decode cL_law 2779 = .ok (.aload_n 1, 1) := dk_43 (dk_at dksL_law_108 8 rfl rfl)
theorem dL_law_2780 : decode cL_law 2780 = .ok (.invokevirtual 321, 3) := dk_182 1 65 (dk_at dksL_law_108 9 rfl rfl)
theorem dL_law_2783 : decode cL_law 2783 = .ok (.aload_n 2, 1) := dk_44 (dk_at dksL_law_108 12 rfl rfl)
theorem dL_law_2784 : decode cL_law 2784 = .ok (.invokevirtual 324, 3) := dk_182 1 68 (dk_at dksL_law_108 13 rfl rfl)
theorem dL_law_2787 : decode cL_law 2787 = .ok (.if_icmp .eq 544, 3) := dk_159 2 32 (dk_at dksL_law_108 16 rfl rfl)
theorem dL_law_2790 : decode cL_law 2790 = .ok (.iconst 0, 1) := dk_3 (dk_at dksL_law_108 19 rfl rfl)
theorem dL_law_2791 : decode cL_law 2791 = .ok (.ireturn, 1) := dk_172 (dk_at dksL_law_108 20 rfl rfl)
theorem dL_law_2792 : decode cL_law 2792 = .ok (.aload_n 1, 1) := dk_43 (dk_at dksL_law_108 21 rfl rfl)
theorem dL_law_2793 : decode cL_law 2793 = .ok (.invokevirtual 325, 3) := dk_182 1 69 (dk_at dksL_law_109 0 rfl rfl)
theorem dL_law_2796 : decode cL_law 2796 = .ok (.aload_n 2, 1) := dk_44 (dk_at dksL_law_109 3 rfl rfl)
theorem dL_law_2797 : decode cL_law 2797 = .ok (.invokevirtual 328, 3) := dk_182 1 72 (dk_at dksL_law_109 4 rfl rfl)
theorem dL_law_2800 : decode cL_law 2800 = .ok (.if_icmp .eq 531, 3) := dk_159 2 19 (dk_at dksL_law_109 7 rfl rfl)
theorem dL_law_2803 : decode cL_law 2803 = .ok (.iconst 0, 1) := dk_3 (dk_at dksL_law_109 10 rfl rfl)
theorem dL_law_2804 : decode cL_law 2804 = .ok (.ireturn, 1) := dk_172 (dk_at dksL_law_109 11 rfl rfl)
theorem dL_law_2805 : decode cL_law 2805 = .ok (.aload_n 1, 1) := dk_43 (dk_at dksL_law_109 12 rfl rfl)
theorem dL_law_2806 : decode cL_law 2806 = .ok (.invokevirtual 329, 3) := dk_182 1 73 (dk_at dksL_law_109 13 rfl rfl)
theorem dL_law_2809 : decode cL_law 2809 = .ok (.dstore 5, 2) := dk_57 5 (dk_at dksL_law_109 16 rfl rfl)
theorem dL_law_2811 : decode cL_law 2811 = .ok (.aload_n 2, 1) := dk_44 (dk_at dksL_law_109 18 rfl rfl)
theorem dL_law_2812 : decode cL_law 2812 = .ok (.invokevirtual 333, 3) := dk_182 1 77 (dk_at dksL_law_109 19 rfl rfl)
theorem dL_law_2815 : decode cL_law 2815 = .ok (.dstore 7, 2) := dk_57 7 (dk_at dksL_law_109 22 rfl rfl)
theorem dL_law_2817 : decode cL_law 2817 = .ok (.dload 5, 2) := dk_24 5 (dk_at dksL_law_110 0 rfl rfl)
theorem dL_law_2819 : decode cL_law 2819 = .ok (.dload 7, 2) := dk_24 7 (dk_at dksL_law_110 2 rfl rfl)
theorem dL_law_2821 : decode cL_law 2821 = .ok (.dcmp .l, 1) := dk_151 (dk_at dksL_law_110 4 rfl rfl)
theorem dL_law_2822 : decode cL_law 2822 = .ok (.ifCond .eq 21, 3) := dk_153 0 21 (dk_at dksL_law_110 5 rfl rfl)
theorem dL_law_2825 : decode cL_law 2825 = .ok (.dload 5, 2) := dk_24 5 (dk_at dksL_law_110 8 rfl rfl)
theorem dL_law_2827 : decode cL_law 2827 = .ok (.dload 5, 2) := dk_24 5 (dk_at dksL_law_110 10 rfl rfl)
theorem dL_law_2829 : decode cL_law 2829 = .ok (.dcmp .l, 1) := dk_151 (dk_at dksL_law_110 12 rfl rfl)
theorem dL_law_2830 : decode cL_law 2830 = .ok (.ifCond .eq 11, 3) := dk_153 0 11 (dk_at dksL_law_110 13 rfl rfl)
theorem dL_law_2833 : decode cL_law 2833 = .ok (.dload 7, 2) := dk_24 7 (dk_at dksL_law_110 16 rfl rfl)
theorem dL_law_2835 : decode cL_law 2835 = .ok (.dload 7, 2) := dk_24 7 (dk_at dksL_law_110 18 rfl rfl)
theorem dL_law_2837 : decode cL_law 2837 = .ok (.dcmp .l, 1) := dk_151 (dk_at dksL_law_110 20 rfl rfl)
theorem dL_law_2838 : decode cL_law 2838 = .ok (.ifCond .ne 5, 3) := dk_154 0 5 (dk_at dksL_law_110 21 rfl rfl)
theorem dL_law_2841 : decode cL_law 2841 = .ok (.iconst 0, 1) := dk_3 (dk_at dksL_law_111 0 rfl rfl)
theorem dL_law_2842 : decode cL_law 2842 = .ok (.ireturn, 1) := dk_172 (dk_at dksL_law_111 1 rfl rfl)
theorem dL_law_2843 : decode cL_law 2843 = .ok (.goto 488, 3) := dk_167 1 232 (dk_at dksL_law_111 2 rfl rfl)
theorem dL_law_2846 : decode cL_law 2846 = .ok (.aload_n 1, 1) := dk_43 (dk_at dksL_law_111 5 rfl rfl)
theorem dL_law_2847 : decode cL_law 2847 = .ok (.invokevirtual 334, 3) := dk_182 1 78 (dk_at dksL_law_111 6 rfl rfl)
theorem dL_law_2850 : decode cL_law 2850 = .ok (.f2d, 1) := dk_141 (dk_at dksL_law_111 9 rfl rfl)
theorem dL_law_2851 : decode cL_law 2851 = .ok (.dstore 5, 2) := dk_57 5 (dk_at dksL_law_111 10 rfl rfl)
theorem dL_law_2853 : decode cL_law 2853 = .ok (.aload_n 2, 1) := dk_44 (dk_at dksL_law_111 12 rfl rfl)
theorem dL_law_2854 : decode cL_law 2854 = .ok (.invokevirtual 338, 3) := dk_182 1 82 (dk_at dksL_law_111 13 rfl rfl)
theorem dL_law_2857 : decode cL_law 2857 = .ok (.f2d, 1) := dk_141 (dk_at dksL_law_111 16 rfl rfl)
theorem dL_law_2858 : decode cL_law 2858 = .ok (.dstore 7, 2) := dk_57 7 (dk_at dksL_law_111 17 rfl rfl)
theorem dL_law_2860 : decode cL_law 2860 = .ok (.dload 5, 2) := dk_24 5 (dk_at dksL_law_111 19 rfl rfl)
theorem dL_law_2862 : decode cL_law 2862 = .ok (.dload 7, 2) := dk_24 7 (dk_at dksL_law_111 21 rfl rfl)
theorem dL_law_2864 : decode cL_law 2864 = .ok (.dcmp .l, 1) := dk_151 (dk_at dksL_law_111 23 rfl rfl)
theorem dL_law_2865 : decode cL_law 2865 = .ok (.ifCond .eq 21, 3) := dk_153 0 21 (dk_at dksL_law_112 0 rfl rfl)
theorem dL_law_2868 : decode cL_law 2868 = .ok (.dload 5, 2) := dk_24 5 (dk_at dksL_law_112 3 rfl rfl)
theorem dL_law_2870 : decode cL_law 2870 = .ok (.dload 5, 2) := dk_24 5 (dk_at dksL_law_112 5 rfl rfl)
theorem dL_law_2872 : decode cL_law 2872 = .ok (.dcmp .l, 1) := dk_151 (dk_at dksL_law_112 7 rfl rfl)
theorem dL_law_2873 : decode cL_law 2873 = .ok (.ifCond .eq 11, 3) := dk_153 0 11 (dk_at dksL_law_112 8 rfl rfl)
theorem dL_law_2876 : decode cL_law 2876 = .ok (.dload 7, 2) := dk_24 7 (dk_at dksL_law_112 11 rfl rfl)
theorem dL_law_2878 : decode cL_law 2878 = .ok (.dload 7, 2) := dk_24 7 (dk_at dksL_law_112 13 rfl rfl)
theorem dL_law_2880 : decode cL_law 2880 = .ok (.dcmp .l, 1) := dk_151 (dk_at dksL_law_112 15 rfl rfl)
theorem dL_law_2881 : decode cL_law 2881 = .ok (.ifCond .ne 5, 3) := dk_154 0 5 (dk_at dksL_law_112 16 rfl rfl)
theorem dL_law_2884 : decode cL_law 2884 = .ok (.iconst 0, 1) := dk_3 (dk_at dksL_law_112 19 rfl rfl)
theorem dL_law_2885 : decode cL_law 2885 = .ok (.ireturn, 1) := dk_172 (dk_at dksL_law_112 20 rfl rfl)
theorem dL_law_2886 : decode cL_law 2886 = .ok (.goto 445, 3) := dk_167 1 189 (dk_at dksL_law_112 21 rfl rfl)
theorem dL_law_2889 : decode cL_law 2889 = .ok (.aload_n 1, 1) := dk_43 (dk_at dksL_law_113 0 rfl rfl)
theorem dL_law_2890 : decode cL_law 2890 = .ok (.invokevirtual 339, 3) := dk_182 1 83 (dk_at dksL_law_113 1 rfl rfl)
theorem dL_law_2893 : decode cL_law 2893 = .ok (.aload_n 2, 1) := dk_44 (dk_at dksL_law_113 4 rfl rfl)
theorem dL_law_2894 : decode cL_law 2894 = .ok (.invokevirtual 343, 3) := dk_182 1 87 (dk_at dksL_law_113 5 rfl rfl)
theorem dL_law_2897 : decode cL_law 2897 = .ok (.if_icmp .eq 434, 3) := dk_159 1 178 (dk_at dksL_law_113 8 rfl rfl)
theorem dL_law_2900 : decode cL_law 2900 = .ok (.iconst 0, 1) := dk_3 (dk_at dksL_law_113 11 rfl rfl)
theorem dL_law_2901 : decode cL_law 2901 = .ok (.ireturn, 1) := dk_172 (dk_at dksL_law_113 12 rfl rfl)
theorem dL_law_2902 : decode cL_law 2902 = .ok (.aload_n 1, 1) := dk_43 (dk_at dksL_law_113 13 rfl rfl)
theorem dL_law_2903 : decode cL_law 2903 = .ok (.aload_n 0, 1) := dk_42 (dk_at dksL_law_113 14 rfl rfl)
theorem dL_law_2904 : decode cL_law 2904 = .ok (.iload 4, 2) := dk_21 4 (dk_at dksL_law_113 15 rfl rfl)
theorem dL_law_2906 : decode cL_law 2906 = .ok (.iconst 1, 1) := dk_4 (dk_at dksL_law_113 17 rfl rfl)
theorem dL_law_2907 : decode cL_law 2907 = .ok (.iadd, 1) := dk_96 (dk_at dksL_law_113 18 rfl rfl)
theorem dL_law_2908 : decode cL_law 2908 = .ok (.iaload, 1) := dk_46 (dk_at dksL_law_113 19 rfl rfl)
theorem dL_law_2909 : decode cL_law 2909 = .ok (.aload_n 3, 1) := dk_45 (dk_at dksL_law_113 20 rfl rfl)
theorem dL_law_2910 : decode cL_law 2910 = .ok (.invokestatic 344, 3) := dk_184 1 88 (dk_at dksL_law_113 21 rfl rfl)
theorem dL_law_2913 : decode cL_law 2913 = .ok (.istore 5, 2) := dk_54 5 (dk_at dksL_law_114 0 rfl rfl)
theorem dL_law_2915 : decode cL_law 2915 = .ok (.aload_n 2, 1) := dk_44 (dk_at dksL_law_114 2 rfl rfl)
theorem dL_law_2916 : decode cL_law 2916 = .ok (.aload_n 0, 1) := dk_42 (dk_at dksL_law_114 3 rfl rfl)
theorem dL_law_2917 : decode cL_law 2917 = .ok (.iload 4, 2) := dk_21 4 (dk_at dksL_law_114 4 rfl rfl)
theorem dL_law_2919 : decode cL_law 2919 = .ok (.iconst 1, 1) := dk_4 (dk_at dksL_law_114 6 rfl rfl)
theorem dL_law_2920 : decode cL_law 2920 = .ok (.iadd, 1) := dk_96 (dk_at dksL_law_114 7 rfl rfl)
theorem dL_law_2921 : decode cL_law 2921 = .ok (.iaload, 1) := dk_46 (dk_at dksL_law_114 8 rfl rfl)
theorem dL_law_2922 : decode cL_law 2922 = .ok (.invokevirtual 346, 3) := dk_182 1 90 (dk_at dksL_law_114 9 rfl rfl)
theorem dL_law_2925 : decode cL_law 2925 = .ok (.istore 6, 2) := dk_54 6 (dk_at dksL_law_114 12 rfl rfl)
theorem dL_law_2927 : decode cL_law 2927 = .ok (.aload_n 2, 1) := dk_44 (dk_at dksL_law_114 14 rfl rfl)
theorem dL_law_2928 : decode cL_law 2928 = .ok (.invokevirtual 175, 3) := dk_182 0 175 (dk_at dksL_law_114 15 rfl rfl)
theorem dL_law_2931 : decode cL_law 2931 = .ok (.iload 5, 2) := dk_21 5 (dk_at dksL_law_114 18 rfl rfl)
theorem dL_law_2933 : decode cL_law 2933 = .ok (.if_icmp .eq 5, 3) := dk_159 0 5 (dk_at dksL_law_114 20 rfl rfl)
theorem dL_law_2936 : decode cL_law 2936 = .ok (.iconst 0, 1) := dk_3 (dk_at dksL_law_114 23 rfl rfl)
theorem dL_law_2937 : decode cL_law 2937 = .ok (.ireturn, 1) := dk_172 (dk_at dksL_law_115 0 rfl rfl)
theorem dL_law_2938 : decode cL_law 2938 = .ok (.iload 5, 2) := dk_21 5 (dk_at dksL_law_115 1 rfl rfl)
theorem dL_law_2940 : decode cL_law 2940 = .ok (.ifCond .ne 15, 3) := dk_154 0 15 (dk_at dksL_law_115 3 rfl rfl)
theorem dL_law_2943 : decode cL_law 2943 = .ok (.aload_n 3, 1) := dk_45 (dk_at dksL_law_115 6 rfl rfl)
theorem dL_law_2944 : decode cL_law 2944 = .ok (.iconst 0, 1) := dk_3 (dk_at dksL_law_115 7 rfl rfl)
theorem dL_law_2945 : decode cL_law 2945 = .ok (.laload, 1) := dk_47 (dk_at dksL_law_115 8 rfl rfl)
theorem dL_law_2946 : decode cL_law 2946 = .ok (.iload 6, 2) := dk_21 6 (dk_at dksL_law_115 9 rfl rfl)
theorem dL_law_2948 : decode cL_law 2948 = .ok (.i2l, 1) := dk_133 (dk_at dksL_law_115 11 rfl rfl)
theorem dL_law_2949 : decode cL_law 2949 = .ok (.lcmp, 1) := dk_148 (dk_at dksL_law_115 12 rfl rfl)
theorem dL_law_2950 : decode cL_law 2950 = .ok (.ifCond .eq 5, 3) := dk_153 0 5 (dk_at dksL_law_115 13 rfl rfl)
theorem dL_law_2953 : decode cL_law 2953 = .ok (.iconst 0, 1) := dk_3 (dk_at dksL_law_115 16 rfl rfl)
theorem dL_law_2954 : decode cL_law 2954 = .ok (.ireturn, 1) := dk_172 (dk_at dksL_law_115 17 rfl rfl)
theorem dL_law_2955 : decode cL_law 2955 = .ok (.goto 376, 3) := dk_167 1 120 (dk_at dksL_law_115 18 rfl rfl)
theorem dL_law_2958 : decode cL_law 2958 = .ok (.aload_n 1, 1) := dk_43 (dk_at dksL_law_115 21 rfl rfl)
theorem dL_law_2959 : decode cL_law 2959 = .ok (.invokevirtual 347, 3) := dk_182 1 91 (dk_at dksL_law_116 0 rfl rfl)
theorem dL_law_2962 : decode cL_law 2962 = .ok (.aload_n 2, 1) := dk_44 (dk_at dksL_law_116 3 rfl rfl)
theorem dL_law_2963 : decode cL_law 2963 = .ok (.invokevirtual 350, 3) := dk_182 1 94 (dk_at dksL_law_116 4 rfl rfl)
theorem dL_law_2966 : decode cL_law 2966 = .ok (.if_icmp .eq 365, 3) := dk_159 1 109 (dk_at dksL_law_116 7 rfl rfl)
theorem dL_law_2969 : decode cL_law 2969 = .ok (.iconst 0, 1) := dk_3 (dk_at dksL_law_116 10 rfl rfl)
theorem dL_law_2970 : decode cL_law 2970 = .ok (.ireturn, 1) := dk_172 (dk_at dksL_law_116 11 rfl rfl)
theorem dL_law_2971 : decode cL_law 2971 = .ok (.aload_n 1, 1) := dk_43 (dk_at dksL_law_116 12 rfl rfl)
theorem dL_law_2972 : decode cL_law 2972 = .ok (.aload_n 0, 1) := dk_42 (dk_at dksL_law_116 13 rfl rfl)
theorem dL_law_2973 : decode cL_law 2973 = .ok (.iload 4, 2) := dk_21 4 (dk_at dksL_law_116 14 rfl rfl)
theorem dL_law_2975 : decode cL_law 2975 = .ok (.iconst 1, 1) := dk_4 (dk_at dksL_law_116 16 rfl rfl)
theorem dL_law_2976 : decode cL_law 2976 = .ok (.iadd, 1) := dk_96 (dk_at dksL_law_116 17 rfl rfl)
theorem dL_law_2977 : decode cL_law 2977 = .ok (.iaload, 1) := dk_46 (dk_at dksL_law_116 18 rfl rfl)
theorem dL_law_2978 : decode cL_law 2978 = .ok (.aload_n 3, 1) := dk_45 (dk_at dksL_law_116 19 rfl rfl)
theorem dL_law_2979 : decode cL_law 2979 = .ok (.invokestatic 351, 3) := dk_184 1 95 (dk_at dksL_law_116 20 rfl rfl)
theorem dL_law_2982 : decode cL_law 2982 = .ok (.istore 5, 2) := dk_54 5 (dk_at dksL_law_117 0 rfl rfl)
theorem dL_law_2984 : decode cL_law 2984 = .ok (.aload_n 2, 1) := dk_44 (dk_at dksL_law_117 2 rfl rfl)
theorem dL_law_2985 : decode cL_law 2985 = .ok (.aload_n 0, 1) := dk_42 (dk_at dksL_law_117 3 rfl rfl)
theorem dL_law_2986 : decode cL_law 2986 = .ok (.iload 4, 2) := dk_21 4 (dk_at dksL_law_117 4 rfl rfl)
theorem dL_law_2988 : decode cL_law 2988 = .ok (.iconst 1, 1) := dk_4 (dk_at dksL_law_117 6 rfl rfl)
theorem dL_law_2989 : decode cL_law 2989 = .ok (.iadd, 1) := dk_96 (dk_at dksL_law_117 7 rfl rfl)
theorem dL_law_2990 : decode cL_law 2990 = .ok (.iaload, 1) := dk_46 (dk_at dksL_law_117 8 rfl rfl)
theorem dL_law_2991 : decode cL_law 2991 = .ok (.invokevirtual 353, 3) := dk_182 1 97 (dk_at dksL_law_117 9 rfl rfl)
theorem dL_law_2994 : decode cL_law 2994 = .ok (.istore 6, 2) := dk_54 6 (dk_at dksL_law_117 12 rfl rfl)
theorem dL_law_2996 : decode cL_law 2996 = .ok (.aload_n 2, 1) := dk_44 (dk_at dksL_law_117 14 rfl rfl)
theorem dL_law_2997 : decode cL_law 2997 = .ok (.invokevirtual 175, 3) := dk_182 0 175 (dk_at dksL_law_117 15 rfl rfl)
theorem dL_law_3000 : decode cL_law 3000 = .ok (.iload 5, 2) := dk_21 5 (dk_at dksL_law_117 18 rfl rfl)
theorem dL_law_3002 : decode cL_law 3002 = .ok (.if_icmp .eq 5, 3) := dk_159 0 5 (dk_at dksL_law_117 20 rfl rfl)
theorem dL_law_3005 : decode cL_law 3005 = .ok (.iconst 0, 1) := dk_3 (dk_at dksL_law_117 23 rfl rfl)
theorem dL_law_3006 : decode cL_law 3006 = .ok (.ireturn, 1) := dk_172 (dk_at dksL_law_118 0 rfl rfl)
theorem dL_law_3007 : decode cL_law 3007 = .ok (.iload 5, 2) := dk_21 5 (dk_at dksL_law_118 1 rfl rfl)
theorem dL_law_3009 : decode cL_law 3009 = .ok (.ifCond .ne 15, 3) := dk_154 0 15 (dk_at dksL_law_118 3 rfl rfl)
theorem dL_law_3012 : decode cL_law 3012 = .ok (.aload_n 3, 1) := dk_45 (dk_at dksL_law_118 6 rfl rfl)
theorem dL_law_3013 : decode cL_law 3013 = .ok (.iconst 0, 1) := dk_3 (dk_at dksL_law_118 7 rfl rfl)
theorem dL_law_3014 : decode cL_law 3014 = .ok (.laload, 1) := dk_47 (dk_at dksL_law_118 8 rfl rfl)
theorem dL_law_3015 : decode cL_law 3015 = .ok (.iload 6, 2) := dk_21 6 (dk_at dksL_law_118 9 rfl rfl)
theorem dL_law_3017 : decode cL_law 3017 = .ok (.i2l, 1) := dk_133 (dk_at dksL_law_118 11 rfl rfl)
theorem dL_law_3018 : decode cL_law 3018 = .ok (.lcmp, 1) := dk_148 (dk_at dksL_law_118 12 rfl rfl)
theorem dL_law_3019 : decode cL_law 3019 = .ok (.ifCond .eq 5, 3) := dk_153 0 5 (dk_at dksL_law_118 13 rfl rfl)
theorem dL_law_3022 : decode cL_law 3022 = .ok (.iconst 0, 1) := dk_3 (dk_at dksL_law_118 16 rfl rfl)
theorem dL_law_3023 : decode cL_law 3023 = .ok (.ireturn, 1) := dk_172 (dk_at dksL_law_118 17 rfl rfl)
theorem dL_law_3024 : decode cL_law 3024 = .ok (.goto 307, 3) := dk_167 1 51 (dk_at dksL_law_118 18 rfl rfl)
theorem dL_law_3027 : decode cL_law 3027 = .ok (.aload_n 1, 1) := dk_43 (dk_at dksL_law_118 21 rfl rfl)
theorem dL_law_3028 : decode cL_law 3028 = .ok (.aload_n 0, 1) := dk_42 (dk_at dksL_law_118 22 rfl rfl)
theorem dL_law_3029 : decode cL_law 3029 = .ok (.iload 4, 2) := dk_21 4 (dk_at dksL_law_119 0 rfl rfl)
theorem dL_law_3031 : decode cL_law 3031 = .ok (.iconst 1, 1) := dk_4 (dk_at dksL_law_119 2 rfl rfl)
theorem dL_law_3032 : decode cL_law 3032 = .ok (.iadd, 1) := dk_96 (dk_at dksL_law_119 3 rfl rfl)
theorem dL_law_3033 : decode cL_law 3033 = .ok (.iaload, 1) := dk_46 (dk_at dksL_law_119 4 rfl rfl)
theorem dL_law_3034 : decode cL_law 3034 = .ok (.i2c, 1) := dk_146 (dk_at dksL_law_119 5 rfl rfl)
theorem dL_law_3035 : decode cL_law 3035 = .ok (.aload_n 3, 1) := dk_45 (dk_at dksL_law_119 6 rfl rfl)
theorem dL_law_3036 : decode cL_law 3036 = .ok (.invokestatic 354, 3) := dk_184 1 98 (dk_at dksL_law_119 7 rfl rfl)
theorem dL_law_3039 : decode cL_law 3039 = .ok (.istore 5, 2) := dk_54 5 (dk_at dksL_law_119 10 rfl rfl)
theorem dL_law_3041 : decode cL_law 3041 = .ok (.aload_n 2, 1) := dk_44 (dk_at dksL_law_119 12 rfl rfl)
theorem dL_law_3042 : decode cL_law 3042 = .ok (.aload_n 0, 1) := dk_42 (dk_at dksL_law_119 13 rfl rfl)
theorem dL_law_3043 : decode cL_law 3043 = .ok (.iload 4, 2) := dk_21 4 (dk_at dksL_law_119 14 rfl rfl)
theorem dL_law_3045 : decode cL_law 3045 = .ok (.iconst 1, 1) := dk_4 (dk_at dksL_law_119 16 rfl rfl)
theorem dL_law_3046 : decode cL_law 3046 = .ok (.iadd, 1) := dk_96 (dk_at dksL_law_119 17 rfl rfl)
theorem dL_law_3047 : decode cL_law 3047 = .ok (.iaload, 1) := dk_46 (dk_at dksL_law_119 18 rfl rfl)
theorem dL_law_3048 : decode cL_law 3048 = .ok (.i2c, 1) := dk_146 (dk_at dksL_law_119 19 rfl rfl)
theorem dL_law_3049 : decode cL_law 3049 = .ok (.invokevirtual 357, 3) := dk_182 1 101 (dk_at dksL_law_119 20 rfl rfl)
theorem dL_law_3052 : decode cL_law 3052 = .ok (.istore 6, 2) := dk_54 6 (dk_at dksL_law_120 0 rfl rfl)
theorem dL_law_3054 : decode cL_law 3054 = .ok (.aload_n 2, 1) := dk_44 (dk_at dksL_law_120 2 rfl rfl)
theorem dL_law_3055 : decode cL_law 3055 = .ok (.invokevirtual 175, 3) := dk_182 0 175 (dk_at dksL_law_120 3 rfl rfl)
theorem dL_law_3058 : decode cL_law 3058 = .ok (.iload 5, 2) := dk_21 5 (dk_at dksL_law_120 6 rfl rfl)
theorem dL_law_3060 : decode cL_law 3060 = .ok (.if_icmp .eq 5, 3) := dk_159 0 5 (dk_at dksL_law_120 8 rfl rfl)
theorem dL_law_3063 : decode cL_law 3063 = .ok (.iconst 0, 1) := dk_3 (dk_at dksL_law_120 11 rfl rfl)
theorem dL_law_3064 : decode cL_law 3064 = .ok (.ireturn, 1) := dk_172 (dk_at dksL_law_120 12 rfl rfl)
theorem dL_law_3065 : decode cL_law 3065 = .ok (.iload 5, 2) := dk_21 5 (dk_at dksL_law_120 13 rfl rfl)
theorem dL_law_3067 : decode cL_law 3067 = .ok (.ifCond .ne 15, 3) := dk_154 0 15 (dk_at dksL_law_120 15 rfl rfl)
theorem dL_law_3070 : decode cL_law 3070 = .ok (.aload_n 3, 1) := dk_45 (dk_at dksL_law_120 18 rfl rfl)
theorem dL_law_3071 : decode cL_law 3071 = .ok (.iconst 0, 1) := dk_3 (dk_at dksL_law_120 19 rfl rfl)
theorem dL_law_3072 : decode cL_law 3072 = .ok (.laload, 1) := dk_47 (dk_at dksL_law_120 20 rfl rfl)
theorem dL_law_3073 : decode cL_law 3073 = .ok (.iload 6, 2) := dk_21 6 (dk_at dksL_law_120 21 rfl rfl)
theorem dL_law_3075 : decode cL_law 3075 = .ok (.i2l, 1) := dk_133 (dk_at dksL_law_120 23 rfl rfl)
theorem dL_law_3076 : decode cL_law 3076 = .ok (.lcmp, 1) := dk_148 (dk_at dksL_law_121 0 rfl rfl)
theorem dL_law_3077 : decode cL_law 3077 = .ok (.ifCond .eq 5, 3) := dk_153 0 5 (dk_at dksL_law_121 1 rfl rfl)
theorem dL_law_3080 : decode cL_law 3080 = .ok (.iconst 0, 1) := dk_3 (dk_at dksL_law_121 4 rfl rfl)
theorem dL_law_3081 : decode cL_law 3081 = .ok (.ireturn, 1) := dk_172 (dk_at dksL_law_121 5 rfl rfl)
theorem dL_law_3082 : decode cL_law 3082 = .ok (.goto 249, 3) := dk_167 0 249 (dk_at dksL_law_121 6 rfl rfl)
theorem dL_law_3085 : decode cL_law 3085 = .ok (.aload_n 1, 1) := dk_43 (dk_at dksL_law_121 9 rfl rfl)
theorem dL_law_3086 : decode cL_law 3086 = .ok (.aload_n 3, 1) := dk_45 (dk_at dksL_law_121 10 rfl rfl)
theorem dL_law_3087 : decode cL_law 3087 = .ok (.invokestatic 358, 3) := dk_184 1 102 (dk_at dksL_law_121 11 rfl rfl)
theorem dL_law_3090 : decode cL_law 3090 = .ok (.istore 5, 2) := dk_54 5 (dk_at dksL_law_121 14 rfl rfl)
theorem dL_law_3092 : decode cL_law 3092 = .ok (.aload_n 2, 1) := dk_44 (dk_at dksL_law_121 16 rfl rfl)
theorem dL_law_3093 : decode cL_law 3093 = .ok (.invokevirtual 360, 3) := dk_182 1 104 (dk_at dksL_law_121 17 rfl rfl)
theorem dL_law_3096 : decode cL_law 3096 = .ok (.istore 6, 2) := dk_54 6 (dk_at dksL_law_121 20 rfl rfl)
theorem dL_law_3098 : decode cL_law 3098 = .ok (.aload_n 2, 1) := dk_44 (dk_at dksL_law_121 22 rfl rfl)
theorem dL_law_3099 : decode cL_law 3099 = .ok (.invokevirtual 175, 3) := dk_182 0 175 (dk_at dksL_law_122 0 rfl rfl)
theorem dL_law_3102 : decode cL_law 3102 = .ok (.iload 5, 2) := dk_21 5 (dk_at dksL_law_122 3 rfl rfl)
theorem dL_law_3104 : decode cL_law 3104 = .ok (.if_icmp .eq 5, 3) := dk_159 0 5 (dk_at dksL_law_122 5 rfl rfl)
theorem dL_law_3107 : decode cL_law 3107 = .ok (.iconst 0, 1) := dk_3 (dk_at dksL_law_122 8 rfl rfl)
theorem dL_law_3108 : decode cL_law 3108 = .ok (.ireturn, 1) := dk_172 (dk_at dksL_law_122 9 rfl rfl)
theorem dL_law_3109 : decode cL_law 3109 = .ok (.iload 5, 2) := dk_21 5 (dk_at dksL_law_122 10 rfl rfl)
theorem dL_law_3111 : decode cL_law 3111 = .ok (.ifCond .ne 15, 3) := dk_154 0 15 (dk_at dksL_law_122 12 rfl rfl)
theorem dL_law_3114 : decode cL_law 3114 = .ok (.aload_n 3, 1) := dk_45 (dk_at dksL_law_122 15 rfl rfl)
theorem dL_law_3115 : decode cL_law 3115 = .ok (.iconst 0, 1) := dk_3 (dk_at dksL_law_122 16 rfl rfl)
theorem dL_law_3116 : decode cL_law 3116 = .ok (.laload, 1) := dk_47 (dk_at dksL_law_122 17 rfl rfl)
theorem dL_law_3117 : decode cL_law 3117 = .ok (.iload 6, 2) := dk_21 6 (dk_at dksL_law_122 18 rfl rfl)
theorem dL_law_3119 : decode cL_law 3119 = .ok (.i2l, 1) := dk_133 (dk_at dksL_law_122 20 rfl rfl)
theorem dL_law_3120 : decode cL_law 3120 = .ok (.lcmp, 1) := dk_148 (dk_at dksL_law_122 21 rfl rfl)
theorem dL_law_3121 : decode cL_law 3121 = .ok (.ifCond .eq 5, 3) := dk_153 0 5 (dk_at dksL_law_123 0 rfl rfl)
theorem dL_law_3124 : decode cL_law 3124 = .ok (.iconst 0, 1) := dk_3 (dk_at dksL_law_123 3 rfl rfl)
theorem dL_law_3125 : decode cL_law 3125 = .ok (.ireturn, 1) := dk_172 (dk_at dksL_law_123 4 rfl rfl)
theorem dL_law_3126 : decode cL_law 3126 = .ok (.goto 205, 3) := dk_167 0 205 (dk_at dksL_law_123 5 rfl rfl)
theorem dL_law_3129 : decode cL_law 3129 = .ok (.aload_n 1, 1) := dk_43 (dk_at dksL_law_123 8 rfl rfl)
theorem dL_law_3130 : decode cL_law 3130 = .ok (.aload_n 3, 1) := dk_45 (dk_at dksL_law_123 9 rfl rfl)
theorem dL_law_3131 : decode cL_law 3131 = .ok (.invokestatic 361, 3) := dk_184 1 105 (dk_at dksL_law_123 10 rfl rfl)
theorem dL_law_3134 : decode cL_law 3134 = .ok (.istore 5, 2) := dk_54 5 (dk_at dksL_law_123 13 rfl rfl)
theorem dL_law_3136 : decode cL_law 3136 = .ok (.aload_n 2, 1) := dk_44 (dk_at dksL_law_123 15 rfl rfl)
theorem dL_law_3137 : decode cL_law 3137 = .ok (.invokevirtual 363, 3) := dk_182 1 107 (dk_at dksL_law_123 16 rfl rfl)
theorem dL_law_3140 : decode cL_law 3140 = .ok (.istore 6, 2) := dk_54 6 (dk_at dksL_law_123 19 rfl rfl)
theorem dL_law_3142 : decode cL_law 3142 = .ok (.aload_n 2, 1) := dk_44 (dk_at dksL_law_123 21 rfl rfl)
theorem dL_law_3143 : decode cL_law 3143 = .ok (.invokevirtual 175, 3) := dk_182 0 175 (dk_at dksL_law_124 0 rfl rfl)
theorem dL_law_3146 : decode cL_law 3146 = .ok (.iload 5, 2) := dk_21 5 (dk_at dksL_law_124 3 rfl rfl)
theorem dL_law_3148 : decode cL_law 3148 = .ok (.if_icmp .eq 5, 3) := dk_159 0 5 (dk_at dksL_law_124 5 rfl rfl)
theorem dL_law_3151 : decode cL_law 3151 = .ok (.iconst 0, 1) := dk_3 (dk_at dksL_law_124 8 rfl rfl)
theorem dL_law_3152 : decode cL_law 3152 = .ok (.ireturn, 1) := dk_172 (dk_at dksL_law_124 9 rfl rfl)
theorem dL_law_3153 : decode cL_law 3153 = .ok (.iload 5, 2) := dk_21 5 (dk_at dksL_law_124 10 rfl rfl)
theorem dL_law_3155 : decode cL_law 3155 = .ok (.ifCond .ne 15, 3) := dk_154 0 15 (dk_at dksL_law_124 12 rfl rfl)
theorem dL_law_3158 : decode cL_law 3158 = .ok (.aload_n 3, 1) := dk_45 (dk_at dksL_law_124 15 rfl rfl)
theorem dL_law_3159 : decode cL_law 3159 = .ok (.iconst 0, 1) := dk_3 (dk_at dksL_law_124 16 rfl rfl)
theorem dL_law_3160 : decode cL_law 3160 = .ok (.laload, 1) := dk_47 (dk_at dksL_law_124 17 rfl rfl)
theorem dL_law_3161 : decode cL_law 3161 = .ok (.iload 6, 2) := dk_21 6 (dk_at dksL_law_124 18 rfl rfl)
theorem dL_law_3163 : decode cL_law 3163 = .ok (.i2l, 1) := dk_133 (dk_at dksL_law_124 20 rfl rfl)
theorem dL_law_3164 : decode cL_law 3164 = .ok (.lcmp, 1) := dk_148 (dk_at dksL_law_124 21 rfl rfl)
theorem dL_law_3165 : decode cL_law 3165 = .ok (.ifCond .eq 5, 3) := dk_153 0 5 (dk_at dksL_law_125 0 rfl rfl)
theorem dL_law_3168 : decode cL_law 3168 = .ok (.iconst 0, 1) := dk_3 (dk_at dksL_law_125 3 rfl rfl)
theorem dL_law_3169 : decode cL_law 3169 = .ok (.ireturn, 1) := dk_172 (dk_at dksL_law_125 4 rfl rfl)
theorem dL_law_3170 : decode cL_law 3170 = .ok (.goto 161, 3) := dk_167 0 161 (dk_at dksL_law_125 5 rfl rfl)
theorem dL_law_3173 : decode cL_law 3173 = .ok (.aload_n 1, 1) := dk_43 (dk_at dksL_law_125 8 rfl rfl)
theorem dL_law_3174 : decode cL_law 3174 = .ok (.aload_n 3, 1) := dk_45 (dk_at dksL_law_125 9 rfl rfl)
theorem dL_law_3175 : decode cL_law 3175 = .ok (.invokestatic 364, 3) := dk_184 1 108 (dk_at dksL_law_125 10 rfl rfl)
theorem dL_law_3178 : decode cL_law 3178 = .ok (.istore 5, 2) := dk_54 5 (dk_at dksL_law_125 13 rfl rfl)
theorem dL_law_3180 : decode cL_law 3180 = .ok (.aload_n 2, 1) := dk_44 (dk_at dksL_law_125 15 rfl rfl)
theorem dL_law_3181 : decode cL_law 3181 = .ok (.invokevirtual 366, 3) := dk_182 1 110 (dk_at dksL_law_125 16 rfl rfl)
theorem dL_law_3184 : decode cL_law 3184 = .ok (.istore 6, 2) := dk_54 6 (dk_at dksL_law_125 19 rfl rfl)
theorem dL_law_3186 : decode cL_law 3186 = .ok (.aload_n 2, 1) := dk_44 (dk_at dksL_law_125 21 rfl rfl)
theorem dL_law_3187 : decode cL_law 3187 = .ok (.invokevirtual 175, 3) := dk_182 0 175 (dk_at dksL_law_126 0 rfl rfl)
theorem dL_law_3190 : decode cL_law 3190 = .ok (.iload 5, 2) := dk_21 5 (dk_at dksL_law_126 3 rfl rfl)
theorem dL_law_3192 : decode cL_law 3192 = .ok (.if_icmp .eq 5, 3) := dk_159 0 5 (dk_at dksL_law_126 5 rfl rfl)
theorem dL_law_3195 : decode cL_law 3195 = .ok (.iconst 0, 1) := dk_3 (dk_at dksL_law_126 8 rfl rfl)
theorem dL_law_3196 : decode cL_law 3196 = .ok (.ireturn, 1) := dk_172 (dk_at dksL_law_126 9 rfl rfl)
theorem dL_law_3197 : decode cL_law 3197 = .ok (.iload 5, 2) := dk_21 5 (dk_at dksL_law_126 10 rfl rfl)
theorem dL_law_3199 : decode cL_law 3199 = .ok (.ifCond .ne 15, 3) := dk_154 0 15 (dk_at dksL_law_126 12 rfl rfl)
theorem dL_law_3202 : decode cL_law 3202 = .ok (.aload_n 3, 1) := dk_45 (dk_at dksL_law_126 15 rfl rfl)
theorem dL_law_3203 : decode cL_law 3203 = .ok (.iconst 0, 1) := dk_3 (dk_at dksL_law_126 16 rfl rfl)
theorem dL_law_3204 : decode cL_law 3204 = .ok (.laload, 1) := dk_47 (dk_at dksL_law_126 17 rfl rfl)
theorem dL_law_3205 : decode cL_law 3205 = .ok (.iload 6, 2) := dk_21 6 (dk_at dksL_law_126 18 rfl rfl)
theorem dL_law_3207 : decode cL_law 3207 = .ok (.i2l, 1) := dk_133 (dk_at dksL_law_126 20 rfl rfl)
theorem dL_law_3208 : decode cL_law 3208 = .ok (.lcmp, 1) := dk_148 (dk_at dksL_law_126 21 rfl rfl)
theorem dL_law_3209 : decode cL_law 3209 = .ok (.ifCond .eq 5, 3) := dk_153 0 5 (dk_at dksL_law_127 0 rfl rfl)
theorem dL_law_3212 : decode cL_law 3212 = .ok (.iconst 0, 1) := dk_3 (dk_at dksL_law_127 3 rfl rfl)
theorem dL_law_3213 : decode cL_law 3213 = .ok (.ireturn, 1) := dk_172 (dk_at dksL_law_127 4 rfl rfl)
theorem dL_law_3214 : decode cL_law 3214 = .ok (.goto 117, 3) := dk_167 0 117 (dk_at dksL_law_127 5 rfl rfl)
theorem dL_law_3217 : decode cL_law 3217 = .ok (.aload_n 1, 1) := dk_43 (dk_at dksL_law_127 8 rfl rfl)
theorem dL_law_3218 : decode cL_law 3218 = .ok (.invokevirtual 367, 3) := dk_182 1 111 (dk_at dksL_law_127 9 rfl rfl)
theorem dL_law_3221 : decode cL_law 3221 = .ok (.aload_n 2, 1) := dk_44 (dk_at dksL_law_127 12 rfl rfl)
theorem dL_law_3222 : decode cL_law 3222 = .ok (.invokevirtual 370, 3) := dk_182 1 114 (dk_at dksL_law_127 13 rfl rfl)
theorem dL_law_3225 : decode cL_law 3225 = .ok (.if_icmp .eq 106, 3) := dk_159 0 106 (dk_at dksL_law_127 16 rfl rfl)
theorem dL_law_3228 : decode cL_law 3228 = .ok (.iconst 0, 1) := dk_3 (dk_at dksL_law_127 19 rfl rfl)
theorem dL_law_3229 : decode cL_law 3229 = .ok (.ireturn, 1) := dk_172 (dk_at dksL_law_127 20 rfl rfl)
theorem dL_law_3230 : decode cL_law 3230 = .ok (.aload_n 1, 1) := dk_43 (dk_at dksL_law_127 21 rfl rfl)
theorem dL_law_3231 : decode cL_law 3231 = .ok (.aload_n 3, 1) := dk_45 (dk_at dksL_law_127 22 rfl rfl)
theorem dL_law_3232 : decode cL_law 3232 = .ok (.invokestatic 371, 3) := dk_184 1 115 (dk_at dksL_law_128 0 rfl rfl)
theorem dL_law_3235 : decode cL_law 3235 = .ok (.istore 5, 2) := dk_54 5 (dk_at dksL_law_128 3 rfl rfl)
theorem dL_law_3237 : decode cL_law 3237 = .ok (.aload_n 2, 1) := dk_44 (dk_at dksL_law_128 5 rfl rfl)
theorem dL_law_3238 : decode cL_law 3238 = .ok (.invokevirtual 373, 3) := dk_182 1 117 (dk_at dksL_law_128 6 rfl rfl)
theorem dL_law_3241 : decode cL_law 3241 = .ok (.istore 6, 2) := dk_54 6 (dk_at dksL_law_128 9 rfl rfl)
theorem dL_law_3243 : decode cL_law 3243 = .ok (.aload_n 2, 1) := dk_44 (dk_at dksL_law_128 11 rfl rfl)
theorem dL_law_3244 : decode cL_law 3244 = .ok (.invokevirtual 175, 3) := dk_182 0 175 (dk_at dksL_law_128 12 rfl rfl)
theorem dL_law_3247 : decode cL_law 3247 = .ok (.iload 5, 2) := dk_21 5 (dk_at dksL_law_128 15 rfl rfl)
theorem dL_law_3249 : decode cL_law 3249 = .ok (.if_icmp .eq 5, 3) := dk_159 0 5 (dk_at dksL_law_128 17 rfl rfl)
theorem dL_law_3252 : decode cL_law 3252 = .ok (.iconst 0, 1) := dk_3 (dk_at dksL_law_128 20 rfl rfl)
theorem dL_law_3253 : decode cL_law 3253 = .ok (.ireturn, 1) := dk_172 (dk_at dksL_law_128 21 rfl rfl)
theorem dL_law_3254 : decode cL_law 3254 = .ok (.iload 5, 2) := dk_21 5 (dk_at dksL_law_128 22 rfl rfl)
theorem dL_law_3256 : decode cL_law 3256 = .ok (.ifCond .ne 15, 3) := dk_154 0 15 (dk_at dksL_law_129 0 rfl rfl)
theorem dL_law_3259 : decode cL_law 3259 = .ok (.aload_n 3, 1) := dk_45 (dk_at dksL_law_129 3 rfl rfl)
theorem dL_law_3260 : decode cL_law 3260 = .ok (.iconst 0, 1) := dk_3 (dk_at dksL_law_129 4 rfl rfl)
theorem dL_law_3261 : decode cL_law 3261 = .ok (.laload, 1) := dk_47 (dk_at dksL_law_129 5 rfl rfl)
theorem dL_law_3262 : decode cL_law 3262 = .ok (.iload 6, 2) := dk_21 6 (dk_at dksL_law_129 6 rfl rfl)
theorem dL_law_3264 : decode cL_law 3264 = .ok (.i2l, 1) := dk_133 (dk_at dksL_law_129 8 rfl rfl)
theorem dL_law_3265 : decode cL_law 3265 = .ok (.lcmp, 1) := dk_148 (dk_at dksL_law_129 9 rfl rfl)
theorem dL_law_3266 : decode cL_law 3266 = .ok (.ifCond .eq 5, 3) := dk_153 0 5 (dk_at dksL_law_129 10 rfl rfl)
theorem dL_law_3269 : decode cL_law 3269 = .ok (.iconst 0, 1) := dk_3 (dk_at dksL_law_129 13 rfl rfl)
theorem dL_law_3270 : decode cL_law 3270 = .ok (.ireturn, 1) := dk_172 (dk_at dksL_law_129 14 rfl rfl)
theorem dL_law_3271 : decode cL_law 3271 = .ok (.goto 60, 3) := dk_167 0 60 (dk_at dksL_law_129 15 rfl rfl)
theorem dL_law_3274 : decode cL_law 3274 = .ok (.aload_n 1, 1) := dk_43 (dk_at dksL_law_129 18 rfl rfl)
theorem dL_law_3275 : decode cL_law 3275 = .ok (.invokevirtual 374, 3) := dk_182 1 118 (dk_at dksL_law_129 19 rfl rfl)
theorem dL_law_3278 : decode cL_law 3278 = .ok (.aload_n 2, 1) := dk_44 (dk_at dksL_law_129 22 rfl rfl)
theorem dL_law_3279 : decode cL_law 3279 = .ok (.invokevirtual 377, 3) := dk_182 1 121 (dk_at dksL_law_130 0 rfl rfl)
theorem dL_law_3282 : decode cL_law 3282 = .ok (.if_icmp .eq 49, 3) := dk_159 0 49 (dk_at dksL_law_130 3 rfl rfl)
theorem dL_law_3285 : decode cL_law 3285 = .ok (.iconst 0, 1) := dk_3 (dk_at dksL_law_130 6 rfl rfl)
theorem dL_law_3286 : decode cL_law 3286 = .ok (.ireturn, 1) := dk_172 (dk_at dksL_law_130 7 rfl rfl)
theorem dL_law_3287 : decode cL_law 3287 = .ok (.aload_n 1, 1) := dk_43 (dk_at dksL_law_130 8 rfl rfl)
theorem dL_law_3288 : decode cL_law 3288 = .ok (.aload_n 3, 1) := dk_45 (dk_at dksL_law_130 9 rfl rfl)
theorem dL_law_3289 : decode cL_law 3289 = .ok (.invokestatic 378, 3) := dk_184 1 122 (dk_at dksL_law_130 10 rfl rfl)
theorem dL_law_3292 : decode cL_law 3292 = .ok (.istore 5, 2) := dk_54 5 (dk_at dksL_law_130 13 rfl rfl)
theorem dL_law_3294 : decode cL_law 3294 = .ok (.aload_n 2, 1) := dk_44 (dk_at dksL_law_130 15 rfl rfl)
theorem dL_law_3295 : decode cL_law 3295 = .ok (.invokevirtual 380, 3) := dk_182 1 124 (dk_at dksL_law_130 16 rfl rfl)
theorem dL_law_3298 : decode cL_law 3298 = .ok (.istore 6, 2) := dk_54 6 (dk_at dksL_law_130 19 rfl rfl)
theorem dL_law_3300 : decode cL_law 3300 = .ok (.aload_n 2, 1) := dk_44 (dk_at dksL_law_130 21 rfl rfl)
theorem dL_law_3301 : decode cL_law 3301 = .ok (.invokevirtual 175, 3) := dk_182 0 175 (dk_at dksL_law_131 0 rfl rfl)
theorem dL_law_3304 : decode cL_law 3304 = .ok (.iload 5, 2) := dk_21 5 (dk_at dksL_law_131 3 rfl rfl)
theorem dL_law_3306 : decode cL_law 3306 = .ok (.if_icmp .eq 5, 3) := dk_159 0 5 (dk_at dksL_law_131 5 rfl rfl)
theorem dL_law_3309 : decode cL_law 3309 = .ok (.iconst 0, 1) := dk_3 (dk_at dksL_law_131 8 rfl rfl)
theorem dL_law_3310 : decode cL_law 3310 = .ok (.ireturn, 1) := dk_172 (dk_at dksL_law_131 9 rfl rfl)
theorem dL_law_3311 : decode cL_law 3311 = .ok (.iload 5, 2) := dk_21 5 (dk_at dksL_law_131 10 rfl rfl)
theorem dL_law_3313 : decode cL_law 3313 = .ok (.ifCond .ne 15, 3) := dk_154 0 15 (dk_at dksL_law_131 12 rfl rfl)
theorem dL_law_3316 : decode cL_law 3316 = .ok (.aload_n 3, 1) := dk_45 (dk_at dksL_law_131 15 rfl rfl)
theorem dL_law_3317 : decode cL_law 3317 = .ok (.iconst 0, 1) := dk_3 (dk_at dksL_law_131 16 rfl rfl)
theorem dL_law_3318 : decode cL_law 3318 = .ok (.laload, 1) := dk_47 (dk_at dksL_law_131 17 rfl rfl)
theorem dL_law_3319 : decode cL_law 3319 = .ok (.iload 6, 2) := dk_21 6 (dk_at dksL_law_131 18 rfl rfl)
theorem dL_law_3321 : decode cL_law 3321 = .ok (.i2l, 1) := dk_133 (dk_at dksL_law_131 20 rfl rfl)
theorem dL_law_3322 : decode cL_law 3322 = .ok (.lcmp, 1) := dk_148 (dk_at dksL_law_131 21 rfl rfl)
theorem dL_law_3323 : decode cL_law 3323 = .ok (.ifCond .eq 5, 3) := dk_153 0 5 (dk_at dksL_law_132 0 rfl rfl)
theorem dL_law_3326 : decode cL_law 3326 = .ok (.iconst 0, 1) := dk_3 (dk_at dksL_law_132 3 rfl rfl)
theorem dL_law_3327 : decode cL_law 3327 = .ok (.ireturn, 1) := dk_172 (dk_at dksL_law_132 4 rfl rfl)
theorem dL_law_3328 : decode cL_law 3328 = .ok (.goto 3, 3) := dk_167 0 3 (dk_at dksL_law_132 5 rfl rfl)
theorem dL_law_3331 : decode cL_law 3331 = .ok (.iinc 4 4, 3) := dk_132 4 4 (dk_at dksL_law_132 8 rfl rfl)
theorem dL_law_3334 : decode cL_law 3334 = .ok (.goto (-3311), 3) := dk_167 243 17 (dk_at dksL_law_132 11 rfl rfl)
theorem dL_law_3337 : decode cL_law 3337 = .ok (.iconst 1, 1) := dk_4 (dk_at dksL_law_132 14 rfl rfl)
theorem dL_law_3338 : decode cL_law 3338 = .ok (.ireturn, 1) := dk_172 (dk_at dksL_law_132 15 rfl rfl)
