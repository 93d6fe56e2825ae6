/-! LoopSignalsLaw -/
set_option maxRecDepth 100000
def RX0 : String := "LoopSignalsLaw"
abbrev cX0_size : ByteArray := method_3_code
def yX0_size : MethodName := ⟨RX0, "size", "(LLoopSignals;I[J)I"⟩
def dkwX0_size_0 : List UInt8 := [44, 3, 42, 27, 182, 0, 7, 133, 80, 167, 0, 6, 78, 4, 172, 3, 172]
abbrev dktX0_size_0 : List UInt8 := dkwX0_size_0 ++ []
theorem dksX0_size_0 : cX0_size.data.toList.drop 0 = dktX0_size_0 := by decide +kernel
theorem dX0_size_0 : decode cX0_size 0 = .ok (.aload_n 2, 1) := dk_44 (dk_at dksX0_size_0 0 rfl rfl)
theorem dX0_size_1 : decode cX0_size 1 = .ok (.iconst 0, 1) := dk_3 (dk_at dksX0_size_0 1 rfl rfl)
theorem dX0_size_2 : decode cX0_size 2 = .ok (.aload_n 0, 1) := dk_42 (dk_at dksX0_size_0 2 rfl rfl)
theorem dX0_size_3 : decode cX0_size 3 = .ok (.iload_n 1, 1) := dk_27 (dk_at dksX0_size_0 3 rfl rfl)
theorem dX0_size_4 : decode cX0_size 4 = .ok (.invokevirtual 7, 3) := dk_182 0 7 (dk_at dksX0_size_0 4 rfl rfl)
theorem dX0_size_7 : decode cX0_size 7 = .ok (.i2l, 1) := dk_133 (dk_at dksX0_size_0 7 rfl rfl)
theorem dX0_size_8 : decode cX0_size 8 = .ok (.lastore, 1) := dk_80 (dk_at dksX0_size_0 8 rfl rfl)
theorem dX0_size_9 : decode cX0_size 9 = .ok (.goto 6, 3) := dk_167 0 6 (dk_at dksX0_size_0 9 rfl rfl)
theorem dX0_size_12 : decode cX0_size 12 = .ok (.astore_n 3, 1) := dk_78 (dk_at dksX0_size_0 12 rfl rfl)
theorem dX0_size_13 : decode cX0_size 13 = .ok (.iconst 1, 1) := dk_4 (dk_at dksX0_size_0 13 rfl rfl)
theorem dX0_size_14 : decode cX0_size 14 = .ok (.ireturn, 1) := dk_172 (dk_at dksX0_size_0 14 rfl rfl)
theorem dX0_size_15 : decode cX0_size 15 = .ok (.iconst 0, 1) := dk_3 (dk_at dksX0_size_0 15 rfl rfl)
theorem dX0_size_16 : decode cX0_size 16 = .ok (.ireturn, 1) := dk_172 (dk_at dksX0_size_0 16 rfl rfl)
abbrev cX0_arm : ByteArray := method_4_code
def yX0_arm : MethodName := ⟨RX0, "arm", "(LLoopSignals;II[J)I"⟩
def dkwX0_arm_0 : List UInt8 := [45, 3, 42, 27, 28, 182, 0, 15, 133, 80, 167, 0, 7, 58, 4, 4, 172, 3, 172]
abbrev dktX0_arm_0 : List UInt8 := dkwX0_arm_0 ++ []
theorem dksX0_arm_0 : cX0_arm.data.toList.drop 0 = dktX0_arm_0 := by decide +kernel
theorem dX0_arm_0 : decode cX0_arm 0 = .ok (.aload_n 3, 1) := dk_45 (dk_at dksX0_arm_0 0 rfl rfl)
theorem dX0_arm_1 : decode cX0_arm 1 = .ok (.iconst 0, 1) := dk_3 (dk_at dksX0_arm_0 1 rfl rfl)
theorem dX0_arm_2 : decode cX0_arm 2 = .ok (.aload_n 0, 1) := dk_42 (dk_at dksX0_arm_0 2 rfl rfl)
theorem dX0_arm_3 : decode cX0_arm 3 = .ok (.iload_n 1, 1) := dk_27 (dk_at dksX0_arm_0 3 rfl rfl)
theorem dX0_arm_4 : decode cX0_arm 4 = .ok (.iload_n 2, 1) := dk_28 (dk_at dksX0_arm_0 4 rfl rfl)
theorem dX0_arm_5 : decode cX0_arm 5 = .ok (.invokevirtual 15, 3) := dk_182 0 15 (dk_at dksX0_arm_0 5 rfl rfl)
theorem dX0_arm_8 : decode cX0_arm 8 = .ok (.i2l, 1) := dk_133 (dk_at dksX0_arm_0 8 rfl rfl)
theorem dX0_arm_9 : decode cX0_arm 9 = .ok (.lastore, 1) := dk_80 (dk_at dksX0_arm_0 9 rfl rfl)
theorem dX0_arm_10 : decode cX0_arm 10 = .ok (.goto 7, 3) := dk_167 0 7 (dk_at dksX0_arm_0 10 rfl rfl)
theorem dX0_arm_13 : decode cX0_arm 13 = .ok (.astore 4, 2) := dk_58 4 (dk_at dksX0_arm_0 13 rfl rfl)
theorem dX0_arm_15 : decode cX0_arm 15 = .ok (.iconst 1, 1) := dk_4 (dk_at dksX0_arm_0 15 rfl rfl)
theorem dX0_arm_16 : decode cX0_arm 16 = .ok (.ireturn, 1) := dk_172 (dk_at dksX0_arm_0 16 rfl rfl)
theorem dX0_arm_17 : decode cX0_arm 17 = .ok (.iconst 0, 1) := dk_3 (dk_at dksX0_arm_0 17 rfl rfl)
theorem dX0_arm_18 : decode cX0_arm 18 = .ok (.ireturn, 1) := dk_172 (dk_at dksX0_arm_0 18 rfl rfl)
abbrev cX0_phase : ByteArray := method_5_code
def yX0_phase : MethodName := ⟨RX0, "phase", "(LLoopSignals;II[J)I"⟩
def dkwX0_phase_0 : List UInt8 := [45, 3, 42, 27, 28, 182, 0, 19, 133, 80, 167, 0, 7, 58, 4, 4, 172, 3, 172]
abbrev dktX0_phase_0 : List UInt8 := dkwX0_phase_0 ++ []
theorem dksX0_phase_0 : cX0_phase.data.toList.drop 0 = dktX0_phase_0 := by decide +kernel
theorem dX0_phase_0 : decode cX0_phase 0 = .ok (.aload_n 3, 1) := dk_45 (dk_at dksX0_phase_0 0 rfl rfl)
theorem dX0_phase_1 : decode cX0_phase 1 = .ok (.iconst 0, 1) := dk_3 (dk_at dksX0_phase_0 1 rfl rfl)
theorem dX0_phase_2 : decode cX0_phase 2 = .ok (.aload_n 0, 1) := dk_42 (dk_at dksX0_phase_0 2 rfl rfl)
theorem dX0_phase_3 : decode cX0_phase 3 = .ok (.iload_n 1, 1) := dk_27 (dk_at dksX0_phase_0 3 rfl rfl)
theorem dX0_phase_4 : decode cX0_phase 4 = .ok (.iload_n 2, 1) := dk_28 (dk_at dksX0_phase_0 4 rfl rfl)
theorem dX0_phase_5 : decode cX0_phase 5 = .ok (.invokevirtual 19, 3) := dk_182 0 19 (dk_at dksX0_phase_0 5 rfl rfl)
theorem dX0_phase_8 : decode cX0_phase 8 = .ok (.i2l, 1) := dk_133 (dk_at dksX0_phase_0 8 rfl rfl)
theorem dX0_phase_9 : decode cX0_phase 9 = .ok (.lastore, 1) := dk_80 (dk_at dksX0_phase_0 9 rfl rfl)
theorem dX0_phase_10 : decode cX0_phase 10 = .ok (.goto 7, 3) := dk_167 0 7 (dk_at dksX0_phase_0 10 rfl rfl)
theorem dX0_phase_13 : decode cX0_phase 13 = .ok (.astore 4, 2) := dk_58 4 (dk_at dksX0_phase_0 13 rfl rfl)
theorem dX0_phase_15 : decode cX0_phase 15 = .ok (.iconst 1, 1) := dk_4 (dk_at dksX0_phase_0 15 rfl rfl)
theorem dX0_phase_16 : decode cX0_phase 16 = .ok (.ireturn, 1) := dk_172 (dk_at dksX0_phase_0 16 rfl rfl)
theorem dX0_phase_17 : decode cX0_phase 17 = .ok (.iconst 0, 1) := dk_3 (dk_at dksX0_phase_0 17 rfl rfl)
theorem dX0_phase_18 : decode cX0_phase 18 = .ok (.ireturn, 1) := dk_172 (dk_at dksX0_phase_0 18 rfl rfl)
abbrev cX0_has : ByteArray := method_6_code
def yX0_has : MethodName := ⟨RX0, "has", "(LLoopSignals;II[J)I"⟩
def dkwX0_has_1 : List UInt8 := [3, 172]
abbrev dktX0_has_1 : List UInt8 := dkwX0_has_1 ++ []
def dkwX0_has_0 : List UInt8 := [45, 3, 42, 27, 28, 182, 0, 22, 153, 0, 7, 10, 167, 0, 4, 9, 80, 167, 0, 7, 58, 4, 4, 172]
abbrev dktX0_has_0 : List UInt8 := dkwX0_has_0 ++ dktX0_has_1
theorem dksX0_has_0 : cX0_has.data.toList.drop 0 = dktX0_has_0 := by decide +kernel
theorem dksX0_has_1 : cX0_has.data.toList.drop 24 = dktX0_has_1 := dk_seg dksX0_has_0 24 rfl rfl
theorem dX0_has_0 : decode cX0_has 0 = .ok (.aload_n 3, 1) := dk_45 (dk_at dksX0_has_0 0 rfl rfl)
theorem dX0_has_1 : decode cX0_has 1 = .ok (.iconst 0, 1) := dk_3 (dk_at dksX0_has_0 1 rfl rfl)
theorem dX0_has_2 : decode cX0_has 2 = .ok (.aload_n 0, 1) := dk_42 (dk_at dksX0_has_0 2 rfl rfl)
theorem dX0_has_3 : decode cX0_has 3 = .ok (.iload_n 1, 1) := dk_27 (dk_at dksX0_has_0 3 rfl rfl)
theorem dX0_has_4 : decode cX0_has 4 = .ok (.iload_n 2, 1) := dk_28 (dk_at dksX0_has_0 4 rfl rfl)
theorem dX0_has_5 : decode cX0_has 5 = .ok (.invokevirtual 22, 3) := dk_182 0 22 (dk_at dksX0_has_0 5 rfl rfl)
theorem dX0_has_8 : decode cX0_has 8 = .ok (.ifCond .eq 7, 3) := dk_153 0 7 (dk_at dksX0_has_0 8 rfl rfl)
theorem dX0_has_11 : decode cX0_has 11 = .ok (.lconst 1, 1) := dk_10 (dk_at dksX0_has_0 11 rfl rfl)
theorem dX0_has_12 : decode cX0_has 12 = .ok (.goto 4, 3) := dk_167 0 4 (dk_at dksX0_has_0 12 rfl rfl)
theorem dX0_has_15 : decode cX0_has 15 = .ok (.lconst 0, 1) := dk_9 (dk_at dksX0_has_0 15 rfl rfl)
theorem dX0_has_16 : decode cX0_has 16 = .ok (.lastore, 1) := dk_80 (dk_at dksX0_has_0 16 rfl rfl)
theorem dX0_has_17 : decode cX0_has 17 = .ok (.goto 7, 3) := dk_167 0 7 (dk_at dksX0_has_0 17 rfl rfl)
theorem dX0_has_20 : decode cX0_has 20 = .ok (.astore 4, 2) := dk_58 4 (dk_at dksX0_has_0 20 rfl rfl)
theorem dX0_has_22 : decode cX0_has 22 = .ok (.iconst 1, 1) := dk_4 (dk_at dksX0_has_0 22 rfl rfl)
theorem dX0_has_23 : decode cX0_has 23 = .ok (.ireturn, 1) := dk_172 (dk_at dksX0_has_0 23 rfl rfl)
theorem dX0_has_24 : decode cX0_has 24 = .ok (.iconst 0, 1) := dk_3 (dk_at dksX0_has_1 0 rfl rfl)
theorem dX0_has_25 : decode cX0_has 25 = .ok (.ireturn, 1) := dk_172 (dk_at dksX0_has_1 1 rfl rfl)
abbrev cX0_doClash : ByteArray := method_7_code
def yX0_doClash : MethodName := ⟨RX0, "doClash", "(LLoopSignals;II[J)I"⟩
def dkwX0_doClash_1 : List UInt8 := [3, 172]
abbrev dktX0_doClash_1 : List UInt8 := dkwX0_doClash_1 ++ []
def dkwX0_doClash_0 : List UInt8 := [45, 3, 42, 27, 28, 182, 0, 26, 153, 0, 7, 10, 167, 0, 4, 9, 80, 167, 0, 7, 58, 4, 4, 172]
abbrev dktX0_doClash_0 : List UInt8 := dkwX0_doClash_0 ++ dktX0_doClash_1
theorem dksX0_doClash_0 : cX0_doClash.data.toList.drop 0 = dktX0_doClash_0 := by decide +kernel
theorem dksX0_doClash_1 : cX0_doClash.data.toList.drop 24 = dktX0_doClash_1 := dk_seg dksX0_doClash_0 24 rfl rfl
theorem dX0_doClash_0 : decode cX0_doClash 0 = .ok (.aload_n 3, 1) := dk_45 (dk_at dksX0_doClash_0 0 rfl rfl)
theorem dX0_doClash_1 : decode cX0_doClash 1 = .ok (.iconst 0, 1) := dk_3 (dk_at dksX0_doClash_0 1 rfl rfl)
theorem dX0_doClash_2 : decode cX0_doClash 2 = .ok (.aload_n 0, 1) := dk_42 (dk_at dksX0_doClash_0 2 rfl rfl)
theorem dX0_doClash_3 : decode cX0_doClash 3 = .ok (.iload_n 1, 1) := dk_27 (dk_at dksX0_doClash_0 3 rfl rfl)
theorem dX0_doClash_4 : decode cX0_doClash 4 = .ok (.iload_n 2, 1) := dk_28 (dk_at dksX0_doClash_0 4 rfl rfl)
theorem dX0_doClash_5 : decode cX0_doClash 5 = .ok (.invokevirtual 26, 3) := dk_182 0 26 (dk_at dksX0_doClash_0 5 rfl rfl)
theorem dX0_doClash_8 : decode cX0_doClash 8 = .ok (.ifCond .eq 7, 3) := dk_153 0 7 (dk_at dksX0_doClash_0 8 rfl rfl)
theorem dX0_doClash_11 : decode cX0_doClash 11 = .ok (.lconst 1, 1) := dk_10 (dk_at dksX0_doClash_0 11 rfl rfl)
theorem dX0_doClash_12 : decode cX0_doClash 12 = .ok (.goto 4, 3) := dk_167 0 4 (dk_at dksX0_doClash_0 12 rfl rfl)
theorem dX0_doClash_15 : decode cX0_doClash 15 = .ok (.lconst 0, 1) := dk_9 (dk_at dksX0_doClash_0 15 rfl rfl)
theorem dX0_doClash_16 : decode cX0_doClash 16 = .ok (.lastore, 1) := dk_80 (dk_at dksX0_doClash_0 16 rfl rfl)
theorem dX0_doClash_17 : decode cX0_doClash 17 = .ok (.goto 7, 3) := dk_167 0 7 (dk_at dksX0_doClash_0 17 rfl rfl)
theorem dX0_doClash_20 : decode cX0_doClash 20 = .ok (.astore 4, 2) := dk_58 4 (dk_at dksX0_doClash_0 20 rfl rfl)
theorem dX0_doClash_22 : decode cX0_doClash 22 = .ok (.iconst 1, 1) := dk_4 (dk_at dksX0_doClash_0 22 rfl rfl)
theorem dX0_doClash_23 : decode cX0_doClash 23 = .ok (.ireturn, 1) := dk_172 (dk_at dksX0_doClash_0 23 rfl rfl)
theorem dX0_doClash_24 : decode cX0_doClash 24 = .ok (.iconst 0, 1) := dk_3 (dk_at dksX0_doClash_1 0 rfl rfl)
theorem dX0_doClash_25 : decode cX0_doClash 25 = .ok (.ireturn, 1) := dk_172 (dk_at dksX0_doClash_1 1 rfl rfl)
abbrev cX0_car : ByteArray := method_8_code
def yX0_car : MethodName := ⟨RX0, "car", "(LLoopSignals;II[J)I"⟩
def dkwX0_car_0 : List UInt8 := [45, 3, 42, 27, 28, 182, 0, 29, 133, 80, 167, 0, 7, 58, 4, 4, 172, 3, 172]
abbrev dktX0_car_0 : List UInt8 := dkwX0_car_0 ++ []
theorem dksX0_car_0 : cX0_car.data.toList.drop 0 = dktX0_car_0 := by decide +kernel
theorem dX0_car_0 : decode cX0_car 0 = .ok (.aload_n 3, 1) := dk_45 (dk_at dksX0_car_0 0 rfl rfl)
theorem dX0_car_1 : decode cX0_car 1 = .ok (.iconst 0, 1) := dk_3 (dk_at dksX0_car_0 1 rfl rfl)
theorem dX0_car_2 : decode cX0_car 2 = .ok (.aload_n 0, 1) := dk_42 (dk_at dksX0_car_0 2 rfl rfl)
theorem dX0_car_3 : decode cX0_car 3 = .ok (.iload_n 1, 1) := dk_27 (dk_at dksX0_car_0 3 rfl rfl)
theorem dX0_car_4 : decode cX0_car 4 = .ok (.iload_n 2, 1) := dk_28 (dk_at dksX0_car_0 4 rfl rfl)
theorem dX0_car_5 : decode cX0_car 5 = .ok (.invokevirtual 29, 3) := dk_182 0 29 (dk_at dksX0_car_0 5 rfl rfl)
theorem dX0_car_8 : decode cX0_car 8 = .ok (.i2l, 1) := dk_133 (dk_at dksX0_car_0 8 rfl rfl)
theorem dX0_car_9 : decode cX0_car 9 = .ok (.lastore, 1) := dk_80 (dk_at dksX0_car_0 9 rfl rfl)
theorem dX0_car_10 : decode cX0_car 10 = .ok (.goto 7, 3) := dk_167 0 7 (dk_at dksX0_car_0 10 rfl rfl)
theorem dX0_car_13 : decode cX0_car 13 = .ok (.astore 4, 2) := dk_58 4 (dk_at dksX0_car_0 13 rfl rfl)
theorem dX0_car_15 : decode cX0_car 15 = .ok (.iconst 1, 1) := dk_4 (dk_at dksX0_car_0 15 rfl rfl)
theorem dX0_car_16 : decode cX0_car 16 = .ok (.ireturn, 1) := dk_172 (dk_at dksX0_car_0 16 rfl rfl)
theorem dX0_car_17 : decode cX0_car 17 = .ok (.iconst 0, 1) := dk_3 (dk_at dksX0_car_0 17 rfl rfl)
theorem dX0_car_18 : decode cX0_car 18 = .ok (.ireturn, 1) := dk_172 (dk_at dksX0_car_0 18 rfl rfl)
abbrev cX0_letter : ByteArray := method_9_code
def yX0_letter : MethodName := ⟨RX0, "letter", "(LLoopSignals;II[J)I"⟩
def dkwX0_letter_0 : List UInt8 := [45, 3, 42, 27, 28, 182, 0, 32, 133, 80, 167, 0, 7, 58, 4, 4, 172, 3, 172]
abbrev dktX0_letter_0 : List UInt8 := dkwX0_letter_0 ++ []
theorem dksX0_letter_0 : cX0_letter.data.toList.drop 0 = dktX0_letter_0 := by decide +kernel
theorem dX0_letter_0 : decode cX0_letter 0 = .ok (.aload_n 3, 1) := dk_45 (dk_at dksX0_letter_0 0 rfl rfl)
theorem dX0_letter_1 : decode cX0_letter 1 = .ok (.iconst 0, 1) := dk_3 (dk_at dksX0_letter_0 1 rfl rfl)
theorem dX0_letter_2 : decode cX0_letter 2 = .ok (.aload_n 0, 1) := dk_42 (dk_at dksX0_letter_0 2 rfl rfl)
theorem dX0_letter_3 : decode cX0_letter 3 = .ok (.iload_n 1, 1) := dk_27 (dk_at dksX0_letter_0 3 rfl rfl)
theorem dX0_letter_4 : decode cX0_letter 4 = .ok (.iload_n 2, 1) := dk_28 (dk_at dksX0_letter_0 4 rfl rfl)
theorem dX0_letter_5 : decode cX0_letter 5 = .ok (.invokevirtual 32, 3) := dk_182 0 32 (dk_at dksX0_letter_0 5 rfl rfl)
theorem dX0_letter_8 : decode cX0_letter 8 = .ok (.i2l, 1) := dk_133 (dk_at dksX0_letter_0 8 rfl rfl)
theorem dX0_letter_9 : decode cX0_letter 9 = .ok (.lastore, 1) := dk_80 (dk_at dksX0_letter_0 9 rfl rfl)
theorem dX0_letter_10 : decode cX0_letter 10 = .ok (.goto 7, 3) := dk_167 0 7 (dk_at dksX0_letter_0 10 rfl rfl)
theorem dX0_letter_13 : decode cX0_letter 13 = .ok (.astore 4, 2) := dk_58 4 (dk_at dksX0_letter_0 13 rfl rfl)
theorem dX0_letter_15 : decode cX0_letter 15 = .ok (.iconst 1, 1) := dk_4 (dk_at dksX0_letter_0 15 rfl rfl)
theorem dX0_letter_16 : decode cX0_letter 16 = .ok (.ireturn, 1) := dk_172 (dk_at dksX0_letter_0 16 rfl rfl)
theorem dX0_letter_17 : decode cX0_letter 17 = .ok (.iconst 0, 1) := dk_3 (dk_at dksX0_letter_0 17 rfl rfl)
theorem dX0_letter_18 : decode cX0_letter 18 = .ok (.ireturn, 1) := dk_172 (dk_at dksX0_letter_0 18 rfl rfl)
abbrev cX0_why : ByteArray := method_10_code
def yX0_why : MethodName := ⟨RX0, "why", "(LLoopSignals;II[J)I"⟩
def dkwX0_why_0 : List UInt8 := [45, 3, 42, 27, 28, 182, 0, 35, 133, 80, 167, 0, 7, 58, 4, 4, 172, 3, 172]
abbrev dktX0_why_0 : List UInt8 := dkwX0_why_0 ++ []
theorem dksX0_why_0 : cX0_why.data.toList.drop 0 = dktX0_why_0 := by decide +kernel
theorem dX0_why_0 : decode cX0_why 0 = .ok (.aload_n 3, 1) := dk_45 (dk_at dksX0_why_0 0 rfl rfl)
theorem dX0_why_1 : decode cX0_why 1 = .ok (.iconst 0, 1) := dk_3 (dk_at dksX0_why_0 1 rfl rfl)
theorem dX0_why_2 : decode cX0_why 2 = .ok (.aload_n 0, 1) := dk_42 (dk_at dksX0_why_0 2 rfl rfl)
theorem dX0_why_3 : decode cX0_why 3 = .ok (.iload_n 1, 1) := dk_27 (dk_at dksX0_why_0 3 rfl rfl)
theorem dX0_why_4 : decode cX0_why 4 = .ok (.iload_n 2, 1) := dk_28 (dk_at dksX0_why_0 4 rfl rfl)
theorem dX0_why_5 : decode cX0_why 5 = .ok (.invokevirtual 35, 3) := dk_182 0 35 (dk_at dksX0_why_0 5 rfl rfl)
theorem dX0_why_8 : decode cX0_why 8 = .ok (.i2l, 1) := dk_133 (dk_at dksX0_why_0 8 rfl rfl)
theorem dX0_why_9 : decode cX0_why 9 = .ok (.lastore, 1) := dk_80 (dk_at dksX0_why_0 9 rfl rfl)
theorem dX0_why_10 : decode cX0_why 10 = .ok (.goto 7, 3) := dk_167 0 7 (dk_at dksX0_why_0 10 rfl rfl)
theorem dX0_why_13 : decode cX0_why 13 = .ok (.astore 4, 2) := dk_58 4 (dk_at dksX0_why_0 13 rfl rfl)
theorem dX0_why_15 : decode cX0_why 15 = .ok (.iconst 1, 1) := dk_4 (dk_at dksX0_why_0 15 rfl rfl)
theorem dX0_why_16 : decode cX0_why 16 = .ok (.ireturn, 1) := dk_172 (dk_at dksX0_why_0 16 rfl rfl)
theorem dX0_why_17 : decode cX0_why 17 = .ok (.iconst 0, 1) := dk_3 (dk_at dksX0_why_0 17 rfl rfl)
theorem dX0_why_18 : decode cX0_why 18 = .ok (.ireturn, 1) := dk_172 (dk_at dksX0_why_0 18 rfl rfl)
abbrev cX0_account : ByteArray := method_11_code
def yX0_account : MethodName := ⟨RX0, "account", "(LLoopSignals;I[J)I"⟩
def dkwX0_account_0 : List UInt8 := [44, 3, 42, 27, 182, 0, 38, 133, 80, 167, 0, 6, 78, 4, 172, 3, 172]
abbrev dktX0_account_0 : List UInt8 := dkwX0_account_0 ++ []
theorem dksX0_account_0 : cX0_account.data.toList.drop 0 = dktX0_account_0 := by decide +kernel
theorem dX0_account_0 : decode cX0_account 0 = .ok (.aload_n 2, 1) := dk_44 (dk_at dksX0_account_0 0 rfl rfl)
theorem dX0_account_1 : decode cX0_account 1 = .ok (.iconst 0, 1) := dk_3 (dk_at dksX0_account_0 1 rfl rfl)
theorem dX0_account_2 : decode cX0_account 2 = .ok (.aload_n 0, 1) := dk_42 (dk_at dksX0_account_0 2 rfl rfl)
theorem dX0_account_3 : decode cX0_account 3 = .ok (.iload_n 1, 1) := dk_27 (dk_at dksX0_account_0 3 rfl rfl)
theorem dX0_account_4 : decode cX0_account 4 = .ok (.invokevirtual 38, 3) := dk_182 0 38 (dk_at dksX0_account_0 4 rfl rfl)
theorem dX0_account_7 : decode cX0_account 7 = .ok (.i2l, 1) := dk_133 (dk_at dksX0_account_0 7 rfl rfl)
theorem dX0_account_8 : decode cX0_account 8 = .ok (.lastore, 1) := dk_80 (dk_at dksX0_account_0 8 rfl rfl)
theorem dX0_account_9 : decode cX0_account 9 = .ok (.goto 6, 3) := dk_167 0 6 (dk_at dksX0_account_0 9 rfl rfl)
theorem dX0_account_12 : decode cX0_account 12 = .ok (.astore_n 3, 1) := dk_78 (dk_at dksX0_account_0 12 rfl rfl)
theorem dX0_account_13 : decode cX0_account 13 = .ok (.iconst 1, 1) := dk_4 (dk_at dksX0_account_0 13 rfl rfl)
theorem dX0_account_14 : decode cX0_account 14 = .ok (.ireturn, 1) := dk_172 (dk_at dksX0_account_0 14 rfl rfl)
theorem dX0_account_15 : decode cX0_account 15 = .ok (.iconst 0, 1) := dk_3 (dk_at dksX0_account_0 15 rfl rfl)
theorem dX0_account_16 : decode cX0_account 16 = .ok (.ireturn, 1) := dk_172 (dk_at dksX0_account_0 16 rfl rfl)
abbrev cX0_greenBits : ByteArray := method_12_code
def yX0_greenBits : MethodName := ⟨RX0, "greenBits", "(LLoopSignals;I[J)I"⟩
def dkwX0_greenBits_0 : List UInt8 := [44, 3, 42, 27, 182, 0, 41, 133, 80, 167, 0, 6, 78, 4, 172, 3, 172]
abbrev dktX0_greenBits_0 : List UInt8 := dkwX0_greenBits_0 ++ []
theorem dksX0_greenBits_0 : cX0_greenBits.data.toList.drop 0 = dktX0_greenBits_0 := by decide +kernel
theorem dX0_greenBits_0 : decode cX0_greenBits 0 = .ok (.aload_n 2, 1) := dk_44 (dk_at dksX0_greenBits_0 0 rfl rfl)
theorem dX0_greenBits_1 : decode cX0_greenBits 1 = .ok (.iconst 0, 1) := dk_3 (dk_at dksX0_greenBits_0 1 rfl rfl)
theorem dX0_greenBits_2 : decode cX0_greenBits 2 = .ok (.aload_n 0, 1) := dk_42 (dk_at dksX0_greenBits_0 2 rfl rfl)
theorem dX0_greenBits_3 : decode cX0_greenBits 3 = .ok (.iload_n 1, 1) := dk_27 (dk_at dksX0_greenBits_0 3 rfl rfl)
theorem dX0_greenBits_4 : decode cX0_greenBits 4 = .ok (.invokevirtual 41, 3) := dk_182 0 41 (dk_at dksX0_greenBits_0 4 rfl rfl)
theorem dX0_greenBits_7 : decode cX0_greenBits 7 = .ok (.i2l, 1) := dk_133 (dk_at dksX0_greenBits_0 7 rfl rfl)
theorem dX0_greenBits_8 : decode cX0_greenBits 8 = .ok (.lastore, 1) := dk_80 (dk_at dksX0_greenBits_0 8 rfl rfl)
theorem dX0_greenBits_9 : decode cX0_greenBits 9 = .ok (.goto 6, 3) := dk_167 0 6 (dk_at dksX0_greenBits_0 9 rfl rfl)
theorem dX0_greenBits_12 : decode cX0_greenBits 12 = .ok (.astore_n 3, 1) := dk_78 (dk_at dksX0_greenBits_0 12 rfl rfl)
theorem dX0_greenBits_13 : decode cX0_greenBits 13 = .ok (.iconst 1, 1) := dk_4 (dk_at dksX0_greenBits_0 13 rfl rfl)
theorem dX0_greenBits_14 : decode cX0_greenBits 14 = .ok (.ireturn, 1) := dk_172 (dk_at dksX0_greenBits_0 14 rfl rfl)
theorem dX0_greenBits_15 : decode cX0_greenBits 15 = .ok (.iconst 0, 1) := dk_3 (dk_at dksX0_greenBits_0 15 rfl rfl)
theorem dX0_greenBits_16 : decode cX0_greenBits 16 = .ok (.ireturn, 1) := dk_172 (dk_at dksX0_greenBits_0 16 rfl rfl)
abbrev cX0_greenIn : ByteArray := method_13_code
def yX0_greenIn : MethodName := ⟨RX0, "greenIn", "(LLoopSignals;I[J)I"⟩
def dkwX0_greenIn_0 : List UInt8 := [44, 3, 42, 27, 182, 0, 44, 133, 80, 167, 0, 6, 78, 4, 172, 3, 172]
abbrev dktX0_greenIn_0 : List UInt8 := dkwX0_greenIn_0 ++ []
theorem dksX0_greenIn_0 : cX0_greenIn.data.toList.drop 0 = dktX0_greenIn_0 := by decide +kernel
theorem dX0_greenIn_0 : decode cX0_greenIn 0 = .ok (.aload_n 2, 1) := dk_44 (dk_at dksX0_greenIn_0 0 rfl rfl)
theorem dX0_greenIn_1 : decode cX0_greenIn 1 = .ok (.iconst 0, 1) := dk_3 (dk_at dksX0_greenIn_0 1 rfl rfl)
theorem dX0_greenIn_2 : decode cX0_greenIn 2 = .ok (.aload_n 0, 1) := dk_42 (dk_at dksX0_greenIn_0 2 rfl rfl)
theorem dX0_greenIn_3 : decode cX0_greenIn 3 = .ok (.iload_n 1, 1) := dk_27 (dk_at dksX0_greenIn_0 3 rfl rfl)
theorem dX0_greenIn_4 : decode cX0_greenIn 4 = .ok (.invokevirtual 44, 3) := dk_182 0 44 (dk_at dksX0_greenIn_0 4 rfl rfl)
theorem dX0_greenIn_7 : decode cX0_greenIn 7 = .ok (.i2l, 1) := dk_133 (dk_at dksX0_greenIn_0 7 rfl rfl)
theorem dX0_greenIn_8 : decode cX0_greenIn 8 = .ok (.lastore, 1) := dk_80 (dk_at dksX0_greenIn_0 8 rfl rfl)
theorem dX0_greenIn_9 : decode cX0_greenIn 9 = .ok (.goto 6, 3) := dk_167 0 6 (dk_at dksX0_greenIn_0 9 rfl rfl)
theorem dX0_greenIn_12 : decode cX0_greenIn 12 = .ok (.astore_n 3, 1) := dk_78 (dk_at dksX0_greenIn_0 12 rfl rfl)
theorem dX0_greenIn_13 : decode cX0_greenIn 13 = .ok (.iconst 1, 1) := dk_4 (dk_at dksX0_greenIn_0 13 rfl rfl)
theorem dX0_greenIn_14 : decode cX0_greenIn 14 = .ok (.ireturn, 1) := dk_172 (dk_at dksX0_greenIn_0 14 rfl rfl)
theorem dX0_greenIn_15 : decode cX0_greenIn 15 = .ok (.iconst 0, 1) := dk_3 (dk_at dksX0_greenIn_0 15 rfl rfl)
theorem dX0_greenIn_16 : decode cX0_greenIn 16 = .ok (.ireturn, 1) := dk_172 (dk_at dksX0_greenIn_0 16 rfl rfl)
abbrev cX0_ifRule : ByteArray := method_14_code
def yX0_ifRule : MethodName := ⟨RX0, "ifRule", "(LLoopSignals;III[J)I"⟩
def dkwX0_ifRule_0 : List UInt8 := [25, 4, 3, 42, 27, 28, 29, 182, 0, 47, 133, 80, 167, 0, 7, 58, 5, 4, 172, 3, 172]
abbrev dktX0_ifRule_0 : List UInt8 := dkwX0_ifRule_0 ++ []
theorem dksX0_ifRule_0 : cX0_ifRule.data.toList.drop 0 = dktX0_ifRule_0 := by decide +kernel
theorem dX0_ifRule_0 : decode cX0_ifRule 0 = .ok (.aload 4, 2) := dk_25 4 (dk_at dksX0_ifRule_0 0 rfl rfl)
theorem dX0_ifRule_2 : decode cX0_ifRule 2 = .ok (.iconst 0, 1) := dk_3 (dk_at dksX0_ifRule_0 2 rfl rfl)
theorem dX0_ifRule_3 : decode cX0_ifRule 3 = .ok (.aload_n 0, 1) := dk_42 (dk_at dksX0_ifRule_0 3 rfl rfl)
theorem dX0_ifRule_4 : decode cX0_ifRule 4 = .ok (.iload_n 1, 1) := dk_27 (dk_at dksX0_ifRule_0 4 rfl rfl)
theorem dX0_ifRule_5 : decode cX0_ifRule 5 = .ok (.iload_n 2, 1) := dk_28 (dk_at dksX0_ifRule_0 5 rfl rfl)
theorem dX0_ifRule_6 : decode cX0_ifRule 6 = .ok (.iload_n 3, 1) := dk_29 (dk_at dksX0_ifRule_0 6 rfl rfl)
theorem dX0_ifRule_7 : decode cX0_ifRule 7 = .ok (.invokevirtual 47, 3) := dk_182 0 47 (dk_at dksX0_ifRule_0 7 rfl rfl)
theorem dX0_ifRule_10 : decode cX0_ifRule 10 = .ok (.i2l, 1) := dk_133 (dk_at dksX0_ifRule_0 10 rfl rfl)
theorem dX0_ifRule_11 : decode cX0_ifRule 11 = .ok (.lastore, 1) := dk_80 (dk_at dksX0_ifRule_0 11 rfl rfl)
theorem dX0_ifRule_12 : decode cX0_ifRule 12 = .ok (.goto 7, 3) := dk_167 0 7 (dk_at dksX0_ifRule_0 12 rfl rfl)
theorem dX0_ifRule_15 : decode cX0_ifRule 15 = .ok (.astore 5, 2) := dk_58 5 (dk_at dksX0_ifRule_0 15 rfl rfl)
theorem dX0_ifRule_17 : decode cX0_ifRule 17 = .ok (.iconst 1, 1) := dk_4 (dk_at dksX0_ifRule_0 17 rfl rfl)
theorem dX0_ifRule_18 : decode cX0_ifRule 18 = .ok (.ireturn, 1) := dk_172 (dk_at dksX0_ifRule_0 18 rfl rfl)
theorem dX0_ifRule_19 : decode cX0_ifRule 19 = .ok (.iconst 0, 1) := dk_3 (dk_at dksX0_ifRule_0 19 rfl rfl)
theorem dX0_ifRule_20 : decode cX0_ifRule 20 = .ok (.ireturn, 1) := dk_172 (dk_at dksX0_ifRule_0 20 rfl rfl)
abbrev cX0_bestRule : ByteArray := method_15_code
def yX0_bestRule : MethodName := ⟨RX0, "bestRule", "(LLoopSignals;I[J)I"⟩
def dkwX0_bestRule_0 : List UInt8 := [44, 3, 42, 27, 182, 0, 51, 133, 80, 167, 0, 6, 78, 4, 172, 3, 172]
abbrev dktX0_bestRule_0 : List UInt8 := dkwX0_bestRule_0 ++ []
theorem dksX0_bestRule_0 : cX0_bestRule.data.toList.drop 0 = dktX0_bestRule_0 := by decide +kernel
theorem dX0_bestRule_0 : decode cX0_bestRule 0 = .ok (.aload_n 2, 1) := dk_44 (dk_at dksX0_bestRule_0 0 rfl rfl)
theorem dX0_bestRule_1 : decode cX0_bestRule 1 = .ok (.iconst 0, 1) := dk_3 (dk_at dksX0_bestRule_0 1 rfl rfl)
theorem dX0_bestRule_2 : decode cX0_bestRule 2 = .ok (.aload_n 0, 1) := dk_42 (dk_at dksX0_bestRule_0 2 rfl rfl)
theorem dX0_bestRule_3 : decode cX0_bestRule 3 = .ok (.iload_n 1, 1) := dk_27 (dk_at dksX0_bestRule_0 3 rfl rfl)
theorem dX0_bestRule_4 : decode cX0_bestRule 4 = .ok (.invokevirtual 51, 3) := dk_182 0 51 (dk_at dksX0_bestRule_0 4 rfl rfl)
theorem dX0_bestRule_7 : decode cX0_bestRule 7 = .ok (.i2l, 1) := dk_133 (dk_at dksX0_bestRule_0 7 rfl rfl)
theorem dX0_bestRule_8 : decode cX0_bestRule 8 = .ok (.lastore, 1) := dk_80 (dk_at dksX0_bestRule_0 8 rfl rfl)
theorem dX0_bestRule_9 : decode cX0_bestRule 9 = .ok (.goto 6, 3) := dk_167 0 6 (dk_at dksX0_bestRule_0 9 rfl rfl)
theorem dX0_bestRule_12 : decode cX0_bestRule 12 = .ok (.astore_n 3, 1) := dk_78 (dk_at dksX0_bestRule_0 12 rfl rfl)
theorem dX0_bestRule_13 : decode cX0_bestRule 13 = .ok (.iconst 1, 1) := dk_4 (dk_at dksX0_bestRule_0 13 rfl rfl)
theorem dX0_bestRule_14 : decode cX0_bestRule 14 = .ok (.ireturn, 1) := dk_172 (dk_at dksX0_bestRule_0 14 rfl rfl)
theorem dX0_bestRule_15 : decode cX0_bestRule 15 = .ok (.iconst 0, 1) := dk_3 (dk_at dksX0_bestRule_0 15 rfl rfl)
theorem dX0_bestRule_16 : decode cX0_bestRule 16 = .ok (.ireturn, 1) := dk_172 (dk_at dksX0_bestRule_0 16 rfl rfl)
abbrev cX0_lightIn : ByteArray := method_16_code
def yX0_lightIn : MethodName := ⟨RX0, "lightIn", "(LLoopSignals;II[J)I"⟩
def dkwX0_lightIn_0 : List UInt8 := [45, 3, 42, 27, 28, 182, 0, 54, 133, 80, 167, 0, 7, 58, 4, 4, 172, 3, 172]
abbrev dktX0_lightIn_0 : List UInt8 := dkwX0_lightIn_0 ++ []
theorem dksX0_lightIn_0 : cX0_lightIn.data.toList.drop 0 = dktX0_lightIn_0 := by decide +kernel
theorem dX0_lightIn_0 : decode cX0_lightIn 0 = .ok (.aload_n 3, 1) := dk_45 (dk_at dksX0_lightIn_0 0 rfl rfl)
theorem dX0_lightIn_1 : decode cX0_lightIn 1 = .ok (.iconst 0, 1) := dk_3 (dk_at dksX0_lightIn_0 1 rfl rfl)
theorem dX0_lightIn_2 : decode cX0_lightIn 2 = .ok (.aload_n 0, 1) := dk_42 (dk_at dksX0_lightIn_0 2 rfl rfl)
theorem dX0_lightIn_3 : decode cX0_lightIn 3 = .ok (.iload_n 1, 1) := dk_27 (dk_at dksX0_lightIn_0 3 rfl rfl)
theorem dX0_lightIn_4 : decode cX0_lightIn 4 = .ok (.iload_n 2, 1) := dk_28 (dk_at dksX0_lightIn_0 4 rfl rfl)
theorem dX0_lightIn_5 : decode cX0_lightIn 5 = .ok (.invokevirtual 54, 3) := dk_182 0 54 (dk_at dksX0_lightIn_0 5 rfl rfl)
theorem dX0_lightIn_8 : decode cX0_lightIn 8 = .ok (.i2l, 1) := dk_133 (dk_at dksX0_lightIn_0 8 rfl rfl)
theorem dX0_lightIn_9 : decode cX0_lightIn 9 = .ok (.lastore, 1) := dk_80 (dk_at dksX0_lightIn_0 9 rfl rfl)
theorem dX0_lightIn_10 : decode cX0_lightIn 10 = .ok (.goto 7, 3) := dk_167 0 7 (dk_at dksX0_lightIn_0 10 rfl rfl)
theorem dX0_lightIn_13 : decode cX0_lightIn 13 = .ok (.astore 4, 2) := dk_58 4 (dk_at dksX0_lightIn_0 13 rfl rfl)
theorem dX0_lightIn_15 : decode cX0_lightIn 15 = .ok (.iconst 1, 1) := dk_4 (dk_at dksX0_lightIn_0 15 rfl rfl)
theorem dX0_lightIn_16 : decode cX0_lightIn 16 = .ok (.ireturn, 1) := dk_172 (dk_at dksX0_lightIn_0 16 rfl rfl)
theorem dX0_lightIn_17 : decode cX0_lightIn 17 = .ok (.iconst 0, 1) := dk_3 (dk_at dksX0_lightIn_0 17 rfl rfl)
theorem dX0_lightIn_18 : decode cX0_lightIn 18 = .ok (.ireturn, 1) := dk_172 (dk_at dksX0_lightIn_0 18 rfl rfl)
abbrev cX0_couldJoin : ByteArray := method_17_code
def yX0_couldJoin : MethodName := ⟨RX0, "couldJoin", "(LLoopSignals;I[J)I"⟩
def dkwX0_couldJoin_0 : List UInt8 := [44, 3, 42, 27, 182, 0, 57, 133, 80, 167, 0, 6, 78, 4, 172, 3, 172]
abbrev dktX0_couldJoin_0 : List UInt8 := dkwX0_couldJoin_0 ++ []
theorem dksX0_couldJoin_0 : cX0_couldJoin.data.toList.drop 0 = dktX0_couldJoin_0 := by decide +kernel
theorem dX0_couldJoin_0 : decode cX0_couldJoin 0 = .ok (.aload_n 2, 1) := dk_44 (dk_at dksX0_couldJoin_0 0 rfl rfl)
theorem dX0_couldJoin_1 : decode cX0_couldJoin 1 = .ok (.iconst 0, 1) := dk_3 (dk_at dksX0_couldJoin_0 1 rfl rfl)
theorem dX0_couldJoin_2 : decode cX0_couldJoin 2 = .ok (.aload_n 0, 1) := dk_42 (dk_at dksX0_couldJoin_0 2 rfl rfl)
theorem dX0_couldJoin_3 : decode cX0_couldJoin 3 = .ok (.iload_n 1, 1) := dk_27 (dk_at dksX0_couldJoin_0 3 rfl rfl)
theorem dX0_couldJoin_4 : decode cX0_couldJoin 4 = .ok (.invokevirtual 57, 3) := dk_182 0 57 (dk_at dksX0_couldJoin_0 4 rfl rfl)
theorem dX0_couldJoin_7 : decode cX0_couldJoin 7 = .ok (.i2l, 1) := dk_133 (dk_at dksX0_couldJoin_0 7 rfl rfl)
theorem dX0_couldJoin_8 : decode cX0_couldJoin 8 = .ok (.lastore, 1) := dk_80 (dk_at dksX0_couldJoin_0 8 rfl rfl)
theorem dX0_couldJoin_9 : decode cX0_couldJoin 9 = .ok (.goto 6, 3) := dk_167 0 6 (dk_at dksX0_couldJoin_0 9 rfl rfl)
theorem dX0_couldJoin_12 : decode cX0_couldJoin 12 = .ok (.astore_n 3, 1) := dk_78 (dk_at dksX0_couldJoin_0 12 rfl rfl)
theorem dX0_couldJoin_13 : decode cX0_couldJoin 13 = .ok (.iconst 1, 1) := dk_4 (dk_at dksX0_couldJoin_0 13 rfl rfl)
theorem dX0_couldJoin_14 : decode cX0_couldJoin 14 = .ok (.ireturn, 1) := dk_172 (dk_at dksX0_couldJoin_0 14 rfl rfl)
theorem dX0_couldJoin_15 : decode cX0_couldJoin 15 = .ok (.iconst 0, 1) := dk_3 (dk_at dksX0_couldJoin_0 15 rfl rfl)
theorem dX0_couldJoin_16 : decode cX0_couldJoin 16 = .ok (.ireturn, 1) := dk_172 (dk_at dksX0_couldJoin_0 16 rfl rfl)
abbrev cX0_come : ByteArray := method_18_code
def yX0_come : MethodName := ⟨RX0, "come", "(LLoopSignals;II[J)I"⟩
def dkwX0_come_0 : List UInt8 := [45, 3, 42, 27, 28, 182, 0, 60, 133, 80, 167, 0, 7, 58, 4, 4, 172, 3, 172]
abbrev dktX0_come_0 : List UInt8 := dkwX0_come_0 ++ []
theorem dksX0_come_0 : cX0_come.data.toList.drop 0 = dktX0_come_0 := by decide +kernel
theorem dX0_come_0 : decode cX0_come 0 = .ok (.aload_n 3, 1) := dk_45 (dk_at dksX0_come_0 0 rfl rfl)
theorem dX0_come_1 : decode cX0_come 1 = .ok (.iconst 0, 1) := dk_3 (dk_at dksX0_come_0 1 rfl rfl)
theorem dX0_come_2 : decode cX0_come 2 = .ok (.aload_n 0, 1) := dk_42 (dk_at dksX0_come_0 2 rfl rfl)
theorem dX0_come_3 : decode cX0_come 3 = .ok (.iload_n 1, 1) := dk_27 (dk_at dksX0_come_0 3 rfl rfl)
theorem dX0_come_4 : decode cX0_come 4 = .ok (.iload_n 2, 1) := dk_28 (dk_at dksX0_come_0 4 rfl rfl)
theorem dX0_come_5 : decode cX0_come 5 = .ok (.invokevirtual 60, 3) := dk_182 0 60 (dk_at dksX0_come_0 5 rfl rfl)
theorem dX0_come_8 : decode cX0_come 8 = .ok (.i2l, 1) := dk_133 (dk_at dksX0_come_0 8 rfl rfl)
theorem dX0_come_9 : decode cX0_come 9 = .ok (.lastore, 1) := dk_80 (dk_at dksX0_come_0 9 rfl rfl)
theorem dX0_come_10 : decode cX0_come 10 = .ok (.goto 7, 3) := dk_167 0 7 (dk_at dksX0_come_0 10 rfl rfl)
theorem dX0_come_13 : decode cX0_come 13 = .ok (.astore 4, 2) := dk_58 4 (dk_at dksX0_come_0 13 rfl rfl)
theorem dX0_come_15 : decode cX0_come 15 = .ok (.iconst 1, 1) := dk_4 (dk_at dksX0_come_0 15 rfl rfl)
theorem dX0_come_16 : decode cX0_come 16 = .ok (.ireturn, 1) := dk_172 (dk_at dksX0_come_0 16 rfl rfl)
theorem dX0_come_17 : decode cX0_come 17 = .ok (.iconst 0, 1) := dk_3 (dk_at dksX0_come_0 17 rfl rfl)
theorem dX0_come_18 : decode cX0_come 18 = .ok (.ireturn, 1) := dk_172 (dk_at dksX0_come_0 18 rfl rfl)
abbrev cX0_pass : ByteArray := method_19_code
def yX0_pass : MethodName := ⟨RX0, "pass", "(LLoopSignals;I[J)I"⟩
def dkwX0_pass_0 : List UInt8 := [44, 3, 42, 27, 182, 0, 63, 133, 80, 167, 0, 6, 78, 4, 172, 3, 172]
abbrev dktX0_pass_0 : List UInt8 := dkwX0_pass_0 ++ []
theorem dksX0_pass_0 : cX0_pass.data.toList.drop 0 = dktX0_pass_0 := by decide +kernel
theorem dX0_pass_0 : decode cX0_pass 0 = .ok (.aload_n 2, 1) := dk_44 (dk_at dksX0_pass_0 0 rfl rfl)
theorem dX0_pass_1 : decode cX0_pass 1 = .ok (.iconst 0, 1) := dk_3 (dk_at dksX0_pass_0 1 rfl rfl)
theorem dX0_pass_2 : decode cX0_pass 2 = .ok (.aload_n 0, 1) := dk_42 (dk_at dksX0_pass_0 2 rfl rfl)
theorem dX0_pass_3 : decode cX0_pass 3 = .ok (.iload_n 1, 1) := dk_27 (dk_at dksX0_pass_0 3 rfl rfl)
theorem dX0_pass_4 : decode cX0_pass 4 = .ok (.invokevirtual 63, 3) := dk_182 0 63 (dk_at dksX0_pass_0 4 rfl rfl)
theorem dX0_pass_7 : decode cX0_pass 7 = .ok (.i2l, 1) := dk_133 (dk_at dksX0_pass_0 7 rfl rfl)
theorem dX0_pass_8 : decode cX0_pass 8 = .ok (.lastore, 1) := dk_80 (dk_at dksX0_pass_0 8 rfl rfl)
theorem dX0_pass_9 : decode cX0_pass 9 = .ok (.goto 6, 3) := dk_167 0 6 (dk_at dksX0_pass_0 9 rfl rfl)
theorem dX0_pass_12 : decode cX0_pass 12 = .ok (.astore_n 3, 1) := dk_78 (dk_at dksX0_pass_0 12 rfl rfl)
theorem dX0_pass_13 : decode cX0_pass 13 = .ok (.iconst 1, 1) := dk_4 (dk_at dksX0_pass_0 13 rfl rfl)
theorem dX0_pass_14 : decode cX0_pass 14 = .ok (.ireturn, 1) := dk_172 (dk_at dksX0_pass_0 14 rfl rfl)
theorem dX0_pass_15 : decode cX0_pass 15 = .ok (.iconst 0, 1) := dk_3 (dk_at dksX0_pass_0 15 rfl rfl)
theorem dX0_pass_16 : decode cX0_pass 16 = .ok (.ireturn, 1) := dk_172 (dk_at dksX0_pass_0 16 rfl rfl)
abbrev cX0_call : ByteArray := method_20_code
def yX0_call : MethodName := ⟨RX0, "call", "(LLoopSignals;I[J)I"⟩
def dkwX0_call_0 : List UInt8 := [44, 3, 42, 27, 182, 0, 66, 133, 80, 167, 0, 6, 78, 4, 172, 3, 172]
abbrev dktX0_call_0 : List UInt8 := dkwX0_call_0 ++ []
theorem dksX0_call_0 : cX0_call.data.toList.drop 0 = dktX0_call_0 := by decide +kernel
theorem dX0_call_0 : decode cX0_call 0 = .ok (.aload_n 2, 1) := dk_44 (dk_at dksX0_call_0 0 rfl rfl)
theorem dX0_call_1 : decode cX0_call 1 = .ok (.iconst 0, 1) := dk_3 (dk_at dksX0_call_0 1 rfl rfl)
theorem dX0_call_2 : decode cX0_call 2 = .ok (.aload_n 0, 1) := dk_42 (dk_at dksX0_call_0 2 rfl rfl)
theorem dX0_call_3 : decode cX0_call 3 = .ok (.iload_n 1, 1) := dk_27 (dk_at dksX0_call_0 3 rfl rfl)
theorem dX0_call_4 : decode cX0_call 4 = .ok (.invokevirtual 66, 3) := dk_182 0 66 (dk_at dksX0_call_0 4 rfl rfl)
theorem dX0_call_7 : decode cX0_call 7 = .ok (.i2l, 1) := dk_133 (dk_at dksX0_call_0 7 rfl rfl)
theorem dX0_call_8 : decode cX0_call 8 = .ok (.lastore, 1) := dk_80 (dk_at dksX0_call_0 8 rfl rfl)
theorem dX0_call_9 : decode cX0_call 9 = .ok (.goto 6, 3) := dk_167 0 6 (dk_at dksX0_call_0 9 rfl rfl)
theorem dX0_call_12 : decode cX0_call 12 = .ok (.astore_n 3, 1) := dk_78 (dk_at dksX0_call_0 12 rfl rfl)
theorem dX0_call_13 : decode cX0_call 13 = .ok (.iconst 1, 1) := dk_4 (dk_at dksX0_call_0 13 rfl rfl)
theorem dX0_call_14 : decode cX0_call 14 = .ok (.ireturn, 1) := dk_172 (dk_at dksX0_call_0 14 rfl rfl)
theorem dX0_call_15 : decode cX0_call 15 = .ok (.iconst 0, 1) := dk_3 (dk_at dksX0_call_0 15 rfl rfl)
theorem dX0_call_16 : decode cX0_call 16 = .ok (.ireturn, 1) := dk_172 (dk_at dksX0_call_0 16 rfl rfl)
abbrev cX0_setBroken : ByteArray := method_21_code
def yX0_setBroken : MethodName := ⟨RX0, "setBroken", "(LLoopSignals;IZ[J)I"⟩
def dkwX0_setBroken_0 : List UInt8 := [45, 3, 42, 27, 28, 182, 0, 69, 133, 80, 167, 0, 7, 58, 4, 4, 172, 3, 172]
abbrev dktX0_setBroken_0 : List UInt8 := dkwX0_setBroken_0 ++ []
theorem dksX0_setBroken_0 : cX0_setBroken.data.toList.drop 0 = dktX0_setBroken_0 := by decide +kernel
theorem dX0_setBroken_0 : decode cX0_setBroken 0 = .ok (.aload_n 3, 1) := dk_45 (dk_at dksX0_setBroken_0 0 rfl rfl)
theorem dX0_setBroken_1 : decode cX0_setBroken 1 = .ok (.iconst 0, 1) := dk_3 (dk_at dksX0_setBroken_0 1 rfl rfl)
theorem dX0_setBroken_2 : decode cX0_setBroken 2 = .ok (.aload_n 0, 1) := dk_42 (dk_at dksX0_setBroken_0 2 rfl rfl)
theorem dX0_setBroken_3 : decode cX0_setBroken 3 = .ok (.iload_n 1, 1) := dk_27 (dk_at dksX0_setBroken_0 3 rfl rfl)
theorem dX0_setBroken_4 : decode cX0_setBroken 4 = .ok (.iload_n 2, 1) := dk_28 (dk_at dksX0_setBroken_0 4 rfl rfl)
theorem dX0_setBroken_5 : decode cX0_setBroken 5 = .ok (.invokevirtual 69, 3) := dk_182 0 69 (dk_at dksX0_setBroken_0 5 rfl rfl)
theorem dX0_setBroken_8 : decode cX0_setBroken 8 = .ok (.i2l, 1) := dk_133 (dk_at dksX0_setBroken_0 8 rfl rfl)
theorem dX0_setBroken_9 : decode cX0_setBroken 9 = .ok (.lastore, 1) := dk_80 (dk_at dksX0_setBroken_0 9 rfl rfl)
theorem dX0_setBroken_10 : decode cX0_setBroken 10 = .ok (.goto 7, 3) := dk_167 0 7 (dk_at dksX0_setBroken_0 10 rfl rfl)
theorem dX0_setBroken_13 : decode cX0_setBroken 13 = .ok (.astore 4, 2) := dk_58 4 (dk_at dksX0_setBroken_0 13 rfl rfl)
theorem dX0_setBroken_15 : decode cX0_setBroken 15 = .ok (.iconst 1, 1) := dk_4 (dk_at dksX0_setBroken_0 15 rfl rfl)
theorem dX0_setBroken_16 : decode cX0_setBroken 16 = .ok (.ireturn, 1) := dk_172 (dk_at dksX0_setBroken_0 16 rfl rfl)
theorem dX0_setBroken_17 : decode cX0_setBroken 17 = .ok (.iconst 0, 1) := dk_3 (dk_at dksX0_setBroken_0 17 rfl rfl)
theorem dX0_setBroken_18 : decode cX0_setBroken 18 = .ok (.ireturn, 1) := dk_172 (dk_at dksX0_setBroken_0 18 rfl rfl)
abbrev cX0_clash : ByteArray := method_22_code
def yX0_clash : MethodName := ⟨RX0, "clash", "(LLoopSignals;IIZ[J)I"⟩
def dkwX0_clash_0 : List UInt8 := [25, 4, 3, 42, 27, 28, 29, 182, 0, 73, 133, 80, 167, 0, 7, 58, 5, 4, 172, 3, 172]
abbrev dktX0_clash_0 : List UInt8 := dkwX0_clash_0 ++ []
theorem dksX0_clash_0 : cX0_clash.data.toList.drop 0 = dktX0_clash_0 := by decide +kernel
theorem dX0_clash_0 : decode cX0_clash 0 = .ok (.aload 4, 2) := dk_25 4 (dk_at dksX0_clash_0 0 rfl rfl)
theorem dX0_clash_2 : decode cX0_clash 2 = .ok (.iconst 0, 1) := dk_3 (dk_at dksX0_clash_0 2 rfl rfl)
theorem dX0_clash_3 : decode cX0_clash 3 = .ok (.aload_n 0, 1) := dk_42 (dk_at dksX0_clash_0 3 rfl rfl)
theorem dX0_clash_4 : decode cX0_clash 4 = .ok (.iload_n 1, 1) := dk_27 (dk_at dksX0_clash_0 4 rfl rfl)
theorem dX0_clash_5 : decode cX0_clash 5 = .ok (.iload_n 2, 1) := dk_28 (dk_at dksX0_clash_0 5 rfl rfl)
theorem dX0_clash_6 : decode cX0_clash 6 = .ok (.iload_n 3, 1) := dk_29 (dk_at dksX0_clash_0 6 rfl rfl)
theorem dX0_clash_7 : decode cX0_clash 7 = .ok (.invokevirtual 73, 3) := dk_182 0 73 (dk_at dksX0_clash_0 7 rfl rfl)
theorem dX0_clash_10 : decode cX0_clash 10 = .ok (.i2l, 1) := dk_133 (dk_at dksX0_clash_0 10 rfl rfl)
theorem dX0_clash_11 : decode cX0_clash 11 = .ok (.lastore, 1) := dk_80 (dk_at dksX0_clash_0 11 rfl rfl)
theorem dX0_clash_12 : decode cX0_clash 12 = .ok (.goto 7, 3) := dk_167 0 7 (dk_at dksX0_clash_0 12 rfl rfl)
theorem dX0_clash_15 : decode cX0_clash 15 = .ok (.astore 5, 2) := dk_58 5 (dk_at dksX0_clash_0 15 rfl rfl)
theorem dX0_clash_17 : decode cX0_clash 17 = .ok (.iconst 1, 1) := dk_4 (dk_at dksX0_clash_0 17 rfl rfl)
theorem dX0_clash_18 : decode cX0_clash 18 = .ok (.ireturn, 1) := dk_172 (dk_at dksX0_clash_0 18 rfl rfl)
theorem dX0_clash_19 : decode cX0_clash 19 = .ok (.iconst 0, 1) := dk_3 (dk_at dksX0_clash_0 19 rfl rfl)
theorem dX0_clash_20 : decode cX0_clash 20 = .ok (.ireturn, 1) := dk_172 (dk_at dksX0_clash_0 20 rfl rfl)
abbrev cX0_setPhase : ByteArray := method_23_code
def yX0_setPhase : MethodName := ⟨RX0, "setPhase", "(LLoopSignals;IZI[J)I"⟩
def dkwX0_setPhase_0 : List UInt8 := [25, 4, 3, 42, 27, 28, 29, 182, 0, 77, 133, 80, 167, 0, 7, 58, 5, 4, 172, 3, 172]
abbrev dktX0_setPhase_0 : List UInt8 := dkwX0_setPhase_0 ++ []
theorem dksX0_setPhase_0 : cX0_setPhase.data.toList.drop 0 = dktX0_setPhase_0 := by decide +kernel
theorem dX0_setPhase_0 : decode cX0_setPhase 0 = .ok (.aload 4, 2) := dk_25 4 (dk_at dksX0_setPhase_0 0 rfl rfl)
theorem dX0_setPhase_2 : decode cX0_setPhase 2 = .ok (.iconst 0, 1) := dk_3 (dk_at dksX0_setPhase_0 2 rfl rfl)
theorem dX0_setPhase_3 : decode cX0_setPhase 3 = .ok (.aload_n 0, 1) := dk_42 (dk_at dksX0_setPhase_0 3 rfl rfl)
theorem dX0_setPhase_4 : decode cX0_setPhase 4 = .ok (.iload_n 1, 1) := dk_27 (dk_at dksX0_setPhase_0 4 rfl rfl)
theorem dX0_setPhase_5 : decode cX0_setPhase 5 = .ok (.iload_n 2, 1) := dk_28 (dk_at dksX0_setPhase_0 5 rfl rfl)
theorem dX0_setPhase_6 : decode cX0_setPhase 6 = .ok (.iload_n 3, 1) := dk_29 (dk_at dksX0_setPhase_0 6 rfl rfl)
theorem dX0_setPhase_7 : decode cX0_setPhase 7 = .ok (.invokevirtual 77, 3) := dk_182 0 77 (dk_at dksX0_setPhase_0 7 rfl rfl)
theorem dX0_setPhase_10 : decode cX0_setPhase 10 = .ok (.i2l, 1) := dk_133 (dk_at dksX0_setPhase_0 10 rfl rfl)
theorem dX0_setPhase_11 : decode cX0_setPhase 11 = .ok (.lastore, 1) := dk_80 (dk_at dksX0_setPhase_0 11 rfl rfl)
theorem dX0_setPhase_12 : decode cX0_setPhase 12 = .ok (.goto 7, 3) := dk_167 0 7 (dk_at dksX0_setPhase_0 12 rfl rfl)
theorem dX0_setPhase_15 : decode cX0_setPhase 15 = .ok (.astore 5, 2) := dk_58 5 (dk_at dksX0_setPhase_0 15 rfl rfl)
theorem dX0_setPhase_17 : decode cX0_setPhase 17 = .ok (.iconst 1, 1) := dk_4 (dk_at dksX0_setPhase_0 17 rfl rfl)
theorem dX0_setPhase_18 : decode cX0_setPhase 18 = .ok (.ireturn, 1) := dk_172 (dk_at dksX0_setPhase_0 18 rfl rfl)
theorem dX0_setPhase_19 : decode cX0_setPhase 19 = .ok (.iconst 0, 1) := dk_3 (dk_at dksX0_setPhase_0 19 rfl rfl)
theorem dX0_setPhase_20 : decode cX0_setPhase 20 = .ok (.ireturn, 1) := dk_172 (dk_at dksX0_setPhase_0 20 rfl rfl)
abbrev cX0_set : ByteArray := method_24_code
def yX0_set : MethodName := ⟨RX0, "set", "(LLoopSignals;II[J)I"⟩
def dkwX0_set_0 : List UInt8 := [45, 3, 42, 27, 28, 182, 0, 81, 133, 80, 167, 0, 7, 58, 4, 4, 172, 3, 172]
abbrev dktX0_set_0 : List UInt8 := dkwX0_set_0 ++ []
theorem dksX0_set_0 : cX0_set.data.toList.drop 0 = dktX0_set_0 := by decide +kernel
theorem dX0_set_0 : decode cX0_set 0 = .ok (.aload_n 3, 1) := dk_45 (dk_at dksX0_set_0 0 rfl rfl)
theorem dX0_set_1 : decode cX0_set 1 = .ok (.iconst 0, 1) := dk_3 (dk_at dksX0_set_0 1 rfl rfl)
theorem dX0_set_2 : decode cX0_set 2 = .ok (.aload_n 0, 1) := dk_42 (dk_at dksX0_set_0 2 rfl rfl)
theorem dX0_set_3 : decode cX0_set 3 = .ok (.iload_n 1, 1) := dk_27 (dk_at dksX0_set_0 3 rfl rfl)
theorem dX0_set_4 : decode cX0_set 4 = .ok (.iload_n 2, 1) := dk_28 (dk_at dksX0_set_0 4 rfl rfl)
theorem dX0_set_5 : decode cX0_set 5 = .ok (.invokevirtual 81, 3) := dk_182 0 81 (dk_at dksX0_set_0 5 rfl rfl)
theorem dX0_set_8 : decode cX0_set 8 = .ok (.i2l, 1) := dk_133 (dk_at dksX0_set_0 8 rfl rfl)
theorem dX0_set_9 : decode cX0_set 9 = .ok (.lastore, 1) := dk_80 (dk_at dksX0_set_0 9 rfl rfl)
theorem dX0_set_10 : decode cX0_set 10 = .ok (.goto 7, 3) := dk_167 0 7 (dk_at dksX0_set_0 10 rfl rfl)
theorem dX0_set_13 : decode cX0_set 13 = .ok (.astore 4, 2) := dk_58 4 (dk_at dksX0_set_0 13 rfl rfl)
theorem dX0_set_15 : decode cX0_set 15 = .ok (.iconst 1, 1) := dk_4 (dk_at dksX0_set_0 15 rfl rfl)
theorem dX0_set_16 : decode cX0_set 16 = .ok (.ireturn, 1) := dk_172 (dk_at dksX0_set_0 16 rfl rfl)
theorem dX0_set_17 : decode cX0_set 17 = .ok (.iconst 0, 1) := dk_3 (dk_at dksX0_set_0 17 rfl rfl)
theorem dX0_set_18 : decode cX0_set 18 = .ok (.ireturn, 1) := dk_172 (dk_at dksX0_set_0 18 rfl rfl)
abbrev cX0_save : ByteArray := method_25_code
def yX0_save : MethodName := ⟨RX0, "save", "(LLoopSignals;I[J)I"⟩
def dkwX0_save_0 : List UInt8 := [44, 3, 42, 27, 182, 0, 84, 133, 80, 167, 0, 6, 78, 4, 172, 3, 172]
abbrev dktX0_save_0 : List UInt8 := dkwX0_save_0 ++ []
theorem dksX0_save_0 : cX0_save.data.toList.drop 0 = dktX0_save_0 := by decide +kernel
theorem dX0_save_0 : decode cX0_save 0 = .ok (.aload_n 2, 1) := dk_44 (dk_at dksX0_save_0 0 rfl rfl)
theorem dX0_save_1 : decode cX0_save 1 = .ok (.iconst 0, 1) := dk_3 (dk_at dksX0_save_0 1 rfl rfl)
theorem dX0_save_2 : decode cX0_save 2 = .ok (.aload_n 0, 1) := dk_42 (dk_at dksX0_save_0 2 rfl rfl)
theorem dX0_save_3 : decode cX0_save 3 = .ok (.iload_n 1, 1) := dk_27 (dk_at dksX0_save_0 3 rfl rfl)
theorem dX0_save_4 : decode cX0_save 4 = .ok (.invokevirtual 84, 3) := dk_182 0 84 (dk_at dksX0_save_0 4 rfl rfl)
theorem dX0_save_7 : decode cX0_save 7 = .ok (.i2l, 1) := dk_133 (dk_at dksX0_save_0 7 rfl rfl)
theorem dX0_save_8 : decode cX0_save 8 = .ok (.lastore, 1) := dk_80 (dk_at dksX0_save_0 8 rfl rfl)
theorem dX0_save_9 : decode cX0_save 9 = .ok (.goto 6, 3) := dk_167 0 6 (dk_at dksX0_save_0 9 rfl rfl)
theorem dX0_save_12 : decode cX0_save 12 = .ok (.astore_n 3, 1) := dk_78 (dk_at dksX0_save_0 12 rfl rfl)
theorem dX0_save_13 : decode cX0_save 13 = .ok (.iconst 1, 1) := dk_4 (dk_at dksX0_save_0 13 rfl rfl)
theorem dX0_save_14 : decode cX0_save 14 = .ok (.ireturn, 1) := dk_172 (dk_at dksX0_save_0 14 rfl rfl)
theorem dX0_save_15 : decode cX0_save 15 = .ok (.iconst 0, 1) := dk_3 (dk_at dksX0_save_0 15 rfl rfl)
theorem dX0_save_16 : decode cX0_save 16 = .ok (.ireturn, 1) := dk_172 (dk_at dksX0_save_0 16 rfl rfl)
abbrev cX0_restore : ByteArray := method_26_code
def yX0_restore : MethodName := ⟨RX0, "restore", "(LLoopSignals;I[J)I"⟩
def dkwX0_restore_0 : List UInt8 := [44, 3, 42, 27, 182, 0, 87, 133, 80, 167, 0, 9, 78, 4, 172, 78, 5, 172, 3, 172]
abbrev dktX0_restore_0 : List UInt8 := dkwX0_restore_0 ++ []
theorem dksX0_restore_0 : cX0_restore.data.toList.drop 0 = dktX0_restore_0 := by decide +kernel
theorem dX0_restore_0 : decode cX0_restore 0 = .ok (.aload_n 2, 1) := dk_44 (dk_at dksX0_restore_0 0 rfl rfl)
theorem dX0_restore_1 : decode cX0_restore 1 = .ok (.iconst 0, 1) := dk_3 (dk_at dksX0_restore_0 1 rfl rfl)
theorem dX0_restore_2 : decode cX0_restore 2 = .ok (.aload_n 0, 1) := dk_42 (dk_at dksX0_restore_0 2 rfl rfl)
theorem dX0_restore_3 : decode cX0_restore 3 = .ok (.iload_n 1, 1) := dk_27 (dk_at dksX0_restore_0 3 rfl rfl)
theorem dX0_restore_4 : decode cX0_restore 4 = .ok (.invokevirtual 87, 3) := dk_182 0 87 (dk_at dksX0_restore_0 4 rfl rfl)
theorem dX0_restore_7 : decode cX0_restore 7 = .ok (.i2l, 1) := dk_133 (dk_at dksX0_restore_0 7 rfl rfl)
theorem dX0_restore_8 : decode cX0_restore 8 = .ok (.lastore, 1) := dk_80 (dk_at dksX0_restore_0 8 rfl rfl)
theorem dX0_restore_9 : decode cX0_restore 9 = .ok (.goto 9, 3) := dk_167 0 9 (dk_at dksX0_restore_0 9 rfl rfl)
theorem dX0_restore_12 : decode cX0_restore 12 = .ok (.astore_n 3, 1) := dk_78 (dk_at dksX0_restore_0 12 rfl rfl)
theorem dX0_restore_13 : decode cX0_restore 13 = .ok (.iconst 1, 1) := dk_4 (dk_at dksX0_restore_0 13 rfl rfl)
theorem dX0_restore_14 : decode cX0_restore 14 = .ok (.ireturn, 1) := dk_172 (dk_at dksX0_restore_0 14 rfl rfl)
theorem dX0_restore_15 : decode cX0_restore 15 = .ok (.astore_n 3, 1) := dk_78 (dk_at dksX0_restore_0 15 rfl rfl)
theorem dX0_restore_16 : decode cX0_restore 16 = .ok (.iconst 2, 1) := dk_5 (dk_at dksX0_restore_0 16 rfl rfl)
theorem dX0_restore_17 : decode cX0_restore 17 = .ok (.ireturn, 1) := dk_172 (dk_at dksX0_restore_0 17 rfl rfl)
theorem dX0_restore_18 : decode cX0_restore 18 = .ok (.iconst 0, 1) := dk_3 (dk_at dksX0_restore_0 18 rfl rfl)
theorem dX0_restore_19 : decode cX0_restore 19 = .ok (.ireturn, 1) := dk_172 (dk_at dksX0_restore_0 19 rfl rfl)
theorem q148 : (Jvm.Cond.initialized "LoopSignalsLaw") ∈ lw_all := lw_g (lw_at lw_m1 0 rfl) rfl
theorem q213 : (Jvm.Cond.classLink "LoopSignalsLaw" (8 : Nat) "LoopSignals") ∈ lw_all := lw_g (lw_at lw_m1 65 rfl) rfl
theorem q215 : (Jvm.Cond.methodLink "LoopSignalsLaw" (92 : Nat) ({ cls := "LoopSignals", name := "<init>", desc := "()V" } : Jvm.MethodName)) ∈ lw_all := lw_g (lw_at lw_m1 67 rfl) rfl
theorem q2045 : (Jvm.Cond.methodLink "LoopSignalsLaw" (96 : Nat) ({ cls := "LoopSignals", name := "feed", desc := "(IIIII)I" } : Jvm.MethodName)) ∈ lw_all := lw_g (lw_at lw_m8 217 rfl) rfl
theorem q2059 : (Jvm.Cond.methodLink "LoopSignalsLaw" (101 : Nat) ({ cls := "LoopSignals", name := "load", desc := "()I" } : Jvm.MethodName)) ∈ lw_all := lw_g (lw_at lw_m8 231 rfl) rfl
theorem q2371 : (Jvm.Cond.methodLink "LoopSignalsLaw" (106 : Nat) ({ cls := "LoopSignals", name := "play", desc := "()I" } : Jvm.MethodName)) ∈ lw_all := lw_g (lw_at lw_m10 63 rfl) rfl
theorem q2943 : (Jvm.Cond.methodLink "LoopSignalsLaw" (110 : Nat) ({ cls := "LoopSignals", name := "errorPosition", desc := "()I" } : Jvm.MethodName)) ∈ lw_all := lw_g (lw_at lw_m12 155 rfl) rfl
theorem q2947 : (Jvm.Cond.methodLink "LoopSignalsLaw" (142 : Nat) ({ cls := "LoopSignals", name := "find", desc := "()I" } : Jvm.MethodName)) ∈ lw_all := lw_g (lw_at lw_m12 159 rfl) rfl
theorem q2956 : (Jvm.Cond.methodLink "LoopSignalsLaw" (152 : Nat) ({ cls := "LoopSignals", name := "gap", desc := "()I" } : Jvm.MethodName)) ∈ lw_all := lw_g (lw_at lw_m12 168 rfl) rfl
theorem q2983 : (Jvm.Cond.methodLink "LoopSignalsLaw" (156 : Nat) ({ cls := "LoopSignals", name := "meanWait", desc := "()D" } : Jvm.MethodName)) ∈ lw_all := lw_g (lw_at lw_m12 195 rfl) rfl
theorem q2987 : (Jvm.Cond.methodLink "LoopSignalsLaw" (167 : Nat) ({ cls := "LoopSignals", name := "emptyIn", desc := "()I" } : Jvm.MethodName)) ∈ lw_all := lw_g (lw_at lw_m12 199 rfl) rfl
theorem q2993 : (Jvm.Cond.methodLink "LoopSignalsLaw" (208 : Nat) ({ cls := "LoopSignals", name := "report", desc := "()I" } : Jvm.MethodName)) ∈ lw_all := lw_g (lw_at lw_m12 205 rfl) rfl
theorem q3010 : (Jvm.Cond.methodLink "LoopSignalsLaw" (212 : Nat) ({ cls := "LoopSignals", name := "phases", desc := "()I" } : Jvm.MethodName)) ∈ lw_all := lw_g (lw_at lw_m12 222 rfl) rfl
theorem q3021 : (Jvm.Cond.methodLink "LoopSignalsLaw" (216 : Nat) ({ cls := "LoopSignals", name := "reportByte", desc := "(I)I" } : Jvm.MethodName)) ∈ lw_all := lw_g (lw_at lw_m12 233 rfl) rfl
theorem q3027 : (Jvm.Cond.methodLink "LoopSignalsLaw" (220 : Nat) ({ cls := "LoopSignals", name := "undo", desc := "()I" } : Jvm.MethodName)) ∈ lw_all := lw_g (lw_at lw_m12 239 rfl) rfl
theorem q3046 : (Jvm.Cond.methodLink "LoopSignalsLaw" (114 : Nat) ({ cls := "LoopSignalsLaw", name := "size", desc := "(LLoopSignals;I[J)I" } : Jvm.MethodName)) ∈ lw_all := lw_g (lw_at lw_m13 18 rfl) rfl
theorem q3047 : (Jvm.Cond.static ({ cls := "LoopSignalsLaw", name := "size", desc := "(LLoopSignals;I[J)I" } : Jvm.MethodName)) ∈ lw_all := lw_g (lw_at lw_m13 19 rfl) rfl
theorem q3048 : (Jvm.Cond.codeWith ({ cls := "LoopSignalsLaw", name := "size", desc := "(LLoopSignals;I[J)I" } : Jvm.MethodName) method_3_code (4 : Nat) (Option.some Jvm.ClassFile.FieldType.int) [((0 : Nat), (9 : Nat), (12 : Nat), (13 : Nat))]) ∈ lw_all := lw_g (lw_at lw_m13 20 rfl) rfl
theorem q3049 : (Jvm.Cond.classLink "LoopSignalsLaw" (13 : Nat) "java/lang/IllegalArgumentException") ∈ lw_all := lw_g (lw_at lw_m13 21 rfl) rfl
theorem q3050 : (Jvm.Cond.methodLink "LoopSignalsLaw" (7 : Nat) ({ cls := "LoopSignals", name := "size", desc := "(I)I" } : Jvm.MethodName)) ∈ lw_all := lw_g (lw_at lw_m13 22 rfl) rfl
theorem q3101 : (Jvm.Cond.methodLink "LoopSignalsLaw" (123 : Nat) ({ cls := "LoopSignalsLaw", name := "arm", desc := "(LLoopSignals;II[J)I" } : Jvm.MethodName)) ∈ lw_all := lw_g (lw_at lw_m13 73 rfl) rfl
theorem q3102 : (Jvm.Cond.static ({ cls := "LoopSignalsLaw", name := "arm", desc := "(LLoopSignals;II[J)I" } : Jvm.MethodName)) ∈ lw_all := lw_g (lw_at lw_m13 74 rfl) rfl
theorem q3103 : (Jvm.Cond.codeWith ({ cls := "LoopSignalsLaw", name := "arm", desc := "(LLoopSignals;II[J)I" } : Jvm.MethodName) method_4_code (5 : Nat) (Option.some Jvm.ClassFile.FieldType.int) [((0 : Nat), (10 : Nat), (13 : Nat), (13 : Nat))]) ∈ lw_all := lw_g (lw_at lw_m13 75 rfl) rfl
theorem q3104 : (Jvm.Cond.methodLink "LoopSignalsLaw" (15 : Nat) ({ cls := "LoopSignals", name := "arm", desc := "(II)I" } : Jvm.MethodName)) ∈ lw_all := lw_g (lw_at lw_m13 76 rfl) rfl
theorem q3150 : (Jvm.Cond.methodLink "LoopSignalsLaw" (127 : Nat) ({ cls := "LoopSignalsLaw", name := "phase", desc := "(LLoopSignals;II[J)I" } : Jvm.MethodName)) ∈ lw_all := lw_g (lw_at lw_m13 122 rfl) rfl
theorem q3151 : (Jvm.Cond.static ({ cls := "LoopSignalsLaw", name := "phase", desc := "(LLoopSignals;II[J)I" } : Jvm.MethodName)) ∈ lw_all := lw_g (lw_at lw_m13 123 rfl) rfl
theorem q3152 : (Jvm.Cond.codeWith ({ cls := "LoopSignalsLaw", name := "phase", desc := "(LLoopSignals;II[J)I" } : Jvm.MethodName) method_5_code (5 : Nat) (Option.some Jvm.ClassFile.FieldType.int) [((0 : Nat), (10 : Nat), (13 : Nat), (13 : Nat))]) ∈ lw_all := lw_g (lw_at lw_m13 124 rfl) rfl
theorem q3153 : (Jvm.Cond.methodLink "LoopSignalsLaw" (19 : Nat) ({ cls := "LoopSignals", name := "phase", desc := "(II)I" } : Jvm.MethodName)) ∈ lw_all := lw_g (lw_at lw_m13 125 rfl) rfl
theorem q3188 : (Jvm.Cond.methodLink "LoopSignalsLaw" (130 : Nat) ({ cls := "LoopSignalsLaw", name := "has", desc := "(LLoopSignals;II[J)I" } : Jvm.MethodName)) ∈ lw_all := lw_g (lw_at lw_m13 160 rfl) rfl
theorem q3189 : (Jvm.Cond.static ({ cls := "LoopSignalsLaw", name := "has", desc := "(LLoopSignals;II[J)I" } : Jvm.MethodName)) ∈ lw_all := lw_g (lw_at lw_m13 161 rfl) rfl
theorem q3190 : (Jvm.Cond.codeWith ({ cls := "LoopSignalsLaw", name := "has", desc := "(LLoopSignals;II[J)I" } : Jvm.MethodName) method_6_code (5 : Nat) (Option.some Jvm.ClassFile.FieldType.int) [((0 : Nat), (17 : Nat), (20 : Nat), (13 : Nat))]) ∈ lw_all := lw_g (lw_at lw_m13 162 rfl) rfl
theorem q3191 : (Jvm.Cond.methodLink "LoopSignalsLaw" (22 : Nat) ({ cls := "LoopSignals", name := "has", desc := "(II)Z" } : Jvm.MethodName)) ∈ lw_all := lw_g (lw_at lw_m13 163 rfl) rfl
theorem q3196 : (Jvm.Cond.methodLink "LoopSignalsLaw" (133 : Nat) ({ cls := "LoopSignalsLaw", name := "doClash", desc := "(LLoopSignals;II[J)I" } : Jvm.MethodName)) ∈ lw_all := lw_g (lw_at lw_m13 168 rfl) rfl
theorem q3197 : (Jvm.Cond.static ({ cls := "LoopSignalsLaw", name := "doClash", desc := "(LLoopSignals;II[J)I" } : Jvm.MethodName)) ∈ lw_all := lw_g (lw_at lw_m13 169 rfl) rfl
theorem q3198 : (Jvm.Cond.codeWith ({ cls := "LoopSignalsLaw", name := "doClash", desc := "(LLoopSignals;II[J)I" } : Jvm.MethodName) method_7_code (5 : Nat) (Option.some Jvm.ClassFile.FieldType.int) [((0 : Nat), (17 : Nat), (20 : Nat), (13 : Nat))]) ∈ lw_all := lw_g (lw_at lw_m13 170 rfl) rfl
theorem q3199 : (Jvm.Cond.methodLink "LoopSignalsLaw" (26 : Nat) ({ cls := "LoopSignals", name := "doClash", desc := "(II)Z" } : Jvm.MethodName)) ∈ lw_all := lw_g (lw_at lw_m13 171 rfl) rfl
theorem q3204 : (Jvm.Cond.methodLink "LoopSignalsLaw" (136 : Nat) ({ cls := "LoopSignalsLaw", name := "car", desc := "(LLoopSignals;II[J)I" } : Jvm.MethodName)) ∈ lw_all := lw_g (lw_at lw_m13 176 rfl) rfl
theorem q3205 : (Jvm.Cond.static ({ cls := "LoopSignalsLaw", name := "car", desc := "(LLoopSignals;II[J)I" } : Jvm.MethodName)) ∈ lw_all := lw_g (lw_at lw_m13 177 rfl) rfl
theorem q3206 : (Jvm.Cond.codeWith ({ cls := "LoopSignalsLaw", name := "car", desc := "(LLoopSignals;II[J)I" } : Jvm.MethodName) method_8_code (5 : Nat) (Option.some Jvm.ClassFile.FieldType.int) [((0 : Nat), (10 : Nat), (13 : Nat), (13 : Nat))]) ∈ lw_all := lw_g (lw_at lw_m13 178 rfl) rfl
theorem q3207 : (Jvm.Cond.methodLink "LoopSignalsLaw" (29 : Nat) ({ cls := "LoopSignals", name := "car", desc := "(II)I" } : Jvm.MethodName)) ∈ lw_all := lw_g (lw_at lw_m13 179 rfl) rfl
theorem q3211 : (Jvm.Cond.methodLink "LoopSignalsLaw" (139 : Nat) ({ cls := "LoopSignalsLaw", name := "letter", desc := "(LLoopSignals;II[J)I" } : Jvm.MethodName)) ∈ lw_all := lw_g (lw_at lw_m13 183 rfl) rfl
theorem q3212 : (Jvm.Cond.static ({ cls := "LoopSignalsLaw", name := "letter", desc := "(LLoopSignals;II[J)I" } : Jvm.MethodName)) ∈ lw_all := lw_g (lw_at lw_m13 184 rfl) rfl
theorem q3213 : (Jvm.Cond.codeWith ({ cls := "LoopSignalsLaw", name := "letter", desc := "(LLoopSignals;II[J)I" } : Jvm.MethodName) method_9_code (5 : Nat) (Option.some Jvm.ClassFile.FieldType.int) [((0 : Nat), (10 : Nat), (13 : Nat), (13 : Nat))]) ∈ lw_all := lw_g (lw_at lw_m13 185 rfl) rfl
theorem q3214 : (Jvm.Cond.methodLink "LoopSignalsLaw" (32 : Nat) ({ cls := "LoopSignals", name := "letter", desc := "(II)I" } : Jvm.MethodName)) ∈ lw_all := lw_g (lw_at lw_m13 186 rfl) rfl
theorem q3218 : (Jvm.Cond.methodLink "LoopSignalsLaw" (146 : Nat) ({ cls := "LoopSignalsLaw", name := "why", desc := "(LLoopSignals;II[J)I" } : Jvm.MethodName)) ∈ lw_all := lw_g (lw_at lw_m13 190 rfl) rfl
theorem q3219 : (Jvm.Cond.static ({ cls := "LoopSignalsLaw", name := "why", desc := "(LLoopSignals;II[J)I" } : Jvm.MethodName)) ∈ lw_all := lw_g (lw_at lw_m13 191 rfl) rfl
theorem q3220 : (Jvm.Cond.codeWith ({ cls := "LoopSignalsLaw", name := "why", desc := "(LLoopSignals;II[J)I" } : Jvm.MethodName) method_10_code (5 : Nat) (Option.some Jvm.ClassFile.FieldType.int) [((0 : Nat), (10 : Nat), (13 : Nat), (13 : Nat))]) ∈ lw_all := lw_g (lw_at lw_m13 192 rfl) rfl
theorem q3221 : (Jvm.Cond.methodLink "LoopSignalsLaw" (35 : Nat) ({ cls := "LoopSignals", name := "why", desc := "(II)I" } : Jvm.MethodName)) ∈ lw_all := lw_g (lw_at lw_m13 193 rfl) rfl
theorem q3242 : (Jvm.Cond.methodLink "LoopSignalsLaw" (149 : Nat) ({ cls := "LoopSignalsLaw", name := "account", desc := "(LLoopSignals;I[J)I" } : Jvm.MethodName)) ∈ lw_all := lw_g (lw_at lw_m13 214 rfl) rfl
theorem q3243 : (Jvm.Cond.static ({ cls := "LoopSignalsLaw", name := "account", desc := "(LLoopSignals;I[J)I" } : Jvm.MethodName)) ∈ lw_all := lw_g (lw_at lw_m13 215 rfl) rfl
theorem q3244 : (Jvm.Cond.codeWith ({ cls := "LoopSignalsLaw", name := "account", desc := "(LLoopSignals;I[J)I" } : Jvm.MethodName) method_11_code (4 : Nat) (Option.some Jvm.ClassFile.FieldType.int) [((0 : Nat), (9 : Nat), (12 : Nat), (13 : Nat))]) ∈ lw_all := lw_g (lw_at lw_m13 216 rfl) rfl
theorem q3245 : (Jvm.Cond.methodLink "LoopSignalsLaw" (38 : Nat) ({ cls := "LoopSignals", name := "account", desc := "(I)I" } : Jvm.MethodName)) ∈ lw_all := lw_g (lw_at lw_m13 217 rfl) rfl
theorem q3250 : (Jvm.Cond.methodLink "LoopSignalsLaw" (161 : Nat) ({ cls := "LoopSignalsLaw", name := "greenBits", desc := "(LLoopSignals;I[J)I" } : Jvm.MethodName)) ∈ lw_all := lw_g (lw_at lw_m13 222 rfl) rfl
theorem q3251 : (Jvm.Cond.static ({ cls := "LoopSignalsLaw", name := "greenBits", desc := "(LLoopSignals;I[J)I" } : Jvm.MethodName)) ∈ lw_all := lw_g (lw_at lw_m13 223 rfl) rfl
theorem q3252 : (Jvm.Cond.codeWith ({ cls := "LoopSignalsLaw", name := "greenBits", desc := "(LLoopSignals;I[J)I" } : Jvm.MethodName) method_12_code (4 : Nat) (Option.some Jvm.ClassFile.FieldType.int) [((0 : Nat), (9 : Nat), (12 : Nat), (13 : Nat))]) ∈ lw_all := lw_g (lw_at lw_m13 224 rfl) rfl
theorem q3253 : (Jvm.Cond.methodLink "LoopSignalsLaw" (41 : Nat) ({ cls := "LoopSignals", name := "greenBits", desc := "(I)I" } : Jvm.MethodName)) ∈ lw_all := lw_g (lw_at lw_m13 225 rfl) rfl
theorem q3263 : (Jvm.Cond.methodLink "LoopSignalsLaw" (164 : Nat) ({ cls := "LoopSignalsLaw", name := "greenIn", desc := "(LLoopSignals;I[J)I" } : Jvm.MethodName)) ∈ lw_all := lw_g (lw_at lw_m13 235 rfl) rfl
theorem q3264 : (Jvm.Cond.static ({ cls := "LoopSignalsLaw", name := "greenIn", desc := "(LLoopSignals;I[J)I" } : Jvm.MethodName)) ∈ lw_all := lw_g (lw_at lw_m13 236 rfl) rfl
theorem q3265 : (Jvm.Cond.codeWith ({ cls := "LoopSignalsLaw", name := "greenIn", desc := "(LLoopSignals;I[J)I" } : Jvm.MethodName) method_13_code (4 : Nat) (Option.some Jvm.ClassFile.FieldType.int) [((0 : Nat), (9 : Nat), (12 : Nat), (13 : Nat))]) ∈ lw_all := lw_g (lw_at lw_m13 237 rfl) rfl
theorem q3266 : (Jvm.Cond.methodLink "LoopSignalsLaw" (44 : Nat) ({ cls := "LoopSignals", name := "greenIn", desc := "(I)I" } : Jvm.MethodName)) ∈ lw_all := lw_g (lw_at lw_m13 238 rfl) rfl
theorem q3270 : (Jvm.Cond.methodLink "LoopSignalsLaw" (171 : Nat) ({ cls := "LoopSignalsLaw", name := "ifRule", desc := "(LLoopSignals;III[J)I" } : Jvm.MethodName)) ∈ lw_all := lw_g (lw_at lw_m14 2 rfl) rfl
theorem q3271 : (Jvm.Cond.static ({ cls := "LoopSignalsLaw", name := "ifRule", desc := "(LLoopSignals;III[J)I" } : Jvm.MethodName)) ∈ lw_all := lw_g (lw_at lw_m14 3 rfl) rfl
theorem q3272 : (Jvm.Cond.codeWith ({ cls := "LoopSignalsLaw", name := "ifRule", desc := "(LLoopSignals;III[J)I" } : Jvm.MethodName) method_14_code (6 : Nat) (Option.some Jvm.ClassFile.FieldType.int) [((0 : Nat), (12 : Nat), (15 : Nat), (13 : Nat))]) ∈ lw_all := lw_g (lw_at lw_m14 4 rfl) rfl
theorem q3273 : (Jvm.Cond.methodLink "LoopSignalsLaw" (47 : Nat) ({ cls := "LoopSignals", name := "ifRule", desc := "(III)I" } : Jvm.MethodName)) ∈ lw_all := lw_g (lw_at lw_m14 5 rfl) rfl
theorem q3288 : (Jvm.Cond.methodLink "LoopSignalsLaw" (175 : Nat) ({ cls := "LoopSignalsLaw", name := "bestRule", desc := "(LLoopSignals;I[J)I" } : Jvm.MethodName)) ∈ lw_all := lw_g (lw_at lw_m14 20 rfl) rfl
theorem q3289 : (Jvm.Cond.static ({ cls := "LoopSignalsLaw", name := "bestRule", desc := "(LLoopSignals;I[J)I" } : Jvm.MethodName)) ∈ lw_all := lw_g (lw_at lw_m14 21 rfl) rfl
theorem q3290 : (Jvm.Cond.codeWith ({ cls := "LoopSignalsLaw", name := "bestRule", desc := "(LLoopSignals;I[J)I" } : Jvm.MethodName) method_15_code (4 : Nat) (Option.some Jvm.ClassFile.FieldType.int) [((0 : Nat), (9 : Nat), (12 : Nat), (13 : Nat))]) ∈ lw_all := lw_g (lw_at lw_m14 22 rfl) rfl
theorem q3291 : (Jvm.Cond.methodLink "LoopSignalsLaw" (51 : Nat) ({ cls := "LoopSignals", name := "bestRule", desc := "(I)I" } : Jvm.MethodName)) ∈ lw_all := lw_g (lw_at lw_m14 23 rfl) rfl
theorem q3295 : (Jvm.Cond.methodLink "LoopSignalsLaw" (178 : Nat) ({ cls := "LoopSignalsLaw", name := "lightIn", desc := "(LLoopSignals;II[J)I" } : Jvm.MethodName)) ∈ lw_all := lw_g (lw_at lw_m14 27 rfl) rfl
theorem q3296 : (Jvm.Cond.static ({ cls := "LoopSignalsLaw", name := "lightIn", desc := "(LLoopSignals;II[J)I" } : Jvm.MethodName)) ∈ lw_all := lw_g (lw_at lw_m14 28 rfl) rfl
theorem q3297 : (Jvm.Cond.codeWith ({ cls := "LoopSignalsLaw", name := "lightIn", desc := "(LLoopSignals;II[J)I" } : Jvm.MethodName) method_16_code (5 : Nat) (Option.some Jvm.ClassFile.FieldType.int) [((0 : Nat), (10 : Nat), (13 : Nat), (13 : Nat))]) ∈ lw_all := lw_g (lw_at lw_m14 29 rfl) rfl
theorem q3298 : (Jvm.Cond.methodLink "LoopSignalsLaw" (54 : Nat) ({ cls := "LoopSignals", name := "lightIn", desc := "(II)I" } : Jvm.MethodName)) ∈ lw_all := lw_g (lw_at lw_m14 30 rfl) rfl
theorem q3302 : (Jvm.Cond.methodLink "LoopSignalsLaw" (181 : Nat) ({ cls := "LoopSignalsLaw", name := "couldJoin", desc := "(LLoopSignals;I[J)I" } : Jvm.MethodName)) ∈ lw_all := lw_g (lw_at lw_m14 34 rfl) rfl
theorem q3303 : (Jvm.Cond.static ({ cls := "LoopSignalsLaw", name := "couldJoin", desc := "(LLoopSignals;I[J)I" } : Jvm.MethodName)) ∈ lw_all := lw_g (lw_at lw_m14 35 rfl) rfl
theorem q3304 : (Jvm.Cond.codeWith ({ cls := "LoopSignalsLaw", name := "couldJoin", desc := "(LLoopSignals;I[J)I" } : Jvm.MethodName) method_17_code (4 : Nat) (Option.some Jvm.ClassFile.FieldType.int) [((0 : Nat), (9 : Nat), (12 : Nat), (13 : Nat))]) ∈ lw_all := lw_g (lw_at lw_m14 36 rfl) rfl
theorem q3305 : (Jvm.Cond.methodLink "LoopSignalsLaw" (57 : Nat) ({ cls := "LoopSignals", name := "couldJoin", desc := "(I)I" } : Jvm.MethodName)) ∈ lw_all := lw_g (lw_at lw_m14 37 rfl) rfl
theorem q3319 : (Jvm.Cond.methodLink "LoopSignalsLaw" (184 : Nat) ({ cls := "LoopSignalsLaw", name := "come", desc := "(LLoopSignals;II[J)I" } : Jvm.MethodName)) ∈ lw_all := lw_g (lw_at lw_m14 51 rfl) rfl
theorem q3320 : (Jvm.Cond.static ({ cls := "LoopSignalsLaw", name := "come", desc := "(LLoopSignals;II[J)I" } : Jvm.MethodName)) ∈ lw_all := lw_g (lw_at lw_m14 52 rfl) rfl
theorem q3321 : (Jvm.Cond.codeWith ({ cls := "LoopSignalsLaw", name := "come", desc := "(LLoopSignals;II[J)I" } : Jvm.MethodName) method_18_code (5 : Nat) (Option.some Jvm.ClassFile.FieldType.int) [((0 : Nat), (10 : Nat), (13 : Nat), (13 : Nat))]) ∈ lw_all := lw_g (lw_at lw_m14 53 rfl) rfl
theorem q3322 : (Jvm.Cond.methodLink "LoopSignalsLaw" (60 : Nat) ({ cls := "LoopSignals", name := "come", desc := "(II)I" } : Jvm.MethodName)) ∈ lw_all := lw_g (lw_at lw_m14 54 rfl) rfl
theorem q3337 : (Jvm.Cond.methodLink "LoopSignalsLaw" (187 : Nat) ({ cls := "LoopSignalsLaw", name := "pass", desc := "(LLoopSignals;I[J)I" } : Jvm.MethodName)) ∈ lw_all := lw_g (lw_at lw_m14 69 rfl) rfl
theorem q3338 : (Jvm.Cond.static ({ cls := "LoopSignalsLaw", name := "pass", desc := "(LLoopSignals;I[J)I" } : Jvm.MethodName)) ∈ lw_all := lw_g (lw_at lw_m14 70 rfl) rfl
theorem q3339 : (Jvm.Cond.codeWith ({ cls := "LoopSignalsLaw", name := "pass", desc := "(LLoopSignals;I[J)I" } : Jvm.MethodName) method_19_code (4 : Nat) (Option.some Jvm.ClassFile.FieldType.int) [((0 : Nat), (9 : Nat), (12 : Nat), (13 : Nat))]) ∈ lw_all := lw_g (lw_at lw_m14 71 rfl) rfl
theorem q3340 : (Jvm.Cond.methodLink "LoopSignalsLaw" (63 : Nat) ({ cls := "LoopSignals", name := "pass", desc := "(I)I" } : Jvm.MethodName)) ∈ lw_all := lw_g (lw_at lw_m14 72 rfl) rfl
theorem q3348 : (Jvm.Cond.methodLink "LoopSignalsLaw" (190 : Nat) ({ cls := "LoopSignalsLaw", name := "call", desc := "(LLoopSignals;I[J)I" } : Jvm.MethodName)) ∈ lw_all := lw_g (lw_at lw_m14 80 rfl) rfl
theorem q3349 : (Jvm.Cond.static ({ cls := "LoopSignalsLaw", name := "call", desc := "(LLoopSignals;I[J)I" } : Jvm.MethodName)) ∈ lw_all := lw_g (lw_at lw_m14 81 rfl) rfl
theorem q3350 : (Jvm.Cond.codeWith ({ cls := "LoopSignalsLaw", name := "call", desc := "(LLoopSignals;I[J)I" } : Jvm.MethodName) method_20_code (4 : Nat) (Option.some Jvm.ClassFile.FieldType.int) [((0 : Nat), (9 : Nat), (12 : Nat), (13 : Nat))]) ∈ lw_all := lw_g (lw_at lw_m14 82 rfl) rfl
theorem q3351 : (Jvm.Cond.methodLink "LoopSignalsLaw" (66 : Nat) ({ cls := "LoopSignals", name := "call", desc := "(I)I" } : Jvm.MethodName)) ∈ lw_all := lw_g (lw_at lw_m14 83 rfl) rfl
theorem q3358 : (Jvm.Cond.methodLink "LoopSignalsLaw" (193 : Nat) ({ cls := "LoopSignalsLaw", name := "setBroken", desc := "(LLoopSignals;IZ[J)I" } : Jvm.MethodName)) ∈ lw_all := lw_g (lw_at lw_m14 90 rfl) rfl
theorem q3359 : (Jvm.Cond.static ({ cls := "LoopSignalsLaw", name := "setBroken", desc := "(LLoopSignals;IZ[J)I" } : Jvm.MethodName)) ∈ lw_all := lw_g (lw_at lw_m14 91 rfl) rfl
theorem q3360 : (Jvm.Cond.codeWith ({ cls := "LoopSignalsLaw", name := "setBroken", desc := "(LLoopSignals;IZ[J)I" } : Jvm.MethodName) method_21_code (5 : Nat) (Option.some Jvm.ClassFile.FieldType.int) [((0 : Nat), (10 : Nat), (13 : Nat), (13 : Nat))]) ∈ lw_all := lw_g (lw_at lw_m14 92 rfl) rfl
theorem q3361 : (Jvm.Cond.methodLink "LoopSignalsLaw" (69 : Nat) ({ cls := "LoopSignals", name := "setBroken", desc := "(IZ)I" } : Jvm.MethodName)) ∈ lw_all := lw_g (lw_at lw_m14 93 rfl) rfl
theorem q3368 : (Jvm.Cond.methodLink "LoopSignalsLaw" (197 : Nat) ({ cls := "LoopSignalsLaw", name := "clash", desc := "(LLoopSignals;IIZ[J)I" } : Jvm.MethodName)) ∈ lw_all := lw_g (lw_at lw_m14 100 rfl) rfl
theorem q3369 : (Jvm.Cond.static ({ cls := "LoopSignalsLaw", name := "clash", desc := "(LLoopSignals;IIZ[J)I" } : Jvm.MethodName)) ∈ lw_all := lw_g (lw_at lw_m14 101 rfl) rfl
theorem q3370 : (Jvm.Cond.codeWith ({ cls := "LoopSignalsLaw", name := "clash", desc := "(LLoopSignals;IIZ[J)I" } : Jvm.MethodName) method_22_code (6 : Nat) (Option.some Jvm.ClassFile.FieldType.int) [((0 : Nat), (12 : Nat), (15 : Nat), (13 : Nat))]) ∈ lw_all := lw_g (lw_at lw_m14 102 rfl) rfl
theorem q3371 : (Jvm.Cond.methodLink "LoopSignalsLaw" (73 : Nat) ({ cls := "LoopSignals", name := "clash", desc := "(IIZ)I" } : Jvm.MethodName)) ∈ lw_all := lw_g (lw_at lw_m14 103 rfl) rfl
theorem q3425 : (Jvm.Cond.methodLink "LoopSignalsLaw" (201 : Nat) ({ cls := "LoopSignalsLaw", name := "setPhase", desc := "(LLoopSignals;IZI[J)I" } : Jvm.MethodName)) ∈ lw_all := lw_g (lw_at lw_m14 157 rfl) rfl
theorem q3426 : (Jvm.Cond.static ({ cls := "LoopSignalsLaw", name := "setPhase", desc := "(LLoopSignals;IZI[J)I" } : Jvm.MethodName)) ∈ lw_all := lw_g (lw_at lw_m14 158 rfl) rfl
theorem q3427 : (Jvm.Cond.codeWith ({ cls := "LoopSignalsLaw", name := "setPhase", desc := "(LLoopSignals;IZI[J)I" } : Jvm.MethodName) method_23_code (6 : Nat) (Option.some Jvm.ClassFile.FieldType.int) [((0 : Nat), (12 : Nat), (15 : Nat), (13 : Nat))]) ∈ lw_all := lw_g (lw_at lw_m14 159 rfl) rfl
theorem q3428 : (Jvm.Cond.methodLink "LoopSignalsLaw" (77 : Nat) ({ cls := "LoopSignals", name := "setPhase", desc := "(IZI)I" } : Jvm.MethodName)) ∈ lw_all := lw_g (lw_at lw_m14 160 rfl) rfl
theorem q3435 : (Jvm.Cond.methodLink "LoopSignalsLaw" (205 : Nat) ({ cls := "LoopSignalsLaw", name := "set", desc := "(LLoopSignals;II[J)I" } : Jvm.MethodName)) ∈ lw_all := lw_g (lw_at lw_m14 167 rfl) rfl
theorem q3436 : (Jvm.Cond.static ({ cls := "LoopSignalsLaw", name := "set", desc := "(LLoopSignals;II[J)I" } : Jvm.MethodName)) ∈ lw_all := lw_g (lw_at lw_m14 168 rfl) rfl
theorem q3437 : (Jvm.Cond.codeWith ({ cls := "LoopSignalsLaw", name := "set", desc := "(LLoopSignals;II[J)I" } : Jvm.MethodName) method_24_code (5 : Nat) (Option.some Jvm.ClassFile.FieldType.int) [((0 : Nat), (10 : Nat), (13 : Nat), (13 : Nat))]) ∈ lw_all := lw_g (lw_at lw_m14 169 rfl) rfl
theorem q3438 : (Jvm.Cond.methodLink "LoopSignalsLaw" (81 : Nat) ({ cls := "LoopSignals", name := "set", desc := "(II)I" } : Jvm.MethodName)) ∈ lw_all := lw_g (lw_at lw_m14 170 rfl) rfl
theorem q3448 : (Jvm.Cond.methodLink "LoopSignalsLaw" (224 : Nat) ({ cls := "LoopSignalsLaw", name := "save", desc := "(LLoopSignals;I[J)I" } : Jvm.MethodName)) ∈ lw_all := lw_g (lw_at lw_m14 180 rfl) rfl
theorem q3449 : (Jvm.Cond.static ({ cls := "LoopSignalsLaw", name := "save", desc := "(LLoopSignals;I[J)I" } : Jvm.MethodName)) ∈ lw_all := lw_g (lw_at lw_m14 181 rfl) rfl
theorem q3450 : (Jvm.Cond.codeWith ({ cls := "LoopSignalsLaw", name := "save", desc := "(LLoopSignals;I[J)I" } : Jvm.MethodName) method_25_code (4 : Nat) (Option.some Jvm.ClassFile.FieldType.int) [((0 : Nat), (9 : Nat), (12 : Nat), (13 : Nat))]) ∈ lw_all := lw_g (lw_at lw_m14 182 rfl) rfl
theorem q3451 : (Jvm.Cond.methodLink "LoopSignalsLaw" (84 : Nat) ({ cls := "LoopSignals", name := "save", desc := "(I)I" } : Jvm.MethodName)) ∈ lw_all := lw_g (lw_at lw_m14 183 rfl) rfl
theorem q3458 : (Jvm.Cond.methodLink "LoopSignalsLaw" (227 : Nat) ({ cls := "LoopSignalsLaw", name := "restore", desc := "(LLoopSignals;I[J)I" } : Jvm.MethodName)) ∈ lw_all := lw_g (lw_at lw_m14 190 rfl) rfl
theorem q3459 : (Jvm.Cond.static ({ cls := "LoopSignalsLaw", name := "restore", desc := "(LLoopSignals;I[J)I" } : Jvm.MethodName)) ∈ lw_all := lw_g (lw_at lw_m14 191 rfl) rfl
theorem q3460 : (Jvm.Cond.codeWith ({ cls := "LoopSignalsLaw", name := "restore", desc := "(LLoopSignals;I[J)I" } : Jvm.MethodName) method_26_code (4 : Nat) (Option.some Jvm.ClassFile.FieldType.int) [((0 : Nat), (9 : Nat), (12 : Nat), (13 : Nat)), ((0 : Nat), (9 : Nat), (15 : Nat), (90 : Nat))]) ∈ lw_all := lw_g (lw_at lw_m14 192 rfl) rfl
theorem q3461 : (Jvm.Cond.classLink "LoopSignalsLaw" (90 : Nat) "java/util/NoSuchElementException") ∈ lw_all := lw_g (lw_at lw_m14 193 rfl) rfl
theorem q3462 : (Jvm.Cond.methodLink "LoopSignalsLaw" (87 : Nat) ({ cls := "LoopSignals", name := "restore", desc := "(I)I" } : Jvm.MethodName)) ∈ lw_all := lw_g (lw_at lw_m14 194 rfl) rfl
theorem q3471 : (Jvm.Cond.classLink "LoopSignalsLaw" (93 : Nat) "LoopSignalsModel") ∈ lw_all := lw_g (lw_at lw_m14 203 rfl) rfl
theorem q3473 : (Jvm.Cond.methodLink "LoopSignalsLaw" (95 : Nat) ({ cls := "LoopSignalsModel", name := "<init>", desc := "()V" } : Jvm.MethodName)) ∈ lw_all := lw_g (lw_at lw_m14 205 rfl) rfl
theorem q3672 : (Jvm.Cond.methodLink "LoopSignalsLaw" (120 : Nat) ({ cls := "LoopSignalsModel", name := "thrown", desc := "()I" } : Jvm.MethodName)) ∈ lw_all := lw_g (lw_at lw_m15 164 rfl) rfl
theorem q3676 : (Jvm.Cond.methodLink "LoopSignalsLaw" (100 : Nat) ({ cls := "LoopSignalsModel", name := "feed", desc := "(IIIII)I" } : Jvm.MethodName)) ∈ lw_all := lw_g (lw_at lw_m15 168 rfl) rfl
theorem q3684 : (Jvm.Cond.methodLink "LoopSignalsLaw" (113 : Nat) ({ cls := "LoopSignalsModel", name := "errorPosition", desc := "()I" } : Jvm.MethodName)) ∈ lw_all := lw_g (lw_at lw_m15 176 rfl) rfl
theorem q3688 : (Jvm.Cond.methodLink "LoopSignalsLaw" (105 : Nat) ({ cls := "LoopSignalsModel", name := "load", desc := "()I" } : Jvm.MethodName)) ∈ lw_all := lw_g (lw_at lw_m15 180 rfl) rfl
theorem q3692 : (Jvm.Cond.methodLink "LoopSignalsLaw" (109 : Nat) ({ cls := "LoopSignalsModel", name := "play", desc := "()I" } : Jvm.MethodName)) ∈ lw_all := lw_g (lw_at lw_m15 184 rfl) rfl
theorem q3843 : (Jvm.Cond.methodLink "LoopSignalsLaw" (119 : Nat) ({ cls := "LoopSignalsModel", name := "size", desc := "(I)I" } : Jvm.MethodName)) ∈ lw_all := lw_g (lw_at lw_m16 95 rfl) rfl
theorem q3855 : (Jvm.Cond.methodLink "LoopSignalsLaw" (126 : Nat) ({ cls := "LoopSignalsModel", name := "arm", desc := "(II)I" } : Jvm.MethodName)) ∈ lw_all := lw_g (lw_at lw_m16 107 rfl) rfl
theorem q3871 : (Jvm.Cond.methodLink "LoopSignalsLaw" (129 : Nat) ({ cls := "LoopSignalsModel", name := "phase", desc := "(II)I" } : Jvm.MethodName)) ∈ lw_all := lw_g (lw_at lw_m16 123 rfl) rfl
theorem q3879 : (Jvm.Cond.methodLink "LoopSignalsLaw" (132 : Nat) ({ cls := "LoopSignalsModel", name := "has", desc := "(II)Z" } : Jvm.MethodName)) ∈ lw_all := lw_g (lw_at lw_m16 131 rfl) rfl
theorem q3883 : (Jvm.Cond.methodLink "LoopSignalsLaw" (135 : Nat) ({ cls := "LoopSignalsModel", name := "doClash", desc := "(II)Z" } : Jvm.MethodName)) ∈ lw_all := lw_g (lw_at lw_m16 135 rfl) rfl
theorem q3887 : (Jvm.Cond.methodLink "LoopSignalsLaw" (138 : Nat) ({ cls := "LoopSignalsModel", name := "car", desc := "(II)I" } : Jvm.MethodName)) ∈ lw_all := lw_g (lw_at lw_m16 139 rfl) rfl
theorem q3891 : (Jvm.Cond.methodLink "LoopSignalsLaw" (141 : Nat) ({ cls := "LoopSignalsModel", name := "letter", desc := "(II)I" } : Jvm.MethodName)) ∈ lw_all := lw_g (lw_at lw_m16 143 rfl) rfl
theorem q3898 : (Jvm.Cond.methodLink "LoopSignalsLaw" (145 : Nat) ({ cls := "LoopSignalsModel", name := "find", desc := "()I" } : Jvm.MethodName)) ∈ lw_all := lw_g (lw_at lw_m16 150 rfl) rfl
theorem q3902 : (Jvm.Cond.methodLink "LoopSignalsLaw" (148 : Nat) ({ cls := "LoopSignalsModel", name := "why", desc := "(II)I" } : Jvm.MethodName)) ∈ lw_all := lw_g (lw_at lw_m16 154 rfl) rfl
theorem q3914 : (Jvm.Cond.methodLink "LoopSignalsLaw" (151 : Nat) ({ cls := "LoopSignalsModel", name := "account", desc := "(I)I" } : Jvm.MethodName)) ∈ lw_all := lw_g (lw_at lw_m16 166 rfl) rfl
theorem q3918 : (Jvm.Cond.methodLink "LoopSignalsLaw" (155 : Nat) ({ cls := "LoopSignalsModel", name := "gap", desc := "()I" } : Jvm.MethodName)) ∈ lw_all := lw_g (lw_at lw_m16 170 rfl) rfl
theorem q3927 : (Jvm.Cond.methodLink "LoopSignalsLaw" (160 : Nat) ({ cls := "LoopSignalsModel", name := "meanWait", desc := "()D" } : Jvm.MethodName)) ∈ lw_all := lw_g (lw_at lw_m16 179 rfl) rfl
theorem q3931 : (Jvm.Cond.methodLink "LoopSignalsLaw" (163 : Nat) ({ cls := "LoopSignalsModel", name := "greenBits", desc := "(I)I" } : Jvm.MethodName)) ∈ lw_all := lw_g (lw_at lw_m16 183 rfl) rfl
theorem q3936 : (Jvm.Cond.methodLink "LoopSignalsLaw" (166 : Nat) ({ cls := "LoopSignalsModel", name := "greenIn", desc := "(I)I" } : Jvm.MethodName)) ∈ lw_all := lw_g (lw_at lw_m16 188 rfl) rfl
theorem q3948 : (Jvm.Cond.methodLink "LoopSignalsLaw" (170 : Nat) ({ cls := "LoopSignalsModel", name := "emptyIn", desc := "()I" } : Jvm.MethodName)) ∈ lw_all := lw_g (lw_at lw_m16 200 rfl) rfl
theorem q3952 : (Jvm.Cond.methodLink "LoopSignalsLaw" (174 : Nat) ({ cls := "LoopSignalsModel", name := "ifRule", desc := "(III)I" } : Jvm.MethodName)) ∈ lw_all := lw_g (lw_at lw_m16 204 rfl) rfl
theorem q3960 : (Jvm.Cond.methodLink "LoopSignalsLaw" (177 : Nat) ({ cls := "LoopSignalsModel", name := "bestRule", desc := "(I)I" } : Jvm.MethodName)) ∈ lw_all := lw_g (lw_at lw_m16 212 rfl) rfl
theorem q3964 : (Jvm.Cond.methodLink "LoopSignalsLaw" (180 : Nat) ({ cls := "LoopSignalsModel", name := "lightIn", desc := "(II)I" } : Jvm.MethodName)) ∈ lw_all := lw_g (lw_at lw_m16 216 rfl) rfl
theorem q3968 : (Jvm.Cond.methodLink "LoopSignalsLaw" (183 : Nat) ({ cls := "LoopSignalsModel", name := "couldJoin", desc := "(I)I" } : Jvm.MethodName)) ∈ lw_all := lw_g (lw_at lw_m16 220 rfl) rfl
theorem q3972 : (Jvm.Cond.methodLink "LoopSignalsLaw" (186 : Nat) ({ cls := "LoopSignalsModel", name := "come", desc := "(II)I" } : Jvm.MethodName)) ∈ lw_all := lw_g (lw_at lw_m16 224 rfl) rfl
theorem q3976 : (Jvm.Cond.methodLink "LoopSignalsLaw" (189 : Nat) ({ cls := "LoopSignalsModel", name := "pass", desc := "(I)I" } : Jvm.MethodName)) ∈ lw_all := lw_g (lw_at lw_m16 228 rfl) rfl
theorem q3980 : (Jvm.Cond.methodLink "LoopSignalsLaw" (192 : Nat) ({ cls := "LoopSignalsModel", name := "call", desc := "(I)I" } : Jvm.MethodName)) ∈ lw_all := lw_g (lw_at lw_m16 232 rfl) rfl
theorem q3984 : (Jvm.Cond.methodLink "LoopSignalsLaw" (196 : Nat) ({ cls := "LoopSignalsModel", name := "setBroken", desc := "(IZ)I" } : Jvm.MethodName)) ∈ lw_all := lw_g (lw_at lw_m16 236 rfl) rfl
theorem q3988 : (Jvm.Cond.methodLink "LoopSignalsLaw" (200 : Nat) ({ cls := "LoopSignalsModel", name := "clash", desc := "(IIZ)I" } : Jvm.MethodName)) ∈ lw_all := lw_g (lw_at lw_m17 0 rfl) rfl
theorem q3996 : (Jvm.Cond.methodLink "LoopSignalsLaw" (204 : Nat) ({ cls := "LoopSignalsModel", name := "setPhase", desc := "(IZI)I" } : Jvm.MethodName)) ∈ lw_all := lw_g (lw_at lw_m17 8 rfl) rfl
theorem q4000 : (Jvm.Cond.methodLink "LoopSignalsLaw" (207 : Nat) ({ cls := "LoopSignalsModel", name := "set", desc := "(II)I" } : Jvm.MethodName)) ∈ lw_all := lw_g (lw_at lw_m17 12 rfl) rfl
theorem q4004 : (Jvm.Cond.methodLink "LoopSignalsLaw" (211 : Nat) ({ cls := "LoopSignalsModel", name := "report", desc := "()I" } : Jvm.MethodName)) ∈ lw_all := lw_g (lw_at lw_m17 16 rfl) rfl
theorem q4016 : (Jvm.Cond.methodLink "LoopSignalsLaw" (215 : Nat) ({ cls := "LoopSignalsModel", name := "phases", desc := "()I" } : Jvm.MethodName)) ∈ lw_all := lw_g (lw_at lw_m17 28 rfl) rfl
theorem q4024 : (Jvm.Cond.methodLink "LoopSignalsLaw" (219 : Nat) ({ cls := "LoopSignalsModel", name := "reportByte", desc := "(I)I" } : Jvm.MethodName)) ∈ lw_all := lw_g (lw_at lw_m17 36 rfl) rfl
theorem q4028 : (Jvm.Cond.methodLink "LoopSignalsLaw" (223 : Nat) ({ cls := "LoopSignalsModel", name := "undo", desc := "()I" } : Jvm.MethodName)) ∈ lw_all := lw_g (lw_at lw_m17 40 rfl) rfl
theorem q4032 : (Jvm.Cond.methodLink "LoopSignalsLaw" (226 : Nat) ({ cls := "LoopSignalsModel", name := "save", desc := "(I)I" } : Jvm.MethodName)) ∈ lw_all := lw_g (lw_at lw_m17 44 rfl) rfl
theorem q4036 : (Jvm.Cond.methodLink "LoopSignalsLaw" (229 : Nat) ({ cls := "LoopSignalsModel", name := "restore", desc := "(I)I" } : Jvm.MethodName)) ∈ lw_all := lw_g (lw_at lw_m17 48 rfl) rfl

