/-! java/lang/Integer -/
set_option maxRecDepth 100000
def RJ18 : String := "java/lang/Integer"
def TJ18 : u_T := fun k => match k with
  | _ => ("java/lang/Integer", "value", "I", true)
def tyJ18 : Nat → FieldType := fun k => match k with
  | _ => .int
abbrev wsJ180 : List Cond := u_ws RJ18 TJ18 1
theorem nmJ18 : ∀ a, a < 1 → ∀ b, b < 1 → a ≠ b → (TJ18 a).2.1 ≠ (TJ18 b).2.1 := by decide +kernel
theorem tyJ18_ok : ∀ k, k < 1 → parseFieldDescriptor (TJ18 k).2.2.1 = some (tyJ18 k) := by decide +kernel
abbrev cJ18_stringSize : ByteArray := prog_32_method_13_code
def yJ18_stringSize : MethodName := ⟨RJ18, "stringSize", "(I)I"⟩
def dkwJ18_stringSize_1 : List UInt8 := [164, 0, 7, 29, 27, 96, 172, 16, 10, 28, 104, 61, 132, 3, 1, 167, 255, 233, 16, 10, 27, 96, 172]
abbrev dktJ18_stringSize_1 : List UInt8 := dkwJ18_stringSize_1 ++ []
def dkwJ18_stringSize_0 : List UInt8 := [4, 60, 26, 155, 0, 8, 3, 60, 26, 116, 59, 16, 246, 61, 4, 62, 29, 16, 10, 162, 0, 23, 26, 28]
abbrev dktJ18_stringSize_0 : List UInt8 := dkwJ18_stringSize_0 ++ dktJ18_stringSize_1
theorem dksJ18_stringSize_0 : cJ18_stringSize.data.toList.drop 0 = dktJ18_stringSize_0 := by decide +kernel
theorem dksJ18_stringSize_1 : cJ18_stringSize.data.toList.drop 24 = dktJ18_stringSize_1 := dk_seg dksJ18_stringSize_0 24 rfl rfl
theorem dJ18_stringSize_0 : decode cJ18_stringSize 0 = .ok (.iconst 1, 1) := dk_4 (dk_at dksJ18_stringSize_0 0 rfl rfl)
theorem dJ18_stringSize_1 : decode cJ18_stringSize 1 = .ok (.istore_n 1, 1) := dk_60 (dk_at dksJ18_stringSize_0 1 rfl rfl)
theorem dJ18_stringSize_2 : decode cJ18_stringSize 2 = .ok (.iload_n 0, 1) := dk_26 (dk_at dksJ18_stringSize_0 2 rfl rfl)
theorem dJ18_stringSize_3 : decode cJ18_stringSize 3 = .ok (.ifCond .lt 8, 3) := dk_155 0 8 (dk_at dksJ18_stringSize_0 3 rfl rfl)
theorem dJ18_stringSize_6 : decode cJ18_stringSize 6 = .ok (.iconst 0, 1) := dk_3 (dk_at dksJ18_stringSize_0 6 rfl rfl)
theorem dJ18_stringSize_7 : decode cJ18_stringSize 7 = .ok (.istore_n 1, 1) := dk_60 (dk_at dksJ18_stringSize_0 7 rfl rfl)
theorem dJ18_stringSize_8 : decode cJ18_stringSize 8 = .ok (.iload_n 0, 1) := dk_26 (dk_at dksJ18_stringSize_0 8 rfl rfl)
theorem dJ18_stringSize_9 : decode cJ18_stringSize 9 = .ok (.ineg, 1) := dk_116 (dk_at dksJ18_stringSize_0 9 rfl rfl)
theorem dJ18_stringSize_10 : decode cJ18_stringSize 10 = .ok (.istore_n 0, 1) := dk_59 (dk_at dksJ18_stringSize_0 10 rfl rfl)
theorem dJ18_stringSize_11 : decode cJ18_stringSize 11 = .ok (.bipush (-10), 2) := dk_16 246 (dk_at dksJ18_stringSize_0 11 rfl rfl)
theorem dJ18_stringSize_13 : decode cJ18_stringSize 13 = .ok (.istore_n 2, 1) := dk_61 (dk_at dksJ18_stringSize_0 13 rfl rfl)
theorem dJ18_stringSize_14 : decode cJ18_stringSize 14 = .ok (.iconst 1, 1) := dk_4 (dk_at dksJ18_stringSize_0 14 rfl rfl)
theorem dJ18_stringSize_15 : decode cJ18_stringSize 15 = .ok (.istore_n 3, 1) := dk_62 (dk_at dksJ18_stringSize_0 15 rfl rfl)
theorem dJ18_stringSize_16 : decode cJ18_stringSize 16 = .ok (.iload_n 3, 1) := dk_29 (dk_at dksJ18_stringSize_0 16 rfl rfl)
theorem dJ18_stringSize_17 : decode cJ18_stringSize 17 = .ok (.bipush 10, 2) := dk_16 10 (dk_at dksJ18_stringSize_0 17 rfl rfl)
theorem dJ18_stringSize_19 : decode cJ18_stringSize 19 = .ok (.if_icmp .ge 23, 3) := dk_162 0 23 (dk_at dksJ18_stringSize_0 19 rfl rfl)
theorem dJ18_stringSize_22 : decode cJ18_stringSize 22 = .ok (.iload_n 0, 1) := dk_26 (dk_at dksJ18_stringSize_0 22 rfl rfl)
theorem dJ18_stringSize_23 : decode cJ18_stringSize 23 = .ok (.iload_n 2, 1) := dk_28 (dk_at dksJ18_stringSize_0 23 rfl rfl)
theorem dJ18_stringSize_24 : decode cJ18_stringSize 24 = .ok (.if_icmp .le 7, 3) := dk_164 0 7 (dk_at dksJ18_stringSize_1 0 rfl rfl)
theorem dJ18_stringSize_27 : decode cJ18_stringSize 27 = .ok (.iload_n 3, 1) := dk_29 (dk_at dksJ18_stringSize_1 3 rfl rfl)
theorem dJ18_stringSize_28 : decode cJ18_stringSize 28 = .ok (.iload_n 1, 1) := dk_27 (dk_at dksJ18_stringSize_1 4 rfl rfl)
theorem dJ18_stringSize_29 : decode cJ18_stringSize 29 = .ok (.iadd, 1) := dk_96 (dk_at dksJ18_stringSize_1 5 rfl rfl)
theorem dJ18_stringSize_30 : decode cJ18_stringSize 30 = .ok (.ireturn, 1) := dk_172 (dk_at dksJ18_stringSize_1 6 rfl rfl)
theorem dJ18_stringSize_31 : decode cJ18_stringSize 31 = .ok (.bipush 10, 2) := dk_16 10 (dk_at dksJ18_stringSize_1 7 rfl rfl)
theorem dJ18_stringSize_33 : decode cJ18_stringSize 33 = .ok (.iload_n 2, 1) := dk_28 (dk_at dksJ18_stringSize_1 9 rfl rfl)
theorem dJ18_stringSize_34 : decode cJ18_stringSize 34 = .ok (.imul, 1) := dk_104 (dk_at dksJ18_stringSize_1 10 rfl rfl)
theorem dJ18_stringSize_35 : decode cJ18_stringSize 35 = .ok (.istore_n 2, 1) := dk_61 (dk_at dksJ18_stringSize_1 11 rfl rfl)
theorem dJ18_stringSize_36 : decode cJ18_stringSize 36 = .ok (.iinc 3 1, 3) := dk_132 3 1 (dk_at dksJ18_stringSize_1 12 rfl rfl)
theorem dJ18_stringSize_39 : decode cJ18_stringSize 39 = .ok (.goto (-23), 3) := dk_167 255 233 (dk_at dksJ18_stringSize_1 15 rfl rfl)
theorem dJ18_stringSize_42 : decode cJ18_stringSize 42 = .ok (.bipush 10, 2) := dk_16 10 (dk_at dksJ18_stringSize_1 18 rfl rfl)
theorem dJ18_stringSize_44 : decode cJ18_stringSize 44 = .ok (.iload_n 1, 1) := dk_27 (dk_at dksJ18_stringSize_1 20 rfl rfl)
theorem dJ18_stringSize_45 : decode cJ18_stringSize 45 = .ok (.iadd, 1) := dk_96 (dk_at dksJ18_stringSize_1 21 rfl rfl)
theorem dJ18_stringSize_46 : decode cJ18_stringSize 46 = .ok (.ireturn, 1) := dk_172 (dk_at dksJ18_stringSize_1 22 rfl rfl)
abbrev cJ18_getChars : ByteArray := prog_32_method_12_code
def yJ18_getChars : MethodName := ⟨RJ18, "getChars", "(II[B)I"⟩
def dkwJ18_getChars_5 : List UInt8 := [16, 45, 84, 21, 5, 172]
abbrev dktJ18_getChars_5 : List UInt8 := dkwJ18_getChars_5 ++ []
def dkwJ18_getChars_4 : List UInt8 := [132, 5, 255, 21, 5, 178, 0, 87, 26, 116, 51, 84, 21, 6, 153, 0, 12, 44, 132, 5, 255, 21, 5]
abbrev dktJ18_getChars_4 : List UInt8 := dkwJ18_getChars_4 ++ dktJ18_getChars_5
def dkwJ18_getChars_3 : List UInt8 := [167, 255, 209, 44, 132, 5, 255, 21, 5, 178, 0, 83, 26, 116, 51, 84, 26, 16, 247, 162, 0, 16, 44]
abbrev dktJ18_getChars_3 : List UInt8 := dkwJ18_getChars_3 ++ dktJ18_getChars_4
def dkwJ18_getChars_2 : List UInt8 := [21, 5, 178, 0, 83, 21, 4, 51, 84, 44, 132, 5, 255, 21, 5, 178, 0, 87, 21, 4, 51, 84]
abbrev dktJ18_getChars_2 : List UInt8 := dkwJ18_getChars_2 ++ dktJ18_getChars_3
def dkwJ18_getChars_1 : List UInt8 := [16, 156, 163, 0, 47, 26, 16, 100, 108, 62, 29, 16, 100, 104, 26, 100, 54, 4, 29, 59, 44, 132, 5, 255]
abbrev dktJ18_getChars_1 : List UInt8 := dkwJ18_getChars_1 ++ dktJ18_getChars_2
def dkwJ18_getChars_0 : List UInt8 := [27, 54, 5, 26, 156, 0, 7, 4, 167, 0, 4, 3, 54, 6, 21, 6, 154, 0, 6, 26, 116, 59, 26]
abbrev dktJ18_getChars_0 : List UInt8 := dkwJ18_getChars_0 ++ dktJ18_getChars_1
theorem dksJ18_getChars_0 : cJ18_getChars.data.toList.drop 0 = dktJ18_getChars_0 := by decide +kernel
theorem dksJ18_getChars_1 : cJ18_getChars.data.toList.drop 23 = dktJ18_getChars_1 := dk_seg dksJ18_getChars_0 23 rfl rfl
theorem dksJ18_getChars_2 : cJ18_getChars.data.toList.drop 47 = dktJ18_getChars_2 := dk_seg dksJ18_getChars_1 24 rfl rfl
theorem dksJ18_getChars_3 : cJ18_getChars.data.toList.drop 69 = dktJ18_getChars_3 := dk_seg dksJ18_getChars_2 22 rfl rfl
theorem dksJ18_getChars_4 : cJ18_getChars.data.toList.drop 92 = dktJ18_getChars_4 := dk_seg dksJ18_getChars_3 23 rfl rfl
theorem dksJ18_getChars_5 : cJ18_getChars.data.toList.drop 115 = dktJ18_getChars_5 := dk_seg dksJ18_getChars_4 23 rfl rfl
theorem dJ18_getChars_0 : decode cJ18_getChars 0 = .ok (.iload_n 1, 1) := dk_27 (dk_at dksJ18_getChars_0 0 rfl rfl)
theorem dJ18_getChars_1 : decode cJ18_getChars 1 = .ok (.istore 5, 2) := dk_54 5 (dk_at dksJ18_getChars_0 1 rfl rfl)
theorem dJ18_getChars_3 : decode cJ18_getChars 3 = .ok (.iload_n 0, 1) := dk_26 (dk_at dksJ18_getChars_0 3 rfl rfl)
theorem dJ18_getChars_4 : decode cJ18_getChars 4 = .ok (.ifCond .ge 7, 3) := dk_156 0 7 (dk_at dksJ18_getChars_0 4 rfl rfl)
theorem dJ18_getChars_7 : decode cJ18_getChars 7 = .ok (.iconst 1, 1) := dk_4 (dk_at dksJ18_getChars_0 7 rfl rfl)
theorem dJ18_getChars_8 : decode cJ18_getChars 8 = .ok (.goto 4, 3) := dk_167 0 4 (dk_at dksJ18_getChars_0 8 rfl rfl)
theorem dJ18_getChars_11 : decode cJ18_getChars 11 = .ok (.iconst 0, 1) := dk_3 (dk_at dksJ18_getChars_0 11 rfl rfl)
theorem dJ18_getChars_12 : decode cJ18_getChars 12 = .ok (.istore 6, 2) := dk_54 6 (dk_at dksJ18_getChars_0 12 rfl rfl)
theorem dJ18_getChars_14 : decode cJ18_getChars 14 = .ok (.iload 6, 2) := dk_21 6 (dk_at dksJ18_getChars_0 14 rfl rfl)
theorem dJ18_getChars_16 : decode cJ18_getChars 16 = .ok (.ifCond .ne 6, 3) := dk_154 0 6 (dk_at dksJ18_getChars_0 16 rfl rfl)
theorem dJ18_getChars_19 : decode cJ18_getChars 19 = .ok (.iload_n 0, 1) := dk_26 (dk_at dksJ18_getChars_0 19 rfl rfl)
theorem dJ18_getChars_20 : decode cJ18_getChars 20 = .ok (.ineg, 1) := dk_116 (dk_at dksJ18_getChars_0 20 rfl rfl)
theorem dJ18_getChars_21 : decode cJ18_getChars 21 = .ok (.istore_n 0, 1) := dk_59 (dk_at dksJ18_getChars_0 21 rfl rfl)
theorem dJ18_getChars_22 : decode cJ18_getChars 22 = .ok (.iload_n 0, 1) := dk_26 (dk_at dksJ18_getChars_0 22 rfl rfl)
theorem dJ18_getChars_23 : decode cJ18_getChars 23 = .ok (.bipush (-100), 2) := dk_16 156 (dk_at dksJ18_getChars_1 0 rfl rfl)
theorem dJ18_getChars_25 : decode cJ18_getChars 25 = .ok (.if_icmp .gt 47, 3) := dk_163 0 47 (dk_at dksJ18_getChars_1 2 rfl rfl)
theorem dJ18_getChars_28 : decode cJ18_getChars 28 = .ok (.iload_n 0, 1) := dk_26 (dk_at dksJ18_getChars_1 5 rfl rfl)
theorem dJ18_getChars_29 : decode cJ18_getChars 29 = .ok (.bipush 100, 2) := dk_16 100 (dk_at dksJ18_getChars_1 6 rfl rfl)
theorem dJ18_getChars_31 : decode cJ18_getChars 31 = .ok (.idiv, 1) := dk_108 (dk_at dksJ18_getChars_1 8 rfl rfl)
theorem dJ18_getChars_32 : decode cJ18_getChars 32 = .ok (.istore_n 3, 1) := dk_62 (dk_at dksJ18_getChars_1 9 rfl rfl)
theorem dJ18_getChars_33 : decode cJ18_getChars 33 = .ok (.iload_n 3, 1) := dk_29 (dk_at dksJ18_getChars_1 10 rfl rfl)
theorem dJ18_getChars_34 : decode cJ18_getChars 34 = .ok (.bipush 100, 2) := dk_16 100 (dk_at dksJ18_getChars_1 11 rfl rfl)
theorem dJ18_getChars_36 : decode cJ18_getChars 36 = .ok (.imul, 1) := dk_104 (dk_at dksJ18_getChars_1 13 rfl rfl)
theorem dJ18_getChars_37 : decode cJ18_getChars 37 = .ok (.iload_n 0, 1) := dk_26 (dk_at dksJ18_getChars_1 14 rfl rfl)
theorem dJ18_getChars_38 : decode cJ18_getChars 38 = .ok (.isub, 1) := dk_100 (dk_at dksJ18_getChars_1 15 rfl rfl)
theorem dJ18_getChars_39 : decode cJ18_getChars 39 = .ok (.istore 4, 2) := dk_54 4 (dk_at dksJ18_getChars_1 16 rfl rfl)
theorem dJ18_getChars_41 : decode cJ18_getChars 41 = .ok (.iload_n 3, 1) := dk_29 (dk_at dksJ18_getChars_1 18 rfl rfl)
theorem dJ18_getChars_42 : decode cJ18_getChars 42 = .ok (.istore_n 0, 1) := dk_59 (dk_at dksJ18_getChars_1 19 rfl rfl)
theorem dJ18_getChars_43 : decode cJ18_getChars 43 = .ok (.aload_n 2, 1) := dk_44 (dk_at dksJ18_getChars_1 20 rfl rfl)
theorem dJ18_getChars_44 : decode cJ18_getChars 44 = .ok (.iinc 5 (-1), 3) := dk_132 5 255 (dk_at dksJ18_getChars_1 21 rfl rfl)
theorem dJ18_getChars_47 : decode cJ18_getChars 47 = .ok (.iload 5, 2) := dk_21 5 (dk_at dksJ18_getChars_2 0 rfl rfl)
theorem dJ18_getChars_49 : decode cJ18_getChars 49 = .ok (.getstatic 83, 3) := dk_178 0 83 (dk_at dksJ18_getChars_2 2 rfl rfl)
theorem dJ18_getChars_52 : decode cJ18_getChars 52 = .ok (.iload 4, 2) := dk_21 4 (dk_at dksJ18_getChars_2 5 rfl rfl)
theorem dJ18_getChars_54 : decode cJ18_getChars 54 = .ok (.baload, 1) := dk_51 (dk_at dksJ18_getChars_2 7 rfl rfl)
theorem dJ18_getChars_55 : decode cJ18_getChars 55 = .ok (.bastore, 1) := dk_84 (dk_at dksJ18_getChars_2 8 rfl rfl)
theorem dJ18_getChars_56 : decode cJ18_getChars 56 = .ok (.aload_n 2, 1) := dk_44 (dk_at dksJ18_getChars_2 9 rfl rfl)
theorem dJ18_getChars_57 : decode cJ18_getChars 57 = .ok (.iinc 5 (-1), 3) := dk_132 5 255 (dk_at dksJ18_getChars_2 10 rfl rfl)
theorem dJ18_getChars_60 : decode cJ18_getChars 60 = .ok (.iload 5, 2) := dk_21 5 (dk_at dksJ18_getChars_2 13 rfl rfl)
theorem dJ18_getChars_62 : decode cJ18_getChars 62 = .ok (.getstatic 87, 3) := dk_178 0 87 (dk_at dksJ18_getChars_2 15 rfl rfl)
theorem dJ18_getChars_65 : decode cJ18_getChars 65 = .ok (.iload 4, 2) := dk_21 4 (dk_at dksJ18_getChars_2 18 rfl rfl)
theorem dJ18_getChars_67 : decode cJ18_getChars 67 = .ok (.baload, 1) := dk_51 (dk_at dksJ18_getChars_2 20 rfl rfl)
theorem dJ18_getChars_68 : decode cJ18_getChars 68 = .ok (.bastore, 1) := dk_84 (dk_at dksJ18_getChars_2 21 rfl rfl)
theorem dJ18_getChars_69 : decode cJ18_getChars 69 = .ok (.goto (-47), 3) := dk_167 255 209 (dk_at dksJ18_getChars_3 0 rfl rfl)
theorem dJ18_getChars_72 : decode cJ18_getChars 72 = .ok (.aload_n 2, 1) := dk_44 (dk_at dksJ18_getChars_3 3 rfl rfl)
theorem dJ18_getChars_73 : decode cJ18_getChars 73 = .ok (.iinc 5 (-1), 3) := dk_132 5 255 (dk_at dksJ18_getChars_3 4 rfl rfl)
theorem dJ18_getChars_76 : decode cJ18_getChars 76 = .ok (.iload 5, 2) := dk_21 5 (dk_at dksJ18_getChars_3 7 rfl rfl)
theorem dJ18_getChars_78 : decode cJ18_getChars 78 = .ok (.getstatic 83, 3) := dk_178 0 83 (dk_at dksJ18_getChars_3 9 rfl rfl)
theorem dJ18_getChars_81 : decode cJ18_getChars 81 = .ok (.iload_n 0, 1) := dk_26 (dk_at dksJ18_getChars_3 12 rfl rfl)
theorem dJ18_getChars_82 : decode cJ18_getChars 82 = .ok (.ineg, 1) := dk_116 (dk_at dksJ18_getChars_3 13 rfl rfl)
theorem dJ18_getChars_83 : decode cJ18_getChars 83 = .ok (.baload, 1) := dk_51 (dk_at dksJ18_getChars_3 14 rfl rfl)
theorem dJ18_getChars_84 : decode cJ18_getChars 84 = .ok (.bastore, 1) := dk_84 (dk_at dksJ18_getChars_3 15 rfl rfl)
theorem dJ18_getChars_85 : decode cJ18_getChars 85 = .ok (.iload_n 0, 1) := dk_26 (dk_at dksJ18_getChars_3 16 rfl rfl)
theorem dJ18_getChars_86 : decode cJ18_getChars 86 = .ok (.bipush (-9), 2) := dk_16 247 (dk_at dksJ18_getChars_3 17 rfl rfl)
theorem dJ18_getChars_88 : decode cJ18_getChars 88 = .ok (.if_icmp .ge 16, 3) := dk_162 0 16 (dk_at dksJ18_getChars_3 19 rfl rfl)
theorem dJ18_getChars_91 : decode cJ18_getChars 91 = .ok (.aload_n 2, 1) := dk_44 (dk_at dksJ18_getChars_3 22 rfl rfl)
theorem dJ18_getChars_92 : decode cJ18_getChars 92 = .ok (.iinc 5 (-1), 3) := dk_132 5 255 (dk_at dksJ18_getChars_4 0 rfl rfl)
theorem dJ18_getChars_95 : decode cJ18_getChars 95 = .ok (.iload 5, 2) := dk_21 5 (dk_at dksJ18_getChars_4 3 rfl rfl)
theorem dJ18_getChars_97 : decode cJ18_getChars 97 = .ok (.getstatic 87, 3) := dk_178 0 87 (dk_at dksJ18_getChars_4 5 rfl rfl)
theorem dJ18_getChars_100 : decode cJ18_getChars 100 = .ok (.iload_n 0, 1) := dk_26 (dk_at dksJ18_getChars_4 8 rfl rfl)
theorem dJ18_getChars_101 : decode cJ18_getChars 101 = .ok (.ineg, 1) := dk_116 (dk_at dksJ18_getChars_4 9 rfl rfl)
theorem dJ18_getChars_102 : decode cJ18_getChars 102 = .ok (.baload, 1) := dk_51 (dk_at dksJ18_getChars_4 10 rfl rfl)
theorem dJ18_getChars_103 : decode cJ18_getChars 103 = .ok (.bastore, 1) := dk_84 (dk_at dksJ18_getChars_4 11 rfl rfl)
theorem dJ18_getChars_104 : decode cJ18_getChars 104 = .ok (.iload 6, 2) := dk_21 6 (dk_at dksJ18_getChars_4 12 rfl rfl)
theorem dJ18_getChars_106 : decode cJ18_getChars 106 = .ok (.ifCond .eq 12, 3) := dk_153 0 12 (dk_at dksJ18_getChars_4 14 rfl rfl)
theorem dJ18_getChars_109 : decode cJ18_getChars 109 = .ok (.aload_n 2, 1) := dk_44 (dk_at dksJ18_getChars_4 17 rfl rfl)
theorem dJ18_getChars_110 : decode cJ18_getChars 110 = .ok (.iinc 5 (-1), 3) := dk_132 5 255 (dk_at dksJ18_getChars_4 18 rfl rfl)
theorem dJ18_getChars_113 : decode cJ18_getChars 113 = .ok (.iload 5, 2) := dk_21 5 (dk_at dksJ18_getChars_4 21 rfl rfl)
theorem dJ18_getChars_115 : decode cJ18_getChars 115 = .ok (.bipush 45, 2) := dk_16 45 (dk_at dksJ18_getChars_5 0 rfl rfl)
theorem dJ18_getChars_117 : decode cJ18_getChars 117 = .ok (.bastore, 1) := dk_84 (dk_at dksJ18_getChars_5 2 rfl rfl)
theorem dJ18_getChars_118 : decode cJ18_getChars 118 = .ok (.iload 5, 2) := dk_21 5 (dk_at dksJ18_getChars_5 3 rfl rfl)
theorem dJ18_getChars_120 : decode cJ18_getChars 120 = .ok (.ireturn, 1) := dk_172 (dk_at dksJ18_getChars_5 5 rfl rfl)
abbrev cJ18_numberOfLeadingZeros : ByteArray := prog_32_method_47_code
def yJ18_numberOfLeadingZeros : MethodName := ⟨RJ18, "numberOfLeadingZeros", "(I)I"⟩
def dkwJ18_numberOfLeadingZeros_3 : List UInt8 := [5, 124, 59, 27, 26, 4, 124, 100, 172]
abbrev dktJ18_numberOfLeadingZeros_3 : List UInt8 := dkwJ18_numberOfLeadingZeros_3 ++ []
def dkwJ18_numberOfLeadingZeros_2 : List UInt8 := [124, 59, 26, 16, 16, 161, 0, 10, 132, 1, 252, 26, 7, 124, 59, 26, 7, 161, 0, 10, 132, 1, 254, 26]
abbrev dktJ18_numberOfLeadingZeros_2 : List UInt8 := dkwJ18_numberOfLeadingZeros_2 ++ dktJ18_numberOfLeadingZeros_3
def dkwJ18_numberOfLeadingZeros_1 : List UInt8 := [161, 0, 11, 132, 1, 240, 26, 16, 16, 124, 59, 26, 17, 1, 0, 161, 0, 11, 132, 1, 248, 26, 16, 8]
abbrev dktJ18_numberOfLeadingZeros_1 : List UInt8 := dkwJ18_numberOfLeadingZeros_1 ++ dktJ18_numberOfLeadingZeros_2
def dkwJ18_numberOfLeadingZeros_0 : List UInt8 := [26, 157, 0, 14, 26, 154, 0, 8, 16, 32, 167, 0, 4, 3, 172, 16, 31, 60, 26, 19, 1, 8]
abbrev dktJ18_numberOfLeadingZeros_0 : List UInt8 := dkwJ18_numberOfLeadingZeros_0 ++ dktJ18_numberOfLeadingZeros_1
theorem dksJ18_numberOfLeadingZeros_0 : cJ18_numberOfLeadingZeros.data.toList.drop 0 = dktJ18_numberOfLeadingZeros_0 := by decide +kernel
theorem dksJ18_numberOfLeadingZeros_1 : cJ18_numberOfLeadingZeros.data.toList.drop 22 = dktJ18_numberOfLeadingZeros_1 := dk_seg dksJ18_numberOfLeadingZeros_0 22 rfl rfl
theorem dksJ18_numberOfLeadingZeros_2 : cJ18_numberOfLeadingZeros.data.toList.drop 46 = dktJ18_numberOfLeadingZeros_2 := dk_seg dksJ18_numberOfLeadingZeros_1 24 rfl rfl
theorem dksJ18_numberOfLeadingZeros_3 : cJ18_numberOfLeadingZeros.data.toList.drop 70 = dktJ18_numberOfLeadingZeros_3 := dk_seg dksJ18_numberOfLeadingZeros_2 24 rfl rfl
theorem dJ18_numberOfLeadingZeros_0 : decode cJ18_numberOfLeadingZeros 0 = .ok (.iload_n 0, 1) := dk_26 (dk_at dksJ18_numberOfLeadingZeros_0 0 rfl rfl)
theorem dJ18_numberOfLeadingZeros_1 : decode cJ18_numberOfLeadingZeros 1 = .ok (.ifCond .gt 14, 3) := dk_157 0 14 (dk_at dksJ18_numberOfLeadingZeros_0 1 rfl rfl)
theorem dJ18_numberOfLeadingZeros_4 : decode cJ18_numberOfLeadingZeros 4 = .ok (.iload_n 0, 1) := dk_26 (dk_at dksJ18_numberOfLeadingZeros_0 4 rfl rfl)
theorem dJ18_numberOfLeadingZeros_5 : decode cJ18_numberOfLeadingZeros 5 = .ok (.ifCond .ne 8, 3) := dk_154 0 8 (dk_at dksJ18_numberOfLeadingZeros_0 5 rfl rfl)
theorem dJ18_numberOfLeadingZeros_8 : decode cJ18_numberOfLeadingZeros 8 = .ok (.bipush 32, 2) := dk_16 32 (dk_at dksJ18_numberOfLeadingZeros_0 8 rfl rfl)
theorem dJ18_numberOfLeadingZeros_10 : decode cJ18_numberOfLeadingZeros 10 = .ok (.goto 4, 3) := dk_167 0 4 (dk_at dksJ18_numberOfLeadingZeros_0 10 rfl rfl)
theorem dJ18_numberOfLeadingZeros_13 : decode cJ18_numberOfLeadingZeros 13 = .ok (.iconst 0, 1) := dk_3 (dk_at dksJ18_numberOfLeadingZeros_0 13 rfl rfl)
theorem dJ18_numberOfLeadingZeros_14 : decode cJ18_numberOfLeadingZeros 14 = .ok (.ireturn, 1) := dk_172 (dk_at dksJ18_numberOfLeadingZeros_0 14 rfl rfl)
theorem dJ18_numberOfLeadingZeros_15 : decode cJ18_numberOfLeadingZeros 15 = .ok (.bipush 31, 2) := dk_16 31 (dk_at dksJ18_numberOfLeadingZeros_0 15 rfl rfl)
theorem dJ18_numberOfLeadingZeros_17 : decode cJ18_numberOfLeadingZeros 17 = .ok (.istore_n 1, 1) := dk_60 (dk_at dksJ18_numberOfLeadingZeros_0 17 rfl rfl)
theorem dJ18_numberOfLeadingZeros_18 : decode cJ18_numberOfLeadingZeros 18 = .ok (.iload_n 0, 1) := dk_26 (dk_at dksJ18_numberOfLeadingZeros_0 18 rfl rfl)
theorem dJ18_numberOfLeadingZeros_19 : decode cJ18_numberOfLeadingZeros 19 = .ok (.ldc_w 264, 3) := dk_19 1 8 (dk_at dksJ18_numberOfLeadingZeros_0 19 rfl rfl)
theorem dJ18_numberOfLeadingZeros_22 : decode cJ18_numberOfLeadingZeros 22 = .ok (.if_icmp .lt 11, 3) := dk_161 0 11 (dk_at dksJ18_numberOfLeadingZeros_1 0 rfl rfl)
theorem dJ18_numberOfLeadingZeros_25 : decode cJ18_numberOfLeadingZeros 25 = .ok (.iinc 1 (-16), 3) := dk_132 1 240 (dk_at dksJ18_numberOfLeadingZeros_1 3 rfl rfl)
theorem dJ18_numberOfLeadingZeros_28 : decode cJ18_numberOfLeadingZeros 28 = .ok (.iload_n 0, 1) := dk_26 (dk_at dksJ18_numberOfLeadingZeros_1 6 rfl rfl)
theorem dJ18_numberOfLeadingZeros_29 : decode cJ18_numberOfLeadingZeros 29 = .ok (.bipush 16, 2) := dk_16 16 (dk_at dksJ18_numberOfLeadingZeros_1 7 rfl rfl)
theorem dJ18_numberOfLeadingZeros_31 : decode cJ18_numberOfLeadingZeros 31 = .ok (.iushr, 1) := dk_124 (dk_at dksJ18_numberOfLeadingZeros_1 9 rfl rfl)
theorem dJ18_numberOfLeadingZeros_32 : decode cJ18_numberOfLeadingZeros 32 = .ok (.istore_n 0, 1) := dk_59 (dk_at dksJ18_numberOfLeadingZeros_1 10 rfl rfl)
theorem dJ18_numberOfLeadingZeros_33 : decode cJ18_numberOfLeadingZeros 33 = .ok (.iload_n 0, 1) := dk_26 (dk_at dksJ18_numberOfLeadingZeros_1 11 rfl rfl)
theorem dJ18_numberOfLeadingZeros_34 : decode cJ18_numberOfLeadingZeros 34 = .ok (.sipush 256, 3) := dk_17 1 0 (dk_at dksJ18_numberOfLeadingZeros_1 12 rfl rfl)
theorem dJ18_numberOfLeadingZeros_37 : decode cJ18_numberOfLeadingZeros 37 = .ok (.if_icmp .lt 11, 3) := dk_161 0 11 (dk_at dksJ18_numberOfLeadingZeros_1 15 rfl rfl)
theorem dJ18_numberOfLeadingZeros_40 : decode cJ18_numberOfLeadingZeros 40 = .ok (.iinc 1 (-8), 3) := dk_132 1 248 (dk_at dksJ18_numberOfLeadingZeros_1 18 rfl rfl)
theorem dJ18_numberOfLeadingZeros_43 : decode cJ18_numberOfLeadingZeros 43 = .ok (.iload_n 0, 1) := dk_26 (dk_at dksJ18_numberOfLeadingZeros_1 21 rfl rfl)
theorem dJ18_numberOfLeadingZeros_44 : decode cJ18_numberOfLeadingZeros 44 = .ok (.bipush 8, 2) := dk_16 8 (dk_at dksJ18_numberOfLeadingZeros_1 22 rfl rfl)
theorem dJ18_numberOfLeadingZeros_46 : decode cJ18_numberOfLeadingZeros 46 = .ok (.iushr, 1) := dk_124 (dk_at dksJ18_numberOfLeadingZeros_2 0 rfl rfl)
theorem dJ18_numberOfLeadingZeros_47 : decode cJ18_numberOfLeadingZeros 47 = .ok (.istore_n 0, 1) := dk_59 (dk_at dksJ18_numberOfLeadingZeros_2 1 rfl rfl)
theorem dJ18_numberOfLeadingZeros_48 : decode cJ18_numberOfLeadingZeros 48 = .ok (.iload_n 0, 1) := dk_26 (dk_at dksJ18_numberOfLeadingZeros_2 2 rfl rfl)
theorem dJ18_numberOfLeadingZeros_49 : decode cJ18_numberOfLeadingZeros 49 = .ok (.bipush 16, 2) := dk_16 16 (dk_at dksJ18_numberOfLeadingZeros_2 3 rfl rfl)
theorem dJ18_numberOfLeadingZeros_51 : decode cJ18_numberOfLeadingZeros 51 = .ok (.if_icmp .lt 10, 3) := dk_161 0 10 (dk_at dksJ18_numberOfLeadingZeros_2 5 rfl rfl)
theorem dJ18_numberOfLeadingZeros_54 : decode cJ18_numberOfLeadingZeros 54 = .ok (.iinc 1 (-4), 3) := dk_132 1 252 (dk_at dksJ18_numberOfLeadingZeros_2 8 rfl rfl)
theorem dJ18_numberOfLeadingZeros_57 : decode cJ18_numberOfLeadingZeros 57 = .ok (.iload_n 0, 1) := dk_26 (dk_at dksJ18_numberOfLeadingZeros_2 11 rfl rfl)
theorem dJ18_numberOfLeadingZeros_58 : decode cJ18_numberOfLeadingZeros 58 = .ok (.iconst 4, 1) := dk_7 (dk_at dksJ18_numberOfLeadingZeros_2 12 rfl rfl)
theorem dJ18_numberOfLeadingZeros_59 : decode cJ18_numberOfLeadingZeros 59 = .ok (.iushr, 1) := dk_124 (dk_at dksJ18_numberOfLeadingZeros_2 13 rfl rfl)
theorem dJ18_numberOfLeadingZeros_60 : decode cJ18_numberOfLeadingZeros 60 = .ok (.istore_n 0, 1) := dk_59 (dk_at dksJ18_numberOfLeadingZeros_2 14 rfl rfl)
theorem dJ18_numberOfLeadingZeros_61 : decode cJ18_numberOfLeadingZeros 61 = .ok (.iload_n 0, 1) := dk_26 (dk_at dksJ18_numberOfLeadingZeros_2 15 rfl rfl)
theorem dJ18_numberOfLeadingZeros_62 : decode cJ18_numberOfLeadingZeros 62 = .ok (.iconst 4, 1) := dk_7 (dk_at dksJ18_numberOfLeadingZeros_2 16 rfl rfl)
theorem dJ18_numberOfLeadingZeros_63 : decode cJ18_numberOfLeadingZeros 63 = .ok (.if_icmp .lt 10, 3) := dk_161 0 10 (dk_at dksJ18_numberOfLeadingZeros_2 17 rfl rfl)
theorem dJ18_numberOfLeadingZeros_66 : decode cJ18_numberOfLeadingZeros 66 = .ok (.iinc 1 (-2), 3) := dk_132 1 254 (dk_at dksJ18_numberOfLeadingZeros_2 20 rfl rfl)
theorem dJ18_numberOfLeadingZeros_69 : decode cJ18_numberOfLeadingZeros 69 = .ok (.iload_n 0, 1) := dk_26 (dk_at dksJ18_numberOfLeadingZeros_2 23 rfl rfl)
theorem dJ18_numberOfLeadingZeros_70 : decode cJ18_numberOfLeadingZeros 70 = .ok (.iconst 2, 1) := dk_5 (dk_at dksJ18_numberOfLeadingZeros_3 0 rfl rfl)
theorem dJ18_numberOfLeadingZeros_71 : decode cJ18_numberOfLeadingZeros 71 = .ok (.iushr, 1) := dk_124 (dk_at dksJ18_numberOfLeadingZeros_3 1 rfl rfl)
theorem dJ18_numberOfLeadingZeros_72 : decode cJ18_numberOfLeadingZeros 72 = .ok (.istore_n 0, 1) := dk_59 (dk_at dksJ18_numberOfLeadingZeros_3 2 rfl rfl)
theorem dJ18_numberOfLeadingZeros_73 : decode cJ18_numberOfLeadingZeros 73 = .ok (.iload_n 1, 1) := dk_27 (dk_at dksJ18_numberOfLeadingZeros_3 3 rfl rfl)
theorem dJ18_numberOfLeadingZeros_74 : decode cJ18_numberOfLeadingZeros 74 = .ok (.iload_n 0, 1) := dk_26 (dk_at dksJ18_numberOfLeadingZeros_3 4 rfl rfl)
theorem dJ18_numberOfLeadingZeros_75 : decode cJ18_numberOfLeadingZeros 75 = .ok (.iconst 1, 1) := dk_4 (dk_at dksJ18_numberOfLeadingZeros_3 5 rfl rfl)
theorem dJ18_numberOfLeadingZeros_76 : decode cJ18_numberOfLeadingZeros 76 = .ok (.iushr, 1) := dk_124 (dk_at dksJ18_numberOfLeadingZeros_3 6 rfl rfl)
theorem dJ18_numberOfLeadingZeros_77 : decode cJ18_numberOfLeadingZeros 77 = .ok (.isub, 1) := dk_100 (dk_at dksJ18_numberOfLeadingZeros_3 7 rfl rfl)
theorem dJ18_numberOfLeadingZeros_78 : decode cJ18_numberOfLeadingZeros 78 = .ok (.ireturn, 1) := dk_172 (dk_at dksJ18_numberOfLeadingZeros_3 8 rfl rfl)
abbrev cJ18_toString : ByteArray := prog_32_method_31_code
def yJ18_toString : MethodName := ⟨RJ18, "toString", "()Ljava/lang/String;"⟩
def dkwJ18_toString_0 : List UInt8 := [42, 180, 0, 205, 184, 0, 9, 176]
abbrev dktJ18_toString_0 : List UInt8 := dkwJ18_toString_0 ++ []
theorem dksJ18_toString_0 : cJ18_toString.data.toList.drop 0 = dktJ18_toString_0 := by decide +kernel
theorem dJ18_toString_0 : decode cJ18_toString 0 = .ok (.aload_n 0, 1) := dk_42 (dk_at dksJ18_toString_0 0 rfl rfl)
theorem dJ18_toString_1 : decode cJ18_toString 1 = .ok (.getfield 205, 3) := dk_180 0 205 (dk_at dksJ18_toString_0 1 rfl rfl)
theorem dJ18_toString_4 : decode cJ18_toString 4 = .ok (.invokestatic 9, 3) := dk_184 0 9 (dk_at dksJ18_toString_0 4 rfl rfl)
theorem dJ18_toString_7 : decode cJ18_toString 7 = .ok (.areturn, 1) := dk_176 (dk_at dksJ18_toString_0 7 rfl rfl)
abbrev cJ18_toString_2 : ByteArray := prog_32_method_10_code
def yJ18_toString_2 : MethodName := ⟨RJ18, "toString", "(I)Ljava/lang/String;"⟩
def dkwJ18_toString_2_2 : List UInt8 := [187, 0, 5, 89, 44, 4, 183, 0, 65, 176]
abbrev dktJ18_toString_2_2 : List UInt8 := dkwJ18_toString_2_2 ++ []
def dkwJ18_toString_2_1 : List UInt8 := [187, 0, 5, 89, 44, 3, 183, 0, 65, 176, 27, 5, 104, 188, 8, 77, 26, 27, 44, 184, 0, 79, 87]
abbrev dktJ18_toString_2_1 : List UInt8 := dkwJ18_toString_2_1 ++ dktJ18_toString_2_2
def dkwJ18_toString_2_0 : List UInt8 := [26, 184, 0, 72, 60, 178, 0, 13, 153, 0, 24, 27, 188, 8, 77, 26, 27, 44, 184, 0, 75, 87]
abbrev dktJ18_toString_2_0 : List UInt8 := dkwJ18_toString_2_0 ++ dktJ18_toString_2_1
theorem dksJ18_toString_2_0 : cJ18_toString_2.data.toList.drop 0 = dktJ18_toString_2_0 := by decide +kernel
theorem dksJ18_toString_2_1 : cJ18_toString_2.data.toList.drop 22 = dktJ18_toString_2_1 := dk_seg dksJ18_toString_2_0 22 rfl rfl
theorem dksJ18_toString_2_2 : cJ18_toString_2.data.toList.drop 45 = dktJ18_toString_2_2 := dk_seg dksJ18_toString_2_1 23 rfl rfl
theorem dJ18_toString_2_0 : decode cJ18_toString_2 0 = .ok (.iload_n 0, 1) := dk_26 (dk_at dksJ18_toString_2_0 0 rfl rfl)
theorem dJ18_toString_2_1 : decode cJ18_toString_2 1 = .ok (.invokestatic 72, 3) := dk_184 0 72 (dk_at dksJ18_toString_2_0 1 rfl rfl)
theorem dJ18_toString_2_4 : decode cJ18_toString_2 4 = .ok (.istore_n 1, 1) := dk_60 (dk_at dksJ18_toString_2_0 4 rfl rfl)
theorem dJ18_toString_2_5 : decode cJ18_toString_2 5 = .ok (.getstatic 13, 3) := dk_178 0 13 (dk_at dksJ18_toString_2_0 5 rfl rfl)
theorem dJ18_toString_2_8 : decode cJ18_toString_2 8 = .ok (.ifCond .eq 24, 3) := dk_153 0 24 (dk_at dksJ18_toString_2_0 8 rfl rfl)
theorem dJ18_toString_2_11 : decode cJ18_toString_2 11 = .ok (.iload_n 1, 1) := dk_27 (dk_at dksJ18_toString_2_0 11 rfl rfl)
theorem dJ18_toString_2_12 : decode cJ18_toString_2 12 = .ok (.newarray .byte, 2) := dk_188_8 (dk_at dksJ18_toString_2_0 12 rfl rfl)
theorem dJ18_toString_2_14 : decode cJ18_toString_2 14 = .ok (.astore_n 2, 1) := dk_77 (dk_at dksJ18_toString_2_0 14 rfl rfl)
theorem dJ18_toString_2_15 : decode cJ18_toString_2 15 = .ok (.iload_n 0, 1) := dk_26 (dk_at dksJ18_toString_2_0 15 rfl rfl)
theorem dJ18_toString_2_16 : decode cJ18_toString_2 16 = .ok (.iload_n 1, 1) := dk_27 (dk_at dksJ18_toString_2_0 16 rfl rfl)
theorem dJ18_toString_2_17 : decode cJ18_toString_2 17 = .ok (.aload_n 2, 1) := dk_44 (dk_at dksJ18_toString_2_0 17 rfl rfl)
theorem dJ18_toString_2_18 : decode cJ18_toString_2 18 = .ok (.invokestatic 75, 3) := dk_184 0 75 (dk_at dksJ18_toString_2_0 18 rfl rfl)
theorem dJ18_toString_2_21 : decode cJ18_toString_2 21 = .ok (.pop, 1) := dk_87 (dk_at dksJ18_toString_2_0 21 rfl rfl)
theorem dJ18_toString_2_22 : decode cJ18_toString_2 22 = .ok (.new 5, 3) := dk_187 0 5 (dk_at dksJ18_toString_2_1 0 rfl rfl)
theorem dJ18_toString_2_25 : decode cJ18_toString_2 25 = .ok (.dup, 1) := dk_89 (dk_at dksJ18_toString_2_1 3 rfl rfl)
theorem dJ18_toString_2_26 : decode cJ18_toString_2 26 = .ok (.aload_n 2, 1) := dk_44 (dk_at dksJ18_toString_2_1 4 rfl rfl)
theorem dJ18_toString_2_27 : decode cJ18_toString_2 27 = .ok (.iconst 0, 1) := dk_3 (dk_at dksJ18_toString_2_1 5 rfl rfl)
theorem dJ18_toString_2_28 : decode cJ18_toString_2 28 = .ok (.invokespecial 65, 3) := dk_183 0 65 (dk_at dksJ18_toString_2_1 6 rfl rfl)
theorem dJ18_toString_2_31 : decode cJ18_toString_2 31 = .ok (.areturn, 1) := dk_176 (dk_at dksJ18_toString_2_1 9 rfl rfl)
theorem dJ18_toString_2_32 : decode cJ18_toString_2 32 = .ok (.iload_n 1, 1) := dk_27 (dk_at dksJ18_toString_2_1 10 rfl rfl)
theorem dJ18_toString_2_33 : decode cJ18_toString_2 33 = .ok (.iconst 2, 1) := dk_5 (dk_at dksJ18_toString_2_1 11 rfl rfl)
theorem dJ18_toString_2_34 : decode cJ18_toString_2 34 = .ok (.imul, 1) := dk_104 (dk_at dksJ18_toString_2_1 12 rfl rfl)
theorem dJ18_toString_2_35 : decode cJ18_toString_2 35 = .ok (.newarray .byte, 2) := dk_188_8 (dk_at dksJ18_toString_2_1 13 rfl rfl)
theorem dJ18_toString_2_37 : decode cJ18_toString_2 37 = .ok (.astore_n 2, 1) := dk_77 (dk_at dksJ18_toString_2_1 15 rfl rfl)
theorem dJ18_toString_2_38 : decode cJ18_toString_2 38 = .ok (.iload_n 0, 1) := dk_26 (dk_at dksJ18_toString_2_1 16 rfl rfl)
theorem dJ18_toString_2_39 : decode cJ18_toString_2 39 = .ok (.iload_n 1, 1) := dk_27 (dk_at dksJ18_toString_2_1 17 rfl rfl)
theorem dJ18_toString_2_40 : decode cJ18_toString_2 40 = .ok (.aload_n 2, 1) := dk_44 (dk_at dksJ18_toString_2_1 18 rfl rfl)
theorem dJ18_toString_2_41 : decode cJ18_toString_2 41 = .ok (.invokestatic 79, 3) := dk_184 0 79 (dk_at dksJ18_toString_2_1 19 rfl rfl)
theorem dJ18_toString_2_44 : decode cJ18_toString_2 44 = .ok (.pop, 1) := dk_87 (dk_at dksJ18_toString_2_1 22 rfl rfl)
theorem dJ18_toString_2_45 : decode cJ18_toString_2 45 = .ok (.new 5, 3) := dk_187 0 5 (dk_at dksJ18_toString_2_2 0 rfl rfl)
theorem dJ18_toString_2_48 : decode cJ18_toString_2 48 = .ok (.dup, 1) := dk_89 (dk_at dksJ18_toString_2_2 3 rfl rfl)
theorem dJ18_toString_2_49 : decode cJ18_toString_2 49 = .ok (.aload_n 2, 1) := dk_44 (dk_at dksJ18_toString_2_2 4 rfl rfl)
theorem dJ18_toString_2_50 : decode cJ18_toString_2 50 = .ok (.iconst 1, 1) := dk_4 (dk_at dksJ18_toString_2_2 5 rfl rfl)
theorem dJ18_toString_2_51 : decode cJ18_toString_2 51 = .ok (.invokespecial 65, 3) := dk_183 0 65 (dk_at dksJ18_toString_2_2 6 rfl rfl)
theorem dJ18_toString_2_54 : decode cJ18_toString_2 54 = .ok (.areturn, 1) := dk_176 (dk_at dksJ18_toString_2_2 9 rfl rfl)
abbrev cJ18_valueOf : ByteArray := prog_32_method_22_code
def yJ18_valueOf : MethodName := ⟨RJ18, "valueOf", "(I)Ljava/lang/Integer;"⟩
def dkwJ18_valueOf_1 : List UInt8 := [187, 0, 1, 89, 26, 183, 0, 199, 176]
abbrev dktJ18_valueOf_1 : List UInt8 := dkwJ18_valueOf_1 ++ []
def dkwJ18_valueOf_0 : List UInt8 := [26, 16, 128, 161, 0, 20, 26, 178, 0, 191, 163, 0, 13, 178, 0, 195, 26, 17, 0, 128, 96, 50, 176]
abbrev dktJ18_valueOf_0 : List UInt8 := dkwJ18_valueOf_0 ++ dktJ18_valueOf_1
theorem dksJ18_valueOf_0 : cJ18_valueOf.data.toList.drop 0 = dktJ18_valueOf_0 := by decide +kernel
theorem dksJ18_valueOf_1 : cJ18_valueOf.data.toList.drop 23 = dktJ18_valueOf_1 := dk_seg dksJ18_valueOf_0 23 rfl rfl
theorem dJ18_valueOf_0 : decode cJ18_valueOf 0 = .ok (.iload_n 0, 1) := dk_26 (dk_at dksJ18_valueOf_0 0 rfl rfl)
theorem dJ18_valueOf_1 : decode cJ18_valueOf 1 = .ok (.bipush (-128), 2) := dk_16 128 (dk_at dksJ18_valueOf_0 1 rfl rfl)
theorem dJ18_valueOf_3 : decode cJ18_valueOf 3 = .ok (.if_icmp .lt 20, 3) := dk_161 0 20 (dk_at dksJ18_valueOf_0 3 rfl rfl)
theorem dJ18_valueOf_6 : decode cJ18_valueOf 6 = .ok (.iload_n 0, 1) := dk_26 (dk_at dksJ18_valueOf_0 6 rfl rfl)
theorem dJ18_valueOf_7 : decode cJ18_valueOf 7 = .ok (.getstatic 191, 3) := dk_178 0 191 (dk_at dksJ18_valueOf_0 7 rfl rfl)
theorem dJ18_valueOf_10 : decode cJ18_valueOf 10 = .ok (.if_icmp .gt 13, 3) := dk_163 0 13 (dk_at dksJ18_valueOf_0 10 rfl rfl)
theorem dJ18_valueOf_13 : decode cJ18_valueOf 13 = .ok (.getstatic 195, 3) := dk_178 0 195 (dk_at dksJ18_valueOf_0 13 rfl rfl)
theorem dJ18_valueOf_16 : decode cJ18_valueOf 16 = .ok (.iload_n 0, 1) := dk_26 (dk_at dksJ18_valueOf_0 16 rfl rfl)
theorem dJ18_valueOf_17 : decode cJ18_valueOf 17 = .ok (.sipush 128, 3) := dk_17 0 128 (dk_at dksJ18_valueOf_0 17 rfl rfl)
theorem dJ18_valueOf_20 : decode cJ18_valueOf 20 = .ok (.iadd, 1) := dk_96 (dk_at dksJ18_valueOf_0 20 rfl rfl)
theorem dJ18_valueOf_21 : decode cJ18_valueOf 21 = .ok (.aaload, 1) := dk_50 (dk_at dksJ18_valueOf_0 21 rfl rfl)
theorem dJ18_valueOf_22 : decode cJ18_valueOf 22 = .ok (.areturn, 1) := dk_176 (dk_at dksJ18_valueOf_0 22 rfl rfl)
theorem dJ18_valueOf_23 : decode cJ18_valueOf 23 = .ok (.new 1, 3) := dk_187 0 1 (dk_at dksJ18_valueOf_1 0 rfl rfl)
theorem dJ18_valueOf_26 : decode cJ18_valueOf 26 = .ok (.dup, 1) := dk_89 (dk_at dksJ18_valueOf_1 3 rfl rfl)
theorem dJ18_valueOf_27 : decode cJ18_valueOf 27 = .ok (.iload_n 0, 1) := dk_26 (dk_at dksJ18_valueOf_1 4 rfl rfl)
theorem dJ18_valueOf_28 : decode cJ18_valueOf 28 = .ok (.invokespecial 199, 3) := dk_183 0 199 (dk_at dksJ18_valueOf_1 5 rfl rfl)
theorem dJ18_valueOf_31 : decode cJ18_valueOf 31 = .ok (.areturn, 1) := dk_176 (dk_at dksJ18_valueOf_1 8 rfl rfl)
abbrev cJ18_init : ByteArray := prog_32_method_23_code
def yJ18_init : MethodName := ⟨RJ18, "<init>", "(I)V"⟩
def dkwJ18_init_0 : List UInt8 := [42, 183, 0, 202, 42, 27, 181, 0, 205, 177]
abbrev dktJ18_init_0 : List UInt8 := dkwJ18_init_0 ++ []
theorem dksJ18_init_0 : cJ18_init.data.toList.drop 0 = dktJ18_init_0 := by decide +kernel
theorem dJ18_init_0 : decode cJ18_init 0 = .ok (.aload_n 0, 1) := dk_42 (dk_at dksJ18_init_0 0 rfl rfl)
theorem dJ18_init_1 : decode cJ18_init 1 = .ok (.invokespecial 202, 3) := dk_183 0 202 (dk_at dksJ18_init_0 1 rfl rfl)
theorem dJ18_init_4 : decode cJ18_init 4 = .ok (.aload_n 0, 1) := dk_42 (dk_at dksJ18_init_0 4 rfl rfl)
theorem dJ18_init_5 : decode cJ18_init 5 = .ok (.iload_n 1, 1) := dk_27 (dk_at dksJ18_init_0 5 rfl rfl)
theorem dJ18_init_6 : decode cJ18_init 6 = .ok (.putfield 205, 3) := dk_181 0 205 (dk_at dksJ18_init_0 6 rfl rfl)
theorem dJ18_init_9 : decode cJ18_init 9 = .ok (.return_, 1) := dk_177 (dk_at dksJ18_init_0 9 rfl rfl)
abbrev cJ18_hashCode : ByteArray := prog_32_method_32_code
def yJ18_hashCode : MethodName := ⟨RJ18, "hashCode", "()I"⟩
def dkwJ18_hashCode_0 : List UInt8 := [42, 180, 0, 205, 184, 0, 208, 172]
abbrev dktJ18_hashCode_0 : List UInt8 := dkwJ18_hashCode_0 ++ []
theorem dksJ18_hashCode_0 : cJ18_hashCode.data.toList.drop 0 = dktJ18_hashCode_0 := by decide +kernel
theorem dJ18_hashCode_0 : decode cJ18_hashCode 0 = .ok (.aload_n 0, 1) := dk_42 (dk_at dksJ18_hashCode_0 0 rfl rfl)
theorem dJ18_hashCode_1 : decode cJ18_hashCode 1 = .ok (.getfield 205, 3) := dk_180 0 205 (dk_at dksJ18_hashCode_0 1 rfl rfl)
theorem dJ18_hashCode_4 : decode cJ18_hashCode 4 = .ok (.invokestatic 208, 3) := dk_184 0 208 (dk_at dksJ18_hashCode_0 4 rfl rfl)
theorem dJ18_hashCode_7 : decode cJ18_hashCode 7 = .ok (.ireturn, 1) := dk_172 (dk_at dksJ18_hashCode_0 7 rfl rfl)
abbrev cJ18_hashCode_2 : ByteArray := prog_32_method_33_code
def yJ18_hashCode_2 : MethodName := ⟨RJ18, "hashCode", "(I)I"⟩
theorem dJ18_hashCode_2_0 : decode cJ18_hashCode_2 0 = .ok (.iload_n 0, 1) := by decide +kernel
theorem dJ18_hashCode_2_1 : decode cJ18_hashCode_2 1 = .ok (.ireturn, 1) := by decide +kernel
abbrev cJ18_compareTo : ByteArray := prog_32_method_63_code
def yJ18_compareTo : MethodName := ⟨RJ18, "compareTo", "(Ljava/lang/Object;)I"⟩
def dkwJ18_compareTo_0 : List UInt8 := [42, 43, 192, 0, 1, 182, 1, 28, 172]
abbrev dktJ18_compareTo_0 : List UInt8 := dkwJ18_compareTo_0 ++ []
theorem dksJ18_compareTo_0 : cJ18_compareTo.data.toList.drop 0 = dktJ18_compareTo_0 := by decide +kernel
theorem dJ18_compareTo_0 : decode cJ18_compareTo 0 = .ok (.aload_n 0, 1) := dk_42 (dk_at dksJ18_compareTo_0 0 rfl rfl)
theorem dJ18_compareTo_1 : decode cJ18_compareTo 1 = .ok (.aload_n 1, 1) := dk_43 (dk_at dksJ18_compareTo_0 1 rfl rfl)
theorem dJ18_compareTo_2 : decode cJ18_compareTo 2 = .ok (.checkcast 1, 3) := dk_192 0 1 (dk_at dksJ18_compareTo_0 2 rfl rfl)
theorem dJ18_compareTo_5 : decode cJ18_compareTo 5 = .ok (.invokevirtual 284, 3) := dk_182 1 28 (dk_at dksJ18_compareTo_0 5 rfl rfl)
theorem dJ18_compareTo_8 : decode cJ18_compareTo 8 = .ok (.ireturn, 1) := dk_172 (dk_at dksJ18_compareTo_0 8 rfl rfl)
abbrev cJ18_compareTo_2 : ByteArray := prog_32_method_39_code
def yJ18_compareTo_2 : MethodName := ⟨RJ18, "compareTo", "(Ljava/lang/Integer;)I"⟩
def dkwJ18_compareTo_2_0 : List UInt8 := [42, 180, 0, 205, 43, 180, 0, 205, 184, 1, 3, 172]
abbrev dktJ18_compareTo_2_0 : List UInt8 := dkwJ18_compareTo_2_0 ++ []
theorem dksJ18_compareTo_2_0 : cJ18_compareTo_2.data.toList.drop 0 = dktJ18_compareTo_2_0 := by decide +kernel
theorem dJ18_compareTo_2_0 : decode cJ18_compareTo_2 0 = .ok (.aload_n 0, 1) := dk_42 (dk_at dksJ18_compareTo_2_0 0 rfl rfl)
theorem dJ18_compareTo_2_1 : decode cJ18_compareTo_2 1 = .ok (.getfield 205, 3) := dk_180 0 205 (dk_at dksJ18_compareTo_2_0 1 rfl rfl)
theorem dJ18_compareTo_2_4 : decode cJ18_compareTo_2 4 = .ok (.aload_n 1, 1) := dk_43 (dk_at dksJ18_compareTo_2_0 4 rfl rfl)
theorem dJ18_compareTo_2_5 : decode cJ18_compareTo_2 5 = .ok (.getfield 205, 3) := dk_180 0 205 (dk_at dksJ18_compareTo_2_0 5 rfl rfl)
theorem dJ18_compareTo_2_8 : decode cJ18_compareTo_2 8 = .ok (.invokestatic 259, 3) := dk_184 1 3 (dk_at dksJ18_compareTo_2_0 8 rfl rfl)
theorem dJ18_compareTo_2_11 : decode cJ18_compareTo_2 11 = .ok (.ireturn, 1) := dk_172 (dk_at dksJ18_compareTo_2_0 11 rfl rfl)
abbrev cJ18_compare : ByteArray := prog_32_method_40_code
def yJ18_compare : MethodName := ⟨RJ18, "compare", "(II)I"⟩
def dkwJ18_compare_0 : List UInt8 := [26, 27, 162, 0, 7, 2, 167, 0, 13, 26, 27, 160, 0, 7, 3, 167, 0, 4, 4, 172]
abbrev dktJ18_compare_0 : List UInt8 := dkwJ18_compare_0 ++ []
theorem dksJ18_compare_0 : cJ18_compare.data.toList.drop 0 = dktJ18_compare_0 := by decide +kernel
theorem dJ18_compare_0 : decode cJ18_compare 0 = .ok (.iload_n 0, 1) := dk_26 (dk_at dksJ18_compare_0 0 rfl rfl)
theorem dJ18_compare_1 : decode cJ18_compare 1 = .ok (.iload_n 1, 1) := dk_27 (dk_at dksJ18_compare_0 1 rfl rfl)
theorem dJ18_compare_2 : decode cJ18_compare 2 = .ok (.if_icmp .ge 7, 3) := dk_162 0 7 (dk_at dksJ18_compare_0 2 rfl rfl)
theorem dJ18_compare_5 : decode cJ18_compare 5 = .ok (.iconst (-1), 1) := dk_2 (dk_at dksJ18_compare_0 5 rfl rfl)
theorem dJ18_compare_6 : decode cJ18_compare 6 = .ok (.goto 13, 3) := dk_167 0 13 (dk_at dksJ18_compare_0 6 rfl rfl)
theorem dJ18_compare_9 : decode cJ18_compare 9 = .ok (.iload_n 0, 1) := dk_26 (dk_at dksJ18_compare_0 9 rfl rfl)
theorem dJ18_compare_10 : decode cJ18_compare 10 = .ok (.iload_n 1, 1) := dk_27 (dk_at dksJ18_compare_0 10 rfl rfl)
theorem dJ18_compare_11 : decode cJ18_compare 11 = .ok (.if_icmp .ne 7, 3) := dk_160 0 7 (dk_at dksJ18_compare_0 11 rfl rfl)
theorem dJ18_compare_14 : decode cJ18_compare 14 = .ok (.iconst 0, 1) := dk_3 (dk_at dksJ18_compare_0 14 rfl rfl)
theorem dJ18_compare_15 : decode cJ18_compare 15 = .ok (.goto 4, 3) := dk_167 0 4 (dk_at dksJ18_compare_0 15 rfl rfl)
theorem dJ18_compare_18 : decode cJ18_compare 18 = .ok (.iconst 1, 1) := dk_4 (dk_at dksJ18_compare_0 18 rfl rfl)
theorem dJ18_compare_19 : decode cJ18_compare 19 = .ok (.ireturn, 1) := dk_172 (dk_at dksJ18_compare_0 19 rfl rfl)
abbrev cJ18_numberOfTrailingZeros : ByteArray := prog_32_method_48_code
def yJ18_numberOfTrailingZeros : MethodName := ⟨RJ18, "numberOfTrailingZeros", "(I)I"⟩
def dkwJ18_numberOfTrailingZeros_3 : List UInt8 := [5, 124, 59, 27, 26, 4, 124, 96, 172]
abbrev dktJ18_numberOfTrailingZeros_3 : List UInt8 := dkwJ18_numberOfTrailingZeros_3 ++ []
def dkwJ18_numberOfTrailingZeros_2 : List UInt8 := [124, 59, 26, 16, 16, 164, 0, 10, 132, 1, 4, 26, 7, 124, 59, 26, 7, 164, 0, 10, 132, 1, 2, 26]
abbrev dktJ18_numberOfTrailingZeros_2 : List UInt8 := dkwJ18_numberOfTrailingZeros_2 ++ dktJ18_numberOfTrailingZeros_3
def dkwJ18_numberOfTrailingZeros_1 : List UInt8 := [164, 0, 11, 132, 1, 16, 26, 16, 16, 124, 59, 26, 17, 1, 0, 164, 0, 11, 132, 1, 8, 26, 16, 8]
abbrev dktJ18_numberOfTrailingZeros_1 : List UInt8 := dkwJ18_numberOfTrailingZeros_1 ++ dktJ18_numberOfTrailingZeros_2
def dkwJ18_numberOfTrailingZeros_0 : List UInt8 := [26, 2, 130, 26, 4, 100, 126, 59, 26, 157, 0, 8, 26, 16, 32, 126, 172, 4, 60, 26, 19, 1, 8]
abbrev dktJ18_numberOfTrailingZeros_0 : List UInt8 := dkwJ18_numberOfTrailingZeros_0 ++ dktJ18_numberOfTrailingZeros_1
theorem dksJ18_numberOfTrailingZeros_0 : cJ18_numberOfTrailingZeros.data.toList.drop 0 = dktJ18_numberOfTrailingZeros_0 := by decide +kernel
theorem dksJ18_numberOfTrailingZeros_1 : cJ18_numberOfTrailingZeros.data.toList.drop 23 = dktJ18_numberOfTrailingZeros_1 := dk_seg dksJ18_numberOfTrailingZeros_0 23 rfl rfl
theorem dksJ18_numberOfTrailingZeros_2 : cJ18_numberOfTrailingZeros.data.toList.drop 47 = dktJ18_numberOfTrailingZeros_2 := dk_seg dksJ18_numberOfTrailingZeros_1 24 rfl rfl
theorem dksJ18_numberOfTrailingZeros_3 : cJ18_numberOfTrailingZeros.data.toList.drop 71 = dktJ18_numberOfTrailingZeros_3 := dk_seg dksJ18_numberOfTrailingZeros_2 24 rfl rfl
theorem dJ18_numberOfTrailingZeros_0 : decode cJ18_numberOfTrailingZeros 0 = .ok (.iload_n 0, 1) := dk_26 (dk_at dksJ18_numberOfTrailingZeros_0 0 rfl rfl)
theorem dJ18_numberOfTrailingZeros_1 : decode cJ18_numberOfTrailingZeros 1 = .ok (.iconst (-1), 1) := dk_2 (dk_at dksJ18_numberOfTrailingZeros_0 1 rfl rfl)
theorem dJ18_numberOfTrailingZeros_2 : decode cJ18_numberOfTrailingZeros 2 = .ok (.ixor, 1) := dk_130 (dk_at dksJ18_numberOfTrailingZeros_0 2 rfl rfl)
theorem dJ18_numberOfTrailingZeros_3 : decode cJ18_numberOfTrailingZeros 3 = .ok (.iload_n 0, 1) := dk_26 (dk_at dksJ18_numberOfTrailingZeros_0 3 rfl rfl)
theorem dJ18_numberOfTrailingZeros_4 : decode cJ18_numberOfTrailingZeros 4 = .ok (.iconst 1, 1) := dk_4 (dk_at dksJ18_numberOfTrailingZeros_0 4 rfl rfl)
theorem dJ18_numberOfTrailingZeros_5 : decode cJ18_numberOfTrailingZeros 5 = .ok (.isub, 1) := dk_100 (dk_at dksJ18_numberOfTrailingZeros_0 5 rfl rfl)
theorem dJ18_numberOfTrailingZeros_6 : decode cJ18_numberOfTrailingZeros 6 = .ok (.iand, 1) := dk_126 (dk_at dksJ18_numberOfTrailingZeros_0 6 rfl rfl)
theorem dJ18_numberOfTrailingZeros_7 : decode cJ18_numberOfTrailingZeros 7 = .ok (.istore_n 0, 1) := dk_59 (dk_at dksJ18_numberOfTrailingZeros_0 7 rfl rfl)
theorem dJ18_numberOfTrailingZeros_8 : decode cJ18_numberOfTrailingZeros 8 = .ok (.iload_n 0, 1) := dk_26 (dk_at dksJ18_numberOfTrailingZeros_0 8 rfl rfl)
theorem dJ18_numberOfTrailingZeros_9 : decode cJ18_numberOfTrailingZeros 9 = .ok (.ifCond .gt 8, 3) := dk_157 0 8 (dk_at dksJ18_numberOfTrailingZeros_0 9 rfl rfl)
theorem dJ18_numberOfTrailingZeros_12 : decode cJ18_numberOfTrailingZeros 12 = .ok (.iload_n 0, 1) := dk_26 (dk_at dksJ18_numberOfTrailingZeros_0 12 rfl rfl)
theorem dJ18_numberOfTrailingZeros_13 : decode cJ18_numberOfTrailingZeros 13 = .ok (.bipush 32, 2) := dk_16 32 (dk_at dksJ18_numberOfTrailingZeros_0 13 rfl rfl)
theorem dJ18_numberOfTrailingZeros_15 : decode cJ18_numberOfTrailingZeros 15 = .ok (.iand, 1) := dk_126 (dk_at dksJ18_numberOfTrailingZeros_0 15 rfl rfl)
theorem dJ18_numberOfTrailingZeros_16 : decode cJ18_numberOfTrailingZeros 16 = .ok (.ireturn, 1) := dk_172 (dk_at dksJ18_numberOfTrailingZeros_0 16 rfl rfl)
theorem dJ18_numberOfTrailingZeros_17 : decode cJ18_numberOfTrailingZeros 17 = .ok (.iconst 1, 1) := dk_4 (dk_at dksJ18_numberOfTrailingZeros_0 17 rfl rfl)
theorem dJ18_numberOfTrailingZeros_18 : decode cJ18_numberOfTrailingZeros 18 = .ok (.istore_n 1, 1) := dk_60 (dk_at dksJ18_numberOfTrailingZeros_0 18 rfl rfl)
theorem dJ18_numberOfTrailingZeros_19 : decode cJ18_numberOfTrailingZeros 19 = .ok (.iload_n 0, 1) := dk_26 (dk_at dksJ18_numberOfTrailingZeros_0 19 rfl rfl)
theorem dJ18_numberOfTrailingZeros_20 : decode cJ18_numberOfTrailingZeros 20 = .ok (.ldc_w 264, 3) := dk_19 1 8 (dk_at dksJ18_numberOfTrailingZeros_0 20 rfl rfl)
theorem dJ18_numberOfTrailingZeros_23 : decode cJ18_numberOfTrailingZeros 23 = .ok (.if_icmp .le 11, 3) := dk_164 0 11 (dk_at dksJ18_numberOfTrailingZeros_1 0 rfl rfl)
theorem dJ18_numberOfTrailingZeros_26 : decode cJ18_numberOfTrailingZeros 26 = .ok (.iinc 1 16, 3) := dk_132 1 16 (dk_at dksJ18_numberOfTrailingZeros_1 3 rfl rfl)
theorem dJ18_numberOfTrailingZeros_29 : decode cJ18_numberOfTrailingZeros 29 = .ok (.iload_n 0, 1) := dk_26 (dk_at dksJ18_numberOfTrailingZeros_1 6 rfl rfl)
theorem dJ18_numberOfTrailingZeros_30 : decode cJ18_numberOfTrailingZeros 30 = .ok (.bipush 16, 2) := dk_16 16 (dk_at dksJ18_numberOfTrailingZeros_1 7 rfl rfl)
theorem dJ18_numberOfTrailingZeros_32 : decode cJ18_numberOfTrailingZeros 32 = .ok (.iushr, 1) := dk_124 (dk_at dksJ18_numberOfTrailingZeros_1 9 rfl rfl)
theorem dJ18_numberOfTrailingZeros_33 : decode cJ18_numberOfTrailingZeros 33 = .ok (.istore_n 0, 1) := dk_59 (dk_at dksJ18_numberOfTrailingZeros_1 10 rfl rfl)
theorem dJ18_numberOfTrailingZeros_34 : decode cJ18_numberOfTrailingZeros 34 = .ok (.iload_n 0, 1) := dk_26 (dk_at dksJ18_numberOfTrailingZeros_1 11 rfl rfl)
theorem dJ18_numberOfTrailingZeros_35 : decode cJ18_numberOfTrailingZeros 35 = .ok (.sipush 256, 3) := dk_17 1 0 (dk_at dksJ18_numberOfTrailingZeros_1 12 rfl rfl)
theorem dJ18_numberOfTrailingZeros_38 : decode cJ18_numberOfTrailingZeros 38 = .ok (.if_icmp .le 11, 3) := dk_164 0 11 (dk_at dksJ18_numberOfTrailingZeros_1 15 rfl rfl)
theorem dJ18_numberOfTrailingZeros_41 : decode cJ18_numberOfTrailingZeros 41 = .ok (.iinc 1 8, 3) := dk_132 1 8 (dk_at dksJ18_numberOfTrailingZeros_1 18 rfl rfl)
theorem dJ18_numberOfTrailingZeros_44 : decode cJ18_numberOfTrailingZeros 44 = .ok (.iload_n 0, 1) := dk_26 (dk_at dksJ18_numberOfTrailingZeros_1 21 rfl rfl)
theorem dJ18_numberOfTrailingZeros_45 : decode cJ18_numberOfTrailingZeros 45 = .ok (.bipush 8, 2) := dk_16 8 (dk_at dksJ18_numberOfTrailingZeros_1 22 rfl rfl)
theorem dJ18_numberOfTrailingZeros_47 : decode cJ18_numberOfTrailingZeros 47 = .ok (.iushr, 1) := dk_124 (dk_at dksJ18_numberOfTrailingZeros_2 0 rfl rfl)
theorem dJ18_numberOfTrailingZeros_48 : decode cJ18_numberOfTrailingZeros 48 = .ok (.istore_n 0, 1) := dk_59 (dk_at dksJ18_numberOfTrailingZeros_2 1 rfl rfl)
theorem dJ18_numberOfTrailingZeros_49 : decode cJ18_numberOfTrailingZeros 49 = .ok (.iload_n 0, 1) := dk_26 (dk_at dksJ18_numberOfTrailingZeros_2 2 rfl rfl)
theorem dJ18_numberOfTrailingZeros_50 : decode cJ18_numberOfTrailingZeros 50 = .ok (.bipush 16, 2) := dk_16 16 (dk_at dksJ18_numberOfTrailingZeros_2 3 rfl rfl)
theorem dJ18_numberOfTrailingZeros_52 : decode cJ18_numberOfTrailingZeros 52 = .ok (.if_icmp .le 10, 3) := dk_164 0 10 (dk_at dksJ18_numberOfTrailingZeros_2 5 rfl rfl)
theorem dJ18_numberOfTrailingZeros_55 : decode cJ18_numberOfTrailingZeros 55 = .ok (.iinc 1 4, 3) := dk_132 1 4 (dk_at dksJ18_numberOfTrailingZeros_2 8 rfl rfl)
theorem dJ18_numberOfTrailingZeros_58 : decode cJ18_numberOfTrailingZeros 58 = .ok (.iload_n 0, 1) := dk_26 (dk_at dksJ18_numberOfTrailingZeros_2 11 rfl rfl)
theorem dJ18_numberOfTrailingZeros_59 : decode cJ18_numberOfTrailingZeros 59 = .ok (.iconst 4, 1) := dk_7 (dk_at dksJ18_numberOfTrailingZeros_2 12 rfl rfl)
theorem dJ18_numberOfTrailingZeros_60 : decode cJ18_numberOfTrailingZeros 60 = .ok (.iushr, 1) := dk_124 (dk_at dksJ18_numberOfTrailingZeros_2 13 rfl rfl)
theorem dJ18_numberOfTrailingZeros_61 : decode cJ18_numberOfTrailingZeros 61 = .ok (.istore_n 0, 1) := dk_59 (dk_at dksJ18_numberOfTrailingZeros_2 14 rfl rfl)
theorem dJ18_numberOfTrailingZeros_62 : decode cJ18_numberOfTrailingZeros 62 = .ok (.iload_n 0, 1) := dk_26 (dk_at dksJ18_numberOfTrailingZeros_2 15 rfl rfl)
theorem dJ18_numberOfTrailingZeros_63 : decode cJ18_numberOfTrailingZeros 63 = .ok (.iconst 4, 1) := dk_7 (dk_at dksJ18_numberOfTrailingZeros_2 16 rfl rfl)
theorem dJ18_numberOfTrailingZeros_64 : decode cJ18_numberOfTrailingZeros 64 = .ok (.if_icmp .le 10, 3) := dk_164 0 10 (dk_at dksJ18_numberOfTrailingZeros_2 17 rfl rfl)
theorem dJ18_numberOfTrailingZeros_67 : decode cJ18_numberOfTrailingZeros 67 = .ok (.iinc 1 2, 3) := dk_132 1 2 (dk_at dksJ18_numberOfTrailingZeros_2 20 rfl rfl)
theorem dJ18_numberOfTrailingZeros_70 : decode cJ18_numberOfTrailingZeros 70 = .ok (.iload_n 0, 1) := dk_26 (dk_at dksJ18_numberOfTrailingZeros_2 23 rfl rfl)
theorem dJ18_numberOfTrailingZeros_71 : decode cJ18_numberOfTrailingZeros 71 = .ok (.iconst 2, 1) := dk_5 (dk_at dksJ18_numberOfTrailingZeros_3 0 rfl rfl)
theorem dJ18_numberOfTrailingZeros_72 : decode cJ18_numberOfTrailingZeros 72 = .ok (.iushr, 1) := dk_124 (dk_at dksJ18_numberOfTrailingZeros_3 1 rfl rfl)
theorem dJ18_numberOfTrailingZeros_73 : decode cJ18_numberOfTrailingZeros 73 = .ok (.istore_n 0, 1) := dk_59 (dk_at dksJ18_numberOfTrailingZeros_3 2 rfl rfl)
theorem dJ18_numberOfTrailingZeros_74 : decode cJ18_numberOfTrailingZeros 74 = .ok (.iload_n 1, 1) := dk_27 (dk_at dksJ18_numberOfTrailingZeros_3 3 rfl rfl)
theorem dJ18_numberOfTrailingZeros_75 : decode cJ18_numberOfTrailingZeros 75 = .ok (.iload_n 0, 1) := dk_26 (dk_at dksJ18_numberOfTrailingZeros_3 4 rfl rfl)
theorem dJ18_numberOfTrailingZeros_76 : decode cJ18_numberOfTrailingZeros 76 = .ok (.iconst 1, 1) := dk_4 (dk_at dksJ18_numberOfTrailingZeros_3 5 rfl rfl)
theorem dJ18_numberOfTrailingZeros_77 : decode cJ18_numberOfTrailingZeros 77 = .ok (.iushr, 1) := dk_124 (dk_at dksJ18_numberOfTrailingZeros_3 6 rfl rfl)
theorem dJ18_numberOfTrailingZeros_78 : decode cJ18_numberOfTrailingZeros 78 = .ok (.iadd, 1) := dk_96 (dk_at dksJ18_numberOfTrailingZeros_3 7 rfl rfl)
theorem dJ18_numberOfTrailingZeros_79 : decode cJ18_numberOfTrailingZeros 79 = .ok (.ireturn, 1) := dk_172 (dk_at dksJ18_numberOfTrailingZeros_3 8 rfl rfl)
abbrev cJ18_equals : ByteArray := prog_32_method_34_code
def yJ18_equals : MethodName := ⟨RJ18, "equals", "(Ljava/lang/Object;)Z"⟩
def dkwJ18_equals_1 : List UInt8 := [167, 0, 4, 3, 172, 3, 172]
abbrev dktJ18_equals_1 : List UInt8 := dkwJ18_equals_1 ++ []
def dkwJ18_equals_0 : List UInt8 := [43, 193, 0, 1, 153, 0, 23, 42, 180, 0, 205, 43, 192, 0, 1, 182, 0, 211, 160, 0, 7, 4]
abbrev dktJ18_equals_0 : List UInt8 := dkwJ18_equals_0 ++ dktJ18_equals_1
theorem dksJ18_equals_0 : cJ18_equals.data.toList.drop 0 = dktJ18_equals_0 := by decide +kernel
theorem dksJ18_equals_1 : cJ18_equals.data.toList.drop 22 = dktJ18_equals_1 := dk_seg dksJ18_equals_0 22 rfl rfl
theorem dJ18_equals_0 : decode cJ18_equals 0 = .ok (.aload_n 1, 1) := dk_43 (dk_at dksJ18_equals_0 0 rfl rfl)
theorem dJ18_equals_1 : decode cJ18_equals 1 = .ok (.instanceof 1, 3) := dk_193 0 1 (dk_at dksJ18_equals_0 1 rfl rfl)
theorem dJ18_equals_4 : decode cJ18_equals 4 = .ok (.ifCond .eq 23, 3) := dk_153 0 23 (dk_at dksJ18_equals_0 4 rfl rfl)
theorem dJ18_equals_7 : decode cJ18_equals 7 = .ok (.aload_n 0, 1) := dk_42 (dk_at dksJ18_equals_0 7 rfl rfl)
theorem dJ18_equals_8 : decode cJ18_equals 8 = .ok (.getfield 205, 3) := dk_180 0 205 (dk_at dksJ18_equals_0 8 rfl rfl)
theorem dJ18_equals_11 : decode cJ18_equals 11 = .ok (.aload_n 1, 1) := dk_43 (dk_at dksJ18_equals_0 11 rfl rfl)
theorem dJ18_equals_12 : decode cJ18_equals 12 = .ok (.checkcast 1, 3) := dk_192 0 1 (dk_at dksJ18_equals_0 12 rfl rfl)
theorem dJ18_equals_15 : decode cJ18_equals 15 = .ok (.invokevirtual 211, 3) := dk_182 0 211 (dk_at dksJ18_equals_0 15 rfl rfl)
theorem dJ18_equals_18 : decode cJ18_equals 18 = .ok (.if_icmp .ne 7, 3) := dk_160 0 7 (dk_at dksJ18_equals_0 18 rfl rfl)
theorem dJ18_equals_21 : decode cJ18_equals 21 = .ok (.iconst 1, 1) := dk_4 (dk_at dksJ18_equals_0 21 rfl rfl)
theorem dJ18_equals_22 : decode cJ18_equals 22 = .ok (.goto 4, 3) := dk_167 0 4 (dk_at dksJ18_equals_1 0 rfl rfl)
theorem dJ18_equals_25 : decode cJ18_equals 25 = .ok (.iconst 0, 1) := dk_3 (dk_at dksJ18_equals_1 3 rfl rfl)
theorem dJ18_equals_26 : decode cJ18_equals 26 = .ok (.ireturn, 1) := dk_172 (dk_at dksJ18_equals_1 4 rfl rfl)
theorem dJ18_equals_27 : decode cJ18_equals 27 = .ok (.iconst 0, 1) := dk_3 (dk_at dksJ18_equals_1 5 rfl rfl)
theorem dJ18_equals_28 : decode cJ18_equals 28 = .ok (.ireturn, 1) := dk_172 (dk_at dksJ18_equals_1 6 rfl rfl)
abbrev cJ18_intValue : ByteArray := prog_32_method_27_code
def yJ18_intValue : MethodName := ⟨RJ18, "intValue", "()I"⟩
theorem dJ18_intValue_0 : decode cJ18_intValue 0 = .ok (.aload_n 0, 1) := by decide +kernel
theorem dJ18_intValue_1 : decode cJ18_intValue 1 = .ok (.getfield 205, 3) := by decide +kernel
theorem dJ18_intValue_4 : decode cJ18_intValue 4 = .ok (.ireturn, 1) := by decide +kernel
theorem q170 : (Jvm.Cond.initialized "java/lang/Integer") ∈ lw_all := lw_g (lw_at lw_m1 22 rfl) rfl
theorem q466 : (Jvm.Cond.static ({ cls := "java/lang/Integer", name := "stringSize", desc := "(I)I" } : Jvm.MethodName)) ∈ lw_all := lw_g (lw_at lw_m2 78 rfl) rfl
theorem q467 : (Jvm.Cond.code ({ cls := "java/lang/Integer", name := "stringSize", desc := "(I)I" } : Jvm.MethodName) prog_32_method_13_code (4 : Nat) (Option.some Jvm.ClassFile.FieldType.int)) ∈ lw_all := lw_g (lw_at lw_m2 79 rfl) rfl
theorem q469 : (Jvm.Cond.static ({ cls := "java/lang/Integer", name := "getChars", desc := "(II[B)I" } : Jvm.MethodName)) ∈ lw_all := lw_g (lw_at lw_m2 81 rfl) rfl
theorem q470 : (Jvm.Cond.code ({ cls := "java/lang/Integer", name := "getChars", desc := "(II[B)I" } : Jvm.MethodName) prog_32_method_12_code (7 : Nat) (Option.some Jvm.ClassFile.FieldType.int)) ∈ lw_all := lw_g (lw_at lw_m2 82 rfl) rfl
theorem q471 : (Jvm.Cond.fieldLink "java/lang/Integer" (83 : Nat) "java/lang/Integer" "DigitOnes" "[B") ∈ lw_all := lw_g (lw_at lw_m2 83 rfl) rfl
theorem q472 : (Jvm.Cond.laysStatic "java/lang/Integer" "DigitOnes" "[B") ∈ lw_tbl := lw_at lw_m2 84 rfl
theorem q473 : (Jvm.Cond.fieldLink "java/lang/Integer" (87 : Nat) "java/lang/Integer" "DigitTens" "[B") ∈ lw_all := lw_g (lw_at lw_m2 85 rfl) rfl
theorem q474 : (Jvm.Cond.laysStatic "java/lang/Integer" "DigitTens" "[B") ∈ lw_tbl := lw_at lw_m2 86 rfl
theorem q727 : (Jvm.Cond.static ({ cls := "java/lang/Integer", name := "numberOfLeadingZeros", desc := "(I)I" } : Jvm.MethodName)) ∈ lw_all := lw_g (lw_at lw_m3 99 rfl) rfl
theorem q728 : (Jvm.Cond.code ({ cls := "java/lang/Integer", name := "numberOfLeadingZeros", desc := "(I)I" } : Jvm.MethodName) prog_32_method_47_code (2 : Nat) (Option.some Jvm.ClassFile.FieldType.int)) ∈ lw_all := lw_g (lw_at lw_m3 100 rfl) rfl
theorem q729 : (Jvm.Cond.constant "java/lang/Integer" (264 : Nat) (65536 : Int32)) ∈ lw_all := lw_g (lw_at lw_m3 101 rfl) rfl
theorem q1042 : (Jvm.Cond.selects "java/lang/Integer" ({ cls := "java/lang/Object", name := "getClass", desc := "()Ljava/lang/Class;" } : Jvm.MethodName) ({ cls := "java/lang/Object", name := "getClass", desc := "()Ljava/lang/Class;" } : Jvm.MethodName)) ∈ lw_all := lw_g (lw_at lw_m4 174 rfl) rfl
theorem q1086 : (Jvm.Cond.selects "java/lang/Integer" ({ cls := "java/lang/Object", name := "toString", desc := "()Ljava/lang/String;" } : Jvm.MethodName) ({ cls := "java/lang/Integer", name := "toString", desc := "()Ljava/lang/String;" } : Jvm.MethodName)) ∈ lw_all := lw_g (lw_at lw_m4 218 rfl) rfl
theorem q1087 : (Jvm.Cond.instanceMethod ({ cls := "java/lang/Integer", name := "toString", desc := "()Ljava/lang/String;" } : Jvm.MethodName)) ∈ lw_all := lw_g (lw_at lw_m4 219 rfl) rfl
theorem q1088 : (Jvm.Cond.code ({ cls := "java/lang/Integer", name := "toString", desc := "()Ljava/lang/String;" } : Jvm.MethodName) prog_32_method_31_code (1 : Nat) (Option.some (Jvm.ClassFile.FieldType.object "java/lang/String"))) ∈ lw_all := lw_g (lw_at lw_m4 220 rfl) rfl
theorem q1089 : (Jvm.Cond.methodLink "java/lang/Integer" (9 : Nat) ({ cls := "java/lang/Integer", name := "toString", desc := "(I)Ljava/lang/String;" } : Jvm.MethodName)) ∈ lw_all := lw_g (lw_at lw_m4 221 rfl) rfl
theorem q1090 : (Jvm.Cond.static ({ cls := "java/lang/Integer", name := "toString", desc := "(I)Ljava/lang/String;" } : Jvm.MethodName)) ∈ lw_all := lw_g (lw_at lw_m4 222 rfl) rfl
theorem q1091 : (Jvm.Cond.code ({ cls := "java/lang/Integer", name := "toString", desc := "(I)Ljava/lang/String;" } : Jvm.MethodName) prog_32_method_10_code (3 : Nat) (Option.some (Jvm.ClassFile.FieldType.object "java/lang/String"))) ∈ lw_all := lw_g (lw_at lw_m4 223 rfl) rfl
theorem q1092 : (Jvm.Cond.methodLink "java/lang/Integer" (72 : Nat) ({ cls := "java/lang/Integer", name := "stringSize", desc := "(I)I" } : Jvm.MethodName)) ∈ lw_all := lw_g (lw_at lw_m4 224 rfl) rfl
theorem q1093 : (Jvm.Cond.fieldLink "java/lang/Integer" (13 : Nat) "java/lang/String" "COMPACT_STRINGS" "Z") ∈ lw_all := lw_g (lw_at lw_m4 225 rfl) rfl
theorem q1094 : (Jvm.Cond.methodLink "java/lang/Integer" (75 : Nat) ({ cls := "java/lang/Integer", name := "getChars", desc := "(II[B)I" } : Jvm.MethodName)) ∈ lw_all := lw_g (lw_at lw_m4 226 rfl) rfl
theorem q1095 : (Jvm.Cond.classLink "java/lang/Integer" (5 : Nat) "java/lang/String") ∈ lw_all := lw_g (lw_at lw_m4 227 rfl) rfl
theorem q1096 : (Jvm.Cond.methodLink "java/lang/Integer" (65 : Nat) ({ cls := "java/lang/String", name := "<init>", desc := "([BB)V" } : Jvm.MethodName)) ∈ lw_all := lw_g (lw_at lw_m4 228 rfl) rfl
theorem q1099 : (Jvm.Cond.methodLink "java/lang/Integer" (79 : Nat) ({ cls := "java/lang/StringUTF16", name := "getChars", desc := "(II[B)I" } : Jvm.MethodName)) ∈ lw_all := lw_g (lw_at lw_m4 231 rfl) rfl
theorem q1273 : (Jvm.Cond.static ({ cls := "java/lang/Integer", name := "valueOf", desc := "(I)Ljava/lang/Integer;" } : Jvm.MethodName)) ∈ lw_all := lw_g (lw_at lw_m5 165 rfl) rfl
theorem q1274 : (Jvm.Cond.code ({ cls := "java/lang/Integer", name := "valueOf", desc := "(I)Ljava/lang/Integer;" } : Jvm.MethodName) prog_32_method_22_code (1 : Nat) (Option.some (Jvm.ClassFile.FieldType.object "java/lang/Integer"))) ∈ lw_all := lw_g (lw_at lw_m5 166 rfl) rfl
theorem q1275 : (Jvm.Cond.fieldLink "java/lang/Integer" (191 : Nat) "java/lang/Integer$IntegerCache" "high" "I") ∈ lw_all := lw_g (lw_at lw_m5 167 rfl) rfl
theorem q1277 : (Jvm.Cond.fieldLink "java/lang/Integer" (195 : Nat) "java/lang/Integer$IntegerCache" "cache" "[Ljava/lang/Integer;") ∈ lw_all := lw_g (lw_at lw_m5 169 rfl) rfl
theorem q1279 : (Jvm.Cond.classLink "java/lang/Integer" (1 : Nat) "java/lang/Integer") ∈ lw_all := lw_g (lw_at lw_m5 171 rfl) rfl
theorem q1280 : (Jvm.Cond.instantiable "java/lang/Integer" (1 : Nat)) ∈ lw_all := lw_g (lw_at lw_m5 172 rfl) rfl
theorem q1281 : (Jvm.Cond.methodLink "java/lang/Integer" (199 : Nat) ({ cls := "java/lang/Integer", name := "<init>", desc := "(I)V" } : Jvm.MethodName)) ∈ lw_all := lw_g (lw_at lw_m5 173 rfl) rfl
theorem q1282 : (Jvm.Cond.instanceMethod ({ cls := "java/lang/Integer", name := "<init>", desc := "(I)V" } : Jvm.MethodName)) ∈ lw_all := lw_g (lw_at lw_m5 174 rfl) rfl
theorem q1283 : (Jvm.Cond.code ({ cls := "java/lang/Integer", name := "<init>", desc := "(I)V" } : Jvm.MethodName) prog_32_method_23_code (2 : Nat) (Option.none : Option Jvm.ClassFile.FieldType)) ∈ lw_all := lw_g (lw_at lw_m5 175 rfl) rfl
theorem q1284 : (Jvm.Cond.methodLink "java/lang/Integer" (202 : Nat) ({ cls := "java/lang/Number", name := "<init>", desc := "()V" } : Jvm.MethodName)) ∈ lw_all := lw_g (lw_at lw_m5 176 rfl) rfl
theorem q1288 : (Jvm.Cond.fieldLink "java/lang/Integer" (205 : Nat) "java/lang/Integer" "value" "I") ∈ lw_all := lw_g (lw_at lw_m5 180 rfl) rfl
theorem q1289 : (Jvm.Cond.laysFinal "java/lang/Integer" "java/lang/Integer" "value" "I") ∈ lw_all := lw_g (lw_at lw_m5 181 rfl) rfl
theorem q1290 : (Jvm.Cond.soleField "java/lang/Integer" "value") ∈ lw_all := lw_g (lw_at lw_m5 182 rfl) rfl
theorem q1291 : (Jvm.Cond.superclass "java/lang/Integer" "java/lang/Number") ∈ lw_all := lw_g (lw_at lw_m5 183 rfl) rfl
theorem q1327 : (Jvm.Cond.selects "java/lang/Integer" ({ cls := "java/lang/Object", name := "hashCode", desc := "()I" } : Jvm.MethodName) ({ cls := "java/lang/Integer", name := "hashCode", desc := "()I" } : Jvm.MethodName)) ∈ lw_all := lw_g (lw_at lw_m5 219 rfl) rfl
theorem q1328 : (Jvm.Cond.instanceMethod ({ cls := "java/lang/Integer", name := "hashCode", desc := "()I" } : Jvm.MethodName)) ∈ lw_all := lw_g (lw_at lw_m5 220 rfl) rfl
theorem q1329 : (Jvm.Cond.code ({ cls := "java/lang/Integer", name := "hashCode", desc := "()I" } : Jvm.MethodName) prog_32_method_32_code (1 : Nat) (Option.some Jvm.ClassFile.FieldType.int)) ∈ lw_all := lw_g (lw_at lw_m5 221 rfl) rfl
theorem q1330 : (Jvm.Cond.methodLink "java/lang/Integer" (208 : Nat) ({ cls := "java/lang/Integer", name := "hashCode", desc := "(I)I" } : Jvm.MethodName)) ∈ lw_all := lw_g (lw_at lw_m5 222 rfl) rfl
theorem q1331 : (Jvm.Cond.static ({ cls := "java/lang/Integer", name := "hashCode", desc := "(I)I" } : Jvm.MethodName)) ∈ lw_all := lw_g (lw_at lw_m5 223 rfl) rfl
theorem q1332 : (Jvm.Cond.code ({ cls := "java/lang/Integer", name := "hashCode", desc := "(I)I" } : Jvm.MethodName) prog_32_method_33_code (1 : Nat) (Option.some Jvm.ClassFile.FieldType.int)) ∈ lw_all := lw_g (lw_at lw_m5 224 rfl) rfl
theorem q1515 : (Jvm.Cond.castable "java/lang/Integer" "java/lang/Comparable") ∈ lw_tbl := lw_at lw_m6 167 rfl
theorem q1516 : (Jvm.Cond.selects "java/lang/Integer" ({ cls := "java/lang/Comparable", name := "compareTo", desc := "(Ljava/lang/Object;)I" } : Jvm.MethodName) ({ cls := "java/lang/Integer", name := "compareTo", desc := "(Ljava/lang/Object;)I" } : Jvm.MethodName)) ∈ lw_all := lw_g (lw_at lw_m6 168 rfl) rfl
theorem q1517 : (Jvm.Cond.unhidden "java/lang/Integer" "compareTo" "(Ljava/lang/Object;)I") ∈ lw_tbl := lw_at lw_m6 169 rfl
theorem q1518 : (Jvm.Cond.instanceMethod ({ cls := "java/lang/Integer", name := "compareTo", desc := "(Ljava/lang/Object;)I" } : Jvm.MethodName)) ∈ lw_all := lw_g (lw_at lw_m6 170 rfl) rfl
theorem q1519 : (Jvm.Cond.publicMethod ({ cls := "java/lang/Integer", name := "compareTo", desc := "(Ljava/lang/Object;)I" } : Jvm.MethodName)) ∈ lw_tbl := lw_at lw_m6 171 rfl
theorem q1520 : (Jvm.Cond.code ({ cls := "java/lang/Integer", name := "compareTo", desc := "(Ljava/lang/Object;)I" } : Jvm.MethodName) prog_32_method_63_code (2 : Nat) (Option.some Jvm.ClassFile.FieldType.int)) ∈ lw_all := lw_g (lw_at lw_m6 172 rfl) rfl
theorem q1521 : (Jvm.Cond.methodLink "java/lang/Integer" (284 : Nat) ({ cls := "java/lang/Integer", name := "compareTo", desc := "(Ljava/lang/Integer;)I" } : Jvm.MethodName)) ∈ lw_all := lw_g (lw_at lw_m6 173 rfl) rfl
theorem q1522 : (Jvm.Cond.instanceMethod ({ cls := "java/lang/Integer", name := "compareTo", desc := "(Ljava/lang/Integer;)I" } : Jvm.MethodName)) ∈ lw_all := lw_g (lw_at lw_m6 174 rfl) rfl
theorem q1523 : (Jvm.Cond.selects "java/lang/Integer" ({ cls := "java/lang/Integer", name := "compareTo", desc := "(Ljava/lang/Integer;)I" } : Jvm.MethodName) ({ cls := "java/lang/Integer", name := "compareTo", desc := "(Ljava/lang/Integer;)I" } : Jvm.MethodName)) ∈ lw_all := lw_g (lw_at lw_m6 175 rfl) rfl
theorem q1524 : (Jvm.Cond.code ({ cls := "java/lang/Integer", name := "compareTo", desc := "(Ljava/lang/Integer;)I" } : Jvm.MethodName) prog_32_method_39_code (2 : Nat) (Option.some Jvm.ClassFile.FieldType.int)) ∈ lw_all := lw_g (lw_at lw_m6 176 rfl) rfl
theorem q1525 : (Jvm.Cond.methodLink "java/lang/Integer" (259 : Nat) ({ cls := "java/lang/Integer", name := "compare", desc := "(II)I" } : Jvm.MethodName)) ∈ lw_all := lw_g (lw_at lw_m6 177 rfl) rfl
theorem q1526 : (Jvm.Cond.static ({ cls := "java/lang/Integer", name := "compare", desc := "(II)I" } : Jvm.MethodName)) ∈ lw_all := lw_g (lw_at lw_m6 178 rfl) rfl
theorem q1527 : (Jvm.Cond.code ({ cls := "java/lang/Integer", name := "compare", desc := "(II)I" } : Jvm.MethodName) prog_32_method_40_code (2 : Nat) (Option.some Jvm.ClassFile.FieldType.int)) ∈ lw_all := lw_g (lw_at lw_m6 179 rfl) rfl
theorem q1624 : (Jvm.Cond.static ({ cls := "java/lang/Integer", name := "numberOfTrailingZeros", desc := "(I)I" } : Jvm.MethodName)) ∈ lw_all := lw_g (lw_at lw_m7 36 rfl) rfl
theorem q1625 : (Jvm.Cond.code ({ cls := "java/lang/Integer", name := "numberOfTrailingZeros", desc := "(I)I" } : Jvm.MethodName) prog_32_method_48_code (2 : Nat) (Option.some Jvm.ClassFile.FieldType.int)) ∈ lw_all := lw_g (lw_at lw_m7 37 rfl) rfl
theorem q1753 : (Jvm.Cond.selects "java/lang/Integer" ({ cls := "java/lang/Object", name := "equals", desc := "(Ljava/lang/Object;)Z" } : Jvm.MethodName) ({ cls := "java/lang/Integer", name := "equals", desc := "(Ljava/lang/Object;)Z" } : Jvm.MethodName)) ∈ lw_all := lw_g (lw_at lw_m7 165 rfl) rfl
theorem q1754 : (Jvm.Cond.instanceMethod ({ cls := "java/lang/Integer", name := "equals", desc := "(Ljava/lang/Object;)Z" } : Jvm.MethodName)) ∈ lw_all := lw_g (lw_at lw_m7 166 rfl) rfl
theorem q1755 : (Jvm.Cond.code ({ cls := "java/lang/Integer", name := "equals", desc := "(Ljava/lang/Object;)Z" } : Jvm.MethodName) prog_32_method_34_code (2 : Nat) (Option.some Jvm.ClassFile.FieldType.boolean)) ∈ lw_all := lw_g (lw_at lw_m7 167 rfl) rfl
theorem q1756 : (Jvm.Cond.methodLink "java/lang/Integer" (211 : Nat) ({ cls := "java/lang/Integer", name := "intValue", desc := "()I" } : Jvm.MethodName)) ∈ lw_all := lw_g (lw_at lw_m7 168 rfl) rfl
theorem q1757 : (Jvm.Cond.instanceMethod ({ cls := "java/lang/Integer", name := "intValue", desc := "()I" } : Jvm.MethodName)) ∈ lw_all := lw_g (lw_at lw_m7 169 rfl) rfl
theorem q1758 : (Jvm.Cond.selects "java/lang/Integer" ({ cls := "java/lang/Integer", name := "intValue", desc := "()I" } : Jvm.MethodName) ({ cls := "java/lang/Integer", name := "intValue", desc := "()I" } : Jvm.MethodName)) ∈ lw_all := lw_g (lw_at lw_m7 170 rfl) rfl
theorem q1759 : (Jvm.Cond.code ({ cls := "java/lang/Integer", name := "intValue", desc := "()I" } : Jvm.MethodName) prog_32_method_27_code (1 : Nat) (Option.some Jvm.ClassFile.FieldType.int)) ∈ lw_all := lw_g (lw_at lw_m7 171 rfl) rfl
theorem q4103 : (Jvm.Cond.castable "java/lang/Integer" "java/lang/Object") ∈ lw_tbl := lw_at lw_m17 115 rfl
theorem in_J18 : ∀ w ∈ wsJ180, w ∈ lw_all := lw_in wsJ180 [1289] (by decide +kernel) (by decide +kernel)

/-! java/util/AbstractMap -/
set_option maxRecDepth 100000
def RJ19 : String := "java/util/AbstractMap"
abbrev cJ19_init : ByteArray := prog_51_method_1_code
def yJ19_init : MethodName := ⟨RJ19, "<init>", "()V"⟩
theorem dJ19_init_0 : decode cJ19_init 0 = .ok (.aload_n 0, 1) := by decide +kernel
theorem dJ19_init_1 : decode cJ19_init 1 = .ok (.invokespecial 1, 3) := by decide +kernel
theorem dJ19_init_4 : decode cJ19_init 4 = .ok (.return_, 1) := by decide +kernel
theorem q171 : (Jvm.Cond.initialized "java/util/AbstractMap") ∈ lw_all := lw_g (lw_at lw_m1 23 rfl) rfl
theorem q599 : (Jvm.Cond.instanceMethod ({ cls := "java/util/AbstractMap", name := "<init>", desc := "()V" } : Jvm.MethodName)) ∈ lw_all := lw_g (lw_at lw_m2 211 rfl) rfl
theorem q600 : (Jvm.Cond.code ({ cls := "java/util/AbstractMap", name := "<init>", desc := "()V" } : Jvm.MethodName) prog_51_method_1_code (1 : Nat) (Option.none : Option Jvm.ClassFile.FieldType)) ∈ lw_all := lw_g (lw_at lw_m2 212 rfl) rfl
theorem q601 : (Jvm.Cond.methodLink "java/util/AbstractMap" (1 : Nat) ({ cls := "java/lang/Object", name := "<init>", desc := "()V" } : Jvm.MethodName)) ∈ lw_all := lw_g (lw_at lw_m2 213 rfl) rfl
theorem q645 : (Jvm.Cond.soleField "java/util/AbstractMap" "keySet") ∈ lw_all := lw_g (lw_at lw_m3 17 rfl) rfl
theorem q647 : (Jvm.Cond.soleField "java/util/AbstractMap" "values") ∈ lw_all := lw_g (lw_at lw_m3 19 rfl) rfl

/-! java/util/HashMap -/
set_option maxRecDepth 100000
def RJ20 : String := "java/util/HashMap"
abbrev cJ20_init : ByteArray := prog_59_method_7_code
def yJ20_init : MethodName := ⟨RJ20, "<init>", "()V"⟩
def dkwJ20_init_0 : List UInt8 := [42, 183, 0, 43, 42, 18, 92, 181, 0, 81, 177]
abbrev dktJ20_init_0 : List UInt8 := dkwJ20_init_0 ++ []
theorem dksJ20_init_0 : cJ20_init.data.toList.drop 0 = dktJ20_init_0 := by decide +kernel
theorem dJ20_init_0 : decode cJ20_init 0 = .ok (.aload_n 0, 1) := dk_42 (dk_at dksJ20_init_0 0 rfl rfl)
theorem dJ20_init_1 : decode cJ20_init 1 = .ok (.invokespecial 43, 3) := dk_183 0 43 (dk_at dksJ20_init_0 1 rfl rfl)
theorem dJ20_init_4 : decode cJ20_init 4 = .ok (.aload_n 0, 1) := dk_42 (dk_at dksJ20_init_0 4 rfl rfl)
theorem dJ20_init_5 : decode cJ20_init 5 = .ok (.ldc 92, 2) := dk_18 92 (dk_at dksJ20_init_0 5 rfl rfl)
theorem dJ20_init_7 : decode cJ20_init 7 = .ok (.putfield 81, 3) := dk_181 0 81 (dk_at dksJ20_init_0 7 rfl rfl)
theorem dJ20_init_10 : decode cJ20_init 10 = .ok (.return_, 1) := dk_177 (dk_at dksJ20_init_0 10 rfl rfl)
abbrev cJ20_init_2 : ByteArray := prog_59_method_5_code
def yJ20_init_2 : MethodName := ⟨RJ20, "<init>", "(IF)V"⟩
def dkwJ20_init_2_4 : List UInt8 := [181, 0, 88, 177]
abbrev dktJ20_init_2_4 : List UInt8 := dkwJ20_init_2_4 ++ []
def dkwJ20_init_2_3 : List UInt8 := [182, 0, 56, 36, 182, 0, 78, 182, 0, 63, 183, 0, 67, 191, 42, 36, 181, 0, 81, 42, 27, 184, 0, 85]
abbrev dktJ20_init_2_3 : List UInt8 := dkwJ20_init_2_3 ++ dktJ20_init_2_4
def dkwJ20_init_2_2 : List UInt8 := [158, 0, 10, 36, 184, 0, 70, 153, 0, 30, 187, 0, 49, 89, 187, 0, 51, 89, 183, 0, 53, 18, 76]
abbrev dktJ20_init_2_2 : List UInt8 := dkwJ20_init_2_2 ++ dktJ20_init_2_3
def dkwJ20_init_2_1 : List UInt8 := [27, 182, 0, 60, 182, 0, 63, 183, 0, 67, 191, 27, 18, 42, 164, 0, 6, 18, 42, 60, 36, 11, 150]
abbrev dktJ20_init_2_1 : List UInt8 := dkwJ20_init_2_1 ++ dktJ20_init_2_2
def dkwJ20_init_2_0 : List UInt8 := [42, 183, 0, 43, 27, 156, 0, 30, 187, 0, 49, 89, 187, 0, 51, 89, 183, 0, 53, 18, 54, 182, 0, 56]
abbrev dktJ20_init_2_0 : List UInt8 := dkwJ20_init_2_0 ++ dktJ20_init_2_1
theorem dksJ20_init_2_0 : cJ20_init_2.data.toList.drop 0 = dktJ20_init_2_0 := by decide +kernel
theorem dksJ20_init_2_1 : cJ20_init_2.data.toList.drop 24 = dktJ20_init_2_1 := dk_seg dksJ20_init_2_0 24 rfl rfl
theorem dksJ20_init_2_2 : cJ20_init_2.data.toList.drop 47 = dktJ20_init_2_2 := dk_seg dksJ20_init_2_1 23 rfl rfl
theorem dksJ20_init_2_3 : cJ20_init_2.data.toList.drop 70 = dktJ20_init_2_3 := dk_seg dksJ20_init_2_2 23 rfl rfl
theorem dksJ20_init_2_4 : cJ20_init_2.data.toList.drop 94 = dktJ20_init_2_4 := dk_seg dksJ20_init_2_3 24 rfl rfl
theorem dJ20_init_2_0 : decode cJ20_init_2 0 = .ok (.aload_n 0, 1) := dk_42 (dk_at dksJ20_init_2_0 0 rfl rfl)
theorem dJ20_init_2_1 : decode cJ20_init_2 1 = .ok (.invokespecial 43, 3) := dk_183 0 43 (dk_at dksJ20_init_2_0 1 rfl rfl)
theorem dJ20_init_2_4 : decode cJ20_init_2 4 = .ok (.iload_n 1, 1) := dk_27 (dk_at dksJ20_init_2_0 4 rfl rfl)
theorem dJ20_init_2_5 : decode cJ20_init_2 5 = .ok (.ifCond .ge 30, 3) := dk_156 0 30 (dk_at dksJ20_init_2_0 5 rfl rfl)
theorem dJ20_init_2_8 : decode cJ20_init_2 8 = .ok (.new 49, 3) := dk_187 0 49 (dk_at dksJ20_init_2_0 8 rfl rfl)
theorem dJ20_init_2_11 : decode cJ20_init_2 11 = .ok (.dup, 1) := dk_89 (dk_at dksJ20_init_2_0 11 rfl rfl)
theorem dJ20_init_2_12 : decode cJ20_init_2 12 = .ok (.new 51, 3) := dk_187 0 51 (dk_at dksJ20_init_2_0 12 rfl rfl)
theorem dJ20_init_2_15 : decode cJ20_init_2 15 = .ok (.dup, 1) := dk_89 (dk_at dksJ20_init_2_0 15 rfl rfl)
theorem dJ20_init_2_16 : decode cJ20_init_2 16 = .ok (.invokespecial 53, 3) := dk_183 0 53 (dk_at dksJ20_init_2_0 16 rfl rfl)
theorem dJ20_init_2_19 : decode cJ20_init_2 19 = .ok (.ldc 54, 2) := dk_18 54 (dk_at dksJ20_init_2_0 19 rfl rfl)
theorem dJ20_init_2_21 : decode cJ20_init_2 21 = .ok (.invokevirtual 56, 3) := dk_182 0 56 (dk_at dksJ20_init_2_0 21 rfl rfl)
theorem dJ20_init_2_24 : decode cJ20_init_2 24 = .ok (.iload_n 1, 1) := dk_27 (dk_at dksJ20_init_2_1 0 rfl rfl)
theorem dJ20_init_2_25 : decode cJ20_init_2 25 = .ok (.invokevirtual 60, 3) := dk_182 0 60 (dk_at dksJ20_init_2_1 1 rfl rfl)
theorem dJ20_init_2_28 : decode cJ20_init_2 28 = .ok (.invokevirtual 63, 3) := dk_182 0 63 (dk_at dksJ20_init_2_1 4 rfl rfl)
theorem dJ20_init_2_31 : decode cJ20_init_2 31 = .ok (.invokespecial 67, 3) := dk_183 0 67 (dk_at dksJ20_init_2_1 7 rfl rfl)
theorem dJ20_init_2_34 : decode cJ20_init_2 34 = .ok (.athrow, 1) := dk_191 (dk_at dksJ20_init_2_1 10 rfl rfl)
theorem dJ20_init_2_35 : decode cJ20_init_2 35 = .ok (.iload_n 1, 1) := dk_27 (dk_at dksJ20_init_2_1 11 rfl rfl)
theorem dJ20_init_2_36 : decode cJ20_init_2 36 = .ok (.ldc 42, 2) := dk_18 42 (dk_at dksJ20_init_2_1 12 rfl rfl)
theorem dJ20_init_2_38 : decode cJ20_init_2 38 = .ok (.if_icmp .le 6, 3) := dk_164 0 6 (dk_at dksJ20_init_2_1 14 rfl rfl)
theorem dJ20_init_2_41 : decode cJ20_init_2 41 = .ok (.ldc 42, 2) := dk_18 42 (dk_at dksJ20_init_2_1 17 rfl rfl)
theorem dJ20_init_2_43 : decode cJ20_init_2 43 = .ok (.istore_n 1, 1) := dk_60 (dk_at dksJ20_init_2_1 19 rfl rfl)
theorem dJ20_init_2_44 : decode cJ20_init_2 44 = .ok (.fload_n 2, 1) := dk_36 (dk_at dksJ20_init_2_1 20 rfl rfl)
theorem dJ20_init_2_45 : decode cJ20_init_2 45 = .ok (.fconst 0, 1) := dk_11 (dk_at dksJ20_init_2_1 21 rfl rfl)
theorem dJ20_init_2_46 : decode cJ20_init_2 46 = .ok (.fcmp .g, 1) := dk_150 (dk_at dksJ20_init_2_1 22 rfl rfl)
theorem dJ20_init_2_47 : decode cJ20_init_2 47 = .ok (.ifCond .le 10, 3) := dk_158 0 10 (dk_at dksJ20_init_2_2 0 rfl rfl)
theorem dJ20_init_2_50 : decode cJ20_init_2 50 = .ok (.fload_n 2, 1) := dk_36 (dk_at dksJ20_init_2_2 3 rfl rfl)
theorem dJ20_init_2_51 : decode cJ20_init_2 51 = .ok (.invokestatic 70, 3) := dk_184 0 70 (dk_at dksJ20_init_2_2 4 rfl rfl)
theorem dJ20_init_2_54 : decode cJ20_init_2 54 = .ok (.ifCond .eq 30, 3) := dk_153 0 30 (dk_at dksJ20_init_2_2 7 rfl rfl)
theorem dJ20_init_2_57 : decode cJ20_init_2 57 = .ok (.new 49, 3) := dk_187 0 49 (dk_at dksJ20_init_2_2 10 rfl rfl)
theorem dJ20_init_2_60 : decode cJ20_init_2 60 = .ok (.dup, 1) := dk_89 (dk_at dksJ20_init_2_2 13 rfl rfl)
theorem dJ20_init_2_61 : decode cJ20_init_2 61 = .ok (.new 51, 3) := dk_187 0 51 (dk_at dksJ20_init_2_2 14 rfl rfl)
theorem dJ20_init_2_64 : decode cJ20_init_2 64 = .ok (.dup, 1) := dk_89 (dk_at dksJ20_init_2_2 17 rfl rfl)
theorem dJ20_init_2_65 : decode cJ20_init_2 65 = .ok (.invokespecial 53, 3) := dk_183 0 53 (dk_at dksJ20_init_2_2 18 rfl rfl)
theorem dJ20_init_2_68 : decode cJ20_init_2 68 = .ok (.ldc 76, 2) := dk_18 76 (dk_at dksJ20_init_2_2 21 rfl rfl)
theorem dJ20_init_2_70 : decode cJ20_init_2 70 = .ok (.invokevirtual 56, 3) := dk_182 0 56 (dk_at dksJ20_init_2_3 0 rfl rfl)
theorem dJ20_init_2_73 : decode cJ20_init_2 73 = .ok (.fload_n 2, 1) := dk_36 (dk_at dksJ20_init_2_3 3 rfl rfl)
theorem dJ20_init_2_74 : decode cJ20_init_2 74 = .ok (.invokevirtual 78, 3) := dk_182 0 78 (dk_at dksJ20_init_2_3 4 rfl rfl)
theorem dJ20_init_2_77 : decode cJ20_init_2 77 = .ok (.invokevirtual 63, 3) := dk_182 0 63 (dk_at dksJ20_init_2_3 7 rfl rfl)
theorem dJ20_init_2_80 : decode cJ20_init_2 80 = .ok (.invokespecial 67, 3) := dk_183 0 67 (dk_at dksJ20_init_2_3 10 rfl rfl)
theorem dJ20_init_2_83 : decode cJ20_init_2 83 = .ok (.athrow, 1) := dk_191 (dk_at dksJ20_init_2_3 13 rfl rfl)
theorem dJ20_init_2_84 : decode cJ20_init_2 84 = .ok (.aload_n 0, 1) := dk_42 (dk_at dksJ20_init_2_3 14 rfl rfl)
theorem dJ20_init_2_85 : decode cJ20_init_2 85 = .ok (.fload_n 2, 1) := dk_36 (dk_at dksJ20_init_2_3 15 rfl rfl)
theorem dJ20_init_2_86 : decode cJ20_init_2 86 = .ok (.putfield 81, 3) := dk_181 0 81 (dk_at dksJ20_init_2_3 16 rfl rfl)
theorem dJ20_init_2_89 : decode cJ20_init_2 89 = .ok (.aload_n 0, 1) := dk_42 (dk_at dksJ20_init_2_3 19 rfl rfl)
theorem dJ20_init_2_90 : decode cJ20_init_2 90 = .ok (.iload_n 1, 1) := dk_27 (dk_at dksJ20_init_2_3 20 rfl rfl)
theorem dJ20_init_2_91 : decode cJ20_init_2 91 = .ok (.invokestatic 85, 3) := dk_184 0 85 (dk_at dksJ20_init_2_3 21 rfl rfl)
theorem dJ20_init_2_94 : decode cJ20_init_2 94 = .ok (.putfield 88, 3) := dk_181 0 88 (dk_at dksJ20_init_2_4 0 rfl rfl)
theorem dJ20_init_2_97 : decode cJ20_init_2 97 = .ok (.return_, 1) := dk_177 (dk_at dksJ20_init_2_4 3 rfl rfl)
abbrev cJ20_tableSizeFor : ByteArray := prog_59_method_4_code
def yJ20_tableSizeFor : MethodName := ⟨RJ20, "tableSizeFor", "(I)I"⟩
def dkwJ20_tableSizeFor_1 : List UInt8 := [18, 42, 167, 0, 6, 27, 4, 96, 172]
abbrev dktJ20_tableSizeFor_1 : List UInt8 := dkwJ20_tableSizeFor_1 ++ []
def dkwJ20_tableSizeFor_0 : List UInt8 := [2, 26, 4, 100, 184, 0, 34, 124, 60, 27, 156, 0, 7, 4, 167, 0, 17, 27, 18, 42, 161, 0, 8]
abbrev dktJ20_tableSizeFor_0 : List UInt8 := dkwJ20_tableSizeFor_0 ++ dktJ20_tableSizeFor_1
theorem dksJ20_tableSizeFor_0 : cJ20_tableSizeFor.data.toList.drop 0 = dktJ20_tableSizeFor_0 := by decide +kernel
theorem dksJ20_tableSizeFor_1 : cJ20_tableSizeFor.data.toList.drop 23 = dktJ20_tableSizeFor_1 := dk_seg dksJ20_tableSizeFor_0 23 rfl rfl
theorem dJ20_tableSizeFor_0 : decode cJ20_tableSizeFor 0 = .ok (.iconst (-1), 1) := dk_2 (dk_at dksJ20_tableSizeFor_0 0 rfl rfl)
theorem dJ20_tableSizeFor_1 : decode cJ20_tableSizeFor 1 = .ok (.iload_n 0, 1) := dk_26 (dk_at dksJ20_tableSizeFor_0 1 rfl rfl)
theorem dJ20_tableSizeFor_2 : decode cJ20_tableSizeFor 2 = .ok (.iconst 1, 1) := dk_4 (dk_at dksJ20_tableSizeFor_0 2 rfl rfl)
theorem dJ20_tableSizeFor_3 : decode cJ20_tableSizeFor 3 = .ok (.isub, 1) := dk_100 (dk_at dksJ20_tableSizeFor_0 3 rfl rfl)
theorem dJ20_tableSizeFor_4 : decode cJ20_tableSizeFor 4 = .ok (.invokestatic 34, 3) := dk_184 0 34 (dk_at dksJ20_tableSizeFor_0 4 rfl rfl)
theorem dJ20_tableSizeFor_7 : decode cJ20_tableSizeFor 7 = .ok (.iushr, 1) := dk_124 (dk_at dksJ20_tableSizeFor_0 7 rfl rfl)
theorem dJ20_tableSizeFor_8 : decode cJ20_tableSizeFor 8 = .ok (.istore_n 1, 1) := dk_60 (dk_at dksJ20_tableSizeFor_0 8 rfl rfl)
theorem dJ20_tableSizeFor_9 : decode cJ20_tableSizeFor 9 = .ok (.iload_n 1, 1) := dk_27 (dk_at dksJ20_tableSizeFor_0 9 rfl rfl)
theorem dJ20_tableSizeFor_10 : decode cJ20_tableSizeFor 10 = .ok (.ifCond .ge 7, 3) := dk_156 0 7 (dk_at dksJ20_tableSizeFor_0 10 rfl rfl)
theorem dJ20_tableSizeFor_13 : decode cJ20_tableSizeFor 13 = .ok (.iconst 1, 1) := dk_4 (dk_at dksJ20_tableSizeFor_0 13 rfl rfl)
theorem dJ20_tableSizeFor_14 : decode cJ20_tableSizeFor 14 = .ok (.goto 17, 3) := dk_167 0 17 (dk_at dksJ20_tableSizeFor_0 14 rfl rfl)
theorem dJ20_tableSizeFor_17 : decode cJ20_tableSizeFor 17 = .ok (.iload_n 1, 1) := dk_27 (dk_at dksJ20_tableSizeFor_0 17 rfl rfl)
theorem dJ20_tableSizeFor_18 : decode cJ20_tableSizeFor 18 = .ok (.ldc 42, 2) := dk_18 42 (dk_at dksJ20_tableSizeFor_0 18 rfl rfl)
theorem dJ20_tableSizeFor_20 : decode cJ20_tableSizeFor 20 = .ok (.if_icmp .lt 8, 3) := dk_161 0 8 (dk_at dksJ20_tableSizeFor_0 20 rfl rfl)
theorem dJ20_tableSizeFor_23 : decode cJ20_tableSizeFor 23 = .ok (.ldc 42, 2) := dk_18 42 (dk_at dksJ20_tableSizeFor_1 0 rfl rfl)
theorem dJ20_tableSizeFor_25 : decode cJ20_tableSizeFor 25 = .ok (.goto 6, 3) := dk_167 0 6 (dk_at dksJ20_tableSizeFor_1 2 rfl rfl)
theorem dJ20_tableSizeFor_28 : decode cJ20_tableSizeFor 28 = .ok (.iload_n 1, 1) := dk_27 (dk_at dksJ20_tableSizeFor_1 5 rfl rfl)
theorem dJ20_tableSizeFor_29 : decode cJ20_tableSizeFor 29 = .ok (.iconst 1, 1) := dk_4 (dk_at dksJ20_tableSizeFor_1 6 rfl rfl)
theorem dJ20_tableSizeFor_30 : decode cJ20_tableSizeFor 30 = .ok (.iadd, 1) := dk_96 (dk_at dksJ20_tableSizeFor_1 7 rfl rfl)
theorem dJ20_tableSizeFor_31 : decode cJ20_tableSizeFor 31 = .ok (.ireturn, 1) := dk_172 (dk_at dksJ20_tableSizeFor_1 8 rfl rfl)
abbrev cJ20_put : ByteArray := prog_59_method_15_code
def yJ20_put : MethodName := ⟨RJ20, "put", "(Ljava/lang/Object;Ljava/lang/Object;)Ljava/lang/Object;"⟩
def dkwJ20_put_0 : List UInt8 := [42, 43, 184, 0, 149, 43, 44, 3, 4, 182, 0, 152, 176]
abbrev dktJ20_put_0 : List UInt8 := dkwJ20_put_0 ++ []
theorem dksJ20_put_0 : cJ20_put.data.toList.drop 0 = dktJ20_put_0 := by decide +kernel
theorem dJ20_put_0 : decode cJ20_put 0 = .ok (.aload_n 0, 1) := dk_42 (dk_at dksJ20_put_0 0 rfl rfl)
theorem dJ20_put_1 : decode cJ20_put 1 = .ok (.aload_n 1, 1) := dk_43 (dk_at dksJ20_put_0 1 rfl rfl)
theorem dJ20_put_2 : decode cJ20_put 2 = .ok (.invokestatic 149, 3) := dk_184 0 149 (dk_at dksJ20_put_0 2 rfl rfl)
theorem dJ20_put_5 : decode cJ20_put 5 = .ok (.aload_n 1, 1) := dk_43 (dk_at dksJ20_put_0 5 rfl rfl)
theorem dJ20_put_6 : decode cJ20_put 6 = .ok (.aload_n 2, 1) := dk_44 (dk_at dksJ20_put_0 6 rfl rfl)
theorem dJ20_put_7 : decode cJ20_put 7 = .ok (.iconst 0, 1) := dk_3 (dk_at dksJ20_put_0 7 rfl rfl)
theorem dJ20_put_8 : decode cJ20_put 8 = .ok (.iconst 1, 1) := dk_4 (dk_at dksJ20_put_0 8 rfl rfl)
theorem dJ20_put_9 : decode cJ20_put 9 = .ok (.invokevirtual 152, 3) := dk_182 0 152 (dk_at dksJ20_put_0 9 rfl rfl)
theorem dJ20_put_12 : decode cJ20_put 12 = .ok (.areturn, 1) := dk_176 (dk_at dksJ20_put_0 12 rfl rfl)
abbrev cJ20_hash : ByteArray := prog_59_method_1_code
def yJ20_hash : MethodName := ⟨RJ20, "hash", "(Ljava/lang/Object;)I"⟩
def dkwJ20_hash_0 : List UInt8 := [42, 199, 0, 7, 3, 167, 0, 14, 42, 182, 0, 1, 89, 60, 27, 16, 16, 124, 130, 172]
abbrev dktJ20_hash_0 : List UInt8 := dkwJ20_hash_0 ++ []
theorem dksJ20_hash_0 : cJ20_hash.data.toList.drop 0 = dktJ20_hash_0 := by decide +kernel
theorem dJ20_hash_0 : decode cJ20_hash 0 = .ok (.aload_n 0, 1) := dk_42 (dk_at dksJ20_hash_0 0 rfl rfl)
theorem dJ20_hash_1 : decode cJ20_hash 1 = .ok (.ifnonnull 7, 3) := dk_199 0 7 (dk_at dksJ20_hash_0 1 rfl rfl)
theorem dJ20_hash_4 : decode cJ20_hash 4 = .ok (.iconst 0, 1) := dk_3 (dk_at dksJ20_hash_0 4 rfl rfl)
theorem dJ20_hash_5 : decode cJ20_hash 5 = .ok (.goto 14, 3) := dk_167 0 14 (dk_at dksJ20_hash_0 5 rfl rfl)
theorem dJ20_hash_8 : decode cJ20_hash 8 = .ok (.aload_n 0, 1) := dk_42 (dk_at dksJ20_hash_0 8 rfl rfl)
theorem dJ20_hash_9 : decode cJ20_hash 9 = .ok (.invokevirtual 1, 3) := dk_182 0 1 (dk_at dksJ20_hash_0 9 rfl rfl)
theorem dJ20_hash_12 : decode cJ20_hash 12 = .ok (.dup, 1) := dk_89 (dk_at dksJ20_hash_0 12 rfl rfl)
theorem dJ20_hash_13 : decode cJ20_hash 13 = .ok (.istore_n 1, 1) := dk_60 (dk_at dksJ20_hash_0 13 rfl rfl)
theorem dJ20_hash_14 : decode cJ20_hash 14 = .ok (.iload_n 1, 1) := dk_27 (dk_at dksJ20_hash_0 14 rfl rfl)
theorem dJ20_hash_15 : decode cJ20_hash 15 = .ok (.bipush 16, 2) := dk_16 16 (dk_at dksJ20_hash_0 15 rfl rfl)
theorem dJ20_hash_17 : decode cJ20_hash 17 = .ok (.iushr, 1) := dk_124 (dk_at dksJ20_hash_0 17 rfl rfl)
theorem dJ20_hash_18 : decode cJ20_hash 18 = .ok (.ixor, 1) := dk_130 (dk_at dksJ20_hash_0 18 rfl rfl)
theorem dJ20_hash_19 : decode cJ20_hash 19 = .ok (.ireturn, 1) := dk_172 (dk_at dksJ20_hash_0 19 rfl rfl)
abbrev cJ20_putVal : ByteArray := prog_59_method_16_code
def yJ20_putVal : MethodName := ⟨RJ20, "putVal", "(ILjava/lang/Object;Ljava/lang/Object;ZZ)Ljava/lang/Object;"⟩
def dkwJ20_putVal_12 : List UInt8 := [181, 0, 156, 42, 180, 0, 88, 164, 0, 8, 42, 182, 0, 117, 87, 42, 21, 5, 182, 0, 205, 1, 176]
abbrev dktJ20_putVal_12 : List UInt8 := dkwJ20_putVal_12 ++ []
def dkwJ20_putVal_11 : List UInt8 := [182, 0, 198, 25, 12, 176, 42, 89, 180, 0, 202, 4, 96, 181, 0, 202, 42, 89, 180, 0, 156, 4, 96, 90]
abbrev dktJ20_putVal_11 : List UInt8 := dkwJ20_putVal_11 ++ dktJ20_putVal_12
def dkwJ20_putVal_10 : List UInt8 := [180, 0, 162, 58, 12, 21, 4, 153, 0, 8, 25, 12, 199, 0, 9, 25, 10, 45, 181, 0, 162, 42, 25, 10]
abbrev dktJ20_putVal_10 : List UInt8 := dkwJ20_putVal_10 ++ dktJ20_putVal_11
def dkwJ20_putVal_9 : List UInt8 := [153, 0, 6, 167, 0, 13, 25, 10, 58, 7, 132, 12, 1, 167, 255, 171, 25, 10, 198, 0, 35, 25, 10]
abbrev dktJ20_putVal_9 : List UInt8 := dkwJ20_putVal_9 ++ dktJ20_putVal_10
def dkwJ20_putVal_8 : List UInt8 := [25, 10, 180, 0, 170, 89, 58, 11, 44, 165, 0, 29, 44, 198, 0, 15, 44, 25, 11, 182, 0, 173]
abbrev dktJ20_putVal_8 : List UInt8 := dkwJ20_putVal_8 ++ dktJ20_putVal_9
def dkwJ20_putVal_7 : List UInt8 := [16, 7, 161, 0, 60, 42, 25, 6, 27, 182, 0, 194, 167, 0, 50, 25, 10, 180, 0, 168, 27, 160, 0, 31]
abbrev dktJ20_putVal_7 : List UInt8 := dkwJ20_putVal_7 ++ dktJ20_putVal_8
def dkwJ20_putVal_6 : List UInt8 := [180, 0, 177, 89, 58, 10, 199, 0, 33, 25, 7, 42, 27, 44, 45, 1, 182, 0, 186, 181, 0, 177, 21, 12]
abbrev dktJ20_putVal_6 : List UInt8 := dkwJ20_putVal_6 ++ dktJ20_putVal_7
def dkwJ20_putVal_5 : List UInt8 := [192, 0, 180, 42, 25, 6, 27, 44, 45, 182, 0, 190, 58, 10, 167, 0, 94, 3, 54, 12, 25, 7]
abbrev dktJ20_putVal_5 : List UInt8 := dkwJ20_putVal_5 ++ dktJ20_putVal_6
def dkwJ20_putVal_4 : List UInt8 := [182, 0, 173, 153, 0, 10, 25, 7, 58, 10, 167, 0, 121, 25, 7, 193, 0, 180, 153, 0, 22, 25, 7]
abbrev dktJ20_putVal_4 : List UInt8 := dkwJ20_putVal_4 ++ dktJ20_putVal_5
def dkwJ20_putVal_3 : List UInt8 := [160, 0, 35, 25, 7, 180, 0, 170, 89, 58, 11, 44, 165, 0, 16, 44, 198, 0, 19, 44, 25, 11]
abbrev dktJ20_putVal_3 : List UInt8 := dkwJ20_putVal_3 ++ dktJ20_putVal_4
def dkwJ20_putVal_2 : List UInt8 := [25, 6, 21, 9, 42, 27, 44, 45, 1, 182, 0, 186, 83, 167, 0, 199, 25, 7, 180, 0, 168, 27]
abbrev dktJ20_putVal_2 : List UInt8 := dkwJ20_putVal_2 ++ dktJ20_putVal_3
def dkwJ20_putVal_1 : List UInt8 := [58, 6, 190, 54, 8, 25, 6, 21, 8, 4, 100, 27, 126, 89, 54, 9, 50, 89, 58, 7, 199, 0, 19]
abbrev dktJ20_putVal_1 : List UInt8 := dkwJ20_putVal_1 ++ dktJ20_putVal_2
def dkwJ20_putVal_0 : List UInt8 := [42, 180, 0, 105, 89, 58, 6, 198, 0, 12, 25, 6, 190, 89, 54, 8, 154, 0, 13, 42, 182, 0, 117, 89]
abbrev dktJ20_putVal_0 : List UInt8 := dkwJ20_putVal_0 ++ dktJ20_putVal_1
theorem dksJ20_putVal_0 : cJ20_putVal.data.toList.drop 0 = dktJ20_putVal_0 := by decide +kernel
theorem dksJ20_putVal_1 : cJ20_putVal.data.toList.drop 24 = dktJ20_putVal_1 := dk_seg dksJ20_putVal_0 24 rfl rfl
theorem dksJ20_putVal_2 : cJ20_putVal.data.toList.drop 47 = dktJ20_putVal_2 := dk_seg dksJ20_putVal_1 23 rfl rfl
theorem dksJ20_putVal_3 : cJ20_putVal.data.toList.drop 69 = dktJ20_putVal_3 := dk_seg dksJ20_putVal_2 22 rfl rfl
theorem dksJ20_putVal_4 : cJ20_putVal.data.toList.drop 91 = dktJ20_putVal_4 := dk_seg dksJ20_putVal_3 22 rfl rfl
theorem dksJ20_putVal_5 : cJ20_putVal.data.toList.drop 114 = dktJ20_putVal_5 := dk_seg dksJ20_putVal_4 23 rfl rfl
theorem dksJ20_putVal_6 : cJ20_putVal.data.toList.drop 136 = dktJ20_putVal_6 := dk_seg dksJ20_putVal_5 22 rfl rfl
theorem dksJ20_putVal_7 : cJ20_putVal.data.toList.drop 160 = dktJ20_putVal_7 := dk_seg dksJ20_putVal_6 24 rfl rfl
theorem dksJ20_putVal_8 : cJ20_putVal.data.toList.drop 184 = dktJ20_putVal_8 := dk_seg dksJ20_putVal_7 24 rfl rfl
theorem dksJ20_putVal_9 : cJ20_putVal.data.toList.drop 206 = dktJ20_putVal_9 := dk_seg dksJ20_putVal_8 22 rfl rfl
theorem dksJ20_putVal_10 : cJ20_putVal.data.toList.drop 229 = dktJ20_putVal_10 := dk_seg dksJ20_putVal_9 23 rfl rfl
theorem dksJ20_putVal_11 : cJ20_putVal.data.toList.drop 253 = dktJ20_putVal_11 := dk_seg dksJ20_putVal_10 24 rfl rfl
theorem dksJ20_putVal_12 : cJ20_putVal.data.toList.drop 277 = dktJ20_putVal_12 := dk_seg dksJ20_putVal_11 24 rfl rfl
theorem dJ20_putVal_0 : decode cJ20_putVal 0 = .ok (.aload_n 0, 1) := dk_42 (dk_at dksJ20_putVal_0 0 rfl rfl)
theorem dJ20_putVal_1 : decode cJ20_putVal 1 = .ok (.getfield 105, 3) := dk_180 0 105 (dk_at dksJ20_putVal_0 1 rfl rfl)
theorem dJ20_putVal_4 : decode cJ20_putVal 4 = .ok (.dup, 1) := dk_89 (dk_at dksJ20_putVal_0 4 rfl rfl)
theorem dJ20_putVal_5 : decode cJ20_putVal 5 = .ok (.astore 6, 2) := dk_58 6 (dk_at dksJ20_putVal_0 5 rfl rfl)
theorem dJ20_putVal_7 : decode cJ20_putVal 7 = .ok (.ifnull 12, 3) := dk_198 0 12 (dk_at dksJ20_putVal_0 7 rfl rfl)
theorem dJ20_putVal_10 : decode cJ20_putVal 10 = .ok (.aload 6, 2) := dk_25 6 (dk_at dksJ20_putVal_0 10 rfl rfl)
theorem dJ20_putVal_12 : decode cJ20_putVal 12 = .ok (.arraylength, 1) := dk_190 (dk_at dksJ20_putVal_0 12 rfl rfl)
theorem dJ20_putVal_13 : decode cJ20_putVal 13 = .ok (.dup, 1) := dk_89 (dk_at dksJ20_putVal_0 13 rfl rfl)
theorem dJ20_putVal_14 : decode cJ20_putVal 14 = .ok (.istore 8, 2) := dk_54 8 (dk_at dksJ20_putVal_0 14 rfl rfl)
theorem dJ20_putVal_16 : decode cJ20_putVal 16 = .ok (.ifCond .ne 13, 3) := dk_154 0 13 (dk_at dksJ20_putVal_0 16 rfl rfl)
theorem dJ20_putVal_19 : decode cJ20_putVal 19 = .ok (.aload_n 0, 1) := dk_42 (dk_at dksJ20_putVal_0 19 rfl rfl)
theorem dJ20_putVal_20 : decode cJ20_putVal 20 = .ok (.invokevirtual 117, 3) := dk_182 0 117 (dk_at dksJ20_putVal_0 20 rfl rfl)
theorem dJ20_putVal_23 : decode cJ20_putVal 23 = .ok (.dup, 1) := dk_89 (dk_at dksJ20_putVal_0 23 rfl rfl)
theorem dJ20_putVal_24 : decode cJ20_putVal 24 = .ok (.astore 6, 2) := dk_58 6 (dk_at dksJ20_putVal_1 0 rfl rfl)
theorem dJ20_putVal_26 : decode cJ20_putVal 26 = .ok (.arraylength, 1) := dk_190 (dk_at dksJ20_putVal_1 2 rfl rfl)
theorem dJ20_putVal_27 : decode cJ20_putVal 27 = .ok (.istore 8, 2) := dk_54 8 (dk_at dksJ20_putVal_1 3 rfl rfl)
theorem dJ20_putVal_29 : decode cJ20_putVal 29 = .ok (.aload 6, 2) := dk_25 6 (dk_at dksJ20_putVal_1 5 rfl rfl)
theorem dJ20_putVal_31 : decode cJ20_putVal 31 = .ok (.iload 8, 2) := dk_21 8 (dk_at dksJ20_putVal_1 7 rfl rfl)
theorem dJ20_putVal_33 : decode cJ20_putVal 33 = .ok (.iconst 1, 1) := dk_4 (dk_at dksJ20_putVal_1 9 rfl rfl)
theorem dJ20_putVal_34 : decode cJ20_putVal 34 = .ok (.isub, 1) := dk_100 (dk_at dksJ20_putVal_1 10 rfl rfl)
theorem dJ20_putVal_35 : decode cJ20_putVal 35 = .ok (.iload_n 1, 1) := dk_27 (dk_at dksJ20_putVal_1 11 rfl rfl)
theorem dJ20_putVal_36 : decode cJ20_putVal 36 = .ok (.iand, 1) := dk_126 (dk_at dksJ20_putVal_1 12 rfl rfl)
theorem dJ20_putVal_37 : decode cJ20_putVal 37 = .ok (.dup, 1) := dk_89 (dk_at dksJ20_putVal_1 13 rfl rfl)
theorem dJ20_putVal_38 : decode cJ20_putVal 38 = .ok (.istore 9, 2) := dk_54 9 (dk_at dksJ20_putVal_1 14 rfl rfl)
theorem dJ20_putVal_40 : decode cJ20_putVal 40 = .ok (.aaload, 1) := dk_50 (dk_at dksJ20_putVal_1 16 rfl rfl)
theorem dJ20_putVal_41 : decode cJ20_putVal 41 = .ok (.dup, 1) := dk_89 (dk_at dksJ20_putVal_1 17 rfl rfl)
theorem dJ20_putVal_42 : decode cJ20_putVal 42 = .ok (.astore 7, 2) := dk_58 7 (dk_at dksJ20_putVal_1 18 rfl rfl)
theorem dJ20_putVal_44 : decode cJ20_putVal 44 = .ok (.ifnonnull 19, 3) := dk_199 0 19 (dk_at dksJ20_putVal_1 20 rfl rfl)
theorem dJ20_putVal_47 : decode cJ20_putVal 47 = .ok (.aload 6, 2) := dk_25 6 (dk_at dksJ20_putVal_2 0 rfl rfl)
theorem dJ20_putVal_49 : decode cJ20_putVal 49 = .ok (.iload 9, 2) := dk_21 9 (dk_at dksJ20_putVal_2 2 rfl rfl)
theorem dJ20_putVal_51 : decode cJ20_putVal 51 = .ok (.aload_n 0, 1) := dk_42 (dk_at dksJ20_putVal_2 4 rfl rfl)
theorem dJ20_putVal_52 : decode cJ20_putVal 52 = .ok (.iload_n 1, 1) := dk_27 (dk_at dksJ20_putVal_2 5 rfl rfl)
theorem dJ20_putVal_53 : decode cJ20_putVal 53 = .ok (.aload_n 2, 1) := dk_44 (dk_at dksJ20_putVal_2 6 rfl rfl)
theorem dJ20_putVal_54 : decode cJ20_putVal 54 = .ok (.aload_n 3, 1) := dk_45 (dk_at dksJ20_putVal_2 7 rfl rfl)
theorem dJ20_putVal_55 : decode cJ20_putVal 55 = .ok (.aconst_null, 1) := dk_1 (dk_at dksJ20_putVal_2 8 rfl rfl)
theorem dJ20_putVal_56 : decode cJ20_putVal 56 = .ok (.invokevirtual 186, 3) := dk_182 0 186 (dk_at dksJ20_putVal_2 9 rfl rfl)
theorem dJ20_putVal_59 : decode cJ20_putVal 59 = .ok (.aastore, 1) := dk_83 (dk_at dksJ20_putVal_2 12 rfl rfl)
theorem dJ20_putVal_60 : decode cJ20_putVal 60 = .ok (.goto 199, 3) := dk_167 0 199 (dk_at dksJ20_putVal_2 13 rfl rfl)
theorem dJ20_putVal_63 : decode cJ20_putVal 63 = .ok (.aload 7, 2) := dk_25 7 (dk_at dksJ20_putVal_2 16 rfl rfl)
theorem dJ20_putVal_65 : decode cJ20_putVal 65 = .ok (.getfield 168, 3) := dk_180 0 168 (dk_at dksJ20_putVal_2 18 rfl rfl)
theorem dJ20_putVal_68 : decode cJ20_putVal 68 = .ok (.iload_n 1, 1) := dk_27 (dk_at dksJ20_putVal_2 21 rfl rfl)
theorem dJ20_putVal_69 : decode cJ20_putVal 69 = .ok (.if_icmp .ne 35, 3) := dk_160 0 35 (dk_at dksJ20_putVal_3 0 rfl rfl)
theorem dJ20_putVal_72 : decode cJ20_putVal 72 = .ok (.aload 7, 2) := dk_25 7 (dk_at dksJ20_putVal_3 3 rfl rfl)
theorem dJ20_putVal_74 : decode cJ20_putVal 74 = .ok (.getfield 170, 3) := dk_180 0 170 (dk_at dksJ20_putVal_3 5 rfl rfl)
theorem dJ20_putVal_77 : decode cJ20_putVal 77 = .ok (.dup, 1) := dk_89 (dk_at dksJ20_putVal_3 8 rfl rfl)
theorem dJ20_putVal_78 : decode cJ20_putVal 78 = .ok (.astore 11, 2) := dk_58 11 (dk_at dksJ20_putVal_3 9 rfl rfl)
theorem dJ20_putVal_80 : decode cJ20_putVal 80 = .ok (.aload_n 2, 1) := dk_44 (dk_at dksJ20_putVal_3 11 rfl rfl)
theorem dJ20_putVal_81 : decode cJ20_putVal 81 = .ok (.if_acmp .eq 16, 3) := dk_165 0 16 (dk_at dksJ20_putVal_3 12 rfl rfl)
theorem dJ20_putVal_84 : decode cJ20_putVal 84 = .ok (.aload_n 2, 1) := dk_44 (dk_at dksJ20_putVal_3 15 rfl rfl)
theorem dJ20_putVal_85 : decode cJ20_putVal 85 = .ok (.ifnull 19, 3) := dk_198 0 19 (dk_at dksJ20_putVal_3 16 rfl rfl)
theorem dJ20_putVal_88 : decode cJ20_putVal 88 = .ok (.aload_n 2, 1) := dk_44 (dk_at dksJ20_putVal_3 19 rfl rfl)
theorem dJ20_putVal_89 : decode cJ20_putVal 89 = .ok (.aload 11, 2) := dk_25 11 (dk_at dksJ20_putVal_3 20 rfl rfl)
theorem dJ20_putVal_91 : decode cJ20_putVal 91 = .ok (.invokevirtual 173, 3) := dk_182 0 173 (dk_at dksJ20_putVal_4 0 rfl rfl)
theorem dJ20_putVal_94 : decode cJ20_putVal 94 = .ok (.ifCond .eq 10, 3) := dk_153 0 10 (dk_at dksJ20_putVal_4 3 rfl rfl)
theorem dJ20_putVal_97 : decode cJ20_putVal 97 = .ok (.aload 7, 2) := dk_25 7 (dk_at dksJ20_putVal_4 6 rfl rfl)
theorem dJ20_putVal_99 : decode cJ20_putVal 99 = .ok (.astore 10, 2) := dk_58 10 (dk_at dksJ20_putVal_4 8 rfl rfl)
theorem dJ20_putVal_101 : decode cJ20_putVal 101 = .ok (.goto 121, 3) := dk_167 0 121 (dk_at dksJ20_putVal_4 10 rfl rfl)
theorem dJ20_putVal_104 : decode cJ20_putVal 104 = .ok (.aload 7, 2) := dk_25 7 (dk_at dksJ20_putVal_4 13 rfl rfl)
theorem dJ20_putVal_106 : decode cJ20_putVal 106 = .ok (.instanceof 180, 3) := dk_193 0 180 (dk_at dksJ20_putVal_4 15 rfl rfl)
theorem dJ20_putVal_109 : decode cJ20_putVal 109 = .ok (.ifCond .eq 22, 3) := dk_153 0 22 (dk_at dksJ20_putVal_4 18 rfl rfl)
theorem dJ20_putVal_112 : decode cJ20_putVal 112 = .ok (.aload 7, 2) := dk_25 7 (dk_at dksJ20_putVal_4 21 rfl rfl)
theorem dJ20_putVal_114 : decode cJ20_putVal 114 = .ok (.checkcast 180, 3) := dk_192 0 180 (dk_at dksJ20_putVal_5 0 rfl rfl)
theorem dJ20_putVal_117 : decode cJ20_putVal 117 = .ok (.aload_n 0, 1) := dk_42 (dk_at dksJ20_putVal_5 3 rfl rfl)
theorem dJ20_putVal_118 : decode cJ20_putVal 118 = .ok (.aload 6, 2) := dk_25 6 (dk_at dksJ20_putVal_5 4 rfl rfl)
theorem dJ20_putVal_120 : decode cJ20_putVal 120 = .ok (.iload_n 1, 1) := dk_27 (dk_at dksJ20_putVal_5 6 rfl rfl)
theorem dJ20_putVal_121 : decode cJ20_putVal 121 = .ok (.aload_n 2, 1) := dk_44 (dk_at dksJ20_putVal_5 7 rfl rfl)
theorem dJ20_putVal_122 : decode cJ20_putVal 122 = .ok (.aload_n 3, 1) := dk_45 (dk_at dksJ20_putVal_5 8 rfl rfl)
theorem dJ20_putVal_123 : decode cJ20_putVal 123 = .ok (.invokevirtual 190, 3) := dk_182 0 190 (dk_at dksJ20_putVal_5 9 rfl rfl)
theorem dJ20_putVal_126 : decode cJ20_putVal 126 = .ok (.astore 10, 2) := dk_58 10 (dk_at dksJ20_putVal_5 12 rfl rfl)
theorem dJ20_putVal_128 : decode cJ20_putVal 128 = .ok (.goto 94, 3) := dk_167 0 94 (dk_at dksJ20_putVal_5 14 rfl rfl)
theorem dJ20_putVal_131 : decode cJ20_putVal 131 = .ok (.iconst 0, 1) := dk_3 (dk_at dksJ20_putVal_5 17 rfl rfl)
theorem dJ20_putVal_132 : decode cJ20_putVal 132 = .ok (.istore 12, 2) := dk_54 12 (dk_at dksJ20_putVal_5 18 rfl rfl)
theorem dJ20_putVal_134 : decode cJ20_putVal 134 = .ok (.aload 7, 2) := dk_25 7 (dk_at dksJ20_putVal_5 20 rfl rfl)
theorem dJ20_putVal_136 : decode cJ20_putVal 136 = .ok (.getfield 177, 3) := dk_180 0 177 (dk_at dksJ20_putVal_6 0 rfl rfl)
theorem dJ20_putVal_139 : decode cJ20_putVal 139 = .ok (.dup, 1) := dk_89 (dk_at dksJ20_putVal_6 3 rfl rfl)
theorem dJ20_putVal_140 : decode cJ20_putVal 140 = .ok (.astore 10, 2) := dk_58 10 (dk_at dksJ20_putVal_6 4 rfl rfl)
theorem dJ20_putVal_142 : decode cJ20_putVal 142 = .ok (.ifnonnull 33, 3) := dk_199 0 33 (dk_at dksJ20_putVal_6 6 rfl rfl)
theorem dJ20_putVal_145 : decode cJ20_putVal 145 = .ok (.aload 7, 2) := dk_25 7 (dk_at dksJ20_putVal_6 9 rfl rfl)
theorem dJ20_putVal_147 : decode cJ20_putVal 147 = .ok (.aload_n 0, 1) := dk_42 (dk_at dksJ20_putVal_6 11 rfl rfl)
theorem dJ20_putVal_148 : decode cJ20_putVal 148 = .ok (.iload_n 1, 1) := dk_27 (dk_at dksJ20_putVal_6 12 rfl rfl)
theorem dJ20_putVal_149 : decode cJ20_putVal 149 = .ok (.aload_n 2, 1) := dk_44 (dk_at dksJ20_putVal_6 13 rfl rfl)
theorem dJ20_putVal_150 : decode cJ20_putVal 150 = .ok (.aload_n 3, 1) := dk_45 (dk_at dksJ20_putVal_6 14 rfl rfl)
theorem dJ20_putVal_151 : decode cJ20_putVal 151 = .ok (.aconst_null, 1) := dk_1 (dk_at dksJ20_putVal_6 15 rfl rfl)
theorem dJ20_putVal_152 : decode cJ20_putVal 152 = .ok (.invokevirtual 186, 3) := dk_182 0 186 (dk_at dksJ20_putVal_6 16 rfl rfl)
theorem dJ20_putVal_155 : decode cJ20_putVal 155 = .ok (.putfield 177, 3) := dk_181 0 177 (dk_at dksJ20_putVal_6 19 rfl rfl)
theorem dJ20_putVal_158 : decode cJ20_putVal 158 = .ok (.iload 12, 2) := dk_21 12 (dk_at dksJ20_putVal_6 22 rfl rfl)
theorem dJ20_putVal_160 : decode cJ20_putVal 160 = .ok (.bipush 7, 2) := dk_16 7 (dk_at dksJ20_putVal_7 0 rfl rfl)
theorem dJ20_putVal_162 : decode cJ20_putVal 162 = .ok (.if_icmp .lt 60, 3) := dk_161 0 60 (dk_at dksJ20_putVal_7 2 rfl rfl)
theorem dJ20_putVal_165 : decode cJ20_putVal 165 = .ok (.aload_n 0, 1) := dk_42 (dk_at dksJ20_putVal_7 5 rfl rfl)
theorem dJ20_putVal_166 : decode cJ20_putVal 166 = .ok (.aload 6, 2) := dk_25 6 (dk_at dksJ20_putVal_7 6 rfl rfl)
theorem dJ20_putVal_168 : decode cJ20_putVal 168 = .ok (.iload_n 1, 1) := dk_27 (dk_at dksJ20_putVal_7 8 rfl rfl)
theorem dJ20_putVal_169 : decode cJ20_putVal 169 = .ok (.invokevirtual 194, 3) := dk_182 0 194 (dk_at dksJ20_putVal_7 9 rfl rfl)
theorem dJ20_putVal_172 : decode cJ20_putVal 172 = .ok (.goto 50, 3) := dk_167 0 50 (dk_at dksJ20_putVal_7 12 rfl rfl)
theorem dJ20_putVal_175 : decode cJ20_putVal 175 = .ok (.aload 10, 2) := dk_25 10 (dk_at dksJ20_putVal_7 15 rfl rfl)
theorem dJ20_putVal_177 : decode cJ20_putVal 177 = .ok (.getfield 168, 3) := dk_180 0 168 (dk_at dksJ20_putVal_7 17 rfl rfl)
theorem dJ20_putVal_180 : decode cJ20_putVal 180 = .ok (.iload_n 1, 1) := dk_27 (dk_at dksJ20_putVal_7 20 rfl rfl)
theorem dJ20_putVal_181 : decode cJ20_putVal 181 = .ok (.if_icmp .ne 31, 3) := dk_160 0 31 (dk_at dksJ20_putVal_7 21 rfl rfl)
theorem dJ20_putVal_184 : decode cJ20_putVal 184 = .ok (.aload 10, 2) := dk_25 10 (dk_at dksJ20_putVal_8 0 rfl rfl)
theorem dJ20_putVal_186 : decode cJ20_putVal 186 = .ok (.getfield 170, 3) := dk_180 0 170 (dk_at dksJ20_putVal_8 2 rfl rfl)
theorem dJ20_putVal_189 : decode cJ20_putVal 189 = .ok (.dup, 1) := dk_89 (dk_at dksJ20_putVal_8 5 rfl rfl)
theorem dJ20_putVal_190 : decode cJ20_putVal 190 = .ok (.astore 11, 2) := dk_58 11 (dk_at dksJ20_putVal_8 6 rfl rfl)
theorem dJ20_putVal_192 : decode cJ20_putVal 192 = .ok (.aload_n 2, 1) := dk_44 (dk_at dksJ20_putVal_8 8 rfl rfl)
theorem dJ20_putVal_193 : decode cJ20_putVal 193 = .ok (.if_acmp .eq 29, 3) := dk_165 0 29 (dk_at dksJ20_putVal_8 9 rfl rfl)
theorem dJ20_putVal_196 : decode cJ20_putVal 196 = .ok (.aload_n 2, 1) := dk_44 (dk_at dksJ20_putVal_8 12 rfl rfl)
theorem dJ20_putVal_197 : decode cJ20_putVal 197 = .ok (.ifnull 15, 3) := dk_198 0 15 (dk_at dksJ20_putVal_8 13 rfl rfl)
theorem dJ20_putVal_200 : decode cJ20_putVal 200 = .ok (.aload_n 2, 1) := dk_44 (dk_at dksJ20_putVal_8 16 rfl rfl)
theorem dJ20_putVal_201 : decode cJ20_putVal 201 = .ok (.aload 11, 2) := dk_25 11 (dk_at dksJ20_putVal_8 17 rfl rfl)
theorem dJ20_putVal_203 : decode cJ20_putVal 203 = .ok (.invokevirtual 173, 3) := dk_182 0 173 (dk_at dksJ20_putVal_8 19 rfl rfl)
theorem dJ20_putVal_206 : decode cJ20_putVal 206 = .ok (.ifCond .eq 6, 3) := dk_153 0 6 (dk_at dksJ20_putVal_9 0 rfl rfl)
theorem dJ20_putVal_209 : decode cJ20_putVal 209 = .ok (.goto 13, 3) := dk_167 0 13 (dk_at dksJ20_putVal_9 3 rfl rfl)
theorem dJ20_putVal_212 : decode cJ20_putVal 212 = .ok (.aload 10, 2) := dk_25 10 (dk_at dksJ20_putVal_9 6 rfl rfl)
theorem dJ20_putVal_214 : decode cJ20_putVal 214 = .ok (.astore 7, 2) := dk_58 7 (dk_at dksJ20_putVal_9 8 rfl rfl)
theorem dJ20_putVal_216 : decode cJ20_putVal 216 = .ok (.iinc 12 1, 3) := dk_132 12 1 (dk_at dksJ20_putVal_9 10 rfl rfl)
theorem dJ20_putVal_219 : decode cJ20_putVal 219 = .ok (.goto (-85), 3) := dk_167 255 171 (dk_at dksJ20_putVal_9 13 rfl rfl)
theorem dJ20_putVal_222 : decode cJ20_putVal 222 = .ok (.aload 10, 2) := dk_25 10 (dk_at dksJ20_putVal_9 16 rfl rfl)
theorem dJ20_putVal_224 : decode cJ20_putVal 224 = .ok (.ifnull 35, 3) := dk_198 0 35 (dk_at dksJ20_putVal_9 18 rfl rfl)
theorem dJ20_putVal_227 : decode cJ20_putVal 227 = .ok (.aload 10, 2) := dk_25 10 (dk_at dksJ20_putVal_9 21 rfl rfl)
theorem dJ20_putVal_229 : decode cJ20_putVal 229 = .ok (.getfield 162, 3) := dk_180 0 162 (dk_at dksJ20_putVal_10 0 rfl rfl)
theorem dJ20_putVal_232 : decode cJ20_putVal 232 = .ok (.astore 12, 2) := dk_58 12 (dk_at dksJ20_putVal_10 3 rfl rfl)
theorem dJ20_putVal_234 : decode cJ20_putVal 234 = .ok (.iload 4, 2) := dk_21 4 (dk_at dksJ20_putVal_10 5 rfl rfl)
theorem dJ20_putVal_236 : decode cJ20_putVal 236 = .ok (.ifCond .eq 8, 3) := dk_153 0 8 (dk_at dksJ20_putVal_10 7 rfl rfl)
theorem dJ20_putVal_239 : decode cJ20_putVal 239 = .ok (.aload 12, 2) := dk_25 12 (dk_at dksJ20_putVal_10 10 rfl rfl)
theorem dJ20_putVal_241 : decode cJ20_putVal 241 = .ok (.ifnonnull 9, 3) := dk_199 0 9 (dk_at dksJ20_putVal_10 12 rfl rfl)
theorem dJ20_putVal_244 : decode cJ20_putVal 244 = .ok (.aload 10, 2) := dk_25 10 (dk_at dksJ20_putVal_10 15 rfl rfl)
theorem dJ20_putVal_246 : decode cJ20_putVal 246 = .ok (.aload_n 3, 1) := dk_45 (dk_at dksJ20_putVal_10 17 rfl rfl)
theorem dJ20_putVal_247 : decode cJ20_putVal 247 = .ok (.putfield 162, 3) := dk_181 0 162 (dk_at dksJ20_putVal_10 18 rfl rfl)
theorem dJ20_putVal_250 : decode cJ20_putVal 250 = .ok (.aload_n 0, 1) := dk_42 (dk_at dksJ20_putVal_10 21 rfl rfl)
theorem dJ20_putVal_251 : decode cJ20_putVal 251 = .ok (.aload 10, 2) := dk_25 10 (dk_at dksJ20_putVal_10 22 rfl rfl)
theorem dJ20_putVal_253 : decode cJ20_putVal 253 = .ok (.invokevirtual 198, 3) := dk_182 0 198 (dk_at dksJ20_putVal_11 0 rfl rfl)
theorem dJ20_putVal_256 : decode cJ20_putVal 256 = .ok (.aload 12, 2) := dk_25 12 (dk_at dksJ20_putVal_11 3 rfl rfl)
theorem dJ20_putVal_258 : decode cJ20_putVal 258 = .ok (.areturn, 1) := dk_176 (dk_at dksJ20_putVal_11 5 rfl rfl)
theorem dJ20_putVal_259 : decode cJ20_putVal 259 = .ok (.aload_n 0, 1) := dk_42 (dk_at dksJ20_putVal_11 6 rfl rfl)
theorem dJ20_putVal_260 : decode cJ20_putVal 260 = .ok (.dup, 1) := dk_89 (dk_at dksJ20_putVal_11 7 rfl rfl)
theorem dJ20_putVal_261 : decode cJ20_putVal 261 = .ok (.getfield 202, 3) := dk_180 0 202 (dk_at dksJ20_putVal_11 8 rfl rfl)
theorem dJ20_putVal_264 : decode cJ20_putVal 264 = .ok (.iconst 1, 1) := dk_4 (dk_at dksJ20_putVal_11 11 rfl rfl)
theorem dJ20_putVal_265 : decode cJ20_putVal 265 = .ok (.iadd, 1) := dk_96 (dk_at dksJ20_putVal_11 12 rfl rfl)
theorem dJ20_putVal_266 : decode cJ20_putVal 266 = .ok (.putfield 202, 3) := dk_181 0 202 (dk_at dksJ20_putVal_11 13 rfl rfl)
theorem dJ20_putVal_269 : decode cJ20_putVal 269 = .ok (.aload_n 0, 1) := dk_42 (dk_at dksJ20_putVal_11 16 rfl rfl)
theorem dJ20_putVal_270 : decode cJ20_putVal 270 = .ok (.dup, 1) := dk_89 (dk_at dksJ20_putVal_11 17 rfl rfl)
theorem dJ20_putVal_271 : decode cJ20_putVal 271 = .ok (.getfield 156, 3) := dk_180 0 156 (dk_at dksJ20_putVal_11 18 rfl rfl)
theorem dJ20_putVal_274 : decode cJ20_putVal 274 = .ok (.iconst 1, 1) := dk_4 (dk_at dksJ20_putVal_11 21 rfl rfl)
theorem dJ20_putVal_275 : decode cJ20_putVal 275 = .ok (.iadd, 1) := dk_96 (dk_at dksJ20_putVal_11 22 rfl rfl)
theorem dJ20_putVal_276 : decode cJ20_putVal 276 = .ok (.dup_x1, 1) := dk_90 (dk_at dksJ20_putVal_11 23 rfl rfl)
theorem dJ20_putVal_277 : decode cJ20_putVal 277 = .ok (.putfield 156, 3) := dk_181 0 156 (dk_at dksJ20_putVal_12 0 rfl rfl)
theorem dJ20_putVal_280 : decode cJ20_putVal 280 = .ok (.aload_n 0, 1) := dk_42 (dk_at dksJ20_putVal_12 3 rfl rfl)
theorem dJ20_putVal_281 : decode cJ20_putVal 281 = .ok (.getfield 88, 3) := dk_180 0 88 (dk_at dksJ20_putVal_12 4 rfl rfl)
theorem dJ20_putVal_284 : decode cJ20_putVal 284 = .ok (.if_icmp .le 8, 3) := dk_164 0 8 (dk_at dksJ20_putVal_12 7 rfl rfl)
theorem dJ20_putVal_287 : decode cJ20_putVal 287 = .ok (.aload_n 0, 1) := dk_42 (dk_at dksJ20_putVal_12 10 rfl rfl)
theorem dJ20_putVal_288 : decode cJ20_putVal 288 = .ok (.invokevirtual 117, 3) := dk_182 0 117 (dk_at dksJ20_putVal_12 11 rfl rfl)
theorem dJ20_putVal_291 : decode cJ20_putVal 291 = .ok (.pop, 1) := dk_87 (dk_at dksJ20_putVal_12 14 rfl rfl)
theorem dJ20_putVal_292 : decode cJ20_putVal 292 = .ok (.aload_n 0, 1) := dk_42 (dk_at dksJ20_putVal_12 15 rfl rfl)
theorem dJ20_putVal_293 : decode cJ20_putVal 293 = .ok (.iload 5, 2) := dk_21 5 (dk_at dksJ20_putVal_12 16 rfl rfl)
theorem dJ20_putVal_295 : decode cJ20_putVal 295 = .ok (.invokevirtual 205, 3) := dk_182 0 205 (dk_at dksJ20_putVal_12 18 rfl rfl)
theorem dJ20_putVal_298 : decode cJ20_putVal 298 = .ok (.aconst_null, 1) := dk_1 (dk_at dksJ20_putVal_12 21 rfl rfl)
theorem dJ20_putVal_299 : decode cJ20_putVal 299 = .ok (.areturn, 1) := dk_176 (dk_at dksJ20_putVal_12 22 rfl rfl)
abbrev cJ20_resize : ByteArray := prog_59_method_17_code
def yJ20_resize : MethodName := ⟨RJ20, "resize", "()[Ljava/util/HashMap$Node;"⟩
def dkwJ20_resize_15 : List UInt8 := [25, 6, 176]
abbrev dktJ20_resize_15 : List UInt8 := dkwJ20_resize_15 ++ []
def dkwJ20_resize_14 : List UInt8 := [198, 0, 18, 25, 12, 1, 181, 0, 177, 25, 6, 21, 7, 28, 96, 25, 11, 83, 132, 7, 1, 167, 255, 57]
abbrev dktJ20_resize_14 : List UInt8 := dkwJ20_resize_14 ++ dktJ20_resize_15
def dkwJ20_resize_13 : List UInt8 := [199, 255, 185, 25, 10, 198, 0, 16, 25, 10, 1, 181, 0, 177, 25, 6, 21, 7, 25, 9, 83, 25, 12]
abbrev dktJ20_resize_13 : List UInt8 := dkwJ20_resize_13 ++ dktJ20_resize_14
def dkwJ20_resize_12 : List UInt8 := [25, 8, 58, 11, 167, 0, 10, 25, 12, 25, 8, 181, 0, 177, 25, 8, 58, 12, 25, 13, 89, 58, 8]
abbrev dktJ20_resize_12 : List UInt8 := dkwJ20_resize_12 ++ dktJ20_resize_13
def dkwJ20_resize_11 : List UInt8 := [58, 9, 167, 0, 10, 25, 10, 25, 8, 181, 0, 177, 25, 8, 58, 10, 167, 0, 26, 25, 12, 199, 0, 10]
abbrev dktJ20_resize_11 : List UInt8 := dkwJ20_resize_11 ++ dktJ20_resize_12
def dkwJ20_resize_10 : List UInt8 := [25, 8, 180, 0, 177, 58, 13, 25, 8, 180, 0, 168, 28, 126, 154, 0, 29, 25, 10, 199, 0, 10, 25, 8]
abbrev dktJ20_resize_10 : List UInt8 := dkwJ20_resize_10 ++ dktJ20_resize_11
def dkwJ20_resize_9 : List UInt8 := [42, 25, 6, 21, 7, 28, 182, 0, 211, 167, 0, 127, 1, 58, 9, 1, 58, 10, 1, 58, 11, 1, 58, 12]
abbrev dktJ20_resize_9 : List UInt8 := dkwJ20_resize_9 ++ dktJ20_resize_10
def dkwJ20_resize_8 : List UInt8 := [21, 4, 4, 100, 126, 25, 8, 83, 167, 0, 152, 25, 8, 193, 0, 180, 153, 0, 20, 25, 8, 192, 0, 180]
abbrev dktJ20_resize_8 : List UInt8 := dkwJ20_resize_8 ++ dktJ20_resize_9
def dkwJ20_resize_7 : List UInt8 := [198, 0, 183, 43, 21, 7, 1, 83, 25, 8, 180, 0, 177, 199, 0, 21, 25, 6, 25, 8, 180, 0, 168]
abbrev dktJ20_resize_7 : List UInt8 := dkwJ20_resize_7 ++ dktJ20_resize_8
def dkwJ20_resize_6 : List UInt8 := [181, 0, 105, 43, 198, 0, 208, 3, 54, 7, 21, 7, 28, 162, 0, 199, 43, 21, 7, 50, 89, 58, 8]
abbrev dktJ20_resize_6 : List UInt8 := dkwJ20_resize_6 ++ dktJ20_resize_7
def dkwJ20_resize_5 : List UInt8 := [167, 0, 5, 18, 209, 54, 5, 42, 21, 5, 181, 0, 88, 21, 4, 189, 0, 163, 58, 6, 42, 25, 6]
abbrev dktJ20_resize_5 : List UInt8 := dkwJ20_resize_5 ++ dktJ20_resize_6
def dkwJ20_resize_4 : List UInt8 := [180, 0, 81, 106, 56, 6, 21, 4, 18, 42, 162, 0, 17, 23, 6, 18, 210, 150, 156, 0, 9, 23, 6, 139]
abbrev dktJ20_resize_4 : List UInt8 := dkwJ20_resize_4 ++ dktJ20_resize_5
def dkwJ20_resize_3 : List UInt8 := [54, 4, 167, 0, 11, 16, 16, 54, 4, 16, 12, 54, 5, 21, 5, 154, 0, 38, 21, 4, 134, 42]
abbrev dktJ20_resize_3 : List UInt8 := dkwJ20_resize_3 ++ dktJ20_resize_4
def dkwJ20_resize_2 : List UInt8 := [18, 42, 162, 0, 35, 28, 16, 16, 161, 0, 29, 29, 4, 120, 54, 5, 167, 0, 21, 29, 158, 0, 9, 29]
abbrev dktJ20_resize_2 : List UInt8 := dkwJ20_resize_2 ++ dktJ20_resize_3
def dkwJ20_resize_1 : List UInt8 := [28, 158, 0, 42, 28, 18, 42, 161, 0, 11, 42, 18, 209, 181, 0, 88, 43, 176, 28, 4, 120, 89, 54, 4]
abbrev dktJ20_resize_1 : List UInt8 := dkwJ20_resize_1 ++ dktJ20_resize_2
def dkwJ20_resize_0 : List UInt8 := [42, 180, 0, 105, 76, 43, 199, 0, 7, 3, 167, 0, 5, 43, 190, 61, 42, 180, 0, 88, 62, 3, 54, 5]
abbrev dktJ20_resize_0 : List UInt8 := dkwJ20_resize_0 ++ dktJ20_resize_1
theorem dksJ20_resize_0 : cJ20_resize.data.toList.drop 0 = dktJ20_resize_0 := by decide +kernel
theorem dksJ20_resize_1 : cJ20_resize.data.toList.drop 24 = dktJ20_resize_1 := dk_seg dksJ20_resize_0 24 rfl rfl
theorem dksJ20_resize_2 : cJ20_resize.data.toList.drop 48 = dktJ20_resize_2 := dk_seg dksJ20_resize_1 24 rfl rfl
theorem dksJ20_resize_3 : cJ20_resize.data.toList.drop 72 = dktJ20_resize_3 := dk_seg dksJ20_resize_2 24 rfl rfl
theorem dksJ20_resize_4 : cJ20_resize.data.toList.drop 94 = dktJ20_resize_4 := dk_seg dksJ20_resize_3 22 rfl rfl
theorem dksJ20_resize_5 : cJ20_resize.data.toList.drop 118 = dktJ20_resize_5 := dk_seg dksJ20_resize_4 24 rfl rfl
theorem dksJ20_resize_6 : cJ20_resize.data.toList.drop 141 = dktJ20_resize_6 := dk_seg dksJ20_resize_5 23 rfl rfl
theorem dksJ20_resize_7 : cJ20_resize.data.toList.drop 164 = dktJ20_resize_7 := dk_seg dksJ20_resize_6 23 rfl rfl
theorem dksJ20_resize_8 : cJ20_resize.data.toList.drop 187 = dktJ20_resize_8 := dk_seg dksJ20_resize_7 23 rfl rfl
theorem dksJ20_resize_9 : cJ20_resize.data.toList.drop 211 = dktJ20_resize_9 := dk_seg dksJ20_resize_8 24 rfl rfl
theorem dksJ20_resize_10 : cJ20_resize.data.toList.drop 235 = dktJ20_resize_10 := dk_seg dksJ20_resize_9 24 rfl rfl
theorem dksJ20_resize_11 : cJ20_resize.data.toList.drop 259 = dktJ20_resize_11 := dk_seg dksJ20_resize_10 24 rfl rfl
theorem dksJ20_resize_12 : cJ20_resize.data.toList.drop 283 = dktJ20_resize_12 := dk_seg dksJ20_resize_11 24 rfl rfl
theorem dksJ20_resize_13 : cJ20_resize.data.toList.drop 306 = dktJ20_resize_13 := dk_seg dksJ20_resize_12 23 rfl rfl
theorem dksJ20_resize_14 : cJ20_resize.data.toList.drop 329 = dktJ20_resize_14 := dk_seg dksJ20_resize_13 23 rfl rfl
theorem dksJ20_resize_15 : cJ20_resize.data.toList.drop 353 = dktJ20_resize_15 := dk_seg dksJ20_resize_14 24 rfl rfl
theorem dJ20_resize_0 : decode cJ20_resize 0 = .ok (.aload_n 0, 1) := dk_42 (dk_at dksJ20_resize_0 0 rfl rfl)
theorem dJ20_resize_1 : decode cJ20_resize 1 = .ok (.getfield 105, 3) := dk_180 0 105 (dk_at dksJ20_resize_0 1 rfl rfl)
theorem dJ20_resize_4 : decode cJ20_resize 4 = .ok (.astore_n 1, 1) := dk_76 (dk_at dksJ20_resize_0 4 rfl rfl)
theorem dJ20_resize_5 : decode cJ20_resize 5 = .ok (.aload_n 1, 1) := dk_43 (dk_at dksJ20_resize_0 5 rfl rfl)
theorem dJ20_resize_6 : decode cJ20_resize 6 = .ok (.ifnonnull 7, 3) := dk_199 0 7 (dk_at dksJ20_resize_0 6 rfl rfl)
theorem dJ20_resize_9 : decode cJ20_resize 9 = .ok (.iconst 0, 1) := dk_3 (dk_at dksJ20_resize_0 9 rfl rfl)
theorem dJ20_resize_10 : decode cJ20_resize 10 = .ok (.goto 5, 3) := dk_167 0 5 (dk_at dksJ20_resize_0 10 rfl rfl)
theorem dJ20_resize_13 : decode cJ20_resize 13 = .ok (.aload_n 1, 1) := dk_43 (dk_at dksJ20_resize_0 13 rfl rfl)
theorem dJ20_resize_14 : decode cJ20_resize 14 = .ok (.arraylength, 1) := dk_190 (dk_at dksJ20_resize_0 14 rfl rfl)
theorem dJ20_resize_15 : decode cJ20_resize 15 = .ok (.istore_n 2, 1) := dk_61 (dk_at dksJ20_resize_0 15 rfl rfl)
theorem dJ20_resize_16 : decode cJ20_resize 16 = .ok (.aload_n 0, 1) := dk_42 (dk_at dksJ20_resize_0 16 rfl rfl)
theorem dJ20_resize_17 : decode cJ20_resize 17 = .ok (.getfield 88, 3) := dk_180 0 88 (dk_at dksJ20_resize_0 17 rfl rfl)
theorem dJ20_resize_20 : decode cJ20_resize 20 = .ok (.istore_n 3, 1) := dk_62 (dk_at dksJ20_resize_0 20 rfl rfl)
theorem dJ20_resize_21 : decode cJ20_resize 21 = .ok (.iconst 0, 1) := dk_3 (dk_at dksJ20_resize_0 21 rfl rfl)
theorem dJ20_resize_22 : decode cJ20_resize 22 = .ok (.istore 5, 2) := dk_54 5 (dk_at dksJ20_resize_0 22 rfl rfl)
theorem dJ20_resize_24 : decode cJ20_resize 24 = .ok (.iload_n 2, 1) := dk_28 (dk_at dksJ20_resize_1 0 rfl rfl)
theorem dJ20_resize_25 : decode cJ20_resize 25 = .ok (.ifCond .le 42, 3) := dk_158 0 42 (dk_at dksJ20_resize_1 1 rfl rfl)
theorem dJ20_resize_28 : decode cJ20_resize 28 = .ok (.iload_n 2, 1) := dk_28 (dk_at dksJ20_resize_1 4 rfl rfl)
theorem dJ20_resize_29 : decode cJ20_resize 29 = .ok (.ldc 42, 2) := dk_18 42 (dk_at dksJ20_resize_1 5 rfl rfl)
theorem dJ20_resize_31 : decode cJ20_resize 31 = .ok (.if_icmp .lt 11, 3) := dk_161 0 11 (dk_at dksJ20_resize_1 7 rfl rfl)
theorem dJ20_resize_34 : decode cJ20_resize 34 = .ok (.aload_n 0, 1) := dk_42 (dk_at dksJ20_resize_1 10 rfl rfl)
theorem dJ20_resize_35 : decode cJ20_resize 35 = .ok (.ldc 209, 2) := dk_18 209 (dk_at dksJ20_resize_1 11 rfl rfl)
theorem dJ20_resize_37 : decode cJ20_resize 37 = .ok (.putfield 88, 3) := dk_181 0 88 (dk_at dksJ20_resize_1 13 rfl rfl)
theorem dJ20_resize_40 : decode cJ20_resize 40 = .ok (.aload_n 1, 1) := dk_43 (dk_at dksJ20_resize_1 16 rfl rfl)
theorem dJ20_resize_41 : decode cJ20_resize 41 = .ok (.areturn, 1) := dk_176 (dk_at dksJ20_resize_1 17 rfl rfl)
theorem dJ20_resize_42 : decode cJ20_resize 42 = .ok (.iload_n 2, 1) := dk_28 (dk_at dksJ20_resize_1 18 rfl rfl)
theorem dJ20_resize_43 : decode cJ20_resize 43 = .ok (.iconst 1, 1) := dk_4 (dk_at dksJ20_resize_1 19 rfl rfl)
theorem dJ20_resize_44 : decode cJ20_resize 44 = .ok (.ishl, 1) := dk_120 (dk_at dksJ20_resize_1 20 rfl rfl)
theorem dJ20_resize_45 : decode cJ20_resize 45 = .ok (.dup, 1) := dk_89 (dk_at dksJ20_resize_1 21 rfl rfl)
theorem dJ20_resize_46 : decode cJ20_resize 46 = .ok (.istore 4, 2) := dk_54 4 (dk_at dksJ20_resize_1 22 rfl rfl)
theorem dJ20_resize_48 : decode cJ20_resize 48 = .ok (.ldc 42, 2) := dk_18 42 (dk_at dksJ20_resize_2 0 rfl rfl)
theorem dJ20_resize_50 : decode cJ20_resize 50 = .ok (.if_icmp .ge 35, 3) := dk_162 0 35 (dk_at dksJ20_resize_2 2 rfl rfl)
theorem dJ20_resize_53 : decode cJ20_resize 53 = .ok (.iload_n 2, 1) := dk_28 (dk_at dksJ20_resize_2 5 rfl rfl)
theorem dJ20_resize_54 : decode cJ20_resize 54 = .ok (.bipush 16, 2) := dk_16 16 (dk_at dksJ20_resize_2 6 rfl rfl)
theorem dJ20_resize_56 : decode cJ20_resize 56 = .ok (.if_icmp .lt 29, 3) := dk_161 0 29 (dk_at dksJ20_resize_2 8 rfl rfl)
theorem dJ20_resize_59 : decode cJ20_resize 59 = .ok (.iload_n 3, 1) := dk_29 (dk_at dksJ20_resize_2 11 rfl rfl)
theorem dJ20_resize_60 : decode cJ20_resize 60 = .ok (.iconst 1, 1) := dk_4 (dk_at dksJ20_resize_2 12 rfl rfl)
theorem dJ20_resize_61 : decode cJ20_resize 61 = .ok (.ishl, 1) := dk_120 (dk_at dksJ20_resize_2 13 rfl rfl)
theorem dJ20_resize_62 : decode cJ20_resize 62 = .ok (.istore 5, 2) := dk_54 5 (dk_at dksJ20_resize_2 14 rfl rfl)
theorem dJ20_resize_64 : decode cJ20_resize 64 = .ok (.goto 21, 3) := dk_167 0 21 (dk_at dksJ20_resize_2 16 rfl rfl)
theorem dJ20_resize_67 : decode cJ20_resize 67 = .ok (.iload_n 3, 1) := dk_29 (dk_at dksJ20_resize_2 19 rfl rfl)
theorem dJ20_resize_68 : decode cJ20_resize 68 = .ok (.ifCond .le 9, 3) := dk_158 0 9 (dk_at dksJ20_resize_2 20 rfl rfl)
theorem dJ20_resize_71 : decode cJ20_resize 71 = .ok (.iload_n 3, 1) := dk_29 (dk_at dksJ20_resize_2 23 rfl rfl)
theorem dJ20_resize_72 : decode cJ20_resize 72 = .ok (.istore 4, 2) := dk_54 4 (dk_at dksJ20_resize_3 0 rfl rfl)
theorem dJ20_resize_74 : decode cJ20_resize 74 = .ok (.goto 11, 3) := dk_167 0 11 (dk_at dksJ20_resize_3 2 rfl rfl)
theorem dJ20_resize_77 : decode cJ20_resize 77 = .ok (.bipush 16, 2) := dk_16 16 (dk_at dksJ20_resize_3 5 rfl rfl)
theorem dJ20_resize_79 : decode cJ20_resize 79 = .ok (.istore 4, 2) := dk_54 4 (dk_at dksJ20_resize_3 7 rfl rfl)
theorem dJ20_resize_81 : decode cJ20_resize 81 = .ok (.bipush 12, 2) := dk_16 12 (dk_at dksJ20_resize_3 9 rfl rfl)
theorem dJ20_resize_83 : decode cJ20_resize 83 = .ok (.istore 5, 2) := dk_54 5 (dk_at dksJ20_resize_3 11 rfl rfl)
theorem dJ20_resize_85 : decode cJ20_resize 85 = .ok (.iload 5, 2) := dk_21 5 (dk_at dksJ20_resize_3 13 rfl rfl)
theorem dJ20_resize_87 : decode cJ20_resize 87 = .ok (.ifCond .ne 38, 3) := dk_154 0 38 (dk_at dksJ20_resize_3 15 rfl rfl)
theorem dJ20_resize_90 : decode cJ20_resize 90 = .ok (.iload 4, 2) := dk_21 4 (dk_at dksJ20_resize_3 18 rfl rfl)
theorem dJ20_resize_92 : decode cJ20_resize 92 = .ok (.i2f, 1) := dk_134 (dk_at dksJ20_resize_3 20 rfl rfl)
theorem dJ20_resize_93 : decode cJ20_resize 93 = .ok (.aload_n 0, 1) := dk_42 (dk_at dksJ20_resize_3 21 rfl rfl)
theorem dJ20_resize_94 : decode cJ20_resize 94 = .ok (.getfield 81, 3) := dk_180 0 81 (dk_at dksJ20_resize_4 0 rfl rfl)
theorem dJ20_resize_97 : decode cJ20_resize 97 = .ok (.fmul, 1) := dk_106 (dk_at dksJ20_resize_4 3 rfl rfl)
theorem dJ20_resize_98 : decode cJ20_resize 98 = .ok (.fstore 6, 2) := dk_56 6 (dk_at dksJ20_resize_4 4 rfl rfl)
theorem dJ20_resize_100 : decode cJ20_resize 100 = .ok (.iload 4, 2) := dk_21 4 (dk_at dksJ20_resize_4 6 rfl rfl)
theorem dJ20_resize_102 : decode cJ20_resize 102 = .ok (.ldc 42, 2) := dk_18 42 (dk_at dksJ20_resize_4 8 rfl rfl)
theorem dJ20_resize_104 : decode cJ20_resize 104 = .ok (.if_icmp .ge 17, 3) := dk_162 0 17 (dk_at dksJ20_resize_4 10 rfl rfl)
theorem dJ20_resize_107 : decode cJ20_resize 107 = .ok (.fload 6, 2) := dk_23 6 (dk_at dksJ20_resize_4 13 rfl rfl)
theorem dJ20_resize_109 : decode cJ20_resize 109 = .ok (.ldc 210, 2) := dk_18 210 (dk_at dksJ20_resize_4 15 rfl rfl)
theorem dJ20_resize_111 : decode cJ20_resize 111 = .ok (.fcmp .g, 1) := dk_150 (dk_at dksJ20_resize_4 17 rfl rfl)
theorem dJ20_resize_112 : decode cJ20_resize 112 = .ok (.ifCond .ge 9, 3) := dk_156 0 9 (dk_at dksJ20_resize_4 18 rfl rfl)
theorem dJ20_resize_115 : decode cJ20_resize 115 = .ok (.fload 6, 2) := dk_23 6 (dk_at dksJ20_resize_4 21 rfl rfl)
theorem dJ20_resize_117 : decode cJ20_resize 117 = .ok (.f2i, 1) := dk_139 (dk_at dksJ20_resize_4 23 rfl rfl)
theorem dJ20_resize_118 : decode cJ20_resize 118 = .ok (.goto 5, 3) := dk_167 0 5 (dk_at dksJ20_resize_5 0 rfl rfl)
theorem dJ20_resize_121 : decode cJ20_resize 121 = .ok (.ldc 209, 2) := dk_18 209 (dk_at dksJ20_resize_5 3 rfl rfl)
theorem dJ20_resize_123 : decode cJ20_resize 123 = .ok (.istore 5, 2) := dk_54 5 (dk_at dksJ20_resize_5 5 rfl rfl)
theorem dJ20_resize_125 : decode cJ20_resize 125 = .ok (.aload_n 0, 1) := dk_42 (dk_at dksJ20_resize_5 7 rfl rfl)
theorem dJ20_resize_126 : decode cJ20_resize 126 = .ok (.iload 5, 2) := dk_21 5 (dk_at dksJ20_resize_5 8 rfl rfl)
theorem dJ20_resize_128 : decode cJ20_resize 128 = .ok (.putfield 88, 3) := dk_181 0 88 (dk_at dksJ20_resize_5 10 rfl rfl)
theorem dJ20_resize_131 : decode cJ20_resize 131 = .ok (.iload 4, 2) := dk_21 4 (dk_at dksJ20_resize_5 13 rfl rfl)
theorem dJ20_resize_133 : decode cJ20_resize 133 = .ok (.anewarray 163, 3) := dk_189 0 163 (dk_at dksJ20_resize_5 15 rfl rfl)
theorem dJ20_resize_136 : decode cJ20_resize 136 = .ok (.astore 6, 2) := dk_58 6 (dk_at dksJ20_resize_5 18 rfl rfl)
theorem dJ20_resize_138 : decode cJ20_resize 138 = .ok (.aload_n 0, 1) := dk_42 (dk_at dksJ20_resize_5 20 rfl rfl)
theorem dJ20_resize_139 : decode cJ20_resize 139 = .ok (.aload 6, 2) := dk_25 6 (dk_at dksJ20_resize_5 21 rfl rfl)
theorem dJ20_resize_141 : decode cJ20_resize 141 = .ok (.putfield 105, 3) := dk_181 0 105 (dk_at dksJ20_resize_6 0 rfl rfl)
theorem dJ20_resize_144 : decode cJ20_resize 144 = .ok (.aload_n 1, 1) := dk_43 (dk_at dksJ20_resize_6 3 rfl rfl)
theorem dJ20_resize_145 : decode cJ20_resize 145 = .ok (.ifnull 208, 3) := dk_198 0 208 (dk_at dksJ20_resize_6 4 rfl rfl)
theorem dJ20_resize_148 : decode cJ20_resize 148 = .ok (.iconst 0, 1) := dk_3 (dk_at dksJ20_resize_6 7 rfl rfl)
theorem dJ20_resize_149 : decode cJ20_resize 149 = .ok (.istore 7, 2) := dk_54 7 (dk_at dksJ20_resize_6 8 rfl rfl)
theorem dJ20_resize_151 : decode cJ20_resize 151 = .ok (.iload 7, 2) := dk_21 7 (dk_at dksJ20_resize_6 10 rfl rfl)
theorem dJ20_resize_153 : decode cJ20_resize 153 = .ok (.iload_n 2, 1) := dk_28 (dk_at dksJ20_resize_6 12 rfl rfl)
theorem dJ20_resize_154 : decode cJ20_resize 154 = .ok (.if_icmp .ge 199, 3) := dk_162 0 199 (dk_at dksJ20_resize_6 13 rfl rfl)
theorem dJ20_resize_157 : decode cJ20_resize 157 = .ok (.aload_n 1, 1) := dk_43 (dk_at dksJ20_resize_6 16 rfl rfl)
theorem dJ20_resize_158 : decode cJ20_resize 158 = .ok (.iload 7, 2) := dk_21 7 (dk_at dksJ20_resize_6 17 rfl rfl)
theorem dJ20_resize_160 : decode cJ20_resize 160 = .ok (.aaload, 1) := dk_50 (dk_at dksJ20_resize_6 19 rfl rfl)
theorem dJ20_resize_161 : decode cJ20_resize 161 = .ok (.dup, 1) := dk_89 (dk_at dksJ20_resize_6 20 rfl rfl)
theorem dJ20_resize_162 : decode cJ20_resize 162 = .ok (.astore 8, 2) := dk_58 8 (dk_at dksJ20_resize_6 21 rfl rfl)
theorem dJ20_resize_164 : decode cJ20_resize 164 = .ok (.ifnull 183, 3) := dk_198 0 183 (dk_at dksJ20_resize_7 0 rfl rfl)
theorem dJ20_resize_167 : decode cJ20_resize 167 = .ok (.aload_n 1, 1) := dk_43 (dk_at dksJ20_resize_7 3 rfl rfl)
theorem dJ20_resize_168 : decode cJ20_resize 168 = .ok (.iload 7, 2) := dk_21 7 (dk_at dksJ20_resize_7 4 rfl rfl)
theorem dJ20_resize_170 : decode cJ20_resize 170 = .ok (.aconst_null, 1) := dk_1 (dk_at dksJ20_resize_7 6 rfl rfl)
theorem dJ20_resize_171 : decode cJ20_resize 171 = .ok (.aastore, 1) := dk_83 (dk_at dksJ20_resize_7 7 rfl rfl)
theorem dJ20_resize_172 : decode cJ20_resize 172 = .ok (.aload 8, 2) := dk_25 8 (dk_at dksJ20_resize_7 8 rfl rfl)
theorem dJ20_resize_174 : decode cJ20_resize 174 = .ok (.getfield 177, 3) := dk_180 0 177 (dk_at dksJ20_resize_7 10 rfl rfl)
theorem dJ20_resize_177 : decode cJ20_resize 177 = .ok (.ifnonnull 21, 3) := dk_199 0 21 (dk_at dksJ20_resize_7 13 rfl rfl)
theorem dJ20_resize_180 : decode cJ20_resize 180 = .ok (.aload 6, 2) := dk_25 6 (dk_at dksJ20_resize_7 16 rfl rfl)
theorem dJ20_resize_182 : decode cJ20_resize 182 = .ok (.aload 8, 2) := dk_25 8 (dk_at dksJ20_resize_7 18 rfl rfl)
theorem dJ20_resize_184 : decode cJ20_resize 184 = .ok (.getfield 168, 3) := dk_180 0 168 (dk_at dksJ20_resize_7 20 rfl rfl)
theorem dJ20_resize_187 : decode cJ20_resize 187 = .ok (.iload 4, 2) := dk_21 4 (dk_at dksJ20_resize_8 0 rfl rfl)
theorem dJ20_resize_189 : decode cJ20_resize 189 = .ok (.iconst 1, 1) := dk_4 (dk_at dksJ20_resize_8 2 rfl rfl)
theorem dJ20_resize_190 : decode cJ20_resize 190 = .ok (.isub, 1) := dk_100 (dk_at dksJ20_resize_8 3 rfl rfl)
theorem dJ20_resize_191 : decode cJ20_resize 191 = .ok (.iand, 1) := dk_126 (dk_at dksJ20_resize_8 4 rfl rfl)
theorem dJ20_resize_192 : decode cJ20_resize 192 = .ok (.aload 8, 2) := dk_25 8 (dk_at dksJ20_resize_8 5 rfl rfl)
theorem dJ20_resize_194 : decode cJ20_resize 194 = .ok (.aastore, 1) := dk_83 (dk_at dksJ20_resize_8 7 rfl rfl)
theorem dJ20_resize_195 : decode cJ20_resize 195 = .ok (.goto 152, 3) := dk_167 0 152 (dk_at dksJ20_resize_8 8 rfl rfl)
theorem dJ20_resize_198 : decode cJ20_resize 198 = .ok (.aload 8, 2) := dk_25 8 (dk_at dksJ20_resize_8 11 rfl rfl)
theorem dJ20_resize_200 : decode cJ20_resize 200 = .ok (.instanceof 180, 3) := dk_193 0 180 (dk_at dksJ20_resize_8 13 rfl rfl)
theorem dJ20_resize_203 : decode cJ20_resize 203 = .ok (.ifCond .eq 20, 3) := dk_153 0 20 (dk_at dksJ20_resize_8 16 rfl rfl)
theorem dJ20_resize_206 : decode cJ20_resize 206 = .ok (.aload 8, 2) := dk_25 8 (dk_at dksJ20_resize_8 19 rfl rfl)
theorem dJ20_resize_208 : decode cJ20_resize 208 = .ok (.checkcast 180, 3) := dk_192 0 180 (dk_at dksJ20_resize_8 21 rfl rfl)
theorem dJ20_resize_211 : decode cJ20_resize 211 = .ok (.aload_n 0, 1) := dk_42 (dk_at dksJ20_resize_9 0 rfl rfl)
theorem dJ20_resize_212 : decode cJ20_resize 212 = .ok (.aload 6, 2) := dk_25 6 (dk_at dksJ20_resize_9 1 rfl rfl)
theorem dJ20_resize_214 : decode cJ20_resize 214 = .ok (.iload 7, 2) := dk_21 7 (dk_at dksJ20_resize_9 3 rfl rfl)
theorem dJ20_resize_216 : decode cJ20_resize 216 = .ok (.iload_n 2, 1) := dk_28 (dk_at dksJ20_resize_9 5 rfl rfl)
theorem dJ20_resize_217 : decode cJ20_resize 217 = .ok (.invokevirtual 211, 3) := dk_182 0 211 (dk_at dksJ20_resize_9 6 rfl rfl)
theorem dJ20_resize_220 : decode cJ20_resize 220 = .ok (.goto 127, 3) := dk_167 0 127 (dk_at dksJ20_resize_9 9 rfl rfl)
theorem dJ20_resize_223 : decode cJ20_resize 223 = .ok (.aconst_null, 1) := dk_1 (dk_at dksJ20_resize_9 12 rfl rfl)
theorem dJ20_resize_224 : decode cJ20_resize 224 = .ok (.astore 9, 2) := dk_58 9 (dk_at dksJ20_resize_9 13 rfl rfl)
theorem dJ20_resize_226 : decode cJ20_resize 226 = .ok (.aconst_null, 1) := dk_1 (dk_at dksJ20_resize_9 15 rfl rfl)
theorem dJ20_resize_227 : decode cJ20_resize 227 = .ok (.astore 10, 2) := dk_58 10 (dk_at dksJ20_resize_9 16 rfl rfl)
theorem dJ20_resize_229 : decode cJ20_resize 229 = .ok (.aconst_null, 1) := dk_1 (dk_at dksJ20_resize_9 18 rfl rfl)
theorem dJ20_resize_230 : decode cJ20_resize 230 = .ok (.astore 11, 2) := dk_58 11 (dk_at dksJ20_resize_9 19 rfl rfl)
theorem dJ20_resize_232 : decode cJ20_resize 232 = .ok (.aconst_null, 1) := dk_1 (dk_at dksJ20_resize_9 21 rfl rfl)
theorem dJ20_resize_233 : decode cJ20_resize 233 = .ok (.astore 12, 2) := dk_58 12 (dk_at dksJ20_resize_9 22 rfl rfl)
theorem dJ20_resize_235 : decode cJ20_resize 235 = .ok (.aload 8, 2) := dk_25 8 (dk_at dksJ20_resize_10 0 rfl rfl)
theorem dJ20_resize_237 : decode cJ20_resize 237 = .ok (.getfield 177, 3) := dk_180 0 177 (dk_at dksJ20_resize_10 2 rfl rfl)
theorem dJ20_resize_240 : decode cJ20_resize 240 = .ok (.astore 13, 2) := dk_58 13 (dk_at dksJ20_resize_10 5 rfl rfl)
theorem dJ20_resize_242 : decode cJ20_resize 242 = .ok (.aload 8, 2) := dk_25 8 (dk_at dksJ20_resize_10 7 rfl rfl)
theorem dJ20_resize_244 : decode cJ20_resize 244 = .ok (.getfield 168, 3) := dk_180 0 168 (dk_at dksJ20_resize_10 9 rfl rfl)
theorem dJ20_resize_247 : decode cJ20_resize 247 = .ok (.iload_n 2, 1) := dk_28 (dk_at dksJ20_resize_10 12 rfl rfl)
theorem dJ20_resize_248 : decode cJ20_resize 248 = .ok (.iand, 1) := dk_126 (dk_at dksJ20_resize_10 13 rfl rfl)
theorem dJ20_resize_249 : decode cJ20_resize 249 = .ok (.ifCond .ne 29, 3) := dk_154 0 29 (dk_at dksJ20_resize_10 14 rfl rfl)
theorem dJ20_resize_252 : decode cJ20_resize 252 = .ok (.aload 10, 2) := dk_25 10 (dk_at dksJ20_resize_10 17 rfl rfl)
theorem dJ20_resize_254 : decode cJ20_resize 254 = .ok (.ifnonnull 10, 3) := dk_199 0 10 (dk_at dksJ20_resize_10 19 rfl rfl)
theorem dJ20_resize_257 : decode cJ20_resize 257 = .ok (.aload 8, 2) := dk_25 8 (dk_at dksJ20_resize_10 22 rfl rfl)
theorem dJ20_resize_259 : decode cJ20_resize 259 = .ok (.astore 9, 2) := dk_58 9 (dk_at dksJ20_resize_11 0 rfl rfl)
theorem dJ20_resize_261 : decode cJ20_resize 261 = .ok (.goto 10, 3) := dk_167 0 10 (dk_at dksJ20_resize_11 2 rfl rfl)
theorem dJ20_resize_264 : decode cJ20_resize 264 = .ok (.aload 10, 2) := dk_25 10 (dk_at dksJ20_resize_11 5 rfl rfl)
theorem dJ20_resize_266 : decode cJ20_resize 266 = .ok (.aload 8, 2) := dk_25 8 (dk_at dksJ20_resize_11 7 rfl rfl)
theorem dJ20_resize_268 : decode cJ20_resize 268 = .ok (.putfield 177, 3) := dk_181 0 177 (dk_at dksJ20_resize_11 9 rfl rfl)
theorem dJ20_resize_271 : decode cJ20_resize 271 = .ok (.aload 8, 2) := dk_25 8 (dk_at dksJ20_resize_11 12 rfl rfl)
theorem dJ20_resize_273 : decode cJ20_resize 273 = .ok (.astore 10, 2) := dk_58 10 (dk_at dksJ20_resize_11 14 rfl rfl)
theorem dJ20_resize_275 : decode cJ20_resize 275 = .ok (.goto 26, 3) := dk_167 0 26 (dk_at dksJ20_resize_11 16 rfl rfl)
theorem dJ20_resize_278 : decode cJ20_resize 278 = .ok (.aload 12, 2) := dk_25 12 (dk_at dksJ20_resize_11 19 rfl rfl)
theorem dJ20_resize_280 : decode cJ20_resize 280 = .ok (.ifnonnull 10, 3) := dk_199 0 10 (dk_at dksJ20_resize_11 21 rfl rfl)
theorem dJ20_resize_283 : decode cJ20_resize 283 = .ok (.aload 8, 2) := dk_25 8 (dk_at dksJ20_resize_12 0 rfl rfl)
theorem dJ20_resize_285 : decode cJ20_resize 285 = .ok (.astore 11, 2) := dk_58 11 (dk_at dksJ20_resize_12 2 rfl rfl)
theorem dJ20_resize_287 : decode cJ20_resize 287 = .ok (.goto 10, 3) := dk_167 0 10 (dk_at dksJ20_resize_12 4 rfl rfl)
theorem dJ20_resize_290 : decode cJ20_resize 290 = .ok (.aload 12, 2) := dk_25 12 (dk_at dksJ20_resize_12 7 rfl rfl)
theorem dJ20_resize_292 : decode cJ20_resize 292 = .ok (.aload 8, 2) := dk_25 8 (dk_at dksJ20_resize_12 9 rfl rfl)
theorem dJ20_resize_294 : decode cJ20_resize 294 = .ok (.putfield 177, 3) := dk_181 0 177 (dk_at dksJ20_resize_12 11 rfl rfl)
theorem dJ20_resize_297 : decode cJ20_resize 297 = .ok (.aload 8, 2) := dk_25 8 (dk_at dksJ20_resize_12 14 rfl rfl)
theorem dJ20_resize_299 : decode cJ20_resize 299 = .ok (.astore 12, 2) := dk_58 12 (dk_at dksJ20_resize_12 16 rfl rfl)
theorem dJ20_resize_301 : decode cJ20_resize 301 = .ok (.aload 13, 2) := dk_25 13 (dk_at dksJ20_resize_12 18 rfl rfl)
theorem dJ20_resize_303 : decode cJ20_resize 303 = .ok (.dup, 1) := dk_89 (dk_at dksJ20_resize_12 20 rfl rfl)
theorem dJ20_resize_304 : decode cJ20_resize 304 = .ok (.astore 8, 2) := dk_58 8 (dk_at dksJ20_resize_12 21 rfl rfl)
theorem dJ20_resize_306 : decode cJ20_resize 306 = .ok (.ifnonnull (-71), 3) := dk_199 255 185 (dk_at dksJ20_resize_13 0 rfl rfl)
theorem dJ20_resize_309 : decode cJ20_resize 309 = .ok (.aload 10, 2) := dk_25 10 (dk_at dksJ20_resize_13 3 rfl rfl)
theorem dJ20_resize_311 : decode cJ20_resize 311 = .ok (.ifnull 16, 3) := dk_198 0 16 (dk_at dksJ20_resize_13 5 rfl rfl)
theorem dJ20_resize_314 : decode cJ20_resize 314 = .ok (.aload 10, 2) := dk_25 10 (dk_at dksJ20_resize_13 8 rfl rfl)
theorem dJ20_resize_316 : decode cJ20_resize 316 = .ok (.aconst_null, 1) := dk_1 (dk_at dksJ20_resize_13 10 rfl rfl)
theorem dJ20_resize_317 : decode cJ20_resize 317 = .ok (.putfield 177, 3) := dk_181 0 177 (dk_at dksJ20_resize_13 11 rfl rfl)
theorem dJ20_resize_320 : decode cJ20_resize 320 = .ok (.aload 6, 2) := dk_25 6 (dk_at dksJ20_resize_13 14 rfl rfl)
theorem dJ20_resize_322 : decode cJ20_resize 322 = .ok (.iload 7, 2) := dk_21 7 (dk_at dksJ20_resize_13 16 rfl rfl)
theorem dJ20_resize_324 : decode cJ20_resize 324 = .ok (.aload 9, 2) := dk_25 9 (dk_at dksJ20_resize_13 18 rfl rfl)
theorem dJ20_resize_326 : decode cJ20_resize 326 = .ok (.aastore, 1) := dk_83 (dk_at dksJ20_resize_13 20 rfl rfl)
theorem dJ20_resize_327 : decode cJ20_resize 327 = .ok (.aload 12, 2) := dk_25 12 (dk_at dksJ20_resize_13 21 rfl rfl)
theorem dJ20_resize_329 : decode cJ20_resize 329 = .ok (.ifnull 18, 3) := dk_198 0 18 (dk_at dksJ20_resize_14 0 rfl rfl)
theorem dJ20_resize_332 : decode cJ20_resize 332 = .ok (.aload 12, 2) := dk_25 12 (dk_at dksJ20_resize_14 3 rfl rfl)
theorem dJ20_resize_334 : decode cJ20_resize 334 = .ok (.aconst_null, 1) := dk_1 (dk_at dksJ20_resize_14 5 rfl rfl)
theorem dJ20_resize_335 : decode cJ20_resize 335 = .ok (.putfield 177, 3) := dk_181 0 177 (dk_at dksJ20_resize_14 6 rfl rfl)
theorem dJ20_resize_338 : decode cJ20_resize 338 = .ok (.aload 6, 2) := dk_25 6 (dk_at dksJ20_resize_14 9 rfl rfl)
theorem dJ20_resize_340 : decode cJ20_resize 340 = .ok (.iload 7, 2) := dk_21 7 (dk_at dksJ20_resize_14 11 rfl rfl)
theorem dJ20_resize_342 : decode cJ20_resize 342 = .ok (.iload_n 2, 1) := dk_28 (dk_at dksJ20_resize_14 13 rfl rfl)
theorem dJ20_resize_343 : decode cJ20_resize 343 = .ok (.iadd, 1) := dk_96 (dk_at dksJ20_resize_14 14 rfl rfl)
theorem dJ20_resize_344 : decode cJ20_resize 344 = .ok (.aload 11, 2) := dk_25 11 (dk_at dksJ20_resize_14 15 rfl rfl)
theorem dJ20_resize_346 : decode cJ20_resize 346 = .ok (.aastore, 1) := dk_83 (dk_at dksJ20_resize_14 17 rfl rfl)
theorem dJ20_resize_347 : decode cJ20_resize 347 = .ok (.iinc 7 1, 3) := dk_132 7 1 (dk_at dksJ20_resize_14 18 rfl rfl)
theorem dJ20_resize_350 : decode cJ20_resize 350 = .ok (.goto (-199), 3) := dk_167 255 57 (dk_at dksJ20_resize_14 21 rfl rfl)
theorem dJ20_resize_353 : decode cJ20_resize 353 = .ok (.aload 6, 2) := dk_25 6 (dk_at dksJ20_resize_15 0 rfl rfl)
theorem dJ20_resize_355 : decode cJ20_resize 355 = .ok (.areturn, 1) := dk_176 (dk_at dksJ20_resize_15 2 rfl rfl)
abbrev cJ20_comparableClassFor : ByteArray := prog_59_method_2_code
def yJ20_comparableClassFor : MethodName := ⟨RJ20, "comparableClassFor", "(Ljava/lang/Object;)Ljava/lang/Class;"⟩
def dkwJ20_comparableClassFor_4 : List UInt8 := [4, 160, 0, 12, 45, 3, 50, 43, 166, 0, 5, 43, 176, 132, 7, 1, 167, 255, 186, 1, 176]
abbrev dktJ20_comparableClassFor_4 : List UInt8 := dkwJ20_comparableClassFor_4 ++ []
def dkwJ20_comparableClassFor_3 : List UInt8 := [185, 0, 23, 1, 0, 18, 7, 166, 0, 30, 25, 4, 185, 0, 27, 1, 0, 89, 78, 198, 0, 18, 45, 190]
abbrev dktJ20_comparableClassFor_3 : List UInt8 := dkwJ20_comparableClassFor_3 ++ dktJ20_comparableClassFor_4
def dkwJ20_comparableClassFor_2 : List UInt8 := [25, 5, 21, 7, 50, 58, 8, 25, 8, 193, 0, 21, 153, 0, 48, 25, 8, 192, 0, 21, 89, 58, 4]
abbrev dktJ20_comparableClassFor_2 : List UInt8 := dkwJ20_comparableClassFor_2 ++ dktJ20_comparableClassFor_3
def dkwJ20_comparableClassFor_1 : List UInt8 := [89, 77, 198, 0, 87, 44, 58, 5, 25, 5, 190, 54, 6, 3, 54, 7, 21, 7, 21, 6, 162, 0, 69]
abbrev dktJ20_comparableClassFor_1 : List UInt8 := dkwJ20_comparableClassFor_1 ++ dktJ20_comparableClassFor_2
def dkwJ20_comparableClassFor_0 : List UInt8 := [42, 193, 0, 7, 153, 0, 109, 42, 182, 0, 9, 89, 76, 18, 13, 166, 0, 5, 43, 176, 43, 182, 0, 15]
abbrev dktJ20_comparableClassFor_0 : List UInt8 := dkwJ20_comparableClassFor_0 ++ dktJ20_comparableClassFor_1
theorem dksJ20_comparableClassFor_0 : cJ20_comparableClassFor.data.toList.drop 0 = dktJ20_comparableClassFor_0 := by decide +kernel
theorem dksJ20_comparableClassFor_1 : cJ20_comparableClassFor.data.toList.drop 24 = dktJ20_comparableClassFor_1 := dk_seg dksJ20_comparableClassFor_0 24 rfl rfl
theorem dksJ20_comparableClassFor_2 : cJ20_comparableClassFor.data.toList.drop 47 = dktJ20_comparableClassFor_2 := dk_seg dksJ20_comparableClassFor_1 23 rfl rfl
theorem dksJ20_comparableClassFor_3 : cJ20_comparableClassFor.data.toList.drop 70 = dktJ20_comparableClassFor_3 := dk_seg dksJ20_comparableClassFor_2 23 rfl rfl
theorem dksJ20_comparableClassFor_4 : cJ20_comparableClassFor.data.toList.drop 94 = dktJ20_comparableClassFor_4 := dk_seg dksJ20_comparableClassFor_3 24 rfl rfl
theorem dJ20_comparableClassFor_0 : decode cJ20_comparableClassFor 0 = .ok (.aload_n 0, 1) := dk_42 (dk_at dksJ20_comparableClassFor_0 0 rfl rfl)
theorem dJ20_comparableClassFor_1 : decode cJ20_comparableClassFor 1 = .ok (.instanceof 7, 3) := dk_193 0 7 (dk_at dksJ20_comparableClassFor_0 1 rfl rfl)
theorem dJ20_comparableClassFor_4 : decode cJ20_comparableClassFor 4 = .ok (.ifCond .eq 109, 3) := dk_153 0 109 (dk_at dksJ20_comparableClassFor_0 4 rfl rfl)
theorem dJ20_comparableClassFor_7 : decode cJ20_comparableClassFor 7 = .ok (.aload_n 0, 1) := dk_42 (dk_at dksJ20_comparableClassFor_0 7 rfl rfl)
theorem dJ20_comparableClassFor_8 : decode cJ20_comparableClassFor 8 = .ok (.invokevirtual 9, 3) := dk_182 0 9 (dk_at dksJ20_comparableClassFor_0 8 rfl rfl)
theorem dJ20_comparableClassFor_11 : decode cJ20_comparableClassFor 11 = .ok (.dup, 1) := dk_89 (dk_at dksJ20_comparableClassFor_0 11 rfl rfl)
theorem dJ20_comparableClassFor_12 : decode cJ20_comparableClassFor 12 = .ok (.astore_n 1, 1) := dk_76 (dk_at dksJ20_comparableClassFor_0 12 rfl rfl)
theorem dJ20_comparableClassFor_13 : decode cJ20_comparableClassFor 13 = .ok (.ldc 13, 2) := dk_18 13 (dk_at dksJ20_comparableClassFor_0 13 rfl rfl)
theorem dJ20_comparableClassFor_15 : decode cJ20_comparableClassFor 15 = .ok (.if_acmp .ne 5, 3) := dk_166 0 5 (dk_at dksJ20_comparableClassFor_0 15 rfl rfl)
theorem dJ20_comparableClassFor_18 : decode cJ20_comparableClassFor 18 = .ok (.aload_n 1, 1) := dk_43 (dk_at dksJ20_comparableClassFor_0 18 rfl rfl)
theorem dJ20_comparableClassFor_19 : decode cJ20_comparableClassFor 19 = .ok (.areturn, 1) := dk_176 (dk_at dksJ20_comparableClassFor_0 19 rfl rfl)
theorem dJ20_comparableClassFor_20 : decode cJ20_comparableClassFor 20 = .ok (.aload_n 1, 1) := dk_43 (dk_at dksJ20_comparableClassFor_0 20 rfl rfl)
theorem dJ20_comparableClassFor_21 : decode cJ20_comparableClassFor 21 = .ok (.invokevirtual 15, 3) := dk_182 0 15 (dk_at dksJ20_comparableClassFor_0 21 rfl rfl)
theorem dJ20_comparableClassFor_24 : decode cJ20_comparableClassFor 24 = .ok (.dup, 1) := dk_89 (dk_at dksJ20_comparableClassFor_1 0 rfl rfl)
theorem dJ20_comparableClassFor_25 : decode cJ20_comparableClassFor 25 = .ok (.astore_n 2, 1) := dk_77 (dk_at dksJ20_comparableClassFor_1 1 rfl rfl)
theorem dJ20_comparableClassFor_26 : decode cJ20_comparableClassFor 26 = .ok (.ifnull 87, 3) := dk_198 0 87 (dk_at dksJ20_comparableClassFor_1 2 rfl rfl)
theorem dJ20_comparableClassFor_29 : decode cJ20_comparableClassFor 29 = .ok (.aload_n 2, 1) := dk_44 (dk_at dksJ20_comparableClassFor_1 5 rfl rfl)
theorem dJ20_comparableClassFor_30 : decode cJ20_comparableClassFor 30 = .ok (.astore 5, 2) := dk_58 5 (dk_at dksJ20_comparableClassFor_1 6 rfl rfl)
theorem dJ20_comparableClassFor_32 : decode cJ20_comparableClassFor 32 = .ok (.aload 5, 2) := dk_25 5 (dk_at dksJ20_comparableClassFor_1 8 rfl rfl)
theorem dJ20_comparableClassFor_34 : decode cJ20_comparableClassFor 34 = .ok (.arraylength, 1) := dk_190 (dk_at dksJ20_comparableClassFor_1 10 rfl rfl)
theorem dJ20_comparableClassFor_35 : decode cJ20_comparableClassFor 35 = .ok (.istore 6, 2) := dk_54 6 (dk_at dksJ20_comparableClassFor_1 11 rfl rfl)
theorem dJ20_comparableClassFor_37 : decode cJ20_comparableClassFor 37 = .ok (.iconst 0, 1) := dk_3 (dk_at dksJ20_comparableClassFor_1 13 rfl rfl)
theorem dJ20_comparableClassFor_38 : decode cJ20_comparableClassFor 38 = .ok (.istore 7, 2) := dk_54 7 (dk_at dksJ20_comparableClassFor_1 14 rfl rfl)
theorem dJ20_comparableClassFor_40 : decode cJ20_comparableClassFor 40 = .ok (.iload 7, 2) := dk_21 7 (dk_at dksJ20_comparableClassFor_1 16 rfl rfl)
theorem dJ20_comparableClassFor_42 : decode cJ20_comparableClassFor 42 = .ok (.iload 6, 2) := dk_21 6 (dk_at dksJ20_comparableClassFor_1 18 rfl rfl)
theorem dJ20_comparableClassFor_44 : decode cJ20_comparableClassFor 44 = .ok (.if_icmp .ge 69, 3) := dk_162 0 69 (dk_at dksJ20_comparableClassFor_1 20 rfl rfl)
theorem dJ20_comparableClassFor_47 : decode cJ20_comparableClassFor 47 = .ok (.aload 5, 2) := dk_25 5 (dk_at dksJ20_comparableClassFor_2 0 rfl rfl)
theorem dJ20_comparableClassFor_49 : decode cJ20_comparableClassFor 49 = .ok (.iload 7, 2) := dk_21 7 (dk_at dksJ20_comparableClassFor_2 2 rfl rfl)
theorem dJ20_comparableClassFor_51 : decode cJ20_comparableClassFor 51 = .ok (.aaload, 1) := dk_50 (dk_at dksJ20_comparableClassFor_2 4 rfl rfl)
theorem dJ20_comparableClassFor_52 : decode cJ20_comparableClassFor 52 = .ok (.astore 8, 2) := dk_58 8 (dk_at dksJ20_comparableClassFor_2 5 rfl rfl)
theorem dJ20_comparableClassFor_54 : decode cJ20_comparableClassFor 54 = .ok (.aload 8, 2) := dk_25 8 (dk_at dksJ20_comparableClassFor_2 7 rfl rfl)
theorem dJ20_comparableClassFor_56 : decode cJ20_comparableClassFor 56 = .ok (.instanceof 21, 3) := dk_193 0 21 (dk_at dksJ20_comparableClassFor_2 9 rfl rfl)
theorem dJ20_comparableClassFor_59 : decode cJ20_comparableClassFor 59 = .ok (.ifCond .eq 48, 3) := dk_153 0 48 (dk_at dksJ20_comparableClassFor_2 12 rfl rfl)
theorem dJ20_comparableClassFor_62 : decode cJ20_comparableClassFor 62 = .ok (.aload 8, 2) := dk_25 8 (dk_at dksJ20_comparableClassFor_2 15 rfl rfl)
theorem dJ20_comparableClassFor_64 : decode cJ20_comparableClassFor 64 = .ok (.checkcast 21, 3) := dk_192 0 21 (dk_at dksJ20_comparableClassFor_2 17 rfl rfl)
theorem dJ20_comparableClassFor_67 : decode cJ20_comparableClassFor 67 = .ok (.dup, 1) := dk_89 (dk_at dksJ20_comparableClassFor_2 20 rfl rfl)
theorem dJ20_comparableClassFor_68 : decode cJ20_comparableClassFor 68 = .ok (.astore 4, 2) := dk_58 4 (dk_at dksJ20_comparableClassFor_2 21 rfl rfl)
theorem dJ20_comparableClassFor_70 : decode cJ20_comparableClassFor 70 = .ok (.invokeinterface 23 1, 5) := by decide +kernel
theorem dJ20_comparableClassFor_75 : decode cJ20_comparableClassFor 75 = .ok (.ldc 7, 2) := dk_18 7 (dk_at dksJ20_comparableClassFor_3 5 rfl rfl)
theorem dJ20_comparableClassFor_77 : decode cJ20_comparableClassFor 77 = .ok (.if_acmp .ne 30, 3) := dk_166 0 30 (dk_at dksJ20_comparableClassFor_3 7 rfl rfl)
theorem dJ20_comparableClassFor_80 : decode cJ20_comparableClassFor 80 = .ok (.aload 4, 2) := dk_25 4 (dk_at dksJ20_comparableClassFor_3 10 rfl rfl)
theorem dJ20_comparableClassFor_82 : decode cJ20_comparableClassFor 82 = .ok (.invokeinterface 27 1, 5) := by decide +kernel
theorem dJ20_comparableClassFor_87 : decode cJ20_comparableClassFor 87 = .ok (.dup, 1) := dk_89 (dk_at dksJ20_comparableClassFor_3 17 rfl rfl)
theorem dJ20_comparableClassFor_88 : decode cJ20_comparableClassFor 88 = .ok (.astore_n 3, 1) := dk_78 (dk_at dksJ20_comparableClassFor_3 18 rfl rfl)
theorem dJ20_comparableClassFor_89 : decode cJ20_comparableClassFor 89 = .ok (.ifnull 18, 3) := dk_198 0 18 (dk_at dksJ20_comparableClassFor_3 19 rfl rfl)
theorem dJ20_comparableClassFor_92 : decode cJ20_comparableClassFor 92 = .ok (.aload_n 3, 1) := dk_45 (dk_at dksJ20_comparableClassFor_3 22 rfl rfl)
theorem dJ20_comparableClassFor_93 : decode cJ20_comparableClassFor 93 = .ok (.arraylength, 1) := dk_190 (dk_at dksJ20_comparableClassFor_3 23 rfl rfl)
theorem dJ20_comparableClassFor_94 : decode cJ20_comparableClassFor 94 = .ok (.iconst 1, 1) := dk_4 (dk_at dksJ20_comparableClassFor_4 0 rfl rfl)
theorem dJ20_comparableClassFor_95 : decode cJ20_comparableClassFor 95 = .ok (.if_icmp .ne 12, 3) := dk_160 0 12 (dk_at dksJ20_comparableClassFor_4 1 rfl rfl)
theorem dJ20_comparableClassFor_98 : decode cJ20_comparableClassFor 98 = .ok (.aload_n 3, 1) := dk_45 (dk_at dksJ20_comparableClassFor_4 4 rfl rfl)
theorem dJ20_comparableClassFor_99 : decode cJ20_comparableClassFor 99 = .ok (.iconst 0, 1) := dk_3 (dk_at dksJ20_comparableClassFor_4 5 rfl rfl)
theorem dJ20_comparableClassFor_100 : decode cJ20_comparableClassFor 100 = .ok (.aaload, 1) := dk_50 (dk_at dksJ20_comparableClassFor_4 6 rfl rfl)
theorem dJ20_comparableClassFor_101 : decode cJ20_comparableClassFor 101 = .ok (.aload_n 1, 1) := dk_43 (dk_at dksJ20_comparableClassFor_4 7 rfl rfl)
theorem dJ20_comparableClassFor_102 : decode cJ20_comparableClassFor 102 = .ok (.if_acmp .ne 5, 3) := dk_166 0 5 (dk_at dksJ20_comparableClassFor_4 8 rfl rfl)
theorem dJ20_comparableClassFor_105 : decode cJ20_comparableClassFor 105 = .ok (.aload_n 1, 1) := dk_43 (dk_at dksJ20_comparableClassFor_4 11 rfl rfl)
theorem dJ20_comparableClassFor_106 : decode cJ20_comparableClassFor 106 = .ok (.areturn, 1) := dk_176 (dk_at dksJ20_comparableClassFor_4 12 rfl rfl)
theorem dJ20_comparableClassFor_107 : decode cJ20_comparableClassFor 107 = .ok (.iinc 7 1, 3) := dk_132 7 1 (dk_at dksJ20_comparableClassFor_4 13 rfl rfl)
theorem dJ20_comparableClassFor_110 : decode cJ20_comparableClassFor 110 = .ok (.goto (-70), 3) := dk_167 255 186 (dk_at dksJ20_comparableClassFor_4 16 rfl rfl)
theorem dJ20_comparableClassFor_113 : decode cJ20_comparableClassFor 113 = .ok (.aconst_null, 1) := dk_1 (dk_at dksJ20_comparableClassFor_4 19 rfl rfl)
theorem dJ20_comparableClassFor_114 : decode cJ20_comparableClassFor 114 = .ok (.areturn, 1) := dk_176 (dk_at dksJ20_comparableClassFor_4 20 rfl rfl)
abbrev cJ20_compareComparables : ByteArray := prog_59_method_3_code
def yJ20_compareComparables : MethodName := ⟨RJ20, "compareComparables", "(Ljava/lang/Class;Ljava/lang/Object;Ljava/lang/Object;)I"⟩
def dkwJ20_compareComparables_1 : List UInt8 := [185, 0, 30, 2, 0, 172]
abbrev dktJ20_compareComparables_1 : List UInt8 := dkwJ20_compareComparables_1 ++ []
def dkwJ20_compareComparables_0 : List UInt8 := [44, 198, 0, 11, 44, 182, 0, 9, 42, 165, 0, 7, 3, 167, 0, 13, 43, 192, 0, 7, 44]
abbrev dktJ20_compareComparables_0 : List UInt8 := dkwJ20_compareComparables_0 ++ dktJ20_compareComparables_1
theorem dksJ20_compareComparables_0 : cJ20_compareComparables.data.toList.drop 0 = dktJ20_compareComparables_0 := by decide +kernel
theorem dksJ20_compareComparables_1 : cJ20_compareComparables.data.toList.drop 21 = dktJ20_compareComparables_1 := dk_seg dksJ20_compareComparables_0 21 rfl rfl
theorem dJ20_compareComparables_0 : decode cJ20_compareComparables 0 = .ok (.aload_n 2, 1) := dk_44 (dk_at dksJ20_compareComparables_0 0 rfl rfl)
theorem dJ20_compareComparables_1 : decode cJ20_compareComparables 1 = .ok (.ifnull 11, 3) := dk_198 0 11 (dk_at dksJ20_compareComparables_0 1 rfl rfl)
theorem dJ20_compareComparables_4 : decode cJ20_compareComparables 4 = .ok (.aload_n 2, 1) := dk_44 (dk_at dksJ20_compareComparables_0 4 rfl rfl)
theorem dJ20_compareComparables_5 : decode cJ20_compareComparables 5 = .ok (.invokevirtual 9, 3) := dk_182 0 9 (dk_at dksJ20_compareComparables_0 5 rfl rfl)
theorem dJ20_compareComparables_8 : decode cJ20_compareComparables 8 = .ok (.aload_n 0, 1) := dk_42 (dk_at dksJ20_compareComparables_0 8 rfl rfl)
theorem dJ20_compareComparables_9 : decode cJ20_compareComparables 9 = .ok (.if_acmp .eq 7, 3) := dk_165 0 7 (dk_at dksJ20_compareComparables_0 9 rfl rfl)
theorem dJ20_compareComparables_12 : decode cJ20_compareComparables 12 = .ok (.iconst 0, 1) := dk_3 (dk_at dksJ20_compareComparables_0 12 rfl rfl)
theorem dJ20_compareComparables_13 : decode cJ20_compareComparables 13 = .ok (.goto 13, 3) := dk_167 0 13 (dk_at dksJ20_compareComparables_0 13 rfl rfl)
theorem dJ20_compareComparables_16 : decode cJ20_compareComparables 16 = .ok (.aload_n 1, 1) := dk_43 (dk_at dksJ20_compareComparables_0 16 rfl rfl)
theorem dJ20_compareComparables_17 : decode cJ20_compareComparables 17 = .ok (.checkcast 7, 3) := dk_192 0 7 (dk_at dksJ20_compareComparables_0 17 rfl rfl)
theorem dJ20_compareComparables_20 : decode cJ20_compareComparables 20 = .ok (.aload_n 2, 1) := dk_44 (dk_at dksJ20_compareComparables_0 20 rfl rfl)
theorem dJ20_compareComparables_21 : decode cJ20_compareComparables 21 = .ok (.invokeinterface 30 2, 5) := by decide +kernel
theorem dJ20_compareComparables_26 : decode cJ20_compareComparables 26 = .ok (.ireturn, 1) := dk_172 (dk_at dksJ20_compareComparables_1 5 rfl rfl)
abbrev cJ20_treeifyBin : ByteArray := prog_59_method_18_code
def yJ20_treeifyBin : MethodName := ⟨RJ20, "treeifyBin", "([Ljava/util/HashMap$Node;I)V"⟩
def dkwJ20_treeifyBin_4 : List UInt8 := [21, 4, 25, 6, 91, 83, 198, 0, 9, 25, 6, 43, 182, 0, 224, 177]
abbrev dktJ20_treeifyBin_4 : List UInt8 := dkwJ20_treeifyBin_4 ++ []
def dkwJ20_treeifyBin_3 : List UInt8 := [25, 7, 25, 8, 181, 0, 223, 25, 8, 58, 7, 25, 5, 180, 0, 177, 89, 58, 5, 199, 255, 209, 43]
abbrev dktJ20_treeifyBin_3 : List UInt8 := dkwJ20_treeifyBin_3 ++ dktJ20_treeifyBin_4
def dkwJ20_treeifyBin_2 : List UInt8 := [182, 0, 215, 58, 8, 25, 7, 199, 0, 10, 25, 8, 58, 6, 167, 0, 17, 25, 8, 25, 7, 181, 0, 219]
abbrev dktJ20_treeifyBin_2 : List UInt8 := dkwJ20_treeifyBin_2 ++ dktJ20_treeifyBin_3
def dkwJ20_treeifyBin_1 : List UInt8 := [100, 28, 126, 89, 54, 4, 50, 89, 58, 5, 198, 0, 75, 1, 58, 6, 1, 58, 7, 42, 25, 5, 1]
abbrev dktJ20_treeifyBin_1 : List UInt8 := dkwJ20_treeifyBin_1 ++ dktJ20_treeifyBin_2
def dkwJ20_treeifyBin_0 : List UInt8 := [43, 198, 0, 12, 43, 190, 89, 62, 16, 64, 162, 0, 11, 42, 182, 0, 117, 87, 167, 0, 91, 43, 29, 4]
abbrev dktJ20_treeifyBin_0 : List UInt8 := dkwJ20_treeifyBin_0 ++ dktJ20_treeifyBin_1
theorem dksJ20_treeifyBin_0 : cJ20_treeifyBin.data.toList.drop 0 = dktJ20_treeifyBin_0 := by decide +kernel
theorem dksJ20_treeifyBin_1 : cJ20_treeifyBin.data.toList.drop 24 = dktJ20_treeifyBin_1 := dk_seg dksJ20_treeifyBin_0 24 rfl rfl
theorem dksJ20_treeifyBin_2 : cJ20_treeifyBin.data.toList.drop 47 = dktJ20_treeifyBin_2 := dk_seg dksJ20_treeifyBin_1 23 rfl rfl
theorem dksJ20_treeifyBin_3 : cJ20_treeifyBin.data.toList.drop 71 = dktJ20_treeifyBin_3 := dk_seg dksJ20_treeifyBin_2 24 rfl rfl
theorem dksJ20_treeifyBin_4 : cJ20_treeifyBin.data.toList.drop 94 = dktJ20_treeifyBin_4 := dk_seg dksJ20_treeifyBin_3 23 rfl rfl
theorem dJ20_treeifyBin_0 : decode cJ20_treeifyBin 0 = .ok (.aload_n 1, 1) := dk_43 (dk_at dksJ20_treeifyBin_0 0 rfl rfl)
theorem dJ20_treeifyBin_1 : decode cJ20_treeifyBin 1 = .ok (.ifnull 12, 3) := dk_198 0 12 (dk_at dksJ20_treeifyBin_0 1 rfl rfl)
theorem dJ20_treeifyBin_4 : decode cJ20_treeifyBin 4 = .ok (.aload_n 1, 1) := dk_43 (dk_at dksJ20_treeifyBin_0 4 rfl rfl)
theorem dJ20_treeifyBin_5 : decode cJ20_treeifyBin 5 = .ok (.arraylength, 1) := dk_190 (dk_at dksJ20_treeifyBin_0 5 rfl rfl)
theorem dJ20_treeifyBin_6 : decode cJ20_treeifyBin 6 = .ok (.dup, 1) := dk_89 (dk_at dksJ20_treeifyBin_0 6 rfl rfl)
theorem dJ20_treeifyBin_7 : decode cJ20_treeifyBin 7 = .ok (.istore_n 3, 1) := dk_62 (dk_at dksJ20_treeifyBin_0 7 rfl rfl)
theorem dJ20_treeifyBin_8 : decode cJ20_treeifyBin 8 = .ok (.bipush 64, 2) := dk_16 64 (dk_at dksJ20_treeifyBin_0 8 rfl rfl)
theorem dJ20_treeifyBin_10 : decode cJ20_treeifyBin 10 = .ok (.if_icmp .ge 11, 3) := dk_162 0 11 (dk_at dksJ20_treeifyBin_0 10 rfl rfl)
theorem dJ20_treeifyBin_13 : decode cJ20_treeifyBin 13 = .ok (.aload_n 0, 1) := dk_42 (dk_at dksJ20_treeifyBin_0 13 rfl rfl)
theorem dJ20_treeifyBin_14 : decode cJ20_treeifyBin 14 = .ok (.invokevirtual 117, 3) := dk_182 0 117 (dk_at dksJ20_treeifyBin_0 14 rfl rfl)
theorem dJ20_treeifyBin_17 : decode cJ20_treeifyBin 17 = .ok (.pop, 1) := dk_87 (dk_at dksJ20_treeifyBin_0 17 rfl rfl)
theorem dJ20_treeifyBin_18 : decode cJ20_treeifyBin 18 = .ok (.goto 91, 3) := dk_167 0 91 (dk_at dksJ20_treeifyBin_0 18 rfl rfl)
theorem dJ20_treeifyBin_21 : decode cJ20_treeifyBin 21 = .ok (.aload_n 1, 1) := dk_43 (dk_at dksJ20_treeifyBin_0 21 rfl rfl)
theorem dJ20_treeifyBin_22 : decode cJ20_treeifyBin 22 = .ok (.iload_n 3, 1) := dk_29 (dk_at dksJ20_treeifyBin_0 22 rfl rfl)
theorem dJ20_treeifyBin_23 : decode cJ20_treeifyBin 23 = .ok (.iconst 1, 1) := dk_4 (dk_at dksJ20_treeifyBin_0 23 rfl rfl)
theorem dJ20_treeifyBin_24 : decode cJ20_treeifyBin 24 = .ok (.isub, 1) := dk_100 (dk_at dksJ20_treeifyBin_1 0 rfl rfl)
theorem dJ20_treeifyBin_25 : decode cJ20_treeifyBin 25 = .ok (.iload_n 2, 1) := dk_28 (dk_at dksJ20_treeifyBin_1 1 rfl rfl)
theorem dJ20_treeifyBin_26 : decode cJ20_treeifyBin 26 = .ok (.iand, 1) := dk_126 (dk_at dksJ20_treeifyBin_1 2 rfl rfl)
theorem dJ20_treeifyBin_27 : decode cJ20_treeifyBin 27 = .ok (.dup, 1) := dk_89 (dk_at dksJ20_treeifyBin_1 3 rfl rfl)
theorem dJ20_treeifyBin_28 : decode cJ20_treeifyBin 28 = .ok (.istore 4, 2) := dk_54 4 (dk_at dksJ20_treeifyBin_1 4 rfl rfl)
theorem dJ20_treeifyBin_30 : decode cJ20_treeifyBin 30 = .ok (.aaload, 1) := dk_50 (dk_at dksJ20_treeifyBin_1 6 rfl rfl)
theorem dJ20_treeifyBin_31 : decode cJ20_treeifyBin 31 = .ok (.dup, 1) := dk_89 (dk_at dksJ20_treeifyBin_1 7 rfl rfl)
theorem dJ20_treeifyBin_32 : decode cJ20_treeifyBin 32 = .ok (.astore 5, 2) := dk_58 5 (dk_at dksJ20_treeifyBin_1 8 rfl rfl)
theorem dJ20_treeifyBin_34 : decode cJ20_treeifyBin 34 = .ok (.ifnull 75, 3) := dk_198 0 75 (dk_at dksJ20_treeifyBin_1 10 rfl rfl)
theorem dJ20_treeifyBin_37 : decode cJ20_treeifyBin 37 = .ok (.aconst_null, 1) := dk_1 (dk_at dksJ20_treeifyBin_1 13 rfl rfl)
theorem dJ20_treeifyBin_38 : decode cJ20_treeifyBin 38 = .ok (.astore 6, 2) := dk_58 6 (dk_at dksJ20_treeifyBin_1 14 rfl rfl)
theorem dJ20_treeifyBin_40 : decode cJ20_treeifyBin 40 = .ok (.aconst_null, 1) := dk_1 (dk_at dksJ20_treeifyBin_1 16 rfl rfl)
theorem dJ20_treeifyBin_41 : decode cJ20_treeifyBin 41 = .ok (.astore 7, 2) := dk_58 7 (dk_at dksJ20_treeifyBin_1 17 rfl rfl)
theorem dJ20_treeifyBin_43 : decode cJ20_treeifyBin 43 = .ok (.aload_n 0, 1) := dk_42 (dk_at dksJ20_treeifyBin_1 19 rfl rfl)
theorem dJ20_treeifyBin_44 : decode cJ20_treeifyBin 44 = .ok (.aload 5, 2) := dk_25 5 (dk_at dksJ20_treeifyBin_1 20 rfl rfl)
theorem dJ20_treeifyBin_46 : decode cJ20_treeifyBin 46 = .ok (.aconst_null, 1) := dk_1 (dk_at dksJ20_treeifyBin_1 22 rfl rfl)
theorem dJ20_treeifyBin_47 : decode cJ20_treeifyBin 47 = .ok (.invokevirtual 215, 3) := dk_182 0 215 (dk_at dksJ20_treeifyBin_2 0 rfl rfl)
theorem dJ20_treeifyBin_50 : decode cJ20_treeifyBin 50 = .ok (.astore 8, 2) := dk_58 8 (dk_at dksJ20_treeifyBin_2 3 rfl rfl)
theorem dJ20_treeifyBin_52 : decode cJ20_treeifyBin 52 = .ok (.aload 7, 2) := dk_25 7 (dk_at dksJ20_treeifyBin_2 5 rfl rfl)
theorem dJ20_treeifyBin_54 : decode cJ20_treeifyBin 54 = .ok (.ifnonnull 10, 3) := dk_199 0 10 (dk_at dksJ20_treeifyBin_2 7 rfl rfl)
theorem dJ20_treeifyBin_57 : decode cJ20_treeifyBin 57 = .ok (.aload 8, 2) := dk_25 8 (dk_at dksJ20_treeifyBin_2 10 rfl rfl)
theorem dJ20_treeifyBin_59 : decode cJ20_treeifyBin 59 = .ok (.astore 6, 2) := dk_58 6 (dk_at dksJ20_treeifyBin_2 12 rfl rfl)
theorem dJ20_treeifyBin_61 : decode cJ20_treeifyBin 61 = .ok (.goto 17, 3) := dk_167 0 17 (dk_at dksJ20_treeifyBin_2 14 rfl rfl)
theorem dJ20_treeifyBin_64 : decode cJ20_treeifyBin 64 = .ok (.aload 8, 2) := dk_25 8 (dk_at dksJ20_treeifyBin_2 17 rfl rfl)
theorem dJ20_treeifyBin_66 : decode cJ20_treeifyBin 66 = .ok (.aload 7, 2) := dk_25 7 (dk_at dksJ20_treeifyBin_2 19 rfl rfl)
theorem dJ20_treeifyBin_68 : decode cJ20_treeifyBin 68 = .ok (.putfield 219, 3) := dk_181 0 219 (dk_at dksJ20_treeifyBin_2 21 rfl rfl)
theorem dJ20_treeifyBin_71 : decode cJ20_treeifyBin 71 = .ok (.aload 7, 2) := dk_25 7 (dk_at dksJ20_treeifyBin_3 0 rfl rfl)
theorem dJ20_treeifyBin_73 : decode cJ20_treeifyBin 73 = .ok (.aload 8, 2) := dk_25 8 (dk_at dksJ20_treeifyBin_3 2 rfl rfl)
theorem dJ20_treeifyBin_75 : decode cJ20_treeifyBin 75 = .ok (.putfield 223, 3) := dk_181 0 223 (dk_at dksJ20_treeifyBin_3 4 rfl rfl)
theorem dJ20_treeifyBin_78 : decode cJ20_treeifyBin 78 = .ok (.aload 8, 2) := dk_25 8 (dk_at dksJ20_treeifyBin_3 7 rfl rfl)
theorem dJ20_treeifyBin_80 : decode cJ20_treeifyBin 80 = .ok (.astore 7, 2) := dk_58 7 (dk_at dksJ20_treeifyBin_3 9 rfl rfl)
theorem dJ20_treeifyBin_82 : decode cJ20_treeifyBin 82 = .ok (.aload 5, 2) := dk_25 5 (dk_at dksJ20_treeifyBin_3 11 rfl rfl)
theorem dJ20_treeifyBin_84 : decode cJ20_treeifyBin 84 = .ok (.getfield 177, 3) := dk_180 0 177 (dk_at dksJ20_treeifyBin_3 13 rfl rfl)
theorem dJ20_treeifyBin_87 : decode cJ20_treeifyBin 87 = .ok (.dup, 1) := dk_89 (dk_at dksJ20_treeifyBin_3 16 rfl rfl)
theorem dJ20_treeifyBin_88 : decode cJ20_treeifyBin 88 = .ok (.astore 5, 2) := dk_58 5 (dk_at dksJ20_treeifyBin_3 17 rfl rfl)
theorem dJ20_treeifyBin_90 : decode cJ20_treeifyBin 90 = .ok (.ifnonnull (-47), 3) := dk_199 255 209 (dk_at dksJ20_treeifyBin_3 19 rfl rfl)
theorem dJ20_treeifyBin_93 : decode cJ20_treeifyBin 93 = .ok (.aload_n 1, 1) := dk_43 (dk_at dksJ20_treeifyBin_3 22 rfl rfl)
theorem dJ20_treeifyBin_94 : decode cJ20_treeifyBin 94 = .ok (.iload 4, 2) := dk_21 4 (dk_at dksJ20_treeifyBin_4 0 rfl rfl)
theorem dJ20_treeifyBin_96 : decode cJ20_treeifyBin 96 = .ok (.aload 6, 2) := dk_25 6 (dk_at dksJ20_treeifyBin_4 2 rfl rfl)
theorem dJ20_treeifyBin_98 : decode cJ20_treeifyBin 98 = .ok (.dup_x2, 1) := dk_91 (dk_at dksJ20_treeifyBin_4 4 rfl rfl)
theorem dJ20_treeifyBin_99 : decode cJ20_treeifyBin 99 = .ok (.aastore, 1) := dk_83 (dk_at dksJ20_treeifyBin_4 5 rfl rfl)
theorem dJ20_treeifyBin_100 : decode cJ20_treeifyBin 100 = .ok (.ifnull 9, 3) := dk_198 0 9 (dk_at dksJ20_treeifyBin_4 6 rfl rfl)
theorem dJ20_treeifyBin_103 : decode cJ20_treeifyBin 103 = .ok (.aload 6, 2) := dk_25 6 (dk_at dksJ20_treeifyBin_4 9 rfl rfl)
theorem dJ20_treeifyBin_105 : decode cJ20_treeifyBin 105 = .ok (.aload_n 1, 1) := dk_43 (dk_at dksJ20_treeifyBin_4 11 rfl rfl)
theorem dJ20_treeifyBin_106 : decode cJ20_treeifyBin 106 = .ok (.invokevirtual 224, 3) := dk_182 0 224 (dk_at dksJ20_treeifyBin_4 12 rfl rfl)
theorem dJ20_treeifyBin_109 : decode cJ20_treeifyBin 109 = .ok (.return_, 1) := dk_177 (dk_at dksJ20_treeifyBin_4 15 rfl rfl)
abbrev cJ20_isEmpty : ByteArray := prog_59_method_11_code
def yJ20_isEmpty : MethodName := ⟨RJ20, "isEmpty", "()Z"⟩
def dkwJ20_isEmpty_0 : List UInt8 := [42, 180, 0, 156, 154, 0, 7, 4, 167, 0, 4, 3, 172]
abbrev dktJ20_isEmpty_0 : List UInt8 := dkwJ20_isEmpty_0 ++ []
theorem dksJ20_isEmpty_0 : cJ20_isEmpty.data.toList.drop 0 = dktJ20_isEmpty_0 := by decide +kernel
theorem dJ20_isEmpty_0 : decode cJ20_isEmpty 0 = .ok (.aload_n 0, 1) := dk_42 (dk_at dksJ20_isEmpty_0 0 rfl rfl)
theorem dJ20_isEmpty_1 : decode cJ20_isEmpty 1 = .ok (.getfield 156, 3) := dk_180 0 156 (dk_at dksJ20_isEmpty_0 1 rfl rfl)
theorem dJ20_isEmpty_4 : decode cJ20_isEmpty 4 = .ok (.ifCond .ne 7, 3) := dk_154 0 7 (dk_at dksJ20_isEmpty_0 4 rfl rfl)
theorem dJ20_isEmpty_7 : decode cJ20_isEmpty 7 = .ok (.iconst 1, 1) := dk_4 (dk_at dksJ20_isEmpty_0 7 rfl rfl)
theorem dJ20_isEmpty_8 : decode cJ20_isEmpty 8 = .ok (.goto 4, 3) := dk_167 0 4 (dk_at dksJ20_isEmpty_0 8 rfl rfl)
theorem dJ20_isEmpty_11 : decode cJ20_isEmpty 11 = .ok (.iconst 0, 1) := dk_3 (dk_at dksJ20_isEmpty_0 11 rfl rfl)
theorem dJ20_isEmpty_12 : decode cJ20_isEmpty 12 = .ok (.ireturn, 1) := dk_172 (dk_at dksJ20_isEmpty_0 12 rfl rfl)
abbrev cJ20_getNode : ByteArray := prog_59_method_13_code
def yJ20_getNode : MethodName := ⟨RJ20, "getNode", "(Ljava/lang/Object;)Ljava/util/HashMap$Node;"⟩
def dkwJ20_getNode_6 : List UInt8 := [89, 58, 4, 199, 255, 210, 1, 176]
abbrev dktJ20_getNode_6 : List UInt8 := dkwJ20_getNode_6 ++ []
def dkwJ20_getNode_5 : List UInt8 := [165, 0, 16, 43, 198, 0, 15, 43, 25, 7, 182, 0, 173, 153, 0, 6, 25, 4, 176, 25, 4, 180, 0, 177]
abbrev dktJ20_getNode_5 : List UInt8 := dkwJ20_getNode_5 ++ dktJ20_getNode_6
def dkwJ20_getNode_4 : List UInt8 := [43, 182, 0, 182, 176, 25, 4, 180, 0, 168, 21, 6, 160, 0, 31, 25, 4, 180, 0, 170, 89, 58, 7, 43]
abbrev dktJ20_getNode_4 : List UInt8 := dkwJ20_getNode_4 ++ dktJ20_getNode_5
def dkwJ20_getNode_3 : List UInt8 := [176, 45, 180, 0, 177, 89, 58, 4, 198, 0, 70, 45, 193, 0, 180, 153, 0, 14, 45, 192, 0, 180, 21, 6]
abbrev dktJ20_getNode_3 : List UInt8 := dkwJ20_getNode_3 ++ dktJ20_getNode_4
def dkwJ20_getNode_2 : List UInt8 := [180, 0, 170, 89, 58, 7, 43, 165, 0, 16, 43, 198, 0, 14, 43, 25, 7, 182, 0, 173, 153, 0, 5, 45]
abbrev dktJ20_getNode_2 : List UInt8 := dkwJ20_getNode_2 ++ dktJ20_getNode_3
def dkwJ20_getNode_1 : List UInt8 := [184, 0, 149, 89, 54, 6, 126, 50, 89, 78, 198, 0, 115, 45, 180, 0, 168, 21, 6, 160, 0, 29, 45]
abbrev dktJ20_getNode_1 : List UInt8 := dkwJ20_getNode_1 ++ dktJ20_getNode_2
def dkwJ20_getNode_0 : List UInt8 := [42, 180, 0, 105, 89, 77, 198, 0, 142, 44, 190, 89, 54, 5, 158, 0, 134, 44, 21, 5, 4, 100, 43]
abbrev dktJ20_getNode_0 : List UInt8 := dkwJ20_getNode_0 ++ dktJ20_getNode_1
theorem dksJ20_getNode_0 : cJ20_getNode.data.toList.drop 0 = dktJ20_getNode_0 := by decide +kernel
theorem dksJ20_getNode_1 : cJ20_getNode.data.toList.drop 23 = dktJ20_getNode_1 := dk_seg dksJ20_getNode_0 23 rfl rfl
theorem dksJ20_getNode_2 : cJ20_getNode.data.toList.drop 46 = dktJ20_getNode_2 := dk_seg dksJ20_getNode_1 23 rfl rfl
theorem dksJ20_getNode_3 : cJ20_getNode.data.toList.drop 70 = dktJ20_getNode_3 := dk_seg dksJ20_getNode_2 24 rfl rfl
theorem dksJ20_getNode_4 : cJ20_getNode.data.toList.drop 94 = dktJ20_getNode_4 := dk_seg dksJ20_getNode_3 24 rfl rfl
theorem dksJ20_getNode_5 : cJ20_getNode.data.toList.drop 118 = dktJ20_getNode_5 := dk_seg dksJ20_getNode_4 24 rfl rfl
theorem dksJ20_getNode_6 : cJ20_getNode.data.toList.drop 142 = dktJ20_getNode_6 := dk_seg dksJ20_getNode_5 24 rfl rfl
theorem dJ20_getNode_0 : decode cJ20_getNode 0 = .ok (.aload_n 0, 1) := dk_42 (dk_at dksJ20_getNode_0 0 rfl rfl)
theorem dJ20_getNode_1 : decode cJ20_getNode 1 = .ok (.getfield 105, 3) := dk_180 0 105 (dk_at dksJ20_getNode_0 1 rfl rfl)
theorem dJ20_getNode_4 : decode cJ20_getNode 4 = .ok (.dup, 1) := dk_89 (dk_at dksJ20_getNode_0 4 rfl rfl)
theorem dJ20_getNode_5 : decode cJ20_getNode 5 = .ok (.astore_n 2, 1) := dk_77 (dk_at dksJ20_getNode_0 5 rfl rfl)
theorem dJ20_getNode_6 : decode cJ20_getNode 6 = .ok (.ifnull 142, 3) := dk_198 0 142 (dk_at dksJ20_getNode_0 6 rfl rfl)
theorem dJ20_getNode_9 : decode cJ20_getNode 9 = .ok (.aload_n 2, 1) := dk_44 (dk_at dksJ20_getNode_0 9 rfl rfl)
theorem dJ20_getNode_10 : decode cJ20_getNode 10 = .ok (.arraylength, 1) := dk_190 (dk_at dksJ20_getNode_0 10 rfl rfl)
theorem dJ20_getNode_11 : decode cJ20_getNode 11 = .ok (.dup, 1) := dk_89 (dk_at dksJ20_getNode_0 11 rfl rfl)
theorem dJ20_getNode_12 : decode cJ20_getNode 12 = .ok (.istore 5, 2) := dk_54 5 (dk_at dksJ20_getNode_0 12 rfl rfl)
theorem dJ20_getNode_14 : decode cJ20_getNode 14 = .ok (.ifCond .le 134, 3) := dk_158 0 134 (dk_at dksJ20_getNode_0 14 rfl rfl)
theorem dJ20_getNode_17 : decode cJ20_getNode 17 = .ok (.aload_n 2, 1) := dk_44 (dk_at dksJ20_getNode_0 17 rfl rfl)
theorem dJ20_getNode_18 : decode cJ20_getNode 18 = .ok (.iload 5, 2) := dk_21 5 (dk_at dksJ20_getNode_0 18 rfl rfl)
theorem dJ20_getNode_20 : decode cJ20_getNode 20 = .ok (.iconst 1, 1) := dk_4 (dk_at dksJ20_getNode_0 20 rfl rfl)
theorem dJ20_getNode_21 : decode cJ20_getNode 21 = .ok (.isub, 1) := dk_100 (dk_at dksJ20_getNode_0 21 rfl rfl)
theorem dJ20_getNode_22 : decode cJ20_getNode 22 = .ok (.aload_n 1, 1) := dk_43 (dk_at dksJ20_getNode_0 22 rfl rfl)
theorem dJ20_getNode_23 : decode cJ20_getNode 23 = .ok (.invokestatic 149, 3) := dk_184 0 149 (dk_at dksJ20_getNode_1 0 rfl rfl)
theorem dJ20_getNode_26 : decode cJ20_getNode 26 = .ok (.dup, 1) := dk_89 (dk_at dksJ20_getNode_1 3 rfl rfl)
theorem dJ20_getNode_27 : decode cJ20_getNode 27 = .ok (.istore 6, 2) := dk_54 6 (dk_at dksJ20_getNode_1 4 rfl rfl)
theorem dJ20_getNode_29 : decode cJ20_getNode 29 = .ok (.iand, 1) := dk_126 (dk_at dksJ20_getNode_1 6 rfl rfl)
theorem dJ20_getNode_30 : decode cJ20_getNode 30 = .ok (.aaload, 1) := dk_50 (dk_at dksJ20_getNode_1 7 rfl rfl)
theorem dJ20_getNode_31 : decode cJ20_getNode 31 = .ok (.dup, 1) := dk_89 (dk_at dksJ20_getNode_1 8 rfl rfl)
theorem dJ20_getNode_32 : decode cJ20_getNode 32 = .ok (.astore_n 3, 1) := dk_78 (dk_at dksJ20_getNode_1 9 rfl rfl)
theorem dJ20_getNode_33 : decode cJ20_getNode 33 = .ok (.ifnull 115, 3) := dk_198 0 115 (dk_at dksJ20_getNode_1 10 rfl rfl)
theorem dJ20_getNode_36 : decode cJ20_getNode 36 = .ok (.aload_n 3, 1) := dk_45 (dk_at dksJ20_getNode_1 13 rfl rfl)
theorem dJ20_getNode_37 : decode cJ20_getNode 37 = .ok (.getfield 168, 3) := dk_180 0 168 (dk_at dksJ20_getNode_1 14 rfl rfl)
theorem dJ20_getNode_40 : decode cJ20_getNode 40 = .ok (.iload 6, 2) := dk_21 6 (dk_at dksJ20_getNode_1 17 rfl rfl)
theorem dJ20_getNode_42 : decode cJ20_getNode 42 = .ok (.if_icmp .ne 29, 3) := dk_160 0 29 (dk_at dksJ20_getNode_1 19 rfl rfl)
theorem dJ20_getNode_45 : decode cJ20_getNode 45 = .ok (.aload_n 3, 1) := dk_45 (dk_at dksJ20_getNode_1 22 rfl rfl)
theorem dJ20_getNode_46 : decode cJ20_getNode 46 = .ok (.getfield 170, 3) := dk_180 0 170 (dk_at dksJ20_getNode_2 0 rfl rfl)
theorem dJ20_getNode_49 : decode cJ20_getNode 49 = .ok (.dup, 1) := dk_89 (dk_at dksJ20_getNode_2 3 rfl rfl)
theorem dJ20_getNode_50 : decode cJ20_getNode 50 = .ok (.astore 7, 2) := dk_58 7 (dk_at dksJ20_getNode_2 4 rfl rfl)
theorem dJ20_getNode_52 : decode cJ20_getNode 52 = .ok (.aload_n 1, 1) := dk_43 (dk_at dksJ20_getNode_2 6 rfl rfl)
theorem dJ20_getNode_53 : decode cJ20_getNode 53 = .ok (.if_acmp .eq 16, 3) := dk_165 0 16 (dk_at dksJ20_getNode_2 7 rfl rfl)
theorem dJ20_getNode_56 : decode cJ20_getNode 56 = .ok (.aload_n 1, 1) := dk_43 (dk_at dksJ20_getNode_2 10 rfl rfl)
theorem dJ20_getNode_57 : decode cJ20_getNode 57 = .ok (.ifnull 14, 3) := dk_198 0 14 (dk_at dksJ20_getNode_2 11 rfl rfl)
theorem dJ20_getNode_60 : decode cJ20_getNode 60 = .ok (.aload_n 1, 1) := dk_43 (dk_at dksJ20_getNode_2 14 rfl rfl)
theorem dJ20_getNode_61 : decode cJ20_getNode 61 = .ok (.aload 7, 2) := dk_25 7 (dk_at dksJ20_getNode_2 15 rfl rfl)
theorem dJ20_getNode_63 : decode cJ20_getNode 63 = .ok (.invokevirtual 173, 3) := dk_182 0 173 (dk_at dksJ20_getNode_2 17 rfl rfl)
theorem dJ20_getNode_66 : decode cJ20_getNode 66 = .ok (.ifCond .eq 5, 3) := dk_153 0 5 (dk_at dksJ20_getNode_2 20 rfl rfl)
theorem dJ20_getNode_69 : decode cJ20_getNode 69 = .ok (.aload_n 3, 1) := dk_45 (dk_at dksJ20_getNode_2 23 rfl rfl)
theorem dJ20_getNode_70 : decode cJ20_getNode 70 = .ok (.areturn, 1) := dk_176 (dk_at dksJ20_getNode_3 0 rfl rfl)
theorem dJ20_getNode_71 : decode cJ20_getNode 71 = .ok (.aload_n 3, 1) := dk_45 (dk_at dksJ20_getNode_3 1 rfl rfl)
theorem dJ20_getNode_72 : decode cJ20_getNode 72 = .ok (.getfield 177, 3) := dk_180 0 177 (dk_at dksJ20_getNode_3 2 rfl rfl)
theorem dJ20_getNode_75 : decode cJ20_getNode 75 = .ok (.dup, 1) := dk_89 (dk_at dksJ20_getNode_3 5 rfl rfl)
theorem dJ20_getNode_76 : decode cJ20_getNode 76 = .ok (.astore 4, 2) := dk_58 4 (dk_at dksJ20_getNode_3 6 rfl rfl)
theorem dJ20_getNode_78 : decode cJ20_getNode 78 = .ok (.ifnull 70, 3) := dk_198 0 70 (dk_at dksJ20_getNode_3 8 rfl rfl)
theorem dJ20_getNode_81 : decode cJ20_getNode 81 = .ok (.aload_n 3, 1) := dk_45 (dk_at dksJ20_getNode_3 11 rfl rfl)
theorem dJ20_getNode_82 : decode cJ20_getNode 82 = .ok (.instanceof 180, 3) := dk_193 0 180 (dk_at dksJ20_getNode_3 12 rfl rfl)
theorem dJ20_getNode_85 : decode cJ20_getNode 85 = .ok (.ifCond .eq 14, 3) := dk_153 0 14 (dk_at dksJ20_getNode_3 15 rfl rfl)
theorem dJ20_getNode_88 : decode cJ20_getNode 88 = .ok (.aload_n 3, 1) := dk_45 (dk_at dksJ20_getNode_3 18 rfl rfl)
theorem dJ20_getNode_89 : decode cJ20_getNode 89 = .ok (.checkcast 180, 3) := dk_192 0 180 (dk_at dksJ20_getNode_3 19 rfl rfl)
theorem dJ20_getNode_92 : decode cJ20_getNode 92 = .ok (.iload 6, 2) := dk_21 6 (dk_at dksJ20_getNode_3 22 rfl rfl)
theorem dJ20_getNode_94 : decode cJ20_getNode 94 = .ok (.aload_n 1, 1) := dk_43 (dk_at dksJ20_getNode_4 0 rfl rfl)
theorem dJ20_getNode_95 : decode cJ20_getNode 95 = .ok (.invokevirtual 182, 3) := dk_182 0 182 (dk_at dksJ20_getNode_4 1 rfl rfl)
theorem dJ20_getNode_98 : decode cJ20_getNode 98 = .ok (.areturn, 1) := dk_176 (dk_at dksJ20_getNode_4 4 rfl rfl)
theorem dJ20_getNode_99 : decode cJ20_getNode 99 = .ok (.aload 4, 2) := dk_25 4 (dk_at dksJ20_getNode_4 5 rfl rfl)
theorem dJ20_getNode_101 : decode cJ20_getNode 101 = .ok (.getfield 168, 3) := dk_180 0 168 (dk_at dksJ20_getNode_4 7 rfl rfl)
theorem dJ20_getNode_104 : decode cJ20_getNode 104 = .ok (.iload 6, 2) := dk_21 6 (dk_at dksJ20_getNode_4 10 rfl rfl)
theorem dJ20_getNode_106 : decode cJ20_getNode 106 = .ok (.if_icmp .ne 31, 3) := dk_160 0 31 (dk_at dksJ20_getNode_4 12 rfl rfl)
theorem dJ20_getNode_109 : decode cJ20_getNode 109 = .ok (.aload 4, 2) := dk_25 4 (dk_at dksJ20_getNode_4 15 rfl rfl)
theorem dJ20_getNode_111 : decode cJ20_getNode 111 = .ok (.getfield 170, 3) := dk_180 0 170 (dk_at dksJ20_getNode_4 17 rfl rfl)
theorem dJ20_getNode_114 : decode cJ20_getNode 114 = .ok (.dup, 1) := dk_89 (dk_at dksJ20_getNode_4 20 rfl rfl)
theorem dJ20_getNode_115 : decode cJ20_getNode 115 = .ok (.astore 7, 2) := dk_58 7 (dk_at dksJ20_getNode_4 21 rfl rfl)
theorem dJ20_getNode_117 : decode cJ20_getNode 117 = .ok (.aload_n 1, 1) := dk_43 (dk_at dksJ20_getNode_4 23 rfl rfl)
theorem dJ20_getNode_118 : decode cJ20_getNode 118 = .ok (.if_acmp .eq 16, 3) := dk_165 0 16 (dk_at dksJ20_getNode_5 0 rfl rfl)
theorem dJ20_getNode_121 : decode cJ20_getNode 121 = .ok (.aload_n 1, 1) := dk_43 (dk_at dksJ20_getNode_5 3 rfl rfl)
theorem dJ20_getNode_122 : decode cJ20_getNode 122 = .ok (.ifnull 15, 3) := dk_198 0 15 (dk_at dksJ20_getNode_5 4 rfl rfl)
theorem dJ20_getNode_125 : decode cJ20_getNode 125 = .ok (.aload_n 1, 1) := dk_43 (dk_at dksJ20_getNode_5 7 rfl rfl)
theorem dJ20_getNode_126 : decode cJ20_getNode 126 = .ok (.aload 7, 2) := dk_25 7 (dk_at dksJ20_getNode_5 8 rfl rfl)
theorem dJ20_getNode_128 : decode cJ20_getNode 128 = .ok (.invokevirtual 173, 3) := dk_182 0 173 (dk_at dksJ20_getNode_5 10 rfl rfl)
theorem dJ20_getNode_131 : decode cJ20_getNode 131 = .ok (.ifCond .eq 6, 3) := dk_153 0 6 (dk_at dksJ20_getNode_5 13 rfl rfl)
theorem dJ20_getNode_134 : decode cJ20_getNode 134 = .ok (.aload 4, 2) := dk_25 4 (dk_at dksJ20_getNode_5 16 rfl rfl)
theorem dJ20_getNode_136 : decode cJ20_getNode 136 = .ok (.areturn, 1) := dk_176 (dk_at dksJ20_getNode_5 18 rfl rfl)
theorem dJ20_getNode_137 : decode cJ20_getNode 137 = .ok (.aload 4, 2) := dk_25 4 (dk_at dksJ20_getNode_5 19 rfl rfl)
theorem dJ20_getNode_139 : decode cJ20_getNode 139 = .ok (.getfield 177, 3) := dk_180 0 177 (dk_at dksJ20_getNode_5 21 rfl rfl)
theorem dJ20_getNode_142 : decode cJ20_getNode 142 = .ok (.dup, 1) := dk_89 (dk_at dksJ20_getNode_6 0 rfl rfl)
theorem dJ20_getNode_143 : decode cJ20_getNode 143 = .ok (.astore 4, 2) := dk_58 4 (dk_at dksJ20_getNode_6 1 rfl rfl)
theorem dJ20_getNode_145 : decode cJ20_getNode 145 = .ok (.ifnonnull (-46), 3) := dk_199 255 210 (dk_at dksJ20_getNode_6 3 rfl rfl)
theorem dJ20_getNode_148 : decode cJ20_getNode 148 = .ok (.aconst_null, 1) := dk_1 (dk_at dksJ20_getNode_6 6 rfl rfl)
theorem dJ20_getNode_149 : decode cJ20_getNode 149 = .ok (.areturn, 1) := dk_176 (dk_at dksJ20_getNode_6 7 rfl rfl)
abbrev cJ20_containsKey : ByteArray := prog_59_method_14_code
def yJ20_containsKey : MethodName := ⟨RJ20, "containsKey", "(Ljava/lang/Object;)Z"⟩
def dkwJ20_containsKey_0 : List UInt8 := [42, 43, 182, 0, 158, 198, 0, 7, 4, 167, 0, 4, 3, 172]
abbrev dktJ20_containsKey_0 : List UInt8 := dkwJ20_containsKey_0 ++ []
theorem dksJ20_containsKey_0 : cJ20_containsKey.data.toList.drop 0 = dktJ20_containsKey_0 := by decide +kernel
theorem dJ20_containsKey_0 : decode cJ20_containsKey 0 = .ok (.aload_n 0, 1) := dk_42 (dk_at dksJ20_containsKey_0 0 rfl rfl)
theorem dJ20_containsKey_1 : decode cJ20_containsKey 1 = .ok (.aload_n 1, 1) := dk_43 (dk_at dksJ20_containsKey_0 1 rfl rfl)
theorem dJ20_containsKey_2 : decode cJ20_containsKey 2 = .ok (.invokevirtual 158, 3) := dk_182 0 158 (dk_at dksJ20_containsKey_0 2 rfl rfl)
theorem dJ20_containsKey_5 : decode cJ20_containsKey 5 = .ok (.ifnull 7, 3) := dk_198 0 7 (dk_at dksJ20_containsKey_0 5 rfl rfl)
theorem dJ20_containsKey_8 : decode cJ20_containsKey 8 = .ok (.iconst 1, 1) := dk_4 (dk_at dksJ20_containsKey_0 8 rfl rfl)
theorem dJ20_containsKey_9 : decode cJ20_containsKey 9 = .ok (.goto 4, 3) := dk_167 0 4 (dk_at dksJ20_containsKey_0 9 rfl rfl)
theorem dJ20_containsKey_12 : decode cJ20_containsKey 12 = .ok (.iconst 0, 1) := dk_3 (dk_at dksJ20_containsKey_0 12 rfl rfl)
theorem dJ20_containsKey_13 : decode cJ20_containsKey 13 = .ok (.ireturn, 1) := dk_172 (dk_at dksJ20_containsKey_0 13 rfl rfl)
abbrev cJ20_remove : ByteArray := prog_59_method_20_code
def yJ20_remove : MethodName := ⟨RJ20, "remove", "(Ljava/lang/Object;)Ljava/lang/Object;"⟩
def dkwJ20_remove_1 : List UInt8 := [180, 0, 162, 176]
abbrev dktJ20_remove_1 : List UInt8 := dkwJ20_remove_1 ++ []
def dkwJ20_remove_0 : List UInt8 := [42, 43, 184, 0, 149, 43, 1, 3, 4, 182, 0, 228, 89, 77, 199, 0, 7, 1, 167, 0, 7, 44]
abbrev dktJ20_remove_0 : List UInt8 := dkwJ20_remove_0 ++ dktJ20_remove_1
theorem dksJ20_remove_0 : cJ20_remove.data.toList.drop 0 = dktJ20_remove_0 := by decide +kernel
theorem dksJ20_remove_1 : cJ20_remove.data.toList.drop 22 = dktJ20_remove_1 := dk_seg dksJ20_remove_0 22 rfl rfl
theorem dJ20_remove_0 : decode cJ20_remove 0 = .ok (.aload_n 0, 1) := dk_42 (dk_at dksJ20_remove_0 0 rfl rfl)
theorem dJ20_remove_1 : decode cJ20_remove 1 = .ok (.aload_n 1, 1) := dk_43 (dk_at dksJ20_remove_0 1 rfl rfl)
theorem dJ20_remove_2 : decode cJ20_remove 2 = .ok (.invokestatic 149, 3) := dk_184 0 149 (dk_at dksJ20_remove_0 2 rfl rfl)
theorem dJ20_remove_5 : decode cJ20_remove 5 = .ok (.aload_n 1, 1) := dk_43 (dk_at dksJ20_remove_0 5 rfl rfl)
theorem dJ20_remove_6 : decode cJ20_remove 6 = .ok (.aconst_null, 1) := dk_1 (dk_at dksJ20_remove_0 6 rfl rfl)
theorem dJ20_remove_7 : decode cJ20_remove 7 = .ok (.iconst 0, 1) := dk_3 (dk_at dksJ20_remove_0 7 rfl rfl)
theorem dJ20_remove_8 : decode cJ20_remove 8 = .ok (.iconst 1, 1) := dk_4 (dk_at dksJ20_remove_0 8 rfl rfl)
theorem dJ20_remove_9 : decode cJ20_remove 9 = .ok (.invokevirtual 228, 3) := dk_182 0 228 (dk_at dksJ20_remove_0 9 rfl rfl)
theorem dJ20_remove_12 : decode cJ20_remove 12 = .ok (.dup, 1) := dk_89 (dk_at dksJ20_remove_0 12 rfl rfl)
theorem dJ20_remove_13 : decode cJ20_remove 13 = .ok (.astore_n 2, 1) := dk_77 (dk_at dksJ20_remove_0 13 rfl rfl)
theorem dJ20_remove_14 : decode cJ20_remove 14 = .ok (.ifnonnull 7, 3) := dk_199 0 7 (dk_at dksJ20_remove_0 14 rfl rfl)
theorem dJ20_remove_17 : decode cJ20_remove 17 = .ok (.aconst_null, 1) := dk_1 (dk_at dksJ20_remove_0 17 rfl rfl)
theorem dJ20_remove_18 : decode cJ20_remove 18 = .ok (.goto 7, 3) := dk_167 0 7 (dk_at dksJ20_remove_0 18 rfl rfl)
theorem dJ20_remove_21 : decode cJ20_remove 21 = .ok (.aload_n 2, 1) := dk_44 (dk_at dksJ20_remove_0 21 rfl rfl)
theorem dJ20_remove_22 : decode cJ20_remove 22 = .ok (.getfield 162, 3) := dk_180 0 162 (dk_at dksJ20_remove_1 0 rfl rfl)
theorem dJ20_remove_25 : decode cJ20_remove 25 = .ok (.areturn, 1) := dk_176 (dk_at dksJ20_remove_1 3 rfl rfl)
abbrev cJ20_removeNode : ByteArray := prog_59_method_21_code
def yJ20_removeNode : MethodName := ⟨RJ20, "removeNode", "(ILjava/lang/Object;Ljava/lang/Object;ZZ)Ljava/util/HashMap$Node;"⟩
def dkwJ20_removeNode_12 : List UInt8 := [181, 0, 156, 42, 25, 10, 182, 0, 236, 25, 10, 176, 1, 176]
abbrev dktJ20_removeNode_12 : List UInt8 := dkwJ20_removeNode_12 ++ []
def dkwJ20_removeNode_11 : List UInt8 := [180, 0, 177, 181, 0, 177, 42, 89, 180, 0, 202, 4, 96, 181, 0, 202, 42, 89, 180, 0, 156, 4, 100]
abbrev dktJ20_removeNode_11 : List UInt8 := dkwJ20_removeNode_11 ++ dktJ20_removeNode_12
def dkwJ20_removeNode_10 : List UInt8 := [25, 10, 25, 7, 166, 0, 16, 25, 6, 21, 9, 25, 10, 180, 0, 177, 83, 167, 0, 13, 25, 7, 25, 10]
abbrev dktJ20_removeNode_10 : List UInt8 := dkwJ20_removeNode_10 ++ dktJ20_removeNode_11
def dkwJ20_removeNode_9 : List UInt8 := [25, 10, 193, 0, 180, 153, 0, 19, 25, 10, 192, 0, 180, 42, 25, 6, 21, 5, 182, 0, 232, 167, 0, 33]
abbrev dktJ20_removeNode_9 : List UInt8 := dkwJ20_removeNode_9 ++ dktJ20_removeNode_10
def dkwJ20_removeNode_8 : List UInt8 := [180, 0, 162, 89, 58, 13, 45, 165, 0, 16, 45, 198, 0, 95, 45, 25, 13, 182, 0, 173, 153, 0, 86]
abbrev dktJ20_removeNode_8 : List UInt8 := dkwJ20_removeNode_8 ++ dktJ20_removeNode_9
def dkwJ20_removeNode_7 : List UInt8 := [25, 11, 180, 0, 177, 89, 58, 11, 199, 255, 203, 25, 10, 198, 0, 116, 21, 4, 153, 0, 28, 25, 10]
abbrev dktJ20_removeNode_7 : List UInt8 := dkwJ20_removeNode_7 ++ dktJ20_removeNode_8
def dkwJ20_removeNode_6 : List UInt8 := [198, 0, 19, 44, 25, 12, 182, 0, 173, 153, 0, 10, 25, 11, 58, 10, 167, 0, 18, 25, 11, 58, 7]
abbrev dktJ20_removeNode_6 : List UInt8 := dkwJ20_removeNode_6 ++ dktJ20_removeNode_7
def dkwJ20_removeNode_5 : List UInt8 := [25, 11, 180, 0, 168, 27, 160, 0, 35, 25, 11, 180, 0, 170, 89, 58, 12, 44, 165, 0, 16, 44]
abbrev dktJ20_removeNode_5 : List UInt8 := dkwJ20_removeNode_5 ++ dktJ20_removeNode_6
def dkwJ20_removeNode_4 : List UInt8 := [25, 7, 193, 0, 180, 153, 0, 18, 25, 7, 192, 0, 180, 27, 44, 182, 0, 182, 58, 10, 167, 0, 59]
abbrev dktJ20_removeNode_4 : List UInt8 := dkwJ20_removeNode_4 ++ dktJ20_removeNode_5
def dkwJ20_removeNode_3 : List UInt8 := [182, 0, 173, 153, 0, 10, 25, 7, 58, 10, 167, 0, 93, 25, 7, 180, 0, 177, 89, 58, 11, 198, 0, 82]
abbrev dktJ20_removeNode_3 : List UInt8 := dkwJ20_removeNode_3 ++ dktJ20_removeNode_4
def dkwJ20_removeNode_2 : List UInt8 := [160, 0, 35, 25, 7, 180, 0, 170, 89, 58, 12, 44, 165, 0, 16, 44, 198, 0, 19, 44, 25, 12]
abbrev dktJ20_removeNode_2 : List UInt8 := dkwJ20_removeNode_2 ++ dktJ20_removeNode_3
def dkwJ20_removeNode_1 : List UInt8 := [100, 27, 126, 89, 54, 9, 50, 89, 58, 7, 198, 0, 255, 1, 58, 10, 25, 7, 180, 0, 168, 27]
abbrev dktJ20_removeNode_1 : List UInt8 := dkwJ20_removeNode_1 ++ dktJ20_removeNode_2
def dkwJ20_removeNode_0 : List UInt8 := [42, 180, 0, 105, 89, 58, 6, 198, 1, 26, 25, 6, 190, 89, 54, 8, 158, 1, 17, 25, 6, 21, 8, 4]
abbrev dktJ20_removeNode_0 : List UInt8 := dkwJ20_removeNode_0 ++ dktJ20_removeNode_1
theorem dksJ20_removeNode_0 : cJ20_removeNode.data.toList.drop 0 = dktJ20_removeNode_0 := by decide +kernel
theorem dksJ20_removeNode_1 : cJ20_removeNode.data.toList.drop 24 = dktJ20_removeNode_1 := dk_seg dksJ20_removeNode_0 24 rfl rfl
theorem dksJ20_removeNode_2 : cJ20_removeNode.data.toList.drop 46 = dktJ20_removeNode_2 := dk_seg dksJ20_removeNode_1 22 rfl rfl
theorem dksJ20_removeNode_3 : cJ20_removeNode.data.toList.drop 68 = dktJ20_removeNode_3 := dk_seg dksJ20_removeNode_2 22 rfl rfl
theorem dksJ20_removeNode_4 : cJ20_removeNode.data.toList.drop 92 = dktJ20_removeNode_4 := dk_seg dksJ20_removeNode_3 24 rfl rfl
theorem dksJ20_removeNode_5 : cJ20_removeNode.data.toList.drop 115 = dktJ20_removeNode_5 := dk_seg dksJ20_removeNode_4 23 rfl rfl
theorem dksJ20_removeNode_6 : cJ20_removeNode.data.toList.drop 137 = dktJ20_removeNode_6 := dk_seg dksJ20_removeNode_5 22 rfl rfl
theorem dksJ20_removeNode_7 : cJ20_removeNode.data.toList.drop 160 = dktJ20_removeNode_7 := dk_seg dksJ20_removeNode_6 23 rfl rfl
theorem dksJ20_removeNode_8 : cJ20_removeNode.data.toList.drop 183 = dktJ20_removeNode_8 := dk_seg dksJ20_removeNode_7 23 rfl rfl
theorem dksJ20_removeNode_9 : cJ20_removeNode.data.toList.drop 206 = dktJ20_removeNode_9 := dk_seg dksJ20_removeNode_8 23 rfl rfl
theorem dksJ20_removeNode_10 : cJ20_removeNode.data.toList.drop 230 = dktJ20_removeNode_10 := dk_seg dksJ20_removeNode_9 24 rfl rfl
theorem dksJ20_removeNode_11 : cJ20_removeNode.data.toList.drop 254 = dktJ20_removeNode_11 := dk_seg dksJ20_removeNode_10 24 rfl rfl
theorem dksJ20_removeNode_12 : cJ20_removeNode.data.toList.drop 277 = dktJ20_removeNode_12 := dk_seg dksJ20_removeNode_11 23 rfl rfl
theorem dJ20_removeNode_0 : decode cJ20_removeNode 0 = .ok (.aload_n 0, 1) := dk_42 (dk_at dksJ20_removeNode_0 0 rfl rfl)
theorem dJ20_removeNode_1 : decode cJ20_removeNode 1 = .ok (.getfield 105, 3) := dk_180 0 105 (dk_at dksJ20_removeNode_0 1 rfl rfl)
theorem dJ20_removeNode_4 : decode cJ20_removeNode 4 = .ok (.dup, 1) := dk_89 (dk_at dksJ20_removeNode_0 4 rfl rfl)
theorem dJ20_removeNode_5 : decode cJ20_removeNode 5 = .ok (.astore 6, 2) := dk_58 6 (dk_at dksJ20_removeNode_0 5 rfl rfl)
theorem dJ20_removeNode_7 : decode cJ20_removeNode 7 = .ok (.ifnull 282, 3) := dk_198 1 26 (dk_at dksJ20_removeNode_0 7 rfl rfl)
theorem dJ20_removeNode_10 : decode cJ20_removeNode 10 = .ok (.aload 6, 2) := dk_25 6 (dk_at dksJ20_removeNode_0 10 rfl rfl)
theorem dJ20_removeNode_12 : decode cJ20_removeNode 12 = .ok (.arraylength, 1) := dk_190 (dk_at dksJ20_removeNode_0 12 rfl rfl)
theorem dJ20_removeNode_13 : decode cJ20_removeNode 13 = .ok (.dup, 1) := dk_89 (dk_at dksJ20_removeNode_0 13 rfl rfl)
theorem dJ20_removeNode_14 : decode cJ20_removeNode 14 = .ok (.istore 8, 2) := dk_54 8 (dk_at dksJ20_removeNode_0 14 rfl rfl)
theorem dJ20_removeNode_16 : decode cJ20_removeNode 16 = .ok (.ifCond .le 273, 3) := dk_158 1 17 (dk_at dksJ20_removeNode_0 16 rfl rfl)
theorem dJ20_removeNode_19 : decode cJ20_removeNode 19 = .ok (.aload 6, 2) := dk_25 6 (dk_at dksJ20_removeNode_0 19 rfl rfl)
theorem dJ20_removeNode_21 : decode cJ20_removeNode 21 = .ok (.iload 8, 2) := dk_21 8 (dk_at dksJ20_removeNode_0 21 rfl rfl)
theorem dJ20_removeNode_23 : decode cJ20_removeNode 23 = .ok (.iconst 1, 1) := dk_4 (dk_at dksJ20_removeNode_0 23 rfl rfl)
theorem dJ20_removeNode_24 : decode cJ20_removeNode 24 = .ok (.isub, 1) := dk_100 (dk_at dksJ20_removeNode_1 0 rfl rfl)
theorem dJ20_removeNode_25 : decode cJ20_removeNode 25 = .ok (.iload_n 1, 1) := dk_27 (dk_at dksJ20_removeNode_1 1 rfl rfl)
theorem dJ20_removeNode_26 : decode cJ20_removeNode 26 = .ok (.iand, 1) := dk_126 (dk_at dksJ20_removeNode_1 2 rfl rfl)
theorem dJ20_removeNode_27 : decode cJ20_removeNode 27 = .ok (.dup, 1) := dk_89 (dk_at dksJ20_removeNode_1 3 rfl rfl)
theorem dJ20_removeNode_28 : decode cJ20_removeNode 28 = .ok (.istore 9, 2) := dk_54 9 (dk_at dksJ20_removeNode_1 4 rfl rfl)
theorem dJ20_removeNode_30 : decode cJ20_removeNode 30 = .ok (.aaload, 1) := dk_50 (dk_at dksJ20_removeNode_1 6 rfl rfl)
theorem dJ20_removeNode_31 : decode cJ20_removeNode 31 = .ok (.dup, 1) := dk_89 (dk_at dksJ20_removeNode_1 7 rfl rfl)
theorem dJ20_removeNode_32 : decode cJ20_removeNode 32 = .ok (.astore 7, 2) := dk_58 7 (dk_at dksJ20_removeNode_1 8 rfl rfl)
theorem dJ20_removeNode_34 : decode cJ20_removeNode 34 = .ok (.ifnull 255, 3) := dk_198 0 255 (dk_at dksJ20_removeNode_1 10 rfl rfl)
theorem dJ20_removeNode_37 : decode cJ20_removeNode 37 = .ok (.aconst_null, 1) := dk_1 (dk_at dksJ20_removeNode_1 13 rfl rfl)
theorem dJ20_removeNode_38 : decode cJ20_removeNode 38 = .ok (.astore 10, 2) := dk_58 10 (dk_at dksJ20_removeNode_1 14 rfl rfl)
theorem dJ20_removeNode_40 : decode cJ20_removeNode 40 = .ok (.aload 7, 2) := dk_25 7 (dk_at dksJ20_removeNode_1 16 rfl rfl)
theorem dJ20_removeNode_42 : decode cJ20_removeNode 42 = .ok (.getfield 168, 3) := dk_180 0 168 (dk_at dksJ20_removeNode_1 18 rfl rfl)
theorem dJ20_removeNode_45 : decode cJ20_removeNode 45 = .ok (.iload_n 1, 1) := dk_27 (dk_at dksJ20_removeNode_1 21 rfl rfl)
theorem dJ20_removeNode_46 : decode cJ20_removeNode 46 = .ok (.if_icmp .ne 35, 3) := dk_160 0 35 (dk_at dksJ20_removeNode_2 0 rfl rfl)
theorem dJ20_removeNode_49 : decode cJ20_removeNode 49 = .ok (.aload 7, 2) := dk_25 7 (dk_at dksJ20_removeNode_2 3 rfl rfl)
theorem dJ20_removeNode_51 : decode cJ20_removeNode 51 = .ok (.getfield 170, 3) := dk_180 0 170 (dk_at dksJ20_removeNode_2 5 rfl rfl)
theorem dJ20_removeNode_54 : decode cJ20_removeNode 54 = .ok (.dup, 1) := dk_89 (dk_at dksJ20_removeNode_2 8 rfl rfl)
theorem dJ20_removeNode_55 : decode cJ20_removeNode 55 = .ok (.astore 12, 2) := dk_58 12 (dk_at dksJ20_removeNode_2 9 rfl rfl)
theorem dJ20_removeNode_57 : decode cJ20_removeNode 57 = .ok (.aload_n 2, 1) := dk_44 (dk_at dksJ20_removeNode_2 11 rfl rfl)
theorem dJ20_removeNode_58 : decode cJ20_removeNode 58 = .ok (.if_acmp .eq 16, 3) := dk_165 0 16 (dk_at dksJ20_removeNode_2 12 rfl rfl)
theorem dJ20_removeNode_61 : decode cJ20_removeNode 61 = .ok (.aload_n 2, 1) := dk_44 (dk_at dksJ20_removeNode_2 15 rfl rfl)
theorem dJ20_removeNode_62 : decode cJ20_removeNode 62 = .ok (.ifnull 19, 3) := dk_198 0 19 (dk_at dksJ20_removeNode_2 16 rfl rfl)
theorem dJ20_removeNode_65 : decode cJ20_removeNode 65 = .ok (.aload_n 2, 1) := dk_44 (dk_at dksJ20_removeNode_2 19 rfl rfl)
theorem dJ20_removeNode_66 : decode cJ20_removeNode 66 = .ok (.aload 12, 2) := dk_25 12 (dk_at dksJ20_removeNode_2 20 rfl rfl)
theorem dJ20_removeNode_68 : decode cJ20_removeNode 68 = .ok (.invokevirtual 173, 3) := dk_182 0 173 (dk_at dksJ20_removeNode_3 0 rfl rfl)
theorem dJ20_removeNode_71 : decode cJ20_removeNode 71 = .ok (.ifCond .eq 10, 3) := dk_153 0 10 (dk_at dksJ20_removeNode_3 3 rfl rfl)
theorem dJ20_removeNode_74 : decode cJ20_removeNode 74 = .ok (.aload 7, 2) := dk_25 7 (dk_at dksJ20_removeNode_3 6 rfl rfl)
theorem dJ20_removeNode_76 : decode cJ20_removeNode 76 = .ok (.astore 10, 2) := dk_58 10 (dk_at dksJ20_removeNode_3 8 rfl rfl)
theorem dJ20_removeNode_78 : decode cJ20_removeNode 78 = .ok (.goto 93, 3) := dk_167 0 93 (dk_at dksJ20_removeNode_3 10 rfl rfl)
theorem dJ20_removeNode_81 : decode cJ20_removeNode 81 = .ok (.aload 7, 2) := dk_25 7 (dk_at dksJ20_removeNode_3 13 rfl rfl)
theorem dJ20_removeNode_83 : decode cJ20_removeNode 83 = .ok (.getfield 177, 3) := dk_180 0 177 (dk_at dksJ20_removeNode_3 15 rfl rfl)
theorem dJ20_removeNode_86 : decode cJ20_removeNode 86 = .ok (.dup, 1) := dk_89 (dk_at dksJ20_removeNode_3 18 rfl rfl)
theorem dJ20_removeNode_87 : decode cJ20_removeNode 87 = .ok (.astore 11, 2) := dk_58 11 (dk_at dksJ20_removeNode_3 19 rfl rfl)
theorem dJ20_removeNode_89 : decode cJ20_removeNode 89 = .ok (.ifnull 82, 3) := dk_198 0 82 (dk_at dksJ20_removeNode_3 21 rfl rfl)
theorem dJ20_removeNode_92 : decode cJ20_removeNode 92 = .ok (.aload 7, 2) := dk_25 7 (dk_at dksJ20_removeNode_4 0 rfl rfl)
theorem dJ20_removeNode_94 : decode cJ20_removeNode 94 = .ok (.instanceof 180, 3) := dk_193 0 180 (dk_at dksJ20_removeNode_4 2 rfl rfl)
theorem dJ20_removeNode_97 : decode cJ20_removeNode 97 = .ok (.ifCond .eq 18, 3) := dk_153 0 18 (dk_at dksJ20_removeNode_4 5 rfl rfl)
theorem dJ20_removeNode_100 : decode cJ20_removeNode 100 = .ok (.aload 7, 2) := dk_25 7 (dk_at dksJ20_removeNode_4 8 rfl rfl)
theorem dJ20_removeNode_102 : decode cJ20_removeNode 102 = .ok (.checkcast 180, 3) := dk_192 0 180 (dk_at dksJ20_removeNode_4 10 rfl rfl)
theorem dJ20_removeNode_105 : decode cJ20_removeNode 105 = .ok (.iload_n 1, 1) := dk_27 (dk_at dksJ20_removeNode_4 13 rfl rfl)
theorem dJ20_removeNode_106 : decode cJ20_removeNode 106 = .ok (.aload_n 2, 1) := dk_44 (dk_at dksJ20_removeNode_4 14 rfl rfl)
theorem dJ20_removeNode_107 : decode cJ20_removeNode 107 = .ok (.invokevirtual 182, 3) := dk_182 0 182 (dk_at dksJ20_removeNode_4 15 rfl rfl)
theorem dJ20_removeNode_110 : decode cJ20_removeNode 110 = .ok (.astore 10, 2) := dk_58 10 (dk_at dksJ20_removeNode_4 18 rfl rfl)
theorem dJ20_removeNode_112 : decode cJ20_removeNode 112 = .ok (.goto 59, 3) := dk_167 0 59 (dk_at dksJ20_removeNode_4 20 rfl rfl)
theorem dJ20_removeNode_115 : decode cJ20_removeNode 115 = .ok (.aload 11, 2) := dk_25 11 (dk_at dksJ20_removeNode_5 0 rfl rfl)
theorem dJ20_removeNode_117 : decode cJ20_removeNode 117 = .ok (.getfield 168, 3) := dk_180 0 168 (dk_at dksJ20_removeNode_5 2 rfl rfl)
theorem dJ20_removeNode_120 : decode cJ20_removeNode 120 = .ok (.iload_n 1, 1) := dk_27 (dk_at dksJ20_removeNode_5 5 rfl rfl)
theorem dJ20_removeNode_121 : decode cJ20_removeNode 121 = .ok (.if_icmp .ne 35, 3) := dk_160 0 35 (dk_at dksJ20_removeNode_5 6 rfl rfl)
theorem dJ20_removeNode_124 : decode cJ20_removeNode 124 = .ok (.aload 11, 2) := dk_25 11 (dk_at dksJ20_removeNode_5 9 rfl rfl)
theorem dJ20_removeNode_126 : decode cJ20_removeNode 126 = .ok (.getfield 170, 3) := dk_180 0 170 (dk_at dksJ20_removeNode_5 11 rfl rfl)
theorem dJ20_removeNode_129 : decode cJ20_removeNode 129 = .ok (.dup, 1) := dk_89 (dk_at dksJ20_removeNode_5 14 rfl rfl)
theorem dJ20_removeNode_130 : decode cJ20_removeNode 130 = .ok (.astore 12, 2) := dk_58 12 (dk_at dksJ20_removeNode_5 15 rfl rfl)
theorem dJ20_removeNode_132 : decode cJ20_removeNode 132 = .ok (.aload_n 2, 1) := dk_44 (dk_at dksJ20_removeNode_5 17 rfl rfl)
theorem dJ20_removeNode_133 : decode cJ20_removeNode 133 = .ok (.if_acmp .eq 16, 3) := dk_165 0 16 (dk_at dksJ20_removeNode_5 18 rfl rfl)
theorem dJ20_removeNode_136 : decode cJ20_removeNode 136 = .ok (.aload_n 2, 1) := dk_44 (dk_at dksJ20_removeNode_5 21 rfl rfl)
theorem dJ20_removeNode_137 : decode cJ20_removeNode 137 = .ok (.ifnull 19, 3) := dk_198 0 19 (dk_at dksJ20_removeNode_6 0 rfl rfl)
theorem dJ20_removeNode_140 : decode cJ20_removeNode 140 = .ok (.aload_n 2, 1) := dk_44 (dk_at dksJ20_removeNode_6 3 rfl rfl)
theorem dJ20_removeNode_141 : decode cJ20_removeNode 141 = .ok (.aload 12, 2) := dk_25 12 (dk_at dksJ20_removeNode_6 4 rfl rfl)
theorem dJ20_removeNode_143 : decode cJ20_removeNode 143 = .ok (.invokevirtual 173, 3) := dk_182 0 173 (dk_at dksJ20_removeNode_6 6 rfl rfl)
theorem dJ20_removeNode_146 : decode cJ20_removeNode 146 = .ok (.ifCond .eq 10, 3) := dk_153 0 10 (dk_at dksJ20_removeNode_6 9 rfl rfl)
theorem dJ20_removeNode_149 : decode cJ20_removeNode 149 = .ok (.aload 11, 2) := dk_25 11 (dk_at dksJ20_removeNode_6 12 rfl rfl)
theorem dJ20_removeNode_151 : decode cJ20_removeNode 151 = .ok (.astore 10, 2) := dk_58 10 (dk_at dksJ20_removeNode_6 14 rfl rfl)
theorem dJ20_removeNode_153 : decode cJ20_removeNode 153 = .ok (.goto 18, 3) := dk_167 0 18 (dk_at dksJ20_removeNode_6 16 rfl rfl)
theorem dJ20_removeNode_156 : decode cJ20_removeNode 156 = .ok (.aload 11, 2) := dk_25 11 (dk_at dksJ20_removeNode_6 19 rfl rfl)
theorem dJ20_removeNode_158 : decode cJ20_removeNode 158 = .ok (.astore 7, 2) := dk_58 7 (dk_at dksJ20_removeNode_6 21 rfl rfl)
theorem dJ20_removeNode_160 : decode cJ20_removeNode 160 = .ok (.aload 11, 2) := dk_25 11 (dk_at dksJ20_removeNode_7 0 rfl rfl)
theorem dJ20_removeNode_162 : decode cJ20_removeNode 162 = .ok (.getfield 177, 3) := dk_180 0 177 (dk_at dksJ20_removeNode_7 2 rfl rfl)
theorem dJ20_removeNode_165 : decode cJ20_removeNode 165 = .ok (.dup, 1) := dk_89 (dk_at dksJ20_removeNode_7 5 rfl rfl)
theorem dJ20_removeNode_166 : decode cJ20_removeNode 166 = .ok (.astore 11, 2) := dk_58 11 (dk_at dksJ20_removeNode_7 6 rfl rfl)
theorem dJ20_removeNode_168 : decode cJ20_removeNode 168 = .ok (.ifnonnull (-53), 3) := dk_199 255 203 (dk_at dksJ20_removeNode_7 8 rfl rfl)
theorem dJ20_removeNode_171 : decode cJ20_removeNode 171 = .ok (.aload 10, 2) := dk_25 10 (dk_at dksJ20_removeNode_7 11 rfl rfl)
theorem dJ20_removeNode_173 : decode cJ20_removeNode 173 = .ok (.ifnull 116, 3) := dk_198 0 116 (dk_at dksJ20_removeNode_7 13 rfl rfl)
theorem dJ20_removeNode_176 : decode cJ20_removeNode 176 = .ok (.iload 4, 2) := dk_21 4 (dk_at dksJ20_removeNode_7 16 rfl rfl)
theorem dJ20_removeNode_178 : decode cJ20_removeNode 178 = .ok (.ifCond .eq 28, 3) := dk_153 0 28 (dk_at dksJ20_removeNode_7 18 rfl rfl)
theorem dJ20_removeNode_181 : decode cJ20_removeNode 181 = .ok (.aload 10, 2) := dk_25 10 (dk_at dksJ20_removeNode_7 21 rfl rfl)
theorem dJ20_removeNode_183 : decode cJ20_removeNode 183 = .ok (.getfield 162, 3) := dk_180 0 162 (dk_at dksJ20_removeNode_8 0 rfl rfl)
theorem dJ20_removeNode_186 : decode cJ20_removeNode 186 = .ok (.dup, 1) := dk_89 (dk_at dksJ20_removeNode_8 3 rfl rfl)
theorem dJ20_removeNode_187 : decode cJ20_removeNode 187 = .ok (.astore 13, 2) := dk_58 13 (dk_at dksJ20_removeNode_8 4 rfl rfl)
theorem dJ20_removeNode_189 : decode cJ20_removeNode 189 = .ok (.aload_n 3, 1) := dk_45 (dk_at dksJ20_removeNode_8 6 rfl rfl)
theorem dJ20_removeNode_190 : decode cJ20_removeNode 190 = .ok (.if_acmp .eq 16, 3) := dk_165 0 16 (dk_at dksJ20_removeNode_8 7 rfl rfl)
theorem dJ20_removeNode_193 : decode cJ20_removeNode 193 = .ok (.aload_n 3, 1) := dk_45 (dk_at dksJ20_removeNode_8 10 rfl rfl)
theorem dJ20_removeNode_194 : decode cJ20_removeNode 194 = .ok (.ifnull 95, 3) := dk_198 0 95 (dk_at dksJ20_removeNode_8 11 rfl rfl)
theorem dJ20_removeNode_197 : decode cJ20_removeNode 197 = .ok (.aload_n 3, 1) := dk_45 (dk_at dksJ20_removeNode_8 14 rfl rfl)
theorem dJ20_removeNode_198 : decode cJ20_removeNode 198 = .ok (.aload 13, 2) := dk_25 13 (dk_at dksJ20_removeNode_8 15 rfl rfl)
theorem dJ20_removeNode_200 : decode cJ20_removeNode 200 = .ok (.invokevirtual 173, 3) := dk_182 0 173 (dk_at dksJ20_removeNode_8 17 rfl rfl)
theorem dJ20_removeNode_203 : decode cJ20_removeNode 203 = .ok (.ifCond .eq 86, 3) := dk_153 0 86 (dk_at dksJ20_removeNode_8 20 rfl rfl)
theorem dJ20_removeNode_206 : decode cJ20_removeNode 206 = .ok (.aload 10, 2) := dk_25 10 (dk_at dksJ20_removeNode_9 0 rfl rfl)
theorem dJ20_removeNode_208 : decode cJ20_removeNode 208 = .ok (.instanceof 180, 3) := dk_193 0 180 (dk_at dksJ20_removeNode_9 2 rfl rfl)
theorem dJ20_removeNode_211 : decode cJ20_removeNode 211 = .ok (.ifCond .eq 19, 3) := dk_153 0 19 (dk_at dksJ20_removeNode_9 5 rfl rfl)
theorem dJ20_removeNode_214 : decode cJ20_removeNode 214 = .ok (.aload 10, 2) := dk_25 10 (dk_at dksJ20_removeNode_9 8 rfl rfl)
theorem dJ20_removeNode_216 : decode cJ20_removeNode 216 = .ok (.checkcast 180, 3) := dk_192 0 180 (dk_at dksJ20_removeNode_9 10 rfl rfl)
theorem dJ20_removeNode_219 : decode cJ20_removeNode 219 = .ok (.aload_n 0, 1) := dk_42 (dk_at dksJ20_removeNode_9 13 rfl rfl)
theorem dJ20_removeNode_220 : decode cJ20_removeNode 220 = .ok (.aload 6, 2) := dk_25 6 (dk_at dksJ20_removeNode_9 14 rfl rfl)
theorem dJ20_removeNode_222 : decode cJ20_removeNode 222 = .ok (.iload 5, 2) := dk_21 5 (dk_at dksJ20_removeNode_9 16 rfl rfl)
theorem dJ20_removeNode_224 : decode cJ20_removeNode 224 = .ok (.invokevirtual 232, 3) := dk_182 0 232 (dk_at dksJ20_removeNode_9 18 rfl rfl)
theorem dJ20_removeNode_227 : decode cJ20_removeNode 227 = .ok (.goto 33, 3) := dk_167 0 33 (dk_at dksJ20_removeNode_9 21 rfl rfl)
theorem dJ20_removeNode_230 : decode cJ20_removeNode 230 = .ok (.aload 10, 2) := dk_25 10 (dk_at dksJ20_removeNode_10 0 rfl rfl)
theorem dJ20_removeNode_232 : decode cJ20_removeNode 232 = .ok (.aload 7, 2) := dk_25 7 (dk_at dksJ20_removeNode_10 2 rfl rfl)
theorem dJ20_removeNode_234 : decode cJ20_removeNode 234 = .ok (.if_acmp .ne 16, 3) := dk_166 0 16 (dk_at dksJ20_removeNode_10 4 rfl rfl)
theorem dJ20_removeNode_237 : decode cJ20_removeNode 237 = .ok (.aload 6, 2) := dk_25 6 (dk_at dksJ20_removeNode_10 7 rfl rfl)
theorem dJ20_removeNode_239 : decode cJ20_removeNode 239 = .ok (.iload 9, 2) := dk_21 9 (dk_at dksJ20_removeNode_10 9 rfl rfl)
theorem dJ20_removeNode_241 : decode cJ20_removeNode 241 = .ok (.aload 10, 2) := dk_25 10 (dk_at dksJ20_removeNode_10 11 rfl rfl)
theorem dJ20_removeNode_243 : decode cJ20_removeNode 243 = .ok (.getfield 177, 3) := dk_180 0 177 (dk_at dksJ20_removeNode_10 13 rfl rfl)
theorem dJ20_removeNode_246 : decode cJ20_removeNode 246 = .ok (.aastore, 1) := dk_83 (dk_at dksJ20_removeNode_10 16 rfl rfl)
theorem dJ20_removeNode_247 : decode cJ20_removeNode 247 = .ok (.goto 13, 3) := dk_167 0 13 (dk_at dksJ20_removeNode_10 17 rfl rfl)
theorem dJ20_removeNode_250 : decode cJ20_removeNode 250 = .ok (.aload 7, 2) := dk_25 7 (dk_at dksJ20_removeNode_10 20 rfl rfl)
theorem dJ20_removeNode_252 : decode cJ20_removeNode 252 = .ok (.aload 10, 2) := dk_25 10 (dk_at dksJ20_removeNode_10 22 rfl rfl)
theorem dJ20_removeNode_254 : decode cJ20_removeNode 254 = .ok (.getfield 177, 3) := dk_180 0 177 (dk_at dksJ20_removeNode_11 0 rfl rfl)
theorem dJ20_removeNode_257 : decode cJ20_removeNode 257 = .ok (.putfield 177, 3) := dk_181 0 177 (dk_at dksJ20_removeNode_11 3 rfl rfl)
theorem dJ20_removeNode_260 : decode cJ20_removeNode 260 = .ok (.aload_n 0, 1) := dk_42 (dk_at dksJ20_removeNode_11 6 rfl rfl)
theorem dJ20_removeNode_261 : decode cJ20_removeNode 261 = .ok (.dup, 1) := dk_89 (dk_at dksJ20_removeNode_11 7 rfl rfl)
theorem dJ20_removeNode_262 : decode cJ20_removeNode 262 = .ok (.getfield 202, 3) := dk_180 0 202 (dk_at dksJ20_removeNode_11 8 rfl rfl)
theorem dJ20_removeNode_265 : decode cJ20_removeNode 265 = .ok (.iconst 1, 1) := dk_4 (dk_at dksJ20_removeNode_11 11 rfl rfl)
theorem dJ20_removeNode_266 : decode cJ20_removeNode 266 = .ok (.iadd, 1) := dk_96 (dk_at dksJ20_removeNode_11 12 rfl rfl)
theorem dJ20_removeNode_267 : decode cJ20_removeNode 267 = .ok (.putfield 202, 3) := dk_181 0 202 (dk_at dksJ20_removeNode_11 13 rfl rfl)
theorem dJ20_removeNode_270 : decode cJ20_removeNode 270 = .ok (.aload_n 0, 1) := dk_42 (dk_at dksJ20_removeNode_11 16 rfl rfl)
theorem dJ20_removeNode_271 : decode cJ20_removeNode 271 = .ok (.dup, 1) := dk_89 (dk_at dksJ20_removeNode_11 17 rfl rfl)
theorem dJ20_removeNode_272 : decode cJ20_removeNode 272 = .ok (.getfield 156, 3) := dk_180 0 156 (dk_at dksJ20_removeNode_11 18 rfl rfl)
theorem dJ20_removeNode_275 : decode cJ20_removeNode 275 = .ok (.iconst 1, 1) := dk_4 (dk_at dksJ20_removeNode_11 21 rfl rfl)
theorem dJ20_removeNode_276 : decode cJ20_removeNode 276 = .ok (.isub, 1) := dk_100 (dk_at dksJ20_removeNode_11 22 rfl rfl)
theorem dJ20_removeNode_277 : decode cJ20_removeNode 277 = .ok (.putfield 156, 3) := dk_181 0 156 (dk_at dksJ20_removeNode_12 0 rfl rfl)
theorem dJ20_removeNode_280 : decode cJ20_removeNode 280 = .ok (.aload_n 0, 1) := dk_42 (dk_at dksJ20_removeNode_12 3 rfl rfl)
theorem dJ20_removeNode_281 : decode cJ20_removeNode 281 = .ok (.aload 10, 2) := dk_25 10 (dk_at dksJ20_removeNode_12 4 rfl rfl)
theorem dJ20_removeNode_283 : decode cJ20_removeNode 283 = .ok (.invokevirtual 236, 3) := dk_182 0 236 (dk_at dksJ20_removeNode_12 6 rfl rfl)
theorem dJ20_removeNode_286 : decode cJ20_removeNode 286 = .ok (.aload 10, 2) := dk_25 10 (dk_at dksJ20_removeNode_12 9 rfl rfl)
theorem dJ20_removeNode_288 : decode cJ20_removeNode 288 = .ok (.areturn, 1) := dk_176 (dk_at dksJ20_removeNode_12 11 rfl rfl)
theorem dJ20_removeNode_289 : decode cJ20_removeNode 289 = .ok (.aconst_null, 1) := dk_1 (dk_at dksJ20_removeNode_12 12 rfl rfl)
theorem dJ20_removeNode_290 : decode cJ20_removeNode 290 = .ok (.areturn, 1) := dk_176 (dk_at dksJ20_removeNode_12 13 rfl rfl)
abbrev cJ20_size : ByteArray := prog_59_method_10_code
def yJ20_size : MethodName := ⟨RJ20, "size", "()I"⟩
theorem dJ20_size_0 : decode cJ20_size 0 = .ok (.aload_n 0, 1) := by decide +kernel
theorem dJ20_size_1 : decode cJ20_size 1 = .ok (.getfield 156, 3) := by decide +kernel
theorem dJ20_size_4 : decode cJ20_size 4 = .ok (.ireturn, 1) := by decide +kernel
theorem q172 : (Jvm.Cond.initialized "java/util/HashMap") ∈ lw_all := lw_g (lw_at lw_m1 24 rfl) rfl
theorem q596 : (Jvm.Cond.instanceMethod ({ cls := "java/util/HashMap", name := "<init>", desc := "()V" } : Jvm.MethodName)) ∈ lw_all := lw_g (lw_at lw_m2 208 rfl) rfl
theorem q597 : (Jvm.Cond.code ({ cls := "java/util/HashMap", name := "<init>", desc := "()V" } : Jvm.MethodName) prog_59_method_7_code (1 : Nat) (Option.none : Option Jvm.ClassFile.FieldType)) ∈ lw_all := lw_g (lw_at lw_m2 209 rfl) rfl
theorem q598 : (Jvm.Cond.methodLink "java/util/HashMap" (43 : Nat) ({ cls := "java/util/AbstractMap", name := "<init>", desc := "()V" } : Jvm.MethodName)) ∈ lw_all := lw_g (lw_at lw_m2 210 rfl) rfl
theorem q602 : (Jvm.Cond.constantFloat "java/util/HashMap" (92 : Nat) (1061158912 : UInt32)) ∈ lw_all := lw_g (lw_at lw_m2 214 rfl) rfl
theorem q610 : (Jvm.Cond.fieldLink "java/util/HashMap" (105 : Nat) "java/util/HashMap" "table" "[Ljava/util/HashMap$Node;") ∈ lw_all := lw_g (lw_at lw_m2 222 rfl) rfl
theorem q612 : (Jvm.Cond.fieldLink "java/util/HashMap" (156 : Nat) "java/util/HashMap" "size" "I") ∈ lw_all := lw_g (lw_at lw_m2 224 rfl) rfl
theorem q617 : (Jvm.Cond.fieldLink "java/util/HashMap" (202 : Nat) "java/util/HashMap" "modCount" "I") ∈ lw_all := lw_g (lw_at lw_m2 229 rfl) rfl
theorem q618 : (Jvm.Cond.fieldLink "java/util/HashMap" (88 : Nat) "java/util/HashMap" "threshold" "I") ∈ lw_all := lw_g (lw_at lw_m2 230 rfl) rfl
theorem q619 : (Jvm.Cond.fieldLink "java/util/HashMap" (81 : Nat) "java/util/HashMap" "loadFactor" "F") ∈ lw_all := lw_g (lw_at lw_m2 231 rfl) rfl
theorem q620 : (Jvm.Cond.fieldLink "java/util/HashMap" (239 : Nat) "java/util/HashMap" "keySet" "Ljava/util/Set;") ∈ lw_all := lw_g (lw_at lw_m2 232 rfl) rfl
theorem q621 : (Jvm.Cond.sameField "java/util/HashMap" "java/util/AbstractMap" "keySet" "Ljava/util/Set;") ∈ lw_all := lw_g (lw_at lw_m2 233 rfl) rfl
theorem q633 : (Jvm.Cond.soleField "java/util/HashMap" "table") ∈ lw_all := lw_g (lw_at lw_m3 5 rfl) rfl
theorem q635 : (Jvm.Cond.soleField "java/util/HashMap" "entrySet") ∈ lw_all := lw_g (lw_at lw_m3 7 rfl) rfl
theorem q637 : (Jvm.Cond.soleField "java/util/HashMap" "size") ∈ lw_all := lw_g (lw_at lw_m3 9 rfl) rfl
theorem q639 : (Jvm.Cond.soleField "java/util/HashMap" "modCount") ∈ lw_all := lw_g (lw_at lw_m3 11 rfl) rfl
theorem q641 : (Jvm.Cond.soleField "java/util/HashMap" "threshold") ∈ lw_all := lw_g (lw_at lw_m3 13 rfl) rfl
theorem q643 : (Jvm.Cond.soleField "java/util/HashMap" "loadFactor") ∈ lw_all := lw_g (lw_at lw_m3 15 rfl) rfl
theorem q667 : (Jvm.Cond.instanceMethod ({ cls := "java/util/HashMap", name := "<init>", desc := "(IF)V" } : Jvm.MethodName)) ∈ lw_all := lw_g (lw_at lw_m3 39 rfl) rfl
theorem q668 : (Jvm.Cond.code ({ cls := "java/util/HashMap", name := "<init>", desc := "(IF)V" } : Jvm.MethodName) prog_59_method_5_code (3 : Nat) (Option.none : Option Jvm.ClassFile.FieldType)) ∈ lw_all := lw_g (lw_at lw_m3 40 rfl) rfl
theorem q669 : (Jvm.Cond.classLink "java/util/HashMap" (49 : Nat) "java/lang/IllegalArgumentException") ∈ lw_all := lw_g (lw_at lw_m3 41 rfl) rfl
theorem q670 : (Jvm.Cond.classLink "java/util/HashMap" (51 : Nat) "java/lang/StringBuilder") ∈ lw_all := lw_g (lw_at lw_m3 42 rfl) rfl
theorem q671 : (Jvm.Cond.methodLink "java/util/HashMap" (53 : Nat) ({ cls := "java/lang/StringBuilder", name := "<init>", desc := "()V" } : Jvm.MethodName)) ∈ lw_all := lw_g (lw_at lw_m3 43 rfl) rfl
theorem q672 : (Jvm.Cond.stringRef "java/util/HashMap" (54 : Nat) "Illegal initial capacity: ") ∈ lw_tbl := lw_at lw_m3 44 rfl
theorem q673 : (Jvm.Cond.methodLink "java/util/HashMap" (56 : Nat) ({ cls := "java/lang/StringBuilder", name := "append", desc := "(Ljava/lang/String;)Ljava/lang/StringBuilder;" } : Jvm.MethodName)) ∈ lw_all := lw_g (lw_at lw_m3 45 rfl) rfl
theorem q674 : (Jvm.Cond.methodLink "java/util/HashMap" (60 : Nat) ({ cls := "java/lang/StringBuilder", name := "append", desc := "(I)Ljava/lang/StringBuilder;" } : Jvm.MethodName)) ∈ lw_all := lw_g (lw_at lw_m3 46 rfl) rfl
theorem q675 : (Jvm.Cond.methodLink "java/util/HashMap" (63 : Nat) ({ cls := "java/lang/StringBuilder", name := "toString", desc := "()Ljava/lang/String;" } : Jvm.MethodName)) ∈ lw_all := lw_g (lw_at lw_m3 47 rfl) rfl
theorem q676 : (Jvm.Cond.methodLink "java/util/HashMap" (67 : Nat) ({ cls := "java/lang/IllegalArgumentException", name := "<init>", desc := "(Ljava/lang/String;)V" } : Jvm.MethodName)) ∈ lw_all := lw_g (lw_at lw_m3 48 rfl) rfl
theorem q677 : (Jvm.Cond.constant "java/util/HashMap" (42 : Nat) (1073741824 : Int32)) ∈ lw_all := lw_g (lw_at lw_m3 49 rfl) rfl
theorem q678 : (Jvm.Cond.methodLink "java/util/HashMap" (70 : Nat) ({ cls := "java/lang/Float", name := "isNaN", desc := "(F)Z" } : Jvm.MethodName)) ∈ lw_all := lw_g (lw_at lw_m3 50 rfl) rfl
theorem q681 : (Jvm.Cond.stringRef "java/util/HashMap" (76 : Nat) "Illegal load factor: ") ∈ lw_tbl := lw_at lw_m3 53 rfl
theorem q682 : (Jvm.Cond.methodLink "java/util/HashMap" (78 : Nat) ({ cls := "java/lang/StringBuilder", name := "append", desc := "(F)Ljava/lang/StringBuilder;" } : Jvm.MethodName)) ∈ lw_all := lw_g (lw_at lw_m3 54 rfl) rfl
theorem q1138 : (Jvm.Cond.methodLink "java/util/HashMap" (85 : Nat) ({ cls := "java/util/HashMap", name := "tableSizeFor", desc := "(I)I" } : Jvm.MethodName)) ∈ lw_all := lw_g (lw_at lw_m5 30 rfl) rfl
theorem q1139 : (Jvm.Cond.static ({ cls := "java/util/HashMap", name := "tableSizeFor", desc := "(I)I" } : Jvm.MethodName)) ∈ lw_all := lw_g (lw_at lw_m5 31 rfl) rfl
theorem q1140 : (Jvm.Cond.code ({ cls := "java/util/HashMap", name := "tableSizeFor", desc := "(I)I" } : Jvm.MethodName) prog_59_method_4_code (2 : Nat) (Option.some Jvm.ClassFile.FieldType.int)) ∈ lw_all := lw_g (lw_at lw_m5 32 rfl) rfl
theorem q1141 : (Jvm.Cond.methodLink "java/util/HashMap" (34 : Nat) ({ cls := "java/lang/Integer", name := "numberOfLeadingZeros", desc := "(I)I" } : Jvm.MethodName)) ∈ lw_all := lw_g (lw_at lw_m5 33 rfl) rfl
theorem q1294 : (Jvm.Cond.declares ({ cls := "java/util/HashMap", name := "put", desc := "(Ljava/lang/Object;Ljava/lang/Object;)Ljava/lang/Object;" } : Jvm.MethodName)) ∈ lw_tbl := lw_at lw_m5 186 rfl
theorem q1296 : (Jvm.Cond.instanceMethod ({ cls := "java/util/HashMap", name := "put", desc := "(Ljava/lang/Object;Ljava/lang/Object;)Ljava/lang/Object;" } : Jvm.MethodName)) ∈ lw_all := lw_g (lw_at lw_m5 188 rfl) rfl
theorem q1297 : (Jvm.Cond.code ({ cls := "java/util/HashMap", name := "put", desc := "(Ljava/lang/Object;Ljava/lang/Object;)Ljava/lang/Object;" } : Jvm.MethodName) prog_59_method_15_code (3 : Nat) (Option.some (Jvm.ClassFile.FieldType.object "java/lang/Object"))) ∈ lw_all := lw_g (lw_at lw_m5 189 rfl) rfl
theorem q1298 : (Jvm.Cond.methodLink "java/util/HashMap" (149 : Nat) ({ cls := "java/util/HashMap", name := "hash", desc := "(Ljava/lang/Object;)I" } : Jvm.MethodName)) ∈ lw_all := lw_g (lw_at lw_m5 190 rfl) rfl
theorem q1299 : (Jvm.Cond.static ({ cls := "java/util/HashMap", name := "hash", desc := "(Ljava/lang/Object;)I" } : Jvm.MethodName)) ∈ lw_all := lw_g (lw_at lw_m5 191 rfl) rfl
theorem q1300 : (Jvm.Cond.code ({ cls := "java/util/HashMap", name := "hash", desc := "(Ljava/lang/Object;)I" } : Jvm.MethodName) prog_59_method_1_code (2 : Nat) (Option.some Jvm.ClassFile.FieldType.int)) ∈ lw_all := lw_g (lw_at lw_m5 192 rfl) rfl
theorem q1302 : (Jvm.Cond.methodLink "java/util/HashMap" (1 : Nat) ({ cls := "java/lang/Object", name := "hashCode", desc := "()I" } : Jvm.MethodName)) ∈ lw_all := lw_g (lw_at lw_m5 194 rfl) rfl
theorem q1394 : (Jvm.Cond.methodLink "java/util/HashMap" (152 : Nat) ({ cls := "java/util/HashMap", name := "putVal", desc := "(ILjava/lang/Object;Ljava/lang/Object;ZZ)Ljava/lang/Object;" } : Jvm.MethodName)) ∈ lw_all := lw_g (lw_at lw_m6 46 rfl) rfl
theorem q1395 : (Jvm.Cond.instanceMethod ({ cls := "java/util/HashMap", name := "putVal", desc := "(ILjava/lang/Object;Ljava/lang/Object;ZZ)Ljava/lang/Object;" } : Jvm.MethodName)) ∈ lw_all := lw_g (lw_at lw_m6 47 rfl) rfl
theorem q1396 : (Jvm.Cond.sameMethod "java/util/HashMap" "java/util/HashMap" "putVal" "(ILjava/lang/Object;Ljava/lang/Object;ZZ)Ljava/lang/Object;") ∈ lw_all := lw_g (lw_at lw_m6 48 rfl) rfl
theorem q1398 : (Jvm.Cond.code ({ cls := "java/util/HashMap", name := "putVal", desc := "(ILjava/lang/Object;Ljava/lang/Object;ZZ)Ljava/lang/Object;" } : Jvm.MethodName) prog_59_method_16_code (13 : Nat) (Option.some (Jvm.ClassFile.FieldType.object "java/lang/Object"))) ∈ lw_all := lw_g (lw_at lw_m6 50 rfl) rfl
theorem q1399 : (Jvm.Cond.methodLink "java/util/HashMap" (117 : Nat) ({ cls := "java/util/HashMap", name := "resize", desc := "()[Ljava/util/HashMap$Node;" } : Jvm.MethodName)) ∈ lw_all := lw_g (lw_at lw_m6 51 rfl) rfl
theorem q1400 : (Jvm.Cond.instanceMethod ({ cls := "java/util/HashMap", name := "resize", desc := "()[Ljava/util/HashMap$Node;" } : Jvm.MethodName)) ∈ lw_all := lw_g (lw_at lw_m6 52 rfl) rfl
theorem q1401 : (Jvm.Cond.sameMethod "java/util/HashMap" "java/util/HashMap" "resize" "()[Ljava/util/HashMap$Node;") ∈ lw_all := lw_g (lw_at lw_m6 53 rfl) rfl
theorem q1403 : (Jvm.Cond.code ({ cls := "java/util/HashMap", name := "resize", desc := "()[Ljava/util/HashMap$Node;" } : Jvm.MethodName) prog_59_method_17_code (14 : Nat) (Option.some (Jvm.ClassFile.FieldType.array (Jvm.ClassFile.FieldType.object "java/util/HashMap$Node")))) ∈ lw_all := lw_g (lw_at lw_m6 55 rfl) rfl
theorem q1404 : (Jvm.Cond.constant "java/util/HashMap" (209 : Nat) (2147483647 : Int32)) ∈ lw_all := lw_g (lw_at lw_m6 56 rfl) rfl
theorem q1405 : (Jvm.Cond.constantFloat "java/util/HashMap" (210 : Nat) (1317011456 : UInt32)) ∈ lw_all := lw_g (lw_at lw_m6 57 rfl) rfl
theorem q1406 : (Jvm.Cond.classLink "java/util/HashMap" (163 : Nat) "java/util/HashMap$Node") ∈ lw_all := lw_g (lw_at lw_m6 58 rfl) rfl
theorem q1408 : (Jvm.Cond.classLink "java/util/HashMap" (180 : Nat) "java/util/HashMap$TreeNode") ∈ lw_all := lw_g (lw_at lw_m6 60 rfl) rfl
theorem q1409 : (Jvm.Cond.methodLink "java/util/HashMap" (211 : Nat) ({ cls := "java/util/HashMap$TreeNode", name := "split", desc := "(Ljava/util/HashMap;[Ljava/util/HashMap$Node;II)V" } : Jvm.MethodName)) ∈ lw_all := lw_g (lw_at lw_m6 61 rfl) rfl
theorem q1419 : (Jvm.Cond.instanceMethod ({ cls := "java/util/HashMap", name := "replacementNode", desc := "(Ljava/util/HashMap$Node;Ljava/util/HashMap$Node;)Ljava/util/HashMap$Node;" } : Jvm.MethodName)) ∈ lw_all := lw_g (lw_at lw_m6 71 rfl) rfl
theorem q1420 : (Jvm.Cond.sameMethod "java/util/HashMap" "java/util/HashMap" "replacementNode" "(Ljava/util/HashMap$Node;Ljava/util/HashMap$Node;)Ljava/util/HashMap$Node;") ∈ lw_all := lw_g (lw_at lw_m6 72 rfl) rfl
theorem q1442 : (Jvm.Cond.fieldLink "java/util/HashMap" (168 : Nat) "java/util/HashMap$Node" "hash" "I") ∈ lw_all := lw_g (lw_at lw_m6 94 rfl) rfl
theorem q1449 : (Jvm.Cond.fieldLink "java/util/HashMap" (170 : Nat) "java/util/HashMap$Node" "key" "Ljava/lang/Object;") ∈ lw_all := lw_g (lw_at lw_m6 101 rfl) rfl
theorem q1453 : (Jvm.Cond.fieldLink "java/util/HashMap" (162 : Nat) "java/util/HashMap$Node" "value" "Ljava/lang/Object;") ∈ lw_all := lw_g (lw_at lw_m6 105 rfl) rfl
theorem q1460 : (Jvm.Cond.fieldLink "java/util/HashMap" (177 : Nat) "java/util/HashMap$Node" "next" "Ljava/util/HashMap$Node;") ∈ lw_all := lw_g (lw_at lw_m6 112 rfl) rfl
theorem q1461 : (Jvm.Cond.fieldLink "java/util/HashMap" (223 : Nat) "java/util/HashMap$TreeNode" "next" "Ljava/util/HashMap$Node;") ∈ lw_all := lw_g (lw_at lw_m6 113 rfl) rfl
theorem q1479 : (Jvm.Cond.declares ({ cls := "java/util/HashMap", name := "replacementNode", desc := "(Ljava/util/HashMap$Node;Ljava/util/HashMap$Node;)Ljava/util/HashMap$Node;" } : Jvm.MethodName)) ∈ lw_tbl := lw_at lw_m6 131 rfl
theorem q1485 : (Jvm.Cond.static ({ cls := "java/util/HashMap", name := "comparableClassFor", desc := "(Ljava/lang/Object;)Ljava/lang/Class;" } : Jvm.MethodName)) ∈ lw_all := lw_g (lw_at lw_m6 137 rfl) rfl
theorem q1486 : (Jvm.Cond.code ({ cls := "java/util/HashMap", name := "comparableClassFor", desc := "(Ljava/lang/Object;)Ljava/lang/Class;" } : Jvm.MethodName) prog_59_method_2_code (9 : Nat) (Option.some (Jvm.ClassFile.FieldType.object "java/lang/Class"))) ∈ lw_all := lw_g (lw_at lw_m6 138 rfl) rfl
theorem q1487 : (Jvm.Cond.classLink "java/util/HashMap" (7 : Nat) "java/lang/Comparable") ∈ lw_all := lw_g (lw_at lw_m6 139 rfl) rfl
theorem q1488 : (Jvm.Cond.methodLink "java/util/HashMap" (9 : Nat) ({ cls := "java/lang/Object", name := "getClass", desc := "()Ljava/lang/Class;" } : Jvm.MethodName)) ∈ lw_all := lw_g (lw_at lw_m6 140 rfl) rfl
theorem q1489 : (Jvm.Cond.classLink "java/util/HashMap" (13 : Nat) "java/lang/String") ∈ lw_all := lw_g (lw_at lw_m6 141 rfl) rfl
theorem q1491 : (Jvm.Cond.static ({ cls := "java/util/HashMap", name := "compareComparables", desc := "(Ljava/lang/Class;Ljava/lang/Object;Ljava/lang/Object;)I" } : Jvm.MethodName)) ∈ lw_all := lw_g (lw_at lw_m6 143 rfl) rfl
theorem q1492 : (Jvm.Cond.code ({ cls := "java/util/HashMap", name := "compareComparables", desc := "(Ljava/lang/Class;Ljava/lang/Object;Ljava/lang/Object;)I" } : Jvm.MethodName) prog_59_method_3_code (3 : Nat) (Option.some Jvm.ClassFile.FieldType.int)) ∈ lw_all := lw_g (lw_at lw_m6 144 rfl) rfl
theorem q1493 : (Jvm.Cond.interfaceEntry "java/util/HashMap" (30 : Nat)) ∈ lw_tbl := lw_at lw_m6 145 rfl
theorem q1494 : (Jvm.Cond.methodLink "java/util/HashMap" (30 : Nat) ({ cls := "java/lang/Comparable", name := "compareTo", desc := "(Ljava/lang/Object;)I" } : Jvm.MethodName)) ∈ lw_all := lw_g (lw_at lw_m6 146 rfl) rfl
theorem q1718 : (Jvm.Cond.methodLink "java/util/HashMap" (186 : Nat) ({ cls := "java/util/HashMap", name := "newNode", desc := "(ILjava/lang/Object;Ljava/lang/Object;Ljava/util/HashMap$Node;)Ljava/util/HashMap$Node;" } : Jvm.MethodName)) ∈ lw_all := lw_g (lw_at lw_m7 130 rfl) rfl
theorem q1719 : (Jvm.Cond.instanceMethod ({ cls := "java/util/HashMap", name := "newNode", desc := "(ILjava/lang/Object;Ljava/lang/Object;Ljava/util/HashMap$Node;)Ljava/util/HashMap$Node;" } : Jvm.MethodName)) ∈ lw_all := lw_g (lw_at lw_m7 131 rfl) rfl
theorem q1720 : (Jvm.Cond.sameMethod "java/util/HashMap" "java/util/HashMap" "newNode" "(ILjava/lang/Object;Ljava/lang/Object;Ljava/util/HashMap$Node;)Ljava/util/HashMap$Node;") ∈ lw_all := lw_g (lw_at lw_m7 132 rfl) rfl
theorem q1728 : (Jvm.Cond.declares ({ cls := "java/util/HashMap", name := "newNode", desc := "(ILjava/lang/Object;Ljava/lang/Object;Ljava/util/HashMap$Node;)Ljava/util/HashMap$Node;" } : Jvm.MethodName)) ∈ lw_tbl := lw_at lw_m7 140 rfl
theorem q1730 : (Jvm.Cond.methodLink "java/util/HashMap" (173 : Nat) ({ cls := "java/lang/Object", name := "equals", desc := "(Ljava/lang/Object;)Z" } : Jvm.MethodName)) ∈ lw_all := lw_g (lw_at lw_m7 142 rfl) rfl
theorem q1771 : (Jvm.Cond.methodLink "java/util/HashMap" (190 : Nat) ({ cls := "java/util/HashMap$TreeNode", name := "putTreeVal", desc := "(Ljava/util/HashMap;[Ljava/util/HashMap$Node;ILjava/lang/Object;Ljava/lang/Object;)Ljava/util/HashMap$TreeNode;" } : Jvm.MethodName)) ∈ lw_all := lw_g (lw_at lw_m7 183 rfl) rfl
theorem q1785 : (Jvm.Cond.instanceMethod ({ cls := "java/util/HashMap", name := "newTreeNode", desc := "(ILjava/lang/Object;Ljava/lang/Object;Ljava/util/HashMap$Node;)Ljava/util/HashMap$TreeNode;" } : Jvm.MethodName)) ∈ lw_all := lw_g (lw_at lw_m7 197 rfl) rfl
theorem q1786 : (Jvm.Cond.sameMethod "java/util/HashMap" "java/util/HashMap" "newTreeNode" "(ILjava/lang/Object;Ljava/lang/Object;Ljava/util/HashMap$Node;)Ljava/util/HashMap$TreeNode;") ∈ lw_all := lw_g (lw_at lw_m7 198 rfl) rfl
theorem q1800 : (Jvm.Cond.fieldLink "java/util/HashMap" (219 : Nat) "java/util/HashMap$TreeNode" "prev" "Ljava/util/HashMap$TreeNode;") ∈ lw_all := lw_g (lw_at lw_m7 212 rfl) rfl
theorem q1819 : (Jvm.Cond.declares ({ cls := "java/util/HashMap", name := "newTreeNode", desc := "(ILjava/lang/Object;Ljava/lang/Object;Ljava/util/HashMap$Node;)Ljava/util/HashMap$TreeNode;" } : Jvm.MethodName)) ∈ lw_tbl := lw_at lw_m7 231 rfl
theorem q1820 : (Jvm.Cond.methodLink "java/util/HashMap" (194 : Nat) ({ cls := "java/util/HashMap", name := "treeifyBin", desc := "([Ljava/util/HashMap$Node;I)V" } : Jvm.MethodName)) ∈ lw_all := lw_g (lw_at lw_m7 232 rfl) rfl
theorem q1821 : (Jvm.Cond.instanceMethod ({ cls := "java/util/HashMap", name := "treeifyBin", desc := "([Ljava/util/HashMap$Node;I)V" } : Jvm.MethodName)) ∈ lw_all := lw_g (lw_at lw_m7 233 rfl) rfl
theorem q1822 : (Jvm.Cond.sameMethod "java/util/HashMap" "java/util/HashMap" "treeifyBin" "([Ljava/util/HashMap$Node;I)V") ∈ lw_all := lw_g (lw_at lw_m7 234 rfl) rfl
theorem q1824 : (Jvm.Cond.code ({ cls := "java/util/HashMap", name := "treeifyBin", desc := "([Ljava/util/HashMap$Node;I)V" } : Jvm.MethodName) prog_59_method_18_code (9 : Nat) (Option.none : Option Jvm.ClassFile.FieldType)) ∈ lw_all := lw_g (lw_at lw_m7 236 rfl) rfl
theorem q1825 : (Jvm.Cond.methodLink "java/util/HashMap" (215 : Nat) ({ cls := "java/util/HashMap", name := "replacementTreeNode", desc := "(Ljava/util/HashMap$Node;Ljava/util/HashMap$Node;)Ljava/util/HashMap$TreeNode;" } : Jvm.MethodName)) ∈ lw_all := lw_g (lw_at lw_m7 237 rfl) rfl
theorem q1826 : (Jvm.Cond.instanceMethod ({ cls := "java/util/HashMap", name := "replacementTreeNode", desc := "(Ljava/util/HashMap$Node;Ljava/util/HashMap$Node;)Ljava/util/HashMap$TreeNode;" } : Jvm.MethodName)) ∈ lw_all := lw_g (lw_at lw_m7 238 rfl) rfl
theorem q1827 : (Jvm.Cond.sameMethod "java/util/HashMap" "java/util/HashMap" "replacementTreeNode" "(Ljava/util/HashMap$Node;Ljava/util/HashMap$Node;)Ljava/util/HashMap$TreeNode;") ∈ lw_all := lw_g (lw_at lw_m7 239 rfl) rfl
theorem q1831 : (Jvm.Cond.declares ({ cls := "java/util/HashMap", name := "replacementTreeNode", desc := "(Ljava/util/HashMap$Node;Ljava/util/HashMap$Node;)Ljava/util/HashMap$TreeNode;" } : Jvm.MethodName)) ∈ lw_tbl := lw_at lw_m8 3 rfl
theorem q1832 : (Jvm.Cond.methodLink "java/util/HashMap" (224 : Nat) ({ cls := "java/util/HashMap$TreeNode", name := "treeify", desc := "([Ljava/util/HashMap$Node;)V" } : Jvm.MethodName)) ∈ lw_all := lw_g (lw_at lw_m8 4 rfl) rfl
theorem q1833 : (Jvm.Cond.methodLink "java/util/HashMap" (198 : Nat) ({ cls := "java/util/HashMap", name := "afterNodeAccess", desc := "(Ljava/util/HashMap$Node;)V" } : Jvm.MethodName)) ∈ lw_all := lw_g (lw_at lw_m8 5 rfl) rfl
theorem q1834 : (Jvm.Cond.instanceMethod ({ cls := "java/util/HashMap", name := "afterNodeAccess", desc := "(Ljava/util/HashMap$Node;)V" } : Jvm.MethodName)) ∈ lw_all := lw_g (lw_at lw_m8 6 rfl) rfl
theorem q1835 : (Jvm.Cond.sameMethod "java/util/HashMap" "java/util/HashMap" "afterNodeAccess" "(Ljava/util/HashMap$Node;)V") ∈ lw_all := lw_g (lw_at lw_m8 7 rfl) rfl
theorem q1839 : (Jvm.Cond.declares ({ cls := "java/util/HashMap", name := "afterNodeAccess", desc := "(Ljava/util/HashMap$Node;)V" } : Jvm.MethodName)) ∈ lw_tbl := lw_at lw_m8 11 rfl
theorem q1840 : (Jvm.Cond.methodLink "java/util/HashMap" (205 : Nat) ({ cls := "java/util/HashMap", name := "afterNodeInsertion", desc := "(Z)V" } : Jvm.MethodName)) ∈ lw_all := lw_g (lw_at lw_m8 12 rfl) rfl
theorem q1841 : (Jvm.Cond.instanceMethod ({ cls := "java/util/HashMap", name := "afterNodeInsertion", desc := "(Z)V" } : Jvm.MethodName)) ∈ lw_all := lw_g (lw_at lw_m8 13 rfl) rfl
theorem q1842 : (Jvm.Cond.sameMethod "java/util/HashMap" "java/util/HashMap" "afterNodeInsertion" "(Z)V") ∈ lw_all := lw_g (lw_at lw_m8 14 rfl) rfl
theorem q1850 : (Jvm.Cond.declares ({ cls := "java/util/HashMap", name := "afterNodeInsertion", desc := "(Z)V" } : Jvm.MethodName)) ∈ lw_tbl := lw_at lw_m8 22 rfl
theorem q2222 : (Jvm.Cond.instanceMethod ({ cls := "java/util/HashMap", name := "isEmpty", desc := "()Z" } : Jvm.MethodName)) ∈ lw_all := lw_g (lw_at lw_m9 154 rfl) rfl
theorem q2223 : (Jvm.Cond.sameMethod "java/util/HashMap" "java/util/HashMap" "isEmpty" "()Z") ∈ lw_all := lw_g (lw_at lw_m9 155 rfl) rfl
theorem q2225 : (Jvm.Cond.code ({ cls := "java/util/HashMap", name := "isEmpty", desc := "()Z" } : Jvm.MethodName) prog_59_method_11_code (1 : Nat) (Option.some Jvm.ClassFile.FieldType.boolean)) ∈ lw_all := lw_g (lw_at lw_m9 157 rfl) rfl
theorem q2264 : (Jvm.Cond.declares ({ cls := "java/util/HashMap", name := "getNode", desc := "(Ljava/lang/Object;)Ljava/util/HashMap$Node;" } : Jvm.MethodName)) ∈ lw_tbl := lw_at lw_m9 196 rfl
theorem q2266 : (Jvm.Cond.instanceMethod ({ cls := "java/util/HashMap", name := "getNode", desc := "(Ljava/lang/Object;)Ljava/util/HashMap$Node;" } : Jvm.MethodName)) ∈ lw_all := lw_g (lw_at lw_m9 198 rfl) rfl
theorem q2267 : (Jvm.Cond.code ({ cls := "java/util/HashMap", name := "getNode", desc := "(Ljava/lang/Object;)Ljava/util/HashMap$Node;" } : Jvm.MethodName) prog_59_method_13_code (8 : Nat) (Option.some (Jvm.ClassFile.FieldType.object "java/util/HashMap$Node"))) ∈ lw_all := lw_g (lw_at lw_m9 199 rfl) rfl
theorem q2268 : (Jvm.Cond.methodLink "java/util/HashMap" (182 : Nat) ({ cls := "java/util/HashMap$TreeNode", name := "getTreeNode", desc := "(ILjava/lang/Object;)Ljava/util/HashMap$TreeNode;" } : Jvm.MethodName)) ∈ lw_all := lw_g (lw_at lw_m9 200 rfl) rfl
theorem q2333 : (Jvm.Cond.instanceMethod ({ cls := "java/util/HashMap", name := "containsKey", desc := "(Ljava/lang/Object;)Z" } : Jvm.MethodName)) ∈ lw_all := lw_g (lw_at lw_m10 25 rfl) rfl
theorem q2334 : (Jvm.Cond.sameMethod "java/util/HashMap" "java/util/HashMap" "containsKey" "(Ljava/lang/Object;)Z") ∈ lw_all := lw_g (lw_at lw_m10 26 rfl) rfl
theorem q2336 : (Jvm.Cond.code ({ cls := "java/util/HashMap", name := "containsKey", desc := "(Ljava/lang/Object;)Z" } : Jvm.MethodName) prog_59_method_14_code (2 : Nat) (Option.some Jvm.ClassFile.FieldType.boolean)) ∈ lw_all := lw_g (lw_at lw_m10 28 rfl) rfl
theorem q2337 : (Jvm.Cond.methodLink "java/util/HashMap" (158 : Nat) ({ cls := "java/util/HashMap", name := "getNode", desc := "(Ljava/lang/Object;)Ljava/util/HashMap$Node;" } : Jvm.MethodName)) ∈ lw_all := lw_g (lw_at lw_m10 29 rfl) rfl
theorem q2708 : (Jvm.Cond.instanceMethod ({ cls := "java/util/HashMap", name := "keySet", desc := "()Ljava/util/Set;" } : Jvm.MethodName)) ∈ lw_all := lw_g (lw_at lw_m11 160 rfl) rfl
theorem q2709 : (Jvm.Cond.sameMethod "java/util/HashMap" "java/util/HashMap" "keySet" "()Ljava/util/Set;") ∈ lw_all := lw_g (lw_at lw_m11 161 rfl) rfl
theorem q2731 : (Jvm.Cond.declares ({ cls := "java/util/HashMap", name := "keySet", desc := "()Ljava/util/Set;" } : Jvm.MethodName)) ∈ lw_tbl := lw_at lw_m11 183 rfl
theorem q3391 : (Jvm.Cond.instanceMethod ({ cls := "java/util/HashMap", name := "remove", desc := "(Ljava/lang/Object;)Ljava/lang/Object;" } : Jvm.MethodName)) ∈ lw_all := lw_g (lw_at lw_m14 123 rfl) rfl
theorem q3392 : (Jvm.Cond.sameMethod "java/util/HashMap" "java/util/HashMap" "remove" "(Ljava/lang/Object;)Ljava/lang/Object;") ∈ lw_all := lw_g (lw_at lw_m14 124 rfl) rfl
theorem q3394 : (Jvm.Cond.code ({ cls := "java/util/HashMap", name := "remove", desc := "(Ljava/lang/Object;)Ljava/lang/Object;" } : Jvm.MethodName) prog_59_method_20_code (3 : Nat) (Option.some (Jvm.ClassFile.FieldType.object "java/lang/Object"))) ∈ lw_all := lw_g (lw_at lw_m14 126 rfl) rfl
theorem q3395 : (Jvm.Cond.methodLink "java/util/HashMap" (228 : Nat) ({ cls := "java/util/HashMap", name := "removeNode", desc := "(ILjava/lang/Object;Ljava/lang/Object;ZZ)Ljava/util/HashMap$Node;" } : Jvm.MethodName)) ∈ lw_all := lw_g (lw_at lw_m14 127 rfl) rfl
theorem q3396 : (Jvm.Cond.instanceMethod ({ cls := "java/util/HashMap", name := "removeNode", desc := "(ILjava/lang/Object;Ljava/lang/Object;ZZ)Ljava/util/HashMap$Node;" } : Jvm.MethodName)) ∈ lw_all := lw_g (lw_at lw_m14 128 rfl) rfl
theorem q3397 : (Jvm.Cond.sameMethod "java/util/HashMap" "java/util/HashMap" "removeNode" "(ILjava/lang/Object;Ljava/lang/Object;ZZ)Ljava/util/HashMap$Node;") ∈ lw_all := lw_g (lw_at lw_m14 129 rfl) rfl
theorem q3399 : (Jvm.Cond.code ({ cls := "java/util/HashMap", name := "removeNode", desc := "(ILjava/lang/Object;Ljava/lang/Object;ZZ)Ljava/util/HashMap$Node;" } : Jvm.MethodName) prog_59_method_21_code (14 : Nat) (Option.some (Jvm.ClassFile.FieldType.object "java/util/HashMap$Node"))) ∈ lw_all := lw_g (lw_at lw_m14 131 rfl) rfl
theorem q3400 : (Jvm.Cond.methodLink "java/util/HashMap" (232 : Nat) ({ cls := "java/util/HashMap$TreeNode", name := "removeTreeNode", desc := "(Ljava/util/HashMap;[Ljava/util/HashMap$Node;Z)V" } : Jvm.MethodName)) ∈ lw_all := lw_g (lw_at lw_m14 132 rfl) rfl
theorem q3407 : (Jvm.Cond.methodLink "java/util/HashMap" (236 : Nat) ({ cls := "java/util/HashMap", name := "afterNodeRemoval", desc := "(Ljava/util/HashMap$Node;)V" } : Jvm.MethodName)) ∈ lw_all := lw_g (lw_at lw_m14 139 rfl) rfl
theorem q3408 : (Jvm.Cond.instanceMethod ({ cls := "java/util/HashMap", name := "afterNodeRemoval", desc := "(Ljava/util/HashMap$Node;)V" } : Jvm.MethodName)) ∈ lw_all := lw_g (lw_at lw_m14 140 rfl) rfl
theorem q3409 : (Jvm.Cond.sameMethod "java/util/HashMap" "java/util/HashMap" "afterNodeRemoval" "(Ljava/util/HashMap$Node;)V") ∈ lw_all := lw_g (lw_at lw_m14 141 rfl) rfl
theorem q3413 : (Jvm.Cond.declares ({ cls := "java/util/HashMap", name := "afterNodeRemoval", desc := "(Ljava/util/HashMap$Node;)V" } : Jvm.MethodName)) ∈ lw_tbl := lw_at lw_m14 145 rfl
theorem q3421 : (Jvm.Cond.instanceMethod ({ cls := "java/util/HashMap", name := "size", desc := "()I" } : Jvm.MethodName)) ∈ lw_all := lw_g (lw_at lw_m14 153 rfl) rfl
theorem q3422 : (Jvm.Cond.sameMethod "java/util/HashMap" "java/util/HashMap" "size" "()I") ∈ lw_all := lw_g (lw_at lw_m14 154 rfl) rfl
theorem q3424 : (Jvm.Cond.code ({ cls := "java/util/HashMap", name := "size", desc := "()I" } : Jvm.MethodName) prog_59_method_10_code (1 : Nat) (Option.some Jvm.ClassFile.FieldType.int)) ∈ lw_all := lw_g (lw_at lw_m14 156 rfl) rfl
theorem q4060 : (Jvm.Cond.sameMethod "java/util/HashMap" "java/util/HashMap" "put" "(Ljava/lang/Object;Ljava/lang/Object;)Ljava/lang/Object;") ∈ lw_all := lw_g (lw_at lw_m17 72 rfl) rfl
theorem q4071 : (Jvm.Cond.sameMethod "java/util/HashMap" "java/util/HashMap" "getNode" "(Ljava/lang/Object;)Ljava/util/HashMap$Node;") ∈ lw_all := lw_g (lw_at lw_m17 83 rfl) rfl

