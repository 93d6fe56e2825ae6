/-! java/lang/String -/
set_option maxRecDepth 100000
def RJ10 : String := "java/lang/String"
def TJ10 : u_T := fun k => match k with
  | 0 => ("java/lang/String", "value", "[B", true)
  | 1 => ("java/lang/String", "coder", "B", true)
  | 2 => ("java/lang/String", "hash", "I", false)
  | _ => ("java/lang/String", "hashIsZero", "Z", false)
def tyJ10 : Nat → FieldType := fun k => match k with
  | 0 => .array .byte
  | 1 => .byte
  | 2 => .int
  | _ => .boolean
abbrev wsJ100 : List Cond := u_ws RJ10 TJ10 4
theorem nmJ10 : ∀ a, a < 4 → ∀ b, b < 4 → a ≠ b → (TJ10 a).2.1 ≠ (TJ10 b).2.1 := by decide +kernel
theorem tyJ10_ok : ∀ k, k < 4 → parseFieldDescriptor (TJ10 k).2.2.1 = some (tyJ10 k) := by decide +kernel
abbrev cJ10_checkBoundsBeginEnd : ByteArray := prog_39_method_158_code
def yJ10_checkBoundsBeginEnd : MethodName := ⟨RJ10, "checkBoundsBeginEnd", "(III)V"⟩
def dkwJ10_checkBoundsBeginEnd_0 : List UInt8 := [26, 27, 28, 178, 4, 29, 184, 4, 38, 87, 177]
abbrev dktJ10_checkBoundsBeginEnd_0 : List UInt8 := dkwJ10_checkBoundsBeginEnd_0 ++ []
theorem dksJ10_checkBoundsBeginEnd_0 : cJ10_checkBoundsBeginEnd.data.toList.drop 0 = dktJ10_checkBoundsBeginEnd_0 := by decide +kernel
theorem dJ10_checkBoundsBeginEnd_0 : decode cJ10_checkBoundsBeginEnd 0 = .ok (.iload_n 0, 1) := dk_26 (dk_at dksJ10_checkBoundsBeginEnd_0 0 rfl rfl)
theorem dJ10_checkBoundsBeginEnd_1 : decode cJ10_checkBoundsBeginEnd 1 = .ok (.iload_n 1, 1) := dk_27 (dk_at dksJ10_checkBoundsBeginEnd_0 1 rfl rfl)
theorem dJ10_checkBoundsBeginEnd_2 : decode cJ10_checkBoundsBeginEnd 2 = .ok (.iload_n 2, 1) := dk_28 (dk_at dksJ10_checkBoundsBeginEnd_0 2 rfl rfl)
theorem dJ10_checkBoundsBeginEnd_3 : decode cJ10_checkBoundsBeginEnd 3 = .ok (.getstatic 1053, 3) := dk_178 4 29 (dk_at dksJ10_checkBoundsBeginEnd_0 3 rfl rfl)
theorem dJ10_checkBoundsBeginEnd_6 : decode cJ10_checkBoundsBeginEnd 6 = .ok (.invokestatic 1062, 3) := dk_184 4 38 (dk_at dksJ10_checkBoundsBeginEnd_0 6 rfl rfl)
theorem dJ10_checkBoundsBeginEnd_9 : decode cJ10_checkBoundsBeginEnd 9 = .ok (.pop, 1) := dk_87 (dk_at dksJ10_checkBoundsBeginEnd_0 9 rfl rfl)
theorem dJ10_checkBoundsBeginEnd_10 : decode cJ10_checkBoundsBeginEnd 10 = .ok (.return_, 1) := dk_177 (dk_at dksJ10_checkBoundsBeginEnd_0 10 rfl rfl)
abbrev cJ10_length : ByteArray := prog_39_method_54_code
def yJ10_length : MethodName := ⟨RJ10, "length", "()I"⟩
def dkwJ10_length_0 : List UInt8 := [42, 180, 0, 9, 190, 42, 182, 1, 79, 122, 172]
abbrev dktJ10_length_0 : List UInt8 := dkwJ10_length_0 ++ []
theorem dksJ10_length_0 : cJ10_length.data.toList.drop 0 = dktJ10_length_0 := by decide +kernel
theorem dJ10_length_0 : decode cJ10_length 0 = .ok (.aload_n 0, 1) := dk_42 (dk_at dksJ10_length_0 0 rfl rfl)
theorem dJ10_length_1 : decode cJ10_length 1 = .ok (.getfield 9, 3) := dk_180 0 9 (dk_at dksJ10_length_0 1 rfl rfl)
theorem dJ10_length_4 : decode cJ10_length 4 = .ok (.arraylength, 1) := dk_190 (dk_at dksJ10_length_0 4 rfl rfl)
theorem dJ10_length_5 : decode cJ10_length 5 = .ok (.aload_n 0, 1) := dk_42 (dk_at dksJ10_length_0 5 rfl rfl)
theorem dJ10_length_6 : decode cJ10_length 6 = .ok (.invokevirtual 335, 3) := dk_182 1 79 (dk_at dksJ10_length_0 6 rfl rfl)
theorem dJ10_length_9 : decode cJ10_length 9 = .ok (.ishr, 1) := dk_122 (dk_at dksJ10_length_0 9 rfl rfl)
theorem dJ10_length_10 : decode cJ10_length 10 = .ok (.ireturn, 1) := dk_172 (dk_at dksJ10_length_0 10 rfl rfl)
abbrev cJ10_coder : ByteArray := prog_39_method_152_code
def yJ10_coder : MethodName := ⟨RJ10, "coder", "()B"⟩
def dkwJ10_coder_0 : List UInt8 := [178, 0, 38, 153, 0, 10, 42, 180, 0, 15, 167, 0, 4, 4, 172]
abbrev dktJ10_coder_0 : List UInt8 := dkwJ10_coder_0 ++ []
theorem dksJ10_coder_0 : cJ10_coder.data.toList.drop 0 = dktJ10_coder_0 := by decide +kernel
theorem dJ10_coder_0 : decode cJ10_coder 0 = .ok (.getstatic 38, 3) := dk_178 0 38 (dk_at dksJ10_coder_0 0 rfl rfl)
theorem dJ10_coder_3 : decode cJ10_coder 3 = .ok (.ifCond .eq 10, 3) := dk_153 0 10 (dk_at dksJ10_coder_0 3 rfl rfl)
theorem dJ10_coder_6 : decode cJ10_coder 6 = .ok (.aload_n 0, 1) := dk_42 (dk_at dksJ10_coder_0 6 rfl rfl)
theorem dJ10_coder_7 : decode cJ10_coder 7 = .ok (.getfield 15, 3) := dk_180 0 15 (dk_at dksJ10_coder_0 7 rfl rfl)
theorem dJ10_coder_10 : decode cJ10_coder 10 = .ok (.goto 4, 3) := dk_167 0 4 (dk_at dksJ10_coder_0 10 rfl rfl)
theorem dJ10_coder_13 : decode cJ10_coder 13 = .ok (.iconst 1, 1) := dk_4 (dk_at dksJ10_coder_0 13 rfl rfl)
theorem dJ10_coder_14 : decode cJ10_coder 14 = .ok (.ireturn, 1) := dk_172 (dk_at dksJ10_coder_0 14 rfl rfl)
abbrev cJ10_checkBoundsOffCount : ByteArray := prog_39_method_157_code
def yJ10_checkBoundsOffCount : MethodName := ⟨RJ10, "checkBoundsOffCount", "(III)I"⟩
def dkwJ10_checkBoundsOffCount_0 : List UInt8 := [26, 27, 28, 178, 4, 29, 184, 4, 41, 172]
abbrev dktJ10_checkBoundsOffCount_0 : List UInt8 := dkwJ10_checkBoundsOffCount_0 ++ []
theorem dksJ10_checkBoundsOffCount_0 : cJ10_checkBoundsOffCount.data.toList.drop 0 = dktJ10_checkBoundsOffCount_0 := by decide +kernel
theorem dJ10_checkBoundsOffCount_0 : decode cJ10_checkBoundsOffCount 0 = .ok (.iload_n 0, 1) := dk_26 (dk_at dksJ10_checkBoundsOffCount_0 0 rfl rfl)
theorem dJ10_checkBoundsOffCount_1 : decode cJ10_checkBoundsOffCount 1 = .ok (.iload_n 1, 1) := dk_27 (dk_at dksJ10_checkBoundsOffCount_0 1 rfl rfl)
theorem dJ10_checkBoundsOffCount_2 : decode cJ10_checkBoundsOffCount 2 = .ok (.iload_n 2, 1) := dk_28 (dk_at dksJ10_checkBoundsOffCount_0 2 rfl rfl)
theorem dJ10_checkBoundsOffCount_3 : decode cJ10_checkBoundsOffCount 3 = .ok (.getstatic 1053, 3) := dk_178 4 29 (dk_at dksJ10_checkBoundsOffCount_0 3 rfl rfl)
theorem dJ10_checkBoundsOffCount_6 : decode cJ10_checkBoundsOffCount 6 = .ok (.invokestatic 1065, 3) := dk_184 4 41 (dk_at dksJ10_checkBoundsOffCount_0 6 rfl rfl)
theorem dJ10_checkBoundsOffCount_9 : decode cJ10_checkBoundsOffCount 9 = .ok (.ireturn, 1) := dk_172 (dk_at dksJ10_checkBoundsOffCount_0 9 rfl rfl)
abbrev cJ10_getBytes : ByteArray := prog_39_method_147_code
def yJ10_getBytes : MethodName := ⟨RJ10, "getBytes", "([BIB)V"⟩
def dkwJ10_getBytes_1 : List UInt8 := [184, 0, 212, 167, 0, 18, 42, 180, 0, 9, 3, 43, 28, 42, 180, 0, 9, 190, 184, 0, 106, 177]
abbrev dktJ10_getBytes_1 : List UInt8 := dkwJ10_getBytes_1 ++ []
def dkwJ10_getBytes_0 : List UInt8 := [42, 182, 1, 79, 29, 160, 0, 23, 42, 180, 0, 9, 3, 43, 28, 29, 120, 42, 180, 0, 9, 190]
abbrev dktJ10_getBytes_0 : List UInt8 := dkwJ10_getBytes_0 ++ dktJ10_getBytes_1
theorem dksJ10_getBytes_0 : cJ10_getBytes.data.toList.drop 0 = dktJ10_getBytes_0 := by decide +kernel
theorem dksJ10_getBytes_1 : cJ10_getBytes.data.toList.drop 22 = dktJ10_getBytes_1 := dk_seg dksJ10_getBytes_0 22 rfl rfl
theorem dJ10_getBytes_0 : decode cJ10_getBytes 0 = .ok (.aload_n 0, 1) := dk_42 (dk_at dksJ10_getBytes_0 0 rfl rfl)
theorem dJ10_getBytes_1 : decode cJ10_getBytes 1 = .ok (.invokevirtual 335, 3) := dk_182 1 79 (dk_at dksJ10_getBytes_0 1 rfl rfl)
theorem dJ10_getBytes_4 : decode cJ10_getBytes 4 = .ok (.iload_n 3, 1) := dk_29 (dk_at dksJ10_getBytes_0 4 rfl rfl)
theorem dJ10_getBytes_5 : decode cJ10_getBytes 5 = .ok (.if_icmp .ne 23, 3) := dk_160 0 23 (dk_at dksJ10_getBytes_0 5 rfl rfl)
theorem dJ10_getBytes_8 : decode cJ10_getBytes 8 = .ok (.aload_n 0, 1) := dk_42 (dk_at dksJ10_getBytes_0 8 rfl rfl)
theorem dJ10_getBytes_9 : decode cJ10_getBytes 9 = .ok (.getfield 9, 3) := dk_180 0 9 (dk_at dksJ10_getBytes_0 9 rfl rfl)
theorem dJ10_getBytes_12 : decode cJ10_getBytes 12 = .ok (.iconst 0, 1) := dk_3 (dk_at dksJ10_getBytes_0 12 rfl rfl)
theorem dJ10_getBytes_13 : decode cJ10_getBytes 13 = .ok (.aload_n 1, 1) := dk_43 (dk_at dksJ10_getBytes_0 13 rfl rfl)
theorem dJ10_getBytes_14 : decode cJ10_getBytes 14 = .ok (.iload_n 2, 1) := dk_28 (dk_at dksJ10_getBytes_0 14 rfl rfl)
theorem dJ10_getBytes_15 : decode cJ10_getBytes 15 = .ok (.iload_n 3, 1) := dk_29 (dk_at dksJ10_getBytes_0 15 rfl rfl)
theorem dJ10_getBytes_16 : decode cJ10_getBytes 16 = .ok (.ishl, 1) := dk_120 (dk_at dksJ10_getBytes_0 16 rfl rfl)
theorem dJ10_getBytes_17 : decode cJ10_getBytes 17 = .ok (.aload_n 0, 1) := dk_42 (dk_at dksJ10_getBytes_0 17 rfl rfl)
theorem dJ10_getBytes_18 : decode cJ10_getBytes 18 = .ok (.getfield 9, 3) := dk_180 0 9 (dk_at dksJ10_getBytes_0 18 rfl rfl)
theorem dJ10_getBytes_21 : decode cJ10_getBytes 21 = .ok (.arraylength, 1) := dk_190 (dk_at dksJ10_getBytes_0 21 rfl rfl)
theorem dJ10_getBytes_22 : decode cJ10_getBytes 22 = .ok (.invokestatic 212, 3) := dk_184 0 212 (dk_at dksJ10_getBytes_1 0 rfl rfl)
theorem dJ10_getBytes_25 : decode cJ10_getBytes 25 = .ok (.goto 18, 3) := dk_167 0 18 (dk_at dksJ10_getBytes_1 3 rfl rfl)
theorem dJ10_getBytes_28 : decode cJ10_getBytes 28 = .ok (.aload_n 0, 1) := dk_42 (dk_at dksJ10_getBytes_1 6 rfl rfl)
theorem dJ10_getBytes_29 : decode cJ10_getBytes 29 = .ok (.getfield 9, 3) := dk_180 0 9 (dk_at dksJ10_getBytes_1 7 rfl rfl)
theorem dJ10_getBytes_32 : decode cJ10_getBytes 32 = .ok (.iconst 0, 1) := dk_3 (dk_at dksJ10_getBytes_1 10 rfl rfl)
theorem dJ10_getBytes_33 : decode cJ10_getBytes 33 = .ok (.aload_n 1, 1) := dk_43 (dk_at dksJ10_getBytes_1 11 rfl rfl)
theorem dJ10_getBytes_34 : decode cJ10_getBytes 34 = .ok (.iload_n 2, 1) := dk_28 (dk_at dksJ10_getBytes_1 12 rfl rfl)
theorem dJ10_getBytes_35 : decode cJ10_getBytes 35 = .ok (.aload_n 0, 1) := dk_42 (dk_at dksJ10_getBytes_1 13 rfl rfl)
theorem dJ10_getBytes_36 : decode cJ10_getBytes 36 = .ok (.getfield 9, 3) := dk_180 0 9 (dk_at dksJ10_getBytes_1 14 rfl rfl)
theorem dJ10_getBytes_39 : decode cJ10_getBytes 39 = .ok (.arraylength, 1) := dk_190 (dk_at dksJ10_getBytes_1 17 rfl rfl)
theorem dJ10_getBytes_40 : decode cJ10_getBytes 40 = .ok (.invokestatic 106, 3) := dk_184 0 106 (dk_at dksJ10_getBytes_1 18 rfl rfl)
theorem dJ10_getBytes_43 : decode cJ10_getBytes 43 = .ok (.return_, 1) := dk_177 (dk_at dksJ10_getBytes_1 21 rfl rfl)
abbrev cJ10_init : ByteArray := prog_39_method_53_code
def yJ10_init : MethodName := ⟨RJ10, "<init>", "(Ljava/lang/StringBuilder;)V"⟩
def dkwJ10_init_0 : List UInt8 := [42, 43, 1, 183, 1, 233, 177]
abbrev dktJ10_init_0 : List UInt8 := dkwJ10_init_0 ++ []
theorem dksJ10_init_0 : cJ10_init.data.toList.drop 0 = dktJ10_init_0 := by decide +kernel
theorem dJ10_init_0 : decode cJ10_init 0 = .ok (.aload_n 0, 1) := dk_42 (dk_at dksJ10_init_0 0 rfl rfl)
theorem dJ10_init_1 : decode cJ10_init 1 = .ok (.aload_n 1, 1) := dk_43 (dk_at dksJ10_init_0 1 rfl rfl)
theorem dJ10_init_2 : decode cJ10_init 2 = .ok (.aconst_null, 1) := dk_1 (dk_at dksJ10_init_0 2 rfl rfl)
theorem dJ10_init_3 : decode cJ10_init 3 = .ok (.invokespecial 489, 3) := dk_183 1 233 (dk_at dksJ10_init_0 3 rfl rfl)
theorem dJ10_init_6 : decode cJ10_init 6 = .ok (.return_, 1) := dk_177 (dk_at dksJ10_init_0 6 rfl rfl)
abbrev cJ10_init_2 : ByteArray := prog_39_method_150_code
def yJ10_init_2 : MethodName := ⟨RJ10, "<init>", "(Ljava/lang/AbstractStringBuilder;Ljava/lang/Void;)V"⟩
def dkwJ10_init_2_4 : List UInt8 := [181, 0, 9, 177]
abbrev dktJ10_init_2_4 : List UInt8 := dkwJ10_init_2_4 ++ []
def dkwJ10_init_2_3 : List UInt8 := [184, 0, 47, 181, 0, 15, 177, 42, 4, 181, 0, 15, 42, 45, 3, 21, 4, 4, 120, 184, 0, 54]
abbrev dktJ10_init_2_3 : List UInt8 := dkwJ10_init_2_3 ++ dktJ10_init_2_4
def dkwJ10_init_2_2 : List UInt8 := [180, 4, 24, 153, 0, 28, 42, 45, 3, 21, 4, 184, 4, 27, 181, 0, 9, 42, 42, 180, 0, 9, 21, 4]
abbrev dktJ10_init_2_2 : List UInt8 := dkwJ10_init_2_2 ++ dktJ10_init_2_3
def dkwJ10_init_2_1 : List UInt8 := [181, 0, 15, 42, 45, 3, 21, 4, 184, 0, 54, 181, 0, 9, 167, 0, 59, 178, 0, 38, 153, 0, 35, 43]
abbrev dktJ10_init_2_1 : List UInt8 := dkwJ10_init_2_1 ++ dktJ10_init_2_2
def dkwJ10_init_2_0 : List UInt8 := [42, 183, 0, 1, 43, 182, 2, 40, 78, 43, 182, 2, 37, 54, 4, 43, 182, 4, 23, 153, 0, 22, 42, 3]
abbrev dktJ10_init_2_0 : List UInt8 := dkwJ10_init_2_0 ++ dktJ10_init_2_1
theorem dksJ10_init_2_0 : cJ10_init_2.data.toList.drop 0 = dktJ10_init_2_0 := by decide +kernel
theorem dksJ10_init_2_1 : cJ10_init_2.data.toList.drop 24 = dktJ10_init_2_1 := dk_seg dksJ10_init_2_0 24 rfl rfl
theorem dksJ10_init_2_2 : cJ10_init_2.data.toList.drop 48 = dktJ10_init_2_2 := dk_seg dksJ10_init_2_1 24 rfl rfl
theorem dksJ10_init_2_3 : cJ10_init_2.data.toList.drop 72 = dktJ10_init_2_3 := dk_seg dksJ10_init_2_2 24 rfl rfl
theorem dksJ10_init_2_4 : cJ10_init_2.data.toList.drop 94 = dktJ10_init_2_4 := dk_seg dksJ10_init_2_3 22 rfl rfl
theorem dJ10_init_2_0 : decode cJ10_init_2 0 = .ok (.aload_n 0, 1) := dk_42 (dk_at dksJ10_init_2_0 0 rfl rfl)
theorem dJ10_init_2_1 : decode cJ10_init_2 1 = .ok (.invokespecial 1, 3) := dk_183 0 1 (dk_at dksJ10_init_2_0 1 rfl rfl)
theorem dJ10_init_2_4 : decode cJ10_init_2 4 = .ok (.aload_n 1, 1) := dk_43 (dk_at dksJ10_init_2_0 4 rfl rfl)
theorem dJ10_init_2_5 : decode cJ10_init_2 5 = .ok (.invokevirtual 552, 3) := dk_182 2 40 (dk_at dksJ10_init_2_0 5 rfl rfl)
theorem dJ10_init_2_8 : decode cJ10_init_2 8 = .ok (.astore_n 3, 1) := dk_78 (dk_at dksJ10_init_2_0 8 rfl rfl)
theorem dJ10_init_2_9 : decode cJ10_init_2 9 = .ok (.aload_n 1, 1) := dk_43 (dk_at dksJ10_init_2_0 9 rfl rfl)
theorem dJ10_init_2_10 : decode cJ10_init_2 10 = .ok (.invokevirtual 549, 3) := dk_182 2 37 (dk_at dksJ10_init_2_0 10 rfl rfl)
theorem dJ10_init_2_13 : decode cJ10_init_2 13 = .ok (.istore 4, 2) := dk_54 4 (dk_at dksJ10_init_2_0 13 rfl rfl)
theorem dJ10_init_2_15 : decode cJ10_init_2 15 = .ok (.aload_n 1, 1) := dk_43 (dk_at dksJ10_init_2_0 15 rfl rfl)
theorem dJ10_init_2_16 : decode cJ10_init_2 16 = .ok (.invokevirtual 1047, 3) := dk_182 4 23 (dk_at dksJ10_init_2_0 16 rfl rfl)
theorem dJ10_init_2_19 : decode cJ10_init_2 19 = .ok (.ifCond .eq 22, 3) := dk_153 0 22 (dk_at dksJ10_init_2_0 19 rfl rfl)
theorem dJ10_init_2_22 : decode cJ10_init_2 22 = .ok (.aload_n 0, 1) := dk_42 (dk_at dksJ10_init_2_0 22 rfl rfl)
theorem dJ10_init_2_23 : decode cJ10_init_2 23 = .ok (.iconst 0, 1) := dk_3 (dk_at dksJ10_init_2_0 23 rfl rfl)
theorem dJ10_init_2_24 : decode cJ10_init_2 24 = .ok (.putfield 15, 3) := dk_181 0 15 (dk_at dksJ10_init_2_1 0 rfl rfl)
theorem dJ10_init_2_27 : decode cJ10_init_2 27 = .ok (.aload_n 0, 1) := dk_42 (dk_at dksJ10_init_2_1 3 rfl rfl)
theorem dJ10_init_2_28 : decode cJ10_init_2 28 = .ok (.aload_n 3, 1) := dk_45 (dk_at dksJ10_init_2_1 4 rfl rfl)
theorem dJ10_init_2_29 : decode cJ10_init_2 29 = .ok (.iconst 0, 1) := dk_3 (dk_at dksJ10_init_2_1 5 rfl rfl)
theorem dJ10_init_2_30 : decode cJ10_init_2 30 = .ok (.iload 4, 2) := dk_21 4 (dk_at dksJ10_init_2_1 6 rfl rfl)
theorem dJ10_init_2_32 : decode cJ10_init_2 32 = .ok (.invokestatic 54, 3) := dk_184 0 54 (dk_at dksJ10_init_2_1 8 rfl rfl)
theorem dJ10_init_2_35 : decode cJ10_init_2 35 = .ok (.putfield 9, 3) := dk_181 0 9 (dk_at dksJ10_init_2_1 11 rfl rfl)
theorem dJ10_init_2_38 : decode cJ10_init_2 38 = .ok (.goto 59, 3) := dk_167 0 59 (dk_at dksJ10_init_2_1 14 rfl rfl)
theorem dJ10_init_2_41 : decode cJ10_init_2 41 = .ok (.getstatic 38, 3) := dk_178 0 38 (dk_at dksJ10_init_2_1 17 rfl rfl)
theorem dJ10_init_2_44 : decode cJ10_init_2 44 = .ok (.ifCond .eq 35, 3) := dk_153 0 35 (dk_at dksJ10_init_2_1 20 rfl rfl)
theorem dJ10_init_2_47 : decode cJ10_init_2 47 = .ok (.aload_n 1, 1) := dk_43 (dk_at dksJ10_init_2_1 23 rfl rfl)
theorem dJ10_init_2_48 : decode cJ10_init_2 48 = .ok (.getfield 1048, 3) := dk_180 4 24 (dk_at dksJ10_init_2_2 0 rfl rfl)
theorem dJ10_init_2_51 : decode cJ10_init_2 51 = .ok (.ifCond .eq 28, 3) := dk_153 0 28 (dk_at dksJ10_init_2_2 3 rfl rfl)
theorem dJ10_init_2_54 : decode cJ10_init_2 54 = .ok (.aload_n 0, 1) := dk_42 (dk_at dksJ10_init_2_2 6 rfl rfl)
theorem dJ10_init_2_55 : decode cJ10_init_2 55 = .ok (.aload_n 3, 1) := dk_45 (dk_at dksJ10_init_2_2 7 rfl rfl)
theorem dJ10_init_2_56 : decode cJ10_init_2 56 = .ok (.iconst 0, 1) := dk_3 (dk_at dksJ10_init_2_2 8 rfl rfl)
theorem dJ10_init_2_57 : decode cJ10_init_2 57 = .ok (.iload 4, 2) := dk_21 4 (dk_at dksJ10_init_2_2 9 rfl rfl)
theorem dJ10_init_2_59 : decode cJ10_init_2 59 = .ok (.invokestatic 1051, 3) := dk_184 4 27 (dk_at dksJ10_init_2_2 11 rfl rfl)
theorem dJ10_init_2_62 : decode cJ10_init_2 62 = .ok (.putfield 9, 3) := dk_181 0 9 (dk_at dksJ10_init_2_2 14 rfl rfl)
theorem dJ10_init_2_65 : decode cJ10_init_2 65 = .ok (.aload_n 0, 1) := dk_42 (dk_at dksJ10_init_2_2 17 rfl rfl)
theorem dJ10_init_2_66 : decode cJ10_init_2 66 = .ok (.aload_n 0, 1) := dk_42 (dk_at dksJ10_init_2_2 18 rfl rfl)
theorem dJ10_init_2_67 : decode cJ10_init_2 67 = .ok (.getfield 9, 3) := dk_180 0 9 (dk_at dksJ10_init_2_2 19 rfl rfl)
theorem dJ10_init_2_70 : decode cJ10_init_2 70 = .ok (.iload 4, 2) := dk_21 4 (dk_at dksJ10_init_2_2 22 rfl rfl)
theorem dJ10_init_2_72 : decode cJ10_init_2 72 = .ok (.invokestatic 47, 3) := dk_184 0 47 (dk_at dksJ10_init_2_3 0 rfl rfl)
theorem dJ10_init_2_75 : decode cJ10_init_2 75 = .ok (.putfield 15, 3) := dk_181 0 15 (dk_at dksJ10_init_2_3 3 rfl rfl)
theorem dJ10_init_2_78 : decode cJ10_init_2 78 = .ok (.return_, 1) := dk_177 (dk_at dksJ10_init_2_3 6 rfl rfl)
theorem dJ10_init_2_79 : decode cJ10_init_2 79 = .ok (.aload_n 0, 1) := dk_42 (dk_at dksJ10_init_2_3 7 rfl rfl)
theorem dJ10_init_2_80 : decode cJ10_init_2 80 = .ok (.iconst 1, 1) := dk_4 (dk_at dksJ10_init_2_3 8 rfl rfl)
theorem dJ10_init_2_81 : decode cJ10_init_2 81 = .ok (.putfield 15, 3) := dk_181 0 15 (dk_at dksJ10_init_2_3 9 rfl rfl)
theorem dJ10_init_2_84 : decode cJ10_init_2 84 = .ok (.aload_n 0, 1) := dk_42 (dk_at dksJ10_init_2_3 12 rfl rfl)
theorem dJ10_init_2_85 : decode cJ10_init_2 85 = .ok (.aload_n 3, 1) := dk_45 (dk_at dksJ10_init_2_3 13 rfl rfl)
theorem dJ10_init_2_86 : decode cJ10_init_2 86 = .ok (.iconst 0, 1) := dk_3 (dk_at dksJ10_init_2_3 14 rfl rfl)
theorem dJ10_init_2_87 : decode cJ10_init_2 87 = .ok (.iload 4, 2) := dk_21 4 (dk_at dksJ10_init_2_3 15 rfl rfl)
theorem dJ10_init_2_89 : decode cJ10_init_2 89 = .ok (.iconst 1, 1) := dk_4 (dk_at dksJ10_init_2_3 17 rfl rfl)
theorem dJ10_init_2_90 : decode cJ10_init_2 90 = .ok (.ishl, 1) := dk_120 (dk_at dksJ10_init_2_3 18 rfl rfl)
theorem dJ10_init_2_91 : decode cJ10_init_2 91 = .ok (.invokestatic 54, 3) := dk_184 0 54 (dk_at dksJ10_init_2_3 19 rfl rfl)
theorem dJ10_init_2_94 : decode cJ10_init_2 94 = .ok (.putfield 9, 3) := dk_181 0 9 (dk_at dksJ10_init_2_4 0 rfl rfl)
theorem dJ10_init_2_97 : decode cJ10_init_2 97 = .ok (.return_, 1) := dk_177 (dk_at dksJ10_init_2_4 3 rfl rfl)
abbrev cJ10_checkIndex : ByteArray := prog_39_method_155_code
def yJ10_checkIndex : MethodName := ⟨RJ10, "checkIndex", "(II)V"⟩
def dkwJ10_checkIndex_0 : List UInt8 := [26, 27, 178, 4, 29, 184, 4, 35, 87, 177]
abbrev dktJ10_checkIndex_0 : List UInt8 := dkwJ10_checkIndex_0 ++ []
theorem dksJ10_checkIndex_0 : cJ10_checkIndex.data.toList.drop 0 = dktJ10_checkIndex_0 := by decide +kernel
theorem dJ10_checkIndex_0 : decode cJ10_checkIndex 0 = .ok (.iload_n 0, 1) := dk_26 (dk_at dksJ10_checkIndex_0 0 rfl rfl)
theorem dJ10_checkIndex_1 : decode cJ10_checkIndex 1 = .ok (.iload_n 1, 1) := dk_27 (dk_at dksJ10_checkIndex_0 1 rfl rfl)
theorem dJ10_checkIndex_2 : decode cJ10_checkIndex 2 = .ok (.getstatic 1053, 3) := dk_178 4 29 (dk_at dksJ10_checkIndex_0 2 rfl rfl)
theorem dJ10_checkIndex_5 : decode cJ10_checkIndex 5 = .ok (.invokestatic 1059, 3) := dk_184 4 35 (dk_at dksJ10_checkIndex_0 5 rfl rfl)
theorem dJ10_checkIndex_8 : decode cJ10_checkIndex 8 = .ok (.pop, 1) := dk_87 (dk_at dksJ10_checkIndex_0 8 rfl rfl)
theorem dJ10_checkIndex_9 : decode cJ10_checkIndex 9 = .ok (.return_, 1) := dk_177 (dk_at dksJ10_checkIndex_0 9 rfl rfl)
abbrev cJ10_isLatin1 : ByteArray := prog_39_method_154_code
def yJ10_isLatin1 : MethodName := ⟨RJ10, "isLatin1", "()Z"⟩
def dkwJ10_isLatin1_0 : List UInt8 := [178, 0, 38, 153, 0, 14, 42, 180, 0, 15, 154, 0, 7, 4, 167, 0, 4, 3, 172]
abbrev dktJ10_isLatin1_0 : List UInt8 := dkwJ10_isLatin1_0 ++ []
theorem dksJ10_isLatin1_0 : cJ10_isLatin1.data.toList.drop 0 = dktJ10_isLatin1_0 := by decide +kernel
theorem dJ10_isLatin1_0 : decode cJ10_isLatin1 0 = .ok (.getstatic 38, 3) := dk_178 0 38 (dk_at dksJ10_isLatin1_0 0 rfl rfl)
theorem dJ10_isLatin1_3 : decode cJ10_isLatin1 3 = .ok (.ifCond .eq 14, 3) := dk_153 0 14 (dk_at dksJ10_isLatin1_0 3 rfl rfl)
theorem dJ10_isLatin1_6 : decode cJ10_isLatin1 6 = .ok (.aload_n 0, 1) := dk_42 (dk_at dksJ10_isLatin1_0 6 rfl rfl)
theorem dJ10_isLatin1_7 : decode cJ10_isLatin1 7 = .ok (.getfield 15, 3) := dk_180 0 15 (dk_at dksJ10_isLatin1_0 7 rfl rfl)
theorem dJ10_isLatin1_10 : decode cJ10_isLatin1 10 = .ok (.ifCond .ne 7, 3) := dk_154 0 7 (dk_at dksJ10_isLatin1_0 10 rfl rfl)
theorem dJ10_isLatin1_13 : decode cJ10_isLatin1 13 = .ok (.iconst 1, 1) := dk_4 (dk_at dksJ10_isLatin1_0 13 rfl rfl)
theorem dJ10_isLatin1_14 : decode cJ10_isLatin1 14 = .ok (.goto 4, 3) := dk_167 0 4 (dk_at dksJ10_isLatin1_0 14 rfl rfl)
theorem dJ10_isLatin1_17 : decode cJ10_isLatin1 17 = .ok (.iconst 0, 1) := dk_3 (dk_at dksJ10_isLatin1_0 17 rfl rfl)
theorem dJ10_isLatin1_18 : decode cJ10_isLatin1 18 = .ok (.ireturn, 1) := dk_172 (dk_at dksJ10_isLatin1_0 18 rfl rfl)
abbrev cJ10_value : ByteArray := prog_39_method_153_code
def yJ10_value : MethodName := ⟨RJ10, "value", "()[B"⟩
theorem dJ10_value_0 : decode cJ10_value 0 = .ok (.aload_n 0, 1) := by decide +kernel
theorem dJ10_value_1 : decode cJ10_value 1 = .ok (.getfield 9, 3) := by decide +kernel
theorem dJ10_value_4 : decode cJ10_value 4 = .ok (.areturn, 1) := by decide +kernel
abbrev cJ10_charAt : ByteArray := prog_39_method_56_code
def yJ10_charAt : MethodName := ⟨RJ10, "charAt", "(I)C"⟩
def dkwJ10_charAt_1 : List UInt8 := [172]
abbrev dktJ10_charAt_1 : List UInt8 := dkwJ10_charAt_1 ++ []
def dkwJ10_charAt_0 : List UInt8 := [42, 182, 1, 236, 153, 0, 12, 42, 180, 0, 9, 27, 184, 1, 239, 172, 42, 180, 0, 9, 27, 184, 1, 242]
abbrev dktJ10_charAt_0 : List UInt8 := dkwJ10_charAt_0 ++ dktJ10_charAt_1
theorem dksJ10_charAt_0 : cJ10_charAt.data.toList.drop 0 = dktJ10_charAt_0 := by decide +kernel
theorem dksJ10_charAt_1 : cJ10_charAt.data.toList.drop 24 = dktJ10_charAt_1 := dk_seg dksJ10_charAt_0 24 rfl rfl
theorem dJ10_charAt_0 : decode cJ10_charAt 0 = .ok (.aload_n 0, 1) := dk_42 (dk_at dksJ10_charAt_0 0 rfl rfl)
theorem dJ10_charAt_1 : decode cJ10_charAt 1 = .ok (.invokevirtual 492, 3) := dk_182 1 236 (dk_at dksJ10_charAt_0 1 rfl rfl)
theorem dJ10_charAt_4 : decode cJ10_charAt 4 = .ok (.ifCond .eq 12, 3) := dk_153 0 12 (dk_at dksJ10_charAt_0 4 rfl rfl)
theorem dJ10_charAt_7 : decode cJ10_charAt 7 = .ok (.aload_n 0, 1) := dk_42 (dk_at dksJ10_charAt_0 7 rfl rfl)
theorem dJ10_charAt_8 : decode cJ10_charAt 8 = .ok (.getfield 9, 3) := dk_180 0 9 (dk_at dksJ10_charAt_0 8 rfl rfl)
theorem dJ10_charAt_11 : decode cJ10_charAt 11 = .ok (.iload_n 1, 1) := dk_27 (dk_at dksJ10_charAt_0 11 rfl rfl)
theorem dJ10_charAt_12 : decode cJ10_charAt 12 = .ok (.invokestatic 495, 3) := dk_184 1 239 (dk_at dksJ10_charAt_0 12 rfl rfl)
theorem dJ10_charAt_15 : decode cJ10_charAt 15 = .ok (.ireturn, 1) := dk_172 (dk_at dksJ10_charAt_0 15 rfl rfl)
theorem dJ10_charAt_16 : decode cJ10_charAt 16 = .ok (.aload_n 0, 1) := dk_42 (dk_at dksJ10_charAt_0 16 rfl rfl)
theorem dJ10_charAt_17 : decode cJ10_charAt 17 = .ok (.getfield 9, 3) := dk_180 0 9 (dk_at dksJ10_charAt_0 17 rfl rfl)
theorem dJ10_charAt_20 : decode cJ10_charAt 20 = .ok (.iload_n 1, 1) := dk_27 (dk_at dksJ10_charAt_0 20 rfl rfl)
theorem dJ10_charAt_21 : decode cJ10_charAt 21 = .ok (.invokestatic 498, 3) := dk_184 1 242 (dk_at dksJ10_charAt_0 21 rfl rfl)
theorem dJ10_charAt_24 : decode cJ10_charAt 24 = .ok (.ireturn, 1) := dk_172 (dk_at dksJ10_charAt_1 0 rfl rfl)
abbrev cJ10_valueOf : ByteArray := prog_39_method_133_code
def yJ10_valueOf : MethodName := ⟨RJ10, "valueOf", "(Ljava/lang/Object;)Ljava/lang/String;"⟩
def dkwJ10_valueOf_0 : List UInt8 := [42, 199, 0, 9, 19, 3, 237, 167, 0, 7, 42, 182, 3, 239, 176]
abbrev dktJ10_valueOf_0 : List UInt8 := dkwJ10_valueOf_0 ++ []
theorem dksJ10_valueOf_0 : cJ10_valueOf.data.toList.drop 0 = dktJ10_valueOf_0 := by decide +kernel
theorem dJ10_valueOf_0 : decode cJ10_valueOf 0 = .ok (.aload_n 0, 1) := dk_42 (dk_at dksJ10_valueOf_0 0 rfl rfl)
theorem dJ10_valueOf_1 : decode cJ10_valueOf 1 = .ok (.ifnonnull 9, 3) := dk_199 0 9 (dk_at dksJ10_valueOf_0 1 rfl rfl)
theorem dJ10_valueOf_4 : decode cJ10_valueOf 4 = .ok (.ldc_w 1005, 3) := dk_19 3 237 (dk_at dksJ10_valueOf_0 4 rfl rfl)
theorem dJ10_valueOf_7 : decode cJ10_valueOf 7 = .ok (.goto 7, 3) := dk_167 0 7 (dk_at dksJ10_valueOf_0 7 rfl rfl)
theorem dJ10_valueOf_10 : decode cJ10_valueOf 10 = .ok (.aload_n 0, 1) := dk_42 (dk_at dksJ10_valueOf_0 10 rfl rfl)
theorem dJ10_valueOf_11 : decode cJ10_valueOf 11 = .ok (.invokevirtual 1007, 3) := dk_182 3 239 (dk_at dksJ10_valueOf_0 11 rfl rfl)
theorem dJ10_valueOf_14 : decode cJ10_valueOf 14 = .ok (.areturn, 1) := dk_176 (dk_at dksJ10_valueOf_0 14 rfl rfl)
abbrev cJ10_init_3 : ByteArray := prog_39_method_151_code
def yJ10_init_3 : MethodName := ⟨RJ10, "<init>", "([BB)V"⟩
def dkwJ10_init_3_0 : List UInt8 := [42, 183, 0, 1, 42, 43, 181, 0, 9, 42, 28, 181, 0, 15, 177]
abbrev dktJ10_init_3_0 : List UInt8 := dkwJ10_init_3_0 ++ []
theorem dksJ10_init_3_0 : cJ10_init_3.data.toList.drop 0 = dktJ10_init_3_0 := by decide +kernel
theorem dJ10_init_3_0 : decode cJ10_init_3 0 = .ok (.aload_n 0, 1) := dk_42 (dk_at dksJ10_init_3_0 0 rfl rfl)
theorem dJ10_init_3_1 : decode cJ10_init_3 1 = .ok (.invokespecial 1, 3) := dk_183 0 1 (dk_at dksJ10_init_3_0 1 rfl rfl)
theorem dJ10_init_3_4 : decode cJ10_init_3 4 = .ok (.aload_n 0, 1) := dk_42 (dk_at dksJ10_init_3_0 4 rfl rfl)
theorem dJ10_init_3_5 : decode cJ10_init_3 5 = .ok (.aload_n 1, 1) := dk_43 (dk_at dksJ10_init_3_0 5 rfl rfl)
theorem dJ10_init_3_6 : decode cJ10_init_3 6 = .ok (.putfield 9, 3) := dk_181 0 9 (dk_at dksJ10_init_3_0 6 rfl rfl)
theorem dJ10_init_3_9 : decode cJ10_init_3 9 = .ok (.aload_n 0, 1) := dk_42 (dk_at dksJ10_init_3_0 9 rfl rfl)
theorem dJ10_init_3_10 : decode cJ10_init_3 10 = .ok (.iload_n 2, 1) := dk_28 (dk_at dksJ10_init_3_0 10 rfl rfl)
theorem dJ10_init_3_11 : decode cJ10_init_3 11 = .ok (.putfield 15, 3) := dk_181 0 15 (dk_at dksJ10_init_3_0 11 rfl rfl)
theorem dJ10_init_3_14 : decode cJ10_init_3 14 = .ok (.return_, 1) := dk_177 (dk_at dksJ10_init_3_0 14 rfl rfl)
abbrev cJ10_toString : ByteArray := prog_39_method_126_code
def yJ10_toString : MethodName := ⟨RJ10, "toString", "()Ljava/lang/String;"⟩
theorem dJ10_toString_0 : decode cJ10_toString 0 = .ok (.aload_n 0, 1) := by decide +kernel
theorem dJ10_toString_1 : decode cJ10_toString 1 = .ok (.areturn, 1) := by decide +kernel
abbrev cJ10_hashCode : ByteArray := prog_39_method_78_code
def yJ10_hashCode : MethodName := ⟨RJ10, "hashCode", "()I"⟩
def dkwJ10_hashCode_2 : List UInt8 := [181, 0, 23, 167, 0, 8, 42, 27, 181, 0, 19, 27, 172]
abbrev dktJ10_hashCode_2 : List UInt8 := dkwJ10_hashCode_2 ++ []
def dkwJ10_hashCode_1 : List UInt8 := [180, 0, 9, 184, 2, 116, 167, 0, 10, 42, 180, 0, 9, 184, 2, 120, 60, 27, 154, 0, 11, 42, 4]
abbrev dktJ10_hashCode_1 : List UInt8 := dkwJ10_hashCode_1 ++ dktJ10_hashCode_2
def dkwJ10_hashCode_0 : List UInt8 := [42, 180, 0, 19, 60, 27, 154, 0, 52, 42, 180, 0, 23, 154, 0, 45, 42, 182, 1, 236, 153, 0, 13, 42]
abbrev dktJ10_hashCode_0 : List UInt8 := dkwJ10_hashCode_0 ++ dktJ10_hashCode_1
theorem dksJ10_hashCode_0 : cJ10_hashCode.data.toList.drop 0 = dktJ10_hashCode_0 := by decide +kernel
theorem dksJ10_hashCode_1 : cJ10_hashCode.data.toList.drop 24 = dktJ10_hashCode_1 := dk_seg dksJ10_hashCode_0 24 rfl rfl
theorem dksJ10_hashCode_2 : cJ10_hashCode.data.toList.drop 47 = dktJ10_hashCode_2 := dk_seg dksJ10_hashCode_1 23 rfl rfl
theorem dJ10_hashCode_0 : decode cJ10_hashCode 0 = .ok (.aload_n 0, 1) := dk_42 (dk_at dksJ10_hashCode_0 0 rfl rfl)
theorem dJ10_hashCode_1 : decode cJ10_hashCode 1 = .ok (.getfield 19, 3) := dk_180 0 19 (dk_at dksJ10_hashCode_0 1 rfl rfl)
theorem dJ10_hashCode_4 : decode cJ10_hashCode 4 = .ok (.istore_n 1, 1) := dk_60 (dk_at dksJ10_hashCode_0 4 rfl rfl)
theorem dJ10_hashCode_5 : decode cJ10_hashCode 5 = .ok (.iload_n 1, 1) := dk_27 (dk_at dksJ10_hashCode_0 5 rfl rfl)
theorem dJ10_hashCode_6 : decode cJ10_hashCode 6 = .ok (.ifCond .ne 52, 3) := dk_154 0 52 (dk_at dksJ10_hashCode_0 6 rfl rfl)
theorem dJ10_hashCode_9 : decode cJ10_hashCode 9 = .ok (.aload_n 0, 1) := dk_42 (dk_at dksJ10_hashCode_0 9 rfl rfl)
theorem dJ10_hashCode_10 : decode cJ10_hashCode 10 = .ok (.getfield 23, 3) := dk_180 0 23 (dk_at dksJ10_hashCode_0 10 rfl rfl)
theorem dJ10_hashCode_13 : decode cJ10_hashCode 13 = .ok (.ifCond .ne 45, 3) := dk_154 0 45 (dk_at dksJ10_hashCode_0 13 rfl rfl)
theorem dJ10_hashCode_16 : decode cJ10_hashCode 16 = .ok (.aload_n 0, 1) := dk_42 (dk_at dksJ10_hashCode_0 16 rfl rfl)
theorem dJ10_hashCode_17 : decode cJ10_hashCode 17 = .ok (.invokevirtual 492, 3) := dk_182 1 236 (dk_at dksJ10_hashCode_0 17 rfl rfl)
theorem dJ10_hashCode_20 : decode cJ10_hashCode 20 = .ok (.ifCond .eq 13, 3) := dk_153 0 13 (dk_at dksJ10_hashCode_0 20 rfl rfl)
theorem dJ10_hashCode_23 : decode cJ10_hashCode 23 = .ok (.aload_n 0, 1) := dk_42 (dk_at dksJ10_hashCode_0 23 rfl rfl)
theorem dJ10_hashCode_24 : decode cJ10_hashCode 24 = .ok (.getfield 9, 3) := dk_180 0 9 (dk_at dksJ10_hashCode_1 0 rfl rfl)
theorem dJ10_hashCode_27 : decode cJ10_hashCode 27 = .ok (.invokestatic 628, 3) := dk_184 2 116 (dk_at dksJ10_hashCode_1 3 rfl rfl)
theorem dJ10_hashCode_30 : decode cJ10_hashCode 30 = .ok (.goto 10, 3) := dk_167 0 10 (dk_at dksJ10_hashCode_1 6 rfl rfl)
theorem dJ10_hashCode_33 : decode cJ10_hashCode 33 = .ok (.aload_n 0, 1) := dk_42 (dk_at dksJ10_hashCode_1 9 rfl rfl)
theorem dJ10_hashCode_34 : decode cJ10_hashCode 34 = .ok (.getfield 9, 3) := dk_180 0 9 (dk_at dksJ10_hashCode_1 10 rfl rfl)
theorem dJ10_hashCode_37 : decode cJ10_hashCode 37 = .ok (.invokestatic 632, 3) := dk_184 2 120 (dk_at dksJ10_hashCode_1 13 rfl rfl)
theorem dJ10_hashCode_40 : decode cJ10_hashCode 40 = .ok (.istore_n 1, 1) := dk_60 (dk_at dksJ10_hashCode_1 16 rfl rfl)
theorem dJ10_hashCode_41 : decode cJ10_hashCode 41 = .ok (.iload_n 1, 1) := dk_27 (dk_at dksJ10_hashCode_1 17 rfl rfl)
theorem dJ10_hashCode_42 : decode cJ10_hashCode 42 = .ok (.ifCond .ne 11, 3) := dk_154 0 11 (dk_at dksJ10_hashCode_1 18 rfl rfl)
theorem dJ10_hashCode_45 : decode cJ10_hashCode 45 = .ok (.aload_n 0, 1) := dk_42 (dk_at dksJ10_hashCode_1 21 rfl rfl)
theorem dJ10_hashCode_46 : decode cJ10_hashCode 46 = .ok (.iconst 1, 1) := dk_4 (dk_at dksJ10_hashCode_1 22 rfl rfl)
theorem dJ10_hashCode_47 : decode cJ10_hashCode 47 = .ok (.putfield 23, 3) := dk_181 0 23 (dk_at dksJ10_hashCode_2 0 rfl rfl)
theorem dJ10_hashCode_50 : decode cJ10_hashCode 50 = .ok (.goto 8, 3) := dk_167 0 8 (dk_at dksJ10_hashCode_2 3 rfl rfl)
theorem dJ10_hashCode_53 : decode cJ10_hashCode 53 = .ok (.aload_n 0, 1) := dk_42 (dk_at dksJ10_hashCode_2 6 rfl rfl)
theorem dJ10_hashCode_54 : decode cJ10_hashCode 54 = .ok (.iload_n 1, 1) := dk_27 (dk_at dksJ10_hashCode_2 7 rfl rfl)
theorem dJ10_hashCode_55 : decode cJ10_hashCode 55 = .ok (.putfield 19, 3) := dk_181 0 19 (dk_at dksJ10_hashCode_2 8 rfl rfl)
theorem dJ10_hashCode_58 : decode cJ10_hashCode 58 = .ok (.iload_n 1, 1) := dk_27 (dk_at dksJ10_hashCode_2 11 rfl rfl)
theorem dJ10_hashCode_59 : decode cJ10_hashCode 59 = .ok (.ireturn, 1) := dk_172 (dk_at dksJ10_hashCode_2 12 rfl rfl)
abbrev cJ10_compareTo : ByteArray := prog_39_method_162_code
def yJ10_compareTo : MethodName := ⟨RJ10, "compareTo", "(Ljava/lang/Object;)I"⟩
def dkwJ10_compareTo_0 : List UInt8 := [42, 43, 192, 0, 10, 182, 4, 60, 172]
abbrev dktJ10_compareTo_0 : List UInt8 := dkwJ10_compareTo_0 ++ []
theorem dksJ10_compareTo_0 : cJ10_compareTo.data.toList.drop 0 = dktJ10_compareTo_0 := by decide +kernel
theorem dJ10_compareTo_0 : decode cJ10_compareTo 0 = .ok (.aload_n 0, 1) := dk_42 (dk_at dksJ10_compareTo_0 0 rfl rfl)
theorem dJ10_compareTo_1 : decode cJ10_compareTo 1 = .ok (.aload_n 1, 1) := dk_43 (dk_at dksJ10_compareTo_0 1 rfl rfl)
theorem dJ10_compareTo_2 : decode cJ10_compareTo 2 = .ok (.checkcast 10, 3) := dk_192 0 10 (dk_at dksJ10_compareTo_0 2 rfl rfl)
theorem dJ10_compareTo_5 : decode cJ10_compareTo 5 = .ok (.invokevirtual 1084, 3) := dk_182 4 60 (dk_at dksJ10_compareTo_0 5 rfl rfl)
theorem dJ10_compareTo_8 : decode cJ10_compareTo 8 = .ok (.ireturn, 1) := dk_172 (dk_at dksJ10_compareTo_0 8 rfl rfl)
abbrev cJ10_compareTo_2 : ByteArray := prog_39_method_71_code
def yJ10_compareTo_2 : MethodName := ⟨RJ10, "compareTo", "(Ljava/lang/String;)I"⟩
def dkwJ10_compareTo_2_2 : List UInt8 := [154, 0, 11, 44, 45, 184, 2, 79, 167, 0, 8, 44, 45, 184, 2, 82, 172]
abbrev dktJ10_compareTo_2_2 : List UInt8 := dkwJ10_compareTo_2_2 ++ []
def dkwJ10_compareTo_2_1 : List UInt8 := [160, 0, 22, 21, 4, 154, 0, 11, 44, 45, 184, 2, 74, 167, 0, 8, 44, 45, 184, 2, 78, 172, 21, 4]
abbrev dktJ10_compareTo_2_1 : List UInt8 := dkwJ10_compareTo_2_1 ++ dktJ10_compareTo_2_2
def dkwJ10_compareTo_2_0 : List UInt8 := [42, 180, 0, 9, 77, 43, 180, 0, 9, 78, 42, 182, 1, 79, 54, 4, 21, 4, 43, 182, 1, 79]
abbrev dktJ10_compareTo_2_0 : List UInt8 := dkwJ10_compareTo_2_0 ++ dktJ10_compareTo_2_1
theorem dksJ10_compareTo_2_0 : cJ10_compareTo_2.data.toList.drop 0 = dktJ10_compareTo_2_0 := by decide +kernel
theorem dksJ10_compareTo_2_1 : cJ10_compareTo_2.data.toList.drop 22 = dktJ10_compareTo_2_1 := dk_seg dksJ10_compareTo_2_0 22 rfl rfl
theorem dksJ10_compareTo_2_2 : cJ10_compareTo_2.data.toList.drop 46 = dktJ10_compareTo_2_2 := dk_seg dksJ10_compareTo_2_1 24 rfl rfl
theorem dJ10_compareTo_2_0 : decode cJ10_compareTo_2 0 = .ok (.aload_n 0, 1) := dk_42 (dk_at dksJ10_compareTo_2_0 0 rfl rfl)
theorem dJ10_compareTo_2_1 : decode cJ10_compareTo_2 1 = .ok (.getfield 9, 3) := dk_180 0 9 (dk_at dksJ10_compareTo_2_0 1 rfl rfl)
theorem dJ10_compareTo_2_4 : decode cJ10_compareTo_2 4 = .ok (.astore_n 2, 1) := dk_77 (dk_at dksJ10_compareTo_2_0 4 rfl rfl)
theorem dJ10_compareTo_2_5 : decode cJ10_compareTo_2 5 = .ok (.aload_n 1, 1) := dk_43 (dk_at dksJ10_compareTo_2_0 5 rfl rfl)
theorem dJ10_compareTo_2_6 : decode cJ10_compareTo_2 6 = .ok (.getfield 9, 3) := dk_180 0 9 (dk_at dksJ10_compareTo_2_0 6 rfl rfl)
theorem dJ10_compareTo_2_9 : decode cJ10_compareTo_2 9 = .ok (.astore_n 3, 1) := dk_78 (dk_at dksJ10_compareTo_2_0 9 rfl rfl)
theorem dJ10_compareTo_2_10 : decode cJ10_compareTo_2 10 = .ok (.aload_n 0, 1) := dk_42 (dk_at dksJ10_compareTo_2_0 10 rfl rfl)
theorem dJ10_compareTo_2_11 : decode cJ10_compareTo_2 11 = .ok (.invokevirtual 335, 3) := dk_182 1 79 (dk_at dksJ10_compareTo_2_0 11 rfl rfl)
theorem dJ10_compareTo_2_14 : decode cJ10_compareTo_2 14 = .ok (.istore 4, 2) := dk_54 4 (dk_at dksJ10_compareTo_2_0 14 rfl rfl)
theorem dJ10_compareTo_2_16 : decode cJ10_compareTo_2 16 = .ok (.iload 4, 2) := dk_21 4 (dk_at dksJ10_compareTo_2_0 16 rfl rfl)
theorem dJ10_compareTo_2_18 : decode cJ10_compareTo_2 18 = .ok (.aload_n 1, 1) := dk_43 (dk_at dksJ10_compareTo_2_0 18 rfl rfl)
theorem dJ10_compareTo_2_19 : decode cJ10_compareTo_2 19 = .ok (.invokevirtual 335, 3) := dk_182 1 79 (dk_at dksJ10_compareTo_2_0 19 rfl rfl)
theorem dJ10_compareTo_2_22 : decode cJ10_compareTo_2 22 = .ok (.if_icmp .ne 22, 3) := dk_160 0 22 (dk_at dksJ10_compareTo_2_1 0 rfl rfl)
theorem dJ10_compareTo_2_25 : decode cJ10_compareTo_2 25 = .ok (.iload 4, 2) := dk_21 4 (dk_at dksJ10_compareTo_2_1 3 rfl rfl)
theorem dJ10_compareTo_2_27 : decode cJ10_compareTo_2 27 = .ok (.ifCond .ne 11, 3) := dk_154 0 11 (dk_at dksJ10_compareTo_2_1 5 rfl rfl)
theorem dJ10_compareTo_2_30 : decode cJ10_compareTo_2 30 = .ok (.aload_n 2, 1) := dk_44 (dk_at dksJ10_compareTo_2_1 8 rfl rfl)
theorem dJ10_compareTo_2_31 : decode cJ10_compareTo_2 31 = .ok (.aload_n 3, 1) := dk_45 (dk_at dksJ10_compareTo_2_1 9 rfl rfl)
theorem dJ10_compareTo_2_32 : decode cJ10_compareTo_2 32 = .ok (.invokestatic 586, 3) := dk_184 2 74 (dk_at dksJ10_compareTo_2_1 10 rfl rfl)
theorem dJ10_compareTo_2_35 : decode cJ10_compareTo_2 35 = .ok (.goto 8, 3) := dk_167 0 8 (dk_at dksJ10_compareTo_2_1 13 rfl rfl)
theorem dJ10_compareTo_2_38 : decode cJ10_compareTo_2 38 = .ok (.aload_n 2, 1) := dk_44 (dk_at dksJ10_compareTo_2_1 16 rfl rfl)
theorem dJ10_compareTo_2_39 : decode cJ10_compareTo_2 39 = .ok (.aload_n 3, 1) := dk_45 (dk_at dksJ10_compareTo_2_1 17 rfl rfl)
theorem dJ10_compareTo_2_40 : decode cJ10_compareTo_2 40 = .ok (.invokestatic 590, 3) := dk_184 2 78 (dk_at dksJ10_compareTo_2_1 18 rfl rfl)
theorem dJ10_compareTo_2_43 : decode cJ10_compareTo_2 43 = .ok (.ireturn, 1) := dk_172 (dk_at dksJ10_compareTo_2_1 21 rfl rfl)
theorem dJ10_compareTo_2_44 : decode cJ10_compareTo_2 44 = .ok (.iload 4, 2) := dk_21 4 (dk_at dksJ10_compareTo_2_1 22 rfl rfl)
theorem dJ10_compareTo_2_46 : decode cJ10_compareTo_2 46 = .ok (.ifCond .ne 11, 3) := dk_154 0 11 (dk_at dksJ10_compareTo_2_2 0 rfl rfl)
theorem dJ10_compareTo_2_49 : decode cJ10_compareTo_2 49 = .ok (.aload_n 2, 1) := dk_44 (dk_at dksJ10_compareTo_2_2 3 rfl rfl)
theorem dJ10_compareTo_2_50 : decode cJ10_compareTo_2 50 = .ok (.aload_n 3, 1) := dk_45 (dk_at dksJ10_compareTo_2_2 4 rfl rfl)
theorem dJ10_compareTo_2_51 : decode cJ10_compareTo_2 51 = .ok (.invokestatic 591, 3) := dk_184 2 79 (dk_at dksJ10_compareTo_2_2 5 rfl rfl)
theorem dJ10_compareTo_2_54 : decode cJ10_compareTo_2 54 = .ok (.goto 8, 3) := dk_167 0 8 (dk_at dksJ10_compareTo_2_2 8 rfl rfl)
theorem dJ10_compareTo_2_57 : decode cJ10_compareTo_2 57 = .ok (.aload_n 2, 1) := dk_44 (dk_at dksJ10_compareTo_2_2 11 rfl rfl)
theorem dJ10_compareTo_2_58 : decode cJ10_compareTo_2 58 = .ok (.aload_n 3, 1) := dk_45 (dk_at dksJ10_compareTo_2_2 12 rfl rfl)
theorem dJ10_compareTo_2_59 : decode cJ10_compareTo_2 59 = .ok (.invokestatic 594, 3) := dk_184 2 82 (dk_at dksJ10_compareTo_2_2 13 rfl rfl)
theorem dJ10_compareTo_2_62 : decode cJ10_compareTo_2 62 = .ok (.ireturn, 1) := dk_172 (dk_at dksJ10_compareTo_2_2 16 rfl rfl)
abbrev cJ10_checkOffset : ByteArray := prog_39_method_156_code
def yJ10_checkOffset : MethodName := ⟨RJ10, "checkOffset", "(II)V"⟩
def dkwJ10_checkOffset_0 : List UInt8 := [26, 27, 27, 178, 4, 29, 184, 4, 38, 87, 177]
abbrev dktJ10_checkOffset_0 : List UInt8 := dkwJ10_checkOffset_0 ++ []
theorem dksJ10_checkOffset_0 : cJ10_checkOffset.data.toList.drop 0 = dktJ10_checkOffset_0 := by decide +kernel
theorem dJ10_checkOffset_0 : decode cJ10_checkOffset 0 = .ok (.iload_n 0, 1) := dk_26 (dk_at dksJ10_checkOffset_0 0 rfl rfl)
theorem dJ10_checkOffset_1 : decode cJ10_checkOffset 1 = .ok (.iload_n 1, 1) := dk_27 (dk_at dksJ10_checkOffset_0 1 rfl rfl)
theorem dJ10_checkOffset_2 : decode cJ10_checkOffset 2 = .ok (.iload_n 1, 1) := dk_27 (dk_at dksJ10_checkOffset_0 2 rfl rfl)
theorem dJ10_checkOffset_3 : decode cJ10_checkOffset 3 = .ok (.getstatic 1053, 3) := dk_178 4 29 (dk_at dksJ10_checkOffset_0 3 rfl rfl)
theorem dJ10_checkOffset_6 : decode cJ10_checkOffset 6 = .ok (.invokestatic 1062, 3) := dk_184 4 38 (dk_at dksJ10_checkOffset_0 6 rfl rfl)
theorem dJ10_checkOffset_9 : decode cJ10_checkOffset 9 = .ok (.pop, 1) := dk_87 (dk_at dksJ10_checkOffset_0 9 rfl rfl)
theorem dJ10_checkOffset_10 : decode cJ10_checkOffset 10 = .ok (.return_, 1) := dk_177 (dk_at dksJ10_checkOffset_0 10 rfl rfl)
abbrev cJ10_equals : ByteArray := prog_39_method_66_code
def yJ10_equals : MethodName := ⟨RJ10, "equals", "(Ljava/lang/Object;)Z"⟩
def dkwJ10_equals_2 : List UInt8 := [184, 2, 29, 153, 0, 7, 4, 167, 0, 4, 3, 172]
abbrev dktJ10_equals_2 : List UInt8 := dkwJ10_equals_2 ++ []
def dkwJ10_equals_1 : List UInt8 := [153, 0, 14, 42, 180, 0, 15, 44, 180, 0, 15, 160, 0, 21, 42, 180, 0, 9, 44, 180, 0, 9]
abbrev dktJ10_equals_1 : List UInt8 := dkwJ10_equals_1 ++ dktJ10_equals_2
def dkwJ10_equals_0 : List UInt8 := [42, 43, 166, 0, 5, 4, 172, 43, 193, 0, 10, 153, 0, 43, 43, 192, 0, 10, 77, 178, 0, 38]
abbrev dktJ10_equals_0 : List UInt8 := dkwJ10_equals_0 ++ dktJ10_equals_1
theorem dksJ10_equals_0 : cJ10_equals.data.toList.drop 0 = dktJ10_equals_0 := by decide +kernel
theorem dksJ10_equals_1 : cJ10_equals.data.toList.drop 22 = dktJ10_equals_1 := dk_seg dksJ10_equals_0 22 rfl rfl
theorem dksJ10_equals_2 : cJ10_equals.data.toList.drop 44 = dktJ10_equals_2 := dk_seg dksJ10_equals_1 22 rfl rfl
theorem dJ10_equals_0 : decode cJ10_equals 0 = .ok (.aload_n 0, 1) := dk_42 (dk_at dksJ10_equals_0 0 rfl rfl)
theorem dJ10_equals_1 : decode cJ10_equals 1 = .ok (.aload_n 1, 1) := dk_43 (dk_at dksJ10_equals_0 1 rfl rfl)
theorem dJ10_equals_2 : decode cJ10_equals 2 = .ok (.if_acmp .ne 5, 3) := dk_166 0 5 (dk_at dksJ10_equals_0 2 rfl rfl)
theorem dJ10_equals_5 : decode cJ10_equals 5 = .ok (.iconst 1, 1) := dk_4 (dk_at dksJ10_equals_0 5 rfl rfl)
theorem dJ10_equals_6 : decode cJ10_equals 6 = .ok (.ireturn, 1) := dk_172 (dk_at dksJ10_equals_0 6 rfl rfl)
theorem dJ10_equals_7 : decode cJ10_equals 7 = .ok (.aload_n 1, 1) := dk_43 (dk_at dksJ10_equals_0 7 rfl rfl)
theorem dJ10_equals_8 : decode cJ10_equals 8 = .ok (.instanceof 10, 3) := dk_193 0 10 (dk_at dksJ10_equals_0 8 rfl rfl)
theorem dJ10_equals_11 : decode cJ10_equals 11 = .ok (.ifCond .eq 43, 3) := dk_153 0 43 (dk_at dksJ10_equals_0 11 rfl rfl)
theorem dJ10_equals_14 : decode cJ10_equals 14 = .ok (.aload_n 1, 1) := dk_43 (dk_at dksJ10_equals_0 14 rfl rfl)
theorem dJ10_equals_15 : decode cJ10_equals 15 = .ok (.checkcast 10, 3) := dk_192 0 10 (dk_at dksJ10_equals_0 15 rfl rfl)
theorem dJ10_equals_18 : decode cJ10_equals 18 = .ok (.astore_n 2, 1) := dk_77 (dk_at dksJ10_equals_0 18 rfl rfl)
theorem dJ10_equals_19 : decode cJ10_equals 19 = .ok (.getstatic 38, 3) := dk_178 0 38 (dk_at dksJ10_equals_0 19 rfl rfl)
theorem dJ10_equals_22 : decode cJ10_equals 22 = .ok (.ifCond .eq 14, 3) := dk_153 0 14 (dk_at dksJ10_equals_1 0 rfl rfl)
theorem dJ10_equals_25 : decode cJ10_equals 25 = .ok (.aload_n 0, 1) := dk_42 (dk_at dksJ10_equals_1 3 rfl rfl)
theorem dJ10_equals_26 : decode cJ10_equals 26 = .ok (.getfield 15, 3) := dk_180 0 15 (dk_at dksJ10_equals_1 4 rfl rfl)
theorem dJ10_equals_29 : decode cJ10_equals 29 = .ok (.aload_n 2, 1) := dk_44 (dk_at dksJ10_equals_1 7 rfl rfl)
theorem dJ10_equals_30 : decode cJ10_equals 30 = .ok (.getfield 15, 3) := dk_180 0 15 (dk_at dksJ10_equals_1 8 rfl rfl)
theorem dJ10_equals_33 : decode cJ10_equals 33 = .ok (.if_icmp .ne 21, 3) := dk_160 0 21 (dk_at dksJ10_equals_1 11 rfl rfl)
theorem dJ10_equals_36 : decode cJ10_equals 36 = .ok (.aload_n 0, 1) := dk_42 (dk_at dksJ10_equals_1 14 rfl rfl)
theorem dJ10_equals_37 : decode cJ10_equals 37 = .ok (.getfield 9, 3) := dk_180 0 9 (dk_at dksJ10_equals_1 15 rfl rfl)
theorem dJ10_equals_40 : decode cJ10_equals 40 = .ok (.aload_n 2, 1) := dk_44 (dk_at dksJ10_equals_1 18 rfl rfl)
theorem dJ10_equals_41 : decode cJ10_equals 41 = .ok (.getfield 9, 3) := dk_180 0 9 (dk_at dksJ10_equals_1 19 rfl rfl)
theorem dJ10_equals_44 : decode cJ10_equals 44 = .ok (.invokestatic 541, 3) := dk_184 2 29 (dk_at dksJ10_equals_2 0 rfl rfl)
theorem dJ10_equals_47 : decode cJ10_equals 47 = .ok (.ifCond .eq 7, 3) := dk_153 0 7 (dk_at dksJ10_equals_2 3 rfl rfl)
theorem dJ10_equals_50 : decode cJ10_equals 50 = .ok (.iconst 1, 1) := dk_4 (dk_at dksJ10_equals_2 6 rfl rfl)
theorem dJ10_equals_51 : decode cJ10_equals 51 = .ok (.goto 4, 3) := dk_167 0 4 (dk_at dksJ10_equals_2 7 rfl rfl)
theorem dJ10_equals_54 : decode cJ10_equals 54 = .ok (.iconst 0, 1) := dk_3 (dk_at dksJ10_equals_2 10 rfl rfl)
theorem dJ10_equals_55 : decode cJ10_equals 55 = .ok (.ireturn, 1) := dk_172 (dk_at dksJ10_equals_2 11 rfl rfl)
theorem q161 : (Jvm.Cond.initialized "java/lang/String") ∈ lw_all := lw_g (lw_at lw_m1 13 rfl) rfl
theorem q314 : (Jvm.Cond.laysStatic "java/lang/String" "COMPACT_STRINGS" "Z") ∈ lw_tbl := lw_at lw_m1 166 rfl
theorem q325 : (Jvm.Cond.fieldLink "java/lang/String" (1048 : Nat) "java/lang/AbstractStringBuilder" "maybeLatin1" "Z") ∈ lw_all := lw_g (lw_at lw_m1 177 rfl) rfl
theorem q399 : (Jvm.Cond.static ({ cls := "java/lang/String", name := "checkBoundsBeginEnd", desc := "(III)V" } : Jvm.MethodName)) ∈ lw_all := lw_g (lw_at lw_m2 11 rfl) rfl
theorem q400 : (Jvm.Cond.code ({ cls := "java/lang/String", name := "checkBoundsBeginEnd", desc := "(III)V" } : Jvm.MethodName) prog_39_method_158_code (3 : Nat) (Option.none : Option Jvm.ClassFile.FieldType)) ∈ lw_all := lw_g (lw_at lw_m2 12 rfl) rfl
theorem q401 : (Jvm.Cond.fieldLink "java/lang/String" (1053 : Nat) "jdk/internal/util/Preconditions" "SIOOBE_FORMATTER" "Ljava/util/function/BiFunction;") ∈ lw_all := lw_g (lw_at lw_m2 13 rfl) rfl
theorem q403 : (Jvm.Cond.methodLink "java/lang/String" (1062 : Nat) ({ cls := "jdk/internal/util/Preconditions", name := "checkFromToIndex", desc := "(IIILjava/util/function/BiFunction;)I" } : Jvm.MethodName)) ∈ lw_all := lw_g (lw_at lw_m2 15 rfl) rfl
theorem q416 : (Jvm.Cond.instanceMethod ({ cls := "java/lang/String", name := "length", desc := "()I" } : Jvm.MethodName)) ∈ lw_all := lw_g (lw_at lw_m2 28 rfl) rfl
theorem q417 : (Jvm.Cond.selects "java/lang/String" ({ cls := "java/lang/String", name := "length", desc := "()I" } : Jvm.MethodName) ({ cls := "java/lang/String", name := "length", desc := "()I" } : Jvm.MethodName)) ∈ lw_all := lw_g (lw_at lw_m2 29 rfl) rfl
theorem q418 : (Jvm.Cond.code ({ cls := "java/lang/String", name := "length", desc := "()I" } : Jvm.MethodName) prog_39_method_54_code (1 : Nat) (Option.some Jvm.ClassFile.FieldType.int)) ∈ lw_all := lw_g (lw_at lw_m2 30 rfl) rfl
theorem q419 : (Jvm.Cond.methodLink "java/lang/String" (335 : Nat) ({ cls := "java/lang/String", name := "coder", desc := "()B" } : Jvm.MethodName)) ∈ lw_all := lw_g (lw_at lw_m2 31 rfl) rfl
theorem q420 : (Jvm.Cond.instanceMethod ({ cls := "java/lang/String", name := "coder", desc := "()B" } : Jvm.MethodName)) ∈ lw_all := lw_g (lw_at lw_m2 32 rfl) rfl
theorem q421 : (Jvm.Cond.selects "java/lang/String" ({ cls := "java/lang/String", name := "coder", desc := "()B" } : Jvm.MethodName) ({ cls := "java/lang/String", name := "coder", desc := "()B" } : Jvm.MethodName)) ∈ lw_all := lw_g (lw_at lw_m2 33 rfl) rfl
theorem q422 : (Jvm.Cond.code ({ cls := "java/lang/String", name := "coder", desc := "()B" } : Jvm.MethodName) prog_39_method_152_code (1 : Nat) (Option.some Jvm.ClassFile.FieldType.byte)) ∈ lw_all := lw_g (lw_at lw_m2 34 rfl) rfl
theorem q423 : (Jvm.Cond.fieldLink "java/lang/String" (38 : Nat) "java/lang/String" "COMPACT_STRINGS" "Z") ∈ lw_all := lw_g (lw_at lw_m2 35 rfl) rfl
theorem q447 : (Jvm.Cond.static ({ cls := "java/lang/String", name := "checkBoundsOffCount", desc := "(III)I" } : Jvm.MethodName)) ∈ lw_all := lw_g (lw_at lw_m2 59 rfl) rfl
theorem q448 : (Jvm.Cond.code ({ cls := "java/lang/String", name := "checkBoundsOffCount", desc := "(III)I" } : Jvm.MethodName) prog_39_method_157_code (3 : Nat) (Option.some Jvm.ClassFile.FieldType.int)) ∈ lw_all := lw_g (lw_at lw_m2 60 rfl) rfl
theorem q449 : (Jvm.Cond.methodLink "java/lang/String" (1065 : Nat) ({ cls := "jdk/internal/util/Preconditions", name := "checkFromIndexSize", desc := "(IIILjava/util/function/BiFunction;)I" } : Jvm.MethodName)) ∈ lw_all := lw_g (lw_at lw_m2 61 rfl) rfl
theorem q453 : (Jvm.Cond.instanceMethod ({ cls := "java/lang/String", name := "getBytes", desc := "([BIB)V" } : Jvm.MethodName)) ∈ lw_all := lw_g (lw_at lw_m2 65 rfl) rfl
theorem q454 : (Jvm.Cond.selects "java/lang/String" ({ cls := "java/lang/String", name := "getBytes", desc := "([BIB)V" } : Jvm.MethodName) ({ cls := "java/lang/String", name := "getBytes", desc := "([BIB)V" } : Jvm.MethodName)) ∈ lw_all := lw_g (lw_at lw_m2 66 rfl) rfl
theorem q455 : (Jvm.Cond.code ({ cls := "java/lang/String", name := "getBytes", desc := "([BIB)V" } : Jvm.MethodName) prog_39_method_147_code (4 : Nat) (Option.none : Option Jvm.ClassFile.FieldType)) ∈ lw_all := lw_g (lw_at lw_m2 67 rfl) rfl
theorem q456 : (Jvm.Cond.methodLink "java/lang/String" (212 : Nat) ({ cls := "java/lang/System", name := "arraycopy", desc := "(Ljava/lang/Object;ILjava/lang/Object;II)V" } : Jvm.MethodName)) ∈ lw_all := lw_g (lw_at lw_m2 68 rfl) rfl
theorem q457 : (Jvm.Cond.methodLink "java/lang/String" (106 : Nat) ({ cls := "java/lang/StringLatin1", name := "inflate", desc := "([BI[BII)V" } : Jvm.MethodName)) ∈ lw_all := lw_g (lw_at lw_m2 69 rfl) rfl
theorem q488 : (Jvm.Cond.instantiable "java/lang/String" (4 : Nat)) ∈ lw_all := lw_g (lw_at lw_m2 100 rfl) rfl
theorem q490 : (Jvm.Cond.instanceMethod ({ cls := "java/lang/String", name := "<init>", desc := "(Ljava/lang/StringBuilder;)V" } : Jvm.MethodName)) ∈ lw_all := lw_g (lw_at lw_m2 102 rfl) rfl
theorem q491 : (Jvm.Cond.code ({ cls := "java/lang/String", name := "<init>", desc := "(Ljava/lang/StringBuilder;)V" } : Jvm.MethodName) prog_39_method_53_code (2 : Nat) (Option.none : Option Jvm.ClassFile.FieldType)) ∈ lw_all := lw_g (lw_at lw_m2 103 rfl) rfl
theorem q492 : (Jvm.Cond.methodLink "java/lang/String" (489 : Nat) ({ cls := "java/lang/String", name := "<init>", desc := "(Ljava/lang/AbstractStringBuilder;Ljava/lang/Void;)V" } : Jvm.MethodName)) ∈ lw_all := lw_g (lw_at lw_m2 104 rfl) rfl
theorem q493 : (Jvm.Cond.instanceMethod ({ cls := "java/lang/String", name := "<init>", desc := "(Ljava/lang/AbstractStringBuilder;Ljava/lang/Void;)V" } : Jvm.MethodName)) ∈ lw_all := lw_g (lw_at lw_m2 105 rfl) rfl
theorem q494 : (Jvm.Cond.code ({ cls := "java/lang/String", name := "<init>", desc := "(Ljava/lang/AbstractStringBuilder;Ljava/lang/Void;)V" } : Jvm.MethodName) prog_39_method_150_code (5 : Nat) (Option.none : Option Jvm.ClassFile.FieldType)) ∈ lw_all := lw_g (lw_at lw_m2 106 rfl) rfl
theorem q495 : (Jvm.Cond.methodLink "java/lang/String" (1 : Nat) ({ cls := "java/lang/Object", name := "<init>", desc := "()V" } : Jvm.MethodName)) ∈ lw_all := lw_g (lw_at lw_m2 107 rfl) rfl
theorem q496 : (Jvm.Cond.methodLink "java/lang/String" (552 : Nat) ({ cls := "java/lang/AbstractStringBuilder", name := "getValue", desc := "()[B" } : Jvm.MethodName)) ∈ lw_all := lw_g (lw_at lw_m2 108 rfl) rfl
theorem q501 : (Jvm.Cond.methodLink "java/lang/String" (549 : Nat) ({ cls := "java/lang/AbstractStringBuilder", name := "length", desc := "()I" } : Jvm.MethodName)) ∈ lw_all := lw_g (lw_at lw_m2 113 rfl) rfl
theorem q509 : (Jvm.Cond.methodLink "java/lang/String" (1047 : Nat) ({ cls := "java/lang/AbstractStringBuilder", name := "isLatin1", desc := "()Z" } : Jvm.MethodName)) ∈ lw_all := lw_g (lw_at lw_m2 121 rfl) rfl
theorem q510 : (Jvm.Cond.methodLink "java/lang/String" (54 : Nat) ({ cls := "java/util/Arrays", name := "copyOfRange", desc := "([BII)[B" } : Jvm.MethodName)) ∈ lw_all := lw_g (lw_at lw_m2 122 rfl) rfl
theorem q551 : (Jvm.Cond.methodLink "java/lang/String" (1051 : Nat) ({ cls := "java/lang/StringUTF16", name := "compress", desc := "([BII)[B" } : Jvm.MethodName)) ∈ lw_all := lw_g (lw_at lw_m2 163 rfl) rfl
theorem q561 : (Jvm.Cond.methodLink "java/lang/String" (47 : Nat) ({ cls := "java/lang/StringUTF16", name := "coderFromArrayLen", desc := "([BI)B" } : Jvm.MethodName)) ∈ lw_all := lw_g (lw_at lw_m2 173 rfl) rfl
theorem q564 : (Jvm.Cond.fieldLink "java/lang/String" (9 : Nat) "java/lang/String" "value" "[B") ∈ lw_all := lw_g (lw_at lw_m2 176 rfl) rfl
theorem q565 : (Jvm.Cond.fieldLink "java/lang/String" (15 : Nat) "java/lang/String" "coder" "B") ∈ lw_all := lw_g (lw_at lw_m2 177 rfl) rfl
theorem q566 : (Jvm.Cond.fieldLink "java/lang/String" (19 : Nat) "java/lang/String" "hash" "I") ∈ lw_all := lw_g (lw_at lw_m2 178 rfl) rfl
theorem q567 : (Jvm.Cond.fieldLink "java/lang/String" (23 : Nat) "java/lang/String" "hashIsZero" "Z") ∈ lw_all := lw_g (lw_at lw_m2 179 rfl) rfl
theorem q568 : (Jvm.Cond.laysFinal "java/lang/String" "java/lang/String" "value" "[B") ∈ lw_all := lw_g (lw_at lw_m2 180 rfl) rfl
theorem q569 : (Jvm.Cond.soleField "java/lang/String" "value") ∈ lw_all := lw_g (lw_at lw_m2 181 rfl) rfl
theorem q570 : (Jvm.Cond.laysFinal "java/lang/String" "java/lang/String" "coder" "B") ∈ lw_all := lw_g (lw_at lw_m2 182 rfl) rfl
theorem q571 : (Jvm.Cond.soleField "java/lang/String" "coder") ∈ lw_all := lw_g (lw_at lw_m2 183 rfl) rfl
theorem q572 : (Jvm.Cond.lays "java/lang/String" "java/lang/String" "hash" "I") ∈ lw_all := lw_g (lw_at lw_m2 184 rfl) rfl
theorem q573 : (Jvm.Cond.soleField "java/lang/String" "hash") ∈ lw_all := lw_g (lw_at lw_m2 185 rfl) rfl
theorem q574 : (Jvm.Cond.lays "java/lang/String" "java/lang/String" "hashIsZero" "Z") ∈ lw_all := lw_g (lw_at lw_m2 186 rfl) rfl
theorem q575 : (Jvm.Cond.soleField "java/lang/String" "hashIsZero") ∈ lw_all := lw_g (lw_at lw_m2 187 rfl) rfl
theorem q576 : (Jvm.Cond.superclass "java/lang/String" "java/lang/Object") ∈ lw_all := lw_g (lw_at lw_m2 188 rfl) rfl
theorem q854 : (Jvm.Cond.static ({ cls := "java/lang/String", name := "checkIndex", desc := "(II)V" } : Jvm.MethodName)) ∈ lw_all := lw_g (lw_at lw_m3 226 rfl) rfl
theorem q855 : (Jvm.Cond.code ({ cls := "java/lang/String", name := "checkIndex", desc := "(II)V" } : Jvm.MethodName) prog_39_method_155_code (2 : Nat) (Option.none : Option Jvm.ClassFile.FieldType)) ∈ lw_all := lw_g (lw_at lw_m3 227 rfl) rfl
theorem q856 : (Jvm.Cond.methodLink "java/lang/String" (1059 : Nat) ({ cls := "jdk/internal/util/Preconditions", name := "checkIndex", desc := "(IILjava/util/function/BiFunction;)I" } : Jvm.MethodName)) ∈ lw_all := lw_g (lw_at lw_m3 228 rfl) rfl
theorem q907 : (Jvm.Cond.castable "java/lang/String" "java/lang/CharSequence") ∈ lw_tbl := lw_at lw_m4 39 rfl
theorem q908 : (Jvm.Cond.selects "java/lang/String" ({ cls := "java/lang/CharSequence", name := "length", desc := "()I" } : Jvm.MethodName) ({ cls := "java/lang/String", name := "length", desc := "()I" } : Jvm.MethodName)) ∈ lw_all := lw_g (lw_at lw_m4 40 rfl) rfl
theorem q909 : (Jvm.Cond.unhidden "java/lang/String" "length" "()I") ∈ lw_tbl := lw_at lw_m4 41 rfl
theorem q910 : (Jvm.Cond.publicMethod ({ cls := "java/lang/String", name := "length", desc := "()I" } : Jvm.MethodName)) ∈ lw_tbl := lw_at lw_m4 42 rfl
theorem q936 : (Jvm.Cond.instanceMethod ({ cls := "java/lang/String", name := "isLatin1", desc := "()Z" } : Jvm.MethodName)) ∈ lw_all := lw_g (lw_at lw_m4 68 rfl) rfl
theorem q937 : (Jvm.Cond.selects "java/lang/String" ({ cls := "java/lang/String", name := "isLatin1", desc := "()Z" } : Jvm.MethodName) ({ cls := "java/lang/String", name := "isLatin1", desc := "()Z" } : Jvm.MethodName)) ∈ lw_all := lw_g (lw_at lw_m4 69 rfl) rfl
theorem q938 : (Jvm.Cond.code ({ cls := "java/lang/String", name := "isLatin1", desc := "()Z" } : Jvm.MethodName) prog_39_method_154_code (1 : Nat) (Option.some Jvm.ClassFile.FieldType.boolean)) ∈ lw_all := lw_g (lw_at lw_m4 70 rfl) rfl
theorem q940 : (Jvm.Cond.instanceMethod ({ cls := "java/lang/String", name := "value", desc := "()[B" } : Jvm.MethodName)) ∈ lw_all := lw_g (lw_at lw_m4 72 rfl) rfl
theorem q941 : (Jvm.Cond.selects "java/lang/String" ({ cls := "java/lang/String", name := "value", desc := "()[B" } : Jvm.MethodName) ({ cls := "java/lang/String", name := "value", desc := "()[B" } : Jvm.MethodName)) ∈ lw_all := lw_g (lw_at lw_m4 73 rfl) rfl
theorem q942 : (Jvm.Cond.code ({ cls := "java/lang/String", name := "value", desc := "()[B" } : Jvm.MethodName) prog_39_method_153_code (1 : Nat) (Option.some (Jvm.ClassFile.FieldType.array Jvm.ClassFile.FieldType.byte))) ∈ lw_all := lw_g (lw_at lw_m4 74 rfl) rfl
theorem q944 : (Jvm.Cond.instanceMethod ({ cls := "java/lang/String", name := "charAt", desc := "(I)C" } : Jvm.MethodName)) ∈ lw_all := lw_g (lw_at lw_m4 76 rfl) rfl
theorem q945 : (Jvm.Cond.selects "java/lang/String" ({ cls := "java/lang/String", name := "charAt", desc := "(I)C" } : Jvm.MethodName) ({ cls := "java/lang/String", name := "charAt", desc := "(I)C" } : Jvm.MethodName)) ∈ lw_all := lw_g (lw_at lw_m4 77 rfl) rfl
theorem q946 : (Jvm.Cond.code ({ cls := "java/lang/String", name := "charAt", desc := "(I)C" } : Jvm.MethodName) prog_39_method_56_code (2 : Nat) (Option.some Jvm.ClassFile.FieldType.char)) ∈ lw_all := lw_g (lw_at lw_m4 78 rfl) rfl
theorem q947 : (Jvm.Cond.methodLink "java/lang/String" (492 : Nat) ({ cls := "java/lang/String", name := "isLatin1", desc := "()Z" } : Jvm.MethodName)) ∈ lw_all := lw_g (lw_at lw_m4 79 rfl) rfl
theorem q948 : (Jvm.Cond.methodLink "java/lang/String" (495 : Nat) ({ cls := "java/lang/StringLatin1", name := "charAt", desc := "([BI)C" } : Jvm.MethodName)) ∈ lw_all := lw_g (lw_at lw_m4 80 rfl) rfl
theorem q952 : (Jvm.Cond.methodLink "java/lang/String" (498 : Nat) ({ cls := "java/lang/StringUTF16", name := "charAt", desc := "([BI)C" } : Jvm.MethodName)) ∈ lw_all := lw_g (lw_at lw_m4 84 rfl) rfl
theorem q962 : (Jvm.Cond.selects "java/lang/String" ({ cls := "java/lang/CharSequence", name := "charAt", desc := "(I)C" } : Jvm.MethodName) ({ cls := "java/lang/String", name := "charAt", desc := "(I)C" } : Jvm.MethodName)) ∈ lw_all := lw_g (lw_at lw_m4 94 rfl) rfl
theorem q963 : (Jvm.Cond.unhidden "java/lang/String" "charAt" "(I)C") ∈ lw_tbl := lw_at lw_m4 95 rfl
theorem q964 : (Jvm.Cond.publicMethod ({ cls := "java/lang/String", name := "charAt", desc := "(I)C" } : Jvm.MethodName)) ∈ lw_tbl := lw_at lw_m4 96 rfl
theorem q1001 : (Jvm.Cond.static ({ cls := "java/lang/String", name := "valueOf", desc := "(Ljava/lang/Object;)Ljava/lang/String;" } : Jvm.MethodName)) ∈ lw_all := lw_g (lw_at lw_m4 133 rfl) rfl
theorem q1002 : (Jvm.Cond.code ({ cls := "java/lang/String", name := "valueOf", desc := "(Ljava/lang/Object;)Ljava/lang/String;" } : Jvm.MethodName) prog_39_method_133_code (1 : Nat) (Option.some (Jvm.ClassFile.FieldType.object "java/lang/String"))) ∈ lw_all := lw_g (lw_at lw_m4 134 rfl) rfl
theorem q1003 : (Jvm.Cond.stringRef "java/lang/String" (1005 : Nat) "null") ∈ lw_tbl := lw_at lw_m4 135 rfl
theorem q1005 : (Jvm.Cond.methodLink "java/lang/String" (1007 : Nat) ({ cls := "java/lang/Object", name := "toString", desc := "()Ljava/lang/String;" } : Jvm.MethodName)) ∈ lw_all := lw_g (lw_at lw_m4 137 rfl) rfl
theorem q1043 : (Jvm.Cond.selects "java/lang/String" ({ cls := "java/lang/Object", name := "getClass", desc := "()Ljava/lang/Class;" } : Jvm.MethodName) ({ cls := "java/lang/Object", name := "getClass", desc := "()Ljava/lang/Class;" } : Jvm.MethodName)) ∈ lw_all := lw_g (lw_at lw_m4 175 rfl) rfl
theorem q1097 : (Jvm.Cond.instanceMethod ({ cls := "java/lang/String", name := "<init>", desc := "([BB)V" } : Jvm.MethodName)) ∈ lw_all := lw_g (lw_at lw_m4 229 rfl) rfl
theorem q1098 : (Jvm.Cond.code ({ cls := "java/lang/String", name := "<init>", desc := "([BB)V" } : Jvm.MethodName) prog_39_method_151_code (3 : Nat) (Option.none : Option Jvm.ClassFile.FieldType)) ∈ lw_all := lw_g (lw_at lw_m4 230 rfl) rfl
theorem q1100 : (Jvm.Cond.selects "java/lang/String" ({ cls := "java/lang/Object", name := "toString", desc := "()Ljava/lang/String;" } : Jvm.MethodName) ({ cls := "java/lang/String", name := "toString", desc := "()Ljava/lang/String;" } : Jvm.MethodName)) ∈ lw_all := lw_g (lw_at lw_m4 232 rfl) rfl
theorem q1101 : (Jvm.Cond.instanceMethod ({ cls := "java/lang/String", name := "toString", desc := "()Ljava/lang/String;" } : Jvm.MethodName)) ∈ lw_all := lw_g (lw_at lw_m4 233 rfl) rfl
theorem q1102 : (Jvm.Cond.code ({ cls := "java/lang/String", name := "toString", desc := "()Ljava/lang/String;" } : Jvm.MethodName) prog_39_method_126_code (1 : Nat) (Option.some (Jvm.ClassFile.FieldType.object "java/lang/String"))) ∈ lw_all := lw_g (lw_at lw_m4 234 rfl) rfl
theorem q1333 : (Jvm.Cond.selects "java/lang/String" ({ cls := "java/lang/Object", name := "hashCode", desc := "()I" } : Jvm.MethodName) ({ cls := "java/lang/String", name := "hashCode", desc := "()I" } : Jvm.MethodName)) ∈ lw_all := lw_g (lw_at lw_m5 225 rfl) rfl
theorem q1334 : (Jvm.Cond.instanceMethod ({ cls := "java/lang/String", name := "hashCode", desc := "()I" } : Jvm.MethodName)) ∈ lw_all := lw_g (lw_at lw_m5 226 rfl) rfl
theorem q1335 : (Jvm.Cond.code ({ cls := "java/lang/String", name := "hashCode", desc := "()I" } : Jvm.MethodName) prog_39_method_78_code (2 : Nat) (Option.some Jvm.ClassFile.FieldType.int)) ∈ lw_all := lw_g (lw_at lw_m5 227 rfl) rfl
theorem q1336 : (Jvm.Cond.methodLink "java/lang/String" (628 : Nat) ({ cls := "java/lang/StringLatin1", name := "hashCode", desc := "([B)I" } : Jvm.MethodName)) ∈ lw_all := lw_g (lw_at lw_m5 228 rfl) rfl
theorem q1385 : (Jvm.Cond.methodLink "java/lang/String" (632 : Nat) ({ cls := "java/lang/StringUTF16", name := "hashCode", desc := "([B)I" } : Jvm.MethodName)) ∈ lw_all := lw_g (lw_at lw_m6 37 rfl) rfl
theorem q1528 : (Jvm.Cond.castable "java/lang/String" "java/lang/Comparable") ∈ lw_tbl := lw_at lw_m6 180 rfl
theorem q1529 : (Jvm.Cond.selects "java/lang/String" ({ cls := "java/lang/Comparable", name := "compareTo", desc := "(Ljava/lang/Object;)I" } : Jvm.MethodName) ({ cls := "java/lang/String", name := "compareTo", desc := "(Ljava/lang/Object;)I" } : Jvm.MethodName)) ∈ lw_all := lw_g (lw_at lw_m6 181 rfl) rfl
theorem q1530 : (Jvm.Cond.unhidden "java/lang/String" "compareTo" "(Ljava/lang/Object;)I") ∈ lw_tbl := lw_at lw_m6 182 rfl
theorem q1531 : (Jvm.Cond.instanceMethod ({ cls := "java/lang/String", name := "compareTo", desc := "(Ljava/lang/Object;)I" } : Jvm.MethodName)) ∈ lw_all := lw_g (lw_at lw_m6 183 rfl) rfl
theorem q1532 : (Jvm.Cond.publicMethod ({ cls := "java/lang/String", name := "compareTo", desc := "(Ljava/lang/Object;)I" } : Jvm.MethodName)) ∈ lw_tbl := lw_at lw_m6 184 rfl
theorem q1533 : (Jvm.Cond.code ({ cls := "java/lang/String", name := "compareTo", desc := "(Ljava/lang/Object;)I" } : Jvm.MethodName) prog_39_method_162_code (2 : Nat) (Option.some Jvm.ClassFile.FieldType.int)) ∈ lw_all := lw_g (lw_at lw_m6 185 rfl) rfl
theorem q1534 : (Jvm.Cond.classLink "java/lang/String" (10 : Nat) "java/lang/String") ∈ lw_all := lw_g (lw_at lw_m6 186 rfl) rfl
theorem q1535 : (Jvm.Cond.methodLink "java/lang/String" (1084 : Nat) ({ cls := "java/lang/String", name := "compareTo", desc := "(Ljava/lang/String;)I" } : Jvm.MethodName)) ∈ lw_all := lw_g (lw_at lw_m6 187 rfl) rfl
theorem q1536 : (Jvm.Cond.instanceMethod ({ cls := "java/lang/String", name := "compareTo", desc := "(Ljava/lang/String;)I" } : Jvm.MethodName)) ∈ lw_all := lw_g (lw_at lw_m6 188 rfl) rfl
theorem q1537 : (Jvm.Cond.selects "java/lang/String" ({ cls := "java/lang/String", name := "compareTo", desc := "(Ljava/lang/String;)I" } : Jvm.MethodName) ({ cls := "java/lang/String", name := "compareTo", desc := "(Ljava/lang/String;)I" } : Jvm.MethodName)) ∈ lw_all := lw_g (lw_at lw_m6 189 rfl) rfl
theorem q1538 : (Jvm.Cond.code ({ cls := "java/lang/String", name := "compareTo", desc := "(Ljava/lang/String;)I" } : Jvm.MethodName) prog_39_method_71_code (5 : Nat) (Option.some Jvm.ClassFile.FieldType.int)) ∈ lw_all := lw_g (lw_at lw_m6 190 rfl) rfl
theorem q1539 : (Jvm.Cond.methodLink "java/lang/String" (586 : Nat) ({ cls := "java/lang/StringLatin1", name := "compareTo", desc := "([B[B)I" } : Jvm.MethodName)) ∈ lw_all := lw_g (lw_at lw_m6 191 rfl) rfl
theorem q1650 : (Jvm.Cond.methodLink "java/lang/String" (590 : Nat) ({ cls := "java/lang/StringUTF16", name := "compareTo", desc := "([B[B)I" } : Jvm.MethodName)) ∈ lw_all := lw_g (lw_at lw_m7 62 rfl) rfl
theorem q1657 : (Jvm.Cond.methodLink "java/lang/String" (591 : Nat) ({ cls := "java/lang/StringLatin1", name := "compareToUTF16", desc := "([B[B)I" } : Jvm.MethodName)) ∈ lw_all := lw_g (lw_at lw_m7 69 rfl) rfl
theorem q1668 : (Jvm.Cond.methodLink "java/lang/String" (594 : Nat) ({ cls := "java/lang/StringUTF16", name := "compareToLatin1", desc := "([B[B)I" } : Jvm.MethodName)) ∈ lw_all := lw_g (lw_at lw_m7 80 rfl) rfl
theorem q1694 : (Jvm.Cond.static ({ cls := "java/lang/String", name := "checkOffset", desc := "(II)V" } : Jvm.MethodName)) ∈ lw_all := lw_g (lw_at lw_m7 106 rfl) rfl
theorem q1695 : (Jvm.Cond.code ({ cls := "java/lang/String", name := "checkOffset", desc := "(II)V" } : Jvm.MethodName) prog_39_method_156_code (2 : Nat) (Option.none : Option Jvm.ClassFile.FieldType)) ∈ lw_all := lw_g (lw_at lw_m7 107 rfl) rfl
theorem q1760 : (Jvm.Cond.selects "java/lang/String" ({ cls := "java/lang/Object", name := "equals", desc := "(Ljava/lang/Object;)Z" } : Jvm.MethodName) ({ cls := "java/lang/String", name := "equals", desc := "(Ljava/lang/Object;)Z" } : Jvm.MethodName)) ∈ lw_all := lw_g (lw_at lw_m7 172 rfl) rfl
theorem q1761 : (Jvm.Cond.instanceMethod ({ cls := "java/lang/String", name := "equals", desc := "(Ljava/lang/Object;)Z" } : Jvm.MethodName)) ∈ lw_all := lw_g (lw_at lw_m7 173 rfl) rfl
theorem q1762 : (Jvm.Cond.code ({ cls := "java/lang/String", name := "equals", desc := "(Ljava/lang/Object;)Z" } : Jvm.MethodName) prog_39_method_66_code (3 : Nat) (Option.some Jvm.ClassFile.FieldType.boolean)) ∈ lw_all := lw_g (lw_at lw_m7 174 rfl) rfl
theorem q1763 : (Jvm.Cond.methodLink "java/lang/String" (541 : Nat) ({ cls := "java/lang/StringLatin1", name := "equals", desc := "([B[B)Z" } : Jvm.MethodName)) ∈ lw_all := lw_g (lw_at lw_m7 175 rfl) rfl
theorem q4063 : (Jvm.Cond.selects "java/lang/String" ({ cls := "java/lang/String", name := "equals", desc := "(Ljava/lang/Object;)Z" } : Jvm.MethodName) ({ cls := "java/lang/String", name := "equals", desc := "(Ljava/lang/Object;)Z" } : Jvm.MethodName)) ∈ lw_all := lw_g (lw_at lw_m17 75 rfl) rfl
theorem q4073 : (Jvm.Cond.selects "java/lang/String" ({ cls := "java/lang/String", name := "hashCode", desc := "()I" } : Jvm.MethodName) ({ cls := "java/lang/String", name := "hashCode", desc := "()I" } : Jvm.MethodName)) ∈ lw_all := lw_g (lw_at lw_m17 85 rfl) rfl
theorem q4088 : (Jvm.Cond.castable "java/lang/String" "java/lang/Object") ∈ lw_tbl := lw_at lw_m17 100 rfl
theorem in_J10 : ∀ w ∈ wsJ100, w ∈ lw_all := lw_in wsJ100 [568, 570, 572, 574] (by decide +kernel) (by decide +kernel)

/-! jdk/internal/util/ArraysSupport -/
set_option maxRecDepth 100000
def RJ12 : String := "jdk/internal/util/ArraysSupport"
abbrev cJ12_newLength : ByteArray := prog_89_method_27_code
def yJ12_newLength : MethodName := ⟨RJ12, "newLength", "(III)I"⟩
def dkwJ12_newLength_1 : List UInt8 := [184, 0, 201, 172]
abbrev dktJ12_newLength_1 : List UInt8 := dkwJ12_newLength_1 ++ []
def dkwJ12_newLength_0 : List UInt8 := [26, 27, 28, 184, 0, 194, 96, 62, 3, 29, 162, 0, 11, 29, 18, 200, 163, 0, 5, 29, 172, 26, 27]
abbrev dktJ12_newLength_0 : List UInt8 := dkwJ12_newLength_0 ++ dktJ12_newLength_1
theorem dksJ12_newLength_0 : cJ12_newLength.data.toList.drop 0 = dktJ12_newLength_0 := by decide +kernel
theorem dksJ12_newLength_1 : cJ12_newLength.data.toList.drop 23 = dktJ12_newLength_1 := dk_seg dksJ12_newLength_0 23 rfl rfl
theorem dJ12_newLength_0 : decode cJ12_newLength 0 = .ok (.iload_n 0, 1) := dk_26 (dk_at dksJ12_newLength_0 0 rfl rfl)
theorem dJ12_newLength_1 : decode cJ12_newLength 1 = .ok (.iload_n 1, 1) := dk_27 (dk_at dksJ12_newLength_0 1 rfl rfl)
theorem dJ12_newLength_2 : decode cJ12_newLength 2 = .ok (.iload_n 2, 1) := dk_28 (dk_at dksJ12_newLength_0 2 rfl rfl)
theorem dJ12_newLength_3 : decode cJ12_newLength 3 = .ok (.invokestatic 194, 3) := dk_184 0 194 (dk_at dksJ12_newLength_0 3 rfl rfl)
theorem dJ12_newLength_6 : decode cJ12_newLength 6 = .ok (.iadd, 1) := dk_96 (dk_at dksJ12_newLength_0 6 rfl rfl)
theorem dJ12_newLength_7 : decode cJ12_newLength 7 = .ok (.istore_n 3, 1) := dk_62 (dk_at dksJ12_newLength_0 7 rfl rfl)
theorem dJ12_newLength_8 : decode cJ12_newLength 8 = .ok (.iconst 0, 1) := dk_3 (dk_at dksJ12_newLength_0 8 rfl rfl)
theorem dJ12_newLength_9 : decode cJ12_newLength 9 = .ok (.iload_n 3, 1) := dk_29 (dk_at dksJ12_newLength_0 9 rfl rfl)
theorem dJ12_newLength_10 : decode cJ12_newLength 10 = .ok (.if_icmp .ge 11, 3) := dk_162 0 11 (dk_at dksJ12_newLength_0 10 rfl rfl)
theorem dJ12_newLength_13 : decode cJ12_newLength 13 = .ok (.iload_n 3, 1) := dk_29 (dk_at dksJ12_newLength_0 13 rfl rfl)
theorem dJ12_newLength_14 : decode cJ12_newLength 14 = .ok (.ldc 200, 2) := dk_18 200 (dk_at dksJ12_newLength_0 14 rfl rfl)
theorem dJ12_newLength_16 : decode cJ12_newLength 16 = .ok (.if_icmp .gt 5, 3) := dk_163 0 5 (dk_at dksJ12_newLength_0 16 rfl rfl)
theorem dJ12_newLength_19 : decode cJ12_newLength 19 = .ok (.iload_n 3, 1) := dk_29 (dk_at dksJ12_newLength_0 19 rfl rfl)
theorem dJ12_newLength_20 : decode cJ12_newLength 20 = .ok (.ireturn, 1) := dk_172 (dk_at dksJ12_newLength_0 20 rfl rfl)
theorem dJ12_newLength_21 : decode cJ12_newLength 21 = .ok (.iload_n 0, 1) := dk_26 (dk_at dksJ12_newLength_0 21 rfl rfl)
theorem dJ12_newLength_22 : decode cJ12_newLength 22 = .ok (.iload_n 1, 1) := dk_27 (dk_at dksJ12_newLength_0 22 rfl rfl)
theorem dJ12_newLength_23 : decode cJ12_newLength 23 = .ok (.invokestatic 201, 3) := dk_184 0 201 (dk_at dksJ12_newLength_1 0 rfl rfl)
theorem dJ12_newLength_26 : decode cJ12_newLength 26 = .ok (.ireturn, 1) := dk_172 (dk_at dksJ12_newLength_1 3 rfl rfl)
abbrev cJ12_hugeLength : ByteArray := prog_89_method_28_code
def yJ12_hugeLength : MethodName := ⟨RJ12, "hugeLength", "(II)I"⟩
def dkwJ12_hugeLength_2 : List UInt8 := [191, 28, 18, 200, 163, 0, 6, 18, 200, 172, 28, 172]
abbrev dktJ12_hugeLength_2 : List UInt8 := dkwJ12_hugeLength_2 ++ []
def dkwJ12_hugeLength_1 : List UInt8 := [26, 182, 0, 98, 18, 208, 182, 0, 94, 27, 182, 0, 98, 18, 210, 182, 0, 94, 182, 0, 101, 183, 0, 212]
abbrev dktJ12_hugeLength_1 : List UInt8 := dkwJ12_hugeLength_1 ++ dktJ12_hugeLength_2
def dkwJ12_hugeLength_0 : List UInt8 := [26, 27, 96, 61, 28, 156, 0, 44, 187, 0, 204, 89, 187, 0, 89, 89, 183, 0, 91, 18, 206, 182, 0, 94]
abbrev dktJ12_hugeLength_0 : List UInt8 := dkwJ12_hugeLength_0 ++ dktJ12_hugeLength_1
theorem dksJ12_hugeLength_0 : cJ12_hugeLength.data.toList.drop 0 = dktJ12_hugeLength_0 := by decide +kernel
theorem dksJ12_hugeLength_1 : cJ12_hugeLength.data.toList.drop 24 = dktJ12_hugeLength_1 := dk_seg dksJ12_hugeLength_0 24 rfl rfl
theorem dksJ12_hugeLength_2 : cJ12_hugeLength.data.toList.drop 48 = dktJ12_hugeLength_2 := dk_seg dksJ12_hugeLength_1 24 rfl rfl
theorem dJ12_hugeLength_0 : decode cJ12_hugeLength 0 = .ok (.iload_n 0, 1) := dk_26 (dk_at dksJ12_hugeLength_0 0 rfl rfl)
theorem dJ12_hugeLength_1 : decode cJ12_hugeLength 1 = .ok (.iload_n 1, 1) := dk_27 (dk_at dksJ12_hugeLength_0 1 rfl rfl)
theorem dJ12_hugeLength_2 : decode cJ12_hugeLength 2 = .ok (.iadd, 1) := dk_96 (dk_at dksJ12_hugeLength_0 2 rfl rfl)
theorem dJ12_hugeLength_3 : decode cJ12_hugeLength 3 = .ok (.istore_n 2, 1) := dk_61 (dk_at dksJ12_hugeLength_0 3 rfl rfl)
theorem dJ12_hugeLength_4 : decode cJ12_hugeLength 4 = .ok (.iload_n 2, 1) := dk_28 (dk_at dksJ12_hugeLength_0 4 rfl rfl)
theorem dJ12_hugeLength_5 : decode cJ12_hugeLength 5 = .ok (.ifCond .ge 44, 3) := dk_156 0 44 (dk_at dksJ12_hugeLength_0 5 rfl rfl)
theorem dJ12_hugeLength_8 : decode cJ12_hugeLength 8 = .ok (.new 204, 3) := dk_187 0 204 (dk_at dksJ12_hugeLength_0 8 rfl rfl)
theorem dJ12_hugeLength_11 : decode cJ12_hugeLength 11 = .ok (.dup, 1) := dk_89 (dk_at dksJ12_hugeLength_0 11 rfl rfl)
theorem dJ12_hugeLength_12 : decode cJ12_hugeLength 12 = .ok (.new 89, 3) := dk_187 0 89 (dk_at dksJ12_hugeLength_0 12 rfl rfl)
theorem dJ12_hugeLength_15 : decode cJ12_hugeLength 15 = .ok (.dup, 1) := dk_89 (dk_at dksJ12_hugeLength_0 15 rfl rfl)
theorem dJ12_hugeLength_16 : decode cJ12_hugeLength 16 = .ok (.invokespecial 91, 3) := dk_183 0 91 (dk_at dksJ12_hugeLength_0 16 rfl rfl)
theorem dJ12_hugeLength_19 : decode cJ12_hugeLength 19 = .ok (.ldc 206, 2) := dk_18 206 (dk_at dksJ12_hugeLength_0 19 rfl rfl)
theorem dJ12_hugeLength_21 : decode cJ12_hugeLength 21 = .ok (.invokevirtual 94, 3) := dk_182 0 94 (dk_at dksJ12_hugeLength_0 21 rfl rfl)
theorem dJ12_hugeLength_24 : decode cJ12_hugeLength 24 = .ok (.iload_n 0, 1) := dk_26 (dk_at dksJ12_hugeLength_1 0 rfl rfl)
theorem dJ12_hugeLength_25 : decode cJ12_hugeLength 25 = .ok (.invokevirtual 98, 3) := dk_182 0 98 (dk_at dksJ12_hugeLength_1 1 rfl rfl)
theorem dJ12_hugeLength_28 : decode cJ12_hugeLength 28 = .ok (.ldc 208, 2) := dk_18 208 (dk_at dksJ12_hugeLength_1 4 rfl rfl)
theorem dJ12_hugeLength_30 : decode cJ12_hugeLength 30 = .ok (.invokevirtual 94, 3) := dk_182 0 94 (dk_at dksJ12_hugeLength_1 6 rfl rfl)
theorem dJ12_hugeLength_33 : decode cJ12_hugeLength 33 = .ok (.iload_n 1, 1) := dk_27 (dk_at dksJ12_hugeLength_1 9 rfl rfl)
theorem dJ12_hugeLength_34 : decode cJ12_hugeLength 34 = .ok (.invokevirtual 98, 3) := dk_182 0 98 (dk_at dksJ12_hugeLength_1 10 rfl rfl)
theorem dJ12_hugeLength_37 : decode cJ12_hugeLength 37 = .ok (.ldc 210, 2) := dk_18 210 (dk_at dksJ12_hugeLength_1 13 rfl rfl)
theorem dJ12_hugeLength_39 : decode cJ12_hugeLength 39 = .ok (.invokevirtual 94, 3) := dk_182 0 94 (dk_at dksJ12_hugeLength_1 15 rfl rfl)
theorem dJ12_hugeLength_42 : decode cJ12_hugeLength 42 = .ok (.invokevirtual 101, 3) := dk_182 0 101 (dk_at dksJ12_hugeLength_1 18 rfl rfl)
theorem dJ12_hugeLength_45 : decode cJ12_hugeLength 45 = .ok (.invokespecial 212, 3) := dk_183 0 212 (dk_at dksJ12_hugeLength_1 21 rfl rfl)
theorem dJ12_hugeLength_48 : decode cJ12_hugeLength 48 = .ok (.athrow, 1) := dk_191 (dk_at dksJ12_hugeLength_2 0 rfl rfl)
theorem dJ12_hugeLength_49 : decode cJ12_hugeLength 49 = .ok (.iload_n 2, 1) := dk_28 (dk_at dksJ12_hugeLength_2 1 rfl rfl)
theorem dJ12_hugeLength_50 : decode cJ12_hugeLength 50 = .ok (.ldc 200, 2) := dk_18 200 (dk_at dksJ12_hugeLength_2 2 rfl rfl)
theorem dJ12_hugeLength_52 : decode cJ12_hugeLength 52 = .ok (.if_icmp .gt 6, 3) := dk_163 0 6 (dk_at dksJ12_hugeLength_2 4 rfl rfl)
theorem dJ12_hugeLength_55 : decode cJ12_hugeLength 55 = .ok (.ldc 200, 2) := dk_18 200 (dk_at dksJ12_hugeLength_2 7 rfl rfl)
theorem dJ12_hugeLength_57 : decode cJ12_hugeLength 57 = .ok (.ireturn, 1) := dk_172 (dk_at dksJ12_hugeLength_2 9 rfl rfl)
theorem dJ12_hugeLength_58 : decode cJ12_hugeLength 58 = .ok (.iload_n 2, 1) := dk_28 (dk_at dksJ12_hugeLength_2 10 rfl rfl)
theorem dJ12_hugeLength_59 : decode cJ12_hugeLength 59 = .ok (.ireturn, 1) := dk_172 (dk_at dksJ12_hugeLength_2 11 rfl rfl)
abbrev cJ12_vectorizedHashCode : ByteArray := prog_89_method_4_code
def yJ12_vectorizedHashCode : MethodName := ⟨RJ12, "vectorizedHashCode", "(Ljava/lang/Object;IIII)I"⟩
def dkwJ12_vectorizedHashCode_6 : List UInt8 := [183, 0, 91, 18, 92, 182, 0, 94, 21, 4, 182, 0, 98, 182, 0, 101, 183, 0, 105, 191, 172]
abbrev dktJ12_vectorizedHashCode_6 : List UInt8 := dkwJ12_vectorizedHashCode_6 ++ []
def dkwJ12_vectorizedHashCode_5 : List UInt8 := [167, 0, 44, 29, 42, 192, 0, 82, 27, 28, 184, 0, 84, 167, 0, 31, 187, 0, 87, 89, 187, 0, 89, 89]
abbrev dktJ12_vectorizedHashCode_5 : List UInt8 := dkwJ12_vectorizedHashCode_5 ++ dktJ12_vectorizedHashCode_6
def dkwJ12_vectorizedHashCode_4 : List UInt8 := [29, 42, 192, 0, 60, 27, 28, 184, 0, 75, 167, 0, 57, 29, 42, 192, 0, 77, 27, 28, 184, 0, 79]
abbrev dktJ12_vectorizedHashCode_4 : List UInt8 := dkwJ12_vectorizedHashCode_4 ++ dktJ12_vectorizedHashCode_5
def dkwJ12_vectorizedHashCode_3 : List UInt8 := [192, 0, 60, 27, 28, 184, 0, 66, 167, 0, 83, 29, 42, 192, 0, 69, 27, 28, 184, 0, 71, 167, 0, 70]
abbrev dktJ12_vectorizedHashCode_3 : List UInt8 := dkwJ12_vectorizedHashCode_3 ++ dktJ12_vectorizedHashCode_4
def dkwJ12_vectorizedHashCode_2 : List UInt8 := [29, 42, 192, 0, 60, 27, 28, 184, 0, 62, 167, 0, 103, 42, 193, 0, 60, 153, 0, 16, 29, 42]
abbrev dktJ12_vectorizedHashCode_2 : List UInt8 := dkwJ12_vectorizedHashCode_2 ++ dktJ12_vectorizedHashCode_3
def dkwJ12_vectorizedHashCode_1 : List UInt8 := [170, 0, 0, 0, 0, 127, 0, 0, 0, 4, 0, 0, 0, 10, 0, 0, 0, 42, 0, 0, 0, 55, 0, 0, 0, 127, 0, 0, 0, 127, 0, 0, 0, 88, 0, 0, 0, 101, 0, 0, 0, 114]
abbrev dktJ12_vectorizedHashCode_1 : List UInt8 := dkwJ12_vectorizedHashCode_1 ++ dktJ12_vectorizedHashCode_2
def dkwJ12_vectorizedHashCode_0 : List UInt8 := [21, 4]
abbrev dktJ12_vectorizedHashCode_0 : List UInt8 := dkwJ12_vectorizedHashCode_0 ++ dktJ12_vectorizedHashCode_1
theorem dksJ12_vectorizedHashCode_0 : cJ12_vectorizedHashCode.data.toList.drop 0 = dktJ12_vectorizedHashCode_0 := by decide +kernel
theorem dksJ12_vectorizedHashCode_1 : cJ12_vectorizedHashCode.data.toList.drop 2 = dktJ12_vectorizedHashCode_1 := dk_seg dksJ12_vectorizedHashCode_0 2 rfl rfl
theorem dksJ12_vectorizedHashCode_2 : cJ12_vectorizedHashCode.data.toList.drop 44 = dktJ12_vectorizedHashCode_2 := dk_seg dksJ12_vectorizedHashCode_1 42 rfl rfl
theorem dksJ12_vectorizedHashCode_3 : cJ12_vectorizedHashCode.data.toList.drop 66 = dktJ12_vectorizedHashCode_3 := dk_seg dksJ12_vectorizedHashCode_2 22 rfl rfl
theorem dksJ12_vectorizedHashCode_4 : cJ12_vectorizedHashCode.data.toList.drop 90 = dktJ12_vectorizedHashCode_4 := dk_seg dksJ12_vectorizedHashCode_3 24 rfl rfl
theorem dksJ12_vectorizedHashCode_5 : cJ12_vectorizedHashCode.data.toList.drop 113 = dktJ12_vectorizedHashCode_5 := dk_seg dksJ12_vectorizedHashCode_4 23 rfl rfl
theorem dksJ12_vectorizedHashCode_6 : cJ12_vectorizedHashCode.data.toList.drop 137 = dktJ12_vectorizedHashCode_6 := dk_seg dksJ12_vectorizedHashCode_5 24 rfl rfl
theorem dJ12_vectorizedHashCode_0 : decode cJ12_vectorizedHashCode 0 = .ok (.iload 4, 2) := dk_21 4 (dk_at dksJ12_vectorizedHashCode_0 0 rfl rfl)
theorem dJ12_vectorizedHashCode_2 : decode cJ12_vectorizedHashCode 2 = .ok (.tableswitch 127 4 10 #[42, 55, 127, 127, 88, 101, 114], 42) := by decide +kernel
theorem dJ12_vectorizedHashCode_44 : decode cJ12_vectorizedHashCode 44 = .ok (.iload_n 3, 1) := dk_29 (dk_at dksJ12_vectorizedHashCode_2 0 rfl rfl)
theorem dJ12_vectorizedHashCode_45 : decode cJ12_vectorizedHashCode 45 = .ok (.aload_n 0, 1) := dk_42 (dk_at dksJ12_vectorizedHashCode_2 1 rfl rfl)
theorem dJ12_vectorizedHashCode_46 : decode cJ12_vectorizedHashCode 46 = .ok (.checkcast 60, 3) := dk_192 0 60 (dk_at dksJ12_vectorizedHashCode_2 2 rfl rfl)
theorem dJ12_vectorizedHashCode_49 : decode cJ12_vectorizedHashCode 49 = .ok (.iload_n 1, 1) := dk_27 (dk_at dksJ12_vectorizedHashCode_2 5 rfl rfl)
theorem dJ12_vectorizedHashCode_50 : decode cJ12_vectorizedHashCode 50 = .ok (.iload_n 2, 1) := dk_28 (dk_at dksJ12_vectorizedHashCode_2 6 rfl rfl)
theorem dJ12_vectorizedHashCode_51 : decode cJ12_vectorizedHashCode 51 = .ok (.invokestatic 62, 3) := dk_184 0 62 (dk_at dksJ12_vectorizedHashCode_2 7 rfl rfl)
theorem dJ12_vectorizedHashCode_54 : decode cJ12_vectorizedHashCode 54 = .ok (.goto 103, 3) := dk_167 0 103 (dk_at dksJ12_vectorizedHashCode_2 10 rfl rfl)
theorem dJ12_vectorizedHashCode_57 : decode cJ12_vectorizedHashCode 57 = .ok (.aload_n 0, 1) := dk_42 (dk_at dksJ12_vectorizedHashCode_2 13 rfl rfl)
theorem dJ12_vectorizedHashCode_58 : decode cJ12_vectorizedHashCode 58 = .ok (.instanceof 60, 3) := dk_193 0 60 (dk_at dksJ12_vectorizedHashCode_2 14 rfl rfl)
theorem dJ12_vectorizedHashCode_61 : decode cJ12_vectorizedHashCode 61 = .ok (.ifCond .eq 16, 3) := dk_153 0 16 (dk_at dksJ12_vectorizedHashCode_2 17 rfl rfl)
theorem dJ12_vectorizedHashCode_64 : decode cJ12_vectorizedHashCode 64 = .ok (.iload_n 3, 1) := dk_29 (dk_at dksJ12_vectorizedHashCode_2 20 rfl rfl)
theorem dJ12_vectorizedHashCode_65 : decode cJ12_vectorizedHashCode 65 = .ok (.aload_n 0, 1) := dk_42 (dk_at dksJ12_vectorizedHashCode_2 21 rfl rfl)
theorem dJ12_vectorizedHashCode_66 : decode cJ12_vectorizedHashCode 66 = .ok (.checkcast 60, 3) := dk_192 0 60 (dk_at dksJ12_vectorizedHashCode_3 0 rfl rfl)
theorem dJ12_vectorizedHashCode_69 : decode cJ12_vectorizedHashCode 69 = .ok (.iload_n 1, 1) := dk_27 (dk_at dksJ12_vectorizedHashCode_3 3 rfl rfl)
theorem dJ12_vectorizedHashCode_70 : decode cJ12_vectorizedHashCode 70 = .ok (.iload_n 2, 1) := dk_28 (dk_at dksJ12_vectorizedHashCode_3 4 rfl rfl)
theorem dJ12_vectorizedHashCode_71 : decode cJ12_vectorizedHashCode 71 = .ok (.invokestatic 66, 3) := dk_184 0 66 (dk_at dksJ12_vectorizedHashCode_3 5 rfl rfl)
theorem dJ12_vectorizedHashCode_74 : decode cJ12_vectorizedHashCode 74 = .ok (.goto 83, 3) := dk_167 0 83 (dk_at dksJ12_vectorizedHashCode_3 8 rfl rfl)
theorem dJ12_vectorizedHashCode_77 : decode cJ12_vectorizedHashCode 77 = .ok (.iload_n 3, 1) := dk_29 (dk_at dksJ12_vectorizedHashCode_3 11 rfl rfl)
theorem dJ12_vectorizedHashCode_78 : decode cJ12_vectorizedHashCode 78 = .ok (.aload_n 0, 1) := dk_42 (dk_at dksJ12_vectorizedHashCode_3 12 rfl rfl)
theorem dJ12_vectorizedHashCode_79 : decode cJ12_vectorizedHashCode 79 = .ok (.checkcast 69, 3) := dk_192 0 69 (dk_at dksJ12_vectorizedHashCode_3 13 rfl rfl)
theorem dJ12_vectorizedHashCode_82 : decode cJ12_vectorizedHashCode 82 = .ok (.iload_n 1, 1) := dk_27 (dk_at dksJ12_vectorizedHashCode_3 16 rfl rfl)
theorem dJ12_vectorizedHashCode_83 : decode cJ12_vectorizedHashCode 83 = .ok (.iload_n 2, 1) := dk_28 (dk_at dksJ12_vectorizedHashCode_3 17 rfl rfl)
theorem dJ12_vectorizedHashCode_84 : decode cJ12_vectorizedHashCode 84 = .ok (.invokestatic 71, 3) := dk_184 0 71 (dk_at dksJ12_vectorizedHashCode_3 18 rfl rfl)
theorem dJ12_vectorizedHashCode_87 : decode cJ12_vectorizedHashCode 87 = .ok (.goto 70, 3) := dk_167 0 70 (dk_at dksJ12_vectorizedHashCode_3 21 rfl rfl)
theorem dJ12_vectorizedHashCode_90 : decode cJ12_vectorizedHashCode 90 = .ok (.iload_n 3, 1) := dk_29 (dk_at dksJ12_vectorizedHashCode_4 0 rfl rfl)
theorem dJ12_vectorizedHashCode_91 : decode cJ12_vectorizedHashCode 91 = .ok (.aload_n 0, 1) := dk_42 (dk_at dksJ12_vectorizedHashCode_4 1 rfl rfl)
theorem dJ12_vectorizedHashCode_92 : decode cJ12_vectorizedHashCode 92 = .ok (.checkcast 60, 3) := dk_192 0 60 (dk_at dksJ12_vectorizedHashCode_4 2 rfl rfl)
theorem dJ12_vectorizedHashCode_95 : decode cJ12_vectorizedHashCode 95 = .ok (.iload_n 1, 1) := dk_27 (dk_at dksJ12_vectorizedHashCode_4 5 rfl rfl)
theorem dJ12_vectorizedHashCode_96 : decode cJ12_vectorizedHashCode 96 = .ok (.iload_n 2, 1) := dk_28 (dk_at dksJ12_vectorizedHashCode_4 6 rfl rfl)
theorem dJ12_vectorizedHashCode_97 : decode cJ12_vectorizedHashCode 97 = .ok (.invokestatic 75, 3) := dk_184 0 75 (dk_at dksJ12_vectorizedHashCode_4 7 rfl rfl)
theorem dJ12_vectorizedHashCode_100 : decode cJ12_vectorizedHashCode 100 = .ok (.goto 57, 3) := dk_167 0 57 (dk_at dksJ12_vectorizedHashCode_4 10 rfl rfl)
theorem dJ12_vectorizedHashCode_103 : decode cJ12_vectorizedHashCode 103 = .ok (.iload_n 3, 1) := dk_29 (dk_at dksJ12_vectorizedHashCode_4 13 rfl rfl)
theorem dJ12_vectorizedHashCode_104 : decode cJ12_vectorizedHashCode 104 = .ok (.aload_n 0, 1) := dk_42 (dk_at dksJ12_vectorizedHashCode_4 14 rfl rfl)
theorem dJ12_vectorizedHashCode_105 : decode cJ12_vectorizedHashCode 105 = .ok (.checkcast 77, 3) := dk_192 0 77 (dk_at dksJ12_vectorizedHashCode_4 15 rfl rfl)
theorem dJ12_vectorizedHashCode_108 : decode cJ12_vectorizedHashCode 108 = .ok (.iload_n 1, 1) := dk_27 (dk_at dksJ12_vectorizedHashCode_4 18 rfl rfl)
theorem dJ12_vectorizedHashCode_109 : decode cJ12_vectorizedHashCode 109 = .ok (.iload_n 2, 1) := dk_28 (dk_at dksJ12_vectorizedHashCode_4 19 rfl rfl)
theorem dJ12_vectorizedHashCode_110 : decode cJ12_vectorizedHashCode 110 = .ok (.invokestatic 79, 3) := dk_184 0 79 (dk_at dksJ12_vectorizedHashCode_4 20 rfl rfl)
theorem dJ12_vectorizedHashCode_113 : decode cJ12_vectorizedHashCode 113 = .ok (.goto 44, 3) := dk_167 0 44 (dk_at dksJ12_vectorizedHashCode_5 0 rfl rfl)
theorem dJ12_vectorizedHashCode_116 : decode cJ12_vectorizedHashCode 116 = .ok (.iload_n 3, 1) := dk_29 (dk_at dksJ12_vectorizedHashCode_5 3 rfl rfl)
theorem dJ12_vectorizedHashCode_117 : decode cJ12_vectorizedHashCode 117 = .ok (.aload_n 0, 1) := dk_42 (dk_at dksJ12_vectorizedHashCode_5 4 rfl rfl)
theorem dJ12_vectorizedHashCode_118 : decode cJ12_vectorizedHashCode 118 = .ok (.checkcast 82, 3) := dk_192 0 82 (dk_at dksJ12_vectorizedHashCode_5 5 rfl rfl)
theorem dJ12_vectorizedHashCode_121 : decode cJ12_vectorizedHashCode 121 = .ok (.iload_n 1, 1) := dk_27 (dk_at dksJ12_vectorizedHashCode_5 8 rfl rfl)
theorem dJ12_vectorizedHashCode_122 : decode cJ12_vectorizedHashCode 122 = .ok (.iload_n 2, 1) := dk_28 (dk_at dksJ12_vectorizedHashCode_5 9 rfl rfl)
theorem dJ12_vectorizedHashCode_123 : decode cJ12_vectorizedHashCode 123 = .ok (.invokestatic 84, 3) := dk_184 0 84 (dk_at dksJ12_vectorizedHashCode_5 10 rfl rfl)
theorem dJ12_vectorizedHashCode_126 : decode cJ12_vectorizedHashCode 126 = .ok (.goto 31, 3) := dk_167 0 31 (dk_at dksJ12_vectorizedHashCode_5 13 rfl rfl)
theorem dJ12_vectorizedHashCode_129 : decode cJ12_vectorizedHashCode 129 = .ok (.new 87, 3) := dk_187 0 87 (dk_at dksJ12_vectorizedHashCode_5 16 rfl rfl)
theorem dJ12_vectorizedHashCode_132 : decode cJ12_vectorizedHashCode 132 = .ok (.dup, 1) := dk_89 (dk_at dksJ12_vectorizedHashCode_5 19 rfl rfl)
theorem dJ12_vectorizedHashCode_133 : decode cJ12_vectorizedHashCode 133 = .ok (.new 89, 3) := dk_187 0 89 (dk_at dksJ12_vectorizedHashCode_5 20 rfl rfl)
theorem dJ12_vectorizedHashCode_136 : decode cJ12_vectorizedHashCode 136 = .ok (.dup, 1) := dk_89 (dk_at dksJ12_vectorizedHashCode_5 23 rfl rfl)
theorem dJ12_vectorizedHashCode_137 : decode cJ12_vectorizedHashCode 137 = .ok (.invokespecial 91, 3) := dk_183 0 91 (dk_at dksJ12_vectorizedHashCode_6 0 rfl rfl)
theorem dJ12_vectorizedHashCode_140 : decode cJ12_vectorizedHashCode 140 = .ok (.ldc 92, 2) := dk_18 92 (dk_at dksJ12_vectorizedHashCode_6 3 rfl rfl)
theorem dJ12_vectorizedHashCode_142 : decode cJ12_vectorizedHashCode 142 = .ok (.invokevirtual 94, 3) := dk_182 0 94 (dk_at dksJ12_vectorizedHashCode_6 5 rfl rfl)
theorem dJ12_vectorizedHashCode_145 : decode cJ12_vectorizedHashCode 145 = .ok (.iload 4, 2) := dk_21 4 (dk_at dksJ12_vectorizedHashCode_6 8 rfl rfl)
theorem dJ12_vectorizedHashCode_147 : decode cJ12_vectorizedHashCode 147 = .ok (.invokevirtual 98, 3) := dk_182 0 98 (dk_at dksJ12_vectorizedHashCode_6 10 rfl rfl)
theorem dJ12_vectorizedHashCode_150 : decode cJ12_vectorizedHashCode 150 = .ok (.invokevirtual 101, 3) := dk_182 0 101 (dk_at dksJ12_vectorizedHashCode_6 13 rfl rfl)
theorem dJ12_vectorizedHashCode_153 : decode cJ12_vectorizedHashCode 153 = .ok (.invokespecial 105, 3) := dk_183 0 105 (dk_at dksJ12_vectorizedHashCode_6 16 rfl rfl)
theorem dJ12_vectorizedHashCode_156 : decode cJ12_vectorizedHashCode 156 = .ok (.athrow, 1) := dk_191 (dk_at dksJ12_vectorizedHashCode_6 19 rfl rfl)
theorem dJ12_vectorizedHashCode_157 : decode cJ12_vectorizedHashCode 157 = .ok (.ireturn, 1) := dk_172 (dk_at dksJ12_vectorizedHashCode_6 20 rfl rfl)
abbrev cJ12_signedHashCode : ByteArray := prog_89_method_5_code
def yJ12_signedHashCode : MethodName := ⟨RJ12, "signedHashCode", "(I[BII)I"⟩
def dkwJ12_signedHashCode_1 : List UInt8 := [17, 0, 255, 126, 96, 59, 132, 5, 1, 167, 255, 232, 26, 172]
abbrev dktJ12_signedHashCode_1 : List UInt8 := dkwJ12_signedHashCode_1 ++ []
def dkwJ12_signedHashCode_0 : List UInt8 := [28, 29, 96, 54, 4, 28, 54, 5, 21, 5, 21, 4, 162, 0, 23, 16, 31, 26, 104, 43, 21, 5, 51]
abbrev dktJ12_signedHashCode_0 : List UInt8 := dkwJ12_signedHashCode_0 ++ dktJ12_signedHashCode_1
theorem dksJ12_signedHashCode_0 : cJ12_signedHashCode.data.toList.drop 0 = dktJ12_signedHashCode_0 := by decide +kernel
theorem dksJ12_signedHashCode_1 : cJ12_signedHashCode.data.toList.drop 23 = dktJ12_signedHashCode_1 := dk_seg dksJ12_signedHashCode_0 23 rfl rfl
theorem dJ12_signedHashCode_0 : decode cJ12_signedHashCode 0 = .ok (.iload_n 2, 1) := dk_28 (dk_at dksJ12_signedHashCode_0 0 rfl rfl)
theorem dJ12_signedHashCode_1 : decode cJ12_signedHashCode 1 = .ok (.iload_n 3, 1) := dk_29 (dk_at dksJ12_signedHashCode_0 1 rfl rfl)
theorem dJ12_signedHashCode_2 : decode cJ12_signedHashCode 2 = .ok (.iadd, 1) := dk_96 (dk_at dksJ12_signedHashCode_0 2 rfl rfl)
theorem dJ12_signedHashCode_3 : decode cJ12_signedHashCode 3 = .ok (.istore 4, 2) := dk_54 4 (dk_at dksJ12_signedHashCode_0 3 rfl rfl)
theorem dJ12_signedHashCode_5 : decode cJ12_signedHashCode 5 = .ok (.iload_n 2, 1) := dk_28 (dk_at dksJ12_signedHashCode_0 5 rfl rfl)
theorem dJ12_signedHashCode_6 : decode cJ12_signedHashCode 6 = .ok (.istore 5, 2) := dk_54 5 (dk_at dksJ12_signedHashCode_0 6 rfl rfl)
theorem dJ12_signedHashCode_8 : decode cJ12_signedHashCode 8 = .ok (.iload 5, 2) := dk_21 5 (dk_at dksJ12_signedHashCode_0 8 rfl rfl)
theorem dJ12_signedHashCode_10 : decode cJ12_signedHashCode 10 = .ok (.iload 4, 2) := dk_21 4 (dk_at dksJ12_signedHashCode_0 10 rfl rfl)
theorem dJ12_signedHashCode_12 : decode cJ12_signedHashCode 12 = .ok (.if_icmp .ge 23, 3) := dk_162 0 23 (dk_at dksJ12_signedHashCode_0 12 rfl rfl)
theorem dJ12_signedHashCode_15 : decode cJ12_signedHashCode 15 = .ok (.bipush 31, 2) := dk_16 31 (dk_at dksJ12_signedHashCode_0 15 rfl rfl)
theorem dJ12_signedHashCode_17 : decode cJ12_signedHashCode 17 = .ok (.iload_n 0, 1) := dk_26 (dk_at dksJ12_signedHashCode_0 17 rfl rfl)
theorem dJ12_signedHashCode_18 : decode cJ12_signedHashCode 18 = .ok (.imul, 1) := dk_104 (dk_at dksJ12_signedHashCode_0 18 rfl rfl)
theorem dJ12_signedHashCode_19 : decode cJ12_signedHashCode 19 = .ok (.aload_n 1, 1) := dk_43 (dk_at dksJ12_signedHashCode_0 19 rfl rfl)
theorem dJ12_signedHashCode_20 : decode cJ12_signedHashCode 20 = .ok (.iload 5, 2) := dk_21 5 (dk_at dksJ12_signedHashCode_0 20 rfl rfl)
theorem dJ12_signedHashCode_22 : decode cJ12_signedHashCode 22 = .ok (.baload, 1) := dk_51 (dk_at dksJ12_signedHashCode_0 22 rfl rfl)
theorem dJ12_signedHashCode_23 : decode cJ12_signedHashCode 23 = .ok (.sipush 255, 3) := dk_17 0 255 (dk_at dksJ12_signedHashCode_1 0 rfl rfl)
theorem dJ12_signedHashCode_26 : decode cJ12_signedHashCode 26 = .ok (.iand, 1) := dk_126 (dk_at dksJ12_signedHashCode_1 3 rfl rfl)
theorem dJ12_signedHashCode_27 : decode cJ12_signedHashCode 27 = .ok (.iadd, 1) := dk_96 (dk_at dksJ12_signedHashCode_1 4 rfl rfl)
theorem dJ12_signedHashCode_28 : decode cJ12_signedHashCode 28 = .ok (.istore_n 0, 1) := dk_59 (dk_at dksJ12_signedHashCode_1 5 rfl rfl)
theorem dJ12_signedHashCode_29 : decode cJ12_signedHashCode 29 = .ok (.iinc 5 1, 3) := dk_132 5 1 (dk_at dksJ12_signedHashCode_1 6 rfl rfl)
theorem dJ12_signedHashCode_32 : decode cJ12_signedHashCode 32 = .ok (.goto (-24), 3) := dk_167 255 232 (dk_at dksJ12_signedHashCode_1 9 rfl rfl)
theorem dJ12_signedHashCode_35 : decode cJ12_signedHashCode 35 = .ok (.iload_n 0, 1) := dk_26 (dk_at dksJ12_signedHashCode_1 12 rfl rfl)
theorem dJ12_signedHashCode_36 : decode cJ12_signedHashCode 36 = .ok (.ireturn, 1) := dk_172 (dk_at dksJ12_signedHashCode_1 13 rfl rfl)
abbrev cJ12_utf16hashCode : ByteArray := prog_89_method_10_code
def yJ12_utf16hashCode : MethodName := ⟨RJ12, "utf16hashCode", "(I[BII)I"⟩
def dkwJ12_utf16hashCode_1 : List UInt8 := [21, 5, 185, 0, 110, 3, 0, 96, 59, 132, 5, 1, 167, 255, 229, 26, 172]
abbrev dktJ12_utf16hashCode_1 : List UInt8 := dkwJ12_utf16hashCode_1 ++ []
def dkwJ12_utf16hashCode_0 : List UInt8 := [28, 29, 96, 54, 4, 28, 54, 5, 21, 5, 21, 4, 162, 0, 26, 16, 31, 26, 104, 178, 0, 106, 43]
abbrev dktJ12_utf16hashCode_0 : List UInt8 := dkwJ12_utf16hashCode_0 ++ dktJ12_utf16hashCode_1
theorem dksJ12_utf16hashCode_0 : cJ12_utf16hashCode.data.toList.drop 0 = dktJ12_utf16hashCode_0 := by decide +kernel
theorem dksJ12_utf16hashCode_1 : cJ12_utf16hashCode.data.toList.drop 23 = dktJ12_utf16hashCode_1 := dk_seg dksJ12_utf16hashCode_0 23 rfl rfl
theorem dJ12_utf16hashCode_0 : decode cJ12_utf16hashCode 0 = .ok (.iload_n 2, 1) := dk_28 (dk_at dksJ12_utf16hashCode_0 0 rfl rfl)
theorem dJ12_utf16hashCode_1 : decode cJ12_utf16hashCode 1 = .ok (.iload_n 3, 1) := dk_29 (dk_at dksJ12_utf16hashCode_0 1 rfl rfl)
theorem dJ12_utf16hashCode_2 : decode cJ12_utf16hashCode 2 = .ok (.iadd, 1) := dk_96 (dk_at dksJ12_utf16hashCode_0 2 rfl rfl)
theorem dJ12_utf16hashCode_3 : decode cJ12_utf16hashCode 3 = .ok (.istore 4, 2) := dk_54 4 (dk_at dksJ12_utf16hashCode_0 3 rfl rfl)
theorem dJ12_utf16hashCode_5 : decode cJ12_utf16hashCode 5 = .ok (.iload_n 2, 1) := dk_28 (dk_at dksJ12_utf16hashCode_0 5 rfl rfl)
theorem dJ12_utf16hashCode_6 : decode cJ12_utf16hashCode 6 = .ok (.istore 5, 2) := dk_54 5 (dk_at dksJ12_utf16hashCode_0 6 rfl rfl)
theorem dJ12_utf16hashCode_8 : decode cJ12_utf16hashCode 8 = .ok (.iload 5, 2) := dk_21 5 (dk_at dksJ12_utf16hashCode_0 8 rfl rfl)
theorem dJ12_utf16hashCode_10 : decode cJ12_utf16hashCode 10 = .ok (.iload 4, 2) := dk_21 4 (dk_at dksJ12_utf16hashCode_0 10 rfl rfl)
theorem dJ12_utf16hashCode_12 : decode cJ12_utf16hashCode 12 = .ok (.if_icmp .ge 26, 3) := dk_162 0 26 (dk_at dksJ12_utf16hashCode_0 12 rfl rfl)
theorem dJ12_utf16hashCode_15 : decode cJ12_utf16hashCode 15 = .ok (.bipush 31, 2) := dk_16 31 (dk_at dksJ12_utf16hashCode_0 15 rfl rfl)
theorem dJ12_utf16hashCode_17 : decode cJ12_utf16hashCode 17 = .ok (.iload_n 0, 1) := dk_26 (dk_at dksJ12_utf16hashCode_0 17 rfl rfl)
theorem dJ12_utf16hashCode_18 : decode cJ12_utf16hashCode 18 = .ok (.imul, 1) := dk_104 (dk_at dksJ12_utf16hashCode_0 18 rfl rfl)
theorem dJ12_utf16hashCode_19 : decode cJ12_utf16hashCode 19 = .ok (.getstatic 106, 3) := dk_178 0 106 (dk_at dksJ12_utf16hashCode_0 19 rfl rfl)
theorem dJ12_utf16hashCode_22 : decode cJ12_utf16hashCode 22 = .ok (.aload_n 1, 1) := dk_43 (dk_at dksJ12_utf16hashCode_0 22 rfl rfl)
theorem dJ12_utf16hashCode_23 : decode cJ12_utf16hashCode 23 = .ok (.iload 5, 2) := dk_21 5 (dk_at dksJ12_utf16hashCode_1 0 rfl rfl)
theorem dJ12_utf16hashCode_25 : decode cJ12_utf16hashCode 25 = .ok (.invokeinterface 110 3, 5) := by decide +kernel
theorem dJ12_utf16hashCode_30 : decode cJ12_utf16hashCode 30 = .ok (.iadd, 1) := dk_96 (dk_at dksJ12_utf16hashCode_1 7 rfl rfl)
theorem dJ12_utf16hashCode_31 : decode cJ12_utf16hashCode 31 = .ok (.istore_n 0, 1) := dk_59 (dk_at dksJ12_utf16hashCode_1 8 rfl rfl)
theorem dJ12_utf16hashCode_32 : decode cJ12_utf16hashCode 32 = .ok (.iinc 5 1, 3) := dk_132 5 1 (dk_at dksJ12_utf16hashCode_1 9 rfl rfl)
theorem dJ12_utf16hashCode_35 : decode cJ12_utf16hashCode 35 = .ok (.goto (-27), 3) := dk_167 255 229 (dk_at dksJ12_utf16hashCode_1 12 rfl rfl)
theorem dJ12_utf16hashCode_38 : decode cJ12_utf16hashCode 38 = .ok (.iload_n 0, 1) := dk_26 (dk_at dksJ12_utf16hashCode_1 15 rfl rfl)
theorem dJ12_utf16hashCode_39 : decode cJ12_utf16hashCode 39 = .ok (.ireturn, 1) := dk_172 (dk_at dksJ12_utf16hashCode_1 16 rfl rfl)
abbrev cJ12_hashCode : ByteArray := prog_89_method_7_code
def yJ12_hashCode : MethodName := ⟨RJ12, "hashCode", "(I[CII)I"⟩
def dkwJ12_hashCode_1 : List UInt8 := [59, 132, 5, 1, 167, 255, 236, 26, 172]
abbrev dktJ12_hashCode_1 : List UInt8 := dkwJ12_hashCode_1 ++ []
def dkwJ12_hashCode_0 : List UInt8 := [28, 29, 96, 54, 4, 28, 54, 5, 21, 5, 21, 4, 162, 0, 19, 16, 31, 26, 104, 43, 21, 5, 52, 96]
abbrev dktJ12_hashCode_0 : List UInt8 := dkwJ12_hashCode_0 ++ dktJ12_hashCode_1
theorem dksJ12_hashCode_0 : cJ12_hashCode.data.toList.drop 0 = dktJ12_hashCode_0 := by decide +kernel
theorem dksJ12_hashCode_1 : cJ12_hashCode.data.toList.drop 24 = dktJ12_hashCode_1 := dk_seg dksJ12_hashCode_0 24 rfl rfl
theorem dJ12_hashCode_0 : decode cJ12_hashCode 0 = .ok (.iload_n 2, 1) := dk_28 (dk_at dksJ12_hashCode_0 0 rfl rfl)
theorem dJ12_hashCode_1 : decode cJ12_hashCode 1 = .ok (.iload_n 3, 1) := dk_29 (dk_at dksJ12_hashCode_0 1 rfl rfl)
theorem dJ12_hashCode_2 : decode cJ12_hashCode 2 = .ok (.iadd, 1) := dk_96 (dk_at dksJ12_hashCode_0 2 rfl rfl)
theorem dJ12_hashCode_3 : decode cJ12_hashCode 3 = .ok (.istore 4, 2) := dk_54 4 (dk_at dksJ12_hashCode_0 3 rfl rfl)
theorem dJ12_hashCode_5 : decode cJ12_hashCode 5 = .ok (.iload_n 2, 1) := dk_28 (dk_at dksJ12_hashCode_0 5 rfl rfl)
theorem dJ12_hashCode_6 : decode cJ12_hashCode 6 = .ok (.istore 5, 2) := dk_54 5 (dk_at dksJ12_hashCode_0 6 rfl rfl)
theorem dJ12_hashCode_8 : decode cJ12_hashCode 8 = .ok (.iload 5, 2) := dk_21 5 (dk_at dksJ12_hashCode_0 8 rfl rfl)
theorem dJ12_hashCode_10 : decode cJ12_hashCode 10 = .ok (.iload 4, 2) := dk_21 4 (dk_at dksJ12_hashCode_0 10 rfl rfl)
theorem dJ12_hashCode_12 : decode cJ12_hashCode 12 = .ok (.if_icmp .ge 19, 3) := dk_162 0 19 (dk_at dksJ12_hashCode_0 12 rfl rfl)
theorem dJ12_hashCode_15 : decode cJ12_hashCode 15 = .ok (.bipush 31, 2) := dk_16 31 (dk_at dksJ12_hashCode_0 15 rfl rfl)
theorem dJ12_hashCode_17 : decode cJ12_hashCode 17 = .ok (.iload_n 0, 1) := dk_26 (dk_at dksJ12_hashCode_0 17 rfl rfl)
theorem dJ12_hashCode_18 : decode cJ12_hashCode 18 = .ok (.imul, 1) := dk_104 (dk_at dksJ12_hashCode_0 18 rfl rfl)
theorem dJ12_hashCode_19 : decode cJ12_hashCode 19 = .ok (.aload_n 1, 1) := dk_43 (dk_at dksJ12_hashCode_0 19 rfl rfl)
theorem dJ12_hashCode_20 : decode cJ12_hashCode 20 = .ok (.iload 5, 2) := dk_21 5 (dk_at dksJ12_hashCode_0 20 rfl rfl)
theorem dJ12_hashCode_22 : decode cJ12_hashCode 22 = .ok (.caload, 1) := dk_52 (dk_at dksJ12_hashCode_0 22 rfl rfl)
theorem dJ12_hashCode_23 : decode cJ12_hashCode 23 = .ok (.iadd, 1) := dk_96 (dk_at dksJ12_hashCode_0 23 rfl rfl)
theorem dJ12_hashCode_24 : decode cJ12_hashCode 24 = .ok (.istore_n 0, 1) := dk_59 (dk_at dksJ12_hashCode_1 0 rfl rfl)
theorem dJ12_hashCode_25 : decode cJ12_hashCode 25 = .ok (.iinc 5 1, 3) := dk_132 5 1 (dk_at dksJ12_hashCode_1 1 rfl rfl)
theorem dJ12_hashCode_28 : decode cJ12_hashCode 28 = .ok (.goto (-20), 3) := dk_167 255 236 (dk_at dksJ12_hashCode_1 4 rfl rfl)
theorem dJ12_hashCode_31 : decode cJ12_hashCode 31 = .ok (.iload_n 0, 1) := dk_26 (dk_at dksJ12_hashCode_1 7 rfl rfl)
theorem dJ12_hashCode_32 : decode cJ12_hashCode 32 = .ok (.ireturn, 1) := dk_172 (dk_at dksJ12_hashCode_1 8 rfl rfl)
abbrev cJ12_hashCode_2 : ByteArray := prog_89_method_6_code
def yJ12_hashCode_2 : MethodName := ⟨RJ12, "hashCode", "(I[BII)I"⟩
def dkwJ12_hashCode_2_1 : List UInt8 := [59, 132, 5, 1, 167, 255, 236, 26, 172]
abbrev dktJ12_hashCode_2_1 : List UInt8 := dkwJ12_hashCode_2_1 ++ []
def dkwJ12_hashCode_2_0 : List UInt8 := [28, 29, 96, 54, 4, 28, 54, 5, 21, 5, 21, 4, 162, 0, 19, 16, 31, 26, 104, 43, 21, 5, 51, 96]
abbrev dktJ12_hashCode_2_0 : List UInt8 := dkwJ12_hashCode_2_0 ++ dktJ12_hashCode_2_1
theorem dksJ12_hashCode_2_0 : cJ12_hashCode_2.data.toList.drop 0 = dktJ12_hashCode_2_0 := by decide +kernel
theorem dksJ12_hashCode_2_1 : cJ12_hashCode_2.data.toList.drop 24 = dktJ12_hashCode_2_1 := dk_seg dksJ12_hashCode_2_0 24 rfl rfl
theorem dJ12_hashCode_2_0 : decode cJ12_hashCode_2 0 = .ok (.iload_n 2, 1) := dk_28 (dk_at dksJ12_hashCode_2_0 0 rfl rfl)
theorem dJ12_hashCode_2_1 : decode cJ12_hashCode_2 1 = .ok (.iload_n 3, 1) := dk_29 (dk_at dksJ12_hashCode_2_0 1 rfl rfl)
theorem dJ12_hashCode_2_2 : decode cJ12_hashCode_2 2 = .ok (.iadd, 1) := dk_96 (dk_at dksJ12_hashCode_2_0 2 rfl rfl)
theorem dJ12_hashCode_2_3 : decode cJ12_hashCode_2 3 = .ok (.istore 4, 2) := dk_54 4 (dk_at dksJ12_hashCode_2_0 3 rfl rfl)
theorem dJ12_hashCode_2_5 : decode cJ12_hashCode_2 5 = .ok (.iload_n 2, 1) := dk_28 (dk_at dksJ12_hashCode_2_0 5 rfl rfl)
theorem dJ12_hashCode_2_6 : decode cJ12_hashCode_2 6 = .ok (.istore 5, 2) := dk_54 5 (dk_at dksJ12_hashCode_2_0 6 rfl rfl)
theorem dJ12_hashCode_2_8 : decode cJ12_hashCode_2 8 = .ok (.iload 5, 2) := dk_21 5 (dk_at dksJ12_hashCode_2_0 8 rfl rfl)
theorem dJ12_hashCode_2_10 : decode cJ12_hashCode_2 10 = .ok (.iload 4, 2) := dk_21 4 (dk_at dksJ12_hashCode_2_0 10 rfl rfl)
theorem dJ12_hashCode_2_12 : decode cJ12_hashCode_2 12 = .ok (.if_icmp .ge 19, 3) := dk_162 0 19 (dk_at dksJ12_hashCode_2_0 12 rfl rfl)
theorem dJ12_hashCode_2_15 : decode cJ12_hashCode_2 15 = .ok (.bipush 31, 2) := dk_16 31 (dk_at dksJ12_hashCode_2_0 15 rfl rfl)
theorem dJ12_hashCode_2_17 : decode cJ12_hashCode_2 17 = .ok (.iload_n 0, 1) := dk_26 (dk_at dksJ12_hashCode_2_0 17 rfl rfl)
theorem dJ12_hashCode_2_18 : decode cJ12_hashCode_2 18 = .ok (.imul, 1) := dk_104 (dk_at dksJ12_hashCode_2_0 18 rfl rfl)
theorem dJ12_hashCode_2_19 : decode cJ12_hashCode_2 19 = .ok (.aload_n 1, 1) := dk_43 (dk_at dksJ12_hashCode_2_0 19 rfl rfl)
theorem dJ12_hashCode_2_20 : decode cJ12_hashCode_2 20 = .ok (.iload 5, 2) := dk_21 5 (dk_at dksJ12_hashCode_2_0 20 rfl rfl)
theorem dJ12_hashCode_2_22 : decode cJ12_hashCode_2 22 = .ok (.baload, 1) := dk_51 (dk_at dksJ12_hashCode_2_0 22 rfl rfl)
theorem dJ12_hashCode_2_23 : decode cJ12_hashCode_2 23 = .ok (.iadd, 1) := dk_96 (dk_at dksJ12_hashCode_2_0 23 rfl rfl)
theorem dJ12_hashCode_2_24 : decode cJ12_hashCode_2 24 = .ok (.istore_n 0, 1) := dk_59 (dk_at dksJ12_hashCode_2_1 0 rfl rfl)
theorem dJ12_hashCode_2_25 : decode cJ12_hashCode_2 25 = .ok (.iinc 5 1, 3) := dk_132 5 1 (dk_at dksJ12_hashCode_2_1 1 rfl rfl)
theorem dJ12_hashCode_2_28 : decode cJ12_hashCode_2 28 = .ok (.goto (-20), 3) := dk_167 255 236 (dk_at dksJ12_hashCode_2_1 4 rfl rfl)
theorem dJ12_hashCode_2_31 : decode cJ12_hashCode_2 31 = .ok (.iload_n 0, 1) := dk_26 (dk_at dksJ12_hashCode_2_1 7 rfl rfl)
theorem dJ12_hashCode_2_32 : decode cJ12_hashCode_2 32 = .ok (.ireturn, 1) := dk_172 (dk_at dksJ12_hashCode_2_1 8 rfl rfl)
abbrev cJ12_hashCode_3 : ByteArray := prog_89_method_8_code
def yJ12_hashCode_3 : MethodName := ⟨RJ12, "hashCode", "(I[SII)I"⟩
def dkwJ12_hashCode_3_1 : List UInt8 := [59, 132, 5, 1, 167, 255, 236, 26, 172]
abbrev dktJ12_hashCode_3_1 : List UInt8 := dkwJ12_hashCode_3_1 ++ []
def dkwJ12_hashCode_3_0 : List UInt8 := [28, 29, 96, 54, 4, 28, 54, 5, 21, 5, 21, 4, 162, 0, 19, 16, 31, 26, 104, 43, 21, 5, 53, 96]
abbrev dktJ12_hashCode_3_0 : List UInt8 := dkwJ12_hashCode_3_0 ++ dktJ12_hashCode_3_1
theorem dksJ12_hashCode_3_0 : cJ12_hashCode_3.data.toList.drop 0 = dktJ12_hashCode_3_0 := by decide +kernel
theorem dksJ12_hashCode_3_1 : cJ12_hashCode_3.data.toList.drop 24 = dktJ12_hashCode_3_1 := dk_seg dksJ12_hashCode_3_0 24 rfl rfl
theorem dJ12_hashCode_3_0 : decode cJ12_hashCode_3 0 = .ok (.iload_n 2, 1) := dk_28 (dk_at dksJ12_hashCode_3_0 0 rfl rfl)
theorem dJ12_hashCode_3_1 : decode cJ12_hashCode_3 1 = .ok (.iload_n 3, 1) := dk_29 (dk_at dksJ12_hashCode_3_0 1 rfl rfl)
theorem dJ12_hashCode_3_2 : decode cJ12_hashCode_3 2 = .ok (.iadd, 1) := dk_96 (dk_at dksJ12_hashCode_3_0 2 rfl rfl)
theorem dJ12_hashCode_3_3 : decode cJ12_hashCode_3 3 = .ok (.istore 4, 2) := dk_54 4 (dk_at dksJ12_hashCode_3_0 3 rfl rfl)
theorem dJ12_hashCode_3_5 : decode cJ12_hashCode_3 5 = .ok (.iload_n 2, 1) := dk_28 (dk_at dksJ12_hashCode_3_0 5 rfl rfl)
theorem dJ12_hashCode_3_6 : decode cJ12_hashCode_3 6 = .ok (.istore 5, 2) := dk_54 5 (dk_at dksJ12_hashCode_3_0 6 rfl rfl)
theorem dJ12_hashCode_3_8 : decode cJ12_hashCode_3 8 = .ok (.iload 5, 2) := dk_21 5 (dk_at dksJ12_hashCode_3_0 8 rfl rfl)
theorem dJ12_hashCode_3_10 : decode cJ12_hashCode_3 10 = .ok (.iload 4, 2) := dk_21 4 (dk_at dksJ12_hashCode_3_0 10 rfl rfl)
theorem dJ12_hashCode_3_12 : decode cJ12_hashCode_3 12 = .ok (.if_icmp .ge 19, 3) := dk_162 0 19 (dk_at dksJ12_hashCode_3_0 12 rfl rfl)
theorem dJ12_hashCode_3_15 : decode cJ12_hashCode_3 15 = .ok (.bipush 31, 2) := dk_16 31 (dk_at dksJ12_hashCode_3_0 15 rfl rfl)
theorem dJ12_hashCode_3_17 : decode cJ12_hashCode_3 17 = .ok (.iload_n 0, 1) := dk_26 (dk_at dksJ12_hashCode_3_0 17 rfl rfl)
theorem dJ12_hashCode_3_18 : decode cJ12_hashCode_3 18 = .ok (.imul, 1) := dk_104 (dk_at dksJ12_hashCode_3_0 18 rfl rfl)
theorem dJ12_hashCode_3_19 : decode cJ12_hashCode_3 19 = .ok (.aload_n 1, 1) := dk_43 (dk_at dksJ12_hashCode_3_0 19 rfl rfl)
theorem dJ12_hashCode_3_20 : decode cJ12_hashCode_3 20 = .ok (.iload 5, 2) := dk_21 5 (dk_at dksJ12_hashCode_3_0 20 rfl rfl)
theorem dJ12_hashCode_3_22 : decode cJ12_hashCode_3 22 = .ok (.saload, 1) := dk_53 (dk_at dksJ12_hashCode_3_0 22 rfl rfl)
theorem dJ12_hashCode_3_23 : decode cJ12_hashCode_3 23 = .ok (.iadd, 1) := dk_96 (dk_at dksJ12_hashCode_3_0 23 rfl rfl)
theorem dJ12_hashCode_3_24 : decode cJ12_hashCode_3 24 = .ok (.istore_n 0, 1) := dk_59 (dk_at dksJ12_hashCode_3_1 0 rfl rfl)
theorem dJ12_hashCode_3_25 : decode cJ12_hashCode_3 25 = .ok (.iinc 5 1, 3) := dk_132 5 1 (dk_at dksJ12_hashCode_3_1 1 rfl rfl)
theorem dJ12_hashCode_3_28 : decode cJ12_hashCode_3 28 = .ok (.goto (-20), 3) := dk_167 255 236 (dk_at dksJ12_hashCode_3_1 4 rfl rfl)
theorem dJ12_hashCode_3_31 : decode cJ12_hashCode_3 31 = .ok (.iload_n 0, 1) := dk_26 (dk_at dksJ12_hashCode_3_1 7 rfl rfl)
theorem dJ12_hashCode_3_32 : decode cJ12_hashCode_3 32 = .ok (.ireturn, 1) := dk_172 (dk_at dksJ12_hashCode_3_1 8 rfl rfl)
abbrev cJ12_hashCode_4 : ByteArray := prog_89_method_9_code
def yJ12_hashCode_4 : MethodName := ⟨RJ12, "hashCode", "(I[III)I"⟩
def dkwJ12_hashCode_4_1 : List UInt8 := [59, 132, 5, 1, 167, 255, 236, 26, 172]
abbrev dktJ12_hashCode_4_1 : List UInt8 := dkwJ12_hashCode_4_1 ++ []
def dkwJ12_hashCode_4_0 : List UInt8 := [28, 29, 96, 54, 4, 28, 54, 5, 21, 5, 21, 4, 162, 0, 19, 16, 31, 26, 104, 43, 21, 5, 46, 96]
abbrev dktJ12_hashCode_4_0 : List UInt8 := dkwJ12_hashCode_4_0 ++ dktJ12_hashCode_4_1
theorem dksJ12_hashCode_4_0 : cJ12_hashCode_4.data.toList.drop 0 = dktJ12_hashCode_4_0 := by decide +kernel
theorem dksJ12_hashCode_4_1 : cJ12_hashCode_4.data.toList.drop 24 = dktJ12_hashCode_4_1 := dk_seg dksJ12_hashCode_4_0 24 rfl rfl
theorem dJ12_hashCode_4_0 : decode cJ12_hashCode_4 0 = .ok (.iload_n 2, 1) := dk_28 (dk_at dksJ12_hashCode_4_0 0 rfl rfl)
theorem dJ12_hashCode_4_1 : decode cJ12_hashCode_4 1 = .ok (.iload_n 3, 1) := dk_29 (dk_at dksJ12_hashCode_4_0 1 rfl rfl)
theorem dJ12_hashCode_4_2 : decode cJ12_hashCode_4 2 = .ok (.iadd, 1) := dk_96 (dk_at dksJ12_hashCode_4_0 2 rfl rfl)
theorem dJ12_hashCode_4_3 : decode cJ12_hashCode_4 3 = .ok (.istore 4, 2) := dk_54 4 (dk_at dksJ12_hashCode_4_0 3 rfl rfl)
theorem dJ12_hashCode_4_5 : decode cJ12_hashCode_4 5 = .ok (.iload_n 2, 1) := dk_28 (dk_at dksJ12_hashCode_4_0 5 rfl rfl)
theorem dJ12_hashCode_4_6 : decode cJ12_hashCode_4 6 = .ok (.istore 5, 2) := dk_54 5 (dk_at dksJ12_hashCode_4_0 6 rfl rfl)
theorem dJ12_hashCode_4_8 : decode cJ12_hashCode_4 8 = .ok (.iload 5, 2) := dk_21 5 (dk_at dksJ12_hashCode_4_0 8 rfl rfl)
theorem dJ12_hashCode_4_10 : decode cJ12_hashCode_4 10 = .ok (.iload 4, 2) := dk_21 4 (dk_at dksJ12_hashCode_4_0 10 rfl rfl)
theorem dJ12_hashCode_4_12 : decode cJ12_hashCode_4 12 = .ok (.if_icmp .ge 19, 3) := dk_162 0 19 (dk_at dksJ12_hashCode_4_0 12 rfl rfl)
theorem dJ12_hashCode_4_15 : decode cJ12_hashCode_4 15 = .ok (.bipush 31, 2) := dk_16 31 (dk_at dksJ12_hashCode_4_0 15 rfl rfl)
theorem dJ12_hashCode_4_17 : decode cJ12_hashCode_4 17 = .ok (.iload_n 0, 1) := dk_26 (dk_at dksJ12_hashCode_4_0 17 rfl rfl)
theorem dJ12_hashCode_4_18 : decode cJ12_hashCode_4 18 = .ok (.imul, 1) := dk_104 (dk_at dksJ12_hashCode_4_0 18 rfl rfl)
theorem dJ12_hashCode_4_19 : decode cJ12_hashCode_4 19 = .ok (.aload_n 1, 1) := dk_43 (dk_at dksJ12_hashCode_4_0 19 rfl rfl)
theorem dJ12_hashCode_4_20 : decode cJ12_hashCode_4 20 = .ok (.iload 5, 2) := dk_21 5 (dk_at dksJ12_hashCode_4_0 20 rfl rfl)
theorem dJ12_hashCode_4_22 : decode cJ12_hashCode_4 22 = .ok (.iaload, 1) := dk_46 (dk_at dksJ12_hashCode_4_0 22 rfl rfl)
theorem dJ12_hashCode_4_23 : decode cJ12_hashCode_4 23 = .ok (.iadd, 1) := dk_96 (dk_at dksJ12_hashCode_4_0 23 rfl rfl)
theorem dJ12_hashCode_4_24 : decode cJ12_hashCode_4 24 = .ok (.istore_n 0, 1) := dk_59 (dk_at dksJ12_hashCode_4_1 0 rfl rfl)
theorem dJ12_hashCode_4_25 : decode cJ12_hashCode_4 25 = .ok (.iinc 5 1, 3) := dk_132 5 1 (dk_at dksJ12_hashCode_4_1 1 rfl rfl)
theorem dJ12_hashCode_4_28 : decode cJ12_hashCode_4 28 = .ok (.goto (-20), 3) := dk_167 255 236 (dk_at dksJ12_hashCode_4_1 4 rfl rfl)
theorem dJ12_hashCode_4_31 : decode cJ12_hashCode_4 31 = .ok (.iload_n 0, 1) := dk_26 (dk_at dksJ12_hashCode_4_1 7 rfl rfl)
theorem dJ12_hashCode_4_32 : decode cJ12_hashCode_4 32 = .ok (.ireturn, 1) := dk_172 (dk_at dksJ12_hashCode_4_1 8 rfl rfl)
abbrev cJ12_mismatch : ByteArray := prog_89_method_13_code
def yJ12_mismatch : MethodName := ⟨RJ12, "mismatch", "([B[BI)I"⟩
def dkwJ12_mismatch_3 : List UInt8 := [172]
abbrev dktJ12_mismatch_3 : List UInt8 := dkwJ12_mismatch_3 ++ []
def dkwJ12_mismatch_2 : List UInt8 := [62, 29, 28, 162, 0, 20, 42, 29, 51, 43, 29, 51, 159, 0, 5, 29, 172, 132, 3, 1, 167, 255, 237, 2]
abbrev dktJ12_mismatch_2 : List UInt8 := dkwJ12_mismatch_2 ++ dktJ12_mismatch_3
def dkwJ12_mismatch_1 : List UInt8 := [43, 178, 0, 126, 133, 28, 178, 0, 129, 184, 0, 122, 62, 29, 155, 0, 5, 29, 172, 28, 29, 2, 130, 100]
abbrev dktJ12_mismatch_1 : List UInt8 := dkwJ12_mismatch_1 ++ dktJ12_mismatch_2
def dkwJ12_mismatch_0 : List UInt8 := [3, 62, 28, 16, 7, 164, 0, 44, 42, 3, 51, 43, 3, 51, 159, 0, 5, 3, 172, 42, 178, 0, 126, 133]
abbrev dktJ12_mismatch_0 : List UInt8 := dkwJ12_mismatch_0 ++ dktJ12_mismatch_1
theorem dksJ12_mismatch_0 : cJ12_mismatch.data.toList.drop 0 = dktJ12_mismatch_0 := by decide +kernel
theorem dksJ12_mismatch_1 : cJ12_mismatch.data.toList.drop 24 = dktJ12_mismatch_1 := dk_seg dksJ12_mismatch_0 24 rfl rfl
theorem dksJ12_mismatch_2 : cJ12_mismatch.data.toList.drop 48 = dktJ12_mismatch_2 := dk_seg dksJ12_mismatch_1 24 rfl rfl
theorem dksJ12_mismatch_3 : cJ12_mismatch.data.toList.drop 72 = dktJ12_mismatch_3 := dk_seg dksJ12_mismatch_2 24 rfl rfl
theorem dJ12_mismatch_0 : decode cJ12_mismatch 0 = .ok (.iconst 0, 1) := dk_3 (dk_at dksJ12_mismatch_0 0 rfl rfl)
theorem dJ12_mismatch_1 : decode cJ12_mismatch 1 = .ok (.istore_n 3, 1) := dk_62 (dk_at dksJ12_mismatch_0 1 rfl rfl)
theorem dJ12_mismatch_2 : decode cJ12_mismatch 2 = .ok (.iload_n 2, 1) := dk_28 (dk_at dksJ12_mismatch_0 2 rfl rfl)
theorem dJ12_mismatch_3 : decode cJ12_mismatch 3 = .ok (.bipush 7, 2) := dk_16 7 (dk_at dksJ12_mismatch_0 3 rfl rfl)
theorem dJ12_mismatch_5 : decode cJ12_mismatch 5 = .ok (.if_icmp .le 44, 3) := dk_164 0 44 (dk_at dksJ12_mismatch_0 5 rfl rfl)
theorem dJ12_mismatch_8 : decode cJ12_mismatch 8 = .ok (.aload_n 0, 1) := dk_42 (dk_at dksJ12_mismatch_0 8 rfl rfl)
theorem dJ12_mismatch_9 : decode cJ12_mismatch 9 = .ok (.iconst 0, 1) := dk_3 (dk_at dksJ12_mismatch_0 9 rfl rfl)
theorem dJ12_mismatch_10 : decode cJ12_mismatch 10 = .ok (.baload, 1) := dk_51 (dk_at dksJ12_mismatch_0 10 rfl rfl)
theorem dJ12_mismatch_11 : decode cJ12_mismatch 11 = .ok (.aload_n 1, 1) := dk_43 (dk_at dksJ12_mismatch_0 11 rfl rfl)
theorem dJ12_mismatch_12 : decode cJ12_mismatch 12 = .ok (.iconst 0, 1) := dk_3 (dk_at dksJ12_mismatch_0 12 rfl rfl)
theorem dJ12_mismatch_13 : decode cJ12_mismatch 13 = .ok (.baload, 1) := dk_51 (dk_at dksJ12_mismatch_0 13 rfl rfl)
theorem dJ12_mismatch_14 : decode cJ12_mismatch 14 = .ok (.if_icmp .eq 5, 3) := dk_159 0 5 (dk_at dksJ12_mismatch_0 14 rfl rfl)
theorem dJ12_mismatch_17 : decode cJ12_mismatch 17 = .ok (.iconst 0, 1) := dk_3 (dk_at dksJ12_mismatch_0 17 rfl rfl)
theorem dJ12_mismatch_18 : decode cJ12_mismatch 18 = .ok (.ireturn, 1) := dk_172 (dk_at dksJ12_mismatch_0 18 rfl rfl)
theorem dJ12_mismatch_19 : decode cJ12_mismatch 19 = .ok (.aload_n 0, 1) := dk_42 (dk_at dksJ12_mismatch_0 19 rfl rfl)
theorem dJ12_mismatch_20 : decode cJ12_mismatch 20 = .ok (.getstatic 126, 3) := dk_178 0 126 (dk_at dksJ12_mismatch_0 20 rfl rfl)
theorem dJ12_mismatch_23 : decode cJ12_mismatch 23 = .ok (.i2l, 1) := dk_133 (dk_at dksJ12_mismatch_0 23 rfl rfl)
theorem dJ12_mismatch_24 : decode cJ12_mismatch 24 = .ok (.aload_n 1, 1) := dk_43 (dk_at dksJ12_mismatch_1 0 rfl rfl)
theorem dJ12_mismatch_25 : decode cJ12_mismatch 25 = .ok (.getstatic 126, 3) := dk_178 0 126 (dk_at dksJ12_mismatch_1 1 rfl rfl)
theorem dJ12_mismatch_28 : decode cJ12_mismatch 28 = .ok (.i2l, 1) := dk_133 (dk_at dksJ12_mismatch_1 4 rfl rfl)
theorem dJ12_mismatch_29 : decode cJ12_mismatch 29 = .ok (.iload_n 2, 1) := dk_28 (dk_at dksJ12_mismatch_1 5 rfl rfl)
theorem dJ12_mismatch_30 : decode cJ12_mismatch 30 = .ok (.getstatic 129, 3) := dk_178 0 129 (dk_at dksJ12_mismatch_1 6 rfl rfl)
theorem dJ12_mismatch_33 : decode cJ12_mismatch 33 = .ok (.invokestatic 122, 3) := dk_184 0 122 (dk_at dksJ12_mismatch_1 9 rfl rfl)
theorem dJ12_mismatch_36 : decode cJ12_mismatch 36 = .ok (.istore_n 3, 1) := dk_62 (dk_at dksJ12_mismatch_1 12 rfl rfl)
theorem dJ12_mismatch_37 : decode cJ12_mismatch 37 = .ok (.iload_n 3, 1) := dk_29 (dk_at dksJ12_mismatch_1 13 rfl rfl)
theorem dJ12_mismatch_38 : decode cJ12_mismatch 38 = .ok (.ifCond .lt 5, 3) := dk_155 0 5 (dk_at dksJ12_mismatch_1 14 rfl rfl)
theorem dJ12_mismatch_41 : decode cJ12_mismatch 41 = .ok (.iload_n 3, 1) := dk_29 (dk_at dksJ12_mismatch_1 17 rfl rfl)
theorem dJ12_mismatch_42 : decode cJ12_mismatch 42 = .ok (.ireturn, 1) := dk_172 (dk_at dksJ12_mismatch_1 18 rfl rfl)
theorem dJ12_mismatch_43 : decode cJ12_mismatch 43 = .ok (.iload_n 2, 1) := dk_28 (dk_at dksJ12_mismatch_1 19 rfl rfl)
theorem dJ12_mismatch_44 : decode cJ12_mismatch 44 = .ok (.iload_n 3, 1) := dk_29 (dk_at dksJ12_mismatch_1 20 rfl rfl)
theorem dJ12_mismatch_45 : decode cJ12_mismatch 45 = .ok (.iconst (-1), 1) := dk_2 (dk_at dksJ12_mismatch_1 21 rfl rfl)
theorem dJ12_mismatch_46 : decode cJ12_mismatch 46 = .ok (.ixor, 1) := dk_130 (dk_at dksJ12_mismatch_1 22 rfl rfl)
theorem dJ12_mismatch_47 : decode cJ12_mismatch 47 = .ok (.isub, 1) := dk_100 (dk_at dksJ12_mismatch_1 23 rfl rfl)
theorem dJ12_mismatch_48 : decode cJ12_mismatch 48 = .ok (.istore_n 3, 1) := dk_62 (dk_at dksJ12_mismatch_2 0 rfl rfl)
theorem dJ12_mismatch_49 : decode cJ12_mismatch 49 = .ok (.iload_n 3, 1) := dk_29 (dk_at dksJ12_mismatch_2 1 rfl rfl)
theorem dJ12_mismatch_50 : decode cJ12_mismatch 50 = .ok (.iload_n 2, 1) := dk_28 (dk_at dksJ12_mismatch_2 2 rfl rfl)
theorem dJ12_mismatch_51 : decode cJ12_mismatch 51 = .ok (.if_icmp .ge 20, 3) := dk_162 0 20 (dk_at dksJ12_mismatch_2 3 rfl rfl)
theorem dJ12_mismatch_54 : decode cJ12_mismatch 54 = .ok (.aload_n 0, 1) := dk_42 (dk_at dksJ12_mismatch_2 6 rfl rfl)
theorem dJ12_mismatch_55 : decode cJ12_mismatch 55 = .ok (.iload_n 3, 1) := dk_29 (dk_at dksJ12_mismatch_2 7 rfl rfl)
theorem dJ12_mismatch_56 : decode cJ12_mismatch 56 = .ok (.baload, 1) := dk_51 (dk_at dksJ12_mismatch_2 8 rfl rfl)
theorem dJ12_mismatch_57 : decode cJ12_mismatch 57 = .ok (.aload_n 1, 1) := dk_43 (dk_at dksJ12_mismatch_2 9 rfl rfl)
theorem dJ12_mismatch_58 : decode cJ12_mismatch 58 = .ok (.iload_n 3, 1) := dk_29 (dk_at dksJ12_mismatch_2 10 rfl rfl)
theorem dJ12_mismatch_59 : decode cJ12_mismatch 59 = .ok (.baload, 1) := dk_51 (dk_at dksJ12_mismatch_2 11 rfl rfl)
theorem dJ12_mismatch_60 : decode cJ12_mismatch 60 = .ok (.if_icmp .eq 5, 3) := dk_159 0 5 (dk_at dksJ12_mismatch_2 12 rfl rfl)
theorem dJ12_mismatch_63 : decode cJ12_mismatch 63 = .ok (.iload_n 3, 1) := dk_29 (dk_at dksJ12_mismatch_2 15 rfl rfl)
theorem dJ12_mismatch_64 : decode cJ12_mismatch 64 = .ok (.ireturn, 1) := dk_172 (dk_at dksJ12_mismatch_2 16 rfl rfl)
theorem dJ12_mismatch_65 : decode cJ12_mismatch 65 = .ok (.iinc 3 1, 3) := dk_132 3 1 (dk_at dksJ12_mismatch_2 17 rfl rfl)
theorem dJ12_mismatch_68 : decode cJ12_mismatch 68 = .ok (.goto (-19), 3) := dk_167 255 237 (dk_at dksJ12_mismatch_2 20 rfl rfl)
theorem dJ12_mismatch_71 : decode cJ12_mismatch 71 = .ok (.iconst (-1), 1) := dk_2 (dk_at dksJ12_mismatch_2 23 rfl rfl)
theorem dJ12_mismatch_72 : decode cJ12_mismatch 72 = .ok (.ireturn, 1) := dk_172 (dk_at dksJ12_mismatch_3 0 rfl rfl)
abbrev cJ12_vectorizedMismatch : ByteArray := prog_89_method_3_code
def yJ12_vectorizedMismatch : MethodName := ⟨RJ12, "vectorizedMismatch", "(Ljava/lang/Object;JLjava/lang/Object;JII)I"⟩
def dkwJ12_vectorizedMismatch_11 : List UInt8 := [54, 10, 21, 10, 2, 130, 172, 21, 10, 2, 130, 172]
abbrev dktJ12_vectorizedMismatch_11 : List UInt8 := dkwJ12_vectorizedMismatch_11 ++ []
def dkwJ12_vectorizedMismatch_10 : List UInt8 := [178, 0, 46, 21, 7, 96, 122, 54, 17, 21, 9, 21, 8, 120, 21, 17, 96, 172, 21, 10, 21, 11, 100]
abbrev dktJ12_vectorizedMismatch_10 : List UInt8 := dkwJ12_vectorizedMismatch_10 ++ dktJ12_vectorizedMismatch_11
def dkwJ12_vectorizedMismatch_9 : List UInt8 := [153, 0, 18, 21, 16, 184, 0, 58, 178, 0, 46, 21, 7, 96, 122, 167, 0, 15, 21, 16, 184, 0, 11]
abbrev dktJ12_vectorizedMismatch_9 : List UInt8 := dkwJ12_vectorizedMismatch_9 ++ dktJ12_vectorizedMismatch_10
def dkwJ12_vectorizedMismatch_8 : List UInt8 := [182, 0, 54, 54, 15, 21, 14, 21, 15, 159, 0, 54, 21, 14, 21, 15, 130, 54, 16, 178, 0, 36]
abbrev dktJ12_vectorizedMismatch_8 : List UInt8 := dkwJ12_vectorizedMismatch_8 ++ dktJ12_vectorizedMismatch_9
def dkwJ12_vectorizedMismatch_7 : List UInt8 := [55, 12, 178, 0, 26, 42, 31, 22, 12, 97, 182, 0, 54, 54, 14, 178, 0, 26, 45, 22, 4, 22, 12, 97]
abbrev dktJ12_vectorizedMismatch_7 : List UInt8 := dkwJ12_vectorizedMismatch_7 ++ dktJ12_vectorizedMismatch_8
def dkwJ12_vectorizedMismatch_6 : List UInt8 := [4, 178, 0, 51, 21, 7, 100, 120, 54, 11, 21, 10, 21, 11, 161, 0, 104, 21, 9, 133, 178, 0, 20, 121]
abbrev dktJ12_vectorizedMismatch_6 : List UInt8 := dkwJ12_vectorizedMismatch_6 ++ dktJ12_vectorizedMismatch_7
def dkwJ12_vectorizedMismatch_5 : List UInt8 := [132, 9, 1, 167, 255, 148, 21, 6, 21, 9, 21, 8, 120, 100, 54, 10, 21, 7, 178, 0, 51, 162, 0, 126]
abbrev dktJ12_vectorizedMismatch_5 : List UInt8 := dkwJ12_vectorizedMismatch_5 ++ dktJ12_vectorizedMismatch_6
def dkwJ12_vectorizedMismatch_4 : List UInt8 := [22, 16, 184, 0, 49, 178, 0, 46, 21, 7, 96, 122, 54, 18, 21, 9, 21, 8, 120, 21, 18, 96, 172]
abbrev dktJ12_vectorizedMismatch_4 : List UInt8 := dkwJ12_vectorizedMismatch_4 ++ dktJ12_vectorizedMismatch_5
def dkwJ12_vectorizedMismatch_3 : List UInt8 := [55, 16, 178, 0, 36, 153, 0, 18, 22, 16, 184, 0, 40, 178, 0, 46, 21, 7, 96, 122, 167, 0, 15]
abbrev dktJ12_vectorizedMismatch_3 : List UInt8 := dkwJ12_vectorizedMismatch_3 ++ dktJ12_vectorizedMismatch_4
def dkwJ12_vectorizedMismatch_2 : List UInt8 := [22, 4, 22, 10, 97, 182, 0, 30, 55, 14, 22, 12, 22, 14, 148, 153, 0, 54, 22, 12, 22, 14, 131]
abbrev dktJ12_vectorizedMismatch_2 : List UInt8 := dkwJ12_vectorizedMismatch_2 ++ dktJ12_vectorizedMismatch_3
def dkwJ12_vectorizedMismatch_1 : List UInt8 := [178, 0, 20, 121, 55, 10, 178, 0, 26, 42, 31, 22, 10, 97, 182, 0, 30, 55, 12, 178, 0, 26, 45]
abbrev dktJ12_vectorizedMismatch_1 : List UInt8 := dkwJ12_vectorizedMismatch_1 ++ dktJ12_vectorizedMismatch_2
def dkwJ12_vectorizedMismatch_0 : List UInt8 := [178, 0, 20, 21, 7, 100, 54, 8, 3, 54, 9, 21, 9, 21, 6, 21, 8, 122, 162, 0, 104, 21, 9, 133]
abbrev dktJ12_vectorizedMismatch_0 : List UInt8 := dkwJ12_vectorizedMismatch_0 ++ dktJ12_vectorizedMismatch_1
theorem dksJ12_vectorizedMismatch_0 : cJ12_vectorizedMismatch.data.toList.drop 0 = dktJ12_vectorizedMismatch_0 := by decide +kernel
theorem dksJ12_vectorizedMismatch_1 : cJ12_vectorizedMismatch.data.toList.drop 24 = dktJ12_vectorizedMismatch_1 := dk_seg dksJ12_vectorizedMismatch_0 24 rfl rfl
theorem dksJ12_vectorizedMismatch_2 : cJ12_vectorizedMismatch.data.toList.drop 47 = dktJ12_vectorizedMismatch_2 := dk_seg dksJ12_vectorizedMismatch_1 23 rfl rfl
theorem dksJ12_vectorizedMismatch_3 : cJ12_vectorizedMismatch.data.toList.drop 70 = dktJ12_vectorizedMismatch_3 := dk_seg dksJ12_vectorizedMismatch_2 23 rfl rfl
theorem dksJ12_vectorizedMismatch_4 : cJ12_vectorizedMismatch.data.toList.drop 93 = dktJ12_vectorizedMismatch_4 := dk_seg dksJ12_vectorizedMismatch_3 23 rfl rfl
theorem dksJ12_vectorizedMismatch_5 : cJ12_vectorizedMismatch.data.toList.drop 116 = dktJ12_vectorizedMismatch_5 := dk_seg dksJ12_vectorizedMismatch_4 23 rfl rfl
theorem dksJ12_vectorizedMismatch_6 : cJ12_vectorizedMismatch.data.toList.drop 140 = dktJ12_vectorizedMismatch_6 := dk_seg dksJ12_vectorizedMismatch_5 24 rfl rfl
theorem dksJ12_vectorizedMismatch_7 : cJ12_vectorizedMismatch.data.toList.drop 164 = dktJ12_vectorizedMismatch_7 := dk_seg dksJ12_vectorizedMismatch_6 24 rfl rfl
theorem dksJ12_vectorizedMismatch_8 : cJ12_vectorizedMismatch.data.toList.drop 188 = dktJ12_vectorizedMismatch_8 := dk_seg dksJ12_vectorizedMismatch_7 24 rfl rfl
theorem dksJ12_vectorizedMismatch_9 : cJ12_vectorizedMismatch.data.toList.drop 210 = dktJ12_vectorizedMismatch_9 := dk_seg dksJ12_vectorizedMismatch_8 22 rfl rfl
theorem dksJ12_vectorizedMismatch_10 : cJ12_vectorizedMismatch.data.toList.drop 233 = dktJ12_vectorizedMismatch_10 := dk_seg dksJ12_vectorizedMismatch_9 23 rfl rfl
theorem dksJ12_vectorizedMismatch_11 : cJ12_vectorizedMismatch.data.toList.drop 256 = dktJ12_vectorizedMismatch_11 := dk_seg dksJ12_vectorizedMismatch_10 23 rfl rfl
theorem dJ12_vectorizedMismatch_0 : decode cJ12_vectorizedMismatch 0 = .ok (.getstatic 20, 3) := dk_178 0 20 (dk_at dksJ12_vectorizedMismatch_0 0 rfl rfl)
theorem dJ12_vectorizedMismatch_3 : decode cJ12_vectorizedMismatch 3 = .ok (.iload 7, 2) := dk_21 7 (dk_at dksJ12_vectorizedMismatch_0 3 rfl rfl)
theorem dJ12_vectorizedMismatch_5 : decode cJ12_vectorizedMismatch 5 = .ok (.isub, 1) := dk_100 (dk_at dksJ12_vectorizedMismatch_0 5 rfl rfl)
theorem dJ12_vectorizedMismatch_6 : decode cJ12_vectorizedMismatch 6 = .ok (.istore 8, 2) := dk_54 8 (dk_at dksJ12_vectorizedMismatch_0 6 rfl rfl)
theorem dJ12_vectorizedMismatch_8 : decode cJ12_vectorizedMismatch 8 = .ok (.iconst 0, 1) := dk_3 (dk_at dksJ12_vectorizedMismatch_0 8 rfl rfl)
theorem dJ12_vectorizedMismatch_9 : decode cJ12_vectorizedMismatch 9 = .ok (.istore 9, 2) := dk_54 9 (dk_at dksJ12_vectorizedMismatch_0 9 rfl rfl)
theorem dJ12_vectorizedMismatch_11 : decode cJ12_vectorizedMismatch 11 = .ok (.iload 9, 2) := dk_21 9 (dk_at dksJ12_vectorizedMismatch_0 11 rfl rfl)
theorem dJ12_vectorizedMismatch_13 : decode cJ12_vectorizedMismatch 13 = .ok (.iload 6, 2) := dk_21 6 (dk_at dksJ12_vectorizedMismatch_0 13 rfl rfl)
theorem dJ12_vectorizedMismatch_15 : decode cJ12_vectorizedMismatch 15 = .ok (.iload 8, 2) := dk_21 8 (dk_at dksJ12_vectorizedMismatch_0 15 rfl rfl)
theorem dJ12_vectorizedMismatch_17 : decode cJ12_vectorizedMismatch 17 = .ok (.ishr, 1) := dk_122 (dk_at dksJ12_vectorizedMismatch_0 17 rfl rfl)
theorem dJ12_vectorizedMismatch_18 : decode cJ12_vectorizedMismatch 18 = .ok (.if_icmp .ge 104, 3) := dk_162 0 104 (dk_at dksJ12_vectorizedMismatch_0 18 rfl rfl)
theorem dJ12_vectorizedMismatch_21 : decode cJ12_vectorizedMismatch 21 = .ok (.iload 9, 2) := dk_21 9 (dk_at dksJ12_vectorizedMismatch_0 21 rfl rfl)
theorem dJ12_vectorizedMismatch_23 : decode cJ12_vectorizedMismatch 23 = .ok (.i2l, 1) := dk_133 (dk_at dksJ12_vectorizedMismatch_0 23 rfl rfl)
theorem dJ12_vectorizedMismatch_24 : decode cJ12_vectorizedMismatch 24 = .ok (.getstatic 20, 3) := dk_178 0 20 (dk_at dksJ12_vectorizedMismatch_1 0 rfl rfl)
theorem dJ12_vectorizedMismatch_27 : decode cJ12_vectorizedMismatch 27 = .ok (.lshl, 1) := dk_121 (dk_at dksJ12_vectorizedMismatch_1 3 rfl rfl)
theorem dJ12_vectorizedMismatch_28 : decode cJ12_vectorizedMismatch 28 = .ok (.lstore 10, 2) := dk_55 10 (dk_at dksJ12_vectorizedMismatch_1 4 rfl rfl)
theorem dJ12_vectorizedMismatch_30 : decode cJ12_vectorizedMismatch 30 = .ok (.getstatic 26, 3) := dk_178 0 26 (dk_at dksJ12_vectorizedMismatch_1 6 rfl rfl)
theorem dJ12_vectorizedMismatch_33 : decode cJ12_vectorizedMismatch 33 = .ok (.aload_n 0, 1) := dk_42 (dk_at dksJ12_vectorizedMismatch_1 9 rfl rfl)
theorem dJ12_vectorizedMismatch_34 : decode cJ12_vectorizedMismatch 34 = .ok (.lload_n 1, 1) := dk_31 (dk_at dksJ12_vectorizedMismatch_1 10 rfl rfl)
theorem dJ12_vectorizedMismatch_35 : decode cJ12_vectorizedMismatch 35 = .ok (.lload 10, 2) := dk_22 10 (dk_at dksJ12_vectorizedMismatch_1 11 rfl rfl)
theorem dJ12_vectorizedMismatch_37 : decode cJ12_vectorizedMismatch 37 = .ok (.ladd, 1) := dk_97 (dk_at dksJ12_vectorizedMismatch_1 13 rfl rfl)
theorem dJ12_vectorizedMismatch_38 : decode cJ12_vectorizedMismatch 38 = .ok (.invokevirtual 30, 3) := dk_182 0 30 (dk_at dksJ12_vectorizedMismatch_1 14 rfl rfl)
theorem dJ12_vectorizedMismatch_41 : decode cJ12_vectorizedMismatch 41 = .ok (.lstore 12, 2) := dk_55 12 (dk_at dksJ12_vectorizedMismatch_1 17 rfl rfl)
theorem dJ12_vectorizedMismatch_43 : decode cJ12_vectorizedMismatch 43 = .ok (.getstatic 26, 3) := dk_178 0 26 (dk_at dksJ12_vectorizedMismatch_1 19 rfl rfl)
theorem dJ12_vectorizedMismatch_46 : decode cJ12_vectorizedMismatch 46 = .ok (.aload_n 3, 1) := dk_45 (dk_at dksJ12_vectorizedMismatch_1 22 rfl rfl)
theorem dJ12_vectorizedMismatch_47 : decode cJ12_vectorizedMismatch 47 = .ok (.lload 4, 2) := dk_22 4 (dk_at dksJ12_vectorizedMismatch_2 0 rfl rfl)
theorem dJ12_vectorizedMismatch_49 : decode cJ12_vectorizedMismatch 49 = .ok (.lload 10, 2) := dk_22 10 (dk_at dksJ12_vectorizedMismatch_2 2 rfl rfl)
theorem dJ12_vectorizedMismatch_51 : decode cJ12_vectorizedMismatch 51 = .ok (.ladd, 1) := dk_97 (dk_at dksJ12_vectorizedMismatch_2 4 rfl rfl)
theorem dJ12_vectorizedMismatch_52 : decode cJ12_vectorizedMismatch 52 = .ok (.invokevirtual 30, 3) := dk_182 0 30 (dk_at dksJ12_vectorizedMismatch_2 5 rfl rfl)
theorem dJ12_vectorizedMismatch_55 : decode cJ12_vectorizedMismatch 55 = .ok (.lstore 14, 2) := dk_55 14 (dk_at dksJ12_vectorizedMismatch_2 8 rfl rfl)
theorem dJ12_vectorizedMismatch_57 : decode cJ12_vectorizedMismatch 57 = .ok (.lload 12, 2) := dk_22 12 (dk_at dksJ12_vectorizedMismatch_2 10 rfl rfl)
theorem dJ12_vectorizedMismatch_59 : decode cJ12_vectorizedMismatch 59 = .ok (.lload 14, 2) := dk_22 14 (dk_at dksJ12_vectorizedMismatch_2 12 rfl rfl)
theorem dJ12_vectorizedMismatch_61 : decode cJ12_vectorizedMismatch 61 = .ok (.lcmp, 1) := dk_148 (dk_at dksJ12_vectorizedMismatch_2 14 rfl rfl)
theorem dJ12_vectorizedMismatch_62 : decode cJ12_vectorizedMismatch 62 = .ok (.ifCond .eq 54, 3) := dk_153 0 54 (dk_at dksJ12_vectorizedMismatch_2 15 rfl rfl)
theorem dJ12_vectorizedMismatch_65 : decode cJ12_vectorizedMismatch 65 = .ok (.lload 12, 2) := dk_22 12 (dk_at dksJ12_vectorizedMismatch_2 18 rfl rfl)
theorem dJ12_vectorizedMismatch_67 : decode cJ12_vectorizedMismatch 67 = .ok (.lload 14, 2) := dk_22 14 (dk_at dksJ12_vectorizedMismatch_2 20 rfl rfl)
theorem dJ12_vectorizedMismatch_69 : decode cJ12_vectorizedMismatch 69 = .ok (.lxor, 1) := dk_131 (dk_at dksJ12_vectorizedMismatch_2 22 rfl rfl)
theorem dJ12_vectorizedMismatch_70 : decode cJ12_vectorizedMismatch 70 = .ok (.lstore 16, 2) := dk_55 16 (dk_at dksJ12_vectorizedMismatch_3 0 rfl rfl)
theorem dJ12_vectorizedMismatch_72 : decode cJ12_vectorizedMismatch 72 = .ok (.getstatic 36, 3) := dk_178 0 36 (dk_at dksJ12_vectorizedMismatch_3 2 rfl rfl)
theorem dJ12_vectorizedMismatch_75 : decode cJ12_vectorizedMismatch 75 = .ok (.ifCond .eq 18, 3) := dk_153 0 18 (dk_at dksJ12_vectorizedMismatch_3 5 rfl rfl)
theorem dJ12_vectorizedMismatch_78 : decode cJ12_vectorizedMismatch 78 = .ok (.lload 16, 2) := dk_22 16 (dk_at dksJ12_vectorizedMismatch_3 8 rfl rfl)
theorem dJ12_vectorizedMismatch_80 : decode cJ12_vectorizedMismatch 80 = .ok (.invokestatic 40, 3) := dk_184 0 40 (dk_at dksJ12_vectorizedMismatch_3 10 rfl rfl)
theorem dJ12_vectorizedMismatch_83 : decode cJ12_vectorizedMismatch 83 = .ok (.getstatic 46, 3) := dk_178 0 46 (dk_at dksJ12_vectorizedMismatch_3 13 rfl rfl)
theorem dJ12_vectorizedMismatch_86 : decode cJ12_vectorizedMismatch 86 = .ok (.iload 7, 2) := dk_21 7 (dk_at dksJ12_vectorizedMismatch_3 16 rfl rfl)
theorem dJ12_vectorizedMismatch_88 : decode cJ12_vectorizedMismatch 88 = .ok (.iadd, 1) := dk_96 (dk_at dksJ12_vectorizedMismatch_3 18 rfl rfl)
theorem dJ12_vectorizedMismatch_89 : decode cJ12_vectorizedMismatch 89 = .ok (.ishr, 1) := dk_122 (dk_at dksJ12_vectorizedMismatch_3 19 rfl rfl)
theorem dJ12_vectorizedMismatch_90 : decode cJ12_vectorizedMismatch 90 = .ok (.goto 15, 3) := dk_167 0 15 (dk_at dksJ12_vectorizedMismatch_3 20 rfl rfl)
theorem dJ12_vectorizedMismatch_93 : decode cJ12_vectorizedMismatch 93 = .ok (.lload 16, 2) := dk_22 16 (dk_at dksJ12_vectorizedMismatch_4 0 rfl rfl)
theorem dJ12_vectorizedMismatch_95 : decode cJ12_vectorizedMismatch 95 = .ok (.invokestatic 49, 3) := dk_184 0 49 (dk_at dksJ12_vectorizedMismatch_4 2 rfl rfl)
theorem dJ12_vectorizedMismatch_98 : decode cJ12_vectorizedMismatch 98 = .ok (.getstatic 46, 3) := dk_178 0 46 (dk_at dksJ12_vectorizedMismatch_4 5 rfl rfl)
theorem dJ12_vectorizedMismatch_101 : decode cJ12_vectorizedMismatch 101 = .ok (.iload 7, 2) := dk_21 7 (dk_at dksJ12_vectorizedMismatch_4 8 rfl rfl)
theorem dJ12_vectorizedMismatch_103 : decode cJ12_vectorizedMismatch 103 = .ok (.iadd, 1) := dk_96 (dk_at dksJ12_vectorizedMismatch_4 10 rfl rfl)
theorem dJ12_vectorizedMismatch_104 : decode cJ12_vectorizedMismatch 104 = .ok (.ishr, 1) := dk_122 (dk_at dksJ12_vectorizedMismatch_4 11 rfl rfl)
theorem dJ12_vectorizedMismatch_105 : decode cJ12_vectorizedMismatch 105 = .ok (.istore 18, 2) := dk_54 18 (dk_at dksJ12_vectorizedMismatch_4 12 rfl rfl)
theorem dJ12_vectorizedMismatch_107 : decode cJ12_vectorizedMismatch 107 = .ok (.iload 9, 2) := dk_21 9 (dk_at dksJ12_vectorizedMismatch_4 14 rfl rfl)
theorem dJ12_vectorizedMismatch_109 : decode cJ12_vectorizedMismatch 109 = .ok (.iload 8, 2) := dk_21 8 (dk_at dksJ12_vectorizedMismatch_4 16 rfl rfl)
theorem dJ12_vectorizedMismatch_111 : decode cJ12_vectorizedMismatch 111 = .ok (.ishl, 1) := dk_120 (dk_at dksJ12_vectorizedMismatch_4 18 rfl rfl)
theorem dJ12_vectorizedMismatch_112 : decode cJ12_vectorizedMismatch 112 = .ok (.iload 18, 2) := dk_21 18 (dk_at dksJ12_vectorizedMismatch_4 19 rfl rfl)
theorem dJ12_vectorizedMismatch_114 : decode cJ12_vectorizedMismatch 114 = .ok (.iadd, 1) := dk_96 (dk_at dksJ12_vectorizedMismatch_4 21 rfl rfl)
theorem dJ12_vectorizedMismatch_115 : decode cJ12_vectorizedMismatch 115 = .ok (.ireturn, 1) := dk_172 (dk_at dksJ12_vectorizedMismatch_4 22 rfl rfl)
theorem dJ12_vectorizedMismatch_116 : decode cJ12_vectorizedMismatch 116 = .ok (.iinc 9 1, 3) := dk_132 9 1 (dk_at dksJ12_vectorizedMismatch_5 0 rfl rfl)
theorem dJ12_vectorizedMismatch_119 : decode cJ12_vectorizedMismatch 119 = .ok (.goto (-108), 3) := dk_167 255 148 (dk_at dksJ12_vectorizedMismatch_5 3 rfl rfl)
theorem dJ12_vectorizedMismatch_122 : decode cJ12_vectorizedMismatch 122 = .ok (.iload 6, 2) := dk_21 6 (dk_at dksJ12_vectorizedMismatch_5 6 rfl rfl)
theorem dJ12_vectorizedMismatch_124 : decode cJ12_vectorizedMismatch 124 = .ok (.iload 9, 2) := dk_21 9 (dk_at dksJ12_vectorizedMismatch_5 8 rfl rfl)
theorem dJ12_vectorizedMismatch_126 : decode cJ12_vectorizedMismatch 126 = .ok (.iload 8, 2) := dk_21 8 (dk_at dksJ12_vectorizedMismatch_5 10 rfl rfl)
theorem dJ12_vectorizedMismatch_128 : decode cJ12_vectorizedMismatch 128 = .ok (.ishl, 1) := dk_120 (dk_at dksJ12_vectorizedMismatch_5 12 rfl rfl)
theorem dJ12_vectorizedMismatch_129 : decode cJ12_vectorizedMismatch 129 = .ok (.isub, 1) := dk_100 (dk_at dksJ12_vectorizedMismatch_5 13 rfl rfl)
theorem dJ12_vectorizedMismatch_130 : decode cJ12_vectorizedMismatch 130 = .ok (.istore 10, 2) := dk_54 10 (dk_at dksJ12_vectorizedMismatch_5 14 rfl rfl)
theorem dJ12_vectorizedMismatch_132 : decode cJ12_vectorizedMismatch 132 = .ok (.iload 7, 2) := dk_21 7 (dk_at dksJ12_vectorizedMismatch_5 16 rfl rfl)
theorem dJ12_vectorizedMismatch_134 : decode cJ12_vectorizedMismatch 134 = .ok (.getstatic 51, 3) := dk_178 0 51 (dk_at dksJ12_vectorizedMismatch_5 18 rfl rfl)
theorem dJ12_vectorizedMismatch_137 : decode cJ12_vectorizedMismatch 137 = .ok (.if_icmp .ge 126, 3) := dk_162 0 126 (dk_at dksJ12_vectorizedMismatch_5 21 rfl rfl)
theorem dJ12_vectorizedMismatch_140 : decode cJ12_vectorizedMismatch 140 = .ok (.iconst 1, 1) := dk_4 (dk_at dksJ12_vectorizedMismatch_6 0 rfl rfl)
theorem dJ12_vectorizedMismatch_141 : decode cJ12_vectorizedMismatch 141 = .ok (.getstatic 51, 3) := dk_178 0 51 (dk_at dksJ12_vectorizedMismatch_6 1 rfl rfl)
theorem dJ12_vectorizedMismatch_144 : decode cJ12_vectorizedMismatch 144 = .ok (.iload 7, 2) := dk_21 7 (dk_at dksJ12_vectorizedMismatch_6 4 rfl rfl)
theorem dJ12_vectorizedMismatch_146 : decode cJ12_vectorizedMismatch 146 = .ok (.isub, 1) := dk_100 (dk_at dksJ12_vectorizedMismatch_6 6 rfl rfl)
theorem dJ12_vectorizedMismatch_147 : decode cJ12_vectorizedMismatch 147 = .ok (.ishl, 1) := dk_120 (dk_at dksJ12_vectorizedMismatch_6 7 rfl rfl)
theorem dJ12_vectorizedMismatch_148 : decode cJ12_vectorizedMismatch 148 = .ok (.istore 11, 2) := dk_54 11 (dk_at dksJ12_vectorizedMismatch_6 8 rfl rfl)
theorem dJ12_vectorizedMismatch_150 : decode cJ12_vectorizedMismatch 150 = .ok (.iload 10, 2) := dk_21 10 (dk_at dksJ12_vectorizedMismatch_6 10 rfl rfl)
theorem dJ12_vectorizedMismatch_152 : decode cJ12_vectorizedMismatch 152 = .ok (.iload 11, 2) := dk_21 11 (dk_at dksJ12_vectorizedMismatch_6 12 rfl rfl)
theorem dJ12_vectorizedMismatch_154 : decode cJ12_vectorizedMismatch 154 = .ok (.if_icmp .lt 104, 3) := dk_161 0 104 (dk_at dksJ12_vectorizedMismatch_6 14 rfl rfl)
theorem dJ12_vectorizedMismatch_157 : decode cJ12_vectorizedMismatch 157 = .ok (.iload 9, 2) := dk_21 9 (dk_at dksJ12_vectorizedMismatch_6 17 rfl rfl)
theorem dJ12_vectorizedMismatch_159 : decode cJ12_vectorizedMismatch 159 = .ok (.i2l, 1) := dk_133 (dk_at dksJ12_vectorizedMismatch_6 19 rfl rfl)
theorem dJ12_vectorizedMismatch_160 : decode cJ12_vectorizedMismatch 160 = .ok (.getstatic 20, 3) := dk_178 0 20 (dk_at dksJ12_vectorizedMismatch_6 20 rfl rfl)
theorem dJ12_vectorizedMismatch_163 : decode cJ12_vectorizedMismatch 163 = .ok (.lshl, 1) := dk_121 (dk_at dksJ12_vectorizedMismatch_6 23 rfl rfl)
theorem dJ12_vectorizedMismatch_164 : decode cJ12_vectorizedMismatch 164 = .ok (.lstore 12, 2) := dk_55 12 (dk_at dksJ12_vectorizedMismatch_7 0 rfl rfl)
theorem dJ12_vectorizedMismatch_166 : decode cJ12_vectorizedMismatch 166 = .ok (.getstatic 26, 3) := dk_178 0 26 (dk_at dksJ12_vectorizedMismatch_7 2 rfl rfl)
theorem dJ12_vectorizedMismatch_169 : decode cJ12_vectorizedMismatch 169 = .ok (.aload_n 0, 1) := dk_42 (dk_at dksJ12_vectorizedMismatch_7 5 rfl rfl)
theorem dJ12_vectorizedMismatch_170 : decode cJ12_vectorizedMismatch 170 = .ok (.lload_n 1, 1) := dk_31 (dk_at dksJ12_vectorizedMismatch_7 6 rfl rfl)
theorem dJ12_vectorizedMismatch_171 : decode cJ12_vectorizedMismatch 171 = .ok (.lload 12, 2) := dk_22 12 (dk_at dksJ12_vectorizedMismatch_7 7 rfl rfl)
theorem dJ12_vectorizedMismatch_173 : decode cJ12_vectorizedMismatch 173 = .ok (.ladd, 1) := dk_97 (dk_at dksJ12_vectorizedMismatch_7 9 rfl rfl)
theorem dJ12_vectorizedMismatch_174 : decode cJ12_vectorizedMismatch 174 = .ok (.invokevirtual 54, 3) := dk_182 0 54 (dk_at dksJ12_vectorizedMismatch_7 10 rfl rfl)
theorem dJ12_vectorizedMismatch_177 : decode cJ12_vectorizedMismatch 177 = .ok (.istore 14, 2) := dk_54 14 (dk_at dksJ12_vectorizedMismatch_7 13 rfl rfl)
theorem dJ12_vectorizedMismatch_179 : decode cJ12_vectorizedMismatch 179 = .ok (.getstatic 26, 3) := dk_178 0 26 (dk_at dksJ12_vectorizedMismatch_7 15 rfl rfl)
theorem dJ12_vectorizedMismatch_182 : decode cJ12_vectorizedMismatch 182 = .ok (.aload_n 3, 1) := dk_45 (dk_at dksJ12_vectorizedMismatch_7 18 rfl rfl)
theorem dJ12_vectorizedMismatch_183 : decode cJ12_vectorizedMismatch 183 = .ok (.lload 4, 2) := dk_22 4 (dk_at dksJ12_vectorizedMismatch_7 19 rfl rfl)
theorem dJ12_vectorizedMismatch_185 : decode cJ12_vectorizedMismatch 185 = .ok (.lload 12, 2) := dk_22 12 (dk_at dksJ12_vectorizedMismatch_7 21 rfl rfl)
theorem dJ12_vectorizedMismatch_187 : decode cJ12_vectorizedMismatch 187 = .ok (.ladd, 1) := dk_97 (dk_at dksJ12_vectorizedMismatch_7 23 rfl rfl)
theorem dJ12_vectorizedMismatch_188 : decode cJ12_vectorizedMismatch 188 = .ok (.invokevirtual 54, 3) := dk_182 0 54 (dk_at dksJ12_vectorizedMismatch_8 0 rfl rfl)
theorem dJ12_vectorizedMismatch_191 : decode cJ12_vectorizedMismatch 191 = .ok (.istore 15, 2) := dk_54 15 (dk_at dksJ12_vectorizedMismatch_8 3 rfl rfl)
theorem dJ12_vectorizedMismatch_193 : decode cJ12_vectorizedMismatch 193 = .ok (.iload 14, 2) := dk_21 14 (dk_at dksJ12_vectorizedMismatch_8 5 rfl rfl)
theorem dJ12_vectorizedMismatch_195 : decode cJ12_vectorizedMismatch 195 = .ok (.iload 15, 2) := dk_21 15 (dk_at dksJ12_vectorizedMismatch_8 7 rfl rfl)
theorem dJ12_vectorizedMismatch_197 : decode cJ12_vectorizedMismatch 197 = .ok (.if_icmp .eq 54, 3) := dk_159 0 54 (dk_at dksJ12_vectorizedMismatch_8 9 rfl rfl)
theorem dJ12_vectorizedMismatch_200 : decode cJ12_vectorizedMismatch 200 = .ok (.iload 14, 2) := dk_21 14 (dk_at dksJ12_vectorizedMismatch_8 12 rfl rfl)
theorem dJ12_vectorizedMismatch_202 : decode cJ12_vectorizedMismatch 202 = .ok (.iload 15, 2) := dk_21 15 (dk_at dksJ12_vectorizedMismatch_8 14 rfl rfl)
theorem dJ12_vectorizedMismatch_204 : decode cJ12_vectorizedMismatch 204 = .ok (.ixor, 1) := dk_130 (dk_at dksJ12_vectorizedMismatch_8 16 rfl rfl)
theorem dJ12_vectorizedMismatch_205 : decode cJ12_vectorizedMismatch 205 = .ok (.istore 16, 2) := dk_54 16 (dk_at dksJ12_vectorizedMismatch_8 17 rfl rfl)
theorem dJ12_vectorizedMismatch_207 : decode cJ12_vectorizedMismatch 207 = .ok (.getstatic 36, 3) := dk_178 0 36 (dk_at dksJ12_vectorizedMismatch_8 19 rfl rfl)
theorem dJ12_vectorizedMismatch_210 : decode cJ12_vectorizedMismatch 210 = .ok (.ifCond .eq 18, 3) := dk_153 0 18 (dk_at dksJ12_vectorizedMismatch_9 0 rfl rfl)
theorem dJ12_vectorizedMismatch_213 : decode cJ12_vectorizedMismatch 213 = .ok (.iload 16, 2) := dk_21 16 (dk_at dksJ12_vectorizedMismatch_9 3 rfl rfl)
theorem dJ12_vectorizedMismatch_215 : decode cJ12_vectorizedMismatch 215 = .ok (.invokestatic 58, 3) := dk_184 0 58 (dk_at dksJ12_vectorizedMismatch_9 5 rfl rfl)
theorem dJ12_vectorizedMismatch_218 : decode cJ12_vectorizedMismatch 218 = .ok (.getstatic 46, 3) := dk_178 0 46 (dk_at dksJ12_vectorizedMismatch_9 8 rfl rfl)
theorem dJ12_vectorizedMismatch_221 : decode cJ12_vectorizedMismatch 221 = .ok (.iload 7, 2) := dk_21 7 (dk_at dksJ12_vectorizedMismatch_9 11 rfl rfl)
theorem dJ12_vectorizedMismatch_223 : decode cJ12_vectorizedMismatch 223 = .ok (.iadd, 1) := dk_96 (dk_at dksJ12_vectorizedMismatch_9 13 rfl rfl)
theorem dJ12_vectorizedMismatch_224 : decode cJ12_vectorizedMismatch 224 = .ok (.ishr, 1) := dk_122 (dk_at dksJ12_vectorizedMismatch_9 14 rfl rfl)
theorem dJ12_vectorizedMismatch_225 : decode cJ12_vectorizedMismatch 225 = .ok (.goto 15, 3) := dk_167 0 15 (dk_at dksJ12_vectorizedMismatch_9 15 rfl rfl)
theorem dJ12_vectorizedMismatch_228 : decode cJ12_vectorizedMismatch 228 = .ok (.iload 16, 2) := dk_21 16 (dk_at dksJ12_vectorizedMismatch_9 18 rfl rfl)
theorem dJ12_vectorizedMismatch_230 : decode cJ12_vectorizedMismatch 230 = .ok (.invokestatic 11, 3) := dk_184 0 11 (dk_at dksJ12_vectorizedMismatch_9 20 rfl rfl)
theorem dJ12_vectorizedMismatch_233 : decode cJ12_vectorizedMismatch 233 = .ok (.getstatic 46, 3) := dk_178 0 46 (dk_at dksJ12_vectorizedMismatch_10 0 rfl rfl)
theorem dJ12_vectorizedMismatch_236 : decode cJ12_vectorizedMismatch 236 = .ok (.iload 7, 2) := dk_21 7 (dk_at dksJ12_vectorizedMismatch_10 3 rfl rfl)
theorem dJ12_vectorizedMismatch_238 : decode cJ12_vectorizedMismatch 238 = .ok (.iadd, 1) := dk_96 (dk_at dksJ12_vectorizedMismatch_10 5 rfl rfl)
theorem dJ12_vectorizedMismatch_239 : decode cJ12_vectorizedMismatch 239 = .ok (.ishr, 1) := dk_122 (dk_at dksJ12_vectorizedMismatch_10 6 rfl rfl)
theorem dJ12_vectorizedMismatch_240 : decode cJ12_vectorizedMismatch 240 = .ok (.istore 17, 2) := dk_54 17 (dk_at dksJ12_vectorizedMismatch_10 7 rfl rfl)
theorem dJ12_vectorizedMismatch_242 : decode cJ12_vectorizedMismatch 242 = .ok (.iload 9, 2) := dk_21 9 (dk_at dksJ12_vectorizedMismatch_10 9 rfl rfl)
theorem dJ12_vectorizedMismatch_244 : decode cJ12_vectorizedMismatch 244 = .ok (.iload 8, 2) := dk_21 8 (dk_at dksJ12_vectorizedMismatch_10 11 rfl rfl)
theorem dJ12_vectorizedMismatch_246 : decode cJ12_vectorizedMismatch 246 = .ok (.ishl, 1) := dk_120 (dk_at dksJ12_vectorizedMismatch_10 13 rfl rfl)
theorem dJ12_vectorizedMismatch_247 : decode cJ12_vectorizedMismatch 247 = .ok (.iload 17, 2) := dk_21 17 (dk_at dksJ12_vectorizedMismatch_10 14 rfl rfl)
theorem dJ12_vectorizedMismatch_249 : decode cJ12_vectorizedMismatch 249 = .ok (.iadd, 1) := dk_96 (dk_at dksJ12_vectorizedMismatch_10 16 rfl rfl)
theorem dJ12_vectorizedMismatch_250 : decode cJ12_vectorizedMismatch 250 = .ok (.ireturn, 1) := dk_172 (dk_at dksJ12_vectorizedMismatch_10 17 rfl rfl)
theorem dJ12_vectorizedMismatch_251 : decode cJ12_vectorizedMismatch 251 = .ok (.iload 10, 2) := dk_21 10 (dk_at dksJ12_vectorizedMismatch_10 18 rfl rfl)
theorem dJ12_vectorizedMismatch_253 : decode cJ12_vectorizedMismatch 253 = .ok (.iload 11, 2) := dk_21 11 (dk_at dksJ12_vectorizedMismatch_10 20 rfl rfl)
theorem dJ12_vectorizedMismatch_255 : decode cJ12_vectorizedMismatch 255 = .ok (.isub, 1) := dk_100 (dk_at dksJ12_vectorizedMismatch_10 22 rfl rfl)
theorem dJ12_vectorizedMismatch_256 : decode cJ12_vectorizedMismatch 256 = .ok (.istore 10, 2) := dk_54 10 (dk_at dksJ12_vectorizedMismatch_11 0 rfl rfl)
theorem dJ12_vectorizedMismatch_258 : decode cJ12_vectorizedMismatch 258 = .ok (.iload 10, 2) := dk_21 10 (dk_at dksJ12_vectorizedMismatch_11 2 rfl rfl)
theorem dJ12_vectorizedMismatch_260 : decode cJ12_vectorizedMismatch 260 = .ok (.iconst (-1), 1) := dk_2 (dk_at dksJ12_vectorizedMismatch_11 4 rfl rfl)
theorem dJ12_vectorizedMismatch_261 : decode cJ12_vectorizedMismatch 261 = .ok (.ixor, 1) := dk_130 (dk_at dksJ12_vectorizedMismatch_11 5 rfl rfl)
theorem dJ12_vectorizedMismatch_262 : decode cJ12_vectorizedMismatch 262 = .ok (.ireturn, 1) := dk_172 (dk_at dksJ12_vectorizedMismatch_11 6 rfl rfl)
theorem dJ12_vectorizedMismatch_263 : decode cJ12_vectorizedMismatch 263 = .ok (.iload 10, 2) := dk_21 10 (dk_at dksJ12_vectorizedMismatch_11 7 rfl rfl)
theorem dJ12_vectorizedMismatch_265 : decode cJ12_vectorizedMismatch 265 = .ok (.iconst (-1), 1) := dk_2 (dk_at dksJ12_vectorizedMismatch_11 9 rfl rfl)
theorem dJ12_vectorizedMismatch_266 : decode cJ12_vectorizedMismatch 266 = .ok (.ixor, 1) := dk_130 (dk_at dksJ12_vectorizedMismatch_11 10 rfl rfl)
theorem dJ12_vectorizedMismatch_267 : decode cJ12_vectorizedMismatch 267 = .ok (.ireturn, 1) := dk_172 (dk_at dksJ12_vectorizedMismatch_11 11 rfl rfl)
theorem q163 : (Jvm.Cond.initialized "jdk/internal/util/ArraysSupport") ∈ lw_all := lw_g (lw_at lw_m1 15 rfl) rfl
theorem q358 : (Jvm.Cond.static ({ cls := "jdk/internal/util/ArraysSupport", name := "newLength", desc := "(III)I" } : Jvm.MethodName)) ∈ lw_all := lw_g (lw_at lw_m1 210 rfl) rfl
theorem q359 : (Jvm.Cond.code ({ cls := "jdk/internal/util/ArraysSupport", name := "newLength", desc := "(III)I" } : Jvm.MethodName) prog_89_method_27_code (4 : Nat) (Option.some Jvm.ClassFile.FieldType.int)) ∈ lw_all := lw_g (lw_at lw_m1 211 rfl) rfl
theorem q360 : (Jvm.Cond.methodLink "jdk/internal/util/ArraysSupport" (194 : Nat) ({ cls := "java/lang/Math", name := "max", desc := "(II)I" } : Jvm.MethodName)) ∈ lw_all := lw_g (lw_at lw_m1 212 rfl) rfl
theorem q363 : (Jvm.Cond.constant "jdk/internal/util/ArraysSupport" (200 : Nat) (2147483639 : Int32)) ∈ lw_all := lw_g (lw_at lw_m1 215 rfl) rfl
theorem q364 : (Jvm.Cond.methodLink "jdk/internal/util/ArraysSupport" (201 : Nat) ({ cls := "jdk/internal/util/ArraysSupport", name := "hugeLength", desc := "(II)I" } : Jvm.MethodName)) ∈ lw_all := lw_g (lw_at lw_m1 216 rfl) rfl
theorem q365 : (Jvm.Cond.static ({ cls := "jdk/internal/util/ArraysSupport", name := "hugeLength", desc := "(II)I" } : Jvm.MethodName)) ∈ lw_all := lw_g (lw_at lw_m1 217 rfl) rfl
theorem q366 : (Jvm.Cond.code ({ cls := "jdk/internal/util/ArraysSupport", name := "hugeLength", desc := "(II)I" } : Jvm.MethodName) prog_89_method_28_code (3 : Nat) (Option.some Jvm.ClassFile.FieldType.int)) ∈ lw_all := lw_g (lw_at lw_m1 218 rfl) rfl
theorem q1340 : (Jvm.Cond.static ({ cls := "jdk/internal/util/ArraysSupport", name := "vectorizedHashCode", desc := "(Ljava/lang/Object;IIII)I" } : Jvm.MethodName)) ∈ lw_all := lw_g (lw_at lw_m5 232 rfl) rfl
theorem q1341 : (Jvm.Cond.code ({ cls := "jdk/internal/util/ArraysSupport", name := "vectorizedHashCode", desc := "(Ljava/lang/Object;IIII)I" } : Jvm.MethodName) prog_89_method_4_code (5 : Nat) (Option.some Jvm.ClassFile.FieldType.int)) ∈ lw_all := lw_g (lw_at lw_m5 233 rfl) rfl
theorem q1342 : (Jvm.Cond.classLink "jdk/internal/util/ArraysSupport" (60 : Nat) "[B") ∈ lw_all := lw_g (lw_at lw_m5 234 rfl) rfl
theorem q1343 : (Jvm.Cond.methodLink "jdk/internal/util/ArraysSupport" (62 : Nat) ({ cls := "jdk/internal/util/ArraysSupport", name := "signedHashCode", desc := "(I[BII)I" } : Jvm.MethodName)) ∈ lw_all := lw_g (lw_at lw_m5 235 rfl) rfl
theorem q1344 : (Jvm.Cond.static ({ cls := "jdk/internal/util/ArraysSupport", name := "signedHashCode", desc := "(I[BII)I" } : Jvm.MethodName)) ∈ lw_all := lw_g (lw_at lw_m5 236 rfl) rfl
theorem q1345 : (Jvm.Cond.code ({ cls := "jdk/internal/util/ArraysSupport", name := "signedHashCode", desc := "(I[BII)I" } : Jvm.MethodName) prog_89_method_5_code (6 : Nat) (Option.some Jvm.ClassFile.FieldType.int)) ∈ lw_all := lw_g (lw_at lw_m5 237 rfl) rfl
theorem q1346 : (Jvm.Cond.methodLink "jdk/internal/util/ArraysSupport" (66 : Nat) ({ cls := "jdk/internal/util/ArraysSupport", name := "utf16hashCode", desc := "(I[BII)I" } : Jvm.MethodName)) ∈ lw_all := lw_g (lw_at lw_m5 238 rfl) rfl
theorem q1347 : (Jvm.Cond.static ({ cls := "jdk/internal/util/ArraysSupport", name := "utf16hashCode", desc := "(I[BII)I" } : Jvm.MethodName)) ∈ lw_all := lw_g (lw_at lw_m5 239 rfl) rfl
theorem q1348 : (Jvm.Cond.code ({ cls := "jdk/internal/util/ArraysSupport", name := "utf16hashCode", desc := "(I[BII)I" } : Jvm.MethodName) prog_89_method_10_code (6 : Nat) (Option.some Jvm.ClassFile.FieldType.int)) ∈ lw_all := lw_g (lw_at lw_m6 0 rfl) rfl
theorem q1349 : (Jvm.Cond.fieldLink "jdk/internal/util/ArraysSupport" (106 : Nat) "jdk/internal/util/ArraysSupport" "JLA" "Ljdk/internal/access/JavaLangAccess;") ∈ lw_all := lw_g (lw_at lw_m6 1 rfl) rfl
theorem q1350 : (Jvm.Cond.laysStatic "jdk/internal/util/ArraysSupport" "JLA" "Ljdk/internal/access/JavaLangAccess;") ∈ lw_tbl := lw_at lw_m6 2 rfl
theorem q1351 : (Jvm.Cond.interfaceEntry "jdk/internal/util/ArraysSupport" (110 : Nat)) ∈ lw_tbl := lw_at lw_m6 3 rfl
theorem q1352 : (Jvm.Cond.methodLink "jdk/internal/util/ArraysSupport" (110 : Nat) ({ cls := "jdk/internal/access/JavaLangAccess", name := "getUTF16Char", desc := "([BI)C" } : Jvm.MethodName)) ∈ lw_all := lw_g (lw_at lw_m6 4 rfl) rfl
theorem q1362 : (Jvm.Cond.classLink "jdk/internal/util/ArraysSupport" (69 : Nat) "[C") ∈ lw_all := lw_g (lw_at lw_m6 14 rfl) rfl
theorem q1363 : (Jvm.Cond.methodLink "jdk/internal/util/ArraysSupport" (71 : Nat) ({ cls := "jdk/internal/util/ArraysSupport", name := "hashCode", desc := "(I[CII)I" } : Jvm.MethodName)) ∈ lw_all := lw_g (lw_at lw_m6 15 rfl) rfl
theorem q1364 : (Jvm.Cond.static ({ cls := "jdk/internal/util/ArraysSupport", name := "hashCode", desc := "(I[CII)I" } : Jvm.MethodName)) ∈ lw_all := lw_g (lw_at lw_m6 16 rfl) rfl
theorem q1365 : (Jvm.Cond.code ({ cls := "jdk/internal/util/ArraysSupport", name := "hashCode", desc := "(I[CII)I" } : Jvm.MethodName) prog_89_method_7_code (6 : Nat) (Option.some Jvm.ClassFile.FieldType.int)) ∈ lw_all := lw_g (lw_at lw_m6 17 rfl) rfl
theorem q1366 : (Jvm.Cond.methodLink "jdk/internal/util/ArraysSupport" (75 : Nat) ({ cls := "jdk/internal/util/ArraysSupport", name := "hashCode", desc := "(I[BII)I" } : Jvm.MethodName)) ∈ lw_all := lw_g (lw_at lw_m6 18 rfl) rfl
theorem q1367 : (Jvm.Cond.static ({ cls := "jdk/internal/util/ArraysSupport", name := "hashCode", desc := "(I[BII)I" } : Jvm.MethodName)) ∈ lw_all := lw_g (lw_at lw_m6 19 rfl) rfl
theorem q1368 : (Jvm.Cond.code ({ cls := "jdk/internal/util/ArraysSupport", name := "hashCode", desc := "(I[BII)I" } : Jvm.MethodName) prog_89_method_6_code (6 : Nat) (Option.some Jvm.ClassFile.FieldType.int)) ∈ lw_all := lw_g (lw_at lw_m6 20 rfl) rfl
theorem q1369 : (Jvm.Cond.classLink "jdk/internal/util/ArraysSupport" (77 : Nat) "[S") ∈ lw_all := lw_g (lw_at lw_m6 21 rfl) rfl
theorem q1370 : (Jvm.Cond.methodLink "jdk/internal/util/ArraysSupport" (79 : Nat) ({ cls := "jdk/internal/util/ArraysSupport", name := "hashCode", desc := "(I[SII)I" } : Jvm.MethodName)) ∈ lw_all := lw_g (lw_at lw_m6 22 rfl) rfl
theorem q1371 : (Jvm.Cond.static ({ cls := "jdk/internal/util/ArraysSupport", name := "hashCode", desc := "(I[SII)I" } : Jvm.MethodName)) ∈ lw_all := lw_g (lw_at lw_m6 23 rfl) rfl
theorem q1372 : (Jvm.Cond.code ({ cls := "jdk/internal/util/ArraysSupport", name := "hashCode", desc := "(I[SII)I" } : Jvm.MethodName) prog_89_method_8_code (6 : Nat) (Option.some Jvm.ClassFile.FieldType.int)) ∈ lw_all := lw_g (lw_at lw_m6 24 rfl) rfl
theorem q1373 : (Jvm.Cond.classLink "jdk/internal/util/ArraysSupport" (82 : Nat) "[I") ∈ lw_all := lw_g (lw_at lw_m6 25 rfl) rfl
theorem q1374 : (Jvm.Cond.methodLink "jdk/internal/util/ArraysSupport" (84 : Nat) ({ cls := "jdk/internal/util/ArraysSupport", name := "hashCode", desc := "(I[III)I" } : Jvm.MethodName)) ∈ lw_all := lw_g (lw_at lw_m6 26 rfl) rfl
theorem q1375 : (Jvm.Cond.static ({ cls := "jdk/internal/util/ArraysSupport", name := "hashCode", desc := "(I[III)I" } : Jvm.MethodName)) ∈ lw_all := lw_g (lw_at lw_m6 27 rfl) rfl
theorem q1376 : (Jvm.Cond.code ({ cls := "jdk/internal/util/ArraysSupport", name := "hashCode", desc := "(I[III)I" } : Jvm.MethodName) prog_89_method_9_code (6 : Nat) (Option.some Jvm.ClassFile.FieldType.int)) ∈ lw_all := lw_g (lw_at lw_m6 28 rfl) rfl
theorem q1377 : (Jvm.Cond.classLink "jdk/internal/util/ArraysSupport" (87 : Nat) "java/lang/IllegalArgumentException") ∈ lw_all := lw_g (lw_at lw_m6 29 rfl) rfl
theorem q1378 : (Jvm.Cond.classLink "jdk/internal/util/ArraysSupport" (89 : Nat) "java/lang/StringBuilder") ∈ lw_all := lw_g (lw_at lw_m6 30 rfl) rfl
theorem q1379 : (Jvm.Cond.methodLink "jdk/internal/util/ArraysSupport" (91 : Nat) ({ cls := "java/lang/StringBuilder", name := "<init>", desc := "()V" } : Jvm.MethodName)) ∈ lw_all := lw_g (lw_at lw_m6 31 rfl) rfl
theorem q1380 : (Jvm.Cond.stringRef "jdk/internal/util/ArraysSupport" (92 : Nat) "unrecognized basic type: ") ∈ lw_tbl := lw_at lw_m6 32 rfl
theorem q1381 : (Jvm.Cond.methodLink "jdk/internal/util/ArraysSupport" (94 : Nat) ({ cls := "java/lang/StringBuilder", name := "append", desc := "(Ljava/lang/String;)Ljava/lang/StringBuilder;" } : Jvm.MethodName)) ∈ lw_all := lw_g (lw_at lw_m6 33 rfl) rfl
theorem q1382 : (Jvm.Cond.methodLink "jdk/internal/util/ArraysSupport" (98 : Nat) ({ cls := "java/lang/StringBuilder", name := "append", desc := "(I)Ljava/lang/StringBuilder;" } : Jvm.MethodName)) ∈ lw_all := lw_g (lw_at lw_m6 34 rfl) rfl
theorem q1383 : (Jvm.Cond.methodLink "jdk/internal/util/ArraysSupport" (101 : Nat) ({ cls := "java/lang/StringBuilder", name := "toString", desc := "()Ljava/lang/String;" } : Jvm.MethodName)) ∈ lw_all := lw_g (lw_at lw_m6 35 rfl) rfl
theorem q1384 : (Jvm.Cond.methodLink "jdk/internal/util/ArraysSupport" (105 : Nat) ({ cls := "java/lang/IllegalArgumentException", name := "<init>", desc := "(Ljava/lang/String;)V" } : Jvm.MethodName)) ∈ lw_all := lw_g (lw_at lw_m6 36 rfl) rfl
theorem q1547 : (Jvm.Cond.static ({ cls := "jdk/internal/util/ArraysSupport", name := "mismatch", desc := "([B[BI)I" } : Jvm.MethodName)) ∈ lw_all := lw_g (lw_at lw_m6 199 rfl) rfl
theorem q1548 : (Jvm.Cond.code ({ cls := "jdk/internal/util/ArraysSupport", name := "mismatch", desc := "([B[BI)I" } : Jvm.MethodName) prog_89_method_13_code (4 : Nat) (Option.some Jvm.ClassFile.FieldType.int)) ∈ lw_all := lw_g (lw_at lw_m6 200 rfl) rfl
theorem q1549 : (Jvm.Cond.fieldLink "jdk/internal/util/ArraysSupport" (126 : Nat) "jdk/internal/misc/Unsafe" "ARRAY_BYTE_BASE_OFFSET" "I") ∈ lw_all := lw_g (lw_at lw_m6 201 rfl) rfl
theorem q1551 : (Jvm.Cond.fieldLink "jdk/internal/util/ArraysSupport" (129 : Nat) "jdk/internal/util/ArraysSupport" "LOG2_ARRAY_BYTE_INDEX_SCALE" "I") ∈ lw_all := lw_g (lw_at lw_m6 203 rfl) rfl
theorem q1552 : (Jvm.Cond.laysStatic "jdk/internal/util/ArraysSupport" "LOG2_ARRAY_BYTE_INDEX_SCALE" "I") ∈ lw_tbl := lw_at lw_m6 204 rfl
theorem q1553 : (Jvm.Cond.methodLink "jdk/internal/util/ArraysSupport" (122 : Nat) ({ cls := "jdk/internal/util/ArraysSupport", name := "vectorizedMismatch", desc := "(Ljava/lang/Object;JLjava/lang/Object;JII)I" } : Jvm.MethodName)) ∈ lw_all := lw_g (lw_at lw_m6 205 rfl) rfl
theorem q1554 : (Jvm.Cond.static ({ cls := "jdk/internal/util/ArraysSupport", name := "vectorizedMismatch", desc := "(Ljava/lang/Object;JLjava/lang/Object;JII)I" } : Jvm.MethodName)) ∈ lw_all := lw_g (lw_at lw_m6 206 rfl) rfl
theorem q1555 : (Jvm.Cond.code ({ cls := "jdk/internal/util/ArraysSupport", name := "vectorizedMismatch", desc := "(Ljava/lang/Object;JLjava/lang/Object;JII)I" } : Jvm.MethodName) prog_89_method_3_code (19 : Nat) (Option.some Jvm.ClassFile.FieldType.int)) ∈ lw_all := lw_g (lw_at lw_m6 207 rfl) rfl
theorem q1556 : (Jvm.Cond.fieldLink "jdk/internal/util/ArraysSupport" (20 : Nat) "jdk/internal/util/ArraysSupport" "LOG2_ARRAY_LONG_INDEX_SCALE" "I") ∈ lw_all := lw_g (lw_at lw_m6 208 rfl) rfl
theorem q1557 : (Jvm.Cond.laysStatic "jdk/internal/util/ArraysSupport" "LOG2_ARRAY_LONG_INDEX_SCALE" "I") ∈ lw_tbl := lw_at lw_m6 209 rfl
theorem q1558 : (Jvm.Cond.fieldLink "jdk/internal/util/ArraysSupport" (26 : Nat) "jdk/internal/util/ArraysSupport" "U" "Ljdk/internal/misc/Unsafe;") ∈ lw_all := lw_g (lw_at lw_m6 210 rfl) rfl
theorem q1559 : (Jvm.Cond.laysStatic "jdk/internal/util/ArraysSupport" "U" "Ljdk/internal/misc/Unsafe;") ∈ lw_tbl := lw_at lw_m6 211 rfl
theorem q1560 : (Jvm.Cond.methodLink "jdk/internal/util/ArraysSupport" (30 : Nat) ({ cls := "jdk/internal/misc/Unsafe", name := "getLongUnaligned", desc := "(Ljava/lang/Object;J)J" } : Jvm.MethodName)) ∈ lw_all := lw_g (lw_at lw_m6 212 rfl) rfl
theorem q1612 : (Jvm.Cond.fieldLink "jdk/internal/util/ArraysSupport" (36 : Nat) "jdk/internal/util/ArraysSupport" "BIG_ENDIAN" "Z") ∈ lw_all := lw_g (lw_at lw_m7 24 rfl) rfl
theorem q1613 : (Jvm.Cond.laysStatic "jdk/internal/util/ArraysSupport" "BIG_ENDIAN" "Z") ∈ lw_tbl := lw_at lw_m7 25 rfl
theorem q1614 : (Jvm.Cond.methodLink "jdk/internal/util/ArraysSupport" (40 : Nat) ({ cls := "java/lang/Long", name := "numberOfLeadingZeros", desc := "(J)I" } : Jvm.MethodName)) ∈ lw_all := lw_g (lw_at lw_m7 26 rfl) rfl
theorem q1618 : (Jvm.Cond.fieldLink "jdk/internal/util/ArraysSupport" (46 : Nat) "jdk/internal/util/ArraysSupport" "LOG2_BYTE_BIT_SIZE" "I") ∈ lw_all := lw_g (lw_at lw_m7 30 rfl) rfl
theorem q1619 : (Jvm.Cond.laysStatic "jdk/internal/util/ArraysSupport" "LOG2_BYTE_BIT_SIZE" "I") ∈ lw_tbl := lw_at lw_m7 31 rfl
theorem q1620 : (Jvm.Cond.methodLink "jdk/internal/util/ArraysSupport" (49 : Nat) ({ cls := "java/lang/Long", name := "numberOfTrailingZeros", desc := "(J)I" } : Jvm.MethodName)) ∈ lw_all := lw_g (lw_at lw_m7 32 rfl) rfl
theorem q1626 : (Jvm.Cond.fieldLink "jdk/internal/util/ArraysSupport" (51 : Nat) "jdk/internal/util/ArraysSupport" "LOG2_ARRAY_INT_INDEX_SCALE" "I") ∈ lw_all := lw_g (lw_at lw_m7 38 rfl) rfl
theorem q1627 : (Jvm.Cond.laysStatic "jdk/internal/util/ArraysSupport" "LOG2_ARRAY_INT_INDEX_SCALE" "I") ∈ lw_tbl := lw_at lw_m7 39 rfl
theorem q1628 : (Jvm.Cond.methodLink "jdk/internal/util/ArraysSupport" (54 : Nat) ({ cls := "jdk/internal/misc/Unsafe", name := "getIntUnaligned", desc := "(Ljava/lang/Object;J)I" } : Jvm.MethodName)) ∈ lw_all := lw_g (lw_at lw_m7 40 rfl) rfl
theorem q1645 : (Jvm.Cond.methodLink "jdk/internal/util/ArraysSupport" (58 : Nat) ({ cls := "java/lang/Integer", name := "numberOfLeadingZeros", desc := "(I)I" } : Jvm.MethodName)) ∈ lw_all := lw_g (lw_at lw_m7 57 rfl) rfl
theorem q1646 : (Jvm.Cond.methodLink "jdk/internal/util/ArraysSupport" (11 : Nat) ({ cls := "java/lang/Integer", name := "numberOfTrailingZeros", desc := "(I)I" } : Jvm.MethodName)) ∈ lw_all := lw_g (lw_at lw_m7 58 rfl) rfl

/-! java/lang/Math -/
set_option maxRecDepth 100000
def RJ13 : String := "java/lang/Math"
abbrev cJ13_max : ByteArray := prog_36_method_65_code
def yJ13_max : MethodName := ⟨RJ13, "max", "(II)I"⟩
def dkwJ13_max_0 : List UInt8 := [26, 27, 161, 0, 7, 26, 167, 0, 4, 27, 172]
abbrev dktJ13_max_0 : List UInt8 := dkwJ13_max_0 ++ []
theorem dksJ13_max_0 : cJ13_max.data.toList.drop 0 = dktJ13_max_0 := by decide +kernel
theorem dJ13_max_0 : decode cJ13_max 0 = .ok (.iload_n 0, 1) := dk_26 (dk_at dksJ13_max_0 0 rfl rfl)
theorem dJ13_max_1 : decode cJ13_max 1 = .ok (.iload_n 1, 1) := dk_27 (dk_at dksJ13_max_0 1 rfl rfl)
theorem dJ13_max_2 : decode cJ13_max 2 = .ok (.if_icmp .lt 7, 3) := dk_161 0 7 (dk_at dksJ13_max_0 2 rfl rfl)
theorem dJ13_max_5 : decode cJ13_max 5 = .ok (.iload_n 0, 1) := dk_26 (dk_at dksJ13_max_0 5 rfl rfl)
theorem dJ13_max_6 : decode cJ13_max 6 = .ok (.goto 4, 3) := dk_167 0 4 (dk_at dksJ13_max_0 6 rfl rfl)
theorem dJ13_max_9 : decode cJ13_max 9 = .ok (.iload_n 1, 1) := dk_27 (dk_at dksJ13_max_0 9 rfl rfl)
theorem dJ13_max_10 : decode cJ13_max 10 = .ok (.ireturn, 1) := dk_172 (dk_at dksJ13_max_0 10 rfl rfl)
abbrev cJ13_min : ByteArray := prog_36_method_69_code
def yJ13_min : MethodName := ⟨RJ13, "min", "(II)I"⟩
def dkwJ13_min_0 : List UInt8 := [26, 27, 163, 0, 7, 26, 167, 0, 4, 27, 172]
abbrev dktJ13_min_0 : List UInt8 := dkwJ13_min_0 ++ []
theorem dksJ13_min_0 : cJ13_min.data.toList.drop 0 = dktJ13_min_0 := by decide +kernel
theorem dJ13_min_0 : decode cJ13_min 0 = .ok (.iload_n 0, 1) := dk_26 (dk_at dksJ13_min_0 0 rfl rfl)
theorem dJ13_min_1 : decode cJ13_min 1 = .ok (.iload_n 1, 1) := dk_27 (dk_at dksJ13_min_0 1 rfl rfl)
theorem dJ13_min_2 : decode cJ13_min 2 = .ok (.if_icmp .gt 7, 3) := dk_163 0 7 (dk_at dksJ13_min_0 2 rfl rfl)
theorem dJ13_min_5 : decode cJ13_min 5 = .ok (.iload_n 0, 1) := dk_26 (dk_at dksJ13_min_0 5 rfl rfl)
theorem dJ13_min_6 : decode cJ13_min 6 = .ok (.goto 4, 3) := dk_167 0 4 (dk_at dksJ13_min_0 6 rfl rfl)
theorem dJ13_min_9 : decode cJ13_min 9 = .ok (.iload_n 1, 1) := dk_27 (dk_at dksJ13_min_0 9 rfl rfl)
theorem dJ13_min_10 : decode cJ13_min 10 = .ok (.ireturn, 1) := dk_172 (dk_at dksJ13_min_0 10 rfl rfl)
abbrev cJ13_multiplyHigh : ByteArray := prog_36_method_45_code
def yJ13_multiplyHigh : MethodName := ⟨RJ13, "multiplyHigh", "(JJ)J"⟩
def dkwJ13_multiplyHigh_3 : List UInt8 := [22, 4, 22, 8, 105, 22, 18, 97, 22, 16, 16, 32, 123, 97, 173]
abbrev dktJ13_multiplyHigh_3 : List UInt8 := dkwJ13_multiplyHigh_3 ++ []
def dkwJ13_multiplyHigh_2 : List UInt8 := [20, 0, 138, 127, 55, 16, 22, 14, 16, 32, 123, 55, 18, 22, 16, 22, 6, 22, 8, 105, 97, 55, 16]
abbrev dktJ13_multiplyHigh_2 : List UInt8 := dkwJ13_multiplyHigh_2 ++ dktJ13_multiplyHigh_3
def dkwJ13_multiplyHigh_1 : List UInt8 := [55, 10, 22, 6, 22, 10, 105, 55, 12, 22, 4, 22, 10, 105, 22, 12, 16, 32, 125, 97, 55, 14, 22, 14]
abbrev dktJ13_multiplyHigh_1 : List UInt8 := dkwJ13_multiplyHigh_1 ++ dktJ13_multiplyHigh_2
def dkwJ13_multiplyHigh_0 : List UInt8 := [30, 16, 32, 123, 55, 4, 30, 20, 0, 138, 127, 55, 6, 32, 16, 32, 123, 55, 8, 32, 20, 0, 138, 127]
abbrev dktJ13_multiplyHigh_0 : List UInt8 := dkwJ13_multiplyHigh_0 ++ dktJ13_multiplyHigh_1
theorem dksJ13_multiplyHigh_0 : cJ13_multiplyHigh.data.toList.drop 0 = dktJ13_multiplyHigh_0 := by decide +kernel
theorem dksJ13_multiplyHigh_1 : cJ13_multiplyHigh.data.toList.drop 24 = dktJ13_multiplyHigh_1 := dk_seg dksJ13_multiplyHigh_0 24 rfl rfl
theorem dksJ13_multiplyHigh_2 : cJ13_multiplyHigh.data.toList.drop 48 = dktJ13_multiplyHigh_2 := dk_seg dksJ13_multiplyHigh_1 24 rfl rfl
theorem dksJ13_multiplyHigh_3 : cJ13_multiplyHigh.data.toList.drop 71 = dktJ13_multiplyHigh_3 := dk_seg dksJ13_multiplyHigh_2 23 rfl rfl
theorem dJ13_multiplyHigh_0 : decode cJ13_multiplyHigh 0 = .ok (.lload_n 0, 1) := dk_30 (dk_at dksJ13_multiplyHigh_0 0 rfl rfl)
theorem dJ13_multiplyHigh_1 : decode cJ13_multiplyHigh 1 = .ok (.bipush 32, 2) := dk_16 32 (dk_at dksJ13_multiplyHigh_0 1 rfl rfl)
theorem dJ13_multiplyHigh_3 : decode cJ13_multiplyHigh 3 = .ok (.lshr, 1) := dk_123 (dk_at dksJ13_multiplyHigh_0 3 rfl rfl)
theorem dJ13_multiplyHigh_4 : decode cJ13_multiplyHigh 4 = .ok (.lstore 4, 2) := dk_55 4 (dk_at dksJ13_multiplyHigh_0 4 rfl rfl)
theorem dJ13_multiplyHigh_6 : decode cJ13_multiplyHigh 6 = .ok (.lload_n 0, 1) := dk_30 (dk_at dksJ13_multiplyHigh_0 6 rfl rfl)
theorem dJ13_multiplyHigh_7 : decode cJ13_multiplyHigh 7 = .ok (.ldc2_w 138, 3) := dk_20 0 138 (dk_at dksJ13_multiplyHigh_0 7 rfl rfl)
theorem dJ13_multiplyHigh_10 : decode cJ13_multiplyHigh 10 = .ok (.land, 1) := dk_127 (dk_at dksJ13_multiplyHigh_0 10 rfl rfl)
theorem dJ13_multiplyHigh_11 : decode cJ13_multiplyHigh 11 = .ok (.lstore 6, 2) := dk_55 6 (dk_at dksJ13_multiplyHigh_0 11 rfl rfl)
theorem dJ13_multiplyHigh_13 : decode cJ13_multiplyHigh 13 = .ok (.lload_n 2, 1) := dk_32 (dk_at dksJ13_multiplyHigh_0 13 rfl rfl)
theorem dJ13_multiplyHigh_14 : decode cJ13_multiplyHigh 14 = .ok (.bipush 32, 2) := dk_16 32 (dk_at dksJ13_multiplyHigh_0 14 rfl rfl)
theorem dJ13_multiplyHigh_16 : decode cJ13_multiplyHigh 16 = .ok (.lshr, 1) := dk_123 (dk_at dksJ13_multiplyHigh_0 16 rfl rfl)
theorem dJ13_multiplyHigh_17 : decode cJ13_multiplyHigh 17 = .ok (.lstore 8, 2) := dk_55 8 (dk_at dksJ13_multiplyHigh_0 17 rfl rfl)
theorem dJ13_multiplyHigh_19 : decode cJ13_multiplyHigh 19 = .ok (.lload_n 2, 1) := dk_32 (dk_at dksJ13_multiplyHigh_0 19 rfl rfl)
theorem dJ13_multiplyHigh_20 : decode cJ13_multiplyHigh 20 = .ok (.ldc2_w 138, 3) := dk_20 0 138 (dk_at dksJ13_multiplyHigh_0 20 rfl rfl)
theorem dJ13_multiplyHigh_23 : decode cJ13_multiplyHigh 23 = .ok (.land, 1) := dk_127 (dk_at dksJ13_multiplyHigh_0 23 rfl rfl)
theorem dJ13_multiplyHigh_24 : decode cJ13_multiplyHigh 24 = .ok (.lstore 10, 2) := dk_55 10 (dk_at dksJ13_multiplyHigh_1 0 rfl rfl)
theorem dJ13_multiplyHigh_26 : decode cJ13_multiplyHigh 26 = .ok (.lload 6, 2) := dk_22 6 (dk_at dksJ13_multiplyHigh_1 2 rfl rfl)
theorem dJ13_multiplyHigh_28 : decode cJ13_multiplyHigh 28 = .ok (.lload 10, 2) := dk_22 10 (dk_at dksJ13_multiplyHigh_1 4 rfl rfl)
theorem dJ13_multiplyHigh_30 : decode cJ13_multiplyHigh 30 = .ok (.lmul, 1) := dk_105 (dk_at dksJ13_multiplyHigh_1 6 rfl rfl)
theorem dJ13_multiplyHigh_31 : decode cJ13_multiplyHigh 31 = .ok (.lstore 12, 2) := dk_55 12 (dk_at dksJ13_multiplyHigh_1 7 rfl rfl)
theorem dJ13_multiplyHigh_33 : decode cJ13_multiplyHigh 33 = .ok (.lload 4, 2) := dk_22 4 (dk_at dksJ13_multiplyHigh_1 9 rfl rfl)
theorem dJ13_multiplyHigh_35 : decode cJ13_multiplyHigh 35 = .ok (.lload 10, 2) := dk_22 10 (dk_at dksJ13_multiplyHigh_1 11 rfl rfl)
theorem dJ13_multiplyHigh_37 : decode cJ13_multiplyHigh 37 = .ok (.lmul, 1) := dk_105 (dk_at dksJ13_multiplyHigh_1 13 rfl rfl)
theorem dJ13_multiplyHigh_38 : decode cJ13_multiplyHigh 38 = .ok (.lload 12, 2) := dk_22 12 (dk_at dksJ13_multiplyHigh_1 14 rfl rfl)
theorem dJ13_multiplyHigh_40 : decode cJ13_multiplyHigh 40 = .ok (.bipush 32, 2) := dk_16 32 (dk_at dksJ13_multiplyHigh_1 16 rfl rfl)
theorem dJ13_multiplyHigh_42 : decode cJ13_multiplyHigh 42 = .ok (.lushr, 1) := dk_125 (dk_at dksJ13_multiplyHigh_1 18 rfl rfl)
theorem dJ13_multiplyHigh_43 : decode cJ13_multiplyHigh 43 = .ok (.ladd, 1) := dk_97 (dk_at dksJ13_multiplyHigh_1 19 rfl rfl)
theorem dJ13_multiplyHigh_44 : decode cJ13_multiplyHigh 44 = .ok (.lstore 14, 2) := dk_55 14 (dk_at dksJ13_multiplyHigh_1 20 rfl rfl)
theorem dJ13_multiplyHigh_46 : decode cJ13_multiplyHigh 46 = .ok (.lload 14, 2) := dk_22 14 (dk_at dksJ13_multiplyHigh_1 22 rfl rfl)
theorem dJ13_multiplyHigh_48 : decode cJ13_multiplyHigh 48 = .ok (.ldc2_w 138, 3) := dk_20 0 138 (dk_at dksJ13_multiplyHigh_2 0 rfl rfl)
theorem dJ13_multiplyHigh_51 : decode cJ13_multiplyHigh 51 = .ok (.land, 1) := dk_127 (dk_at dksJ13_multiplyHigh_2 3 rfl rfl)
theorem dJ13_multiplyHigh_52 : decode cJ13_multiplyHigh 52 = .ok (.lstore 16, 2) := dk_55 16 (dk_at dksJ13_multiplyHigh_2 4 rfl rfl)
theorem dJ13_multiplyHigh_54 : decode cJ13_multiplyHigh 54 = .ok (.lload 14, 2) := dk_22 14 (dk_at dksJ13_multiplyHigh_2 6 rfl rfl)
theorem dJ13_multiplyHigh_56 : decode cJ13_multiplyHigh 56 = .ok (.bipush 32, 2) := dk_16 32 (dk_at dksJ13_multiplyHigh_2 8 rfl rfl)
theorem dJ13_multiplyHigh_58 : decode cJ13_multiplyHigh 58 = .ok (.lshr, 1) := dk_123 (dk_at dksJ13_multiplyHigh_2 10 rfl rfl)
theorem dJ13_multiplyHigh_59 : decode cJ13_multiplyHigh 59 = .ok (.lstore 18, 2) := dk_55 18 (dk_at dksJ13_multiplyHigh_2 11 rfl rfl)
theorem dJ13_multiplyHigh_61 : decode cJ13_multiplyHigh 61 = .ok (.lload 16, 2) := dk_22 16 (dk_at dksJ13_multiplyHigh_2 13 rfl rfl)
theorem dJ13_multiplyHigh_63 : decode cJ13_multiplyHigh 63 = .ok (.lload 6, 2) := dk_22 6 (dk_at dksJ13_multiplyHigh_2 15 rfl rfl)
theorem dJ13_multiplyHigh_65 : decode cJ13_multiplyHigh 65 = .ok (.lload 8, 2) := dk_22 8 (dk_at dksJ13_multiplyHigh_2 17 rfl rfl)
theorem dJ13_multiplyHigh_67 : decode cJ13_multiplyHigh 67 = .ok (.lmul, 1) := dk_105 (dk_at dksJ13_multiplyHigh_2 19 rfl rfl)
theorem dJ13_multiplyHigh_68 : decode cJ13_multiplyHigh 68 = .ok (.ladd, 1) := dk_97 (dk_at dksJ13_multiplyHigh_2 20 rfl rfl)
theorem dJ13_multiplyHigh_69 : decode cJ13_multiplyHigh 69 = .ok (.lstore 16, 2) := dk_55 16 (dk_at dksJ13_multiplyHigh_2 21 rfl rfl)
theorem dJ13_multiplyHigh_71 : decode cJ13_multiplyHigh 71 = .ok (.lload 4, 2) := dk_22 4 (dk_at dksJ13_multiplyHigh_3 0 rfl rfl)
theorem dJ13_multiplyHigh_73 : decode cJ13_multiplyHigh 73 = .ok (.lload 8, 2) := dk_22 8 (dk_at dksJ13_multiplyHigh_3 2 rfl rfl)
theorem dJ13_multiplyHigh_75 : decode cJ13_multiplyHigh 75 = .ok (.lmul, 1) := dk_105 (dk_at dksJ13_multiplyHigh_3 4 rfl rfl)
theorem dJ13_multiplyHigh_76 : decode cJ13_multiplyHigh 76 = .ok (.lload 18, 2) := dk_22 18 (dk_at dksJ13_multiplyHigh_3 5 rfl rfl)
theorem dJ13_multiplyHigh_78 : decode cJ13_multiplyHigh 78 = .ok (.ladd, 1) := dk_97 (dk_at dksJ13_multiplyHigh_3 7 rfl rfl)
theorem dJ13_multiplyHigh_79 : decode cJ13_multiplyHigh 79 = .ok (.lload 16, 2) := dk_22 16 (dk_at dksJ13_multiplyHigh_3 8 rfl rfl)
theorem dJ13_multiplyHigh_81 : decode cJ13_multiplyHigh 81 = .ok (.bipush 32, 2) := dk_16 32 (dk_at dksJ13_multiplyHigh_3 10 rfl rfl)
theorem dJ13_multiplyHigh_83 : decode cJ13_multiplyHigh 83 = .ok (.lshr, 1) := dk_123 (dk_at dksJ13_multiplyHigh_3 12 rfl rfl)
theorem dJ13_multiplyHigh_84 : decode cJ13_multiplyHigh 84 = .ok (.ladd, 1) := dk_97 (dk_at dksJ13_multiplyHigh_3 13 rfl rfl)
theorem dJ13_multiplyHigh_85 : decode cJ13_multiplyHigh 85 = .ok (.lreturn, 1) := dk_173 (dk_at dksJ13_multiplyHigh_3 14 rfl rfl)
abbrev cJ13_abs : ByteArray := prog_36_method_59_code
def yJ13_abs : MethodName := ⟨RJ13, "abs", "(I)I"⟩
def dkwJ13_abs_0 : List UInt8 := [26, 156, 0, 8, 26, 116, 167, 0, 4, 26, 172]
abbrev dktJ13_abs_0 : List UInt8 := dkwJ13_abs_0 ++ []
theorem dksJ13_abs_0 : cJ13_abs.data.toList.drop 0 = dktJ13_abs_0 := by decide +kernel
theorem dJ13_abs_0 : decode cJ13_abs 0 = .ok (.iload_n 0, 1) := dk_26 (dk_at dksJ13_abs_0 0 rfl rfl)
theorem dJ13_abs_1 : decode cJ13_abs 1 = .ok (.ifCond .ge 8, 3) := dk_156 0 8 (dk_at dksJ13_abs_0 1 rfl rfl)
theorem dJ13_abs_4 : decode cJ13_abs 4 = .ok (.iload_n 0, 1) := dk_26 (dk_at dksJ13_abs_0 4 rfl rfl)
theorem dJ13_abs_5 : decode cJ13_abs 5 = .ok (.ineg, 1) := dk_116 (dk_at dksJ13_abs_0 5 rfl rfl)
theorem dJ13_abs_6 : decode cJ13_abs 6 = .ok (.goto 4, 3) := dk_167 0 4 (dk_at dksJ13_abs_0 6 rfl rfl)
theorem dJ13_abs_9 : decode cJ13_abs 9 = .ok (.iload_n 0, 1) := dk_26 (dk_at dksJ13_abs_0 9 rfl rfl)
theorem dJ13_abs_10 : decode cJ13_abs 10 = .ok (.ireturn, 1) := dk_172 (dk_at dksJ13_abs_0 10 rfl rfl)
theorem q164 : (Jvm.Cond.initialized "java/lang/Math") ∈ lw_all := lw_g (lw_at lw_m1 16 rfl) rfl
theorem q361 : (Jvm.Cond.static ({ cls := "java/lang/Math", name := "max", desc := "(II)I" } : Jvm.MethodName)) ∈ lw_all := lw_g (lw_at lw_m1 213 rfl) rfl
theorem q362 : (Jvm.Cond.code ({ cls := "java/lang/Math", name := "max", desc := "(II)I" } : Jvm.MethodName) prog_36_method_65_code (2 : Nat) (Option.some Jvm.ClassFile.FieldType.int)) ∈ lw_all := lw_g (lw_at lw_m1 214 rfl) rfl
theorem q379 : (Jvm.Cond.static ({ cls := "java/lang/Math", name := "min", desc := "(II)I" } : Jvm.MethodName)) ∈ lw_all := lw_g (lw_at lw_m1 231 rfl) rfl
theorem q380 : (Jvm.Cond.code ({ cls := "java/lang/Math", name := "min", desc := "(II)I" } : Jvm.MethodName) prog_36_method_69_code (2 : Nat) (Option.some Jvm.ClassFile.FieldType.int)) ∈ lw_all := lw_g (lw_at lw_m1 232 rfl) rfl
theorem q755 : (Jvm.Cond.static ({ cls := "java/lang/Math", name := "multiplyHigh", desc := "(JJ)J" } : Jvm.MethodName)) ∈ lw_all := lw_g (lw_at lw_m3 127 rfl) rfl
theorem q756 : (Jvm.Cond.code ({ cls := "java/lang/Math", name := "multiplyHigh", desc := "(JJ)J" } : Jvm.MethodName) prog_36_method_45_code (20 : Nat) (Option.some Jvm.ClassFile.FieldType.long)) ∈ lw_all := lw_g (lw_at lw_m3 128 rfl) rfl
theorem q757 : (Jvm.Cond.constantLong "java/lang/Math" (138 : Nat) (4294967295 : Int64)) ∈ lw_all := lw_g (lw_at lw_m3 129 rfl) rfl
theorem q2969 : (Jvm.Cond.static ({ cls := "java/lang/Math", name := "abs", desc := "(I)I" } : Jvm.MethodName)) ∈ lw_all := lw_g (lw_at lw_m12 181 rfl) rfl
theorem q2970 : (Jvm.Cond.code ({ cls := "java/lang/Math", name := "abs", desc := "(I)I" } : Jvm.MethodName) prog_36_method_59_code (1 : Nat) (Option.some Jvm.ClassFile.FieldType.int)) ∈ lw_all := lw_g (lw_at lw_m12 182 rfl) rfl

/-! java/util/Arrays -/
set_option maxRecDepth 100000
def RJ14 : String := "java/util/Arrays"
abbrev cJ14_copyOf : ByteArray := prog_55_method_121_code
def yJ14_copyOf : MethodName := ⟨RJ14, "copyOf", "([BI)[B"⟩
def dkwJ14_copyOf_1 : List UInt8 := [27, 184, 1, 48, 184, 0, 150, 44, 176]
abbrev dktJ14_copyOf_1 : List UInt8 := dkwJ14_copyOf_1 ++ []
def dkwJ14_copyOf_0 : List UInt8 := [27, 42, 190, 160, 0, 11, 42, 182, 1, 54, 192, 1, 55, 176, 27, 188, 8, 77, 42, 3, 44, 3, 42, 190]
abbrev dktJ14_copyOf_0 : List UInt8 := dkwJ14_copyOf_0 ++ dktJ14_copyOf_1
theorem dksJ14_copyOf_0 : cJ14_copyOf.data.toList.drop 0 = dktJ14_copyOf_0 := by decide +kernel
theorem dksJ14_copyOf_1 : cJ14_copyOf.data.toList.drop 24 = dktJ14_copyOf_1 := dk_seg dksJ14_copyOf_0 24 rfl rfl
theorem dJ14_copyOf_0 : decode cJ14_copyOf 0 = .ok (.iload_n 1, 1) := dk_27 (dk_at dksJ14_copyOf_0 0 rfl rfl)
theorem dJ14_copyOf_1 : decode cJ14_copyOf 1 = .ok (.aload_n 0, 1) := dk_42 (dk_at dksJ14_copyOf_0 1 rfl rfl)
theorem dJ14_copyOf_2 : decode cJ14_copyOf 2 = .ok (.arraylength, 1) := dk_190 (dk_at dksJ14_copyOf_0 2 rfl rfl)
theorem dJ14_copyOf_3 : decode cJ14_copyOf 3 = .ok (.if_icmp .ne 11, 3) := dk_160 0 11 (dk_at dksJ14_copyOf_0 3 rfl rfl)
theorem dJ14_copyOf_6 : decode cJ14_copyOf 6 = .ok (.aload_n 0, 1) := dk_42 (dk_at dksJ14_copyOf_0 6 rfl rfl)
theorem dJ14_copyOf_7 : decode cJ14_copyOf 7 = .ok (.invokevirtual 310, 3) := dk_182 1 54 (dk_at dksJ14_copyOf_0 7 rfl rfl)
theorem dJ14_copyOf_10 : decode cJ14_copyOf 10 = .ok (.checkcast 311, 3) := dk_192 1 55 (dk_at dksJ14_copyOf_0 10 rfl rfl)
theorem dJ14_copyOf_13 : decode cJ14_copyOf 13 = .ok (.areturn, 1) := dk_176 (dk_at dksJ14_copyOf_0 13 rfl rfl)
theorem dJ14_copyOf_14 : decode cJ14_copyOf 14 = .ok (.iload_n 1, 1) := dk_27 (dk_at dksJ14_copyOf_0 14 rfl rfl)
theorem dJ14_copyOf_15 : decode cJ14_copyOf 15 = .ok (.newarray .byte, 2) := dk_188_8 (dk_at dksJ14_copyOf_0 15 rfl rfl)
theorem dJ14_copyOf_17 : decode cJ14_copyOf 17 = .ok (.astore_n 2, 1) := dk_77 (dk_at dksJ14_copyOf_0 17 rfl rfl)
theorem dJ14_copyOf_18 : decode cJ14_copyOf 18 = .ok (.aload_n 0, 1) := dk_42 (dk_at dksJ14_copyOf_0 18 rfl rfl)
theorem dJ14_copyOf_19 : decode cJ14_copyOf 19 = .ok (.iconst 0, 1) := dk_3 (dk_at dksJ14_copyOf_0 19 rfl rfl)
theorem dJ14_copyOf_20 : decode cJ14_copyOf 20 = .ok (.aload_n 2, 1) := dk_44 (dk_at dksJ14_copyOf_0 20 rfl rfl)
theorem dJ14_copyOf_21 : decode cJ14_copyOf 21 = .ok (.iconst 0, 1) := dk_3 (dk_at dksJ14_copyOf_0 21 rfl rfl)
theorem dJ14_copyOf_22 : decode cJ14_copyOf 22 = .ok (.aload_n 0, 1) := dk_42 (dk_at dksJ14_copyOf_0 22 rfl rfl)
theorem dJ14_copyOf_23 : decode cJ14_copyOf 23 = .ok (.arraylength, 1) := dk_190 (dk_at dksJ14_copyOf_0 23 rfl rfl)
theorem dJ14_copyOf_24 : decode cJ14_copyOf 24 = .ok (.iload_n 1, 1) := dk_27 (dk_at dksJ14_copyOf_1 0 rfl rfl)
theorem dJ14_copyOf_25 : decode cJ14_copyOf 25 = .ok (.invokestatic 304, 3) := dk_184 1 48 (dk_at dksJ14_copyOf_1 1 rfl rfl)
theorem dJ14_copyOf_28 : decode cJ14_copyOf 28 = .ok (.invokestatic 150, 3) := dk_184 0 150 (dk_at dksJ14_copyOf_1 4 rfl rfl)
theorem dJ14_copyOf_31 : decode cJ14_copyOf 31 = .ok (.aload_n 2, 1) := dk_44 (dk_at dksJ14_copyOf_1 7 rfl rfl)
theorem dJ14_copyOf_32 : decode cJ14_copyOf 32 = .ok (.areturn, 1) := dk_176 (dk_at dksJ14_copyOf_1 8 rfl rfl)
abbrev cJ14_copyOfRange : ByteArray := prog_55_method_132_code
def yJ14_copyOfRange : MethodName := ⟨RJ14, "copyOfRange", "([BII)[B"⟩
def dkwJ14_copyOfRange_1 : List UInt8 := [176]
abbrev dktJ14_copyOfRange_1 : List UInt8 := dkwJ14_copyOfRange_1 ++ []
def dkwJ14_copyOfRange_0 : List UInt8 := [27, 154, 0, 9, 28, 42, 190, 159, 0, 10, 42, 27, 28, 184, 1, 83, 176, 42, 182, 1, 54, 192, 1, 55]
abbrev dktJ14_copyOfRange_0 : List UInt8 := dkwJ14_copyOfRange_0 ++ dktJ14_copyOfRange_1
theorem dksJ14_copyOfRange_0 : cJ14_copyOfRange.data.toList.drop 0 = dktJ14_copyOfRange_0 := by decide +kernel
theorem dksJ14_copyOfRange_1 : cJ14_copyOfRange.data.toList.drop 24 = dktJ14_copyOfRange_1 := dk_seg dksJ14_copyOfRange_0 24 rfl rfl
theorem dJ14_copyOfRange_0 : decode cJ14_copyOfRange 0 = .ok (.iload_n 1, 1) := dk_27 (dk_at dksJ14_copyOfRange_0 0 rfl rfl)
theorem dJ14_copyOfRange_1 : decode cJ14_copyOfRange 1 = .ok (.ifCond .ne 9, 3) := dk_154 0 9 (dk_at dksJ14_copyOfRange_0 1 rfl rfl)
theorem dJ14_copyOfRange_4 : decode cJ14_copyOfRange 4 = .ok (.iload_n 2, 1) := dk_28 (dk_at dksJ14_copyOfRange_0 4 rfl rfl)
theorem dJ14_copyOfRange_5 : decode cJ14_copyOfRange 5 = .ok (.aload_n 0, 1) := dk_42 (dk_at dksJ14_copyOfRange_0 5 rfl rfl)
theorem dJ14_copyOfRange_6 : decode cJ14_copyOfRange 6 = .ok (.arraylength, 1) := dk_190 (dk_at dksJ14_copyOfRange_0 6 rfl rfl)
theorem dJ14_copyOfRange_7 : decode cJ14_copyOfRange 7 = .ok (.if_icmp .eq 10, 3) := dk_159 0 10 (dk_at dksJ14_copyOfRange_0 7 rfl rfl)
theorem dJ14_copyOfRange_10 : decode cJ14_copyOfRange 10 = .ok (.aload_n 0, 1) := dk_42 (dk_at dksJ14_copyOfRange_0 10 rfl rfl)
theorem dJ14_copyOfRange_11 : decode cJ14_copyOfRange 11 = .ok (.iload_n 1, 1) := dk_27 (dk_at dksJ14_copyOfRange_0 11 rfl rfl)
theorem dJ14_copyOfRange_12 : decode cJ14_copyOfRange 12 = .ok (.iload_n 2, 1) := dk_28 (dk_at dksJ14_copyOfRange_0 12 rfl rfl)
theorem dJ14_copyOfRange_13 : decode cJ14_copyOfRange 13 = .ok (.invokestatic 339, 3) := dk_184 1 83 (dk_at dksJ14_copyOfRange_0 13 rfl rfl)
theorem dJ14_copyOfRange_16 : decode cJ14_copyOfRange 16 = .ok (.areturn, 1) := dk_176 (dk_at dksJ14_copyOfRange_0 16 rfl rfl)
theorem dJ14_copyOfRange_17 : decode cJ14_copyOfRange 17 = .ok (.aload_n 0, 1) := dk_42 (dk_at dksJ14_copyOfRange_0 17 rfl rfl)
theorem dJ14_copyOfRange_18 : decode cJ14_copyOfRange 18 = .ok (.invokevirtual 310, 3) := dk_182 1 54 (dk_at dksJ14_copyOfRange_0 18 rfl rfl)
theorem dJ14_copyOfRange_21 : decode cJ14_copyOfRange 21 = .ok (.checkcast 311, 3) := dk_192 1 55 (dk_at dksJ14_copyOfRange_0 21 rfl rfl)
theorem dJ14_copyOfRange_24 : decode cJ14_copyOfRange 24 = .ok (.areturn, 1) := dk_176 (dk_at dksJ14_copyOfRange_1 0 rfl rfl)
abbrev cJ14_copyOfRangeByte : ByteArray := prog_55_method_133_code
def yJ14_copyOfRangeByte : MethodName := ⟨RJ14, "copyOfRangeByte", "([BII)[B"⟩
def dkwJ14_copyOfRangeByte_1 : List UInt8 := [184, 1, 48, 184, 0, 150, 25, 4, 176]
abbrev dktJ14_copyOfRangeByte_1 : List UInt8 := dkwJ14_copyOfRangeByte_1 ++ []
def dkwJ14_copyOfRangeByte_0 : List UInt8 := [27, 28, 184, 1, 87, 28, 27, 100, 62, 29, 188, 8, 58, 4, 42, 27, 25, 4, 3, 42, 190, 27, 100, 29]
abbrev dktJ14_copyOfRangeByte_0 : List UInt8 := dkwJ14_copyOfRangeByte_0 ++ dktJ14_copyOfRangeByte_1
theorem dksJ14_copyOfRangeByte_0 : cJ14_copyOfRangeByte.data.toList.drop 0 = dktJ14_copyOfRangeByte_0 := by decide +kernel
theorem dksJ14_copyOfRangeByte_1 : cJ14_copyOfRangeByte.data.toList.drop 24 = dktJ14_copyOfRangeByte_1 := dk_seg dksJ14_copyOfRangeByte_0 24 rfl rfl
theorem dJ14_copyOfRangeByte_0 : decode cJ14_copyOfRangeByte 0 = .ok (.iload_n 1, 1) := dk_27 (dk_at dksJ14_copyOfRangeByte_0 0 rfl rfl)
theorem dJ14_copyOfRangeByte_1 : decode cJ14_copyOfRangeByte 1 = .ok (.iload_n 2, 1) := dk_28 (dk_at dksJ14_copyOfRangeByte_0 1 rfl rfl)
theorem dJ14_copyOfRangeByte_2 : decode cJ14_copyOfRangeByte 2 = .ok (.invokestatic 343, 3) := dk_184 1 87 (dk_at dksJ14_copyOfRangeByte_0 2 rfl rfl)
theorem dJ14_copyOfRangeByte_5 : decode cJ14_copyOfRangeByte 5 = .ok (.iload_n 2, 1) := dk_28 (dk_at dksJ14_copyOfRangeByte_0 5 rfl rfl)
theorem dJ14_copyOfRangeByte_6 : decode cJ14_copyOfRangeByte 6 = .ok (.iload_n 1, 1) := dk_27 (dk_at dksJ14_copyOfRangeByte_0 6 rfl rfl)
theorem dJ14_copyOfRangeByte_7 : decode cJ14_copyOfRangeByte 7 = .ok (.isub, 1) := dk_100 (dk_at dksJ14_copyOfRangeByte_0 7 rfl rfl)
theorem dJ14_copyOfRangeByte_8 : decode cJ14_copyOfRangeByte 8 = .ok (.istore_n 3, 1) := dk_62 (dk_at dksJ14_copyOfRangeByte_0 8 rfl rfl)
theorem dJ14_copyOfRangeByte_9 : decode cJ14_copyOfRangeByte 9 = .ok (.iload_n 3, 1) := dk_29 (dk_at dksJ14_copyOfRangeByte_0 9 rfl rfl)
theorem dJ14_copyOfRangeByte_10 : decode cJ14_copyOfRangeByte 10 = .ok (.newarray .byte, 2) := dk_188_8 (dk_at dksJ14_copyOfRangeByte_0 10 rfl rfl)
theorem dJ14_copyOfRangeByte_12 : decode cJ14_copyOfRangeByte 12 = .ok (.astore 4, 2) := dk_58 4 (dk_at dksJ14_copyOfRangeByte_0 12 rfl rfl)
theorem dJ14_copyOfRangeByte_14 : decode cJ14_copyOfRangeByte 14 = .ok (.aload_n 0, 1) := dk_42 (dk_at dksJ14_copyOfRangeByte_0 14 rfl rfl)
theorem dJ14_copyOfRangeByte_15 : decode cJ14_copyOfRangeByte 15 = .ok (.iload_n 1, 1) := dk_27 (dk_at dksJ14_copyOfRangeByte_0 15 rfl rfl)
theorem dJ14_copyOfRangeByte_16 : decode cJ14_copyOfRangeByte 16 = .ok (.aload 4, 2) := dk_25 4 (dk_at dksJ14_copyOfRangeByte_0 16 rfl rfl)
theorem dJ14_copyOfRangeByte_18 : decode cJ14_copyOfRangeByte 18 = .ok (.iconst 0, 1) := dk_3 (dk_at dksJ14_copyOfRangeByte_0 18 rfl rfl)
theorem dJ14_copyOfRangeByte_19 : decode cJ14_copyOfRangeByte 19 = .ok (.aload_n 0, 1) := dk_42 (dk_at dksJ14_copyOfRangeByte_0 19 rfl rfl)
theorem dJ14_copyOfRangeByte_20 : decode cJ14_copyOfRangeByte 20 = .ok (.arraylength, 1) := dk_190 (dk_at dksJ14_copyOfRangeByte_0 20 rfl rfl)
theorem dJ14_copyOfRangeByte_21 : decode cJ14_copyOfRangeByte 21 = .ok (.iload_n 1, 1) := dk_27 (dk_at dksJ14_copyOfRangeByte_0 21 rfl rfl)
theorem dJ14_copyOfRangeByte_22 : decode cJ14_copyOfRangeByte 22 = .ok (.isub, 1) := dk_100 (dk_at dksJ14_copyOfRangeByte_0 22 rfl rfl)
theorem dJ14_copyOfRangeByte_23 : decode cJ14_copyOfRangeByte 23 = .ok (.iload_n 3, 1) := dk_29 (dk_at dksJ14_copyOfRangeByte_0 23 rfl rfl)
theorem dJ14_copyOfRangeByte_24 : decode cJ14_copyOfRangeByte 24 = .ok (.invokestatic 304, 3) := dk_184 1 48 (dk_at dksJ14_copyOfRangeByte_1 0 rfl rfl)
theorem dJ14_copyOfRangeByte_27 : decode cJ14_copyOfRangeByte 27 = .ok (.invokestatic 150, 3) := dk_184 0 150 (dk_at dksJ14_copyOfRangeByte_1 3 rfl rfl)
theorem dJ14_copyOfRangeByte_30 : decode cJ14_copyOfRangeByte 30 = .ok (.aload 4, 2) := dk_25 4 (dk_at dksJ14_copyOfRangeByte_1 6 rfl rfl)
theorem dJ14_copyOfRangeByte_32 : decode cJ14_copyOfRangeByte 32 = .ok (.areturn, 1) := dk_176 (dk_at dksJ14_copyOfRangeByte_1 8 rfl rfl)
abbrev cJ14_checkLength : ByteArray := prog_55_method_131_code
def yJ14_checkLength : MethodName := ⟨RJ14, "checkLength", "(II)V"⟩
def dkwJ14_checkLength_1 : List UInt8 := [182, 0, 50, 27, 182, 0, 54, 182, 0, 61, 183, 0, 65, 191, 177]
abbrev dktJ14_checkLength_1 : List UInt8 := dkwJ14_checkLength_1 ++ []
def dkwJ14_checkLength_0 : List UInt8 := [27, 26, 162, 0, 35, 187, 0, 43, 89, 187, 0, 45, 89, 183, 0, 47, 26, 182, 0, 54, 19, 1, 81]
abbrev dktJ14_checkLength_0 : List UInt8 := dkwJ14_checkLength_0 ++ dktJ14_checkLength_1
theorem dksJ14_checkLength_0 : cJ14_checkLength.data.toList.drop 0 = dktJ14_checkLength_0 := by decide +kernel
theorem dksJ14_checkLength_1 : cJ14_checkLength.data.toList.drop 23 = dktJ14_checkLength_1 := dk_seg dksJ14_checkLength_0 23 rfl rfl
theorem dJ14_checkLength_0 : decode cJ14_checkLength 0 = .ok (.iload_n 1, 1) := dk_27 (dk_at dksJ14_checkLength_0 0 rfl rfl)
theorem dJ14_checkLength_1 : decode cJ14_checkLength 1 = .ok (.iload_n 0, 1) := dk_26 (dk_at dksJ14_checkLength_0 1 rfl rfl)
theorem dJ14_checkLength_2 : decode cJ14_checkLength 2 = .ok (.if_icmp .ge 35, 3) := dk_162 0 35 (dk_at dksJ14_checkLength_0 2 rfl rfl)
theorem dJ14_checkLength_5 : decode cJ14_checkLength 5 = .ok (.new 43, 3) := dk_187 0 43 (dk_at dksJ14_checkLength_0 5 rfl rfl)
theorem dJ14_checkLength_8 : decode cJ14_checkLength 8 = .ok (.dup, 1) := dk_89 (dk_at dksJ14_checkLength_0 8 rfl rfl)
theorem dJ14_checkLength_9 : decode cJ14_checkLength 9 = .ok (.new 45, 3) := dk_187 0 45 (dk_at dksJ14_checkLength_0 9 rfl rfl)
theorem dJ14_checkLength_12 : decode cJ14_checkLength 12 = .ok (.dup, 1) := dk_89 (dk_at dksJ14_checkLength_0 12 rfl rfl)
theorem dJ14_checkLength_13 : decode cJ14_checkLength 13 = .ok (.invokespecial 47, 3) := dk_183 0 47 (dk_at dksJ14_checkLength_0 13 rfl rfl)
theorem dJ14_checkLength_16 : decode cJ14_checkLength 16 = .ok (.iload_n 0, 1) := dk_26 (dk_at dksJ14_checkLength_0 16 rfl rfl)
theorem dJ14_checkLength_17 : decode cJ14_checkLength 17 = .ok (.invokevirtual 54, 3) := dk_182 0 54 (dk_at dksJ14_checkLength_0 17 rfl rfl)
theorem dJ14_checkLength_20 : decode cJ14_checkLength 20 = .ok (.ldc_w 337, 3) := dk_19 1 81 (dk_at dksJ14_checkLength_0 20 rfl rfl)
theorem dJ14_checkLength_23 : decode cJ14_checkLength 23 = .ok (.invokevirtual 50, 3) := dk_182 0 50 (dk_at dksJ14_checkLength_1 0 rfl rfl)
theorem dJ14_checkLength_26 : decode cJ14_checkLength 26 = .ok (.iload_n 1, 1) := dk_27 (dk_at dksJ14_checkLength_1 3 rfl rfl)
theorem dJ14_checkLength_27 : decode cJ14_checkLength 27 = .ok (.invokevirtual 54, 3) := dk_182 0 54 (dk_at dksJ14_checkLength_1 4 rfl rfl)
theorem dJ14_checkLength_30 : decode cJ14_checkLength 30 = .ok (.invokevirtual 61, 3) := dk_182 0 61 (dk_at dksJ14_checkLength_1 7 rfl rfl)
theorem dJ14_checkLength_33 : decode cJ14_checkLength 33 = .ok (.invokespecial 65, 3) := dk_183 0 65 (dk_at dksJ14_checkLength_1 10 rfl rfl)
theorem dJ14_checkLength_36 : decode cJ14_checkLength 36 = .ok (.athrow, 1) := dk_191 (dk_at dksJ14_checkLength_1 13 rfl rfl)
theorem dJ14_checkLength_37 : decode cJ14_checkLength 37 = .ok (.return_, 1) := dk_177 (dk_at dksJ14_checkLength_1 14 rfl rfl)
abbrev cJ14_copyOf_2 : ByteArray := prog_55_method_119_code
def yJ14_copyOf_2 : MethodName := ⟨RJ14, "copyOf", "([Ljava/lang/Object;I)[Ljava/lang/Object;"⟩
def dkwJ14_copyOf_2_0 : List UInt8 := [42, 27, 42, 182, 0, 86, 184, 1, 44, 176]
abbrev dktJ14_copyOf_2_0 : List UInt8 := dkwJ14_copyOf_2_0 ++ []
theorem dksJ14_copyOf_2_0 : cJ14_copyOf_2.data.toList.drop 0 = dktJ14_copyOf_2_0 := by decide +kernel
theorem dJ14_copyOf_2_0 : decode cJ14_copyOf_2 0 = .ok (.aload_n 0, 1) := dk_42 (dk_at dksJ14_copyOf_2_0 0 rfl rfl)
theorem dJ14_copyOf_2_1 : decode cJ14_copyOf_2 1 = .ok (.iload_n 1, 1) := dk_27 (dk_at dksJ14_copyOf_2_0 1 rfl rfl)
theorem dJ14_copyOf_2_2 : decode cJ14_copyOf_2 2 = .ok (.aload_n 0, 1) := dk_42 (dk_at dksJ14_copyOf_2_0 2 rfl rfl)
theorem dJ14_copyOf_2_3 : decode cJ14_copyOf_2 3 = .ok (.invokevirtual 86, 3) := dk_182 0 86 (dk_at dksJ14_copyOf_2_0 3 rfl rfl)
theorem dJ14_copyOf_2_6 : decode cJ14_copyOf_2 6 = .ok (.invokestatic 300, 3) := dk_184 1 44 (dk_at dksJ14_copyOf_2_0 6 rfl rfl)
theorem dJ14_copyOf_2_9 : decode cJ14_copyOf_2 9 = .ok (.areturn, 1) := dk_176 (dk_at dksJ14_copyOf_2_0 9 rfl rfl)
abbrev cJ14_copyOf_3 : ByteArray := prog_55_method_120_code
def yJ14_copyOf_3 : MethodName := ⟨RJ14, "copyOf", "([Ljava/lang/Object;ILjava/lang/Class;)[Ljava/lang/Object;"⟩
def dkwJ14_copyOf_3_1 : List UInt8 := [78, 42, 3, 45, 3, 42, 190, 27, 184, 1, 48, 184, 0, 150, 45, 176]
abbrev dktJ14_copyOf_3_1 : List UInt8 := dkwJ14_copyOf_3_1 ++ []
def dkwJ14_copyOf_3_0 : List UInt8 := [44, 18, 110, 166, 0, 10, 27, 189, 0, 2, 167, 0, 14, 44, 182, 0, 90, 27, 184, 0, 95, 192, 0, 110]
abbrev dktJ14_copyOf_3_0 : List UInt8 := dkwJ14_copyOf_3_0 ++ dktJ14_copyOf_3_1
theorem dksJ14_copyOf_3_0 : cJ14_copyOf_3.data.toList.drop 0 = dktJ14_copyOf_3_0 := by decide +kernel
theorem dksJ14_copyOf_3_1 : cJ14_copyOf_3.data.toList.drop 24 = dktJ14_copyOf_3_1 := dk_seg dksJ14_copyOf_3_0 24 rfl rfl
theorem dJ14_copyOf_3_0 : decode cJ14_copyOf_3 0 = .ok (.aload_n 2, 1) := dk_44 (dk_at dksJ14_copyOf_3_0 0 rfl rfl)
theorem dJ14_copyOf_3_1 : decode cJ14_copyOf_3 1 = .ok (.ldc 110, 2) := dk_18 110 (dk_at dksJ14_copyOf_3_0 1 rfl rfl)
theorem dJ14_copyOf_3_3 : decode cJ14_copyOf_3 3 = .ok (.if_acmp .ne 10, 3) := dk_166 0 10 (dk_at dksJ14_copyOf_3_0 3 rfl rfl)
theorem dJ14_copyOf_3_6 : decode cJ14_copyOf_3 6 = .ok (.iload_n 1, 1) := dk_27 (dk_at dksJ14_copyOf_3_0 6 rfl rfl)
theorem dJ14_copyOf_3_7 : decode cJ14_copyOf_3 7 = .ok (.anewarray 2, 3) := dk_189 0 2 (dk_at dksJ14_copyOf_3_0 7 rfl rfl)
theorem dJ14_copyOf_3_10 : decode cJ14_copyOf_3 10 = .ok (.goto 14, 3) := dk_167 0 14 (dk_at dksJ14_copyOf_3_0 10 rfl rfl)
theorem dJ14_copyOf_3_13 : decode cJ14_copyOf_3 13 = .ok (.aload_n 2, 1) := dk_44 (dk_at dksJ14_copyOf_3_0 13 rfl rfl)
theorem dJ14_copyOf_3_14 : decode cJ14_copyOf_3 14 = .ok (.invokevirtual 90, 3) := dk_182 0 90 (dk_at dksJ14_copyOf_3_0 14 rfl rfl)
theorem dJ14_copyOf_3_17 : decode cJ14_copyOf_3 17 = .ok (.iload_n 1, 1) := dk_27 (dk_at dksJ14_copyOf_3_0 17 rfl rfl)
theorem dJ14_copyOf_3_18 : decode cJ14_copyOf_3 18 = .ok (.invokestatic 95, 3) := dk_184 0 95 (dk_at dksJ14_copyOf_3_0 18 rfl rfl)
theorem dJ14_copyOf_3_21 : decode cJ14_copyOf_3 21 = .ok (.checkcast 110, 3) := dk_192 0 110 (dk_at dksJ14_copyOf_3_0 21 rfl rfl)
theorem dJ14_copyOf_3_24 : decode cJ14_copyOf_3 24 = .ok (.astore_n 3, 1) := dk_78 (dk_at dksJ14_copyOf_3_1 0 rfl rfl)
theorem dJ14_copyOf_3_25 : decode cJ14_copyOf_3 25 = .ok (.aload_n 0, 1) := dk_42 (dk_at dksJ14_copyOf_3_1 1 rfl rfl)
theorem dJ14_copyOf_3_26 : decode cJ14_copyOf_3 26 = .ok (.iconst 0, 1) := dk_3 (dk_at dksJ14_copyOf_3_1 2 rfl rfl)
theorem dJ14_copyOf_3_27 : decode cJ14_copyOf_3 27 = .ok (.aload_n 3, 1) := dk_45 (dk_at dksJ14_copyOf_3_1 3 rfl rfl)
theorem dJ14_copyOf_3_28 : decode cJ14_copyOf_3 28 = .ok (.iconst 0, 1) := dk_3 (dk_at dksJ14_copyOf_3_1 4 rfl rfl)
theorem dJ14_copyOf_3_29 : decode cJ14_copyOf_3 29 = .ok (.aload_n 0, 1) := dk_42 (dk_at dksJ14_copyOf_3_1 5 rfl rfl)
theorem dJ14_copyOf_3_30 : decode cJ14_copyOf_3 30 = .ok (.arraylength, 1) := dk_190 (dk_at dksJ14_copyOf_3_1 6 rfl rfl)
theorem dJ14_copyOf_3_31 : decode cJ14_copyOf_3 31 = .ok (.iload_n 1, 1) := dk_27 (dk_at dksJ14_copyOf_3_1 7 rfl rfl)
theorem dJ14_copyOf_3_32 : decode cJ14_copyOf_3 32 = .ok (.invokestatic 304, 3) := dk_184 1 48 (dk_at dksJ14_copyOf_3_1 8 rfl rfl)
theorem dJ14_copyOf_3_35 : decode cJ14_copyOf_3 35 = .ok (.invokestatic 150, 3) := dk_184 0 150 (dk_at dksJ14_copyOf_3_1 11 rfl rfl)
theorem dJ14_copyOf_3_38 : decode cJ14_copyOf_3 38 = .ok (.aload_n 3, 1) := dk_45 (dk_at dksJ14_copyOf_3_1 14 rfl rfl)
theorem dJ14_copyOf_3_39 : decode cJ14_copyOf_3 39 = .ok (.areturn, 1) := dk_176 (dk_at dksJ14_copyOf_3_1 15 rfl rfl)
abbrev cJ14_copyOf_4 : ByteArray := prog_55_method_124_code
def yJ14_copyOf_4 : MethodName := ⟨RJ14, "copyOf", "([JI)[J"⟩
def dkwJ14_copyOf_4_1 : List UInt8 := [27, 184, 1, 48, 184, 0, 150, 44, 176]
abbrev dktJ14_copyOf_4_1 : List UInt8 := dkwJ14_copyOf_4_1 ++ []
def dkwJ14_copyOf_4_0 : List UInt8 := [27, 42, 190, 160, 0, 11, 42, 182, 1, 63, 192, 1, 64, 176, 27, 188, 11, 77, 42, 3, 44, 3, 42, 190]
abbrev dktJ14_copyOf_4_0 : List UInt8 := dkwJ14_copyOf_4_0 ++ dktJ14_copyOf_4_1
theorem dksJ14_copyOf_4_0 : cJ14_copyOf_4.data.toList.drop 0 = dktJ14_copyOf_4_0 := by decide +kernel
theorem dksJ14_copyOf_4_1 : cJ14_copyOf_4.data.toList.drop 24 = dktJ14_copyOf_4_1 := dk_seg dksJ14_copyOf_4_0 24 rfl rfl
theorem dJ14_copyOf_4_0 : decode cJ14_copyOf_4 0 = .ok (.iload_n 1, 1) := dk_27 (dk_at dksJ14_copyOf_4_0 0 rfl rfl)
theorem dJ14_copyOf_4_1 : decode cJ14_copyOf_4 1 = .ok (.aload_n 0, 1) := dk_42 (dk_at dksJ14_copyOf_4_0 1 rfl rfl)
theorem dJ14_copyOf_4_2 : decode cJ14_copyOf_4 2 = .ok (.arraylength, 1) := dk_190 (dk_at dksJ14_copyOf_4_0 2 rfl rfl)
theorem dJ14_copyOf_4_3 : decode cJ14_copyOf_4 3 = .ok (.if_icmp .ne 11, 3) := dk_160 0 11 (dk_at dksJ14_copyOf_4_0 3 rfl rfl)
theorem dJ14_copyOf_4_6 : decode cJ14_copyOf_4 6 = .ok (.aload_n 0, 1) := dk_42 (dk_at dksJ14_copyOf_4_0 6 rfl rfl)
theorem dJ14_copyOf_4_7 : decode cJ14_copyOf_4 7 = .ok (.invokevirtual 319, 3) := dk_182 1 63 (dk_at dksJ14_copyOf_4_0 7 rfl rfl)
theorem dJ14_copyOf_4_10 : decode cJ14_copyOf_4 10 = .ok (.checkcast 320, 3) := dk_192 1 64 (dk_at dksJ14_copyOf_4_0 10 rfl rfl)
theorem dJ14_copyOf_4_13 : decode cJ14_copyOf_4 13 = .ok (.areturn, 1) := dk_176 (dk_at dksJ14_copyOf_4_0 13 rfl rfl)
theorem dJ14_copyOf_4_14 : decode cJ14_copyOf_4 14 = .ok (.iload_n 1, 1) := dk_27 (dk_at dksJ14_copyOf_4_0 14 rfl rfl)
theorem dJ14_copyOf_4_15 : decode cJ14_copyOf_4 15 = .ok (.newarray .long, 2) := dk_188_11 (dk_at dksJ14_copyOf_4_0 15 rfl rfl)
theorem dJ14_copyOf_4_17 : decode cJ14_copyOf_4 17 = .ok (.astore_n 2, 1) := dk_77 (dk_at dksJ14_copyOf_4_0 17 rfl rfl)
theorem dJ14_copyOf_4_18 : decode cJ14_copyOf_4 18 = .ok (.aload_n 0, 1) := dk_42 (dk_at dksJ14_copyOf_4_0 18 rfl rfl)
theorem dJ14_copyOf_4_19 : decode cJ14_copyOf_4 19 = .ok (.iconst 0, 1) := dk_3 (dk_at dksJ14_copyOf_4_0 19 rfl rfl)
theorem dJ14_copyOf_4_20 : decode cJ14_copyOf_4 20 = .ok (.aload_n 2, 1) := dk_44 (dk_at dksJ14_copyOf_4_0 20 rfl rfl)
theorem dJ14_copyOf_4_21 : decode cJ14_copyOf_4 21 = .ok (.iconst 0, 1) := dk_3 (dk_at dksJ14_copyOf_4_0 21 rfl rfl)
theorem dJ14_copyOf_4_22 : decode cJ14_copyOf_4 22 = .ok (.aload_n 0, 1) := dk_42 (dk_at dksJ14_copyOf_4_0 22 rfl rfl)
theorem dJ14_copyOf_4_23 : decode cJ14_copyOf_4 23 = .ok (.arraylength, 1) := dk_190 (dk_at dksJ14_copyOf_4_0 23 rfl rfl)
theorem dJ14_copyOf_4_24 : decode cJ14_copyOf_4 24 = .ok (.iload_n 1, 1) := dk_27 (dk_at dksJ14_copyOf_4_1 0 rfl rfl)
theorem dJ14_copyOf_4_25 : decode cJ14_copyOf_4 25 = .ok (.invokestatic 304, 3) := dk_184 1 48 (dk_at dksJ14_copyOf_4_1 1 rfl rfl)
theorem dJ14_copyOf_4_28 : decode cJ14_copyOf_4 28 = .ok (.invokestatic 150, 3) := dk_184 0 150 (dk_at dksJ14_copyOf_4_1 4 rfl rfl)
theorem dJ14_copyOf_4_31 : decode cJ14_copyOf_4 31 = .ok (.aload_n 2, 1) := dk_44 (dk_at dksJ14_copyOf_4_1 7 rfl rfl)
theorem dJ14_copyOf_4_32 : decode cJ14_copyOf_4 32 = .ok (.areturn, 1) := dk_176 (dk_at dksJ14_copyOf_4_1 8 rfl rfl)
theorem q165 : (Jvm.Cond.initialized "java/util/Arrays") ∈ lw_all := lw_g (lw_at lw_m1 17 rfl) rfl
theorem q369 : (Jvm.Cond.static ({ cls := "java/util/Arrays", name := "copyOf", desc := "([BI)[B" } : Jvm.MethodName)) ∈ lw_all := lw_g (lw_at lw_m1 221 rfl) rfl
theorem q370 : (Jvm.Cond.code ({ cls := "java/util/Arrays", name := "copyOf", desc := "([BI)[B" } : Jvm.MethodName) prog_55_method_121_code (3 : Nat) (Option.some (Jvm.ClassFile.FieldType.array Jvm.ClassFile.FieldType.byte))) ∈ lw_all := lw_g (lw_at lw_m1 222 rfl) rfl
theorem q371 : (Jvm.Cond.methodLink "java/util/Arrays" (310 : Nat) ({ cls := "[B", name := "clone", desc := "()Ljava/lang/Object;" } : Jvm.MethodName)) ∈ lw_all := lw_g (lw_at lw_m1 223 rfl) rfl
theorem q377 : (Jvm.Cond.classLink "java/util/Arrays" (311 : Nat) "[B") ∈ lw_all := lw_g (lw_at lw_m1 229 rfl) rfl
theorem q378 : (Jvm.Cond.methodLink "java/util/Arrays" (304 : Nat) ({ cls := "java/lang/Math", name := "min", desc := "(II)I" } : Jvm.MethodName)) ∈ lw_all := lw_g (lw_at lw_m1 230 rfl) rfl
theorem q381 : (Jvm.Cond.methodLink "java/util/Arrays" (150 : Nat) ({ cls := "java/lang/System", name := "arraycopy", desc := "(Ljava/lang/Object;ILjava/lang/Object;II)V" } : Jvm.MethodName)) ∈ lw_all := lw_g (lw_at lw_m1 233 rfl) rfl
theorem q511 : (Jvm.Cond.static ({ cls := "java/util/Arrays", name := "copyOfRange", desc := "([BII)[B" } : Jvm.MethodName)) ∈ lw_all := lw_g (lw_at lw_m2 123 rfl) rfl
theorem q512 : (Jvm.Cond.code ({ cls := "java/util/Arrays", name := "copyOfRange", desc := "([BII)[B" } : Jvm.MethodName) prog_55_method_132_code (3 : Nat) (Option.some (Jvm.ClassFile.FieldType.array Jvm.ClassFile.FieldType.byte))) ∈ lw_all := lw_g (lw_at lw_m2 124 rfl) rfl
theorem q513 : (Jvm.Cond.methodLink "java/util/Arrays" (339 : Nat) ({ cls := "java/util/Arrays", name := "copyOfRangeByte", desc := "([BII)[B" } : Jvm.MethodName)) ∈ lw_all := lw_g (lw_at lw_m2 125 rfl) rfl
theorem q514 : (Jvm.Cond.static ({ cls := "java/util/Arrays", name := "copyOfRangeByte", desc := "([BII)[B" } : Jvm.MethodName)) ∈ lw_all := lw_g (lw_at lw_m2 126 rfl) rfl
theorem q515 : (Jvm.Cond.code ({ cls := "java/util/Arrays", name := "copyOfRangeByte", desc := "([BII)[B" } : Jvm.MethodName) prog_55_method_133_code (5 : Nat) (Option.some (Jvm.ClassFile.FieldType.array Jvm.ClassFile.FieldType.byte))) ∈ lw_all := lw_g (lw_at lw_m2 127 rfl) rfl
theorem q516 : (Jvm.Cond.methodLink "java/util/Arrays" (343 : Nat) ({ cls := "java/util/Arrays", name := "checkLength", desc := "(II)V" } : Jvm.MethodName)) ∈ lw_all := lw_g (lw_at lw_m2 128 rfl) rfl
theorem q517 : (Jvm.Cond.static ({ cls := "java/util/Arrays", name := "checkLength", desc := "(II)V" } : Jvm.MethodName)) ∈ lw_all := lw_g (lw_at lw_m2 129 rfl) rfl
theorem q518 : (Jvm.Cond.code ({ cls := "java/util/Arrays", name := "checkLength", desc := "(II)V" } : Jvm.MethodName) prog_55_method_131_code (2 : Nat) (Option.none : Option Jvm.ClassFile.FieldType)) ∈ lw_all := lw_g (lw_at lw_m2 130 rfl) rfl
theorem q519 : (Jvm.Cond.classLink "java/util/Arrays" (43 : Nat) "java/lang/IllegalArgumentException") ∈ lw_all := lw_g (lw_at lw_m2 131 rfl) rfl
theorem q520 : (Jvm.Cond.classLink "java/util/Arrays" (45 : Nat) "java/lang/StringBuilder") ∈ lw_all := lw_g (lw_at lw_m2 132 rfl) rfl
theorem q521 : (Jvm.Cond.methodLink "java/util/Arrays" (47 : Nat) ({ cls := "java/lang/StringBuilder", name := "<init>", desc := "()V" } : Jvm.MethodName)) ∈ lw_all := lw_g (lw_at lw_m2 133 rfl) rfl
theorem q522 : (Jvm.Cond.methodLink "java/util/Arrays" (54 : Nat) ({ cls := "java/lang/StringBuilder", name := "append", desc := "(I)Ljava/lang/StringBuilder;" } : Jvm.MethodName)) ∈ lw_all := lw_g (lw_at lw_m2 134 rfl) rfl
theorem q523 : (Jvm.Cond.stringRef "java/util/Arrays" (337 : Nat) " > ") ∈ lw_tbl := lw_at lw_m2 135 rfl
theorem q524 : (Jvm.Cond.methodLink "java/util/Arrays" (50 : Nat) ({ cls := "java/lang/StringBuilder", name := "append", desc := "(Ljava/lang/String;)Ljava/lang/StringBuilder;" } : Jvm.MethodName)) ∈ lw_all := lw_g (lw_at lw_m2 136 rfl) rfl
theorem q525 : (Jvm.Cond.methodLink "java/util/Arrays" (61 : Nat) ({ cls := "java/lang/StringBuilder", name := "toString", desc := "()Ljava/lang/String;" } : Jvm.MethodName)) ∈ lw_all := lw_g (lw_at lw_m2 137 rfl) rfl
theorem q526 : (Jvm.Cond.methodLink "java/util/Arrays" (65 : Nat) ({ cls := "java/lang/IllegalArgumentException", name := "<init>", desc := "(Ljava/lang/String;)V" } : Jvm.MethodName)) ∈ lw_all := lw_g (lw_at lw_m2 138 rfl) rfl
theorem q1877 : (Jvm.Cond.static ({ cls := "java/util/Arrays", name := "copyOf", desc := "([Ljava/lang/Object;I)[Ljava/lang/Object;" } : Jvm.MethodName)) ∈ lw_all := lw_g (lw_at lw_m8 49 rfl) rfl
theorem q1878 : (Jvm.Cond.code ({ cls := "java/util/Arrays", name := "copyOf", desc := "([Ljava/lang/Object;I)[Ljava/lang/Object;" } : Jvm.MethodName) prog_55_method_119_code (2 : Nat) (Option.some (Jvm.ClassFile.FieldType.array (Jvm.ClassFile.FieldType.object "java/lang/Object")))) ∈ lw_all := lw_g (lw_at lw_m8 50 rfl) rfl
theorem q1879 : (Jvm.Cond.methodLink "java/util/Arrays" (86 : Nat) ({ cls := "java/lang/Object", name := "getClass", desc := "()Ljava/lang/Class;" } : Jvm.MethodName)) ∈ lw_all := lw_g (lw_at lw_m8 51 rfl) rfl
theorem q1880 : (Jvm.Cond.methodLink "java/util/Arrays" (300 : Nat) ({ cls := "java/util/Arrays", name := "copyOf", desc := "([Ljava/lang/Object;ILjava/lang/Class;)[Ljava/lang/Object;" } : Jvm.MethodName)) ∈ lw_all := lw_g (lw_at lw_m8 52 rfl) rfl
theorem q1881 : (Jvm.Cond.static ({ cls := "java/util/Arrays", name := "copyOf", desc := "([Ljava/lang/Object;ILjava/lang/Class;)[Ljava/lang/Object;" } : Jvm.MethodName)) ∈ lw_all := lw_g (lw_at lw_m8 53 rfl) rfl
theorem q1882 : (Jvm.Cond.code ({ cls := "java/util/Arrays", name := "copyOf", desc := "([Ljava/lang/Object;ILjava/lang/Class;)[Ljava/lang/Object;" } : Jvm.MethodName) prog_55_method_120_code (4 : Nat) (Option.some (Jvm.ClassFile.FieldType.array (Jvm.ClassFile.FieldType.object "java/lang/Object")))) ∈ lw_all := lw_g (lw_at lw_m8 54 rfl) rfl
theorem q1883 : (Jvm.Cond.classLink "java/util/Arrays" (110 : Nat) "[Ljava/lang/Object;") ∈ lw_all := lw_g (lw_at lw_m8 55 rfl) rfl
theorem q1884 : (Jvm.Cond.classLink "java/util/Arrays" (2 : Nat) "java/lang/Object") ∈ lw_all := lw_g (lw_at lw_m8 56 rfl) rfl
theorem q1996 : (Jvm.Cond.static ({ cls := "java/util/Arrays", name := "copyOf", desc := "([JI)[J" } : Jvm.MethodName)) ∈ lw_all := lw_g (lw_at lw_m8 168 rfl) rfl
theorem q1997 : (Jvm.Cond.code ({ cls := "java/util/Arrays", name := "copyOf", desc := "([JI)[J" } : Jvm.MethodName) prog_55_method_124_code (3 : Nat) (Option.some (Jvm.ClassFile.FieldType.array Jvm.ClassFile.FieldType.long))) ∈ lw_all := lw_g (lw_at lw_m8 169 rfl) rfl
theorem q1998 : (Jvm.Cond.methodLink "java/util/Arrays" (319 : Nat) ({ cls := "[J", name := "clone", desc := "()Ljava/lang/Object;" } : Jvm.MethodName)) ∈ lw_all := lw_g (lw_at lw_m8 170 rfl) rfl
theorem q2002 : (Jvm.Cond.classLink "java/util/Arrays" (320 : Nat) "[J") ∈ lw_all := lw_g (lw_at lw_m8 174 rfl) rfl

/-! jdk/internal/util/Preconditions -/
set_option maxRecDepth 100000
def RJ15 : String := "jdk/internal/util/Preconditions"
abbrev cJ15_checkFromToIndex : ByteArray := prog_90_method_12_code
def yJ15_checkFromToIndex : MethodName := ⟨RJ15, "checkFromToIndex", "(IIILjava/util/function/BiFunction;)I"⟩
def dkwJ15_checkFromToIndex_0 : List UInt8 := [26, 155, 0, 13, 26, 27, 163, 0, 8, 27, 28, 164, 0, 11, 45, 26, 27, 28, 184, 0, 99, 191, 26, 172]
abbrev dktJ15_checkFromToIndex_0 : List UInt8 := dkwJ15_checkFromToIndex_0 ++ []
theorem dksJ15_checkFromToIndex_0 : cJ15_checkFromToIndex.data.toList.drop 0 = dktJ15_checkFromToIndex_0 := by decide +kernel
theorem dJ15_checkFromToIndex_0 : decode cJ15_checkFromToIndex 0 = .ok (.iload_n 0, 1) := dk_26 (dk_at dksJ15_checkFromToIndex_0 0 rfl rfl)
theorem dJ15_checkFromToIndex_1 : decode cJ15_checkFromToIndex 1 = .ok (.ifCond .lt 13, 3) := dk_155 0 13 (dk_at dksJ15_checkFromToIndex_0 1 rfl rfl)
theorem dJ15_checkFromToIndex_4 : decode cJ15_checkFromToIndex 4 = .ok (.iload_n 0, 1) := dk_26 (dk_at dksJ15_checkFromToIndex_0 4 rfl rfl)
theorem dJ15_checkFromToIndex_5 : decode cJ15_checkFromToIndex 5 = .ok (.iload_n 1, 1) := dk_27 (dk_at dksJ15_checkFromToIndex_0 5 rfl rfl)
theorem dJ15_checkFromToIndex_6 : decode cJ15_checkFromToIndex 6 = .ok (.if_icmp .gt 8, 3) := dk_163 0 8 (dk_at dksJ15_checkFromToIndex_0 6 rfl rfl)
theorem dJ15_checkFromToIndex_9 : decode cJ15_checkFromToIndex 9 = .ok (.iload_n 1, 1) := dk_27 (dk_at dksJ15_checkFromToIndex_0 9 rfl rfl)
theorem dJ15_checkFromToIndex_10 : decode cJ15_checkFromToIndex 10 = .ok (.iload_n 2, 1) := dk_28 (dk_at dksJ15_checkFromToIndex_0 10 rfl rfl)
theorem dJ15_checkFromToIndex_11 : decode cJ15_checkFromToIndex 11 = .ok (.if_icmp .le 11, 3) := dk_164 0 11 (dk_at dksJ15_checkFromToIndex_0 11 rfl rfl)
theorem dJ15_checkFromToIndex_14 : decode cJ15_checkFromToIndex 14 = .ok (.aload_n 3, 1) := dk_45 (dk_at dksJ15_checkFromToIndex_0 14 rfl rfl)
theorem dJ15_checkFromToIndex_15 : decode cJ15_checkFromToIndex 15 = .ok (.iload_n 0, 1) := dk_26 (dk_at dksJ15_checkFromToIndex_0 15 rfl rfl)
theorem dJ15_checkFromToIndex_16 : decode cJ15_checkFromToIndex 16 = .ok (.iload_n 1, 1) := dk_27 (dk_at dksJ15_checkFromToIndex_0 16 rfl rfl)
theorem dJ15_checkFromToIndex_17 : decode cJ15_checkFromToIndex 17 = .ok (.iload_n 2, 1) := dk_28 (dk_at dksJ15_checkFromToIndex_0 17 rfl rfl)
theorem dJ15_checkFromToIndex_18 : decode cJ15_checkFromToIndex 18 = .ok (.invokestatic 99, 3) := dk_184 0 99 (dk_at dksJ15_checkFromToIndex_0 18 rfl rfl)
theorem dJ15_checkFromToIndex_21 : decode cJ15_checkFromToIndex 21 = .ok (.athrow, 1) := dk_191 (dk_at dksJ15_checkFromToIndex_0 21 rfl rfl)
theorem dJ15_checkFromToIndex_22 : decode cJ15_checkFromToIndex 22 = .ok (.iload_n 0, 1) := dk_26 (dk_at dksJ15_checkFromToIndex_0 22 rfl rfl)
theorem dJ15_checkFromToIndex_23 : decode cJ15_checkFromToIndex 23 = .ok (.ireturn, 1) := dk_172 (dk_at dksJ15_checkFromToIndex_0 23 rfl rfl)
abbrev cJ15_checkFromIndexSize : ByteArray := prog_90_method_13_code
def yJ15_checkFromIndexSize : MethodName := ⟨RJ15, "checkFromIndexSize", "(IIILjava/util/function/BiFunction;)I"⟩
def dkwJ15_checkFromIndexSize_1 : List UInt8 := [172]
abbrev dktJ15_checkFromIndexSize_1 : List UInt8 := dkwJ15_checkFromIndexSize_1 ++ []
def dkwJ15_checkFromIndexSize_0 : List UInt8 := [28, 26, 128, 27, 128, 155, 0, 10, 27, 28, 26, 100, 164, 0, 11, 45, 26, 27, 28, 184, 0, 103, 191, 26]
abbrev dktJ15_checkFromIndexSize_0 : List UInt8 := dkwJ15_checkFromIndexSize_0 ++ dktJ15_checkFromIndexSize_1
theorem dksJ15_checkFromIndexSize_0 : cJ15_checkFromIndexSize.data.toList.drop 0 = dktJ15_checkFromIndexSize_0 := by decide +kernel
theorem dksJ15_checkFromIndexSize_1 : cJ15_checkFromIndexSize.data.toList.drop 24 = dktJ15_checkFromIndexSize_1 := dk_seg dksJ15_checkFromIndexSize_0 24 rfl rfl
theorem dJ15_checkFromIndexSize_0 : decode cJ15_checkFromIndexSize 0 = .ok (.iload_n 2, 1) := dk_28 (dk_at dksJ15_checkFromIndexSize_0 0 rfl rfl)
theorem dJ15_checkFromIndexSize_1 : decode cJ15_checkFromIndexSize 1 = .ok (.iload_n 0, 1) := dk_26 (dk_at dksJ15_checkFromIndexSize_0 1 rfl rfl)
theorem dJ15_checkFromIndexSize_2 : decode cJ15_checkFromIndexSize 2 = .ok (.ior, 1) := dk_128 (dk_at dksJ15_checkFromIndexSize_0 2 rfl rfl)
theorem dJ15_checkFromIndexSize_3 : decode cJ15_checkFromIndexSize 3 = .ok (.iload_n 1, 1) := dk_27 (dk_at dksJ15_checkFromIndexSize_0 3 rfl rfl)
theorem dJ15_checkFromIndexSize_4 : decode cJ15_checkFromIndexSize 4 = .ok (.ior, 1) := dk_128 (dk_at dksJ15_checkFromIndexSize_0 4 rfl rfl)
theorem dJ15_checkFromIndexSize_5 : decode cJ15_checkFromIndexSize 5 = .ok (.ifCond .lt 10, 3) := dk_155 0 10 (dk_at dksJ15_checkFromIndexSize_0 5 rfl rfl)
theorem dJ15_checkFromIndexSize_8 : decode cJ15_checkFromIndexSize 8 = .ok (.iload_n 1, 1) := dk_27 (dk_at dksJ15_checkFromIndexSize_0 8 rfl rfl)
theorem dJ15_checkFromIndexSize_9 : decode cJ15_checkFromIndexSize 9 = .ok (.iload_n 2, 1) := dk_28 (dk_at dksJ15_checkFromIndexSize_0 9 rfl rfl)
theorem dJ15_checkFromIndexSize_10 : decode cJ15_checkFromIndexSize 10 = .ok (.iload_n 0, 1) := dk_26 (dk_at dksJ15_checkFromIndexSize_0 10 rfl rfl)
theorem dJ15_checkFromIndexSize_11 : decode cJ15_checkFromIndexSize 11 = .ok (.isub, 1) := dk_100 (dk_at dksJ15_checkFromIndexSize_0 11 rfl rfl)
theorem dJ15_checkFromIndexSize_12 : decode cJ15_checkFromIndexSize 12 = .ok (.if_icmp .le 11, 3) := dk_164 0 11 (dk_at dksJ15_checkFromIndexSize_0 12 rfl rfl)
theorem dJ15_checkFromIndexSize_15 : decode cJ15_checkFromIndexSize 15 = .ok (.aload_n 3, 1) := dk_45 (dk_at dksJ15_checkFromIndexSize_0 15 rfl rfl)
theorem dJ15_checkFromIndexSize_16 : decode cJ15_checkFromIndexSize 16 = .ok (.iload_n 0, 1) := dk_26 (dk_at dksJ15_checkFromIndexSize_0 16 rfl rfl)
theorem dJ15_checkFromIndexSize_17 : decode cJ15_checkFromIndexSize 17 = .ok (.iload_n 1, 1) := dk_27 (dk_at dksJ15_checkFromIndexSize_0 17 rfl rfl)
theorem dJ15_checkFromIndexSize_18 : decode cJ15_checkFromIndexSize 18 = .ok (.iload_n 2, 1) := dk_28 (dk_at dksJ15_checkFromIndexSize_0 18 rfl rfl)
theorem dJ15_checkFromIndexSize_19 : decode cJ15_checkFromIndexSize 19 = .ok (.invokestatic 103, 3) := dk_184 0 103 (dk_at dksJ15_checkFromIndexSize_0 19 rfl rfl)
theorem dJ15_checkFromIndexSize_22 : decode cJ15_checkFromIndexSize 22 = .ok (.athrow, 1) := dk_191 (dk_at dksJ15_checkFromIndexSize_0 22 rfl rfl)
theorem dJ15_checkFromIndexSize_23 : decode cJ15_checkFromIndexSize 23 = .ok (.iload_n 0, 1) := dk_26 (dk_at dksJ15_checkFromIndexSize_0 23 rfl rfl)
theorem dJ15_checkFromIndexSize_24 : decode cJ15_checkFromIndexSize 24 = .ok (.ireturn, 1) := dk_172 (dk_at dksJ15_checkFromIndexSize_1 0 rfl rfl)
abbrev cJ15_checkIndex : ByteArray := prog_90_method_11_code
def yJ15_checkIndex : MethodName := ⟨RJ15, "checkIndex", "(IILjava/util/function/BiFunction;)I"⟩
def dkwJ15_checkIndex_0 : List UInt8 := [26, 155, 0, 8, 26, 27, 161, 0, 10, 44, 26, 27, 184, 0, 95, 191, 26, 172]
abbrev dktJ15_checkIndex_0 : List UInt8 := dkwJ15_checkIndex_0 ++ []
theorem dksJ15_checkIndex_0 : cJ15_checkIndex.data.toList.drop 0 = dktJ15_checkIndex_0 := by decide +kernel
theorem dJ15_checkIndex_0 : decode cJ15_checkIndex 0 = .ok (.iload_n 0, 1) := dk_26 (dk_at dksJ15_checkIndex_0 0 rfl rfl)
theorem dJ15_checkIndex_1 : decode cJ15_checkIndex 1 = .ok (.ifCond .lt 8, 3) := dk_155 0 8 (dk_at dksJ15_checkIndex_0 1 rfl rfl)
theorem dJ15_checkIndex_4 : decode cJ15_checkIndex 4 = .ok (.iload_n 0, 1) := dk_26 (dk_at dksJ15_checkIndex_0 4 rfl rfl)
theorem dJ15_checkIndex_5 : decode cJ15_checkIndex 5 = .ok (.iload_n 1, 1) := dk_27 (dk_at dksJ15_checkIndex_0 5 rfl rfl)
theorem dJ15_checkIndex_6 : decode cJ15_checkIndex 6 = .ok (.if_icmp .lt 10, 3) := dk_161 0 10 (dk_at dksJ15_checkIndex_0 6 rfl rfl)
theorem dJ15_checkIndex_9 : decode cJ15_checkIndex 9 = .ok (.aload_n 2, 1) := dk_44 (dk_at dksJ15_checkIndex_0 9 rfl rfl)
theorem dJ15_checkIndex_10 : decode cJ15_checkIndex 10 = .ok (.iload_n 0, 1) := dk_26 (dk_at dksJ15_checkIndex_0 10 rfl rfl)
theorem dJ15_checkIndex_11 : decode cJ15_checkIndex 11 = .ok (.iload_n 1, 1) := dk_27 (dk_at dksJ15_checkIndex_0 11 rfl rfl)
theorem dJ15_checkIndex_12 : decode cJ15_checkIndex 12 = .ok (.invokestatic 95, 3) := dk_184 0 95 (dk_at dksJ15_checkIndex_0 12 rfl rfl)
theorem dJ15_checkIndex_15 : decode cJ15_checkIndex 15 = .ok (.athrow, 1) := dk_191 (dk_at dksJ15_checkIndex_0 15 rfl rfl)
theorem dJ15_checkIndex_16 : decode cJ15_checkIndex 16 = .ok (.iload_n 0, 1) := dk_26 (dk_at dksJ15_checkIndex_0 16 rfl rfl)
theorem dJ15_checkIndex_17 : decode cJ15_checkIndex 17 = .ok (.ireturn, 1) := dk_172 (dk_at dksJ15_checkIndex_0 17 rfl rfl)
theorem q167 : (Jvm.Cond.initialized "jdk/internal/util/Preconditions") ∈ lw_all := lw_g (lw_at lw_m1 19 rfl) rfl
theorem q402 : (Jvm.Cond.laysStatic "jdk/internal/util/Preconditions" "SIOOBE_FORMATTER" "Ljava/util/function/BiFunction;") ∈ lw_tbl := lw_at lw_m2 14 rfl
theorem q404 : (Jvm.Cond.static ({ cls := "jdk/internal/util/Preconditions", name := "checkFromToIndex", desc := "(IIILjava/util/function/BiFunction;)I" } : Jvm.MethodName)) ∈ lw_all := lw_g (lw_at lw_m2 16 rfl) rfl
theorem q405 : (Jvm.Cond.code ({ cls := "jdk/internal/util/Preconditions", name := "checkFromToIndex", desc := "(IIILjava/util/function/BiFunction;)I" } : Jvm.MethodName) prog_90_method_12_code (4 : Nat) (Option.some Jvm.ClassFile.FieldType.int)) ∈ lw_all := lw_g (lw_at lw_m2 17 rfl) rfl
theorem q450 : (Jvm.Cond.static ({ cls := "jdk/internal/util/Preconditions", name := "checkFromIndexSize", desc := "(IIILjava/util/function/BiFunction;)I" } : Jvm.MethodName)) ∈ lw_all := lw_g (lw_at lw_m2 62 rfl) rfl
theorem q451 : (Jvm.Cond.code ({ cls := "jdk/internal/util/Preconditions", name := "checkFromIndexSize", desc := "(IIILjava/util/function/BiFunction;)I" } : Jvm.MethodName) prog_90_method_13_code (4 : Nat) (Option.some Jvm.ClassFile.FieldType.int)) ∈ lw_all := lw_g (lw_at lw_m2 63 rfl) rfl
theorem q857 : (Jvm.Cond.static ({ cls := "jdk/internal/util/Preconditions", name := "checkIndex", desc := "(IILjava/util/function/BiFunction;)I" } : Jvm.MethodName)) ∈ lw_all := lw_g (lw_at lw_m3 229 rfl) rfl
theorem q858 : (Jvm.Cond.code ({ cls := "jdk/internal/util/Preconditions", name := "checkIndex", desc := "(IILjava/util/function/BiFunction;)I" } : Jvm.MethodName) prog_90_method_11_code (3 : Nat) (Option.some Jvm.ClassFile.FieldType.int)) ∈ lw_all := lw_g (lw_at lw_m3 230 rfl) rfl
theorem q929 : (Jvm.Cond.laysStatic "jdk/internal/util/Preconditions" "IOOBE_FORMATTER" "Ljava/util/function/BiFunction;") ∈ lw_tbl := lw_at lw_m4 61 rfl

/-! java/lang/StringLatin1 -/
set_option maxRecDepth 100000
def RJ16 : String := "java/lang/StringLatin1"
abbrev cJ16_inflate : ByteArray := prog_42_method_50_code
def yJ16_inflate : MethodName := ⟨RJ16, "inflate", "([BI[BII)V"⟩
def dkwJ16_inflate_0 : List UInt8 := [42, 27, 44, 29, 21, 4, 184, 0, 240, 177]
abbrev dktJ16_inflate_0 : List UInt8 := dkwJ16_inflate_0 ++ []
theorem dksJ16_inflate_0 : cJ16_inflate.data.toList.drop 0 = dktJ16_inflate_0 := by decide +kernel
theorem dJ16_inflate_0 : decode cJ16_inflate 0 = .ok (.aload_n 0, 1) := dk_42 (dk_at dksJ16_inflate_0 0 rfl rfl)
theorem dJ16_inflate_1 : decode cJ16_inflate 1 = .ok (.iload_n 1, 1) := dk_27 (dk_at dksJ16_inflate_0 1 rfl rfl)
theorem dJ16_inflate_2 : decode cJ16_inflate 2 = .ok (.aload_n 2, 1) := dk_44 (dk_at dksJ16_inflate_0 2 rfl rfl)
theorem dJ16_inflate_3 : decode cJ16_inflate 3 = .ok (.iload_n 3, 1) := dk_29 (dk_at dksJ16_inflate_0 3 rfl rfl)
theorem dJ16_inflate_4 : decode cJ16_inflate 4 = .ok (.iload 4, 2) := dk_21 4 (dk_at dksJ16_inflate_0 4 rfl rfl)
theorem dJ16_inflate_6 : decode cJ16_inflate 6 = .ok (.invokestatic 240, 3) := dk_184 0 240 (dk_at dksJ16_inflate_0 6 rfl rfl)
theorem dJ16_inflate_9 : decode cJ16_inflate 9 = .ok (.return_, 1) := dk_177 (dk_at dksJ16_inflate_0 9 rfl rfl)
abbrev cJ16_canEncode : ByteArray := prog_42_method_3_code
def yJ16_canEncode : MethodName := ⟨RJ16, "canEncode", "(C)Z"⟩
def dkwJ16_canEncode_0 : List UInt8 := [26, 17, 0, 255, 163, 0, 7, 4, 167, 0, 4, 3, 172]
abbrev dktJ16_canEncode_0 : List UInt8 := dkwJ16_canEncode_0 ++ []
theorem dksJ16_canEncode_0 : cJ16_canEncode.data.toList.drop 0 = dktJ16_canEncode_0 := by decide +kernel
theorem dJ16_canEncode_0 : decode cJ16_canEncode 0 = .ok (.iload_n 0, 1) := dk_26 (dk_at dksJ16_canEncode_0 0 rfl rfl)
theorem dJ16_canEncode_1 : decode cJ16_canEncode 1 = .ok (.sipush 255, 3) := dk_17 0 255 (dk_at dksJ16_canEncode_0 1 rfl rfl)
theorem dJ16_canEncode_4 : decode cJ16_canEncode 4 = .ok (.if_icmp .gt 7, 3) := dk_163 0 7 (dk_at dksJ16_canEncode_0 4 rfl rfl)
theorem dJ16_canEncode_7 : decode cJ16_canEncode 7 = .ok (.iconst 1, 1) := dk_4 (dk_at dksJ16_canEncode_0 7 rfl rfl)
theorem dJ16_canEncode_8 : decode cJ16_canEncode 8 = .ok (.goto 4, 3) := dk_167 0 4 (dk_at dksJ16_canEncode_0 8 rfl rfl)
theorem dJ16_canEncode_11 : decode cJ16_canEncode 11 = .ok (.iconst 0, 1) := dk_3 (dk_at dksJ16_canEncode_0 11 rfl rfl)
theorem dJ16_canEncode_12 : decode cJ16_canEncode 12 = .ok (.ireturn, 1) := dk_172 (dk_at dksJ16_canEncode_0 12 rfl rfl)
abbrev cJ16_charAt : ByteArray := prog_42_method_2_code
def yJ16_charAt : MethodName := ⟨RJ16, "charAt", "([BI)C"⟩
def dkwJ16_charAt_0 : List UInt8 := [27, 42, 190, 184, 0, 9, 42, 27, 51, 17, 0, 255, 126, 146, 172]
abbrev dktJ16_charAt_0 : List UInt8 := dkwJ16_charAt_0 ++ []
theorem dksJ16_charAt_0 : cJ16_charAt.data.toList.drop 0 = dktJ16_charAt_0 := by decide +kernel
theorem dJ16_charAt_0 : decode cJ16_charAt 0 = .ok (.iload_n 1, 1) := dk_27 (dk_at dksJ16_charAt_0 0 rfl rfl)
theorem dJ16_charAt_1 : decode cJ16_charAt 1 = .ok (.aload_n 0, 1) := dk_42 (dk_at dksJ16_charAt_0 1 rfl rfl)
theorem dJ16_charAt_2 : decode cJ16_charAt 2 = .ok (.arraylength, 1) := dk_190 (dk_at dksJ16_charAt_0 2 rfl rfl)
theorem dJ16_charAt_3 : decode cJ16_charAt 3 = .ok (.invokestatic 9, 3) := dk_184 0 9 (dk_at dksJ16_charAt_0 3 rfl rfl)
theorem dJ16_charAt_6 : decode cJ16_charAt 6 = .ok (.aload_n 0, 1) := dk_42 (dk_at dksJ16_charAt_0 6 rfl rfl)
theorem dJ16_charAt_7 : decode cJ16_charAt 7 = .ok (.iload_n 1, 1) := dk_27 (dk_at dksJ16_charAt_0 7 rfl rfl)
theorem dJ16_charAt_8 : decode cJ16_charAt 8 = .ok (.baload, 1) := dk_51 (dk_at dksJ16_charAt_0 8 rfl rfl)
theorem dJ16_charAt_9 : decode cJ16_charAt 9 = .ok (.sipush 255, 3) := dk_17 0 255 (dk_at dksJ16_charAt_0 9 rfl rfl)
theorem dJ16_charAt_12 : decode cJ16_charAt 12 = .ok (.iand, 1) := dk_126 (dk_at dksJ16_charAt_0 12 rfl rfl)
theorem dJ16_charAt_13 : decode cJ16_charAt 13 = .ok (.i2c, 1) := dk_146 (dk_at dksJ16_charAt_0 13 rfl rfl)
theorem dJ16_charAt_14 : decode cJ16_charAt 14 = .ok (.ireturn, 1) := dk_172 (dk_at dksJ16_charAt_0 14 rfl rfl)
abbrev cJ16_hashCode : ByteArray := prog_42_method_21_code
def yJ16_hashCode : MethodName := ⟨RJ16, "hashCode", "([B)I"⟩
def dkwJ16_hashCode_2 : List UInt8 := [3, 167, 0, 22, 42, 3, 51, 17, 0, 255, 126, 167, 0, 12, 42, 3, 42, 190, 3, 7, 184, 0, 84, 172]
abbrev dktJ16_hashCode_2 : List UInt8 := dkwJ16_hashCode_2 ++ []
def dkwJ16_hashCode_1 : List UInt8 := [171, 0, 0, 0, 0, 40, 0, 0, 0, 2, 0, 0, 0, 0, 0, 0, 0, 26, 0, 0, 0, 1, 0, 0, 0, 30]
abbrev dktJ16_hashCode_1 : List UInt8 := dkwJ16_hashCode_1 ++ dktJ16_hashCode_2
def dkwJ16_hashCode_0 : List UInt8 := [42, 190]
abbrev dktJ16_hashCode_0 : List UInt8 := dkwJ16_hashCode_0 ++ dktJ16_hashCode_1
theorem dksJ16_hashCode_0 : cJ16_hashCode.data.toList.drop 0 = dktJ16_hashCode_0 := by decide +kernel
theorem dksJ16_hashCode_1 : cJ16_hashCode.data.toList.drop 2 = dktJ16_hashCode_1 := dk_seg dksJ16_hashCode_0 2 rfl rfl
theorem dksJ16_hashCode_2 : cJ16_hashCode.data.toList.drop 28 = dktJ16_hashCode_2 := dk_seg dksJ16_hashCode_1 26 rfl rfl
theorem dJ16_hashCode_0 : decode cJ16_hashCode 0 = .ok (.aload_n 0, 1) := dk_42 (dk_at dksJ16_hashCode_0 0 rfl rfl)
theorem dJ16_hashCode_1 : decode cJ16_hashCode 1 = .ok (.arraylength, 1) := dk_190 (dk_at dksJ16_hashCode_0 1 rfl rfl)
theorem dJ16_hashCode_2 : decode cJ16_hashCode 2 = .ok (.lookupswitch 40 #[(0, 26), (1, 30)], 26) := by decide +kernel
theorem dJ16_hashCode_28 : decode cJ16_hashCode 28 = .ok (.iconst 0, 1) := dk_3 (dk_at dksJ16_hashCode_2 0 rfl rfl)
theorem dJ16_hashCode_29 : decode cJ16_hashCode 29 = .ok (.goto 22, 3) := dk_167 0 22 (dk_at dksJ16_hashCode_2 1 rfl rfl)
theorem dJ16_hashCode_32 : decode cJ16_hashCode 32 = .ok (.aload_n 0, 1) := dk_42 (dk_at dksJ16_hashCode_2 4 rfl rfl)
theorem dJ16_hashCode_33 : decode cJ16_hashCode 33 = .ok (.iconst 0, 1) := dk_3 (dk_at dksJ16_hashCode_2 5 rfl rfl)
theorem dJ16_hashCode_34 : decode cJ16_hashCode 34 = .ok (.baload, 1) := dk_51 (dk_at dksJ16_hashCode_2 6 rfl rfl)
theorem dJ16_hashCode_35 : decode cJ16_hashCode 35 = .ok (.sipush 255, 3) := dk_17 0 255 (dk_at dksJ16_hashCode_2 7 rfl rfl)
theorem dJ16_hashCode_38 : decode cJ16_hashCode 38 = .ok (.iand, 1) := dk_126 (dk_at dksJ16_hashCode_2 10 rfl rfl)
theorem dJ16_hashCode_39 : decode cJ16_hashCode 39 = .ok (.goto 12, 3) := dk_167 0 12 (dk_at dksJ16_hashCode_2 11 rfl rfl)
theorem dJ16_hashCode_42 : decode cJ16_hashCode 42 = .ok (.aload_n 0, 1) := dk_42 (dk_at dksJ16_hashCode_2 14 rfl rfl)
theorem dJ16_hashCode_43 : decode cJ16_hashCode 43 = .ok (.iconst 0, 1) := dk_3 (dk_at dksJ16_hashCode_2 15 rfl rfl)
theorem dJ16_hashCode_44 : decode cJ16_hashCode 44 = .ok (.aload_n 0, 1) := dk_42 (dk_at dksJ16_hashCode_2 16 rfl rfl)
theorem dJ16_hashCode_45 : decode cJ16_hashCode 45 = .ok (.arraylength, 1) := dk_190 (dk_at dksJ16_hashCode_2 17 rfl rfl)
theorem dJ16_hashCode_46 : decode cJ16_hashCode 46 = .ok (.iconst 0, 1) := dk_3 (dk_at dksJ16_hashCode_2 18 rfl rfl)
theorem dJ16_hashCode_47 : decode cJ16_hashCode 47 = .ok (.iconst 4, 1) := dk_7 (dk_at dksJ16_hashCode_2 19 rfl rfl)
theorem dJ16_hashCode_48 : decode cJ16_hashCode 48 = .ok (.invokestatic 84, 3) := dk_184 0 84 (dk_at dksJ16_hashCode_2 20 rfl rfl)
theorem dJ16_hashCode_51 : decode cJ16_hashCode 51 = .ok (.ireturn, 1) := dk_172 (dk_at dksJ16_hashCode_2 23 rfl rfl)
abbrev cJ16_compareTo : ByteArray := prog_42_method_14_code
def yJ16_compareTo : MethodName := ⟨RJ16, "compareTo", "([B[B)I"⟩
def dkwJ16_compareTo_0 : List UInt8 := [42, 190, 61, 43, 190, 62, 42, 43, 28, 29, 184, 0, 34, 172]
abbrev dktJ16_compareTo_0 : List UInt8 := dkwJ16_compareTo_0 ++ []
theorem dksJ16_compareTo_0 : cJ16_compareTo.data.toList.drop 0 = dktJ16_compareTo_0 := by decide +kernel
theorem dJ16_compareTo_0 : decode cJ16_compareTo 0 = .ok (.aload_n 0, 1) := dk_42 (dk_at dksJ16_compareTo_0 0 rfl rfl)
theorem dJ16_compareTo_1 : decode cJ16_compareTo 1 = .ok (.arraylength, 1) := dk_190 (dk_at dksJ16_compareTo_0 1 rfl rfl)
theorem dJ16_compareTo_2 : decode cJ16_compareTo 2 = .ok (.istore_n 2, 1) := dk_61 (dk_at dksJ16_compareTo_0 2 rfl rfl)
theorem dJ16_compareTo_3 : decode cJ16_compareTo 3 = .ok (.aload_n 1, 1) := dk_43 (dk_at dksJ16_compareTo_0 3 rfl rfl)
theorem dJ16_compareTo_4 : decode cJ16_compareTo 4 = .ok (.arraylength, 1) := dk_190 (dk_at dksJ16_compareTo_0 4 rfl rfl)
theorem dJ16_compareTo_5 : decode cJ16_compareTo 5 = .ok (.istore_n 3, 1) := dk_62 (dk_at dksJ16_compareTo_0 5 rfl rfl)
theorem dJ16_compareTo_6 : decode cJ16_compareTo 6 = .ok (.aload_n 0, 1) := dk_42 (dk_at dksJ16_compareTo_0 6 rfl rfl)
theorem dJ16_compareTo_7 : decode cJ16_compareTo 7 = .ok (.aload_n 1, 1) := dk_43 (dk_at dksJ16_compareTo_0 7 rfl rfl)
theorem dJ16_compareTo_8 : decode cJ16_compareTo 8 = .ok (.iload_n 2, 1) := dk_28 (dk_at dksJ16_compareTo_0 8 rfl rfl)
theorem dJ16_compareTo_9 : decode cJ16_compareTo 9 = .ok (.iload_n 3, 1) := dk_29 (dk_at dksJ16_compareTo_0 9 rfl rfl)
theorem dJ16_compareTo_10 : decode cJ16_compareTo 10 = .ok (.invokestatic 34, 3) := dk_184 0 34 (dk_at dksJ16_compareTo_0 10 rfl rfl)
theorem dJ16_compareTo_13 : decode cJ16_compareTo 13 = .ok (.ireturn, 1) := dk_172 (dk_at dksJ16_compareTo_0 13 rfl rfl)
abbrev cJ16_compareTo_2 : ByteArray := prog_42_method_15_code
def yJ16_compareTo_2 : MethodName := ⟨RJ16, "compareTo", "([B[BII)I"⟩
def dkwJ16_compareTo_2_1 : List UInt8 := [167, 0, 16, 42, 21, 5, 184, 0, 50, 43, 21, 5, 184, 0, 50, 100, 172]
abbrev dktJ16_compareTo_2_1 : List UInt8 := dkwJ16_compareTo_2_1 ++ []
def dkwJ16_compareTo_2_0 : List UInt8 := [28, 29, 184, 0, 38, 54, 4, 42, 43, 21, 4, 184, 0, 44, 54, 5, 21, 5, 156, 0, 9, 28, 29, 100]
abbrev dktJ16_compareTo_2_0 : List UInt8 := dkwJ16_compareTo_2_0 ++ dktJ16_compareTo_2_1
theorem dksJ16_compareTo_2_0 : cJ16_compareTo_2.data.toList.drop 0 = dktJ16_compareTo_2_0 := by decide +kernel
theorem dksJ16_compareTo_2_1 : cJ16_compareTo_2.data.toList.drop 24 = dktJ16_compareTo_2_1 := dk_seg dksJ16_compareTo_2_0 24 rfl rfl
theorem dJ16_compareTo_2_0 : decode cJ16_compareTo_2 0 = .ok (.iload_n 2, 1) := dk_28 (dk_at dksJ16_compareTo_2_0 0 rfl rfl)
theorem dJ16_compareTo_2_1 : decode cJ16_compareTo_2 1 = .ok (.iload_n 3, 1) := dk_29 (dk_at dksJ16_compareTo_2_0 1 rfl rfl)
theorem dJ16_compareTo_2_2 : decode cJ16_compareTo_2 2 = .ok (.invokestatic 38, 3) := dk_184 0 38 (dk_at dksJ16_compareTo_2_0 2 rfl rfl)
theorem dJ16_compareTo_2_5 : decode cJ16_compareTo_2 5 = .ok (.istore 4, 2) := dk_54 4 (dk_at dksJ16_compareTo_2_0 5 rfl rfl)
theorem dJ16_compareTo_2_7 : decode cJ16_compareTo_2 7 = .ok (.aload_n 0, 1) := dk_42 (dk_at dksJ16_compareTo_2_0 7 rfl rfl)
theorem dJ16_compareTo_2_8 : decode cJ16_compareTo_2 8 = .ok (.aload_n 1, 1) := dk_43 (dk_at dksJ16_compareTo_2_0 8 rfl rfl)
theorem dJ16_compareTo_2_9 : decode cJ16_compareTo_2 9 = .ok (.iload 4, 2) := dk_21 4 (dk_at dksJ16_compareTo_2_0 9 rfl rfl)
theorem dJ16_compareTo_2_11 : decode cJ16_compareTo_2 11 = .ok (.invokestatic 44, 3) := dk_184 0 44 (dk_at dksJ16_compareTo_2_0 11 rfl rfl)
theorem dJ16_compareTo_2_14 : decode cJ16_compareTo_2 14 = .ok (.istore 5, 2) := dk_54 5 (dk_at dksJ16_compareTo_2_0 14 rfl rfl)
theorem dJ16_compareTo_2_16 : decode cJ16_compareTo_2 16 = .ok (.iload 5, 2) := dk_21 5 (dk_at dksJ16_compareTo_2_0 16 rfl rfl)
theorem dJ16_compareTo_2_18 : decode cJ16_compareTo_2 18 = .ok (.ifCond .ge 9, 3) := dk_156 0 9 (dk_at dksJ16_compareTo_2_0 18 rfl rfl)
theorem dJ16_compareTo_2_21 : decode cJ16_compareTo_2 21 = .ok (.iload_n 2, 1) := dk_28 (dk_at dksJ16_compareTo_2_0 21 rfl rfl)
theorem dJ16_compareTo_2_22 : decode cJ16_compareTo_2 22 = .ok (.iload_n 3, 1) := dk_29 (dk_at dksJ16_compareTo_2_0 22 rfl rfl)
theorem dJ16_compareTo_2_23 : decode cJ16_compareTo_2 23 = .ok (.isub, 1) := dk_100 (dk_at dksJ16_compareTo_2_0 23 rfl rfl)
theorem dJ16_compareTo_2_24 : decode cJ16_compareTo_2 24 = .ok (.goto 16, 3) := dk_167 0 16 (dk_at dksJ16_compareTo_2_1 0 rfl rfl)
theorem dJ16_compareTo_2_27 : decode cJ16_compareTo_2 27 = .ok (.aload_n 0, 1) := dk_42 (dk_at dksJ16_compareTo_2_1 3 rfl rfl)
theorem dJ16_compareTo_2_28 : decode cJ16_compareTo_2 28 = .ok (.iload 5, 2) := dk_21 5 (dk_at dksJ16_compareTo_2_1 4 rfl rfl)
theorem dJ16_compareTo_2_30 : decode cJ16_compareTo_2 30 = .ok (.invokestatic 50, 3) := dk_184 0 50 (dk_at dksJ16_compareTo_2_1 6 rfl rfl)
theorem dJ16_compareTo_2_33 : decode cJ16_compareTo_2 33 = .ok (.aload_n 1, 1) := dk_43 (dk_at dksJ16_compareTo_2_1 9 rfl rfl)
theorem dJ16_compareTo_2_34 : decode cJ16_compareTo_2 34 = .ok (.iload 5, 2) := dk_21 5 (dk_at dksJ16_compareTo_2_1 10 rfl rfl)
theorem dJ16_compareTo_2_36 : decode cJ16_compareTo_2 36 = .ok (.invokestatic 50, 3) := dk_184 0 50 (dk_at dksJ16_compareTo_2_1 12 rfl rfl)
theorem dJ16_compareTo_2_39 : decode cJ16_compareTo_2 39 = .ok (.isub, 1) := dk_100 (dk_at dksJ16_compareTo_2_1 15 rfl rfl)
theorem dJ16_compareTo_2_40 : decode cJ16_compareTo_2 40 = .ok (.ireturn, 1) := dk_172 (dk_at dksJ16_compareTo_2_1 16 rfl rfl)
abbrev cJ16_getChar : ByteArray := prog_42_method_44_code
def yJ16_getChar : MethodName := ⟨RJ16, "getChar", "([BI)C"⟩
def dkwJ16_getChar_0 : List UInt8 := [42, 27, 51, 17, 0, 255, 126, 146, 172]
abbrev dktJ16_getChar_0 : List UInt8 := dkwJ16_getChar_0 ++ []
theorem dksJ16_getChar_0 : cJ16_getChar.data.toList.drop 0 = dktJ16_getChar_0 := by decide +kernel
theorem dJ16_getChar_0 : decode cJ16_getChar 0 = .ok (.aload_n 0, 1) := dk_42 (dk_at dksJ16_getChar_0 0 rfl rfl)
theorem dJ16_getChar_1 : decode cJ16_getChar 1 = .ok (.iload_n 1, 1) := dk_27 (dk_at dksJ16_getChar_0 1 rfl rfl)
theorem dJ16_getChar_2 : decode cJ16_getChar 2 = .ok (.baload, 1) := dk_51 (dk_at dksJ16_getChar_0 2 rfl rfl)
theorem dJ16_getChar_3 : decode cJ16_getChar 3 = .ok (.sipush 255, 3) := dk_17 0 255 (dk_at dksJ16_getChar_0 3 rfl rfl)
theorem dJ16_getChar_6 : decode cJ16_getChar 6 = .ok (.iand, 1) := dk_126 (dk_at dksJ16_getChar_0 6 rfl rfl)
theorem dJ16_getChar_7 : decode cJ16_getChar 7 = .ok (.i2c, 1) := dk_146 (dk_at dksJ16_getChar_0 7 rfl rfl)
theorem dJ16_getChar_8 : decode cJ16_getChar 8 = .ok (.ireturn, 1) := dk_172 (dk_at dksJ16_getChar_0 8 rfl rfl)
abbrev cJ16_compareToUTF16 : ByteArray := prog_42_method_16_code
def yJ16_compareToUTF16 : MethodName := ⟨RJ16, "compareToUTF16", "([B[B)I"⟩
def dkwJ16_compareToUTF16_0 : List UInt8 := [42, 184, 0, 54, 61, 43, 184, 0, 58, 62, 42, 43, 28, 29, 184, 0, 59, 172]
abbrev dktJ16_compareToUTF16_0 : List UInt8 := dkwJ16_compareToUTF16_0 ++ []
theorem dksJ16_compareToUTF16_0 : cJ16_compareToUTF16.data.toList.drop 0 = dktJ16_compareToUTF16_0 := by decide +kernel
theorem dJ16_compareToUTF16_0 : decode cJ16_compareToUTF16 0 = .ok (.aload_n 0, 1) := dk_42 (dk_at dksJ16_compareToUTF16_0 0 rfl rfl)
theorem dJ16_compareToUTF16_1 : decode cJ16_compareToUTF16 1 = .ok (.invokestatic 54, 3) := dk_184 0 54 (dk_at dksJ16_compareToUTF16_0 1 rfl rfl)
theorem dJ16_compareToUTF16_4 : decode cJ16_compareToUTF16 4 = .ok (.istore_n 2, 1) := dk_61 (dk_at dksJ16_compareToUTF16_0 4 rfl rfl)
theorem dJ16_compareToUTF16_5 : decode cJ16_compareToUTF16 5 = .ok (.aload_n 1, 1) := dk_43 (dk_at dksJ16_compareToUTF16_0 5 rfl rfl)
theorem dJ16_compareToUTF16_6 : decode cJ16_compareToUTF16 6 = .ok (.invokestatic 58, 3) := dk_184 0 58 (dk_at dksJ16_compareToUTF16_0 6 rfl rfl)
theorem dJ16_compareToUTF16_9 : decode cJ16_compareToUTF16 9 = .ok (.istore_n 3, 1) := dk_62 (dk_at dksJ16_compareToUTF16_0 9 rfl rfl)
theorem dJ16_compareToUTF16_10 : decode cJ16_compareToUTF16 10 = .ok (.aload_n 0, 1) := dk_42 (dk_at dksJ16_compareToUTF16_0 10 rfl rfl)
theorem dJ16_compareToUTF16_11 : decode cJ16_compareToUTF16 11 = .ok (.aload_n 1, 1) := dk_43 (dk_at dksJ16_compareToUTF16_0 11 rfl rfl)
theorem dJ16_compareToUTF16_12 : decode cJ16_compareToUTF16 12 = .ok (.iload_n 2, 1) := dk_28 (dk_at dksJ16_compareToUTF16_0 12 rfl rfl)
theorem dJ16_compareToUTF16_13 : decode cJ16_compareToUTF16 13 = .ok (.iload_n 3, 1) := dk_29 (dk_at dksJ16_compareToUTF16_0 13 rfl rfl)
theorem dJ16_compareToUTF16_14 : decode cJ16_compareToUTF16 14 = .ok (.invokestatic 59, 3) := dk_184 0 59 (dk_at dksJ16_compareToUTF16_0 14 rfl rfl)
theorem dJ16_compareToUTF16_17 : decode cJ16_compareToUTF16 17 = .ok (.ireturn, 1) := dk_172 (dk_at dksJ16_compareToUTF16_0 17 rfl rfl)
abbrev cJ16_length : ByteArray := prog_42_method_5_code
def yJ16_length : MethodName := ⟨RJ16, "length", "([B)I"⟩
theorem dJ16_length_0 : decode cJ16_length 0 = .ok (.aload_n 0, 1) := by decide +kernel
theorem dJ16_length_1 : decode cJ16_length 1 = .ok (.arraylength, 1) := by decide +kernel
theorem dJ16_length_2 : decode cJ16_length 2 = .ok (.ireturn, 1) := by decide +kernel
abbrev cJ16_compareToUTF16Values : ByteArray := prog_42_method_18_code
def yJ16_compareToUTF16Values : MethodName := ⟨RJ16, "compareToUTF16Values", "([B[BII)I"⟩
def dkwJ16_compareToUTF16Values_2 : List UInt8 := [132, 5, 1, 167, 255, 217, 28, 29, 100, 172]
abbrev dktJ16_compareToUTF16Values_2 : List UInt8 := dkwJ16_compareToUTF16Values_2 ++ []
def dkwJ16_compareToUTF16Values_1 : List UInt8 := [54, 6, 43, 21, 5, 184, 0, 65, 54, 7, 21, 6, 21, 7, 159, 0, 9, 21, 6, 21, 7, 100, 172]
abbrev dktJ16_compareToUTF16Values_1 : List UInt8 := dkwJ16_compareToUTF16Values_1 ++ dktJ16_compareToUTF16Values_2
def dkwJ16_compareToUTF16Values_0 : List UInt8 := [28, 29, 184, 0, 38, 54, 4, 3, 54, 5, 21, 5, 21, 4, 162, 0, 38, 42, 21, 5, 184, 0, 50]
abbrev dktJ16_compareToUTF16Values_0 : List UInt8 := dkwJ16_compareToUTF16Values_0 ++ dktJ16_compareToUTF16Values_1
theorem dksJ16_compareToUTF16Values_0 : cJ16_compareToUTF16Values.data.toList.drop 0 = dktJ16_compareToUTF16Values_0 := by decide +kernel
theorem dksJ16_compareToUTF16Values_1 : cJ16_compareToUTF16Values.data.toList.drop 23 = dktJ16_compareToUTF16Values_1 := dk_seg dksJ16_compareToUTF16Values_0 23 rfl rfl
theorem dksJ16_compareToUTF16Values_2 : cJ16_compareToUTF16Values.data.toList.drop 46 = dktJ16_compareToUTF16Values_2 := dk_seg dksJ16_compareToUTF16Values_1 23 rfl rfl
theorem dJ16_compareToUTF16Values_0 : decode cJ16_compareToUTF16Values 0 = .ok (.iload_n 2, 1) := dk_28 (dk_at dksJ16_compareToUTF16Values_0 0 rfl rfl)
theorem dJ16_compareToUTF16Values_1 : decode cJ16_compareToUTF16Values 1 = .ok (.iload_n 3, 1) := dk_29 (dk_at dksJ16_compareToUTF16Values_0 1 rfl rfl)
theorem dJ16_compareToUTF16Values_2 : decode cJ16_compareToUTF16Values 2 = .ok (.invokestatic 38, 3) := dk_184 0 38 (dk_at dksJ16_compareToUTF16Values_0 2 rfl rfl)
theorem dJ16_compareToUTF16Values_5 : decode cJ16_compareToUTF16Values 5 = .ok (.istore 4, 2) := dk_54 4 (dk_at dksJ16_compareToUTF16Values_0 5 rfl rfl)
theorem dJ16_compareToUTF16Values_7 : decode cJ16_compareToUTF16Values 7 = .ok (.iconst 0, 1) := dk_3 (dk_at dksJ16_compareToUTF16Values_0 7 rfl rfl)
theorem dJ16_compareToUTF16Values_8 : decode cJ16_compareToUTF16Values 8 = .ok (.istore 5, 2) := dk_54 5 (dk_at dksJ16_compareToUTF16Values_0 8 rfl rfl)
theorem dJ16_compareToUTF16Values_10 : decode cJ16_compareToUTF16Values 10 = .ok (.iload 5, 2) := dk_21 5 (dk_at dksJ16_compareToUTF16Values_0 10 rfl rfl)
theorem dJ16_compareToUTF16Values_12 : decode cJ16_compareToUTF16Values 12 = .ok (.iload 4, 2) := dk_21 4 (dk_at dksJ16_compareToUTF16Values_0 12 rfl rfl)
theorem dJ16_compareToUTF16Values_14 : decode cJ16_compareToUTF16Values 14 = .ok (.if_icmp .ge 38, 3) := dk_162 0 38 (dk_at dksJ16_compareToUTF16Values_0 14 rfl rfl)
theorem dJ16_compareToUTF16Values_17 : decode cJ16_compareToUTF16Values 17 = .ok (.aload_n 0, 1) := dk_42 (dk_at dksJ16_compareToUTF16Values_0 17 rfl rfl)
theorem dJ16_compareToUTF16Values_18 : decode cJ16_compareToUTF16Values 18 = .ok (.iload 5, 2) := dk_21 5 (dk_at dksJ16_compareToUTF16Values_0 18 rfl rfl)
theorem dJ16_compareToUTF16Values_20 : decode cJ16_compareToUTF16Values 20 = .ok (.invokestatic 50, 3) := dk_184 0 50 (dk_at dksJ16_compareToUTF16Values_0 20 rfl rfl)
theorem dJ16_compareToUTF16Values_23 : decode cJ16_compareToUTF16Values 23 = .ok (.istore 6, 2) := dk_54 6 (dk_at dksJ16_compareToUTF16Values_1 0 rfl rfl)
theorem dJ16_compareToUTF16Values_25 : decode cJ16_compareToUTF16Values 25 = .ok (.aload_n 1, 1) := dk_43 (dk_at dksJ16_compareToUTF16Values_1 2 rfl rfl)
theorem dJ16_compareToUTF16Values_26 : decode cJ16_compareToUTF16Values 26 = .ok (.iload 5, 2) := dk_21 5 (dk_at dksJ16_compareToUTF16Values_1 3 rfl rfl)
theorem dJ16_compareToUTF16Values_28 : decode cJ16_compareToUTF16Values 28 = .ok (.invokestatic 65, 3) := dk_184 0 65 (dk_at dksJ16_compareToUTF16Values_1 5 rfl rfl)
theorem dJ16_compareToUTF16Values_31 : decode cJ16_compareToUTF16Values 31 = .ok (.istore 7, 2) := dk_54 7 (dk_at dksJ16_compareToUTF16Values_1 8 rfl rfl)
theorem dJ16_compareToUTF16Values_33 : decode cJ16_compareToUTF16Values 33 = .ok (.iload 6, 2) := dk_21 6 (dk_at dksJ16_compareToUTF16Values_1 10 rfl rfl)
theorem dJ16_compareToUTF16Values_35 : decode cJ16_compareToUTF16Values 35 = .ok (.iload 7, 2) := dk_21 7 (dk_at dksJ16_compareToUTF16Values_1 12 rfl rfl)
theorem dJ16_compareToUTF16Values_37 : decode cJ16_compareToUTF16Values 37 = .ok (.if_icmp .eq 9, 3) := dk_159 0 9 (dk_at dksJ16_compareToUTF16Values_1 14 rfl rfl)
theorem dJ16_compareToUTF16Values_40 : decode cJ16_compareToUTF16Values 40 = .ok (.iload 6, 2) := dk_21 6 (dk_at dksJ16_compareToUTF16Values_1 17 rfl rfl)
theorem dJ16_compareToUTF16Values_42 : decode cJ16_compareToUTF16Values 42 = .ok (.iload 7, 2) := dk_21 7 (dk_at dksJ16_compareToUTF16Values_1 19 rfl rfl)
theorem dJ16_compareToUTF16Values_44 : decode cJ16_compareToUTF16Values 44 = .ok (.isub, 1) := dk_100 (dk_at dksJ16_compareToUTF16Values_1 21 rfl rfl)
theorem dJ16_compareToUTF16Values_45 : decode cJ16_compareToUTF16Values 45 = .ok (.ireturn, 1) := dk_172 (dk_at dksJ16_compareToUTF16Values_1 22 rfl rfl)
theorem dJ16_compareToUTF16Values_46 : decode cJ16_compareToUTF16Values 46 = .ok (.iinc 5 1, 3) := dk_132 5 1 (dk_at dksJ16_compareToUTF16Values_2 0 rfl rfl)
theorem dJ16_compareToUTF16Values_49 : decode cJ16_compareToUTF16Values 49 = .ok (.goto (-39), 3) := dk_167 255 217 (dk_at dksJ16_compareToUTF16Values_2 3 rfl rfl)
theorem dJ16_compareToUTF16Values_52 : decode cJ16_compareToUTF16Values 52 = .ok (.iload_n 2, 1) := dk_28 (dk_at dksJ16_compareToUTF16Values_2 6 rfl rfl)
theorem dJ16_compareToUTF16Values_53 : decode cJ16_compareToUTF16Values 53 = .ok (.iload_n 3, 1) := dk_29 (dk_at dksJ16_compareToUTF16Values_2 7 rfl rfl)
theorem dJ16_compareToUTF16Values_54 : decode cJ16_compareToUTF16Values 54 = .ok (.isub, 1) := dk_100 (dk_at dksJ16_compareToUTF16Values_2 8 rfl rfl)
theorem dJ16_compareToUTF16Values_55 : decode cJ16_compareToUTF16Values 55 = .ok (.ireturn, 1) := dk_172 (dk_at dksJ16_compareToUTF16Values_2 9 rfl rfl)
abbrev cJ16_compareToUTF16_2 : ByteArray := prog_42_method_17_code
def yJ16_compareToUTF16_2 : MethodName := ⟨RJ16, "compareToUTF16", "([B[BII)I"⟩
def dkwJ16_compareToUTF16_2_0 : List UInt8 := [28, 42, 184, 0, 54, 184, 0, 62, 29, 43, 184, 0, 58, 184, 0, 62, 42, 43, 28, 29, 184, 0, 59, 172]
abbrev dktJ16_compareToUTF16_2_0 : List UInt8 := dkwJ16_compareToUTF16_2_0 ++ []
theorem dksJ16_compareToUTF16_2_0 : cJ16_compareToUTF16_2.data.toList.drop 0 = dktJ16_compareToUTF16_2_0 := by decide +kernel
theorem dJ16_compareToUTF16_2_0 : decode cJ16_compareToUTF16_2 0 = .ok (.iload_n 2, 1) := dk_28 (dk_at dksJ16_compareToUTF16_2_0 0 rfl rfl)
theorem dJ16_compareToUTF16_2_1 : decode cJ16_compareToUTF16_2 1 = .ok (.aload_n 0, 1) := dk_42 (dk_at dksJ16_compareToUTF16_2_0 1 rfl rfl)
theorem dJ16_compareToUTF16_2_2 : decode cJ16_compareToUTF16_2 2 = .ok (.invokestatic 54, 3) := dk_184 0 54 (dk_at dksJ16_compareToUTF16_2_0 2 rfl rfl)
theorem dJ16_compareToUTF16_2_5 : decode cJ16_compareToUTF16_2 5 = .ok (.invokestatic 62, 3) := dk_184 0 62 (dk_at dksJ16_compareToUTF16_2_0 5 rfl rfl)
theorem dJ16_compareToUTF16_2_8 : decode cJ16_compareToUTF16_2 8 = .ok (.iload_n 3, 1) := dk_29 (dk_at dksJ16_compareToUTF16_2_0 8 rfl rfl)
theorem dJ16_compareToUTF16_2_9 : decode cJ16_compareToUTF16_2 9 = .ok (.aload_n 1, 1) := dk_43 (dk_at dksJ16_compareToUTF16_2_0 9 rfl rfl)
theorem dJ16_compareToUTF16_2_10 : decode cJ16_compareToUTF16_2 10 = .ok (.invokestatic 58, 3) := dk_184 0 58 (dk_at dksJ16_compareToUTF16_2_0 10 rfl rfl)
theorem dJ16_compareToUTF16_2_13 : decode cJ16_compareToUTF16_2 13 = .ok (.invokestatic 62, 3) := dk_184 0 62 (dk_at dksJ16_compareToUTF16_2_0 13 rfl rfl)
theorem dJ16_compareToUTF16_2_16 : decode cJ16_compareToUTF16_2 16 = .ok (.aload_n 0, 1) := dk_42 (dk_at dksJ16_compareToUTF16_2_0 16 rfl rfl)
theorem dJ16_compareToUTF16_2_17 : decode cJ16_compareToUTF16_2 17 = .ok (.aload_n 1, 1) := dk_43 (dk_at dksJ16_compareToUTF16_2_0 17 rfl rfl)
theorem dJ16_compareToUTF16_2_18 : decode cJ16_compareToUTF16_2 18 = .ok (.iload_n 2, 1) := dk_28 (dk_at dksJ16_compareToUTF16_2_0 18 rfl rfl)
theorem dJ16_compareToUTF16_2_19 : decode cJ16_compareToUTF16_2 19 = .ok (.iload_n 3, 1) := dk_29 (dk_at dksJ16_compareToUTF16_2_0 19 rfl rfl)
theorem dJ16_compareToUTF16_2_20 : decode cJ16_compareToUTF16_2 20 = .ok (.invokestatic 59, 3) := dk_184 0 59 (dk_at dksJ16_compareToUTF16_2_0 20 rfl rfl)
theorem dJ16_compareToUTF16_2_23 : decode cJ16_compareToUTF16_2 23 = .ok (.ireturn, 1) := dk_172 (dk_at dksJ16_compareToUTF16_2_0 23 rfl rfl)
abbrev cJ16_equals : ByteArray := prog_42_method_13_code
def yJ16_equals : MethodName := ⟨RJ16, "equals", "([B[B)Z"⟩
def dkwJ16_equals_1 : List UInt8 := [3, 172, 132, 2, 1, 167, 255, 236, 4, 172, 3, 172]
abbrev dktJ16_equals_1 : List UInt8 := dkwJ16_equals_1 ++ []
def dkwJ16_equals_0 : List UInt8 := [42, 190, 43, 190, 160, 0, 30, 3, 61, 28, 42, 190, 162, 0, 20, 42, 28, 51, 43, 28, 51, 159, 0, 5]
abbrev dktJ16_equals_0 : List UInt8 := dkwJ16_equals_0 ++ dktJ16_equals_1
theorem dksJ16_equals_0 : cJ16_equals.data.toList.drop 0 = dktJ16_equals_0 := by decide +kernel
theorem dksJ16_equals_1 : cJ16_equals.data.toList.drop 24 = dktJ16_equals_1 := dk_seg dksJ16_equals_0 24 rfl rfl
theorem dJ16_equals_0 : decode cJ16_equals 0 = .ok (.aload_n 0, 1) := dk_42 (dk_at dksJ16_equals_0 0 rfl rfl)
theorem dJ16_equals_1 : decode cJ16_equals 1 = .ok (.arraylength, 1) := dk_190 (dk_at dksJ16_equals_0 1 rfl rfl)
theorem dJ16_equals_2 : decode cJ16_equals 2 = .ok (.aload_n 1, 1) := dk_43 (dk_at dksJ16_equals_0 2 rfl rfl)
theorem dJ16_equals_3 : decode cJ16_equals 3 = .ok (.arraylength, 1) := dk_190 (dk_at dksJ16_equals_0 3 rfl rfl)
theorem dJ16_equals_4 : decode cJ16_equals 4 = .ok (.if_icmp .ne 30, 3) := dk_160 0 30 (dk_at dksJ16_equals_0 4 rfl rfl)
theorem dJ16_equals_7 : decode cJ16_equals 7 = .ok (.iconst 0, 1) := dk_3 (dk_at dksJ16_equals_0 7 rfl rfl)
theorem dJ16_equals_8 : decode cJ16_equals 8 = .ok (.istore_n 2, 1) := dk_61 (dk_at dksJ16_equals_0 8 rfl rfl)
theorem dJ16_equals_9 : decode cJ16_equals 9 = .ok (.iload_n 2, 1) := dk_28 (dk_at dksJ16_equals_0 9 rfl rfl)
theorem dJ16_equals_10 : decode cJ16_equals 10 = .ok (.aload_n 0, 1) := dk_42 (dk_at dksJ16_equals_0 10 rfl rfl)
theorem dJ16_equals_11 : decode cJ16_equals 11 = .ok (.arraylength, 1) := dk_190 (dk_at dksJ16_equals_0 11 rfl rfl)
theorem dJ16_equals_12 : decode cJ16_equals 12 = .ok (.if_icmp .ge 20, 3) := dk_162 0 20 (dk_at dksJ16_equals_0 12 rfl rfl)
theorem dJ16_equals_15 : decode cJ16_equals 15 = .ok (.aload_n 0, 1) := dk_42 (dk_at dksJ16_equals_0 15 rfl rfl)
theorem dJ16_equals_16 : decode cJ16_equals 16 = .ok (.iload_n 2, 1) := dk_28 (dk_at dksJ16_equals_0 16 rfl rfl)
theorem dJ16_equals_17 : decode cJ16_equals 17 = .ok (.baload, 1) := dk_51 (dk_at dksJ16_equals_0 17 rfl rfl)
theorem dJ16_equals_18 : decode cJ16_equals 18 = .ok (.aload_n 1, 1) := dk_43 (dk_at dksJ16_equals_0 18 rfl rfl)
theorem dJ16_equals_19 : decode cJ16_equals 19 = .ok (.iload_n 2, 1) := dk_28 (dk_at dksJ16_equals_0 19 rfl rfl)
theorem dJ16_equals_20 : decode cJ16_equals 20 = .ok (.baload, 1) := dk_51 (dk_at dksJ16_equals_0 20 rfl rfl)
theorem dJ16_equals_21 : decode cJ16_equals 21 = .ok (.if_icmp .eq 5, 3) := dk_159 0 5 (dk_at dksJ16_equals_0 21 rfl rfl)
theorem dJ16_equals_24 : decode cJ16_equals 24 = .ok (.iconst 0, 1) := dk_3 (dk_at dksJ16_equals_1 0 rfl rfl)
theorem dJ16_equals_25 : decode cJ16_equals 25 = .ok (.ireturn, 1) := dk_172 (dk_at dksJ16_equals_1 1 rfl rfl)
theorem dJ16_equals_26 : decode cJ16_equals 26 = .ok (.iinc 2 1, 3) := dk_132 2 1 (dk_at dksJ16_equals_1 2 rfl rfl)
theorem dJ16_equals_29 : decode cJ16_equals 29 = .ok (.goto (-20), 3) := dk_167 255 236 (dk_at dksJ16_equals_1 5 rfl rfl)
theorem dJ16_equals_32 : decode cJ16_equals 32 = .ok (.iconst 1, 1) := dk_4 (dk_at dksJ16_equals_1 8 rfl rfl)
theorem dJ16_equals_33 : decode cJ16_equals 33 = .ok (.ireturn, 1) := dk_172 (dk_at dksJ16_equals_1 9 rfl rfl)
theorem dJ16_equals_34 : decode cJ16_equals 34 = .ok (.iconst 0, 1) := dk_3 (dk_at dksJ16_equals_1 10 rfl rfl)
theorem dJ16_equals_35 : decode cJ16_equals 35 = .ok (.ireturn, 1) := dk_172 (dk_at dksJ16_equals_1 11 rfl rfl)
theorem q168 : (Jvm.Cond.initialized "java/lang/StringLatin1") ∈ lw_all := lw_g (lw_at lw_m1 20 rfl) rfl
theorem q438 : (Jvm.Cond.static ({ cls := "java/lang/StringLatin1", name := "inflate", desc := "([BI[BII)V" } : Jvm.MethodName)) ∈ lw_all := lw_g (lw_at lw_m2 50 rfl) rfl
theorem q439 : (Jvm.Cond.code ({ cls := "java/lang/StringLatin1", name := "inflate", desc := "([BI[BII)V" } : Jvm.MethodName) prog_42_method_50_code (5 : Nat) (Option.none : Option Jvm.ClassFile.FieldType)) ∈ lw_all := lw_g (lw_at lw_m2 51 rfl) rfl
theorem q440 : (Jvm.Cond.methodLink "java/lang/StringLatin1" (240 : Nat) ({ cls := "java/lang/StringUTF16", name := "inflate", desc := "([BI[BII)V" } : Jvm.MethodName)) ∈ lw_all := lw_g (lw_at lw_m2 52 rfl) rfl
theorem q815 : (Jvm.Cond.static ({ cls := "java/lang/StringLatin1", name := "canEncode", desc := "(C)Z" } : Jvm.MethodName)) ∈ lw_all := lw_g (lw_at lw_m3 187 rfl) rfl
theorem q816 : (Jvm.Cond.code ({ cls := "java/lang/StringLatin1", name := "canEncode", desc := "(C)Z" } : Jvm.MethodName) prog_42_method_3_code (1 : Nat) (Option.some Jvm.ClassFile.FieldType.boolean)) ∈ lw_all := lw_g (lw_at lw_m3 188 rfl) rfl
theorem q949 : (Jvm.Cond.static ({ cls := "java/lang/StringLatin1", name := "charAt", desc := "([BI)C" } : Jvm.MethodName)) ∈ lw_all := lw_g (lw_at lw_m4 81 rfl) rfl
theorem q950 : (Jvm.Cond.code ({ cls := "java/lang/StringLatin1", name := "charAt", desc := "([BI)C" } : Jvm.MethodName) prog_42_method_2_code (2 : Nat) (Option.some Jvm.ClassFile.FieldType.char)) ∈ lw_all := lw_g (lw_at lw_m4 82 rfl) rfl
theorem q951 : (Jvm.Cond.methodLink "java/lang/StringLatin1" (9 : Nat) ({ cls := "java/lang/String", name := "checkIndex", desc := "(II)V" } : Jvm.MethodName)) ∈ lw_all := lw_g (lw_at lw_m4 83 rfl) rfl
theorem q1337 : (Jvm.Cond.static ({ cls := "java/lang/StringLatin1", name := "hashCode", desc := "([B)I" } : Jvm.MethodName)) ∈ lw_all := lw_g (lw_at lw_m5 229 rfl) rfl
theorem q1338 : (Jvm.Cond.code ({ cls := "java/lang/StringLatin1", name := "hashCode", desc := "([B)I" } : Jvm.MethodName) prog_42_method_21_code (1 : Nat) (Option.some Jvm.ClassFile.FieldType.int)) ∈ lw_all := lw_g (lw_at lw_m5 230 rfl) rfl
theorem q1339 : (Jvm.Cond.methodLink "java/lang/StringLatin1" (84 : Nat) ({ cls := "jdk/internal/util/ArraysSupport", name := "vectorizedHashCode", desc := "(Ljava/lang/Object;IIII)I" } : Jvm.MethodName)) ∈ lw_all := lw_g (lw_at lw_m5 231 rfl) rfl
theorem q1540 : (Jvm.Cond.static ({ cls := "java/lang/StringLatin1", name := "compareTo", desc := "([B[B)I" } : Jvm.MethodName)) ∈ lw_all := lw_g (lw_at lw_m6 192 rfl) rfl
theorem q1541 : (Jvm.Cond.code ({ cls := "java/lang/StringLatin1", name := "compareTo", desc := "([B[B)I" } : Jvm.MethodName) prog_42_method_14_code (4 : Nat) (Option.some Jvm.ClassFile.FieldType.int)) ∈ lw_all := lw_g (lw_at lw_m6 193 rfl) rfl
theorem q1542 : (Jvm.Cond.methodLink "java/lang/StringLatin1" (34 : Nat) ({ cls := "java/lang/StringLatin1", name := "compareTo", desc := "([B[BII)I" } : Jvm.MethodName)) ∈ lw_all := lw_g (lw_at lw_m6 194 rfl) rfl
theorem q1543 : (Jvm.Cond.static ({ cls := "java/lang/StringLatin1", name := "compareTo", desc := "([B[BII)I" } : Jvm.MethodName)) ∈ lw_all := lw_g (lw_at lw_m6 195 rfl) rfl
theorem q1544 : (Jvm.Cond.code ({ cls := "java/lang/StringLatin1", name := "compareTo", desc := "([B[BII)I" } : Jvm.MethodName) prog_42_method_15_code (6 : Nat) (Option.some Jvm.ClassFile.FieldType.int)) ∈ lw_all := lw_g (lw_at lw_m6 196 rfl) rfl
theorem q1545 : (Jvm.Cond.methodLink "java/lang/StringLatin1" (38 : Nat) ({ cls := "java/lang/Math", name := "min", desc := "(II)I" } : Jvm.MethodName)) ∈ lw_all := lw_g (lw_at lw_m6 197 rfl) rfl
theorem q1546 : (Jvm.Cond.methodLink "java/lang/StringLatin1" (44 : Nat) ({ cls := "jdk/internal/util/ArraysSupport", name := "mismatch", desc := "([B[BI)I" } : Jvm.MethodName)) ∈ lw_all := lw_g (lw_at lw_m6 198 rfl) rfl
theorem q1647 : (Jvm.Cond.methodLink "java/lang/StringLatin1" (50 : Nat) ({ cls := "java/lang/StringLatin1", name := "getChar", desc := "([BI)C" } : Jvm.MethodName)) ∈ lw_all := lw_g (lw_at lw_m7 59 rfl) rfl
theorem q1648 : (Jvm.Cond.static ({ cls := "java/lang/StringLatin1", name := "getChar", desc := "([BI)C" } : Jvm.MethodName)) ∈ lw_all := lw_g (lw_at lw_m7 60 rfl) rfl
theorem q1649 : (Jvm.Cond.code ({ cls := "java/lang/StringLatin1", name := "getChar", desc := "([BI)C" } : Jvm.MethodName) prog_42_method_44_code (2 : Nat) (Option.some Jvm.ClassFile.FieldType.char)) ∈ lw_all := lw_g (lw_at lw_m7 61 rfl) rfl
theorem q1658 : (Jvm.Cond.static ({ cls := "java/lang/StringLatin1", name := "compareToUTF16", desc := "([B[B)I" } : Jvm.MethodName)) ∈ lw_all := lw_g (lw_at lw_m7 70 rfl) rfl
theorem q1659 : (Jvm.Cond.code ({ cls := "java/lang/StringLatin1", name := "compareToUTF16", desc := "([B[B)I" } : Jvm.MethodName) prog_42_method_16_code (4 : Nat) (Option.some Jvm.ClassFile.FieldType.int)) ∈ lw_all := lw_g (lw_at lw_m7 71 rfl) rfl
theorem q1660 : (Jvm.Cond.methodLink "java/lang/StringLatin1" (54 : Nat) ({ cls := "java/lang/StringLatin1", name := "length", desc := "([B)I" } : Jvm.MethodName)) ∈ lw_all := lw_g (lw_at lw_m7 72 rfl) rfl
theorem q1661 : (Jvm.Cond.static ({ cls := "java/lang/StringLatin1", name := "length", desc := "([B)I" } : Jvm.MethodName)) ∈ lw_all := lw_g (lw_at lw_m7 73 rfl) rfl
theorem q1662 : (Jvm.Cond.code ({ cls := "java/lang/StringLatin1", name := "length", desc := "([B)I" } : Jvm.MethodName) prog_42_method_5_code (1 : Nat) (Option.some Jvm.ClassFile.FieldType.int)) ∈ lw_all := lw_g (lw_at lw_m7 74 rfl) rfl
theorem q1663 : (Jvm.Cond.methodLink "java/lang/StringLatin1" (58 : Nat) ({ cls := "java/lang/StringUTF16", name := "length", desc := "([B)I" } : Jvm.MethodName)) ∈ lw_all := lw_g (lw_at lw_m7 75 rfl) rfl
theorem q1664 : (Jvm.Cond.methodLink "java/lang/StringLatin1" (59 : Nat) ({ cls := "java/lang/StringLatin1", name := "compareToUTF16Values", desc := "([B[BII)I" } : Jvm.MethodName)) ∈ lw_all := lw_g (lw_at lw_m7 76 rfl) rfl
theorem q1665 : (Jvm.Cond.static ({ cls := "java/lang/StringLatin1", name := "compareToUTF16Values", desc := "([B[BII)I" } : Jvm.MethodName)) ∈ lw_all := lw_g (lw_at lw_m7 77 rfl) rfl
theorem q1666 : (Jvm.Cond.code ({ cls := "java/lang/StringLatin1", name := "compareToUTF16Values", desc := "([B[BII)I" } : Jvm.MethodName) prog_42_method_18_code (8 : Nat) (Option.some Jvm.ClassFile.FieldType.int)) ∈ lw_all := lw_g (lw_at lw_m7 78 rfl) rfl
theorem q1667 : (Jvm.Cond.methodLink "java/lang/StringLatin1" (65 : Nat) ({ cls := "java/lang/StringUTF16", name := "getChar", desc := "([BI)C" } : Jvm.MethodName)) ∈ lw_all := lw_g (lw_at lw_m7 79 rfl) rfl
theorem q1697 : (Jvm.Cond.static ({ cls := "java/lang/StringLatin1", name := "compareToUTF16", desc := "([B[BII)I" } : Jvm.MethodName)) ∈ lw_all := lw_g (lw_at lw_m7 109 rfl) rfl
theorem q1698 : (Jvm.Cond.code ({ cls := "java/lang/StringLatin1", name := "compareToUTF16", desc := "([B[BII)I" } : Jvm.MethodName) prog_42_method_17_code (4 : Nat) (Option.some Jvm.ClassFile.FieldType.int)) ∈ lw_all := lw_g (lw_at lw_m7 110 rfl) rfl
theorem q1699 : (Jvm.Cond.methodLink "java/lang/StringLatin1" (62 : Nat) ({ cls := "java/lang/String", name := "checkOffset", desc := "(II)V" } : Jvm.MethodName)) ∈ lw_all := lw_g (lw_at lw_m7 111 rfl) rfl
theorem q1764 : (Jvm.Cond.static ({ cls := "java/lang/StringLatin1", name := "equals", desc := "([B[B)Z" } : Jvm.MethodName)) ∈ lw_all := lw_g (lw_at lw_m7 176 rfl) rfl
theorem q1765 : (Jvm.Cond.code ({ cls := "java/lang/StringLatin1", name := "equals", desc := "([B[B)Z" } : Jvm.MethodName) prog_42_method_13_code (3 : Nat) (Option.some Jvm.ClassFile.FieldType.boolean)) ∈ lw_all := lw_g (lw_at lw_m7 177 rfl) rfl

/-! java/lang/Number -/
set_option maxRecDepth 100000
def RJ17 : String := "java/lang/Number"
abbrev cJ17_init : ByteArray := prog_37_method_1_code
def yJ17_init : MethodName := ⟨RJ17, "<init>", "()V"⟩
theorem dJ17_init_0 : decode cJ17_init 0 = .ok (.aload_n 0, 1) := by decide +kernel
theorem dJ17_init_1 : decode cJ17_init 1 = .ok (.invokespecial 1, 3) := by decide +kernel
theorem dJ17_init_4 : decode cJ17_init 4 = .ok (.return_, 1) := by decide +kernel
theorem q169 : (Jvm.Cond.initialized "java/lang/Number") ∈ lw_all := lw_g (lw_at lw_m1 21 rfl) rfl
theorem q1285 : (Jvm.Cond.instanceMethod ({ cls := "java/lang/Number", name := "<init>", desc := "()V" } : Jvm.MethodName)) ∈ lw_all := lw_g (lw_at lw_m5 177 rfl) rfl
theorem q1286 : (Jvm.Cond.code ({ cls := "java/lang/Number", name := "<init>", desc := "()V" } : Jvm.MethodName) prog_37_method_1_code (1 : Nat) (Option.none : Option Jvm.ClassFile.FieldType)) ∈ lw_all := lw_g (lw_at lw_m5 178 rfl) rfl
theorem q1287 : (Jvm.Cond.methodLink "java/lang/Number" (1 : Nat) ({ cls := "java/lang/Object", name := "<init>", desc := "()V" } : Jvm.MethodName)) ∈ lw_all := lw_g (lw_at lw_m5 179 rfl) rfl

